/-! DECODE ROWS BY BYTES: one lemma an opcode; a method's code is cut into short pieces once, and a row reads its own piece alone. -/
set_option maxRecDepth 100000
/-- the code has just these bytes from pc on -/
def DkAt (code : ByteArray) (pc : Nat) (bs : List UInt8) : Prop := ∀ (j : Nat) (b : UInt8), bs[j]? = some b → code.data.toList[pc + j]? = some b
/-- the piece W has the bytes bs from its place j on -/
def dkIn (W : List UInt8) (j : Nat) (bs : List UInt8) : Bool := decide ((W.drop j).take bs.length = bs)
theorem dk_seg {l W T : List UInt8} {o o2 : Nat} (h : l.drop o = W ++ T) (n : Nat) (hn : W.length = n) (ho : o + n = o2) : l.drop o2 = T := by
  subst ho
  rw [← List.drop_drop, h, List.drop_left' hn]
theorem dk_at {code : ByteArray} {W T bs : List UInt8} {o pc : Nat} (h : code.data.toList.drop o = W ++ T) (j : Nat) (hp : o + j = pc) (hw : dkIn W j bs = true) : DkAt code pc bs := by
  subst hp
  intro i b e
  have h1 := of_decide_eq_true hw
  have h2 : i < bs.length := (List.getElem?_eq_some_iff.mp e).1
  have h3 : W[j + i]? = some b := by
    rw [← h1, List.getElem?_take, if_pos h2, List.getElem?_drop] at e
    exact e
  have h4 : j + i < W.length := (List.getElem?_eq_some_iff.mp h3).1
  have h5 : (code.data.toList.drop o)[j + i]? = some b := by
    rw [h, List.getElem?_append_left h4]
    exact h3
  rw [List.getElem?_drop, ← Nat.add_assoc] at h5
  exact h5
theorem dk_u1 {A : ByteArray} {p : Nat} {b : UInt8} (h : A.data.toList[p]? = some b) : (Reader.u1 : Reader DecodeError Nat) A p = .ok (b.toNat, p + 1) := by
  obtain ⟨h1, h2⟩ := List.getElem?_eq_some_iff.mp h
  have h3 : p < A.size := by simpa using h1
  have h4 : A[p]'h3 = b := h2
  have e : (Reader.u1 : Reader DecodeError Nat) A p = (if h : p < A.size then .ok (A[p].toNat, p + 1) else .error (HasTruncated.truncated p)) := by
    show (do if h : p < A.size then do set (p + 1); Pure.pure A[p].toNat else MonadExcept.throw (HasTruncated.truncated p) : Reader DecodeError Nat) A p = _
    by_cases hi : p < A.size
    · rw [dif_pos hi, dif_pos hi]; rfl
    · rw [dif_neg hi, dif_neg hi]; rfl
  rw [e, dif_pos h3, h4]
theorem dk_bind {α β : Type} {r : Reader DecodeError α} {f : α → Reader DecodeError β} {A : ByteArray} {p s : Nat} {a : α} (h : r A p = .ok (a, s)) : (r >>= f) A p = f a A s := by
  show (do let (a, s) ← r A p; f a A s : Except DecodeError (β × Nat)) = _
  rw [h]
  rfl
theorem dk_map {α β : Type} {r : Reader DecodeError α} {g : α → β} {A : ByteArray} {p s : Nat} {a : α} (h : r A p = .ok (a, s)) : (g <$> r) A p = .ok (g a, s) := by
  show (do let (a, s) ← r A p; .ok (g a, s) : Except DecodeError (β × Nat)) = _
  rw [h]
  rfl
theorem dk_u2 {A : ByteArray} {p : Nat} {a b : UInt8} (h : A.data.toList[p]? = some a) (h2 : A.data.toList[p + 1]? = some b) : (Reader.u2 : Reader DecodeError Nat) A p = .ok (a.toNat * 256 + b.toNat, p + 2) := by
  show (Reader.u1 >>= fun hi => Reader.u1 >>= fun lo => Pure.pure (hi * 256 + lo) : Reader DecodeError Nat) A p = _
  rw [dk_bind (dk_u1 h), dk_bind (dk_u1 h2)]
  rfl
theorem dk_of {code : ByteArray} {pc n : Nat} {i : Instr} (h : Decoder.instr pc code pc = .ok (i, pc + n)) : decode code pc = .ok (i, n) := by
  have e : decode code pc = (match Decoder.instr pc code pc with | .error x => .error x | .ok (j, s) => .ok (j, s - pc)) := by
    show (do let (j, s) ← Decoder.instr pc code pc; Pure.pure (j, s - pc) : Except DecodeError (Instr × Nat)) = _
    cases Decoder.instr pc code pc <;> rfl
  rw [e, h]
  show Except.ok (i, pc + n - pc) = _
  rw [Nat.add_sub_cancel_left]
theorem dk_1 {code : ByteArray} {pc : Nat} (h : DkAt code pc [1]) : decode code pc = .ok (.aconst_null, 1) := dk_of ((dk_bind (dk_u1 (h 0 _ rfl))).trans rfl)
theorem dk_2 {code : ByteArray} {pc : Nat} (h : DkAt code pc [2]) : decode code pc = .ok (.iconst (-1), 1) := dk_of ((dk_bind (dk_u1 (h 0 _ rfl))).trans rfl)
theorem dk_3 {code : ByteArray} {pc : Nat} (h : DkAt code pc [3]) : decode code pc = .ok (.iconst 0, 1) := dk_of ((dk_bind (dk_u1 (h 0 _ rfl))).trans rfl)
theorem dk_4 {code : ByteArray} {pc : Nat} (h : DkAt code pc [4]) : decode code pc = .ok (.iconst 1, 1) := dk_of ((dk_bind (dk_u1 (h 0 _ rfl))).trans rfl)
theorem dk_5 {code : ByteArray} {pc : Nat} (h : DkAt code pc [5]) : decode code pc = .ok (.iconst 2, 1) := dk_of ((dk_bind (dk_u1 (h 0 _ rfl))).trans rfl)
theorem dk_6 {code : ByteArray} {pc : Nat} (h : DkAt code pc [6]) : decode code pc = .ok (.iconst 3, 1) := dk_of ((dk_bind (dk_u1 (h 0 _ rfl))).trans rfl)
theorem dk_7 {code : ByteArray} {pc : Nat} (h : DkAt code pc [7]) : decode code pc = .ok (.iconst 4, 1) := dk_of ((dk_bind (dk_u1 (h 0 _ rfl))).trans rfl)
theorem dk_8 {code : ByteArray} {pc : Nat} (h : DkAt code pc [8]) : decode code pc = .ok (.iconst 5, 1) := dk_of ((dk_bind (dk_u1 (h 0 _ rfl))).trans rfl)
theorem dk_9 {code : ByteArray} {pc : Nat} (h : DkAt code pc [9]) : decode code pc = .ok (.lconst 0, 1) := dk_of ((dk_bind (dk_u1 (h 0 _ rfl))).trans rfl)
theorem dk_10 {code : ByteArray} {pc : Nat} (h : DkAt code pc [10]) : decode code pc = .ok (.lconst 1, 1) := dk_of ((dk_bind (dk_u1 (h 0 _ rfl))).trans rfl)
theorem dk_16 {code : ByteArray} {pc : Nat} (a : UInt8) (h : DkAt code pc [16, a]) : decode code pc = .ok (.bipush (Reader.signed 8 a.toNat), 2) := dk_of ((dk_bind (dk_u1 (h 0 _ rfl))).trans ((dk_bind (dk_map (dk_u1 (h 1 _ rfl)))).trans rfl))
theorem dk_17 {code : ByteArray} {pc : Nat} (a b : UInt8) (h : DkAt code pc [17, a, b]) : decode code pc = .ok (.sipush (Reader.signed 16 (a.toNat * 256 + b.toNat)), 3) := dk_of ((dk_bind (dk_u1 (h 0 _ rfl))).trans ((dk_bind (dk_map (dk_u2 (h 1 _ rfl) (h 2 _ rfl)))).trans rfl))
theorem dk_18 {code : ByteArray} {pc : Nat} (a : UInt8) (h : DkAt code pc [18, a]) : decode code pc = .ok (.ldc a.toNat, 2) := dk_of ((dk_bind (dk_u1 (h 0 _ rfl))).trans ((dk_bind (dk_u1 (h 1 _ rfl))).trans rfl))
theorem dk_19 {code : ByteArray} {pc : Nat} (a b : UInt8) (h : DkAt code pc [19, a, b]) : decode code pc = .ok (.ldc_w (a.toNat * 256 + b.toNat), 3) := dk_of ((dk_bind (dk_u1 (h 0 _ rfl))).trans ((dk_bind (dk_u2 (h 1 _ rfl) (h 2 _ rfl))).trans rfl))
theorem dk_20 {code : ByteArray} {pc : Nat} (a b : UInt8) (h : DkAt code pc [20, a, b]) : decode code pc = .ok (.ldc2_w (a.toNat * 256 + b.toNat), 3) := dk_of ((dk_bind (dk_u1 (h 0 _ rfl))).trans ((dk_bind (dk_u2 (h 1 _ rfl) (h 2 _ rfl))).trans rfl))
theorem dk_21 {code : ByteArray} {pc : Nat} (a : UInt8) (h : DkAt code pc [21, a]) : decode code pc = .ok (.iload a.toNat, 2) := dk_of ((dk_bind (dk_u1 (h 0 _ rfl))).trans ((dk_bind (dk_u1 (h 1 _ rfl))).trans rfl))
theorem dk_22 {code : ByteArray} {pc : Nat} (a : UInt8) (h : DkAt code pc [22, a]) : decode code pc = .ok (.lload a.toNat, 2) := dk_of ((dk_bind (dk_u1 (h 0 _ rfl))).trans ((dk_bind (dk_u1 (h 1 _ rfl))).trans rfl))
theorem dk_25 {code : ByteArray} {pc : Nat} (a : UInt8) (h : DkAt code pc [25, a]) : decode code pc = .ok (.aload a.toNat, 2) := dk_of ((dk_bind (dk_u1 (h 0 _ rfl))).trans ((dk_bind (dk_u1 (h 1 _ rfl))).trans rfl))
theorem dk_26 {code : ByteArray} {pc : Nat} (h : DkAt code pc [26]) : decode code pc = .ok (.iload_n 0, 1) := dk_of ((dk_bind (dk_u1 (h 0 _ rfl))).trans rfl)
theorem dk_27 {code : ByteArray} {pc : Nat} (h : DkAt code pc [27]) : decode code pc = .ok (.iload_n 1, 1) := dk_of ((dk_bind (dk_u1 (h 0 _ rfl))).trans rfl)
theorem dk_28 {code : ByteArray} {pc : Nat} (h : DkAt code pc [28]) : decode code pc = .ok (.iload_n 2, 1) := dk_of ((dk_bind (dk_u1 (h 0 _ rfl))).trans rfl)
theorem dk_29 {code : ByteArray} {pc : Nat} (h : DkAt code pc [29]) : decode code pc = .ok (.iload_n 3, 1) := dk_of ((dk_bind (dk_u1 (h 0 _ rfl))).trans rfl)
theorem dk_30 {code : ByteArray} {pc : Nat} (h : DkAt code pc [30]) : decode code pc = .ok (.lload_n 0, 1) := dk_of ((dk_bind (dk_u1 (h 0 _ rfl))).trans rfl)
theorem dk_31 {code : ByteArray} {pc : Nat} (h : DkAt code pc [31]) : decode code pc = .ok (.lload_n 1, 1) := dk_of ((dk_bind (dk_u1 (h 0 _ rfl))).trans rfl)
theorem dk_32 {code : ByteArray} {pc : Nat} (h : DkAt code pc [32]) : decode code pc = .ok (.lload_n 2, 1) := dk_of ((dk_bind (dk_u1 (h 0 _ rfl))).trans rfl)
theorem dk_33 {code : ByteArray} {pc : Nat} (h : DkAt code pc [33]) : decode code pc = .ok (.lload_n 3, 1) := dk_of ((dk_bind (dk_u1 (h 0 _ rfl))).trans rfl)
theorem dk_42 {code : ByteArray} {pc : Nat} (h : DkAt code pc [42]) : decode code pc = .ok (.aload_n 0, 1) := dk_of ((dk_bind (dk_u1 (h 0 _ rfl))).trans rfl)
theorem dk_43 {code : ByteArray} {pc : Nat} (h : DkAt code pc [43]) : decode code pc = .ok (.aload_n 1, 1) := dk_of ((dk_bind (dk_u1 (h 0 _ rfl))).trans rfl)
theorem dk_44 {code : ByteArray} {pc : Nat} (h : DkAt code pc [44]) : decode code pc = .ok (.aload_n 2, 1) := dk_of ((dk_bind (dk_u1 (h 0 _ rfl))).trans rfl)
theorem dk_45 {code : ByteArray} {pc : Nat} (h : DkAt code pc [45]) : decode code pc = .ok (.aload_n 3, 1) := dk_of ((dk_bind (dk_u1 (h 0 _ rfl))).trans rfl)
theorem dk_46 {code : ByteArray} {pc : Nat} (h : DkAt code pc [46]) : decode code pc = .ok (.iaload, 1) := dk_of ((dk_bind (dk_u1 (h 0 _ rfl))).trans rfl)
theorem dk_47 {code : ByteArray} {pc : Nat} (h : DkAt code pc [47]) : decode code pc = .ok (.laload, 1) := dk_of ((dk_bind (dk_u1 (h 0 _ rfl))).trans rfl)
theorem dk_50 {code : ByteArray} {pc : Nat} (h : DkAt code pc [50]) : decode code pc = .ok (.aaload, 1) := dk_of ((dk_bind (dk_u1 (h 0 _ rfl))).trans rfl)
theorem dk_51 {code : ByteArray} {pc : Nat} (h : DkAt code pc [51]) : decode code pc = .ok (.baload, 1) := dk_of ((dk_bind (dk_u1 (h 0 _ rfl))).trans rfl)
theorem dk_54 {code : ByteArray} {pc : Nat} (a : UInt8) (h : DkAt code pc [54, a]) : decode code pc = .ok (.istore a.toNat, 2) := dk_of ((dk_bind (dk_u1 (h 0 _ rfl))).trans ((dk_bind (dk_u1 (h 1 _ rfl))).trans rfl))
theorem dk_55 {code : ByteArray} {pc : Nat} (a : UInt8) (h : DkAt code pc [55, a]) : decode code pc = .ok (.lstore a.toNat, 2) := dk_of ((dk_bind (dk_u1 (h 0 _ rfl))).trans ((dk_bind (dk_u1 (h 1 _ rfl))).trans rfl))
theorem dk_58 {code : ByteArray} {pc : Nat} (a : UInt8) (h : DkAt code pc [58, a]) : decode code pc = .ok (.astore a.toNat, 2) := dk_of ((dk_bind (dk_u1 (h 0 _ rfl))).trans ((dk_bind (dk_u1 (h 1 _ rfl))).trans rfl))
theorem dk_59 {code : ByteArray} {pc : Nat} (h : DkAt code pc [59]) : decode code pc = .ok (.istore_n 0, 1) := dk_of ((dk_bind (dk_u1 (h 0 _ rfl))).trans rfl)
theorem dk_60 {code : ByteArray} {pc : Nat} (h : DkAt code pc [60]) : decode code pc = .ok (.istore_n 1, 1) := dk_of ((dk_bind (dk_u1 (h 0 _ rfl))).trans rfl)
theorem dk_61 {code : ByteArray} {pc : Nat} (h : DkAt code pc [61]) : decode code pc = .ok (.istore_n 2, 1) := dk_of ((dk_bind (dk_u1 (h 0 _ rfl))).trans rfl)
theorem dk_62 {code : ByteArray} {pc : Nat} (h : DkAt code pc [62]) : decode code pc = .ok (.istore_n 3, 1) := dk_of ((dk_bind (dk_u1 (h 0 _ rfl))).trans rfl)
theorem dk_64 {code : ByteArray} {pc : Nat} (h : DkAt code pc [64]) : decode code pc = .ok (.lstore_n 1, 1) := dk_of ((dk_bind (dk_u1 (h 0 _ rfl))).trans rfl)
theorem dk_65 {code : ByteArray} {pc : Nat} (h : DkAt code pc [65]) : decode code pc = .ok (.lstore_n 2, 1) := dk_of ((dk_bind (dk_u1 (h 0 _ rfl))).trans rfl)
theorem dk_66 {code : ByteArray} {pc : Nat} (h : DkAt code pc [66]) : decode code pc = .ok (.lstore_n 3, 1) := dk_of ((dk_bind (dk_u1 (h 0 _ rfl))).trans rfl)
theorem dk_76 {code : ByteArray} {pc : Nat} (h : DkAt code pc [76]) : decode code pc = .ok (.astore_n 1, 1) := dk_of ((dk_bind (dk_u1 (h 0 _ rfl))).trans rfl)
theorem dk_77 {code : ByteArray} {pc : Nat} (h : DkAt code pc [77]) : decode code pc = .ok (.astore_n 2, 1) := dk_of ((dk_bind (dk_u1 (h 0 _ rfl))).trans rfl)
theorem dk_78 {code : ByteArray} {pc : Nat} (h : DkAt code pc [78]) : decode code pc = .ok (.astore_n 3, 1) := dk_of ((dk_bind (dk_u1 (h 0 _ rfl))).trans rfl)
theorem dk_79 {code : ByteArray} {pc : Nat} (h : DkAt code pc [79]) : decode code pc = .ok (.iastore, 1) := dk_of ((dk_bind (dk_u1 (h 0 _ rfl))).trans rfl)
theorem dk_80 {code : ByteArray} {pc : Nat} (h : DkAt code pc [80]) : decode code pc = .ok (.lastore, 1) := dk_of ((dk_bind (dk_u1 (h 0 _ rfl))).trans rfl)
theorem dk_83 {code : ByteArray} {pc : Nat} (h : DkAt code pc [83]) : decode code pc = .ok (.aastore, 1) := dk_of ((dk_bind (dk_u1 (h 0 _ rfl))).trans rfl)
theorem dk_84 {code : ByteArray} {pc : Nat} (h : DkAt code pc [84]) : decode code pc = .ok (.bastore, 1) := dk_of ((dk_bind (dk_u1 (h 0 _ rfl))).trans rfl)
theorem dk_87 {code : ByteArray} {pc : Nat} (h : DkAt code pc [87]) : decode code pc = .ok (.pop, 1) := dk_of ((dk_bind (dk_u1 (h 0 _ rfl))).trans rfl)
theorem dk_88 {code : ByteArray} {pc : Nat} (h : DkAt code pc [88]) : decode code pc = .ok (.pop2, 1) := dk_of ((dk_bind (dk_u1 (h 0 _ rfl))).trans rfl)
theorem dk_89 {code : ByteArray} {pc : Nat} (h : DkAt code pc [89]) : decode code pc = .ok (.dup, 1) := dk_of ((dk_bind (dk_u1 (h 0 _ rfl))).trans rfl)
theorem dk_90 {code : ByteArray} {pc : Nat} (h : DkAt code pc [90]) : decode code pc = .ok (.dup_x1, 1) := dk_of ((dk_bind (dk_u1 (h 0 _ rfl))).trans rfl)
theorem dk_92 {code : ByteArray} {pc : Nat} (h : DkAt code pc [92]) : decode code pc = .ok (.dup2, 1) := dk_of ((dk_bind (dk_u1 (h 0 _ rfl))).trans rfl)
theorem dk_96 {code : ByteArray} {pc : Nat} (h : DkAt code pc [96]) : decode code pc = .ok (.iadd, 1) := dk_of ((dk_bind (dk_u1 (h 0 _ rfl))).trans rfl)
theorem dk_97 {code : ByteArray} {pc : Nat} (h : DkAt code pc [97]) : decode code pc = .ok (.ladd, 1) := dk_of ((dk_bind (dk_u1 (h 0 _ rfl))).trans rfl)
theorem dk_100 {code : ByteArray} {pc : Nat} (h : DkAt code pc [100]) : decode code pc = .ok (.isub, 1) := dk_of ((dk_bind (dk_u1 (h 0 _ rfl))).trans rfl)
theorem dk_101 {code : ByteArray} {pc : Nat} (h : DkAt code pc [101]) : decode code pc = .ok (.lsub, 1) := dk_of ((dk_bind (dk_u1 (h 0 _ rfl))).trans rfl)
theorem dk_104 {code : ByteArray} {pc : Nat} (h : DkAt code pc [104]) : decode code pc = .ok (.imul, 1) := dk_of ((dk_bind (dk_u1 (h 0 _ rfl))).trans rfl)
theorem dk_105 {code : ByteArray} {pc : Nat} (h : DkAt code pc [105]) : decode code pc = .ok (.lmul, 1) := dk_of ((dk_bind (dk_u1 (h 0 _ rfl))).trans rfl)
theorem dk_108 {code : ByteArray} {pc : Nat} (h : DkAt code pc [108]) : decode code pc = .ok (.idiv, 1) := dk_of ((dk_bind (dk_u1 (h 0 _ rfl))).trans rfl)
theorem dk_109 {code : ByteArray} {pc : Nat} (h : DkAt code pc [109]) : decode code pc = .ok (.ldiv, 1) := dk_of ((dk_bind (dk_u1 (h 0 _ rfl))).trans rfl)
theorem dk_112 {code : ByteArray} {pc : Nat} (h : DkAt code pc [112]) : decode code pc = .ok (.irem, 1) := dk_of ((dk_bind (dk_u1 (h 0 _ rfl))).trans rfl)
theorem dk_113 {code : ByteArray} {pc : Nat} (h : DkAt code pc [113]) : decode code pc = .ok (.lrem, 1) := dk_of ((dk_bind (dk_u1 (h 0 _ rfl))).trans rfl)
theorem dk_116 {code : ByteArray} {pc : Nat} (h : DkAt code pc [116]) : decode code pc = .ok (.ineg, 1) := dk_of ((dk_bind (dk_u1 (h 0 _ rfl))).trans rfl)
theorem dk_117 {code : ByteArray} {pc : Nat} (h : DkAt code pc [117]) : decode code pc = .ok (.lneg, 1) := dk_of ((dk_bind (dk_u1 (h 0 _ rfl))).trans rfl)
theorem dk_120 {code : ByteArray} {pc : Nat} (h : DkAt code pc [120]) : decode code pc = .ok (.ishl, 1) := dk_of ((dk_bind (dk_u1 (h 0 _ rfl))).trans rfl)
theorem dk_122 {code : ByteArray} {pc : Nat} (h : DkAt code pc [122]) : decode code pc = .ok (.ishr, 1) := dk_of ((dk_bind (dk_u1 (h 0 _ rfl))).trans rfl)
theorem dk_124 {code : ByteArray} {pc : Nat} (h : DkAt code pc [124]) : decode code pc = .ok (.iushr, 1) := dk_of ((dk_bind (dk_u1 (h 0 _ rfl))).trans rfl)
theorem dk_126 {code : ByteArray} {pc : Nat} (h : DkAt code pc [126]) : decode code pc = .ok (.iand, 1) := dk_of ((dk_bind (dk_u1 (h 0 _ rfl))).trans rfl)
theorem dk_128 {code : ByteArray} {pc : Nat} (h : DkAt code pc [128]) : decode code pc = .ok (.ior, 1) := dk_of ((dk_bind (dk_u1 (h 0 _ rfl))).trans rfl)
theorem dk_130 {code : ByteArray} {pc : Nat} (h : DkAt code pc [130]) : decode code pc = .ok (.ixor, 1) := dk_of ((dk_bind (dk_u1 (h 0 _ rfl))).trans rfl)
theorem dk_132 {code : ByteArray} {pc : Nat} (a b : UInt8) (h : DkAt code pc [132, a, b]) : decode code pc = .ok (.iinc a.toNat (Reader.signed 8 b.toNat), 3) := dk_of ((dk_bind (dk_u1 (h 0 _ rfl))).trans ((dk_bind (dk_u1 (h 1 _ rfl))).trans ((dk_bind (dk_map (dk_u1 (h 2 _ rfl)))).trans rfl)))
theorem dk_133 {code : ByteArray} {pc : Nat} (h : DkAt code pc [133]) : decode code pc = .ok (.i2l, 1) := dk_of ((dk_bind (dk_u1 (h 0 _ rfl))).trans rfl)
theorem dk_136 {code : ByteArray} {pc : Nat} (h : DkAt code pc [136]) : decode code pc = .ok (.l2i, 1) := dk_of ((dk_bind (dk_u1 (h 0 _ rfl))).trans rfl)
theorem dk_145 {code : ByteArray} {pc : Nat} (h : DkAt code pc [145]) : decode code pc = .ok (.i2b, 1) := dk_of ((dk_bind (dk_u1 (h 0 _ rfl))).trans rfl)
theorem dk_146 {code : ByteArray} {pc : Nat} (h : DkAt code pc [146]) : decode code pc = .ok (.i2c, 1) := dk_of ((dk_bind (dk_u1 (h 0 _ rfl))).trans rfl)
theorem dk_148 {code : ByteArray} {pc : Nat} (h : DkAt code pc [148]) : decode code pc = .ok (.lcmp, 1) := dk_of ((dk_bind (dk_u1 (h 0 _ rfl))).trans rfl)
theorem dk_153 {code : ByteArray} {pc : Nat} (a b : UInt8) (h : DkAt code pc [153, a, b]) : decode code pc = .ok (.ifCond .eq (Reader.signed 16 (a.toNat * 256 + b.toNat)), 3) := dk_of ((dk_bind (dk_u1 (h 0 _ rfl))).trans ((dk_bind (dk_map (dk_u2 (h 1 _ rfl) (h 2 _ rfl)))).trans rfl))
theorem dk_154 {code : ByteArray} {pc : Nat} (a b : UInt8) (h : DkAt code pc [154, a, b]) : decode code pc = .ok (.ifCond .ne (Reader.signed 16 (a.toNat * 256 + b.toNat)), 3) := dk_of ((dk_bind (dk_u1 (h 0 _ rfl))).trans ((dk_bind (dk_map (dk_u2 (h 1 _ rfl) (h 2 _ rfl)))).trans rfl))
theorem dk_155 {code : ByteArray} {pc : Nat} (a b : UInt8) (h : DkAt code pc [155, a, b]) : decode code pc = .ok (.ifCond .lt (Reader.signed 16 (a.toNat * 256 + b.toNat)), 3) := dk_of ((dk_bind (dk_u1 (h 0 _ rfl))).trans ((dk_bind (dk_map (dk_u2 (h 1 _ rfl) (h 2 _ rfl)))).trans rfl))
theorem dk_156 {code : ByteArray} {pc : Nat} (a b : UInt8) (h : DkAt code pc [156, a, b]) : decode code pc = .ok (.ifCond .ge (Reader.signed 16 (a.toNat * 256 + b.toNat)), 3) := dk_of ((dk_bind (dk_u1 (h 0 _ rfl))).trans ((dk_bind (dk_map (dk_u2 (h 1 _ rfl) (h 2 _ rfl)))).trans rfl))
theorem dk_157 {code : ByteArray} {pc : Nat} (a b : UInt8) (h : DkAt code pc [157, a, b]) : decode code pc = .ok (.ifCond .gt (Reader.signed 16 (a.toNat * 256 + b.toNat)), 3) := dk_of ((dk_bind (dk_u1 (h 0 _ rfl))).trans ((dk_bind (dk_map (dk_u2 (h 1 _ rfl) (h 2 _ rfl)))).trans rfl))
theorem dk_158 {code : ByteArray} {pc : Nat} (a b : UInt8) (h : DkAt code pc [158, a, b]) : decode code pc = .ok (.ifCond .le (Reader.signed 16 (a.toNat * 256 + b.toNat)), 3) := dk_of ((dk_bind (dk_u1 (h 0 _ rfl))).trans ((dk_bind (dk_map (dk_u2 (h 1 _ rfl) (h 2 _ rfl)))).trans rfl))
theorem dk_159 {code : ByteArray} {pc : Nat} (a b : UInt8) (h : DkAt code pc [159, a, b]) : decode code pc = .ok (.if_icmp .eq (Reader.signed 16 (a.toNat * 256 + b.toNat)), 3) := dk_of ((dk_bind (dk_u1 (h 0 _ rfl))).trans ((dk_bind (dk_map (dk_u2 (h 1 _ rfl) (h 2 _ rfl)))).trans rfl))
theorem dk_160 {code : ByteArray} {pc : Nat} (a b : UInt8) (h : DkAt code pc [160, a, b]) : decode code pc = .ok (.if_icmp .ne (Reader.signed 16 (a.toNat * 256 + b.toNat)), 3) := dk_of ((dk_bind (dk_u1 (h 0 _ rfl))).trans ((dk_bind (dk_map (dk_u2 (h 1 _ rfl) (h 2 _ rfl)))).trans rfl))
theorem dk_161 {code : ByteArray} {pc : Nat} (a b : UInt8) (h : DkAt code pc [161, a, b]) : decode code pc = .ok (.if_icmp .lt (Reader.signed 16 (a.toNat * 256 + b.toNat)), 3) := dk_of ((dk_bind (dk_u1 (h 0 _ rfl))).trans ((dk_bind (dk_map (dk_u2 (h 1 _ rfl) (h 2 _ rfl)))).trans rfl))
theorem dk_162 {code : ByteArray} {pc : Nat} (a b : UInt8) (h : DkAt code pc [162, a, b]) : decode code pc = .ok (.if_icmp .ge (Reader.signed 16 (a.toNat * 256 + b.toNat)), 3) := dk_of ((dk_bind (dk_u1 (h 0 _ rfl))).trans ((dk_bind (dk_map (dk_u2 (h 1 _ rfl) (h 2 _ rfl)))).trans rfl))
theorem dk_163 {code : ByteArray} {pc : Nat} (a b : UInt8) (h : DkAt code pc [163, a, b]) : decode code pc = .ok (.if_icmp .gt (Reader.signed 16 (a.toNat * 256 + b.toNat)), 3) := dk_of ((dk_bind (dk_u1 (h 0 _ rfl))).trans ((dk_bind (dk_map (dk_u2 (h 1 _ rfl) (h 2 _ rfl)))).trans rfl))
theorem dk_164 {code : ByteArray} {pc : Nat} (a b : UInt8) (h : DkAt code pc [164, a, b]) : decode code pc = .ok (.if_icmp .le (Reader.signed 16 (a.toNat * 256 + b.toNat)), 3) := dk_of ((dk_bind (dk_u1 (h 0 _ rfl))).trans ((dk_bind (dk_map (dk_u2 (h 1 _ rfl) (h 2 _ rfl)))).trans rfl))
theorem dk_165 {code : ByteArray} {pc : Nat} (a b : UInt8) (h : DkAt code pc [165, a, b]) : decode code pc = .ok (.if_acmp .eq (Reader.signed 16 (a.toNat * 256 + b.toNat)), 3) := dk_of ((dk_bind (dk_u1 (h 0 _ rfl))).trans ((dk_bind (dk_map (dk_u2 (h 1 _ rfl) (h 2 _ rfl)))).trans rfl))
theorem dk_166 {code : ByteArray} {pc : Nat} (a b : UInt8) (h : DkAt code pc [166, a, b]) : decode code pc = .ok (.if_acmp .ne (Reader.signed 16 (a.toNat * 256 + b.toNat)), 3) := dk_of ((dk_bind (dk_u1 (h 0 _ rfl))).trans ((dk_bind (dk_map (dk_u2 (h 1 _ rfl) (h 2 _ rfl)))).trans rfl))
theorem dk_167 {code : ByteArray} {pc : Nat} (a b : UInt8) (h : DkAt code pc [167, a, b]) : decode code pc = .ok (.goto (Reader.signed 16 (a.toNat * 256 + b.toNat)), 3) := dk_of ((dk_bind (dk_u1 (h 0 _ rfl))).trans ((dk_bind (dk_map (dk_u2 (h 1 _ rfl) (h 2 _ rfl)))).trans rfl))
theorem dk_172 {code : ByteArray} {pc : Nat} (h : DkAt code pc [172]) : decode code pc = .ok (.ireturn, 1) := dk_of ((dk_bind (dk_u1 (h 0 _ rfl))).trans rfl)
theorem dk_173 {code : ByteArray} {pc : Nat} (h : DkAt code pc [173]) : decode code pc = .ok (.lreturn, 1) := dk_of ((dk_bind (dk_u1 (h 0 _ rfl))).trans rfl)
theorem dk_176 {code : ByteArray} {pc : Nat} (h : DkAt code pc [176]) : decode code pc = .ok (.areturn, 1) := dk_of ((dk_bind (dk_u1 (h 0 _ rfl))).trans rfl)
theorem dk_177 {code : ByteArray} {pc : Nat} (h : DkAt code pc [177]) : decode code pc = .ok (.return_, 1) := dk_of ((dk_bind (dk_u1 (h 0 _ rfl))).trans rfl)
theorem dk_178 {code : ByteArray} {pc : Nat} (a b : UInt8) (h : DkAt code pc [178, a, b]) : decode code pc = .ok (.getstatic (a.toNat * 256 + b.toNat), 3) := dk_of ((dk_bind (dk_u1 (h 0 _ rfl))).trans ((dk_bind (dk_u2 (h 1 _ rfl) (h 2 _ rfl))).trans rfl))
theorem dk_180 {code : ByteArray} {pc : Nat} (a b : UInt8) (h : DkAt code pc [180, a, b]) : decode code pc = .ok (.getfield (a.toNat * 256 + b.toNat), 3) := dk_of ((dk_bind (dk_u1 (h 0 _ rfl))).trans ((dk_bind (dk_u2 (h 1 _ rfl) (h 2 _ rfl))).trans rfl))
theorem dk_181 {code : ByteArray} {pc : Nat} (a b : UInt8) (h : DkAt code pc [181, a, b]) : decode code pc = .ok (.putfield (a.toNat * 256 + b.toNat), 3) := dk_of ((dk_bind (dk_u1 (h 0 _ rfl))).trans ((dk_bind (dk_u2 (h 1 _ rfl) (h 2 _ rfl))).trans rfl))
theorem dk_182 {code : ByteArray} {pc : Nat} (a b : UInt8) (h : DkAt code pc [182, a, b]) : decode code pc = .ok (.invokevirtual (a.toNat * 256 + b.toNat), 3) := dk_of ((dk_bind (dk_u1 (h 0 _ rfl))).trans ((dk_bind (dk_u2 (h 1 _ rfl) (h 2 _ rfl))).trans rfl))
theorem dk_183 {code : ByteArray} {pc : Nat} (a b : UInt8) (h : DkAt code pc [183, a, b]) : decode code pc = .ok (.invokespecial (a.toNat * 256 + b.toNat), 3) := dk_of ((dk_bind (dk_u1 (h 0 _ rfl))).trans ((dk_bind (dk_u2 (h 1 _ rfl) (h 2 _ rfl))).trans rfl))
theorem dk_184 {code : ByteArray} {pc : Nat} (a b : UInt8) (h : DkAt code pc [184, a, b]) : decode code pc = .ok (.invokestatic (a.toNat * 256 + b.toNat), 3) := dk_of ((dk_bind (dk_u1 (h 0 _ rfl))).trans ((dk_bind (dk_u2 (h 1 _ rfl) (h 2 _ rfl))).trans rfl))
theorem dk_187 {code : ByteArray} {pc : Nat} (a b : UInt8) (h : DkAt code pc [187, a, b]) : decode code pc = .ok (.new (a.toNat * 256 + b.toNat), 3) := dk_of ((dk_bind (dk_u1 (h 0 _ rfl))).trans ((dk_bind (dk_u2 (h 1 _ rfl) (h 2 _ rfl))).trans rfl))
theorem dk_188_4 {code : ByteArray} {pc : Nat} (h : DkAt code pc [188, 4]) : decode code pc = .ok (.newarray .boolean, 2) := dk_of ((dk_bind (dk_u1 (h 0 _ rfl))).trans ((dk_bind (dk_u1 (h 1 _ rfl))).trans rfl))
theorem dk_188_8 {code : ByteArray} {pc : Nat} (h : DkAt code pc [188, 8]) : decode code pc = .ok (.newarray .byte, 2) := dk_of ((dk_bind (dk_u1 (h 0 _ rfl))).trans ((dk_bind (dk_u1 (h 1 _ rfl))).trans rfl))
theorem dk_188_10 {code : ByteArray} {pc : Nat} (h : DkAt code pc [188, 10]) : decode code pc = .ok (.newarray .int, 2) := dk_of ((dk_bind (dk_u1 (h 0 _ rfl))).trans ((dk_bind (dk_u1 (h 1 _ rfl))).trans rfl))
theorem dk_188_11 {code : ByteArray} {pc : Nat} (h : DkAt code pc [188, 11]) : decode code pc = .ok (.newarray .long, 2) := dk_of ((dk_bind (dk_u1 (h 0 _ rfl))).trans ((dk_bind (dk_u1 (h 1 _ rfl))).trans rfl))
theorem dk_189 {code : ByteArray} {pc : Nat} (a b : UInt8) (h : DkAt code pc [189, a, b]) : decode code pc = .ok (.anewarray (a.toNat * 256 + b.toNat), 3) := dk_of ((dk_bind (dk_u1 (h 0 _ rfl))).trans ((dk_bind (dk_u2 (h 1 _ rfl) (h 2 _ rfl))).trans rfl))
theorem dk_190 {code : ByteArray} {pc : Nat} (h : DkAt code pc [190]) : decode code pc = .ok (.arraylength, 1) := dk_of ((dk_bind (dk_u1 (h 0 _ rfl))).trans rfl)
theorem dk_191 {code : ByteArray} {pc : Nat} (h : DkAt code pc [191]) : decode code pc = .ok (.athrow, 1) := dk_of ((dk_bind (dk_u1 (h 0 _ rfl))).trans rfl)
theorem dk_192 {code : ByteArray} {pc : Nat} (a b : UInt8) (h : DkAt code pc [192, a, b]) : decode code pc = .ok (.checkcast (a.toNat * 256 + b.toNat), 3) := dk_of ((dk_bind (dk_u1 (h 0 _ rfl))).trans ((dk_bind (dk_u2 (h 1 _ rfl) (h 2 _ rfl))).trans rfl))
theorem dk_193 {code : ByteArray} {pc : Nat} (a b : UInt8) (h : DkAt code pc [193, a, b]) : decode code pc = .ok (.instanceof (a.toNat * 256 + b.toNat), 3) := dk_of ((dk_bind (dk_u1 (h 0 _ rfl))).trans ((dk_bind (dk_u2 (h 1 _ rfl) (h 2 _ rfl))).trans rfl))
theorem dk_199 {code : ByteArray} {pc : Nat} (a b : UInt8) (h : DkAt code pc [199, a, b]) : decode code pc = .ok (.ifnonnull (Reader.signed 16 (a.toNat * 256 + b.toNat)), 3) := dk_of ((dk_bind (dk_u1 (h 0 _ rfl))).trans ((dk_bind (dk_map (dk_u2 (h 1 _ rfl) (h 2 _ rfl)))).trans rfl))

/-! SupplyGrid$Told -/
set_option maxRecDepth 100000
def RX1 : String := "SupplyGrid$Told"
def TX1 : u_T := fun k => match k with
  | 0 => ("SupplyGrid$Told", "width", "[I", true)
  | 1 => ("SupplyGrid$Told", "from", "[I", true)
  | 2 => ("SupplyGrid$Told", "to", "[I", true)
  | 3 => ("SupplyGrid$Told", "load", "[I", true)
  | 4 => ("SupplyGrid$Told", "group", "[I", true)
  | 5 => ("SupplyGrid$Told", "budget", "[I", true)
  | 6 => ("SupplyGrid$Told", "acts", "Ljava/util/ArrayList;", true)
  | 7 => ("SupplyGrid$Told", "columns", "I", false)
  | 8 => ("SupplyGrid$Told", "rows", "I", false)
  | 9 => ("SupplyGrid$Told", "limit", "I", false)
  | 10 => ("SupplyGrid$Told", "wear", "I", false)
  | 11 => ("SupplyGrid$Told", "straps", "I", false)
  | 12 => ("SupplyGrid$Told", "pads", "I", false)
  | _ => ("SupplyGrid$Told", "lines", "I", false)
def tyX1 : Nat → FieldType := fun k => match k with
  | 0 => .array .int
  | 1 => .array .int
  | 2 => .array .int
  | 3 => .array .int
  | 4 => .array .int
  | 5 => .array .int
  | 6 => .object "java/util/ArrayList"
  | 7 => .int
  | 8 => .int
  | 9 => .int
  | 10 => .int
  | 11 => .int
  | 12 => .int
  | _ => .int
abbrev wsX10 : List Cond := u_ws RX1 TX1 14
set_option maxRecDepth 100000 in
theorem nmX1 : ∀ a, a < 14 → ∀ b, b < 14 → a ≠ b → (TX1 a).2.1 ≠ (TX1 b).2.1 := by decide +kernel
set_option maxRecDepth 100000 in
theorem tyX1_ok : ∀ k, k < 14 → parseFieldDescriptor (TX1 k).2.2.1 = some (tyX1 k) := by decide +kernel
abbrev cX1_init : ByteArray := prog_12_method_1_code
def yX1_init : MethodName := ⟨RX1, "<init>", "()V"⟩
def dkwX1_init_3 : List UInt8 := [163, 0, 18, 42, 180, 0, 27, 27, 17, 3, 231, 79, 132, 1, 1, 167, 255, 239, 177]
abbrev dktX1_init_3 : List UInt8 := dkwX1_init_3 ++ []
def dkwX1_init_2 : List UInt8 := [188, 10, 181, 0, 27, 42, 187, 0, 30, 89, 16, 20, 183, 0, 32, 181, 0, 35, 3, 60, 27, 6]
abbrev dktX1_init_2 : List UInt8 := dkwX1_init_2 ++ dktX1_init_3
def dkwX1_init_1 : List UInt8 := [188, 10, 181, 0, 18, 42, 16, 9, 188, 10, 181, 0, 21, 42, 16, 9, 188, 10, 181, 0, 24, 42, 7]
abbrev dktX1_init_1 : List UInt8 := dkwX1_init_1 ++ dktX1_init_2
def dkwX1_init_0 : List UInt8 := [42, 183, 0, 3, 42, 16, 12, 188, 10, 181, 0, 9, 42, 16, 12, 188, 10, 181, 0, 15, 42, 16, 12]
abbrev dktX1_init_0 : List UInt8 := dkwX1_init_0 ++ dktX1_init_1
theorem dksX1_init_0 : cX1_init.data.toList.drop 0 = dktX1_init_0 := by decide +kernel
theorem dksX1_init_1 : cX1_init.data.toList.drop 23 = dktX1_init_1 := dk_seg dksX1_init_0 23 rfl rfl
theorem dksX1_init_2 : cX1_init.data.toList.drop 46 = dktX1_init_2 := dk_seg dksX1_init_1 23 rfl rfl
theorem dksX1_init_3 : cX1_init.data.toList.drop 68 = dktX1_init_3 := dk_seg dksX1_init_2 22 rfl rfl
theorem dX1_init_0 : decode cX1_init 0 = .ok (.aload_n 0, 1) := dk_42 (dk_at dksX1_init_0 0 rfl rfl)
theorem dX1_init_1 : decode cX1_init 1 = .ok (.invokespecial 3, 3) := dk_183 0 3 (dk_at dksX1_init_0 1 rfl rfl)
theorem dX1_init_4 : decode cX1_init 4 = .ok (.aload_n 0, 1) := dk_42 (dk_at dksX1_init_0 4 rfl rfl)
theorem dX1_init_5 : decode cX1_init 5 = .ok (.bipush 12, 2) := dk_16 12 (dk_at dksX1_init_0 5 rfl rfl)
theorem dX1_init_7 : decode cX1_init 7 = .ok (.newarray .int, 2) := dk_188_10 (dk_at dksX1_init_0 7 rfl rfl)
theorem dX1_init_9 : decode cX1_init 9 = .ok (.putfield 9, 3) := dk_181 0 9 (dk_at dksX1_init_0 9 rfl rfl)
theorem dX1_init_12 : decode cX1_init 12 = .ok (.aload_n 0, 1) := dk_42 (dk_at dksX1_init_0 12 rfl rfl)
theorem dX1_init_13 : decode cX1_init 13 = .ok (.bipush 12, 2) := dk_16 12 (dk_at dksX1_init_0 13 rfl rfl)
theorem dX1_init_15 : decode cX1_init 15 = .ok (.newarray .int, 2) := dk_188_10 (dk_at dksX1_init_0 15 rfl rfl)
theorem dX1_init_17 : decode cX1_init 17 = .ok (.putfield 15, 3) := dk_181 0 15 (dk_at dksX1_init_0 17 rfl rfl)
theorem dX1_init_20 : decode cX1_init 20 = .ok (.aload_n 0, 1) := dk_42 (dk_at dksX1_init_0 20 rfl rfl)
theorem dX1_init_21 : decode cX1_init 21 = .ok (.bipush 12, 2) := dk_16 12 (dk_at dksX1_init_0 21 rfl rfl)
theorem dX1_init_23 : decode cX1_init 23 = .ok (.newarray .int, 2) := dk_188_10 (dk_at dksX1_init_1 0 rfl rfl)
theorem dX1_init_25 : decode cX1_init 25 = .ok (.putfield 18, 3) := dk_181 0 18 (dk_at dksX1_init_1 2 rfl rfl)
theorem dX1_init_28 : decode cX1_init 28 = .ok (.aload_n 0, 1) := dk_42 (dk_at dksX1_init_1 5 rfl rfl)
theorem dX1_init_29 : decode cX1_init 29 = .ok (.bipush 9, 2) := dk_16 9 (dk_at dksX1_init_1 6 rfl rfl)
theorem dX1_init_31 : decode cX1_init 31 = .ok (.newarray .int, 2) := dk_188_10 (dk_at dksX1_init_1 8 rfl rfl)
theorem dX1_init_33 : decode cX1_init 33 = .ok (.putfield 21, 3) := dk_181 0 21 (dk_at dksX1_init_1 10 rfl rfl)
theorem dX1_init_36 : decode cX1_init 36 = .ok (.aload_n 0, 1) := dk_42 (dk_at dksX1_init_1 13 rfl rfl)
theorem dX1_init_37 : decode cX1_init 37 = .ok (.bipush 9, 2) := dk_16 9 (dk_at dksX1_init_1 14 rfl rfl)
theorem dX1_init_39 : decode cX1_init 39 = .ok (.newarray .int, 2) := dk_188_10 (dk_at dksX1_init_1 16 rfl rfl)
theorem dX1_init_41 : decode cX1_init 41 = .ok (.putfield 24, 3) := dk_181 0 24 (dk_at dksX1_init_1 18 rfl rfl)
theorem dX1_init_44 : decode cX1_init 44 = .ok (.aload_n 0, 1) := dk_42 (dk_at dksX1_init_1 21 rfl rfl)
theorem dX1_init_45 : decode cX1_init 45 = .ok (.iconst 4, 1) := dk_7 (dk_at dksX1_init_1 22 rfl rfl)
theorem dX1_init_46 : decode cX1_init 46 = .ok (.newarray .int, 2) := dk_188_10 (dk_at dksX1_init_2 0 rfl rfl)
theorem dX1_init_48 : decode cX1_init 48 = .ok (.putfield 27, 3) := dk_181 0 27 (dk_at dksX1_init_2 2 rfl rfl)
theorem dX1_init_51 : decode cX1_init 51 = .ok (.aload_n 0, 1) := dk_42 (dk_at dksX1_init_2 5 rfl rfl)
theorem dX1_init_52 : decode cX1_init 52 = .ok (.new 30, 3) := dk_187 0 30 (dk_at dksX1_init_2 6 rfl rfl)
theorem dX1_init_55 : decode cX1_init 55 = .ok (.dup, 1) := dk_89 (dk_at dksX1_init_2 9 rfl rfl)
theorem dX1_init_56 : decode cX1_init 56 = .ok (.bipush 20, 2) := dk_16 20 (dk_at dksX1_init_2 10 rfl rfl)
theorem dX1_init_58 : decode cX1_init 58 = .ok (.invokespecial 32, 3) := dk_183 0 32 (dk_at dksX1_init_2 12 rfl rfl)
theorem dX1_init_61 : decode cX1_init 61 = .ok (.putfield 35, 3) := dk_181 0 35 (dk_at dksX1_init_2 15 rfl rfl)
theorem dX1_init_64 : decode cX1_init 64 = .ok (.iconst 0, 1) := dk_3 (dk_at dksX1_init_2 18 rfl rfl)
theorem dX1_init_65 : decode cX1_init 65 = .ok (.istore_n 1, 1) := dk_60 (dk_at dksX1_init_2 19 rfl rfl)
theorem dX1_init_66 : decode cX1_init 66 = .ok (.iload_n 1, 1) := dk_27 (dk_at dksX1_init_2 20 rfl rfl)
theorem dX1_init_67 : decode cX1_init 67 = .ok (.iconst 3, 1) := dk_6 (dk_at dksX1_init_2 21 rfl rfl)
theorem dX1_init_68 : decode cX1_init 68 = .ok (.if_icmp .gt 18, 3) := dk_163 0 18 (dk_at dksX1_init_3 0 rfl rfl)
theorem dX1_init_71 : decode cX1_init 71 = .ok (.aload_n 0, 1) := dk_42 (dk_at dksX1_init_3 3 rfl rfl)
theorem dX1_init_72 : decode cX1_init 72 = .ok (.getfield 27, 3) := dk_180 0 27 (dk_at dksX1_init_3 4 rfl rfl)
theorem dX1_init_75 : decode cX1_init 75 = .ok (.iload_n 1, 1) := dk_27 (dk_at dksX1_init_3 7 rfl rfl)
theorem dX1_init_76 : decode cX1_init 76 = .ok (.sipush 999, 3) := dk_17 3 231 (dk_at dksX1_init_3 8 rfl rfl)
theorem dX1_init_79 : decode cX1_init 79 = .ok (.iastore, 1) := dk_79 (dk_at dksX1_init_3 11 rfl rfl)
theorem dX1_init_80 : decode cX1_init 80 = .ok (.iinc 1 1, 3) := dk_132 1 1 (dk_at dksX1_init_3 12 rfl rfl)
theorem dX1_init_83 : decode cX1_init 83 = .ok (.goto (-17), 3) := dk_167 255 239 (dk_at dksX1_init_3 15 rfl rfl)
theorem dX1_init_86 : decode cX1_init 86 = .ok (.return_, 1) := dk_177 (dk_at dksX1_init_3 18 rfl rfl)
abbrev cX1_lays : ByteArray := prog_12_method_4_code
def yX1_lays : MethodName := ⟨RX1, "lays", "(I)V"⟩
def dkwX1_lays_1 : List UInt8 := [27, 182, 0, 59, 132, 2, 1, 167, 255, 227, 177]
abbrev dktX1_lays_1 : List UInt8 := dkwX1_lays_1 ++ []
def dkwX1_lays_0 : List UInt8 := [3, 61, 28, 42, 182, 0, 49, 162, 0, 27, 42, 28, 178, 0, 53, 27, 182, 0, 59, 42, 28, 178, 0, 63]
abbrev dktX1_lays_0 : List UInt8 := dkwX1_lays_0 ++ dktX1_lays_1
theorem dksX1_lays_0 : cX1_lays.data.toList.drop 0 = dktX1_lays_0 := by decide +kernel
theorem dksX1_lays_1 : cX1_lays.data.toList.drop 24 = dktX1_lays_1 := dk_seg dksX1_lays_0 24 rfl rfl
theorem dX1_lays_0 : decode cX1_lays 0 = .ok (.iconst 0, 1) := dk_3 (dk_at dksX1_lays_0 0 rfl rfl)
theorem dX1_lays_1 : decode cX1_lays 1 = .ok (.istore_n 2, 1) := dk_61 (dk_at dksX1_lays_0 1 rfl rfl)
theorem dX1_lays_2 : decode cX1_lays 2 = .ok (.iload_n 2, 1) := dk_28 (dk_at dksX1_lays_0 2 rfl rfl)
theorem dX1_lays_3 : decode cX1_lays 3 = .ok (.aload_n 0, 1) := dk_42 (dk_at dksX1_lays_0 3 rfl rfl)
theorem dX1_lays_4 : decode cX1_lays 4 = .ok (.invokevirtual 49, 3) := dk_182 0 49 (dk_at dksX1_lays_0 4 rfl rfl)
theorem dX1_lays_7 : decode cX1_lays 7 = .ok (.if_icmp .ge 27, 3) := dk_162 0 27 (dk_at dksX1_lays_0 7 rfl rfl)
theorem dX1_lays_10 : decode cX1_lays 10 = .ok (.aload_n 0, 1) := dk_42 (dk_at dksX1_lays_0 10 rfl rfl)
theorem dX1_lays_11 : decode cX1_lays 11 = .ok (.iload_n 2, 1) := dk_28 (dk_at dksX1_lays_0 11 rfl rfl)
theorem dX1_lays_12 : decode cX1_lays 12 = .ok (.getstatic 53, 3) := dk_178 0 53 (dk_at dksX1_lays_0 12 rfl rfl)
theorem dX1_lays_15 : decode cX1_lays 15 = .ok (.iload_n 1, 1) := dk_27 (dk_at dksX1_lays_0 15 rfl rfl)
theorem dX1_lays_16 : decode cX1_lays 16 = .ok (.invokevirtual 59, 3) := dk_182 0 59 (dk_at dksX1_lays_0 16 rfl rfl)
theorem dX1_lays_19 : decode cX1_lays 19 = .ok (.aload_n 0, 1) := dk_42 (dk_at dksX1_lays_0 19 rfl rfl)
theorem dX1_lays_20 : decode cX1_lays 20 = .ok (.iload_n 2, 1) := dk_28 (dk_at dksX1_lays_0 20 rfl rfl)
theorem dX1_lays_21 : decode cX1_lays 21 = .ok (.getstatic 63, 3) := dk_178 0 63 (dk_at dksX1_lays_0 21 rfl rfl)
theorem dX1_lays_24 : decode cX1_lays 24 = .ok (.iload_n 1, 1) := dk_27 (dk_at dksX1_lays_1 0 rfl rfl)
theorem dX1_lays_25 : decode cX1_lays 25 = .ok (.invokevirtual 59, 3) := dk_182 0 59 (dk_at dksX1_lays_1 1 rfl rfl)
theorem dX1_lays_28 : decode cX1_lays 28 = .ok (.iinc 2 1, 3) := dk_132 2 1 (dk_at dksX1_lays_1 4 rfl rfl)
theorem dX1_lays_31 : decode cX1_lays 31 = .ok (.goto (-29), 3) := dk_167 255 227 (dk_at dksX1_lays_1 7 rfl rfl)
theorem dX1_lays_34 : decode cX1_lays 34 = .ok (.return_, 1) := dk_177 (dk_at dksX1_lays_1 10 rfl rfl)
abbrev cX1_many : ByteArray := prog_12_method_3_code
def yX1_many : MethodName := ⟨RX1, "many", "()I"⟩
def dkwX1_many_0 : List UInt8 := [42, 180, 0, 43, 42, 180, 0, 46, 104, 172]
abbrev dktX1_many_0 : List UInt8 := dkwX1_many_0 ++ []
theorem dksX1_many_0 : cX1_many.data.toList.drop 0 = dktX1_many_0 := by decide +kernel
theorem dX1_many_0 : decode cX1_many 0 = .ok (.aload_n 0, 1) := dk_42 (dk_at dksX1_many_0 0 rfl rfl)
theorem dX1_many_1 : decode cX1_many 1 = .ok (.getfield 43, 3) := dk_180 0 43 (dk_at dksX1_many_0 1 rfl rfl)
theorem dX1_many_4 : decode cX1_many 4 = .ok (.aload_n 0, 1) := dk_42 (dk_at dksX1_many_0 4 rfl rfl)
theorem dX1_many_5 : decode cX1_many 5 = .ok (.getfield 46, 3) := dk_180 0 46 (dk_at dksX1_many_0 5 rfl rfl)
theorem dX1_many_8 : decode cX1_many 8 = .ok (.imul, 1) := dk_104 (dk_at dksX1_many_0 8 rfl rfl)
theorem dX1_many_9 : decode cX1_many 9 = .ok (.ireturn, 1) := dk_172 (dk_at dksX1_many_0 9 rfl rfl)
abbrev cX1_adds : ByteArray := prog_12_method_5_code
def yX1_adds : MethodName := ⟨RX1, "adds", "(ILSupplyGrid$Way;I)V"⟩
def dkwX1_adds_2 : List UInt8 := [180, 0, 70, 4, 96, 181, 0, 70, 177]
abbrev dktX1_adds_2 : List UInt8 := dkwX1_adds_2 ++ []
def dkwX1_adds_1 : List UInt8 := [42, 180, 0, 70, 44, 42, 27, 182, 0, 73, 79, 42, 180, 0, 9, 42, 180, 0, 70, 29, 79, 42, 89]
abbrev dktX1_adds_1 : List UInt8 := dkwX1_adds_1 ++ dktX1_adds_2
def dkwX1_adds_0 : List UInt8 := [44, 42, 27, 182, 0, 66, 154, 0, 4, 177, 42, 180, 0, 15, 42, 180, 0, 70, 27, 79, 42, 180, 0, 18]
abbrev dktX1_adds_0 : List UInt8 := dkwX1_adds_0 ++ dktX1_adds_1
theorem dksX1_adds_0 : cX1_adds.data.toList.drop 0 = dktX1_adds_0 := by decide +kernel
theorem dksX1_adds_1 : cX1_adds.data.toList.drop 24 = dktX1_adds_1 := dk_seg dksX1_adds_0 24 rfl rfl
theorem dksX1_adds_2 : cX1_adds.data.toList.drop 47 = dktX1_adds_2 := dk_seg dksX1_adds_1 23 rfl rfl
theorem dX1_adds_0 : decode cX1_adds 0 = .ok (.aload_n 2, 1) := dk_44 (dk_at dksX1_adds_0 0 rfl rfl)
theorem dX1_adds_1 : decode cX1_adds 1 = .ok (.aload_n 0, 1) := dk_42 (dk_at dksX1_adds_0 1 rfl rfl)
theorem dX1_adds_2 : decode cX1_adds 2 = .ok (.iload_n 1, 1) := dk_27 (dk_at dksX1_adds_0 2 rfl rfl)
theorem dX1_adds_3 : decode cX1_adds 3 = .ok (.invokevirtual 66, 3) := dk_182 0 66 (dk_at dksX1_adds_0 3 rfl rfl)
theorem dX1_adds_6 : decode cX1_adds 6 = .ok (.ifCond .ne 4, 3) := dk_154 0 4 (dk_at dksX1_adds_0 6 rfl rfl)
theorem dX1_adds_9 : decode cX1_adds 9 = .ok (.return_, 1) := dk_177 (dk_at dksX1_adds_0 9 rfl rfl)
theorem dX1_adds_10 : decode cX1_adds 10 = .ok (.aload_n 0, 1) := dk_42 (dk_at dksX1_adds_0 10 rfl rfl)
theorem dX1_adds_11 : decode cX1_adds 11 = .ok (.getfield 15, 3) := dk_180 0 15 (dk_at dksX1_adds_0 11 rfl rfl)
theorem dX1_adds_14 : decode cX1_adds 14 = .ok (.aload_n 0, 1) := dk_42 (dk_at dksX1_adds_0 14 rfl rfl)
theorem dX1_adds_15 : decode cX1_adds 15 = .ok (.getfield 70, 3) := dk_180 0 70 (dk_at dksX1_adds_0 15 rfl rfl)
theorem dX1_adds_18 : decode cX1_adds 18 = .ok (.iload_n 1, 1) := dk_27 (dk_at dksX1_adds_0 18 rfl rfl)
theorem dX1_adds_19 : decode cX1_adds 19 = .ok (.iastore, 1) := dk_79 (dk_at dksX1_adds_0 19 rfl rfl)
theorem dX1_adds_20 : decode cX1_adds 20 = .ok (.aload_n 0, 1) := dk_42 (dk_at dksX1_adds_0 20 rfl rfl)
theorem dX1_adds_21 : decode cX1_adds 21 = .ok (.getfield 18, 3) := dk_180 0 18 (dk_at dksX1_adds_0 21 rfl rfl)
theorem dX1_adds_24 : decode cX1_adds 24 = .ok (.aload_n 0, 1) := dk_42 (dk_at dksX1_adds_1 0 rfl rfl)
theorem dX1_adds_25 : decode cX1_adds 25 = .ok (.getfield 70, 3) := dk_180 0 70 (dk_at dksX1_adds_1 1 rfl rfl)
theorem dX1_adds_28 : decode cX1_adds 28 = .ok (.aload_n 2, 1) := dk_44 (dk_at dksX1_adds_1 4 rfl rfl)
theorem dX1_adds_29 : decode cX1_adds 29 = .ok (.aload_n 0, 1) := dk_42 (dk_at dksX1_adds_1 5 rfl rfl)
theorem dX1_adds_30 : decode cX1_adds 30 = .ok (.iload_n 1, 1) := dk_27 (dk_at dksX1_adds_1 6 rfl rfl)
theorem dX1_adds_31 : decode cX1_adds 31 = .ok (.invokevirtual 73, 3) := dk_182 0 73 (dk_at dksX1_adds_1 7 rfl rfl)
theorem dX1_adds_34 : decode cX1_adds 34 = .ok (.iastore, 1) := dk_79 (dk_at dksX1_adds_1 10 rfl rfl)
theorem dX1_adds_35 : decode cX1_adds 35 = .ok (.aload_n 0, 1) := dk_42 (dk_at dksX1_adds_1 11 rfl rfl)
theorem dX1_adds_36 : decode cX1_adds 36 = .ok (.getfield 9, 3) := dk_180 0 9 (dk_at dksX1_adds_1 12 rfl rfl)
theorem dX1_adds_39 : decode cX1_adds 39 = .ok (.aload_n 0, 1) := dk_42 (dk_at dksX1_adds_1 15 rfl rfl)
theorem dX1_adds_40 : decode cX1_adds 40 = .ok (.getfield 70, 3) := dk_180 0 70 (dk_at dksX1_adds_1 16 rfl rfl)
theorem dX1_adds_43 : decode cX1_adds 43 = .ok (.iload_n 3, 1) := dk_29 (dk_at dksX1_adds_1 19 rfl rfl)
theorem dX1_adds_44 : decode cX1_adds 44 = .ok (.iastore, 1) := dk_79 (dk_at dksX1_adds_1 20 rfl rfl)
theorem dX1_adds_45 : decode cX1_adds 45 = .ok (.aload_n 0, 1) := dk_42 (dk_at dksX1_adds_1 21 rfl rfl)
theorem dX1_adds_46 : decode cX1_adds 46 = .ok (.dup, 1) := dk_89 (dk_at dksX1_adds_1 22 rfl rfl)
theorem dX1_adds_47 : decode cX1_adds 47 = .ok (.getfield 70, 3) := dk_180 0 70 (dk_at dksX1_adds_2 0 rfl rfl)
theorem dX1_adds_50 : decode cX1_adds 50 = .ok (.iconst 1, 1) := dk_4 (dk_at dksX1_adds_2 3 rfl rfl)
theorem dX1_adds_51 : decode cX1_adds 51 = .ok (.iadd, 1) := dk_96 (dk_at dksX1_adds_2 4 rfl rfl)
theorem dX1_adds_52 : decode cX1_adds 52 = .ok (.putfield 70, 3) := dk_181 0 70 (dk_at dksX1_adds_2 5 rfl rfl)
theorem dX1_adds_55 : decode cX1_adds 55 = .ok (.return_, 1) := dk_177 (dk_at dksX1_adds_2 8 rfl rfl)
abbrev cX1_strapOf : ByteArray := prog_12_method_6_code
def yX1_strapOf : MethodName := ⟨RX1, "strapOf", "(II)I"⟩
def dkwX1_strapOf_1 : List UInt8 := [29, 46, 28, 160, 0, 5, 29, 172, 132, 3, 1, 167, 255, 223, 2, 172]
abbrev dktX1_strapOf_1 : List UInt8 := dkwX1_strapOf_1 ++ []
def dkwX1_strapOf_0 : List UInt8 := [3, 62, 29, 42, 180, 0, 70, 162, 0, 31, 42, 180, 0, 15, 29, 46, 27, 160, 0, 15, 42, 180, 0, 18]
abbrev dktX1_strapOf_0 : List UInt8 := dkwX1_strapOf_0 ++ dktX1_strapOf_1
theorem dksX1_strapOf_0 : cX1_strapOf.data.toList.drop 0 = dktX1_strapOf_0 := by decide +kernel
theorem dksX1_strapOf_1 : cX1_strapOf.data.toList.drop 24 = dktX1_strapOf_1 := dk_seg dksX1_strapOf_0 24 rfl rfl
theorem dX1_strapOf_0 : decode cX1_strapOf 0 = .ok (.iconst 0, 1) := dk_3 (dk_at dksX1_strapOf_0 0 rfl rfl)
theorem dX1_strapOf_1 : decode cX1_strapOf 1 = .ok (.istore_n 3, 1) := dk_62 (dk_at dksX1_strapOf_0 1 rfl rfl)
theorem dX1_strapOf_2 : decode cX1_strapOf 2 = .ok (.iload_n 3, 1) := dk_29 (dk_at dksX1_strapOf_0 2 rfl rfl)
theorem dX1_strapOf_3 : decode cX1_strapOf 3 = .ok (.aload_n 0, 1) := dk_42 (dk_at dksX1_strapOf_0 3 rfl rfl)
theorem dX1_strapOf_4 : decode cX1_strapOf 4 = .ok (.getfield 70, 3) := dk_180 0 70 (dk_at dksX1_strapOf_0 4 rfl rfl)
theorem dX1_strapOf_7 : decode cX1_strapOf 7 = .ok (.if_icmp .ge 31, 3) := dk_162 0 31 (dk_at dksX1_strapOf_0 7 rfl rfl)
theorem dX1_strapOf_10 : decode cX1_strapOf 10 = .ok (.aload_n 0, 1) := dk_42 (dk_at dksX1_strapOf_0 10 rfl rfl)
theorem dX1_strapOf_11 : decode cX1_strapOf 11 = .ok (.getfield 15, 3) := dk_180 0 15 (dk_at dksX1_strapOf_0 11 rfl rfl)
theorem dX1_strapOf_14 : decode cX1_strapOf 14 = .ok (.iload_n 3, 1) := dk_29 (dk_at dksX1_strapOf_0 14 rfl rfl)
theorem dX1_strapOf_15 : decode cX1_strapOf 15 = .ok (.iaload, 1) := dk_46 (dk_at dksX1_strapOf_0 15 rfl rfl)
theorem dX1_strapOf_16 : decode cX1_strapOf 16 = .ok (.iload_n 1, 1) := dk_27 (dk_at dksX1_strapOf_0 16 rfl rfl)
theorem dX1_strapOf_17 : decode cX1_strapOf 17 = .ok (.if_icmp .ne 15, 3) := dk_160 0 15 (dk_at dksX1_strapOf_0 17 rfl rfl)
theorem dX1_strapOf_20 : decode cX1_strapOf 20 = .ok (.aload_n 0, 1) := dk_42 (dk_at dksX1_strapOf_0 20 rfl rfl)
theorem dX1_strapOf_21 : decode cX1_strapOf 21 = .ok (.getfield 18, 3) := dk_180 0 18 (dk_at dksX1_strapOf_0 21 rfl rfl)
theorem dX1_strapOf_24 : decode cX1_strapOf 24 = .ok (.iload_n 3, 1) := dk_29 (dk_at dksX1_strapOf_1 0 rfl rfl)
theorem dX1_strapOf_25 : decode cX1_strapOf 25 = .ok (.iaload, 1) := dk_46 (dk_at dksX1_strapOf_1 1 rfl rfl)
theorem dX1_strapOf_26 : decode cX1_strapOf 26 = .ok (.iload_n 2, 1) := dk_28 (dk_at dksX1_strapOf_1 2 rfl rfl)
theorem dX1_strapOf_27 : decode cX1_strapOf 27 = .ok (.if_icmp .ne 5, 3) := dk_160 0 5 (dk_at dksX1_strapOf_1 3 rfl rfl)
theorem dX1_strapOf_30 : decode cX1_strapOf 30 = .ok (.iload_n 3, 1) := dk_29 (dk_at dksX1_strapOf_1 6 rfl rfl)
theorem dX1_strapOf_31 : decode cX1_strapOf 31 = .ok (.ireturn, 1) := dk_172 (dk_at dksX1_strapOf_1 7 rfl rfl)
theorem dX1_strapOf_32 : decode cX1_strapOf 32 = .ok (.iinc 3 1, 3) := dk_132 3 1 (dk_at dksX1_strapOf_1 8 rfl rfl)
theorem dX1_strapOf_35 : decode cX1_strapOf 35 = .ok (.goto (-33), 3) := dk_167 255 223 (dk_at dksX1_strapOf_1 11 rfl rfl)
theorem dX1_strapOf_38 : decode cX1_strapOf 38 = .ok (.iconst (-1), 1) := dk_2 (dk_at dksX1_strapOf_1 14 rfl rfl)
theorem dX1_strapOf_39 : decode cX1_strapOf 39 = .ok (.ireturn, 1) := dk_172 (dk_at dksX1_strapOf_1 15 rfl rfl)
abbrev cX1_is : ByteArray := prog_12_method_2_code
def yX1_is : MethodName := ⟨RX1, "is", "()Z"⟩
def dkwX1_is_0 : List UInt8 := [42, 180, 0, 39, 158, 0, 7, 4, 167, 0, 4, 3, 172]
abbrev dktX1_is_0 : List UInt8 := dkwX1_is_0 ++ []
theorem dksX1_is_0 : cX1_is.data.toList.drop 0 = dktX1_is_0 := by decide +kernel
theorem dX1_is_0 : decode cX1_is 0 = .ok (.aload_n 0, 1) := dk_42 (dk_at dksX1_is_0 0 rfl rfl)
theorem dX1_is_1 : decode cX1_is 1 = .ok (.getfield 39, 3) := dk_180 0 39 (dk_at dksX1_is_0 1 rfl rfl)
theorem dX1_is_4 : decode cX1_is 4 = .ok (.ifCond .le 7, 3) := dk_158 0 7 (dk_at dksX1_is_0 4 rfl rfl)
theorem dX1_is_7 : decode cX1_is 7 = .ok (.iconst 1, 1) := dk_4 (dk_at dksX1_is_0 7 rfl rfl)
theorem dX1_is_8 : decode cX1_is 8 = .ok (.goto 4, 3) := dk_167 0 4 (dk_at dksX1_is_0 8 rfl rfl)
theorem dX1_is_11 : decode cX1_is 11 = .ok (.iconst 0, 1) := dk_3 (dk_at dksX1_is_0 11 rfl rfl)
theorem dX1_is_12 : decode cX1_is 12 = .ok (.ireturn, 1) := dk_172 (dk_at dksX1_is_0 12 rfl rfl)
abbrev cX1_same : ByteArray := prog_12_method_7_code
def yX1_same : MethodName := ⟨RX1, "same", "()LSupplyGrid$Told;"⟩
def dkwX1_same_7 : List UInt8 := [176]
abbrev dktX1_same_7 : List UInt8 := dkwX1_same_7 ++ []
def dkwX1_same_6 : List UInt8 := [42, 180, 0, 70, 181, 0, 70, 43, 42, 180, 0, 93, 181, 0, 93, 43, 42, 180, 0, 39, 181, 0, 39, 43]
abbrev dktX1_same_6 : List UInt8 := dkwX1_same_6 ++ dktX1_same_7
def dkwX1_same_5 : List UInt8 := [42, 180, 0, 46, 181, 0, 46, 43, 42, 180, 0, 87, 181, 0, 87, 43, 42, 180, 0, 90, 181, 0, 90, 43]
abbrev dktX1_same_5 : List UInt8 := dkwX1_same_5 ++ dktX1_same_6
def dkwX1_same_4 : List UInt8 := [184, 0, 77, 43, 180, 0, 35, 42, 180, 0, 35, 182, 0, 83, 87, 43, 42, 180, 0, 43, 181, 0, 43, 43]
abbrev dktX1_same_4 : List UInt8 := dkwX1_same_4 ++ dktX1_same_5
def dkwX1_same_3 : List UInt8 := [3, 43, 180, 0, 24, 3, 16, 9, 184, 0, 77, 42, 180, 0, 27, 3, 43, 180, 0, 27, 3, 7]
abbrev dktX1_same_3 : List UInt8 := dkwX1_same_3 ++ dktX1_same_4
def dkwX1_same_2 : List UInt8 := [16, 12, 184, 0, 77, 42, 180, 0, 21, 3, 43, 180, 0, 21, 3, 16, 9, 184, 0, 77, 42, 180, 0, 24]
abbrev dktX1_same_2 : List UInt8 := dkwX1_same_2 ++ dktX1_same_3
def dkwX1_same_1 : List UInt8 := [180, 0, 15, 3, 43, 180, 0, 15, 3, 16, 12, 184, 0, 77, 42, 180, 0, 18, 3, 43, 180, 0, 18, 3]
abbrev dktX1_same_1 : List UInt8 := dkwX1_same_1 ++ dktX1_same_2
def dkwX1_same_0 : List UInt8 := [187, 0, 10, 89, 183, 0, 76, 76, 42, 180, 0, 9, 3, 43, 180, 0, 9, 3, 16, 12, 184, 0, 77, 42]
abbrev dktX1_same_0 : List UInt8 := dkwX1_same_0 ++ dktX1_same_1
theorem dksX1_same_0 : cX1_same.data.toList.drop 0 = dktX1_same_0 := by decide +kernel
theorem dksX1_same_1 : cX1_same.data.toList.drop 24 = dktX1_same_1 := dk_seg dksX1_same_0 24 rfl rfl
theorem dksX1_same_2 : cX1_same.data.toList.drop 48 = dktX1_same_2 := dk_seg dksX1_same_1 24 rfl rfl
theorem dksX1_same_3 : cX1_same.data.toList.drop 72 = dktX1_same_3 := dk_seg dksX1_same_2 24 rfl rfl
theorem dksX1_same_4 : cX1_same.data.toList.drop 94 = dktX1_same_4 := dk_seg dksX1_same_3 22 rfl rfl
theorem dksX1_same_5 : cX1_same.data.toList.drop 118 = dktX1_same_5 := dk_seg dksX1_same_4 24 rfl rfl
theorem dksX1_same_6 : cX1_same.data.toList.drop 142 = dktX1_same_6 := dk_seg dksX1_same_5 24 rfl rfl
theorem dksX1_same_7 : cX1_same.data.toList.drop 166 = dktX1_same_7 := dk_seg dksX1_same_6 24 rfl rfl
theorem dX1_same_0 : decode cX1_same 0 = .ok (.new 10, 3) := dk_187 0 10 (dk_at dksX1_same_0 0 rfl rfl)
theorem dX1_same_3 : decode cX1_same 3 = .ok (.dup, 1) := dk_89 (dk_at dksX1_same_0 3 rfl rfl)
theorem dX1_same_4 : decode cX1_same 4 = .ok (.invokespecial 76, 3) := dk_183 0 76 (dk_at dksX1_same_0 4 rfl rfl)
theorem dX1_same_7 : decode cX1_same 7 = .ok (.astore_n 1, 1) := dk_76 (dk_at dksX1_same_0 7 rfl rfl)
theorem dX1_same_8 : decode cX1_same 8 = .ok (.aload_n 0, 1) := dk_42 (dk_at dksX1_same_0 8 rfl rfl)
theorem dX1_same_9 : decode cX1_same 9 = .ok (.getfield 9, 3) := dk_180 0 9 (dk_at dksX1_same_0 9 rfl rfl)
theorem dX1_same_12 : decode cX1_same 12 = .ok (.iconst 0, 1) := dk_3 (dk_at dksX1_same_0 12 rfl rfl)
theorem dX1_same_13 : decode cX1_same 13 = .ok (.aload_n 1, 1) := dk_43 (dk_at dksX1_same_0 13 rfl rfl)
theorem dX1_same_14 : decode cX1_same 14 = .ok (.getfield 9, 3) := dk_180 0 9 (dk_at dksX1_same_0 14 rfl rfl)
theorem dX1_same_17 : decode cX1_same 17 = .ok (.iconst 0, 1) := dk_3 (dk_at dksX1_same_0 17 rfl rfl)
theorem dX1_same_18 : decode cX1_same 18 = .ok (.bipush 12, 2) := dk_16 12 (dk_at dksX1_same_0 18 rfl rfl)
theorem dX1_same_20 : decode cX1_same 20 = .ok (.invokestatic 77, 3) := dk_184 0 77 (dk_at dksX1_same_0 20 rfl rfl)
theorem dX1_same_23 : decode cX1_same 23 = .ok (.aload_n 0, 1) := dk_42 (dk_at dksX1_same_0 23 rfl rfl)
theorem dX1_same_24 : decode cX1_same 24 = .ok (.getfield 15, 3) := dk_180 0 15 (dk_at dksX1_same_1 0 rfl rfl)
theorem dX1_same_27 : decode cX1_same 27 = .ok (.iconst 0, 1) := dk_3 (dk_at dksX1_same_1 3 rfl rfl)
theorem dX1_same_28 : decode cX1_same 28 = .ok (.aload_n 1, 1) := dk_43 (dk_at dksX1_same_1 4 rfl rfl)
theorem dX1_same_29 : decode cX1_same 29 = .ok (.getfield 15, 3) := dk_180 0 15 (dk_at dksX1_same_1 5 rfl rfl)
theorem dX1_same_32 : decode cX1_same 32 = .ok (.iconst 0, 1) := dk_3 (dk_at dksX1_same_1 8 rfl rfl)
theorem dX1_same_33 : decode cX1_same 33 = .ok (.bipush 12, 2) := dk_16 12 (dk_at dksX1_same_1 9 rfl rfl)
theorem dX1_same_35 : decode cX1_same 35 = .ok (.invokestatic 77, 3) := dk_184 0 77 (dk_at dksX1_same_1 11 rfl rfl)
theorem dX1_same_38 : decode cX1_same 38 = .ok (.aload_n 0, 1) := dk_42 (dk_at dksX1_same_1 14 rfl rfl)
theorem dX1_same_39 : decode cX1_same 39 = .ok (.getfield 18, 3) := dk_180 0 18 (dk_at dksX1_same_1 15 rfl rfl)
theorem dX1_same_42 : decode cX1_same 42 = .ok (.iconst 0, 1) := dk_3 (dk_at dksX1_same_1 18 rfl rfl)
theorem dX1_same_43 : decode cX1_same 43 = .ok (.aload_n 1, 1) := dk_43 (dk_at dksX1_same_1 19 rfl rfl)
theorem dX1_same_44 : decode cX1_same 44 = .ok (.getfield 18, 3) := dk_180 0 18 (dk_at dksX1_same_1 20 rfl rfl)
theorem dX1_same_47 : decode cX1_same 47 = .ok (.iconst 0, 1) := dk_3 (dk_at dksX1_same_1 23 rfl rfl)
theorem dX1_same_48 : decode cX1_same 48 = .ok (.bipush 12, 2) := dk_16 12 (dk_at dksX1_same_2 0 rfl rfl)
theorem dX1_same_50 : decode cX1_same 50 = .ok (.invokestatic 77, 3) := dk_184 0 77 (dk_at dksX1_same_2 2 rfl rfl)
theorem dX1_same_53 : decode cX1_same 53 = .ok (.aload_n 0, 1) := dk_42 (dk_at dksX1_same_2 5 rfl rfl)
theorem dX1_same_54 : decode cX1_same 54 = .ok (.getfield 21, 3) := dk_180 0 21 (dk_at dksX1_same_2 6 rfl rfl)
theorem dX1_same_57 : decode cX1_same 57 = .ok (.iconst 0, 1) := dk_3 (dk_at dksX1_same_2 9 rfl rfl)
theorem dX1_same_58 : decode cX1_same 58 = .ok (.aload_n 1, 1) := dk_43 (dk_at dksX1_same_2 10 rfl rfl)
theorem dX1_same_59 : decode cX1_same 59 = .ok (.getfield 21, 3) := dk_180 0 21 (dk_at dksX1_same_2 11 rfl rfl)
theorem dX1_same_62 : decode cX1_same 62 = .ok (.iconst 0, 1) := dk_3 (dk_at dksX1_same_2 14 rfl rfl)
theorem dX1_same_63 : decode cX1_same 63 = .ok (.bipush 9, 2) := dk_16 9 (dk_at dksX1_same_2 15 rfl rfl)
theorem dX1_same_65 : decode cX1_same 65 = .ok (.invokestatic 77, 3) := dk_184 0 77 (dk_at dksX1_same_2 17 rfl rfl)
theorem dX1_same_68 : decode cX1_same 68 = .ok (.aload_n 0, 1) := dk_42 (dk_at dksX1_same_2 20 rfl rfl)
theorem dX1_same_69 : decode cX1_same 69 = .ok (.getfield 24, 3) := dk_180 0 24 (dk_at dksX1_same_2 21 rfl rfl)
theorem dX1_same_72 : decode cX1_same 72 = .ok (.iconst 0, 1) := dk_3 (dk_at dksX1_same_3 0 rfl rfl)
theorem dX1_same_73 : decode cX1_same 73 = .ok (.aload_n 1, 1) := dk_43 (dk_at dksX1_same_3 1 rfl rfl)
theorem dX1_same_74 : decode cX1_same 74 = .ok (.getfield 24, 3) := dk_180 0 24 (dk_at dksX1_same_3 2 rfl rfl)
theorem dX1_same_77 : decode cX1_same 77 = .ok (.iconst 0, 1) := dk_3 (dk_at dksX1_same_3 5 rfl rfl)
theorem dX1_same_78 : decode cX1_same 78 = .ok (.bipush 9, 2) := dk_16 9 (dk_at dksX1_same_3 6 rfl rfl)
theorem dX1_same_80 : decode cX1_same 80 = .ok (.invokestatic 77, 3) := dk_184 0 77 (dk_at dksX1_same_3 8 rfl rfl)
theorem dX1_same_83 : decode cX1_same 83 = .ok (.aload_n 0, 1) := dk_42 (dk_at dksX1_same_3 11 rfl rfl)
theorem dX1_same_84 : decode cX1_same 84 = .ok (.getfield 27, 3) := dk_180 0 27 (dk_at dksX1_same_3 12 rfl rfl)
theorem dX1_same_87 : decode cX1_same 87 = .ok (.iconst 0, 1) := dk_3 (dk_at dksX1_same_3 15 rfl rfl)
theorem dX1_same_88 : decode cX1_same 88 = .ok (.aload_n 1, 1) := dk_43 (dk_at dksX1_same_3 16 rfl rfl)
theorem dX1_same_89 : decode cX1_same 89 = .ok (.getfield 27, 3) := dk_180 0 27 (dk_at dksX1_same_3 17 rfl rfl)
theorem dX1_same_92 : decode cX1_same 92 = .ok (.iconst 0, 1) := dk_3 (dk_at dksX1_same_3 20 rfl rfl)
theorem dX1_same_93 : decode cX1_same 93 = .ok (.iconst 4, 1) := dk_7 (dk_at dksX1_same_3 21 rfl rfl)
theorem dX1_same_94 : decode cX1_same 94 = .ok (.invokestatic 77, 3) := dk_184 0 77 (dk_at dksX1_same_4 0 rfl rfl)
theorem dX1_same_97 : decode cX1_same 97 = .ok (.aload_n 1, 1) := dk_43 (dk_at dksX1_same_4 3 rfl rfl)
theorem dX1_same_98 : decode cX1_same 98 = .ok (.getfield 35, 3) := dk_180 0 35 (dk_at dksX1_same_4 4 rfl rfl)
theorem dX1_same_101 : decode cX1_same 101 = .ok (.aload_n 0, 1) := dk_42 (dk_at dksX1_same_4 7 rfl rfl)
theorem dX1_same_102 : decode cX1_same 102 = .ok (.getfield 35, 3) := dk_180 0 35 (dk_at dksX1_same_4 8 rfl rfl)
theorem dX1_same_105 : decode cX1_same 105 = .ok (.invokevirtual 83, 3) := dk_182 0 83 (dk_at dksX1_same_4 11 rfl rfl)
theorem dX1_same_108 : decode cX1_same 108 = .ok (.pop, 1) := dk_87 (dk_at dksX1_same_4 14 rfl rfl)
theorem dX1_same_109 : decode cX1_same 109 = .ok (.aload_n 1, 1) := dk_43 (dk_at dksX1_same_4 15 rfl rfl)
theorem dX1_same_110 : decode cX1_same 110 = .ok (.aload_n 0, 1) := dk_42 (dk_at dksX1_same_4 16 rfl rfl)
theorem dX1_same_111 : decode cX1_same 111 = .ok (.getfield 43, 3) := dk_180 0 43 (dk_at dksX1_same_4 17 rfl rfl)
theorem dX1_same_114 : decode cX1_same 114 = .ok (.putfield 43, 3) := dk_181 0 43 (dk_at dksX1_same_4 20 rfl rfl)
theorem dX1_same_117 : decode cX1_same 117 = .ok (.aload_n 1, 1) := dk_43 (dk_at dksX1_same_4 23 rfl rfl)
theorem dX1_same_118 : decode cX1_same 118 = .ok (.aload_n 0, 1) := dk_42 (dk_at dksX1_same_5 0 rfl rfl)
theorem dX1_same_119 : decode cX1_same 119 = .ok (.getfield 46, 3) := dk_180 0 46 (dk_at dksX1_same_5 1 rfl rfl)
theorem dX1_same_122 : decode cX1_same 122 = .ok (.putfield 46, 3) := dk_181 0 46 (dk_at dksX1_same_5 4 rfl rfl)
theorem dX1_same_125 : decode cX1_same 125 = .ok (.aload_n 1, 1) := dk_43 (dk_at dksX1_same_5 7 rfl rfl)
theorem dX1_same_126 : decode cX1_same 126 = .ok (.aload_n 0, 1) := dk_42 (dk_at dksX1_same_5 8 rfl rfl)
theorem dX1_same_127 : decode cX1_same 127 = .ok (.getfield 87, 3) := dk_180 0 87 (dk_at dksX1_same_5 9 rfl rfl)
theorem dX1_same_130 : decode cX1_same 130 = .ok (.putfield 87, 3) := dk_181 0 87 (dk_at dksX1_same_5 12 rfl rfl)
theorem dX1_same_133 : decode cX1_same 133 = .ok (.aload_n 1, 1) := dk_43 (dk_at dksX1_same_5 15 rfl rfl)
theorem dX1_same_134 : decode cX1_same 134 = .ok (.aload_n 0, 1) := dk_42 (dk_at dksX1_same_5 16 rfl rfl)
theorem dX1_same_135 : decode cX1_same 135 = .ok (.getfield 90, 3) := dk_180 0 90 (dk_at dksX1_same_5 17 rfl rfl)
theorem dX1_same_138 : decode cX1_same 138 = .ok (.putfield 90, 3) := dk_181 0 90 (dk_at dksX1_same_5 20 rfl rfl)
theorem dX1_same_141 : decode cX1_same 141 = .ok (.aload_n 1, 1) := dk_43 (dk_at dksX1_same_5 23 rfl rfl)
theorem dX1_same_142 : decode cX1_same 142 = .ok (.aload_n 0, 1) := dk_42 (dk_at dksX1_same_6 0 rfl rfl)
theorem dX1_same_143 : decode cX1_same 143 = .ok (.getfield 70, 3) := dk_180 0 70 (dk_at dksX1_same_6 1 rfl rfl)
theorem dX1_same_146 : decode cX1_same 146 = .ok (.putfield 70, 3) := dk_181 0 70 (dk_at dksX1_same_6 4 rfl rfl)
theorem dX1_same_149 : decode cX1_same 149 = .ok (.aload_n 1, 1) := dk_43 (dk_at dksX1_same_6 7 rfl rfl)
theorem dX1_same_150 : decode cX1_same 150 = .ok (.aload_n 0, 1) := dk_42 (dk_at dksX1_same_6 8 rfl rfl)
theorem dX1_same_151 : decode cX1_same 151 = .ok (.getfield 93, 3) := dk_180 0 93 (dk_at dksX1_same_6 9 rfl rfl)
theorem dX1_same_154 : decode cX1_same 154 = .ok (.putfield 93, 3) := dk_181 0 93 (dk_at dksX1_same_6 12 rfl rfl)
theorem dX1_same_157 : decode cX1_same 157 = .ok (.aload_n 1, 1) := dk_43 (dk_at dksX1_same_6 15 rfl rfl)
theorem dX1_same_158 : decode cX1_same 158 = .ok (.aload_n 0, 1) := dk_42 (dk_at dksX1_same_6 16 rfl rfl)
theorem dX1_same_159 : decode cX1_same 159 = .ok (.getfield 39, 3) := dk_180 0 39 (dk_at dksX1_same_6 17 rfl rfl)
theorem dX1_same_162 : decode cX1_same 162 = .ok (.putfield 39, 3) := dk_181 0 39 (dk_at dksX1_same_6 20 rfl rfl)
theorem dX1_same_165 : decode cX1_same 165 = .ok (.aload_n 1, 1) := dk_43 (dk_at dksX1_same_6 23 rfl rfl)
theorem dX1_same_166 : decode cX1_same 166 = .ok (.areturn, 1) := dk_176 (dk_at dksX1_same_7 0 rfl rfl)
theorem q120 : (Jvm.Cond.initialized "SupplyGrid$Told") ∈ lw_all := lw_g (lw_at lw_m1 2 rfl) rfl
theorem q157 : (Jvm.Cond.instantiable "SupplyGrid$Told" (14 : Nat)) ∈ lw_all := lw_g (lw_at lw_m1 39 rfl) rfl
theorem q159 : (Jvm.Cond.instanceMethod ({ cls := "SupplyGrid$Told", name := "<init>", desc := "()V" } : Jvm.MethodName)) ∈ lw_all := lw_g (lw_at lw_m1 41 rfl) rfl
theorem q160 : (Jvm.Cond.code ({ cls := "SupplyGrid$Told", name := "<init>", desc := "()V" } : Jvm.MethodName) prog_12_method_1_code (2 : Nat) (Option.none : Option Jvm.ClassFile.FieldType)) ∈ lw_all := lw_g (lw_at lw_m1 42 rfl) rfl
theorem q161 : (Jvm.Cond.methodLink "SupplyGrid$Told" (3 : Nat) ({ cls := "java/lang/Object", name := "<init>", desc := "()V" } : Jvm.MethodName)) ∈ lw_all := lw_g (lw_at lw_m1 43 rfl) rfl
theorem q162 : (Jvm.Cond.classLink "SupplyGrid$Told" (30 : Nat) "java/util/ArrayList") ∈ lw_all := lw_g (lw_at lw_m1 44 rfl) rfl
theorem q164 : (Jvm.Cond.methodLink "SupplyGrid$Told" (32 : Nat) ({ cls := "java/util/ArrayList", name := "<init>", desc := "(I)V" } : Jvm.MethodName)) ∈ lw_all := lw_g (lw_at lw_m1 46 rfl) rfl
theorem q191 : (Jvm.Cond.fieldLink "SupplyGrid$Told" (9 : Nat) "SupplyGrid$Told" "width" "[I") ∈ lw_all := lw_g (lw_at lw_m1 73 rfl) rfl
theorem q197 : (Jvm.Cond.fieldLink "SupplyGrid$Told" (15 : Nat) "SupplyGrid$Told" "from" "[I") ∈ lw_all := lw_g (lw_at lw_m1 79 rfl) rfl
theorem q201 : (Jvm.Cond.fieldLink "SupplyGrid$Told" (18 : Nat) "SupplyGrid$Told" "to" "[I") ∈ lw_all := lw_g (lw_at lw_m1 83 rfl) rfl
theorem q205 : (Jvm.Cond.fieldLink "SupplyGrid$Told" (21 : Nat) "SupplyGrid$Told" "load" "[I") ∈ lw_all := lw_g (lw_at lw_m1 87 rfl) rfl
theorem q210 : (Jvm.Cond.fieldLink "SupplyGrid$Told" (24 : Nat) "SupplyGrid$Told" "group" "[I") ∈ lw_all := lw_g (lw_at lw_m1 92 rfl) rfl
theorem q213 : (Jvm.Cond.fieldLink "SupplyGrid$Told" (27 : Nat) "SupplyGrid$Told" "budget" "[I") ∈ lw_all := lw_g (lw_at lw_m1 95 rfl) rfl
theorem q216 : (Jvm.Cond.fieldLink "SupplyGrid$Told" (35 : Nat) "SupplyGrid$Told" "acts" "Ljava/util/ArrayList;") ∈ lw_all := lw_g (lw_at lw_m1 98 rfl) rfl
theorem q220 : (Jvm.Cond.fieldLink "SupplyGrid$Told" (43 : Nat) "SupplyGrid$Told" "columns" "I") ∈ lw_all := lw_g (lw_at lw_m1 102 rfl) rfl
theorem q224 : (Jvm.Cond.fieldLink "SupplyGrid$Told" (46 : Nat) "SupplyGrid$Told" "rows" "I") ∈ lw_all := lw_g (lw_at lw_m1 106 rfl) rfl
theorem q227 : (Jvm.Cond.fieldLink "SupplyGrid$Told" (87 : Nat) "SupplyGrid$Told" "limit" "I") ∈ lw_all := lw_g (lw_at lw_m1 109 rfl) rfl
theorem q231 : (Jvm.Cond.fieldLink "SupplyGrid$Told" (90 : Nat) "SupplyGrid$Told" "wear" "I") ∈ lw_all := lw_g (lw_at lw_m1 113 rfl) rfl
theorem q238 : (Jvm.Cond.fieldLink "SupplyGrid$Told" (70 : Nat) "SupplyGrid$Told" "straps" "I") ∈ lw_all := lw_g (lw_at lw_m1 120 rfl) rfl
theorem q242 : (Jvm.Cond.fieldLink "SupplyGrid$Told" (93 : Nat) "SupplyGrid$Told" "pads" "I") ∈ lw_all := lw_g (lw_at lw_m1 124 rfl) rfl
theorem q245 : (Jvm.Cond.fieldLink "SupplyGrid$Told" (39 : Nat) "SupplyGrid$Told" "lines" "I") ∈ lw_all := lw_g (lw_at lw_m1 127 rfl) rfl
theorem q248 : (Jvm.Cond.laysFinal "SupplyGrid$Told" "SupplyGrid$Told" "width" "[I") ∈ lw_all := lw_g (lw_at lw_m1 130 rfl) rfl
theorem q249 : (Jvm.Cond.soleField "SupplyGrid$Told" "width") ∈ lw_all := lw_g (lw_at lw_m1 131 rfl) rfl
theorem q250 : (Jvm.Cond.laysFinal "SupplyGrid$Told" "SupplyGrid$Told" "from" "[I") ∈ lw_all := lw_g (lw_at lw_m1 132 rfl) rfl
theorem q251 : (Jvm.Cond.soleField "SupplyGrid$Told" "from") ∈ lw_all := lw_g (lw_at lw_m1 133 rfl) rfl
theorem q252 : (Jvm.Cond.laysFinal "SupplyGrid$Told" "SupplyGrid$Told" "to" "[I") ∈ lw_all := lw_g (lw_at lw_m1 134 rfl) rfl
theorem q253 : (Jvm.Cond.soleField "SupplyGrid$Told" "to") ∈ lw_all := lw_g (lw_at lw_m1 135 rfl) rfl
theorem q254 : (Jvm.Cond.laysFinal "SupplyGrid$Told" "SupplyGrid$Told" "load" "[I") ∈ lw_all := lw_g (lw_at lw_m1 136 rfl) rfl
theorem q255 : (Jvm.Cond.soleField "SupplyGrid$Told" "load") ∈ lw_all := lw_g (lw_at lw_m1 137 rfl) rfl
theorem q256 : (Jvm.Cond.laysFinal "SupplyGrid$Told" "SupplyGrid$Told" "group" "[I") ∈ lw_all := lw_g (lw_at lw_m1 138 rfl) rfl
theorem q257 : (Jvm.Cond.soleField "SupplyGrid$Told" "group") ∈ lw_all := lw_g (lw_at lw_m1 139 rfl) rfl
theorem q258 : (Jvm.Cond.laysFinal "SupplyGrid$Told" "SupplyGrid$Told" "budget" "[I") ∈ lw_all := lw_g (lw_at lw_m1 140 rfl) rfl
theorem q259 : (Jvm.Cond.soleField "SupplyGrid$Told" "budget") ∈ lw_all := lw_g (lw_at lw_m1 141 rfl) rfl
theorem q260 : (Jvm.Cond.laysFinal "SupplyGrid$Told" "SupplyGrid$Told" "acts" "Ljava/util/ArrayList;") ∈ lw_all := lw_g (lw_at lw_m1 142 rfl) rfl
theorem q261 : (Jvm.Cond.soleField "SupplyGrid$Told" "acts") ∈ lw_all := lw_g (lw_at lw_m1 143 rfl) rfl
theorem q262 : (Jvm.Cond.lays "SupplyGrid$Told" "SupplyGrid$Told" "columns" "I") ∈ lw_all := lw_g (lw_at lw_m1 144 rfl) rfl
theorem q263 : (Jvm.Cond.soleField "SupplyGrid$Told" "columns") ∈ lw_all := lw_g (lw_at lw_m1 145 rfl) rfl
theorem q264 : (Jvm.Cond.lays "SupplyGrid$Told" "SupplyGrid$Told" "rows" "I") ∈ lw_all := lw_g (lw_at lw_m1 146 rfl) rfl
theorem q265 : (Jvm.Cond.soleField "SupplyGrid$Told" "rows") ∈ lw_all := lw_g (lw_at lw_m1 147 rfl) rfl
theorem q266 : (Jvm.Cond.lays "SupplyGrid$Told" "SupplyGrid$Told" "limit" "I") ∈ lw_all := lw_g (lw_at lw_m1 148 rfl) rfl
theorem q267 : (Jvm.Cond.soleField "SupplyGrid$Told" "limit") ∈ lw_all := lw_g (lw_at lw_m1 149 rfl) rfl
theorem q268 : (Jvm.Cond.lays "SupplyGrid$Told" "SupplyGrid$Told" "wear" "I") ∈ lw_all := lw_g (lw_at lw_m1 150 rfl) rfl
theorem q269 : (Jvm.Cond.soleField "SupplyGrid$Told" "wear") ∈ lw_all := lw_g (lw_at lw_m1 151 rfl) rfl
theorem q270 : (Jvm.Cond.lays "SupplyGrid$Told" "SupplyGrid$Told" "straps" "I") ∈ lw_all := lw_g (lw_at lw_m1 152 rfl) rfl
theorem q271 : (Jvm.Cond.soleField "SupplyGrid$Told" "straps") ∈ lw_all := lw_g (lw_at lw_m1 153 rfl) rfl
theorem q272 : (Jvm.Cond.lays "SupplyGrid$Told" "SupplyGrid$Told" "pads" "I") ∈ lw_all := lw_g (lw_at lw_m1 154 rfl) rfl
theorem q273 : (Jvm.Cond.soleField "SupplyGrid$Told" "pads") ∈ lw_all := lw_g (lw_at lw_m1 155 rfl) rfl
theorem q274 : (Jvm.Cond.lays "SupplyGrid$Told" "SupplyGrid$Told" "lines" "I") ∈ lw_all := lw_g (lw_at lw_m1 156 rfl) rfl
theorem q275 : (Jvm.Cond.soleField "SupplyGrid$Told" "lines") ∈ lw_all := lw_g (lw_at lw_m1 157 rfl) rfl
theorem q276 : (Jvm.Cond.superclass "SupplyGrid$Told" "java/lang/Object") ∈ lw_all := lw_g (lw_at lw_m1 158 rfl) rfl
theorem q612 : (Jvm.Cond.instanceMethod ({ cls := "SupplyGrid$Told", name := "lays", desc := "(I)V" } : Jvm.MethodName)) ∈ lw_all := lw_g (lw_at lw_m3 14 rfl) rfl
theorem q613 : (Jvm.Cond.selects "SupplyGrid$Told" ({ cls := "SupplyGrid$Told", name := "lays", desc := "(I)V" } : Jvm.MethodName) ({ cls := "SupplyGrid$Told", name := "lays", desc := "(I)V" } : Jvm.MethodName)) ∈ lw_all := lw_g (lw_at lw_m3 15 rfl) rfl
theorem q614 : (Jvm.Cond.code ({ cls := "SupplyGrid$Told", name := "lays", desc := "(I)V" } : Jvm.MethodName) prog_12_method_4_code (3 : Nat) (Option.none : Option Jvm.ClassFile.FieldType)) ∈ lw_all := lw_g (lw_at lw_m3 16 rfl) rfl
theorem q615 : (Jvm.Cond.methodLink "SupplyGrid$Told" (49 : Nat) ({ cls := "SupplyGrid$Told", name := "many", desc := "()I" } : Jvm.MethodName)) ∈ lw_all := lw_g (lw_at lw_m3 17 rfl) rfl
theorem q616 : (Jvm.Cond.instanceMethod ({ cls := "SupplyGrid$Told", name := "many", desc := "()I" } : Jvm.MethodName)) ∈ lw_all := lw_g (lw_at lw_m3 18 rfl) rfl
theorem q617 : (Jvm.Cond.selects "SupplyGrid$Told" ({ cls := "SupplyGrid$Told", name := "many", desc := "()I" } : Jvm.MethodName) ({ cls := "SupplyGrid$Told", name := "many", desc := "()I" } : Jvm.MethodName)) ∈ lw_all := lw_g (lw_at lw_m3 19 rfl) rfl
theorem q618 : (Jvm.Cond.code ({ cls := "SupplyGrid$Told", name := "many", desc := "()I" } : Jvm.MethodName) prog_12_method_3_code (1 : Nat) (Option.some Jvm.ClassFile.FieldType.int)) ∈ lw_all := lw_g (lw_at lw_m3 20 rfl) rfl
theorem q619 : (Jvm.Cond.fieldLink "SupplyGrid$Told" (53 : Nat) "SupplyGrid$Way" "EAST" "LSupplyGrid$Way;") ∈ lw_all := lw_g (lw_at lw_m3 21 rfl) rfl
theorem q621 : (Jvm.Cond.methodLink "SupplyGrid$Told" (59 : Nat) ({ cls := "SupplyGrid$Told", name := "adds", desc := "(ILSupplyGrid$Way;I)V" } : Jvm.MethodName)) ∈ lw_all := lw_g (lw_at lw_m3 23 rfl) rfl
theorem q622 : (Jvm.Cond.privateMethod ({ cls := "SupplyGrid$Told", name := "adds", desc := "(ILSupplyGrid$Way;I)V" } : Jvm.MethodName)) ∈ lw_tbl := lw_at lw_m3 24 rfl
theorem q623 : (Jvm.Cond.instanceMethod ({ cls := "SupplyGrid$Told", name := "adds", desc := "(ILSupplyGrid$Way;I)V" } : Jvm.MethodName)) ∈ lw_all := lw_g (lw_at lw_m3 25 rfl) rfl
theorem q624 : (Jvm.Cond.code ({ cls := "SupplyGrid$Told", name := "adds", desc := "(ILSupplyGrid$Way;I)V" } : Jvm.MethodName) prog_12_method_5_code (4 : Nat) (Option.none : Option Jvm.ClassFile.FieldType)) ∈ lw_all := lw_g (lw_at lw_m3 26 rfl) rfl
theorem q625 : (Jvm.Cond.methodLink "SupplyGrid$Told" (66 : Nat) ({ cls := "SupplyGrid$Way", name := "is", desc := "(LSupplyGrid$Told;I)Z" } : Jvm.MethodName)) ∈ lw_all := lw_g (lw_at lw_m3 27 rfl) rfl
theorem q634 : (Jvm.Cond.methodLink "SupplyGrid$Told" (73 : Nat) ({ cls := "SupplyGrid$Way", name := "to", desc := "(LSupplyGrid$Told;I)I" } : Jvm.MethodName)) ∈ lw_all := lw_g (lw_at lw_m3 36 rfl) rfl
theorem q643 : (Jvm.Cond.fieldLink "SupplyGrid$Told" (63 : Nat) "SupplyGrid$Way" "SOUTH" "LSupplyGrid$Way;") ∈ lw_all := lw_g (lw_at lw_m3 45 rfl) rfl
theorem q667 : (Jvm.Cond.instanceMethod ({ cls := "SupplyGrid$Told", name := "strapOf", desc := "(II)I" } : Jvm.MethodName)) ∈ lw_all := lw_g (lw_at lw_m3 69 rfl) rfl
theorem q668 : (Jvm.Cond.selects "SupplyGrid$Told" ({ cls := "SupplyGrid$Told", name := "strapOf", desc := "(II)I" } : Jvm.MethodName) ({ cls := "SupplyGrid$Told", name := "strapOf", desc := "(II)I" } : Jvm.MethodName)) ∈ lw_all := lw_g (lw_at lw_m3 70 rfl) rfl
theorem q669 : (Jvm.Cond.code ({ cls := "SupplyGrid$Told", name := "strapOf", desc := "(II)I" } : Jvm.MethodName) prog_12_method_6_code (4 : Nat) (Option.some Jvm.ClassFile.FieldType.int)) ∈ lw_all := lw_g (lw_at lw_m3 71 rfl) rfl
theorem q697 : (Jvm.Cond.instanceMethod ({ cls := "SupplyGrid$Told", name := "is", desc := "()Z" } : Jvm.MethodName)) ∈ lw_all := lw_g (lw_at lw_m3 99 rfl) rfl
theorem q698 : (Jvm.Cond.selects "SupplyGrid$Told" ({ cls := "SupplyGrid$Told", name := "is", desc := "()Z" } : Jvm.MethodName) ({ cls := "SupplyGrid$Told", name := "is", desc := "()Z" } : Jvm.MethodName)) ∈ lw_all := lw_g (lw_at lw_m3 100 rfl) rfl
theorem q699 : (Jvm.Cond.code ({ cls := "SupplyGrid$Told", name := "is", desc := "()Z" } : Jvm.MethodName) prog_12_method_2_code (1 : Nat) (Option.some Jvm.ClassFile.FieldType.boolean)) ∈ lw_all := lw_g (lw_at lw_m3 101 rfl) rfl
theorem q1214 : (Jvm.Cond.selects "SupplyGrid$Told" ({ cls := "java/lang/Object", name := "getClass", desc := "()Ljava/lang/Class;" } : Jvm.MethodName) ({ cls := "java/lang/Object", name := "getClass", desc := "()Ljava/lang/Class;" } : Jvm.MethodName)) ∈ lw_all := lw_g (lw_at lw_m5 136 rfl) rfl
theorem q1282 : (Jvm.Cond.instanceMethod ({ cls := "SupplyGrid$Told", name := "same", desc := "()LSupplyGrid$Told;" } : Jvm.MethodName)) ∈ lw_all := lw_g (lw_at lw_m5 204 rfl) rfl
theorem q1283 : (Jvm.Cond.selects "SupplyGrid$Told" ({ cls := "SupplyGrid$Told", name := "same", desc := "()LSupplyGrid$Told;" } : Jvm.MethodName) ({ cls := "SupplyGrid$Told", name := "same", desc := "()LSupplyGrid$Told;" } : Jvm.MethodName)) ∈ lw_all := lw_g (lw_at lw_m5 205 rfl) rfl
theorem q1284 : (Jvm.Cond.code ({ cls := "SupplyGrid$Told", name := "same", desc := "()LSupplyGrid$Told;" } : Jvm.MethodName) prog_12_method_7_code (2 : Nat) (Option.some (Jvm.ClassFile.FieldType.object "SupplyGrid$Told"))) ∈ lw_all := lw_g (lw_at lw_m5 206 rfl) rfl
theorem q1285 : (Jvm.Cond.classLink "SupplyGrid$Told" (10 : Nat) "SupplyGrid$Told") ∈ lw_all := lw_g (lw_at lw_m5 207 rfl) rfl
theorem q1286 : (Jvm.Cond.methodLink "SupplyGrid$Told" (76 : Nat) ({ cls := "SupplyGrid$Told", name := "<init>", desc := "()V" } : Jvm.MethodName)) ∈ lw_all := lw_g (lw_at lw_m5 208 rfl) rfl
theorem q1287 : (Jvm.Cond.methodLink "SupplyGrid$Told" (77 : Nat) ({ cls := "java/lang/System", name := "arraycopy", desc := "(Ljava/lang/Object;ILjava/lang/Object;II)V" } : Jvm.MethodName)) ∈ lw_all := lw_g (lw_at lw_m5 209 rfl) rfl
theorem q1288 : (Jvm.Cond.methodLink "SupplyGrid$Told" (83 : Nat) ({ cls := "java/util/ArrayList", name := "addAll", desc := "(Ljava/util/Collection;)Z" } : Jvm.MethodName)) ∈ lw_all := lw_g (lw_at lw_m5 210 rfl) rfl
theorem q2100 : (Jvm.Cond.castable "SupplyGrid$Told" "java/lang/Object") ∈ lw_tbl := lw_at lw_m9 62 rfl
theorem in_X1 : ∀ w ∈ wsX10, w ∈ lw_all := lw_in wsX10 [248, 250, 252, 254, 256, 258, 260, 262, 264, 266, 268, 270, 272, 274] (by decide +kernel) (by decide +kernel)

/-! java/util/AbstractCollection -/
set_option maxRecDepth 100000
def RJ0 : String := "java/util/AbstractCollection"
abbrev cJ0_init : ByteArray := prog_30_method_1_code
def yJ0_init : MethodName := ⟨RJ0, "<init>", "()V"⟩
theorem dJ0_init_0 : decode cJ0_init 0 = .ok (.aload_n 0, 1) := by decide +kernel
theorem dJ0_init_1 : decode cJ0_init 1 = .ok (.invokespecial 1, 3) := by decide +kernel
theorem dJ0_init_4 : decode cJ0_init 4 = .ok (.return_, 1) := by decide +kernel
theorem q121 : (Jvm.Cond.initialized "java/util/AbstractCollection") ∈ lw_all := lw_g (lw_at lw_m1 3 rfl) rfl
theorem q171 : (Jvm.Cond.instanceMethod ({ cls := "java/util/AbstractCollection", name := "<init>", desc := "()V" } : Jvm.MethodName)) ∈ lw_all := lw_g (lw_at lw_m1 53 rfl) rfl
theorem q172 : (Jvm.Cond.code ({ cls := "java/util/AbstractCollection", name := "<init>", desc := "()V" } : Jvm.MethodName) prog_30_method_1_code (1 : Nat) (Option.none : Option Jvm.ClassFile.FieldType)) ∈ lw_all := lw_g (lw_at lw_m1 54 rfl) rfl
theorem q173 : (Jvm.Cond.methodLink "java/util/AbstractCollection" (1 : Nat) ({ cls := "java/lang/Object", name := "<init>", desc := "()V" } : Jvm.MethodName)) ∈ lw_all := lw_g (lw_at lw_m1 55 rfl) rfl

/-! java/util/AbstractList -/
set_option maxRecDepth 100000
def RJ1 : String := "java/util/AbstractList"
abbrev cJ1_init : ByteArray := prog_31_method_1_code
def yJ1_init : MethodName := ⟨RJ1, "<init>", "()V"⟩
def dkwJ1_init_0 : List UInt8 := [42, 183, 0, 1, 42, 3, 181, 0, 7, 177]
abbrev dktJ1_init_0 : List UInt8 := dkwJ1_init_0 ++ []
theorem dksJ1_init_0 : cJ1_init.data.toList.drop 0 = dktJ1_init_0 := by decide +kernel
theorem dJ1_init_0 : decode cJ1_init 0 = .ok (.aload_n 0, 1) := dk_42 (dk_at dksJ1_init_0 0 rfl rfl)
theorem dJ1_init_1 : decode cJ1_init 1 = .ok (.invokespecial 1, 3) := dk_183 0 1 (dk_at dksJ1_init_0 1 rfl rfl)
theorem dJ1_init_4 : decode cJ1_init 4 = .ok (.aload_n 0, 1) := dk_42 (dk_at dksJ1_init_0 4 rfl rfl)
theorem dJ1_init_5 : decode cJ1_init 5 = .ok (.iconst 0, 1) := dk_3 (dk_at dksJ1_init_0 5 rfl rfl)
theorem dJ1_init_6 : decode cJ1_init 6 = .ok (.putfield 7, 3) := dk_181 0 7 (dk_at dksJ1_init_0 6 rfl rfl)
theorem dJ1_init_9 : decode cJ1_init 9 = .ok (.return_, 1) := dk_177 (dk_at dksJ1_init_0 9 rfl rfl)
theorem q122 : (Jvm.Cond.initialized "java/util/AbstractList") ∈ lw_all := lw_g (lw_at lw_m1 4 rfl) rfl
theorem q168 : (Jvm.Cond.instanceMethod ({ cls := "java/util/AbstractList", name := "<init>", desc := "()V" } : Jvm.MethodName)) ∈ lw_all := lw_g (lw_at lw_m1 50 rfl) rfl
theorem q169 : (Jvm.Cond.code ({ cls := "java/util/AbstractList", name := "<init>", desc := "()V" } : Jvm.MethodName) prog_31_method_1_code (1 : Nat) (Option.none : Option Jvm.ClassFile.FieldType)) ∈ lw_all := lw_g (lw_at lw_m1 51 rfl) rfl
theorem q170 : (Jvm.Cond.methodLink "java/util/AbstractList" (1 : Nat) ({ cls := "java/util/AbstractCollection", name := "<init>", desc := "()V" } : Jvm.MethodName)) ∈ lw_all := lw_g (lw_at lw_m1 52 rfl) rfl
theorem q180 : (Jvm.Cond.fieldLink "java/util/AbstractList" (7 : Nat) "java/util/AbstractList" "modCount" "I") ∈ lw_all := lw_g (lw_at lw_m1 62 rfl) rfl
theorem q188 : (Jvm.Cond.soleField "java/util/AbstractList" "modCount") ∈ lw_all := lw_g (lw_at lw_m1 70 rfl) rfl

/-! java/util/ArrayList -/
set_option maxRecDepth 100000
def RJ2 : String := "java/util/ArrayList"
def TJ2 : u_T := fun k => match k with
  | 0 => ("java/util/AbstractList", "modCount", "I", false)
  | 1 => ("java/util/ArrayList", "elementData", "[Ljava/lang/Object;", false)
  | _ => ("java/util/ArrayList", "size", "I", false)
def tyJ2 : Nat → FieldType := fun k => match k with
  | 0 => .int
  | 1 => .array (.object "java/lang/Object")
  | _ => .int
abbrev wsJ20 : List Cond := u_ws RJ2 TJ2 3
theorem nmJ2 : ∀ a, a < 3 → ∀ b, b < 3 → a ≠ b → (TJ2 a).2.1 ≠ (TJ2 b).2.1 := by decide +kernel
theorem tyJ2_ok : ∀ k, k < 3 → parseFieldDescriptor (TJ2 k).2.2.1 = some (tyJ2 k) := by decide +kernel
abbrev cJ2_init : ByteArray := prog_32_method_1_code
def yJ2_init : MethodName := ⟨RJ2, "<init>", "(I)V"⟩
def dkwJ2_init_2 : List UInt8 := [182, 0, 25, 27, 182, 0, 29, 182, 0, 32, 183, 0, 36, 191, 177]
abbrev dktJ2_init_2 : List UInt8 := dkwJ2_init_2 ++ []
def dkwJ2_init_1 : List UInt8 := [178, 0, 15, 181, 0, 9, 167, 0, 30, 187, 0, 18, 89, 187, 0, 20, 89, 183, 0, 22, 18, 23]
abbrev dktJ2_init_1 : List UInt8 := dkwJ2_init_1 ++ dktJ2_init_2
def dkwJ2_init_0 : List UInt8 := [42, 183, 0, 1, 27, 158, 0, 14, 42, 27, 189, 0, 7, 181, 0, 9, 167, 0, 44, 27, 154, 0, 13, 42]
abbrev dktJ2_init_0 : List UInt8 := dkwJ2_init_0 ++ dktJ2_init_1
theorem dksJ2_init_0 : cJ2_init.data.toList.drop 0 = dktJ2_init_0 := by decide +kernel
theorem dksJ2_init_1 : cJ2_init.data.toList.drop 24 = dktJ2_init_1 := dk_seg dksJ2_init_0 24 rfl rfl
theorem dksJ2_init_2 : cJ2_init.data.toList.drop 46 = dktJ2_init_2 := dk_seg dksJ2_init_1 22 rfl rfl
theorem dJ2_init_0 : decode cJ2_init 0 = .ok (.aload_n 0, 1) := dk_42 (dk_at dksJ2_init_0 0 rfl rfl)
theorem dJ2_init_1 : decode cJ2_init 1 = .ok (.invokespecial 1, 3) := dk_183 0 1 (dk_at dksJ2_init_0 1 rfl rfl)
theorem dJ2_init_4 : decode cJ2_init 4 = .ok (.iload_n 1, 1) := dk_27 (dk_at dksJ2_init_0 4 rfl rfl)
theorem dJ2_init_5 : decode cJ2_init 5 = .ok (.ifCond .le 14, 3) := dk_158 0 14 (dk_at dksJ2_init_0 5 rfl rfl)
theorem dJ2_init_8 : decode cJ2_init 8 = .ok (.aload_n 0, 1) := dk_42 (dk_at dksJ2_init_0 8 rfl rfl)
theorem dJ2_init_9 : decode cJ2_init 9 = .ok (.iload_n 1, 1) := dk_27 (dk_at dksJ2_init_0 9 rfl rfl)
theorem dJ2_init_10 : decode cJ2_init 10 = .ok (.anewarray 7, 3) := dk_189 0 7 (dk_at dksJ2_init_0 10 rfl rfl)
theorem dJ2_init_13 : decode cJ2_init 13 = .ok (.putfield 9, 3) := dk_181 0 9 (dk_at dksJ2_init_0 13 rfl rfl)
theorem dJ2_init_16 : decode cJ2_init 16 = .ok (.goto 44, 3) := dk_167 0 44 (dk_at dksJ2_init_0 16 rfl rfl)
theorem dJ2_init_19 : decode cJ2_init 19 = .ok (.iload_n 1, 1) := dk_27 (dk_at dksJ2_init_0 19 rfl rfl)
theorem dJ2_init_20 : decode cJ2_init 20 = .ok (.ifCond .ne 13, 3) := dk_154 0 13 (dk_at dksJ2_init_0 20 rfl rfl)
theorem dJ2_init_23 : decode cJ2_init 23 = .ok (.aload_n 0, 1) := dk_42 (dk_at dksJ2_init_0 23 rfl rfl)
theorem dJ2_init_24 : decode cJ2_init 24 = .ok (.getstatic 15, 3) := dk_178 0 15 (dk_at dksJ2_init_1 0 rfl rfl)
theorem dJ2_init_27 : decode cJ2_init 27 = .ok (.putfield 9, 3) := dk_181 0 9 (dk_at dksJ2_init_1 3 rfl rfl)
theorem dJ2_init_30 : decode cJ2_init 30 = .ok (.goto 30, 3) := dk_167 0 30 (dk_at dksJ2_init_1 6 rfl rfl)
theorem dJ2_init_33 : decode cJ2_init 33 = .ok (.new 18, 3) := dk_187 0 18 (dk_at dksJ2_init_1 9 rfl rfl)
theorem dJ2_init_36 : decode cJ2_init 36 = .ok (.dup, 1) := dk_89 (dk_at dksJ2_init_1 12 rfl rfl)
theorem dJ2_init_37 : decode cJ2_init 37 = .ok (.new 20, 3) := dk_187 0 20 (dk_at dksJ2_init_1 13 rfl rfl)
theorem dJ2_init_40 : decode cJ2_init 40 = .ok (.dup, 1) := dk_89 (dk_at dksJ2_init_1 16 rfl rfl)
theorem dJ2_init_41 : decode cJ2_init 41 = .ok (.invokespecial 22, 3) := dk_183 0 22 (dk_at dksJ2_init_1 17 rfl rfl)
theorem dJ2_init_44 : decode cJ2_init 44 = .ok (.ldc 23, 2) := dk_18 23 (dk_at dksJ2_init_1 20 rfl rfl)
theorem dJ2_init_46 : decode cJ2_init 46 = .ok (.invokevirtual 25, 3) := dk_182 0 25 (dk_at dksJ2_init_2 0 rfl rfl)
theorem dJ2_init_49 : decode cJ2_init 49 = .ok (.iload_n 1, 1) := dk_27 (dk_at dksJ2_init_2 3 rfl rfl)
theorem dJ2_init_50 : decode cJ2_init 50 = .ok (.invokevirtual 29, 3) := dk_182 0 29 (dk_at dksJ2_init_2 4 rfl rfl)
theorem dJ2_init_53 : decode cJ2_init 53 = .ok (.invokevirtual 32, 3) := dk_182 0 32 (dk_at dksJ2_init_2 7 rfl rfl)
theorem dJ2_init_56 : decode cJ2_init 56 = .ok (.invokespecial 36, 3) := dk_183 0 36 (dk_at dksJ2_init_2 10 rfl rfl)
theorem dJ2_init_59 : decode cJ2_init 59 = .ok (.athrow, 1) := dk_191 (dk_at dksJ2_init_2 13 rfl rfl)
theorem dJ2_init_60 : decode cJ2_init 60 = .ok (.return_, 1) := dk_177 (dk_at dksJ2_init_2 14 rfl rfl)
abbrev cJ2_size : ByteArray := prog_32_method_8_code
def yJ2_size : MethodName := ⟨RJ2, "size", "()I"⟩
theorem dJ2_size_0 : decode cJ2_size 0 = .ok (.aload_n 0, 1) := by decide +kernel
theorem dJ2_size_1 : decode cJ2_size 1 = .ok (.getfield 48, 3) := by decide +kernel
theorem dJ2_size_4 : decode cJ2_size 4 = .ok (.ireturn, 1) := by decide +kernel
abbrev cJ2_add : ByteArray := prog_32_method_25_code
def yJ2_add : MethodName := ⟨RJ2, "add", "(Ljava/lang/Object;)Z"⟩
def dkwJ2_add_1 : List UInt8 := [172]
abbrev dktJ2_add_1 : List UInt8 := dkwJ2_add_1 ++ []
def dkwJ2_add_0 : List UInt8 := [42, 89, 180, 0, 63, 4, 96, 181, 0, 63, 42, 43, 42, 180, 0, 9, 42, 180, 0, 48, 182, 0, 131, 4]
abbrev dktJ2_add_0 : List UInt8 := dkwJ2_add_0 ++ dktJ2_add_1
theorem dksJ2_add_0 : cJ2_add.data.toList.drop 0 = dktJ2_add_0 := by decide +kernel
theorem dksJ2_add_1 : cJ2_add.data.toList.drop 24 = dktJ2_add_1 := dk_seg dksJ2_add_0 24 rfl rfl
theorem dJ2_add_0 : decode cJ2_add 0 = .ok (.aload_n 0, 1) := dk_42 (dk_at dksJ2_add_0 0 rfl rfl)
theorem dJ2_add_1 : decode cJ2_add 1 = .ok (.dup, 1) := dk_89 (dk_at dksJ2_add_0 1 rfl rfl)
theorem dJ2_add_2 : decode cJ2_add 2 = .ok (.getfield 63, 3) := dk_180 0 63 (dk_at dksJ2_add_0 2 rfl rfl)
theorem dJ2_add_5 : decode cJ2_add 5 = .ok (.iconst 1, 1) := dk_4 (dk_at dksJ2_add_0 5 rfl rfl)
theorem dJ2_add_6 : decode cJ2_add 6 = .ok (.iadd, 1) := dk_96 (dk_at dksJ2_add_0 6 rfl rfl)
theorem dJ2_add_7 : decode cJ2_add 7 = .ok (.putfield 63, 3) := dk_181 0 63 (dk_at dksJ2_add_0 7 rfl rfl)
theorem dJ2_add_10 : decode cJ2_add 10 = .ok (.aload_n 0, 1) := dk_42 (dk_at dksJ2_add_0 10 rfl rfl)
theorem dJ2_add_11 : decode cJ2_add 11 = .ok (.aload_n 1, 1) := dk_43 (dk_at dksJ2_add_0 11 rfl rfl)
theorem dJ2_add_12 : decode cJ2_add 12 = .ok (.aload_n 0, 1) := dk_42 (dk_at dksJ2_add_0 12 rfl rfl)
theorem dJ2_add_13 : decode cJ2_add 13 = .ok (.getfield 9, 3) := dk_180 0 9 (dk_at dksJ2_add_0 13 rfl rfl)
theorem dJ2_add_16 : decode cJ2_add 16 = .ok (.aload_n 0, 1) := dk_42 (dk_at dksJ2_add_0 16 rfl rfl)
theorem dJ2_add_17 : decode cJ2_add 17 = .ok (.getfield 48, 3) := dk_180 0 48 (dk_at dksJ2_add_0 17 rfl rfl)
theorem dJ2_add_20 : decode cJ2_add 20 = .ok (.invokevirtual 131, 3) := dk_182 0 131 (dk_at dksJ2_add_0 20 rfl rfl)
theorem dJ2_add_23 : decode cJ2_add 23 = .ok (.iconst 1, 1) := dk_4 (dk_at dksJ2_add_0 23 rfl rfl)
theorem dJ2_add_24 : decode cJ2_add 24 = .ok (.ireturn, 1) := dk_172 (dk_at dksJ2_add_1 0 rfl rfl)
abbrev cJ2_add_2 : ByteArray := prog_32_method_24_code
def yJ2_add_2 : MethodName := ⟨RJ2, "add", "(Ljava/lang/Object;[Ljava/lang/Object;I)V"⟩
def dkwJ2_add_2_0 : List UInt8 := [29, 44, 190, 160, 0, 8, 42, 182, 0, 129, 77, 44, 29, 43, 83, 42, 29, 4, 96, 181, 0, 48, 177]
abbrev dktJ2_add_2_0 : List UInt8 := dkwJ2_add_2_0 ++ []
theorem dksJ2_add_2_0 : cJ2_add_2.data.toList.drop 0 = dktJ2_add_2_0 := by decide +kernel
theorem dJ2_add_2_0 : decode cJ2_add_2 0 = .ok (.iload_n 3, 1) := dk_29 (dk_at dksJ2_add_2_0 0 rfl rfl)
theorem dJ2_add_2_1 : decode cJ2_add_2 1 = .ok (.aload_n 2, 1) := dk_44 (dk_at dksJ2_add_2_0 1 rfl rfl)
theorem dJ2_add_2_2 : decode cJ2_add_2 2 = .ok (.arraylength, 1) := dk_190 (dk_at dksJ2_add_2_0 2 rfl rfl)
theorem dJ2_add_2_3 : decode cJ2_add_2 3 = .ok (.if_icmp .ne 8, 3) := dk_160 0 8 (dk_at dksJ2_add_2_0 3 rfl rfl)
theorem dJ2_add_2_6 : decode cJ2_add_2 6 = .ok (.aload_n 0, 1) := dk_42 (dk_at dksJ2_add_2_0 6 rfl rfl)
theorem dJ2_add_2_7 : decode cJ2_add_2 7 = .ok (.invokevirtual 129, 3) := dk_182 0 129 (dk_at dksJ2_add_2_0 7 rfl rfl)
theorem dJ2_add_2_10 : decode cJ2_add_2 10 = .ok (.astore_n 2, 1) := dk_77 (dk_at dksJ2_add_2_0 10 rfl rfl)
theorem dJ2_add_2_11 : decode cJ2_add_2 11 = .ok (.aload_n 2, 1) := dk_44 (dk_at dksJ2_add_2_0 11 rfl rfl)
theorem dJ2_add_2_12 : decode cJ2_add_2 12 = .ok (.iload_n 3, 1) := dk_29 (dk_at dksJ2_add_2_0 12 rfl rfl)
theorem dJ2_add_2_13 : decode cJ2_add_2 13 = .ok (.aload_n 1, 1) := dk_43 (dk_at dksJ2_add_2_0 13 rfl rfl)
theorem dJ2_add_2_14 : decode cJ2_add_2 14 = .ok (.aastore, 1) := dk_83 (dk_at dksJ2_add_2_0 14 rfl rfl)
theorem dJ2_add_2_15 : decode cJ2_add_2 15 = .ok (.aload_n 0, 1) := dk_42 (dk_at dksJ2_add_2_0 15 rfl rfl)
theorem dJ2_add_2_16 : decode cJ2_add_2 16 = .ok (.iload_n 3, 1) := dk_29 (dk_at dksJ2_add_2_0 16 rfl rfl)
theorem dJ2_add_2_17 : decode cJ2_add_2 17 = .ok (.iconst 1, 1) := dk_4 (dk_at dksJ2_add_2_0 17 rfl rfl)
theorem dJ2_add_2_18 : decode cJ2_add_2 18 = .ok (.iadd, 1) := dk_96 (dk_at dksJ2_add_2_0 18 rfl rfl)
theorem dJ2_add_2_19 : decode cJ2_add_2 19 = .ok (.putfield 48, 3) := dk_181 0 48 (dk_at dksJ2_add_2_0 19 rfl rfl)
theorem dJ2_add_2_22 : decode cJ2_add_2 22 = .ok (.return_, 1) := dk_177 (dk_at dksJ2_add_2_0 22 rfl rfl)
abbrev cJ2_grow : ByteArray := prog_32_method_7_code
def yJ2_grow : MethodName := ⟨RJ2, "grow", "()[Ljava/lang/Object;"⟩
def dkwJ2_grow_0 : List UInt8 := [42, 42, 180, 0, 48, 4, 96, 182, 0, 69, 176]
abbrev dktJ2_grow_0 : List UInt8 := dkwJ2_grow_0 ++ []
theorem dksJ2_grow_0 : cJ2_grow.data.toList.drop 0 = dktJ2_grow_0 := by decide +kernel
theorem dJ2_grow_0 : decode cJ2_grow 0 = .ok (.aload_n 0, 1) := dk_42 (dk_at dksJ2_grow_0 0 rfl rfl)
theorem dJ2_grow_1 : decode cJ2_grow 1 = .ok (.aload_n 0, 1) := dk_42 (dk_at dksJ2_grow_0 1 rfl rfl)
theorem dJ2_grow_2 : decode cJ2_grow 2 = .ok (.getfield 48, 3) := dk_180 0 48 (dk_at dksJ2_grow_0 2 rfl rfl)
theorem dJ2_grow_5 : decode cJ2_grow 5 = .ok (.iconst 1, 1) := dk_4 (dk_at dksJ2_grow_0 5 rfl rfl)
theorem dJ2_grow_6 : decode cJ2_grow 6 = .ok (.iadd, 1) := dk_96 (dk_at dksJ2_grow_0 6 rfl rfl)
theorem dJ2_grow_7 : decode cJ2_grow 7 = .ok (.invokevirtual 69, 3) := dk_182 0 69 (dk_at dksJ2_grow_0 7 rfl rfl)
theorem dJ2_grow_10 : decode cJ2_grow 10 = .ok (.areturn, 1) := dk_176 (dk_at dksJ2_grow_0 10 rfl rfl)
abbrev cJ2_grow_2 : ByteArray := prog_32_method_6_code
def yJ2_grow_2 : MethodName := ⟨RJ2, "grow", "(I)[Ljava/lang/Object;"⟩
def dkwJ2_grow_2_2 : List UInt8 := [27, 184, 0, 79, 189, 0, 7, 90, 181, 0, 9, 176]
abbrev dktJ2_grow_2_2 : List UInt8 := dkwJ2_grow_2_2 ++ []
def dkwJ2_grow_2_1 : List UInt8 := [28, 4, 122, 184, 0, 73, 62, 42, 42, 180, 0, 9, 29, 184, 0, 66, 90, 181, 0, 9, 176, 42, 16, 10]
abbrev dktJ2_grow_2_1 : List UInt8 := dkwJ2_grow_2_1 ++ dktJ2_grow_2_2
def dkwJ2_grow_2_0 : List UInt8 := [42, 180, 0, 9, 190, 61, 28, 157, 0, 13, 42, 180, 0, 9, 178, 0, 39, 165, 0, 28, 28, 27, 28, 100]
abbrev dktJ2_grow_2_0 : List UInt8 := dkwJ2_grow_2_0 ++ dktJ2_grow_2_1
theorem dksJ2_grow_2_0 : cJ2_grow_2.data.toList.drop 0 = dktJ2_grow_2_0 := by decide +kernel
theorem dksJ2_grow_2_1 : cJ2_grow_2.data.toList.drop 24 = dktJ2_grow_2_1 := dk_seg dksJ2_grow_2_0 24 rfl rfl
theorem dksJ2_grow_2_2 : cJ2_grow_2.data.toList.drop 48 = dktJ2_grow_2_2 := dk_seg dksJ2_grow_2_1 24 rfl rfl
theorem dJ2_grow_2_0 : decode cJ2_grow_2 0 = .ok (.aload_n 0, 1) := dk_42 (dk_at dksJ2_grow_2_0 0 rfl rfl)
theorem dJ2_grow_2_1 : decode cJ2_grow_2 1 = .ok (.getfield 9, 3) := dk_180 0 9 (dk_at dksJ2_grow_2_0 1 rfl rfl)
theorem dJ2_grow_2_4 : decode cJ2_grow_2 4 = .ok (.arraylength, 1) := dk_190 (dk_at dksJ2_grow_2_0 4 rfl rfl)
theorem dJ2_grow_2_5 : decode cJ2_grow_2 5 = .ok (.istore_n 2, 1) := dk_61 (dk_at dksJ2_grow_2_0 5 rfl rfl)
theorem dJ2_grow_2_6 : decode cJ2_grow_2 6 = .ok (.iload_n 2, 1) := dk_28 (dk_at dksJ2_grow_2_0 6 rfl rfl)
theorem dJ2_grow_2_7 : decode cJ2_grow_2 7 = .ok (.ifCond .gt 13, 3) := dk_157 0 13 (dk_at dksJ2_grow_2_0 7 rfl rfl)
theorem dJ2_grow_2_10 : decode cJ2_grow_2 10 = .ok (.aload_n 0, 1) := dk_42 (dk_at dksJ2_grow_2_0 10 rfl rfl)
theorem dJ2_grow_2_11 : decode cJ2_grow_2 11 = .ok (.getfield 9, 3) := dk_180 0 9 (dk_at dksJ2_grow_2_0 11 rfl rfl)
theorem dJ2_grow_2_14 : decode cJ2_grow_2 14 = .ok (.getstatic 39, 3) := dk_178 0 39 (dk_at dksJ2_grow_2_0 14 rfl rfl)
theorem dJ2_grow_2_17 : decode cJ2_grow_2 17 = .ok (.if_acmp .eq 28, 3) := dk_165 0 28 (dk_at dksJ2_grow_2_0 17 rfl rfl)
theorem dJ2_grow_2_20 : decode cJ2_grow_2 20 = .ok (.iload_n 2, 1) := dk_28 (dk_at dksJ2_grow_2_0 20 rfl rfl)
theorem dJ2_grow_2_21 : decode cJ2_grow_2 21 = .ok (.iload_n 1, 1) := dk_27 (dk_at dksJ2_grow_2_0 21 rfl rfl)
theorem dJ2_grow_2_22 : decode cJ2_grow_2 22 = .ok (.iload_n 2, 1) := dk_28 (dk_at dksJ2_grow_2_0 22 rfl rfl)
theorem dJ2_grow_2_23 : decode cJ2_grow_2 23 = .ok (.isub, 1) := dk_100 (dk_at dksJ2_grow_2_0 23 rfl rfl)
theorem dJ2_grow_2_24 : decode cJ2_grow_2 24 = .ok (.iload_n 2, 1) := dk_28 (dk_at dksJ2_grow_2_1 0 rfl rfl)
theorem dJ2_grow_2_25 : decode cJ2_grow_2 25 = .ok (.iconst 1, 1) := dk_4 (dk_at dksJ2_grow_2_1 1 rfl rfl)
theorem dJ2_grow_2_26 : decode cJ2_grow_2 26 = .ok (.ishr, 1) := dk_122 (dk_at dksJ2_grow_2_1 2 rfl rfl)
theorem dJ2_grow_2_27 : decode cJ2_grow_2 27 = .ok (.invokestatic 73, 3) := dk_184 0 73 (dk_at dksJ2_grow_2_1 3 rfl rfl)
theorem dJ2_grow_2_30 : decode cJ2_grow_2 30 = .ok (.istore_n 3, 1) := dk_62 (dk_at dksJ2_grow_2_1 6 rfl rfl)
theorem dJ2_grow_2_31 : decode cJ2_grow_2 31 = .ok (.aload_n 0, 1) := dk_42 (dk_at dksJ2_grow_2_1 7 rfl rfl)
theorem dJ2_grow_2_32 : decode cJ2_grow_2 32 = .ok (.aload_n 0, 1) := dk_42 (dk_at dksJ2_grow_2_1 8 rfl rfl)
theorem dJ2_grow_2_33 : decode cJ2_grow_2 33 = .ok (.getfield 9, 3) := dk_180 0 9 (dk_at dksJ2_grow_2_1 9 rfl rfl)
theorem dJ2_grow_2_36 : decode cJ2_grow_2 36 = .ok (.iload_n 3, 1) := dk_29 (dk_at dksJ2_grow_2_1 12 rfl rfl)
theorem dJ2_grow_2_37 : decode cJ2_grow_2 37 = .ok (.invokestatic 66, 3) := dk_184 0 66 (dk_at dksJ2_grow_2_1 13 rfl rfl)
theorem dJ2_grow_2_40 : decode cJ2_grow_2 40 = .ok (.dup_x1, 1) := dk_90 (dk_at dksJ2_grow_2_1 16 rfl rfl)
theorem dJ2_grow_2_41 : decode cJ2_grow_2 41 = .ok (.putfield 9, 3) := dk_181 0 9 (dk_at dksJ2_grow_2_1 17 rfl rfl)
theorem dJ2_grow_2_44 : decode cJ2_grow_2 44 = .ok (.areturn, 1) := dk_176 (dk_at dksJ2_grow_2_1 20 rfl rfl)
theorem dJ2_grow_2_45 : decode cJ2_grow_2 45 = .ok (.aload_n 0, 1) := dk_42 (dk_at dksJ2_grow_2_1 21 rfl rfl)
theorem dJ2_grow_2_46 : decode cJ2_grow_2 46 = .ok (.bipush 10, 2) := dk_16 10 (dk_at dksJ2_grow_2_1 22 rfl rfl)
theorem dJ2_grow_2_48 : decode cJ2_grow_2 48 = .ok (.iload_n 1, 1) := dk_27 (dk_at dksJ2_grow_2_2 0 rfl rfl)
theorem dJ2_grow_2_49 : decode cJ2_grow_2 49 = .ok (.invokestatic 79, 3) := dk_184 0 79 (dk_at dksJ2_grow_2_2 1 rfl rfl)
theorem dJ2_grow_2_52 : decode cJ2_grow_2 52 = .ok (.anewarray 7, 3) := dk_189 0 7 (dk_at dksJ2_grow_2_2 4 rfl rfl)
theorem dJ2_grow_2_55 : decode cJ2_grow_2 55 = .ok (.dup_x1, 1) := dk_90 (dk_at dksJ2_grow_2_2 7 rfl rfl)
theorem dJ2_grow_2_56 : decode cJ2_grow_2 56 = .ok (.putfield 9, 3) := dk_181 0 9 (dk_at dksJ2_grow_2_2 8 rfl rfl)
theorem dJ2_grow_2_59 : decode cJ2_grow_2 59 = .ok (.areturn, 1) := dk_176 (dk_at dksJ2_grow_2_2 11 rfl rfl)
abbrev cJ2_addAll : ByteArray := prog_32_method_41_code
def yJ2_addAll : MethodName := ⟨RJ2, "addAll", "(Ljava/util/Collection;)Z"⟩
def dkwJ2_addAll_3 : List UInt8 := [181, 0, 48, 4, 172]
abbrev dktJ2_addAll_3 : List UInt8 := dkwJ2_addAll_3 ++ []
def dkwJ2_addAll_2 : List UInt8 := [21, 5, 29, 96, 182, 0, 69, 58, 4, 44, 3, 25, 4, 21, 5, 29, 184, 0, 112, 42, 21, 5, 29, 96]
abbrev dktJ2_addAll_2 : List UInt8 := dkwJ2_addAll_2 ++ dktJ2_addAll_3
def dkwJ2_addAll_1 : List UInt8 := [3, 172, 29, 42, 180, 0, 9, 89, 58, 4, 190, 42, 180, 0, 48, 89, 54, 5, 100, 164, 0, 13, 42]
abbrev dktJ2_addAll_1 : List UInt8 := dkwJ2_addAll_1 ++ dktJ2_addAll_2
def dkwJ2_addAll_0 : List UInt8 := [43, 185, 0, 42, 1, 0, 77, 42, 89, 180, 0, 63, 4, 96, 181, 0, 63, 44, 190, 62, 29, 154, 0, 5]
abbrev dktJ2_addAll_0 : List UInt8 := dkwJ2_addAll_0 ++ dktJ2_addAll_1
theorem dksJ2_addAll_0 : cJ2_addAll.data.toList.drop 0 = dktJ2_addAll_0 := by decide +kernel
theorem dksJ2_addAll_1 : cJ2_addAll.data.toList.drop 24 = dktJ2_addAll_1 := dk_seg dksJ2_addAll_0 24 rfl rfl
theorem dksJ2_addAll_2 : cJ2_addAll.data.toList.drop 47 = dktJ2_addAll_2 := dk_seg dksJ2_addAll_1 23 rfl rfl
theorem dksJ2_addAll_3 : cJ2_addAll.data.toList.drop 71 = dktJ2_addAll_3 := dk_seg dksJ2_addAll_2 24 rfl rfl
theorem dJ2_addAll_0 : decode cJ2_addAll 0 = .ok (.aload_n 1, 1) := dk_43 (dk_at dksJ2_addAll_0 0 rfl rfl)
theorem dJ2_addAll_1 : decode cJ2_addAll 1 = .ok (.invokeinterface 42 1, 5) := by decide +kernel
theorem dJ2_addAll_6 : decode cJ2_addAll 6 = .ok (.astore_n 2, 1) := dk_77 (dk_at dksJ2_addAll_0 6 rfl rfl)
theorem dJ2_addAll_7 : decode cJ2_addAll 7 = .ok (.aload_n 0, 1) := dk_42 (dk_at dksJ2_addAll_0 7 rfl rfl)
theorem dJ2_addAll_8 : decode cJ2_addAll 8 = .ok (.dup, 1) := dk_89 (dk_at dksJ2_addAll_0 8 rfl rfl)
theorem dJ2_addAll_9 : decode cJ2_addAll 9 = .ok (.getfield 63, 3) := dk_180 0 63 (dk_at dksJ2_addAll_0 9 rfl rfl)
theorem dJ2_addAll_12 : decode cJ2_addAll 12 = .ok (.iconst 1, 1) := dk_4 (dk_at dksJ2_addAll_0 12 rfl rfl)
theorem dJ2_addAll_13 : decode cJ2_addAll 13 = .ok (.iadd, 1) := dk_96 (dk_at dksJ2_addAll_0 13 rfl rfl)
theorem dJ2_addAll_14 : decode cJ2_addAll 14 = .ok (.putfield 63, 3) := dk_181 0 63 (dk_at dksJ2_addAll_0 14 rfl rfl)
theorem dJ2_addAll_17 : decode cJ2_addAll 17 = .ok (.aload_n 2, 1) := dk_44 (dk_at dksJ2_addAll_0 17 rfl rfl)
theorem dJ2_addAll_18 : decode cJ2_addAll 18 = .ok (.arraylength, 1) := dk_190 (dk_at dksJ2_addAll_0 18 rfl rfl)
theorem dJ2_addAll_19 : decode cJ2_addAll 19 = .ok (.istore_n 3, 1) := dk_62 (dk_at dksJ2_addAll_0 19 rfl rfl)
theorem dJ2_addAll_20 : decode cJ2_addAll 20 = .ok (.iload_n 3, 1) := dk_29 (dk_at dksJ2_addAll_0 20 rfl rfl)
theorem dJ2_addAll_21 : decode cJ2_addAll 21 = .ok (.ifCond .ne 5, 3) := dk_154 0 5 (dk_at dksJ2_addAll_0 21 rfl rfl)
theorem dJ2_addAll_24 : decode cJ2_addAll 24 = .ok (.iconst 0, 1) := dk_3 (dk_at dksJ2_addAll_1 0 rfl rfl)
theorem dJ2_addAll_25 : decode cJ2_addAll 25 = .ok (.ireturn, 1) := dk_172 (dk_at dksJ2_addAll_1 1 rfl rfl)
theorem dJ2_addAll_26 : decode cJ2_addAll 26 = .ok (.iload_n 3, 1) := dk_29 (dk_at dksJ2_addAll_1 2 rfl rfl)
theorem dJ2_addAll_27 : decode cJ2_addAll 27 = .ok (.aload_n 0, 1) := dk_42 (dk_at dksJ2_addAll_1 3 rfl rfl)
theorem dJ2_addAll_28 : decode cJ2_addAll 28 = .ok (.getfield 9, 3) := dk_180 0 9 (dk_at dksJ2_addAll_1 4 rfl rfl)
theorem dJ2_addAll_31 : decode cJ2_addAll 31 = .ok (.dup, 1) := dk_89 (dk_at dksJ2_addAll_1 7 rfl rfl)
theorem dJ2_addAll_32 : decode cJ2_addAll 32 = .ok (.astore 4, 2) := dk_58 4 (dk_at dksJ2_addAll_1 8 rfl rfl)
theorem dJ2_addAll_34 : decode cJ2_addAll 34 = .ok (.arraylength, 1) := dk_190 (dk_at dksJ2_addAll_1 10 rfl rfl)
theorem dJ2_addAll_35 : decode cJ2_addAll 35 = .ok (.aload_n 0, 1) := dk_42 (dk_at dksJ2_addAll_1 11 rfl rfl)
theorem dJ2_addAll_36 : decode cJ2_addAll 36 = .ok (.getfield 48, 3) := dk_180 0 48 (dk_at dksJ2_addAll_1 12 rfl rfl)
theorem dJ2_addAll_39 : decode cJ2_addAll 39 = .ok (.dup, 1) := dk_89 (dk_at dksJ2_addAll_1 15 rfl rfl)
theorem dJ2_addAll_40 : decode cJ2_addAll 40 = .ok (.istore 5, 2) := dk_54 5 (dk_at dksJ2_addAll_1 16 rfl rfl)
theorem dJ2_addAll_42 : decode cJ2_addAll 42 = .ok (.isub, 1) := dk_100 (dk_at dksJ2_addAll_1 18 rfl rfl)
theorem dJ2_addAll_43 : decode cJ2_addAll 43 = .ok (.if_icmp .le 13, 3) := dk_164 0 13 (dk_at dksJ2_addAll_1 19 rfl rfl)
theorem dJ2_addAll_46 : decode cJ2_addAll 46 = .ok (.aload_n 0, 1) := dk_42 (dk_at dksJ2_addAll_1 22 rfl rfl)
theorem dJ2_addAll_47 : decode cJ2_addAll 47 = .ok (.iload 5, 2) := dk_21 5 (dk_at dksJ2_addAll_2 0 rfl rfl)
theorem dJ2_addAll_49 : decode cJ2_addAll 49 = .ok (.iload_n 3, 1) := dk_29 (dk_at dksJ2_addAll_2 2 rfl rfl)
theorem dJ2_addAll_50 : decode cJ2_addAll 50 = .ok (.iadd, 1) := dk_96 (dk_at dksJ2_addAll_2 3 rfl rfl)
theorem dJ2_addAll_51 : decode cJ2_addAll 51 = .ok (.invokevirtual 69, 3) := dk_182 0 69 (dk_at dksJ2_addAll_2 4 rfl rfl)
theorem dJ2_addAll_54 : decode cJ2_addAll 54 = .ok (.astore 4, 2) := dk_58 4 (dk_at dksJ2_addAll_2 7 rfl rfl)
theorem dJ2_addAll_56 : decode cJ2_addAll 56 = .ok (.aload_n 2, 1) := dk_44 (dk_at dksJ2_addAll_2 9 rfl rfl)
theorem dJ2_addAll_57 : decode cJ2_addAll 57 = .ok (.iconst 0, 1) := dk_3 (dk_at dksJ2_addAll_2 10 rfl rfl)
theorem dJ2_addAll_58 : decode cJ2_addAll 58 = .ok (.aload 4, 2) := dk_25 4 (dk_at dksJ2_addAll_2 11 rfl rfl)
theorem dJ2_addAll_60 : decode cJ2_addAll 60 = .ok (.iload 5, 2) := dk_21 5 (dk_at dksJ2_addAll_2 13 rfl rfl)
theorem dJ2_addAll_62 : decode cJ2_addAll 62 = .ok (.iload_n 3, 1) := dk_29 (dk_at dksJ2_addAll_2 15 rfl rfl)
theorem dJ2_addAll_63 : decode cJ2_addAll 63 = .ok (.invokestatic 112, 3) := dk_184 0 112 (dk_at dksJ2_addAll_2 16 rfl rfl)
theorem dJ2_addAll_66 : decode cJ2_addAll 66 = .ok (.aload_n 0, 1) := dk_42 (dk_at dksJ2_addAll_2 19 rfl rfl)
theorem dJ2_addAll_67 : decode cJ2_addAll 67 = .ok (.iload 5, 2) := dk_21 5 (dk_at dksJ2_addAll_2 20 rfl rfl)
theorem dJ2_addAll_69 : decode cJ2_addAll 69 = .ok (.iload_n 3, 1) := dk_29 (dk_at dksJ2_addAll_2 22 rfl rfl)
theorem dJ2_addAll_70 : decode cJ2_addAll 70 = .ok (.iadd, 1) := dk_96 (dk_at dksJ2_addAll_2 23 rfl rfl)
theorem dJ2_addAll_71 : decode cJ2_addAll 71 = .ok (.putfield 48, 3) := dk_181 0 48 (dk_at dksJ2_addAll_3 0 rfl rfl)
theorem dJ2_addAll_74 : decode cJ2_addAll 74 = .ok (.iconst 1, 1) := dk_4 (dk_at dksJ2_addAll_3 3 rfl rfl)
theorem dJ2_addAll_75 : decode cJ2_addAll 75 = .ok (.ireturn, 1) := dk_172 (dk_at dksJ2_addAll_3 4 rfl rfl)
abbrev cJ2_toArray : ByteArray := prog_32_method_16_code
def yJ2_toArray : MethodName := ⟨RJ2, "toArray", "()[Ljava/lang/Object;"⟩
def dkwJ2_toArray_0 : List UInt8 := [42, 180, 0, 9, 42, 180, 0, 48, 184, 0, 66, 176]
abbrev dktJ2_toArray_0 : List UInt8 := dkwJ2_toArray_0 ++ []
theorem dksJ2_toArray_0 : cJ2_toArray.data.toList.drop 0 = dktJ2_toArray_0 := by decide +kernel
theorem dJ2_toArray_0 : decode cJ2_toArray 0 = .ok (.aload_n 0, 1) := dk_42 (dk_at dksJ2_toArray_0 0 rfl rfl)
theorem dJ2_toArray_1 : decode cJ2_toArray 1 = .ok (.getfield 9, 3) := dk_180 0 9 (dk_at dksJ2_toArray_0 1 rfl rfl)
theorem dJ2_toArray_4 : decode cJ2_toArray 4 = .ok (.aload_n 0, 1) := dk_42 (dk_at dksJ2_toArray_0 4 rfl rfl)
theorem dJ2_toArray_5 : decode cJ2_toArray 5 = .ok (.getfield 48, 3) := dk_180 0 48 (dk_at dksJ2_toArray_0 5 rfl rfl)
theorem dJ2_toArray_8 : decode cJ2_toArray 8 = .ok (.invokestatic 66, 3) := dk_184 0 66 (dk_at dksJ2_toArray_0 8 rfl rfl)
theorem dJ2_toArray_11 : decode cJ2_toArray 11 = .ok (.areturn, 1) := dk_176 (dk_at dksJ2_toArray_0 11 rfl rfl)
abbrev cJ2_get : ByteArray := prog_32_method_20_code
def yJ2_get : MethodName := ⟨RJ2, "get", "(I)Ljava/lang/Object;"⟩
def dkwJ2_get_0 : List UInt8 := [27, 42, 180, 0, 48, 184, 0, 118, 87, 42, 27, 182, 0, 123, 176]
abbrev dktJ2_get_0 : List UInt8 := dkwJ2_get_0 ++ []
theorem dksJ2_get_0 : cJ2_get.data.toList.drop 0 = dktJ2_get_0 := by decide +kernel
theorem dJ2_get_0 : decode cJ2_get 0 = .ok (.iload_n 1, 1) := dk_27 (dk_at dksJ2_get_0 0 rfl rfl)
theorem dJ2_get_1 : decode cJ2_get 1 = .ok (.aload_n 0, 1) := dk_42 (dk_at dksJ2_get_0 1 rfl rfl)
theorem dJ2_get_2 : decode cJ2_get 2 = .ok (.getfield 48, 3) := dk_180 0 48 (dk_at dksJ2_get_0 2 rfl rfl)
theorem dJ2_get_5 : decode cJ2_get 5 = .ok (.invokestatic 118, 3) := dk_184 0 118 (dk_at dksJ2_get_0 5 rfl rfl)
theorem dJ2_get_8 : decode cJ2_get 8 = .ok (.pop, 1) := dk_87 (dk_at dksJ2_get_0 8 rfl rfl)
theorem dJ2_get_9 : decode cJ2_get 9 = .ok (.aload_n 0, 1) := dk_42 (dk_at dksJ2_get_0 9 rfl rfl)
theorem dJ2_get_10 : decode cJ2_get 10 = .ok (.iload_n 1, 1) := dk_27 (dk_at dksJ2_get_0 10 rfl rfl)
theorem dJ2_get_11 : decode cJ2_get 11 = .ok (.invokevirtual 123, 3) := dk_182 0 123 (dk_at dksJ2_get_0 11 rfl rfl)
theorem dJ2_get_14 : decode cJ2_get 14 = .ok (.areturn, 1) := dk_176 (dk_at dksJ2_get_0 14 rfl rfl)
abbrev cJ2_elementData : ByteArray := prog_32_method_18_code
def yJ2_elementData : MethodName := ⟨RJ2, "elementData", "(I)Ljava/lang/Object;"⟩
def dkwJ2_elementData_0 : List UInt8 := [42, 180, 0, 9, 27, 50, 176]
abbrev dktJ2_elementData_0 : List UInt8 := dkwJ2_elementData_0 ++ []
theorem dksJ2_elementData_0 : cJ2_elementData.data.toList.drop 0 = dktJ2_elementData_0 := by decide +kernel
theorem dJ2_elementData_0 : decode cJ2_elementData 0 = .ok (.aload_n 0, 1) := dk_42 (dk_at dksJ2_elementData_0 0 rfl rfl)
theorem dJ2_elementData_1 : decode cJ2_elementData 1 = .ok (.getfield 9, 3) := dk_180 0 9 (dk_at dksJ2_elementData_0 1 rfl rfl)
theorem dJ2_elementData_4 : decode cJ2_elementData 4 = .ok (.iload_n 1, 1) := dk_27 (dk_at dksJ2_elementData_0 4 rfl rfl)
theorem dJ2_elementData_5 : decode cJ2_elementData 5 = .ok (.aaload, 1) := dk_50 (dk_at dksJ2_elementData_0 5 rfl rfl)
theorem dJ2_elementData_6 : decode cJ2_elementData 6 = .ok (.areturn, 1) := dk_176 (dk_at dksJ2_elementData_0 6 rfl rfl)
abbrev cJ2_isEmpty : ByteArray := prog_32_method_9_code
def yJ2_isEmpty : MethodName := ⟨RJ2, "isEmpty", "()Z"⟩
def dkwJ2_isEmpty_0 : List UInt8 := [42, 180, 0, 48, 154, 0, 7, 4, 167, 0, 4, 3, 172]
abbrev dktJ2_isEmpty_0 : List UInt8 := dkwJ2_isEmpty_0 ++ []
theorem dksJ2_isEmpty_0 : cJ2_isEmpty.data.toList.drop 0 = dktJ2_isEmpty_0 := by decide +kernel
theorem dJ2_isEmpty_0 : decode cJ2_isEmpty 0 = .ok (.aload_n 0, 1) := dk_42 (dk_at dksJ2_isEmpty_0 0 rfl rfl)
theorem dJ2_isEmpty_1 : decode cJ2_isEmpty 1 = .ok (.getfield 48, 3) := dk_180 0 48 (dk_at dksJ2_isEmpty_0 1 rfl rfl)
theorem dJ2_isEmpty_4 : decode cJ2_isEmpty 4 = .ok (.ifCond .ne 7, 3) := dk_154 0 7 (dk_at dksJ2_isEmpty_0 4 rfl rfl)
theorem dJ2_isEmpty_7 : decode cJ2_isEmpty 7 = .ok (.iconst 1, 1) := dk_4 (dk_at dksJ2_isEmpty_0 7 rfl rfl)
theorem dJ2_isEmpty_8 : decode cJ2_isEmpty 8 = .ok (.goto 4, 3) := dk_167 0 4 (dk_at dksJ2_isEmpty_0 8 rfl rfl)
theorem dJ2_isEmpty_11 : decode cJ2_isEmpty 11 = .ok (.iconst 0, 1) := dk_3 (dk_at dksJ2_isEmpty_0 11 rfl rfl)
theorem dJ2_isEmpty_12 : decode cJ2_isEmpty 12 = .ok (.ireturn, 1) := dk_172 (dk_at dksJ2_isEmpty_0 12 rfl rfl)
abbrev cJ2_remove : ByteArray := prog_32_method_29_code
def yJ2_remove : MethodName := ⟨RJ2, "remove", "(I)Ljava/lang/Object;"⟩
def dkwJ2_remove_1 : List UInt8 := [45, 176]
abbrev dktJ2_remove_1 : List UInt8 := dkwJ2_remove_1 ++ []
def dkwJ2_remove_0 : List UInt8 := [27, 42, 180, 0, 48, 184, 0, 118, 87, 42, 180, 0, 9, 77, 44, 27, 50, 78, 42, 44, 27, 182, 0, 144]
abbrev dktJ2_remove_0 : List UInt8 := dkwJ2_remove_0 ++ dktJ2_remove_1
theorem dksJ2_remove_0 : cJ2_remove.data.toList.drop 0 = dktJ2_remove_0 := by decide +kernel
theorem dksJ2_remove_1 : cJ2_remove.data.toList.drop 24 = dktJ2_remove_1 := dk_seg dksJ2_remove_0 24 rfl rfl
theorem dJ2_remove_0 : decode cJ2_remove 0 = .ok (.iload_n 1, 1) := dk_27 (dk_at dksJ2_remove_0 0 rfl rfl)
theorem dJ2_remove_1 : decode cJ2_remove 1 = .ok (.aload_n 0, 1) := dk_42 (dk_at dksJ2_remove_0 1 rfl rfl)
theorem dJ2_remove_2 : decode cJ2_remove 2 = .ok (.getfield 48, 3) := dk_180 0 48 (dk_at dksJ2_remove_0 2 rfl rfl)
theorem dJ2_remove_5 : decode cJ2_remove 5 = .ok (.invokestatic 118, 3) := dk_184 0 118 (dk_at dksJ2_remove_0 5 rfl rfl)
theorem dJ2_remove_8 : decode cJ2_remove 8 = .ok (.pop, 1) := dk_87 (dk_at dksJ2_remove_0 8 rfl rfl)
theorem dJ2_remove_9 : decode cJ2_remove 9 = .ok (.aload_n 0, 1) := dk_42 (dk_at dksJ2_remove_0 9 rfl rfl)
theorem dJ2_remove_10 : decode cJ2_remove 10 = .ok (.getfield 9, 3) := dk_180 0 9 (dk_at dksJ2_remove_0 10 rfl rfl)
theorem dJ2_remove_13 : decode cJ2_remove 13 = .ok (.astore_n 2, 1) := dk_77 (dk_at dksJ2_remove_0 13 rfl rfl)
theorem dJ2_remove_14 : decode cJ2_remove 14 = .ok (.aload_n 2, 1) := dk_44 (dk_at dksJ2_remove_0 14 rfl rfl)
theorem dJ2_remove_15 : decode cJ2_remove 15 = .ok (.iload_n 1, 1) := dk_27 (dk_at dksJ2_remove_0 15 rfl rfl)
theorem dJ2_remove_16 : decode cJ2_remove 16 = .ok (.aaload, 1) := dk_50 (dk_at dksJ2_remove_0 16 rfl rfl)
theorem dJ2_remove_17 : decode cJ2_remove 17 = .ok (.astore_n 3, 1) := dk_78 (dk_at dksJ2_remove_0 17 rfl rfl)
theorem dJ2_remove_18 : decode cJ2_remove 18 = .ok (.aload_n 0, 1) := dk_42 (dk_at dksJ2_remove_0 18 rfl rfl)
theorem dJ2_remove_19 : decode cJ2_remove 19 = .ok (.aload_n 2, 1) := dk_44 (dk_at dksJ2_remove_0 19 rfl rfl)
theorem dJ2_remove_20 : decode cJ2_remove 20 = .ok (.iload_n 1, 1) := dk_27 (dk_at dksJ2_remove_0 20 rfl rfl)
theorem dJ2_remove_21 : decode cJ2_remove 21 = .ok (.invokevirtual 144, 3) := dk_182 0 144 (dk_at dksJ2_remove_0 21 rfl rfl)
theorem dJ2_remove_24 : decode cJ2_remove 24 = .ok (.aload_n 3, 1) := dk_45 (dk_at dksJ2_remove_1 0 rfl rfl)
theorem dJ2_remove_25 : decode cJ2_remove 25 = .ok (.areturn, 1) := dk_176 (dk_at dksJ2_remove_1 1 rfl rfl)
abbrev cJ2_fastRemove : ByteArray := prog_32_method_39_code
def yJ2_fastRemove : MethodName := ⟨RJ2, "fastRemove", "([Ljava/lang/Object;I)V"⟩
def dkwJ2_fastRemove_1 : List UInt8 := [4, 96, 43, 28, 29, 28, 100, 184, 0, 112, 43, 42, 29, 90, 181, 0, 48, 1, 83, 177]
abbrev dktJ2_fastRemove_1 : List UInt8 := dkwJ2_fastRemove_1 ++ []
def dkwJ2_fastRemove_0 : List UInt8 := [42, 89, 180, 0, 63, 4, 96, 181, 0, 63, 42, 180, 0, 48, 4, 100, 89, 62, 28, 164, 0, 15, 43, 28]
abbrev dktJ2_fastRemove_0 : List UInt8 := dkwJ2_fastRemove_0 ++ dktJ2_fastRemove_1
theorem dksJ2_fastRemove_0 : cJ2_fastRemove.data.toList.drop 0 = dktJ2_fastRemove_0 := by decide +kernel
theorem dksJ2_fastRemove_1 : cJ2_fastRemove.data.toList.drop 24 = dktJ2_fastRemove_1 := dk_seg dksJ2_fastRemove_0 24 rfl rfl
theorem dJ2_fastRemove_0 : decode cJ2_fastRemove 0 = .ok (.aload_n 0, 1) := dk_42 (dk_at dksJ2_fastRemove_0 0 rfl rfl)
theorem dJ2_fastRemove_1 : decode cJ2_fastRemove 1 = .ok (.dup, 1) := dk_89 (dk_at dksJ2_fastRemove_0 1 rfl rfl)
theorem dJ2_fastRemove_2 : decode cJ2_fastRemove 2 = .ok (.getfield 63, 3) := dk_180 0 63 (dk_at dksJ2_fastRemove_0 2 rfl rfl)
theorem dJ2_fastRemove_5 : decode cJ2_fastRemove 5 = .ok (.iconst 1, 1) := dk_4 (dk_at dksJ2_fastRemove_0 5 rfl rfl)
theorem dJ2_fastRemove_6 : decode cJ2_fastRemove 6 = .ok (.iadd, 1) := dk_96 (dk_at dksJ2_fastRemove_0 6 rfl rfl)
theorem dJ2_fastRemove_7 : decode cJ2_fastRemove 7 = .ok (.putfield 63, 3) := dk_181 0 63 (dk_at dksJ2_fastRemove_0 7 rfl rfl)
theorem dJ2_fastRemove_10 : decode cJ2_fastRemove 10 = .ok (.aload_n 0, 1) := dk_42 (dk_at dksJ2_fastRemove_0 10 rfl rfl)
theorem dJ2_fastRemove_11 : decode cJ2_fastRemove 11 = .ok (.getfield 48, 3) := dk_180 0 48 (dk_at dksJ2_fastRemove_0 11 rfl rfl)
theorem dJ2_fastRemove_14 : decode cJ2_fastRemove 14 = .ok (.iconst 1, 1) := dk_4 (dk_at dksJ2_fastRemove_0 14 rfl rfl)
theorem dJ2_fastRemove_15 : decode cJ2_fastRemove 15 = .ok (.isub, 1) := dk_100 (dk_at dksJ2_fastRemove_0 15 rfl rfl)
theorem dJ2_fastRemove_16 : decode cJ2_fastRemove 16 = .ok (.dup, 1) := dk_89 (dk_at dksJ2_fastRemove_0 16 rfl rfl)
theorem dJ2_fastRemove_17 : decode cJ2_fastRemove 17 = .ok (.istore_n 3, 1) := dk_62 (dk_at dksJ2_fastRemove_0 17 rfl rfl)
theorem dJ2_fastRemove_18 : decode cJ2_fastRemove 18 = .ok (.iload_n 2, 1) := dk_28 (dk_at dksJ2_fastRemove_0 18 rfl rfl)
theorem dJ2_fastRemove_19 : decode cJ2_fastRemove 19 = .ok (.if_icmp .le 15, 3) := dk_164 0 15 (dk_at dksJ2_fastRemove_0 19 rfl rfl)
theorem dJ2_fastRemove_22 : decode cJ2_fastRemove 22 = .ok (.aload_n 1, 1) := dk_43 (dk_at dksJ2_fastRemove_0 22 rfl rfl)
theorem dJ2_fastRemove_23 : decode cJ2_fastRemove 23 = .ok (.iload_n 2, 1) := dk_28 (dk_at dksJ2_fastRemove_0 23 rfl rfl)
theorem dJ2_fastRemove_24 : decode cJ2_fastRemove 24 = .ok (.iconst 1, 1) := dk_4 (dk_at dksJ2_fastRemove_1 0 rfl rfl)
theorem dJ2_fastRemove_25 : decode cJ2_fastRemove 25 = .ok (.iadd, 1) := dk_96 (dk_at dksJ2_fastRemove_1 1 rfl rfl)
theorem dJ2_fastRemove_26 : decode cJ2_fastRemove 26 = .ok (.aload_n 1, 1) := dk_43 (dk_at dksJ2_fastRemove_1 2 rfl rfl)
theorem dJ2_fastRemove_27 : decode cJ2_fastRemove 27 = .ok (.iload_n 2, 1) := dk_28 (dk_at dksJ2_fastRemove_1 3 rfl rfl)
theorem dJ2_fastRemove_28 : decode cJ2_fastRemove 28 = .ok (.iload_n 3, 1) := dk_29 (dk_at dksJ2_fastRemove_1 4 rfl rfl)
theorem dJ2_fastRemove_29 : decode cJ2_fastRemove 29 = .ok (.iload_n 2, 1) := dk_28 (dk_at dksJ2_fastRemove_1 5 rfl rfl)
theorem dJ2_fastRemove_30 : decode cJ2_fastRemove 30 = .ok (.isub, 1) := dk_100 (dk_at dksJ2_fastRemove_1 6 rfl rfl)
theorem dJ2_fastRemove_31 : decode cJ2_fastRemove 31 = .ok (.invokestatic 112, 3) := dk_184 0 112 (dk_at dksJ2_fastRemove_1 7 rfl rfl)
theorem dJ2_fastRemove_34 : decode cJ2_fastRemove 34 = .ok (.aload_n 1, 1) := dk_43 (dk_at dksJ2_fastRemove_1 10 rfl rfl)
theorem dJ2_fastRemove_35 : decode cJ2_fastRemove 35 = .ok (.aload_n 0, 1) := dk_42 (dk_at dksJ2_fastRemove_1 11 rfl rfl)
theorem dJ2_fastRemove_36 : decode cJ2_fastRemove 36 = .ok (.iload_n 3, 1) := dk_29 (dk_at dksJ2_fastRemove_1 12 rfl rfl)
theorem dJ2_fastRemove_37 : decode cJ2_fastRemove 37 = .ok (.dup_x1, 1) := dk_90 (dk_at dksJ2_fastRemove_1 13 rfl rfl)
theorem dJ2_fastRemove_38 : decode cJ2_fastRemove 38 = .ok (.putfield 48, 3) := dk_181 0 48 (dk_at dksJ2_fastRemove_1 14 rfl rfl)
theorem dJ2_fastRemove_41 : decode cJ2_fastRemove 41 = .ok (.aconst_null, 1) := dk_1 (dk_at dksJ2_fastRemove_1 17 rfl rfl)
theorem dJ2_fastRemove_42 : decode cJ2_fastRemove 42 = .ok (.aastore, 1) := dk_83 (dk_at dksJ2_fastRemove_1 18 rfl rfl)
theorem dJ2_fastRemove_43 : decode cJ2_fastRemove 43 = .ok (.return_, 1) := dk_177 (dk_at dksJ2_fastRemove_1 19 rfl rfl)
theorem q123 : (Jvm.Cond.initialized "java/util/ArrayList") ∈ lw_all := lw_g (lw_at lw_m1 5 rfl) rfl
theorem q163 : (Jvm.Cond.instantiable "java/util/ArrayList" (3 : Nat)) ∈ lw_all := lw_g (lw_at lw_m1 45 rfl) rfl
theorem q165 : (Jvm.Cond.instanceMethod ({ cls := "java/util/ArrayList", name := "<init>", desc := "(I)V" } : Jvm.MethodName)) ∈ lw_all := lw_g (lw_at lw_m1 47 rfl) rfl
theorem q166 : (Jvm.Cond.code ({ cls := "java/util/ArrayList", name := "<init>", desc := "(I)V" } : Jvm.MethodName) prog_32_method_1_code (2 : Nat) (Option.none : Option Jvm.ClassFile.FieldType)) ∈ lw_all := lw_g (lw_at lw_m1 48 rfl) rfl
theorem q167 : (Jvm.Cond.methodLink "java/util/ArrayList" (1 : Nat) ({ cls := "java/util/AbstractList", name := "<init>", desc := "()V" } : Jvm.MethodName)) ∈ lw_all := lw_g (lw_at lw_m1 49 rfl) rfl
theorem q174 : (Jvm.Cond.classLink "java/util/ArrayList" (7 : Nat) "java/lang/Object") ∈ lw_all := lw_g (lw_at lw_m1 56 rfl) rfl
theorem q176 : (Jvm.Cond.fieldLink "java/util/ArrayList" (15 : Nat) "java/util/ArrayList" "EMPTY_ELEMENTDATA" "[Ljava/lang/Object;") ∈ lw_all := lw_g (lw_at lw_m1 58 rfl) rfl
theorem q177 : (Jvm.Cond.laysStatic "java/util/ArrayList" "EMPTY_ELEMENTDATA" "[Ljava/lang/Object;") ∈ lw_tbl := lw_at lw_m1 59 rfl
theorem q178 : (Jvm.Cond.fieldLink "java/util/ArrayList" (9 : Nat) "java/util/ArrayList" "elementData" "[Ljava/lang/Object;") ∈ lw_all := lw_g (lw_at lw_m1 60 rfl) rfl
theorem q179 : (Jvm.Cond.fieldLink "java/util/ArrayList" (48 : Nat) "java/util/ArrayList" "size" "I") ∈ lw_all := lw_g (lw_at lw_m1 61 rfl) rfl
theorem q181 : (Jvm.Cond.fieldLink "java/util/ArrayList" (63 : Nat) "java/util/ArrayList" "modCount" "I") ∈ lw_all := lw_g (lw_at lw_m1 63 rfl) rfl
theorem q182 : (Jvm.Cond.sameField "java/util/ArrayList" "java/util/AbstractList" "modCount" "I") ∈ lw_all := lw_g (lw_at lw_m1 64 rfl) rfl
theorem q183 : (Jvm.Cond.lays "java/util/ArrayList" "java/util/ArrayList" "elementData" "[Ljava/lang/Object;") ∈ lw_all := lw_g (lw_at lw_m1 65 rfl) rfl
theorem q184 : (Jvm.Cond.soleField "java/util/ArrayList" "elementData") ∈ lw_all := lw_g (lw_at lw_m1 66 rfl) rfl
theorem q185 : (Jvm.Cond.lays "java/util/ArrayList" "java/util/ArrayList" "size" "I") ∈ lw_all := lw_g (lw_at lw_m1 67 rfl) rfl
theorem q186 : (Jvm.Cond.soleField "java/util/ArrayList" "size") ∈ lw_all := lw_g (lw_at lw_m1 68 rfl) rfl
theorem q187 : (Jvm.Cond.lays "java/util/ArrayList" "java/util/AbstractList" "modCount" "I") ∈ lw_all := lw_g (lw_at lw_m1 69 rfl) rfl
theorem q189 : (Jvm.Cond.superclass "java/util/ArrayList" "java/util/AbstractList") ∈ lw_all := lw_g (lw_at lw_m1 71 rfl) rfl
theorem q693 : (Jvm.Cond.instanceMethod ({ cls := "java/util/ArrayList", name := "size", desc := "()I" } : Jvm.MethodName)) ∈ lw_all := lw_g (lw_at lw_m3 95 rfl) rfl
theorem q694 : (Jvm.Cond.selects "java/util/ArrayList" ({ cls := "java/util/ArrayList", name := "size", desc := "()I" } : Jvm.MethodName) ({ cls := "java/util/ArrayList", name := "size", desc := "()I" } : Jvm.MethodName)) ∈ lw_all := lw_g (lw_at lw_m3 96 rfl) rfl
theorem q695 : (Jvm.Cond.code ({ cls := "java/util/ArrayList", name := "size", desc := "()I" } : Jvm.MethodName) prog_32_method_8_code (1 : Nat) (Option.some Jvm.ClassFile.FieldType.int)) ∈ lw_all := lw_g (lw_at lw_m3 97 rfl) rfl
theorem q1175 : (Jvm.Cond.instanceMethod ({ cls := "java/util/ArrayList", name := "add", desc := "(Ljava/lang/Object;)Z" } : Jvm.MethodName)) ∈ lw_all := lw_g (lw_at lw_m5 97 rfl) rfl
theorem q1176 : (Jvm.Cond.selects "java/util/ArrayList" ({ cls := "java/util/ArrayList", name := "add", desc := "(Ljava/lang/Object;)Z" } : Jvm.MethodName) ({ cls := "java/util/ArrayList", name := "add", desc := "(Ljava/lang/Object;)Z" } : Jvm.MethodName)) ∈ lw_all := lw_g (lw_at lw_m5 98 rfl) rfl
theorem q1177 : (Jvm.Cond.code ({ cls := "java/util/ArrayList", name := "add", desc := "(Ljava/lang/Object;)Z" } : Jvm.MethodName) prog_32_method_25_code (2 : Nat) (Option.some Jvm.ClassFile.FieldType.boolean)) ∈ lw_all := lw_g (lw_at lw_m5 99 rfl) rfl
theorem q1178 : (Jvm.Cond.methodLink "java/util/ArrayList" (131 : Nat) ({ cls := "java/util/ArrayList", name := "add", desc := "(Ljava/lang/Object;[Ljava/lang/Object;I)V" } : Jvm.MethodName)) ∈ lw_all := lw_g (lw_at lw_m5 100 rfl) rfl
theorem q1179 : (Jvm.Cond.privateMethod ({ cls := "java/util/ArrayList", name := "add", desc := "(Ljava/lang/Object;[Ljava/lang/Object;I)V" } : Jvm.MethodName)) ∈ lw_tbl := lw_at lw_m5 101 rfl
theorem q1180 : (Jvm.Cond.instanceMethod ({ cls := "java/util/ArrayList", name := "add", desc := "(Ljava/lang/Object;[Ljava/lang/Object;I)V" } : Jvm.MethodName)) ∈ lw_all := lw_g (lw_at lw_m5 102 rfl) rfl
theorem q1181 : (Jvm.Cond.code ({ cls := "java/util/ArrayList", name := "add", desc := "(Ljava/lang/Object;[Ljava/lang/Object;I)V" } : Jvm.MethodName) prog_32_method_24_code (4 : Nat) (Option.none : Option Jvm.ClassFile.FieldType)) ∈ lw_all := lw_g (lw_at lw_m5 103 rfl) rfl
theorem q1182 : (Jvm.Cond.methodLink "java/util/ArrayList" (129 : Nat) ({ cls := "java/util/ArrayList", name := "grow", desc := "()[Ljava/lang/Object;" } : Jvm.MethodName)) ∈ lw_all := lw_g (lw_at lw_m5 104 rfl) rfl
theorem q1183 : (Jvm.Cond.privateMethod ({ cls := "java/util/ArrayList", name := "grow", desc := "()[Ljava/lang/Object;" } : Jvm.MethodName)) ∈ lw_tbl := lw_at lw_m5 105 rfl
theorem q1184 : (Jvm.Cond.instanceMethod ({ cls := "java/util/ArrayList", name := "grow", desc := "()[Ljava/lang/Object;" } : Jvm.MethodName)) ∈ lw_all := lw_g (lw_at lw_m5 106 rfl) rfl
theorem q1185 : (Jvm.Cond.code ({ cls := "java/util/ArrayList", name := "grow", desc := "()[Ljava/lang/Object;" } : Jvm.MethodName) prog_32_method_7_code (1 : Nat) (Option.some (Jvm.ClassFile.FieldType.array (Jvm.ClassFile.FieldType.object "java/lang/Object")))) ∈ lw_all := lw_g (lw_at lw_m5 107 rfl) rfl
theorem q1186 : (Jvm.Cond.methodLink "java/util/ArrayList" (69 : Nat) ({ cls := "java/util/ArrayList", name := "grow", desc := "(I)[Ljava/lang/Object;" } : Jvm.MethodName)) ∈ lw_all := lw_g (lw_at lw_m5 108 rfl) rfl
theorem q1187 : (Jvm.Cond.privateMethod ({ cls := "java/util/ArrayList", name := "grow", desc := "(I)[Ljava/lang/Object;" } : Jvm.MethodName)) ∈ lw_tbl := lw_at lw_m5 109 rfl
theorem q1188 : (Jvm.Cond.instanceMethod ({ cls := "java/util/ArrayList", name := "grow", desc := "(I)[Ljava/lang/Object;" } : Jvm.MethodName)) ∈ lw_all := lw_g (lw_at lw_m5 110 rfl) rfl
theorem q1189 : (Jvm.Cond.code ({ cls := "java/util/ArrayList", name := "grow", desc := "(I)[Ljava/lang/Object;" } : Jvm.MethodName) prog_32_method_6_code (4 : Nat) (Option.some (Jvm.ClassFile.FieldType.array (Jvm.ClassFile.FieldType.object "java/lang/Object")))) ∈ lw_all := lw_g (lw_at lw_m5 111 rfl) rfl
theorem q1190 : (Jvm.Cond.fieldLink "java/util/ArrayList" (39 : Nat) "java/util/ArrayList" "DEFAULTCAPACITY_EMPTY_ELEMENTDATA" "[Ljava/lang/Object;") ∈ lw_all := lw_g (lw_at lw_m5 112 rfl) rfl
theorem q1191 : (Jvm.Cond.laysStatic "java/util/ArrayList" "DEFAULTCAPACITY_EMPTY_ELEMENTDATA" "[Ljava/lang/Object;") ∈ lw_tbl := lw_at lw_m5 113 rfl
theorem q1192 : (Jvm.Cond.methodLink "java/util/ArrayList" (73 : Nat) ({ cls := "jdk/internal/util/ArraysSupport", name := "newLength", desc := "(III)I" } : Jvm.MethodName)) ∈ lw_all := lw_g (lw_at lw_m5 114 rfl) rfl
theorem q1200 : (Jvm.Cond.methodLink "java/util/ArrayList" (66 : Nat) ({ cls := "java/util/Arrays", name := "copyOf", desc := "([Ljava/lang/Object;I)[Ljava/lang/Object;" } : Jvm.MethodName)) ∈ lw_all := lw_g (lw_at lw_m5 122 rfl) rfl
theorem q1218 : (Jvm.Cond.selects "java/util/ArrayList" ({ cls := "java/lang/Object", name := "getClass", desc := "()Ljava/lang/Class;" } : Jvm.MethodName) ({ cls := "java/lang/Object", name := "getClass", desc := "()Ljava/lang/Class;" } : Jvm.MethodName)) ∈ lw_all := lw_g (lw_at lw_m5 140 rfl) rfl
theorem q1227 : (Jvm.Cond.methodLink "java/util/ArrayList" (79 : Nat) ({ cls := "java/lang/Math", name := "max", desc := "(II)I" } : Jvm.MethodName)) ∈ lw_all := lw_g (lw_at lw_m5 149 rfl) rfl
theorem q1289 : (Jvm.Cond.instanceMethod ({ cls := "java/util/ArrayList", name := "addAll", desc := "(Ljava/util/Collection;)Z" } : Jvm.MethodName)) ∈ lw_all := lw_g (lw_at lw_m5 211 rfl) rfl
theorem q1290 : (Jvm.Cond.selects "java/util/ArrayList" ({ cls := "java/util/ArrayList", name := "addAll", desc := "(Ljava/util/Collection;)Z" } : Jvm.MethodName) ({ cls := "java/util/ArrayList", name := "addAll", desc := "(Ljava/util/Collection;)Z" } : Jvm.MethodName)) ∈ lw_all := lw_g (lw_at lw_m5 212 rfl) rfl
theorem q1291 : (Jvm.Cond.code ({ cls := "java/util/ArrayList", name := "addAll", desc := "(Ljava/util/Collection;)Z" } : Jvm.MethodName) prog_32_method_41_code (6 : Nat) (Option.some Jvm.ClassFile.FieldType.boolean)) ∈ lw_all := lw_g (lw_at lw_m5 213 rfl) rfl
theorem q1292 : (Jvm.Cond.interfaceEntry "java/util/ArrayList" (42 : Nat)) ∈ lw_tbl := lw_at lw_m5 214 rfl
theorem q1293 : (Jvm.Cond.methodLink "java/util/ArrayList" (42 : Nat) ({ cls := "java/util/Collection", name := "toArray", desc := "()[Ljava/lang/Object;" } : Jvm.MethodName)) ∈ lw_all := lw_g (lw_at lw_m5 215 rfl) rfl
theorem q1296 : (Jvm.Cond.castable "java/util/ArrayList" "java/util/Collection") ∈ lw_tbl := lw_at lw_m5 218 rfl
theorem q1297 : (Jvm.Cond.selects "java/util/ArrayList" ({ cls := "java/util/Collection", name := "toArray", desc := "()[Ljava/lang/Object;" } : Jvm.MethodName) ({ cls := "java/util/ArrayList", name := "toArray", desc := "()[Ljava/lang/Object;" } : Jvm.MethodName)) ∈ lw_all := lw_g (lw_at lw_m5 219 rfl) rfl
theorem q1298 : (Jvm.Cond.unhidden "java/util/ArrayList" "toArray" "()[Ljava/lang/Object;") ∈ lw_tbl := lw_at lw_m5 220 rfl
theorem q1299 : (Jvm.Cond.instanceMethod ({ cls := "java/util/ArrayList", name := "toArray", desc := "()[Ljava/lang/Object;" } : Jvm.MethodName)) ∈ lw_all := lw_g (lw_at lw_m5 221 rfl) rfl
theorem q1300 : (Jvm.Cond.publicMethod ({ cls := "java/util/ArrayList", name := "toArray", desc := "()[Ljava/lang/Object;" } : Jvm.MethodName)) ∈ lw_tbl := lw_at lw_m5 222 rfl
theorem q1301 : (Jvm.Cond.code ({ cls := "java/util/ArrayList", name := "toArray", desc := "()[Ljava/lang/Object;" } : Jvm.MethodName) prog_32_method_16_code (1 : Nat) (Option.some (Jvm.ClassFile.FieldType.array (Jvm.ClassFile.FieldType.object "java/lang/Object")))) ∈ lw_all := lw_g (lw_at lw_m5 223 rfl) rfl
theorem q1302 : (Jvm.Cond.methodLink "java/util/ArrayList" (112 : Nat) ({ cls := "java/lang/System", name := "arraycopy", desc := "(Ljava/lang/Object;ILjava/lang/Object;II)V" } : Jvm.MethodName)) ∈ lw_all := lw_g (lw_at lw_m5 224 rfl) rfl
theorem q1312 : (Jvm.Cond.instanceMethod ({ cls := "java/util/ArrayList", name := "get", desc := "(I)Ljava/lang/Object;" } : Jvm.MethodName)) ∈ lw_all := lw_g (lw_at lw_m5 234 rfl) rfl
theorem q1313 : (Jvm.Cond.selects "java/util/ArrayList" ({ cls := "java/util/ArrayList", name := "get", desc := "(I)Ljava/lang/Object;" } : Jvm.MethodName) ({ cls := "java/util/ArrayList", name := "get", desc := "(I)Ljava/lang/Object;" } : Jvm.MethodName)) ∈ lw_all := lw_g (lw_at lw_m5 235 rfl) rfl
theorem q1314 : (Jvm.Cond.code ({ cls := "java/util/ArrayList", name := "get", desc := "(I)Ljava/lang/Object;" } : Jvm.MethodName) prog_32_method_20_code (2 : Nat) (Option.some (Jvm.ClassFile.FieldType.object "java/lang/Object"))) ∈ lw_all := lw_g (lw_at lw_m5 236 rfl) rfl
theorem q1315 : (Jvm.Cond.methodLink "java/util/ArrayList" (118 : Nat) ({ cls := "java/util/Objects", name := "checkIndex", desc := "(II)I" } : Jvm.MethodName)) ∈ lw_all := lw_g (lw_at lw_m5 237 rfl) rfl
theorem q1319 : (Jvm.Cond.methodLink "java/util/ArrayList" (123 : Nat) ({ cls := "java/util/ArrayList", name := "elementData", desc := "(I)Ljava/lang/Object;" } : Jvm.MethodName)) ∈ lw_all := lw_g (lw_at lw_m6 1 rfl) rfl
theorem q1320 : (Jvm.Cond.instanceMethod ({ cls := "java/util/ArrayList", name := "elementData", desc := "(I)Ljava/lang/Object;" } : Jvm.MethodName)) ∈ lw_all := lw_g (lw_at lw_m6 2 rfl) rfl
theorem q1321 : (Jvm.Cond.selects "java/util/ArrayList" ({ cls := "java/util/ArrayList", name := "elementData", desc := "(I)Ljava/lang/Object;" } : Jvm.MethodName) ({ cls := "java/util/ArrayList", name := "elementData", desc := "(I)Ljava/lang/Object;" } : Jvm.MethodName)) ∈ lw_all := lw_g (lw_at lw_m6 3 rfl) rfl
theorem q1322 : (Jvm.Cond.code ({ cls := "java/util/ArrayList", name := "elementData", desc := "(I)Ljava/lang/Object;" } : Jvm.MethodName) prog_32_method_18_code (2 : Nat) (Option.some (Jvm.ClassFile.FieldType.object "java/lang/Object"))) ∈ lw_all := lw_g (lw_at lw_m6 4 rfl) rfl
theorem q1332 : (Jvm.Cond.instanceMethod ({ cls := "java/util/ArrayList", name := "isEmpty", desc := "()Z" } : Jvm.MethodName)) ∈ lw_all := lw_g (lw_at lw_m6 14 rfl) rfl
theorem q1333 : (Jvm.Cond.selects "java/util/ArrayList" ({ cls := "java/util/ArrayList", name := "isEmpty", desc := "()Z" } : Jvm.MethodName) ({ cls := "java/util/ArrayList", name := "isEmpty", desc := "()Z" } : Jvm.MethodName)) ∈ lw_all := lw_g (lw_at lw_m6 15 rfl) rfl
theorem q1334 : (Jvm.Cond.code ({ cls := "java/util/ArrayList", name := "isEmpty", desc := "()Z" } : Jvm.MethodName) prog_32_method_9_code (1 : Nat) (Option.some Jvm.ClassFile.FieldType.boolean)) ∈ lw_all := lw_g (lw_at lw_m6 16 rfl) rfl
theorem q1340 : (Jvm.Cond.instanceMethod ({ cls := "java/util/ArrayList", name := "remove", desc := "(I)Ljava/lang/Object;" } : Jvm.MethodName)) ∈ lw_all := lw_g (lw_at lw_m6 22 rfl) rfl
theorem q1341 : (Jvm.Cond.selects "java/util/ArrayList" ({ cls := "java/util/ArrayList", name := "remove", desc := "(I)Ljava/lang/Object;" } : Jvm.MethodName) ({ cls := "java/util/ArrayList", name := "remove", desc := "(I)Ljava/lang/Object;" } : Jvm.MethodName)) ∈ lw_all := lw_g (lw_at lw_m6 23 rfl) rfl
theorem q1342 : (Jvm.Cond.code ({ cls := "java/util/ArrayList", name := "remove", desc := "(I)Ljava/lang/Object;" } : Jvm.MethodName) prog_32_method_29_code (4 : Nat) (Option.some (Jvm.ClassFile.FieldType.object "java/lang/Object"))) ∈ lw_all := lw_g (lw_at lw_m6 24 rfl) rfl
theorem q1343 : (Jvm.Cond.methodLink "java/util/ArrayList" (144 : Nat) ({ cls := "java/util/ArrayList", name := "fastRemove", desc := "([Ljava/lang/Object;I)V" } : Jvm.MethodName)) ∈ lw_all := lw_g (lw_at lw_m6 25 rfl) rfl
theorem q1344 : (Jvm.Cond.privateMethod ({ cls := "java/util/ArrayList", name := "fastRemove", desc := "([Ljava/lang/Object;I)V" } : Jvm.MethodName)) ∈ lw_tbl := lw_at lw_m6 26 rfl
theorem q1345 : (Jvm.Cond.instanceMethod ({ cls := "java/util/ArrayList", name := "fastRemove", desc := "([Ljava/lang/Object;I)V" } : Jvm.MethodName)) ∈ lw_all := lw_g (lw_at lw_m6 27 rfl) rfl
theorem q1346 : (Jvm.Cond.code ({ cls := "java/util/ArrayList", name := "fastRemove", desc := "([Ljava/lang/Object;I)V" } : Jvm.MethodName) prog_32_method_39_code (4 : Nat) (Option.none : Option Jvm.ClassFile.FieldType)) ∈ lw_all := lw_g (lw_at lw_m6 28 rfl) rfl
theorem q2102 : (Jvm.Cond.castable "java/util/ArrayList" "java/lang/Object") ∈ lw_tbl := lw_at lw_m9 64 rfl
theorem in_J2 : ∀ w ∈ wsJ20, w ∈ lw_all := lw_in wsJ20 [187, 183, 185] (by decide +kernel) (by decide +kernel)

/-! SupplyGrid$Sheet -/
set_option maxRecDepth 100000
def RX2 : String := "SupplyGrid$Sheet"
abbrev cX2_init : ByteArray := prog_10_method_1_code
def yX2_init : MethodName := ⟨RX2, "<init>", "(LSupplyGrid;)V"⟩
def dkwX2_init_0 : List UInt8 := [42, 43, 181, 0, 1, 42, 183, 0, 7, 177]
abbrev dktX2_init_0 : List UInt8 := dkwX2_init_0 ++ []
theorem dksX2_init_0 : cX2_init.data.toList.drop 0 = dktX2_init_0 := by decide +kernel
theorem dX2_init_0 : decode cX2_init 0 = .ok (.aload_n 0, 1) := dk_42 (dk_at dksX2_init_0 0 rfl rfl)
theorem dX2_init_1 : decode cX2_init 1 = .ok (.aload_n 1, 1) := dk_43 (dk_at dksX2_init_0 1 rfl rfl)
theorem dX2_init_2 : decode cX2_init 2 = .ok (.putfield 1, 3) := dk_181 0 1 (dk_at dksX2_init_0 2 rfl rfl)
theorem dX2_init_5 : decode cX2_init 5 = .ok (.aload_n 0, 1) := dk_42 (dk_at dksX2_init_0 5 rfl rfl)
theorem dX2_init_6 : decode cX2_init 6 = .ok (.invokespecial 7, 3) := dk_183 0 7 (dk_at dksX2_init_0 6 rfl rfl)
theorem dX2_init_9 : decode cX2_init 9 = .ok (.return_, 1) := dk_177 (dk_at dksX2_init_0 9 rfl rfl)
abbrev cX2_many : ByteArray := prog_10_method_3_code
def yX2_many : MethodName := ⟨RX2, "many", "()I"⟩
def dkwX2_many_0 : List UInt8 := [42, 180, 0, 1, 180, 0, 19, 182, 0, 23, 172]
abbrev dktX2_many_0 : List UInt8 := dkwX2_many_0 ++ []
theorem dksX2_many_0 : cX2_many.data.toList.drop 0 = dktX2_many_0 := by decide +kernel
theorem dX2_many_0 : decode cX2_many 0 = .ok (.aload_n 0, 1) := dk_42 (dk_at dksX2_many_0 0 rfl rfl)
theorem dX2_many_1 : decode cX2_many 1 = .ok (.getfield 1, 3) := dk_180 0 1 (dk_at dksX2_many_0 1 rfl rfl)
theorem dX2_many_4 : decode cX2_many 4 = .ok (.getfield 19, 3) := dk_180 0 19 (dk_at dksX2_many_0 4 rfl rfl)
theorem dX2_many_7 : decode cX2_many 7 = .ok (.invokevirtual 23, 3) := dk_182 0 23 (dk_at dksX2_many_0 7 rfl rfl)
theorem dX2_many_10 : decode cX2_many 10 = .ok (.ireturn, 1) := dk_172 (dk_at dksX2_many_0 10 rfl rfl)
abbrev cX2_isLive : ByteArray := prog_10_method_2_code
def yX2_isLive : MethodName := ⟨RX2, "isLive", "(I)Z"⟩
def dkwX2_isLive_0 : List UInt8 := [42, 180, 0, 1, 27, 182, 0, 13, 172]
abbrev dktX2_isLive_0 : List UInt8 := dkwX2_isLive_0 ++ []
theorem dksX2_isLive_0 : cX2_isLive.data.toList.drop 0 = dktX2_isLive_0 := by decide +kernel
theorem dX2_isLive_0 : decode cX2_isLive 0 = .ok (.aload_n 0, 1) := dk_42 (dk_at dksX2_isLive_0 0 rfl rfl)
theorem dX2_isLive_1 : decode cX2_isLive 1 = .ok (.getfield 1, 3) := dk_180 0 1 (dk_at dksX2_isLive_0 1 rfl rfl)
theorem dX2_isLive_4 : decode cX2_isLive 4 = .ok (.iload_n 1, 1) := dk_27 (dk_at dksX2_isLive_0 4 rfl rfl)
theorem dX2_isLive_5 : decode cX2_isLive 5 = .ok (.invokevirtual 13, 3) := dk_182 0 13 (dk_at dksX2_isLive_0 5 rfl rfl)
theorem dX2_isLive_8 : decode cX2_isLive 8 = .ok (.ireturn, 1) := dk_172 (dk_at dksX2_isLive_0 8 rfl rfl)
theorem q124 : (Jvm.Cond.initialized "SupplyGrid$Sheet") ∈ lw_all := lw_g (lw_at lw_m1 6 rfl) rfl
theorem q287 : (Jvm.Cond.instanceMethod ({ cls := "SupplyGrid$Sheet", name := "<init>", desc := "(LSupplyGrid;)V" } : Jvm.MethodName)) ∈ lw_all := lw_g (lw_at lw_m1 169 rfl) rfl
theorem q288 : (Jvm.Cond.code ({ cls := "SupplyGrid$Sheet", name := "<init>", desc := "(LSupplyGrid;)V" } : Jvm.MethodName) prog_10_method_1_code (2 : Nat) (Option.none : Option Jvm.ClassFile.FieldType)) ∈ lw_all := lw_g (lw_at lw_m1 170 rfl) rfl
theorem q289 : (Jvm.Cond.methodLink "SupplyGrid$Sheet" (7 : Nat) ({ cls := "java/lang/Object", name := "<init>", desc := "()V" } : Jvm.MethodName)) ∈ lw_all := lw_g (lw_at lw_m1 171 rfl) rfl
theorem q315 : (Jvm.Cond.fieldLink "SupplyGrid$Sheet" (1 : Nat) "SupplyGrid$Sheet" "this$0" "LSupplyGrid;") ∈ lw_all := lw_g (lw_at lw_m1 197 rfl) rfl
theorem q339 : (Jvm.Cond.soleField "SupplyGrid$Sheet" "this$0") ∈ lw_all := lw_g (lw_at lw_m1 221 rfl) rfl
theorem q344 : (Jvm.Cond.fieldLinkNest "SupplyGrid$Sheet" (19 : Nat) "SupplyGrid" "now" "LSupplyGrid$Told;" "SupplyGrid") ∈ lw_tbl := lw_at lw_m1 226 rfl
theorem q730 : (Jvm.Cond.declares ({ cls := "SupplyGrid$Sheet", name := "many", desc := "()I" } : Jvm.MethodName)) ∈ lw_tbl := lw_at lw_m3 132 rfl
theorem q732 : (Jvm.Cond.instanceMethod ({ cls := "SupplyGrid$Sheet", name := "many", desc := "()I" } : Jvm.MethodName)) ∈ lw_all := lw_g (lw_at lw_m3 134 rfl) rfl
theorem q733 : (Jvm.Cond.code ({ cls := "SupplyGrid$Sheet", name := "many", desc := "()I" } : Jvm.MethodName) prog_10_method_3_code (1 : Nat) (Option.some Jvm.ClassFile.FieldType.int)) ∈ lw_all := lw_g (lw_at lw_m3 135 rfl) rfl
theorem q734 : (Jvm.Cond.methodLink "SupplyGrid$Sheet" (23 : Nat) ({ cls := "SupplyGrid$Told", name := "many", desc := "()I" } : Jvm.MethodName)) ∈ lw_all := lw_g (lw_at lw_m3 136 rfl) rfl
theorem q785 : (Jvm.Cond.declares ({ cls := "SupplyGrid$Sheet", name := "isLive", desc := "(I)Z" } : Jvm.MethodName)) ∈ lw_tbl := lw_at lw_m3 187 rfl
theorem q787 : (Jvm.Cond.instanceMethod ({ cls := "SupplyGrid$Sheet", name := "isLive", desc := "(I)Z" } : Jvm.MethodName)) ∈ lw_all := lw_g (lw_at lw_m3 189 rfl) rfl
theorem q788 : (Jvm.Cond.code ({ cls := "SupplyGrid$Sheet", name := "isLive", desc := "(I)Z" } : Jvm.MethodName) prog_10_method_2_code (2 : Nat) (Option.some Jvm.ClassFile.FieldType.boolean)) ∈ lw_all := lw_g (lw_at lw_m3 190 rfl) rfl
theorem q789 : (Jvm.Cond.methodLinkNest "SupplyGrid$Sheet" (13 : Nat) ({ cls := "SupplyGrid", name := "isNode", desc := "(I)Z" } : Jvm.MethodName) "SupplyGrid") ∈ lw_tbl := lw_at lw_m3 191 rfl

/-! SupplyGrid$Fed -/
set_option maxRecDepth 100000
def RX3 : String := "SupplyGrid$Fed"
abbrev cX3_init : ByteArray := prog_6_method_1_code
def yX3_init : MethodName := ⟨RX3, "<init>", "(LSupplyGrid;)V"⟩
def dkwX3_init_1 : List UInt8 := [181, 0, 19, 177]
abbrev dktX3_init_1 : List UInt8 := dkwX3_init_1 ++ []
def dkwX3_init_0 : List UInt8 := [42, 43, 181, 0, 3, 42, 43, 183, 0, 9, 42, 16, 12, 188, 10, 181, 0, 15, 42, 16, 9, 188, 10]
abbrev dktX3_init_0 : List UInt8 := dkwX3_init_0 ++ dktX3_init_1
theorem dksX3_init_0 : cX3_init.data.toList.drop 0 = dktX3_init_0 := by decide +kernel
theorem dksX3_init_1 : cX3_init.data.toList.drop 23 = dktX3_init_1 := dk_seg dksX3_init_0 23 rfl rfl
theorem dX3_init_0 : decode cX3_init 0 = .ok (.aload_n 0, 1) := dk_42 (dk_at dksX3_init_0 0 rfl rfl)
theorem dX3_init_1 : decode cX3_init 1 = .ok (.aload_n 1, 1) := dk_43 (dk_at dksX3_init_0 1 rfl rfl)
theorem dX3_init_2 : decode cX3_init 2 = .ok (.putfield 3, 3) := dk_181 0 3 (dk_at dksX3_init_0 2 rfl rfl)
theorem dX3_init_5 : decode cX3_init 5 = .ok (.aload_n 0, 1) := dk_42 (dk_at dksX3_init_0 5 rfl rfl)
theorem dX3_init_6 : decode cX3_init 6 = .ok (.aload_n 1, 1) := dk_43 (dk_at dksX3_init_0 6 rfl rfl)
theorem dX3_init_7 : decode cX3_init 7 = .ok (.invokespecial 9, 3) := dk_183 0 9 (dk_at dksX3_init_0 7 rfl rfl)
theorem dX3_init_10 : decode cX3_init 10 = .ok (.aload_n 0, 1) := dk_42 (dk_at dksX3_init_0 10 rfl rfl)
theorem dX3_init_11 : decode cX3_init 11 = .ok (.bipush 12, 2) := dk_16 12 (dk_at dksX3_init_0 11 rfl rfl)
theorem dX3_init_13 : decode cX3_init 13 = .ok (.newarray .int, 2) := dk_188_10 (dk_at dksX3_init_0 13 rfl rfl)
theorem dX3_init_15 : decode cX3_init 15 = .ok (.putfield 15, 3) := dk_181 0 15 (dk_at dksX3_init_0 15 rfl rfl)
theorem dX3_init_18 : decode cX3_init 18 = .ok (.aload_n 0, 1) := dk_42 (dk_at dksX3_init_0 18 rfl rfl)
theorem dX3_init_19 : decode cX3_init 19 = .ok (.bipush 9, 2) := dk_16 9 (dk_at dksX3_init_0 19 rfl rfl)
theorem dX3_init_21 : decode cX3_init 21 = .ok (.newarray .int, 2) := dk_188_10 (dk_at dksX3_init_0 21 rfl rfl)
theorem dX3_init_23 : decode cX3_init 23 = .ok (.putfield 19, 3) := dk_181 0 19 (dk_at dksX3_init_1 0 rfl rfl)
theorem dX3_init_26 : decode cX3_init 26 = .ok (.return_, 1) := dk_177 (dk_at dksX3_init_1 3 rfl rfl)
abbrev cX3_takes : ByteArray := prog_6_method_2_code
def yX3_takes : MethodName := ⟨RX3, "takes", "()V"⟩
def dkwX3_takes_2 : List UInt8 := [180, 0, 3, 180, 0, 22, 180, 0, 36, 181, 0, 40, 177]
abbrev dktX3_takes_2 : List UInt8 := dkwX3_takes_2 ++ []
def dkwX3_takes_1 : List UInt8 := [180, 0, 3, 180, 0, 22, 180, 0, 35, 3, 42, 180, 0, 19, 3, 16, 9, 184, 0, 29, 42, 42]
abbrev dktX3_takes_1 : List UInt8 := dkwX3_takes_1 ++ dktX3_takes_2
def dkwX3_takes_0 : List UInt8 := [42, 180, 0, 3, 180, 0, 22, 180, 0, 26, 3, 42, 180, 0, 15, 3, 16, 12, 184, 0, 29, 42]
abbrev dktX3_takes_0 : List UInt8 := dkwX3_takes_0 ++ dktX3_takes_1
theorem dksX3_takes_0 : cX3_takes.data.toList.drop 0 = dktX3_takes_0 := by decide +kernel
theorem dksX3_takes_1 : cX3_takes.data.toList.drop 22 = dktX3_takes_1 := dk_seg dksX3_takes_0 22 rfl rfl
theorem dksX3_takes_2 : cX3_takes.data.toList.drop 44 = dktX3_takes_2 := dk_seg dksX3_takes_1 22 rfl rfl
theorem dX3_takes_0 : decode cX3_takes 0 = .ok (.aload_n 0, 1) := dk_42 (dk_at dksX3_takes_0 0 rfl rfl)
theorem dX3_takes_1 : decode cX3_takes 1 = .ok (.getfield 3, 3) := dk_180 0 3 (dk_at dksX3_takes_0 1 rfl rfl)
theorem dX3_takes_4 : decode cX3_takes 4 = .ok (.getfield 22, 3) := dk_180 0 22 (dk_at dksX3_takes_0 4 rfl rfl)
theorem dX3_takes_7 : decode cX3_takes 7 = .ok (.getfield 26, 3) := dk_180 0 26 (dk_at dksX3_takes_0 7 rfl rfl)
theorem dX3_takes_10 : decode cX3_takes 10 = .ok (.iconst 0, 1) := dk_3 (dk_at dksX3_takes_0 10 rfl rfl)
theorem dX3_takes_11 : decode cX3_takes 11 = .ok (.aload_n 0, 1) := dk_42 (dk_at dksX3_takes_0 11 rfl rfl)
theorem dX3_takes_12 : decode cX3_takes 12 = .ok (.getfield 15, 3) := dk_180 0 15 (dk_at dksX3_takes_0 12 rfl rfl)
theorem dX3_takes_15 : decode cX3_takes 15 = .ok (.iconst 0, 1) := dk_3 (dk_at dksX3_takes_0 15 rfl rfl)
theorem dX3_takes_16 : decode cX3_takes 16 = .ok (.bipush 12, 2) := dk_16 12 (dk_at dksX3_takes_0 16 rfl rfl)
theorem dX3_takes_18 : decode cX3_takes 18 = .ok (.invokestatic 29, 3) := dk_184 0 29 (dk_at dksX3_takes_0 18 rfl rfl)
theorem dX3_takes_21 : decode cX3_takes 21 = .ok (.aload_n 0, 1) := dk_42 (dk_at dksX3_takes_0 21 rfl rfl)
theorem dX3_takes_22 : decode cX3_takes 22 = .ok (.getfield 3, 3) := dk_180 0 3 (dk_at dksX3_takes_1 0 rfl rfl)
theorem dX3_takes_25 : decode cX3_takes 25 = .ok (.getfield 22, 3) := dk_180 0 22 (dk_at dksX3_takes_1 3 rfl rfl)
theorem dX3_takes_28 : decode cX3_takes 28 = .ok (.getfield 35, 3) := dk_180 0 35 (dk_at dksX3_takes_1 6 rfl rfl)
theorem dX3_takes_31 : decode cX3_takes 31 = .ok (.iconst 0, 1) := dk_3 (dk_at dksX3_takes_1 9 rfl rfl)
theorem dX3_takes_32 : decode cX3_takes 32 = .ok (.aload_n 0, 1) := dk_42 (dk_at dksX3_takes_1 10 rfl rfl)
theorem dX3_takes_33 : decode cX3_takes 33 = .ok (.getfield 19, 3) := dk_180 0 19 (dk_at dksX3_takes_1 11 rfl rfl)
theorem dX3_takes_36 : decode cX3_takes 36 = .ok (.iconst 0, 1) := dk_3 (dk_at dksX3_takes_1 14 rfl rfl)
theorem dX3_takes_37 : decode cX3_takes 37 = .ok (.bipush 9, 2) := dk_16 9 (dk_at dksX3_takes_1 15 rfl rfl)
theorem dX3_takes_39 : decode cX3_takes 39 = .ok (.invokestatic 29, 3) := dk_184 0 29 (dk_at dksX3_takes_1 17 rfl rfl)
theorem dX3_takes_42 : decode cX3_takes 42 = .ok (.aload_n 0, 1) := dk_42 (dk_at dksX3_takes_1 20 rfl rfl)
theorem dX3_takes_43 : decode cX3_takes 43 = .ok (.aload_n 0, 1) := dk_42 (dk_at dksX3_takes_1 21 rfl rfl)
theorem dX3_takes_44 : decode cX3_takes 44 = .ok (.getfield 3, 3) := dk_180 0 3 (dk_at dksX3_takes_2 0 rfl rfl)
theorem dX3_takes_47 : decode cX3_takes 47 = .ok (.getfield 22, 3) := dk_180 0 22 (dk_at dksX3_takes_2 3 rfl rfl)
theorem dX3_takes_50 : decode cX3_takes 50 = .ok (.getfield 36, 3) := dk_180 0 36 (dk_at dksX3_takes_2 6 rfl rfl)
theorem dX3_takes_53 : decode cX3_takes 53 = .ok (.putfield 40, 3) := dk_181 0 40 (dk_at dksX3_takes_2 9 rfl rfl)
theorem dX3_takes_56 : decode cX3_takes 56 = .ok (.return_, 1) := dk_177 (dk_at dksX3_takes_2 12 rfl rfl)
abbrev cX3_reach : ByteArray := prog_6_method_3_code
def yX3_reach : MethodName := ⟨RX3, "reach", "(I)I"⟩
def dkwX3_reach_5 : List UInt8 := [167, 255, 154, 167, 255, 141, 28, 172]
abbrev dktX3_reach_5 : List UInt8 := dkwX3_reach_5 ++ []
def dkwX3_reach_4 : List UInt8 := [120, 4, 42, 180, 0, 3, 180, 0, 22, 180, 0, 51, 21, 4, 46, 120, 128, 128, 61, 132, 4, 1]
abbrev dktX3_reach_4 : List UInt8 := dkwX3_reach_4 ++ dktX3_reach_5
def dkwX3_reach_3 : List UInt8 := [21, 4, 46, 184, 0, 47, 153, 0, 37, 28, 4, 42, 180, 0, 3, 180, 0, 22, 180, 0, 44, 21, 4, 46]
abbrev dktX3_reach_3 : List UInt8 := dkwX3_reach_3 ++ dktX3_reach_4
def dkwX3_reach_2 : List UInt8 := [180, 0, 44, 21, 4, 46, 184, 0, 47, 154, 0, 23, 28, 42, 180, 0, 3, 180, 0, 22, 180, 0, 51]
abbrev dktX3_reach_2 : List UInt8 := dkwX3_reach_2 ++ dktX3_reach_3
def dkwX3_reach_1 : List UInt8 := [180, 0, 41, 162, 0, 93, 42, 180, 0, 15, 21, 4, 46, 158, 0, 77, 28, 42, 180, 0, 3, 180, 0, 22]
abbrev dktX3_reach_1 : List UInt8 := dkwX3_reach_1 ++ dktX3_reach_2
def dkwX3_reach_0 : List UInt8 := [27, 61, 3, 62, 28, 29, 159, 0, 116, 28, 62, 3, 54, 4, 21, 4, 42, 180, 0, 3, 180, 0, 22]
abbrev dktX3_reach_0 : List UInt8 := dkwX3_reach_0 ++ dktX3_reach_1
theorem dksX3_reach_0 : cX3_reach.data.toList.drop 0 = dktX3_reach_0 := by decide +kernel
theorem dksX3_reach_1 : cX3_reach.data.toList.drop 23 = dktX3_reach_1 := dk_seg dksX3_reach_0 23 rfl rfl
theorem dksX3_reach_2 : cX3_reach.data.toList.drop 47 = dktX3_reach_2 := dk_seg dksX3_reach_1 24 rfl rfl
theorem dksX3_reach_3 : cX3_reach.data.toList.drop 70 = dktX3_reach_3 := dk_seg dksX3_reach_2 23 rfl rfl
theorem dksX3_reach_4 : cX3_reach.data.toList.drop 94 = dktX3_reach_4 := dk_seg dksX3_reach_3 24 rfl rfl
theorem dksX3_reach_5 : cX3_reach.data.toList.drop 116 = dktX3_reach_5 := dk_seg dksX3_reach_4 22 rfl rfl
theorem dX3_reach_0 : decode cX3_reach 0 = .ok (.iload_n 1, 1) := dk_27 (dk_at dksX3_reach_0 0 rfl rfl)
theorem dX3_reach_1 : decode cX3_reach 1 = .ok (.istore_n 2, 1) := dk_61 (dk_at dksX3_reach_0 1 rfl rfl)
theorem dX3_reach_2 : decode cX3_reach 2 = .ok (.iconst 0, 1) := dk_3 (dk_at dksX3_reach_0 2 rfl rfl)
theorem dX3_reach_3 : decode cX3_reach 3 = .ok (.istore_n 3, 1) := dk_62 (dk_at dksX3_reach_0 3 rfl rfl)
theorem dX3_reach_4 : decode cX3_reach 4 = .ok (.iload_n 2, 1) := dk_28 (dk_at dksX3_reach_0 4 rfl rfl)
theorem dX3_reach_5 : decode cX3_reach 5 = .ok (.iload_n 3, 1) := dk_29 (dk_at dksX3_reach_0 5 rfl rfl)
theorem dX3_reach_6 : decode cX3_reach 6 = .ok (.if_icmp .eq 116, 3) := dk_159 0 116 (dk_at dksX3_reach_0 6 rfl rfl)
theorem dX3_reach_9 : decode cX3_reach 9 = .ok (.iload_n 2, 1) := dk_28 (dk_at dksX3_reach_0 9 rfl rfl)
theorem dX3_reach_10 : decode cX3_reach 10 = .ok (.istore_n 3, 1) := dk_62 (dk_at dksX3_reach_0 10 rfl rfl)
theorem dX3_reach_11 : decode cX3_reach 11 = .ok (.iconst 0, 1) := dk_3 (dk_at dksX3_reach_0 11 rfl rfl)
theorem dX3_reach_12 : decode cX3_reach 12 = .ok (.istore 4, 2) := dk_54 4 (dk_at dksX3_reach_0 12 rfl rfl)
theorem dX3_reach_14 : decode cX3_reach 14 = .ok (.iload 4, 2) := dk_21 4 (dk_at dksX3_reach_0 14 rfl rfl)
theorem dX3_reach_16 : decode cX3_reach 16 = .ok (.aload_n 0, 1) := dk_42 (dk_at dksX3_reach_0 16 rfl rfl)
theorem dX3_reach_17 : decode cX3_reach 17 = .ok (.getfield 3, 3) := dk_180 0 3 (dk_at dksX3_reach_0 17 rfl rfl)
theorem dX3_reach_20 : decode cX3_reach 20 = .ok (.getfield 22, 3) := dk_180 0 22 (dk_at dksX3_reach_0 20 rfl rfl)
theorem dX3_reach_23 : decode cX3_reach 23 = .ok (.getfield 41, 3) := dk_180 0 41 (dk_at dksX3_reach_1 0 rfl rfl)
theorem dX3_reach_26 : decode cX3_reach 26 = .ok (.if_icmp .ge 93, 3) := dk_162 0 93 (dk_at dksX3_reach_1 3 rfl rfl)
theorem dX3_reach_29 : decode cX3_reach 29 = .ok (.aload_n 0, 1) := dk_42 (dk_at dksX3_reach_1 6 rfl rfl)
theorem dX3_reach_30 : decode cX3_reach 30 = .ok (.getfield 15, 3) := dk_180 0 15 (dk_at dksX3_reach_1 7 rfl rfl)
theorem dX3_reach_33 : decode cX3_reach 33 = .ok (.iload 4, 2) := dk_21 4 (dk_at dksX3_reach_1 10 rfl rfl)
theorem dX3_reach_35 : decode cX3_reach 35 = .ok (.iaload, 1) := dk_46 (dk_at dksX3_reach_1 12 rfl rfl)
theorem dX3_reach_36 : decode cX3_reach 36 = .ok (.ifCond .le 77, 3) := dk_158 0 77 (dk_at dksX3_reach_1 13 rfl rfl)
theorem dX3_reach_39 : decode cX3_reach 39 = .ok (.iload_n 2, 1) := dk_28 (dk_at dksX3_reach_1 16 rfl rfl)
theorem dX3_reach_40 : decode cX3_reach 40 = .ok (.aload_n 0, 1) := dk_42 (dk_at dksX3_reach_1 17 rfl rfl)
theorem dX3_reach_41 : decode cX3_reach 41 = .ok (.getfield 3, 3) := dk_180 0 3 (dk_at dksX3_reach_1 18 rfl rfl)
theorem dX3_reach_44 : decode cX3_reach 44 = .ok (.getfield 22, 3) := dk_180 0 22 (dk_at dksX3_reach_1 21 rfl rfl)
theorem dX3_reach_47 : decode cX3_reach 47 = .ok (.getfield 44, 3) := dk_180 0 44 (dk_at dksX3_reach_2 0 rfl rfl)
theorem dX3_reach_50 : decode cX3_reach 50 = .ok (.iload 4, 2) := dk_21 4 (dk_at dksX3_reach_2 3 rfl rfl)
theorem dX3_reach_52 : decode cX3_reach 52 = .ok (.iaload, 1) := dk_46 (dk_at dksX3_reach_2 5 rfl rfl)
theorem dX3_reach_53 : decode cX3_reach 53 = .ok (.invokestatic 47, 3) := dk_184 0 47 (dk_at dksX3_reach_2 6 rfl rfl)
theorem dX3_reach_56 : decode cX3_reach 56 = .ok (.ifCond .ne 23, 3) := dk_154 0 23 (dk_at dksX3_reach_2 9 rfl rfl)
theorem dX3_reach_59 : decode cX3_reach 59 = .ok (.iload_n 2, 1) := dk_28 (dk_at dksX3_reach_2 12 rfl rfl)
theorem dX3_reach_60 : decode cX3_reach 60 = .ok (.aload_n 0, 1) := dk_42 (dk_at dksX3_reach_2 13 rfl rfl)
theorem dX3_reach_61 : decode cX3_reach 61 = .ok (.getfield 3, 3) := dk_180 0 3 (dk_at dksX3_reach_2 14 rfl rfl)
theorem dX3_reach_64 : decode cX3_reach 64 = .ok (.getfield 22, 3) := dk_180 0 22 (dk_at dksX3_reach_2 17 rfl rfl)
theorem dX3_reach_67 : decode cX3_reach 67 = .ok (.getfield 51, 3) := dk_180 0 51 (dk_at dksX3_reach_2 20 rfl rfl)
theorem dX3_reach_70 : decode cX3_reach 70 = .ok (.iload 4, 2) := dk_21 4 (dk_at dksX3_reach_3 0 rfl rfl)
theorem dX3_reach_72 : decode cX3_reach 72 = .ok (.iaload, 1) := dk_46 (dk_at dksX3_reach_3 2 rfl rfl)
theorem dX3_reach_73 : decode cX3_reach 73 = .ok (.invokestatic 47, 3) := dk_184 0 47 (dk_at dksX3_reach_3 3 rfl rfl)
theorem dX3_reach_76 : decode cX3_reach 76 = .ok (.ifCond .eq 37, 3) := dk_153 0 37 (dk_at dksX3_reach_3 6 rfl rfl)
theorem dX3_reach_79 : decode cX3_reach 79 = .ok (.iload_n 2, 1) := dk_28 (dk_at dksX3_reach_3 9 rfl rfl)
theorem dX3_reach_80 : decode cX3_reach 80 = .ok (.iconst 1, 1) := dk_4 (dk_at dksX3_reach_3 10 rfl rfl)
theorem dX3_reach_81 : decode cX3_reach 81 = .ok (.aload_n 0, 1) := dk_42 (dk_at dksX3_reach_3 11 rfl rfl)
theorem dX3_reach_82 : decode cX3_reach 82 = .ok (.getfield 3, 3) := dk_180 0 3 (dk_at dksX3_reach_3 12 rfl rfl)
theorem dX3_reach_85 : decode cX3_reach 85 = .ok (.getfield 22, 3) := dk_180 0 22 (dk_at dksX3_reach_3 15 rfl rfl)
theorem dX3_reach_88 : decode cX3_reach 88 = .ok (.getfield 44, 3) := dk_180 0 44 (dk_at dksX3_reach_3 18 rfl rfl)
theorem dX3_reach_91 : decode cX3_reach 91 = .ok (.iload 4, 2) := dk_21 4 (dk_at dksX3_reach_3 21 rfl rfl)
theorem dX3_reach_93 : decode cX3_reach 93 = .ok (.iaload, 1) := dk_46 (dk_at dksX3_reach_3 23 rfl rfl)
theorem dX3_reach_94 : decode cX3_reach 94 = .ok (.ishl, 1) := dk_120 (dk_at dksX3_reach_4 0 rfl rfl)
theorem dX3_reach_95 : decode cX3_reach 95 = .ok (.iconst 1, 1) := dk_4 (dk_at dksX3_reach_4 1 rfl rfl)
theorem dX3_reach_96 : decode cX3_reach 96 = .ok (.aload_n 0, 1) := dk_42 (dk_at dksX3_reach_4 2 rfl rfl)
theorem dX3_reach_97 : decode cX3_reach 97 = .ok (.getfield 3, 3) := dk_180 0 3 (dk_at dksX3_reach_4 3 rfl rfl)
theorem dX3_reach_100 : decode cX3_reach 100 = .ok (.getfield 22, 3) := dk_180 0 22 (dk_at dksX3_reach_4 6 rfl rfl)
theorem dX3_reach_103 : decode cX3_reach 103 = .ok (.getfield 51, 3) := dk_180 0 51 (dk_at dksX3_reach_4 9 rfl rfl)
theorem dX3_reach_106 : decode cX3_reach 106 = .ok (.iload 4, 2) := dk_21 4 (dk_at dksX3_reach_4 12 rfl rfl)
theorem dX3_reach_108 : decode cX3_reach 108 = .ok (.iaload, 1) := dk_46 (dk_at dksX3_reach_4 14 rfl rfl)
theorem dX3_reach_109 : decode cX3_reach 109 = .ok (.ishl, 1) := dk_120 (dk_at dksX3_reach_4 15 rfl rfl)
theorem dX3_reach_110 : decode cX3_reach 110 = .ok (.ior, 1) := dk_128 (dk_at dksX3_reach_4 16 rfl rfl)
theorem dX3_reach_111 : decode cX3_reach 111 = .ok (.ior, 1) := dk_128 (dk_at dksX3_reach_4 17 rfl rfl)
theorem dX3_reach_112 : decode cX3_reach 112 = .ok (.istore_n 2, 1) := dk_61 (dk_at dksX3_reach_4 18 rfl rfl)
theorem dX3_reach_113 : decode cX3_reach 113 = .ok (.iinc 4 1, 3) := dk_132 4 1 (dk_at dksX3_reach_4 19 rfl rfl)
theorem dX3_reach_116 : decode cX3_reach 116 = .ok (.goto (-102), 3) := dk_167 255 154 (dk_at dksX3_reach_5 0 rfl rfl)
theorem dX3_reach_119 : decode cX3_reach 119 = .ok (.goto (-115), 3) := dk_167 255 141 (dk_at dksX3_reach_5 3 rfl rfl)
theorem dX3_reach_122 : decode cX3_reach 122 = .ok (.iload_n 2, 1) := dk_28 (dk_at dksX3_reach_5 6 rfl rfl)
theorem dX3_reach_123 : decode cX3_reach 123 = .ok (.ireturn, 1) := dk_172 (dk_at dksX3_reach_5 7 rfl rfl)
theorem q125 : (Jvm.Cond.initialized "SupplyGrid$Fed") ∈ lw_all := lw_g (lw_at lw_m1 7 rfl) rfl
theorem q193 : (Jvm.Cond.fieldLinkNest "SupplyGrid$Fed" (26 : Nat) "SupplyGrid$Told" "width" "[I" "SupplyGrid") ∈ lw_tbl := lw_at lw_m1 75 rfl
theorem q198 : (Jvm.Cond.fieldLinkNest "SupplyGrid$Fed" (44 : Nat) "SupplyGrid$Told" "from" "[I" "SupplyGrid") ∈ lw_tbl := lw_at lw_m1 80 rfl
theorem q202 : (Jvm.Cond.fieldLinkNest "SupplyGrid$Fed" (51 : Nat) "SupplyGrid$Told" "to" "[I" "SupplyGrid") ∈ lw_tbl := lw_at lw_m1 84 rfl
theorem q207 : (Jvm.Cond.fieldLinkNest "SupplyGrid$Fed" (35 : Nat) "SupplyGrid$Told" "load" "[I" "SupplyGrid") ∈ lw_tbl := lw_at lw_m1 89 rfl
theorem q236 : (Jvm.Cond.fieldLinkNest "SupplyGrid$Fed" (41 : Nat) "SupplyGrid$Told" "straps" "I" "SupplyGrid") ∈ lw_tbl := lw_at lw_m1 118 rfl
theorem q241 : (Jvm.Cond.fieldLinkNest "SupplyGrid$Fed" (36 : Nat) "SupplyGrid$Told" "pads" "I" "SupplyGrid") ∈ lw_tbl := lw_at lw_m1 123 rfl
theorem q284 : (Jvm.Cond.instanceMethod ({ cls := "SupplyGrid$Fed", name := "<init>", desc := "(LSupplyGrid;)V" } : Jvm.MethodName)) ∈ lw_all := lw_g (lw_at lw_m1 166 rfl) rfl
theorem q285 : (Jvm.Cond.code ({ cls := "SupplyGrid$Fed", name := "<init>", desc := "(LSupplyGrid;)V" } : Jvm.MethodName) prog_6_method_1_code (2 : Nat) (Option.none : Option Jvm.ClassFile.FieldType)) ∈ lw_all := lw_g (lw_at lw_m1 167 rfl) rfl
theorem q286 : (Jvm.Cond.methodLinkNest "SupplyGrid$Fed" (9 : Nat) ({ cls := "SupplyGrid$Sheet", name := "<init>", desc := "(LSupplyGrid;)V" } : Jvm.MethodName) "SupplyGrid") ∈ lw_tbl := lw_at lw_m1 168 rfl
theorem q300 : (Jvm.Cond.fieldLink "SupplyGrid$Fed" (15 : Nat) "SupplyGrid$Fed" "width" "[I") ∈ lw_all := lw_g (lw_at lw_m1 182 rfl) rfl
theorem q304 : (Jvm.Cond.fieldLink "SupplyGrid$Fed" (19 : Nat) "SupplyGrid$Fed" "load" "[I") ∈ lw_all := lw_g (lw_at lw_m1 186 rfl) rfl
theorem q308 : (Jvm.Cond.fieldLink "SupplyGrid$Fed" (40 : Nat) "SupplyGrid$Fed" "pads" "I") ∈ lw_all := lw_g (lw_at lw_m1 190 rfl) rfl
theorem q314 : (Jvm.Cond.fieldLink "SupplyGrid$Fed" (3 : Nat) "SupplyGrid$Fed" "this$0" "LSupplyGrid;") ∈ lw_all := lw_g (lw_at lw_m1 196 rfl) rfl
theorem q329 : (Jvm.Cond.soleField "SupplyGrid$Fed" "width") ∈ lw_all := lw_g (lw_at lw_m1 211 rfl) rfl
theorem q331 : (Jvm.Cond.soleField "SupplyGrid$Fed" "load") ∈ lw_all := lw_g (lw_at lw_m1 213 rfl) rfl
theorem q333 : (Jvm.Cond.soleField "SupplyGrid$Fed" "pads") ∈ lw_all := lw_g (lw_at lw_m1 215 rfl) rfl
theorem q335 : (Jvm.Cond.soleField "SupplyGrid$Fed" "reached") ∈ lw_all := lw_g (lw_at lw_m1 217 rfl) rfl
theorem q337 : (Jvm.Cond.soleField "SupplyGrid$Fed" "this$0") ∈ lw_all := lw_g (lw_at lw_m1 219 rfl) rfl
theorem q343 : (Jvm.Cond.fieldLinkNest "SupplyGrid$Fed" (22 : Nat) "SupplyGrid" "now" "LSupplyGrid$Told;" "SupplyGrid") ∈ lw_tbl := lw_at lw_m1 225 rfl
theorem q706 : (Jvm.Cond.declares ({ cls := "SupplyGrid$Fed", name := "takes", desc := "()V" } : Jvm.MethodName)) ∈ lw_tbl := lw_at lw_m3 108 rfl
theorem q708 : (Jvm.Cond.instanceMethod ({ cls := "SupplyGrid$Fed", name := "takes", desc := "()V" } : Jvm.MethodName)) ∈ lw_all := lw_g (lw_at lw_m3 110 rfl) rfl
theorem q709 : (Jvm.Cond.code ({ cls := "SupplyGrid$Fed", name := "takes", desc := "()V" } : Jvm.MethodName) prog_6_method_2_code (1 : Nat) (Option.none : Option Jvm.ClassFile.FieldType)) ∈ lw_all := lw_g (lw_at lw_m3 111 rfl) rfl
theorem q710 : (Jvm.Cond.methodLink "SupplyGrid$Fed" (29 : Nat) ({ cls := "java/lang/System", name := "arraycopy", desc := "(Ljava/lang/Object;ILjava/lang/Object;II)V" } : Jvm.MethodName)) ∈ lw_all := lw_g (lw_at lw_m3 112 rfl) rfl
theorem q719 : (Jvm.Cond.declares ({ cls := "SupplyGrid$Fed", name := "reach", desc := "(I)I" } : Jvm.MethodName)) ∈ lw_tbl := lw_at lw_m3 121 rfl
theorem q721 : (Jvm.Cond.instanceMethod ({ cls := "SupplyGrid$Fed", name := "reach", desc := "(I)I" } : Jvm.MethodName)) ∈ lw_all := lw_g (lw_at lw_m3 123 rfl) rfl
theorem q722 : (Jvm.Cond.code ({ cls := "SupplyGrid$Fed", name := "reach", desc := "(I)I" } : Jvm.MethodName) prog_6_method_3_code (5 : Nat) (Option.some Jvm.ClassFile.FieldType.int)) ∈ lw_all := lw_g (lw_at lw_m3 124 rfl) rfl
theorem q723 : (Jvm.Cond.methodLinkNest "SupplyGrid$Fed" (47 : Nat) ({ cls := "SupplyGrid", name := "isOn", desc := "(II)Z" } : Jvm.MethodName) "SupplyGrid") ∈ lw_tbl := lw_at lw_m3 125 rfl
theorem q784 : (Jvm.Cond.sameMethod "SupplyGrid$Fed" "SupplyGrid$Sheet" "isLive" "(I)Z") ∈ lw_all := lw_g (lw_at lw_m3 186 rfl) rfl
theorem q786 : (Jvm.Cond.superclass "SupplyGrid$Fed" "SupplyGrid$Sheet") ∈ lw_all := lw_g (lw_at lw_m3 188 rfl) rfl

/-! SupplyGrid$Solved -/
set_option maxRecDepth 100000
def RX4 : String := "SupplyGrid$Solved"
def TX4 : u_T := fun k => match k with
  | 0 => ("SupplyGrid$Sheet", "this$0", "LSupplyGrid;", true)
  | 1 => ("SupplyGrid$Fed", "width", "[I", true)
  | 2 => ("SupplyGrid$Fed", "load", "[I", true)
  | 3 => ("SupplyGrid$Fed", "pads", "I", false)
  | 4 => ("SupplyGrid$Fed", "reached", "I", false)
  | 5 => ("SupplyGrid$Fed", "this$0", "LSupplyGrid;", true)
  | 6 => ("SupplyGrid$Solved", "place", "[I", true)
  | 7 => ("SupplyGrid$Solved", "table", "[[J", true)
  | 8 => ("SupplyGrid$Solved", "drop", "[J", true)
  | 9 => ("SupplyGrid$Solved", "size", "I", false)
  | 10 => ("SupplyGrid$Solved", "whole", "J", false)
  | _ => ("SupplyGrid$Solved", "this$0", "LSupplyGrid;", true)
def tyX4 : Nat → FieldType := fun k => match k with
  | 0 => .object "SupplyGrid"
  | 1 => .array .int
  | 2 => .array .int
  | 3 => .int
  | 4 => .int
  | 5 => .object "SupplyGrid"
  | 6 => .array .int
  | 7 => .array (.array .long)
  | 8 => .array .long
  | 9 => .int
  | 10 => .long
  | _ => .object "SupplyGrid"
abbrev wsX40 : List Cond := u_ws RX4 TX4 12
-- two fields of one name: no nmX4
theorem tyX4_ok : ∀ k, k < 12 → parseFieldDescriptor (TX4 k).2.2.1 = some (tyX4 k) := by decide +kernel
abbrev cX4_init : ByteArray := prog_11_method_1_code
def yX4_init : MethodName := ⟨RX4, "<init>", "(LSupplyGrid;)V"⟩
def dkwX4_init_1 : List UInt8 := [197, 0, 19, 2, 181, 0, 21, 42, 16, 9, 188, 11, 181, 0, 24, 177]
abbrev dktX4_init_1 : List UInt8 := dkwX4_init_1 ++ []
def dkwX4_init_0 : List UInt8 := [42, 43, 181, 0, 3, 42, 43, 183, 0, 9, 42, 16, 9, 188, 10, 181, 0, 15, 42, 16, 9, 16, 18]
abbrev dktX4_init_0 : List UInt8 := dkwX4_init_0 ++ dktX4_init_1
theorem dksX4_init_0 : cX4_init.data.toList.drop 0 = dktX4_init_0 := by decide +kernel
theorem dksX4_init_1 : cX4_init.data.toList.drop 23 = dktX4_init_1 := dk_seg dksX4_init_0 23 rfl rfl
theorem dX4_init_0 : decode cX4_init 0 = .ok (.aload_n 0, 1) := dk_42 (dk_at dksX4_init_0 0 rfl rfl)
theorem dX4_init_1 : decode cX4_init 1 = .ok (.aload_n 1, 1) := dk_43 (dk_at dksX4_init_0 1 rfl rfl)
theorem dX4_init_2 : decode cX4_init 2 = .ok (.putfield 3, 3) := dk_181 0 3 (dk_at dksX4_init_0 2 rfl rfl)
theorem dX4_init_5 : decode cX4_init 5 = .ok (.aload_n 0, 1) := dk_42 (dk_at dksX4_init_0 5 rfl rfl)
theorem dX4_init_6 : decode cX4_init 6 = .ok (.aload_n 1, 1) := dk_43 (dk_at dksX4_init_0 6 rfl rfl)
theorem dX4_init_7 : decode cX4_init 7 = .ok (.invokespecial 9, 3) := dk_183 0 9 (dk_at dksX4_init_0 7 rfl rfl)
theorem dX4_init_10 : decode cX4_init 10 = .ok (.aload_n 0, 1) := dk_42 (dk_at dksX4_init_0 10 rfl rfl)
theorem dX4_init_11 : decode cX4_init 11 = .ok (.bipush 9, 2) := dk_16 9 (dk_at dksX4_init_0 11 rfl rfl)
theorem dX4_init_13 : decode cX4_init 13 = .ok (.newarray .int, 2) := dk_188_10 (dk_at dksX4_init_0 13 rfl rfl)
theorem dX4_init_15 : decode cX4_init 15 = .ok (.putfield 15, 3) := dk_181 0 15 (dk_at dksX4_init_0 15 rfl rfl)
theorem dX4_init_18 : decode cX4_init 18 = .ok (.aload_n 0, 1) := dk_42 (dk_at dksX4_init_0 18 rfl rfl)
theorem dX4_init_19 : decode cX4_init 19 = .ok (.bipush 9, 2) := dk_16 9 (dk_at dksX4_init_0 19 rfl rfl)
theorem dX4_init_21 : decode cX4_init 21 = .ok (.bipush 18, 2) := dk_16 18 (dk_at dksX4_init_0 21 rfl rfl)
theorem dX4_init_23 : decode cX4_init 23 = .ok (.multianewarray 19 2, 4) := by decide +kernel
theorem dX4_init_27 : decode cX4_init 27 = .ok (.putfield 21, 3) := dk_181 0 21 (dk_at dksX4_init_1 4 rfl rfl)
theorem dX4_init_30 : decode cX4_init 30 = .ok (.aload_n 0, 1) := dk_42 (dk_at dksX4_init_1 7 rfl rfl)
theorem dX4_init_31 : decode cX4_init 31 = .ok (.bipush 9, 2) := dk_16 9 (dk_at dksX4_init_1 8 rfl rfl)
theorem dX4_init_33 : decode cX4_init 33 = .ok (.newarray .long, 2) := dk_188_11 (dk_at dksX4_init_1 10 rfl rfl)
theorem dX4_init_35 : decode cX4_init 35 = .ok (.putfield 24, 3) := dk_181 0 24 (dk_at dksX4_init_1 12 rfl rfl)
theorem dX4_init_38 : decode cX4_init 38 = .ok (.return_, 1) := dk_177 (dk_at dksX4_init_1 15 rfl rfl)
abbrev cX4_solves : ByteArray := prog_11_method_7_code
def yX4_solves : MethodName := ⟨RX4, "solves", "()LSupplyGrid$Solved;"⟩
def dkwX4_solves_3 : List UInt8 := [97, 80, 132, 2, 1, 167, 255, 222, 132, 1, 1, 167, 255, 199, 42, 176]
abbrev dktX4_solves_3 : List UInt8 := dkwX4_solves_3 ++ []
def dkwX4_solves_2 : List UInt8 := [162, 0, 32, 42, 180, 0, 24, 27, 92, 47, 42, 180, 0, 88, 28, 46, 133, 42, 27, 28, 182, 0, 91, 105]
abbrev dktX4_solves_2 : List UInt8 := dkwX4_solves_2 ++ dktX4_solves_3
def dkwX4_solves_1 : List UInt8 := [3, 60, 27, 42, 182, 0, 43, 162, 0, 55, 42, 180, 0, 24, 27, 9, 80, 3, 61, 28, 42, 182, 0, 43]
abbrev dktX4_solves_1 : List UInt8 := dkwX4_solves_1 ++ dktX4_solves_2
def dkwX4_solves_0 : List UInt8 := [42, 42, 42, 180, 0, 77, 182, 0, 80, 181, 0, 32, 42, 42, 180, 0, 32, 42, 180, 0, 77, 182, 0, 84]
abbrev dktX4_solves_0 : List UInt8 := dkwX4_solves_0 ++ dktX4_solves_1
theorem dksX4_solves_0 : cX4_solves.data.toList.drop 0 = dktX4_solves_0 := by decide +kernel
theorem dksX4_solves_1 : cX4_solves.data.toList.drop 24 = dktX4_solves_1 := dk_seg dksX4_solves_0 24 rfl rfl
theorem dksX4_solves_2 : cX4_solves.data.toList.drop 48 = dktX4_solves_2 := dk_seg dksX4_solves_1 24 rfl rfl
theorem dksX4_solves_3 : cX4_solves.data.toList.drop 72 = dktX4_solves_3 := dk_seg dksX4_solves_2 24 rfl rfl
theorem dX4_solves_0 : decode cX4_solves 0 = .ok (.aload_n 0, 1) := dk_42 (dk_at dksX4_solves_0 0 rfl rfl)
theorem dX4_solves_1 : decode cX4_solves 1 = .ok (.aload_n 0, 1) := dk_42 (dk_at dksX4_solves_0 1 rfl rfl)
theorem dX4_solves_2 : decode cX4_solves 2 = .ok (.aload_n 0, 1) := dk_42 (dk_at dksX4_solves_0 2 rfl rfl)
theorem dX4_solves_3 : decode cX4_solves 3 = .ok (.getfield 77, 3) := dk_180 0 77 (dk_at dksX4_solves_0 3 rfl rfl)
theorem dX4_solves_6 : decode cX4_solves 6 = .ok (.invokevirtual 80, 3) := dk_182 0 80 (dk_at dksX4_solves_0 6 rfl rfl)
theorem dX4_solves_9 : decode cX4_solves 9 = .ok (.putfield 32, 3) := dk_181 0 32 (dk_at dksX4_solves_0 9 rfl rfl)
theorem dX4_solves_12 : decode cX4_solves 12 = .ok (.aload_n 0, 1) := dk_42 (dk_at dksX4_solves_0 12 rfl rfl)
theorem dX4_solves_13 : decode cX4_solves 13 = .ok (.aload_n 0, 1) := dk_42 (dk_at dksX4_solves_0 13 rfl rfl)
theorem dX4_solves_14 : decode cX4_solves 14 = .ok (.getfield 32, 3) := dk_180 0 32 (dk_at dksX4_solves_0 14 rfl rfl)
theorem dX4_solves_17 : decode cX4_solves 17 = .ok (.aload_n 0, 1) := dk_42 (dk_at dksX4_solves_0 17 rfl rfl)
theorem dX4_solves_18 : decode cX4_solves 18 = .ok (.getfield 77, 3) := dk_180 0 77 (dk_at dksX4_solves_0 18 rfl rfl)
theorem dX4_solves_21 : decode cX4_solves 21 = .ok (.invokevirtual 84, 3) := dk_182 0 84 (dk_at dksX4_solves_0 21 rfl rfl)
theorem dX4_solves_24 : decode cX4_solves 24 = .ok (.iconst 0, 1) := dk_3 (dk_at dksX4_solves_1 0 rfl rfl)
theorem dX4_solves_25 : decode cX4_solves 25 = .ok (.istore_n 1, 1) := dk_60 (dk_at dksX4_solves_1 1 rfl rfl)
theorem dX4_solves_26 : decode cX4_solves 26 = .ok (.iload_n 1, 1) := dk_27 (dk_at dksX4_solves_1 2 rfl rfl)
theorem dX4_solves_27 : decode cX4_solves 27 = .ok (.aload_n 0, 1) := dk_42 (dk_at dksX4_solves_1 3 rfl rfl)
theorem dX4_solves_28 : decode cX4_solves 28 = .ok (.invokevirtual 43, 3) := dk_182 0 43 (dk_at dksX4_solves_1 4 rfl rfl)
theorem dX4_solves_31 : decode cX4_solves 31 = .ok (.if_icmp .ge 55, 3) := dk_162 0 55 (dk_at dksX4_solves_1 7 rfl rfl)
theorem dX4_solves_34 : decode cX4_solves 34 = .ok (.aload_n 0, 1) := dk_42 (dk_at dksX4_solves_1 10 rfl rfl)
theorem dX4_solves_35 : decode cX4_solves 35 = .ok (.getfield 24, 3) := dk_180 0 24 (dk_at dksX4_solves_1 11 rfl rfl)
theorem dX4_solves_38 : decode cX4_solves 38 = .ok (.iload_n 1, 1) := dk_27 (dk_at dksX4_solves_1 14 rfl rfl)
theorem dX4_solves_39 : decode cX4_solves 39 = .ok (.lconst 0, 1) := dk_9 (dk_at dksX4_solves_1 15 rfl rfl)
theorem dX4_solves_40 : decode cX4_solves 40 = .ok (.lastore, 1) := dk_80 (dk_at dksX4_solves_1 16 rfl rfl)
theorem dX4_solves_41 : decode cX4_solves 41 = .ok (.iconst 0, 1) := dk_3 (dk_at dksX4_solves_1 17 rfl rfl)
theorem dX4_solves_42 : decode cX4_solves 42 = .ok (.istore_n 2, 1) := dk_61 (dk_at dksX4_solves_1 18 rfl rfl)
theorem dX4_solves_43 : decode cX4_solves 43 = .ok (.iload_n 2, 1) := dk_28 (dk_at dksX4_solves_1 19 rfl rfl)
theorem dX4_solves_44 : decode cX4_solves 44 = .ok (.aload_n 0, 1) := dk_42 (dk_at dksX4_solves_1 20 rfl rfl)
theorem dX4_solves_45 : decode cX4_solves 45 = .ok (.invokevirtual 43, 3) := dk_182 0 43 (dk_at dksX4_solves_1 21 rfl rfl)
theorem dX4_solves_48 : decode cX4_solves 48 = .ok (.if_icmp .ge 32, 3) := dk_162 0 32 (dk_at dksX4_solves_2 0 rfl rfl)
theorem dX4_solves_51 : decode cX4_solves 51 = .ok (.aload_n 0, 1) := dk_42 (dk_at dksX4_solves_2 3 rfl rfl)
theorem dX4_solves_52 : decode cX4_solves 52 = .ok (.getfield 24, 3) := dk_180 0 24 (dk_at dksX4_solves_2 4 rfl rfl)
theorem dX4_solves_55 : decode cX4_solves 55 = .ok (.iload_n 1, 1) := dk_27 (dk_at dksX4_solves_2 7 rfl rfl)
theorem dX4_solves_56 : decode cX4_solves 56 = .ok (.dup2, 1) := dk_92 (dk_at dksX4_solves_2 8 rfl rfl)
theorem dX4_solves_57 : decode cX4_solves 57 = .ok (.laload, 1) := dk_47 (dk_at dksX4_solves_2 9 rfl rfl)
theorem dX4_solves_58 : decode cX4_solves 58 = .ok (.aload_n 0, 1) := dk_42 (dk_at dksX4_solves_2 10 rfl rfl)
theorem dX4_solves_59 : decode cX4_solves 59 = .ok (.getfield 88, 3) := dk_180 0 88 (dk_at dksX4_solves_2 11 rfl rfl)
theorem dX4_solves_62 : decode cX4_solves 62 = .ok (.iload_n 2, 1) := dk_28 (dk_at dksX4_solves_2 14 rfl rfl)
theorem dX4_solves_63 : decode cX4_solves 63 = .ok (.iaload, 1) := dk_46 (dk_at dksX4_solves_2 15 rfl rfl)
theorem dX4_solves_64 : decode cX4_solves 64 = .ok (.i2l, 1) := dk_133 (dk_at dksX4_solves_2 16 rfl rfl)
theorem dX4_solves_65 : decode cX4_solves 65 = .ok (.aload_n 0, 1) := dk_42 (dk_at dksX4_solves_2 17 rfl rfl)
theorem dX4_solves_66 : decode cX4_solves 66 = .ok (.iload_n 1, 1) := dk_27 (dk_at dksX4_solves_2 18 rfl rfl)
theorem dX4_solves_67 : decode cX4_solves 67 = .ok (.iload_n 2, 1) := dk_28 (dk_at dksX4_solves_2 19 rfl rfl)
theorem dX4_solves_68 : decode cX4_solves 68 = .ok (.invokevirtual 91, 3) := dk_182 0 91 (dk_at dksX4_solves_2 20 rfl rfl)
theorem dX4_solves_71 : decode cX4_solves 71 = .ok (.lmul, 1) := dk_105 (dk_at dksX4_solves_2 23 rfl rfl)
theorem dX4_solves_72 : decode cX4_solves 72 = .ok (.ladd, 1) := dk_97 (dk_at dksX4_solves_3 0 rfl rfl)
theorem dX4_solves_73 : decode cX4_solves 73 = .ok (.lastore, 1) := dk_80 (dk_at dksX4_solves_3 1 rfl rfl)
theorem dX4_solves_74 : decode cX4_solves 74 = .ok (.iinc 2 1, 3) := dk_132 2 1 (dk_at dksX4_solves_3 2 rfl rfl)
theorem dX4_solves_77 : decode cX4_solves 77 = .ok (.goto (-34), 3) := dk_167 255 222 (dk_at dksX4_solves_3 5 rfl rfl)
theorem dX4_solves_80 : decode cX4_solves 80 = .ok (.iinc 1 1, 3) := dk_132 1 1 (dk_at dksX4_solves_3 8 rfl rfl)
theorem dX4_solves_83 : decode cX4_solves 83 = .ok (.goto (-57), 3) := dk_167 255 199 (dk_at dksX4_solves_3 11 rfl rfl)
theorem dX4_solves_86 : decode cX4_solves 86 = .ok (.aload_n 0, 1) := dk_42 (dk_at dksX4_solves_3 14 rfl rfl)
theorem dX4_solves_87 : decode cX4_solves 87 = .ok (.areturn, 1) := dk_176 (dk_at dksX4_solves_3 15 rfl rfl)
abbrev cX4_lays : ByteArray := prog_11_method_3_code
def yX4_lays : MethodName := ⟨RX4, "lays", "(II)V"⟩
def dkwX4_lays_10 : List UInt8 := [182, 0, 65, 132, 3, 1, 167, 255, 151, 42, 182, 0, 69, 177]
abbrev dktX4_lays_10 : List UInt8 := dkwX4_lays_10 ++ []
def dkwX4_lays_9 : List UInt8 := [180, 0, 15, 42, 180, 0, 3, 180, 0, 47, 180, 0, 56, 29, 46, 46, 42, 180, 0, 62, 29, 46]
abbrev dktX4_lays_9 : List UInt8 := dkwX4_lays_9 ++ dktX4_lays_10
def dkwX4_lays_8 : List UInt8 := [182, 0, 65, 42, 42, 180, 0, 15, 42, 180, 0, 3, 180, 0, 47, 180, 0, 59, 29, 46, 46, 42]
abbrev dktX4_lays_8 : List UInt8 := dkwX4_lays_8 ++ dktX4_lays_9
def dkwX4_lays_7 : List UInt8 := [180, 0, 15, 42, 180, 0, 3, 180, 0, 47, 180, 0, 59, 29, 46, 46, 42, 180, 0, 62, 29, 46]
abbrev dktX4_lays_7 : List UInt8 := dkwX4_lays_7 ++ dktX4_lays_8
def dkwX4_lays_6 : List UInt8 := [162, 0, 97, 42, 42, 180, 0, 15, 42, 180, 0, 3, 180, 0, 47, 180, 0, 56, 29, 46, 46, 42]
abbrev dktX4_lays_6 : List UInt8 := dkwX4_lays_6 ++ dktX4_lays_7
def dkwX4_lays_5 : List UInt8 := [167, 255, 217, 132, 3, 1, 167, 255, 200, 3, 62, 29, 42, 180, 0, 3, 180, 0, 47, 180, 0, 51]
abbrev dktX4_lays_5 : List UInt8 := dkwX4_lays_5 ++ dktX4_lays_6
def dkwX4_lays_4 : List UInt8 := [29, 50, 21, 4, 21, 4, 42, 180, 0, 40, 29, 96, 160, 0, 7, 10, 167, 0, 4, 9, 80, 132, 4, 1]
abbrev dktX4_lays_4 : List UInt8 := dkwX4_lays_4 ++ dktX4_lays_5
def dkwX4_lays_3 : List UInt8 := [180, 0, 40, 162, 0, 54, 3, 54, 4, 21, 4, 5, 42, 180, 0, 40, 104, 162, 0, 34, 42, 180, 0, 21]
abbrev dktX4_lays_3 : List UInt8 := dkwX4_lays_3 ++ dktX4_lays_4
def dkwX4_lays_2 : List UInt8 := [180, 0, 40, 79, 42, 89, 180, 0, 40, 4, 96, 181, 0, 40, 132, 3, 1, 167, 255, 199, 3, 62, 29, 42]
abbrev dktX4_lays_2 : List UInt8 := dkwX4_lays_2 ++ dktX4_lays_3
def dkwX4_lays_1 : List UInt8 := [184, 0, 36, 153, 0, 34, 28, 29, 184, 0, 36, 153, 0, 6, 167, 0, 23, 42, 180, 0, 15, 29, 42]
abbrev dktX4_lays_1 : List UInt8 := dkwX4_lays_1 ++ dktX4_lays_2
def dkwX4_lays_0 : List UInt8 := [42, 3, 181, 0, 40, 3, 62, 29, 42, 182, 0, 43, 162, 0, 55, 42, 180, 0, 15, 29, 2, 79, 27, 29]
abbrev dktX4_lays_0 : List UInt8 := dkwX4_lays_0 ++ dktX4_lays_1
theorem dksX4_lays_0 : cX4_lays.data.toList.drop 0 = dktX4_lays_0 := by decide +kernel
theorem dksX4_lays_1 : cX4_lays.data.toList.drop 24 = dktX4_lays_1 := dk_seg dksX4_lays_0 24 rfl rfl
theorem dksX4_lays_2 : cX4_lays.data.toList.drop 47 = dktX4_lays_2 := dk_seg dksX4_lays_1 23 rfl rfl
theorem dksX4_lays_3 : cX4_lays.data.toList.drop 71 = dktX4_lays_3 := dk_seg dksX4_lays_2 24 rfl rfl
theorem dksX4_lays_4 : cX4_lays.data.toList.drop 95 = dktX4_lays_4 := dk_seg dksX4_lays_3 24 rfl rfl
theorem dksX4_lays_5 : cX4_lays.data.toList.drop 119 = dktX4_lays_5 := dk_seg dksX4_lays_4 24 rfl rfl
theorem dksX4_lays_6 : cX4_lays.data.toList.drop 141 = dktX4_lays_6 := dk_seg dksX4_lays_5 22 rfl rfl
theorem dksX4_lays_7 : cX4_lays.data.toList.drop 163 = dktX4_lays_7 := dk_seg dksX4_lays_6 22 rfl rfl
theorem dksX4_lays_8 : cX4_lays.data.toList.drop 185 = dktX4_lays_8 := dk_seg dksX4_lays_7 22 rfl rfl
theorem dksX4_lays_9 : cX4_lays.data.toList.drop 207 = dktX4_lays_9 := dk_seg dksX4_lays_8 22 rfl rfl
theorem dksX4_lays_10 : cX4_lays.data.toList.drop 229 = dktX4_lays_10 := dk_seg dksX4_lays_9 22 rfl rfl
theorem dX4_lays_0 : decode cX4_lays 0 = .ok (.aload_n 0, 1) := dk_42 (dk_at dksX4_lays_0 0 rfl rfl)
theorem dX4_lays_1 : decode cX4_lays 1 = .ok (.iconst 0, 1) := dk_3 (dk_at dksX4_lays_0 1 rfl rfl)
theorem dX4_lays_2 : decode cX4_lays 2 = .ok (.putfield 40, 3) := dk_181 0 40 (dk_at dksX4_lays_0 2 rfl rfl)
theorem dX4_lays_5 : decode cX4_lays 5 = .ok (.iconst 0, 1) := dk_3 (dk_at dksX4_lays_0 5 rfl rfl)
theorem dX4_lays_6 : decode cX4_lays 6 = .ok (.istore_n 3, 1) := dk_62 (dk_at dksX4_lays_0 6 rfl rfl)
theorem dX4_lays_7 : decode cX4_lays 7 = .ok (.iload_n 3, 1) := dk_29 (dk_at dksX4_lays_0 7 rfl rfl)
theorem dX4_lays_8 : decode cX4_lays 8 = .ok (.aload_n 0, 1) := dk_42 (dk_at dksX4_lays_0 8 rfl rfl)
theorem dX4_lays_9 : decode cX4_lays 9 = .ok (.invokevirtual 43, 3) := dk_182 0 43 (dk_at dksX4_lays_0 9 rfl rfl)
theorem dX4_lays_12 : decode cX4_lays 12 = .ok (.if_icmp .ge 55, 3) := dk_162 0 55 (dk_at dksX4_lays_0 12 rfl rfl)
theorem dX4_lays_15 : decode cX4_lays 15 = .ok (.aload_n 0, 1) := dk_42 (dk_at dksX4_lays_0 15 rfl rfl)
theorem dX4_lays_16 : decode cX4_lays 16 = .ok (.getfield 15, 3) := dk_180 0 15 (dk_at dksX4_lays_0 16 rfl rfl)
theorem dX4_lays_19 : decode cX4_lays 19 = .ok (.iload_n 3, 1) := dk_29 (dk_at dksX4_lays_0 19 rfl rfl)
theorem dX4_lays_20 : decode cX4_lays 20 = .ok (.iconst (-1), 1) := dk_2 (dk_at dksX4_lays_0 20 rfl rfl)
theorem dX4_lays_21 : decode cX4_lays 21 = .ok (.iastore, 1) := dk_79 (dk_at dksX4_lays_0 21 rfl rfl)
theorem dX4_lays_22 : decode cX4_lays 22 = .ok (.iload_n 1, 1) := dk_27 (dk_at dksX4_lays_0 22 rfl rfl)
theorem dX4_lays_23 : decode cX4_lays 23 = .ok (.iload_n 3, 1) := dk_29 (dk_at dksX4_lays_0 23 rfl rfl)
theorem dX4_lays_24 : decode cX4_lays 24 = .ok (.invokestatic 36, 3) := dk_184 0 36 (dk_at dksX4_lays_1 0 rfl rfl)
theorem dX4_lays_27 : decode cX4_lays 27 = .ok (.ifCond .eq 34, 3) := dk_153 0 34 (dk_at dksX4_lays_1 3 rfl rfl)
theorem dX4_lays_30 : decode cX4_lays 30 = .ok (.iload_n 2, 1) := dk_28 (dk_at dksX4_lays_1 6 rfl rfl)
theorem dX4_lays_31 : decode cX4_lays 31 = .ok (.iload_n 3, 1) := dk_29 (dk_at dksX4_lays_1 7 rfl rfl)
theorem dX4_lays_32 : decode cX4_lays 32 = .ok (.invokestatic 36, 3) := dk_184 0 36 (dk_at dksX4_lays_1 8 rfl rfl)
theorem dX4_lays_35 : decode cX4_lays 35 = .ok (.ifCond .eq 6, 3) := dk_153 0 6 (dk_at dksX4_lays_1 11 rfl rfl)
theorem dX4_lays_38 : decode cX4_lays 38 = .ok (.goto 23, 3) := dk_167 0 23 (dk_at dksX4_lays_1 14 rfl rfl)
theorem dX4_lays_41 : decode cX4_lays 41 = .ok (.aload_n 0, 1) := dk_42 (dk_at dksX4_lays_1 17 rfl rfl)
theorem dX4_lays_42 : decode cX4_lays 42 = .ok (.getfield 15, 3) := dk_180 0 15 (dk_at dksX4_lays_1 18 rfl rfl)
theorem dX4_lays_45 : decode cX4_lays 45 = .ok (.iload_n 3, 1) := dk_29 (dk_at dksX4_lays_1 21 rfl rfl)
theorem dX4_lays_46 : decode cX4_lays 46 = .ok (.aload_n 0, 1) := dk_42 (dk_at dksX4_lays_1 22 rfl rfl)
theorem dX4_lays_47 : decode cX4_lays 47 = .ok (.getfield 40, 3) := dk_180 0 40 (dk_at dksX4_lays_2 0 rfl rfl)
theorem dX4_lays_50 : decode cX4_lays 50 = .ok (.iastore, 1) := dk_79 (dk_at dksX4_lays_2 3 rfl rfl)
theorem dX4_lays_51 : decode cX4_lays 51 = .ok (.aload_n 0, 1) := dk_42 (dk_at dksX4_lays_2 4 rfl rfl)
theorem dX4_lays_52 : decode cX4_lays 52 = .ok (.dup, 1) := dk_89 (dk_at dksX4_lays_2 5 rfl rfl)
theorem dX4_lays_53 : decode cX4_lays 53 = .ok (.getfield 40, 3) := dk_180 0 40 (dk_at dksX4_lays_2 6 rfl rfl)
theorem dX4_lays_56 : decode cX4_lays 56 = .ok (.iconst 1, 1) := dk_4 (dk_at dksX4_lays_2 9 rfl rfl)
theorem dX4_lays_57 : decode cX4_lays 57 = .ok (.iadd, 1) := dk_96 (dk_at dksX4_lays_2 10 rfl rfl)
theorem dX4_lays_58 : decode cX4_lays 58 = .ok (.putfield 40, 3) := dk_181 0 40 (dk_at dksX4_lays_2 11 rfl rfl)
theorem dX4_lays_61 : decode cX4_lays 61 = .ok (.iinc 3 1, 3) := dk_132 3 1 (dk_at dksX4_lays_2 14 rfl rfl)
theorem dX4_lays_64 : decode cX4_lays 64 = .ok (.goto (-57), 3) := dk_167 255 199 (dk_at dksX4_lays_2 17 rfl rfl)
theorem dX4_lays_67 : decode cX4_lays 67 = .ok (.iconst 0, 1) := dk_3 (dk_at dksX4_lays_2 20 rfl rfl)
theorem dX4_lays_68 : decode cX4_lays 68 = .ok (.istore_n 3, 1) := dk_62 (dk_at dksX4_lays_2 21 rfl rfl)
theorem dX4_lays_69 : decode cX4_lays 69 = .ok (.iload_n 3, 1) := dk_29 (dk_at dksX4_lays_2 22 rfl rfl)
theorem dX4_lays_70 : decode cX4_lays 70 = .ok (.aload_n 0, 1) := dk_42 (dk_at dksX4_lays_2 23 rfl rfl)
theorem dX4_lays_71 : decode cX4_lays 71 = .ok (.getfield 40, 3) := dk_180 0 40 (dk_at dksX4_lays_3 0 rfl rfl)
theorem dX4_lays_74 : decode cX4_lays 74 = .ok (.if_icmp .ge 54, 3) := dk_162 0 54 (dk_at dksX4_lays_3 3 rfl rfl)
theorem dX4_lays_77 : decode cX4_lays 77 = .ok (.iconst 0, 1) := dk_3 (dk_at dksX4_lays_3 6 rfl rfl)
theorem dX4_lays_78 : decode cX4_lays 78 = .ok (.istore 4, 2) := dk_54 4 (dk_at dksX4_lays_3 7 rfl rfl)
theorem dX4_lays_80 : decode cX4_lays 80 = .ok (.iload 4, 2) := dk_21 4 (dk_at dksX4_lays_3 9 rfl rfl)
theorem dX4_lays_82 : decode cX4_lays 82 = .ok (.iconst 2, 1) := dk_5 (dk_at dksX4_lays_3 11 rfl rfl)
theorem dX4_lays_83 : decode cX4_lays 83 = .ok (.aload_n 0, 1) := dk_42 (dk_at dksX4_lays_3 12 rfl rfl)
theorem dX4_lays_84 : decode cX4_lays 84 = .ok (.getfield 40, 3) := dk_180 0 40 (dk_at dksX4_lays_3 13 rfl rfl)
theorem dX4_lays_87 : decode cX4_lays 87 = .ok (.imul, 1) := dk_104 (dk_at dksX4_lays_3 16 rfl rfl)
theorem dX4_lays_88 : decode cX4_lays 88 = .ok (.if_icmp .ge 34, 3) := dk_162 0 34 (dk_at dksX4_lays_3 17 rfl rfl)
theorem dX4_lays_91 : decode cX4_lays 91 = .ok (.aload_n 0, 1) := dk_42 (dk_at dksX4_lays_3 20 rfl rfl)
theorem dX4_lays_92 : decode cX4_lays 92 = .ok (.getfield 21, 3) := dk_180 0 21 (dk_at dksX4_lays_3 21 rfl rfl)
theorem dX4_lays_95 : decode cX4_lays 95 = .ok (.iload_n 3, 1) := dk_29 (dk_at dksX4_lays_4 0 rfl rfl)
theorem dX4_lays_96 : decode cX4_lays 96 = .ok (.aaload, 1) := dk_50 (dk_at dksX4_lays_4 1 rfl rfl)
theorem dX4_lays_97 : decode cX4_lays 97 = .ok (.iload 4, 2) := dk_21 4 (dk_at dksX4_lays_4 2 rfl rfl)
theorem dX4_lays_99 : decode cX4_lays 99 = .ok (.iload 4, 2) := dk_21 4 (dk_at dksX4_lays_4 4 rfl rfl)
theorem dX4_lays_101 : decode cX4_lays 101 = .ok (.aload_n 0, 1) := dk_42 (dk_at dksX4_lays_4 6 rfl rfl)
theorem dX4_lays_102 : decode cX4_lays 102 = .ok (.getfield 40, 3) := dk_180 0 40 (dk_at dksX4_lays_4 7 rfl rfl)
theorem dX4_lays_105 : decode cX4_lays 105 = .ok (.iload_n 3, 1) := dk_29 (dk_at dksX4_lays_4 10 rfl rfl)
theorem dX4_lays_106 : decode cX4_lays 106 = .ok (.iadd, 1) := dk_96 (dk_at dksX4_lays_4 11 rfl rfl)
theorem dX4_lays_107 : decode cX4_lays 107 = .ok (.if_icmp .ne 7, 3) := dk_160 0 7 (dk_at dksX4_lays_4 12 rfl rfl)
theorem dX4_lays_110 : decode cX4_lays 110 = .ok (.lconst 1, 1) := dk_10 (dk_at dksX4_lays_4 15 rfl rfl)
theorem dX4_lays_111 : decode cX4_lays 111 = .ok (.goto 4, 3) := dk_167 0 4 (dk_at dksX4_lays_4 16 rfl rfl)
theorem dX4_lays_114 : decode cX4_lays 114 = .ok (.lconst 0, 1) := dk_9 (dk_at dksX4_lays_4 19 rfl rfl)
theorem dX4_lays_115 : decode cX4_lays 115 = .ok (.lastore, 1) := dk_80 (dk_at dksX4_lays_4 20 rfl rfl)
theorem dX4_lays_116 : decode cX4_lays 116 = .ok (.iinc 4 1, 3) := dk_132 4 1 (dk_at dksX4_lays_4 21 rfl rfl)
theorem dX4_lays_119 : decode cX4_lays 119 = .ok (.goto (-39), 3) := dk_167 255 217 (dk_at dksX4_lays_5 0 rfl rfl)
theorem dX4_lays_122 : decode cX4_lays 122 = .ok (.iinc 3 1, 3) := dk_132 3 1 (dk_at dksX4_lays_5 3 rfl rfl)
theorem dX4_lays_125 : decode cX4_lays 125 = .ok (.goto (-56), 3) := dk_167 255 200 (dk_at dksX4_lays_5 6 rfl rfl)
theorem dX4_lays_128 : decode cX4_lays 128 = .ok (.iconst 0, 1) := dk_3 (dk_at dksX4_lays_5 9 rfl rfl)
theorem dX4_lays_129 : decode cX4_lays 129 = .ok (.istore_n 3, 1) := dk_62 (dk_at dksX4_lays_5 10 rfl rfl)
theorem dX4_lays_130 : decode cX4_lays 130 = .ok (.iload_n 3, 1) := dk_29 (dk_at dksX4_lays_5 11 rfl rfl)
theorem dX4_lays_131 : decode cX4_lays 131 = .ok (.aload_n 0, 1) := dk_42 (dk_at dksX4_lays_5 12 rfl rfl)
theorem dX4_lays_132 : decode cX4_lays 132 = .ok (.getfield 3, 3) := dk_180 0 3 (dk_at dksX4_lays_5 13 rfl rfl)
theorem dX4_lays_135 : decode cX4_lays 135 = .ok (.getfield 47, 3) := dk_180 0 47 (dk_at dksX4_lays_5 16 rfl rfl)
theorem dX4_lays_138 : decode cX4_lays 138 = .ok (.getfield 51, 3) := dk_180 0 51 (dk_at dksX4_lays_5 19 rfl rfl)
theorem dX4_lays_141 : decode cX4_lays 141 = .ok (.if_icmp .ge 97, 3) := dk_162 0 97 (dk_at dksX4_lays_6 0 rfl rfl)
theorem dX4_lays_144 : decode cX4_lays 144 = .ok (.aload_n 0, 1) := dk_42 (dk_at dksX4_lays_6 3 rfl rfl)
theorem dX4_lays_145 : decode cX4_lays 145 = .ok (.aload_n 0, 1) := dk_42 (dk_at dksX4_lays_6 4 rfl rfl)
theorem dX4_lays_146 : decode cX4_lays 146 = .ok (.getfield 15, 3) := dk_180 0 15 (dk_at dksX4_lays_6 5 rfl rfl)
theorem dX4_lays_149 : decode cX4_lays 149 = .ok (.aload_n 0, 1) := dk_42 (dk_at dksX4_lays_6 8 rfl rfl)
theorem dX4_lays_150 : decode cX4_lays 150 = .ok (.getfield 3, 3) := dk_180 0 3 (dk_at dksX4_lays_6 9 rfl rfl)
theorem dX4_lays_153 : decode cX4_lays 153 = .ok (.getfield 47, 3) := dk_180 0 47 (dk_at dksX4_lays_6 12 rfl rfl)
theorem dX4_lays_156 : decode cX4_lays 156 = .ok (.getfield 56, 3) := dk_180 0 56 (dk_at dksX4_lays_6 15 rfl rfl)
theorem dX4_lays_159 : decode cX4_lays 159 = .ok (.iload_n 3, 1) := dk_29 (dk_at dksX4_lays_6 18 rfl rfl)
theorem dX4_lays_160 : decode cX4_lays 160 = .ok (.iaload, 1) := dk_46 (dk_at dksX4_lays_6 19 rfl rfl)
theorem dX4_lays_161 : decode cX4_lays 161 = .ok (.iaload, 1) := dk_46 (dk_at dksX4_lays_6 20 rfl rfl)
theorem dX4_lays_162 : decode cX4_lays 162 = .ok (.aload_n 0, 1) := dk_42 (dk_at dksX4_lays_6 21 rfl rfl)
theorem dX4_lays_163 : decode cX4_lays 163 = .ok (.getfield 15, 3) := dk_180 0 15 (dk_at dksX4_lays_7 0 rfl rfl)
theorem dX4_lays_166 : decode cX4_lays 166 = .ok (.aload_n 0, 1) := dk_42 (dk_at dksX4_lays_7 3 rfl rfl)
theorem dX4_lays_167 : decode cX4_lays 167 = .ok (.getfield 3, 3) := dk_180 0 3 (dk_at dksX4_lays_7 4 rfl rfl)
theorem dX4_lays_170 : decode cX4_lays 170 = .ok (.getfield 47, 3) := dk_180 0 47 (dk_at dksX4_lays_7 7 rfl rfl)
theorem dX4_lays_173 : decode cX4_lays 173 = .ok (.getfield 59, 3) := dk_180 0 59 (dk_at dksX4_lays_7 10 rfl rfl)
theorem dX4_lays_176 : decode cX4_lays 176 = .ok (.iload_n 3, 1) := dk_29 (dk_at dksX4_lays_7 13 rfl rfl)
theorem dX4_lays_177 : decode cX4_lays 177 = .ok (.iaload, 1) := dk_46 (dk_at dksX4_lays_7 14 rfl rfl)
theorem dX4_lays_178 : decode cX4_lays 178 = .ok (.iaload, 1) := dk_46 (dk_at dksX4_lays_7 15 rfl rfl)
theorem dX4_lays_179 : decode cX4_lays 179 = .ok (.aload_n 0, 1) := dk_42 (dk_at dksX4_lays_7 16 rfl rfl)
theorem dX4_lays_180 : decode cX4_lays 180 = .ok (.getfield 62, 3) := dk_180 0 62 (dk_at dksX4_lays_7 17 rfl rfl)
theorem dX4_lays_183 : decode cX4_lays 183 = .ok (.iload_n 3, 1) := dk_29 (dk_at dksX4_lays_7 20 rfl rfl)
theorem dX4_lays_184 : decode cX4_lays 184 = .ok (.iaload, 1) := dk_46 (dk_at dksX4_lays_7 21 rfl rfl)
theorem dX4_lays_185 : decode cX4_lays 185 = .ok (.invokevirtual 65, 3) := dk_182 0 65 (dk_at dksX4_lays_8 0 rfl rfl)
theorem dX4_lays_188 : decode cX4_lays 188 = .ok (.aload_n 0, 1) := dk_42 (dk_at dksX4_lays_8 3 rfl rfl)
theorem dX4_lays_189 : decode cX4_lays 189 = .ok (.aload_n 0, 1) := dk_42 (dk_at dksX4_lays_8 4 rfl rfl)
theorem dX4_lays_190 : decode cX4_lays 190 = .ok (.getfield 15, 3) := dk_180 0 15 (dk_at dksX4_lays_8 5 rfl rfl)
theorem dX4_lays_193 : decode cX4_lays 193 = .ok (.aload_n 0, 1) := dk_42 (dk_at dksX4_lays_8 8 rfl rfl)
theorem dX4_lays_194 : decode cX4_lays 194 = .ok (.getfield 3, 3) := dk_180 0 3 (dk_at dksX4_lays_8 9 rfl rfl)
theorem dX4_lays_197 : decode cX4_lays 197 = .ok (.getfield 47, 3) := dk_180 0 47 (dk_at dksX4_lays_8 12 rfl rfl)
theorem dX4_lays_200 : decode cX4_lays 200 = .ok (.getfield 59, 3) := dk_180 0 59 (dk_at dksX4_lays_8 15 rfl rfl)
theorem dX4_lays_203 : decode cX4_lays 203 = .ok (.iload_n 3, 1) := dk_29 (dk_at dksX4_lays_8 18 rfl rfl)
theorem dX4_lays_204 : decode cX4_lays 204 = .ok (.iaload, 1) := dk_46 (dk_at dksX4_lays_8 19 rfl rfl)
theorem dX4_lays_205 : decode cX4_lays 205 = .ok (.iaload, 1) := dk_46 (dk_at dksX4_lays_8 20 rfl rfl)
theorem dX4_lays_206 : decode cX4_lays 206 = .ok (.aload_n 0, 1) := dk_42 (dk_at dksX4_lays_8 21 rfl rfl)
theorem dX4_lays_207 : decode cX4_lays 207 = .ok (.getfield 15, 3) := dk_180 0 15 (dk_at dksX4_lays_9 0 rfl rfl)
theorem dX4_lays_210 : decode cX4_lays 210 = .ok (.aload_n 0, 1) := dk_42 (dk_at dksX4_lays_9 3 rfl rfl)
theorem dX4_lays_211 : decode cX4_lays 211 = .ok (.getfield 3, 3) := dk_180 0 3 (dk_at dksX4_lays_9 4 rfl rfl)
theorem dX4_lays_214 : decode cX4_lays 214 = .ok (.getfield 47, 3) := dk_180 0 47 (dk_at dksX4_lays_9 7 rfl rfl)
theorem dX4_lays_217 : decode cX4_lays 217 = .ok (.getfield 56, 3) := dk_180 0 56 (dk_at dksX4_lays_9 10 rfl rfl)
theorem dX4_lays_220 : decode cX4_lays 220 = .ok (.iload_n 3, 1) := dk_29 (dk_at dksX4_lays_9 13 rfl rfl)
theorem dX4_lays_221 : decode cX4_lays 221 = .ok (.iaload, 1) := dk_46 (dk_at dksX4_lays_9 14 rfl rfl)
theorem dX4_lays_222 : decode cX4_lays 222 = .ok (.iaload, 1) := dk_46 (dk_at dksX4_lays_9 15 rfl rfl)
theorem dX4_lays_223 : decode cX4_lays 223 = .ok (.aload_n 0, 1) := dk_42 (dk_at dksX4_lays_9 16 rfl rfl)
theorem dX4_lays_224 : decode cX4_lays 224 = .ok (.getfield 62, 3) := dk_180 0 62 (dk_at dksX4_lays_9 17 rfl rfl)
theorem dX4_lays_227 : decode cX4_lays 227 = .ok (.iload_n 3, 1) := dk_29 (dk_at dksX4_lays_9 20 rfl rfl)
theorem dX4_lays_228 : decode cX4_lays 228 = .ok (.iaload, 1) := dk_46 (dk_at dksX4_lays_9 21 rfl rfl)
theorem dX4_lays_229 : decode cX4_lays 229 = .ok (.invokevirtual 65, 3) := dk_182 0 65 (dk_at dksX4_lays_10 0 rfl rfl)
theorem dX4_lays_232 : decode cX4_lays 232 = .ok (.iinc 3 1, 3) := dk_132 3 1 (dk_at dksX4_lays_10 3 rfl rfl)
theorem dX4_lays_235 : decode cX4_lays 235 = .ok (.goto (-105), 3) := dk_167 255 151 (dk_at dksX4_lays_10 6 rfl rfl)
theorem dX4_lays_238 : decode cX4_lays 238 = .ok (.aload_n 0, 1) := dk_42 (dk_at dksX4_lays_10 9 rfl rfl)
theorem dX4_lays_239 : decode cX4_lays 239 = .ok (.invokevirtual 69, 3) := dk_182 0 69 (dk_at dksX4_lays_10 10 rfl rfl)
theorem dX4_lays_242 : decode cX4_lays 242 = .ok (.return_, 1) := dk_177 (dk_at dksX4_lays_10 13 rfl rfl)
abbrev cX4_ties : ByteArray := prog_11_method_4_code
def yX4_ties : MethodName := ⟨RX4, "ties", "(III)V"⟩
def dkwX4_ties_1 : List UInt8 := [42, 180, 0, 21, 27, 50, 28, 92, 47, 29, 133, 101, 80, 177]
abbrev dktX4_ties_1 : List UInt8 := dkwX4_ties_1 ++ []
def dkwX4_ties_0 : List UInt8 := [27, 2, 160, 0, 4, 177, 42, 180, 0, 21, 27, 50, 27, 92, 47, 29, 133, 97, 80, 28, 2, 159, 0, 16]
abbrev dktX4_ties_0 : List UInt8 := dkwX4_ties_0 ++ dktX4_ties_1
theorem dksX4_ties_0 : cX4_ties.data.toList.drop 0 = dktX4_ties_0 := by decide +kernel
theorem dksX4_ties_1 : cX4_ties.data.toList.drop 24 = dktX4_ties_1 := dk_seg dksX4_ties_0 24 rfl rfl
theorem dX4_ties_0 : decode cX4_ties 0 = .ok (.iload_n 1, 1) := dk_27 (dk_at dksX4_ties_0 0 rfl rfl)
theorem dX4_ties_1 : decode cX4_ties 1 = .ok (.iconst (-1), 1) := dk_2 (dk_at dksX4_ties_0 1 rfl rfl)
theorem dX4_ties_2 : decode cX4_ties 2 = .ok (.if_icmp .ne 4, 3) := dk_160 0 4 (dk_at dksX4_ties_0 2 rfl rfl)
theorem dX4_ties_5 : decode cX4_ties 5 = .ok (.return_, 1) := dk_177 (dk_at dksX4_ties_0 5 rfl rfl)
theorem dX4_ties_6 : decode cX4_ties 6 = .ok (.aload_n 0, 1) := dk_42 (dk_at dksX4_ties_0 6 rfl rfl)
theorem dX4_ties_7 : decode cX4_ties 7 = .ok (.getfield 21, 3) := dk_180 0 21 (dk_at dksX4_ties_0 7 rfl rfl)
theorem dX4_ties_10 : decode cX4_ties 10 = .ok (.iload_n 1, 1) := dk_27 (dk_at dksX4_ties_0 10 rfl rfl)
theorem dX4_ties_11 : decode cX4_ties 11 = .ok (.aaload, 1) := dk_50 (dk_at dksX4_ties_0 11 rfl rfl)
theorem dX4_ties_12 : decode cX4_ties 12 = .ok (.iload_n 1, 1) := dk_27 (dk_at dksX4_ties_0 12 rfl rfl)
theorem dX4_ties_13 : decode cX4_ties 13 = .ok (.dup2, 1) := dk_92 (dk_at dksX4_ties_0 13 rfl rfl)
theorem dX4_ties_14 : decode cX4_ties 14 = .ok (.laload, 1) := dk_47 (dk_at dksX4_ties_0 14 rfl rfl)
theorem dX4_ties_15 : decode cX4_ties 15 = .ok (.iload_n 3, 1) := dk_29 (dk_at dksX4_ties_0 15 rfl rfl)
theorem dX4_ties_16 : decode cX4_ties 16 = .ok (.i2l, 1) := dk_133 (dk_at dksX4_ties_0 16 rfl rfl)
theorem dX4_ties_17 : decode cX4_ties 17 = .ok (.ladd, 1) := dk_97 (dk_at dksX4_ties_0 17 rfl rfl)
theorem dX4_ties_18 : decode cX4_ties 18 = .ok (.lastore, 1) := dk_80 (dk_at dksX4_ties_0 18 rfl rfl)
theorem dX4_ties_19 : decode cX4_ties 19 = .ok (.iload_n 2, 1) := dk_28 (dk_at dksX4_ties_0 19 rfl rfl)
theorem dX4_ties_20 : decode cX4_ties 20 = .ok (.iconst (-1), 1) := dk_2 (dk_at dksX4_ties_0 20 rfl rfl)
theorem dX4_ties_21 : decode cX4_ties 21 = .ok (.if_icmp .eq 16, 3) := dk_159 0 16 (dk_at dksX4_ties_0 21 rfl rfl)
theorem dX4_ties_24 : decode cX4_ties 24 = .ok (.aload_n 0, 1) := dk_42 (dk_at dksX4_ties_1 0 rfl rfl)
theorem dX4_ties_25 : decode cX4_ties 25 = .ok (.getfield 21, 3) := dk_180 0 21 (dk_at dksX4_ties_1 1 rfl rfl)
theorem dX4_ties_28 : decode cX4_ties 28 = .ok (.iload_n 1, 1) := dk_27 (dk_at dksX4_ties_1 4 rfl rfl)
theorem dX4_ties_29 : decode cX4_ties 29 = .ok (.aaload, 1) := dk_50 (dk_at dksX4_ties_1 5 rfl rfl)
theorem dX4_ties_30 : decode cX4_ties 30 = .ok (.iload_n 2, 1) := dk_28 (dk_at dksX4_ties_1 6 rfl rfl)
theorem dX4_ties_31 : decode cX4_ties 31 = .ok (.dup2, 1) := dk_92 (dk_at dksX4_ties_1 7 rfl rfl)
theorem dX4_ties_32 : decode cX4_ties 32 = .ok (.laload, 1) := dk_47 (dk_at dksX4_ties_1 8 rfl rfl)
theorem dX4_ties_33 : decode cX4_ties 33 = .ok (.iload_n 3, 1) := dk_29 (dk_at dksX4_ties_1 9 rfl rfl)
theorem dX4_ties_34 : decode cX4_ties 34 = .ok (.i2l, 1) := dk_133 (dk_at dksX4_ties_1 10 rfl rfl)
theorem dX4_ties_35 : decode cX4_ties 35 = .ok (.lsub, 1) := dk_101 (dk_at dksX4_ties_1 11 rfl rfl)
theorem dX4_ties_36 : decode cX4_ties 36 = .ok (.lastore, 1) := dk_80 (dk_at dksX4_ties_1 12 rfl rfl)
theorem dX4_ties_37 : decode cX4_ties 37 = .ok (.return_, 1) := dk_177 (dk_at dksX4_ties_1 13 rfl rfl)
abbrev cX4_turns : ByteArray := prog_11_method_5_code
def yX4_turns : MethodName := ⟨RX4, "turns", "()V"⟩
def dkwX4_turns_5 : List UInt8 := [64, 132, 3, 1, 167, 255, 139, 42, 31, 181, 0, 73, 177]
abbrev dktX4_turns_5 : List UInt8 := dkwX4_turns_5 ++ []
def dkwX4_turns_4 : List UInt8 := [29, 50, 21, 9, 47, 105, 101, 31, 109, 80, 132, 9, 1, 167, 255, 198, 132, 6, 1, 167, 255, 169, 22, 4]
abbrev dktX4_turns_4 : List UInt8 := dkwX4_turns_4 ++ dktX4_turns_5
def dkwX4_turns_3 : List UInt8 := [21, 6, 50, 21, 9, 42, 180, 0, 21, 21, 6, 50, 21, 9, 47, 22, 4, 105, 22, 7, 42, 180, 0, 21]
abbrev dktX4_turns_3 : List UInt8 := dkwX4_turns_3 ++ dktX4_turns_4
def dkwX4_turns_2 : List UInt8 := [54, 9, 21, 9, 5, 42, 180, 0, 40, 104, 162, 0, 53, 21, 6, 29, 159, 0, 47, 42, 180, 0, 21]
abbrev dktX4_turns_2 : List UInt8 := dkwX4_turns_2 ++ dktX4_turns_3
def dkwX4_turns_1 : List UInt8 := [54, 6, 21, 6, 42, 180, 0, 40, 162, 0, 84, 42, 180, 0, 21, 21, 6, 50, 29, 47, 55, 7, 3]
abbrev dktX4_turns_1 : List UInt8 := dkwX4_turns_1 ++ dktX4_turns_2
def dkwX4_turns_0 : List UInt8 := [10, 64, 3, 62, 29, 42, 180, 0, 40, 162, 0, 115, 42, 180, 0, 21, 29, 50, 29, 47, 55, 4, 3]
abbrev dktX4_turns_0 : List UInt8 := dkwX4_turns_0 ++ dktX4_turns_1
theorem dksX4_turns_0 : cX4_turns.data.toList.drop 0 = dktX4_turns_0 := by decide +kernel
theorem dksX4_turns_1 : cX4_turns.data.toList.drop 23 = dktX4_turns_1 := dk_seg dksX4_turns_0 23 rfl rfl
theorem dksX4_turns_2 : cX4_turns.data.toList.drop 46 = dktX4_turns_2 := dk_seg dksX4_turns_1 23 rfl rfl
theorem dksX4_turns_3 : cX4_turns.data.toList.drop 69 = dktX4_turns_3 := dk_seg dksX4_turns_2 23 rfl rfl
theorem dksX4_turns_4 : cX4_turns.data.toList.drop 93 = dktX4_turns_4 := dk_seg dksX4_turns_3 24 rfl rfl
theorem dksX4_turns_5 : cX4_turns.data.toList.drop 117 = dktX4_turns_5 := dk_seg dksX4_turns_4 24 rfl rfl
theorem dX4_turns_0 : decode cX4_turns 0 = .ok (.lconst 1, 1) := dk_10 (dk_at dksX4_turns_0 0 rfl rfl)
theorem dX4_turns_1 : decode cX4_turns 1 = .ok (.lstore_n 1, 1) := dk_64 (dk_at dksX4_turns_0 1 rfl rfl)
theorem dX4_turns_2 : decode cX4_turns 2 = .ok (.iconst 0, 1) := dk_3 (dk_at dksX4_turns_0 2 rfl rfl)
theorem dX4_turns_3 : decode cX4_turns 3 = .ok (.istore_n 3, 1) := dk_62 (dk_at dksX4_turns_0 3 rfl rfl)
theorem dX4_turns_4 : decode cX4_turns 4 = .ok (.iload_n 3, 1) := dk_29 (dk_at dksX4_turns_0 4 rfl rfl)
theorem dX4_turns_5 : decode cX4_turns 5 = .ok (.aload_n 0, 1) := dk_42 (dk_at dksX4_turns_0 5 rfl rfl)
theorem dX4_turns_6 : decode cX4_turns 6 = .ok (.getfield 40, 3) := dk_180 0 40 (dk_at dksX4_turns_0 6 rfl rfl)
theorem dX4_turns_9 : decode cX4_turns 9 = .ok (.if_icmp .ge 115, 3) := dk_162 0 115 (dk_at dksX4_turns_0 9 rfl rfl)
theorem dX4_turns_12 : decode cX4_turns 12 = .ok (.aload_n 0, 1) := dk_42 (dk_at dksX4_turns_0 12 rfl rfl)
theorem dX4_turns_13 : decode cX4_turns 13 = .ok (.getfield 21, 3) := dk_180 0 21 (dk_at dksX4_turns_0 13 rfl rfl)
theorem dX4_turns_16 : decode cX4_turns 16 = .ok (.iload_n 3, 1) := dk_29 (dk_at dksX4_turns_0 16 rfl rfl)
theorem dX4_turns_17 : decode cX4_turns 17 = .ok (.aaload, 1) := dk_50 (dk_at dksX4_turns_0 17 rfl rfl)
theorem dX4_turns_18 : decode cX4_turns 18 = .ok (.iload_n 3, 1) := dk_29 (dk_at dksX4_turns_0 18 rfl rfl)
theorem dX4_turns_19 : decode cX4_turns 19 = .ok (.laload, 1) := dk_47 (dk_at dksX4_turns_0 19 rfl rfl)
theorem dX4_turns_20 : decode cX4_turns 20 = .ok (.lstore 4, 2) := dk_55 4 (dk_at dksX4_turns_0 20 rfl rfl)
theorem dX4_turns_22 : decode cX4_turns 22 = .ok (.iconst 0, 1) := dk_3 (dk_at dksX4_turns_0 22 rfl rfl)
theorem dX4_turns_23 : decode cX4_turns 23 = .ok (.istore 6, 2) := dk_54 6 (dk_at dksX4_turns_1 0 rfl rfl)
theorem dX4_turns_25 : decode cX4_turns 25 = .ok (.iload 6, 2) := dk_21 6 (dk_at dksX4_turns_1 2 rfl rfl)
theorem dX4_turns_27 : decode cX4_turns 27 = .ok (.aload_n 0, 1) := dk_42 (dk_at dksX4_turns_1 4 rfl rfl)
theorem dX4_turns_28 : decode cX4_turns 28 = .ok (.getfield 40, 3) := dk_180 0 40 (dk_at dksX4_turns_1 5 rfl rfl)
theorem dX4_turns_31 : decode cX4_turns 31 = .ok (.if_icmp .ge 84, 3) := dk_162 0 84 (dk_at dksX4_turns_1 8 rfl rfl)
theorem dX4_turns_34 : decode cX4_turns 34 = .ok (.aload_n 0, 1) := dk_42 (dk_at dksX4_turns_1 11 rfl rfl)
theorem dX4_turns_35 : decode cX4_turns 35 = .ok (.getfield 21, 3) := dk_180 0 21 (dk_at dksX4_turns_1 12 rfl rfl)
theorem dX4_turns_38 : decode cX4_turns 38 = .ok (.iload 6, 2) := dk_21 6 (dk_at dksX4_turns_1 15 rfl rfl)
theorem dX4_turns_40 : decode cX4_turns 40 = .ok (.aaload, 1) := dk_50 (dk_at dksX4_turns_1 17 rfl rfl)
theorem dX4_turns_41 : decode cX4_turns 41 = .ok (.iload_n 3, 1) := dk_29 (dk_at dksX4_turns_1 18 rfl rfl)
theorem dX4_turns_42 : decode cX4_turns 42 = .ok (.laload, 1) := dk_47 (dk_at dksX4_turns_1 19 rfl rfl)
theorem dX4_turns_43 : decode cX4_turns 43 = .ok (.lstore 7, 2) := dk_55 7 (dk_at dksX4_turns_1 20 rfl rfl)
theorem dX4_turns_45 : decode cX4_turns 45 = .ok (.iconst 0, 1) := dk_3 (dk_at dksX4_turns_1 22 rfl rfl)
theorem dX4_turns_46 : decode cX4_turns 46 = .ok (.istore 9, 2) := dk_54 9 (dk_at dksX4_turns_2 0 rfl rfl)
theorem dX4_turns_48 : decode cX4_turns 48 = .ok (.iload 9, 2) := dk_21 9 (dk_at dksX4_turns_2 2 rfl rfl)
theorem dX4_turns_50 : decode cX4_turns 50 = .ok (.iconst 2, 1) := dk_5 (dk_at dksX4_turns_2 4 rfl rfl)
theorem dX4_turns_51 : decode cX4_turns 51 = .ok (.aload_n 0, 1) := dk_42 (dk_at dksX4_turns_2 5 rfl rfl)
theorem dX4_turns_52 : decode cX4_turns 52 = .ok (.getfield 40, 3) := dk_180 0 40 (dk_at dksX4_turns_2 6 rfl rfl)
theorem dX4_turns_55 : decode cX4_turns 55 = .ok (.imul, 1) := dk_104 (dk_at dksX4_turns_2 9 rfl rfl)
theorem dX4_turns_56 : decode cX4_turns 56 = .ok (.if_icmp .ge 53, 3) := dk_162 0 53 (dk_at dksX4_turns_2 10 rfl rfl)
theorem dX4_turns_59 : decode cX4_turns 59 = .ok (.iload 6, 2) := dk_21 6 (dk_at dksX4_turns_2 13 rfl rfl)
theorem dX4_turns_61 : decode cX4_turns 61 = .ok (.iload_n 3, 1) := dk_29 (dk_at dksX4_turns_2 15 rfl rfl)
theorem dX4_turns_62 : decode cX4_turns 62 = .ok (.if_icmp .eq 47, 3) := dk_159 0 47 (dk_at dksX4_turns_2 16 rfl rfl)
theorem dX4_turns_65 : decode cX4_turns 65 = .ok (.aload_n 0, 1) := dk_42 (dk_at dksX4_turns_2 19 rfl rfl)
theorem dX4_turns_66 : decode cX4_turns 66 = .ok (.getfield 21, 3) := dk_180 0 21 (dk_at dksX4_turns_2 20 rfl rfl)
theorem dX4_turns_69 : decode cX4_turns 69 = .ok (.iload 6, 2) := dk_21 6 (dk_at dksX4_turns_3 0 rfl rfl)
theorem dX4_turns_71 : decode cX4_turns 71 = .ok (.aaload, 1) := dk_50 (dk_at dksX4_turns_3 2 rfl rfl)
theorem dX4_turns_72 : decode cX4_turns 72 = .ok (.iload 9, 2) := dk_21 9 (dk_at dksX4_turns_3 3 rfl rfl)
theorem dX4_turns_74 : decode cX4_turns 74 = .ok (.aload_n 0, 1) := dk_42 (dk_at dksX4_turns_3 5 rfl rfl)
theorem dX4_turns_75 : decode cX4_turns 75 = .ok (.getfield 21, 3) := dk_180 0 21 (dk_at dksX4_turns_3 6 rfl rfl)
theorem dX4_turns_78 : decode cX4_turns 78 = .ok (.iload 6, 2) := dk_21 6 (dk_at dksX4_turns_3 9 rfl rfl)
theorem dX4_turns_80 : decode cX4_turns 80 = .ok (.aaload, 1) := dk_50 (dk_at dksX4_turns_3 11 rfl rfl)
theorem dX4_turns_81 : decode cX4_turns 81 = .ok (.iload 9, 2) := dk_21 9 (dk_at dksX4_turns_3 12 rfl rfl)
theorem dX4_turns_83 : decode cX4_turns 83 = .ok (.laload, 1) := dk_47 (dk_at dksX4_turns_3 14 rfl rfl)
theorem dX4_turns_84 : decode cX4_turns 84 = .ok (.lload 4, 2) := dk_22 4 (dk_at dksX4_turns_3 15 rfl rfl)
theorem dX4_turns_86 : decode cX4_turns 86 = .ok (.lmul, 1) := dk_105 (dk_at dksX4_turns_3 17 rfl rfl)
theorem dX4_turns_87 : decode cX4_turns 87 = .ok (.lload 7, 2) := dk_22 7 (dk_at dksX4_turns_3 18 rfl rfl)
theorem dX4_turns_89 : decode cX4_turns 89 = .ok (.aload_n 0, 1) := dk_42 (dk_at dksX4_turns_3 20 rfl rfl)
theorem dX4_turns_90 : decode cX4_turns 90 = .ok (.getfield 21, 3) := dk_180 0 21 (dk_at dksX4_turns_3 21 rfl rfl)
theorem dX4_turns_93 : decode cX4_turns 93 = .ok (.iload_n 3, 1) := dk_29 (dk_at dksX4_turns_4 0 rfl rfl)
theorem dX4_turns_94 : decode cX4_turns 94 = .ok (.aaload, 1) := dk_50 (dk_at dksX4_turns_4 1 rfl rfl)
theorem dX4_turns_95 : decode cX4_turns 95 = .ok (.iload 9, 2) := dk_21 9 (dk_at dksX4_turns_4 2 rfl rfl)
theorem dX4_turns_97 : decode cX4_turns 97 = .ok (.laload, 1) := dk_47 (dk_at dksX4_turns_4 4 rfl rfl)
theorem dX4_turns_98 : decode cX4_turns 98 = .ok (.lmul, 1) := dk_105 (dk_at dksX4_turns_4 5 rfl rfl)
theorem dX4_turns_99 : decode cX4_turns 99 = .ok (.lsub, 1) := dk_101 (dk_at dksX4_turns_4 6 rfl rfl)
theorem dX4_turns_100 : decode cX4_turns 100 = .ok (.lload_n 1, 1) := dk_31 (dk_at dksX4_turns_4 7 rfl rfl)
theorem dX4_turns_101 : decode cX4_turns 101 = .ok (.ldiv, 1) := dk_109 (dk_at dksX4_turns_4 8 rfl rfl)
theorem dX4_turns_102 : decode cX4_turns 102 = .ok (.lastore, 1) := dk_80 (dk_at dksX4_turns_4 9 rfl rfl)
theorem dX4_turns_103 : decode cX4_turns 103 = .ok (.iinc 9 1, 3) := dk_132 9 1 (dk_at dksX4_turns_4 10 rfl rfl)
theorem dX4_turns_106 : decode cX4_turns 106 = .ok (.goto (-58), 3) := dk_167 255 198 (dk_at dksX4_turns_4 13 rfl rfl)
theorem dX4_turns_109 : decode cX4_turns 109 = .ok (.iinc 6 1, 3) := dk_132 6 1 (dk_at dksX4_turns_4 16 rfl rfl)
theorem dX4_turns_112 : decode cX4_turns 112 = .ok (.goto (-87), 3) := dk_167 255 169 (dk_at dksX4_turns_4 19 rfl rfl)
theorem dX4_turns_115 : decode cX4_turns 115 = .ok (.lload 4, 2) := dk_22 4 (dk_at dksX4_turns_4 22 rfl rfl)
theorem dX4_turns_117 : decode cX4_turns 117 = .ok (.lstore_n 1, 1) := dk_64 (dk_at dksX4_turns_5 0 rfl rfl)
theorem dX4_turns_118 : decode cX4_turns 118 = .ok (.iinc 3 1, 3) := dk_132 3 1 (dk_at dksX4_turns_5 1 rfl rfl)
theorem dX4_turns_121 : decode cX4_turns 121 = .ok (.goto (-117), 3) := dk_167 255 139 (dk_at dksX4_turns_5 4 rfl rfl)
theorem dX4_turns_124 : decode cX4_turns 124 = .ok (.aload_n 0, 1) := dk_42 (dk_at dksX4_turns_5 7 rfl rfl)
theorem dX4_turns_125 : decode cX4_turns 125 = .ok (.lload_n 1, 1) := dk_31 (dk_at dksX4_turns_5 8 rfl rfl)
theorem dX4_turns_126 : decode cX4_turns 126 = .ok (.putfield 73, 3) := dk_181 0 73 (dk_at dksX4_turns_5 9 rfl rfl)
theorem dX4_turns_129 : decode cX4_turns 129 = .ok (.return_, 1) := dk_177 (dk_at dksX4_turns_5 12 rfl rfl)
abbrev cX4_moves : ByteArray := prog_11_method_6_code
def yX4_moves : MethodName := ⟨RX4, "moves", "(II)J"⟩
def dkwX4_moves_1 : List UInt8 := [42, 180, 0, 21, 42, 180, 0, 15, 27, 46, 50, 42, 180, 0, 40, 42, 180, 0, 15, 28, 46, 96, 47, 173]
abbrev dktX4_moves_1 : List UInt8 := dkwX4_moves_1 ++ []
def dkwX4_moves_0 : List UInt8 := [42, 180, 0, 15, 27, 46, 2, 159, 0, 13, 42, 180, 0, 15, 28, 46, 2, 160, 0, 7, 9, 167, 0, 26]
abbrev dktX4_moves_0 : List UInt8 := dkwX4_moves_0 ++ dktX4_moves_1
theorem dksX4_moves_0 : cX4_moves.data.toList.drop 0 = dktX4_moves_0 := by decide +kernel
theorem dksX4_moves_1 : cX4_moves.data.toList.drop 24 = dktX4_moves_1 := dk_seg dksX4_moves_0 24 rfl rfl
theorem dX4_moves_0 : decode cX4_moves 0 = .ok (.aload_n 0, 1) := dk_42 (dk_at dksX4_moves_0 0 rfl rfl)
theorem dX4_moves_1 : decode cX4_moves 1 = .ok (.getfield 15, 3) := dk_180 0 15 (dk_at dksX4_moves_0 1 rfl rfl)
theorem dX4_moves_4 : decode cX4_moves 4 = .ok (.iload_n 1, 1) := dk_27 (dk_at dksX4_moves_0 4 rfl rfl)
theorem dX4_moves_5 : decode cX4_moves 5 = .ok (.iaload, 1) := dk_46 (dk_at dksX4_moves_0 5 rfl rfl)
theorem dX4_moves_6 : decode cX4_moves 6 = .ok (.iconst (-1), 1) := dk_2 (dk_at dksX4_moves_0 6 rfl rfl)
theorem dX4_moves_7 : decode cX4_moves 7 = .ok (.if_icmp .eq 13, 3) := dk_159 0 13 (dk_at dksX4_moves_0 7 rfl rfl)
theorem dX4_moves_10 : decode cX4_moves 10 = .ok (.aload_n 0, 1) := dk_42 (dk_at dksX4_moves_0 10 rfl rfl)
theorem dX4_moves_11 : decode cX4_moves 11 = .ok (.getfield 15, 3) := dk_180 0 15 (dk_at dksX4_moves_0 11 rfl rfl)
theorem dX4_moves_14 : decode cX4_moves 14 = .ok (.iload_n 2, 1) := dk_28 (dk_at dksX4_moves_0 14 rfl rfl)
theorem dX4_moves_15 : decode cX4_moves 15 = .ok (.iaload, 1) := dk_46 (dk_at dksX4_moves_0 15 rfl rfl)
theorem dX4_moves_16 : decode cX4_moves 16 = .ok (.iconst (-1), 1) := dk_2 (dk_at dksX4_moves_0 16 rfl rfl)
theorem dX4_moves_17 : decode cX4_moves 17 = .ok (.if_icmp .ne 7, 3) := dk_160 0 7 (dk_at dksX4_moves_0 17 rfl rfl)
theorem dX4_moves_20 : decode cX4_moves 20 = .ok (.lconst 0, 1) := dk_9 (dk_at dksX4_moves_0 20 rfl rfl)
theorem dX4_moves_21 : decode cX4_moves 21 = .ok (.goto 26, 3) := dk_167 0 26 (dk_at dksX4_moves_0 21 rfl rfl)
theorem dX4_moves_24 : decode cX4_moves 24 = .ok (.aload_n 0, 1) := dk_42 (dk_at dksX4_moves_1 0 rfl rfl)
theorem dX4_moves_25 : decode cX4_moves 25 = .ok (.getfield 21, 3) := dk_180 0 21 (dk_at dksX4_moves_1 1 rfl rfl)
theorem dX4_moves_28 : decode cX4_moves 28 = .ok (.aload_n 0, 1) := dk_42 (dk_at dksX4_moves_1 4 rfl rfl)
theorem dX4_moves_29 : decode cX4_moves 29 = .ok (.getfield 15, 3) := dk_180 0 15 (dk_at dksX4_moves_1 5 rfl rfl)
theorem dX4_moves_32 : decode cX4_moves 32 = .ok (.iload_n 1, 1) := dk_27 (dk_at dksX4_moves_1 8 rfl rfl)
theorem dX4_moves_33 : decode cX4_moves 33 = .ok (.iaload, 1) := dk_46 (dk_at dksX4_moves_1 9 rfl rfl)
theorem dX4_moves_34 : decode cX4_moves 34 = .ok (.aaload, 1) := dk_50 (dk_at dksX4_moves_1 10 rfl rfl)
theorem dX4_moves_35 : decode cX4_moves 35 = .ok (.aload_n 0, 1) := dk_42 (dk_at dksX4_moves_1 11 rfl rfl)
theorem dX4_moves_36 : decode cX4_moves 36 = .ok (.getfield 40, 3) := dk_180 0 40 (dk_at dksX4_moves_1 12 rfl rfl)
theorem dX4_moves_39 : decode cX4_moves 39 = .ok (.aload_n 0, 1) := dk_42 (dk_at dksX4_moves_1 15 rfl rfl)
theorem dX4_moves_40 : decode cX4_moves 40 = .ok (.getfield 15, 3) := dk_180 0 15 (dk_at dksX4_moves_1 16 rfl rfl)
theorem dX4_moves_43 : decode cX4_moves 43 = .ok (.iload_n 2, 1) := dk_28 (dk_at dksX4_moves_1 19 rfl rfl)
theorem dX4_moves_44 : decode cX4_moves 44 = .ok (.iaload, 1) := dk_46 (dk_at dksX4_moves_1 20 rfl rfl)
theorem dX4_moves_45 : decode cX4_moves 45 = .ok (.iadd, 1) := dk_96 (dk_at dksX4_moves_1 21 rfl rfl)
theorem dX4_moves_46 : decode cX4_moves 46 = .ok (.laload, 1) := dk_47 (dk_at dksX4_moves_1 22 rfl rfl)
theorem dX4_moves_47 : decode cX4_moves 47 = .ok (.lreturn, 1) := dk_173 (dk_at dksX4_moves_1 23 rfl rfl)
abbrev cX4_dead : ByteArray := prog_11_method_8_code
def yX4_dead : MethodName := ⟨RX4, "dead", "()I"⟩
def dkwX4_dead_0 : List UInt8 := [4, 42, 182, 0, 43, 120, 4, 100, 42, 180, 0, 32, 2, 130, 126, 172]
abbrev dktX4_dead_0 : List UInt8 := dkwX4_dead_0 ++ []
theorem dksX4_dead_0 : cX4_dead.data.toList.drop 0 = dktX4_dead_0 := by decide +kernel
theorem dX4_dead_0 : decode cX4_dead 0 = .ok (.iconst 1, 1) := dk_4 (dk_at dksX4_dead_0 0 rfl rfl)
theorem dX4_dead_1 : decode cX4_dead 1 = .ok (.aload_n 0, 1) := dk_42 (dk_at dksX4_dead_0 1 rfl rfl)
theorem dX4_dead_2 : decode cX4_dead 2 = .ok (.invokevirtual 43, 3) := dk_182 0 43 (dk_at dksX4_dead_0 2 rfl rfl)
theorem dX4_dead_5 : decode cX4_dead 5 = .ok (.ishl, 1) := dk_120 (dk_at dksX4_dead_0 5 rfl rfl)
theorem dX4_dead_6 : decode cX4_dead 6 = .ok (.iconst 1, 1) := dk_4 (dk_at dksX4_dead_0 6 rfl rfl)
theorem dX4_dead_7 : decode cX4_dead 7 = .ok (.isub, 1) := dk_100 (dk_at dksX4_dead_0 7 rfl rfl)
theorem dX4_dead_8 : decode cX4_dead 8 = .ok (.aload_n 0, 1) := dk_42 (dk_at dksX4_dead_0 8 rfl rfl)
theorem dX4_dead_9 : decode cX4_dead 9 = .ok (.getfield 32, 3) := dk_180 0 32 (dk_at dksX4_dead_0 9 rfl rfl)
theorem dX4_dead_12 : decode cX4_dead 12 = .ok (.iconst (-1), 1) := dk_2 (dk_at dksX4_dead_0 12 rfl rfl)
theorem dX4_dead_13 : decode cX4_dead 13 = .ok (.ixor, 1) := dk_130 (dk_at dksX4_dead_0 13 rfl rfl)
theorem dX4_dead_14 : decode cX4_dead 14 = .ok (.iand, 1) := dk_126 (dk_at dksX4_dead_0 14 rfl rfl)
theorem dX4_dead_15 : decode cX4_dead 15 = .ok (.ireturn, 1) := dk_172 (dk_at dksX4_dead_0 15 rfl rfl)
abbrev cX4_isLive : ByteArray := prog_11_method_2_code
def yX4_isLive : MethodName := ⟨RX4, "isLive", "(I)Z"⟩
def dkwX4_isLive_1 : List UInt8 := [172]
abbrev dktX4_isLive_1 : List UInt8 := dkwX4_isLive_1 ++ []
def dkwX4_isLive_0 : List UInt8 := [42, 27, 183, 0, 28, 153, 0, 18, 42, 180, 0, 32, 27, 184, 0, 36, 153, 0, 7, 4, 167, 0, 4, 3]
abbrev dktX4_isLive_0 : List UInt8 := dkwX4_isLive_0 ++ dktX4_isLive_1
theorem dksX4_isLive_0 : cX4_isLive.data.toList.drop 0 = dktX4_isLive_0 := by decide +kernel
theorem dksX4_isLive_1 : cX4_isLive.data.toList.drop 24 = dktX4_isLive_1 := dk_seg dksX4_isLive_0 24 rfl rfl
theorem dX4_isLive_0 : decode cX4_isLive 0 = .ok (.aload_n 0, 1) := dk_42 (dk_at dksX4_isLive_0 0 rfl rfl)
theorem dX4_isLive_1 : decode cX4_isLive 1 = .ok (.iload_n 1, 1) := dk_27 (dk_at dksX4_isLive_0 1 rfl rfl)
theorem dX4_isLive_2 : decode cX4_isLive 2 = .ok (.invokespecial 28, 3) := dk_183 0 28 (dk_at dksX4_isLive_0 2 rfl rfl)
theorem dX4_isLive_5 : decode cX4_isLive 5 = .ok (.ifCond .eq 18, 3) := dk_153 0 18 (dk_at dksX4_isLive_0 5 rfl rfl)
theorem dX4_isLive_8 : decode cX4_isLive 8 = .ok (.aload_n 0, 1) := dk_42 (dk_at dksX4_isLive_0 8 rfl rfl)
theorem dX4_isLive_9 : decode cX4_isLive 9 = .ok (.getfield 32, 3) := dk_180 0 32 (dk_at dksX4_isLive_0 9 rfl rfl)
theorem dX4_isLive_12 : decode cX4_isLive 12 = .ok (.iload_n 1, 1) := dk_27 (dk_at dksX4_isLive_0 12 rfl rfl)
theorem dX4_isLive_13 : decode cX4_isLive 13 = .ok (.invokestatic 36, 3) := dk_184 0 36 (dk_at dksX4_isLive_0 13 rfl rfl)
theorem dX4_isLive_16 : decode cX4_isLive 16 = .ok (.ifCond .eq 7, 3) := dk_153 0 7 (dk_at dksX4_isLive_0 16 rfl rfl)
theorem dX4_isLive_19 : decode cX4_isLive 19 = .ok (.iconst 1, 1) := dk_4 (dk_at dksX4_isLive_0 19 rfl rfl)
theorem dX4_isLive_20 : decode cX4_isLive 20 = .ok (.goto 4, 3) := dk_167 0 4 (dk_at dksX4_isLive_0 20 rfl rfl)
theorem dX4_isLive_23 : decode cX4_isLive 23 = .ok (.iconst 0, 1) := dk_3 (dk_at dksX4_isLive_0 23 rfl rfl)
theorem dX4_isLive_24 : decode cX4_isLive 24 = .ok (.ireturn, 1) := dk_172 (dk_at dksX4_isLive_1 0 rfl rfl)
abbrev cX4_slope : ByteArray := prog_11_method_14_code
def yX4_slope : MethodName := ⟨RX4, "slope", "(I)J"⟩
def dkwX4_slope_2 : List UInt8 := [27, 46, 47, 42, 180, 0, 24, 42, 180, 0, 3, 180, 0, 47, 180, 0, 56, 27, 46, 47, 101, 173]
abbrev dktX4_slope_2 : List UInt8 := dkwX4_slope_2 ++ []
def dkwX4_slope_1 : List UInt8 := [182, 0, 95, 154, 0, 7, 9, 167, 0, 38, 42, 180, 0, 24, 42, 180, 0, 3, 180, 0, 47, 180, 0, 59]
abbrev dktX4_slope_1 : List UInt8 := dkwX4_slope_1 ++ dktX4_slope_2
def dkwX4_slope_0 : List UInt8 := [42, 180, 0, 62, 27, 46, 153, 0, 22, 42, 42, 180, 0, 3, 180, 0, 47, 180, 0, 56, 27, 46]
abbrev dktX4_slope_0 : List UInt8 := dkwX4_slope_0 ++ dktX4_slope_1
theorem dksX4_slope_0 : cX4_slope.data.toList.drop 0 = dktX4_slope_0 := by decide +kernel
theorem dksX4_slope_1 : cX4_slope.data.toList.drop 22 = dktX4_slope_1 := dk_seg dksX4_slope_0 22 rfl rfl
theorem dksX4_slope_2 : cX4_slope.data.toList.drop 46 = dktX4_slope_2 := dk_seg dksX4_slope_1 24 rfl rfl
theorem dX4_slope_0 : decode cX4_slope 0 = .ok (.aload_n 0, 1) := dk_42 (dk_at dksX4_slope_0 0 rfl rfl)
theorem dX4_slope_1 : decode cX4_slope 1 = .ok (.getfield 62, 3) := dk_180 0 62 (dk_at dksX4_slope_0 1 rfl rfl)
theorem dX4_slope_4 : decode cX4_slope 4 = .ok (.iload_n 1, 1) := dk_27 (dk_at dksX4_slope_0 4 rfl rfl)
theorem dX4_slope_5 : decode cX4_slope 5 = .ok (.iaload, 1) := dk_46 (dk_at dksX4_slope_0 5 rfl rfl)
theorem dX4_slope_6 : decode cX4_slope 6 = .ok (.ifCond .eq 22, 3) := dk_153 0 22 (dk_at dksX4_slope_0 6 rfl rfl)
theorem dX4_slope_9 : decode cX4_slope 9 = .ok (.aload_n 0, 1) := dk_42 (dk_at dksX4_slope_0 9 rfl rfl)
theorem dX4_slope_10 : decode cX4_slope 10 = .ok (.aload_n 0, 1) := dk_42 (dk_at dksX4_slope_0 10 rfl rfl)
theorem dX4_slope_11 : decode cX4_slope 11 = .ok (.getfield 3, 3) := dk_180 0 3 (dk_at dksX4_slope_0 11 rfl rfl)
theorem dX4_slope_14 : decode cX4_slope 14 = .ok (.getfield 47, 3) := dk_180 0 47 (dk_at dksX4_slope_0 14 rfl rfl)
theorem dX4_slope_17 : decode cX4_slope 17 = .ok (.getfield 56, 3) := dk_180 0 56 (dk_at dksX4_slope_0 17 rfl rfl)
theorem dX4_slope_20 : decode cX4_slope 20 = .ok (.iload_n 1, 1) := dk_27 (dk_at dksX4_slope_0 20 rfl rfl)
theorem dX4_slope_21 : decode cX4_slope 21 = .ok (.iaload, 1) := dk_46 (dk_at dksX4_slope_0 21 rfl rfl)
theorem dX4_slope_22 : decode cX4_slope 22 = .ok (.invokevirtual 95, 3) := dk_182 0 95 (dk_at dksX4_slope_1 0 rfl rfl)
theorem dX4_slope_25 : decode cX4_slope 25 = .ok (.ifCond .ne 7, 3) := dk_154 0 7 (dk_at dksX4_slope_1 3 rfl rfl)
theorem dX4_slope_28 : decode cX4_slope 28 = .ok (.lconst 0, 1) := dk_9 (dk_at dksX4_slope_1 6 rfl rfl)
theorem dX4_slope_29 : decode cX4_slope 29 = .ok (.goto 38, 3) := dk_167 0 38 (dk_at dksX4_slope_1 7 rfl rfl)
theorem dX4_slope_32 : decode cX4_slope 32 = .ok (.aload_n 0, 1) := dk_42 (dk_at dksX4_slope_1 10 rfl rfl)
theorem dX4_slope_33 : decode cX4_slope 33 = .ok (.getfield 24, 3) := dk_180 0 24 (dk_at dksX4_slope_1 11 rfl rfl)
theorem dX4_slope_36 : decode cX4_slope 36 = .ok (.aload_n 0, 1) := dk_42 (dk_at dksX4_slope_1 14 rfl rfl)
theorem dX4_slope_37 : decode cX4_slope 37 = .ok (.getfield 3, 3) := dk_180 0 3 (dk_at dksX4_slope_1 15 rfl rfl)
theorem dX4_slope_40 : decode cX4_slope 40 = .ok (.getfield 47, 3) := dk_180 0 47 (dk_at dksX4_slope_1 18 rfl rfl)
theorem dX4_slope_43 : decode cX4_slope 43 = .ok (.getfield 59, 3) := dk_180 0 59 (dk_at dksX4_slope_1 21 rfl rfl)
theorem dX4_slope_46 : decode cX4_slope 46 = .ok (.iload_n 1, 1) := dk_27 (dk_at dksX4_slope_2 0 rfl rfl)
theorem dX4_slope_47 : decode cX4_slope 47 = .ok (.iaload, 1) := dk_46 (dk_at dksX4_slope_2 1 rfl rfl)
theorem dX4_slope_48 : decode cX4_slope 48 = .ok (.laload, 1) := dk_47 (dk_at dksX4_slope_2 2 rfl rfl)
theorem dX4_slope_49 : decode cX4_slope 49 = .ok (.aload_n 0, 1) := dk_42 (dk_at dksX4_slope_2 3 rfl rfl)
theorem dX4_slope_50 : decode cX4_slope 50 = .ok (.getfield 24, 3) := dk_180 0 24 (dk_at dksX4_slope_2 4 rfl rfl)
theorem dX4_slope_53 : decode cX4_slope 53 = .ok (.aload_n 0, 1) := dk_42 (dk_at dksX4_slope_2 7 rfl rfl)
theorem dX4_slope_54 : decode cX4_slope 54 = .ok (.getfield 3, 3) := dk_180 0 3 (dk_at dksX4_slope_2 8 rfl rfl)
theorem dX4_slope_57 : decode cX4_slope 57 = .ok (.getfield 47, 3) := dk_180 0 47 (dk_at dksX4_slope_2 11 rfl rfl)
theorem dX4_slope_60 : decode cX4_slope 60 = .ok (.getfield 56, 3) := dk_180 0 56 (dk_at dksX4_slope_2 14 rfl rfl)
theorem dX4_slope_63 : decode cX4_slope 63 = .ok (.iload_n 1, 1) := dk_27 (dk_at dksX4_slope_2 17 rfl rfl)
theorem dX4_slope_64 : decode cX4_slope 64 = .ok (.iaload, 1) := dk_46 (dk_at dksX4_slope_2 18 rfl rfl)
theorem dX4_slope_65 : decode cX4_slope 65 = .ok (.laload, 1) := dk_47 (dk_at dksX4_slope_2 19 rfl rfl)
theorem dX4_slope_66 : decode cX4_slope 66 = .ok (.lsub, 1) := dk_101 (dk_at dksX4_slope_2 20 rfl rfl)
theorem dX4_slope_67 : decode cX4_slope 67 = .ok (.lreturn, 1) := dk_173 (dk_at dksX4_slope_2 21 rfl rfl)
abbrev cX4_worst : ByteArray := prog_11_method_9_code
def yX4_worst : MethodName := ⟨RX4, "worst", "()I"⟩
def dkwX4_worst_2 : List UInt8 := [167, 255, 214, 27, 172]
abbrev dktX4_worst_2 : List UInt8 := dkwX4_worst_2 ++ []
def dkwX4_worst_1 : List UInt8 := [159, 0, 19, 42, 180, 0, 24, 28, 47, 42, 180, 0, 24, 27, 47, 148, 158, 0, 5, 28, 60, 132, 2, 1]
abbrev dktX4_worst_1 : List UInt8 := dkwX4_worst_1 ++ dktX4_worst_2
def dkwX4_worst_0 : List UInt8 := [2, 60, 3, 61, 28, 42, 182, 0, 43, 162, 0, 40, 42, 28, 182, 0, 95, 153, 0, 26, 27, 2]
abbrev dktX4_worst_0 : List UInt8 := dkwX4_worst_0 ++ dktX4_worst_1
theorem dksX4_worst_0 : cX4_worst.data.toList.drop 0 = dktX4_worst_0 := by decide +kernel
theorem dksX4_worst_1 : cX4_worst.data.toList.drop 22 = dktX4_worst_1 := dk_seg dksX4_worst_0 22 rfl rfl
theorem dksX4_worst_2 : cX4_worst.data.toList.drop 46 = dktX4_worst_2 := dk_seg dksX4_worst_1 24 rfl rfl
theorem dX4_worst_0 : decode cX4_worst 0 = .ok (.iconst (-1), 1) := dk_2 (dk_at dksX4_worst_0 0 rfl rfl)
theorem dX4_worst_1 : decode cX4_worst 1 = .ok (.istore_n 1, 1) := dk_60 (dk_at dksX4_worst_0 1 rfl rfl)
theorem dX4_worst_2 : decode cX4_worst 2 = .ok (.iconst 0, 1) := dk_3 (dk_at dksX4_worst_0 2 rfl rfl)
theorem dX4_worst_3 : decode cX4_worst 3 = .ok (.istore_n 2, 1) := dk_61 (dk_at dksX4_worst_0 3 rfl rfl)
theorem dX4_worst_4 : decode cX4_worst 4 = .ok (.iload_n 2, 1) := dk_28 (dk_at dksX4_worst_0 4 rfl rfl)
theorem dX4_worst_5 : decode cX4_worst 5 = .ok (.aload_n 0, 1) := dk_42 (dk_at dksX4_worst_0 5 rfl rfl)
theorem dX4_worst_6 : decode cX4_worst 6 = .ok (.invokevirtual 43, 3) := dk_182 0 43 (dk_at dksX4_worst_0 6 rfl rfl)
theorem dX4_worst_9 : decode cX4_worst 9 = .ok (.if_icmp .ge 40, 3) := dk_162 0 40 (dk_at dksX4_worst_0 9 rfl rfl)
theorem dX4_worst_12 : decode cX4_worst 12 = .ok (.aload_n 0, 1) := dk_42 (dk_at dksX4_worst_0 12 rfl rfl)
theorem dX4_worst_13 : decode cX4_worst 13 = .ok (.iload_n 2, 1) := dk_28 (dk_at dksX4_worst_0 13 rfl rfl)
theorem dX4_worst_14 : decode cX4_worst 14 = .ok (.invokevirtual 95, 3) := dk_182 0 95 (dk_at dksX4_worst_0 14 rfl rfl)
theorem dX4_worst_17 : decode cX4_worst 17 = .ok (.ifCond .eq 26, 3) := dk_153 0 26 (dk_at dksX4_worst_0 17 rfl rfl)
theorem dX4_worst_20 : decode cX4_worst 20 = .ok (.iload_n 1, 1) := dk_27 (dk_at dksX4_worst_0 20 rfl rfl)
theorem dX4_worst_21 : decode cX4_worst 21 = .ok (.iconst (-1), 1) := dk_2 (dk_at dksX4_worst_0 21 rfl rfl)
theorem dX4_worst_22 : decode cX4_worst 22 = .ok (.if_icmp .eq 19, 3) := dk_159 0 19 (dk_at dksX4_worst_1 0 rfl rfl)
theorem dX4_worst_25 : decode cX4_worst 25 = .ok (.aload_n 0, 1) := dk_42 (dk_at dksX4_worst_1 3 rfl rfl)
theorem dX4_worst_26 : decode cX4_worst 26 = .ok (.getfield 24, 3) := dk_180 0 24 (dk_at dksX4_worst_1 4 rfl rfl)
theorem dX4_worst_29 : decode cX4_worst 29 = .ok (.iload_n 2, 1) := dk_28 (dk_at dksX4_worst_1 7 rfl rfl)
theorem dX4_worst_30 : decode cX4_worst 30 = .ok (.laload, 1) := dk_47 (dk_at dksX4_worst_1 8 rfl rfl)
theorem dX4_worst_31 : decode cX4_worst 31 = .ok (.aload_n 0, 1) := dk_42 (dk_at dksX4_worst_1 9 rfl rfl)
theorem dX4_worst_32 : decode cX4_worst 32 = .ok (.getfield 24, 3) := dk_180 0 24 (dk_at dksX4_worst_1 10 rfl rfl)
theorem dX4_worst_35 : decode cX4_worst 35 = .ok (.iload_n 1, 1) := dk_27 (dk_at dksX4_worst_1 13 rfl rfl)
theorem dX4_worst_36 : decode cX4_worst 36 = .ok (.laload, 1) := dk_47 (dk_at dksX4_worst_1 14 rfl rfl)
theorem dX4_worst_37 : decode cX4_worst 37 = .ok (.lcmp, 1) := dk_148 (dk_at dksX4_worst_1 15 rfl rfl)
theorem dX4_worst_38 : decode cX4_worst 38 = .ok (.ifCond .le 5, 3) := dk_158 0 5 (dk_at dksX4_worst_1 16 rfl rfl)
theorem dX4_worst_41 : decode cX4_worst 41 = .ok (.iload_n 2, 1) := dk_28 (dk_at dksX4_worst_1 19 rfl rfl)
theorem dX4_worst_42 : decode cX4_worst 42 = .ok (.istore_n 1, 1) := dk_60 (dk_at dksX4_worst_1 20 rfl rfl)
theorem dX4_worst_43 : decode cX4_worst 43 = .ok (.iinc 2 1, 3) := dk_132 2 1 (dk_at dksX4_worst_1 21 rfl rfl)
theorem dX4_worst_46 : decode cX4_worst 46 = .ok (.goto (-42), 3) := dk_167 255 214 (dk_at dksX4_worst_2 0 rfl rfl)
theorem dX4_worst_49 : decode cX4_worst 49 = .ok (.iload_n 1, 1) := dk_27 (dk_at dksX4_worst_2 3 rfl rfl)
theorem dX4_worst_50 : decode cX4_worst 50 = .ok (.ireturn, 1) := dk_172 (dk_at dksX4_worst_2 4 rfl rfl)
abbrev cX4_over : ByteArray := prog_11_method_12_code
def yX4_over : MethodName := ⟨RX4, "over", "([J)I"⟩
def dkwX4_over_2 : List UInt8 := [167, 0, 4, 3, 128, 61, 132, 3, 1, 167, 255, 204, 28, 172]
abbrev dktX4_over_2 : List UInt8 := dkwX4_over_2 ++ []
def dkwX4_over_1 : List UInt8 := [42, 180, 0, 3, 180, 0, 47, 180, 0, 99, 133, 42, 180, 0, 73, 105, 148, 158, 0, 9, 4, 29, 120]
abbrev dktX4_over_1 : List UInt8 := dkwX4_over_1 ++ dktX4_over_2
def dkwX4_over_0 : List UInt8 := [3, 61, 3, 62, 29, 42, 182, 0, 43, 162, 0, 50, 28, 42, 29, 182, 0, 95, 153, 0, 32, 43, 29, 47]
abbrev dktX4_over_0 : List UInt8 := dkwX4_over_0 ++ dktX4_over_1
theorem dksX4_over_0 : cX4_over.data.toList.drop 0 = dktX4_over_0 := by decide +kernel
theorem dksX4_over_1 : cX4_over.data.toList.drop 24 = dktX4_over_1 := dk_seg dksX4_over_0 24 rfl rfl
theorem dksX4_over_2 : cX4_over.data.toList.drop 47 = dktX4_over_2 := dk_seg dksX4_over_1 23 rfl rfl
theorem dX4_over_0 : decode cX4_over 0 = .ok (.iconst 0, 1) := dk_3 (dk_at dksX4_over_0 0 rfl rfl)
theorem dX4_over_1 : decode cX4_over 1 = .ok (.istore_n 2, 1) := dk_61 (dk_at dksX4_over_0 1 rfl rfl)
theorem dX4_over_2 : decode cX4_over 2 = .ok (.iconst 0, 1) := dk_3 (dk_at dksX4_over_0 2 rfl rfl)
theorem dX4_over_3 : decode cX4_over 3 = .ok (.istore_n 3, 1) := dk_62 (dk_at dksX4_over_0 3 rfl rfl)
theorem dX4_over_4 : decode cX4_over 4 = .ok (.iload_n 3, 1) := dk_29 (dk_at dksX4_over_0 4 rfl rfl)
theorem dX4_over_5 : decode cX4_over 5 = .ok (.aload_n 0, 1) := dk_42 (dk_at dksX4_over_0 5 rfl rfl)
theorem dX4_over_6 : decode cX4_over 6 = .ok (.invokevirtual 43, 3) := dk_182 0 43 (dk_at dksX4_over_0 6 rfl rfl)
theorem dX4_over_9 : decode cX4_over 9 = .ok (.if_icmp .ge 50, 3) := dk_162 0 50 (dk_at dksX4_over_0 9 rfl rfl)
theorem dX4_over_12 : decode cX4_over 12 = .ok (.iload_n 2, 1) := dk_28 (dk_at dksX4_over_0 12 rfl rfl)
theorem dX4_over_13 : decode cX4_over 13 = .ok (.aload_n 0, 1) := dk_42 (dk_at dksX4_over_0 13 rfl rfl)
theorem dX4_over_14 : decode cX4_over 14 = .ok (.iload_n 3, 1) := dk_29 (dk_at dksX4_over_0 14 rfl rfl)
theorem dX4_over_15 : decode cX4_over 15 = .ok (.invokevirtual 95, 3) := dk_182 0 95 (dk_at dksX4_over_0 15 rfl rfl)
theorem dX4_over_18 : decode cX4_over 18 = .ok (.ifCond .eq 32, 3) := dk_153 0 32 (dk_at dksX4_over_0 18 rfl rfl)
theorem dX4_over_21 : decode cX4_over 21 = .ok (.aload_n 1, 1) := dk_43 (dk_at dksX4_over_0 21 rfl rfl)
theorem dX4_over_22 : decode cX4_over 22 = .ok (.iload_n 3, 1) := dk_29 (dk_at dksX4_over_0 22 rfl rfl)
theorem dX4_over_23 : decode cX4_over 23 = .ok (.laload, 1) := dk_47 (dk_at dksX4_over_0 23 rfl rfl)
theorem dX4_over_24 : decode cX4_over 24 = .ok (.aload_n 0, 1) := dk_42 (dk_at dksX4_over_1 0 rfl rfl)
theorem dX4_over_25 : decode cX4_over 25 = .ok (.getfield 3, 3) := dk_180 0 3 (dk_at dksX4_over_1 1 rfl rfl)
theorem dX4_over_28 : decode cX4_over 28 = .ok (.getfield 47, 3) := dk_180 0 47 (dk_at dksX4_over_1 4 rfl rfl)
theorem dX4_over_31 : decode cX4_over 31 = .ok (.getfield 99, 3) := dk_180 0 99 (dk_at dksX4_over_1 7 rfl rfl)
theorem dX4_over_34 : decode cX4_over 34 = .ok (.i2l, 1) := dk_133 (dk_at dksX4_over_1 10 rfl rfl)
theorem dX4_over_35 : decode cX4_over 35 = .ok (.aload_n 0, 1) := dk_42 (dk_at dksX4_over_1 11 rfl rfl)
theorem dX4_over_36 : decode cX4_over 36 = .ok (.getfield 73, 3) := dk_180 0 73 (dk_at dksX4_over_1 12 rfl rfl)
theorem dX4_over_39 : decode cX4_over 39 = .ok (.lmul, 1) := dk_105 (dk_at dksX4_over_1 15 rfl rfl)
theorem dX4_over_40 : decode cX4_over 40 = .ok (.lcmp, 1) := dk_148 (dk_at dksX4_over_1 16 rfl rfl)
theorem dX4_over_41 : decode cX4_over 41 = .ok (.ifCond .le 9, 3) := dk_158 0 9 (dk_at dksX4_over_1 17 rfl rfl)
theorem dX4_over_44 : decode cX4_over 44 = .ok (.iconst 1, 1) := dk_4 (dk_at dksX4_over_1 20 rfl rfl)
theorem dX4_over_45 : decode cX4_over 45 = .ok (.iload_n 3, 1) := dk_29 (dk_at dksX4_over_1 21 rfl rfl)
theorem dX4_over_46 : decode cX4_over 46 = .ok (.ishl, 1) := dk_120 (dk_at dksX4_over_1 22 rfl rfl)
theorem dX4_over_47 : decode cX4_over 47 = .ok (.goto 4, 3) := dk_167 0 4 (dk_at dksX4_over_2 0 rfl rfl)
theorem dX4_over_50 : decode cX4_over 50 = .ok (.iconst 0, 1) := dk_3 (dk_at dksX4_over_2 3 rfl rfl)
theorem dX4_over_51 : decode cX4_over 51 = .ok (.ior, 1) := dk_128 (dk_at dksX4_over_2 4 rfl rfl)
theorem dX4_over_52 : decode cX4_over 52 = .ok (.istore_n 2, 1) := dk_61 (dk_at dksX4_over_2 5 rfl rfl)
theorem dX4_over_53 : decode cX4_over 53 = .ok (.iinc 3 1, 3) := dk_132 3 1 (dk_at dksX4_over_2 6 rfl rfl)
theorem dX4_over_56 : decode cX4_over 56 = .ok (.goto (-52), 3) := dk_167 255 204 (dk_at dksX4_over_2 9 rfl rfl)
theorem dX4_over_59 : decode cX4_over 59 = .ok (.iload_n 2, 1) := dk_28 (dk_at dksX4_over_2 12 rfl rfl)
theorem dX4_over_60 : decode cX4_over 60 = .ok (.ireturn, 1) := dk_172 (dk_at dksX4_over_2 13 rfl rfl)
abbrev cX4_holds : ByteArray := prog_11_method_13_code
def yX4_holds : MethodName := ⟨RX4, "holds", "()Z"⟩
def dkwX4_holds_0 : List UInt8 := [42, 182, 0, 102, 154, 0, 18, 42, 42, 180, 0, 24, 182, 0, 105, 154, 0, 7, 4, 167, 0, 4, 3, 172]
abbrev dktX4_holds_0 : List UInt8 := dkwX4_holds_0 ++ []
theorem dksX4_holds_0 : cX4_holds.data.toList.drop 0 = dktX4_holds_0 := by decide +kernel
theorem dX4_holds_0 : decode cX4_holds 0 = .ok (.aload_n 0, 1) := dk_42 (dk_at dksX4_holds_0 0 rfl rfl)
theorem dX4_holds_1 : decode cX4_holds 1 = .ok (.invokevirtual 102, 3) := dk_182 0 102 (dk_at dksX4_holds_0 1 rfl rfl)
theorem dX4_holds_4 : decode cX4_holds 4 = .ok (.ifCond .ne 18, 3) := dk_154 0 18 (dk_at dksX4_holds_0 4 rfl rfl)
theorem dX4_holds_7 : decode cX4_holds 7 = .ok (.aload_n 0, 1) := dk_42 (dk_at dksX4_holds_0 7 rfl rfl)
theorem dX4_holds_8 : decode cX4_holds 8 = .ok (.aload_n 0, 1) := dk_42 (dk_at dksX4_holds_0 8 rfl rfl)
theorem dX4_holds_9 : decode cX4_holds 9 = .ok (.getfield 24, 3) := dk_180 0 24 (dk_at dksX4_holds_0 9 rfl rfl)
theorem dX4_holds_12 : decode cX4_holds 12 = .ok (.invokevirtual 105, 3) := dk_182 0 105 (dk_at dksX4_holds_0 12 rfl rfl)
theorem dX4_holds_15 : decode cX4_holds 15 = .ok (.ifCond .ne 7, 3) := dk_154 0 7 (dk_at dksX4_holds_0 15 rfl rfl)
theorem dX4_holds_18 : decode cX4_holds 18 = .ok (.iconst 1, 1) := dk_4 (dk_at dksX4_holds_0 18 rfl rfl)
theorem dX4_holds_19 : decode cX4_holds 19 = .ok (.goto 4, 3) := dk_167 0 4 (dk_at dksX4_holds_0 19 rfl rfl)
theorem dX4_holds_22 : decode cX4_holds 22 = .ok (.iconst 0, 1) := dk_3 (dk_at dksX4_holds_0 22 rfl rfl)
theorem dX4_holds_23 : decode cX4_holds 23 = .ok (.ireturn, 1) := dk_172 (dk_at dksX4_holds_0 23 rfl rfl)
abbrev cX4_starved : ByteArray := prog_11_method_11_code
def yX4_starved : MethodName := ⟨RX4, "starved", "()I"⟩
def dkwX4_starved_1 : List UInt8 := [182, 0, 95, 154, 0, 7, 4, 167, 0, 4, 3, 96, 60, 132, 2, 1, 167, 255, 220, 27, 172]
abbrev dktX4_starved_1 : List UInt8 := dkwX4_starved_1 ++ []
def dkwX4_starved_0 : List UInt8 := [3, 60, 3, 61, 28, 42, 182, 0, 43, 162, 0, 34, 27, 42, 180, 0, 88, 28, 46, 158, 0, 15, 42, 28]
abbrev dktX4_starved_0 : List UInt8 := dkwX4_starved_0 ++ dktX4_starved_1
theorem dksX4_starved_0 : cX4_starved.data.toList.drop 0 = dktX4_starved_0 := by decide +kernel
theorem dksX4_starved_1 : cX4_starved.data.toList.drop 24 = dktX4_starved_1 := dk_seg dksX4_starved_0 24 rfl rfl
theorem dX4_starved_0 : decode cX4_starved 0 = .ok (.iconst 0, 1) := dk_3 (dk_at dksX4_starved_0 0 rfl rfl)
theorem dX4_starved_1 : decode cX4_starved 1 = .ok (.istore_n 1, 1) := dk_60 (dk_at dksX4_starved_0 1 rfl rfl)
theorem dX4_starved_2 : decode cX4_starved 2 = .ok (.iconst 0, 1) := dk_3 (dk_at dksX4_starved_0 2 rfl rfl)
theorem dX4_starved_3 : decode cX4_starved 3 = .ok (.istore_n 2, 1) := dk_61 (dk_at dksX4_starved_0 3 rfl rfl)
theorem dX4_starved_4 : decode cX4_starved 4 = .ok (.iload_n 2, 1) := dk_28 (dk_at dksX4_starved_0 4 rfl rfl)
theorem dX4_starved_5 : decode cX4_starved 5 = .ok (.aload_n 0, 1) := dk_42 (dk_at dksX4_starved_0 5 rfl rfl)
theorem dX4_starved_6 : decode cX4_starved 6 = .ok (.invokevirtual 43, 3) := dk_182 0 43 (dk_at dksX4_starved_0 6 rfl rfl)
theorem dX4_starved_9 : decode cX4_starved 9 = .ok (.if_icmp .ge 34, 3) := dk_162 0 34 (dk_at dksX4_starved_0 9 rfl rfl)
theorem dX4_starved_12 : decode cX4_starved 12 = .ok (.iload_n 1, 1) := dk_27 (dk_at dksX4_starved_0 12 rfl rfl)
theorem dX4_starved_13 : decode cX4_starved 13 = .ok (.aload_n 0, 1) := dk_42 (dk_at dksX4_starved_0 13 rfl rfl)
theorem dX4_starved_14 : decode cX4_starved 14 = .ok (.getfield 88, 3) := dk_180 0 88 (dk_at dksX4_starved_0 14 rfl rfl)
theorem dX4_starved_17 : decode cX4_starved 17 = .ok (.iload_n 2, 1) := dk_28 (dk_at dksX4_starved_0 17 rfl rfl)
theorem dX4_starved_18 : decode cX4_starved 18 = .ok (.iaload, 1) := dk_46 (dk_at dksX4_starved_0 18 rfl rfl)
theorem dX4_starved_19 : decode cX4_starved 19 = .ok (.ifCond .le 15, 3) := dk_158 0 15 (dk_at dksX4_starved_0 19 rfl rfl)
theorem dX4_starved_22 : decode cX4_starved 22 = .ok (.aload_n 0, 1) := dk_42 (dk_at dksX4_starved_0 22 rfl rfl)
theorem dX4_starved_23 : decode cX4_starved 23 = .ok (.iload_n 2, 1) := dk_28 (dk_at dksX4_starved_0 23 rfl rfl)
theorem dX4_starved_24 : decode cX4_starved 24 = .ok (.invokevirtual 95, 3) := dk_182 0 95 (dk_at dksX4_starved_1 0 rfl rfl)
theorem dX4_starved_27 : decode cX4_starved 27 = .ok (.ifCond .ne 7, 3) := dk_154 0 7 (dk_at dksX4_starved_1 3 rfl rfl)
theorem dX4_starved_30 : decode cX4_starved 30 = .ok (.iconst 1, 1) := dk_4 (dk_at dksX4_starved_1 6 rfl rfl)
theorem dX4_starved_31 : decode cX4_starved 31 = .ok (.goto 4, 3) := dk_167 0 4 (dk_at dksX4_starved_1 7 rfl rfl)
theorem dX4_starved_34 : decode cX4_starved 34 = .ok (.iconst 0, 1) := dk_3 (dk_at dksX4_starved_1 10 rfl rfl)
theorem dX4_starved_35 : decode cX4_starved 35 = .ok (.iadd, 1) := dk_96 (dk_at dksX4_starved_1 11 rfl rfl)
theorem dX4_starved_36 : decode cX4_starved 36 = .ok (.istore_n 1, 1) := dk_60 (dk_at dksX4_starved_1 12 rfl rfl)
theorem dX4_starved_37 : decode cX4_starved 37 = .ok (.iinc 2 1, 3) := dk_132 2 1 (dk_at dksX4_starved_1 13 rfl rfl)
theorem dX4_starved_40 : decode cX4_starved 40 = .ok (.goto (-36), 3) := dk_167 255 220 (dk_at dksX4_starved_1 16 rfl rfl)
theorem dX4_starved_43 : decode cX4_starved 43 = .ok (.iload_n 1, 1) := dk_27 (dk_at dksX4_starved_1 19 rfl rfl)
theorem dX4_starved_44 : decode cX4_starved 44 = .ok (.ireturn, 1) := dk_172 (dk_at dksX4_starved_1 20 rfl rfl)
abbrev cX4_wearing : ByteArray := prog_11_method_15_code
def yX4_wearing : MethodName := ⟨RX4, "wearing", "()I"⟩
def dkwX4_wearing_2 : List UInt8 := [28, 120, 167, 0, 4, 3, 128, 60, 132, 2, 1, 167, 255, 201, 27, 172]
abbrev dktX4_wearing_2 : List UInt8 := dkwX4_wearing_2 ++ []
def dkwX4_wearing_1 : List UInt8 := [184, 0, 113, 42, 180, 0, 3, 180, 0, 47, 180, 0, 119, 133, 42, 180, 0, 73, 105, 148, 158, 0, 9, 4]
abbrev dktX4_wearing_1 : List UInt8 := dkwX4_wearing_1 ++ dktX4_wearing_2
def dkwX4_wearing_0 : List UInt8 := [3, 60, 3, 61, 28, 42, 180, 0, 3, 180, 0, 47, 180, 0, 51, 162, 0, 47, 27, 42, 28, 182, 0, 109]
abbrev dktX4_wearing_0 : List UInt8 := dkwX4_wearing_0 ++ dktX4_wearing_1
theorem dksX4_wearing_0 : cX4_wearing.data.toList.drop 0 = dktX4_wearing_0 := by decide +kernel
theorem dksX4_wearing_1 : cX4_wearing.data.toList.drop 24 = dktX4_wearing_1 := dk_seg dksX4_wearing_0 24 rfl rfl
theorem dksX4_wearing_2 : cX4_wearing.data.toList.drop 48 = dktX4_wearing_2 := dk_seg dksX4_wearing_1 24 rfl rfl
theorem dX4_wearing_0 : decode cX4_wearing 0 = .ok (.iconst 0, 1) := dk_3 (dk_at dksX4_wearing_0 0 rfl rfl)
theorem dX4_wearing_1 : decode cX4_wearing 1 = .ok (.istore_n 1, 1) := dk_60 (dk_at dksX4_wearing_0 1 rfl rfl)
theorem dX4_wearing_2 : decode cX4_wearing 2 = .ok (.iconst 0, 1) := dk_3 (dk_at dksX4_wearing_0 2 rfl rfl)
theorem dX4_wearing_3 : decode cX4_wearing 3 = .ok (.istore_n 2, 1) := dk_61 (dk_at dksX4_wearing_0 3 rfl rfl)
theorem dX4_wearing_4 : decode cX4_wearing 4 = .ok (.iload_n 2, 1) := dk_28 (dk_at dksX4_wearing_0 4 rfl rfl)
theorem dX4_wearing_5 : decode cX4_wearing 5 = .ok (.aload_n 0, 1) := dk_42 (dk_at dksX4_wearing_0 5 rfl rfl)
theorem dX4_wearing_6 : decode cX4_wearing 6 = .ok (.getfield 3, 3) := dk_180 0 3 (dk_at dksX4_wearing_0 6 rfl rfl)
theorem dX4_wearing_9 : decode cX4_wearing 9 = .ok (.getfield 47, 3) := dk_180 0 47 (dk_at dksX4_wearing_0 9 rfl rfl)
theorem dX4_wearing_12 : decode cX4_wearing 12 = .ok (.getfield 51, 3) := dk_180 0 51 (dk_at dksX4_wearing_0 12 rfl rfl)
theorem dX4_wearing_15 : decode cX4_wearing 15 = .ok (.if_icmp .ge 47, 3) := dk_162 0 47 (dk_at dksX4_wearing_0 15 rfl rfl)
theorem dX4_wearing_18 : decode cX4_wearing 18 = .ok (.iload_n 1, 1) := dk_27 (dk_at dksX4_wearing_0 18 rfl rfl)
theorem dX4_wearing_19 : decode cX4_wearing 19 = .ok (.aload_n 0, 1) := dk_42 (dk_at dksX4_wearing_0 19 rfl rfl)
theorem dX4_wearing_20 : decode cX4_wearing 20 = .ok (.iload_n 2, 1) := dk_28 (dk_at dksX4_wearing_0 20 rfl rfl)
theorem dX4_wearing_21 : decode cX4_wearing 21 = .ok (.invokevirtual 109, 3) := dk_182 0 109 (dk_at dksX4_wearing_0 21 rfl rfl)
theorem dX4_wearing_24 : decode cX4_wearing 24 = .ok (.invokestatic 113, 3) := dk_184 0 113 (dk_at dksX4_wearing_1 0 rfl rfl)
theorem dX4_wearing_27 : decode cX4_wearing 27 = .ok (.aload_n 0, 1) := dk_42 (dk_at dksX4_wearing_1 3 rfl rfl)
theorem dX4_wearing_28 : decode cX4_wearing 28 = .ok (.getfield 3, 3) := dk_180 0 3 (dk_at dksX4_wearing_1 4 rfl rfl)
theorem dX4_wearing_31 : decode cX4_wearing 31 = .ok (.getfield 47, 3) := dk_180 0 47 (dk_at dksX4_wearing_1 7 rfl rfl)
theorem dX4_wearing_34 : decode cX4_wearing 34 = .ok (.getfield 119, 3) := dk_180 0 119 (dk_at dksX4_wearing_1 10 rfl rfl)
theorem dX4_wearing_37 : decode cX4_wearing 37 = .ok (.i2l, 1) := dk_133 (dk_at dksX4_wearing_1 13 rfl rfl)
theorem dX4_wearing_38 : decode cX4_wearing 38 = .ok (.aload_n 0, 1) := dk_42 (dk_at dksX4_wearing_1 14 rfl rfl)
theorem dX4_wearing_39 : decode cX4_wearing 39 = .ok (.getfield 73, 3) := dk_180 0 73 (dk_at dksX4_wearing_1 15 rfl rfl)
theorem dX4_wearing_42 : decode cX4_wearing 42 = .ok (.lmul, 1) := dk_105 (dk_at dksX4_wearing_1 18 rfl rfl)
theorem dX4_wearing_43 : decode cX4_wearing 43 = .ok (.lcmp, 1) := dk_148 (dk_at dksX4_wearing_1 19 rfl rfl)
theorem dX4_wearing_44 : decode cX4_wearing 44 = .ok (.ifCond .le 9, 3) := dk_158 0 9 (dk_at dksX4_wearing_1 20 rfl rfl)
theorem dX4_wearing_47 : decode cX4_wearing 47 = .ok (.iconst 1, 1) := dk_4 (dk_at dksX4_wearing_1 23 rfl rfl)
theorem dX4_wearing_48 : decode cX4_wearing 48 = .ok (.iload_n 2, 1) := dk_28 (dk_at dksX4_wearing_2 0 rfl rfl)
theorem dX4_wearing_49 : decode cX4_wearing 49 = .ok (.ishl, 1) := dk_120 (dk_at dksX4_wearing_2 1 rfl rfl)
theorem dX4_wearing_50 : decode cX4_wearing 50 = .ok (.goto 4, 3) := dk_167 0 4 (dk_at dksX4_wearing_2 2 rfl rfl)
theorem dX4_wearing_53 : decode cX4_wearing 53 = .ok (.iconst 0, 1) := dk_3 (dk_at dksX4_wearing_2 5 rfl rfl)
theorem dX4_wearing_54 : decode cX4_wearing 54 = .ok (.ior, 1) := dk_128 (dk_at dksX4_wearing_2 6 rfl rfl)
theorem dX4_wearing_55 : decode cX4_wearing 55 = .ok (.istore_n 1, 1) := dk_60 (dk_at dksX4_wearing_2 7 rfl rfl)
theorem dX4_wearing_56 : decode cX4_wearing 56 = .ok (.iinc 2 1, 3) := dk_132 2 1 (dk_at dksX4_wearing_2 8 rfl rfl)
theorem dX4_wearing_59 : decode cX4_wearing 59 = .ok (.goto (-55), 3) := dk_167 255 201 (dk_at dksX4_wearing_2 11 rfl rfl)
theorem dX4_wearing_62 : decode cX4_wearing 62 = .ok (.iload_n 1, 1) := dk_27 (dk_at dksX4_wearing_2 14 rfl rfl)
theorem dX4_wearing_63 : decode cX4_wearing 63 = .ok (.ireturn, 1) := dk_172 (dk_at dksX4_wearing_2 15 rfl rfl)
abbrev cX4_ages : ByteArray := prog_11_method_16_code
def yX4_ages : MethodName := ⟨RX4, "ages", "()I"⟩
def dkwX4_ages_2 : List UInt8 := [167, 255, 217, 42, 182, 0, 125, 87, 27, 184, 0, 129, 172]
abbrev dktX4_ages_2 : List UInt8 := dkwX4_ages_2 ++ []
def dkwX4_ages_1 : List UInt8 := [180, 0, 62, 28, 92, 46, 27, 28, 184, 0, 36, 153, 0, 7, 4, 167, 0, 4, 3, 100, 79, 132, 2, 1]
abbrev dktX4_ages_1 : List UInt8 := dkwX4_ages_1 ++ dktX4_ages_2
def dkwX4_ages_0 : List UInt8 := [42, 182, 0, 122, 60, 3, 61, 28, 42, 180, 0, 3, 180, 0, 47, 180, 0, 51, 162, 0, 31, 42]
abbrev dktX4_ages_0 : List UInt8 := dkwX4_ages_0 ++ dktX4_ages_1
theorem dksX4_ages_0 : cX4_ages.data.toList.drop 0 = dktX4_ages_0 := by decide +kernel
theorem dksX4_ages_1 : cX4_ages.data.toList.drop 22 = dktX4_ages_1 := dk_seg dksX4_ages_0 22 rfl rfl
theorem dksX4_ages_2 : cX4_ages.data.toList.drop 46 = dktX4_ages_2 := dk_seg dksX4_ages_1 24 rfl rfl
theorem dX4_ages_0 : decode cX4_ages 0 = .ok (.aload_n 0, 1) := dk_42 (dk_at dksX4_ages_0 0 rfl rfl)
theorem dX4_ages_1 : decode cX4_ages 1 = .ok (.invokevirtual 122, 3) := dk_182 0 122 (dk_at dksX4_ages_0 1 rfl rfl)
theorem dX4_ages_4 : decode cX4_ages 4 = .ok (.istore_n 1, 1) := dk_60 (dk_at dksX4_ages_0 4 rfl rfl)
theorem dX4_ages_5 : decode cX4_ages 5 = .ok (.iconst 0, 1) := dk_3 (dk_at dksX4_ages_0 5 rfl rfl)
theorem dX4_ages_6 : decode cX4_ages 6 = .ok (.istore_n 2, 1) := dk_61 (dk_at dksX4_ages_0 6 rfl rfl)
theorem dX4_ages_7 : decode cX4_ages 7 = .ok (.iload_n 2, 1) := dk_28 (dk_at dksX4_ages_0 7 rfl rfl)
theorem dX4_ages_8 : decode cX4_ages 8 = .ok (.aload_n 0, 1) := dk_42 (dk_at dksX4_ages_0 8 rfl rfl)
theorem dX4_ages_9 : decode cX4_ages 9 = .ok (.getfield 3, 3) := dk_180 0 3 (dk_at dksX4_ages_0 9 rfl rfl)
theorem dX4_ages_12 : decode cX4_ages 12 = .ok (.getfield 47, 3) := dk_180 0 47 (dk_at dksX4_ages_0 12 rfl rfl)
theorem dX4_ages_15 : decode cX4_ages 15 = .ok (.getfield 51, 3) := dk_180 0 51 (dk_at dksX4_ages_0 15 rfl rfl)
theorem dX4_ages_18 : decode cX4_ages 18 = .ok (.if_icmp .ge 31, 3) := dk_162 0 31 (dk_at dksX4_ages_0 18 rfl rfl)
theorem dX4_ages_21 : decode cX4_ages 21 = .ok (.aload_n 0, 1) := dk_42 (dk_at dksX4_ages_0 21 rfl rfl)
theorem dX4_ages_22 : decode cX4_ages 22 = .ok (.getfield 62, 3) := dk_180 0 62 (dk_at dksX4_ages_1 0 rfl rfl)
theorem dX4_ages_25 : decode cX4_ages 25 = .ok (.iload_n 2, 1) := dk_28 (dk_at dksX4_ages_1 3 rfl rfl)
theorem dX4_ages_26 : decode cX4_ages 26 = .ok (.dup2, 1) := dk_92 (dk_at dksX4_ages_1 4 rfl rfl)
theorem dX4_ages_27 : decode cX4_ages 27 = .ok (.iaload, 1) := dk_46 (dk_at dksX4_ages_1 5 rfl rfl)
theorem dX4_ages_28 : decode cX4_ages 28 = .ok (.iload_n 1, 1) := dk_27 (dk_at dksX4_ages_1 6 rfl rfl)
theorem dX4_ages_29 : decode cX4_ages 29 = .ok (.iload_n 2, 1) := dk_28 (dk_at dksX4_ages_1 7 rfl rfl)
theorem dX4_ages_30 : decode cX4_ages 30 = .ok (.invokestatic 36, 3) := dk_184 0 36 (dk_at dksX4_ages_1 8 rfl rfl)
theorem dX4_ages_33 : decode cX4_ages 33 = .ok (.ifCond .eq 7, 3) := dk_153 0 7 (dk_at dksX4_ages_1 11 rfl rfl)
theorem dX4_ages_36 : decode cX4_ages 36 = .ok (.iconst 1, 1) := dk_4 (dk_at dksX4_ages_1 14 rfl rfl)
theorem dX4_ages_37 : decode cX4_ages 37 = .ok (.goto 4, 3) := dk_167 0 4 (dk_at dksX4_ages_1 15 rfl rfl)
theorem dX4_ages_40 : decode cX4_ages 40 = .ok (.iconst 0, 1) := dk_3 (dk_at dksX4_ages_1 18 rfl rfl)
theorem dX4_ages_41 : decode cX4_ages 41 = .ok (.isub, 1) := dk_100 (dk_at dksX4_ages_1 19 rfl rfl)
theorem dX4_ages_42 : decode cX4_ages 42 = .ok (.iastore, 1) := dk_79 (dk_at dksX4_ages_1 20 rfl rfl)
theorem dX4_ages_43 : decode cX4_ages 43 = .ok (.iinc 2 1, 3) := dk_132 2 1 (dk_at dksX4_ages_1 21 rfl rfl)
theorem dX4_ages_46 : decode cX4_ages 46 = .ok (.goto (-39), 3) := dk_167 255 217 (dk_at dksX4_ages_2 0 rfl rfl)
theorem dX4_ages_49 : decode cX4_ages 49 = .ok (.aload_n 0, 1) := dk_42 (dk_at dksX4_ages_2 3 rfl rfl)
theorem dX4_ages_50 : decode cX4_ages 50 = .ok (.invokevirtual 125, 3) := dk_182 0 125 (dk_at dksX4_ages_2 4 rfl rfl)
theorem dX4_ages_53 : decode cX4_ages 53 = .ok (.pop, 1) := dk_87 (dk_at dksX4_ages_2 7 rfl rfl)
theorem dX4_ages_54 : decode cX4_ages 54 = .ok (.iload_n 1, 1) := dk_27 (dk_at dksX4_ages_2 8 rfl rfl)
theorem dX4_ages_55 : decode cX4_ages 55 = .ok (.invokestatic 129, 3) := dk_184 0 129 (dk_at dksX4_ages_2 9 rfl rfl)
theorem dX4_ages_58 : decode cX4_ages 58 = .ok (.ireturn, 1) := dk_172 (dk_at dksX4_ages_2 12 rfl rfl)
abbrev cX4_most : ByteArray := prog_11_method_10_code
def yX4_most : MethodName := ⟨RX4, "most", "()J"⟩
def dkwX4_most_0 : List UInt8 := [42, 182, 0, 96, 2, 160, 0, 7, 9, 167, 0, 12, 42, 180, 0, 24, 42, 182, 0, 96, 47, 173]
abbrev dktX4_most_0 : List UInt8 := dkwX4_most_0 ++ []
theorem dksX4_most_0 : cX4_most.data.toList.drop 0 = dktX4_most_0 := by decide +kernel
theorem dX4_most_0 : decode cX4_most 0 = .ok (.aload_n 0, 1) := dk_42 (dk_at dksX4_most_0 0 rfl rfl)
theorem dX4_most_1 : decode cX4_most 1 = .ok (.invokevirtual 96, 3) := dk_182 0 96 (dk_at dksX4_most_0 1 rfl rfl)
theorem dX4_most_4 : decode cX4_most 4 = .ok (.iconst (-1), 1) := dk_2 (dk_at dksX4_most_0 4 rfl rfl)
theorem dX4_most_5 : decode cX4_most 5 = .ok (.if_icmp .ne 7, 3) := dk_160 0 7 (dk_at dksX4_most_0 5 rfl rfl)
theorem dX4_most_8 : decode cX4_most 8 = .ok (.lconst 0, 1) := dk_9 (dk_at dksX4_most_0 8 rfl rfl)
theorem dX4_most_9 : decode cX4_most 9 = .ok (.goto 12, 3) := dk_167 0 12 (dk_at dksX4_most_0 9 rfl rfl)
theorem dX4_most_12 : decode cX4_most 12 = .ok (.aload_n 0, 1) := dk_42 (dk_at dksX4_most_0 12 rfl rfl)
theorem dX4_most_13 : decode cX4_most 13 = .ok (.getfield 24, 3) := dk_180 0 24 (dk_at dksX4_most_0 13 rfl rfl)
theorem dX4_most_16 : decode cX4_most 16 = .ok (.aload_n 0, 1) := dk_42 (dk_at dksX4_most_0 16 rfl rfl)
theorem dX4_most_17 : decode cX4_most 17 = .ok (.invokevirtual 96, 3) := dk_182 0 96 (dk_at dksX4_most_0 17 rfl rfl)
theorem dX4_most_20 : decode cX4_most 20 = .ok (.laload, 1) := dk_47 (dk_at dksX4_most_0 20 rfl rfl)
theorem dX4_most_21 : decode cX4_most 21 = .ok (.lreturn, 1) := dk_173 (dk_at dksX4_most_0 21 rfl rfl)
theorem q126 : (Jvm.Cond.initialized "SupplyGrid$Solved") ∈ lw_all := lw_g (lw_at lw_m1 8 rfl) rfl
theorem q199 : (Jvm.Cond.fieldLinkNest "SupplyGrid$Solved" (56 : Nat) "SupplyGrid$Told" "from" "[I" "SupplyGrid") ∈ lw_tbl := lw_at lw_m1 81 rfl
theorem q203 : (Jvm.Cond.fieldLinkNest "SupplyGrid$Solved" (59 : Nat) "SupplyGrid$Told" "to" "[I" "SupplyGrid") ∈ lw_tbl := lw_at lw_m1 85 rfl
theorem q229 : (Jvm.Cond.fieldLinkNest "SupplyGrid$Solved" (99 : Nat) "SupplyGrid$Told" "limit" "I" "SupplyGrid") ∈ lw_tbl := lw_at lw_m1 111 rfl
theorem q233 : (Jvm.Cond.fieldLinkNest "SupplyGrid$Solved" (119 : Nat) "SupplyGrid$Told" "wear" "I" "SupplyGrid") ∈ lw_tbl := lw_at lw_m1 115 rfl
theorem q237 : (Jvm.Cond.fieldLinkNest "SupplyGrid$Solved" (51 : Nat) "SupplyGrid$Told" "straps" "I" "SupplyGrid") ∈ lw_tbl := lw_at lw_m1 119 rfl
theorem q279 : (Jvm.Cond.instantiable "SupplyGrid$Solved" (12 : Nat)) ∈ lw_all := lw_g (lw_at lw_m1 161 rfl) rfl
theorem q281 : (Jvm.Cond.instanceMethod ({ cls := "SupplyGrid$Solved", name := "<init>", desc := "(LSupplyGrid;)V" } : Jvm.MethodName)) ∈ lw_all := lw_g (lw_at lw_m1 163 rfl) rfl
theorem q282 : (Jvm.Cond.code ({ cls := "SupplyGrid$Solved", name := "<init>", desc := "(LSupplyGrid;)V" } : Jvm.MethodName) prog_11_method_1_code (2 : Nat) (Option.none : Option Jvm.ClassFile.FieldType)) ∈ lw_all := lw_g (lw_at lw_m1 164 rfl) rfl
theorem q283 : (Jvm.Cond.methodLinkNest "SupplyGrid$Solved" (9 : Nat) ({ cls := "SupplyGrid$Fed", name := "<init>", desc := "(LSupplyGrid;)V" } : Jvm.MethodName) "SupplyGrid") ∈ lw_tbl := lw_at lw_m1 165 rfl
theorem q290 : (Jvm.Cond.classLink "SupplyGrid$Solved" (19 : Nat) "[[J") ∈ lw_all := lw_g (lw_at lw_m1 172 rfl) rfl
theorem q292 : (Jvm.Cond.fieldLink "SupplyGrid$Solved" (15 : Nat) "SupplyGrid$Solved" "place" "[I") ∈ lw_all := lw_g (lw_at lw_m1 174 rfl) rfl
theorem q293 : (Jvm.Cond.fieldLink "SupplyGrid$Solved" (21 : Nat) "SupplyGrid$Solved" "table" "[[J") ∈ lw_all := lw_g (lw_at lw_m1 175 rfl) rfl
theorem q294 : (Jvm.Cond.fieldLink "SupplyGrid$Solved" (24 : Nat) "SupplyGrid$Solved" "drop" "[J") ∈ lw_all := lw_g (lw_at lw_m1 176 rfl) rfl
theorem q296 : (Jvm.Cond.fieldLink "SupplyGrid$Solved" (40 : Nat) "SupplyGrid$Solved" "size" "I") ∈ lw_all := lw_g (lw_at lw_m1 178 rfl) rfl
theorem q297 : (Jvm.Cond.fieldLink "SupplyGrid$Solved" (73 : Nat) "SupplyGrid$Solved" "whole" "J") ∈ lw_all := lw_g (lw_at lw_m1 179 rfl) rfl
theorem q299 : (Jvm.Cond.fieldLink "SupplyGrid$Solved" (3 : Nat) "SupplyGrid$Solved" "this$0" "LSupplyGrid;") ∈ lw_all := lw_g (lw_at lw_m1 181 rfl) rfl
theorem q301 : (Jvm.Cond.fieldLink "SupplyGrid$Solved" (62 : Nat) "SupplyGrid$Solved" "width" "[I") ∈ lw_all := lw_g (lw_at lw_m1 183 rfl) rfl
theorem q302 : (Jvm.Cond.sameField "SupplyGrid$Solved" "SupplyGrid$Fed" "width" "[I") ∈ lw_all := lw_g (lw_at lw_m1 184 rfl) rfl
theorem q305 : (Jvm.Cond.fieldLink "SupplyGrid$Solved" (88 : Nat) "SupplyGrid$Solved" "load" "[I") ∈ lw_all := lw_g (lw_at lw_m1 187 rfl) rfl
theorem q306 : (Jvm.Cond.sameField "SupplyGrid$Solved" "SupplyGrid$Fed" "load" "[I") ∈ lw_all := lw_g (lw_at lw_m1 188 rfl) rfl
theorem q309 : (Jvm.Cond.fieldLink "SupplyGrid$Solved" (77 : Nat) "SupplyGrid$Solved" "pads" "I") ∈ lw_all := lw_g (lw_at lw_m1 191 rfl) rfl
theorem q310 : (Jvm.Cond.sameField "SupplyGrid$Solved" "SupplyGrid$Fed" "pads" "I") ∈ lw_all := lw_g (lw_at lw_m1 192 rfl) rfl
theorem q312 : (Jvm.Cond.fieldLink "SupplyGrid$Solved" (32 : Nat) "SupplyGrid$Solved" "reached" "I") ∈ lw_all := lw_g (lw_at lw_m1 194 rfl) rfl
theorem q313 : (Jvm.Cond.sameField "SupplyGrid$Solved" "SupplyGrid$Fed" "reached" "I") ∈ lw_all := lw_g (lw_at lw_m1 195 rfl) rfl
theorem q316 : (Jvm.Cond.laysFinal "SupplyGrid$Solved" "SupplyGrid$Solved" "place" "[I") ∈ lw_all := lw_g (lw_at lw_m1 198 rfl) rfl
theorem q317 : (Jvm.Cond.soleField "SupplyGrid$Solved" "place") ∈ lw_all := lw_g (lw_at lw_m1 199 rfl) rfl
theorem q318 : (Jvm.Cond.laysFinal "SupplyGrid$Solved" "SupplyGrid$Solved" "table" "[[J") ∈ lw_all := lw_g (lw_at lw_m1 200 rfl) rfl
theorem q319 : (Jvm.Cond.soleField "SupplyGrid$Solved" "table") ∈ lw_all := lw_g (lw_at lw_m1 201 rfl) rfl
theorem q320 : (Jvm.Cond.laysFinal "SupplyGrid$Solved" "SupplyGrid$Solved" "drop" "[J") ∈ lw_all := lw_g (lw_at lw_m1 202 rfl) rfl
theorem q321 : (Jvm.Cond.soleField "SupplyGrid$Solved" "drop") ∈ lw_all := lw_g (lw_at lw_m1 203 rfl) rfl
theorem q322 : (Jvm.Cond.lays "SupplyGrid$Solved" "SupplyGrid$Solved" "size" "I") ∈ lw_all := lw_g (lw_at lw_m1 204 rfl) rfl
theorem q323 : (Jvm.Cond.soleField "SupplyGrid$Solved" "size") ∈ lw_all := lw_g (lw_at lw_m1 205 rfl) rfl
theorem q324 : (Jvm.Cond.lays "SupplyGrid$Solved" "SupplyGrid$Solved" "whole" "J") ∈ lw_all := lw_g (lw_at lw_m1 206 rfl) rfl
theorem q325 : (Jvm.Cond.soleField "SupplyGrid$Solved" "whole") ∈ lw_all := lw_g (lw_at lw_m1 207 rfl) rfl
theorem q326 : (Jvm.Cond.laysFinal "SupplyGrid$Solved" "SupplyGrid$Solved" "this$0" "LSupplyGrid;") ∈ lw_all := lw_g (lw_at lw_m1 208 rfl) rfl
theorem q327 : (Jvm.Cond.soleField "SupplyGrid$Solved" "this$0") ∈ lw_all := lw_g (lw_at lw_m1 209 rfl) rfl
theorem q328 : (Jvm.Cond.laysFinal "SupplyGrid$Solved" "SupplyGrid$Fed" "width" "[I") ∈ lw_all := lw_g (lw_at lw_m1 210 rfl) rfl
theorem q330 : (Jvm.Cond.laysFinal "SupplyGrid$Solved" "SupplyGrid$Fed" "load" "[I") ∈ lw_all := lw_g (lw_at lw_m1 212 rfl) rfl
theorem q332 : (Jvm.Cond.lays "SupplyGrid$Solved" "SupplyGrid$Fed" "pads" "I") ∈ lw_all := lw_g (lw_at lw_m1 214 rfl) rfl
theorem q334 : (Jvm.Cond.lays "SupplyGrid$Solved" "SupplyGrid$Fed" "reached" "I") ∈ lw_all := lw_g (lw_at lw_m1 216 rfl) rfl
theorem q336 : (Jvm.Cond.laysFinal "SupplyGrid$Solved" "SupplyGrid$Fed" "this$0" "LSupplyGrid;") ∈ lw_all := lw_g (lw_at lw_m1 218 rfl) rfl
theorem q338 : (Jvm.Cond.laysFinal "SupplyGrid$Solved" "SupplyGrid$Sheet" "this$0" "LSupplyGrid;") ∈ lw_all := lw_g (lw_at lw_m1 220 rfl) rfl
theorem q340 : (Jvm.Cond.superclass "SupplyGrid$Solved" "SupplyGrid$Fed") ∈ lw_all := lw_g (lw_at lw_m1 222 rfl) rfl
theorem q345 : (Jvm.Cond.fieldLinkNest "SupplyGrid$Solved" (47 : Nat) "SupplyGrid" "now" "LSupplyGrid$Told;" "SupplyGrid") ∈ lw_tbl := lw_at lw_m1 227 rfl
theorem q705 : (Jvm.Cond.sameMethod "SupplyGrid$Solved" "SupplyGrid$Fed" "takes" "()V") ∈ lw_all := lw_g (lw_at lw_m3 107 rfl) rfl
theorem q707 : (Jvm.Cond.selects "SupplyGrid$Solved" ({ cls := "SupplyGrid$Solved", name := "takes", desc := "()V" } : Jvm.MethodName) ({ cls := "SupplyGrid$Fed", name := "takes", desc := "()V" } : Jvm.MethodName)) ∈ lw_all := lw_g (lw_at lw_m3 109 rfl) rfl
theorem q714 : (Jvm.Cond.instanceMethod ({ cls := "SupplyGrid$Solved", name := "solves", desc := "()LSupplyGrid$Solved;" } : Jvm.MethodName)) ∈ lw_all := lw_g (lw_at lw_m3 116 rfl) rfl
theorem q715 : (Jvm.Cond.selects "SupplyGrid$Solved" ({ cls := "SupplyGrid$Solved", name := "solves", desc := "()LSupplyGrid$Solved;" } : Jvm.MethodName) ({ cls := "SupplyGrid$Solved", name := "solves", desc := "()LSupplyGrid$Solved;" } : Jvm.MethodName)) ∈ lw_all := lw_g (lw_at lw_m3 117 rfl) rfl
theorem q716 : (Jvm.Cond.code ({ cls := "SupplyGrid$Solved", name := "solves", desc := "()LSupplyGrid$Solved;" } : Jvm.MethodName) prog_11_method_7_code (3 : Nat) (Option.some (Jvm.ClassFile.FieldType.object "SupplyGrid$Solved"))) ∈ lw_all := lw_g (lw_at lw_m3 118 rfl) rfl
theorem q717 : (Jvm.Cond.methodLink "SupplyGrid$Solved" (80 : Nat) ({ cls := "SupplyGrid$Solved", name := "reach", desc := "(I)I" } : Jvm.MethodName)) ∈ lw_all := lw_g (lw_at lw_m3 119 rfl) rfl
theorem q718 : (Jvm.Cond.sameMethod "SupplyGrid$Solved" "SupplyGrid$Fed" "reach" "(I)I") ∈ lw_all := lw_g (lw_at lw_m3 120 rfl) rfl
theorem q720 : (Jvm.Cond.selects "SupplyGrid$Solved" ({ cls := "SupplyGrid$Solved", name := "reach", desc := "(I)I" } : Jvm.MethodName) ({ cls := "SupplyGrid$Fed", name := "reach", desc := "(I)I" } : Jvm.MethodName)) ∈ lw_all := lw_g (lw_at lw_m3 122 rfl) rfl
theorem q724 : (Jvm.Cond.methodLink "SupplyGrid$Solved" (84 : Nat) ({ cls := "SupplyGrid$Solved", name := "lays", desc := "(II)V" } : Jvm.MethodName)) ∈ lw_all := lw_g (lw_at lw_m3 126 rfl) rfl
theorem q725 : (Jvm.Cond.privateMethod ({ cls := "SupplyGrid$Solved", name := "lays", desc := "(II)V" } : Jvm.MethodName)) ∈ lw_tbl := lw_at lw_m3 127 rfl
theorem q726 : (Jvm.Cond.instanceMethod ({ cls := "SupplyGrid$Solved", name := "lays", desc := "(II)V" } : Jvm.MethodName)) ∈ lw_all := lw_g (lw_at lw_m3 128 rfl) rfl
theorem q727 : (Jvm.Cond.code ({ cls := "SupplyGrid$Solved", name := "lays", desc := "(II)V" } : Jvm.MethodName) prog_11_method_3_code (5 : Nat) (Option.none : Option Jvm.ClassFile.FieldType)) ∈ lw_all := lw_g (lw_at lw_m3 129 rfl) rfl
theorem q728 : (Jvm.Cond.methodLink "SupplyGrid$Solved" (43 : Nat) ({ cls := "SupplyGrid$Solved", name := "many", desc := "()I" } : Jvm.MethodName)) ∈ lw_all := lw_g (lw_at lw_m3 130 rfl) rfl
theorem q729 : (Jvm.Cond.sameMethod "SupplyGrid$Solved" "SupplyGrid$Sheet" "many" "()I") ∈ lw_all := lw_g (lw_at lw_m3 131 rfl) rfl
theorem q731 : (Jvm.Cond.selects "SupplyGrid$Solved" ({ cls := "SupplyGrid$Solved", name := "many", desc := "()I" } : Jvm.MethodName) ({ cls := "SupplyGrid$Sheet", name := "many", desc := "()I" } : Jvm.MethodName)) ∈ lw_all := lw_g (lw_at lw_m3 133 rfl) rfl
theorem q735 : (Jvm.Cond.methodLinkNest "SupplyGrid$Solved" (36 : Nat) ({ cls := "SupplyGrid", name := "isOn", desc := "(II)Z" } : Jvm.MethodName) "SupplyGrid") ∈ lw_tbl := lw_at lw_m3 137 rfl
theorem q736 : (Jvm.Cond.methodLink "SupplyGrid$Solved" (65 : Nat) ({ cls := "SupplyGrid$Solved", name := "ties", desc := "(III)V" } : Jvm.MethodName)) ∈ lw_all := lw_g (lw_at lw_m3 138 rfl) rfl
theorem q737 : (Jvm.Cond.privateMethod ({ cls := "SupplyGrid$Solved", name := "ties", desc := "(III)V" } : Jvm.MethodName)) ∈ lw_tbl := lw_at lw_m3 139 rfl
theorem q738 : (Jvm.Cond.instanceMethod ({ cls := "SupplyGrid$Solved", name := "ties", desc := "(III)V" } : Jvm.MethodName)) ∈ lw_all := lw_g (lw_at lw_m3 140 rfl) rfl
theorem q739 : (Jvm.Cond.code ({ cls := "SupplyGrid$Solved", name := "ties", desc := "(III)V" } : Jvm.MethodName) prog_11_method_4_code (4 : Nat) (Option.none : Option Jvm.ClassFile.FieldType)) ∈ lw_all := lw_g (lw_at lw_m3 141 rfl) rfl
theorem q740 : (Jvm.Cond.methodLink "SupplyGrid$Solved" (69 : Nat) ({ cls := "SupplyGrid$Solved", name := "turns", desc := "()V" } : Jvm.MethodName)) ∈ lw_all := lw_g (lw_at lw_m3 142 rfl) rfl
theorem q741 : (Jvm.Cond.privateMethod ({ cls := "SupplyGrid$Solved", name := "turns", desc := "()V" } : Jvm.MethodName)) ∈ lw_tbl := lw_at lw_m3 143 rfl
theorem q742 : (Jvm.Cond.instanceMethod ({ cls := "SupplyGrid$Solved", name := "turns", desc := "()V" } : Jvm.MethodName)) ∈ lw_all := lw_g (lw_at lw_m3 144 rfl) rfl
theorem q743 : (Jvm.Cond.code ({ cls := "SupplyGrid$Solved", name := "turns", desc := "()V" } : Jvm.MethodName) prog_11_method_5_code (10 : Nat) (Option.none : Option Jvm.ClassFile.FieldType)) ∈ lw_all := lw_g (lw_at lw_m3 145 rfl) rfl
theorem q744 : (Jvm.Cond.methodLink "SupplyGrid$Solved" (91 : Nat) ({ cls := "SupplyGrid$Solved", name := "moves", desc := "(II)J" } : Jvm.MethodName)) ∈ lw_all := lw_g (lw_at lw_m3 146 rfl) rfl
theorem q745 : (Jvm.Cond.privateMethod ({ cls := "SupplyGrid$Solved", name := "moves", desc := "(II)J" } : Jvm.MethodName)) ∈ lw_tbl := lw_at lw_m3 147 rfl
theorem q746 : (Jvm.Cond.instanceMethod ({ cls := "SupplyGrid$Solved", name := "moves", desc := "(II)J" } : Jvm.MethodName)) ∈ lw_all := lw_g (lw_at lw_m3 148 rfl) rfl
theorem q747 : (Jvm.Cond.code ({ cls := "SupplyGrid$Solved", name := "moves", desc := "(II)J" } : Jvm.MethodName) prog_11_method_6_code (3 : Nat) (Option.some Jvm.ClassFile.FieldType.long)) ∈ lw_all := lw_g (lw_at lw_m3 149 rfl) rfl
theorem q749 : (Jvm.Cond.instanceMethod ({ cls := "SupplyGrid$Solved", name := "dead", desc := "()I" } : Jvm.MethodName)) ∈ lw_all := lw_g (lw_at lw_m3 151 rfl) rfl
theorem q750 : (Jvm.Cond.selects "SupplyGrid$Solved" ({ cls := "SupplyGrid$Solved", name := "dead", desc := "()I" } : Jvm.MethodName) ({ cls := "SupplyGrid$Solved", name := "dead", desc := "()I" } : Jvm.MethodName)) ∈ lw_all := lw_g (lw_at lw_m3 152 rfl) rfl
theorem q751 : (Jvm.Cond.code ({ cls := "SupplyGrid$Solved", name := "dead", desc := "()I" } : Jvm.MethodName) prog_11_method_8_code (1 : Nat) (Option.some Jvm.ClassFile.FieldType.int)) ∈ lw_all := lw_g (lw_at lw_m3 153 rfl) rfl
theorem q780 : (Jvm.Cond.instanceMethod ({ cls := "SupplyGrid$Solved", name := "isLive", desc := "(I)Z" } : Jvm.MethodName)) ∈ lw_all := lw_g (lw_at lw_m3 182 rfl) rfl
theorem q781 : (Jvm.Cond.selects "SupplyGrid$Solved" ({ cls := "SupplyGrid$Solved", name := "isLive", desc := "(I)Z" } : Jvm.MethodName) ({ cls := "SupplyGrid$Solved", name := "isLive", desc := "(I)Z" } : Jvm.MethodName)) ∈ lw_all := lw_g (lw_at lw_m3 183 rfl) rfl
theorem q782 : (Jvm.Cond.code ({ cls := "SupplyGrid$Solved", name := "isLive", desc := "(I)Z" } : Jvm.MethodName) prog_11_method_2_code (2 : Nat) (Option.some Jvm.ClassFile.FieldType.boolean)) ∈ lw_all := lw_g (lw_at lw_m3 184 rfl) rfl
theorem q783 : (Jvm.Cond.methodLink "SupplyGrid$Solved" (28 : Nat) ({ cls := "SupplyGrid$Fed", name := "isLive", desc := "(I)Z" } : Jvm.MethodName)) ∈ lw_all := lw_g (lw_at lw_m3 185 rfl) rfl
theorem q819 : (Jvm.Cond.instanceMethod ({ cls := "SupplyGrid$Solved", name := "slope", desc := "(I)J" } : Jvm.MethodName)) ∈ lw_all := lw_g (lw_at lw_m3 221 rfl) rfl
theorem q820 : (Jvm.Cond.selects "SupplyGrid$Solved" ({ cls := "SupplyGrid$Solved", name := "slope", desc := "(I)J" } : Jvm.MethodName) ({ cls := "SupplyGrid$Solved", name := "slope", desc := "(I)J" } : Jvm.MethodName)) ∈ lw_all := lw_g (lw_at lw_m3 222 rfl) rfl
theorem q821 : (Jvm.Cond.code ({ cls := "SupplyGrid$Solved", name := "slope", desc := "(I)J" } : Jvm.MethodName) prog_11_method_14_code (2 : Nat) (Option.some Jvm.ClassFile.FieldType.long)) ∈ lw_all := lw_g (lw_at lw_m3 223 rfl) rfl
theorem q822 : (Jvm.Cond.methodLink "SupplyGrid$Solved" (95 : Nat) ({ cls := "SupplyGrid$Solved", name := "isLive", desc := "(I)Z" } : Jvm.MethodName)) ∈ lw_all := lw_g (lw_at lw_m3 224 rfl) rfl
theorem q848 : (Jvm.Cond.instanceMethod ({ cls := "SupplyGrid$Solved", name := "worst", desc := "()I" } : Jvm.MethodName)) ∈ lw_all := lw_g (lw_at lw_m4 10 rfl) rfl
theorem q849 : (Jvm.Cond.selects "SupplyGrid$Solved" ({ cls := "SupplyGrid$Solved", name := "worst", desc := "()I" } : Jvm.MethodName) ({ cls := "SupplyGrid$Solved", name := "worst", desc := "()I" } : Jvm.MethodName)) ∈ lw_all := lw_g (lw_at lw_m4 11 rfl) rfl
theorem q850 : (Jvm.Cond.code ({ cls := "SupplyGrid$Solved", name := "worst", desc := "()I" } : Jvm.MethodName) prog_11_method_9_code (3 : Nat) (Option.some Jvm.ClassFile.FieldType.int)) ∈ lw_all := lw_g (lw_at lw_m4 12 rfl) rfl
theorem q856 : (Jvm.Cond.instanceMethod ({ cls := "SupplyGrid$Solved", name := "over", desc := "([J)I" } : Jvm.MethodName)) ∈ lw_all := lw_g (lw_at lw_m4 18 rfl) rfl
theorem q857 : (Jvm.Cond.selects "SupplyGrid$Solved" ({ cls := "SupplyGrid$Solved", name := "over", desc := "([J)I" } : Jvm.MethodName) ({ cls := "SupplyGrid$Solved", name := "over", desc := "([J)I" } : Jvm.MethodName)) ∈ lw_all := lw_g (lw_at lw_m4 19 rfl) rfl
theorem q858 : (Jvm.Cond.code ({ cls := "SupplyGrid$Solved", name := "over", desc := "([J)I" } : Jvm.MethodName) prog_11_method_12_code (4 : Nat) (Option.some Jvm.ClassFile.FieldType.int)) ∈ lw_all := lw_g (lw_at lw_m4 20 rfl) rfl
theorem q864 : (Jvm.Cond.instanceMethod ({ cls := "SupplyGrid$Solved", name := "holds", desc := "()Z" } : Jvm.MethodName)) ∈ lw_all := lw_g (lw_at lw_m4 26 rfl) rfl
theorem q865 : (Jvm.Cond.selects "SupplyGrid$Solved" ({ cls := "SupplyGrid$Solved", name := "holds", desc := "()Z" } : Jvm.MethodName) ({ cls := "SupplyGrid$Solved", name := "holds", desc := "()Z" } : Jvm.MethodName)) ∈ lw_all := lw_g (lw_at lw_m4 27 rfl) rfl
theorem q866 : (Jvm.Cond.code ({ cls := "SupplyGrid$Solved", name := "holds", desc := "()Z" } : Jvm.MethodName) prog_11_method_13_code (1 : Nat) (Option.some Jvm.ClassFile.FieldType.boolean)) ∈ lw_all := lw_g (lw_at lw_m4 28 rfl) rfl
theorem q867 : (Jvm.Cond.methodLink "SupplyGrid$Solved" (102 : Nat) ({ cls := "SupplyGrid$Solved", name := "starved", desc := "()I" } : Jvm.MethodName)) ∈ lw_all := lw_g (lw_at lw_m4 29 rfl) rfl
theorem q868 : (Jvm.Cond.instanceMethod ({ cls := "SupplyGrid$Solved", name := "starved", desc := "()I" } : Jvm.MethodName)) ∈ lw_all := lw_g (lw_at lw_m4 30 rfl) rfl
theorem q869 : (Jvm.Cond.selects "SupplyGrid$Solved" ({ cls := "SupplyGrid$Solved", name := "starved", desc := "()I" } : Jvm.MethodName) ({ cls := "SupplyGrid$Solved", name := "starved", desc := "()I" } : Jvm.MethodName)) ∈ lw_all := lw_g (lw_at lw_m4 31 rfl) rfl
theorem q870 : (Jvm.Cond.code ({ cls := "SupplyGrid$Solved", name := "starved", desc := "()I" } : Jvm.MethodName) prog_11_method_11_code (3 : Nat) (Option.some Jvm.ClassFile.FieldType.int)) ∈ lw_all := lw_g (lw_at lw_m4 32 rfl) rfl
theorem q871 : (Jvm.Cond.methodLink "SupplyGrid$Solved" (105 : Nat) ({ cls := "SupplyGrid$Solved", name := "over", desc := "([J)I" } : Jvm.MethodName)) ∈ lw_all := lw_g (lw_at lw_m4 33 rfl) rfl
theorem q896 : (Jvm.Cond.instanceMethod ({ cls := "SupplyGrid$Solved", name := "wearing", desc := "()I" } : Jvm.MethodName)) ∈ lw_all := lw_g (lw_at lw_m4 58 rfl) rfl
theorem q897 : (Jvm.Cond.selects "SupplyGrid$Solved" ({ cls := "SupplyGrid$Solved", name := "wearing", desc := "()I" } : Jvm.MethodName) ({ cls := "SupplyGrid$Solved", name := "wearing", desc := "()I" } : Jvm.MethodName)) ∈ lw_all := lw_g (lw_at lw_m4 59 rfl) rfl
theorem q898 : (Jvm.Cond.code ({ cls := "SupplyGrid$Solved", name := "wearing", desc := "()I" } : Jvm.MethodName) prog_11_method_15_code (3 : Nat) (Option.some Jvm.ClassFile.FieldType.int)) ∈ lw_all := lw_g (lw_at lw_m4 60 rfl) rfl
theorem q899 : (Jvm.Cond.methodLink "SupplyGrid$Solved" (109 : Nat) ({ cls := "SupplyGrid$Solved", name := "slope", desc := "(I)J" } : Jvm.MethodName)) ∈ lw_all := lw_g (lw_at lw_m4 61 rfl) rfl
theorem q900 : (Jvm.Cond.methodLink "SupplyGrid$Solved" (113 : Nat) ({ cls := "java/lang/Math", name := "abs", desc := "(J)J" } : Jvm.MethodName)) ∈ lw_all := lw_g (lw_at lw_m4 62 rfl) rfl
theorem q968 : (Jvm.Cond.instanceMethod ({ cls := "SupplyGrid$Solved", name := "ages", desc := "()I" } : Jvm.MethodName)) ∈ lw_all := lw_g (lw_at lw_m4 130 rfl) rfl
theorem q969 : (Jvm.Cond.selects "SupplyGrid$Solved" ({ cls := "SupplyGrid$Solved", name := "ages", desc := "()I" } : Jvm.MethodName) ({ cls := "SupplyGrid$Solved", name := "ages", desc := "()I" } : Jvm.MethodName)) ∈ lw_all := lw_g (lw_at lw_m4 131 rfl) rfl
theorem q970 : (Jvm.Cond.code ({ cls := "SupplyGrid$Solved", name := "ages", desc := "()I" } : Jvm.MethodName) prog_11_method_16_code (3 : Nat) (Option.some Jvm.ClassFile.FieldType.int)) ∈ lw_all := lw_g (lw_at lw_m4 132 rfl) rfl
theorem q971 : (Jvm.Cond.methodLink "SupplyGrid$Solved" (122 : Nat) ({ cls := "SupplyGrid$Solved", name := "wearing", desc := "()I" } : Jvm.MethodName)) ∈ lw_all := lw_g (lw_at lw_m4 133 rfl) rfl
theorem q972 : (Jvm.Cond.methodLink "SupplyGrid$Solved" (125 : Nat) ({ cls := "SupplyGrid$Solved", name := "solves", desc := "()LSupplyGrid$Solved;" } : Jvm.MethodName)) ∈ lw_all := lw_g (lw_at lw_m4 134 rfl) rfl
theorem q973 : (Jvm.Cond.methodLink "SupplyGrid$Solved" (129 : Nat) ({ cls := "java/lang/Integer", name := "bitCount", desc := "(I)I" } : Jvm.MethodName)) ∈ lw_all := lw_g (lw_at lw_m4 135 rfl) rfl
theorem q1009 : (Jvm.Cond.instanceMethod ({ cls := "SupplyGrid$Solved", name := "most", desc := "()J" } : Jvm.MethodName)) ∈ lw_all := lw_g (lw_at lw_m4 171 rfl) rfl
theorem q1010 : (Jvm.Cond.selects "SupplyGrid$Solved" ({ cls := "SupplyGrid$Solved", name := "most", desc := "()J" } : Jvm.MethodName) ({ cls := "SupplyGrid$Solved", name := "most", desc := "()J" } : Jvm.MethodName)) ∈ lw_all := lw_g (lw_at lw_m4 172 rfl) rfl
theorem q1011 : (Jvm.Cond.code ({ cls := "SupplyGrid$Solved", name := "most", desc := "()J" } : Jvm.MethodName) prog_11_method_10_code (1 : Nat) (Option.some Jvm.ClassFile.FieldType.long)) ∈ lw_all := lw_g (lw_at lw_m4 173 rfl) rfl
theorem q1012 : (Jvm.Cond.methodLink "SupplyGrid$Solved" (96 : Nat) ({ cls := "SupplyGrid$Solved", name := "worst", desc := "()I" } : Jvm.MethodName)) ∈ lw_all := lw_g (lw_at lw_m4 174 rfl) rfl
theorem q1213 : (Jvm.Cond.selects "SupplyGrid$Solved" ({ cls := "java/lang/Object", name := "getClass", desc := "()Ljava/lang/Class;" } : Jvm.MethodName) ({ cls := "java/lang/Object", name := "getClass", desc := "()Ljava/lang/Class;" } : Jvm.MethodName)) ∈ lw_all := lw_g (lw_at lw_m5 135 rfl) rfl
theorem q2103 : (Jvm.Cond.castable "SupplyGrid$Solved" "java/lang/Object") ∈ lw_tbl := lw_at lw_m9 65 rfl
theorem in_X4 : ∀ w ∈ wsX40, w ∈ lw_all := lw_in wsX40 [338, 328, 330, 332, 334, 336, 316, 318, 320, 322, 324, 326] (by decide +kernel) (by decide +kernel)

/-! SupplyGrid$Reader -/
set_option maxRecDepth 100000
def RX6 : String := "SupplyGrid$Reader"
def TX6 : u_T := fun k => match k with
  | 0 => ("SupplyGrid$Reader", "text", "[B", true)
  | 1 => ("SupplyGrid$Reader", "many", "I", true)
  | 2 => ("SupplyGrid$Reader", "t", "LSupplyGrid$Told;", true)
  | 3 => ("SupplyGrid$Reader", "at", "I", false)
  | 4 => ("SupplyGrid$Reader", "begin", "I", false)
  | 5 => ("SupplyGrid$Reader", "token", "I", false)
  | 6 => ("SupplyGrid$Reader", "value", "I", false)
  | 7 => ("SupplyGrid$Reader", "drawn", "I", false)
  | _ => ("SupplyGrid$Reader", "budgets", "I", false)
def tyX6 : Nat → FieldType := fun k => match k with
  | 0 => .array .byte
  | 1 => .int
  | 2 => .object "SupplyGrid$Told"
  | 3 => .int
  | 4 => .int
  | 5 => .int
  | 6 => .int
  | 7 => .int
  | _ => .int
abbrev wsX60 : List Cond := u_ws RX6 TX6 9
theorem nmX6 : ∀ a, a < 9 → ∀ b, b < 9 → a ≠ b → (TX6 a).2.1 ≠ (TX6 b).2.1 := by decide +kernel
theorem tyX6_ok : ∀ k, k < 9 → parseFieldDescriptor (TX6 k).2.2.1 = some (tyX6 k) := by decide +kernel
abbrev cX6_init : ByteArray := prog_9_method_1_code
def yX6_init : MethodName := ⟨RX6, "<init>", "([BI)V"⟩
def dkwX6_init_1 : List UInt8 := [181, 0, 22, 42, 182, 0, 26, 177]
abbrev dktX6_init_1 : List UInt8 := dkwX6_init_1 ++ []
def dkwX6_init_0 : List UInt8 := [42, 183, 0, 3, 42, 187, 0, 9, 89, 183, 0, 11, 181, 0, 12, 42, 43, 181, 0, 18, 42, 28]
abbrev dktX6_init_0 : List UInt8 := dkwX6_init_0 ++ dktX6_init_1
theorem dksX6_init_0 : cX6_init.data.toList.drop 0 = dktX6_init_0 := by decide +kernel
theorem dksX6_init_1 : cX6_init.data.toList.drop 22 = dktX6_init_1 := dk_seg dksX6_init_0 22 rfl rfl
theorem dX6_init_0 : decode cX6_init 0 = .ok (.aload_n 0, 1) := dk_42 (dk_at dksX6_init_0 0 rfl rfl)
theorem dX6_init_1 : decode cX6_init 1 = .ok (.invokespecial 3, 3) := dk_183 0 3 (dk_at dksX6_init_0 1 rfl rfl)
theorem dX6_init_4 : decode cX6_init 4 = .ok (.aload_n 0, 1) := dk_42 (dk_at dksX6_init_0 4 rfl rfl)
theorem dX6_init_5 : decode cX6_init 5 = .ok (.new 9, 3) := dk_187 0 9 (dk_at dksX6_init_0 5 rfl rfl)
theorem dX6_init_8 : decode cX6_init 8 = .ok (.dup, 1) := dk_89 (dk_at dksX6_init_0 8 rfl rfl)
theorem dX6_init_9 : decode cX6_init 9 = .ok (.invokespecial 11, 3) := dk_183 0 11 (dk_at dksX6_init_0 9 rfl rfl)
theorem dX6_init_12 : decode cX6_init 12 = .ok (.putfield 12, 3) := dk_181 0 12 (dk_at dksX6_init_0 12 rfl rfl)
theorem dX6_init_15 : decode cX6_init 15 = .ok (.aload_n 0, 1) := dk_42 (dk_at dksX6_init_0 15 rfl rfl)
theorem dX6_init_16 : decode cX6_init 16 = .ok (.aload_n 1, 1) := dk_43 (dk_at dksX6_init_0 16 rfl rfl)
theorem dX6_init_17 : decode cX6_init 17 = .ok (.putfield 18, 3) := dk_181 0 18 (dk_at dksX6_init_0 17 rfl rfl)
theorem dX6_init_20 : decode cX6_init 20 = .ok (.aload_n 0, 1) := dk_42 (dk_at dksX6_init_0 20 rfl rfl)
theorem dX6_init_21 : decode cX6_init 21 = .ok (.iload_n 2, 1) := dk_28 (dk_at dksX6_init_0 21 rfl rfl)
theorem dX6_init_22 : decode cX6_init 22 = .ok (.putfield 22, 3) := dk_181 0 22 (dk_at dksX6_init_1 0 rfl rfl)
theorem dX6_init_25 : decode cX6_init 25 = .ok (.aload_n 0, 1) := dk_42 (dk_at dksX6_init_1 3 rfl rfl)
theorem dX6_init_26 : decode cX6_init 26 = .ok (.invokevirtual 26, 3) := dk_182 0 26 (dk_at dksX6_init_1 4 rfl rfl)
theorem dX6_init_29 : decode cX6_init 29 = .ok (.return_, 1) := dk_177 (dk_at dksX6_init_1 7 rfl rfl)
abbrev cX6_next : ByteArray := prog_9_method_3_code
def yX6_next : MethodName := ⟨RX6, "next", "()V"⟩
def dkwX6_next_8 : List UInt8 := [7, 181, 0, 46, 42, 89, 180, 0, 29, 4, 96, 181, 0, 29, 177]
abbrev dktX6_next_8 : List UInt8 := dkwX6_next_8 ++ []
def dkwX6_next_7 : List UInt8 := [4, 96, 181, 0, 29, 167, 255, 206, 42, 42, 16, 59, 16, 59, 182, 0, 36, 153, 0, 7, 6, 167, 0, 4]
abbrev dktX6_next_7 : List UInt8 := dkwX6_next_7 ++ dktX6_next_8
def dkwX6_next_6 : List UInt8 := [42, 180, 0, 18, 42, 180, 0, 29, 51, 96, 16, 48, 100, 184, 0, 50, 181, 0, 43, 42, 89, 180, 0, 29]
abbrev dktX6_next_6 : List UInt8 := dkwX6_next_6 ++ dktX6_next_7
def dkwX6_next_5 : List UInt8 := [181, 0, 46, 42, 16, 48, 16, 57, 182, 0, 36, 153, 0, 75, 42, 18, 49, 16, 10, 42, 180, 0, 43, 104]
abbrev dktX6_next_5 : List UInt8 := dkwX6_next_5 ++ dktX6_next_6
def dkwX6_next_4 : List UInt8 := [180, 0, 29, 4, 96, 181, 0, 29, 167, 255, 235, 42, 16, 48, 16, 57, 182, 0, 36, 153, 0, 61, 42, 5]
abbrev dktX6_next_4 : List UInt8 := dkwX6_next_4 ++ dktX6_next_5
def dkwX6_next_3 : List UInt8 := [182, 0, 36, 153, 0, 32, 42, 4, 181, 0, 46, 42, 16, 97, 16, 122, 182, 0, 36, 153, 0, 115, 42, 89]
abbrev dktX6_next_3 : List UInt8 := dkwX6_next_3 ++ dktX6_next_4
def dkwX6_next_2 : List UInt8 := [42, 180, 0, 29, 42, 180, 0, 22, 160, 0, 11, 42, 3, 181, 0, 46, 167, 0, 142, 42, 16, 97, 16, 122]
abbrev dktX6_next_2 : List UInt8 := dkwX6_next_2 ++ dktX6_next_3
def dkwX6_next_1 : List UInt8 := [180, 0, 29, 4, 96, 181, 0, 29, 167, 255, 224, 42, 42, 180, 0, 29, 181, 0, 40, 42, 3, 181, 0, 43]
abbrev dktX6_next_1 : List UInt8 := dkwX6_next_1 ++ dktX6_next_2
def dkwX6_next_0 : List UInt8 := [42, 16, 32, 16, 32, 182, 0, 36, 154, 0, 14, 42, 16, 10, 16, 10, 182, 0, 36, 153, 0, 16, 42, 89]
abbrev dktX6_next_0 : List UInt8 := dkwX6_next_0 ++ dktX6_next_1
theorem dksX6_next_0 : cX6_next.data.toList.drop 0 = dktX6_next_0 := by decide +kernel
theorem dksX6_next_1 : cX6_next.data.toList.drop 24 = dktX6_next_1 := dk_seg dksX6_next_0 24 rfl rfl
theorem dksX6_next_2 : cX6_next.data.toList.drop 48 = dktX6_next_2 := dk_seg dksX6_next_1 24 rfl rfl
theorem dksX6_next_3 : cX6_next.data.toList.drop 72 = dktX6_next_3 := dk_seg dksX6_next_2 24 rfl rfl
theorem dksX6_next_4 : cX6_next.data.toList.drop 96 = dktX6_next_4 := dk_seg dksX6_next_3 24 rfl rfl
theorem dksX6_next_5 : cX6_next.data.toList.drop 120 = dktX6_next_5 := dk_seg dksX6_next_4 24 rfl rfl
theorem dksX6_next_6 : cX6_next.data.toList.drop 144 = dktX6_next_6 := dk_seg dksX6_next_5 24 rfl rfl
theorem dksX6_next_7 : cX6_next.data.toList.drop 168 = dktX6_next_7 := dk_seg dksX6_next_6 24 rfl rfl
theorem dksX6_next_8 : cX6_next.data.toList.drop 192 = dktX6_next_8 := dk_seg dksX6_next_7 24 rfl rfl
theorem dX6_next_0 : decode cX6_next 0 = .ok (.aload_n 0, 1) := dk_42 (dk_at dksX6_next_0 0 rfl rfl)
theorem dX6_next_1 : decode cX6_next 1 = .ok (.bipush 32, 2) := dk_16 32 (dk_at dksX6_next_0 1 rfl rfl)
theorem dX6_next_3 : decode cX6_next 3 = .ok (.bipush 32, 2) := dk_16 32 (dk_at dksX6_next_0 3 rfl rfl)
theorem dX6_next_5 : decode cX6_next 5 = .ok (.invokevirtual 36, 3) := dk_182 0 36 (dk_at dksX6_next_0 5 rfl rfl)
theorem dX6_next_8 : decode cX6_next 8 = .ok (.ifCond .ne 14, 3) := dk_154 0 14 (dk_at dksX6_next_0 8 rfl rfl)
theorem dX6_next_11 : decode cX6_next 11 = .ok (.aload_n 0, 1) := dk_42 (dk_at dksX6_next_0 11 rfl rfl)
theorem dX6_next_12 : decode cX6_next 12 = .ok (.bipush 10, 2) := dk_16 10 (dk_at dksX6_next_0 12 rfl rfl)
theorem dX6_next_14 : decode cX6_next 14 = .ok (.bipush 10, 2) := dk_16 10 (dk_at dksX6_next_0 14 rfl rfl)
theorem dX6_next_16 : decode cX6_next 16 = .ok (.invokevirtual 36, 3) := dk_182 0 36 (dk_at dksX6_next_0 16 rfl rfl)
theorem dX6_next_19 : decode cX6_next 19 = .ok (.ifCond .eq 16, 3) := dk_153 0 16 (dk_at dksX6_next_0 19 rfl rfl)
theorem dX6_next_22 : decode cX6_next 22 = .ok (.aload_n 0, 1) := dk_42 (dk_at dksX6_next_0 22 rfl rfl)
theorem dX6_next_23 : decode cX6_next 23 = .ok (.dup, 1) := dk_89 (dk_at dksX6_next_0 23 rfl rfl)
theorem dX6_next_24 : decode cX6_next 24 = .ok (.getfield 29, 3) := dk_180 0 29 (dk_at dksX6_next_1 0 rfl rfl)
theorem dX6_next_27 : decode cX6_next 27 = .ok (.iconst 1, 1) := dk_4 (dk_at dksX6_next_1 3 rfl rfl)
theorem dX6_next_28 : decode cX6_next 28 = .ok (.iadd, 1) := dk_96 (dk_at dksX6_next_1 4 rfl rfl)
theorem dX6_next_29 : decode cX6_next 29 = .ok (.putfield 29, 3) := dk_181 0 29 (dk_at dksX6_next_1 5 rfl rfl)
theorem dX6_next_32 : decode cX6_next 32 = .ok (.goto (-32), 3) := dk_167 255 224 (dk_at dksX6_next_1 8 rfl rfl)
theorem dX6_next_35 : decode cX6_next 35 = .ok (.aload_n 0, 1) := dk_42 (dk_at dksX6_next_1 11 rfl rfl)
theorem dX6_next_36 : decode cX6_next 36 = .ok (.aload_n 0, 1) := dk_42 (dk_at dksX6_next_1 12 rfl rfl)
theorem dX6_next_37 : decode cX6_next 37 = .ok (.getfield 29, 3) := dk_180 0 29 (dk_at dksX6_next_1 13 rfl rfl)
theorem dX6_next_40 : decode cX6_next 40 = .ok (.putfield 40, 3) := dk_181 0 40 (dk_at dksX6_next_1 16 rfl rfl)
theorem dX6_next_43 : decode cX6_next 43 = .ok (.aload_n 0, 1) := dk_42 (dk_at dksX6_next_1 19 rfl rfl)
theorem dX6_next_44 : decode cX6_next 44 = .ok (.iconst 0, 1) := dk_3 (dk_at dksX6_next_1 20 rfl rfl)
theorem dX6_next_45 : decode cX6_next 45 = .ok (.putfield 43, 3) := dk_181 0 43 (dk_at dksX6_next_1 21 rfl rfl)
theorem dX6_next_48 : decode cX6_next 48 = .ok (.aload_n 0, 1) := dk_42 (dk_at dksX6_next_2 0 rfl rfl)
theorem dX6_next_49 : decode cX6_next 49 = .ok (.getfield 29, 3) := dk_180 0 29 (dk_at dksX6_next_2 1 rfl rfl)
theorem dX6_next_52 : decode cX6_next 52 = .ok (.aload_n 0, 1) := dk_42 (dk_at dksX6_next_2 4 rfl rfl)
theorem dX6_next_53 : decode cX6_next 53 = .ok (.getfield 22, 3) := dk_180 0 22 (dk_at dksX6_next_2 5 rfl rfl)
theorem dX6_next_56 : decode cX6_next 56 = .ok (.if_icmp .ne 11, 3) := dk_160 0 11 (dk_at dksX6_next_2 8 rfl rfl)
theorem dX6_next_59 : decode cX6_next 59 = .ok (.aload_n 0, 1) := dk_42 (dk_at dksX6_next_2 11 rfl rfl)
theorem dX6_next_60 : decode cX6_next 60 = .ok (.iconst 0, 1) := dk_3 (dk_at dksX6_next_2 12 rfl rfl)
theorem dX6_next_61 : decode cX6_next 61 = .ok (.putfield 46, 3) := dk_181 0 46 (dk_at dksX6_next_2 13 rfl rfl)
theorem dX6_next_64 : decode cX6_next 64 = .ok (.goto 142, 3) := dk_167 0 142 (dk_at dksX6_next_2 16 rfl rfl)
theorem dX6_next_67 : decode cX6_next 67 = .ok (.aload_n 0, 1) := dk_42 (dk_at dksX6_next_2 19 rfl rfl)
theorem dX6_next_68 : decode cX6_next 68 = .ok (.bipush 97, 2) := dk_16 97 (dk_at dksX6_next_2 20 rfl rfl)
theorem dX6_next_70 : decode cX6_next 70 = .ok (.bipush 122, 2) := dk_16 122 (dk_at dksX6_next_2 22 rfl rfl)
theorem dX6_next_72 : decode cX6_next 72 = .ok (.invokevirtual 36, 3) := dk_182 0 36 (dk_at dksX6_next_3 0 rfl rfl)
theorem dX6_next_75 : decode cX6_next 75 = .ok (.ifCond .eq 32, 3) := dk_153 0 32 (dk_at dksX6_next_3 3 rfl rfl)
theorem dX6_next_78 : decode cX6_next 78 = .ok (.aload_n 0, 1) := dk_42 (dk_at dksX6_next_3 6 rfl rfl)
theorem dX6_next_79 : decode cX6_next 79 = .ok (.iconst 1, 1) := dk_4 (dk_at dksX6_next_3 7 rfl rfl)
theorem dX6_next_80 : decode cX6_next 80 = .ok (.putfield 46, 3) := dk_181 0 46 (dk_at dksX6_next_3 8 rfl rfl)
theorem dX6_next_83 : decode cX6_next 83 = .ok (.aload_n 0, 1) := dk_42 (dk_at dksX6_next_3 11 rfl rfl)
theorem dX6_next_84 : decode cX6_next 84 = .ok (.bipush 97, 2) := dk_16 97 (dk_at dksX6_next_3 12 rfl rfl)
theorem dX6_next_86 : decode cX6_next 86 = .ok (.bipush 122, 2) := dk_16 122 (dk_at dksX6_next_3 14 rfl rfl)
theorem dX6_next_88 : decode cX6_next 88 = .ok (.invokevirtual 36, 3) := dk_182 0 36 (dk_at dksX6_next_3 16 rfl rfl)
theorem dX6_next_91 : decode cX6_next 91 = .ok (.ifCond .eq 115, 3) := dk_153 0 115 (dk_at dksX6_next_3 19 rfl rfl)
theorem dX6_next_94 : decode cX6_next 94 = .ok (.aload_n 0, 1) := dk_42 (dk_at dksX6_next_3 22 rfl rfl)
theorem dX6_next_95 : decode cX6_next 95 = .ok (.dup, 1) := dk_89 (dk_at dksX6_next_3 23 rfl rfl)
theorem dX6_next_96 : decode cX6_next 96 = .ok (.getfield 29, 3) := dk_180 0 29 (dk_at dksX6_next_4 0 rfl rfl)
theorem dX6_next_99 : decode cX6_next 99 = .ok (.iconst 1, 1) := dk_4 (dk_at dksX6_next_4 3 rfl rfl)
theorem dX6_next_100 : decode cX6_next 100 = .ok (.iadd, 1) := dk_96 (dk_at dksX6_next_4 4 rfl rfl)
theorem dX6_next_101 : decode cX6_next 101 = .ok (.putfield 29, 3) := dk_181 0 29 (dk_at dksX6_next_4 5 rfl rfl)
theorem dX6_next_104 : decode cX6_next 104 = .ok (.goto (-21), 3) := dk_167 255 235 (dk_at dksX6_next_4 8 rfl rfl)
theorem dX6_next_107 : decode cX6_next 107 = .ok (.aload_n 0, 1) := dk_42 (dk_at dksX6_next_4 11 rfl rfl)
theorem dX6_next_108 : decode cX6_next 108 = .ok (.bipush 48, 2) := dk_16 48 (dk_at dksX6_next_4 12 rfl rfl)
theorem dX6_next_110 : decode cX6_next 110 = .ok (.bipush 57, 2) := dk_16 57 (dk_at dksX6_next_4 14 rfl rfl)
theorem dX6_next_112 : decode cX6_next 112 = .ok (.invokevirtual 36, 3) := dk_182 0 36 (dk_at dksX6_next_4 16 rfl rfl)
theorem dX6_next_115 : decode cX6_next 115 = .ok (.ifCond .eq 61, 3) := dk_153 0 61 (dk_at dksX6_next_4 19 rfl rfl)
theorem dX6_next_118 : decode cX6_next 118 = .ok (.aload_n 0, 1) := dk_42 (dk_at dksX6_next_4 22 rfl rfl)
theorem dX6_next_119 : decode cX6_next 119 = .ok (.iconst 2, 1) := dk_5 (dk_at dksX6_next_4 23 rfl rfl)
theorem dX6_next_120 : decode cX6_next 120 = .ok (.putfield 46, 3) := dk_181 0 46 (dk_at dksX6_next_5 0 rfl rfl)
theorem dX6_next_123 : decode cX6_next 123 = .ok (.aload_n 0, 1) := dk_42 (dk_at dksX6_next_5 3 rfl rfl)
theorem dX6_next_124 : decode cX6_next 124 = .ok (.bipush 48, 2) := dk_16 48 (dk_at dksX6_next_5 4 rfl rfl)
theorem dX6_next_126 : decode cX6_next 126 = .ok (.bipush 57, 2) := dk_16 57 (dk_at dksX6_next_5 6 rfl rfl)
theorem dX6_next_128 : decode cX6_next 128 = .ok (.invokevirtual 36, 3) := dk_182 0 36 (dk_at dksX6_next_5 8 rfl rfl)
theorem dX6_next_131 : decode cX6_next 131 = .ok (.ifCond .eq 75, 3) := dk_153 0 75 (dk_at dksX6_next_5 11 rfl rfl)
theorem dX6_next_134 : decode cX6_next 134 = .ok (.aload_n 0, 1) := dk_42 (dk_at dksX6_next_5 14 rfl rfl)
theorem dX6_next_135 : decode cX6_next 135 = .ok (.ldc 49, 2) := dk_18 49 (dk_at dksX6_next_5 15 rfl rfl)
theorem dX6_next_137 : decode cX6_next 137 = .ok (.bipush 10, 2) := dk_16 10 (dk_at dksX6_next_5 17 rfl rfl)
theorem dX6_next_139 : decode cX6_next 139 = .ok (.aload_n 0, 1) := dk_42 (dk_at dksX6_next_5 19 rfl rfl)
theorem dX6_next_140 : decode cX6_next 140 = .ok (.getfield 43, 3) := dk_180 0 43 (dk_at dksX6_next_5 20 rfl rfl)
theorem dX6_next_143 : decode cX6_next 143 = .ok (.imul, 1) := dk_104 (dk_at dksX6_next_5 23 rfl rfl)
theorem dX6_next_144 : decode cX6_next 144 = .ok (.aload_n 0, 1) := dk_42 (dk_at dksX6_next_6 0 rfl rfl)
theorem dX6_next_145 : decode cX6_next 145 = .ok (.getfield 18, 3) := dk_180 0 18 (dk_at dksX6_next_6 1 rfl rfl)
theorem dX6_next_148 : decode cX6_next 148 = .ok (.aload_n 0, 1) := dk_42 (dk_at dksX6_next_6 4 rfl rfl)
theorem dX6_next_149 : decode cX6_next 149 = .ok (.getfield 29, 3) := dk_180 0 29 (dk_at dksX6_next_6 5 rfl rfl)
theorem dX6_next_152 : decode cX6_next 152 = .ok (.baload, 1) := dk_51 (dk_at dksX6_next_6 8 rfl rfl)
theorem dX6_next_153 : decode cX6_next 153 = .ok (.iadd, 1) := dk_96 (dk_at dksX6_next_6 9 rfl rfl)
theorem dX6_next_154 : decode cX6_next 154 = .ok (.bipush 48, 2) := dk_16 48 (dk_at dksX6_next_6 10 rfl rfl)
theorem dX6_next_156 : decode cX6_next 156 = .ok (.isub, 1) := dk_100 (dk_at dksX6_next_6 12 rfl rfl)
theorem dX6_next_157 : decode cX6_next 157 = .ok (.invokestatic 50, 3) := dk_184 0 50 (dk_at dksX6_next_6 13 rfl rfl)
theorem dX6_next_160 : decode cX6_next 160 = .ok (.putfield 43, 3) := dk_181 0 43 (dk_at dksX6_next_6 16 rfl rfl)
theorem dX6_next_163 : decode cX6_next 163 = .ok (.aload_n 0, 1) := dk_42 (dk_at dksX6_next_6 19 rfl rfl)
theorem dX6_next_164 : decode cX6_next 164 = .ok (.dup, 1) := dk_89 (dk_at dksX6_next_6 20 rfl rfl)
theorem dX6_next_165 : decode cX6_next 165 = .ok (.getfield 29, 3) := dk_180 0 29 (dk_at dksX6_next_6 21 rfl rfl)
theorem dX6_next_168 : decode cX6_next 168 = .ok (.iconst 1, 1) := dk_4 (dk_at dksX6_next_7 0 rfl rfl)
theorem dX6_next_169 : decode cX6_next 169 = .ok (.iadd, 1) := dk_96 (dk_at dksX6_next_7 1 rfl rfl)
theorem dX6_next_170 : decode cX6_next 170 = .ok (.putfield 29, 3) := dk_181 0 29 (dk_at dksX6_next_7 2 rfl rfl)
theorem dX6_next_173 : decode cX6_next 173 = .ok (.goto (-50), 3) := dk_167 255 206 (dk_at dksX6_next_7 5 rfl rfl)
theorem dX6_next_176 : decode cX6_next 176 = .ok (.aload_n 0, 1) := dk_42 (dk_at dksX6_next_7 8 rfl rfl)
theorem dX6_next_177 : decode cX6_next 177 = .ok (.aload_n 0, 1) := dk_42 (dk_at dksX6_next_7 9 rfl rfl)
theorem dX6_next_178 : decode cX6_next 178 = .ok (.bipush 59, 2) := dk_16 59 (dk_at dksX6_next_7 10 rfl rfl)
theorem dX6_next_180 : decode cX6_next 180 = .ok (.bipush 59, 2) := dk_16 59 (dk_at dksX6_next_7 12 rfl rfl)
theorem dX6_next_182 : decode cX6_next 182 = .ok (.invokevirtual 36, 3) := dk_182 0 36 (dk_at dksX6_next_7 14 rfl rfl)
theorem dX6_next_185 : decode cX6_next 185 = .ok (.ifCond .eq 7, 3) := dk_153 0 7 (dk_at dksX6_next_7 17 rfl rfl)
theorem dX6_next_188 : decode cX6_next 188 = .ok (.iconst 3, 1) := dk_6 (dk_at dksX6_next_7 20 rfl rfl)
theorem dX6_next_189 : decode cX6_next 189 = .ok (.goto 4, 3) := dk_167 0 4 (dk_at dksX6_next_7 21 rfl rfl)
theorem dX6_next_192 : decode cX6_next 192 = .ok (.iconst 4, 1) := dk_7 (dk_at dksX6_next_8 0 rfl rfl)
theorem dX6_next_193 : decode cX6_next 193 = .ok (.putfield 46, 3) := dk_181 0 46 (dk_at dksX6_next_8 1 rfl rfl)
theorem dX6_next_196 : decode cX6_next 196 = .ok (.aload_n 0, 1) := dk_42 (dk_at dksX6_next_8 4 rfl rfl)
theorem dX6_next_197 : decode cX6_next 197 = .ok (.dup, 1) := dk_89 (dk_at dksX6_next_8 5 rfl rfl)
theorem dX6_next_198 : decode cX6_next 198 = .ok (.getfield 29, 3) := dk_180 0 29 (dk_at dksX6_next_8 6 rfl rfl)
theorem dX6_next_201 : decode cX6_next 201 = .ok (.iconst 1, 1) := dk_4 (dk_at dksX6_next_8 9 rfl rfl)
theorem dX6_next_202 : decode cX6_next 202 = .ok (.iadd, 1) := dk_96 (dk_at dksX6_next_8 10 rfl rfl)
theorem dX6_next_203 : decode cX6_next 203 = .ok (.putfield 29, 3) := dk_181 0 29 (dk_at dksX6_next_8 11 rfl rfl)
theorem dX6_next_206 : decode cX6_next 206 = .ok (.return_, 1) := dk_177 (dk_at dksX6_next_8 14 rfl rfl)
abbrev cX6_isAt : ByteArray := prog_9_method_2_code
def yX6_isAt : MethodName := ⟨RX6, "isAt", "(II)Z"⟩
def dkwX6_isAt_1 : List UInt8 := [133, 184, 0, 32, 153, 0, 7, 4, 167, 0, 4, 3, 172]
abbrev dktX6_isAt_1 : List UInt8 := dkwX6_isAt_1 ++ []
def dkwX6_isAt_0 : List UInt8 := [42, 180, 0, 29, 42, 180, 0, 22, 162, 0, 27, 42, 180, 0, 18, 42, 180, 0, 29, 51, 133, 27, 133, 28]
abbrev dktX6_isAt_0 : List UInt8 := dkwX6_isAt_0 ++ dktX6_isAt_1
theorem dksX6_isAt_0 : cX6_isAt.data.toList.drop 0 = dktX6_isAt_0 := by decide +kernel
theorem dksX6_isAt_1 : cX6_isAt.data.toList.drop 24 = dktX6_isAt_1 := dk_seg dksX6_isAt_0 24 rfl rfl
theorem dX6_isAt_0 : decode cX6_isAt 0 = .ok (.aload_n 0, 1) := dk_42 (dk_at dksX6_isAt_0 0 rfl rfl)
theorem dX6_isAt_1 : decode cX6_isAt 1 = .ok (.getfield 29, 3) := dk_180 0 29 (dk_at dksX6_isAt_0 1 rfl rfl)
theorem dX6_isAt_4 : decode cX6_isAt 4 = .ok (.aload_n 0, 1) := dk_42 (dk_at dksX6_isAt_0 4 rfl rfl)
theorem dX6_isAt_5 : decode cX6_isAt 5 = .ok (.getfield 22, 3) := dk_180 0 22 (dk_at dksX6_isAt_0 5 rfl rfl)
theorem dX6_isAt_8 : decode cX6_isAt 8 = .ok (.if_icmp .ge 27, 3) := dk_162 0 27 (dk_at dksX6_isAt_0 8 rfl rfl)
theorem dX6_isAt_11 : decode cX6_isAt 11 = .ok (.aload_n 0, 1) := dk_42 (dk_at dksX6_isAt_0 11 rfl rfl)
theorem dX6_isAt_12 : decode cX6_isAt 12 = .ok (.getfield 18, 3) := dk_180 0 18 (dk_at dksX6_isAt_0 12 rfl rfl)
theorem dX6_isAt_15 : decode cX6_isAt 15 = .ok (.aload_n 0, 1) := dk_42 (dk_at dksX6_isAt_0 15 rfl rfl)
theorem dX6_isAt_16 : decode cX6_isAt 16 = .ok (.getfield 29, 3) := dk_180 0 29 (dk_at dksX6_isAt_0 16 rfl rfl)
theorem dX6_isAt_19 : decode cX6_isAt 19 = .ok (.baload, 1) := dk_51 (dk_at dksX6_isAt_0 19 rfl rfl)
theorem dX6_isAt_20 : decode cX6_isAt 20 = .ok (.i2l, 1) := dk_133 (dk_at dksX6_isAt_0 20 rfl rfl)
theorem dX6_isAt_21 : decode cX6_isAt 21 = .ok (.iload_n 1, 1) := dk_27 (dk_at dksX6_isAt_0 21 rfl rfl)
theorem dX6_isAt_22 : decode cX6_isAt 22 = .ok (.i2l, 1) := dk_133 (dk_at dksX6_isAt_0 22 rfl rfl)
theorem dX6_isAt_23 : decode cX6_isAt 23 = .ok (.iload_n 2, 1) := dk_28 (dk_at dksX6_isAt_0 23 rfl rfl)
theorem dX6_isAt_24 : decode cX6_isAt 24 = .ok (.i2l, 1) := dk_133 (dk_at dksX6_isAt_1 0 rfl rfl)
theorem dX6_isAt_25 : decode cX6_isAt 25 = .ok (.invokestatic 32, 3) := dk_184 0 32 (dk_at dksX6_isAt_1 1 rfl rfl)
theorem dX6_isAt_28 : decode cX6_isAt 28 = .ok (.ifCond .eq 7, 3) := dk_153 0 7 (dk_at dksX6_isAt_1 4 rfl rfl)
theorem dX6_isAt_31 : decode cX6_isAt 31 = .ok (.iconst 1, 1) := dk_4 (dk_at dksX6_isAt_1 7 rfl rfl)
theorem dX6_isAt_32 : decode cX6_isAt 32 = .ok (.goto 4, 3) := dk_167 0 4 (dk_at dksX6_isAt_1 8 rfl rfl)
theorem dX6_isAt_35 : decode cX6_isAt 35 = .ok (.iconst 0, 1) := dk_3 (dk_at dksX6_isAt_1 11 rfl rfl)
theorem dX6_isAt_36 : decode cX6_isAt 36 = .ok (.ireturn, 1) := dk_172 (dk_at dksX6_isAt_1 12 rfl rfl)
abbrev cX6_reads : ByteArray := prog_9_method_15_code
def yX6_reads : MethodName := ⟨RX6, "reads", "()LSupplyGrid$Told;"⟩
def dkwX6_reads_6 : List UInt8 := [89, 180, 0, 170, 4, 96, 181, 0, 170, 167, 255, 106, 42, 180, 0, 12, 176]
abbrev dktX6_reads_6 : List UInt8 := dkwX6_reads_6 ++ []
def dkwX6_reads_5 : List UInt8 := [180, 0, 46, 6, 160, 0, 7, 4, 167, 0, 4, 3, 4, 182, 0, 75, 42, 182, 0, 26, 42, 180, 0, 12]
abbrev dktX6_reads_5 : List UInt8 := dkwX6_reads_5 ++ dktX6_reads_6
def dkwX6_reads_4 : List UInt8 := [18, 187, 182, 0, 71, 153, 0, 10, 42, 182, 0, 188, 167, 0, 9, 42, 3, 4, 182, 0, 75, 42, 42]
abbrev dktX6_reads_4 : List UInt8 := dkwX6_reads_4 ++ dktX6_reads_5
def dkwX6_reads_3 : List UInt8 := [128, 181, 0, 181, 167, 0, 41, 42, 18, 184, 182, 0, 71, 153, 0, 10, 42, 182, 0, 185, 167, 0, 25, 42]
abbrev dktX6_reads_3 : List UInt8 := dkwX6_reads_3 ++ dktX6_reads_4
def dkwX6_reads_2 : List UInt8 := [153, 0, 31, 42, 180, 0, 12, 89, 180, 0, 181, 4, 42, 42, 180, 0, 12, 180, 0, 181, 182, 0, 121, 120]
abbrev dktX6_reads_2 : List UInt8 := dkwX6_reads_2 ++ dktX6_reads_3
def dkwX6_reads_1 : List UInt8 := [42, 18, 175, 182, 0, 71, 153, 0, 10, 42, 182, 0, 177, 167, 0, 78, 42, 18, 179, 182, 0, 71]
abbrev dktX6_reads_1 : List UInt8 := dkwX6_reads_1 ++ dktX6_reads_2
def dkwX6_reads_0 : List UInt8 := [42, 180, 0, 46, 153, 0, 149, 42, 180, 0, 12, 180, 0, 170, 154, 0, 10, 42, 182, 0, 173, 167, 0, 94]
abbrev dktX6_reads_0 : List UInt8 := dkwX6_reads_0 ++ dktX6_reads_1
theorem dksX6_reads_0 : cX6_reads.data.toList.drop 0 = dktX6_reads_0 := by decide +kernel
theorem dksX6_reads_1 : cX6_reads.data.toList.drop 24 = dktX6_reads_1 := dk_seg dksX6_reads_0 24 rfl rfl
theorem dksX6_reads_2 : cX6_reads.data.toList.drop 46 = dktX6_reads_2 := dk_seg dksX6_reads_1 22 rfl rfl
theorem dksX6_reads_3 : cX6_reads.data.toList.drop 70 = dktX6_reads_3 := dk_seg dksX6_reads_2 24 rfl rfl
theorem dksX6_reads_4 : cX6_reads.data.toList.drop 94 = dktX6_reads_4 := dk_seg dksX6_reads_3 24 rfl rfl
theorem dksX6_reads_5 : cX6_reads.data.toList.drop 117 = dktX6_reads_5 := dk_seg dksX6_reads_4 23 rfl rfl
theorem dksX6_reads_6 : cX6_reads.data.toList.drop 141 = dktX6_reads_6 := dk_seg dksX6_reads_5 24 rfl rfl
theorem dX6_reads_0 : decode cX6_reads 0 = .ok (.aload_n 0, 1) := dk_42 (dk_at dksX6_reads_0 0 rfl rfl)
theorem dX6_reads_1 : decode cX6_reads 1 = .ok (.getfield 46, 3) := dk_180 0 46 (dk_at dksX6_reads_0 1 rfl rfl)
theorem dX6_reads_4 : decode cX6_reads 4 = .ok (.ifCond .eq 149, 3) := dk_153 0 149 (dk_at dksX6_reads_0 4 rfl rfl)
theorem dX6_reads_7 : decode cX6_reads 7 = .ok (.aload_n 0, 1) := dk_42 (dk_at dksX6_reads_0 7 rfl rfl)
theorem dX6_reads_8 : decode cX6_reads 8 = .ok (.getfield 12, 3) := dk_180 0 12 (dk_at dksX6_reads_0 8 rfl rfl)
theorem dX6_reads_11 : decode cX6_reads 11 = .ok (.getfield 170, 3) := dk_180 0 170 (dk_at dksX6_reads_0 11 rfl rfl)
theorem dX6_reads_14 : decode cX6_reads 14 = .ok (.ifCond .ne 10, 3) := dk_154 0 10 (dk_at dksX6_reads_0 14 rfl rfl)
theorem dX6_reads_17 : decode cX6_reads 17 = .ok (.aload_n 0, 1) := dk_42 (dk_at dksX6_reads_0 17 rfl rfl)
theorem dX6_reads_18 : decode cX6_reads 18 = .ok (.invokevirtual 173, 3) := dk_182 0 173 (dk_at dksX6_reads_0 18 rfl rfl)
theorem dX6_reads_21 : decode cX6_reads 21 = .ok (.goto 94, 3) := dk_167 0 94 (dk_at dksX6_reads_0 21 rfl rfl)
theorem dX6_reads_24 : decode cX6_reads 24 = .ok (.aload_n 0, 1) := dk_42 (dk_at dksX6_reads_1 0 rfl rfl)
theorem dX6_reads_25 : decode cX6_reads 25 = .ok (.ldc 175, 2) := dk_18 175 (dk_at dksX6_reads_1 1 rfl rfl)
theorem dX6_reads_27 : decode cX6_reads 27 = .ok (.invokevirtual 71, 3) := dk_182 0 71 (dk_at dksX6_reads_1 3 rfl rfl)
theorem dX6_reads_30 : decode cX6_reads 30 = .ok (.ifCond .eq 10, 3) := dk_153 0 10 (dk_at dksX6_reads_1 6 rfl rfl)
theorem dX6_reads_33 : decode cX6_reads 33 = .ok (.aload_n 0, 1) := dk_42 (dk_at dksX6_reads_1 9 rfl rfl)
theorem dX6_reads_34 : decode cX6_reads 34 = .ok (.invokevirtual 177, 3) := dk_182 0 177 (dk_at dksX6_reads_1 10 rfl rfl)
theorem dX6_reads_37 : decode cX6_reads 37 = .ok (.goto 78, 3) := dk_167 0 78 (dk_at dksX6_reads_1 13 rfl rfl)
theorem dX6_reads_40 : decode cX6_reads 40 = .ok (.aload_n 0, 1) := dk_42 (dk_at dksX6_reads_1 16 rfl rfl)
theorem dX6_reads_41 : decode cX6_reads 41 = .ok (.ldc 179, 2) := dk_18 179 (dk_at dksX6_reads_1 17 rfl rfl)
theorem dX6_reads_43 : decode cX6_reads 43 = .ok (.invokevirtual 71, 3) := dk_182 0 71 (dk_at dksX6_reads_1 19 rfl rfl)
theorem dX6_reads_46 : decode cX6_reads 46 = .ok (.ifCond .eq 31, 3) := dk_153 0 31 (dk_at dksX6_reads_2 0 rfl rfl)
theorem dX6_reads_49 : decode cX6_reads 49 = .ok (.aload_n 0, 1) := dk_42 (dk_at dksX6_reads_2 3 rfl rfl)
theorem dX6_reads_50 : decode cX6_reads 50 = .ok (.getfield 12, 3) := dk_180 0 12 (dk_at dksX6_reads_2 4 rfl rfl)
theorem dX6_reads_53 : decode cX6_reads 53 = .ok (.dup, 1) := dk_89 (dk_at dksX6_reads_2 7 rfl rfl)
theorem dX6_reads_54 : decode cX6_reads 54 = .ok (.getfield 181, 3) := dk_180 0 181 (dk_at dksX6_reads_2 8 rfl rfl)
theorem dX6_reads_57 : decode cX6_reads 57 = .ok (.iconst 1, 1) := dk_4 (dk_at dksX6_reads_2 11 rfl rfl)
theorem dX6_reads_58 : decode cX6_reads 58 = .ok (.aload_n 0, 1) := dk_42 (dk_at dksX6_reads_2 12 rfl rfl)
theorem dX6_reads_59 : decode cX6_reads 59 = .ok (.aload_n 0, 1) := dk_42 (dk_at dksX6_reads_2 13 rfl rfl)
theorem dX6_reads_60 : decode cX6_reads 60 = .ok (.getfield 12, 3) := dk_180 0 12 (dk_at dksX6_reads_2 14 rfl rfl)
theorem dX6_reads_63 : decode cX6_reads 63 = .ok (.getfield 181, 3) := dk_180 0 181 (dk_at dksX6_reads_2 17 rfl rfl)
theorem dX6_reads_66 : decode cX6_reads 66 = .ok (.invokevirtual 121, 3) := dk_182 0 121 (dk_at dksX6_reads_2 20 rfl rfl)
theorem dX6_reads_69 : decode cX6_reads 69 = .ok (.ishl, 1) := dk_120 (dk_at dksX6_reads_2 23 rfl rfl)
theorem dX6_reads_70 : decode cX6_reads 70 = .ok (.ior, 1) := dk_128 (dk_at dksX6_reads_3 0 rfl rfl)
theorem dX6_reads_71 : decode cX6_reads 71 = .ok (.putfield 181, 3) := dk_181 0 181 (dk_at dksX6_reads_3 1 rfl rfl)
theorem dX6_reads_74 : decode cX6_reads 74 = .ok (.goto 41, 3) := dk_167 0 41 (dk_at dksX6_reads_3 4 rfl rfl)
theorem dX6_reads_77 : decode cX6_reads 77 = .ok (.aload_n 0, 1) := dk_42 (dk_at dksX6_reads_3 7 rfl rfl)
theorem dX6_reads_78 : decode cX6_reads 78 = .ok (.ldc 184, 2) := dk_18 184 (dk_at dksX6_reads_3 8 rfl rfl)
theorem dX6_reads_80 : decode cX6_reads 80 = .ok (.invokevirtual 71, 3) := dk_182 0 71 (dk_at dksX6_reads_3 10 rfl rfl)
theorem dX6_reads_83 : decode cX6_reads 83 = .ok (.ifCond .eq 10, 3) := dk_153 0 10 (dk_at dksX6_reads_3 13 rfl rfl)
theorem dX6_reads_86 : decode cX6_reads 86 = .ok (.aload_n 0, 1) := dk_42 (dk_at dksX6_reads_3 16 rfl rfl)
theorem dX6_reads_87 : decode cX6_reads 87 = .ok (.invokevirtual 185, 3) := dk_182 0 185 (dk_at dksX6_reads_3 17 rfl rfl)
theorem dX6_reads_90 : decode cX6_reads 90 = .ok (.goto 25, 3) := dk_167 0 25 (dk_at dksX6_reads_3 20 rfl rfl)
theorem dX6_reads_93 : decode cX6_reads 93 = .ok (.aload_n 0, 1) := dk_42 (dk_at dksX6_reads_3 23 rfl rfl)
theorem dX6_reads_94 : decode cX6_reads 94 = .ok (.ldc 187, 2) := dk_18 187 (dk_at dksX6_reads_4 0 rfl rfl)
theorem dX6_reads_96 : decode cX6_reads 96 = .ok (.invokevirtual 71, 3) := dk_182 0 71 (dk_at dksX6_reads_4 2 rfl rfl)
theorem dX6_reads_99 : decode cX6_reads 99 = .ok (.ifCond .eq 10, 3) := dk_153 0 10 (dk_at dksX6_reads_4 5 rfl rfl)
theorem dX6_reads_102 : decode cX6_reads 102 = .ok (.aload_n 0, 1) := dk_42 (dk_at dksX6_reads_4 8 rfl rfl)
theorem dX6_reads_103 : decode cX6_reads 103 = .ok (.invokevirtual 188, 3) := dk_182 0 188 (dk_at dksX6_reads_4 9 rfl rfl)
theorem dX6_reads_106 : decode cX6_reads 106 = .ok (.goto 9, 3) := dk_167 0 9 (dk_at dksX6_reads_4 12 rfl rfl)
theorem dX6_reads_109 : decode cX6_reads 109 = .ok (.aload_n 0, 1) := dk_42 (dk_at dksX6_reads_4 15 rfl rfl)
theorem dX6_reads_110 : decode cX6_reads 110 = .ok (.iconst 0, 1) := dk_3 (dk_at dksX6_reads_4 16 rfl rfl)
theorem dX6_reads_111 : decode cX6_reads 111 = .ok (.iconst 1, 1) := dk_4 (dk_at dksX6_reads_4 17 rfl rfl)
theorem dX6_reads_112 : decode cX6_reads 112 = .ok (.invokevirtual 75, 3) := dk_182 0 75 (dk_at dksX6_reads_4 18 rfl rfl)
theorem dX6_reads_115 : decode cX6_reads 115 = .ok (.aload_n 0, 1) := dk_42 (dk_at dksX6_reads_4 21 rfl rfl)
theorem dX6_reads_116 : decode cX6_reads 116 = .ok (.aload_n 0, 1) := dk_42 (dk_at dksX6_reads_4 22 rfl rfl)
theorem dX6_reads_117 : decode cX6_reads 117 = .ok (.getfield 46, 3) := dk_180 0 46 (dk_at dksX6_reads_5 0 rfl rfl)
theorem dX6_reads_120 : decode cX6_reads 120 = .ok (.iconst 3, 1) := dk_6 (dk_at dksX6_reads_5 3 rfl rfl)
theorem dX6_reads_121 : decode cX6_reads 121 = .ok (.if_icmp .ne 7, 3) := dk_160 0 7 (dk_at dksX6_reads_5 4 rfl rfl)
theorem dX6_reads_124 : decode cX6_reads 124 = .ok (.iconst 1, 1) := dk_4 (dk_at dksX6_reads_5 7 rfl rfl)
theorem dX6_reads_125 : decode cX6_reads 125 = .ok (.goto 4, 3) := dk_167 0 4 (dk_at dksX6_reads_5 8 rfl rfl)
theorem dX6_reads_128 : decode cX6_reads 128 = .ok (.iconst 0, 1) := dk_3 (dk_at dksX6_reads_5 11 rfl rfl)
theorem dX6_reads_129 : decode cX6_reads 129 = .ok (.iconst 1, 1) := dk_4 (dk_at dksX6_reads_5 12 rfl rfl)
theorem dX6_reads_130 : decode cX6_reads 130 = .ok (.invokevirtual 75, 3) := dk_182 0 75 (dk_at dksX6_reads_5 13 rfl rfl)
theorem dX6_reads_133 : decode cX6_reads 133 = .ok (.aload_n 0, 1) := dk_42 (dk_at dksX6_reads_5 16 rfl rfl)
theorem dX6_reads_134 : decode cX6_reads 134 = .ok (.invokevirtual 26, 3) := dk_182 0 26 (dk_at dksX6_reads_5 17 rfl rfl)
theorem dX6_reads_137 : decode cX6_reads 137 = .ok (.aload_n 0, 1) := dk_42 (dk_at dksX6_reads_5 20 rfl rfl)
theorem dX6_reads_138 : decode cX6_reads 138 = .ok (.getfield 12, 3) := dk_180 0 12 (dk_at dksX6_reads_5 21 rfl rfl)
theorem dX6_reads_141 : decode cX6_reads 141 = .ok (.dup, 1) := dk_89 (dk_at dksX6_reads_6 0 rfl rfl)
theorem dX6_reads_142 : decode cX6_reads 142 = .ok (.getfield 170, 3) := dk_180 0 170 (dk_at dksX6_reads_6 1 rfl rfl)
theorem dX6_reads_145 : decode cX6_reads 145 = .ok (.iconst 1, 1) := dk_4 (dk_at dksX6_reads_6 4 rfl rfl)
theorem dX6_reads_146 : decode cX6_reads 146 = .ok (.iadd, 1) := dk_96 (dk_at dksX6_reads_6 5 rfl rfl)
theorem dX6_reads_147 : decode cX6_reads 147 = .ok (.putfield 170, 3) := dk_181 0 170 (dk_at dksX6_reads_6 6 rfl rfl)
theorem dX6_reads_150 : decode cX6_reads 150 = .ok (.goto (-150), 3) := dk_167 255 106 (dk_at dksX6_reads_6 9 rfl rfl)
theorem dX6_reads_153 : decode cX6_reads 153 = .ok (.aload_n 0, 1) := dk_42 (dk_at dksX6_reads_6 12 rfl rfl)
theorem dX6_reads_154 : decode cX6_reads 154 = .ok (.getfield 12, 3) := dk_180 0 12 (dk_at dksX6_reads_6 13 rfl rfl)
theorem dX6_reads_157 : decode cX6_reads 157 = .ok (.areturn, 1) := dk_176 (dk_at dksX6_reads_6 16 rfl rfl)
abbrev cX6_grid : ByteArray := prog_9_method_10_code
def yX6_grid : MethodName := ⟨RX6, "grid", "()V"⟩
def dkwX6_grid_4 : List UInt8 := [181, 0, 115, 177]
abbrev dktX6_grid_4 : List UInt8 := dkwX6_grid_4 ++ []
def dkwX6_grid_3 : List UInt8 := [17, 3, 231, 182, 0, 93, 181, 0, 111, 42, 180, 0, 12, 42, 18, 113, 4, 17, 3, 231, 182, 0, 93]
abbrev dktX6_grid_3 : List UInt8 := dkwX6_grid_3 ++ dktX6_grid_4
def dkwX6_grid_2 : List UInt8 := [180, 0, 12, 42, 18, 103, 3, 7, 182, 0, 93, 182, 0, 105, 42, 180, 0, 12, 42, 18, 109, 3]
abbrev dktX6_grid_2 : List UInt8 := dkwX6_grid_2 ++ dktX6_grid_3
def dkwX6_grid_1 : List UInt8 := [180, 0, 12, 42, 18, 99, 4, 16, 9, 42, 180, 0, 12, 180, 0, 97, 108, 182, 0, 93, 181, 0, 101, 42]
abbrev dktX6_grid_1 : List UInt8 := dkwX6_grid_1 ++ dktX6_grid_2
def dkwX6_grid_0 : List UInt8 := [42, 18, 89, 182, 0, 82, 42, 180, 0, 12, 42, 18, 91, 4, 16, 9, 182, 0, 93, 181, 0, 97, 42]
abbrev dktX6_grid_0 : List UInt8 := dkwX6_grid_0 ++ dktX6_grid_1
theorem dksX6_grid_0 : cX6_grid.data.toList.drop 0 = dktX6_grid_0 := by decide +kernel
theorem dksX6_grid_1 : cX6_grid.data.toList.drop 23 = dktX6_grid_1 := dk_seg dksX6_grid_0 23 rfl rfl
theorem dksX6_grid_2 : cX6_grid.data.toList.drop 47 = dktX6_grid_2 := dk_seg dksX6_grid_1 24 rfl rfl
theorem dksX6_grid_3 : cX6_grid.data.toList.drop 69 = dktX6_grid_3 := dk_seg dksX6_grid_2 22 rfl rfl
theorem dksX6_grid_4 : cX6_grid.data.toList.drop 92 = dktX6_grid_4 := dk_seg dksX6_grid_3 23 rfl rfl
theorem dX6_grid_0 : decode cX6_grid 0 = .ok (.aload_n 0, 1) := dk_42 (dk_at dksX6_grid_0 0 rfl rfl)
theorem dX6_grid_1 : decode cX6_grid 1 = .ok (.ldc 89, 2) := dk_18 89 (dk_at dksX6_grid_0 1 rfl rfl)
theorem dX6_grid_3 : decode cX6_grid 3 = .ok (.invokevirtual 82, 3) := dk_182 0 82 (dk_at dksX6_grid_0 3 rfl rfl)
theorem dX6_grid_6 : decode cX6_grid 6 = .ok (.aload_n 0, 1) := dk_42 (dk_at dksX6_grid_0 6 rfl rfl)
theorem dX6_grid_7 : decode cX6_grid 7 = .ok (.getfield 12, 3) := dk_180 0 12 (dk_at dksX6_grid_0 7 rfl rfl)
theorem dX6_grid_10 : decode cX6_grid 10 = .ok (.aload_n 0, 1) := dk_42 (dk_at dksX6_grid_0 10 rfl rfl)
theorem dX6_grid_11 : decode cX6_grid 11 = .ok (.ldc 91, 2) := dk_18 91 (dk_at dksX6_grid_0 11 rfl rfl)
theorem dX6_grid_13 : decode cX6_grid 13 = .ok (.iconst 1, 1) := dk_4 (dk_at dksX6_grid_0 13 rfl rfl)
theorem dX6_grid_14 : decode cX6_grid 14 = .ok (.bipush 9, 2) := dk_16 9 (dk_at dksX6_grid_0 14 rfl rfl)
theorem dX6_grid_16 : decode cX6_grid 16 = .ok (.invokevirtual 93, 3) := dk_182 0 93 (dk_at dksX6_grid_0 16 rfl rfl)
theorem dX6_grid_19 : decode cX6_grid 19 = .ok (.putfield 97, 3) := dk_181 0 97 (dk_at dksX6_grid_0 19 rfl rfl)
theorem dX6_grid_22 : decode cX6_grid 22 = .ok (.aload_n 0, 1) := dk_42 (dk_at dksX6_grid_0 22 rfl rfl)
theorem dX6_grid_23 : decode cX6_grid 23 = .ok (.getfield 12, 3) := dk_180 0 12 (dk_at dksX6_grid_1 0 rfl rfl)
theorem dX6_grid_26 : decode cX6_grid 26 = .ok (.aload_n 0, 1) := dk_42 (dk_at dksX6_grid_1 3 rfl rfl)
theorem dX6_grid_27 : decode cX6_grid 27 = .ok (.ldc 99, 2) := dk_18 99 (dk_at dksX6_grid_1 4 rfl rfl)
theorem dX6_grid_29 : decode cX6_grid 29 = .ok (.iconst 1, 1) := dk_4 (dk_at dksX6_grid_1 6 rfl rfl)
theorem dX6_grid_30 : decode cX6_grid 30 = .ok (.bipush 9, 2) := dk_16 9 (dk_at dksX6_grid_1 7 rfl rfl)
theorem dX6_grid_32 : decode cX6_grid 32 = .ok (.aload_n 0, 1) := dk_42 (dk_at dksX6_grid_1 9 rfl rfl)
theorem dX6_grid_33 : decode cX6_grid 33 = .ok (.getfield 12, 3) := dk_180 0 12 (dk_at dksX6_grid_1 10 rfl rfl)
theorem dX6_grid_36 : decode cX6_grid 36 = .ok (.getfield 97, 3) := dk_180 0 97 (dk_at dksX6_grid_1 13 rfl rfl)
theorem dX6_grid_39 : decode cX6_grid 39 = .ok (.idiv, 1) := dk_108 (dk_at dksX6_grid_1 16 rfl rfl)
theorem dX6_grid_40 : decode cX6_grid 40 = .ok (.invokevirtual 93, 3) := dk_182 0 93 (dk_at dksX6_grid_1 17 rfl rfl)
theorem dX6_grid_43 : decode cX6_grid 43 = .ok (.putfield 101, 3) := dk_181 0 101 (dk_at dksX6_grid_1 20 rfl rfl)
theorem dX6_grid_46 : decode cX6_grid 46 = .ok (.aload_n 0, 1) := dk_42 (dk_at dksX6_grid_1 23 rfl rfl)
theorem dX6_grid_47 : decode cX6_grid 47 = .ok (.getfield 12, 3) := dk_180 0 12 (dk_at dksX6_grid_2 0 rfl rfl)
theorem dX6_grid_50 : decode cX6_grid 50 = .ok (.aload_n 0, 1) := dk_42 (dk_at dksX6_grid_2 3 rfl rfl)
theorem dX6_grid_51 : decode cX6_grid 51 = .ok (.ldc 103, 2) := dk_18 103 (dk_at dksX6_grid_2 4 rfl rfl)
theorem dX6_grid_53 : decode cX6_grid 53 = .ok (.iconst 0, 1) := dk_3 (dk_at dksX6_grid_2 6 rfl rfl)
theorem dX6_grid_54 : decode cX6_grid 54 = .ok (.iconst 4, 1) := dk_7 (dk_at dksX6_grid_2 7 rfl rfl)
theorem dX6_grid_55 : decode cX6_grid 55 = .ok (.invokevirtual 93, 3) := dk_182 0 93 (dk_at dksX6_grid_2 8 rfl rfl)
theorem dX6_grid_58 : decode cX6_grid 58 = .ok (.invokevirtual 105, 3) := dk_182 0 105 (dk_at dksX6_grid_2 11 rfl rfl)
theorem dX6_grid_61 : decode cX6_grid 61 = .ok (.aload_n 0, 1) := dk_42 (dk_at dksX6_grid_2 14 rfl rfl)
theorem dX6_grid_62 : decode cX6_grid 62 = .ok (.getfield 12, 3) := dk_180 0 12 (dk_at dksX6_grid_2 15 rfl rfl)
theorem dX6_grid_65 : decode cX6_grid 65 = .ok (.aload_n 0, 1) := dk_42 (dk_at dksX6_grid_2 18 rfl rfl)
theorem dX6_grid_66 : decode cX6_grid 66 = .ok (.ldc 109, 2) := dk_18 109 (dk_at dksX6_grid_2 19 rfl rfl)
theorem dX6_grid_68 : decode cX6_grid 68 = .ok (.iconst 0, 1) := dk_3 (dk_at dksX6_grid_2 21 rfl rfl)
theorem dX6_grid_69 : decode cX6_grid 69 = .ok (.sipush 999, 3) := dk_17 3 231 (dk_at dksX6_grid_3 0 rfl rfl)
theorem dX6_grid_72 : decode cX6_grid 72 = .ok (.invokevirtual 93, 3) := dk_182 0 93 (dk_at dksX6_grid_3 3 rfl rfl)
theorem dX6_grid_75 : decode cX6_grid 75 = .ok (.putfield 111, 3) := dk_181 0 111 (dk_at dksX6_grid_3 6 rfl rfl)
theorem dX6_grid_78 : decode cX6_grid 78 = .ok (.aload_n 0, 1) := dk_42 (dk_at dksX6_grid_3 9 rfl rfl)
theorem dX6_grid_79 : decode cX6_grid 79 = .ok (.getfield 12, 3) := dk_180 0 12 (dk_at dksX6_grid_3 10 rfl rfl)
theorem dX6_grid_82 : decode cX6_grid 82 = .ok (.aload_n 0, 1) := dk_42 (dk_at dksX6_grid_3 13 rfl rfl)
theorem dX6_grid_83 : decode cX6_grid 83 = .ok (.ldc 113, 2) := dk_18 113 (dk_at dksX6_grid_3 14 rfl rfl)
theorem dX6_grid_85 : decode cX6_grid 85 = .ok (.iconst 1, 1) := dk_4 (dk_at dksX6_grid_3 16 rfl rfl)
theorem dX6_grid_86 : decode cX6_grid 86 = .ok (.sipush 999, 3) := dk_17 3 231 (dk_at dksX6_grid_3 17 rfl rfl)
theorem dX6_grid_89 : decode cX6_grid 89 = .ok (.invokevirtual 93, 3) := dk_182 0 93 (dk_at dksX6_grid_3 20 rfl rfl)
theorem dX6_grid_92 : decode cX6_grid 92 = .ok (.putfield 115, 3) := dk_181 0 115 (dk_at dksX6_grid_4 0 rfl rfl)
theorem dX6_grid_95 : decode cX6_grid 95 = .ok (.return_, 1) := dk_177 (dk_at dksX6_grid_4 3 rfl rfl)
abbrev cX6_needs : ByteArray := prog_9_method_6_code
def yX6_needs : MethodName := ⟨RX6, "needs", "(Ljava/lang/String;)V"⟩
def dkwX6_needs_0 : List UInt8 := [42, 42, 43, 182, 0, 71, 4, 182, 0, 75, 42, 182, 0, 26, 177]
abbrev dktX6_needs_0 : List UInt8 := dkwX6_needs_0 ++ []
theorem dksX6_needs_0 : cX6_needs.data.toList.drop 0 = dktX6_needs_0 := by decide +kernel
theorem dX6_needs_0 : decode cX6_needs 0 = .ok (.aload_n 0, 1) := dk_42 (dk_at dksX6_needs_0 0 rfl rfl)
theorem dX6_needs_1 : decode cX6_needs 1 = .ok (.aload_n 0, 1) := dk_42 (dk_at dksX6_needs_0 1 rfl rfl)
theorem dX6_needs_2 : decode cX6_needs 2 = .ok (.aload_n 1, 1) := dk_43 (dk_at dksX6_needs_0 2 rfl rfl)
theorem dX6_needs_3 : decode cX6_needs 3 = .ok (.invokevirtual 71, 3) := dk_182 0 71 (dk_at dksX6_needs_0 3 rfl rfl)
theorem dX6_needs_6 : decode cX6_needs 6 = .ok (.iconst 1, 1) := dk_4 (dk_at dksX6_needs_0 6 rfl rfl)
theorem dX6_needs_7 : decode cX6_needs 7 = .ok (.invokevirtual 75, 3) := dk_182 0 75 (dk_at dksX6_needs_0 7 rfl rfl)
theorem dX6_needs_10 : decode cX6_needs 10 = .ok (.aload_n 0, 1) := dk_42 (dk_at dksX6_needs_0 10 rfl rfl)
theorem dX6_needs_11 : decode cX6_needs 11 = .ok (.invokevirtual 26, 3) := dk_182 0 26 (dk_at dksX6_needs_0 11 rfl rfl)
theorem dX6_needs_14 : decode cX6_needs 14 = .ok (.return_, 1) := dk_177 (dk_at dksX6_needs_0 14 rfl rfl)
abbrev cX6_is : ByteArray := prog_9_method_5_code
def yX6_is : MethodName := ⟨RX6, "is", "(Ljava/lang/String;)Z"⟩
def dkwX6_is_2 : List UInt8 := [28, 182, 0, 67, 159, 0, 5, 3, 172, 132, 2, 1, 167, 255, 224, 4, 172]
abbrev dktX6_is_2 : List UInt8 := dkwX6_is_2 ++ []
def dkwX6_is_1 : List UInt8 := [3, 172, 3, 61, 28, 43, 182, 0, 61, 162, 0, 30, 42, 180, 0, 18, 42, 180, 0, 40, 28, 96, 51, 43]
abbrev dktX6_is_1 : List UInt8 := dkwX6_is_1 ++ dktX6_is_2
def dkwX6_is_0 : List UInt8 := [42, 180, 0, 46, 4, 160, 0, 19, 42, 180, 0, 29, 42, 180, 0, 40, 100, 43, 182, 0, 61, 159, 0, 5]
abbrev dktX6_is_0 : List UInt8 := dkwX6_is_0 ++ dktX6_is_1
theorem dksX6_is_0 : cX6_is.data.toList.drop 0 = dktX6_is_0 := by decide +kernel
theorem dksX6_is_1 : cX6_is.data.toList.drop 24 = dktX6_is_1 := dk_seg dksX6_is_0 24 rfl rfl
theorem dksX6_is_2 : cX6_is.data.toList.drop 48 = dktX6_is_2 := dk_seg dksX6_is_1 24 rfl rfl
theorem dX6_is_0 : decode cX6_is 0 = .ok (.aload_n 0, 1) := dk_42 (dk_at dksX6_is_0 0 rfl rfl)
theorem dX6_is_1 : decode cX6_is 1 = .ok (.getfield 46, 3) := dk_180 0 46 (dk_at dksX6_is_0 1 rfl rfl)
theorem dX6_is_4 : decode cX6_is 4 = .ok (.iconst 1, 1) := dk_4 (dk_at dksX6_is_0 4 rfl rfl)
theorem dX6_is_5 : decode cX6_is 5 = .ok (.if_icmp .ne 19, 3) := dk_160 0 19 (dk_at dksX6_is_0 5 rfl rfl)
theorem dX6_is_8 : decode cX6_is 8 = .ok (.aload_n 0, 1) := dk_42 (dk_at dksX6_is_0 8 rfl rfl)
theorem dX6_is_9 : decode cX6_is 9 = .ok (.getfield 29, 3) := dk_180 0 29 (dk_at dksX6_is_0 9 rfl rfl)
theorem dX6_is_12 : decode cX6_is 12 = .ok (.aload_n 0, 1) := dk_42 (dk_at dksX6_is_0 12 rfl rfl)
theorem dX6_is_13 : decode cX6_is 13 = .ok (.getfield 40, 3) := dk_180 0 40 (dk_at dksX6_is_0 13 rfl rfl)
theorem dX6_is_16 : decode cX6_is 16 = .ok (.isub, 1) := dk_100 (dk_at dksX6_is_0 16 rfl rfl)
theorem dX6_is_17 : decode cX6_is 17 = .ok (.aload_n 1, 1) := dk_43 (dk_at dksX6_is_0 17 rfl rfl)
theorem dX6_is_18 : decode cX6_is 18 = .ok (.invokevirtual 61, 3) := dk_182 0 61 (dk_at dksX6_is_0 18 rfl rfl)
theorem dX6_is_21 : decode cX6_is 21 = .ok (.if_icmp .eq 5, 3) := dk_159 0 5 (dk_at dksX6_is_0 21 rfl rfl)
theorem dX6_is_24 : decode cX6_is 24 = .ok (.iconst 0, 1) := dk_3 (dk_at dksX6_is_1 0 rfl rfl)
theorem dX6_is_25 : decode cX6_is 25 = .ok (.ireturn, 1) := dk_172 (dk_at dksX6_is_1 1 rfl rfl)
theorem dX6_is_26 : decode cX6_is 26 = .ok (.iconst 0, 1) := dk_3 (dk_at dksX6_is_1 2 rfl rfl)
theorem dX6_is_27 : decode cX6_is 27 = .ok (.istore_n 2, 1) := dk_61 (dk_at dksX6_is_1 3 rfl rfl)
theorem dX6_is_28 : decode cX6_is 28 = .ok (.iload_n 2, 1) := dk_28 (dk_at dksX6_is_1 4 rfl rfl)
theorem dX6_is_29 : decode cX6_is 29 = .ok (.aload_n 1, 1) := dk_43 (dk_at dksX6_is_1 5 rfl rfl)
theorem dX6_is_30 : decode cX6_is 30 = .ok (.invokevirtual 61, 3) := dk_182 0 61 (dk_at dksX6_is_1 6 rfl rfl)
theorem dX6_is_33 : decode cX6_is 33 = .ok (.if_icmp .ge 30, 3) := dk_162 0 30 (dk_at dksX6_is_1 9 rfl rfl)
theorem dX6_is_36 : decode cX6_is 36 = .ok (.aload_n 0, 1) := dk_42 (dk_at dksX6_is_1 12 rfl rfl)
theorem dX6_is_37 : decode cX6_is 37 = .ok (.getfield 18, 3) := dk_180 0 18 (dk_at dksX6_is_1 13 rfl rfl)
theorem dX6_is_40 : decode cX6_is 40 = .ok (.aload_n 0, 1) := dk_42 (dk_at dksX6_is_1 16 rfl rfl)
theorem dX6_is_41 : decode cX6_is 41 = .ok (.getfield 40, 3) := dk_180 0 40 (dk_at dksX6_is_1 17 rfl rfl)
theorem dX6_is_44 : decode cX6_is 44 = .ok (.iload_n 2, 1) := dk_28 (dk_at dksX6_is_1 20 rfl rfl)
theorem dX6_is_45 : decode cX6_is 45 = .ok (.iadd, 1) := dk_96 (dk_at dksX6_is_1 21 rfl rfl)
theorem dX6_is_46 : decode cX6_is 46 = .ok (.baload, 1) := dk_51 (dk_at dksX6_is_1 22 rfl rfl)
theorem dX6_is_47 : decode cX6_is 47 = .ok (.aload_n 1, 1) := dk_43 (dk_at dksX6_is_1 23 rfl rfl)
theorem dX6_is_48 : decode cX6_is 48 = .ok (.iload_n 2, 1) := dk_28 (dk_at dksX6_is_2 0 rfl rfl)
theorem dX6_is_49 : decode cX6_is 49 = .ok (.invokevirtual 67, 3) := dk_182 0 67 (dk_at dksX6_is_2 1 rfl rfl)
theorem dX6_is_52 : decode cX6_is 52 = .ok (.if_icmp .eq 5, 3) := dk_159 0 5 (dk_at dksX6_is_2 4 rfl rfl)
theorem dX6_is_55 : decode cX6_is 55 = .ok (.iconst 0, 1) := dk_3 (dk_at dksX6_is_2 7 rfl rfl)
theorem dX6_is_56 : decode cX6_is 56 = .ok (.ireturn, 1) := dk_172 (dk_at dksX6_is_2 8 rfl rfl)
theorem dX6_is_57 : decode cX6_is 57 = .ok (.iinc 2 1, 3) := dk_132 2 1 (dk_at dksX6_is_2 9 rfl rfl)
theorem dX6_is_60 : decode cX6_is 60 = .ok (.goto (-32), 3) := dk_167 255 224 (dk_at dksX6_is_2 12 rfl rfl)
theorem dX6_is_63 : decode cX6_is 63 = .ok (.iconst 1, 1) := dk_4 (dk_at dksX6_is_2 15 rfl rfl)
theorem dX6_is_64 : decode cX6_is 64 = .ok (.ireturn, 1) := dk_172 (dk_at dksX6_is_2 16 rfl rfl)
abbrev cX6_must : ByteArray := prog_9_method_4_code
def yX6_must : MethodName := ⟨RX6, "must", "(ZI)V"⟩
def dkwX6_must_0 : List UInt8 := [27, 154, 0, 16, 187, 0, 56, 89, 28, 42, 180, 0, 40, 183, 0, 58, 191, 177]
abbrev dktX6_must_0 : List UInt8 := dkwX6_must_0 ++ []
theorem dksX6_must_0 : cX6_must.data.toList.drop 0 = dktX6_must_0 := by decide +kernel
theorem dX6_must_0 : decode cX6_must 0 = .ok (.iload_n 1, 1) := dk_27 (dk_at dksX6_must_0 0 rfl rfl)
theorem dX6_must_1 : decode cX6_must 1 = .ok (.ifCond .ne 16, 3) := dk_154 0 16 (dk_at dksX6_must_0 1 rfl rfl)
theorem dX6_must_4 : decode cX6_must 4 = .ok (.new 56, 3) := dk_187 0 56 (dk_at dksX6_must_0 4 rfl rfl)
theorem dX6_must_7 : decode cX6_must 7 = .ok (.dup, 1) := dk_89 (dk_at dksX6_must_0 7 rfl rfl)
theorem dX6_must_8 : decode cX6_must 8 = .ok (.iload_n 2, 1) := dk_28 (dk_at dksX6_must_0 8 rfl rfl)
theorem dX6_must_9 : decode cX6_must 9 = .ok (.aload_n 0, 1) := dk_42 (dk_at dksX6_must_0 9 rfl rfl)
theorem dX6_must_10 : decode cX6_must 10 = .ok (.getfield 40, 3) := dk_180 0 40 (dk_at dksX6_must_0 10 rfl rfl)
theorem dX6_must_13 : decode cX6_must 13 = .ok (.invokespecial 58, 3) := dk_183 0 58 (dk_at dksX6_must_0 13 rfl rfl)
theorem dX6_must_16 : decode cX6_must 16 = .ok (.athrow, 1) := dk_191 (dk_at dksX6_must_0 16 rfl rfl)
theorem dX6_must_17 : decode cX6_must 17 = .ok (.return_, 1) := dk_177 (dk_at dksX6_must_0 17 rfl rfl)
abbrev cX6_named : ByteArray := prog_9_method_9_code
def yX6_named : MethodName := ⟨RX6, "named", "(Ljava/lang/String;II)I"⟩
def dkwX6_named_0 : List UInt8 := [42, 43, 182, 0, 82, 42, 28, 29, 182, 0, 86, 172]
abbrev dktX6_named_0 : List UInt8 := dkwX6_named_0 ++ []
theorem dksX6_named_0 : cX6_named.data.toList.drop 0 = dktX6_named_0 := by decide +kernel
theorem dX6_named_0 : decode cX6_named 0 = .ok (.aload_n 0, 1) := dk_42 (dk_at dksX6_named_0 0 rfl rfl)
theorem dX6_named_1 : decode cX6_named 1 = .ok (.aload_n 1, 1) := dk_43 (dk_at dksX6_named_0 1 rfl rfl)
theorem dX6_named_2 : decode cX6_named 2 = .ok (.invokevirtual 82, 3) := dk_182 0 82 (dk_at dksX6_named_0 2 rfl rfl)
theorem dX6_named_5 : decode cX6_named 5 = .ok (.aload_n 0, 1) := dk_42 (dk_at dksX6_named_0 5 rfl rfl)
theorem dX6_named_6 : decode cX6_named 6 = .ok (.iload_n 2, 1) := dk_28 (dk_at dksX6_named_0 6 rfl rfl)
theorem dX6_named_7 : decode cX6_named 7 = .ok (.iload_n 3, 1) := dk_29 (dk_at dksX6_named_0 7 rfl rfl)
theorem dX6_named_8 : decode cX6_named 8 = .ok (.invokevirtual 86, 3) := dk_182 0 86 (dk_at dksX6_named_0 8 rfl rfl)
theorem dX6_named_11 : decode cX6_named 11 = .ok (.ireturn, 1) := dk_172 (dk_at dksX6_named_0 11 rfl rfl)
abbrev cX6_number : ByteArray := prog_9_method_8_code
def yX6_number : MethodName := ⟨RX6, "number", "(II)I"⟩
def dkwX6_number_0 : List UInt8 := [42, 27, 28, 182, 0, 79, 62, 42, 182, 0, 26, 29, 172]
abbrev dktX6_number_0 : List UInt8 := dkwX6_number_0 ++ []
theorem dksX6_number_0 : cX6_number.data.toList.drop 0 = dktX6_number_0 := by decide +kernel
theorem dX6_number_0 : decode cX6_number 0 = .ok (.aload_n 0, 1) := dk_42 (dk_at dksX6_number_0 0 rfl rfl)
theorem dX6_number_1 : decode cX6_number 1 = .ok (.iload_n 1, 1) := dk_27 (dk_at dksX6_number_0 1 rfl rfl)
theorem dX6_number_2 : decode cX6_number 2 = .ok (.iload_n 2, 1) := dk_28 (dk_at dksX6_number_0 2 rfl rfl)
theorem dX6_number_3 : decode cX6_number 3 = .ok (.invokevirtual 79, 3) := dk_182 0 79 (dk_at dksX6_number_0 3 rfl rfl)
theorem dX6_number_6 : decode cX6_number 6 = .ok (.istore_n 3, 1) := dk_62 (dk_at dksX6_number_0 6 rfl rfl)
theorem dX6_number_7 : decode cX6_number 7 = .ok (.aload_n 0, 1) := dk_42 (dk_at dksX6_number_0 7 rfl rfl)
theorem dX6_number_8 : decode cX6_number 8 = .ok (.invokevirtual 26, 3) := dk_182 0 26 (dk_at dksX6_number_0 8 rfl rfl)
theorem dX6_number_11 : decode cX6_number 11 = .ok (.iload_n 3, 1) := dk_29 (dk_at dksX6_number_0 11 rfl rfl)
theorem dX6_number_12 : decode cX6_number 12 = .ok (.ireturn, 1) := dk_172 (dk_at dksX6_number_0 12 rfl rfl)
abbrev cX6_sees : ByteArray := prog_9_method_7_code
def yX6_sees : MethodName := ⟨RX6, "sees", "(II)I"⟩
def dkwX6_sees_1 : List UInt8 := [27, 133, 28, 133, 184, 0, 32, 5, 182, 0, 75, 42, 180, 0, 43, 172]
abbrev dktX6_sees_1 : List UInt8 := dkwX6_sees_1 ++ []
def dkwX6_sees_0 : List UInt8 := [42, 42, 180, 0, 46, 5, 160, 0, 7, 4, 167, 0, 4, 3, 4, 182, 0, 75, 42, 42, 180, 0, 43, 133]
abbrev dktX6_sees_0 : List UInt8 := dkwX6_sees_0 ++ dktX6_sees_1
theorem dksX6_sees_0 : cX6_sees.data.toList.drop 0 = dktX6_sees_0 := by decide +kernel
theorem dksX6_sees_1 : cX6_sees.data.toList.drop 24 = dktX6_sees_1 := dk_seg dksX6_sees_0 24 rfl rfl
theorem dX6_sees_0 : decode cX6_sees 0 = .ok (.aload_n 0, 1) := dk_42 (dk_at dksX6_sees_0 0 rfl rfl)
theorem dX6_sees_1 : decode cX6_sees 1 = .ok (.aload_n 0, 1) := dk_42 (dk_at dksX6_sees_0 1 rfl rfl)
theorem dX6_sees_2 : decode cX6_sees 2 = .ok (.getfield 46, 3) := dk_180 0 46 (dk_at dksX6_sees_0 2 rfl rfl)
theorem dX6_sees_5 : decode cX6_sees 5 = .ok (.iconst 2, 1) := dk_5 (dk_at dksX6_sees_0 5 rfl rfl)
theorem dX6_sees_6 : decode cX6_sees 6 = .ok (.if_icmp .ne 7, 3) := dk_160 0 7 (dk_at dksX6_sees_0 6 rfl rfl)
theorem dX6_sees_9 : decode cX6_sees 9 = .ok (.iconst 1, 1) := dk_4 (dk_at dksX6_sees_0 9 rfl rfl)
theorem dX6_sees_10 : decode cX6_sees 10 = .ok (.goto 4, 3) := dk_167 0 4 (dk_at dksX6_sees_0 10 rfl rfl)
theorem dX6_sees_13 : decode cX6_sees 13 = .ok (.iconst 0, 1) := dk_3 (dk_at dksX6_sees_0 13 rfl rfl)
theorem dX6_sees_14 : decode cX6_sees 14 = .ok (.iconst 1, 1) := dk_4 (dk_at dksX6_sees_0 14 rfl rfl)
theorem dX6_sees_15 : decode cX6_sees 15 = .ok (.invokevirtual 75, 3) := dk_182 0 75 (dk_at dksX6_sees_0 15 rfl rfl)
theorem dX6_sees_18 : decode cX6_sees 18 = .ok (.aload_n 0, 1) := dk_42 (dk_at dksX6_sees_0 18 rfl rfl)
theorem dX6_sees_19 : decode cX6_sees 19 = .ok (.aload_n 0, 1) := dk_42 (dk_at dksX6_sees_0 19 rfl rfl)
theorem dX6_sees_20 : decode cX6_sees 20 = .ok (.getfield 43, 3) := dk_180 0 43 (dk_at dksX6_sees_0 20 rfl rfl)
theorem dX6_sees_23 : decode cX6_sees 23 = .ok (.i2l, 1) := dk_133 (dk_at dksX6_sees_0 23 rfl rfl)
theorem dX6_sees_24 : decode cX6_sees 24 = .ok (.iload_n 1, 1) := dk_27 (dk_at dksX6_sees_1 0 rfl rfl)
theorem dX6_sees_25 : decode cX6_sees 25 = .ok (.i2l, 1) := dk_133 (dk_at dksX6_sees_1 1 rfl rfl)
theorem dX6_sees_26 : decode cX6_sees 26 = .ok (.iload_n 2, 1) := dk_28 (dk_at dksX6_sees_1 2 rfl rfl)
theorem dX6_sees_27 : decode cX6_sees 27 = .ok (.i2l, 1) := dk_133 (dk_at dksX6_sees_1 3 rfl rfl)
theorem dX6_sees_28 : decode cX6_sees 28 = .ok (.invokestatic 32, 3) := dk_184 0 32 (dk_at dksX6_sees_1 4 rfl rfl)
theorem dX6_sees_31 : decode cX6_sees 31 = .ok (.iconst 2, 1) := dk_5 (dk_at dksX6_sees_1 7 rfl rfl)
theorem dX6_sees_32 : decode cX6_sees 32 = .ok (.invokevirtual 75, 3) := dk_182 0 75 (dk_at dksX6_sees_1 8 rfl rfl)
theorem dX6_sees_35 : decode cX6_sees 35 = .ok (.aload_n 0, 1) := dk_42 (dk_at dksX6_sees_1 11 rfl rfl)
theorem dX6_sees_36 : decode cX6_sees 36 = .ok (.getfield 43, 3) := dk_180 0 43 (dk_at dksX6_sees_1 12 rfl rfl)
theorem dX6_sees_39 : decode cX6_sees 39 = .ok (.ireturn, 1) := dk_172 (dk_at dksX6_sees_1 15 rfl rfl)
abbrev cX6_strap : ByteArray := prog_9_method_12_code
def yX6_strap : MethodName := ⟨RX6, "strap", "()V"⟩
def dkwX6_strap_4 : List UInt8 := [18, 103, 3, 7, 182, 0, 93, 79, 177]
abbrev dktX6_strap_4 : List UInt8 := dkwX6_strap_4 ++ []
def dkwX6_strap_3 : List UInt8 := [180, 0, 12, 180, 0, 141, 42, 180, 0, 12, 27, 44, 42, 180, 0, 12, 27, 182, 0, 144, 182, 0, 148, 42]
abbrev dktX6_strap_3 : List UInt8 := dkwX6_strap_3 ++ dktX6_strap_4
def dkwX6_strap_2 : List UInt8 := [182, 0, 75, 42, 44, 42, 180, 0, 12, 27, 182, 0, 138, 5, 182, 0, 75, 42, 182, 0, 26, 42]
abbrev dktX6_strap_2 : List UInt8 := dkwX6_strap_2 ++ dktX6_strap_3
def dkwX6_strap_1 : List UInt8 := [77, 42, 44, 178, 0, 127, 165, 0, 12, 42, 18, 136, 182, 0, 71, 153, 0, 7, 4, 167, 0, 4, 3, 4]
abbrev dktX6_strap_1 : List UInt8 := dkwX6_strap_1 ++ dktX6_strap_2
def dkwX6_strap_0 : List UInt8 := [42, 3, 182, 0, 121, 60, 42, 18, 125, 182, 0, 71, 153, 0, 9, 178, 0, 127, 167, 0, 6, 178, 0, 133]
abbrev dktX6_strap_0 : List UInt8 := dkwX6_strap_0 ++ dktX6_strap_1
theorem dksX6_strap_0 : cX6_strap.data.toList.drop 0 = dktX6_strap_0 := by decide +kernel
theorem dksX6_strap_1 : cX6_strap.data.toList.drop 24 = dktX6_strap_1 := dk_seg dksX6_strap_0 24 rfl rfl
theorem dksX6_strap_2 : cX6_strap.data.toList.drop 48 = dktX6_strap_2 := dk_seg dksX6_strap_1 24 rfl rfl
theorem dksX6_strap_3 : cX6_strap.data.toList.drop 70 = dktX6_strap_3 := dk_seg dksX6_strap_2 22 rfl rfl
theorem dksX6_strap_4 : cX6_strap.data.toList.drop 94 = dktX6_strap_4 := dk_seg dksX6_strap_3 24 rfl rfl
theorem dX6_strap_0 : decode cX6_strap 0 = .ok (.aload_n 0, 1) := dk_42 (dk_at dksX6_strap_0 0 rfl rfl)
theorem dX6_strap_1 : decode cX6_strap 1 = .ok (.iconst 0, 1) := dk_3 (dk_at dksX6_strap_0 1 rfl rfl)
theorem dX6_strap_2 : decode cX6_strap 2 = .ok (.invokevirtual 121, 3) := dk_182 0 121 (dk_at dksX6_strap_0 2 rfl rfl)
theorem dX6_strap_5 : decode cX6_strap 5 = .ok (.istore_n 1, 1) := dk_60 (dk_at dksX6_strap_0 5 rfl rfl)
theorem dX6_strap_6 : decode cX6_strap 6 = .ok (.aload_n 0, 1) := dk_42 (dk_at dksX6_strap_0 6 rfl rfl)
theorem dX6_strap_7 : decode cX6_strap 7 = .ok (.ldc 125, 2) := dk_18 125 (dk_at dksX6_strap_0 7 rfl rfl)
theorem dX6_strap_9 : decode cX6_strap 9 = .ok (.invokevirtual 71, 3) := dk_182 0 71 (dk_at dksX6_strap_0 9 rfl rfl)
theorem dX6_strap_12 : decode cX6_strap 12 = .ok (.ifCond .eq 9, 3) := dk_153 0 9 (dk_at dksX6_strap_0 12 rfl rfl)
theorem dX6_strap_15 : decode cX6_strap 15 = .ok (.getstatic 127, 3) := dk_178 0 127 (dk_at dksX6_strap_0 15 rfl rfl)
theorem dX6_strap_18 : decode cX6_strap 18 = .ok (.goto 6, 3) := dk_167 0 6 (dk_at dksX6_strap_0 18 rfl rfl)
theorem dX6_strap_21 : decode cX6_strap 21 = .ok (.getstatic 133, 3) := dk_178 0 133 (dk_at dksX6_strap_0 21 rfl rfl)
theorem dX6_strap_24 : decode cX6_strap 24 = .ok (.astore_n 2, 1) := dk_77 (dk_at dksX6_strap_1 0 rfl rfl)
theorem dX6_strap_25 : decode cX6_strap 25 = .ok (.aload_n 0, 1) := dk_42 (dk_at dksX6_strap_1 1 rfl rfl)
theorem dX6_strap_26 : decode cX6_strap 26 = .ok (.aload_n 2, 1) := dk_44 (dk_at dksX6_strap_1 2 rfl rfl)
theorem dX6_strap_27 : decode cX6_strap 27 = .ok (.getstatic 127, 3) := dk_178 0 127 (dk_at dksX6_strap_1 3 rfl rfl)
theorem dX6_strap_30 : decode cX6_strap 30 = .ok (.if_acmp .eq 12, 3) := dk_165 0 12 (dk_at dksX6_strap_1 6 rfl rfl)
theorem dX6_strap_33 : decode cX6_strap 33 = .ok (.aload_n 0, 1) := dk_42 (dk_at dksX6_strap_1 9 rfl rfl)
theorem dX6_strap_34 : decode cX6_strap 34 = .ok (.ldc 136, 2) := dk_18 136 (dk_at dksX6_strap_1 10 rfl rfl)
theorem dX6_strap_36 : decode cX6_strap 36 = .ok (.invokevirtual 71, 3) := dk_182 0 71 (dk_at dksX6_strap_1 12 rfl rfl)
theorem dX6_strap_39 : decode cX6_strap 39 = .ok (.ifCond .eq 7, 3) := dk_153 0 7 (dk_at dksX6_strap_1 15 rfl rfl)
theorem dX6_strap_42 : decode cX6_strap 42 = .ok (.iconst 1, 1) := dk_4 (dk_at dksX6_strap_1 18 rfl rfl)
theorem dX6_strap_43 : decode cX6_strap 43 = .ok (.goto 4, 3) := dk_167 0 4 (dk_at dksX6_strap_1 19 rfl rfl)
theorem dX6_strap_46 : decode cX6_strap 46 = .ok (.iconst 0, 1) := dk_3 (dk_at dksX6_strap_1 22 rfl rfl)
theorem dX6_strap_47 : decode cX6_strap 47 = .ok (.iconst 1, 1) := dk_4 (dk_at dksX6_strap_1 23 rfl rfl)
theorem dX6_strap_48 : decode cX6_strap 48 = .ok (.invokevirtual 75, 3) := dk_182 0 75 (dk_at dksX6_strap_2 0 rfl rfl)
theorem dX6_strap_51 : decode cX6_strap 51 = .ok (.aload_n 0, 1) := dk_42 (dk_at dksX6_strap_2 3 rfl rfl)
theorem dX6_strap_52 : decode cX6_strap 52 = .ok (.aload_n 2, 1) := dk_44 (dk_at dksX6_strap_2 4 rfl rfl)
theorem dX6_strap_53 : decode cX6_strap 53 = .ok (.aload_n 0, 1) := dk_42 (dk_at dksX6_strap_2 5 rfl rfl)
theorem dX6_strap_54 : decode cX6_strap 54 = .ok (.getfield 12, 3) := dk_180 0 12 (dk_at dksX6_strap_2 6 rfl rfl)
theorem dX6_strap_57 : decode cX6_strap 57 = .ok (.iload_n 1, 1) := dk_27 (dk_at dksX6_strap_2 9 rfl rfl)
theorem dX6_strap_58 : decode cX6_strap 58 = .ok (.invokevirtual 138, 3) := dk_182 0 138 (dk_at dksX6_strap_2 10 rfl rfl)
theorem dX6_strap_61 : decode cX6_strap 61 = .ok (.iconst 2, 1) := dk_5 (dk_at dksX6_strap_2 13 rfl rfl)
theorem dX6_strap_62 : decode cX6_strap 62 = .ok (.invokevirtual 75, 3) := dk_182 0 75 (dk_at dksX6_strap_2 14 rfl rfl)
theorem dX6_strap_65 : decode cX6_strap 65 = .ok (.aload_n 0, 1) := dk_42 (dk_at dksX6_strap_2 17 rfl rfl)
theorem dX6_strap_66 : decode cX6_strap 66 = .ok (.invokevirtual 26, 3) := dk_182 0 26 (dk_at dksX6_strap_2 18 rfl rfl)
theorem dX6_strap_69 : decode cX6_strap 69 = .ok (.aload_n 0, 1) := dk_42 (dk_at dksX6_strap_2 21 rfl rfl)
theorem dX6_strap_70 : decode cX6_strap 70 = .ok (.getfield 12, 3) := dk_180 0 12 (dk_at dksX6_strap_3 0 rfl rfl)
theorem dX6_strap_73 : decode cX6_strap 73 = .ok (.getfield 141, 3) := dk_180 0 141 (dk_at dksX6_strap_3 3 rfl rfl)
theorem dX6_strap_76 : decode cX6_strap 76 = .ok (.aload_n 0, 1) := dk_42 (dk_at dksX6_strap_3 6 rfl rfl)
theorem dX6_strap_77 : decode cX6_strap 77 = .ok (.getfield 12, 3) := dk_180 0 12 (dk_at dksX6_strap_3 7 rfl rfl)
theorem dX6_strap_80 : decode cX6_strap 80 = .ok (.iload_n 1, 1) := dk_27 (dk_at dksX6_strap_3 10 rfl rfl)
theorem dX6_strap_81 : decode cX6_strap 81 = .ok (.aload_n 2, 1) := dk_44 (dk_at dksX6_strap_3 11 rfl rfl)
theorem dX6_strap_82 : decode cX6_strap 82 = .ok (.aload_n 0, 1) := dk_42 (dk_at dksX6_strap_3 12 rfl rfl)
theorem dX6_strap_83 : decode cX6_strap 83 = .ok (.getfield 12, 3) := dk_180 0 12 (dk_at dksX6_strap_3 13 rfl rfl)
theorem dX6_strap_86 : decode cX6_strap 86 = .ok (.iload_n 1, 1) := dk_27 (dk_at dksX6_strap_3 16 rfl rfl)
theorem dX6_strap_87 : decode cX6_strap 87 = .ok (.invokevirtual 144, 3) := dk_182 0 144 (dk_at dksX6_strap_3 17 rfl rfl)
theorem dX6_strap_90 : decode cX6_strap 90 = .ok (.invokevirtual 148, 3) := dk_182 0 148 (dk_at dksX6_strap_3 20 rfl rfl)
theorem dX6_strap_93 : decode cX6_strap 93 = .ok (.aload_n 0, 1) := dk_42 (dk_at dksX6_strap_3 23 rfl rfl)
theorem dX6_strap_94 : decode cX6_strap 94 = .ok (.ldc 103, 2) := dk_18 103 (dk_at dksX6_strap_4 0 rfl rfl)
theorem dX6_strap_96 : decode cX6_strap 96 = .ok (.iconst 0, 1) := dk_3 (dk_at dksX6_strap_4 2 rfl rfl)
theorem dX6_strap_97 : decode cX6_strap 97 = .ok (.iconst 4, 1) := dk_7 (dk_at dksX6_strap_4 3 rfl rfl)
theorem dX6_strap_98 : decode cX6_strap 98 = .ok (.invokevirtual 93, 3) := dk_182 0 93 (dk_at dksX6_strap_4 4 rfl rfl)
theorem dX6_strap_101 : decode cX6_strap 101 = .ok (.iastore, 1) := dk_79 (dk_at dksX6_strap_4 7 rfl rfl)
theorem dX6_strap_102 : decode cX6_strap 102 = .ok (.return_, 1) := dk_177 (dk_at dksX6_strap_4 8 rfl rfl)
abbrev cX6_place : ByteArray := prog_9_method_11_code
def yX6_place : MethodName := ⟨RX6, "place", "(I)I"⟩
def dkwX6_place_2 : List UInt8 := [29, 184, 0, 118, 154, 0, 7, 4, 167, 0, 4, 3, 5, 182, 0, 75, 42, 182, 0, 26, 29, 172]
abbrev dktX6_place_2 : List UInt8 := dkwX6_place_2 ++ []
def dkwX6_place_1 : List UInt8 := [180, 0, 12, 180, 0, 101, 4, 100, 182, 0, 79, 42, 180, 0, 12, 180, 0, 97, 104, 28, 96, 62, 42, 27]
abbrev dktX6_place_1 : List UInt8 := dkwX6_place_1 ++ dktX6_place_2
def dkwX6_place_0 : List UInt8 := [42, 182, 0, 26, 42, 18, 117, 3, 42, 180, 0, 12, 180, 0, 97, 4, 100, 182, 0, 93, 61, 42, 3, 42]
abbrev dktX6_place_0 : List UInt8 := dkwX6_place_0 ++ dktX6_place_1
theorem dksX6_place_0 : cX6_place.data.toList.drop 0 = dktX6_place_0 := by decide +kernel
theorem dksX6_place_1 : cX6_place.data.toList.drop 24 = dktX6_place_1 := dk_seg dksX6_place_0 24 rfl rfl
theorem dksX6_place_2 : cX6_place.data.toList.drop 48 = dktX6_place_2 := dk_seg dksX6_place_1 24 rfl rfl
theorem dX6_place_0 : decode cX6_place 0 = .ok (.aload_n 0, 1) := dk_42 (dk_at dksX6_place_0 0 rfl rfl)
theorem dX6_place_1 : decode cX6_place 1 = .ok (.invokevirtual 26, 3) := dk_182 0 26 (dk_at dksX6_place_0 1 rfl rfl)
theorem dX6_place_4 : decode cX6_place 4 = .ok (.aload_n 0, 1) := dk_42 (dk_at dksX6_place_0 4 rfl rfl)
theorem dX6_place_5 : decode cX6_place 5 = .ok (.ldc 117, 2) := dk_18 117 (dk_at dksX6_place_0 5 rfl rfl)
theorem dX6_place_7 : decode cX6_place 7 = .ok (.iconst 0, 1) := dk_3 (dk_at dksX6_place_0 7 rfl rfl)
theorem dX6_place_8 : decode cX6_place 8 = .ok (.aload_n 0, 1) := dk_42 (dk_at dksX6_place_0 8 rfl rfl)
theorem dX6_place_9 : decode cX6_place 9 = .ok (.getfield 12, 3) := dk_180 0 12 (dk_at dksX6_place_0 9 rfl rfl)
theorem dX6_place_12 : decode cX6_place 12 = .ok (.getfield 97, 3) := dk_180 0 97 (dk_at dksX6_place_0 12 rfl rfl)
theorem dX6_place_15 : decode cX6_place 15 = .ok (.iconst 1, 1) := dk_4 (dk_at dksX6_place_0 15 rfl rfl)
theorem dX6_place_16 : decode cX6_place 16 = .ok (.isub, 1) := dk_100 (dk_at dksX6_place_0 16 rfl rfl)
theorem dX6_place_17 : decode cX6_place 17 = .ok (.invokevirtual 93, 3) := dk_182 0 93 (dk_at dksX6_place_0 17 rfl rfl)
theorem dX6_place_20 : decode cX6_place 20 = .ok (.istore_n 2, 1) := dk_61 (dk_at dksX6_place_0 20 rfl rfl)
theorem dX6_place_21 : decode cX6_place 21 = .ok (.aload_n 0, 1) := dk_42 (dk_at dksX6_place_0 21 rfl rfl)
theorem dX6_place_22 : decode cX6_place 22 = .ok (.iconst 0, 1) := dk_3 (dk_at dksX6_place_0 22 rfl rfl)
theorem dX6_place_23 : decode cX6_place 23 = .ok (.aload_n 0, 1) := dk_42 (dk_at dksX6_place_0 23 rfl rfl)
theorem dX6_place_24 : decode cX6_place 24 = .ok (.getfield 12, 3) := dk_180 0 12 (dk_at dksX6_place_1 0 rfl rfl)
theorem dX6_place_27 : decode cX6_place 27 = .ok (.getfield 101, 3) := dk_180 0 101 (dk_at dksX6_place_1 3 rfl rfl)
theorem dX6_place_30 : decode cX6_place 30 = .ok (.iconst 1, 1) := dk_4 (dk_at dksX6_place_1 6 rfl rfl)
theorem dX6_place_31 : decode cX6_place 31 = .ok (.isub, 1) := dk_100 (dk_at dksX6_place_1 7 rfl rfl)
theorem dX6_place_32 : decode cX6_place 32 = .ok (.invokevirtual 79, 3) := dk_182 0 79 (dk_at dksX6_place_1 8 rfl rfl)
theorem dX6_place_35 : decode cX6_place 35 = .ok (.aload_n 0, 1) := dk_42 (dk_at dksX6_place_1 11 rfl rfl)
theorem dX6_place_36 : decode cX6_place 36 = .ok (.getfield 12, 3) := dk_180 0 12 (dk_at dksX6_place_1 12 rfl rfl)
theorem dX6_place_39 : decode cX6_place 39 = .ok (.getfield 97, 3) := dk_180 0 97 (dk_at dksX6_place_1 15 rfl rfl)
theorem dX6_place_42 : decode cX6_place 42 = .ok (.imul, 1) := dk_104 (dk_at dksX6_place_1 18 rfl rfl)
theorem dX6_place_43 : decode cX6_place 43 = .ok (.iload_n 2, 1) := dk_28 (dk_at dksX6_place_1 19 rfl rfl)
theorem dX6_place_44 : decode cX6_place 44 = .ok (.iadd, 1) := dk_96 (dk_at dksX6_place_1 20 rfl rfl)
theorem dX6_place_45 : decode cX6_place 45 = .ok (.istore_n 3, 1) := dk_62 (dk_at dksX6_place_1 21 rfl rfl)
theorem dX6_place_46 : decode cX6_place 46 = .ok (.aload_n 0, 1) := dk_42 (dk_at dksX6_place_1 22 rfl rfl)
theorem dX6_place_47 : decode cX6_place 47 = .ok (.iload_n 1, 1) := dk_27 (dk_at dksX6_place_1 23 rfl rfl)
theorem dX6_place_48 : decode cX6_place 48 = .ok (.iload_n 3, 1) := dk_29 (dk_at dksX6_place_2 0 rfl rfl)
theorem dX6_place_49 : decode cX6_place 49 = .ok (.invokestatic 118, 3) := dk_184 0 118 (dk_at dksX6_place_2 1 rfl rfl)
theorem dX6_place_52 : decode cX6_place 52 = .ok (.ifCond .ne 7, 3) := dk_154 0 7 (dk_at dksX6_place_2 4 rfl rfl)
theorem dX6_place_55 : decode cX6_place 55 = .ok (.iconst 1, 1) := dk_4 (dk_at dksX6_place_2 7 rfl rfl)
theorem dX6_place_56 : decode cX6_place 56 = .ok (.goto 4, 3) := dk_167 0 4 (dk_at dksX6_place_2 8 rfl rfl)
theorem dX6_place_59 : decode cX6_place 59 = .ok (.iconst 0, 1) := dk_3 (dk_at dksX6_place_2 11 rfl rfl)
theorem dX6_place_60 : decode cX6_place 60 = .ok (.iconst 2, 1) := dk_5 (dk_at dksX6_place_2 12 rfl rfl)
theorem dX6_place_61 : decode cX6_place 61 = .ok (.invokevirtual 75, 3) := dk_182 0 75 (dk_at dksX6_place_2 13 rfl rfl)
theorem dX6_place_64 : decode cX6_place 64 = .ok (.aload_n 0, 1) := dk_42 (dk_at dksX6_place_2 16 rfl rfl)
theorem dX6_place_65 : decode cX6_place 65 = .ok (.invokevirtual 26, 3) := dk_182 0 26 (dk_at dksX6_place_2 17 rfl rfl)
theorem dX6_place_68 : decode cX6_place 68 = .ok (.iload_n 3, 1) := dk_29 (dk_at dksX6_place_2 20 rfl rfl)
theorem dX6_place_69 : decode cX6_place 69 = .ok (.ireturn, 1) := dk_172 (dk_at dksX6_place_2 21 rfl rfl)
abbrev cX6_load : ByteArray := prog_9_method_13_code
def yX6_load : MethodName := ⟨RX6, "load", "()V"⟩
def dkwX6_load_2 : List UInt8 := [153, 0, 20, 42, 180, 0, 12, 180, 0, 161, 27, 42, 18, 159, 4, 6, 182, 0, 93, 79, 177]
abbrev dktX6_load_2 : List UInt8 := dkwX6_load_2 ++ []
def dkwX6_load_1 : List UInt8 := [180, 0, 12, 180, 0, 154, 27, 42, 18, 157, 4, 16, 99, 182, 0, 93, 79, 42, 18, 159, 182, 0, 71]
abbrev dktX6_load_1 : List UInt8 := dkwX6_load_1 ++ dktX6_load_2
def dkwX6_load_0 : List UInt8 := [42, 42, 180, 0, 151, 182, 0, 121, 60, 42, 89, 180, 0, 151, 4, 27, 120, 128, 181, 0, 151, 42]
abbrev dktX6_load_0 : List UInt8 := dkwX6_load_0 ++ dktX6_load_1
theorem dksX6_load_0 : cX6_load.data.toList.drop 0 = dktX6_load_0 := by decide +kernel
theorem dksX6_load_1 : cX6_load.data.toList.drop 22 = dktX6_load_1 := dk_seg dksX6_load_0 22 rfl rfl
theorem dksX6_load_2 : cX6_load.data.toList.drop 45 = dktX6_load_2 := dk_seg dksX6_load_1 23 rfl rfl
theorem dX6_load_0 : decode cX6_load 0 = .ok (.aload_n 0, 1) := dk_42 (dk_at dksX6_load_0 0 rfl rfl)
theorem dX6_load_1 : decode cX6_load 1 = .ok (.aload_n 0, 1) := dk_42 (dk_at dksX6_load_0 1 rfl rfl)
theorem dX6_load_2 : decode cX6_load 2 = .ok (.getfield 151, 3) := dk_180 0 151 (dk_at dksX6_load_0 2 rfl rfl)
theorem dX6_load_5 : decode cX6_load 5 = .ok (.invokevirtual 121, 3) := dk_182 0 121 (dk_at dksX6_load_0 5 rfl rfl)
theorem dX6_load_8 : decode cX6_load 8 = .ok (.istore_n 1, 1) := dk_60 (dk_at dksX6_load_0 8 rfl rfl)
theorem dX6_load_9 : decode cX6_load 9 = .ok (.aload_n 0, 1) := dk_42 (dk_at dksX6_load_0 9 rfl rfl)
theorem dX6_load_10 : decode cX6_load 10 = .ok (.dup, 1) := dk_89 (dk_at dksX6_load_0 10 rfl rfl)
theorem dX6_load_11 : decode cX6_load 11 = .ok (.getfield 151, 3) := dk_180 0 151 (dk_at dksX6_load_0 11 rfl rfl)
theorem dX6_load_14 : decode cX6_load 14 = .ok (.iconst 1, 1) := dk_4 (dk_at dksX6_load_0 14 rfl rfl)
theorem dX6_load_15 : decode cX6_load 15 = .ok (.iload_n 1, 1) := dk_27 (dk_at dksX6_load_0 15 rfl rfl)
theorem dX6_load_16 : decode cX6_load 16 = .ok (.ishl, 1) := dk_120 (dk_at dksX6_load_0 16 rfl rfl)
theorem dX6_load_17 : decode cX6_load 17 = .ok (.ior, 1) := dk_128 (dk_at dksX6_load_0 17 rfl rfl)
theorem dX6_load_18 : decode cX6_load 18 = .ok (.putfield 151, 3) := dk_181 0 151 (dk_at dksX6_load_0 18 rfl rfl)
theorem dX6_load_21 : decode cX6_load 21 = .ok (.aload_n 0, 1) := dk_42 (dk_at dksX6_load_0 21 rfl rfl)
theorem dX6_load_22 : decode cX6_load 22 = .ok (.getfield 12, 3) := dk_180 0 12 (dk_at dksX6_load_1 0 rfl rfl)
theorem dX6_load_25 : decode cX6_load 25 = .ok (.getfield 154, 3) := dk_180 0 154 (dk_at dksX6_load_1 3 rfl rfl)
theorem dX6_load_28 : decode cX6_load 28 = .ok (.iload_n 1, 1) := dk_27 (dk_at dksX6_load_1 6 rfl rfl)
theorem dX6_load_29 : decode cX6_load 29 = .ok (.aload_n 0, 1) := dk_42 (dk_at dksX6_load_1 7 rfl rfl)
theorem dX6_load_30 : decode cX6_load 30 = .ok (.ldc 157, 2) := dk_18 157 (dk_at dksX6_load_1 8 rfl rfl)
theorem dX6_load_32 : decode cX6_load 32 = .ok (.iconst 1, 1) := dk_4 (dk_at dksX6_load_1 10 rfl rfl)
theorem dX6_load_33 : decode cX6_load 33 = .ok (.bipush 99, 2) := dk_16 99 (dk_at dksX6_load_1 11 rfl rfl)
theorem dX6_load_35 : decode cX6_load 35 = .ok (.invokevirtual 93, 3) := dk_182 0 93 (dk_at dksX6_load_1 13 rfl rfl)
theorem dX6_load_38 : decode cX6_load 38 = .ok (.iastore, 1) := dk_79 (dk_at dksX6_load_1 16 rfl rfl)
theorem dX6_load_39 : decode cX6_load 39 = .ok (.aload_n 0, 1) := dk_42 (dk_at dksX6_load_1 17 rfl rfl)
theorem dX6_load_40 : decode cX6_load 40 = .ok (.ldc 159, 2) := dk_18 159 (dk_at dksX6_load_1 18 rfl rfl)
theorem dX6_load_42 : decode cX6_load 42 = .ok (.invokevirtual 71, 3) := dk_182 0 71 (dk_at dksX6_load_1 20 rfl rfl)
theorem dX6_load_45 : decode cX6_load 45 = .ok (.ifCond .eq 20, 3) := dk_153 0 20 (dk_at dksX6_load_2 0 rfl rfl)
theorem dX6_load_48 : decode cX6_load 48 = .ok (.aload_n 0, 1) := dk_42 (dk_at dksX6_load_2 3 rfl rfl)
theorem dX6_load_49 : decode cX6_load 49 = .ok (.getfield 12, 3) := dk_180 0 12 (dk_at dksX6_load_2 4 rfl rfl)
theorem dX6_load_52 : decode cX6_load 52 = .ok (.getfield 161, 3) := dk_180 0 161 (dk_at dksX6_load_2 7 rfl rfl)
theorem dX6_load_55 : decode cX6_load 55 = .ok (.iload_n 1, 1) := dk_27 (dk_at dksX6_load_2 10 rfl rfl)
theorem dX6_load_56 : decode cX6_load 56 = .ok (.aload_n 0, 1) := dk_42 (dk_at dksX6_load_2 11 rfl rfl)
theorem dX6_load_57 : decode cX6_load 57 = .ok (.ldc 159, 2) := dk_18 159 (dk_at dksX6_load_2 12 rfl rfl)
theorem dX6_load_59 : decode cX6_load 59 = .ok (.iconst 1, 1) := dk_4 (dk_at dksX6_load_2 14 rfl rfl)
theorem dX6_load_60 : decode cX6_load 60 = .ok (.iconst 3, 1) := dk_6 (dk_at dksX6_load_2 15 rfl rfl)
theorem dX6_load_61 : decode cX6_load 61 = .ok (.invokevirtual 93, 3) := dk_182 0 93 (dk_at dksX6_load_2 16 rfl rfl)
theorem dX6_load_64 : decode cX6_load 64 = .ok (.iastore, 1) := dk_79 (dk_at dksX6_load_2 19 rfl rfl)
theorem dX6_load_65 : decode cX6_load 65 = .ok (.return_, 1) := dk_177 (dk_at dksX6_load_2 20 rfl rfl)
abbrev cX6_budget : ByteArray := prog_9_method_14_code
def yX6_budget : MethodName := ⟨RX6, "budget", "()V"⟩
def dkwX6_budget_2 : List UInt8 := [42, 180, 0, 12, 180, 0, 166, 27, 42, 18, 169, 3, 17, 3, 231, 182, 0, 93, 79, 177]
abbrev dktX6_budget_2 : List UInt8 := dkwX6_budget_2 ++ []
def dkwX6_budget_1 : List UInt8 := [167, 0, 4, 3, 5, 182, 0, 75, 42, 89, 180, 0, 163, 4, 27, 120, 128, 181, 0, 163, 42, 182, 0, 26]
abbrev dktX6_budget_1 : List UInt8 := dkwX6_budget_1 ++ dktX6_budget_2
def dkwX6_budget_0 : List UInt8 := [42, 182, 0, 26, 42, 3, 6, 182, 0, 79, 60, 42, 42, 180, 0, 163, 27, 184, 0, 118, 154, 0, 7, 4]
abbrev dktX6_budget_0 : List UInt8 := dkwX6_budget_0 ++ dktX6_budget_1
theorem dksX6_budget_0 : cX6_budget.data.toList.drop 0 = dktX6_budget_0 := by decide +kernel
theorem dksX6_budget_1 : cX6_budget.data.toList.drop 24 = dktX6_budget_1 := dk_seg dksX6_budget_0 24 rfl rfl
theorem dksX6_budget_2 : cX6_budget.data.toList.drop 48 = dktX6_budget_2 := dk_seg dksX6_budget_1 24 rfl rfl
theorem dX6_budget_0 : decode cX6_budget 0 = .ok (.aload_n 0, 1) := dk_42 (dk_at dksX6_budget_0 0 rfl rfl)
theorem dX6_budget_1 : decode cX6_budget 1 = .ok (.invokevirtual 26, 3) := dk_182 0 26 (dk_at dksX6_budget_0 1 rfl rfl)
theorem dX6_budget_4 : decode cX6_budget 4 = .ok (.aload_n 0, 1) := dk_42 (dk_at dksX6_budget_0 4 rfl rfl)
theorem dX6_budget_5 : decode cX6_budget 5 = .ok (.iconst 0, 1) := dk_3 (dk_at dksX6_budget_0 5 rfl rfl)
theorem dX6_budget_6 : decode cX6_budget 6 = .ok (.iconst 3, 1) := dk_6 (dk_at dksX6_budget_0 6 rfl rfl)
theorem dX6_budget_7 : decode cX6_budget 7 = .ok (.invokevirtual 79, 3) := dk_182 0 79 (dk_at dksX6_budget_0 7 rfl rfl)
theorem dX6_budget_10 : decode cX6_budget 10 = .ok (.istore_n 1, 1) := dk_60 (dk_at dksX6_budget_0 10 rfl rfl)
theorem dX6_budget_11 : decode cX6_budget 11 = .ok (.aload_n 0, 1) := dk_42 (dk_at dksX6_budget_0 11 rfl rfl)
theorem dX6_budget_12 : decode cX6_budget 12 = .ok (.aload_n 0, 1) := dk_42 (dk_at dksX6_budget_0 12 rfl rfl)
theorem dX6_budget_13 : decode cX6_budget 13 = .ok (.getfield 163, 3) := dk_180 0 163 (dk_at dksX6_budget_0 13 rfl rfl)
theorem dX6_budget_16 : decode cX6_budget 16 = .ok (.iload_n 1, 1) := dk_27 (dk_at dksX6_budget_0 16 rfl rfl)
theorem dX6_budget_17 : decode cX6_budget 17 = .ok (.invokestatic 118, 3) := dk_184 0 118 (dk_at dksX6_budget_0 17 rfl rfl)
theorem dX6_budget_20 : decode cX6_budget 20 = .ok (.ifCond .ne 7, 3) := dk_154 0 7 (dk_at dksX6_budget_0 20 rfl rfl)
theorem dX6_budget_23 : decode cX6_budget 23 = .ok (.iconst 1, 1) := dk_4 (dk_at dksX6_budget_0 23 rfl rfl)
theorem dX6_budget_24 : decode cX6_budget 24 = .ok (.goto 4, 3) := dk_167 0 4 (dk_at dksX6_budget_1 0 rfl rfl)
theorem dX6_budget_27 : decode cX6_budget 27 = .ok (.iconst 0, 1) := dk_3 (dk_at dksX6_budget_1 3 rfl rfl)
theorem dX6_budget_28 : decode cX6_budget 28 = .ok (.iconst 2, 1) := dk_5 (dk_at dksX6_budget_1 4 rfl rfl)
theorem dX6_budget_29 : decode cX6_budget 29 = .ok (.invokevirtual 75, 3) := dk_182 0 75 (dk_at dksX6_budget_1 5 rfl rfl)
theorem dX6_budget_32 : decode cX6_budget 32 = .ok (.aload_n 0, 1) := dk_42 (dk_at dksX6_budget_1 8 rfl rfl)
theorem dX6_budget_33 : decode cX6_budget 33 = .ok (.dup, 1) := dk_89 (dk_at dksX6_budget_1 9 rfl rfl)
theorem dX6_budget_34 : decode cX6_budget 34 = .ok (.getfield 163, 3) := dk_180 0 163 (dk_at dksX6_budget_1 10 rfl rfl)
theorem dX6_budget_37 : decode cX6_budget 37 = .ok (.iconst 1, 1) := dk_4 (dk_at dksX6_budget_1 13 rfl rfl)
theorem dX6_budget_38 : decode cX6_budget 38 = .ok (.iload_n 1, 1) := dk_27 (dk_at dksX6_budget_1 14 rfl rfl)
theorem dX6_budget_39 : decode cX6_budget 39 = .ok (.ishl, 1) := dk_120 (dk_at dksX6_budget_1 15 rfl rfl)
theorem dX6_budget_40 : decode cX6_budget 40 = .ok (.ior, 1) := dk_128 (dk_at dksX6_budget_1 16 rfl rfl)
theorem dX6_budget_41 : decode cX6_budget 41 = .ok (.putfield 163, 3) := dk_181 0 163 (dk_at dksX6_budget_1 17 rfl rfl)
theorem dX6_budget_44 : decode cX6_budget 44 = .ok (.aload_n 0, 1) := dk_42 (dk_at dksX6_budget_1 20 rfl rfl)
theorem dX6_budget_45 : decode cX6_budget 45 = .ok (.invokevirtual 26, 3) := dk_182 0 26 (dk_at dksX6_budget_1 21 rfl rfl)
theorem dX6_budget_48 : decode cX6_budget 48 = .ok (.aload_n 0, 1) := dk_42 (dk_at dksX6_budget_2 0 rfl rfl)
theorem dX6_budget_49 : decode cX6_budget 49 = .ok (.getfield 12, 3) := dk_180 0 12 (dk_at dksX6_budget_2 1 rfl rfl)
theorem dX6_budget_52 : decode cX6_budget 52 = .ok (.getfield 166, 3) := dk_180 0 166 (dk_at dksX6_budget_2 4 rfl rfl)
theorem dX6_budget_55 : decode cX6_budget 55 = .ok (.iload_n 1, 1) := dk_27 (dk_at dksX6_budget_2 7 rfl rfl)
theorem dX6_budget_56 : decode cX6_budget 56 = .ok (.aload_n 0, 1) := dk_42 (dk_at dksX6_budget_2 8 rfl rfl)
theorem dX6_budget_57 : decode cX6_budget 57 = .ok (.ldc 169, 2) := dk_18 169 (dk_at dksX6_budget_2 9 rfl rfl)
theorem dX6_budget_59 : decode cX6_budget 59 = .ok (.iconst 0, 1) := dk_3 (dk_at dksX6_budget_2 11 rfl rfl)
theorem dX6_budget_60 : decode cX6_budget 60 = .ok (.sipush 999, 3) := dk_17 3 231 (dk_at dksX6_budget_2 12 rfl rfl)
theorem dX6_budget_63 : decode cX6_budget 63 = .ok (.invokevirtual 93, 3) := dk_182 0 93 (dk_at dksX6_budget_2 15 rfl rfl)
theorem dX6_budget_66 : decode cX6_budget 66 = .ok (.iastore, 1) := dk_79 (dk_at dksX6_budget_2 18 rfl rfl)
theorem dX6_budget_67 : decode cX6_budget 67 = .ok (.return_, 1) := dk_177 (dk_at dksX6_budget_2 19 rfl rfl)
theorem q128 : (Jvm.Cond.initialized "SupplyGrid$Reader") ∈ lw_all := lw_g (lw_at lw_m1 10 rfl) rfl
theorem q195 : (Jvm.Cond.fieldLinkNest "SupplyGrid$Reader" (141 : Nat) "SupplyGrid$Told" "width" "[I" "SupplyGrid") ∈ lw_tbl := lw_at lw_m1 77 rfl
theorem q208 : (Jvm.Cond.fieldLinkNest "SupplyGrid$Reader" (154 : Nat) "SupplyGrid$Told" "load" "[I" "SupplyGrid") ∈ lw_tbl := lw_at lw_m1 90 rfl
theorem q211 : (Jvm.Cond.fieldLinkNest "SupplyGrid$Reader" (161 : Nat) "SupplyGrid$Told" "group" "[I" "SupplyGrid") ∈ lw_tbl := lw_at lw_m1 93 rfl
theorem q214 : (Jvm.Cond.fieldLinkNest "SupplyGrid$Reader" (166 : Nat) "SupplyGrid$Told" "budget" "[I" "SupplyGrid") ∈ lw_tbl := lw_at lw_m1 96 rfl
theorem q221 : (Jvm.Cond.fieldLinkNest "SupplyGrid$Reader" (97 : Nat) "SupplyGrid$Told" "columns" "I" "SupplyGrid") ∈ lw_tbl := lw_at lw_m1 103 rfl
theorem q225 : (Jvm.Cond.fieldLinkNest "SupplyGrid$Reader" (101 : Nat) "SupplyGrid$Told" "rows" "I" "SupplyGrid") ∈ lw_tbl := lw_at lw_m1 107 rfl
theorem q228 : (Jvm.Cond.fieldLinkNest "SupplyGrid$Reader" (111 : Nat) "SupplyGrid$Told" "limit" "I" "SupplyGrid") ∈ lw_tbl := lw_at lw_m1 110 rfl
theorem q232 : (Jvm.Cond.fieldLinkNest "SupplyGrid$Reader" (115 : Nat) "SupplyGrid$Told" "wear" "I" "SupplyGrid") ∈ lw_tbl := lw_at lw_m1 114 rfl
theorem q243 : (Jvm.Cond.fieldLinkNest "SupplyGrid$Reader" (181 : Nat) "SupplyGrid$Told" "pads" "I" "SupplyGrid") ∈ lw_tbl := lw_at lw_m1 125 rfl
theorem q247 : (Jvm.Cond.fieldLinkNest "SupplyGrid$Reader" (170 : Nat) "SupplyGrid$Told" "lines" "I" "SupplyGrid") ∈ lw_tbl := lw_at lw_m1 129 rfl
theorem q412 : (Jvm.Cond.instantiable "SupplyGrid$Reader" (9 : Nat)) ∈ lw_all := lw_g (lw_at lw_m2 54 rfl) rfl
theorem q414 : (Jvm.Cond.instanceMethod ({ cls := "SupplyGrid$Reader", name := "<init>", desc := "([BI)V" } : Jvm.MethodName)) ∈ lw_all := lw_g (lw_at lw_m2 56 rfl) rfl
theorem q415 : (Jvm.Cond.code ({ cls := "SupplyGrid$Reader", name := "<init>", desc := "([BI)V" } : Jvm.MethodName) prog_9_method_1_code (3 : Nat) (Option.none : Option Jvm.ClassFile.FieldType)) ∈ lw_all := lw_g (lw_at lw_m2 57 rfl) rfl
theorem q416 : (Jvm.Cond.methodLink "SupplyGrid$Reader" (3 : Nat) ({ cls := "java/lang/Object", name := "<init>", desc := "()V" } : Jvm.MethodName)) ∈ lw_all := lw_g (lw_at lw_m2 58 rfl) rfl
theorem q417 : (Jvm.Cond.classLink "SupplyGrid$Reader" (9 : Nat) "SupplyGrid$Told") ∈ lw_all := lw_g (lw_at lw_m2 59 rfl) rfl
theorem q418 : (Jvm.Cond.methodLink "SupplyGrid$Reader" (11 : Nat) ({ cls := "SupplyGrid$Told", name := "<init>", desc := "()V" } : Jvm.MethodName)) ∈ lw_all := lw_g (lw_at lw_m2 60 rfl) rfl
theorem q419 : (Jvm.Cond.methodLink "SupplyGrid$Reader" (26 : Nat) ({ cls := "SupplyGrid$Reader", name := "next", desc := "()V" } : Jvm.MethodName)) ∈ lw_all := lw_g (lw_at lw_m2 61 rfl) rfl
theorem q420 : (Jvm.Cond.privateMethod ({ cls := "SupplyGrid$Reader", name := "next", desc := "()V" } : Jvm.MethodName)) ∈ lw_tbl := lw_at lw_m2 62 rfl
theorem q421 : (Jvm.Cond.instanceMethod ({ cls := "SupplyGrid$Reader", name := "next", desc := "()V" } : Jvm.MethodName)) ∈ lw_all := lw_g (lw_at lw_m2 63 rfl) rfl
theorem q422 : (Jvm.Cond.code ({ cls := "SupplyGrid$Reader", name := "next", desc := "()V" } : Jvm.MethodName) prog_9_method_3_code (1 : Nat) (Option.none : Option Jvm.ClassFile.FieldType)) ∈ lw_all := lw_g (lw_at lw_m2 64 rfl) rfl
theorem q423 : (Jvm.Cond.methodLink "SupplyGrid$Reader" (36 : Nat) ({ cls := "SupplyGrid$Reader", name := "isAt", desc := "(II)Z" } : Jvm.MethodName)) ∈ lw_all := lw_g (lw_at lw_m2 65 rfl) rfl
theorem q424 : (Jvm.Cond.privateMethod ({ cls := "SupplyGrid$Reader", name := "isAt", desc := "(II)Z" } : Jvm.MethodName)) ∈ lw_tbl := lw_at lw_m2 66 rfl
theorem q425 : (Jvm.Cond.instanceMethod ({ cls := "SupplyGrid$Reader", name := "isAt", desc := "(II)Z" } : Jvm.MethodName)) ∈ lw_all := lw_g (lw_at lw_m2 67 rfl) rfl
theorem q426 : (Jvm.Cond.code ({ cls := "SupplyGrid$Reader", name := "isAt", desc := "(II)Z" } : Jvm.MethodName) prog_9_method_2_code (3 : Nat) (Option.some Jvm.ClassFile.FieldType.boolean)) ∈ lw_all := lw_g (lw_at lw_m2 68 rfl) rfl
theorem q427 : (Jvm.Cond.methodLinkNest "SupplyGrid$Reader" (32 : Nat) ({ cls := "SupplyGrid", name := "in", desc := "(JJJ)Z" } : Jvm.MethodName) "SupplyGrid") ∈ lw_tbl := lw_at lw_m2 69 rfl
theorem q428 : (Jvm.Cond.constant "SupplyGrid$Reader" (49 : Nat) (99999 : Int32)) ∈ lw_all := lw_g (lw_at lw_m2 70 rfl) rfl
theorem q429 : (Jvm.Cond.methodLink "SupplyGrid$Reader" (50 : Nat) ({ cls := "java/lang/Math", name := "min", desc := "(II)I" } : Jvm.MethodName)) ∈ lw_all := lw_g (lw_at lw_m2 71 rfl) rfl
theorem q432 : (Jvm.Cond.fieldLink "SupplyGrid$Reader" (18 : Nat) "SupplyGrid$Reader" "text" "[B") ∈ lw_all := lw_g (lw_at lw_m2 74 rfl) rfl
theorem q433 : (Jvm.Cond.fieldLink "SupplyGrid$Reader" (22 : Nat) "SupplyGrid$Reader" "many" "I") ∈ lw_all := lw_g (lw_at lw_m2 75 rfl) rfl
theorem q434 : (Jvm.Cond.fieldLink "SupplyGrid$Reader" (12 : Nat) "SupplyGrid$Reader" "t" "LSupplyGrid$Told;") ∈ lw_all := lw_g (lw_at lw_m2 76 rfl) rfl
theorem q435 : (Jvm.Cond.fieldLink "SupplyGrid$Reader" (29 : Nat) "SupplyGrid$Reader" "at" "I") ∈ lw_all := lw_g (lw_at lw_m2 77 rfl) rfl
theorem q436 : (Jvm.Cond.fieldLink "SupplyGrid$Reader" (40 : Nat) "SupplyGrid$Reader" "begin" "I") ∈ lw_all := lw_g (lw_at lw_m2 78 rfl) rfl
theorem q437 : (Jvm.Cond.fieldLink "SupplyGrid$Reader" (46 : Nat) "SupplyGrid$Reader" "token" "I") ∈ lw_all := lw_g (lw_at lw_m2 79 rfl) rfl
theorem q438 : (Jvm.Cond.fieldLink "SupplyGrid$Reader" (43 : Nat) "SupplyGrid$Reader" "value" "I") ∈ lw_all := lw_g (lw_at lw_m2 80 rfl) rfl
theorem q439 : (Jvm.Cond.fieldLink "SupplyGrid$Reader" (151 : Nat) "SupplyGrid$Reader" "drawn" "I") ∈ lw_all := lw_g (lw_at lw_m2 81 rfl) rfl
theorem q440 : (Jvm.Cond.fieldLink "SupplyGrid$Reader" (163 : Nat) "SupplyGrid$Reader" "budgets" "I") ∈ lw_all := lw_g (lw_at lw_m2 82 rfl) rfl
theorem q441 : (Jvm.Cond.laysFinal "SupplyGrid$Reader" "SupplyGrid$Reader" "text" "[B") ∈ lw_all := lw_g (lw_at lw_m2 83 rfl) rfl
theorem q442 : (Jvm.Cond.soleField "SupplyGrid$Reader" "text") ∈ lw_all := lw_g (lw_at lw_m2 84 rfl) rfl
theorem q443 : (Jvm.Cond.laysFinal "SupplyGrid$Reader" "SupplyGrid$Reader" "many" "I") ∈ lw_all := lw_g (lw_at lw_m2 85 rfl) rfl
theorem q444 : (Jvm.Cond.soleField "SupplyGrid$Reader" "many") ∈ lw_all := lw_g (lw_at lw_m2 86 rfl) rfl
theorem q445 : (Jvm.Cond.laysFinal "SupplyGrid$Reader" "SupplyGrid$Reader" "t" "LSupplyGrid$Told;") ∈ lw_all := lw_g (lw_at lw_m2 87 rfl) rfl
theorem q446 : (Jvm.Cond.soleField "SupplyGrid$Reader" "t") ∈ lw_all := lw_g (lw_at lw_m2 88 rfl) rfl
theorem q447 : (Jvm.Cond.lays "SupplyGrid$Reader" "SupplyGrid$Reader" "at" "I") ∈ lw_all := lw_g (lw_at lw_m2 89 rfl) rfl
theorem q448 : (Jvm.Cond.soleField "SupplyGrid$Reader" "at") ∈ lw_all := lw_g (lw_at lw_m2 90 rfl) rfl
theorem q449 : (Jvm.Cond.lays "SupplyGrid$Reader" "SupplyGrid$Reader" "begin" "I") ∈ lw_all := lw_g (lw_at lw_m2 91 rfl) rfl
theorem q450 : (Jvm.Cond.soleField "SupplyGrid$Reader" "begin") ∈ lw_all := lw_g (lw_at lw_m2 92 rfl) rfl
theorem q451 : (Jvm.Cond.lays "SupplyGrid$Reader" "SupplyGrid$Reader" "token" "I") ∈ lw_all := lw_g (lw_at lw_m2 93 rfl) rfl
theorem q452 : (Jvm.Cond.soleField "SupplyGrid$Reader" "token") ∈ lw_all := lw_g (lw_at lw_m2 94 rfl) rfl
theorem q453 : (Jvm.Cond.lays "SupplyGrid$Reader" "SupplyGrid$Reader" "value" "I") ∈ lw_all := lw_g (lw_at lw_m2 95 rfl) rfl
theorem q454 : (Jvm.Cond.soleField "SupplyGrid$Reader" "value") ∈ lw_all := lw_g (lw_at lw_m2 96 rfl) rfl
theorem q455 : (Jvm.Cond.lays "SupplyGrid$Reader" "SupplyGrid$Reader" "drawn" "I") ∈ lw_all := lw_g (lw_at lw_m2 97 rfl) rfl
theorem q456 : (Jvm.Cond.soleField "SupplyGrid$Reader" "drawn") ∈ lw_all := lw_g (lw_at lw_m2 98 rfl) rfl
theorem q457 : (Jvm.Cond.lays "SupplyGrid$Reader" "SupplyGrid$Reader" "budgets" "I") ∈ lw_all := lw_g (lw_at lw_m2 99 rfl) rfl
theorem q458 : (Jvm.Cond.soleField "SupplyGrid$Reader" "budgets") ∈ lw_all := lw_g (lw_at lw_m2 100 rfl) rfl
theorem q459 : (Jvm.Cond.superclass "SupplyGrid$Reader" "java/lang/Object") ∈ lw_all := lw_g (lw_at lw_m2 101 rfl) rfl
theorem q461 : (Jvm.Cond.instanceMethod ({ cls := "SupplyGrid$Reader", name := "reads", desc := "()LSupplyGrid$Told;" } : Jvm.MethodName)) ∈ lw_all := lw_g (lw_at lw_m2 103 rfl) rfl
theorem q462 : (Jvm.Cond.selects "SupplyGrid$Reader" ({ cls := "SupplyGrid$Reader", name := "reads", desc := "()LSupplyGrid$Told;" } : Jvm.MethodName) ({ cls := "SupplyGrid$Reader", name := "reads", desc := "()LSupplyGrid$Told;" } : Jvm.MethodName)) ∈ lw_all := lw_g (lw_at lw_m2 104 rfl) rfl
theorem q463 : (Jvm.Cond.code ({ cls := "SupplyGrid$Reader", name := "reads", desc := "()LSupplyGrid$Told;" } : Jvm.MethodName) prog_9_method_15_code (1 : Nat) (Option.some (Jvm.ClassFile.FieldType.object "SupplyGrid$Told"))) ∈ lw_all := lw_g (lw_at lw_m2 105 rfl) rfl
theorem q464 : (Jvm.Cond.methodLink "SupplyGrid$Reader" (173 : Nat) ({ cls := "SupplyGrid$Reader", name := "grid", desc := "()V" } : Jvm.MethodName)) ∈ lw_all := lw_g (lw_at lw_m2 106 rfl) rfl
theorem q465 : (Jvm.Cond.privateMethod ({ cls := "SupplyGrid$Reader", name := "grid", desc := "()V" } : Jvm.MethodName)) ∈ lw_tbl := lw_at lw_m2 107 rfl
theorem q466 : (Jvm.Cond.instanceMethod ({ cls := "SupplyGrid$Reader", name := "grid", desc := "()V" } : Jvm.MethodName)) ∈ lw_all := lw_g (lw_at lw_m2 108 rfl) rfl
theorem q467 : (Jvm.Cond.code ({ cls := "SupplyGrid$Reader", name := "grid", desc := "()V" } : Jvm.MethodName) prog_9_method_10_code (1 : Nat) (Option.none : Option Jvm.ClassFile.FieldType)) ∈ lw_all := lw_g (lw_at lw_m2 109 rfl) rfl
theorem q468 : (Jvm.Cond.stringRef "SupplyGrid$Reader" (89 : Nat) "grid") ∈ lw_tbl := lw_at lw_m2 110 rfl
theorem q469 : (Jvm.Cond.methodLink "SupplyGrid$Reader" (82 : Nat) ({ cls := "SupplyGrid$Reader", name := "needs", desc := "(Ljava/lang/String;)V" } : Jvm.MethodName)) ∈ lw_all := lw_g (lw_at lw_m2 111 rfl) rfl
theorem q470 : (Jvm.Cond.privateMethod ({ cls := "SupplyGrid$Reader", name := "needs", desc := "(Ljava/lang/String;)V" } : Jvm.MethodName)) ∈ lw_tbl := lw_at lw_m2 112 rfl
theorem q471 : (Jvm.Cond.instanceMethod ({ cls := "SupplyGrid$Reader", name := "needs", desc := "(Ljava/lang/String;)V" } : Jvm.MethodName)) ∈ lw_all := lw_g (lw_at lw_m2 113 rfl) rfl
theorem q472 : (Jvm.Cond.code ({ cls := "SupplyGrid$Reader", name := "needs", desc := "(Ljava/lang/String;)V" } : Jvm.MethodName) prog_9_method_6_code (2 : Nat) (Option.none : Option Jvm.ClassFile.FieldType)) ∈ lw_all := lw_g (lw_at lw_m2 114 rfl) rfl
theorem q473 : (Jvm.Cond.methodLink "SupplyGrid$Reader" (71 : Nat) ({ cls := "SupplyGrid$Reader", name := "is", desc := "(Ljava/lang/String;)Z" } : Jvm.MethodName)) ∈ lw_all := lw_g (lw_at lw_m2 115 rfl) rfl
theorem q474 : (Jvm.Cond.privateMethod ({ cls := "SupplyGrid$Reader", name := "is", desc := "(Ljava/lang/String;)Z" } : Jvm.MethodName)) ∈ lw_tbl := lw_at lw_m2 116 rfl
theorem q475 : (Jvm.Cond.instanceMethod ({ cls := "SupplyGrid$Reader", name := "is", desc := "(Ljava/lang/String;)Z" } : Jvm.MethodName)) ∈ lw_all := lw_g (lw_at lw_m2 117 rfl) rfl
theorem q476 : (Jvm.Cond.code ({ cls := "SupplyGrid$Reader", name := "is", desc := "(Ljava/lang/String;)Z" } : Jvm.MethodName) prog_9_method_5_code (3 : Nat) (Option.some Jvm.ClassFile.FieldType.boolean)) ∈ lw_all := lw_g (lw_at lw_m2 118 rfl) rfl
theorem q477 : (Jvm.Cond.methodLink "SupplyGrid$Reader" (61 : Nat) ({ cls := "java/lang/String", name := "length", desc := "()I" } : Jvm.MethodName)) ∈ lw_all := lw_g (lw_at lw_m2 119 rfl) rfl
theorem q487 : (Jvm.Cond.methodLink "SupplyGrid$Reader" (67 : Nat) ({ cls := "java/lang/String", name := "charAt", desc := "(I)C" } : Jvm.MethodName)) ∈ lw_all := lw_g (lw_at lw_m2 129 rfl) rfl
theorem q525 : (Jvm.Cond.methodLink "SupplyGrid$Reader" (75 : Nat) ({ cls := "SupplyGrid$Reader", name := "must", desc := "(ZI)V" } : Jvm.MethodName)) ∈ lw_all := lw_g (lw_at lw_m2 167 rfl) rfl
theorem q526 : (Jvm.Cond.privateMethod ({ cls := "SupplyGrid$Reader", name := "must", desc := "(ZI)V" } : Jvm.MethodName)) ∈ lw_tbl := lw_at lw_m2 168 rfl
theorem q527 : (Jvm.Cond.instanceMethod ({ cls := "SupplyGrid$Reader", name := "must", desc := "(ZI)V" } : Jvm.MethodName)) ∈ lw_all := lw_g (lw_at lw_m2 169 rfl) rfl
theorem q528 : (Jvm.Cond.code ({ cls := "SupplyGrid$Reader", name := "must", desc := "(ZI)V" } : Jvm.MethodName) prog_9_method_4_code (3 : Nat) (Option.none : Option Jvm.ClassFile.FieldType)) ∈ lw_all := lw_g (lw_at lw_m2 170 rfl) rfl
theorem q529 : (Jvm.Cond.classLink "SupplyGrid$Reader" (56 : Nat) "SupplyGrid$Fault") ∈ lw_all := lw_g (lw_at lw_m2 171 rfl) rfl
theorem q566 : (Jvm.Cond.methodLink "SupplyGrid$Reader" (58 : Nat) ({ cls := "SupplyGrid$Fault", name := "<init>", desc := "(II)V" } : Jvm.MethodName)) ∈ lw_all := lw_g (lw_at lw_m2 208 rfl) rfl
theorem q596 : (Jvm.Cond.stringRef "SupplyGrid$Reader" (91 : Nat) "columns") ∈ lw_tbl := lw_at lw_m2 238 rfl
theorem q597 : (Jvm.Cond.methodLink "SupplyGrid$Reader" (93 : Nat) ({ cls := "SupplyGrid$Reader", name := "named", desc := "(Ljava/lang/String;II)I" } : Jvm.MethodName)) ∈ lw_all := lw_g (lw_at lw_m2 239 rfl) rfl
theorem q598 : (Jvm.Cond.privateMethod ({ cls := "SupplyGrid$Reader", name := "named", desc := "(Ljava/lang/String;II)I" } : Jvm.MethodName)) ∈ lw_tbl := lw_at lw_m3 0 rfl
theorem q599 : (Jvm.Cond.instanceMethod ({ cls := "SupplyGrid$Reader", name := "named", desc := "(Ljava/lang/String;II)I" } : Jvm.MethodName)) ∈ lw_all := lw_g (lw_at lw_m3 1 rfl) rfl
theorem q600 : (Jvm.Cond.code ({ cls := "SupplyGrid$Reader", name := "named", desc := "(Ljava/lang/String;II)I" } : Jvm.MethodName) prog_9_method_9_code (4 : Nat) (Option.some Jvm.ClassFile.FieldType.int)) ∈ lw_all := lw_g (lw_at lw_m3 2 rfl) rfl
theorem q601 : (Jvm.Cond.methodLink "SupplyGrid$Reader" (86 : Nat) ({ cls := "SupplyGrid$Reader", name := "number", desc := "(II)I" } : Jvm.MethodName)) ∈ lw_all := lw_g (lw_at lw_m3 3 rfl) rfl
theorem q602 : (Jvm.Cond.privateMethod ({ cls := "SupplyGrid$Reader", name := "number", desc := "(II)I" } : Jvm.MethodName)) ∈ lw_tbl := lw_at lw_m3 4 rfl
theorem q603 : (Jvm.Cond.instanceMethod ({ cls := "SupplyGrid$Reader", name := "number", desc := "(II)I" } : Jvm.MethodName)) ∈ lw_all := lw_g (lw_at lw_m3 5 rfl) rfl
theorem q604 : (Jvm.Cond.code ({ cls := "SupplyGrid$Reader", name := "number", desc := "(II)I" } : Jvm.MethodName) prog_9_method_8_code (4 : Nat) (Option.some Jvm.ClassFile.FieldType.int)) ∈ lw_all := lw_g (lw_at lw_m3 6 rfl) rfl
theorem q605 : (Jvm.Cond.methodLink "SupplyGrid$Reader" (79 : Nat) ({ cls := "SupplyGrid$Reader", name := "sees", desc := "(II)I" } : Jvm.MethodName)) ∈ lw_all := lw_g (lw_at lw_m3 7 rfl) rfl
theorem q606 : (Jvm.Cond.privateMethod ({ cls := "SupplyGrid$Reader", name := "sees", desc := "(II)I" } : Jvm.MethodName)) ∈ lw_tbl := lw_at lw_m3 8 rfl
theorem q607 : (Jvm.Cond.instanceMethod ({ cls := "SupplyGrid$Reader", name := "sees", desc := "(II)I" } : Jvm.MethodName)) ∈ lw_all := lw_g (lw_at lw_m3 9 rfl) rfl
theorem q608 : (Jvm.Cond.code ({ cls := "SupplyGrid$Reader", name := "sees", desc := "(II)I" } : Jvm.MethodName) prog_9_method_7_code (3 : Nat) (Option.some Jvm.ClassFile.FieldType.int)) ∈ lw_all := lw_g (lw_at lw_m3 10 rfl) rfl
theorem q609 : (Jvm.Cond.stringRef "SupplyGrid$Reader" (99 : Nat) "rows") ∈ lw_tbl := lw_at lw_m3 11 rfl
theorem q610 : (Jvm.Cond.stringRef "SupplyGrid$Reader" (103 : Nat) "width") ∈ lw_tbl := lw_at lw_m3 12 rfl
theorem q611 : (Jvm.Cond.methodLink "SupplyGrid$Reader" (105 : Nat) ({ cls := "SupplyGrid$Told", name := "lays", desc := "(I)V" } : Jvm.MethodName)) ∈ lw_all := lw_g (lw_at lw_m3 13 rfl) rfl
theorem q645 : (Jvm.Cond.stringRef "SupplyGrid$Reader" (109 : Nat) "limit") ∈ lw_tbl := lw_at lw_m3 47 rfl
theorem q646 : (Jvm.Cond.stringRef "SupplyGrid$Reader" (113 : Nat) "wear") ∈ lw_tbl := lw_at lw_m3 48 rfl
theorem q647 : (Jvm.Cond.stringRef "SupplyGrid$Reader" (175 : Nat) "strap") ∈ lw_tbl := lw_at lw_m3 49 rfl
theorem q648 : (Jvm.Cond.methodLink "SupplyGrid$Reader" (177 : Nat) ({ cls := "SupplyGrid$Reader", name := "strap", desc := "()V" } : Jvm.MethodName)) ∈ lw_all := lw_g (lw_at lw_m3 50 rfl) rfl
theorem q649 : (Jvm.Cond.privateMethod ({ cls := "SupplyGrid$Reader", name := "strap", desc := "()V" } : Jvm.MethodName)) ∈ lw_tbl := lw_at lw_m3 51 rfl
theorem q650 : (Jvm.Cond.instanceMethod ({ cls := "SupplyGrid$Reader", name := "strap", desc := "()V" } : Jvm.MethodName)) ∈ lw_all := lw_g (lw_at lw_m3 52 rfl) rfl
theorem q651 : (Jvm.Cond.code ({ cls := "SupplyGrid$Reader", name := "strap", desc := "()V" } : Jvm.MethodName) prog_9_method_12_code (3 : Nat) (Option.none : Option Jvm.ClassFile.FieldType)) ∈ lw_all := lw_g (lw_at lw_m3 53 rfl) rfl
theorem q652 : (Jvm.Cond.methodLink "SupplyGrid$Reader" (121 : Nat) ({ cls := "SupplyGrid$Reader", name := "place", desc := "(I)I" } : Jvm.MethodName)) ∈ lw_all := lw_g (lw_at lw_m3 54 rfl) rfl
theorem q653 : (Jvm.Cond.privateMethod ({ cls := "SupplyGrid$Reader", name := "place", desc := "(I)I" } : Jvm.MethodName)) ∈ lw_tbl := lw_at lw_m3 55 rfl
theorem q654 : (Jvm.Cond.instanceMethod ({ cls := "SupplyGrid$Reader", name := "place", desc := "(I)I" } : Jvm.MethodName)) ∈ lw_all := lw_g (lw_at lw_m3 56 rfl) rfl
theorem q655 : (Jvm.Cond.code ({ cls := "SupplyGrid$Reader", name := "place", desc := "(I)I" } : Jvm.MethodName) prog_9_method_11_code (4 : Nat) (Option.some Jvm.ClassFile.FieldType.int)) ∈ lw_all := lw_g (lw_at lw_m3 57 rfl) rfl
theorem q656 : (Jvm.Cond.stringRef "SupplyGrid$Reader" (117 : Nat) "at") ∈ lw_tbl := lw_at lw_m3 58 rfl
theorem q657 : (Jvm.Cond.methodLinkNest "SupplyGrid$Reader" (118 : Nat) ({ cls := "SupplyGrid", name := "isOn", desc := "(II)Z" } : Jvm.MethodName) "SupplyGrid") ∈ lw_tbl := lw_at lw_m3 59 rfl
theorem q660 : (Jvm.Cond.stringRef "SupplyGrid$Reader" (125 : Nat) "east") ∈ lw_tbl := lw_at lw_m3 62 rfl
theorem q661 : (Jvm.Cond.fieldLink "SupplyGrid$Reader" (127 : Nat) "SupplyGrid$Way" "EAST" "LSupplyGrid$Way;") ∈ lw_all := lw_g (lw_at lw_m3 63 rfl) rfl
theorem q662 : (Jvm.Cond.fieldLink "SupplyGrid$Reader" (133 : Nat) "SupplyGrid$Way" "SOUTH" "LSupplyGrid$Way;") ∈ lw_all := lw_g (lw_at lw_m3 64 rfl) rfl
theorem q663 : (Jvm.Cond.stringRef "SupplyGrid$Reader" (136 : Nat) "south") ∈ lw_tbl := lw_at lw_m3 65 rfl
theorem q664 : (Jvm.Cond.methodLink "SupplyGrid$Reader" (138 : Nat) ({ cls := "SupplyGrid$Way", name := "is", desc := "(LSupplyGrid$Told;I)Z" } : Jvm.MethodName)) ∈ lw_all := lw_g (lw_at lw_m3 66 rfl) rfl
theorem q665 : (Jvm.Cond.methodLink "SupplyGrid$Reader" (144 : Nat) ({ cls := "SupplyGrid$Way", name := "to", desc := "(LSupplyGrid$Told;I)I" } : Jvm.MethodName)) ∈ lw_all := lw_g (lw_at lw_m3 67 rfl) rfl
theorem q666 : (Jvm.Cond.methodLink "SupplyGrid$Reader" (148 : Nat) ({ cls := "SupplyGrid$Told", name := "strapOf", desc := "(II)I" } : Jvm.MethodName)) ∈ lw_all := lw_g (lw_at lw_m3 68 rfl) rfl
theorem q670 : (Jvm.Cond.stringRef "SupplyGrid$Reader" (179 : Nat) "pad") ∈ lw_tbl := lw_at lw_m3 72 rfl
theorem q671 : (Jvm.Cond.stringRef "SupplyGrid$Reader" (184 : Nat) "load") ∈ lw_tbl := lw_at lw_m3 73 rfl
theorem q672 : (Jvm.Cond.methodLink "SupplyGrid$Reader" (185 : Nat) ({ cls := "SupplyGrid$Reader", name := "load", desc := "()V" } : Jvm.MethodName)) ∈ lw_all := lw_g (lw_at lw_m3 74 rfl) rfl
theorem q673 : (Jvm.Cond.privateMethod ({ cls := "SupplyGrid$Reader", name := "load", desc := "()V" } : Jvm.MethodName)) ∈ lw_tbl := lw_at lw_m3 75 rfl
theorem q674 : (Jvm.Cond.instanceMethod ({ cls := "SupplyGrid$Reader", name := "load", desc := "()V" } : Jvm.MethodName)) ∈ lw_all := lw_g (lw_at lw_m3 76 rfl) rfl
theorem q675 : (Jvm.Cond.code ({ cls := "SupplyGrid$Reader", name := "load", desc := "()V" } : Jvm.MethodName) prog_9_method_13_code (2 : Nat) (Option.none : Option Jvm.ClassFile.FieldType)) ∈ lw_all := lw_g (lw_at lw_m3 77 rfl) rfl
theorem q676 : (Jvm.Cond.stringRef "SupplyGrid$Reader" (157 : Nat) "draws") ∈ lw_tbl := lw_at lw_m3 78 rfl
theorem q677 : (Jvm.Cond.stringRef "SupplyGrid$Reader" (159 : Nat) "group") ∈ lw_tbl := lw_at lw_m3 79 rfl
theorem q678 : (Jvm.Cond.stringRef "SupplyGrid$Reader" (187 : Nat) "budget") ∈ lw_tbl := lw_at lw_m3 80 rfl
theorem q679 : (Jvm.Cond.methodLink "SupplyGrid$Reader" (188 : Nat) ({ cls := "SupplyGrid$Reader", name := "budget", desc := "()V" } : Jvm.MethodName)) ∈ lw_all := lw_g (lw_at lw_m3 81 rfl) rfl
theorem q680 : (Jvm.Cond.privateMethod ({ cls := "SupplyGrid$Reader", name := "budget", desc := "()V" } : Jvm.MethodName)) ∈ lw_tbl := lw_at lw_m3 82 rfl
theorem q681 : (Jvm.Cond.instanceMethod ({ cls := "SupplyGrid$Reader", name := "budget", desc := "()V" } : Jvm.MethodName)) ∈ lw_all := lw_g (lw_at lw_m3 83 rfl) rfl
theorem q682 : (Jvm.Cond.code ({ cls := "SupplyGrid$Reader", name := "budget", desc := "()V" } : Jvm.MethodName) prog_9_method_14_code (2 : Nat) (Option.none : Option Jvm.ClassFile.FieldType)) ∈ lw_all := lw_g (lw_at lw_m3 84 rfl) rfl
theorem q683 : (Jvm.Cond.stringRef "SupplyGrid$Reader" (169 : Nat) "is") ∈ lw_tbl := lw_at lw_m3 85 rfl
theorem q1212 : (Jvm.Cond.selects "SupplyGrid$Reader" ({ cls := "java/lang/Object", name := "getClass", desc := "()Ljava/lang/Class;" } : Jvm.MethodName) ({ cls := "java/lang/Object", name := "getClass", desc := "()Ljava/lang/Class;" } : Jvm.MethodName)) ∈ lw_all := lw_g (lw_at lw_m5 134 rfl) rfl
theorem q2105 : (Jvm.Cond.castable "SupplyGrid$Reader" "java/lang/Object") ∈ lw_tbl := lw_at lw_m9 67 rfl
theorem in_X6 : ∀ w ∈ wsX60, w ∈ lw_all := lw_in wsX60 [441, 443, 445, 447, 449, 451, 453, 455, 457] (by decide +kernel) (by decide +kernel)

/-! java/lang/Math -/
set_option maxRecDepth 100000
def RJ3 : String := "java/lang/Math"
abbrev cJ3_min : ByteArray := prog_24_method_69_code
def yJ3_min : MethodName := ⟨RJ3, "min", "(II)I"⟩
def dkwJ3_min_0 : List UInt8 := [26, 27, 163, 0, 7, 26, 167, 0, 4, 27, 172]
abbrev dktJ3_min_0 : List UInt8 := dkwJ3_min_0 ++ []
theorem dksJ3_min_0 : cJ3_min.data.toList.drop 0 = dktJ3_min_0 := by decide +kernel
theorem dJ3_min_0 : decode cJ3_min 0 = .ok (.iload_n 0, 1) := dk_26 (dk_at dksJ3_min_0 0 rfl rfl)
theorem dJ3_min_1 : decode cJ3_min 1 = .ok (.iload_n 1, 1) := dk_27 (dk_at dksJ3_min_0 1 rfl rfl)
theorem dJ3_min_2 : decode cJ3_min 2 = .ok (.if_icmp .gt 7, 3) := dk_163 0 7 (dk_at dksJ3_min_0 2 rfl rfl)
theorem dJ3_min_5 : decode cJ3_min 5 = .ok (.iload_n 0, 1) := dk_26 (dk_at dksJ3_min_0 5 rfl rfl)
theorem dJ3_min_6 : decode cJ3_min 6 = .ok (.goto 4, 3) := dk_167 0 4 (dk_at dksJ3_min_0 6 rfl rfl)
theorem dJ3_min_9 : decode cJ3_min 9 = .ok (.iload_n 1, 1) := dk_27 (dk_at dksJ3_min_0 9 rfl rfl)
theorem dJ3_min_10 : decode cJ3_min 10 = .ok (.ireturn, 1) := dk_172 (dk_at dksJ3_min_0 10 rfl rfl)
abbrev cJ3_max : ByteArray := prog_24_method_65_code
def yJ3_max : MethodName := ⟨RJ3, "max", "(II)I"⟩
def dkwJ3_max_0 : List UInt8 := [26, 27, 161, 0, 7, 26, 167, 0, 4, 27, 172]
abbrev dktJ3_max_0 : List UInt8 := dkwJ3_max_0 ++ []
theorem dksJ3_max_0 : cJ3_max.data.toList.drop 0 = dktJ3_max_0 := by decide +kernel
theorem dJ3_max_0 : decode cJ3_max 0 = .ok (.iload_n 0, 1) := dk_26 (dk_at dksJ3_max_0 0 rfl rfl)
theorem dJ3_max_1 : decode cJ3_max 1 = .ok (.iload_n 1, 1) := dk_27 (dk_at dksJ3_max_0 1 rfl rfl)
theorem dJ3_max_2 : decode cJ3_max 2 = .ok (.if_icmp .lt 7, 3) := dk_161 0 7 (dk_at dksJ3_max_0 2 rfl rfl)
theorem dJ3_max_5 : decode cJ3_max 5 = .ok (.iload_n 0, 1) := dk_26 (dk_at dksJ3_max_0 5 rfl rfl)
theorem dJ3_max_6 : decode cJ3_max 6 = .ok (.goto 4, 3) := dk_167 0 4 (dk_at dksJ3_max_0 6 rfl rfl)
theorem dJ3_max_9 : decode cJ3_max 9 = .ok (.iload_n 1, 1) := dk_27 (dk_at dksJ3_max_0 9 rfl rfl)
theorem dJ3_max_10 : decode cJ3_max 10 = .ok (.ireturn, 1) := dk_172 (dk_at dksJ3_max_0 10 rfl rfl)
abbrev cJ3_abs : ByteArray := prog_24_method_61_code
def yJ3_abs : MethodName := ⟨RJ3, "abs", "(J)J"⟩
def dkwJ3_abs_0 : List UInt8 := [30, 9, 148, 156, 0, 8, 30, 117, 167, 0, 4, 30, 173]
abbrev dktJ3_abs_0 : List UInt8 := dkwJ3_abs_0 ++ []
theorem dksJ3_abs_0 : cJ3_abs.data.toList.drop 0 = dktJ3_abs_0 := by decide +kernel
theorem dJ3_abs_0 : decode cJ3_abs 0 = .ok (.lload_n 0, 1) := dk_30 (dk_at dksJ3_abs_0 0 rfl rfl)
theorem dJ3_abs_1 : decode cJ3_abs 1 = .ok (.lconst 0, 1) := dk_9 (dk_at dksJ3_abs_0 1 rfl rfl)
theorem dJ3_abs_2 : decode cJ3_abs 2 = .ok (.lcmp, 1) := dk_148 (dk_at dksJ3_abs_0 2 rfl rfl)
theorem dJ3_abs_3 : decode cJ3_abs 3 = .ok (.ifCond .ge 8, 3) := dk_156 0 8 (dk_at dksJ3_abs_0 3 rfl rfl)
theorem dJ3_abs_6 : decode cJ3_abs 6 = .ok (.lload_n 0, 1) := dk_30 (dk_at dksJ3_abs_0 6 rfl rfl)
theorem dJ3_abs_7 : decode cJ3_abs 7 = .ok (.lneg, 1) := dk_117 (dk_at dksJ3_abs_0 7 rfl rfl)
theorem dJ3_abs_8 : decode cJ3_abs 8 = .ok (.goto 4, 3) := dk_167 0 4 (dk_at dksJ3_abs_0 8 rfl rfl)
theorem dJ3_abs_11 : decode cJ3_abs 11 = .ok (.lload_n 0, 1) := dk_30 (dk_at dksJ3_abs_0 11 rfl rfl)
theorem dJ3_abs_12 : decode cJ3_abs 12 = .ok (.lreturn, 1) := dk_173 (dk_at dksJ3_abs_0 12 rfl rfl)
abbrev cJ3_max_2 : ByteArray := prog_24_method_66_code
def yJ3_max_2 : MethodName := ⟨RJ3, "max", "(JJ)J"⟩
def dkwJ3_max_2_0 : List UInt8 := [30, 32, 148, 155, 0, 7, 30, 167, 0, 4, 32, 173]
abbrev dktJ3_max_2_0 : List UInt8 := dkwJ3_max_2_0 ++ []
theorem dksJ3_max_2_0 : cJ3_max_2.data.toList.drop 0 = dktJ3_max_2_0 := by decide +kernel
theorem dJ3_max_2_0 : decode cJ3_max_2 0 = .ok (.lload_n 0, 1) := dk_30 (dk_at dksJ3_max_2_0 0 rfl rfl)
theorem dJ3_max_2_1 : decode cJ3_max_2 1 = .ok (.lload_n 2, 1) := dk_32 (dk_at dksJ3_max_2_0 1 rfl rfl)
theorem dJ3_max_2_2 : decode cJ3_max_2 2 = .ok (.lcmp, 1) := dk_148 (dk_at dksJ3_max_2_0 2 rfl rfl)
theorem dJ3_max_2_3 : decode cJ3_max_2 3 = .ok (.ifCond .lt 7, 3) := dk_155 0 7 (dk_at dksJ3_max_2_0 3 rfl rfl)
theorem dJ3_max_2_6 : decode cJ3_max_2 6 = .ok (.lload_n 0, 1) := dk_30 (dk_at dksJ3_max_2_0 6 rfl rfl)
theorem dJ3_max_2_7 : decode cJ3_max_2 7 = .ok (.goto 4, 3) := dk_167 0 4 (dk_at dksJ3_max_2_0 7 rfl rfl)
theorem dJ3_max_2_10 : decode cJ3_max_2 10 = .ok (.lload_n 2, 1) := dk_32 (dk_at dksJ3_max_2_0 10 rfl rfl)
theorem dJ3_max_2_11 : decode cJ3_max_2 11 = .ok (.lreturn, 1) := dk_173 (dk_at dksJ3_max_2_0 11 rfl rfl)
theorem q129 : (Jvm.Cond.initialized "java/lang/Math") ∈ lw_all := lw_g (lw_at lw_m1 11 rfl) rfl
theorem q430 : (Jvm.Cond.static ({ cls := "java/lang/Math", name := "min", desc := "(II)I" } : Jvm.MethodName)) ∈ lw_all := lw_g (lw_at lw_m2 72 rfl) rfl
theorem q431 : (Jvm.Cond.code ({ cls := "java/lang/Math", name := "min", desc := "(II)I" } : Jvm.MethodName) prog_24_method_69_code (2 : Nat) (Option.some Jvm.ClassFile.FieldType.int)) ∈ lw_all := lw_g (lw_at lw_m2 73 rfl) rfl
theorem q771 : (Jvm.Cond.static ({ cls := "java/lang/Math", name := "max", desc := "(II)I" } : Jvm.MethodName)) ∈ lw_all := lw_g (lw_at lw_m3 173 rfl) rfl
theorem q772 : (Jvm.Cond.code ({ cls := "java/lang/Math", name := "max", desc := "(II)I" } : Jvm.MethodName) prog_24_method_65_code (2 : Nat) (Option.some Jvm.ClassFile.FieldType.int)) ∈ lw_all := lw_g (lw_at lw_m3 174 rfl) rfl
theorem q810 : (Jvm.Cond.static ({ cls := "java/lang/Math", name := "abs", desc := "(J)J" } : Jvm.MethodName)) ∈ lw_all := lw_g (lw_at lw_m3 212 rfl) rfl
theorem q811 : (Jvm.Cond.code ({ cls := "java/lang/Math", name := "abs", desc := "(J)J" } : Jvm.MethodName) prog_24_method_61_code (2 : Nat) (Option.some Jvm.ClassFile.FieldType.long)) ∈ lw_all := lw_g (lw_at lw_m3 213 rfl) rfl
theorem q1760 : (Jvm.Cond.static ({ cls := "java/lang/Math", name := "max", desc := "(JJ)J" } : Jvm.MethodName)) ∈ lw_all := lw_g (lw_at lw_m7 202 rfl) rfl
theorem q1761 : (Jvm.Cond.code ({ cls := "java/lang/Math", name := "max", desc := "(JJ)J" } : Jvm.MethodName) prog_24_method_66_code (4 : Nat) (Option.some Jvm.ClassFile.FieldType.long)) ∈ lw_all := lw_g (lw_at lw_m7 203 rfl) rfl

/-! java/lang/String -/
set_option maxRecDepth 100000
def RJ4 : String := "java/lang/String"
abbrev cJ4_length : ByteArray := prog_25_method_54_code
def yJ4_length : MethodName := ⟨RJ4, "length", "()I"⟩
def dkwJ4_length_0 : List UInt8 := [42, 180, 0, 9, 190, 42, 182, 1, 79, 122, 172]
abbrev dktJ4_length_0 : List UInt8 := dkwJ4_length_0 ++ []
theorem dksJ4_length_0 : cJ4_length.data.toList.drop 0 = dktJ4_length_0 := by decide +kernel
theorem dJ4_length_0 : decode cJ4_length 0 = .ok (.aload_n 0, 1) := dk_42 (dk_at dksJ4_length_0 0 rfl rfl)
theorem dJ4_length_1 : decode cJ4_length 1 = .ok (.getfield 9, 3) := dk_180 0 9 (dk_at dksJ4_length_0 1 rfl rfl)
theorem dJ4_length_4 : decode cJ4_length 4 = .ok (.arraylength, 1) := dk_190 (dk_at dksJ4_length_0 4 rfl rfl)
theorem dJ4_length_5 : decode cJ4_length 5 = .ok (.aload_n 0, 1) := dk_42 (dk_at dksJ4_length_0 5 rfl rfl)
theorem dJ4_length_6 : decode cJ4_length 6 = .ok (.invokevirtual 335, 3) := dk_182 1 79 (dk_at dksJ4_length_0 6 rfl rfl)
theorem dJ4_length_9 : decode cJ4_length 9 = .ok (.ishr, 1) := dk_122 (dk_at dksJ4_length_0 9 rfl rfl)
theorem dJ4_length_10 : decode cJ4_length 10 = .ok (.ireturn, 1) := dk_172 (dk_at dksJ4_length_0 10 rfl rfl)
abbrev cJ4_coder : ByteArray := prog_25_method_152_code
def yJ4_coder : MethodName := ⟨RJ4, "coder", "()B"⟩
def dkwJ4_coder_0 : List UInt8 := [178, 0, 38, 153, 0, 10, 42, 180, 0, 15, 167, 0, 4, 4, 172]
abbrev dktJ4_coder_0 : List UInt8 := dkwJ4_coder_0 ++ []
theorem dksJ4_coder_0 : cJ4_coder.data.toList.drop 0 = dktJ4_coder_0 := by decide +kernel
theorem dJ4_coder_0 : decode cJ4_coder 0 = .ok (.getstatic 38, 3) := dk_178 0 38 (dk_at dksJ4_coder_0 0 rfl rfl)
theorem dJ4_coder_3 : decode cJ4_coder 3 = .ok (.ifCond .eq 10, 3) := dk_153 0 10 (dk_at dksJ4_coder_0 3 rfl rfl)
theorem dJ4_coder_6 : decode cJ4_coder 6 = .ok (.aload_n 0, 1) := dk_42 (dk_at dksJ4_coder_0 6 rfl rfl)
theorem dJ4_coder_7 : decode cJ4_coder 7 = .ok (.getfield 15, 3) := dk_180 0 15 (dk_at dksJ4_coder_0 7 rfl rfl)
theorem dJ4_coder_10 : decode cJ4_coder 10 = .ok (.goto 4, 3) := dk_167 0 4 (dk_at dksJ4_coder_0 10 rfl rfl)
theorem dJ4_coder_13 : decode cJ4_coder 13 = .ok (.iconst 1, 1) := dk_4 (dk_at dksJ4_coder_0 13 rfl rfl)
theorem dJ4_coder_14 : decode cJ4_coder 14 = .ok (.ireturn, 1) := dk_172 (dk_at dksJ4_coder_0 14 rfl rfl)
abbrev cJ4_charAt : ByteArray := prog_25_method_56_code
def yJ4_charAt : MethodName := ⟨RJ4, "charAt", "(I)C"⟩
def dkwJ4_charAt_1 : List UInt8 := [172]
abbrev dktJ4_charAt_1 : List UInt8 := dkwJ4_charAt_1 ++ []
def dkwJ4_charAt_0 : List UInt8 := [42, 182, 1, 236, 153, 0, 12, 42, 180, 0, 9, 27, 184, 1, 239, 172, 42, 180, 0, 9, 27, 184, 1, 242]
abbrev dktJ4_charAt_0 : List UInt8 := dkwJ4_charAt_0 ++ dktJ4_charAt_1
theorem dksJ4_charAt_0 : cJ4_charAt.data.toList.drop 0 = dktJ4_charAt_0 := by decide +kernel
theorem dksJ4_charAt_1 : cJ4_charAt.data.toList.drop 24 = dktJ4_charAt_1 := dk_seg dksJ4_charAt_0 24 rfl rfl
theorem dJ4_charAt_0 : decode cJ4_charAt 0 = .ok (.aload_n 0, 1) := dk_42 (dk_at dksJ4_charAt_0 0 rfl rfl)
theorem dJ4_charAt_1 : decode cJ4_charAt 1 = .ok (.invokevirtual 492, 3) := dk_182 1 236 (dk_at dksJ4_charAt_0 1 rfl rfl)
theorem dJ4_charAt_4 : decode cJ4_charAt 4 = .ok (.ifCond .eq 12, 3) := dk_153 0 12 (dk_at dksJ4_charAt_0 4 rfl rfl)
theorem dJ4_charAt_7 : decode cJ4_charAt 7 = .ok (.aload_n 0, 1) := dk_42 (dk_at dksJ4_charAt_0 7 rfl rfl)
theorem dJ4_charAt_8 : decode cJ4_charAt 8 = .ok (.getfield 9, 3) := dk_180 0 9 (dk_at dksJ4_charAt_0 8 rfl rfl)
theorem dJ4_charAt_11 : decode cJ4_charAt 11 = .ok (.iload_n 1, 1) := dk_27 (dk_at dksJ4_charAt_0 11 rfl rfl)
theorem dJ4_charAt_12 : decode cJ4_charAt 12 = .ok (.invokestatic 495, 3) := dk_184 1 239 (dk_at dksJ4_charAt_0 12 rfl rfl)
theorem dJ4_charAt_15 : decode cJ4_charAt 15 = .ok (.ireturn, 1) := dk_172 (dk_at dksJ4_charAt_0 15 rfl rfl)
theorem dJ4_charAt_16 : decode cJ4_charAt 16 = .ok (.aload_n 0, 1) := dk_42 (dk_at dksJ4_charAt_0 16 rfl rfl)
theorem dJ4_charAt_17 : decode cJ4_charAt 17 = .ok (.getfield 9, 3) := dk_180 0 9 (dk_at dksJ4_charAt_0 17 rfl rfl)
theorem dJ4_charAt_20 : decode cJ4_charAt 20 = .ok (.iload_n 1, 1) := dk_27 (dk_at dksJ4_charAt_0 20 rfl rfl)
theorem dJ4_charAt_21 : decode cJ4_charAt 21 = .ok (.invokestatic 498, 3) := dk_184 1 242 (dk_at dksJ4_charAt_0 21 rfl rfl)
theorem dJ4_charAt_24 : decode cJ4_charAt 24 = .ok (.ireturn, 1) := dk_172 (dk_at dksJ4_charAt_1 0 rfl rfl)
abbrev cJ4_isLatin1 : ByteArray := prog_25_method_154_code
def yJ4_isLatin1 : MethodName := ⟨RJ4, "isLatin1", "()Z"⟩
def dkwJ4_isLatin1_0 : List UInt8 := [178, 0, 38, 153, 0, 14, 42, 180, 0, 15, 154, 0, 7, 4, 167, 0, 4, 3, 172]
abbrev dktJ4_isLatin1_0 : List UInt8 := dkwJ4_isLatin1_0 ++ []
theorem dksJ4_isLatin1_0 : cJ4_isLatin1.data.toList.drop 0 = dktJ4_isLatin1_0 := by decide +kernel
theorem dJ4_isLatin1_0 : decode cJ4_isLatin1 0 = .ok (.getstatic 38, 3) := dk_178 0 38 (dk_at dksJ4_isLatin1_0 0 rfl rfl)
theorem dJ4_isLatin1_3 : decode cJ4_isLatin1 3 = .ok (.ifCond .eq 14, 3) := dk_153 0 14 (dk_at dksJ4_isLatin1_0 3 rfl rfl)
theorem dJ4_isLatin1_6 : decode cJ4_isLatin1 6 = .ok (.aload_n 0, 1) := dk_42 (dk_at dksJ4_isLatin1_0 6 rfl rfl)
theorem dJ4_isLatin1_7 : decode cJ4_isLatin1 7 = .ok (.getfield 15, 3) := dk_180 0 15 (dk_at dksJ4_isLatin1_0 7 rfl rfl)
theorem dJ4_isLatin1_10 : decode cJ4_isLatin1 10 = .ok (.ifCond .ne 7, 3) := dk_154 0 7 (dk_at dksJ4_isLatin1_0 10 rfl rfl)
theorem dJ4_isLatin1_13 : decode cJ4_isLatin1 13 = .ok (.iconst 1, 1) := dk_4 (dk_at dksJ4_isLatin1_0 13 rfl rfl)
theorem dJ4_isLatin1_14 : decode cJ4_isLatin1 14 = .ok (.goto 4, 3) := dk_167 0 4 (dk_at dksJ4_isLatin1_0 14 rfl rfl)
theorem dJ4_isLatin1_17 : decode cJ4_isLatin1 17 = .ok (.iconst 0, 1) := dk_3 (dk_at dksJ4_isLatin1_0 17 rfl rfl)
theorem dJ4_isLatin1_18 : decode cJ4_isLatin1 18 = .ok (.ireturn, 1) := dk_172 (dk_at dksJ4_isLatin1_0 18 rfl rfl)
abbrev cJ4_checkIndex : ByteArray := prog_25_method_155_code
def yJ4_checkIndex : MethodName := ⟨RJ4, "checkIndex", "(II)V"⟩
def dkwJ4_checkIndex_0 : List UInt8 := [26, 27, 178, 4, 29, 184, 4, 35, 87, 177]
abbrev dktJ4_checkIndex_0 : List UInt8 := dkwJ4_checkIndex_0 ++ []
theorem dksJ4_checkIndex_0 : cJ4_checkIndex.data.toList.drop 0 = dktJ4_checkIndex_0 := by decide +kernel
theorem dJ4_checkIndex_0 : decode cJ4_checkIndex 0 = .ok (.iload_n 0, 1) := dk_26 (dk_at dksJ4_checkIndex_0 0 rfl rfl)
theorem dJ4_checkIndex_1 : decode cJ4_checkIndex 1 = .ok (.iload_n 1, 1) := dk_27 (dk_at dksJ4_checkIndex_0 1 rfl rfl)
theorem dJ4_checkIndex_2 : decode cJ4_checkIndex 2 = .ok (.getstatic 1053, 3) := dk_178 4 29 (dk_at dksJ4_checkIndex_0 2 rfl rfl)
theorem dJ4_checkIndex_5 : decode cJ4_checkIndex 5 = .ok (.invokestatic 1059, 3) := dk_184 4 35 (dk_at dksJ4_checkIndex_0 5 rfl rfl)
theorem dJ4_checkIndex_8 : decode cJ4_checkIndex 8 = .ok (.pop, 1) := dk_87 (dk_at dksJ4_checkIndex_0 8 rfl rfl)
theorem dJ4_checkIndex_9 : decode cJ4_checkIndex 9 = .ok (.return_, 1) := dk_177 (dk_at dksJ4_checkIndex_0 9 rfl rfl)
theorem q130 : (Jvm.Cond.initialized "java/lang/String") ∈ lw_all := lw_g (lw_at lw_m1 12 rfl) rfl
theorem q478 : (Jvm.Cond.instanceMethod ({ cls := "java/lang/String", name := "length", desc := "()I" } : Jvm.MethodName)) ∈ lw_all := lw_g (lw_at lw_m2 120 rfl) rfl
theorem q479 : (Jvm.Cond.selects "java/lang/String" ({ cls := "java/lang/String", name := "length", desc := "()I" } : Jvm.MethodName) ({ cls := "java/lang/String", name := "length", desc := "()I" } : Jvm.MethodName)) ∈ lw_all := lw_g (lw_at lw_m2 121 rfl) rfl
theorem q480 : (Jvm.Cond.code ({ cls := "java/lang/String", name := "length", desc := "()I" } : Jvm.MethodName) prog_25_method_54_code (1 : Nat) (Option.some Jvm.ClassFile.FieldType.int)) ∈ lw_all := lw_g (lw_at lw_m2 122 rfl) rfl
theorem q481 : (Jvm.Cond.methodLink "java/lang/String" (335 : Nat) ({ cls := "java/lang/String", name := "coder", desc := "()B" } : Jvm.MethodName)) ∈ lw_all := lw_g (lw_at lw_m2 123 rfl) rfl
theorem q482 : (Jvm.Cond.instanceMethod ({ cls := "java/lang/String", name := "coder", desc := "()B" } : Jvm.MethodName)) ∈ lw_all := lw_g (lw_at lw_m2 124 rfl) rfl
theorem q483 : (Jvm.Cond.selects "java/lang/String" ({ cls := "java/lang/String", name := "coder", desc := "()B" } : Jvm.MethodName) ({ cls := "java/lang/String", name := "coder", desc := "()B" } : Jvm.MethodName)) ∈ lw_all := lw_g (lw_at lw_m2 125 rfl) rfl
theorem q484 : (Jvm.Cond.code ({ cls := "java/lang/String", name := "coder", desc := "()B" } : Jvm.MethodName) prog_25_method_152_code (1 : Nat) (Option.some Jvm.ClassFile.FieldType.byte)) ∈ lw_all := lw_g (lw_at lw_m2 126 rfl) rfl
theorem q485 : (Jvm.Cond.fieldLink "java/lang/String" (38 : Nat) "java/lang/String" "COMPACT_STRINGS" "Z") ∈ lw_all := lw_g (lw_at lw_m2 127 rfl) rfl
theorem q486 : (Jvm.Cond.laysStatic "java/lang/String" "COMPACT_STRINGS" "Z") ∈ lw_tbl := lw_at lw_m2 128 rfl
theorem q488 : (Jvm.Cond.instanceMethod ({ cls := "java/lang/String", name := "charAt", desc := "(I)C" } : Jvm.MethodName)) ∈ lw_all := lw_g (lw_at lw_m2 130 rfl) rfl
theorem q489 : (Jvm.Cond.selects "java/lang/String" ({ cls := "java/lang/String", name := "charAt", desc := "(I)C" } : Jvm.MethodName) ({ cls := "java/lang/String", name := "charAt", desc := "(I)C" } : Jvm.MethodName)) ∈ lw_all := lw_g (lw_at lw_m2 131 rfl) rfl
theorem q490 : (Jvm.Cond.code ({ cls := "java/lang/String", name := "charAt", desc := "(I)C" } : Jvm.MethodName) prog_25_method_56_code (2 : Nat) (Option.some Jvm.ClassFile.FieldType.char)) ∈ lw_all := lw_g (lw_at lw_m2 132 rfl) rfl
theorem q491 : (Jvm.Cond.methodLink "java/lang/String" (492 : Nat) ({ cls := "java/lang/String", name := "isLatin1", desc := "()Z" } : Jvm.MethodName)) ∈ lw_all := lw_g (lw_at lw_m2 133 rfl) rfl
theorem q492 : (Jvm.Cond.instanceMethod ({ cls := "java/lang/String", name := "isLatin1", desc := "()Z" } : Jvm.MethodName)) ∈ lw_all := lw_g (lw_at lw_m2 134 rfl) rfl
theorem q493 : (Jvm.Cond.selects "java/lang/String" ({ cls := "java/lang/String", name := "isLatin1", desc := "()Z" } : Jvm.MethodName) ({ cls := "java/lang/String", name := "isLatin1", desc := "()Z" } : Jvm.MethodName)) ∈ lw_all := lw_g (lw_at lw_m2 135 rfl) rfl
theorem q494 : (Jvm.Cond.code ({ cls := "java/lang/String", name := "isLatin1", desc := "()Z" } : Jvm.MethodName) prog_25_method_154_code (1 : Nat) (Option.some Jvm.ClassFile.FieldType.boolean)) ∈ lw_all := lw_g (lw_at lw_m2 136 rfl) rfl
theorem q495 : (Jvm.Cond.methodLink "java/lang/String" (495 : Nat) ({ cls := "java/lang/StringLatin1", name := "charAt", desc := "([BI)C" } : Jvm.MethodName)) ∈ lw_all := lw_g (lw_at lw_m2 137 rfl) rfl
theorem q499 : (Jvm.Cond.static ({ cls := "java/lang/String", name := "checkIndex", desc := "(II)V" } : Jvm.MethodName)) ∈ lw_all := lw_g (lw_at lw_m2 141 rfl) rfl
theorem q500 : (Jvm.Cond.code ({ cls := "java/lang/String", name := "checkIndex", desc := "(II)V" } : Jvm.MethodName) prog_25_method_155_code (2 : Nat) (Option.none : Option Jvm.ClassFile.FieldType)) ∈ lw_all := lw_g (lw_at lw_m2 142 rfl) rfl
theorem q501 : (Jvm.Cond.fieldLink "java/lang/String" (1053 : Nat) "jdk/internal/util/Preconditions" "SIOOBE_FORMATTER" "Ljava/util/function/BiFunction;") ∈ lw_all := lw_g (lw_at lw_m2 143 rfl) rfl
theorem q503 : (Jvm.Cond.methodLink "java/lang/String" (1059 : Nat) ({ cls := "jdk/internal/util/Preconditions", name := "checkIndex", desc := "(IILjava/util/function/BiFunction;)I" } : Jvm.MethodName)) ∈ lw_all := lw_g (lw_at lw_m2 145 rfl) rfl
theorem q506 : (Jvm.Cond.methodLink "java/lang/String" (498 : Nat) ({ cls := "java/lang/StringUTF16", name := "charAt", desc := "([BI)C" } : Jvm.MethodName)) ∈ lw_all := lw_g (lw_at lw_m2 148 rfl) rfl
theorem q2114 : (Jvm.Cond.castable "java/lang/String" "java/lang/Object") ∈ lw_tbl := lw_at lw_m9 76 rfl
theorem q2126 : (Jvm.Cond.fieldLink "java/lang/String" (9 : Nat) "java/lang/String" "value" "[B") ∈ lw_all := lw_g (lw_at lw_m9 88 rfl) rfl
theorem q2127 : (Jvm.Cond.fieldLink "java/lang/String" (15 : Nat) "java/lang/String" "coder" "B") ∈ lw_all := lw_g (lw_at lw_m9 89 rfl) rfl

/-! java/lang/StringLatin1 -/
set_option maxRecDepth 100000
def RJ5 : String := "java/lang/StringLatin1"
abbrev cJ5_charAt : ByteArray := prog_26_method_2_code
def yJ5_charAt : MethodName := ⟨RJ5, "charAt", "([BI)C"⟩
def dkwJ5_charAt_0 : List UInt8 := [27, 42, 190, 184, 0, 9, 42, 27, 51, 17, 0, 255, 126, 146, 172]
abbrev dktJ5_charAt_0 : List UInt8 := dkwJ5_charAt_0 ++ []
theorem dksJ5_charAt_0 : cJ5_charAt.data.toList.drop 0 = dktJ5_charAt_0 := by decide +kernel
theorem dJ5_charAt_0 : decode cJ5_charAt 0 = .ok (.iload_n 1, 1) := dk_27 (dk_at dksJ5_charAt_0 0 rfl rfl)
theorem dJ5_charAt_1 : decode cJ5_charAt 1 = .ok (.aload_n 0, 1) := dk_42 (dk_at dksJ5_charAt_0 1 rfl rfl)
theorem dJ5_charAt_2 : decode cJ5_charAt 2 = .ok (.arraylength, 1) := dk_190 (dk_at dksJ5_charAt_0 2 rfl rfl)
theorem dJ5_charAt_3 : decode cJ5_charAt 3 = .ok (.invokestatic 9, 3) := dk_184 0 9 (dk_at dksJ5_charAt_0 3 rfl rfl)
theorem dJ5_charAt_6 : decode cJ5_charAt 6 = .ok (.aload_n 0, 1) := dk_42 (dk_at dksJ5_charAt_0 6 rfl rfl)
theorem dJ5_charAt_7 : decode cJ5_charAt 7 = .ok (.iload_n 1, 1) := dk_27 (dk_at dksJ5_charAt_0 7 rfl rfl)
theorem dJ5_charAt_8 : decode cJ5_charAt 8 = .ok (.baload, 1) := dk_51 (dk_at dksJ5_charAt_0 8 rfl rfl)
theorem dJ5_charAt_9 : decode cJ5_charAt 9 = .ok (.sipush 255, 3) := dk_17 0 255 (dk_at dksJ5_charAt_0 9 rfl rfl)
theorem dJ5_charAt_12 : decode cJ5_charAt 12 = .ok (.iand, 1) := dk_126 (dk_at dksJ5_charAt_0 12 rfl rfl)
theorem dJ5_charAt_13 : decode cJ5_charAt 13 = .ok (.i2c, 1) := dk_146 (dk_at dksJ5_charAt_0 13 rfl rfl)
theorem dJ5_charAt_14 : decode cJ5_charAt 14 = .ok (.ireturn, 1) := dk_172 (dk_at dksJ5_charAt_0 14 rfl rfl)
theorem q131 : (Jvm.Cond.initialized "java/lang/StringLatin1") ∈ lw_all := lw_g (lw_at lw_m1 13 rfl) rfl
theorem q496 : (Jvm.Cond.static ({ cls := "java/lang/StringLatin1", name := "charAt", desc := "([BI)C" } : Jvm.MethodName)) ∈ lw_all := lw_g (lw_at lw_m2 138 rfl) rfl
theorem q497 : (Jvm.Cond.code ({ cls := "java/lang/StringLatin1", name := "charAt", desc := "([BI)C" } : Jvm.MethodName) prog_26_method_2_code (2 : Nat) (Option.some Jvm.ClassFile.FieldType.char)) ∈ lw_all := lw_g (lw_at lw_m2 139 rfl) rfl
theorem q498 : (Jvm.Cond.methodLink "java/lang/StringLatin1" (9 : Nat) ({ cls := "java/lang/String", name := "checkIndex", desc := "(II)V" } : Jvm.MethodName)) ∈ lw_all := lw_g (lw_at lw_m2 140 rfl) rfl

/-! jdk/internal/util/Preconditions -/
set_option maxRecDepth 100000
def RJ6 : String := "jdk/internal/util/Preconditions"
abbrev cJ6_checkIndex : ByteArray := prog_40_method_11_code
def yJ6_checkIndex : MethodName := ⟨RJ6, "checkIndex", "(IILjava/util/function/BiFunction;)I"⟩
def dkwJ6_checkIndex_0 : List UInt8 := [26, 155, 0, 8, 26, 27, 161, 0, 10, 44, 26, 27, 184, 0, 95, 191, 26, 172]
abbrev dktJ6_checkIndex_0 : List UInt8 := dkwJ6_checkIndex_0 ++ []
theorem dksJ6_checkIndex_0 : cJ6_checkIndex.data.toList.drop 0 = dktJ6_checkIndex_0 := by decide +kernel
theorem dJ6_checkIndex_0 : decode cJ6_checkIndex 0 = .ok (.iload_n 0, 1) := dk_26 (dk_at dksJ6_checkIndex_0 0 rfl rfl)
theorem dJ6_checkIndex_1 : decode cJ6_checkIndex 1 = .ok (.ifCond .lt 8, 3) := dk_155 0 8 (dk_at dksJ6_checkIndex_0 1 rfl rfl)
theorem dJ6_checkIndex_4 : decode cJ6_checkIndex 4 = .ok (.iload_n 0, 1) := dk_26 (dk_at dksJ6_checkIndex_0 4 rfl rfl)
theorem dJ6_checkIndex_5 : decode cJ6_checkIndex 5 = .ok (.iload_n 1, 1) := dk_27 (dk_at dksJ6_checkIndex_0 5 rfl rfl)
theorem dJ6_checkIndex_6 : decode cJ6_checkIndex 6 = .ok (.if_icmp .lt 10, 3) := dk_161 0 10 (dk_at dksJ6_checkIndex_0 6 rfl rfl)
theorem dJ6_checkIndex_9 : decode cJ6_checkIndex 9 = .ok (.aload_n 2, 1) := dk_44 (dk_at dksJ6_checkIndex_0 9 rfl rfl)
theorem dJ6_checkIndex_10 : decode cJ6_checkIndex 10 = .ok (.iload_n 0, 1) := dk_26 (dk_at dksJ6_checkIndex_0 10 rfl rfl)
theorem dJ6_checkIndex_11 : decode cJ6_checkIndex 11 = .ok (.iload_n 1, 1) := dk_27 (dk_at dksJ6_checkIndex_0 11 rfl rfl)
theorem dJ6_checkIndex_12 : decode cJ6_checkIndex 12 = .ok (.invokestatic 95, 3) := dk_184 0 95 (dk_at dksJ6_checkIndex_0 12 rfl rfl)
theorem dJ6_checkIndex_15 : decode cJ6_checkIndex 15 = .ok (.athrow, 1) := dk_191 (dk_at dksJ6_checkIndex_0 15 rfl rfl)
theorem dJ6_checkIndex_16 : decode cJ6_checkIndex 16 = .ok (.iload_n 0, 1) := dk_26 (dk_at dksJ6_checkIndex_0 16 rfl rfl)
theorem dJ6_checkIndex_17 : decode cJ6_checkIndex 17 = .ok (.ireturn, 1) := dk_172 (dk_at dksJ6_checkIndex_0 17 rfl rfl)
theorem q132 : (Jvm.Cond.initialized "jdk/internal/util/Preconditions") ∈ lw_all := lw_g (lw_at lw_m1 14 rfl) rfl
theorem q502 : (Jvm.Cond.laysStatic "jdk/internal/util/Preconditions" "SIOOBE_FORMATTER" "Ljava/util/function/BiFunction;") ∈ lw_tbl := lw_at lw_m2 144 rfl
theorem q504 : (Jvm.Cond.static ({ cls := "jdk/internal/util/Preconditions", name := "checkIndex", desc := "(IILjava/util/function/BiFunction;)I" } : Jvm.MethodName)) ∈ lw_all := lw_g (lw_at lw_m2 146 rfl) rfl
theorem q505 : (Jvm.Cond.code ({ cls := "jdk/internal/util/Preconditions", name := "checkIndex", desc := "(IILjava/util/function/BiFunction;)I" } : Jvm.MethodName) prog_40_method_11_code (3 : Nat) (Option.some Jvm.ClassFile.FieldType.int)) ∈ lw_all := lw_g (lw_at lw_m2 147 rfl) rfl

/-! java/lang/StringUTF16 -/
set_option maxRecDepth 100000
def RJ7 : String := "java/lang/StringUTF16"
abbrev cJ7_charAt : ByteArray := prog_27_method_83_code
def yJ7_charAt : MethodName := ⟨RJ7, "charAt", "([BI)C"⟩
def dkwJ7_charAt_0 : List UInt8 := [27, 42, 184, 0, 67, 42, 27, 184, 0, 71, 172]
abbrev dktJ7_charAt_0 : List UInt8 := dkwJ7_charAt_0 ++ []
theorem dksJ7_charAt_0 : cJ7_charAt.data.toList.drop 0 = dktJ7_charAt_0 := by decide +kernel
theorem dJ7_charAt_0 : decode cJ7_charAt 0 = .ok (.iload_n 1, 1) := dk_27 (dk_at dksJ7_charAt_0 0 rfl rfl)
theorem dJ7_charAt_1 : decode cJ7_charAt 1 = .ok (.aload_n 0, 1) := dk_42 (dk_at dksJ7_charAt_0 1 rfl rfl)
theorem dJ7_charAt_2 : decode cJ7_charAt 2 = .ok (.invokestatic 67, 3) := dk_184 0 67 (dk_at dksJ7_charAt_0 2 rfl rfl)
theorem dJ7_charAt_5 : decode cJ7_charAt 5 = .ok (.aload_n 0, 1) := dk_42 (dk_at dksJ7_charAt_0 5 rfl rfl)
theorem dJ7_charAt_6 : decode cJ7_charAt 6 = .ok (.iload_n 1, 1) := dk_27 (dk_at dksJ7_charAt_0 6 rfl rfl)
theorem dJ7_charAt_7 : decode cJ7_charAt 7 = .ok (.invokestatic 71, 3) := dk_184 0 71 (dk_at dksJ7_charAt_0 7 rfl rfl)
theorem dJ7_charAt_10 : decode cJ7_charAt 10 = .ok (.ireturn, 1) := dk_172 (dk_at dksJ7_charAt_0 10 rfl rfl)
abbrev cJ7_checkIndex : ByteArray := prog_27_method_91_code
def yJ7_checkIndex : MethodName := ⟨RJ7, "checkIndex", "(I[B)V"⟩
def dkwJ7_checkIndex_0 : List UInt8 := [26, 43, 184, 0, 48, 184, 1, 158, 177]
abbrev dktJ7_checkIndex_0 : List UInt8 := dkwJ7_checkIndex_0 ++ []
theorem dksJ7_checkIndex_0 : cJ7_checkIndex.data.toList.drop 0 = dktJ7_checkIndex_0 := by decide +kernel
theorem dJ7_checkIndex_0 : decode cJ7_checkIndex 0 = .ok (.iload_n 0, 1) := dk_26 (dk_at dksJ7_checkIndex_0 0 rfl rfl)
theorem dJ7_checkIndex_1 : decode cJ7_checkIndex 1 = .ok (.aload_n 1, 1) := dk_43 (dk_at dksJ7_checkIndex_0 1 rfl rfl)
theorem dJ7_checkIndex_2 : decode cJ7_checkIndex 2 = .ok (.invokestatic 48, 3) := dk_184 0 48 (dk_at dksJ7_checkIndex_0 2 rfl rfl)
theorem dJ7_checkIndex_5 : decode cJ7_checkIndex 5 = .ok (.invokestatic 414, 3) := dk_184 1 158 (dk_at dksJ7_checkIndex_0 5 rfl rfl)
theorem dJ7_checkIndex_8 : decode cJ7_checkIndex 8 = .ok (.return_, 1) := dk_177 (dk_at dksJ7_checkIndex_0 8 rfl rfl)
abbrev cJ7_length : ByteArray := prog_27_method_6_code
def yJ7_length : MethodName := ⟨RJ7, "length", "([B)I"⟩
def dkwJ7_length_0 : List UInt8 := [42, 190, 4, 122, 172]
abbrev dktJ7_length_0 : List UInt8 := dkwJ7_length_0 ++ []
theorem dksJ7_length_0 : cJ7_length.data.toList.drop 0 = dktJ7_length_0 := by decide +kernel
theorem dJ7_length_0 : decode cJ7_length 0 = .ok (.aload_n 0, 1) := dk_42 (dk_at dksJ7_length_0 0 rfl rfl)
theorem dJ7_length_1 : decode cJ7_length 1 = .ok (.arraylength, 1) := dk_190 (dk_at dksJ7_length_0 1 rfl rfl)
theorem dJ7_length_2 : decode cJ7_length 2 = .ok (.iconst 1, 1) := dk_4 (dk_at dksJ7_length_0 2 rfl rfl)
theorem dJ7_length_3 : decode cJ7_length 3 = .ok (.ishr, 1) := dk_122 (dk_at dksJ7_length_0 3 rfl rfl)
theorem dJ7_length_4 : decode cJ7_length 4 = .ok (.ireturn, 1) := dk_172 (dk_at dksJ7_length_0 4 rfl rfl)
abbrev cJ7_getChar : ByteArray := prog_27_method_5_code
def yJ7_getChar : MethodName := ⟨RJ7, "getChar", "([BI)C"⟩
def dkwJ7_getChar_2 : List UInt8 := [51, 17, 0, 255, 126, 178, 0, 63, 120, 128, 146, 172]
abbrev dktJ7_getChar_2 : List UInt8 := dkwJ7_getChar_2 ++ []
def dkwJ7_getChar_1 : List UInt8 := [183, 0, 56, 191, 27, 4, 120, 60, 42, 27, 132, 1, 1, 51, 17, 0, 255, 126, 178, 0, 59, 120, 42, 27]
abbrev dktJ7_getChar_1 : List UInt8 := dkwJ7_getChar_1 ++ dktJ7_getChar_2
def dkwJ7_getChar_0 : List UInt8 := [178, 0, 44, 154, 0, 25, 27, 155, 0, 11, 27, 42, 184, 0, 48, 161, 0, 13, 187, 0, 52, 89, 18, 54]
abbrev dktJ7_getChar_0 : List UInt8 := dkwJ7_getChar_0 ++ dktJ7_getChar_1
theorem dksJ7_getChar_0 : cJ7_getChar.data.toList.drop 0 = dktJ7_getChar_0 := by decide +kernel
theorem dksJ7_getChar_1 : cJ7_getChar.data.toList.drop 24 = dktJ7_getChar_1 := dk_seg dksJ7_getChar_0 24 rfl rfl
theorem dksJ7_getChar_2 : cJ7_getChar.data.toList.drop 48 = dktJ7_getChar_2 := dk_seg dksJ7_getChar_1 24 rfl rfl
theorem dJ7_getChar_0 : decode cJ7_getChar 0 = .ok (.getstatic 44, 3) := dk_178 0 44 (dk_at dksJ7_getChar_0 0 rfl rfl)
theorem dJ7_getChar_3 : decode cJ7_getChar 3 = .ok (.ifCond .ne 25, 3) := dk_154 0 25 (dk_at dksJ7_getChar_0 3 rfl rfl)
theorem dJ7_getChar_6 : decode cJ7_getChar 6 = .ok (.iload_n 1, 1) := dk_27 (dk_at dksJ7_getChar_0 6 rfl rfl)
theorem dJ7_getChar_7 : decode cJ7_getChar 7 = .ok (.ifCond .lt 11, 3) := dk_155 0 11 (dk_at dksJ7_getChar_0 7 rfl rfl)
theorem dJ7_getChar_10 : decode cJ7_getChar 10 = .ok (.iload_n 1, 1) := dk_27 (dk_at dksJ7_getChar_0 10 rfl rfl)
theorem dJ7_getChar_11 : decode cJ7_getChar 11 = .ok (.aload_n 0, 1) := dk_42 (dk_at dksJ7_getChar_0 11 rfl rfl)
theorem dJ7_getChar_12 : decode cJ7_getChar 12 = .ok (.invokestatic 48, 3) := dk_184 0 48 (dk_at dksJ7_getChar_0 12 rfl rfl)
theorem dJ7_getChar_15 : decode cJ7_getChar 15 = .ok (.if_icmp .lt 13, 3) := dk_161 0 13 (dk_at dksJ7_getChar_0 15 rfl rfl)
theorem dJ7_getChar_18 : decode cJ7_getChar 18 = .ok (.new 52, 3) := dk_187 0 52 (dk_at dksJ7_getChar_0 18 rfl rfl)
theorem dJ7_getChar_21 : decode cJ7_getChar 21 = .ok (.dup, 1) := dk_89 (dk_at dksJ7_getChar_0 21 rfl rfl)
theorem dJ7_getChar_22 : decode cJ7_getChar 22 = .ok (.ldc 54, 2) := dk_18 54 (dk_at dksJ7_getChar_0 22 rfl rfl)
theorem dJ7_getChar_24 : decode cJ7_getChar 24 = .ok (.invokespecial 56, 3) := dk_183 0 56 (dk_at dksJ7_getChar_1 0 rfl rfl)
theorem dJ7_getChar_27 : decode cJ7_getChar 27 = .ok (.athrow, 1) := dk_191 (dk_at dksJ7_getChar_1 3 rfl rfl)
theorem dJ7_getChar_28 : decode cJ7_getChar 28 = .ok (.iload_n 1, 1) := dk_27 (dk_at dksJ7_getChar_1 4 rfl rfl)
theorem dJ7_getChar_29 : decode cJ7_getChar 29 = .ok (.iconst 1, 1) := dk_4 (dk_at dksJ7_getChar_1 5 rfl rfl)
theorem dJ7_getChar_30 : decode cJ7_getChar 30 = .ok (.ishl, 1) := dk_120 (dk_at dksJ7_getChar_1 6 rfl rfl)
theorem dJ7_getChar_31 : decode cJ7_getChar 31 = .ok (.istore_n 1, 1) := dk_60 (dk_at dksJ7_getChar_1 7 rfl rfl)
theorem dJ7_getChar_32 : decode cJ7_getChar 32 = .ok (.aload_n 0, 1) := dk_42 (dk_at dksJ7_getChar_1 8 rfl rfl)
theorem dJ7_getChar_33 : decode cJ7_getChar 33 = .ok (.iload_n 1, 1) := dk_27 (dk_at dksJ7_getChar_1 9 rfl rfl)
theorem dJ7_getChar_34 : decode cJ7_getChar 34 = .ok (.iinc 1 1, 3) := dk_132 1 1 (dk_at dksJ7_getChar_1 10 rfl rfl)
theorem dJ7_getChar_37 : decode cJ7_getChar 37 = .ok (.baload, 1) := dk_51 (dk_at dksJ7_getChar_1 13 rfl rfl)
theorem dJ7_getChar_38 : decode cJ7_getChar 38 = .ok (.sipush 255, 3) := dk_17 0 255 (dk_at dksJ7_getChar_1 14 rfl rfl)
theorem dJ7_getChar_41 : decode cJ7_getChar 41 = .ok (.iand, 1) := dk_126 (dk_at dksJ7_getChar_1 17 rfl rfl)
theorem dJ7_getChar_42 : decode cJ7_getChar 42 = .ok (.getstatic 59, 3) := dk_178 0 59 (dk_at dksJ7_getChar_1 18 rfl rfl)
theorem dJ7_getChar_45 : decode cJ7_getChar 45 = .ok (.ishl, 1) := dk_120 (dk_at dksJ7_getChar_1 21 rfl rfl)
theorem dJ7_getChar_46 : decode cJ7_getChar 46 = .ok (.aload_n 0, 1) := dk_42 (dk_at dksJ7_getChar_1 22 rfl rfl)
theorem dJ7_getChar_47 : decode cJ7_getChar 47 = .ok (.iload_n 1, 1) := dk_27 (dk_at dksJ7_getChar_1 23 rfl rfl)
theorem dJ7_getChar_48 : decode cJ7_getChar 48 = .ok (.baload, 1) := dk_51 (dk_at dksJ7_getChar_2 0 rfl rfl)
theorem dJ7_getChar_49 : decode cJ7_getChar 49 = .ok (.sipush 255, 3) := dk_17 0 255 (dk_at dksJ7_getChar_2 1 rfl rfl)
theorem dJ7_getChar_52 : decode cJ7_getChar 52 = .ok (.iand, 1) := dk_126 (dk_at dksJ7_getChar_2 4 rfl rfl)
theorem dJ7_getChar_53 : decode cJ7_getChar 53 = .ok (.getstatic 63, 3) := dk_178 0 63 (dk_at dksJ7_getChar_2 5 rfl rfl)
theorem dJ7_getChar_56 : decode cJ7_getChar 56 = .ok (.ishl, 1) := dk_120 (dk_at dksJ7_getChar_2 8 rfl rfl)
theorem dJ7_getChar_57 : decode cJ7_getChar 57 = .ok (.ior, 1) := dk_128 (dk_at dksJ7_getChar_2 9 rfl rfl)
theorem dJ7_getChar_58 : decode cJ7_getChar 58 = .ok (.i2c, 1) := dk_146 (dk_at dksJ7_getChar_2 10 rfl rfl)
theorem dJ7_getChar_59 : decode cJ7_getChar 59 = .ok (.ireturn, 1) := dk_172 (dk_at dksJ7_getChar_2 11 rfl rfl)
theorem q133 : (Jvm.Cond.initialized "java/lang/StringUTF16") ∈ lw_all := lw_g (lw_at lw_m1 15 rfl) rfl
theorem q507 : (Jvm.Cond.static ({ cls := "java/lang/StringUTF16", name := "charAt", desc := "([BI)C" } : Jvm.MethodName)) ∈ lw_all := lw_g (lw_at lw_m2 149 rfl) rfl
theorem q508 : (Jvm.Cond.code ({ cls := "java/lang/StringUTF16", name := "charAt", desc := "([BI)C" } : Jvm.MethodName) prog_27_method_83_code (2 : Nat) (Option.some Jvm.ClassFile.FieldType.char)) ∈ lw_all := lw_g (lw_at lw_m2 150 rfl) rfl
theorem q509 : (Jvm.Cond.methodLink "java/lang/StringUTF16" (67 : Nat) ({ cls := "java/lang/StringUTF16", name := "checkIndex", desc := "(I[B)V" } : Jvm.MethodName)) ∈ lw_all := lw_g (lw_at lw_m2 151 rfl) rfl
theorem q510 : (Jvm.Cond.static ({ cls := "java/lang/StringUTF16", name := "checkIndex", desc := "(I[B)V" } : Jvm.MethodName)) ∈ lw_all := lw_g (lw_at lw_m2 152 rfl) rfl
theorem q511 : (Jvm.Cond.code ({ cls := "java/lang/StringUTF16", name := "checkIndex", desc := "(I[B)V" } : Jvm.MethodName) prog_27_method_91_code (2 : Nat) (Option.none : Option Jvm.ClassFile.FieldType)) ∈ lw_all := lw_g (lw_at lw_m2 153 rfl) rfl
theorem q512 : (Jvm.Cond.methodLink "java/lang/StringUTF16" (48 : Nat) ({ cls := "java/lang/StringUTF16", name := "length", desc := "([B)I" } : Jvm.MethodName)) ∈ lw_all := lw_g (lw_at lw_m2 154 rfl) rfl
theorem q513 : (Jvm.Cond.static ({ cls := "java/lang/StringUTF16", name := "length", desc := "([B)I" } : Jvm.MethodName)) ∈ lw_all := lw_g (lw_at lw_m2 155 rfl) rfl
theorem q514 : (Jvm.Cond.code ({ cls := "java/lang/StringUTF16", name := "length", desc := "([B)I" } : Jvm.MethodName) prog_27_method_6_code (1 : Nat) (Option.some Jvm.ClassFile.FieldType.int)) ∈ lw_all := lw_g (lw_at lw_m2 156 rfl) rfl
theorem q515 : (Jvm.Cond.methodLink "java/lang/StringUTF16" (414 : Nat) ({ cls := "java/lang/String", name := "checkIndex", desc := "(II)V" } : Jvm.MethodName)) ∈ lw_all := lw_g (lw_at lw_m2 157 rfl) rfl
theorem q516 : (Jvm.Cond.methodLink "java/lang/StringUTF16" (71 : Nat) ({ cls := "java/lang/StringUTF16", name := "getChar", desc := "([BI)C" } : Jvm.MethodName)) ∈ lw_all := lw_g (lw_at lw_m2 158 rfl) rfl
theorem q517 : (Jvm.Cond.static ({ cls := "java/lang/StringUTF16", name := "getChar", desc := "([BI)C" } : Jvm.MethodName)) ∈ lw_all := lw_g (lw_at lw_m2 159 rfl) rfl
theorem q518 : (Jvm.Cond.code ({ cls := "java/lang/StringUTF16", name := "getChar", desc := "([BI)C" } : Jvm.MethodName) prog_27_method_5_code (2 : Nat) (Option.some Jvm.ClassFile.FieldType.char)) ∈ lw_all := lw_g (lw_at lw_m2 160 rfl) rfl
theorem q519 : (Jvm.Cond.fieldLink "java/lang/StringUTF16" (44 : Nat) "java/lang/StringUTF16" "$assertionsDisabled" "Z") ∈ lw_all := lw_g (lw_at lw_m2 161 rfl) rfl
theorem q520 : (Jvm.Cond.laysStatic "java/lang/StringUTF16" "$assertionsDisabled" "Z") ∈ lw_tbl := lw_at lw_m2 162 rfl
theorem q521 : (Jvm.Cond.fieldLink "java/lang/StringUTF16" (59 : Nat) "java/lang/StringUTF16" "HI_BYTE_SHIFT" "I") ∈ lw_all := lw_g (lw_at lw_m2 163 rfl) rfl
theorem q522 : (Jvm.Cond.laysStatic "java/lang/StringUTF16" "HI_BYTE_SHIFT" "I") ∈ lw_tbl := lw_at lw_m2 164 rfl
theorem q523 : (Jvm.Cond.fieldLink "java/lang/StringUTF16" (63 : Nat) "java/lang/StringUTF16" "LO_BYTE_SHIFT" "I") ∈ lw_all := lw_g (lw_at lw_m2 165 rfl) rfl
theorem q524 : (Jvm.Cond.laysStatic "java/lang/StringUTF16" "LO_BYTE_SHIFT" "I") ∈ lw_tbl := lw_at lw_m2 166 rfl

/-! java/lang/Throwable -/
set_option maxRecDepth 100000
def RJ8 : String := "java/lang/Throwable"
def TJ8 : u_T := fun k => match k with
  | 0 => ("java/lang/Throwable", "cause", "Ljava/lang/Throwable;", false)
  | 1 => ("java/lang/Throwable", "stackTrace", "[Ljava/lang/StackTraceElement;", false)
  | 2 => ("java/lang/Throwable", "suppressedExceptions", "Ljava/util/List;", false)
  | 3 => ("java/lang/Throwable", "detailMessage", "Ljava/lang/String;", false)
  | _ => ("java/lang/Throwable", "backtrace", "Ljava/lang/Object;", false)
def tyJ8 : Nat → FieldType := fun k => match k with
  | 0 => .object "java/lang/Throwable"
  | 1 => .array (.object "java/lang/StackTraceElement")
  | 2 => .object "java/util/List"
  | 3 => .object "java/lang/String"
  | _ => .object "java/lang/Object"
abbrev wsJ80 : List Cond := u_ws RJ8 TJ8 5
theorem nmJ8 : ∀ a, a < 5 → ∀ b, b < 5 → a ≠ b → (TJ8 a).2.1 ≠ (TJ8 b).2.1 := by decide +kernel
theorem tyJ8_ok : ∀ k, k < 5 → parseFieldDescriptor (TJ8 k).2.2.1 = some (tyJ8 k) := by decide +kernel
abbrev cJ8_init : ByteArray := prog_29_method_1_code
def yJ8_init : MethodName := ⟨RJ8, "<init>", "()V"⟩
def dkwJ8_init_1 : List UInt8 := [182, 0, 27, 87, 177]
abbrev dktJ8_init_1 : List UInt8 := dkwJ8_init_1 ++ []
def dkwJ8_init_0 : List UInt8 := [42, 183, 0, 1, 42, 42, 181, 0, 7, 42, 178, 0, 13, 181, 0, 17, 42, 178, 0, 20, 181, 0, 24, 42]
abbrev dktJ8_init_0 : List UInt8 := dkwJ8_init_0 ++ dktJ8_init_1
theorem dksJ8_init_0 : cJ8_init.data.toList.drop 0 = dktJ8_init_0 := by decide +kernel
theorem dksJ8_init_1 : cJ8_init.data.toList.drop 24 = dktJ8_init_1 := dk_seg dksJ8_init_0 24 rfl rfl
theorem dJ8_init_0 : decode cJ8_init 0 = .ok (.aload_n 0, 1) := dk_42 (dk_at dksJ8_init_0 0 rfl rfl)
theorem dJ8_init_1 : decode cJ8_init 1 = .ok (.invokespecial 1, 3) := dk_183 0 1 (dk_at dksJ8_init_0 1 rfl rfl)
theorem dJ8_init_4 : decode cJ8_init 4 = .ok (.aload_n 0, 1) := dk_42 (dk_at dksJ8_init_0 4 rfl rfl)
theorem dJ8_init_5 : decode cJ8_init 5 = .ok (.aload_n 0, 1) := dk_42 (dk_at dksJ8_init_0 5 rfl rfl)
theorem dJ8_init_6 : decode cJ8_init 6 = .ok (.putfield 7, 3) := dk_181 0 7 (dk_at dksJ8_init_0 6 rfl rfl)
theorem dJ8_init_9 : decode cJ8_init 9 = .ok (.aload_n 0, 1) := dk_42 (dk_at dksJ8_init_0 9 rfl rfl)
theorem dJ8_init_10 : decode cJ8_init 10 = .ok (.getstatic 13, 3) := dk_178 0 13 (dk_at dksJ8_init_0 10 rfl rfl)
theorem dJ8_init_13 : decode cJ8_init 13 = .ok (.putfield 17, 3) := dk_181 0 17 (dk_at dksJ8_init_0 13 rfl rfl)
theorem dJ8_init_16 : decode cJ8_init 16 = .ok (.aload_n 0, 1) := dk_42 (dk_at dksJ8_init_0 16 rfl rfl)
theorem dJ8_init_17 : decode cJ8_init 17 = .ok (.getstatic 20, 3) := dk_178 0 20 (dk_at dksJ8_init_0 17 rfl rfl)
theorem dJ8_init_20 : decode cJ8_init 20 = .ok (.putfield 24, 3) := dk_181 0 24 (dk_at dksJ8_init_0 20 rfl rfl)
theorem dJ8_init_23 : decode cJ8_init 23 = .ok (.aload_n 0, 1) := dk_42 (dk_at dksJ8_init_0 23 rfl rfl)
theorem dJ8_init_24 : decode cJ8_init 24 = .ok (.invokevirtual 27, 3) := dk_182 0 27 (dk_at dksJ8_init_1 0 rfl rfl)
theorem dJ8_init_27 : decode cJ8_init 27 = .ok (.pop, 1) := dk_87 (dk_at dksJ8_init_1 3 rfl rfl)
theorem dJ8_init_28 : decode cJ8_init 28 = .ok (.return_, 1) := dk_177 (dk_at dksJ8_init_1 4 rfl rfl)
abbrev cJ8_init_2 : ByteArray := prog_29_method_5_code
def yJ8_init_2 : MethodName := ⟨RJ8, "<init>", "(Ljava/lang/String;Ljava/lang/Throwable;ZZ)V"⟩
def dkwJ8_init_2_2 : List UInt8 := [44, 181, 0, 7, 29, 154, 0, 8, 42, 1, 181, 0, 24, 177]
abbrev dktJ8_init_2_2 : List UInt8 := dkwJ8_init_2_2 ++ []
def dkwJ8_init_2_1 : List UInt8 := [21, 4, 153, 0, 11, 42, 182, 0, 27, 87, 167, 0, 8, 42, 1, 181, 0, 17, 42, 43, 181, 0, 31, 42]
abbrev dktJ8_init_2_1 : List UInt8 := dkwJ8_init_2_1 ++ dktJ8_init_2_2
def dkwJ8_init_2_0 : List UInt8 := [42, 183, 0, 1, 42, 42, 181, 0, 7, 42, 178, 0, 13, 181, 0, 17, 42, 178, 0, 20, 181, 0, 24]
abbrev dktJ8_init_2_0 : List UInt8 := dkwJ8_init_2_0 ++ dktJ8_init_2_1
theorem dksJ8_init_2_0 : cJ8_init_2.data.toList.drop 0 = dktJ8_init_2_0 := by decide +kernel
theorem dksJ8_init_2_1 : cJ8_init_2.data.toList.drop 23 = dktJ8_init_2_1 := dk_seg dksJ8_init_2_0 23 rfl rfl
theorem dksJ8_init_2_2 : cJ8_init_2.data.toList.drop 47 = dktJ8_init_2_2 := dk_seg dksJ8_init_2_1 24 rfl rfl
theorem dJ8_init_2_0 : decode cJ8_init_2 0 = .ok (.aload_n 0, 1) := dk_42 (dk_at dksJ8_init_2_0 0 rfl rfl)
theorem dJ8_init_2_1 : decode cJ8_init_2 1 = .ok (.invokespecial 1, 3) := dk_183 0 1 (dk_at dksJ8_init_2_0 1 rfl rfl)
theorem dJ8_init_2_4 : decode cJ8_init_2 4 = .ok (.aload_n 0, 1) := dk_42 (dk_at dksJ8_init_2_0 4 rfl rfl)
theorem dJ8_init_2_5 : decode cJ8_init_2 5 = .ok (.aload_n 0, 1) := dk_42 (dk_at dksJ8_init_2_0 5 rfl rfl)
theorem dJ8_init_2_6 : decode cJ8_init_2 6 = .ok (.putfield 7, 3) := dk_181 0 7 (dk_at dksJ8_init_2_0 6 rfl rfl)
theorem dJ8_init_2_9 : decode cJ8_init_2 9 = .ok (.aload_n 0, 1) := dk_42 (dk_at dksJ8_init_2_0 9 rfl rfl)
theorem dJ8_init_2_10 : decode cJ8_init_2 10 = .ok (.getstatic 13, 3) := dk_178 0 13 (dk_at dksJ8_init_2_0 10 rfl rfl)
theorem dJ8_init_2_13 : decode cJ8_init_2 13 = .ok (.putfield 17, 3) := dk_181 0 17 (dk_at dksJ8_init_2_0 13 rfl rfl)
theorem dJ8_init_2_16 : decode cJ8_init_2 16 = .ok (.aload_n 0, 1) := dk_42 (dk_at dksJ8_init_2_0 16 rfl rfl)
theorem dJ8_init_2_17 : decode cJ8_init_2 17 = .ok (.getstatic 20, 3) := dk_178 0 20 (dk_at dksJ8_init_2_0 17 rfl rfl)
theorem dJ8_init_2_20 : decode cJ8_init_2 20 = .ok (.putfield 24, 3) := dk_181 0 24 (dk_at dksJ8_init_2_0 20 rfl rfl)
theorem dJ8_init_2_23 : decode cJ8_init_2 23 = .ok (.iload 4, 2) := dk_21 4 (dk_at dksJ8_init_2_1 0 rfl rfl)
theorem dJ8_init_2_25 : decode cJ8_init_2 25 = .ok (.ifCond .eq 11, 3) := dk_153 0 11 (dk_at dksJ8_init_2_1 2 rfl rfl)
theorem dJ8_init_2_28 : decode cJ8_init_2 28 = .ok (.aload_n 0, 1) := dk_42 (dk_at dksJ8_init_2_1 5 rfl rfl)
theorem dJ8_init_2_29 : decode cJ8_init_2 29 = .ok (.invokevirtual 27, 3) := dk_182 0 27 (dk_at dksJ8_init_2_1 6 rfl rfl)
theorem dJ8_init_2_32 : decode cJ8_init_2 32 = .ok (.pop, 1) := dk_87 (dk_at dksJ8_init_2_1 9 rfl rfl)
theorem dJ8_init_2_33 : decode cJ8_init_2 33 = .ok (.goto 8, 3) := dk_167 0 8 (dk_at dksJ8_init_2_1 10 rfl rfl)
theorem dJ8_init_2_36 : decode cJ8_init_2 36 = .ok (.aload_n 0, 1) := dk_42 (dk_at dksJ8_init_2_1 13 rfl rfl)
theorem dJ8_init_2_37 : decode cJ8_init_2 37 = .ok (.aconst_null, 1) := dk_1 (dk_at dksJ8_init_2_1 14 rfl rfl)
theorem dJ8_init_2_38 : decode cJ8_init_2 38 = .ok (.putfield 17, 3) := dk_181 0 17 (dk_at dksJ8_init_2_1 15 rfl rfl)
theorem dJ8_init_2_41 : decode cJ8_init_2 41 = .ok (.aload_n 0, 1) := dk_42 (dk_at dksJ8_init_2_1 18 rfl rfl)
theorem dJ8_init_2_42 : decode cJ8_init_2 42 = .ok (.aload_n 1, 1) := dk_43 (dk_at dksJ8_init_2_1 19 rfl rfl)
theorem dJ8_init_2_43 : decode cJ8_init_2 43 = .ok (.putfield 31, 3) := dk_181 0 31 (dk_at dksJ8_init_2_1 20 rfl rfl)
theorem dJ8_init_2_46 : decode cJ8_init_2 46 = .ok (.aload_n 0, 1) := dk_42 (dk_at dksJ8_init_2_1 23 rfl rfl)
theorem dJ8_init_2_47 : decode cJ8_init_2 47 = .ok (.aload_n 2, 1) := dk_44 (dk_at dksJ8_init_2_2 0 rfl rfl)
theorem dJ8_init_2_48 : decode cJ8_init_2 48 = .ok (.putfield 7, 3) := dk_181 0 7 (dk_at dksJ8_init_2_2 1 rfl rfl)
theorem dJ8_init_2_51 : decode cJ8_init_2 51 = .ok (.iload_n 3, 1) := dk_29 (dk_at dksJ8_init_2_2 4 rfl rfl)
theorem dJ8_init_2_52 : decode cJ8_init_2 52 = .ok (.ifCond .ne 8, 3) := dk_154 0 8 (dk_at dksJ8_init_2_2 5 rfl rfl)
theorem dJ8_init_2_55 : decode cJ8_init_2 55 = .ok (.aload_n 0, 1) := dk_42 (dk_at dksJ8_init_2_2 8 rfl rfl)
theorem dJ8_init_2_56 : decode cJ8_init_2 56 = .ok (.aconst_null, 1) := dk_1 (dk_at dksJ8_init_2_2 9 rfl rfl)
theorem dJ8_init_2_57 : decode cJ8_init_2 57 = .ok (.putfield 24, 3) := dk_181 0 24 (dk_at dksJ8_init_2_2 10 rfl rfl)
theorem dJ8_init_2_60 : decode cJ8_init_2 60 = .ok (.return_, 1) := dk_177 (dk_at dksJ8_init_2_2 13 rfl rfl)
theorem q134 : (Jvm.Cond.initialized "java/lang/Throwable") ∈ lw_all := lw_g (lw_at lw_m1 16 rfl) rfl
theorem q534 : (Jvm.Cond.declares ({ cls := "java/lang/Throwable", name := "<init>", desc := "()V" } : Jvm.MethodName)) ∈ lw_tbl := lw_at lw_m2 176 rfl
theorem q535 : (Jvm.Cond.declares ({ cls := "java/lang/Throwable", name := "<init>", desc := "(Ljava/lang/String;)V" } : Jvm.MethodName)) ∈ lw_tbl := lw_at lw_m2 177 rfl
theorem q539 : (Jvm.Cond.lays "java/lang/Throwable" "java/lang/Throwable" "cause" "Ljava/lang/Throwable;") ∈ lw_all := lw_g (lw_at lw_m2 181 rfl) rfl
theorem q541 : (Jvm.Cond.lays "java/lang/Throwable" "java/lang/Throwable" "stackTrace" "[Ljava/lang/StackTraceElement;") ∈ lw_all := lw_g (lw_at lw_m2 183 rfl) rfl
theorem q543 : (Jvm.Cond.lays "java/lang/Throwable" "java/lang/Throwable" "suppressedExceptions" "Ljava/util/List;") ∈ lw_all := lw_g (lw_at lw_m2 185 rfl) rfl
theorem q545 : (Jvm.Cond.lays "java/lang/Throwable" "java/lang/Throwable" "detailMessage" "Ljava/lang/String;") ∈ lw_all := lw_g (lw_at lw_m2 187 rfl) rfl
theorem q547 : (Jvm.Cond.lays "java/lang/Throwable" "java/lang/Throwable" "backtrace" "Ljava/lang/Object;") ∈ lw_all := lw_g (lw_at lw_m2 189 rfl) rfl
theorem q548 : (Jvm.Cond.fieldLink "java/lang/Throwable" (198 : Nat) "java/lang/Throwable" "backtrace" "Ljava/lang/Object;") ∈ lw_all := lw_g (lw_at lw_m2 190 rfl) rfl
theorem q549 : (Jvm.Cond.superclass "java/lang/Throwable" "java/lang/Object") ∈ lw_all := lw_g (lw_at lw_m2 191 rfl) rfl
theorem q550 : (Jvm.Cond.instanceMethod ({ cls := "java/lang/Throwable", name := "<init>", desc := "()V" } : Jvm.MethodName)) ∈ lw_all := lw_g (lw_at lw_m2 192 rfl) rfl
theorem q551 : (Jvm.Cond.code ({ cls := "java/lang/Throwable", name := "<init>", desc := "()V" } : Jvm.MethodName) prog_29_method_1_code (1 : Nat) (Option.none : Option Jvm.ClassFile.FieldType)) ∈ lw_all := lw_g (lw_at lw_m2 193 rfl) rfl
theorem q552 : (Jvm.Cond.methodLink "java/lang/Throwable" (1 : Nat) ({ cls := "java/lang/Object", name := "<init>", desc := "()V" } : Jvm.MethodName)) ∈ lw_all := lw_g (lw_at lw_m2 194 rfl) rfl
theorem q553 : (Jvm.Cond.fieldLink "java/lang/Throwable" (13 : Nat) "java/lang/Throwable" "UNASSIGNED_STACK" "[Ljava/lang/StackTraceElement;") ∈ lw_all := lw_g (lw_at lw_m2 195 rfl) rfl
theorem q554 : (Jvm.Cond.laysStatic "java/lang/Throwable" "UNASSIGNED_STACK" "[Ljava/lang/StackTraceElement;") ∈ lw_tbl := lw_at lw_m2 196 rfl
theorem q555 : (Jvm.Cond.fieldLink "java/lang/Throwable" (20 : Nat) "java/lang/Throwable" "SUPPRESSED_SENTINEL" "Ljava/util/List;") ∈ lw_all := lw_g (lw_at lw_m2 197 rfl) rfl
theorem q556 : (Jvm.Cond.laysStatic "java/lang/Throwable" "SUPPRESSED_SENTINEL" "Ljava/util/List;") ∈ lw_tbl := lw_at lw_m2 198 rfl
theorem q557 : (Jvm.Cond.methodLink "java/lang/Throwable" (27 : Nat) ({ cls := "java/lang/Throwable", name := "fillInStackTrace", desc := "()Ljava/lang/Throwable;" } : Jvm.MethodName)) ∈ lw_all := lw_g (lw_at lw_m2 199 rfl) rfl
theorem q558 : (Jvm.Cond.instanceMethod ({ cls := "java/lang/Throwable", name := "fillInStackTrace", desc := "()Ljava/lang/Throwable;" } : Jvm.MethodName)) ∈ lw_all := lw_g (lw_at lw_m2 200 rfl) rfl
theorem q559 : (Jvm.Cond.sameMethod "java/lang/Throwable" "java/lang/Throwable" "fillInStackTrace" "()Ljava/lang/Throwable;") ∈ lw_all := lw_g (lw_at lw_m2 201 rfl) rfl
theorem q560 : (Jvm.Cond.codeSync ({ cls := "java/lang/Throwable", name := "fillInStackTrace", desc := "()Ljava/lang/Throwable;" } : Jvm.MethodName) prog_29_method_18_code (1 : Nat) (Option.some (Jvm.ClassFile.FieldType.object "java/lang/Throwable"))) ∈ lw_all := lw_g (lw_at lw_m2 202 rfl) rfl
theorem q561 : (Jvm.Cond.methodLink "java/lang/Throwable" (202 : Nat) ({ cls := "java/lang/Throwable", name := "fillInStackTrace", desc := "(I)Ljava/lang/Throwable;" } : Jvm.MethodName)) ∈ lw_all := lw_g (lw_at lw_m2 203 rfl) rfl
theorem q562 : (Jvm.Cond.privateMethod ({ cls := "java/lang/Throwable", name := "fillInStackTrace", desc := "(I)Ljava/lang/Throwable;" } : Jvm.MethodName)) ∈ lw_tbl := lw_at lw_m2 204 rfl
theorem q563 : (Jvm.Cond.instanceMethod ({ cls := "java/lang/Throwable", name := "fillInStackTrace", desc := "(I)Ljava/lang/Throwable;" } : Jvm.MethodName)) ∈ lw_all := lw_g (lw_at lw_m2 205 rfl) rfl
theorem q564 : (Jvm.Cond.instantiable "java/lang/Throwable" (6 : Nat)) ∈ lw_all := lw_g (lw_at lw_m2 206 rfl) rfl
theorem q565 : (Jvm.Cond.native ({ cls := "java/lang/Throwable", name := "fillInStackTrace", desc := "(I)Ljava/lang/Throwable;" } : Jvm.MethodName)) ∈ lw_all := lw_g (lw_at lw_m2 207 rfl) rfl
theorem q573 : (Jvm.Cond.instanceMethod ({ cls := "java/lang/Throwable", name := "<init>", desc := "(Ljava/lang/String;Ljava/lang/Throwable;ZZ)V" } : Jvm.MethodName)) ∈ lw_all := lw_g (lw_at lw_m2 215 rfl) rfl
theorem q574 : (Jvm.Cond.code ({ cls := "java/lang/Throwable", name := "<init>", desc := "(Ljava/lang/String;Ljava/lang/Throwable;ZZ)V" } : Jvm.MethodName) prog_29_method_5_code (5 : Nat) (Option.none : Option Jvm.ClassFile.FieldType)) ∈ lw_all := lw_g (lw_at lw_m2 216 rfl) rfl
theorem q579 : (Jvm.Cond.fieldLink "java/lang/Throwable" (198 : Nat) "java/lang/Throwable" "backtrace" "Ljava/lang/Object;") ∈ lw_all := lw_g (lw_at lw_m2 221 rfl) rfl
theorem q580 : (Jvm.Cond.fieldLink "java/lang/Throwable" (31 : Nat) "java/lang/Throwable" "detailMessage" "Ljava/lang/String;") ∈ lw_all := lw_g (lw_at lw_m2 222 rfl) rfl
theorem q581 : (Jvm.Cond.fieldLink "java/lang/Throwable" (7 : Nat) "java/lang/Throwable" "cause" "Ljava/lang/Throwable;") ∈ lw_all := lw_g (lw_at lw_m2 223 rfl) rfl
theorem q582 : (Jvm.Cond.fieldLink "java/lang/Throwable" (17 : Nat) "java/lang/Throwable" "stackTrace" "[Ljava/lang/StackTraceElement;") ∈ lw_all := lw_g (lw_at lw_m2 224 rfl) rfl
theorem q583 : (Jvm.Cond.fieldLink "java/lang/Throwable" (24 : Nat) "java/lang/Throwable" "suppressedExceptions" "Ljava/util/List;") ∈ lw_all := lw_g (lw_at lw_m2 225 rfl) rfl
theorem q588 : (Jvm.Cond.soleField "java/lang/Throwable" "backtrace") ∈ lw_all := lw_g (lw_at lw_m2 230 rfl) rfl
theorem q589 : (Jvm.Cond.soleField "java/lang/Throwable" "detailMessage") ∈ lw_all := lw_g (lw_at lw_m2 231 rfl) rfl
theorem q590 : (Jvm.Cond.soleField "java/lang/Throwable" "cause") ∈ lw_all := lw_g (lw_at lw_m2 232 rfl) rfl
theorem q591 : (Jvm.Cond.soleField "java/lang/Throwable" "stackTrace") ∈ lw_all := lw_g (lw_at lw_m2 233 rfl) rfl
theorem q593 : (Jvm.Cond.soleField "java/lang/Throwable" "depth") ∈ lw_all := lw_g (lw_at lw_m2 235 rfl) rfl
theorem q594 : (Jvm.Cond.soleField "java/lang/Throwable" "suppressedExceptions") ∈ lw_all := lw_g (lw_at lw_m2 236 rfl) rfl
theorem q2099 : (Jvm.Cond.sameMethod "java/lang/Throwable" "java/lang/Throwable" "fillInStackTrace" "(I)Ljava/lang/Throwable;") ∈ lw_all := lw_g (lw_at lw_m9 61 rfl) rfl
theorem q2113 : (Jvm.Cond.castable "java/lang/Throwable" "java/lang/Object") ∈ lw_tbl := lw_at lw_m9 75 rfl
theorem in_J8 : ∀ w ∈ wsJ80, w ∈ lw_all := lw_in wsJ80 [539, 541, 543, 545, 547] (by decide +kernel) (by decide +kernel)

/-! java/lang/Exception -/
set_option maxRecDepth 100000
def RJ9 : String := "java/lang/Exception"
abbrev cJ9_init : ByteArray := prog_21_method_5_code
def yJ9_init : MethodName := ⟨RJ9, "<init>", "(Ljava/lang/String;Ljava/lang/Throwable;ZZ)V"⟩
def dkwJ9_init_0 : List UInt8 := [42, 43, 44, 29, 21, 4, 183, 0, 16, 177]
abbrev dktJ9_init_0 : List UInt8 := dkwJ9_init_0 ++ []
theorem dksJ9_init_0 : cJ9_init.data.toList.drop 0 = dktJ9_init_0 := by decide +kernel
theorem dJ9_init_0 : decode cJ9_init 0 = .ok (.aload_n 0, 1) := dk_42 (dk_at dksJ9_init_0 0 rfl rfl)
theorem dJ9_init_1 : decode cJ9_init 1 = .ok (.aload_n 1, 1) := dk_43 (dk_at dksJ9_init_0 1 rfl rfl)
theorem dJ9_init_2 : decode cJ9_init 2 = .ok (.aload_n 2, 1) := dk_44 (dk_at dksJ9_init_0 2 rfl rfl)
theorem dJ9_init_3 : decode cJ9_init 3 = .ok (.iload_n 3, 1) := dk_29 (dk_at dksJ9_init_0 3 rfl rfl)
theorem dJ9_init_4 : decode cJ9_init 4 = .ok (.iload 4, 2) := dk_21 4 (dk_at dksJ9_init_0 4 rfl rfl)
theorem dJ9_init_6 : decode cJ9_init 6 = .ok (.invokespecial 16, 3) := dk_183 0 16 (dk_at dksJ9_init_0 6 rfl rfl)
theorem dJ9_init_9 : decode cJ9_init 9 = .ok (.return_, 1) := dk_177 (dk_at dksJ9_init_0 9 rfl rfl)
theorem q135 : (Jvm.Cond.initialized "java/lang/Exception") ∈ lw_all := lw_g (lw_at lw_m1 17 rfl) rfl
theorem q532 : (Jvm.Cond.declares ({ cls := "java/lang/Exception", name := "<init>", desc := "()V" } : Jvm.MethodName)) ∈ lw_tbl := lw_at lw_m2 174 rfl
theorem q533 : (Jvm.Cond.declares ({ cls := "java/lang/Exception", name := "<init>", desc := "(Ljava/lang/String;)V" } : Jvm.MethodName)) ∈ lw_tbl := lw_at lw_m2 175 rfl
theorem q570 : (Jvm.Cond.instanceMethod ({ cls := "java/lang/Exception", name := "<init>", desc := "(Ljava/lang/String;Ljava/lang/Throwable;ZZ)V" } : Jvm.MethodName)) ∈ lw_all := lw_g (lw_at lw_m2 212 rfl) rfl
theorem q571 : (Jvm.Cond.code ({ cls := "java/lang/Exception", name := "<init>", desc := "(Ljava/lang/String;Ljava/lang/Throwable;ZZ)V" } : Jvm.MethodName) prog_21_method_5_code (5 : Nat) (Option.none : Option Jvm.ClassFile.FieldType)) ∈ lw_all := lw_g (lw_at lw_m2 213 rfl) rfl
theorem q572 : (Jvm.Cond.methodLink "java/lang/Exception" (16 : Nat) ({ cls := "java/lang/Throwable", name := "<init>", desc := "(Ljava/lang/String;Ljava/lang/Throwable;ZZ)V" } : Jvm.MethodName)) ∈ lw_all := lw_g (lw_at lw_m2 214 rfl) rfl

/-! SupplyGrid$Fault -/
set_option maxRecDepth 100000
def RX7 : String := "SupplyGrid$Fault"
def TX7 : u_T := fun k => match k with
  | 0 => ("java/lang/Throwable", "cause", "Ljava/lang/Throwable;", false)
  | 1 => ("java/lang/Throwable", "stackTrace", "[Ljava/lang/StackTraceElement;", false)
  | 2 => ("java/lang/Throwable", "suppressedExceptions", "Ljava/util/List;", false)
  | 3 => ("java/lang/Throwable", "detailMessage", "Ljava/lang/String;", false)
  | 4 => ("java/lang/Throwable", "backtrace", "Ljava/lang/Object;", false)
  | 5 => ("java/lang/Throwable", "depth", "I", false)
  | 6 => ("SupplyGrid$Fault", "kind", "I", true)
  | _ => ("SupplyGrid$Fault", "place", "I", true)
def tyX7 : Nat → FieldType := fun k => match k with
  | 0 => .object "java/lang/Throwable"
  | 1 => .array (.object "java/lang/StackTraceElement")
  | 2 => .object "java/util/List"
  | 3 => .object "java/lang/String"
  | 4 => .object "java/lang/Object"
  | 5 => .int
  | 6 => .int
  | _ => .int
abbrev wsX70 : List Cond := u_ws RX7 TX7 8
theorem nmX7 : ∀ a, a < 8 → ∀ b, b < 8 → a ≠ b → (TX7 a).2.1 ≠ (TX7 b).2.1 := by decide +kernel
theorem tyX7_ok : ∀ k, k < 8 → parseFieldDescriptor (TX7 k).2.2.1 = some (tyX7 k) := by decide +kernel
abbrev cX7_init : ByteArray := prog_5_method_1_code
def yX7_init : MethodName := ⟨RX7, "<init>", "(II)V"⟩
def dkwX7_init_0 : List UInt8 := [42, 1, 1, 3, 3, 183, 0, 1, 42, 27, 181, 0, 7, 42, 28, 181, 0, 13, 177]
abbrev dktX7_init_0 : List UInt8 := dkwX7_init_0 ++ []
theorem dksX7_init_0 : cX7_init.data.toList.drop 0 = dktX7_init_0 := by decide +kernel
theorem dX7_init_0 : decode cX7_init 0 = .ok (.aload_n 0, 1) := dk_42 (dk_at dksX7_init_0 0 rfl rfl)
theorem dX7_init_1 : decode cX7_init 1 = .ok (.aconst_null, 1) := dk_1 (dk_at dksX7_init_0 1 rfl rfl)
theorem dX7_init_2 : decode cX7_init 2 = .ok (.aconst_null, 1) := dk_1 (dk_at dksX7_init_0 2 rfl rfl)
theorem dX7_init_3 : decode cX7_init 3 = .ok (.iconst 0, 1) := dk_3 (dk_at dksX7_init_0 3 rfl rfl)
theorem dX7_init_4 : decode cX7_init 4 = .ok (.iconst 0, 1) := dk_3 (dk_at dksX7_init_0 4 rfl rfl)
theorem dX7_init_5 : decode cX7_init 5 = .ok (.invokespecial 1, 3) := dk_183 0 1 (dk_at dksX7_init_0 5 rfl rfl)
theorem dX7_init_8 : decode cX7_init 8 = .ok (.aload_n 0, 1) := dk_42 (dk_at dksX7_init_0 8 rfl rfl)
theorem dX7_init_9 : decode cX7_init 9 = .ok (.iload_n 1, 1) := dk_27 (dk_at dksX7_init_0 9 rfl rfl)
theorem dX7_init_10 : decode cX7_init 10 = .ok (.putfield 7, 3) := dk_181 0 7 (dk_at dksX7_init_0 10 rfl rfl)
theorem dX7_init_13 : decode cX7_init 13 = .ok (.aload_n 0, 1) := dk_42 (dk_at dksX7_init_0 13 rfl rfl)
theorem dX7_init_14 : decode cX7_init 14 = .ok (.iload_n 2, 1) := dk_28 (dk_at dksX7_init_0 14 rfl rfl)
theorem dX7_init_15 : decode cX7_init 15 = .ok (.putfield 13, 3) := dk_181 0 13 (dk_at dksX7_init_0 15 rfl rfl)
theorem dX7_init_18 : decode cX7_init 18 = .ok (.return_, 1) := dk_177 (dk_at dksX7_init_0 18 rfl rfl)
theorem q136 : (Jvm.Cond.initialized "SupplyGrid$Fault") ∈ lw_all := lw_g (lw_at lw_m1 18 rfl) rfl
theorem q530 : (Jvm.Cond.instantiable "SupplyGrid$Fault" (8 : Nat)) ∈ lw_all := lw_g (lw_at lw_m2 172 rfl) rfl
theorem q531 : (Jvm.Cond.castable "SupplyGrid$Fault" "SupplyGrid$Fault") ∈ lw_tbl := lw_at lw_m2 173 rfl
theorem q536 : (Jvm.Cond.selects "SupplyGrid$Fault" ({ cls := "java/lang/Throwable", name := "fillInStackTrace", desc := "(I)Ljava/lang/Throwable;" } : Jvm.MethodName) ({ cls := "java/lang/Throwable", name := "fillInStackTrace", desc := "(I)Ljava/lang/Throwable;" } : Jvm.MethodName)) ∈ lw_all := lw_g (lw_at lw_m2 178 rfl) rfl
theorem q537 : (Jvm.Cond.selects "SupplyGrid$Fault" ({ cls := "java/lang/Throwable", name := "fillInStackTrace", desc := "()Ljava/lang/Throwable;" } : Jvm.MethodName) ({ cls := "java/lang/Throwable", name := "fillInStackTrace", desc := "()Ljava/lang/Throwable;" } : Jvm.MethodName)) ∈ lw_all := lw_g (lw_at lw_m2 179 rfl) rfl
theorem q538 : (Jvm.Cond.lays "SupplyGrid$Fault" "java/lang/Throwable" "cause" "Ljava/lang/Throwable;") ∈ lw_all := lw_g (lw_at lw_m2 180 rfl) rfl
theorem q540 : (Jvm.Cond.lays "SupplyGrid$Fault" "java/lang/Throwable" "stackTrace" "[Ljava/lang/StackTraceElement;") ∈ lw_all := lw_g (lw_at lw_m2 182 rfl) rfl
theorem q542 : (Jvm.Cond.lays "SupplyGrid$Fault" "java/lang/Throwable" "suppressedExceptions" "Ljava/util/List;") ∈ lw_all := lw_g (lw_at lw_m2 184 rfl) rfl
theorem q544 : (Jvm.Cond.lays "SupplyGrid$Fault" "java/lang/Throwable" "detailMessage" "Ljava/lang/String;") ∈ lw_all := lw_g (lw_at lw_m2 186 rfl) rfl
theorem q546 : (Jvm.Cond.lays "SupplyGrid$Fault" "java/lang/Throwable" "backtrace" "Ljava/lang/Object;") ∈ lw_all := lw_g (lw_at lw_m2 188 rfl) rfl
theorem q567 : (Jvm.Cond.instanceMethod ({ cls := "SupplyGrid$Fault", name := "<init>", desc := "(II)V" } : Jvm.MethodName)) ∈ lw_all := lw_g (lw_at lw_m2 209 rfl) rfl
theorem q568 : (Jvm.Cond.code ({ cls := "SupplyGrid$Fault", name := "<init>", desc := "(II)V" } : Jvm.MethodName) prog_5_method_1_code (3 : Nat) (Option.none : Option Jvm.ClassFile.FieldType)) ∈ lw_all := lw_g (lw_at lw_m2 210 rfl) rfl
theorem q569 : (Jvm.Cond.methodLink "SupplyGrid$Fault" (1 : Nat) ({ cls := "java/lang/Exception", name := "<init>", desc := "(Ljava/lang/String;Ljava/lang/Throwable;ZZ)V" } : Jvm.MethodName)) ∈ lw_all := lw_g (lw_at lw_m2 211 rfl) rfl
theorem q575 : (Jvm.Cond.fieldLink "SupplyGrid$Fault" (7 : Nat) "SupplyGrid$Fault" "kind" "I") ∈ lw_all := lw_g (lw_at lw_m2 217 rfl) rfl
theorem q577 : (Jvm.Cond.fieldLink "SupplyGrid$Fault" (13 : Nat) "SupplyGrid$Fault" "place" "I") ∈ lw_all := lw_g (lw_at lw_m2 219 rfl) rfl
theorem q584 : (Jvm.Cond.laysFinal "SupplyGrid$Fault" "SupplyGrid$Fault" "kind" "I") ∈ lw_all := lw_g (lw_at lw_m2 226 rfl) rfl
theorem q585 : (Jvm.Cond.soleField "SupplyGrid$Fault" "kind") ∈ lw_all := lw_g (lw_at lw_m2 227 rfl) rfl
theorem q586 : (Jvm.Cond.laysFinal "SupplyGrid$Fault" "SupplyGrid$Fault" "place" "I") ∈ lw_all := lw_g (lw_at lw_m2 228 rfl) rfl
theorem q587 : (Jvm.Cond.soleField "SupplyGrid$Fault" "place") ∈ lw_all := lw_g (lw_at lw_m2 229 rfl) rfl
theorem q592 : (Jvm.Cond.lays "SupplyGrid$Fault" "java/lang/Throwable" "depth" "I") ∈ lw_all := lw_g (lw_at lw_m2 234 rfl) rfl
theorem q595 : (Jvm.Cond.superclass "SupplyGrid$Fault" "java/lang/Exception") ∈ lw_all := lw_g (lw_at lw_m2 237 rfl) rfl
theorem q1209 : (Jvm.Cond.selects "SupplyGrid$Fault" ({ cls := "java/lang/Object", name := "getClass", desc := "()Ljava/lang/Class;" } : Jvm.MethodName) ({ cls := "java/lang/Object", name := "getClass", desc := "()Ljava/lang/Class;" } : Jvm.MethodName)) ∈ lw_all := lw_g (lw_at lw_m5 131 rfl) rfl
theorem q2106 : (Jvm.Cond.castable "SupplyGrid$Fault" "java/lang/Object") ∈ lw_tbl := lw_at lw_m9 68 rfl
theorem in_X7 : ∀ w ∈ wsX70, w ∈ lw_all := lw_in wsX70 [538, 540, 542, 544, 546, 592, 584, 586] (by decide +kernel) (by decide +kernel)

/-! java/lang/Integer -/
set_option maxRecDepth 100000
def RJ10 : String := "java/lang/Integer"
abbrev cJ10_numberOfTrailingZeros : ByteArray := prog_22_method_48_code
def yJ10_numberOfTrailingZeros : MethodName := ⟨RJ10, "numberOfTrailingZeros", "(I)I"⟩
def dkwJ10_numberOfTrailingZeros_3 : List UInt8 := [5, 124, 59, 27, 26, 4, 124, 96, 172]
abbrev dktJ10_numberOfTrailingZeros_3 : List UInt8 := dkwJ10_numberOfTrailingZeros_3 ++ []
def dkwJ10_numberOfTrailingZeros_2 : List UInt8 := [124, 59, 26, 16, 16, 164, 0, 10, 132, 1, 4, 26, 7, 124, 59, 26, 7, 164, 0, 10, 132, 1, 2, 26]
abbrev dktJ10_numberOfTrailingZeros_2 : List UInt8 := dkwJ10_numberOfTrailingZeros_2 ++ dktJ10_numberOfTrailingZeros_3
def dkwJ10_numberOfTrailingZeros_1 : List UInt8 := [164, 0, 11, 132, 1, 16, 26, 16, 16, 124, 59, 26, 17, 1, 0, 164, 0, 11, 132, 1, 8, 26, 16, 8]
abbrev dktJ10_numberOfTrailingZeros_1 : List UInt8 := dkwJ10_numberOfTrailingZeros_1 ++ dktJ10_numberOfTrailingZeros_2
def dkwJ10_numberOfTrailingZeros_0 : List UInt8 := [26, 2, 130, 26, 4, 100, 126, 59, 26, 157, 0, 8, 26, 16, 32, 126, 172, 4, 60, 26, 19, 1, 8]
abbrev dktJ10_numberOfTrailingZeros_0 : List UInt8 := dkwJ10_numberOfTrailingZeros_0 ++ dktJ10_numberOfTrailingZeros_1
theorem dksJ10_numberOfTrailingZeros_0 : cJ10_numberOfTrailingZeros.data.toList.drop 0 = dktJ10_numberOfTrailingZeros_0 := by decide +kernel
theorem dksJ10_numberOfTrailingZeros_1 : cJ10_numberOfTrailingZeros.data.toList.drop 23 = dktJ10_numberOfTrailingZeros_1 := dk_seg dksJ10_numberOfTrailingZeros_0 23 rfl rfl
theorem dksJ10_numberOfTrailingZeros_2 : cJ10_numberOfTrailingZeros.data.toList.drop 47 = dktJ10_numberOfTrailingZeros_2 := dk_seg dksJ10_numberOfTrailingZeros_1 24 rfl rfl
theorem dksJ10_numberOfTrailingZeros_3 : cJ10_numberOfTrailingZeros.data.toList.drop 71 = dktJ10_numberOfTrailingZeros_3 := dk_seg dksJ10_numberOfTrailingZeros_2 24 rfl rfl
theorem dJ10_numberOfTrailingZeros_0 : decode cJ10_numberOfTrailingZeros 0 = .ok (.iload_n 0, 1) := dk_26 (dk_at dksJ10_numberOfTrailingZeros_0 0 rfl rfl)
theorem dJ10_numberOfTrailingZeros_1 : decode cJ10_numberOfTrailingZeros 1 = .ok (.iconst (-1), 1) := dk_2 (dk_at dksJ10_numberOfTrailingZeros_0 1 rfl rfl)
theorem dJ10_numberOfTrailingZeros_2 : decode cJ10_numberOfTrailingZeros 2 = .ok (.ixor, 1) := dk_130 (dk_at dksJ10_numberOfTrailingZeros_0 2 rfl rfl)
theorem dJ10_numberOfTrailingZeros_3 : decode cJ10_numberOfTrailingZeros 3 = .ok (.iload_n 0, 1) := dk_26 (dk_at dksJ10_numberOfTrailingZeros_0 3 rfl rfl)
theorem dJ10_numberOfTrailingZeros_4 : decode cJ10_numberOfTrailingZeros 4 = .ok (.iconst 1, 1) := dk_4 (dk_at dksJ10_numberOfTrailingZeros_0 4 rfl rfl)
theorem dJ10_numberOfTrailingZeros_5 : decode cJ10_numberOfTrailingZeros 5 = .ok (.isub, 1) := dk_100 (dk_at dksJ10_numberOfTrailingZeros_0 5 rfl rfl)
theorem dJ10_numberOfTrailingZeros_6 : decode cJ10_numberOfTrailingZeros 6 = .ok (.iand, 1) := dk_126 (dk_at dksJ10_numberOfTrailingZeros_0 6 rfl rfl)
theorem dJ10_numberOfTrailingZeros_7 : decode cJ10_numberOfTrailingZeros 7 = .ok (.istore_n 0, 1) := dk_59 (dk_at dksJ10_numberOfTrailingZeros_0 7 rfl rfl)
theorem dJ10_numberOfTrailingZeros_8 : decode cJ10_numberOfTrailingZeros 8 = .ok (.iload_n 0, 1) := dk_26 (dk_at dksJ10_numberOfTrailingZeros_0 8 rfl rfl)
theorem dJ10_numberOfTrailingZeros_9 : decode cJ10_numberOfTrailingZeros 9 = .ok (.ifCond .gt 8, 3) := dk_157 0 8 (dk_at dksJ10_numberOfTrailingZeros_0 9 rfl rfl)
theorem dJ10_numberOfTrailingZeros_12 : decode cJ10_numberOfTrailingZeros 12 = .ok (.iload_n 0, 1) := dk_26 (dk_at dksJ10_numberOfTrailingZeros_0 12 rfl rfl)
theorem dJ10_numberOfTrailingZeros_13 : decode cJ10_numberOfTrailingZeros 13 = .ok (.bipush 32, 2) := dk_16 32 (dk_at dksJ10_numberOfTrailingZeros_0 13 rfl rfl)
theorem dJ10_numberOfTrailingZeros_15 : decode cJ10_numberOfTrailingZeros 15 = .ok (.iand, 1) := dk_126 (dk_at dksJ10_numberOfTrailingZeros_0 15 rfl rfl)
theorem dJ10_numberOfTrailingZeros_16 : decode cJ10_numberOfTrailingZeros 16 = .ok (.ireturn, 1) := dk_172 (dk_at dksJ10_numberOfTrailingZeros_0 16 rfl rfl)
theorem dJ10_numberOfTrailingZeros_17 : decode cJ10_numberOfTrailingZeros 17 = .ok (.iconst 1, 1) := dk_4 (dk_at dksJ10_numberOfTrailingZeros_0 17 rfl rfl)
theorem dJ10_numberOfTrailingZeros_18 : decode cJ10_numberOfTrailingZeros 18 = .ok (.istore_n 1, 1) := dk_60 (dk_at dksJ10_numberOfTrailingZeros_0 18 rfl rfl)
theorem dJ10_numberOfTrailingZeros_19 : decode cJ10_numberOfTrailingZeros 19 = .ok (.iload_n 0, 1) := dk_26 (dk_at dksJ10_numberOfTrailingZeros_0 19 rfl rfl)
theorem dJ10_numberOfTrailingZeros_20 : decode cJ10_numberOfTrailingZeros 20 = .ok (.ldc_w 264, 3) := dk_19 1 8 (dk_at dksJ10_numberOfTrailingZeros_0 20 rfl rfl)
theorem dJ10_numberOfTrailingZeros_23 : decode cJ10_numberOfTrailingZeros 23 = .ok (.if_icmp .le 11, 3) := dk_164 0 11 (dk_at dksJ10_numberOfTrailingZeros_1 0 rfl rfl)
theorem dJ10_numberOfTrailingZeros_26 : decode cJ10_numberOfTrailingZeros 26 = .ok (.iinc 1 16, 3) := dk_132 1 16 (dk_at dksJ10_numberOfTrailingZeros_1 3 rfl rfl)
theorem dJ10_numberOfTrailingZeros_29 : decode cJ10_numberOfTrailingZeros 29 = .ok (.iload_n 0, 1) := dk_26 (dk_at dksJ10_numberOfTrailingZeros_1 6 rfl rfl)
theorem dJ10_numberOfTrailingZeros_30 : decode cJ10_numberOfTrailingZeros 30 = .ok (.bipush 16, 2) := dk_16 16 (dk_at dksJ10_numberOfTrailingZeros_1 7 rfl rfl)
theorem dJ10_numberOfTrailingZeros_32 : decode cJ10_numberOfTrailingZeros 32 = .ok (.iushr, 1) := dk_124 (dk_at dksJ10_numberOfTrailingZeros_1 9 rfl rfl)
theorem dJ10_numberOfTrailingZeros_33 : decode cJ10_numberOfTrailingZeros 33 = .ok (.istore_n 0, 1) := dk_59 (dk_at dksJ10_numberOfTrailingZeros_1 10 rfl rfl)
theorem dJ10_numberOfTrailingZeros_34 : decode cJ10_numberOfTrailingZeros 34 = .ok (.iload_n 0, 1) := dk_26 (dk_at dksJ10_numberOfTrailingZeros_1 11 rfl rfl)
theorem dJ10_numberOfTrailingZeros_35 : decode cJ10_numberOfTrailingZeros 35 = .ok (.sipush 256, 3) := dk_17 1 0 (dk_at dksJ10_numberOfTrailingZeros_1 12 rfl rfl)
theorem dJ10_numberOfTrailingZeros_38 : decode cJ10_numberOfTrailingZeros 38 = .ok (.if_icmp .le 11, 3) := dk_164 0 11 (dk_at dksJ10_numberOfTrailingZeros_1 15 rfl rfl)
theorem dJ10_numberOfTrailingZeros_41 : decode cJ10_numberOfTrailingZeros 41 = .ok (.iinc 1 8, 3) := dk_132 1 8 (dk_at dksJ10_numberOfTrailingZeros_1 18 rfl rfl)
theorem dJ10_numberOfTrailingZeros_44 : decode cJ10_numberOfTrailingZeros 44 = .ok (.iload_n 0, 1) := dk_26 (dk_at dksJ10_numberOfTrailingZeros_1 21 rfl rfl)
theorem dJ10_numberOfTrailingZeros_45 : decode cJ10_numberOfTrailingZeros 45 = .ok (.bipush 8, 2) := dk_16 8 (dk_at dksJ10_numberOfTrailingZeros_1 22 rfl rfl)
theorem dJ10_numberOfTrailingZeros_47 : decode cJ10_numberOfTrailingZeros 47 = .ok (.iushr, 1) := dk_124 (dk_at dksJ10_numberOfTrailingZeros_2 0 rfl rfl)
theorem dJ10_numberOfTrailingZeros_48 : decode cJ10_numberOfTrailingZeros 48 = .ok (.istore_n 0, 1) := dk_59 (dk_at dksJ10_numberOfTrailingZeros_2 1 rfl rfl)
theorem dJ10_numberOfTrailingZeros_49 : decode cJ10_numberOfTrailingZeros 49 = .ok (.iload_n 0, 1) := dk_26 (dk_at dksJ10_numberOfTrailingZeros_2 2 rfl rfl)
theorem dJ10_numberOfTrailingZeros_50 : decode cJ10_numberOfTrailingZeros 50 = .ok (.bipush 16, 2) := dk_16 16 (dk_at dksJ10_numberOfTrailingZeros_2 3 rfl rfl)
theorem dJ10_numberOfTrailingZeros_52 : decode cJ10_numberOfTrailingZeros 52 = .ok (.if_icmp .le 10, 3) := dk_164 0 10 (dk_at dksJ10_numberOfTrailingZeros_2 5 rfl rfl)
theorem dJ10_numberOfTrailingZeros_55 : decode cJ10_numberOfTrailingZeros 55 = .ok (.iinc 1 4, 3) := dk_132 1 4 (dk_at dksJ10_numberOfTrailingZeros_2 8 rfl rfl)
theorem dJ10_numberOfTrailingZeros_58 : decode cJ10_numberOfTrailingZeros 58 = .ok (.iload_n 0, 1) := dk_26 (dk_at dksJ10_numberOfTrailingZeros_2 11 rfl rfl)
theorem dJ10_numberOfTrailingZeros_59 : decode cJ10_numberOfTrailingZeros 59 = .ok (.iconst 4, 1) := dk_7 (dk_at dksJ10_numberOfTrailingZeros_2 12 rfl rfl)
theorem dJ10_numberOfTrailingZeros_60 : decode cJ10_numberOfTrailingZeros 60 = .ok (.iushr, 1) := dk_124 (dk_at dksJ10_numberOfTrailingZeros_2 13 rfl rfl)
theorem dJ10_numberOfTrailingZeros_61 : decode cJ10_numberOfTrailingZeros 61 = .ok (.istore_n 0, 1) := dk_59 (dk_at dksJ10_numberOfTrailingZeros_2 14 rfl rfl)
theorem dJ10_numberOfTrailingZeros_62 : decode cJ10_numberOfTrailingZeros 62 = .ok (.iload_n 0, 1) := dk_26 (dk_at dksJ10_numberOfTrailingZeros_2 15 rfl rfl)
theorem dJ10_numberOfTrailingZeros_63 : decode cJ10_numberOfTrailingZeros 63 = .ok (.iconst 4, 1) := dk_7 (dk_at dksJ10_numberOfTrailingZeros_2 16 rfl rfl)
theorem dJ10_numberOfTrailingZeros_64 : decode cJ10_numberOfTrailingZeros 64 = .ok (.if_icmp .le 10, 3) := dk_164 0 10 (dk_at dksJ10_numberOfTrailingZeros_2 17 rfl rfl)
theorem dJ10_numberOfTrailingZeros_67 : decode cJ10_numberOfTrailingZeros 67 = .ok (.iinc 1 2, 3) := dk_132 1 2 (dk_at dksJ10_numberOfTrailingZeros_2 20 rfl rfl)
theorem dJ10_numberOfTrailingZeros_70 : decode cJ10_numberOfTrailingZeros 70 = .ok (.iload_n 0, 1) := dk_26 (dk_at dksJ10_numberOfTrailingZeros_2 23 rfl rfl)
theorem dJ10_numberOfTrailingZeros_71 : decode cJ10_numberOfTrailingZeros 71 = .ok (.iconst 2, 1) := dk_5 (dk_at dksJ10_numberOfTrailingZeros_3 0 rfl rfl)
theorem dJ10_numberOfTrailingZeros_72 : decode cJ10_numberOfTrailingZeros 72 = .ok (.iushr, 1) := dk_124 (dk_at dksJ10_numberOfTrailingZeros_3 1 rfl rfl)
theorem dJ10_numberOfTrailingZeros_73 : decode cJ10_numberOfTrailingZeros 73 = .ok (.istore_n 0, 1) := dk_59 (dk_at dksJ10_numberOfTrailingZeros_3 2 rfl rfl)
theorem dJ10_numberOfTrailingZeros_74 : decode cJ10_numberOfTrailingZeros 74 = .ok (.iload_n 1, 1) := dk_27 (dk_at dksJ10_numberOfTrailingZeros_3 3 rfl rfl)
theorem dJ10_numberOfTrailingZeros_75 : decode cJ10_numberOfTrailingZeros 75 = .ok (.iload_n 0, 1) := dk_26 (dk_at dksJ10_numberOfTrailingZeros_3 4 rfl rfl)
theorem dJ10_numberOfTrailingZeros_76 : decode cJ10_numberOfTrailingZeros 76 = .ok (.iconst 1, 1) := dk_4 (dk_at dksJ10_numberOfTrailingZeros_3 5 rfl rfl)
theorem dJ10_numberOfTrailingZeros_77 : decode cJ10_numberOfTrailingZeros 77 = .ok (.iushr, 1) := dk_124 (dk_at dksJ10_numberOfTrailingZeros_3 6 rfl rfl)
theorem dJ10_numberOfTrailingZeros_78 : decode cJ10_numberOfTrailingZeros 78 = .ok (.iadd, 1) := dk_96 (dk_at dksJ10_numberOfTrailingZeros_3 7 rfl rfl)
theorem dJ10_numberOfTrailingZeros_79 : decode cJ10_numberOfTrailingZeros 79 = .ok (.ireturn, 1) := dk_172 (dk_at dksJ10_numberOfTrailingZeros_3 8 rfl rfl)
abbrev cJ10_bitCount : ByteArray := prog_22_method_49_code
def yJ10_bitCount : MethodName := ⟨RJ10, "bitCount", "(I)I"⟩
def dkwJ10_bitCount_2 : List UInt8 := [26, 16, 63, 126, 172]
abbrev dktJ10_bitCount_2 : List UInt8 := dkwJ10_bitCount_2 ++ []
def dkwJ10_bitCount_1 : List UInt8 := [26, 26, 7, 124, 96, 19, 1, 11, 126, 59, 26, 26, 16, 8, 124, 96, 59, 26, 26, 16, 16, 124, 96, 59]
abbrev dktJ10_bitCount_1 : List UInt8 := dkwJ10_bitCount_1 ++ dktJ10_bitCount_2
def dkwJ10_bitCount_0 : List UInt8 := [26, 26, 4, 124, 19, 1, 9, 126, 100, 59, 26, 19, 1, 10, 126, 26, 5, 124, 19, 1, 10, 126, 96, 59]
abbrev dktJ10_bitCount_0 : List UInt8 := dkwJ10_bitCount_0 ++ dktJ10_bitCount_1
theorem dksJ10_bitCount_0 : cJ10_bitCount.data.toList.drop 0 = dktJ10_bitCount_0 := by decide +kernel
theorem dksJ10_bitCount_1 : cJ10_bitCount.data.toList.drop 24 = dktJ10_bitCount_1 := dk_seg dksJ10_bitCount_0 24 rfl rfl
theorem dksJ10_bitCount_2 : cJ10_bitCount.data.toList.drop 48 = dktJ10_bitCount_2 := dk_seg dksJ10_bitCount_1 24 rfl rfl
theorem dJ10_bitCount_0 : decode cJ10_bitCount 0 = .ok (.iload_n 0, 1) := dk_26 (dk_at dksJ10_bitCount_0 0 rfl rfl)
theorem dJ10_bitCount_1 : decode cJ10_bitCount 1 = .ok (.iload_n 0, 1) := dk_26 (dk_at dksJ10_bitCount_0 1 rfl rfl)
theorem dJ10_bitCount_2 : decode cJ10_bitCount 2 = .ok (.iconst 1, 1) := dk_4 (dk_at dksJ10_bitCount_0 2 rfl rfl)
theorem dJ10_bitCount_3 : decode cJ10_bitCount 3 = .ok (.iushr, 1) := dk_124 (dk_at dksJ10_bitCount_0 3 rfl rfl)
theorem dJ10_bitCount_4 : decode cJ10_bitCount 4 = .ok (.ldc_w 265, 3) := dk_19 1 9 (dk_at dksJ10_bitCount_0 4 rfl rfl)
theorem dJ10_bitCount_7 : decode cJ10_bitCount 7 = .ok (.iand, 1) := dk_126 (dk_at dksJ10_bitCount_0 7 rfl rfl)
theorem dJ10_bitCount_8 : decode cJ10_bitCount 8 = .ok (.isub, 1) := dk_100 (dk_at dksJ10_bitCount_0 8 rfl rfl)
theorem dJ10_bitCount_9 : decode cJ10_bitCount 9 = .ok (.istore_n 0, 1) := dk_59 (dk_at dksJ10_bitCount_0 9 rfl rfl)
theorem dJ10_bitCount_10 : decode cJ10_bitCount 10 = .ok (.iload_n 0, 1) := dk_26 (dk_at dksJ10_bitCount_0 10 rfl rfl)
theorem dJ10_bitCount_11 : decode cJ10_bitCount 11 = .ok (.ldc_w 266, 3) := dk_19 1 10 (dk_at dksJ10_bitCount_0 11 rfl rfl)
theorem dJ10_bitCount_14 : decode cJ10_bitCount 14 = .ok (.iand, 1) := dk_126 (dk_at dksJ10_bitCount_0 14 rfl rfl)
theorem dJ10_bitCount_15 : decode cJ10_bitCount 15 = .ok (.iload_n 0, 1) := dk_26 (dk_at dksJ10_bitCount_0 15 rfl rfl)
theorem dJ10_bitCount_16 : decode cJ10_bitCount 16 = .ok (.iconst 2, 1) := dk_5 (dk_at dksJ10_bitCount_0 16 rfl rfl)
theorem dJ10_bitCount_17 : decode cJ10_bitCount 17 = .ok (.iushr, 1) := dk_124 (dk_at dksJ10_bitCount_0 17 rfl rfl)
theorem dJ10_bitCount_18 : decode cJ10_bitCount 18 = .ok (.ldc_w 266, 3) := dk_19 1 10 (dk_at dksJ10_bitCount_0 18 rfl rfl)
theorem dJ10_bitCount_21 : decode cJ10_bitCount 21 = .ok (.iand, 1) := dk_126 (dk_at dksJ10_bitCount_0 21 rfl rfl)
theorem dJ10_bitCount_22 : decode cJ10_bitCount 22 = .ok (.iadd, 1) := dk_96 (dk_at dksJ10_bitCount_0 22 rfl rfl)
theorem dJ10_bitCount_23 : decode cJ10_bitCount 23 = .ok (.istore_n 0, 1) := dk_59 (dk_at dksJ10_bitCount_0 23 rfl rfl)
theorem dJ10_bitCount_24 : decode cJ10_bitCount 24 = .ok (.iload_n 0, 1) := dk_26 (dk_at dksJ10_bitCount_1 0 rfl rfl)
theorem dJ10_bitCount_25 : decode cJ10_bitCount 25 = .ok (.iload_n 0, 1) := dk_26 (dk_at dksJ10_bitCount_1 1 rfl rfl)
theorem dJ10_bitCount_26 : decode cJ10_bitCount 26 = .ok (.iconst 4, 1) := dk_7 (dk_at dksJ10_bitCount_1 2 rfl rfl)
theorem dJ10_bitCount_27 : decode cJ10_bitCount 27 = .ok (.iushr, 1) := dk_124 (dk_at dksJ10_bitCount_1 3 rfl rfl)
theorem dJ10_bitCount_28 : decode cJ10_bitCount 28 = .ok (.iadd, 1) := dk_96 (dk_at dksJ10_bitCount_1 4 rfl rfl)
theorem dJ10_bitCount_29 : decode cJ10_bitCount 29 = .ok (.ldc_w 267, 3) := dk_19 1 11 (dk_at dksJ10_bitCount_1 5 rfl rfl)
theorem dJ10_bitCount_32 : decode cJ10_bitCount 32 = .ok (.iand, 1) := dk_126 (dk_at dksJ10_bitCount_1 8 rfl rfl)
theorem dJ10_bitCount_33 : decode cJ10_bitCount 33 = .ok (.istore_n 0, 1) := dk_59 (dk_at dksJ10_bitCount_1 9 rfl rfl)
theorem dJ10_bitCount_34 : decode cJ10_bitCount 34 = .ok (.iload_n 0, 1) := dk_26 (dk_at dksJ10_bitCount_1 10 rfl rfl)
theorem dJ10_bitCount_35 : decode cJ10_bitCount 35 = .ok (.iload_n 0, 1) := dk_26 (dk_at dksJ10_bitCount_1 11 rfl rfl)
theorem dJ10_bitCount_36 : decode cJ10_bitCount 36 = .ok (.bipush 8, 2) := dk_16 8 (dk_at dksJ10_bitCount_1 12 rfl rfl)
theorem dJ10_bitCount_38 : decode cJ10_bitCount 38 = .ok (.iushr, 1) := dk_124 (dk_at dksJ10_bitCount_1 14 rfl rfl)
theorem dJ10_bitCount_39 : decode cJ10_bitCount 39 = .ok (.iadd, 1) := dk_96 (dk_at dksJ10_bitCount_1 15 rfl rfl)
theorem dJ10_bitCount_40 : decode cJ10_bitCount 40 = .ok (.istore_n 0, 1) := dk_59 (dk_at dksJ10_bitCount_1 16 rfl rfl)
theorem dJ10_bitCount_41 : decode cJ10_bitCount 41 = .ok (.iload_n 0, 1) := dk_26 (dk_at dksJ10_bitCount_1 17 rfl rfl)
theorem dJ10_bitCount_42 : decode cJ10_bitCount 42 = .ok (.iload_n 0, 1) := dk_26 (dk_at dksJ10_bitCount_1 18 rfl rfl)
theorem dJ10_bitCount_43 : decode cJ10_bitCount 43 = .ok (.bipush 16, 2) := dk_16 16 (dk_at dksJ10_bitCount_1 19 rfl rfl)
theorem dJ10_bitCount_45 : decode cJ10_bitCount 45 = .ok (.iushr, 1) := dk_124 (dk_at dksJ10_bitCount_1 21 rfl rfl)
theorem dJ10_bitCount_46 : decode cJ10_bitCount 46 = .ok (.iadd, 1) := dk_96 (dk_at dksJ10_bitCount_1 22 rfl rfl)
theorem dJ10_bitCount_47 : decode cJ10_bitCount 47 = .ok (.istore_n 0, 1) := dk_59 (dk_at dksJ10_bitCount_1 23 rfl rfl)
theorem dJ10_bitCount_48 : decode cJ10_bitCount 48 = .ok (.iload_n 0, 1) := dk_26 (dk_at dksJ10_bitCount_2 0 rfl rfl)
theorem dJ10_bitCount_49 : decode cJ10_bitCount 49 = .ok (.bipush 63, 2) := dk_16 63 (dk_at dksJ10_bitCount_2 1 rfl rfl)
theorem dJ10_bitCount_51 : decode cJ10_bitCount 51 = .ok (.iand, 1) := dk_126 (dk_at dksJ10_bitCount_2 3 rfl rfl)
theorem dJ10_bitCount_52 : decode cJ10_bitCount 52 = .ok (.ireturn, 1) := dk_172 (dk_at dksJ10_bitCount_2 4 rfl rfl)
theorem q140 : (Jvm.Cond.initialized "java/lang/Integer") ∈ lw_all := lw_g (lw_at lw_m1 22 rfl) rfl
theorem q951 : (Jvm.Cond.static ({ cls := "java/lang/Integer", name := "numberOfTrailingZeros", desc := "(I)I" } : Jvm.MethodName)) ∈ lw_all := lw_g (lw_at lw_m4 113 rfl) rfl
theorem q952 : (Jvm.Cond.code ({ cls := "java/lang/Integer", name := "numberOfTrailingZeros", desc := "(I)I" } : Jvm.MethodName) prog_22_method_48_code (2 : Nat) (Option.some Jvm.ClassFile.FieldType.int)) ∈ lw_all := lw_g (lw_at lw_m4 114 rfl) rfl
theorem q953 : (Jvm.Cond.constant "java/lang/Integer" (264 : Nat) (65536 : Int32)) ∈ lw_all := lw_g (lw_at lw_m4 115 rfl) rfl
theorem q974 : (Jvm.Cond.static ({ cls := "java/lang/Integer", name := "bitCount", desc := "(I)I" } : Jvm.MethodName)) ∈ lw_all := lw_g (lw_at lw_m4 136 rfl) rfl
theorem q975 : (Jvm.Cond.code ({ cls := "java/lang/Integer", name := "bitCount", desc := "(I)I" } : Jvm.MethodName) prog_22_method_49_code (1 : Nat) (Option.some Jvm.ClassFile.FieldType.int)) ∈ lw_all := lw_g (lw_at lw_m4 137 rfl) rfl
theorem q976 : (Jvm.Cond.constant "java/lang/Integer" (265 : Nat) (1431655765 : Int32)) ∈ lw_all := lw_g (lw_at lw_m4 138 rfl) rfl
theorem q977 : (Jvm.Cond.constant "java/lang/Integer" (266 : Nat) (858993459 : Int32)) ∈ lw_all := lw_g (lw_at lw_m4 139 rfl) rfl
theorem q978 : (Jvm.Cond.constant "java/lang/Integer" (267 : Nat) (252645135 : Int32)) ∈ lw_all := lw_g (lw_at lw_m4 140 rfl) rfl

/-! SupplyGrid$Laid -/
set_option maxRecDepth 100000
def RX8 : String := "SupplyGrid$Laid"
def TX8 : u_T := fun k => match k with
  | 0 => ("SupplyGrid$Laid", "strap", "I", true)
  | _ => ("SupplyGrid$Laid", "was", "I", true)
def tyX8 : Nat → FieldType := fun k => match k with
  | 0 => .int
  | _ => .int
abbrev wsX80 : List Cond := u_ws RX8 TX8 2
theorem nmX8 : ∀ a, a < 2 → ∀ b, b < 2 → a ≠ b → (TX8 a).2.1 ≠ (TX8 b).2.1 := by decide +kernel
theorem tyX8_ok : ∀ k, k < 2 → parseFieldDescriptor (TX8 k).2.2.1 = some (tyX8 k) := by decide +kernel
abbrev cX8_init : ByteArray := prog_8_method_1_code
def yX8_init : MethodName := ⟨RX8, "<init>", "(II)V"⟩
def dkwX8_init_0 : List UInt8 := [42, 183, 0, 1, 42, 27, 181, 0, 7, 42, 28, 181, 0, 13, 177]
abbrev dktX8_init_0 : List UInt8 := dkwX8_init_0 ++ []
theorem dksX8_init_0 : cX8_init.data.toList.drop 0 = dktX8_init_0 := by decide +kernel
theorem dX8_init_0 : decode cX8_init 0 = .ok (.aload_n 0, 1) := dk_42 (dk_at dksX8_init_0 0 rfl rfl)
theorem dX8_init_1 : decode cX8_init 1 = .ok (.invokespecial 1, 3) := dk_183 0 1 (dk_at dksX8_init_0 1 rfl rfl)
theorem dX8_init_4 : decode cX8_init 4 = .ok (.aload_n 0, 1) := dk_42 (dk_at dksX8_init_0 4 rfl rfl)
theorem dX8_init_5 : decode cX8_init 5 = .ok (.iload_n 1, 1) := dk_27 (dk_at dksX8_init_0 5 rfl rfl)
theorem dX8_init_6 : decode cX8_init 6 = .ok (.putfield 7, 3) := dk_181 0 7 (dk_at dksX8_init_0 6 rfl rfl)
theorem dX8_init_9 : decode cX8_init 9 = .ok (.aload_n 0, 1) := dk_42 (dk_at dksX8_init_0 9 rfl rfl)
theorem dX8_init_10 : decode cX8_init 10 = .ok (.iload_n 2, 1) := dk_28 (dk_at dksX8_init_0 10 rfl rfl)
theorem dX8_init_11 : decode cX8_init 11 = .ok (.putfield 13, 3) := dk_181 0 13 (dk_at dksX8_init_0 11 rfl rfl)
theorem dX8_init_14 : decode cX8_init 14 = .ok (.return_, 1) := dk_177 (dk_at dksX8_init_0 14 rfl rfl)
abbrev cX8_back : ByteArray := prog_8_method_2_code
def yX8_back : MethodName := ⟨RX8, "back", "(LSupplyGrid$Told;)V"⟩
def dkwX8_back_0 : List UInt8 := [43, 180, 0, 16, 42, 180, 0, 7, 42, 180, 0, 13, 79, 177]
abbrev dktX8_back_0 : List UInt8 := dkwX8_back_0 ++ []
theorem dksX8_back_0 : cX8_back.data.toList.drop 0 = dktX8_back_0 := by decide +kernel
theorem dX8_back_0 : decode cX8_back 0 = .ok (.aload_n 1, 1) := dk_43 (dk_at dksX8_back_0 0 rfl rfl)
theorem dX8_back_1 : decode cX8_back 1 = .ok (.getfield 16, 3) := dk_180 0 16 (dk_at dksX8_back_0 1 rfl rfl)
theorem dX8_back_4 : decode cX8_back 4 = .ok (.aload_n 0, 1) := dk_42 (dk_at dksX8_back_0 4 rfl rfl)
theorem dX8_back_5 : decode cX8_back 5 = .ok (.getfield 7, 3) := dk_180 0 7 (dk_at dksX8_back_0 5 rfl rfl)
theorem dX8_back_8 : decode cX8_back 8 = .ok (.aload_n 0, 1) := dk_42 (dk_at dksX8_back_0 8 rfl rfl)
theorem dX8_back_9 : decode cX8_back 9 = .ok (.getfield 13, 3) := dk_180 0 13 (dk_at dksX8_back_0 9 rfl rfl)
theorem dX8_back_12 : decode cX8_back 12 = .ok (.iastore, 1) := dk_79 (dk_at dksX8_back_0 12 rfl rfl)
theorem dX8_back_13 : decode cX8_back 13 = .ok (.return_, 1) := dk_177 (dk_at dksX8_back_0 13 rfl rfl)
theorem q141 : (Jvm.Cond.initialized "SupplyGrid$Laid") ∈ lw_all := lw_g (lw_at lw_m1 23 rfl) rfl
theorem q192 : (Jvm.Cond.fieldLinkNest "SupplyGrid$Laid" (16 : Nat) "SupplyGrid$Told" "width" "[I" "SupplyGrid") ∈ lw_tbl := lw_at lw_m1 74 rfl
theorem q1161 : (Jvm.Cond.instantiable "SupplyGrid$Laid" (2 : Nat)) ∈ lw_all := lw_g (lw_at lw_m5 83 rfl) rfl
theorem q1163 : (Jvm.Cond.instanceMethod ({ cls := "SupplyGrid$Laid", name := "<init>", desc := "(II)V" } : Jvm.MethodName)) ∈ lw_all := lw_g (lw_at lw_m5 85 rfl) rfl
theorem q1164 : (Jvm.Cond.code ({ cls := "SupplyGrid$Laid", name := "<init>", desc := "(II)V" } : Jvm.MethodName) prog_8_method_1_code (3 : Nat) (Option.none : Option Jvm.ClassFile.FieldType)) ∈ lw_all := lw_g (lw_at lw_m5 86 rfl) rfl
theorem q1165 : (Jvm.Cond.methodLink "SupplyGrid$Laid" (1 : Nat) ({ cls := "java/lang/Object", name := "<init>", desc := "()V" } : Jvm.MethodName)) ∈ lw_all := lw_g (lw_at lw_m5 87 rfl) rfl
theorem q1166 : (Jvm.Cond.fieldLink "SupplyGrid$Laid" (7 : Nat) "SupplyGrid$Laid" "strap" "I") ∈ lw_all := lw_g (lw_at lw_m5 88 rfl) rfl
theorem q1167 : (Jvm.Cond.fieldLink "SupplyGrid$Laid" (13 : Nat) "SupplyGrid$Laid" "was" "I") ∈ lw_all := lw_g (lw_at lw_m5 89 rfl) rfl
theorem q1169 : (Jvm.Cond.laysFinal "SupplyGrid$Laid" "SupplyGrid$Laid" "strap" "I") ∈ lw_all := lw_g (lw_at lw_m5 91 rfl) rfl
theorem q1170 : (Jvm.Cond.soleField "SupplyGrid$Laid" "strap") ∈ lw_all := lw_g (lw_at lw_m5 92 rfl) rfl
theorem q1171 : (Jvm.Cond.laysFinal "SupplyGrid$Laid" "SupplyGrid$Laid" "was" "I") ∈ lw_all := lw_g (lw_at lw_m5 93 rfl) rfl
theorem q1172 : (Jvm.Cond.soleField "SupplyGrid$Laid" "was") ∈ lw_all := lw_g (lw_at lw_m5 94 rfl) rfl
theorem q1173 : (Jvm.Cond.superclass "SupplyGrid$Laid" "java/lang/Object") ∈ lw_all := lw_g (lw_at lw_m5 95 rfl) rfl
theorem q1211 : (Jvm.Cond.selects "SupplyGrid$Laid" ({ cls := "java/lang/Object", name := "getClass", desc := "()Ljava/lang/Class;" } : Jvm.MethodName) ({ cls := "java/lang/Object", name := "getClass", desc := "()Ljava/lang/Class;" } : Jvm.MethodName)) ∈ lw_all := lw_g (lw_at lw_m5 133 rfl) rfl
theorem q1370 : (Jvm.Cond.castable "SupplyGrid$Laid" "SupplyGrid$Change") ∈ lw_tbl := lw_at lw_m6 52 rfl
theorem q1371 : (Jvm.Cond.selects "SupplyGrid$Laid" ({ cls := "SupplyGrid$Change", name := "back", desc := "(LSupplyGrid$Told;)V" } : Jvm.MethodName) ({ cls := "SupplyGrid$Laid", name := "back", desc := "(LSupplyGrid$Told;)V" } : Jvm.MethodName)) ∈ lw_all := lw_g (lw_at lw_m6 53 rfl) rfl
theorem q1372 : (Jvm.Cond.unhidden "SupplyGrid$Laid" "back" "(LSupplyGrid$Told;)V") ∈ lw_tbl := lw_at lw_m6 54 rfl
theorem q1373 : (Jvm.Cond.instanceMethod ({ cls := "SupplyGrid$Laid", name := "back", desc := "(LSupplyGrid$Told;)V" } : Jvm.MethodName)) ∈ lw_all := lw_g (lw_at lw_m6 55 rfl) rfl
theorem q1374 : (Jvm.Cond.publicMethod ({ cls := "SupplyGrid$Laid", name := "back", desc := "(LSupplyGrid$Told;)V" } : Jvm.MethodName)) ∈ lw_tbl := lw_at lw_m6 56 rfl
theorem q1375 : (Jvm.Cond.code ({ cls := "SupplyGrid$Laid", name := "back", desc := "(LSupplyGrid$Told;)V" } : Jvm.MethodName) prog_8_method_2_code (2 : Nat) (Option.none : Option Jvm.ClassFile.FieldType)) ∈ lw_all := lw_g (lw_at lw_m6 57 rfl) rfl
theorem q2109 : (Jvm.Cond.castable "SupplyGrid$Laid" "java/lang/Object") ∈ lw_tbl := lw_at lw_m9 71 rfl
theorem in_X8 : ∀ w ∈ wsX80, w ∈ lw_all := lw_in wsX80 [1169, 1171] (by decide +kernel) (by decide +kernel)

/-! jdk/internal/util/ArraysSupport -/
set_option maxRecDepth 100000
def RJ11 : String := "jdk/internal/util/ArraysSupport"
abbrev cJ11_newLength : ByteArray := prog_39_method_27_code
def yJ11_newLength : MethodName := ⟨RJ11, "newLength", "(III)I"⟩
def dkwJ11_newLength_1 : List UInt8 := [184, 0, 201, 172]
abbrev dktJ11_newLength_1 : List UInt8 := dkwJ11_newLength_1 ++ []
def dkwJ11_newLength_0 : List UInt8 := [26, 27, 28, 184, 0, 194, 96, 62, 3, 29, 162, 0, 11, 29, 18, 200, 163, 0, 5, 29, 172, 26, 27]
abbrev dktJ11_newLength_0 : List UInt8 := dkwJ11_newLength_0 ++ dktJ11_newLength_1
theorem dksJ11_newLength_0 : cJ11_newLength.data.toList.drop 0 = dktJ11_newLength_0 := by decide +kernel
theorem dksJ11_newLength_1 : cJ11_newLength.data.toList.drop 23 = dktJ11_newLength_1 := dk_seg dksJ11_newLength_0 23 rfl rfl
theorem dJ11_newLength_0 : decode cJ11_newLength 0 = .ok (.iload_n 0, 1) := dk_26 (dk_at dksJ11_newLength_0 0 rfl rfl)
theorem dJ11_newLength_1 : decode cJ11_newLength 1 = .ok (.iload_n 1, 1) := dk_27 (dk_at dksJ11_newLength_0 1 rfl rfl)
theorem dJ11_newLength_2 : decode cJ11_newLength 2 = .ok (.iload_n 2, 1) := dk_28 (dk_at dksJ11_newLength_0 2 rfl rfl)
theorem dJ11_newLength_3 : decode cJ11_newLength 3 = .ok (.invokestatic 194, 3) := dk_184 0 194 (dk_at dksJ11_newLength_0 3 rfl rfl)
theorem dJ11_newLength_6 : decode cJ11_newLength 6 = .ok (.iadd, 1) := dk_96 (dk_at dksJ11_newLength_0 6 rfl rfl)
theorem dJ11_newLength_7 : decode cJ11_newLength 7 = .ok (.istore_n 3, 1) := dk_62 (dk_at dksJ11_newLength_0 7 rfl rfl)
theorem dJ11_newLength_8 : decode cJ11_newLength 8 = .ok (.iconst 0, 1) := dk_3 (dk_at dksJ11_newLength_0 8 rfl rfl)
theorem dJ11_newLength_9 : decode cJ11_newLength 9 = .ok (.iload_n 3, 1) := dk_29 (dk_at dksJ11_newLength_0 9 rfl rfl)
theorem dJ11_newLength_10 : decode cJ11_newLength 10 = .ok (.if_icmp .ge 11, 3) := dk_162 0 11 (dk_at dksJ11_newLength_0 10 rfl rfl)
theorem dJ11_newLength_13 : decode cJ11_newLength 13 = .ok (.iload_n 3, 1) := dk_29 (dk_at dksJ11_newLength_0 13 rfl rfl)
theorem dJ11_newLength_14 : decode cJ11_newLength 14 = .ok (.ldc 200, 2) := dk_18 200 (dk_at dksJ11_newLength_0 14 rfl rfl)
theorem dJ11_newLength_16 : decode cJ11_newLength 16 = .ok (.if_icmp .gt 5, 3) := dk_163 0 5 (dk_at dksJ11_newLength_0 16 rfl rfl)
theorem dJ11_newLength_19 : decode cJ11_newLength 19 = .ok (.iload_n 3, 1) := dk_29 (dk_at dksJ11_newLength_0 19 rfl rfl)
theorem dJ11_newLength_20 : decode cJ11_newLength 20 = .ok (.ireturn, 1) := dk_172 (dk_at dksJ11_newLength_0 20 rfl rfl)
theorem dJ11_newLength_21 : decode cJ11_newLength 21 = .ok (.iload_n 0, 1) := dk_26 (dk_at dksJ11_newLength_0 21 rfl rfl)
theorem dJ11_newLength_22 : decode cJ11_newLength 22 = .ok (.iload_n 1, 1) := dk_27 (dk_at dksJ11_newLength_0 22 rfl rfl)
theorem dJ11_newLength_23 : decode cJ11_newLength 23 = .ok (.invokestatic 201, 3) := dk_184 0 201 (dk_at dksJ11_newLength_1 0 rfl rfl)
theorem dJ11_newLength_26 : decode cJ11_newLength 26 = .ok (.ireturn, 1) := dk_172 (dk_at dksJ11_newLength_1 3 rfl rfl)
abbrev cJ11_hugeLength : ByteArray := prog_39_method_28_code
def yJ11_hugeLength : MethodName := ⟨RJ11, "hugeLength", "(II)I"⟩
def dkwJ11_hugeLength_2 : List UInt8 := [191, 28, 18, 200, 163, 0, 6, 18, 200, 172, 28, 172]
abbrev dktJ11_hugeLength_2 : List UInt8 := dkwJ11_hugeLength_2 ++ []
def dkwJ11_hugeLength_1 : List UInt8 := [26, 182, 0, 98, 18, 208, 182, 0, 94, 27, 182, 0, 98, 18, 210, 182, 0, 94, 182, 0, 101, 183, 0, 212]
abbrev dktJ11_hugeLength_1 : List UInt8 := dkwJ11_hugeLength_1 ++ dktJ11_hugeLength_2
def dkwJ11_hugeLength_0 : List UInt8 := [26, 27, 96, 61, 28, 156, 0, 44, 187, 0, 204, 89, 187, 0, 89, 89, 183, 0, 91, 18, 206, 182, 0, 94]
abbrev dktJ11_hugeLength_0 : List UInt8 := dkwJ11_hugeLength_0 ++ dktJ11_hugeLength_1
theorem dksJ11_hugeLength_0 : cJ11_hugeLength.data.toList.drop 0 = dktJ11_hugeLength_0 := by decide +kernel
theorem dksJ11_hugeLength_1 : cJ11_hugeLength.data.toList.drop 24 = dktJ11_hugeLength_1 := dk_seg dksJ11_hugeLength_0 24 rfl rfl
theorem dksJ11_hugeLength_2 : cJ11_hugeLength.data.toList.drop 48 = dktJ11_hugeLength_2 := dk_seg dksJ11_hugeLength_1 24 rfl rfl
theorem dJ11_hugeLength_0 : decode cJ11_hugeLength 0 = .ok (.iload_n 0, 1) := dk_26 (dk_at dksJ11_hugeLength_0 0 rfl rfl)
theorem dJ11_hugeLength_1 : decode cJ11_hugeLength 1 = .ok (.iload_n 1, 1) := dk_27 (dk_at dksJ11_hugeLength_0 1 rfl rfl)
theorem dJ11_hugeLength_2 : decode cJ11_hugeLength 2 = .ok (.iadd, 1) := dk_96 (dk_at dksJ11_hugeLength_0 2 rfl rfl)
theorem dJ11_hugeLength_3 : decode cJ11_hugeLength 3 = .ok (.istore_n 2, 1) := dk_61 (dk_at dksJ11_hugeLength_0 3 rfl rfl)
theorem dJ11_hugeLength_4 : decode cJ11_hugeLength 4 = .ok (.iload_n 2, 1) := dk_28 (dk_at dksJ11_hugeLength_0 4 rfl rfl)
theorem dJ11_hugeLength_5 : decode cJ11_hugeLength 5 = .ok (.ifCond .ge 44, 3) := dk_156 0 44 (dk_at dksJ11_hugeLength_0 5 rfl rfl)
theorem dJ11_hugeLength_8 : decode cJ11_hugeLength 8 = .ok (.new 204, 3) := dk_187 0 204 (dk_at dksJ11_hugeLength_0 8 rfl rfl)
theorem dJ11_hugeLength_11 : decode cJ11_hugeLength 11 = .ok (.dup, 1) := dk_89 (dk_at dksJ11_hugeLength_0 11 rfl rfl)
theorem dJ11_hugeLength_12 : decode cJ11_hugeLength 12 = .ok (.new 89, 3) := dk_187 0 89 (dk_at dksJ11_hugeLength_0 12 rfl rfl)
theorem dJ11_hugeLength_15 : decode cJ11_hugeLength 15 = .ok (.dup, 1) := dk_89 (dk_at dksJ11_hugeLength_0 15 rfl rfl)
theorem dJ11_hugeLength_16 : decode cJ11_hugeLength 16 = .ok (.invokespecial 91, 3) := dk_183 0 91 (dk_at dksJ11_hugeLength_0 16 rfl rfl)
theorem dJ11_hugeLength_19 : decode cJ11_hugeLength 19 = .ok (.ldc 206, 2) := dk_18 206 (dk_at dksJ11_hugeLength_0 19 rfl rfl)
theorem dJ11_hugeLength_21 : decode cJ11_hugeLength 21 = .ok (.invokevirtual 94, 3) := dk_182 0 94 (dk_at dksJ11_hugeLength_0 21 rfl rfl)
theorem dJ11_hugeLength_24 : decode cJ11_hugeLength 24 = .ok (.iload_n 0, 1) := dk_26 (dk_at dksJ11_hugeLength_1 0 rfl rfl)
theorem dJ11_hugeLength_25 : decode cJ11_hugeLength 25 = .ok (.invokevirtual 98, 3) := dk_182 0 98 (dk_at dksJ11_hugeLength_1 1 rfl rfl)
theorem dJ11_hugeLength_28 : decode cJ11_hugeLength 28 = .ok (.ldc 208, 2) := dk_18 208 (dk_at dksJ11_hugeLength_1 4 rfl rfl)
theorem dJ11_hugeLength_30 : decode cJ11_hugeLength 30 = .ok (.invokevirtual 94, 3) := dk_182 0 94 (dk_at dksJ11_hugeLength_1 6 rfl rfl)
theorem dJ11_hugeLength_33 : decode cJ11_hugeLength 33 = .ok (.iload_n 1, 1) := dk_27 (dk_at dksJ11_hugeLength_1 9 rfl rfl)
theorem dJ11_hugeLength_34 : decode cJ11_hugeLength 34 = .ok (.invokevirtual 98, 3) := dk_182 0 98 (dk_at dksJ11_hugeLength_1 10 rfl rfl)
theorem dJ11_hugeLength_37 : decode cJ11_hugeLength 37 = .ok (.ldc 210, 2) := dk_18 210 (dk_at dksJ11_hugeLength_1 13 rfl rfl)
theorem dJ11_hugeLength_39 : decode cJ11_hugeLength 39 = .ok (.invokevirtual 94, 3) := dk_182 0 94 (dk_at dksJ11_hugeLength_1 15 rfl rfl)
theorem dJ11_hugeLength_42 : decode cJ11_hugeLength 42 = .ok (.invokevirtual 101, 3) := dk_182 0 101 (dk_at dksJ11_hugeLength_1 18 rfl rfl)
theorem dJ11_hugeLength_45 : decode cJ11_hugeLength 45 = .ok (.invokespecial 212, 3) := dk_183 0 212 (dk_at dksJ11_hugeLength_1 21 rfl rfl)
theorem dJ11_hugeLength_48 : decode cJ11_hugeLength 48 = .ok (.athrow, 1) := dk_191 (dk_at dksJ11_hugeLength_2 0 rfl rfl)
theorem dJ11_hugeLength_49 : decode cJ11_hugeLength 49 = .ok (.iload_n 2, 1) := dk_28 (dk_at dksJ11_hugeLength_2 1 rfl rfl)
theorem dJ11_hugeLength_50 : decode cJ11_hugeLength 50 = .ok (.ldc 200, 2) := dk_18 200 (dk_at dksJ11_hugeLength_2 2 rfl rfl)
theorem dJ11_hugeLength_52 : decode cJ11_hugeLength 52 = .ok (.if_icmp .gt 6, 3) := dk_163 0 6 (dk_at dksJ11_hugeLength_2 4 rfl rfl)
theorem dJ11_hugeLength_55 : decode cJ11_hugeLength 55 = .ok (.ldc 200, 2) := dk_18 200 (dk_at dksJ11_hugeLength_2 7 rfl rfl)
theorem dJ11_hugeLength_57 : decode cJ11_hugeLength 57 = .ok (.ireturn, 1) := dk_172 (dk_at dksJ11_hugeLength_2 9 rfl rfl)
theorem dJ11_hugeLength_58 : decode cJ11_hugeLength 58 = .ok (.iload_n 2, 1) := dk_28 (dk_at dksJ11_hugeLength_2 10 rfl rfl)
theorem dJ11_hugeLength_59 : decode cJ11_hugeLength 59 = .ok (.ireturn, 1) := dk_172 (dk_at dksJ11_hugeLength_2 11 rfl rfl)
theorem q142 : (Jvm.Cond.initialized "jdk/internal/util/ArraysSupport") ∈ lw_all := lw_g (lw_at lw_m1 24 rfl) rfl
theorem q1193 : (Jvm.Cond.static ({ cls := "jdk/internal/util/ArraysSupport", name := "newLength", desc := "(III)I" } : Jvm.MethodName)) ∈ lw_all := lw_g (lw_at lw_m5 115 rfl) rfl
theorem q1194 : (Jvm.Cond.code ({ cls := "jdk/internal/util/ArraysSupport", name := "newLength", desc := "(III)I" } : Jvm.MethodName) prog_39_method_27_code (4 : Nat) (Option.some Jvm.ClassFile.FieldType.int)) ∈ lw_all := lw_g (lw_at lw_m5 116 rfl) rfl
theorem q1195 : (Jvm.Cond.methodLink "jdk/internal/util/ArraysSupport" (194 : Nat) ({ cls := "java/lang/Math", name := "max", desc := "(II)I" } : Jvm.MethodName)) ∈ lw_all := lw_g (lw_at lw_m5 117 rfl) rfl
theorem q1196 : (Jvm.Cond.constant "jdk/internal/util/ArraysSupport" (200 : Nat) (2147483639 : Int32)) ∈ lw_all := lw_g (lw_at lw_m5 118 rfl) rfl
theorem q1197 : (Jvm.Cond.methodLink "jdk/internal/util/ArraysSupport" (201 : Nat) ({ cls := "jdk/internal/util/ArraysSupport", name := "hugeLength", desc := "(II)I" } : Jvm.MethodName)) ∈ lw_all := lw_g (lw_at lw_m5 119 rfl) rfl
theorem q1198 : (Jvm.Cond.static ({ cls := "jdk/internal/util/ArraysSupport", name := "hugeLength", desc := "(II)I" } : Jvm.MethodName)) ∈ lw_all := lw_g (lw_at lw_m5 120 rfl) rfl
theorem q1199 : (Jvm.Cond.code ({ cls := "jdk/internal/util/ArraysSupport", name := "hugeLength", desc := "(II)I" } : Jvm.MethodName) prog_39_method_28_code (3 : Nat) (Option.some Jvm.ClassFile.FieldType.int)) ∈ lw_all := lw_g (lw_at lw_m5 121 rfl) rfl

/-! java/util/Arrays -/
set_option maxRecDepth 100000
def RJ12 : String := "java/util/Arrays"
abbrev cJ12_copyOf : ByteArray := prog_33_method_119_code
def yJ12_copyOf : MethodName := ⟨RJ12, "copyOf", "([Ljava/lang/Object;I)[Ljava/lang/Object;"⟩
def dkwJ12_copyOf_0 : List UInt8 := [42, 27, 42, 182, 0, 86, 184, 1, 44, 176]
abbrev dktJ12_copyOf_0 : List UInt8 := dkwJ12_copyOf_0 ++ []
theorem dksJ12_copyOf_0 : cJ12_copyOf.data.toList.drop 0 = dktJ12_copyOf_0 := by decide +kernel
theorem dJ12_copyOf_0 : decode cJ12_copyOf 0 = .ok (.aload_n 0, 1) := dk_42 (dk_at dksJ12_copyOf_0 0 rfl rfl)
theorem dJ12_copyOf_1 : decode cJ12_copyOf 1 = .ok (.iload_n 1, 1) := dk_27 (dk_at dksJ12_copyOf_0 1 rfl rfl)
theorem dJ12_copyOf_2 : decode cJ12_copyOf 2 = .ok (.aload_n 0, 1) := dk_42 (dk_at dksJ12_copyOf_0 2 rfl rfl)
theorem dJ12_copyOf_3 : decode cJ12_copyOf 3 = .ok (.invokevirtual 86, 3) := dk_182 0 86 (dk_at dksJ12_copyOf_0 3 rfl rfl)
theorem dJ12_copyOf_6 : decode cJ12_copyOf 6 = .ok (.invokestatic 300, 3) := dk_184 1 44 (dk_at dksJ12_copyOf_0 6 rfl rfl)
theorem dJ12_copyOf_9 : decode cJ12_copyOf 9 = .ok (.areturn, 1) := dk_176 (dk_at dksJ12_copyOf_0 9 rfl rfl)
abbrev cJ12_copyOf_2 : ByteArray := prog_33_method_120_code
def yJ12_copyOf_2 : MethodName := ⟨RJ12, "copyOf", "([Ljava/lang/Object;ILjava/lang/Class;)[Ljava/lang/Object;"⟩
def dkwJ12_copyOf_2_1 : List UInt8 := [78, 42, 3, 45, 3, 42, 190, 27, 184, 1, 48, 184, 0, 150, 45, 176]
abbrev dktJ12_copyOf_2_1 : List UInt8 := dkwJ12_copyOf_2_1 ++ []
def dkwJ12_copyOf_2_0 : List UInt8 := [44, 18, 110, 166, 0, 10, 27, 189, 0, 2, 167, 0, 14, 44, 182, 0, 90, 27, 184, 0, 95, 192, 0, 110]
abbrev dktJ12_copyOf_2_0 : List UInt8 := dkwJ12_copyOf_2_0 ++ dktJ12_copyOf_2_1
theorem dksJ12_copyOf_2_0 : cJ12_copyOf_2.data.toList.drop 0 = dktJ12_copyOf_2_0 := by decide +kernel
theorem dksJ12_copyOf_2_1 : cJ12_copyOf_2.data.toList.drop 24 = dktJ12_copyOf_2_1 := dk_seg dksJ12_copyOf_2_0 24 rfl rfl
theorem dJ12_copyOf_2_0 : decode cJ12_copyOf_2 0 = .ok (.aload_n 2, 1) := dk_44 (dk_at dksJ12_copyOf_2_0 0 rfl rfl)
theorem dJ12_copyOf_2_1 : decode cJ12_copyOf_2 1 = .ok (.ldc 110, 2) := dk_18 110 (dk_at dksJ12_copyOf_2_0 1 rfl rfl)
theorem dJ12_copyOf_2_3 : decode cJ12_copyOf_2 3 = .ok (.if_acmp .ne 10, 3) := dk_166 0 10 (dk_at dksJ12_copyOf_2_0 3 rfl rfl)
theorem dJ12_copyOf_2_6 : decode cJ12_copyOf_2 6 = .ok (.iload_n 1, 1) := dk_27 (dk_at dksJ12_copyOf_2_0 6 rfl rfl)
theorem dJ12_copyOf_2_7 : decode cJ12_copyOf_2 7 = .ok (.anewarray 2, 3) := dk_189 0 2 (dk_at dksJ12_copyOf_2_0 7 rfl rfl)
theorem dJ12_copyOf_2_10 : decode cJ12_copyOf_2 10 = .ok (.goto 14, 3) := dk_167 0 14 (dk_at dksJ12_copyOf_2_0 10 rfl rfl)
theorem dJ12_copyOf_2_13 : decode cJ12_copyOf_2 13 = .ok (.aload_n 2, 1) := dk_44 (dk_at dksJ12_copyOf_2_0 13 rfl rfl)
theorem dJ12_copyOf_2_14 : decode cJ12_copyOf_2 14 = .ok (.invokevirtual 90, 3) := dk_182 0 90 (dk_at dksJ12_copyOf_2_0 14 rfl rfl)
theorem dJ12_copyOf_2_17 : decode cJ12_copyOf_2 17 = .ok (.iload_n 1, 1) := dk_27 (dk_at dksJ12_copyOf_2_0 17 rfl rfl)
theorem dJ12_copyOf_2_18 : decode cJ12_copyOf_2 18 = .ok (.invokestatic 95, 3) := dk_184 0 95 (dk_at dksJ12_copyOf_2_0 18 rfl rfl)
theorem dJ12_copyOf_2_21 : decode cJ12_copyOf_2 21 = .ok (.checkcast 110, 3) := dk_192 0 110 (dk_at dksJ12_copyOf_2_0 21 rfl rfl)
theorem dJ12_copyOf_2_24 : decode cJ12_copyOf_2 24 = .ok (.astore_n 3, 1) := dk_78 (dk_at dksJ12_copyOf_2_1 0 rfl rfl)
theorem dJ12_copyOf_2_25 : decode cJ12_copyOf_2 25 = .ok (.aload_n 0, 1) := dk_42 (dk_at dksJ12_copyOf_2_1 1 rfl rfl)
theorem dJ12_copyOf_2_26 : decode cJ12_copyOf_2 26 = .ok (.iconst 0, 1) := dk_3 (dk_at dksJ12_copyOf_2_1 2 rfl rfl)
theorem dJ12_copyOf_2_27 : decode cJ12_copyOf_2 27 = .ok (.aload_n 3, 1) := dk_45 (dk_at dksJ12_copyOf_2_1 3 rfl rfl)
theorem dJ12_copyOf_2_28 : decode cJ12_copyOf_2 28 = .ok (.iconst 0, 1) := dk_3 (dk_at dksJ12_copyOf_2_1 4 rfl rfl)
theorem dJ12_copyOf_2_29 : decode cJ12_copyOf_2 29 = .ok (.aload_n 0, 1) := dk_42 (dk_at dksJ12_copyOf_2_1 5 rfl rfl)
theorem dJ12_copyOf_2_30 : decode cJ12_copyOf_2 30 = .ok (.arraylength, 1) := dk_190 (dk_at dksJ12_copyOf_2_1 6 rfl rfl)
theorem dJ12_copyOf_2_31 : decode cJ12_copyOf_2 31 = .ok (.iload_n 1, 1) := dk_27 (dk_at dksJ12_copyOf_2_1 7 rfl rfl)
theorem dJ12_copyOf_2_32 : decode cJ12_copyOf_2 32 = .ok (.invokestatic 304, 3) := dk_184 1 48 (dk_at dksJ12_copyOf_2_1 8 rfl rfl)
theorem dJ12_copyOf_2_35 : decode cJ12_copyOf_2 35 = .ok (.invokestatic 150, 3) := dk_184 0 150 (dk_at dksJ12_copyOf_2_1 11 rfl rfl)
theorem dJ12_copyOf_2_38 : decode cJ12_copyOf_2 38 = .ok (.aload_n 3, 1) := dk_45 (dk_at dksJ12_copyOf_2_1 14 rfl rfl)
theorem dJ12_copyOf_2_39 : decode cJ12_copyOf_2 39 = .ok (.areturn, 1) := dk_176 (dk_at dksJ12_copyOf_2_1 15 rfl rfl)
theorem q143 : (Jvm.Cond.initialized "java/util/Arrays") ∈ lw_all := lw_g (lw_at lw_m1 25 rfl) rfl
theorem q1201 : (Jvm.Cond.static ({ cls := "java/util/Arrays", name := "copyOf", desc := "([Ljava/lang/Object;I)[Ljava/lang/Object;" } : Jvm.MethodName)) ∈ lw_all := lw_g (lw_at lw_m5 123 rfl) rfl
theorem q1202 : (Jvm.Cond.code ({ cls := "java/util/Arrays", name := "copyOf", desc := "([Ljava/lang/Object;I)[Ljava/lang/Object;" } : Jvm.MethodName) prog_33_method_119_code (2 : Nat) (Option.some (Jvm.ClassFile.FieldType.array (Jvm.ClassFile.FieldType.object "java/lang/Object")))) ∈ lw_all := lw_g (lw_at lw_m5 124 rfl) rfl
theorem q1203 : (Jvm.Cond.methodLink "java/util/Arrays" (86 : Nat) ({ cls := "java/lang/Object", name := "getClass", desc := "()Ljava/lang/Class;" } : Jvm.MethodName)) ∈ lw_all := lw_g (lw_at lw_m5 125 rfl) rfl
theorem q1220 : (Jvm.Cond.methodLink "java/util/Arrays" (300 : Nat) ({ cls := "java/util/Arrays", name := "copyOf", desc := "([Ljava/lang/Object;ILjava/lang/Class;)[Ljava/lang/Object;" } : Jvm.MethodName)) ∈ lw_all := lw_g (lw_at lw_m5 142 rfl) rfl
theorem q1221 : (Jvm.Cond.static ({ cls := "java/util/Arrays", name := "copyOf", desc := "([Ljava/lang/Object;ILjava/lang/Class;)[Ljava/lang/Object;" } : Jvm.MethodName)) ∈ lw_all := lw_g (lw_at lw_m5 143 rfl) rfl
theorem q1222 : (Jvm.Cond.code ({ cls := "java/util/Arrays", name := "copyOf", desc := "([Ljava/lang/Object;ILjava/lang/Class;)[Ljava/lang/Object;" } : Jvm.MethodName) prog_33_method_120_code (4 : Nat) (Option.some (Jvm.ClassFile.FieldType.array (Jvm.ClassFile.FieldType.object "java/lang/Object")))) ∈ lw_all := lw_g (lw_at lw_m5 144 rfl) rfl
theorem q1223 : (Jvm.Cond.classLink "java/util/Arrays" (110 : Nat) "[Ljava/lang/Object;") ∈ lw_all := lw_g (lw_at lw_m5 145 rfl) rfl
theorem q1224 : (Jvm.Cond.classLink "java/util/Arrays" (2 : Nat) "java/lang/Object") ∈ lw_all := lw_g (lw_at lw_m5 146 rfl) rfl
theorem q1225 : (Jvm.Cond.methodLink "java/util/Arrays" (304 : Nat) ({ cls := "java/lang/Math", name := "min", desc := "(II)I" } : Jvm.MethodName)) ∈ lw_all := lw_g (lw_at lw_m5 147 rfl) rfl
theorem q1226 : (Jvm.Cond.methodLink "java/util/Arrays" (150 : Nat) ({ cls := "java/lang/System", name := "arraycopy", desc := "(Ljava/lang/Object;ILjava/lang/Object;II)V" } : Jvm.MethodName)) ∈ lw_all := lw_g (lw_at lw_m5 148 rfl) rfl

/-! SupplyGrid$Fed1 -/
set_option maxRecDepth 100000
def RX9 : String := "SupplyGrid$Fed1"
def TX9 : u_T := fun k => match k with
  | _ => ("SupplyGrid$Fed1", "node", "I", true)
def tyX9 : Nat → FieldType := fun k => match k with
  | _ => .int
abbrev wsX90 : List Cond := u_ws RX9 TX9 1
theorem nmX9 : ∀ a, a < 1 → ∀ b, b < 1 → a ≠ b → (TX9 a).2.1 ≠ (TX9 b).2.1 := by decide +kernel
theorem tyX9_ok : ∀ k, k < 1 → parseFieldDescriptor (TX9 k).2.2.1 = some (tyX9 k) := by decide +kernel
abbrev cX9_init : ByteArray := prog_7_method_1_code
def yX9_init : MethodName := ⟨RX9, "<init>", "(I)V"⟩
def dkwX9_init_0 : List UInt8 := [42, 183, 0, 1, 42, 27, 181, 0, 7, 177]
abbrev dktX9_init_0 : List UInt8 := dkwX9_init_0 ++ []
theorem dksX9_init_0 : cX9_init.data.toList.drop 0 = dktX9_init_0 := by decide +kernel
theorem dX9_init_0 : decode cX9_init 0 = .ok (.aload_n 0, 1) := dk_42 (dk_at dksX9_init_0 0 rfl rfl)
theorem dX9_init_1 : decode cX9_init 1 = .ok (.invokespecial 1, 3) := dk_183 0 1 (dk_at dksX9_init_0 1 rfl rfl)
theorem dX9_init_4 : decode cX9_init 4 = .ok (.aload_n 0, 1) := dk_42 (dk_at dksX9_init_0 4 rfl rfl)
theorem dX9_init_5 : decode cX9_init 5 = .ok (.iload_n 1, 1) := dk_27 (dk_at dksX9_init_0 5 rfl rfl)
theorem dX9_init_6 : decode cX9_init 6 = .ok (.putfield 7, 3) := dk_181 0 7 (dk_at dksX9_init_0 6 rfl rfl)
theorem dX9_init_9 : decode cX9_init 9 = .ok (.return_, 1) := dk_177 (dk_at dksX9_init_0 9 rfl rfl)
abbrev cX9_back : ByteArray := prog_7_method_2_code
def yX9_back : MethodName := ⟨RX9, "back", "(LSupplyGrid$Told;)V"⟩
def dkwX9_back_0 : List UInt8 := [43, 89, 180, 0, 13, 4, 42, 180, 0, 7, 120, 130, 181, 0, 13, 177]
abbrev dktX9_back_0 : List UInt8 := dkwX9_back_0 ++ []
theorem dksX9_back_0 : cX9_back.data.toList.drop 0 = dktX9_back_0 := by decide +kernel
theorem dX9_back_0 : decode cX9_back 0 = .ok (.aload_n 1, 1) := dk_43 (dk_at dksX9_back_0 0 rfl rfl)
theorem dX9_back_1 : decode cX9_back 1 = .ok (.dup, 1) := dk_89 (dk_at dksX9_back_0 1 rfl rfl)
theorem dX9_back_2 : decode cX9_back 2 = .ok (.getfield 13, 3) := dk_180 0 13 (dk_at dksX9_back_0 2 rfl rfl)
theorem dX9_back_5 : decode cX9_back 5 = .ok (.iconst 1, 1) := dk_4 (dk_at dksX9_back_0 5 rfl rfl)
theorem dX9_back_6 : decode cX9_back 6 = .ok (.aload_n 0, 1) := dk_42 (dk_at dksX9_back_0 6 rfl rfl)
theorem dX9_back_7 : decode cX9_back 7 = .ok (.getfield 7, 3) := dk_180 0 7 (dk_at dksX9_back_0 7 rfl rfl)
theorem dX9_back_10 : decode cX9_back 10 = .ok (.ishl, 1) := dk_120 (dk_at dksX9_back_0 10 rfl rfl)
theorem dX9_back_11 : decode cX9_back 11 = .ok (.ixor, 1) := dk_130 (dk_at dksX9_back_0 11 rfl rfl)
theorem dX9_back_12 : decode cX9_back 12 = .ok (.putfield 13, 3) := dk_181 0 13 (dk_at dksX9_back_0 12 rfl rfl)
theorem dX9_back_15 : decode cX9_back 15 = .ok (.return_, 1) := dk_177 (dk_at dksX9_back_0 15 rfl rfl)
theorem q144 : (Jvm.Cond.initialized "SupplyGrid$Fed1") ∈ lw_all := lw_g (lw_at lw_m1 26 rfl) rfl
theorem q240 : (Jvm.Cond.fieldLinkNest "SupplyGrid$Fed1" (13 : Nat) "SupplyGrid$Told" "pads" "I" "SupplyGrid") ∈ lw_tbl := lw_at lw_m1 122 rfl
theorem q1210 : (Jvm.Cond.selects "SupplyGrid$Fed1" ({ cls := "java/lang/Object", name := "getClass", desc := "()Ljava/lang/Class;" } : Jvm.MethodName) ({ cls := "java/lang/Object", name := "getClass", desc := "()Ljava/lang/Class;" } : Jvm.MethodName)) ∈ lw_all := lw_g (lw_at lw_m5 132 rfl) rfl
theorem q1233 : (Jvm.Cond.instantiable "SupplyGrid$Fed1" (1 : Nat)) ∈ lw_all := lw_g (lw_at lw_m5 155 rfl) rfl
theorem q1235 : (Jvm.Cond.instanceMethod ({ cls := "SupplyGrid$Fed1", name := "<init>", desc := "(I)V" } : Jvm.MethodName)) ∈ lw_all := lw_g (lw_at lw_m5 157 rfl) rfl
theorem q1236 : (Jvm.Cond.code ({ cls := "SupplyGrid$Fed1", name := "<init>", desc := "(I)V" } : Jvm.MethodName) prog_7_method_1_code (2 : Nat) (Option.none : Option Jvm.ClassFile.FieldType)) ∈ lw_all := lw_g (lw_at lw_m5 158 rfl) rfl
theorem q1237 : (Jvm.Cond.methodLink "SupplyGrid$Fed1" (1 : Nat) ({ cls := "java/lang/Object", name := "<init>", desc := "()V" } : Jvm.MethodName)) ∈ lw_all := lw_g (lw_at lw_m5 159 rfl) rfl
theorem q1238 : (Jvm.Cond.fieldLink "SupplyGrid$Fed1" (7 : Nat) "SupplyGrid$Fed1" "node" "I") ∈ lw_all := lw_g (lw_at lw_m5 160 rfl) rfl
theorem q1239 : (Jvm.Cond.laysFinal "SupplyGrid$Fed1" "SupplyGrid$Fed1" "node" "I") ∈ lw_all := lw_g (lw_at lw_m5 161 rfl) rfl
theorem q1240 : (Jvm.Cond.soleField "SupplyGrid$Fed1" "node") ∈ lw_all := lw_g (lw_at lw_m5 162 rfl) rfl
theorem q1241 : (Jvm.Cond.superclass "SupplyGrid$Fed1" "java/lang/Object") ∈ lw_all := lw_g (lw_at lw_m5 163 rfl) rfl
theorem q1364 : (Jvm.Cond.castable "SupplyGrid$Fed1" "SupplyGrid$Change") ∈ lw_tbl := lw_at lw_m6 46 rfl
theorem q1365 : (Jvm.Cond.selects "SupplyGrid$Fed1" ({ cls := "SupplyGrid$Change", name := "back", desc := "(LSupplyGrid$Told;)V" } : Jvm.MethodName) ({ cls := "SupplyGrid$Fed1", name := "back", desc := "(LSupplyGrid$Told;)V" } : Jvm.MethodName)) ∈ lw_all := lw_g (lw_at lw_m6 47 rfl) rfl
theorem q1366 : (Jvm.Cond.unhidden "SupplyGrid$Fed1" "back" "(LSupplyGrid$Told;)V") ∈ lw_tbl := lw_at lw_m6 48 rfl
theorem q1367 : (Jvm.Cond.instanceMethod ({ cls := "SupplyGrid$Fed1", name := "back", desc := "(LSupplyGrid$Told;)V" } : Jvm.MethodName)) ∈ lw_all := lw_g (lw_at lw_m6 49 rfl) rfl
theorem q1368 : (Jvm.Cond.publicMethod ({ cls := "SupplyGrid$Fed1", name := "back", desc := "(LSupplyGrid$Told;)V" } : Jvm.MethodName)) ∈ lw_tbl := lw_at lw_m6 50 rfl
theorem q1369 : (Jvm.Cond.code ({ cls := "SupplyGrid$Fed1", name := "back", desc := "(LSupplyGrid$Told;)V" } : Jvm.MethodName) prog_7_method_2_code (2 : Nat) (Option.none : Option Jvm.ClassFile.FieldType)) ∈ lw_all := lw_g (lw_at lw_m6 51 rfl) rfl
theorem q2110 : (Jvm.Cond.castable "SupplyGrid$Fed1" "java/lang/Object") ∈ lw_tbl := lw_at lw_m9 72 rfl
theorem in_X9 : ∀ w ∈ wsX90, w ∈ lw_all := lw_in wsX90 [1239] (by decide +kernel) (by decide +kernel)

/-! SupplyGrid$Drawn -/
set_option maxRecDepth 100000
def RX10 : String := "SupplyGrid$Drawn"
def TX10 : u_T := fun k => match k with
  | 0 => ("SupplyGrid$Drawn", "node", "I", true)
  | _ => ("SupplyGrid$Drawn", "was", "I", true)
def tyX10 : Nat → FieldType := fun k => match k with
  | 0 => .int
  | _ => .int
abbrev wsX100 : List Cond := u_ws RX10 TX10 2
theorem nmX10 : ∀ a, a < 2 → ∀ b, b < 2 → a ≠ b → (TX10 a).2.1 ≠ (TX10 b).2.1 := by decide +kernel
theorem tyX10_ok : ∀ k, k < 2 → parseFieldDescriptor (TX10 k).2.2.1 = some (tyX10 k) := by decide +kernel
abbrev cX10_init : ByteArray := prog_4_method_1_code
def yX10_init : MethodName := ⟨RX10, "<init>", "(II)V"⟩
def dkwX10_init_0 : List UInt8 := [42, 183, 0, 1, 42, 27, 181, 0, 7, 42, 28, 181, 0, 13, 177]
abbrev dktX10_init_0 : List UInt8 := dkwX10_init_0 ++ []
theorem dksX10_init_0 : cX10_init.data.toList.drop 0 = dktX10_init_0 := by decide +kernel
theorem dX10_init_0 : decode cX10_init 0 = .ok (.aload_n 0, 1) := dk_42 (dk_at dksX10_init_0 0 rfl rfl)
theorem dX10_init_1 : decode cX10_init 1 = .ok (.invokespecial 1, 3) := dk_183 0 1 (dk_at dksX10_init_0 1 rfl rfl)
theorem dX10_init_4 : decode cX10_init 4 = .ok (.aload_n 0, 1) := dk_42 (dk_at dksX10_init_0 4 rfl rfl)
theorem dX10_init_5 : decode cX10_init 5 = .ok (.iload_n 1, 1) := dk_27 (dk_at dksX10_init_0 5 rfl rfl)
theorem dX10_init_6 : decode cX10_init 6 = .ok (.putfield 7, 3) := dk_181 0 7 (dk_at dksX10_init_0 6 rfl rfl)
theorem dX10_init_9 : decode cX10_init 9 = .ok (.aload_n 0, 1) := dk_42 (dk_at dksX10_init_0 9 rfl rfl)
theorem dX10_init_10 : decode cX10_init 10 = .ok (.iload_n 2, 1) := dk_28 (dk_at dksX10_init_0 10 rfl rfl)
theorem dX10_init_11 : decode cX10_init 11 = .ok (.putfield 13, 3) := dk_181 0 13 (dk_at dksX10_init_0 11 rfl rfl)
theorem dX10_init_14 : decode cX10_init 14 = .ok (.return_, 1) := dk_177 (dk_at dksX10_init_0 14 rfl rfl)
abbrev cX10_back : ByteArray := prog_4_method_2_code
def yX10_back : MethodName := ⟨RX10, "back", "(LSupplyGrid$Told;)V"⟩
def dkwX10_back_0 : List UInt8 := [43, 180, 0, 16, 42, 180, 0, 7, 42, 180, 0, 13, 79, 177]
abbrev dktX10_back_0 : List UInt8 := dkwX10_back_0 ++ []
theorem dksX10_back_0 : cX10_back.data.toList.drop 0 = dktX10_back_0 := by decide +kernel
theorem dX10_back_0 : decode cX10_back 0 = .ok (.aload_n 1, 1) := dk_43 (dk_at dksX10_back_0 0 rfl rfl)
theorem dX10_back_1 : decode cX10_back 1 = .ok (.getfield 16, 3) := dk_180 0 16 (dk_at dksX10_back_0 1 rfl rfl)
theorem dX10_back_4 : decode cX10_back 4 = .ok (.aload_n 0, 1) := dk_42 (dk_at dksX10_back_0 4 rfl rfl)
theorem dX10_back_5 : decode cX10_back 5 = .ok (.getfield 7, 3) := dk_180 0 7 (dk_at dksX10_back_0 5 rfl rfl)
theorem dX10_back_8 : decode cX10_back 8 = .ok (.aload_n 0, 1) := dk_42 (dk_at dksX10_back_0 8 rfl rfl)
theorem dX10_back_9 : decode cX10_back 9 = .ok (.getfield 13, 3) := dk_180 0 13 (dk_at dksX10_back_0 9 rfl rfl)
theorem dX10_back_12 : decode cX10_back 12 = .ok (.iastore, 1) := dk_79 (dk_at dksX10_back_0 12 rfl rfl)
theorem dX10_back_13 : decode cX10_back 13 = .ok (.return_, 1) := dk_177 (dk_at dksX10_back_0 13 rfl rfl)
theorem q145 : (Jvm.Cond.initialized "SupplyGrid$Drawn") ∈ lw_all := lw_g (lw_at lw_m1 27 rfl) rfl
theorem q206 : (Jvm.Cond.fieldLinkNest "SupplyGrid$Drawn" (16 : Nat) "SupplyGrid$Told" "load" "[I" "SupplyGrid") ∈ lw_tbl := lw_at lw_m1 88 rfl
theorem q1208 : (Jvm.Cond.selects "SupplyGrid$Drawn" ({ cls := "java/lang/Object", name := "getClass", desc := "()Ljava/lang/Class;" } : Jvm.MethodName) ({ cls := "java/lang/Object", name := "getClass", desc := "()Ljava/lang/Class;" } : Jvm.MethodName)) ∈ lw_all := lw_g (lw_at lw_m5 130 rfl) rfl
theorem q1248 : (Jvm.Cond.instantiable "SupplyGrid$Drawn" (2 : Nat)) ∈ lw_all := lw_g (lw_at lw_m5 170 rfl) rfl
theorem q1250 : (Jvm.Cond.instanceMethod ({ cls := "SupplyGrid$Drawn", name := "<init>", desc := "(II)V" } : Jvm.MethodName)) ∈ lw_all := lw_g (lw_at lw_m5 172 rfl) rfl
theorem q1251 : (Jvm.Cond.code ({ cls := "SupplyGrid$Drawn", name := "<init>", desc := "(II)V" } : Jvm.MethodName) prog_4_method_1_code (3 : Nat) (Option.none : Option Jvm.ClassFile.FieldType)) ∈ lw_all := lw_g (lw_at lw_m5 173 rfl) rfl
theorem q1252 : (Jvm.Cond.methodLink "SupplyGrid$Drawn" (1 : Nat) ({ cls := "java/lang/Object", name := "<init>", desc := "()V" } : Jvm.MethodName)) ∈ lw_all := lw_g (lw_at lw_m5 174 rfl) rfl
theorem q1253 : (Jvm.Cond.fieldLink "SupplyGrid$Drawn" (7 : Nat) "SupplyGrid$Drawn" "node" "I") ∈ lw_all := lw_g (lw_at lw_m5 175 rfl) rfl
theorem q1254 : (Jvm.Cond.fieldLink "SupplyGrid$Drawn" (13 : Nat) "SupplyGrid$Drawn" "was" "I") ∈ lw_all := lw_g (lw_at lw_m5 176 rfl) rfl
theorem q1256 : (Jvm.Cond.laysFinal "SupplyGrid$Drawn" "SupplyGrid$Drawn" "node" "I") ∈ lw_all := lw_g (lw_at lw_m5 178 rfl) rfl
theorem q1257 : (Jvm.Cond.soleField "SupplyGrid$Drawn" "node") ∈ lw_all := lw_g (lw_at lw_m5 179 rfl) rfl
theorem q1258 : (Jvm.Cond.laysFinal "SupplyGrid$Drawn" "SupplyGrid$Drawn" "was" "I") ∈ lw_all := lw_g (lw_at lw_m5 180 rfl) rfl
theorem q1259 : (Jvm.Cond.soleField "SupplyGrid$Drawn" "was") ∈ lw_all := lw_g (lw_at lw_m5 181 rfl) rfl
theorem q1260 : (Jvm.Cond.superclass "SupplyGrid$Drawn" "java/lang/Object") ∈ lw_all := lw_g (lw_at lw_m5 182 rfl) rfl
theorem q1358 : (Jvm.Cond.castable "SupplyGrid$Drawn" "SupplyGrid$Change") ∈ lw_tbl := lw_at lw_m6 40 rfl
theorem q1359 : (Jvm.Cond.selects "SupplyGrid$Drawn" ({ cls := "SupplyGrid$Change", name := "back", desc := "(LSupplyGrid$Told;)V" } : Jvm.MethodName) ({ cls := "SupplyGrid$Drawn", name := "back", desc := "(LSupplyGrid$Told;)V" } : Jvm.MethodName)) ∈ lw_all := lw_g (lw_at lw_m6 41 rfl) rfl
theorem q1360 : (Jvm.Cond.unhidden "SupplyGrid$Drawn" "back" "(LSupplyGrid$Told;)V") ∈ lw_tbl := lw_at lw_m6 42 rfl
theorem q1361 : (Jvm.Cond.instanceMethod ({ cls := "SupplyGrid$Drawn", name := "back", desc := "(LSupplyGrid$Told;)V" } : Jvm.MethodName)) ∈ lw_all := lw_g (lw_at lw_m6 43 rfl) rfl
theorem q1362 : (Jvm.Cond.publicMethod ({ cls := "SupplyGrid$Drawn", name := "back", desc := "(LSupplyGrid$Told;)V" } : Jvm.MethodName)) ∈ lw_tbl := lw_at lw_m6 44 rfl
theorem q1363 : (Jvm.Cond.code ({ cls := "SupplyGrid$Drawn", name := "back", desc := "(LSupplyGrid$Told;)V" } : Jvm.MethodName) prog_4_method_2_code (2 : Nat) (Option.none : Option Jvm.ClassFile.FieldType)) ∈ lw_all := lw_g (lw_at lw_m6 45 rfl) rfl
theorem q2111 : (Jvm.Cond.castable "SupplyGrid$Drawn" "java/lang/Object") ∈ lw_tbl := lw_at lw_m9 73 rfl
theorem in_X10 : ∀ w ∈ wsX100, w ∈ lw_all := lw_in wsX100 [1256, 1258] (by decide +kernel) (by decide +kernel)

/-! SupplyGrid$Aged -/
set_option maxRecDepth 100000
def RX11 : String := "SupplyGrid$Aged"
def TX11 : u_T := fun k => match k with
  | _ => ("SupplyGrid$Aged", "worn", "I", true)
def tyX11 : Nat → FieldType := fun k => match k with
  | _ => .int
abbrev wsX110 : List Cond := u_ws RX11 TX11 1
theorem nmX11 : ∀ a, a < 1 → ∀ b, b < 1 → a ≠ b → (TX11 a).2.1 ≠ (TX11 b).2.1 := by decide +kernel
theorem tyX11_ok : ∀ k, k < 1 → parseFieldDescriptor (TX11 k).2.2.1 = some (tyX11 k) := by decide +kernel
abbrev cX11_init : ByteArray := prog_2_method_1_code
def yX11_init : MethodName := ⟨RX11, "<init>", "(I)V"⟩
def dkwX11_init_0 : List UInt8 := [42, 183, 0, 1, 42, 27, 181, 0, 7, 177]
abbrev dktX11_init_0 : List UInt8 := dkwX11_init_0 ++ []
theorem dksX11_init_0 : cX11_init.data.toList.drop 0 = dktX11_init_0 := by decide +kernel
theorem dX11_init_0 : decode cX11_init 0 = .ok (.aload_n 0, 1) := dk_42 (dk_at dksX11_init_0 0 rfl rfl)
theorem dX11_init_1 : decode cX11_init 1 = .ok (.invokespecial 1, 3) := dk_183 0 1 (dk_at dksX11_init_0 1 rfl rfl)
theorem dX11_init_4 : decode cX11_init 4 = .ok (.aload_n 0, 1) := dk_42 (dk_at dksX11_init_0 4 rfl rfl)
theorem dX11_init_5 : decode cX11_init 5 = .ok (.iload_n 1, 1) := dk_27 (dk_at dksX11_init_0 5 rfl rfl)
theorem dX11_init_6 : decode cX11_init 6 = .ok (.putfield 7, 3) := dk_181 0 7 (dk_at dksX11_init_0 6 rfl rfl)
theorem dX11_init_9 : decode cX11_init 9 = .ok (.return_, 1) := dk_177 (dk_at dksX11_init_0 9 rfl rfl)
abbrev cX11_back : ByteArray := prog_2_method_2_code
def yX11_back : MethodName := ⟨RX11, "back", "(LSupplyGrid$Told;)V"⟩
def dkwX11_back_1 : List UInt8 := [184, 0, 22, 153, 0, 7, 4, 167, 0, 4, 3, 96, 79, 132, 2, 1, 167, 255, 220, 177]
abbrev dktX11_back_1 : List UInt8 := dkwX11_back_1 ++ []
def dkwX11_back_0 : List UInt8 := [3, 61, 28, 43, 180, 0, 13, 162, 0, 34, 43, 180, 0, 18, 28, 92, 46, 42, 180, 0, 7, 28]
abbrev dktX11_back_0 : List UInt8 := dkwX11_back_0 ++ dktX11_back_1
theorem dksX11_back_0 : cX11_back.data.toList.drop 0 = dktX11_back_0 := by decide +kernel
theorem dksX11_back_1 : cX11_back.data.toList.drop 22 = dktX11_back_1 := dk_seg dksX11_back_0 22 rfl rfl
theorem dX11_back_0 : decode cX11_back 0 = .ok (.iconst 0, 1) := dk_3 (dk_at dksX11_back_0 0 rfl rfl)
theorem dX11_back_1 : decode cX11_back 1 = .ok (.istore_n 2, 1) := dk_61 (dk_at dksX11_back_0 1 rfl rfl)
theorem dX11_back_2 : decode cX11_back 2 = .ok (.iload_n 2, 1) := dk_28 (dk_at dksX11_back_0 2 rfl rfl)
theorem dX11_back_3 : decode cX11_back 3 = .ok (.aload_n 1, 1) := dk_43 (dk_at dksX11_back_0 3 rfl rfl)
theorem dX11_back_4 : decode cX11_back 4 = .ok (.getfield 13, 3) := dk_180 0 13 (dk_at dksX11_back_0 4 rfl rfl)
theorem dX11_back_7 : decode cX11_back 7 = .ok (.if_icmp .ge 34, 3) := dk_162 0 34 (dk_at dksX11_back_0 7 rfl rfl)
theorem dX11_back_10 : decode cX11_back 10 = .ok (.aload_n 1, 1) := dk_43 (dk_at dksX11_back_0 10 rfl rfl)
theorem dX11_back_11 : decode cX11_back 11 = .ok (.getfield 18, 3) := dk_180 0 18 (dk_at dksX11_back_0 11 rfl rfl)
theorem dX11_back_14 : decode cX11_back 14 = .ok (.iload_n 2, 1) := dk_28 (dk_at dksX11_back_0 14 rfl rfl)
theorem dX11_back_15 : decode cX11_back 15 = .ok (.dup2, 1) := dk_92 (dk_at dksX11_back_0 15 rfl rfl)
theorem dX11_back_16 : decode cX11_back 16 = .ok (.iaload, 1) := dk_46 (dk_at dksX11_back_0 16 rfl rfl)
theorem dX11_back_17 : decode cX11_back 17 = .ok (.aload_n 0, 1) := dk_42 (dk_at dksX11_back_0 17 rfl rfl)
theorem dX11_back_18 : decode cX11_back 18 = .ok (.getfield 7, 3) := dk_180 0 7 (dk_at dksX11_back_0 18 rfl rfl)
theorem dX11_back_21 : decode cX11_back 21 = .ok (.iload_n 2, 1) := dk_28 (dk_at dksX11_back_0 21 rfl rfl)
theorem dX11_back_22 : decode cX11_back 22 = .ok (.invokestatic 22, 3) := dk_184 0 22 (dk_at dksX11_back_1 0 rfl rfl)
theorem dX11_back_25 : decode cX11_back 25 = .ok (.ifCond .eq 7, 3) := dk_153 0 7 (dk_at dksX11_back_1 3 rfl rfl)
theorem dX11_back_28 : decode cX11_back 28 = .ok (.iconst 1, 1) := dk_4 (dk_at dksX11_back_1 6 rfl rfl)
theorem dX11_back_29 : decode cX11_back 29 = .ok (.goto 4, 3) := dk_167 0 4 (dk_at dksX11_back_1 7 rfl rfl)
theorem dX11_back_32 : decode cX11_back 32 = .ok (.iconst 0, 1) := dk_3 (dk_at dksX11_back_1 10 rfl rfl)
theorem dX11_back_33 : decode cX11_back 33 = .ok (.iadd, 1) := dk_96 (dk_at dksX11_back_1 11 rfl rfl)
theorem dX11_back_34 : decode cX11_back 34 = .ok (.iastore, 1) := dk_79 (dk_at dksX11_back_1 12 rfl rfl)
theorem dX11_back_35 : decode cX11_back 35 = .ok (.iinc 2 1, 3) := dk_132 2 1 (dk_at dksX11_back_1 13 rfl rfl)
theorem dX11_back_38 : decode cX11_back 38 = .ok (.goto (-36), 3) := dk_167 255 220 (dk_at dksX11_back_1 16 rfl rfl)
theorem dX11_back_41 : decode cX11_back 41 = .ok (.return_, 1) := dk_177 (dk_at dksX11_back_1 19 rfl rfl)
theorem q146 : (Jvm.Cond.initialized "SupplyGrid$Aged") ∈ lw_all := lw_g (lw_at lw_m1 28 rfl) rfl
theorem q194 : (Jvm.Cond.fieldLinkNest "SupplyGrid$Aged" (18 : Nat) "SupplyGrid$Told" "width" "[I" "SupplyGrid") ∈ lw_tbl := lw_at lw_m1 76 rfl
theorem q235 : (Jvm.Cond.fieldLinkNest "SupplyGrid$Aged" (13 : Nat) "SupplyGrid$Told" "straps" "I" "SupplyGrid") ∈ lw_tbl := lw_at lw_m1 117 rfl
theorem q1207 : (Jvm.Cond.selects "SupplyGrid$Aged" ({ cls := "java/lang/Object", name := "getClass", desc := "()Ljava/lang/Class;" } : Jvm.MethodName) ({ cls := "java/lang/Object", name := "getClass", desc := "()Ljava/lang/Class;" } : Jvm.MethodName)) ∈ lw_all := lw_g (lw_at lw_m5 129 rfl) rfl
theorem q1266 : (Jvm.Cond.instantiable "SupplyGrid$Aged" (1 : Nat)) ∈ lw_all := lw_g (lw_at lw_m5 188 rfl) rfl
theorem q1268 : (Jvm.Cond.instanceMethod ({ cls := "SupplyGrid$Aged", name := "<init>", desc := "(I)V" } : Jvm.MethodName)) ∈ lw_all := lw_g (lw_at lw_m5 190 rfl) rfl
theorem q1269 : (Jvm.Cond.code ({ cls := "SupplyGrid$Aged", name := "<init>", desc := "(I)V" } : Jvm.MethodName) prog_2_method_1_code (2 : Nat) (Option.none : Option Jvm.ClassFile.FieldType)) ∈ lw_all := lw_g (lw_at lw_m5 191 rfl) rfl
theorem q1270 : (Jvm.Cond.methodLink "SupplyGrid$Aged" (1 : Nat) ({ cls := "java/lang/Object", name := "<init>", desc := "()V" } : Jvm.MethodName)) ∈ lw_all := lw_g (lw_at lw_m5 192 rfl) rfl
theorem q1271 : (Jvm.Cond.fieldLink "SupplyGrid$Aged" (7 : Nat) "SupplyGrid$Aged" "worn" "I") ∈ lw_all := lw_g (lw_at lw_m5 193 rfl) rfl
theorem q1273 : (Jvm.Cond.laysFinal "SupplyGrid$Aged" "SupplyGrid$Aged" "worn" "I") ∈ lw_all := lw_g (lw_at lw_m5 195 rfl) rfl
theorem q1274 : (Jvm.Cond.soleField "SupplyGrid$Aged" "worn") ∈ lw_all := lw_g (lw_at lw_m5 196 rfl) rfl
theorem q1275 : (Jvm.Cond.superclass "SupplyGrid$Aged" "java/lang/Object") ∈ lw_all := lw_g (lw_at lw_m5 197 rfl) rfl
theorem q1351 : (Jvm.Cond.castable "SupplyGrid$Aged" "SupplyGrid$Change") ∈ lw_tbl := lw_at lw_m6 33 rfl
theorem q1352 : (Jvm.Cond.selects "SupplyGrid$Aged" ({ cls := "SupplyGrid$Change", name := "back", desc := "(LSupplyGrid$Told;)V" } : Jvm.MethodName) ({ cls := "SupplyGrid$Aged", name := "back", desc := "(LSupplyGrid$Told;)V" } : Jvm.MethodName)) ∈ lw_all := lw_g (lw_at lw_m6 34 rfl) rfl
theorem q1353 : (Jvm.Cond.unhidden "SupplyGrid$Aged" "back" "(LSupplyGrid$Told;)V") ∈ lw_tbl := lw_at lw_m6 35 rfl
theorem q1354 : (Jvm.Cond.instanceMethod ({ cls := "SupplyGrid$Aged", name := "back", desc := "(LSupplyGrid$Told;)V" } : Jvm.MethodName)) ∈ lw_all := lw_g (lw_at lw_m6 36 rfl) rfl
theorem q1355 : (Jvm.Cond.publicMethod ({ cls := "SupplyGrid$Aged", name := "back", desc := "(LSupplyGrid$Told;)V" } : Jvm.MethodName)) ∈ lw_tbl := lw_at lw_m6 37 rfl
theorem q1356 : (Jvm.Cond.code ({ cls := "SupplyGrid$Aged", name := "back", desc := "(LSupplyGrid$Told;)V" } : Jvm.MethodName) prog_2_method_2_code (3 : Nat) (Option.none : Option Jvm.ClassFile.FieldType)) ∈ lw_all := lw_g (lw_at lw_m6 38 rfl) rfl
theorem q1357 : (Jvm.Cond.methodLinkNest "SupplyGrid$Aged" (22 : Nat) ({ cls := "SupplyGrid", name := "isOn", desc := "(II)Z" } : Jvm.MethodName) "SupplyGrid") ∈ lw_tbl := lw_at lw_m6 39 rfl
theorem q2112 : (Jvm.Cond.castable "SupplyGrid$Aged" "java/lang/Object") ∈ lw_tbl := lw_at lw_m9 74 rfl
theorem in_X11 : ∀ w ∈ wsX110, w ∈ lw_all := lw_in wsX110 [1273] (by decide +kernel) (by decide +kernel)

/-! java/util/Objects -/
set_option maxRecDepth 100000
def RJ13 : String := "java/util/Objects"
abbrev cJ13_checkIndex : ByteArray := prog_36_method_17_code
def yJ13_checkIndex : MethodName := ⟨RJ13, "checkIndex", "(II)I"⟩
def dkwJ13_checkIndex_0 : List UInt8 := [26, 27, 1, 184, 0, 105, 172]
abbrev dktJ13_checkIndex_0 : List UInt8 := dkwJ13_checkIndex_0 ++ []
theorem dksJ13_checkIndex_0 : cJ13_checkIndex.data.toList.drop 0 = dktJ13_checkIndex_0 := by decide +kernel
theorem dJ13_checkIndex_0 : decode cJ13_checkIndex 0 = .ok (.iload_n 0, 1) := dk_26 (dk_at dksJ13_checkIndex_0 0 rfl rfl)
theorem dJ13_checkIndex_1 : decode cJ13_checkIndex 1 = .ok (.iload_n 1, 1) := dk_27 (dk_at dksJ13_checkIndex_0 1 rfl rfl)
theorem dJ13_checkIndex_2 : decode cJ13_checkIndex 2 = .ok (.aconst_null, 1) := dk_1 (dk_at dksJ13_checkIndex_0 2 rfl rfl)
theorem dJ13_checkIndex_3 : decode cJ13_checkIndex 3 = .ok (.invokestatic 105, 3) := dk_184 0 105 (dk_at dksJ13_checkIndex_0 3 rfl rfl)
theorem dJ13_checkIndex_6 : decode cJ13_checkIndex 6 = .ok (.ireturn, 1) := dk_172 (dk_at dksJ13_checkIndex_0 6 rfl rfl)
theorem q147 : (Jvm.Cond.initialized "java/util/Objects") ∈ lw_all := lw_g (lw_at lw_m1 29 rfl) rfl
theorem q1316 : (Jvm.Cond.static ({ cls := "java/util/Objects", name := "checkIndex", desc := "(II)I" } : Jvm.MethodName)) ∈ lw_all := lw_g (lw_at lw_m5 238 rfl) rfl
theorem q1317 : (Jvm.Cond.code ({ cls := "java/util/Objects", name := "checkIndex", desc := "(II)I" } : Jvm.MethodName) prog_36_method_17_code (2 : Nat) (Option.some Jvm.ClassFile.FieldType.int)) ∈ lw_all := lw_g (lw_at lw_m5 239 rfl) rfl
theorem q1318 : (Jvm.Cond.methodLink "java/util/Objects" (105 : Nat) ({ cls := "jdk/internal/util/Preconditions", name := "checkIndex", desc := "(IILjava/util/function/BiFunction;)I" } : Jvm.MethodName)) ∈ lw_all := lw_g (lw_at lw_m6 0 rfl) rfl

/-! java/lang/Object -/
set_option maxRecDepth 100000
def RJ14 : String := "java/lang/Object"
abbrev cJ14_init : ByteArray := object_method_1_code
def yJ14_init : MethodName := ⟨RJ14, "<init>", "()V"⟩
theorem dJ14_init_0 : decode cJ14_init 0 = .ok (.return_, 1) := by decide +kernel
theorem q154 : (Jvm.Cond.instanceMethod ({ cls := "java/lang/Object", name := "<init>", desc := "()V" } : Jvm.MethodName)) ∈ lw_all := lw_g (lw_at lw_m1 36 rfl) rfl
theorem q155 : (Jvm.Cond.code ({ cls := "java/lang/Object", name := "<init>", desc := "()V" } : Jvm.MethodName) object_method_1_code (1 : Nat) (Option.none : Option Jvm.ClassFile.FieldType)) ∈ lw_all := lw_g (lw_at lw_m1 37 rfl) rfl
theorem q1204 : (Jvm.Cond.instanceMethod ({ cls := "java/lang/Object", name := "getClass", desc := "()Ljava/lang/Class;" } : Jvm.MethodName)) ∈ lw_all := lw_g (lw_at lw_m5 126 rfl) rfl
theorem q1205 : (Jvm.Cond.sameMethod "java/lang/Object" "java/lang/Object" "getClass" "()Ljava/lang/Class;") ∈ lw_all := lw_g (lw_at lw_m5 127 rfl) rfl
theorem q1219 : (Jvm.Cond.native ({ cls := "java/lang/Object", name := "getClass", desc := "()Ljava/lang/Class;" } : Jvm.MethodName)) ∈ lw_all := lw_g (lw_at lw_m5 141 rfl) rfl
theorem q2117 : (Jvm.Cond.declares ({ cls := "java/lang/Object", name := "getClass", desc := "()Ljava/lang/Class;" } : Jvm.MethodName)) ∈ lw_tbl := lw_at lw_m9 79 rfl

/-! SupplyGrid$Way$1 -/
set_option maxRecDepth 100000
def RX12 : String := "SupplyGrid$Way$1"
abbrev cX12_is : ByteArray := prog_14_method_2_code
def yX12_is : MethodName := ⟨RX12, "is", "(LSupplyGrid$Told;I)Z"⟩
def dkwX12_is_0 : List UInt8 := [28, 43, 180, 0, 7, 112, 43, 180, 0, 7, 4, 100, 162, 0, 7, 4, 167, 0, 4, 3, 172]
abbrev dktX12_is_0 : List UInt8 := dkwX12_is_0 ++ []
theorem dksX12_is_0 : cX12_is.data.toList.drop 0 = dktX12_is_0 := by decide +kernel
theorem dX12_is_0 : decode cX12_is 0 = .ok (.iload_n 2, 1) := dk_28 (dk_at dksX12_is_0 0 rfl rfl)
theorem dX12_is_1 : decode cX12_is 1 = .ok (.aload_n 1, 1) := dk_43 (dk_at dksX12_is_0 1 rfl rfl)
theorem dX12_is_2 : decode cX12_is 2 = .ok (.getfield 7, 3) := dk_180 0 7 (dk_at dksX12_is_0 2 rfl rfl)
theorem dX12_is_5 : decode cX12_is 5 = .ok (.irem, 1) := dk_112 (dk_at dksX12_is_0 5 rfl rfl)
theorem dX12_is_6 : decode cX12_is 6 = .ok (.aload_n 1, 1) := dk_43 (dk_at dksX12_is_0 6 rfl rfl)
theorem dX12_is_7 : decode cX12_is 7 = .ok (.getfield 7, 3) := dk_180 0 7 (dk_at dksX12_is_0 7 rfl rfl)
theorem dX12_is_10 : decode cX12_is 10 = .ok (.iconst 1, 1) := dk_4 (dk_at dksX12_is_0 10 rfl rfl)
theorem dX12_is_11 : decode cX12_is 11 = .ok (.isub, 1) := dk_100 (dk_at dksX12_is_0 11 rfl rfl)
theorem dX12_is_12 : decode cX12_is 12 = .ok (.if_icmp .ge 7, 3) := dk_162 0 7 (dk_at dksX12_is_0 12 rfl rfl)
theorem dX12_is_15 : decode cX12_is 15 = .ok (.iconst 1, 1) := dk_4 (dk_at dksX12_is_0 15 rfl rfl)
theorem dX12_is_16 : decode cX12_is 16 = .ok (.goto 4, 3) := dk_167 0 4 (dk_at dksX12_is_0 16 rfl rfl)
theorem dX12_is_19 : decode cX12_is 19 = .ok (.iconst 0, 1) := dk_3 (dk_at dksX12_is_0 19 rfl rfl)
theorem dX12_is_20 : decode cX12_is 20 = .ok (.ireturn, 1) := dk_172 (dk_at dksX12_is_0 20 rfl rfl)
abbrev cX12_to : ByteArray := prog_14_method_3_code
def yX12_to : MethodName := ⟨RX12, "to", "(LSupplyGrid$Told;I)I"⟩
def dkwX12_to_0 : List UInt8 := [28, 4, 96, 172]
abbrev dktX12_to_0 : List UInt8 := dkwX12_to_0 ++ []
theorem dksX12_to_0 : cX12_to.data.toList.drop 0 = dktX12_to_0 := by decide +kernel
theorem dX12_to_0 : decode cX12_to 0 = .ok (.iload_n 2, 1) := dk_28 (dk_at dksX12_to_0 0 rfl rfl)
theorem dX12_to_1 : decode cX12_to 1 = .ok (.iconst 1, 1) := dk_4 (dk_at dksX12_to_0 1 rfl rfl)
theorem dX12_to_2 : decode cX12_to 2 = .ok (.iadd, 1) := dk_96 (dk_at dksX12_to_0 2 rfl rfl)
theorem dX12_to_3 : decode cX12_to 3 = .ok (.ireturn, 1) := dk_172 (dk_at dksX12_to_0 3 rfl rfl)
theorem q218 : (Jvm.Cond.fieldLinkNest "SupplyGrid$Way$1" (7 : Nat) "SupplyGrid$Told" "columns" "I" "SupplyGrid") ∈ lw_tbl := lw_at lw_m1 100 rfl
theorem q628 : (Jvm.Cond.selects "SupplyGrid$Way$1" ({ cls := "SupplyGrid$Way", name := "is", desc := "(LSupplyGrid$Told;I)Z" } : Jvm.MethodName) ({ cls := "SupplyGrid$Way$1", name := "is", desc := "(LSupplyGrid$Told;I)Z" } : Jvm.MethodName)) ∈ lw_all := lw_g (lw_at lw_m3 30 rfl) rfl
theorem q629 : (Jvm.Cond.instanceMethod ({ cls := "SupplyGrid$Way$1", name := "is", desc := "(LSupplyGrid$Told;I)Z" } : Jvm.MethodName)) ∈ lw_all := lw_g (lw_at lw_m3 31 rfl) rfl
theorem q630 : (Jvm.Cond.code ({ cls := "SupplyGrid$Way$1", name := "is", desc := "(LSupplyGrid$Told;I)Z" } : Jvm.MethodName) prog_14_method_2_code (3 : Nat) (Option.some Jvm.ClassFile.FieldType.boolean)) ∈ lw_all := lw_g (lw_at lw_m3 32 rfl) rfl
theorem q637 : (Jvm.Cond.selects "SupplyGrid$Way$1" ({ cls := "SupplyGrid$Way", name := "to", desc := "(LSupplyGrid$Told;I)I" } : Jvm.MethodName) ({ cls := "SupplyGrid$Way$1", name := "to", desc := "(LSupplyGrid$Told;I)I" } : Jvm.MethodName)) ∈ lw_all := lw_g (lw_at lw_m3 39 rfl) rfl
theorem q638 : (Jvm.Cond.instanceMethod ({ cls := "SupplyGrid$Way$1", name := "to", desc := "(LSupplyGrid$Told;I)I" } : Jvm.MethodName)) ∈ lw_all := lw_g (lw_at lw_m3 40 rfl) rfl
theorem q639 : (Jvm.Cond.code ({ cls := "SupplyGrid$Way$1", name := "to", desc := "(LSupplyGrid$Told;I)I" } : Jvm.MethodName) prog_14_method_3_code (3 : Nat) (Option.some Jvm.ClassFile.FieldType.int)) ∈ lw_all := lw_g (lw_at lw_m3 41 rfl) rfl
theorem q1215 : (Jvm.Cond.selects "SupplyGrid$Way$1" ({ cls := "java/lang/Object", name := "getClass", desc := "()Ljava/lang/Class;" } : Jvm.MethodName) ({ cls := "java/lang/Object", name := "getClass", desc := "()Ljava/lang/Class;" } : Jvm.MethodName)) ∈ lw_all := lw_g (lw_at lw_m5 137 rfl) rfl
theorem q2107 : (Jvm.Cond.castable "SupplyGrid$Way$1" "java/lang/Object") ∈ lw_tbl := lw_at lw_m9 69 rfl

/-! SupplyGrid$Way$2 -/
set_option maxRecDepth 100000
def RX13 : String := "SupplyGrid$Way$2"
abbrev cX13_is : ByteArray := prog_15_method_2_code
def yX13_is : MethodName := ⟨RX13, "is", "(LSupplyGrid$Told;I)Z"⟩
def dkwX13_is_0 : List UInt8 := [28, 43, 180, 0, 7, 108, 43, 180, 0, 13, 4, 100, 162, 0, 7, 4, 167, 0, 4, 3, 172]
abbrev dktX13_is_0 : List UInt8 := dkwX13_is_0 ++ []
theorem dksX13_is_0 : cX13_is.data.toList.drop 0 = dktX13_is_0 := by decide +kernel
theorem dX13_is_0 : decode cX13_is 0 = .ok (.iload_n 2, 1) := dk_28 (dk_at dksX13_is_0 0 rfl rfl)
theorem dX13_is_1 : decode cX13_is 1 = .ok (.aload_n 1, 1) := dk_43 (dk_at dksX13_is_0 1 rfl rfl)
theorem dX13_is_2 : decode cX13_is 2 = .ok (.getfield 7, 3) := dk_180 0 7 (dk_at dksX13_is_0 2 rfl rfl)
theorem dX13_is_5 : decode cX13_is 5 = .ok (.idiv, 1) := dk_108 (dk_at dksX13_is_0 5 rfl rfl)
theorem dX13_is_6 : decode cX13_is 6 = .ok (.aload_n 1, 1) := dk_43 (dk_at dksX13_is_0 6 rfl rfl)
theorem dX13_is_7 : decode cX13_is 7 = .ok (.getfield 13, 3) := dk_180 0 13 (dk_at dksX13_is_0 7 rfl rfl)
theorem dX13_is_10 : decode cX13_is 10 = .ok (.iconst 1, 1) := dk_4 (dk_at dksX13_is_0 10 rfl rfl)
theorem dX13_is_11 : decode cX13_is 11 = .ok (.isub, 1) := dk_100 (dk_at dksX13_is_0 11 rfl rfl)
theorem dX13_is_12 : decode cX13_is 12 = .ok (.if_icmp .ge 7, 3) := dk_162 0 7 (dk_at dksX13_is_0 12 rfl rfl)
theorem dX13_is_15 : decode cX13_is 15 = .ok (.iconst 1, 1) := dk_4 (dk_at dksX13_is_0 15 rfl rfl)
theorem dX13_is_16 : decode cX13_is 16 = .ok (.goto 4, 3) := dk_167 0 4 (dk_at dksX13_is_0 16 rfl rfl)
theorem dX13_is_19 : decode cX13_is 19 = .ok (.iconst 0, 1) := dk_3 (dk_at dksX13_is_0 19 rfl rfl)
theorem dX13_is_20 : decode cX13_is 20 = .ok (.ireturn, 1) := dk_172 (dk_at dksX13_is_0 20 rfl rfl)
abbrev cX13_to : ByteArray := prog_15_method_3_code
def yX13_to : MethodName := ⟨RX13, "to", "(LSupplyGrid$Told;I)I"⟩
def dkwX13_to_0 : List UInt8 := [28, 43, 180, 0, 7, 96, 172]
abbrev dktX13_to_0 : List UInt8 := dkwX13_to_0 ++ []
theorem dksX13_to_0 : cX13_to.data.toList.drop 0 = dktX13_to_0 := by decide +kernel
theorem dX13_to_0 : decode cX13_to 0 = .ok (.iload_n 2, 1) := dk_28 (dk_at dksX13_to_0 0 rfl rfl)
theorem dX13_to_1 : decode cX13_to 1 = .ok (.aload_n 1, 1) := dk_43 (dk_at dksX13_to_0 1 rfl rfl)
theorem dX13_to_2 : decode cX13_to 2 = .ok (.getfield 7, 3) := dk_180 0 7 (dk_at dksX13_to_0 2 rfl rfl)
theorem dX13_to_5 : decode cX13_to 5 = .ok (.iadd, 1) := dk_96 (dk_at dksX13_to_0 5 rfl rfl)
theorem dX13_to_6 : decode cX13_to 6 = .ok (.ireturn, 1) := dk_172 (dk_at dksX13_to_0 6 rfl rfl)
theorem q219 : (Jvm.Cond.fieldLinkNest "SupplyGrid$Way$2" (7 : Nat) "SupplyGrid$Told" "columns" "I" "SupplyGrid") ∈ lw_tbl := lw_at lw_m1 101 rfl
theorem q223 : (Jvm.Cond.fieldLinkNest "SupplyGrid$Way$2" (13 : Nat) "SupplyGrid$Told" "rows" "I" "SupplyGrid") ∈ lw_tbl := lw_at lw_m1 105 rfl
theorem q631 : (Jvm.Cond.selects "SupplyGrid$Way$2" ({ cls := "SupplyGrid$Way", name := "is", desc := "(LSupplyGrid$Told;I)Z" } : Jvm.MethodName) ({ cls := "SupplyGrid$Way$2", name := "is", desc := "(LSupplyGrid$Told;I)Z" } : Jvm.MethodName)) ∈ lw_all := lw_g (lw_at lw_m3 33 rfl) rfl
theorem q632 : (Jvm.Cond.instanceMethod ({ cls := "SupplyGrid$Way$2", name := "is", desc := "(LSupplyGrid$Told;I)Z" } : Jvm.MethodName)) ∈ lw_all := lw_g (lw_at lw_m3 34 rfl) rfl
theorem q633 : (Jvm.Cond.code ({ cls := "SupplyGrid$Way$2", name := "is", desc := "(LSupplyGrid$Told;I)Z" } : Jvm.MethodName) prog_15_method_2_code (3 : Nat) (Option.some Jvm.ClassFile.FieldType.boolean)) ∈ lw_all := lw_g (lw_at lw_m3 35 rfl) rfl
theorem q640 : (Jvm.Cond.selects "SupplyGrid$Way$2" ({ cls := "SupplyGrid$Way", name := "to", desc := "(LSupplyGrid$Told;I)I" } : Jvm.MethodName) ({ cls := "SupplyGrid$Way$2", name := "to", desc := "(LSupplyGrid$Told;I)I" } : Jvm.MethodName)) ∈ lw_all := lw_g (lw_at lw_m3 42 rfl) rfl
theorem q641 : (Jvm.Cond.instanceMethod ({ cls := "SupplyGrid$Way$2", name := "to", desc := "(LSupplyGrid$Told;I)I" } : Jvm.MethodName)) ∈ lw_all := lw_g (lw_at lw_m3 43 rfl) rfl
theorem q642 : (Jvm.Cond.code ({ cls := "SupplyGrid$Way$2", name := "to", desc := "(LSupplyGrid$Told;I)I" } : Jvm.MethodName) prog_15_method_3_code (3 : Nat) (Option.some Jvm.ClassFile.FieldType.int)) ∈ lw_all := lw_g (lw_at lw_m3 44 rfl) rfl
theorem q1216 : (Jvm.Cond.selects "SupplyGrid$Way$2" ({ cls := "java/lang/Object", name := "getClass", desc := "()Ljava/lang/Class;" } : Jvm.MethodName) ({ cls := "java/lang/Object", name := "getClass", desc := "()Ljava/lang/Class;" } : Jvm.MethodName)) ∈ lw_all := lw_g (lw_at lw_m5 138 rfl) rfl
theorem q2108 : (Jvm.Cond.castable "SupplyGrid$Way$2" "java/lang/Object") ∈ lw_tbl := lw_at lw_m9 70 rfl

theorem q175 : (Jvm.Cond.arrayOver (Jvm.ClassFile.FieldType.object "java/lang/Object")) ∈ lw_tbl := lw_at lw_m1 57 rfl
set_option maxRecDepth 100000
theorem q190 : (Jvm.Cond.arrayClass Jvm.ClassFile.FieldType.int) ∈ lw_all := lw_g (lw_at lw_m1 72 rfl) rfl
theorem q277 : (Jvm.Cond.arrayOver (Jvm.ClassFile.FieldType.object "SupplyGrid$Told")) ∈ lw_tbl := lw_at lw_m1 159 rfl
theorem q291 : (Jvm.Cond.arrayOver (Jvm.ClassFile.FieldType.array Jvm.ClassFile.FieldType.long)) ∈ lw_tbl := lw_at lw_m1 173 rfl
theorem q341 : (Jvm.Cond.arrayClass Jvm.ClassFile.FieldType.byte) ∈ lw_all := lw_g (lw_at lw_m1 223 rfl) rfl
theorem q342 : (Jvm.Cond.arrayClass Jvm.ClassFile.FieldType.long) ∈ lw_all := lw_g (lw_at lw_m1 224 rfl) rfl
theorem q1500 : (Jvm.Cond.arrayClass Jvm.ClassFile.FieldType.boolean) ∈ lw_all := lw_g (lw_at lw_m6 182 rfl) rfl

theorem q118 : (Jvm.Cond.initialized "SupplyGridLaw") ∈ lw_all := lw_g (lw_at lw_m1 0 rfl) rfl
set_option maxRecDepth 100000
theorem q148 : (Jvm.Cond.classLink "SupplyGridLaw" (7 : Nat) "SupplyGrid") ∈ lw_all := lw_g (lw_at lw_m1 30 rfl) rfl
theorem q150 : (Jvm.Cond.methodLink "SupplyGridLaw" (9 : Nat) ({ cls := "SupplyGrid", name := "<init>", desc := "()V" } : Jvm.MethodName)) ∈ lw_all := lw_g (lw_at lw_m1 32 rfl) rfl
theorem q395 : (Jvm.Cond.methodLink "SupplyGridLaw" (13 : Nat) ({ cls := "SupplyGrid", name := "feed", desc := "(IIIII)I" } : Jvm.MethodName)) ∈ lw_all := lw_g (lw_at lw_m2 37 rfl) rfl
theorem q399 : (Jvm.Cond.methodLink "SupplyGridLaw" (18 : Nat) ({ cls := "SupplyGrid", name := "end", desc := "(I)I" } : Jvm.MethodName)) ∈ lw_all := lw_g (lw_at lw_m2 41 rfl) rfl
theorem q406 : (Jvm.Cond.methodLink "SupplyGridLaw" (23 : Nat) ({ cls := "SupplyGrid", name := "grid", desc := "()I" } : Jvm.MethodName)) ∈ lw_all := lw_g (lw_at lw_m2 48 rfl) rfl
theorem q684 : (Jvm.Cond.methodLink "SupplyGridLaw" (28 : Nat) ({ cls := "SupplyGrid", name := "fault", desc := "(I)I" } : Jvm.MethodName)) ∈ lw_all := lw_g (lw_at lw_m3 86 rfl) rfl
theorem q688 : (Jvm.Cond.methodLink "SupplyGridLaw" (32 : Nat) ({ cls := "SupplyGrid", name := "count", desc := "(I)I" } : Jvm.MethodName)) ∈ lw_all := lw_g (lw_at lw_m3 90 rfl) rfl
theorem q752 : (Jvm.Cond.methodLink "SupplyGridLaw" (36 : Nat) ({ cls := "SupplyGrid", name := "strap", desc := "(II)I" } : Jvm.MethodName)) ∈ lw_all := lw_g (lw_at lw_m3 154 rfl) rfl
theorem q760 : (Jvm.Cond.methodLink "SupplyGridLaw" (41 : Nat) ({ cls := "SupplyGrid", name := "between", desc := "(II)I" } : Jvm.MethodName)) ∈ lw_all := lw_g (lw_at lw_m3 162 rfl) rfl
theorem q774 : (Jvm.Cond.methodLink "SupplyGridLaw" (45 : Nat) ({ cls := "SupplyGrid", name := "node", desc := "(II)I" } : Jvm.MethodName)) ∈ lw_all := lw_g (lw_at lw_m3 176 rfl) rfl
theorem q790 : (Jvm.Cond.methodLink "SupplyGridLaw" (49 : Nat) ({ cls := "SupplyGrid", name := "budget", desc := "(I)I" } : Jvm.MethodName)) ∈ lw_all := lw_g (lw_at lw_m3 192 rfl) rfl
theorem q795 : (Jvm.Cond.methodLink "SupplyGridLaw" (53 : Nat) ({ cls := "SupplyGrid", name := "drop", desc := "(II)J" } : Jvm.MethodName)) ∈ lw_all := lw_g (lw_at lw_m3 197 rfl) rfl
theorem q813 : (Jvm.Cond.methodLink "SupplyGridLaw" (58 : Nat) ({ cls := "SupplyGrid", name := "through", desc := "(II)J" } : Jvm.MethodName)) ∈ lw_all := lw_g (lw_at lw_m3 215 rfl) rfl
theorem q823 : (Jvm.Cond.methodLink "SupplyGridLaw" (136 : Nat) ({ cls := "SupplyGrid", name := "heat", desc := "(II)J" } : Jvm.MethodName)) ∈ lw_all := lw_g (lw_at lw_m3 225 rfl) rfl
theorem q827 : (Jvm.Cond.methodLink "SupplyGridLaw" (62 : Nat) ({ cls := "SupplyGrid", name := "gives", desc := "(II)J" } : Jvm.MethodName)) ∈ lw_all := lw_g (lw_at lw_m3 229 rfl) rfl
theorem q835 : (Jvm.Cond.methodLink "SupplyGridLaw" (66 : Nat) ({ cls := "SupplyGrid", name := "chief", desc := "()I" } : Jvm.MethodName)) ∈ lw_all := lw_g (lw_at lw_m3 237 rfl) rfl
theorem q839 : (Jvm.Cond.methodLink "SupplyGridLaw" (70 : Nat) ({ cls := "SupplyGrid", name := "area", desc := "()I" } : Jvm.MethodName)) ∈ lw_all := lw_g (lw_at lw_m4 1 rfl) rfl
theorem q843 : (Jvm.Cond.methodLink "SupplyGridLaw" (74 : Nat) ({ cls := "SupplyGrid", name := "worst", desc := "()I" } : Jvm.MethodName)) ∈ lw_all := lw_g (lw_at lw_m4 5 rfl) rfl
theorem q851 : (Jvm.Cond.methodLink "SupplyGridLaw" (78 : Nat) ({ cls := "SupplyGrid", name := "over", desc := "()I" } : Jvm.MethodName)) ∈ lw_all := lw_g (lw_at lw_m4 13 rfl) rfl
theorem q859 : (Jvm.Cond.methodLink "SupplyGridLaw" (82 : Nat) ({ cls := "SupplyGrid", name := "holds", desc := "()I" } : Jvm.MethodName)) ∈ lw_all := lw_g (lw_at lw_m4 21 rfl) rfl
theorem q872 : (Jvm.Cond.methodLink "SupplyGridLaw" (86 : Nat) ({ cls := "SupplyGrid", name := "loss", desc := "(I)J" } : Jvm.MethodName)) ∈ lw_all := lw_g (lw_at lw_m4 34 rfl) rfl
theorem q876 : (Jvm.Cond.methodLink "SupplyGridLaw" (91 : Nat) ({ cls := "SupplyGrid", name := "moves", desc := "(III)J" } : Jvm.MethodName)) ∈ lw_all := lw_g (lw_at lw_m4 38 rfl) rfl
theorem q881 : (Jvm.Cond.methodLink "SupplyGridLaw" (96 : Nat) ({ cls := "SupplyGrid", name := "resists", desc := "(III)J" } : Jvm.MethodName)) ∈ lw_all := lw_g (lw_at lw_m4 43 rfl) rfl
theorem q887 : (Jvm.Cond.methodLink "SupplyGridLaw" (140 : Nat) ({ cls := "SupplyGrid", name := "hottest", desc := "()I" } : Jvm.MethodName)) ∈ lw_all := lw_g (lw_at lw_m4 49 rfl) rfl
theorem q891 : (Jvm.Cond.methodLink "SupplyGridLaw" (144 : Nat) ({ cls := "SupplyGrid", name := "wearing", desc := "()I" } : Jvm.MethodName)) ∈ lw_all := lw_g (lw_at lw_m4 53 rfl) rfl
theorem q901 : (Jvm.Cond.methodLink "SupplyGridLaw" (100 : Nat) ({ cls := "SupplyGrid", name := "most", desc := "(II)J" } : Jvm.MethodName)) ∈ lw_all := lw_g (lw_at lw_m4 63 rfl) rfl
theorem q914 : (Jvm.Cond.methodLink "SupplyGridLaw" (104 : Nat) ({ cls := "SupplyGrid", name := "drawn", desc := "(II)I" } : Jvm.MethodName)) ∈ lw_all := lw_g (lw_at lw_m4 76 rfl) rfl
theorem q918 : (Jvm.Cond.methodLink "SupplyGridLaw" (108 : Nat) ({ cls := "SupplyGrid", name := "foe", desc := "()I" } : Jvm.MethodName)) ∈ lw_all := lw_g (lw_at lw_m4 80 rfl) rfl
theorem q926 : (Jvm.Cond.methodLink "SupplyGridLaw" (112 : Nat) ({ cls := "SupplyGrid", name := "uns\x61fe", desc := "()I" } : Jvm.MethodName)) ∈ lw_all := lw_g (lw_at lw_m4 88 rfl) rfl
theorem q930 : (Jvm.Cond.methodLink "SupplyGridLaw" (116 : Nat) ({ cls := "SupplyGrid", name := "tight", desc := "(I)I" } : Jvm.MethodName)) ∈ lw_all := lw_g (lw_at lw_m4 92 rfl) rfl
theorem q934 : (Jvm.Cond.methodLink "SupplyGridLaw" (120 : Nat) ({ cls := "SupplyGrid", name := "share", desc := "(III)J" } : Jvm.MethodName)) ∈ lw_all := lw_g (lw_at lw_m4 96 rfl) rfl
theorem q938 : (Jvm.Cond.methodLink "SupplyGridLaw" (124 : Nat) ({ cls := "SupplyGrid", name := "feeder", desc := "(II)I" } : Jvm.MethodName)) ∈ lw_all := lw_g (lw_at lw_m4 100 rfl) rfl
theorem q946 : (Jvm.Cond.methodLink "SupplyGridLaw" (128 : Nat) ({ cls := "SupplyGrid", name := "parts", desc := "()I" } : Jvm.MethodName)) ∈ lw_all := lw_g (lw_at lw_m4 108 rfl) rfl
theorem q954 : (Jvm.Cond.methodLink "SupplyGridLaw" (132 : Nat) ({ cls := "SupplyGrid", name := "reached", desc := "(I)I" } : Jvm.MethodName)) ∈ lw_all := lw_g (lw_at lw_m4 116 rfl) rfl
theorem q958 : (Jvm.Cond.methodLink "SupplyGridLaw" (148 : Nat) ({ cls := "SupplyGrid", name := "aged", desc := "(II)I" } : Jvm.MethodName)) ∈ lw_all := lw_g (lw_at lw_m4 120 rfl) rfl
theorem q979 : (Jvm.Cond.methodLink "SupplyGridLaw" (152 : Nat) ({ cls := "SupplyGrid", name := "lasts", desc := "()I" } : Jvm.MethodName)) ∈ lw_all := lw_g (lw_at lw_m4 141 rfl) rfl
theorem q983 : (Jvm.Cond.methodLink "SupplyGridLaw" (156 : Nat) ({ cls := "SupplyGrid", name := "worn", desc := "(I)I" } : Jvm.MethodName)) ∈ lw_all := lw_g (lw_at lw_m4 145 rfl) rfl
theorem q987 : (Jvm.Cond.methodLink "SupplyGridLaw" (160 : Nat) ({ cls := "SupplyGrid", name := "calms", desc := "()I" } : Jvm.MethodName)) ∈ lw_all := lw_g (lw_at lw_m4 149 rfl) rfl
theorem q991 : (Jvm.Cond.methodLink "SupplyGridLaw" (164 : Nat) ({ cls := "SupplyGrid", name := "pad", desc := "(I)I" } : Jvm.MethodName)) ∈ lw_all := lw_g (lw_at lw_m4 153 rfl) rfl
theorem q1020 : (Jvm.Cond.methodLink "SupplyGridLaw" (168 : Nat) ({ cls := "SupplyGrid", name := "pads", desc := "(I)I" } : Jvm.MethodName)) ∈ lw_all := lw_g (lw_at lw_m4 182 rfl) rfl
theorem q1030 : (Jvm.Cond.methodLink "SupplyGridLaw" (172 : Nat) ({ cls := "SupplyGrid", name := "padded", desc := "(II)J" } : Jvm.MethodName)) ∈ lw_all := lw_g (lw_at lw_m4 192 rfl) rfl
theorem q1034 : (Jvm.Cond.methodLink "SupplyGridLaw" (176 : Nat) ({ cls := "SupplyGrid", name := "enough", desc := "()I" } : Jvm.MethodName)) ∈ lw_all := lw_g (lw_at lw_m4 196 rfl) rfl
theorem q1038 : (Jvm.Cond.methodLink "SupplyGridLaw" (180 : Nat) ({ cls := "SupplyGrid", name := "widens", desc := "()I" } : Jvm.MethodName)) ∈ lw_all := lw_g (lw_at lw_m4 200 rfl) rfl
theorem q1050 : (Jvm.Cond.methodLink "SupplyGridLaw" (184 : Nat) ({ cls := "SupplyGrid", name := "widen", desc := "(I)I" } : Jvm.MethodName)) ∈ lw_all := lw_g (lw_at lw_m4 212 rfl) rfl
theorem q1054 : (Jvm.Cond.methodLink "SupplyGridLaw" (188 : Nat) ({ cls := "SupplyGrid", name := "wide", desc := "()I" } : Jvm.MethodName)) ∈ lw_all := lw_g (lw_at lw_m4 216 rfl) rfl
theorem q1058 : (Jvm.Cond.methodLink "SupplyGridLaw" (192 : Nat) ({ cls := "SupplyGrid", name := "fewest", desc := "()I" } : Jvm.MethodName)) ∈ lw_all := lw_g (lw_at lw_m4 220 rfl) rfl
theorem q1070 : (Jvm.Cond.methodLink "SupplyGridLaw" (196 : Nat) ({ cls := "SupplyGrid", name := "few", desc := "(I)I" } : Jvm.MethodName)) ∈ lw_all := lw_g (lw_at lw_m4 232 rfl) rfl
theorem q1074 : (Jvm.Cond.methodLink "SupplyGridLaw" (200 : Nat) ({ cls := "SupplyGrid", name := "slims", desc := "()I" } : Jvm.MethodName)) ∈ lw_all := lw_g (lw_at lw_m4 236 rfl) rfl
theorem q1082 : (Jvm.Cond.methodLink "SupplyGridLaw" (204 : Nat) ({ cls := "SupplyGrid", name := "slim", desc := "(I)I" } : Jvm.MethodName)) ∈ lw_all := lw_g (lw_at lw_m5 4 rfl) rfl
theorem q1087 : (Jvm.Cond.methodLink "SupplyGridLaw" (208 : Nat) ({ cls := "SupplyGrid", name := "without", desc := "(II)J" } : Jvm.MethodName)) ∈ lw_all := lw_g (lw_at lw_m5 9 rfl) rfl
theorem q1095 : (Jvm.Cond.methodLink "SupplyGridLaw" (212 : Nat) ({ cls := "SupplyGrid", name := "lost", desc := "(I)I" } : Jvm.MethodName)) ∈ lw_all := lw_g (lw_at lw_m5 17 rfl) rfl
theorem q1099 : (Jvm.Cond.methodLink "SupplyGridLaw" (216 : Nat) ({ cls := "SupplyGrid", name := "vital", desc := "()I" } : Jvm.MethodName)) ∈ lw_all := lw_g (lw_at lw_m5 21 rfl) rfl
theorem q1107 : (Jvm.Cond.methodLink "SupplyGridLaw" (220 : Nat) ({ cls := "SupplyGrid", name := "spare", desc := "()I" } : Jvm.MethodName)) ∈ lw_all := lw_g (lw_at lw_m5 29 rfl) rfl
theorem q1111 : (Jvm.Cond.methodLink "SupplyGridLaw" (224 : Nat) ({ cls := "SupplyGrid", name := "pairs", desc := "()I" } : Jvm.MethodName)) ∈ lw_all := lw_g (lw_at lw_m5 33 rfl) rfl
theorem q1123 : (Jvm.Cond.methodLink "SupplyGridLaw" (228 : Nat) ({ cls := "SupplyGrid", name := "pair", desc := "(I)I" } : Jvm.MethodName)) ∈ lw_all := lw_g (lw_at lw_m5 45 rfl) rfl
theorem q1127 : (Jvm.Cond.methodLink "SupplyGridLaw" (232 : Nat) ({ cls := "SupplyGrid", name := "chance", desc := "(II)I" } : Jvm.MethodName)) ∈ lw_all := lw_g (lw_at lw_m5 49 rfl) rfl
theorem q1143 : (Jvm.Cond.methodLink "SupplyGridLaw" (236 : Nat) ({ cls := "SupplyGrid", name := "luck", desc := "(III)J" } : Jvm.MethodName)) ∈ lw_all := lw_g (lw_at lw_m5 65 rfl) rfl
theorem q1147 : (Jvm.Cond.methodLink "SupplyGridLaw" (240 : Nat) ({ cls := "SupplyGrid", name := "room", desc := "(I)I" } : Jvm.MethodName)) ∈ lw_all := lw_g (lw_at lw_m5 69 rfl) rfl
theorem q1151 : (Jvm.Cond.methodLink "SupplyGridLaw" (244 : Nat) ({ cls := "SupplyGrid", name := "lay", desc := "(II)I" } : Jvm.MethodName)) ∈ lw_all := lw_g (lw_at lw_m5 73 rfl) rfl
theorem q1228 : (Jvm.Cond.methodLink "SupplyGridLaw" (248 : Nat) ({ cls := "SupplyGrid", name := "feeds", desc := "(I)I" } : Jvm.MethodName)) ∈ lw_all := lw_g (lw_at lw_m5 150 rfl) rfl
theorem q1242 : (Jvm.Cond.methodLink "SupplyGridLaw" (252 : Nat) ({ cls := "SupplyGrid", name := "draw", desc := "(II)I" } : Jvm.MethodName)) ∈ lw_all := lw_g (lw_at lw_m5 164 rfl) rfl
theorem q1261 : (Jvm.Cond.methodLink "SupplyGridLaw" (256 : Nat) ({ cls := "SupplyGrid", name := "year", desc := "()I" } : Jvm.MethodName)) ∈ lw_all := lw_g (lw_at lw_m5 183 rfl) rfl
theorem q1276 : (Jvm.Cond.methodLink "SupplyGridLaw" (264 : Nat) ({ cls := "SupplyGrid", name := "image", desc := "(I)I" } : Jvm.MethodName)) ∈ lw_all := lw_g (lw_at lw_m5 198 rfl) rfl
theorem q1303 : (Jvm.Cond.methodLink "SupplyGridLaw" (268 : Nat) ({ cls := "SupplyGrid", name := "back", desc := "(I)I" } : Jvm.MethodName)) ∈ lw_all := lw_g (lw_at lw_m5 225 rfl) rfl
theorem q1307 : (Jvm.Cond.methodLink "SupplyGridLaw" (260 : Nat) ({ cls := "SupplyGrid", name := "did", desc := "(II)I" } : Jvm.MethodName)) ∈ lw_all := lw_g (lw_at lw_m5 229 rfl) rfl
theorem q1327 : (Jvm.Cond.methodLink "SupplyGridLaw" (272 : Nat) ({ cls := "SupplyGrid", name := "undo", desc := "()I" } : Jvm.MethodName)) ∈ lw_all := lw_g (lw_at lw_m6 9 rfl) rfl
theorem q1376 : (Jvm.Cond.methodLink "SupplyGridLaw" (276 : Nat) ({ cls := "SupplyGrid", name := "anew", desc := "()I" } : Jvm.MethodName)) ∈ lw_all := lw_g (lw_at lw_m6 58 rfl) rfl
theorem q1380 : (Jvm.Cond.classLink "SupplyGridLaw" (10 : Nat) "SupplyGridModel") ∈ lw_all := lw_g (lw_at lw_m6 62 rfl) rfl
theorem q1382 : (Jvm.Cond.methodLink "SupplyGridLaw" (12 : Nat) ({ cls := "SupplyGridModel", name := "<init>", desc := "()V" } : Jvm.MethodName)) ∈ lw_all := lw_g (lw_at lw_m6 64 rfl) rfl
theorem q1501 : (Jvm.Cond.methodLink "SupplyGridLaw" (267 : Nat) ({ cls := "SupplyGridModel", name := "image", desc := "(I)I" } : Jvm.MethodName)) ∈ lw_all := lw_g (lw_at lw_m6 183 rfl) rfl
theorem q1509 : (Jvm.Cond.methodLink "SupplyGridLaw" (271 : Nat) ({ cls := "SupplyGridModel", name := "back", desc := "(I)I" } : Jvm.MethodName)) ∈ lw_all := lw_g (lw_at lw_m6 191 rfl) rfl
theorem q1513 : (Jvm.Cond.methodLink "SupplyGridLaw" (17 : Nat) ({ cls := "SupplyGridModel", name := "feed", desc := "(IIIII)I" } : Jvm.MethodName)) ∈ lw_all := lw_g (lw_at lw_m6 195 rfl) rfl
theorem q1517 : (Jvm.Cond.methodLink "SupplyGridLaw" (22 : Nat) ({ cls := "SupplyGridModel", name := "end", desc := "(I)I" } : Jvm.MethodName)) ∈ lw_all := lw_g (lw_at lw_m6 199 rfl) rfl
theorem q1521 : (Jvm.Cond.methodLink "SupplyGridLaw" (31 : Nat) ({ cls := "SupplyGridModel", name := "fault", desc := "(I)I" } : Jvm.MethodName)) ∈ lw_all := lw_g (lw_at lw_m6 203 rfl) rfl
theorem q1525 : (Jvm.Cond.methodLink "SupplyGridLaw" (27 : Nat) ({ cls := "SupplyGridModel", name := "grid", desc := "()I" } : Jvm.MethodName)) ∈ lw_all := lw_g (lw_at lw_m6 207 rfl) rfl
theorem q1630 : (Jvm.Cond.methodLink "SupplyGridLaw" (35 : Nat) ({ cls := "SupplyGridModel", name := "count", desc := "(I)I" } : Jvm.MethodName)) ∈ lw_all := lw_g (lw_at lw_m7 72 rfl) rfl
theorem q1673 : (Jvm.Cond.methodLink "SupplyGridLaw" (40 : Nat) ({ cls := "SupplyGridModel", name := "strap", desc := "(II)I" } : Jvm.MethodName)) ∈ lw_all := lw_g (lw_at lw_m7 115 rfl) rfl
theorem q1681 : (Jvm.Cond.methodLink "SupplyGridLaw" (44 : Nat) ({ cls := "SupplyGridModel", name := "between", desc := "(II)I" } : Jvm.MethodName)) ∈ lw_all := lw_g (lw_at lw_m7 123 rfl) rfl
theorem q1689 : (Jvm.Cond.methodLink "SupplyGridLaw" (48 : Nat) ({ cls := "SupplyGridModel", name := "node", desc := "(II)I" } : Jvm.MethodName)) ∈ lw_all := lw_g (lw_at lw_m7 131 rfl) rfl
theorem q1698 : (Jvm.Cond.methodLink "SupplyGridLaw" (52 : Nat) ({ cls := "SupplyGridModel", name := "budget", desc := "(I)I" } : Jvm.MethodName)) ∈ lw_all := lw_g (lw_at lw_m7 140 rfl) rfl
theorem q1702 : (Jvm.Cond.methodLink "SupplyGridLaw" (57 : Nat) ({ cls := "SupplyGridModel", name := "drop", desc := "(II)J" } : Jvm.MethodName)) ∈ lw_all := lw_g (lw_at lw_m7 144 rfl) rfl
theorem q1726 : (Jvm.Cond.methodLink "SupplyGridLaw" (61 : Nat) ({ cls := "SupplyGridModel", name := "through", desc := "(II)J" } : Jvm.MethodName)) ∈ lw_all := lw_g (lw_at lw_m7 168 rfl) rfl
theorem q1735 : (Jvm.Cond.methodLink "SupplyGridLaw" (69 : Nat) ({ cls := "SupplyGridModel", name := "chief", desc := "()I" } : Jvm.MethodName)) ∈ lw_all := lw_g (lw_at lw_m7 177 rfl) rfl
theorem q1743 : (Jvm.Cond.methodLink "SupplyGridLaw" (73 : Nat) ({ cls := "SupplyGridModel", name := "area", desc := "()I" } : Jvm.MethodName)) ∈ lw_all := lw_g (lw_at lw_m7 185 rfl) rfl
theorem q1747 : (Jvm.Cond.methodLink "SupplyGridLaw" (65 : Nat) ({ cls := "SupplyGridModel", name := "gives", desc := "(II)J" } : Jvm.MethodName)) ∈ lw_all := lw_g (lw_at lw_m7 189 rfl) rfl
theorem q1751 : (Jvm.Cond.methodLink "SupplyGridLaw" (77 : Nat) ({ cls := "SupplyGridModel", name := "worst", desc := "()I" } : Jvm.MethodName)) ∈ lw_all := lw_g (lw_at lw_m7 193 rfl) rfl
theorem q1762 : (Jvm.Cond.methodLink "SupplyGridLaw" (81 : Nat) ({ cls := "SupplyGridModel", name := "over", desc := "()I" } : Jvm.MethodName)) ∈ lw_all := lw_g (lw_at lw_m7 204 rfl) rfl
theorem q1766 : (Jvm.Cond.methodLink "SupplyGridLaw" (85 : Nat) ({ cls := "SupplyGridModel", name := "holds", desc := "()I" } : Jvm.MethodName)) ∈ lw_all := lw_g (lw_at lw_m7 208 rfl) rfl
theorem q1778 : (Jvm.Cond.methodLink "SupplyGridLaw" (90 : Nat) ({ cls := "SupplyGridModel", name := "loss", desc := "(I)J" } : Jvm.MethodName)) ∈ lw_all := lw_g (lw_at lw_m7 220 rfl) rfl
theorem q1782 : (Jvm.Cond.methodLink "SupplyGridLaw" (95 : Nat) ({ cls := "SupplyGridModel", name := "moves", desc := "(III)J" } : Jvm.MethodName)) ∈ lw_all := lw_g (lw_at lw_m7 224 rfl) rfl
theorem q1786 : (Jvm.Cond.methodLink "SupplyGridLaw" (99 : Nat) ({ cls := "SupplyGridModel", name := "resists", desc := "(III)J" } : Jvm.MethodName)) ∈ lw_all := lw_g (lw_at lw_m7 228 rfl) rfl
theorem q1790 : (Jvm.Cond.methodLink "SupplyGridLaw" (123 : Nat) ({ cls := "SupplyGridModel", name := "share", desc := "(III)J" } : Jvm.MethodName)) ∈ lw_all := lw_g (lw_at lw_m7 232 rfl) rfl
theorem q1794 : (Jvm.Cond.methodLink "SupplyGridLaw" (127 : Nat) ({ cls := "SupplyGridModel", name := "feeder", desc := "(II)I" } : Jvm.MethodName)) ∈ lw_all := lw_g (lw_at lw_m7 236 rfl) rfl
theorem q1806 : (Jvm.Cond.methodLink "SupplyGridLaw" (131 : Nat) ({ cls := "SupplyGridModel", name := "parts", desc := "()I" } : Jvm.MethodName)) ∈ lw_all := lw_g (lw_at lw_m8 8 rfl) rfl
theorem q1810 : (Jvm.Cond.methodLink "SupplyGridLaw" (135 : Nat) ({ cls := "SupplyGridModel", name := "reached", desc := "(I)I" } : Jvm.MethodName)) ∈ lw_all := lw_g (lw_at lw_m8 12 rfl) rfl
theorem q1814 : (Jvm.Cond.methodLink "SupplyGridLaw" (103 : Nat) ({ cls := "SupplyGridModel", name := "most", desc := "(II)J" } : Jvm.MethodName)) ∈ lw_all := lw_g (lw_at lw_m8 16 rfl) rfl
theorem q1830 : (Jvm.Cond.methodLink "SupplyGridLaw" (107 : Nat) ({ cls := "SupplyGridModel", name := "drawn", desc := "(II)I" } : Jvm.MethodName)) ∈ lw_all := lw_g (lw_at lw_m8 32 rfl) rfl
theorem q1834 : (Jvm.Cond.methodLink "SupplyGridLaw" (119 : Nat) ({ cls := "SupplyGridModel", name := "tight", desc := "(I)I" } : Jvm.MethodName)) ∈ lw_all := lw_g (lw_at lw_m8 36 rfl) rfl
theorem q1838 : (Jvm.Cond.methodLink "SupplyGridLaw" (111 : Nat) ({ cls := "SupplyGridModel", name := "foe", desc := "()I" } : Jvm.MethodName)) ∈ lw_all := lw_g (lw_at lw_m8 40 rfl) rfl
theorem q1842 : (Jvm.Cond.methodLink "SupplyGridLaw" (115 : Nat) ({ cls := "SupplyGridModel", name := "uns\x61fe", desc := "()I" } : Jvm.MethodName)) ∈ lw_all := lw_g (lw_at lw_m8 44 rfl) rfl
theorem q1846 : (Jvm.Cond.methodLink "SupplyGridLaw" (139 : Nat) ({ cls := "SupplyGridModel", name := "heat", desc := "(II)J" } : Jvm.MethodName)) ∈ lw_all := lw_g (lw_at lw_m8 48 rfl) rfl
theorem q1854 : (Jvm.Cond.methodLink "SupplyGridLaw" (143 : Nat) ({ cls := "SupplyGridModel", name := "hottest", desc := "()I" } : Jvm.MethodName)) ∈ lw_all := lw_g (lw_at lw_m8 56 rfl) rfl
theorem q1858 : (Jvm.Cond.methodLink "SupplyGridLaw" (147 : Nat) ({ cls := "SupplyGridModel", name := "wearing", desc := "()I" } : Jvm.MethodName)) ∈ lw_all := lw_g (lw_at lw_m8 60 rfl) rfl
theorem q1866 : (Jvm.Cond.methodLink "SupplyGridLaw" (151 : Nat) ({ cls := "SupplyGridModel", name := "aged", desc := "(II)I" } : Jvm.MethodName)) ∈ lw_all := lw_g (lw_at lw_m8 68 rfl) rfl
theorem q1883 : (Jvm.Cond.methodLink "SupplyGridLaw" (155 : Nat) ({ cls := "SupplyGridModel", name := "lasts", desc := "()I" } : Jvm.MethodName)) ∈ lw_all := lw_g (lw_at lw_m8 85 rfl) rfl
theorem q1887 : (Jvm.Cond.methodLink "SupplyGridLaw" (159 : Nat) ({ cls := "SupplyGridModel", name := "worn", desc := "(I)I" } : Jvm.MethodName)) ∈ lw_all := lw_g (lw_at lw_m8 89 rfl) rfl
theorem q1891 : (Jvm.Cond.methodLink "SupplyGridLaw" (163 : Nat) ({ cls := "SupplyGridModel", name := "calms", desc := "()I" } : Jvm.MethodName)) ∈ lw_all := lw_g (lw_at lw_m8 93 rfl) rfl
theorem q1895 : (Jvm.Cond.methodLink "SupplyGridLaw" (167 : Nat) ({ cls := "SupplyGridModel", name := "pad", desc := "(I)I" } : Jvm.MethodName)) ∈ lw_all := lw_g (lw_at lw_m8 97 rfl) rfl
theorem q1918 : (Jvm.Cond.methodLink "SupplyGridLaw" (171 : Nat) ({ cls := "SupplyGridModel", name := "pads", desc := "(I)I" } : Jvm.MethodName)) ∈ lw_all := lw_g (lw_at lw_m8 120 rfl) rfl
theorem q1929 : (Jvm.Cond.methodLink "SupplyGridLaw" (175 : Nat) ({ cls := "SupplyGridModel", name := "padded", desc := "(II)J" } : Jvm.MethodName)) ∈ lw_all := lw_g (lw_at lw_m8 131 rfl) rfl
theorem q1933 : (Jvm.Cond.methodLink "SupplyGridLaw" (179 : Nat) ({ cls := "SupplyGridModel", name := "enough", desc := "()I" } : Jvm.MethodName)) ∈ lw_all := lw_g (lw_at lw_m8 135 rfl) rfl
theorem q1937 : (Jvm.Cond.methodLink "SupplyGridLaw" (183 : Nat) ({ cls := "SupplyGridModel", name := "widens", desc := "()I" } : Jvm.MethodName)) ∈ lw_all := lw_g (lw_at lw_m8 139 rfl) rfl
theorem q1957 : (Jvm.Cond.methodLink "SupplyGridLaw" (187 : Nat) ({ cls := "SupplyGridModel", name := "widen", desc := "(I)I" } : Jvm.MethodName)) ∈ lw_all := lw_g (lw_at lw_m8 159 rfl) rfl
theorem q1961 : (Jvm.Cond.methodLink "SupplyGridLaw" (191 : Nat) ({ cls := "SupplyGridModel", name := "wide", desc := "()I" } : Jvm.MethodName)) ∈ lw_all := lw_g (lw_at lw_m8 163 rfl) rfl
theorem q1965 : (Jvm.Cond.methodLink "SupplyGridLaw" (195 : Nat) ({ cls := "SupplyGridModel", name := "fewest", desc := "()I" } : Jvm.MethodName)) ∈ lw_all := lw_g (lw_at lw_m8 167 rfl) rfl
theorem q1977 : (Jvm.Cond.methodLink "SupplyGridLaw" (199 : Nat) ({ cls := "SupplyGridModel", name := "few", desc := "(I)I" } : Jvm.MethodName)) ∈ lw_all := lw_g (lw_at lw_m8 179 rfl) rfl
theorem q1981 : (Jvm.Cond.methodLink "SupplyGridLaw" (203 : Nat) ({ cls := "SupplyGridModel", name := "slims", desc := "()I" } : Jvm.MethodName)) ∈ lw_all := lw_g (lw_at lw_m8 183 rfl) rfl
theorem q1993 : (Jvm.Cond.methodLink "SupplyGridLaw" (207 : Nat) ({ cls := "SupplyGridModel", name := "slim", desc := "(I)I" } : Jvm.MethodName)) ∈ lw_all := lw_g (lw_at lw_m8 195 rfl) rfl
theorem q1997 : (Jvm.Cond.methodLink "SupplyGridLaw" (227 : Nat) ({ cls := "SupplyGridModel", name := "pairs", desc := "()I" } : Jvm.MethodName)) ∈ lw_all := lw_g (lw_at lw_m8 199 rfl) rfl
theorem q2013 : (Jvm.Cond.methodLink "SupplyGridLaw" (231 : Nat) ({ cls := "SupplyGridModel", name := "pair", desc := "(I)I" } : Jvm.MethodName)) ∈ lw_all := lw_g (lw_at lw_m8 215 rfl) rfl
theorem q2017 : (Jvm.Cond.methodLink "SupplyGridLaw" (235 : Nat) ({ cls := "SupplyGridModel", name := "chance", desc := "(II)I" } : Jvm.MethodName)) ∈ lw_all := lw_g (lw_at lw_m8 219 rfl) rfl
theorem q2033 : (Jvm.Cond.methodLink "SupplyGridLaw" (239 : Nat) ({ cls := "SupplyGridModel", name := "luck", desc := "(III)J" } : Jvm.MethodName)) ∈ lw_all := lw_g (lw_at lw_m8 235 rfl) rfl
theorem q2037 : (Jvm.Cond.methodLink "SupplyGridLaw" (211 : Nat) ({ cls := "SupplyGridModel", name := "without", desc := "(II)J" } : Jvm.MethodName)) ∈ lw_all := lw_g (lw_at lw_m8 239 rfl) rfl
theorem q2041 : (Jvm.Cond.methodLink "SupplyGridLaw" (215 : Nat) ({ cls := "SupplyGridModel", name := "lost", desc := "(I)I" } : Jvm.MethodName)) ∈ lw_all := lw_g (lw_at lw_m9 3 rfl) rfl
theorem q2045 : (Jvm.Cond.methodLink "SupplyGridLaw" (219 : Nat) ({ cls := "SupplyGridModel", name := "vital", desc := "()I" } : Jvm.MethodName)) ∈ lw_all := lw_g (lw_at lw_m9 7 rfl) rfl
theorem q2049 : (Jvm.Cond.methodLink "SupplyGridLaw" (223 : Nat) ({ cls := "SupplyGridModel", name := "spare", desc := "()I" } : Jvm.MethodName)) ∈ lw_all := lw_g (lw_at lw_m9 11 rfl) rfl
theorem q2053 : (Jvm.Cond.methodLink "SupplyGridLaw" (243 : Nat) ({ cls := "SupplyGridModel", name := "room", desc := "(I)I" } : Jvm.MethodName)) ∈ lw_all := lw_g (lw_at lw_m9 15 rfl) rfl
theorem q2057 : (Jvm.Cond.methodLink "SupplyGridLaw" (263 : Nat) ({ cls := "SupplyGridModel", name := "did", desc := "(II)I" } : Jvm.MethodName)) ∈ lw_all := lw_g (lw_at lw_m9 19 rfl) rfl
theorem q2061 : (Jvm.Cond.methodLink "SupplyGridLaw" (247 : Nat) ({ cls := "SupplyGridModel", name := "lay", desc := "(II)I" } : Jvm.MethodName)) ∈ lw_all := lw_g (lw_at lw_m9 23 rfl) rfl
theorem q2074 : (Jvm.Cond.methodLink "SupplyGridLaw" (251 : Nat) ({ cls := "SupplyGridModel", name := "feeds", desc := "(I)I" } : Jvm.MethodName)) ∈ lw_all := lw_g (lw_at lw_m9 36 rfl) rfl
theorem q2078 : (Jvm.Cond.methodLink "SupplyGridLaw" (255 : Nat) ({ cls := "SupplyGridModel", name := "draw", desc := "(II)I" } : Jvm.MethodName)) ∈ lw_all := lw_g (lw_at lw_m9 40 rfl) rfl
theorem q2083 : (Jvm.Cond.methodLink "SupplyGridLaw" (259 : Nat) ({ cls := "SupplyGridModel", name := "year", desc := "()I" } : Jvm.MethodName)) ∈ lw_all := lw_g (lw_at lw_m9 45 rfl) rfl
theorem q2087 : (Jvm.Cond.methodLink "SupplyGridLaw" (275 : Nat) ({ cls := "SupplyGridModel", name := "undo", desc := "()I" } : Jvm.MethodName)) ∈ lw_all := lw_g (lw_at lw_m9 49 rfl) rfl
theorem q2095 : (Jvm.Cond.methodLink "SupplyGridLaw" (279 : Nat) ({ cls := "SupplyGridModel", name := "anew", desc := "()I" } : Jvm.MethodName)) ∈ lw_all := lw_g (lw_at lw_m9 57 rfl) rfl

theorem q137 : (Jvm.Cond.initialized "java/lang/Enum") ∈ lw_all := lw_g (lw_at lw_m1 19 rfl) rfl
set_option maxRecDepth 100000

theorem q138 : (Jvm.Cond.initialized "SupplyGrid$Way") ∈ lw_all := lw_g (lw_at lw_m1 20 rfl) rfl
set_option maxRecDepth 100000
theorem q620 : (Jvm.Cond.laysStatic "SupplyGrid$Way" "EAST" "LSupplyGrid$Way;") ∈ lw_tbl := lw_at lw_m3 22 rfl
theorem q626 : (Jvm.Cond.declares ({ cls := "SupplyGrid$Way", name := "is", desc := "(LSupplyGrid$Told;I)Z" } : Jvm.MethodName)) ∈ lw_tbl := lw_at lw_m3 28 rfl
theorem q627 : (Jvm.Cond.sameMethod "SupplyGrid$Way" "SupplyGrid$Way" "is" "(LSupplyGrid$Told;I)Z") ∈ lw_all := lw_g (lw_at lw_m3 29 rfl) rfl
theorem q635 : (Jvm.Cond.declares ({ cls := "SupplyGrid$Way", name := "to", desc := "(LSupplyGrid$Told;I)I" } : Jvm.MethodName)) ∈ lw_tbl := lw_at lw_m3 37 rfl
theorem q636 : (Jvm.Cond.sameMethod "SupplyGrid$Way" "SupplyGrid$Way" "to" "(LSupplyGrid$Told;I)I") ∈ lw_all := lw_g (lw_at lw_m3 38 rfl) rfl
theorem q644 : (Jvm.Cond.laysStatic "SupplyGrid$Way" "SOUTH" "LSupplyGrid$Way;") ∈ lw_tbl := lw_at lw_m3 46 rfl
theorem q2118 : (Jvm.Cond.castable "SupplyGrid$Way" "java/lang/Object") ∈ lw_tbl := lw_at lw_m9 80 rfl

theorem q139 : (Jvm.Cond.initialized "java/lang/System") ∈ lw_all := lw_g (lw_at lw_m1 21 rfl) rfl
set_option maxRecDepth 100000
theorem q711 : (Jvm.Cond.static ({ cls := "java/lang/System", name := "arraycopy", desc := "(Ljava/lang/Object;ILjava/lang/Object;II)V" } : Jvm.MethodName)) ∈ lw_all := lw_g (lw_at lw_m3 113 rfl) rfl
theorem q712 : (Jvm.Cond.native ({ cls := "java/lang/System", name := "arraycopy", desc := "(Ljava/lang/Object;ILjava/lang/Object;II)V" } : Jvm.MethodName)) ∈ lw_all := lw_g (lw_at lw_m3 114 rfl) rfl

theorem q1294 : (Jvm.Cond.interfaceMethod "java/util/Collection" "java/util/Collection" "toArray" "()[Ljava/lang/Object;") ∈ lw_tbl := lw_at lw_m5 216 rfl
set_option maxRecDepth 100000
theorem q1295 : (Jvm.Cond.declares ({ cls := "java/util/Collection", name := "toArray", desc := "()[Ljava/lang/Object;" } : Jvm.MethodName)) ∈ lw_tbl := lw_at lw_m5 217 rfl

theorem q1349 : (Jvm.Cond.interfaceMethod "SupplyGrid$Change" "SupplyGrid$Change" "back" "(LSupplyGrid$Told;)V") ∈ lw_tbl := lw_at lw_m6 31 rfl
set_option maxRecDepth 100000
theorem q1350 : (Jvm.Cond.declares ({ cls := "SupplyGrid$Change", name := "back", desc := "(LSupplyGrid$Told;)V" } : Jvm.MethodName)) ∈ lw_tbl := lw_at lw_m6 32 rfl

theorem q2115 : (Jvm.Cond.sameMethod "[Ljava/lang/Object;" "java/lang/Object" "getClass" "()Ljava/lang/Class;") ∈ lw_all := lw_g (lw_at lw_m9 77 rfl) rfl
set_option maxRecDepth 100000
theorem q2116 : (Jvm.Cond.selects "[Ljava/lang/Object;" ({ cls := "java/lang/Object", name := "getClass", desc := "()Ljava/lang/Class;" } : Jvm.MethodName) ({ cls := "java/lang/Object", name := "getClass", desc := "()Ljava/lang/Class;" } : Jvm.MethodName)) ∈ lw_all := lw_g (lw_at lw_m9 78 rfl) rfl
theorem q2119 : (Jvm.Cond.castable "[Ljava/lang/Object;" "java/lang/Object") ∈ lw_tbl := lw_at lw_m9 81 rfl

theorem q2120 : (Jvm.Cond.castable "[I" "java/lang/Object") ∈ lw_tbl := lw_at lw_m9 82 rfl
set_option maxRecDepth 100000

theorem q2121 : (Jvm.Cond.castable "[LSupplyGrid$Told;" "java/lang/Object") ∈ lw_tbl := lw_at lw_m9 83 rfl
set_option maxRecDepth 100000

theorem q2122 : (Jvm.Cond.castable "[[J" "java/lang/Object") ∈ lw_tbl := lw_at lw_m9 84 rfl
set_option maxRecDepth 100000

theorem q2123 : (Jvm.Cond.castable "[B" "java/lang/Object") ∈ lw_tbl := lw_at lw_m9 85 rfl
set_option maxRecDepth 100000

theorem q2124 : (Jvm.Cond.castable "[J" "java/lang/Object") ∈ lw_tbl := lw_at lw_m9 86 rfl
set_option maxRecDepth 100000

theorem q2125 : (Jvm.Cond.castable "[Z" "java/lang/Object") ∈ lw_tbl := lw_at lw_m9 87 rfl
set_option maxRecDepth 100000
