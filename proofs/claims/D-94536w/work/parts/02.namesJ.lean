/-! DECODE ROWS BY BYTES: one lemma an opcode; a method's code is cut into short pieces once, and a row reads its own piece alone. -/
set_option maxRecDepth 100000
/-- the code has just these bytes from pc on -/
def DkAt (code : ByteArray) (pc : Nat) (bs : List UInt8) : Prop := ∀ (j : Nat) (b : UInt8), bs[j]? = some b → code.data.toList[pc + j]? = some b
/-- the piece W has the bytes bs from its place j on -/
def dkIn (W : List UInt8) (j : Nat) (bs : List UInt8) : Bool := decide ((W.drop j).take bs.length = bs)
theorem dk_seg {l W T : List UInt8} {o o2 : Nat} (h : l.drop o = W ++ T) (n : Nat) (hn : W.length = n) (ho : o + n = o2) : l.drop o2 = T := by
  subst ho
  rw [← List.drop_drop, h, List.drop_left' hn]
theorem dk_at {code : ByteArray} {W T bs : List UInt8} {o pc : Nat} (h : code.data.toList.drop o = W ++ T) (j : Nat) (hp : o + j = pc) (hw : dkIn W j bs = true) : DkAt code pc bs := by
  subst hp
  intro i b e
  have h1 := of_decide_eq_true hw
  have h2 : i < bs.length := (List.getElem?_eq_some_iff.mp e).1
  have h3 : W[j + i]? = some b := by
    rw [← h1, List.getElem?_take, if_pos h2, List.getElem?_drop] at e
    exact e
  have h4 : j + i < W.length := (List.getElem?_eq_some_iff.mp h3).1
  have h5 : (code.data.toList.drop o)[j + i]? = some b := by
    rw [h, List.getElem?_append_left h4]
    exact h3
  rw [List.getElem?_drop, ← Nat.add_assoc] at h5
  exact h5
theorem dk_u1 {A : ByteArray} {p : Nat} {b : UInt8} (h : A.data.toList[p]? = some b) : (Reader.u1 : Reader DecodeError Nat) A p = .ok (b.toNat, p + 1) := by
  obtain ⟨h1, h2⟩ := List.getElem?_eq_some_iff.mp h
  have h3 : p < A.size := by simpa using h1
  have h4 : A[p]'h3 = b := h2
  have e : (Reader.u1 : Reader DecodeError Nat) A p = (if h : p < A.size then .ok (A[p].toNat, p + 1) else .error (HasTruncated.truncated p)) := by
    show (do if h : p < A.size then do set (p + 1); Pure.pure A[p].toNat else MonadExcept.throw (HasTruncated.truncated p) : Reader DecodeError Nat) A p = _
    by_cases hi : p < A.size
    · rw [dif_pos hi, dif_pos hi]; rfl
    · rw [dif_neg hi, dif_neg hi]; rfl
  rw [e, dif_pos h3, h4]
theorem dk_bind {α β : Type} {r : Reader DecodeError α} {f : α → Reader DecodeError β} {A : ByteArray} {p s : Nat} {a : α} (h : r A p = .ok (a, s)) : (r >>= f) A p = f a A s := by
  show (do let (a, s) ← r A p; f a A s : Except DecodeError (β × Nat)) = _
  rw [h]
  rfl
theorem dk_map {α β : Type} {r : Reader DecodeError α} {g : α → β} {A : ByteArray} {p s : Nat} {a : α} (h : r A p = .ok (a, s)) : (g <$> r) A p = .ok (g a, s) := by
  show (do let (a, s) ← r A p; .ok (g a, s) : Except DecodeError (β × Nat)) = _
  rw [h]
  rfl
theorem dk_u2 {A : ByteArray} {p : Nat} {a b : UInt8} (h : A.data.toList[p]? = some a) (h2 : A.data.toList[p + 1]? = some b) : (Reader.u2 : Reader DecodeError Nat) A p = .ok (a.toNat * 256 + b.toNat, p + 2) := by
  show (Reader.u1 >>= fun hi => Reader.u1 >>= fun lo => Pure.pure (hi * 256 + lo) : Reader DecodeError Nat) A p = _
  rw [dk_bind (dk_u1 h), dk_bind (dk_u1 h2)]
  rfl
theorem dk_of {code : ByteArray} {pc n : Nat} {i : Instr} (h : Decoder.instr pc code pc = .ok (i, pc + n)) : decode code pc = .ok (i, n) := by
  have e : decode code pc = (match Decoder.instr pc code pc with | .error x => .error x | .ok (j, s) => .ok (j, s - pc)) := by
    show (do let (j, s) ← Decoder.instr pc code pc; Pure.pure (j, s - pc) : Except DecodeError (Instr × Nat)) = _
    cases Decoder.instr pc code pc <;> rfl
  rw [e, h]
  show Except.ok (i, pc + n - pc) = _
  rw [Nat.add_sub_cancel_left]
theorem dk_1 {code : ByteArray} {pc : Nat} (h : DkAt code pc [1]) : decode code pc = .ok (.aconst_null, 1) := dk_of ((dk_bind (dk_u1 (h 0 _ rfl))).trans rfl)
theorem dk_2 {code : ByteArray} {pc : Nat} (h : DkAt code pc [2]) : decode code pc = .ok (.iconst (-1), 1) := dk_of ((dk_bind (dk_u1 (h 0 _ rfl))).trans rfl)
theorem dk_3 {code : ByteArray} {pc : Nat} (h : DkAt code pc [3]) : decode code pc = .ok (.iconst 0, 1) := dk_of ((dk_bind (dk_u1 (h 0 _ rfl))).trans rfl)
theorem dk_4 {code : ByteArray} {pc : Nat} (h : DkAt code pc [4]) : decode code pc = .ok (.iconst 1, 1) := dk_of ((dk_bind (dk_u1 (h 0 _ rfl))).trans rfl)
theorem dk_5 {code : ByteArray} {pc : Nat} (h : DkAt code pc [5]) : decode code pc = .ok (.iconst 2, 1) := dk_of ((dk_bind (dk_u1 (h 0 _ rfl))).trans rfl)
theorem dk_6 {code : ByteArray} {pc : Nat} (h : DkAt code pc [6]) : decode code pc = .ok (.iconst 3, 1) := dk_of ((dk_bind (dk_u1 (h 0 _ rfl))).trans rfl)
theorem dk_7 {code : ByteArray} {pc : Nat} (h : DkAt code pc [7]) : decode code pc = .ok (.iconst 4, 1) := dk_of ((dk_bind (dk_u1 (h 0 _ rfl))).trans rfl)
theorem dk_8 {code : ByteArray} {pc : Nat} (h : DkAt code pc [8]) : decode code pc = .ok (.iconst 5, 1) := dk_of ((dk_bind (dk_u1 (h 0 _ rfl))).trans rfl)
theorem dk_9 {code : ByteArray} {pc : Nat} (h : DkAt code pc [9]) : decode code pc = .ok (.lconst 0, 1) := dk_of ((dk_bind (dk_u1 (h 0 _ rfl))).trans rfl)
theorem dk_10 {code : ByteArray} {pc : Nat} (h : DkAt code pc [10]) : decode code pc = .ok (.lconst 1, 1) := dk_of ((dk_bind (dk_u1 (h 0 _ rfl))).trans rfl)
theorem dk_16 {code : ByteArray} {pc : Nat} (a : UInt8) (h : DkAt code pc [16, a]) : decode code pc = .ok (.bipush (Reader.signed 8 a.toNat), 2) := dk_of ((dk_bind (dk_u1 (h 0 _ rfl))).trans ((dk_bind (dk_map (dk_u1 (h 1 _ rfl)))).trans rfl))
theorem dk_17 {code : ByteArray} {pc : Nat} (a b : UInt8) (h : DkAt code pc [17, a, b]) : decode code pc = .ok (.sipush (Reader.signed 16 (a.toNat * 256 + b.toNat)), 3) := dk_of ((dk_bind (dk_u1 (h 0 _ rfl))).trans ((dk_bind (dk_map (dk_u2 (h 1 _ rfl) (h 2 _ rfl)))).trans rfl))
theorem dk_18 {code : ByteArray} {pc : Nat} (a : UInt8) (h : DkAt code pc [18, a]) : decode code pc = .ok (.ldc a.toNat, 2) := dk_of ((dk_bind (dk_u1 (h 0 _ rfl))).trans ((dk_bind (dk_u1 (h 1 _ rfl))).trans rfl))
theorem dk_19 {code : ByteArray} {pc : Nat} (a b : UInt8) (h : DkAt code pc [19, a, b]) : decode code pc = .ok (.ldc_w (a.toNat * 256 + b.toNat), 3) := dk_of ((dk_bind (dk_u1 (h 0 _ rfl))).trans ((dk_bind (dk_u2 (h 1 _ rfl) (h 2 _ rfl))).trans rfl))
theorem dk_20 {code : ByteArray} {pc : Nat} (a b : UInt8) (h : DkAt code pc [20, a, b]) : decode code pc = .ok (.ldc2_w (a.toNat * 256 + b.toNat), 3) := dk_of ((dk_bind (dk_u1 (h 0 _ rfl))).trans ((dk_bind (dk_u2 (h 1 _ rfl) (h 2 _ rfl))).trans rfl))
theorem dk_21 {code : ByteArray} {pc : Nat} (a : UInt8) (h : DkAt code pc [21, a]) : decode code pc = .ok (.iload a.toNat, 2) := dk_of ((dk_bind (dk_u1 (h 0 _ rfl))).trans ((dk_bind (dk_u1 (h 1 _ rfl))).trans rfl))
theorem dk_22 {code : ByteArray} {pc : Nat} (a : UInt8) (h : DkAt code pc [22, a]) : decode code pc = .ok (.lload a.toNat, 2) := dk_of ((dk_bind (dk_u1 (h 0 _ rfl))).trans ((dk_bind (dk_u1 (h 1 _ rfl))).trans rfl))
theorem dk_25 {code : ByteArray} {pc : Nat} (a : UInt8) (h : DkAt code pc [25, a]) : decode code pc = .ok (.aload a.toNat, 2) := dk_of ((dk_bind (dk_u1 (h 0 _ rfl))).trans ((dk_bind (dk_u1 (h 1 _ rfl))).trans rfl))
theorem dk_26 {code : ByteArray} {pc : Nat} (h : DkAt code pc [26]) : decode code pc = .ok (.iload_n 0, 1) := dk_of ((dk_bind (dk_u1 (h 0 _ rfl))).trans rfl)
theorem dk_27 {code : ByteArray} {pc : Nat} (h : DkAt code pc [27]) : decode code pc = .ok (.iload_n 1, 1) := dk_of ((dk_bind (dk_u1 (h 0 _ rfl))).trans rfl)
theorem dk_28 {code : ByteArray} {pc : Nat} (h : DkAt code pc [28]) : decode code pc = .ok (.iload_n 2, 1) := dk_of ((dk_bind (dk_u1 (h 0 _ rfl))).trans rfl)
theorem dk_29 {code : ByteArray} {pc : Nat} (h : DkAt code pc [29]) : decode code pc = .ok (.iload_n 3, 1) := dk_of ((dk_bind (dk_u1 (h 0 _ rfl))).trans rfl)
theorem dk_30 {code : ByteArray} {pc : Nat} (h : DkAt code pc [30]) : decode code pc = .ok (.lload_n 0, 1) := dk_of ((dk_bind (dk_u1 (h 0 _ rfl))).trans rfl)
theorem dk_31 {code : ByteArray} {pc : Nat} (h : DkAt code pc [31]) : decode code pc = .ok (.lload_n 1, 1) := dk_of ((dk_bind (dk_u1 (h 0 _ rfl))).trans rfl)
theorem dk_32 {code : ByteArray} {pc : Nat} (h : DkAt code pc [32]) : decode code pc = .ok (.lload_n 2, 1) := dk_of ((dk_bind (dk_u1 (h 0 _ rfl))).trans rfl)
theorem dk_33 {code : ByteArray} {pc : Nat} (h : DkAt code pc [33]) : decode code pc = .ok (.lload_n 3, 1) := dk_of ((dk_bind (dk_u1 (h 0 _ rfl))).trans rfl)
theorem dk_42 {code : ByteArray} {pc : Nat} (h : DkAt code pc [42]) : decode code pc = .ok (.aload_n 0, 1) := dk_of ((dk_bind (dk_u1 (h 0 _ rfl))).trans rfl)
theorem dk_43 {code : ByteArray} {pc : Nat} (h : DkAt code pc [43]) : decode code pc = .ok (.aload_n 1, 1) := dk_of ((dk_bind (dk_u1 (h 0 _ rfl))).trans rfl)
theorem dk_44 {code : ByteArray} {pc : Nat} (h : DkAt code pc [44]) : decode code pc = .ok (.aload_n 2, 1) := dk_of ((dk_bind (dk_u1 (h 0 _ rfl))).trans rfl)
theorem dk_45 {code : ByteArray} {pc : Nat} (h : DkAt code pc [45]) : decode code pc = .ok (.aload_n 3, 1) := dk_of ((dk_bind (dk_u1 (h 0 _ rfl))).trans rfl)
theorem dk_46 {code : ByteArray} {pc : Nat} (h : DkAt code pc [46]) : decode code pc = .ok (.iaload, 1) := dk_of ((dk_bind (dk_u1 (h 0 _ rfl))).trans rfl)
theorem dk_47 {code : ByteArray} {pc : Nat} (h : DkAt code pc [47]) : decode code pc = .ok (.laload, 1) := dk_of ((dk_bind (dk_u1 (h 0 _ rfl))).trans rfl)
theorem dk_50 {code : ByteArray} {pc : Nat} (h : DkAt code pc [50]) : decode code pc = .ok (.aaload, 1) := dk_of ((dk_bind (dk_u1 (h 0 _ rfl))).trans rfl)
theorem dk_51 {code : ByteArray} {pc : Nat} (h : DkAt code pc [51]) : decode code pc = .ok (.baload, 1) := dk_of ((dk_bind (dk_u1 (h 0 _ rfl))).trans rfl)
theorem dk_53 {code : ByteArray} {pc : Nat} (h : DkAt code pc [53]) : decode code pc = .ok (.saload, 1) := dk_of ((dk_bind (dk_u1 (h 0 _ rfl))).trans rfl)
theorem dk_54 {code : ByteArray} {pc : Nat} (a : UInt8) (h : DkAt code pc [54, a]) : decode code pc = .ok (.istore a.toNat, 2) := dk_of ((dk_bind (dk_u1 (h 0 _ rfl))).trans ((dk_bind (dk_u1 (h 1 _ rfl))).trans rfl))
theorem dk_55 {code : ByteArray} {pc : Nat} (a : UInt8) (h : DkAt code pc [55, a]) : decode code pc = .ok (.lstore a.toNat, 2) := dk_of ((dk_bind (dk_u1 (h 0 _ rfl))).trans ((dk_bind (dk_u1 (h 1 _ rfl))).trans rfl))
theorem dk_58 {code : ByteArray} {pc : Nat} (a : UInt8) (h : DkAt code pc [58, a]) : decode code pc = .ok (.astore a.toNat, 2) := dk_of ((dk_bind (dk_u1 (h 0 _ rfl))).trans ((dk_bind (dk_u1 (h 1 _ rfl))).trans rfl))
theorem dk_59 {code : ByteArray} {pc : Nat} (h : DkAt code pc [59]) : decode code pc = .ok (.istore_n 0, 1) := dk_of ((dk_bind (dk_u1 (h 0 _ rfl))).trans rfl)
theorem dk_60 {code : ByteArray} {pc : Nat} (h : DkAt code pc [60]) : decode code pc = .ok (.istore_n 1, 1) := dk_of ((dk_bind (dk_u1 (h 0 _ rfl))).trans rfl)
theorem dk_61 {code : ByteArray} {pc : Nat} (h : DkAt code pc [61]) : decode code pc = .ok (.istore_n 2, 1) := dk_of ((dk_bind (dk_u1 (h 0 _ rfl))).trans rfl)
theorem dk_62 {code : ByteArray} {pc : Nat} (h : DkAt code pc [62]) : decode code pc = .ok (.istore_n 3, 1) := dk_of ((dk_bind (dk_u1 (h 0 _ rfl))).trans rfl)
theorem dk_63 {code : ByteArray} {pc : Nat} (h : DkAt code pc [63]) : decode code pc = .ok (.lstore_n 0, 1) := dk_of ((dk_bind (dk_u1 (h 0 _ rfl))).trans rfl)
theorem dk_65 {code : ByteArray} {pc : Nat} (h : DkAt code pc [65]) : decode code pc = .ok (.lstore_n 2, 1) := dk_of ((dk_bind (dk_u1 (h 0 _ rfl))).trans rfl)
theorem dk_76 {code : ByteArray} {pc : Nat} (h : DkAt code pc [76]) : decode code pc = .ok (.astore_n 1, 1) := dk_of ((dk_bind (dk_u1 (h 0 _ rfl))).trans rfl)
theorem dk_77 {code : ByteArray} {pc : Nat} (h : DkAt code pc [77]) : decode code pc = .ok (.astore_n 2, 1) := dk_of ((dk_bind (dk_u1 (h 0 _ rfl))).trans rfl)
theorem dk_78 {code : ByteArray} {pc : Nat} (h : DkAt code pc [78]) : decode code pc = .ok (.astore_n 3, 1) := dk_of ((dk_bind (dk_u1 (h 0 _ rfl))).trans rfl)
theorem dk_79 {code : ByteArray} {pc : Nat} (h : DkAt code pc [79]) : decode code pc = .ok (.iastore, 1) := dk_of ((dk_bind (dk_u1 (h 0 _ rfl))).trans rfl)
theorem dk_80 {code : ByteArray} {pc : Nat} (h : DkAt code pc [80]) : decode code pc = .ok (.lastore, 1) := dk_of ((dk_bind (dk_u1 (h 0 _ rfl))).trans rfl)
theorem dk_83 {code : ByteArray} {pc : Nat} (h : DkAt code pc [83]) : decode code pc = .ok (.aastore, 1) := dk_of ((dk_bind (dk_u1 (h 0 _ rfl))).trans rfl)
theorem dk_84 {code : ByteArray} {pc : Nat} (h : DkAt code pc [84]) : decode code pc = .ok (.bastore, 1) := dk_of ((dk_bind (dk_u1 (h 0 _ rfl))).trans rfl)
theorem dk_86 {code : ByteArray} {pc : Nat} (h : DkAt code pc [86]) : decode code pc = .ok (.sastore, 1) := dk_of ((dk_bind (dk_u1 (h 0 _ rfl))).trans rfl)
theorem dk_87 {code : ByteArray} {pc : Nat} (h : DkAt code pc [87]) : decode code pc = .ok (.pop, 1) := dk_of ((dk_bind (dk_u1 (h 0 _ rfl))).trans rfl)
theorem dk_89 {code : ByteArray} {pc : Nat} (h : DkAt code pc [89]) : decode code pc = .ok (.dup, 1) := dk_of ((dk_bind (dk_u1 (h 0 _ rfl))).trans rfl)
theorem dk_90 {code : ByteArray} {pc : Nat} (h : DkAt code pc [90]) : decode code pc = .ok (.dup_x1, 1) := dk_of ((dk_bind (dk_u1 (h 0 _ rfl))).trans rfl)
theorem dk_92 {code : ByteArray} {pc : Nat} (h : DkAt code pc [92]) : decode code pc = .ok (.dup2, 1) := dk_of ((dk_bind (dk_u1 (h 0 _ rfl))).trans rfl)
theorem dk_96 {code : ByteArray} {pc : Nat} (h : DkAt code pc [96]) : decode code pc = .ok (.iadd, 1) := dk_of ((dk_bind (dk_u1 (h 0 _ rfl))).trans rfl)
theorem dk_97 {code : ByteArray} {pc : Nat} (h : DkAt code pc [97]) : decode code pc = .ok (.ladd, 1) := dk_of ((dk_bind (dk_u1 (h 0 _ rfl))).trans rfl)
theorem dk_100 {code : ByteArray} {pc : Nat} (h : DkAt code pc [100]) : decode code pc = .ok (.isub, 1) := dk_of ((dk_bind (dk_u1 (h 0 _ rfl))).trans rfl)
theorem dk_101 {code : ByteArray} {pc : Nat} (h : DkAt code pc [101]) : decode code pc = .ok (.lsub, 1) := dk_of ((dk_bind (dk_u1 (h 0 _ rfl))).trans rfl)
theorem dk_104 {code : ByteArray} {pc : Nat} (h : DkAt code pc [104]) : decode code pc = .ok (.imul, 1) := dk_of ((dk_bind (dk_u1 (h 0 _ rfl))).trans rfl)
theorem dk_105 {code : ByteArray} {pc : Nat} (h : DkAt code pc [105]) : decode code pc = .ok (.lmul, 1) := dk_of ((dk_bind (dk_u1 (h 0 _ rfl))).trans rfl)
theorem dk_108 {code : ByteArray} {pc : Nat} (h : DkAt code pc [108]) : decode code pc = .ok (.idiv, 1) := dk_of ((dk_bind (dk_u1 (h 0 _ rfl))).trans rfl)
theorem dk_109 {code : ByteArray} {pc : Nat} (h : DkAt code pc [109]) : decode code pc = .ok (.ldiv, 1) := dk_of ((dk_bind (dk_u1 (h 0 _ rfl))).trans rfl)
theorem dk_112 {code : ByteArray} {pc : Nat} (h : DkAt code pc [112]) : decode code pc = .ok (.irem, 1) := dk_of ((dk_bind (dk_u1 (h 0 _ rfl))).trans rfl)
theorem dk_113 {code : ByteArray} {pc : Nat} (h : DkAt code pc [113]) : decode code pc = .ok (.lrem, 1) := dk_of ((dk_bind (dk_u1 (h 0 _ rfl))).trans rfl)
theorem dk_116 {code : ByteArray} {pc : Nat} (h : DkAt code pc [116]) : decode code pc = .ok (.ineg, 1) := dk_of ((dk_bind (dk_u1 (h 0 _ rfl))).trans rfl)
theorem dk_120 {code : ByteArray} {pc : Nat} (h : DkAt code pc [120]) : decode code pc = .ok (.ishl, 1) := dk_of ((dk_bind (dk_u1 (h 0 _ rfl))).trans rfl)
theorem dk_121 {code : ByteArray} {pc : Nat} (h : DkAt code pc [121]) : decode code pc = .ok (.lshl, 1) := dk_of ((dk_bind (dk_u1 (h 0 _ rfl))).trans rfl)
theorem dk_122 {code : ByteArray} {pc : Nat} (h : DkAt code pc [122]) : decode code pc = .ok (.ishr, 1) := dk_of ((dk_bind (dk_u1 (h 0 _ rfl))).trans rfl)
theorem dk_123 {code : ByteArray} {pc : Nat} (h : DkAt code pc [123]) : decode code pc = .ok (.lshr, 1) := dk_of ((dk_bind (dk_u1 (h 0 _ rfl))).trans rfl)
theorem dk_124 {code : ByteArray} {pc : Nat} (h : DkAt code pc [124]) : decode code pc = .ok (.iushr, 1) := dk_of ((dk_bind (dk_u1 (h 0 _ rfl))).trans rfl)
theorem dk_125 {code : ByteArray} {pc : Nat} (h : DkAt code pc [125]) : decode code pc = .ok (.lushr, 1) := dk_of ((dk_bind (dk_u1 (h 0 _ rfl))).trans rfl)
theorem dk_126 {code : ByteArray} {pc : Nat} (h : DkAt code pc [126]) : decode code pc = .ok (.iand, 1) := dk_of ((dk_bind (dk_u1 (h 0 _ rfl))).trans rfl)
theorem dk_127 {code : ByteArray} {pc : Nat} (h : DkAt code pc [127]) : decode code pc = .ok (.land, 1) := dk_of ((dk_bind (dk_u1 (h 0 _ rfl))).trans rfl)
theorem dk_128 {code : ByteArray} {pc : Nat} (h : DkAt code pc [128]) : decode code pc = .ok (.ior, 1) := dk_of ((dk_bind (dk_u1 (h 0 _ rfl))).trans rfl)
theorem dk_129 {code : ByteArray} {pc : Nat} (h : DkAt code pc [129]) : decode code pc = .ok (.lor, 1) := dk_of ((dk_bind (dk_u1 (h 0 _ rfl))).trans rfl)
theorem dk_130 {code : ByteArray} {pc : Nat} (h : DkAt code pc [130]) : decode code pc = .ok (.ixor, 1) := dk_of ((dk_bind (dk_u1 (h 0 _ rfl))).trans rfl)
theorem dk_132 {code : ByteArray} {pc : Nat} (a b : UInt8) (h : DkAt code pc [132, a, b]) : decode code pc = .ok (.iinc a.toNat (Reader.signed 8 b.toNat), 3) := dk_of ((dk_bind (dk_u1 (h 0 _ rfl))).trans ((dk_bind (dk_u1 (h 1 _ rfl))).trans ((dk_bind (dk_map (dk_u1 (h 2 _ rfl)))).trans rfl)))
theorem dk_133 {code : ByteArray} {pc : Nat} (h : DkAt code pc [133]) : decode code pc = .ok (.i2l, 1) := dk_of ((dk_bind (dk_u1 (h 0 _ rfl))).trans rfl)
theorem dk_136 {code : ByteArray} {pc : Nat} (h : DkAt code pc [136]) : decode code pc = .ok (.l2i, 1) := dk_of ((dk_bind (dk_u1 (h 0 _ rfl))).trans rfl)
theorem dk_145 {code : ByteArray} {pc : Nat} (h : DkAt code pc [145]) : decode code pc = .ok (.i2b, 1) := dk_of ((dk_bind (dk_u1 (h 0 _ rfl))).trans rfl)
theorem dk_146 {code : ByteArray} {pc : Nat} (h : DkAt code pc [146]) : decode code pc = .ok (.i2c, 1) := dk_of ((dk_bind (dk_u1 (h 0 _ rfl))).trans rfl)
theorem dk_147 {code : ByteArray} {pc : Nat} (h : DkAt code pc [147]) : decode code pc = .ok (.i2s, 1) := dk_of ((dk_bind (dk_u1 (h 0 _ rfl))).trans rfl)
theorem dk_148 {code : ByteArray} {pc : Nat} (h : DkAt code pc [148]) : decode code pc = .ok (.lcmp, 1) := dk_of ((dk_bind (dk_u1 (h 0 _ rfl))).trans rfl)
theorem dk_153 {code : ByteArray} {pc : Nat} (a b : UInt8) (h : DkAt code pc [153, a, b]) : decode code pc = .ok (.ifCond .eq (Reader.signed 16 (a.toNat * 256 + b.toNat)), 3) := dk_of ((dk_bind (dk_u1 (h 0 _ rfl))).trans ((dk_bind (dk_map (dk_u2 (h 1 _ rfl) (h 2 _ rfl)))).trans rfl))
theorem dk_154 {code : ByteArray} {pc : Nat} (a b : UInt8) (h : DkAt code pc [154, a, b]) : decode code pc = .ok (.ifCond .ne (Reader.signed 16 (a.toNat * 256 + b.toNat)), 3) := dk_of ((dk_bind (dk_u1 (h 0 _ rfl))).trans ((dk_bind (dk_map (dk_u2 (h 1 _ rfl) (h 2 _ rfl)))).trans rfl))
theorem dk_155 {code : ByteArray} {pc : Nat} (a b : UInt8) (h : DkAt code pc [155, a, b]) : decode code pc = .ok (.ifCond .lt (Reader.signed 16 (a.toNat * 256 + b.toNat)), 3) := dk_of ((dk_bind (dk_u1 (h 0 _ rfl))).trans ((dk_bind (dk_map (dk_u2 (h 1 _ rfl) (h 2 _ rfl)))).trans rfl))
theorem dk_156 {code : ByteArray} {pc : Nat} (a b : UInt8) (h : DkAt code pc [156, a, b]) : decode code pc = .ok (.ifCond .ge (Reader.signed 16 (a.toNat * 256 + b.toNat)), 3) := dk_of ((dk_bind (dk_u1 (h 0 _ rfl))).trans ((dk_bind (dk_map (dk_u2 (h 1 _ rfl) (h 2 _ rfl)))).trans rfl))
theorem dk_157 {code : ByteArray} {pc : Nat} (a b : UInt8) (h : DkAt code pc [157, a, b]) : decode code pc = .ok (.ifCond .gt (Reader.signed 16 (a.toNat * 256 + b.toNat)), 3) := dk_of ((dk_bind (dk_u1 (h 0 _ rfl))).trans ((dk_bind (dk_map (dk_u2 (h 1 _ rfl) (h 2 _ rfl)))).trans rfl))
theorem dk_158 {code : ByteArray} {pc : Nat} (a b : UInt8) (h : DkAt code pc [158, a, b]) : decode code pc = .ok (.ifCond .le (Reader.signed 16 (a.toNat * 256 + b.toNat)), 3) := dk_of ((dk_bind (dk_u1 (h 0 _ rfl))).trans ((dk_bind (dk_map (dk_u2 (h 1 _ rfl) (h 2 _ rfl)))).trans rfl))
theorem dk_159 {code : ByteArray} {pc : Nat} (a b : UInt8) (h : DkAt code pc [159, a, b]) : decode code pc = .ok (.if_icmp .eq (Reader.signed 16 (a.toNat * 256 + b.toNat)), 3) := dk_of ((dk_bind (dk_u1 (h 0 _ rfl))).trans ((dk_bind (dk_map (dk_u2 (h 1 _ rfl) (h 2 _ rfl)))).trans rfl))
theorem dk_160 {code : ByteArray} {pc : Nat} (a b : UInt8) (h : DkAt code pc [160, a, b]) : decode code pc = .ok (.if_icmp .ne (Reader.signed 16 (a.toNat * 256 + b.toNat)), 3) := dk_of ((dk_bind (dk_u1 (h 0 _ rfl))).trans ((dk_bind (dk_map (dk_u2 (h 1 _ rfl) (h 2 _ rfl)))).trans rfl))
theorem dk_161 {code : ByteArray} {pc : Nat} (a b : UInt8) (h : DkAt code pc [161, a, b]) : decode code pc = .ok (.if_icmp .lt (Reader.signed 16 (a.toNat * 256 + b.toNat)), 3) := dk_of ((dk_bind (dk_u1 (h 0 _ rfl))).trans ((dk_bind (dk_map (dk_u2 (h 1 _ rfl) (h 2 _ rfl)))).trans rfl))
theorem dk_162 {code : ByteArray} {pc : Nat} (a b : UInt8) (h : DkAt code pc [162, a, b]) : decode code pc = .ok (.if_icmp .ge (Reader.signed 16 (a.toNat * 256 + b.toNat)), 3) := dk_of ((dk_bind (dk_u1 (h 0 _ rfl))).trans ((dk_bind (dk_map (dk_u2 (h 1 _ rfl) (h 2 _ rfl)))).trans rfl))
theorem dk_163 {code : ByteArray} {pc : Nat} (a b : UInt8) (h : DkAt code pc [163, a, b]) : decode code pc = .ok (.if_icmp .gt (Reader.signed 16 (a.toNat * 256 + b.toNat)), 3) := dk_of ((dk_bind (dk_u1 (h 0 _ rfl))).trans ((dk_bind (dk_map (dk_u2 (h 1 _ rfl) (h 2 _ rfl)))).trans rfl))
theorem dk_164 {code : ByteArray} {pc : Nat} (a b : UInt8) (h : DkAt code pc [164, a, b]) : decode code pc = .ok (.if_icmp .le (Reader.signed 16 (a.toNat * 256 + b.toNat)), 3) := dk_of ((dk_bind (dk_u1 (h 0 _ rfl))).trans ((dk_bind (dk_map (dk_u2 (h 1 _ rfl) (h 2 _ rfl)))).trans rfl))
theorem dk_165 {code : ByteArray} {pc : Nat} (a b : UInt8) (h : DkAt code pc [165, a, b]) : decode code pc = .ok (.if_acmp .eq (Reader.signed 16 (a.toNat * 256 + b.toNat)), 3) := dk_of ((dk_bind (dk_u1 (h 0 _ rfl))).trans ((dk_bind (dk_map (dk_u2 (h 1 _ rfl) (h 2 _ rfl)))).trans rfl))
theorem dk_166 {code : ByteArray} {pc : Nat} (a b : UInt8) (h : DkAt code pc [166, a, b]) : decode code pc = .ok (.if_acmp .ne (Reader.signed 16 (a.toNat * 256 + b.toNat)), 3) := dk_of ((dk_bind (dk_u1 (h 0 _ rfl))).trans ((dk_bind (dk_map (dk_u2 (h 1 _ rfl) (h 2 _ rfl)))).trans rfl))
theorem dk_167 {code : ByteArray} {pc : Nat} (a b : UInt8) (h : DkAt code pc [167, a, b]) : decode code pc = .ok (.goto (Reader.signed 16 (a.toNat * 256 + b.toNat)), 3) := dk_of ((dk_bind (dk_u1 (h 0 _ rfl))).trans ((dk_bind (dk_map (dk_u2 (h 1 _ rfl) (h 2 _ rfl)))).trans rfl))
theorem dk_172 {code : ByteArray} {pc : Nat} (h : DkAt code pc [172]) : decode code pc = .ok (.ireturn, 1) := dk_of ((dk_bind (dk_u1 (h 0 _ rfl))).trans rfl)
theorem dk_173 {code : ByteArray} {pc : Nat} (h : DkAt code pc [173]) : decode code pc = .ok (.lreturn, 1) := dk_of ((dk_bind (dk_u1 (h 0 _ rfl))).trans rfl)
theorem dk_176 {code : ByteArray} {pc : Nat} (h : DkAt code pc [176]) : decode code pc = .ok (.areturn, 1) := dk_of ((dk_bind (dk_u1 (h 0 _ rfl))).trans rfl)
theorem dk_177 {code : ByteArray} {pc : Nat} (h : DkAt code pc [177]) : decode code pc = .ok (.return_, 1) := dk_of ((dk_bind (dk_u1 (h 0 _ rfl))).trans rfl)
theorem dk_178 {code : ByteArray} {pc : Nat} (a b : UInt8) (h : DkAt code pc [178, a, b]) : decode code pc = .ok (.getstatic (a.toNat * 256 + b.toNat), 3) := dk_of ((dk_bind (dk_u1 (h 0 _ rfl))).trans ((dk_bind (dk_u2 (h 1 _ rfl) (h 2 _ rfl))).trans rfl))
theorem dk_180 {code : ByteArray} {pc : Nat} (a b : UInt8) (h : DkAt code pc [180, a, b]) : decode code pc = .ok (.getfield (a.toNat * 256 + b.toNat), 3) := dk_of ((dk_bind (dk_u1 (h 0 _ rfl))).trans ((dk_bind (dk_u2 (h 1 _ rfl) (h 2 _ rfl))).trans rfl))
theorem dk_181 {code : ByteArray} {pc : Nat} (a b : UInt8) (h : DkAt code pc [181, a, b]) : decode code pc = .ok (.putfield (a.toNat * 256 + b.toNat), 3) := dk_of ((dk_bind (dk_u1 (h 0 _ rfl))).trans ((dk_bind (dk_u2 (h 1 _ rfl) (h 2 _ rfl))).trans rfl))
theorem dk_182 {code : ByteArray} {pc : Nat} (a b : UInt8) (h : DkAt code pc [182, a, b]) : decode code pc = .ok (.invokevirtual (a.toNat * 256 + b.toNat), 3) := dk_of ((dk_bind (dk_u1 (h 0 _ rfl))).trans ((dk_bind (dk_u2 (h 1 _ rfl) (h 2 _ rfl))).trans rfl))
theorem dk_183 {code : ByteArray} {pc : Nat} (a b : UInt8) (h : DkAt code pc [183, a, b]) : decode code pc = .ok (.invokespecial (a.toNat * 256 + b.toNat), 3) := dk_of ((dk_bind (dk_u1 (h 0 _ rfl))).trans ((dk_bind (dk_u2 (h 1 _ rfl) (h 2 _ rfl))).trans rfl))
theorem dk_184 {code : ByteArray} {pc : Nat} (a b : UInt8) (h : DkAt code pc [184, a, b]) : decode code pc = .ok (.invokestatic (a.toNat * 256 + b.toNat), 3) := dk_of ((dk_bind (dk_u1 (h 0 _ rfl))).trans ((dk_bind (dk_u2 (h 1 _ rfl) (h 2 _ rfl))).trans rfl))
theorem dk_187 {code : ByteArray} {pc : Nat} (a b : UInt8) (h : DkAt code pc [187, a, b]) : decode code pc = .ok (.new (a.toNat * 256 + b.toNat), 3) := dk_of ((dk_bind (dk_u1 (h 0 _ rfl))).trans ((dk_bind (dk_u2 (h 1 _ rfl) (h 2 _ rfl))).trans rfl))
theorem dk_188_4 {code : ByteArray} {pc : Nat} (h : DkAt code pc [188, 4]) : decode code pc = .ok (.newarray .boolean, 2) := dk_of ((dk_bind (dk_u1 (h 0 _ rfl))).trans ((dk_bind (dk_u1 (h 1 _ rfl))).trans rfl))
theorem dk_188_8 {code : ByteArray} {pc : Nat} (h : DkAt code pc [188, 8]) : decode code pc = .ok (.newarray .byte, 2) := dk_of ((dk_bind (dk_u1 (h 0 _ rfl))).trans ((dk_bind (dk_u1 (h 1 _ rfl))).trans rfl))
theorem dk_188_9 {code : ByteArray} {pc : Nat} (h : DkAt code pc [188, 9]) : decode code pc = .ok (.newarray .short, 2) := dk_of ((dk_bind (dk_u1 (h 0 _ rfl))).trans ((dk_bind (dk_u1 (h 1 _ rfl))).trans rfl))
theorem dk_188_10 {code : ByteArray} {pc : Nat} (h : DkAt code pc [188, 10]) : decode code pc = .ok (.newarray .int, 2) := dk_of ((dk_bind (dk_u1 (h 0 _ rfl))).trans ((dk_bind (dk_u1 (h 1 _ rfl))).trans rfl))
theorem dk_188_11 {code : ByteArray} {pc : Nat} (h : DkAt code pc [188, 11]) : decode code pc = .ok (.newarray .long, 2) := dk_of ((dk_bind (dk_u1 (h 0 _ rfl))).trans ((dk_bind (dk_u1 (h 1 _ rfl))).trans rfl))
theorem dk_189 {code : ByteArray} {pc : Nat} (a b : UInt8) (h : DkAt code pc [189, a, b]) : decode code pc = .ok (.anewarray (a.toNat * 256 + b.toNat), 3) := dk_of ((dk_bind (dk_u1 (h 0 _ rfl))).trans ((dk_bind (dk_u2 (h 1 _ rfl) (h 2 _ rfl))).trans rfl))
theorem dk_190 {code : ByteArray} {pc : Nat} (h : DkAt code pc [190]) : decode code pc = .ok (.arraylength, 1) := dk_of ((dk_bind (dk_u1 (h 0 _ rfl))).trans rfl)
theorem dk_191 {code : ByteArray} {pc : Nat} (h : DkAt code pc [191]) : decode code pc = .ok (.athrow, 1) := dk_of ((dk_bind (dk_u1 (h 0 _ rfl))).trans rfl)
theorem dk_192 {code : ByteArray} {pc : Nat} (a b : UInt8) (h : DkAt code pc [192, a, b]) : decode code pc = .ok (.checkcast (a.toNat * 256 + b.toNat), 3) := dk_of ((dk_bind (dk_u1 (h 0 _ rfl))).trans ((dk_bind (dk_u2 (h 1 _ rfl) (h 2 _ rfl))).trans rfl))
theorem dk_193 {code : ByteArray} {pc : Nat} (a b : UInt8) (h : DkAt code pc [193, a, b]) : decode code pc = .ok (.instanceof (a.toNat * 256 + b.toNat), 3) := dk_of ((dk_bind (dk_u1 (h 0 _ rfl))).trans ((dk_bind (dk_u2 (h 1 _ rfl) (h 2 _ rfl))).trans rfl))
theorem dk_198 {code : ByteArray} {pc : Nat} (a b : UInt8) (h : DkAt code pc [198, a, b]) : decode code pc = .ok (.ifnull (Reader.signed 16 (a.toNat * 256 + b.toNat)), 3) := dk_of ((dk_bind (dk_u1 (h 0 _ rfl))).trans ((dk_bind (dk_map (dk_u2 (h 1 _ rfl) (h 2 _ rfl)))).trans rfl))
theorem dk_199 {code : ByteArray} {pc : Nat} (a b : UInt8) (h : DkAt code pc [199, a, b]) : decode code pc = .ok (.ifnonnull (Reader.signed 16 (a.toNat * 256 + b.toNat)), 3) := dk_of ((dk_bind (dk_u1 (h 0 _ rfl))).trans ((dk_bind (dk_map (dk_u2 (h 1 _ rfl) (h 2 _ rfl)))).trans rfl))
/-! java/util/AbstractCollection -/
set_option maxRecDepth 100000
def RJ0 : String := "java/util/AbstractCollection"
abbrev cJ0_init : ByteArray := prog_38_method_1_code
def yJ0_init : MethodName := ⟨RJ0, "<init>", "()V"⟩
theorem dJ0_init_0 : decode cJ0_init 0 = .ok (.aload_n 0, 1) := by decide +kernel
theorem dJ0_init_1 : decode cJ0_init 1 = .ok (.invokespecial 1, 3) := by decide +kernel
theorem dJ0_init_4 : decode cJ0_init 4 = .ok (.return_, 1) := by decide +kernel
theorem q134 : (Jvm.Cond.initialized "java/util/AbstractCollection") ∈ lw_all := lw_g (lw_at lw_m1 4 rfl) rfl
theorem q404 : (Jvm.Cond.instanceMethod ({ cls := "java/util/AbstractCollection", name := "<init>", desc := "()V" } : Jvm.MethodName)) ∈ lw_all := lw_g (lw_at lw_m2 34 rfl) rfl
theorem q405 : (Jvm.Cond.code ({ cls := "java/util/AbstractCollection", name := "<init>", desc := "()V" } : Jvm.MethodName) prog_38_method_1_code (1 : Nat) (Option.none : Option Jvm.ClassFile.FieldType)) ∈ lw_all := lw_g (lw_at lw_m2 35 rfl) rfl
theorem q406 : (Jvm.Cond.methodLink "java/util/AbstractCollection" (1 : Nat) ({ cls := "java/lang/Object", name := "<init>", desc := "()V" } : Jvm.MethodName)) ∈ lw_all := lw_g (lw_at lw_m2 36 rfl) rfl
/-! java/util/AbstractList -/
set_option maxRecDepth 100000
def RJ1 : String := "java/util/AbstractList"
abbrev cJ1_init : ByteArray := prog_39_method_1_code
def yJ1_init : MethodName := ⟨RJ1, "<init>", "()V"⟩
def dkwJ1_init_0 : List UInt8 := [42, 183, 0, 1, 42, 3, 181, 0, 7, 177]
abbrev dktJ1_init_0 : List UInt8 := dkwJ1_init_0 ++ []
theorem dksJ1_init_0 : cJ1_init.data.toList.drop 0 = dktJ1_init_0 := by decide +kernel
theorem dJ1_init_0 : decode cJ1_init 0 = .ok (.aload_n 0, 1) := dk_42 (dk_at dksJ1_init_0 0 rfl rfl)
theorem dJ1_init_1 : decode cJ1_init 1 = .ok (.invokespecial 1, 3) := dk_183 0 1 (dk_at dksJ1_init_0 1 rfl rfl)
theorem dJ1_init_4 : decode cJ1_init 4 = .ok (.aload_n 0, 1) := dk_42 (dk_at dksJ1_init_0 4 rfl rfl)
theorem dJ1_init_5 : decode cJ1_init 5 = .ok (.iconst 0, 1) := dk_3 (dk_at dksJ1_init_0 5 rfl rfl)
theorem dJ1_init_6 : decode cJ1_init 6 = .ok (.putfield 7, 3) := dk_181 0 7 (dk_at dksJ1_init_0 6 rfl rfl)
theorem dJ1_init_9 : decode cJ1_init 9 = .ok (.return_, 1) := dk_177 (dk_at dksJ1_init_0 9 rfl rfl)
theorem q135 : (Jvm.Cond.initialized "java/util/AbstractList") ∈ lw_all := lw_g (lw_at lw_m1 5 rfl) rfl
theorem q401 : (Jvm.Cond.instanceMethod ({ cls := "java/util/AbstractList", name := "<init>", desc := "()V" } : Jvm.MethodName)) ∈ lw_all := lw_g (lw_at lw_m2 31 rfl) rfl
theorem q402 : (Jvm.Cond.code ({ cls := "java/util/AbstractList", name := "<init>", desc := "()V" } : Jvm.MethodName) prog_39_method_1_code (1 : Nat) (Option.none : Option Jvm.ClassFile.FieldType)) ∈ lw_all := lw_g (lw_at lw_m2 32 rfl) rfl
theorem q403 : (Jvm.Cond.methodLink "java/util/AbstractList" (1 : Nat) ({ cls := "java/util/AbstractCollection", name := "<init>", desc := "()V" } : Jvm.MethodName)) ∈ lw_all := lw_g (lw_at lw_m2 33 rfl) rfl
theorem q413 : (Jvm.Cond.fieldLink "java/util/AbstractList" (7 : Nat) "java/util/AbstractList" "modCount" "I") ∈ lw_all := lw_g (lw_at lw_m2 43 rfl) rfl
theorem q421 : (Jvm.Cond.soleField "java/util/AbstractList" "modCount") ∈ lw_all := lw_g (lw_at lw_m2 51 rfl) rfl
/-! java/util/ArrayList -/
set_option maxRecDepth 100000
def RJ2 : String := "java/util/ArrayList"
def TJ2 : u_T := fun k => match k with
  | 0 => ("java/util/AbstractList", "modCount", "I", false)
  | 1 => ("java/util/ArrayList", "elementData", "[Ljava/lang/Object;", false)
  | _ => ("java/util/ArrayList", "size", "I", false)
def tyJ2 : Nat → FieldType := fun k => match k with
  | 0 => .int
  | 1 => .array (.object "java/lang/Object")
  | _ => .int
abbrev wsJ20 : List Cond := u_ws RJ2 TJ2 3
theorem nmJ2 : ∀ a, a < 3 → ∀ b, b < 3 → a ≠ b → (TJ2 a).2.1 ≠ (TJ2 b).2.1 := by decide +kernel
theorem tyJ2_ok : ∀ k, k < 3 → parseFieldDescriptor (TJ2 k).2.2.1 = some (tyJ2 k) := by decide +kernel
abbrev cJ2_init : ByteArray := prog_40_method_1_code
def yJ2_init : MethodName := ⟨RJ2, "<init>", "(I)V"⟩
def dkwJ2_init_2 : List UInt8 := [182, 0, 25, 27, 182, 0, 29, 182, 0, 32, 183, 0, 36, 191, 177]
abbrev dktJ2_init_2 : List UInt8 := dkwJ2_init_2 ++ []
def dkwJ2_init_1 : List UInt8 := [178, 0, 15, 181, 0, 9, 167, 0, 30, 187, 0, 18, 89, 187, 0, 20, 89, 183, 0, 22, 18, 23]
abbrev dktJ2_init_1 : List UInt8 := dkwJ2_init_1 ++ dktJ2_init_2
def dkwJ2_init_0 : List UInt8 := [42, 183, 0, 1, 27, 158, 0, 14, 42, 27, 189, 0, 7, 181, 0, 9, 167, 0, 44, 27, 154, 0, 13, 42]
abbrev dktJ2_init_0 : List UInt8 := dkwJ2_init_0 ++ dktJ2_init_1
theorem dksJ2_init_0 : cJ2_init.data.toList.drop 0 = dktJ2_init_0 := by decide +kernel
theorem dksJ2_init_1 : cJ2_init.data.toList.drop 24 = dktJ2_init_1 := dk_seg dksJ2_init_0 24 rfl rfl
theorem dksJ2_init_2 : cJ2_init.data.toList.drop 46 = dktJ2_init_2 := dk_seg dksJ2_init_1 22 rfl rfl
theorem dJ2_init_0 : decode cJ2_init 0 = .ok (.aload_n 0, 1) := dk_42 (dk_at dksJ2_init_0 0 rfl rfl)
theorem dJ2_init_1 : decode cJ2_init 1 = .ok (.invokespecial 1, 3) := dk_183 0 1 (dk_at dksJ2_init_0 1 rfl rfl)
theorem dJ2_init_4 : decode cJ2_init 4 = .ok (.iload_n 1, 1) := dk_27 (dk_at dksJ2_init_0 4 rfl rfl)
theorem dJ2_init_5 : decode cJ2_init 5 = .ok (.ifCond .le 14, 3) := dk_158 0 14 (dk_at dksJ2_init_0 5 rfl rfl)
theorem dJ2_init_8 : decode cJ2_init 8 = .ok (.aload_n 0, 1) := dk_42 (dk_at dksJ2_init_0 8 rfl rfl)
theorem dJ2_init_9 : decode cJ2_init 9 = .ok (.iload_n 1, 1) := dk_27 (dk_at dksJ2_init_0 9 rfl rfl)
theorem dJ2_init_10 : decode cJ2_init 10 = .ok (.anewarray 7, 3) := dk_189 0 7 (dk_at dksJ2_init_0 10 rfl rfl)
theorem dJ2_init_13 : decode cJ2_init 13 = .ok (.putfield 9, 3) := dk_181 0 9 (dk_at dksJ2_init_0 13 rfl rfl)
theorem dJ2_init_16 : decode cJ2_init 16 = .ok (.goto 44, 3) := dk_167 0 44 (dk_at dksJ2_init_0 16 rfl rfl)
theorem dJ2_init_19 : decode cJ2_init 19 = .ok (.iload_n 1, 1) := dk_27 (dk_at dksJ2_init_0 19 rfl rfl)
theorem dJ2_init_20 : decode cJ2_init 20 = .ok (.ifCond .ne 13, 3) := dk_154 0 13 (dk_at dksJ2_init_0 20 rfl rfl)
theorem dJ2_init_23 : decode cJ2_init 23 = .ok (.aload_n 0, 1) := dk_42 (dk_at dksJ2_init_0 23 rfl rfl)
theorem dJ2_init_24 : decode cJ2_init 24 = .ok (.getstatic 15, 3) := dk_178 0 15 (dk_at dksJ2_init_1 0 rfl rfl)
theorem dJ2_init_27 : decode cJ2_init 27 = .ok (.putfield 9, 3) := dk_181 0 9 (dk_at dksJ2_init_1 3 rfl rfl)
theorem dJ2_init_30 : decode cJ2_init 30 = .ok (.goto 30, 3) := dk_167 0 30 (dk_at dksJ2_init_1 6 rfl rfl)
theorem dJ2_init_33 : decode cJ2_init 33 = .ok (.new 18, 3) := dk_187 0 18 (dk_at dksJ2_init_1 9 rfl rfl)
theorem dJ2_init_36 : decode cJ2_init 36 = .ok (.dup, 1) := dk_89 (dk_at dksJ2_init_1 12 rfl rfl)
theorem dJ2_init_37 : decode cJ2_init 37 = .ok (.new 20, 3) := dk_187 0 20 (dk_at dksJ2_init_1 13 rfl rfl)
theorem dJ2_init_40 : decode cJ2_init 40 = .ok (.dup, 1) := dk_89 (dk_at dksJ2_init_1 16 rfl rfl)
theorem dJ2_init_41 : decode cJ2_init 41 = .ok (.invokespecial 22, 3) := dk_183 0 22 (dk_at dksJ2_init_1 17 rfl rfl)
theorem dJ2_init_44 : decode cJ2_init 44 = .ok (.ldc 23, 2) := dk_18 23 (dk_at dksJ2_init_1 20 rfl rfl)
theorem dJ2_init_46 : decode cJ2_init 46 = .ok (.invokevirtual 25, 3) := dk_182 0 25 (dk_at dksJ2_init_2 0 rfl rfl)
theorem dJ2_init_49 : decode cJ2_init 49 = .ok (.iload_n 1, 1) := dk_27 (dk_at dksJ2_init_2 3 rfl rfl)
theorem dJ2_init_50 : decode cJ2_init 50 = .ok (.invokevirtual 29, 3) := dk_182 0 29 (dk_at dksJ2_init_2 4 rfl rfl)
theorem dJ2_init_53 : decode cJ2_init 53 = .ok (.invokevirtual 32, 3) := dk_182 0 32 (dk_at dksJ2_init_2 7 rfl rfl)
theorem dJ2_init_56 : decode cJ2_init 56 = .ok (.invokespecial 36, 3) := dk_183 0 36 (dk_at dksJ2_init_2 10 rfl rfl)
theorem dJ2_init_59 : decode cJ2_init 59 = .ok (.athrow, 1) := dk_191 (dk_at dksJ2_init_2 13 rfl rfl)
theorem dJ2_init_60 : decode cJ2_init 60 = .ok (.return_, 1) := dk_177 (dk_at dksJ2_init_2 14 rfl rfl)
abbrev cJ2_size : ByteArray := prog_40_method_8_code
def yJ2_size : MethodName := ⟨RJ2, "size", "()I"⟩
theorem dJ2_size_0 : decode cJ2_size 0 = .ok (.aload_n 0, 1) := by decide +kernel
theorem dJ2_size_1 : decode cJ2_size 1 = .ok (.getfield 48, 3) := by decide +kernel
theorem dJ2_size_4 : decode cJ2_size 4 = .ok (.ireturn, 1) := by decide +kernel
abbrev cJ2_get : ByteArray := prog_40_method_20_code
def yJ2_get : MethodName := ⟨RJ2, "get", "(I)Ljava/lang/Object;"⟩
def dkwJ2_get_0 : List UInt8 := [27, 42, 180, 0, 48, 184, 0, 118, 87, 42, 27, 182, 0, 123, 176]
abbrev dktJ2_get_0 : List UInt8 := dkwJ2_get_0 ++ []
theorem dksJ2_get_0 : cJ2_get.data.toList.drop 0 = dktJ2_get_0 := by decide +kernel
theorem dJ2_get_0 : decode cJ2_get 0 = .ok (.iload_n 1, 1) := dk_27 (dk_at dksJ2_get_0 0 rfl rfl)
theorem dJ2_get_1 : decode cJ2_get 1 = .ok (.aload_n 0, 1) := dk_42 (dk_at dksJ2_get_0 1 rfl rfl)
theorem dJ2_get_2 : decode cJ2_get 2 = .ok (.getfield 48, 3) := dk_180 0 48 (dk_at dksJ2_get_0 2 rfl rfl)
theorem dJ2_get_5 : decode cJ2_get 5 = .ok (.invokestatic 118, 3) := dk_184 0 118 (dk_at dksJ2_get_0 5 rfl rfl)
theorem dJ2_get_8 : decode cJ2_get 8 = .ok (.pop, 1) := dk_87 (dk_at dksJ2_get_0 8 rfl rfl)
theorem dJ2_get_9 : decode cJ2_get 9 = .ok (.aload_n 0, 1) := dk_42 (dk_at dksJ2_get_0 9 rfl rfl)
theorem dJ2_get_10 : decode cJ2_get 10 = .ok (.iload_n 1, 1) := dk_27 (dk_at dksJ2_get_0 10 rfl rfl)
theorem dJ2_get_11 : decode cJ2_get 11 = .ok (.invokevirtual 123, 3) := dk_182 0 123 (dk_at dksJ2_get_0 11 rfl rfl)
theorem dJ2_get_14 : decode cJ2_get 14 = .ok (.areturn, 1) := dk_176 (dk_at dksJ2_get_0 14 rfl rfl)
abbrev cJ2_elementData : ByteArray := prog_40_method_18_code
def yJ2_elementData : MethodName := ⟨RJ2, "elementData", "(I)Ljava/lang/Object;"⟩
def dkwJ2_elementData_0 : List UInt8 := [42, 180, 0, 9, 27, 50, 176]
abbrev dktJ2_elementData_0 : List UInt8 := dkwJ2_elementData_0 ++ []
theorem dksJ2_elementData_0 : cJ2_elementData.data.toList.drop 0 = dktJ2_elementData_0 := by decide +kernel
theorem dJ2_elementData_0 : decode cJ2_elementData 0 = .ok (.aload_n 0, 1) := dk_42 (dk_at dksJ2_elementData_0 0 rfl rfl)
theorem dJ2_elementData_1 : decode cJ2_elementData 1 = .ok (.getfield 9, 3) := dk_180 0 9 (dk_at dksJ2_elementData_0 1 rfl rfl)
theorem dJ2_elementData_4 : decode cJ2_elementData 4 = .ok (.iload_n 1, 1) := dk_27 (dk_at dksJ2_elementData_0 4 rfl rfl)
theorem dJ2_elementData_5 : decode cJ2_elementData 5 = .ok (.aaload, 1) := dk_50 (dk_at dksJ2_elementData_0 5 rfl rfl)
theorem dJ2_elementData_6 : decode cJ2_elementData 6 = .ok (.areturn, 1) := dk_176 (dk_at dksJ2_elementData_0 6 rfl rfl)
abbrev cJ2_add : ByteArray := prog_40_method_25_code
def yJ2_add : MethodName := ⟨RJ2, "add", "(Ljava/lang/Object;)Z"⟩
def dkwJ2_add_1 : List UInt8 := [172]
abbrev dktJ2_add_1 : List UInt8 := dkwJ2_add_1 ++ []
def dkwJ2_add_0 : List UInt8 := [42, 89, 180, 0, 63, 4, 96, 181, 0, 63, 42, 43, 42, 180, 0, 9, 42, 180, 0, 48, 182, 0, 131, 4]
abbrev dktJ2_add_0 : List UInt8 := dkwJ2_add_0 ++ dktJ2_add_1
theorem dksJ2_add_0 : cJ2_add.data.toList.drop 0 = dktJ2_add_0 := by decide +kernel
theorem dksJ2_add_1 : cJ2_add.data.toList.drop 24 = dktJ2_add_1 := dk_seg dksJ2_add_0 24 rfl rfl
theorem dJ2_add_0 : decode cJ2_add 0 = .ok (.aload_n 0, 1) := dk_42 (dk_at dksJ2_add_0 0 rfl rfl)
theorem dJ2_add_1 : decode cJ2_add 1 = .ok (.dup, 1) := dk_89 (dk_at dksJ2_add_0 1 rfl rfl)
theorem dJ2_add_2 : decode cJ2_add 2 = .ok (.getfield 63, 3) := dk_180 0 63 (dk_at dksJ2_add_0 2 rfl rfl)
theorem dJ2_add_5 : decode cJ2_add 5 = .ok (.iconst 1, 1) := dk_4 (dk_at dksJ2_add_0 5 rfl rfl)
theorem dJ2_add_6 : decode cJ2_add 6 = .ok (.iadd, 1) := dk_96 (dk_at dksJ2_add_0 6 rfl rfl)
theorem dJ2_add_7 : decode cJ2_add 7 = .ok (.putfield 63, 3) := dk_181 0 63 (dk_at dksJ2_add_0 7 rfl rfl)
theorem dJ2_add_10 : decode cJ2_add 10 = .ok (.aload_n 0, 1) := dk_42 (dk_at dksJ2_add_0 10 rfl rfl)
theorem dJ2_add_11 : decode cJ2_add 11 = .ok (.aload_n 1, 1) := dk_43 (dk_at dksJ2_add_0 11 rfl rfl)
theorem dJ2_add_12 : decode cJ2_add 12 = .ok (.aload_n 0, 1) := dk_42 (dk_at dksJ2_add_0 12 rfl rfl)
theorem dJ2_add_13 : decode cJ2_add 13 = .ok (.getfield 9, 3) := dk_180 0 9 (dk_at dksJ2_add_0 13 rfl rfl)
theorem dJ2_add_16 : decode cJ2_add 16 = .ok (.aload_n 0, 1) := dk_42 (dk_at dksJ2_add_0 16 rfl rfl)
theorem dJ2_add_17 : decode cJ2_add 17 = .ok (.getfield 48, 3) := dk_180 0 48 (dk_at dksJ2_add_0 17 rfl rfl)
theorem dJ2_add_20 : decode cJ2_add 20 = .ok (.invokevirtual 131, 3) := dk_182 0 131 (dk_at dksJ2_add_0 20 rfl rfl)
theorem dJ2_add_23 : decode cJ2_add 23 = .ok (.iconst 1, 1) := dk_4 (dk_at dksJ2_add_0 23 rfl rfl)
theorem dJ2_add_24 : decode cJ2_add 24 = .ok (.ireturn, 1) := dk_172 (dk_at dksJ2_add_1 0 rfl rfl)
abbrev cJ2_add_2 : ByteArray := prog_40_method_24_code
def yJ2_add_2 : MethodName := ⟨RJ2, "add", "(Ljava/lang/Object;[Ljava/lang/Object;I)V"⟩
def dkwJ2_add_2_0 : List UInt8 := [29, 44, 190, 160, 0, 8, 42, 182, 0, 129, 77, 44, 29, 43, 83, 42, 29, 4, 96, 181, 0, 48, 177]
abbrev dktJ2_add_2_0 : List UInt8 := dkwJ2_add_2_0 ++ []
theorem dksJ2_add_2_0 : cJ2_add_2.data.toList.drop 0 = dktJ2_add_2_0 := by decide +kernel
theorem dJ2_add_2_0 : decode cJ2_add_2 0 = .ok (.iload_n 3, 1) := dk_29 (dk_at dksJ2_add_2_0 0 rfl rfl)
theorem dJ2_add_2_1 : decode cJ2_add_2 1 = .ok (.aload_n 2, 1) := dk_44 (dk_at dksJ2_add_2_0 1 rfl rfl)
theorem dJ2_add_2_2 : decode cJ2_add_2 2 = .ok (.arraylength, 1) := dk_190 (dk_at dksJ2_add_2_0 2 rfl rfl)
theorem dJ2_add_2_3 : decode cJ2_add_2 3 = .ok (.if_icmp .ne 8, 3) := dk_160 0 8 (dk_at dksJ2_add_2_0 3 rfl rfl)
theorem dJ2_add_2_6 : decode cJ2_add_2 6 = .ok (.aload_n 0, 1) := dk_42 (dk_at dksJ2_add_2_0 6 rfl rfl)
theorem dJ2_add_2_7 : decode cJ2_add_2 7 = .ok (.invokevirtual 129, 3) := dk_182 0 129 (dk_at dksJ2_add_2_0 7 rfl rfl)
theorem dJ2_add_2_10 : decode cJ2_add_2 10 = .ok (.astore_n 2, 1) := dk_77 (dk_at dksJ2_add_2_0 10 rfl rfl)
theorem dJ2_add_2_11 : decode cJ2_add_2 11 = .ok (.aload_n 2, 1) := dk_44 (dk_at dksJ2_add_2_0 11 rfl rfl)
theorem dJ2_add_2_12 : decode cJ2_add_2 12 = .ok (.iload_n 3, 1) := dk_29 (dk_at dksJ2_add_2_0 12 rfl rfl)
theorem dJ2_add_2_13 : decode cJ2_add_2 13 = .ok (.aload_n 1, 1) := dk_43 (dk_at dksJ2_add_2_0 13 rfl rfl)
theorem dJ2_add_2_14 : decode cJ2_add_2 14 = .ok (.aastore, 1) := dk_83 (dk_at dksJ2_add_2_0 14 rfl rfl)
theorem dJ2_add_2_15 : decode cJ2_add_2 15 = .ok (.aload_n 0, 1) := dk_42 (dk_at dksJ2_add_2_0 15 rfl rfl)
theorem dJ2_add_2_16 : decode cJ2_add_2 16 = .ok (.iload_n 3, 1) := dk_29 (dk_at dksJ2_add_2_0 16 rfl rfl)
theorem dJ2_add_2_17 : decode cJ2_add_2 17 = .ok (.iconst 1, 1) := dk_4 (dk_at dksJ2_add_2_0 17 rfl rfl)
theorem dJ2_add_2_18 : decode cJ2_add_2 18 = .ok (.iadd, 1) := dk_96 (dk_at dksJ2_add_2_0 18 rfl rfl)
theorem dJ2_add_2_19 : decode cJ2_add_2 19 = .ok (.putfield 48, 3) := dk_181 0 48 (dk_at dksJ2_add_2_0 19 rfl rfl)
theorem dJ2_add_2_22 : decode cJ2_add_2 22 = .ok (.return_, 1) := dk_177 (dk_at dksJ2_add_2_0 22 rfl rfl)
abbrev cJ2_grow : ByteArray := prog_40_method_7_code
def yJ2_grow : MethodName := ⟨RJ2, "grow", "()[Ljava/lang/Object;"⟩
def dkwJ2_grow_0 : List UInt8 := [42, 42, 180, 0, 48, 4, 96, 182, 0, 69, 176]
abbrev dktJ2_grow_0 : List UInt8 := dkwJ2_grow_0 ++ []
theorem dksJ2_grow_0 : cJ2_grow.data.toList.drop 0 = dktJ2_grow_0 := by decide +kernel
theorem dJ2_grow_0 : decode cJ2_grow 0 = .ok (.aload_n 0, 1) := dk_42 (dk_at dksJ2_grow_0 0 rfl rfl)
theorem dJ2_grow_1 : decode cJ2_grow 1 = .ok (.aload_n 0, 1) := dk_42 (dk_at dksJ2_grow_0 1 rfl rfl)
theorem dJ2_grow_2 : decode cJ2_grow 2 = .ok (.getfield 48, 3) := dk_180 0 48 (dk_at dksJ2_grow_0 2 rfl rfl)
theorem dJ2_grow_5 : decode cJ2_grow 5 = .ok (.iconst 1, 1) := dk_4 (dk_at dksJ2_grow_0 5 rfl rfl)
theorem dJ2_grow_6 : decode cJ2_grow 6 = .ok (.iadd, 1) := dk_96 (dk_at dksJ2_grow_0 6 rfl rfl)
theorem dJ2_grow_7 : decode cJ2_grow 7 = .ok (.invokevirtual 69, 3) := dk_182 0 69 (dk_at dksJ2_grow_0 7 rfl rfl)
theorem dJ2_grow_10 : decode cJ2_grow 10 = .ok (.areturn, 1) := dk_176 (dk_at dksJ2_grow_0 10 rfl rfl)
abbrev cJ2_grow_2 : ByteArray := prog_40_method_6_code
def yJ2_grow_2 : MethodName := ⟨RJ2, "grow", "(I)[Ljava/lang/Object;"⟩
def dkwJ2_grow_2_2 : List UInt8 := [27, 184, 0, 79, 189, 0, 7, 90, 181, 0, 9, 176]
abbrev dktJ2_grow_2_2 : List UInt8 := dkwJ2_grow_2_2 ++ []
def dkwJ2_grow_2_1 : List UInt8 := [28, 4, 122, 184, 0, 73, 62, 42, 42, 180, 0, 9, 29, 184, 0, 66, 90, 181, 0, 9, 176, 42, 16, 10]
abbrev dktJ2_grow_2_1 : List UInt8 := dkwJ2_grow_2_1 ++ dktJ2_grow_2_2
def dkwJ2_grow_2_0 : List UInt8 := [42, 180, 0, 9, 190, 61, 28, 157, 0, 13, 42, 180, 0, 9, 178, 0, 39, 165, 0, 28, 28, 27, 28, 100]
abbrev dktJ2_grow_2_0 : List UInt8 := dkwJ2_grow_2_0 ++ dktJ2_grow_2_1
theorem dksJ2_grow_2_0 : cJ2_grow_2.data.toList.drop 0 = dktJ2_grow_2_0 := by decide +kernel
theorem dksJ2_grow_2_1 : cJ2_grow_2.data.toList.drop 24 = dktJ2_grow_2_1 := dk_seg dksJ2_grow_2_0 24 rfl rfl
theorem dksJ2_grow_2_2 : cJ2_grow_2.data.toList.drop 48 = dktJ2_grow_2_2 := dk_seg dksJ2_grow_2_1 24 rfl rfl
theorem dJ2_grow_2_0 : decode cJ2_grow_2 0 = .ok (.aload_n 0, 1) := dk_42 (dk_at dksJ2_grow_2_0 0 rfl rfl)
theorem dJ2_grow_2_1 : decode cJ2_grow_2 1 = .ok (.getfield 9, 3) := dk_180 0 9 (dk_at dksJ2_grow_2_0 1 rfl rfl)
theorem dJ2_grow_2_4 : decode cJ2_grow_2 4 = .ok (.arraylength, 1) := dk_190 (dk_at dksJ2_grow_2_0 4 rfl rfl)
theorem dJ2_grow_2_5 : decode cJ2_grow_2 5 = .ok (.istore_n 2, 1) := dk_61 (dk_at dksJ2_grow_2_0 5 rfl rfl)
theorem dJ2_grow_2_6 : decode cJ2_grow_2 6 = .ok (.iload_n 2, 1) := dk_28 (dk_at dksJ2_grow_2_0 6 rfl rfl)
theorem dJ2_grow_2_7 : decode cJ2_grow_2 7 = .ok (.ifCond .gt 13, 3) := dk_157 0 13 (dk_at dksJ2_grow_2_0 7 rfl rfl)
theorem dJ2_grow_2_10 : decode cJ2_grow_2 10 = .ok (.aload_n 0, 1) := dk_42 (dk_at dksJ2_grow_2_0 10 rfl rfl)
theorem dJ2_grow_2_11 : decode cJ2_grow_2 11 = .ok (.getfield 9, 3) := dk_180 0 9 (dk_at dksJ2_grow_2_0 11 rfl rfl)
theorem dJ2_grow_2_14 : decode cJ2_grow_2 14 = .ok (.getstatic 39, 3) := dk_178 0 39 (dk_at dksJ2_grow_2_0 14 rfl rfl)
theorem dJ2_grow_2_17 : decode cJ2_grow_2 17 = .ok (.if_acmp .eq 28, 3) := dk_165 0 28 (dk_at dksJ2_grow_2_0 17 rfl rfl)
theorem dJ2_grow_2_20 : decode cJ2_grow_2 20 = .ok (.iload_n 2, 1) := dk_28 (dk_at dksJ2_grow_2_0 20 rfl rfl)
theorem dJ2_grow_2_21 : decode cJ2_grow_2 21 = .ok (.iload_n 1, 1) := dk_27 (dk_at dksJ2_grow_2_0 21 rfl rfl)
theorem dJ2_grow_2_22 : decode cJ2_grow_2 22 = .ok (.iload_n 2, 1) := dk_28 (dk_at dksJ2_grow_2_0 22 rfl rfl)
theorem dJ2_grow_2_23 : decode cJ2_grow_2 23 = .ok (.isub, 1) := dk_100 (dk_at dksJ2_grow_2_0 23 rfl rfl)
theorem dJ2_grow_2_24 : decode cJ2_grow_2 24 = .ok (.iload_n 2, 1) := dk_28 (dk_at dksJ2_grow_2_1 0 rfl rfl)
theorem dJ2_grow_2_25 : decode cJ2_grow_2 25 = .ok (.iconst 1, 1) := dk_4 (dk_at dksJ2_grow_2_1 1 rfl rfl)
theorem dJ2_grow_2_26 : decode cJ2_grow_2 26 = .ok (.ishr, 1) := dk_122 (dk_at dksJ2_grow_2_1 2 rfl rfl)
theorem dJ2_grow_2_27 : decode cJ2_grow_2 27 = .ok (.invokestatic 73, 3) := dk_184 0 73 (dk_at dksJ2_grow_2_1 3 rfl rfl)
theorem dJ2_grow_2_30 : decode cJ2_grow_2 30 = .ok (.istore_n 3, 1) := dk_62 (dk_at dksJ2_grow_2_1 6 rfl rfl)
theorem dJ2_grow_2_31 : decode cJ2_grow_2 31 = .ok (.aload_n 0, 1) := dk_42 (dk_at dksJ2_grow_2_1 7 rfl rfl)
theorem dJ2_grow_2_32 : decode cJ2_grow_2 32 = .ok (.aload_n 0, 1) := dk_42 (dk_at dksJ2_grow_2_1 8 rfl rfl)
theorem dJ2_grow_2_33 : decode cJ2_grow_2 33 = .ok (.getfield 9, 3) := dk_180 0 9 (dk_at dksJ2_grow_2_1 9 rfl rfl)
theorem dJ2_grow_2_36 : decode cJ2_grow_2 36 = .ok (.iload_n 3, 1) := dk_29 (dk_at dksJ2_grow_2_1 12 rfl rfl)
theorem dJ2_grow_2_37 : decode cJ2_grow_2 37 = .ok (.invokestatic 66, 3) := dk_184 0 66 (dk_at dksJ2_grow_2_1 13 rfl rfl)
theorem dJ2_grow_2_40 : decode cJ2_grow_2 40 = .ok (.dup_x1, 1) := dk_90 (dk_at dksJ2_grow_2_1 16 rfl rfl)
theorem dJ2_grow_2_41 : decode cJ2_grow_2 41 = .ok (.putfield 9, 3) := dk_181 0 9 (dk_at dksJ2_grow_2_1 17 rfl rfl)
theorem dJ2_grow_2_44 : decode cJ2_grow_2 44 = .ok (.areturn, 1) := dk_176 (dk_at dksJ2_grow_2_1 20 rfl rfl)
theorem dJ2_grow_2_45 : decode cJ2_grow_2 45 = .ok (.aload_n 0, 1) := dk_42 (dk_at dksJ2_grow_2_1 21 rfl rfl)
theorem dJ2_grow_2_46 : decode cJ2_grow_2 46 = .ok (.bipush 10, 2) := dk_16 10 (dk_at dksJ2_grow_2_1 22 rfl rfl)
theorem dJ2_grow_2_48 : decode cJ2_grow_2 48 = .ok (.iload_n 1, 1) := dk_27 (dk_at dksJ2_grow_2_2 0 rfl rfl)
theorem dJ2_grow_2_49 : decode cJ2_grow_2 49 = .ok (.invokestatic 79, 3) := dk_184 0 79 (dk_at dksJ2_grow_2_2 1 rfl rfl)
theorem dJ2_grow_2_52 : decode cJ2_grow_2 52 = .ok (.anewarray 7, 3) := dk_189 0 7 (dk_at dksJ2_grow_2_2 4 rfl rfl)
theorem dJ2_grow_2_55 : decode cJ2_grow_2 55 = .ok (.dup_x1, 1) := dk_90 (dk_at dksJ2_grow_2_2 7 rfl rfl)
theorem dJ2_grow_2_56 : decode cJ2_grow_2 56 = .ok (.putfield 9, 3) := dk_181 0 9 (dk_at dksJ2_grow_2_2 8 rfl rfl)
theorem dJ2_grow_2_59 : decode cJ2_grow_2 59 = .ok (.areturn, 1) := dk_176 (dk_at dksJ2_grow_2_2 11 rfl rfl)
abbrev cJ2_isEmpty : ByteArray := prog_40_method_9_code
def yJ2_isEmpty : MethodName := ⟨RJ2, "isEmpty", "()Z"⟩
def dkwJ2_isEmpty_0 : List UInt8 := [42, 180, 0, 48, 154, 0, 7, 4, 167, 0, 4, 3, 172]
abbrev dktJ2_isEmpty_0 : List UInt8 := dkwJ2_isEmpty_0 ++ []
theorem dksJ2_isEmpty_0 : cJ2_isEmpty.data.toList.drop 0 = dktJ2_isEmpty_0 := by decide +kernel
theorem dJ2_isEmpty_0 : decode cJ2_isEmpty 0 = .ok (.aload_n 0, 1) := dk_42 (dk_at dksJ2_isEmpty_0 0 rfl rfl)
theorem dJ2_isEmpty_1 : decode cJ2_isEmpty 1 = .ok (.getfield 48, 3) := dk_180 0 48 (dk_at dksJ2_isEmpty_0 1 rfl rfl)
theorem dJ2_isEmpty_4 : decode cJ2_isEmpty 4 = .ok (.ifCond .ne 7, 3) := dk_154 0 7 (dk_at dksJ2_isEmpty_0 4 rfl rfl)
theorem dJ2_isEmpty_7 : decode cJ2_isEmpty 7 = .ok (.iconst 1, 1) := dk_4 (dk_at dksJ2_isEmpty_0 7 rfl rfl)
theorem dJ2_isEmpty_8 : decode cJ2_isEmpty 8 = .ok (.goto 4, 3) := dk_167 0 4 (dk_at dksJ2_isEmpty_0 8 rfl rfl)
theorem dJ2_isEmpty_11 : decode cJ2_isEmpty 11 = .ok (.iconst 0, 1) := dk_3 (dk_at dksJ2_isEmpty_0 11 rfl rfl)
theorem dJ2_isEmpty_12 : decode cJ2_isEmpty 12 = .ok (.ireturn, 1) := dk_172 (dk_at dksJ2_isEmpty_0 12 rfl rfl)
theorem q136 : (Jvm.Cond.initialized "java/util/ArrayList") ∈ lw_all := lw_g (lw_at lw_m1 6 rfl) rfl
theorem q396 : (Jvm.Cond.instantiable "java/util/ArrayList" (3 : Nat)) ∈ lw_all := lw_g (lw_at lw_m2 26 rfl) rfl
theorem q398 : (Jvm.Cond.instanceMethod ({ cls := "java/util/ArrayList", name := "<init>", desc := "(I)V" } : Jvm.MethodName)) ∈ lw_all := lw_g (lw_at lw_m2 28 rfl) rfl
theorem q399 : (Jvm.Cond.code ({ cls := "java/util/ArrayList", name := "<init>", desc := "(I)V" } : Jvm.MethodName) prog_40_method_1_code (2 : Nat) (Option.none : Option Jvm.ClassFile.FieldType)) ∈ lw_all := lw_g (lw_at lw_m2 29 rfl) rfl
theorem q400 : (Jvm.Cond.methodLink "java/util/ArrayList" (1 : Nat) ({ cls := "java/util/AbstractList", name := "<init>", desc := "()V" } : Jvm.MethodName)) ∈ lw_all := lw_g (lw_at lw_m2 30 rfl) rfl
theorem q407 : (Jvm.Cond.classLink "java/util/ArrayList" (7 : Nat) "java/lang/Object") ∈ lw_all := lw_g (lw_at lw_m2 37 rfl) rfl
theorem q409 : (Jvm.Cond.fieldLink "java/util/ArrayList" (15 : Nat) "java/util/ArrayList" "EMPTY_ELEMENTDATA" "[Ljava/lang/Object;") ∈ lw_all := lw_g (lw_at lw_m2 39 rfl) rfl
theorem q410 : (Jvm.Cond.laysStatic "java/util/ArrayList" "EMPTY_ELEMENTDATA" "[Ljava/lang/Object;") ∈ lw_tbl := lw_at lw_m2 40 rfl
theorem q411 : (Jvm.Cond.fieldLink "java/util/ArrayList" (9 : Nat) "java/util/ArrayList" "elementData" "[Ljava/lang/Object;") ∈ lw_all := lw_g (lw_at lw_m2 41 rfl) rfl
theorem q412 : (Jvm.Cond.fieldLink "java/util/ArrayList" (48 : Nat) "java/util/ArrayList" "size" "I") ∈ lw_all := lw_g (lw_at lw_m2 42 rfl) rfl
theorem q414 : (Jvm.Cond.fieldLink "java/util/ArrayList" (63 : Nat) "java/util/ArrayList" "modCount" "I") ∈ lw_all := lw_g (lw_at lw_m2 44 rfl) rfl
theorem q415 : (Jvm.Cond.sameField "java/util/ArrayList" "java/util/AbstractList" "modCount" "I") ∈ lw_all := lw_g (lw_at lw_m2 45 rfl) rfl
theorem q416 : (Jvm.Cond.lays "java/util/ArrayList" "java/util/ArrayList" "elementData" "[Ljava/lang/Object;") ∈ lw_all := lw_g (lw_at lw_m2 46 rfl) rfl
theorem q417 : (Jvm.Cond.soleField "java/util/ArrayList" "elementData") ∈ lw_all := lw_g (lw_at lw_m2 47 rfl) rfl
theorem q418 : (Jvm.Cond.lays "java/util/ArrayList" "java/util/ArrayList" "size" "I") ∈ lw_all := lw_g (lw_at lw_m2 48 rfl) rfl
theorem q419 : (Jvm.Cond.soleField "java/util/ArrayList" "size") ∈ lw_all := lw_g (lw_at lw_m2 49 rfl) rfl
theorem q420 : (Jvm.Cond.lays "java/util/ArrayList" "java/util/AbstractList" "modCount" "I") ∈ lw_all := lw_g (lw_at lw_m2 50 rfl) rfl
theorem q422 : (Jvm.Cond.superclass "java/util/ArrayList" "java/util/AbstractList") ∈ lw_all := lw_g (lw_at lw_m2 52 rfl) rfl
theorem q802 : (Jvm.Cond.castable "java/util/ArrayList" "java/util/List") ∈ lw_tbl := lw_at lw_m3 192 rfl
theorem q803 : (Jvm.Cond.selects "java/util/ArrayList" ({ cls := "java/util/List", name := "size", desc := "()I" } : Jvm.MethodName) ({ cls := "java/util/ArrayList", name := "size", desc := "()I" } : Jvm.MethodName)) ∈ lw_all := lw_g (lw_at lw_m3 193 rfl) rfl
theorem q804 : (Jvm.Cond.unhidden "java/util/ArrayList" "size" "()I") ∈ lw_tbl := lw_at lw_m3 194 rfl
theorem q805 : (Jvm.Cond.instanceMethod ({ cls := "java/util/ArrayList", name := "size", desc := "()I" } : Jvm.MethodName)) ∈ lw_all := lw_g (lw_at lw_m3 195 rfl) rfl
theorem q806 : (Jvm.Cond.publicMethod ({ cls := "java/util/ArrayList", name := "size", desc := "()I" } : Jvm.MethodName)) ∈ lw_tbl := lw_at lw_m3 196 rfl
theorem q807 : (Jvm.Cond.code ({ cls := "java/util/ArrayList", name := "size", desc := "()I" } : Jvm.MethodName) prog_40_method_8_code (1 : Nat) (Option.some Jvm.ClassFile.FieldType.int)) ∈ lw_all := lw_g (lw_at lw_m3 197 rfl) rfl
theorem q812 : (Jvm.Cond.selects "java/util/ArrayList" ({ cls := "java/util/List", name := "get", desc := "(I)Ljava/lang/Object;" } : Jvm.MethodName) ({ cls := "java/util/ArrayList", name := "get", desc := "(I)Ljava/lang/Object;" } : Jvm.MethodName)) ∈ lw_all := lw_g (lw_at lw_m3 202 rfl) rfl
theorem q813 : (Jvm.Cond.unhidden "java/util/ArrayList" "get" "(I)Ljava/lang/Object;") ∈ lw_tbl := lw_at lw_m3 203 rfl
theorem q814 : (Jvm.Cond.instanceMethod ({ cls := "java/util/ArrayList", name := "get", desc := "(I)Ljava/lang/Object;" } : Jvm.MethodName)) ∈ lw_all := lw_g (lw_at lw_m3 204 rfl) rfl
theorem q815 : (Jvm.Cond.publicMethod ({ cls := "java/util/ArrayList", name := "get", desc := "(I)Ljava/lang/Object;" } : Jvm.MethodName)) ∈ lw_tbl := lw_at lw_m3 205 rfl
theorem q816 : (Jvm.Cond.code ({ cls := "java/util/ArrayList", name := "get", desc := "(I)Ljava/lang/Object;" } : Jvm.MethodName) prog_40_method_20_code (2 : Nat) (Option.some (Jvm.ClassFile.FieldType.object "java/lang/Object"))) ∈ lw_all := lw_g (lw_at lw_m3 206 rfl) rfl
theorem q817 : (Jvm.Cond.methodLink "java/util/ArrayList" (118 : Nat) ({ cls := "java/util/Objects", name := "checkIndex", desc := "(II)I" } : Jvm.MethodName)) ∈ lw_all := lw_g (lw_at lw_m3 207 rfl) rfl
theorem q821 : (Jvm.Cond.methodLink "java/util/ArrayList" (123 : Nat) ({ cls := "java/util/ArrayList", name := "elementData", desc := "(I)Ljava/lang/Object;" } : Jvm.MethodName)) ∈ lw_all := lw_g (lw_at lw_m3 211 rfl) rfl
theorem q822 : (Jvm.Cond.instanceMethod ({ cls := "java/util/ArrayList", name := "elementData", desc := "(I)Ljava/lang/Object;" } : Jvm.MethodName)) ∈ lw_all := lw_g (lw_at lw_m3 212 rfl) rfl
theorem q823 : (Jvm.Cond.selects "java/util/ArrayList" ({ cls := "java/util/ArrayList", name := "elementData", desc := "(I)Ljava/lang/Object;" } : Jvm.MethodName) ({ cls := "java/util/ArrayList", name := "elementData", desc := "(I)Ljava/lang/Object;" } : Jvm.MethodName)) ∈ lw_all := lw_g (lw_at lw_m3 213 rfl) rfl
theorem q824 : (Jvm.Cond.code ({ cls := "java/util/ArrayList", name := "elementData", desc := "(I)Ljava/lang/Object;" } : Jvm.MethodName) prog_40_method_18_code (2 : Nat) (Option.some (Jvm.ClassFile.FieldType.object "java/lang/Object"))) ∈ lw_all := lw_g (lw_at lw_m3 214 rfl) rfl
theorem q873 : (Jvm.Cond.selects "java/util/ArrayList" ({ cls := "java/util/List", name := "add", desc := "(Ljava/lang/Object;)Z" } : Jvm.MethodName) ({ cls := "java/util/ArrayList", name := "add", desc := "(Ljava/lang/Object;)Z" } : Jvm.MethodName)) ∈ lw_all := lw_g (lw_at lw_m4 23 rfl) rfl
theorem q874 : (Jvm.Cond.unhidden "java/util/ArrayList" "add" "(Ljava/lang/Object;)Z") ∈ lw_tbl := lw_at lw_m4 24 rfl
theorem q875 : (Jvm.Cond.instanceMethod ({ cls := "java/util/ArrayList", name := "add", desc := "(Ljava/lang/Object;)Z" } : Jvm.MethodName)) ∈ lw_all := lw_g (lw_at lw_m4 25 rfl) rfl
theorem q876 : (Jvm.Cond.publicMethod ({ cls := "java/util/ArrayList", name := "add", desc := "(Ljava/lang/Object;)Z" } : Jvm.MethodName)) ∈ lw_tbl := lw_at lw_m4 26 rfl
theorem q877 : (Jvm.Cond.code ({ cls := "java/util/ArrayList", name := "add", desc := "(Ljava/lang/Object;)Z" } : Jvm.MethodName) prog_40_method_25_code (2 : Nat) (Option.some Jvm.ClassFile.FieldType.boolean)) ∈ lw_all := lw_g (lw_at lw_m4 27 rfl) rfl
theorem q878 : (Jvm.Cond.methodLink "java/util/ArrayList" (131 : Nat) ({ cls := "java/util/ArrayList", name := "add", desc := "(Ljava/lang/Object;[Ljava/lang/Object;I)V" } : Jvm.MethodName)) ∈ lw_all := lw_g (lw_at lw_m4 28 rfl) rfl
theorem q879 : (Jvm.Cond.privateMethod ({ cls := "java/util/ArrayList", name := "add", desc := "(Ljava/lang/Object;[Ljava/lang/Object;I)V" } : Jvm.MethodName)) ∈ lw_tbl := lw_at lw_m4 29 rfl
theorem q880 : (Jvm.Cond.instanceMethod ({ cls := "java/util/ArrayList", name := "add", desc := "(Ljava/lang/Object;[Ljava/lang/Object;I)V" } : Jvm.MethodName)) ∈ lw_all := lw_g (lw_at lw_m4 30 rfl) rfl
theorem q881 : (Jvm.Cond.code ({ cls := "java/util/ArrayList", name := "add", desc := "(Ljava/lang/Object;[Ljava/lang/Object;I)V" } : Jvm.MethodName) prog_40_method_24_code (4 : Nat) (Option.none : Option Jvm.ClassFile.FieldType)) ∈ lw_all := lw_g (lw_at lw_m4 31 rfl) rfl
theorem q882 : (Jvm.Cond.methodLink "java/util/ArrayList" (129 : Nat) ({ cls := "java/util/ArrayList", name := "grow", desc := "()[Ljava/lang/Object;" } : Jvm.MethodName)) ∈ lw_all := lw_g (lw_at lw_m4 32 rfl) rfl
theorem q883 : (Jvm.Cond.privateMethod ({ cls := "java/util/ArrayList", name := "grow", desc := "()[Ljava/lang/Object;" } : Jvm.MethodName)) ∈ lw_tbl := lw_at lw_m4 33 rfl
theorem q884 : (Jvm.Cond.instanceMethod ({ cls := "java/util/ArrayList", name := "grow", desc := "()[Ljava/lang/Object;" } : Jvm.MethodName)) ∈ lw_all := lw_g (lw_at lw_m4 34 rfl) rfl
theorem q885 : (Jvm.Cond.code ({ cls := "java/util/ArrayList", name := "grow", desc := "()[Ljava/lang/Object;" } : Jvm.MethodName) prog_40_method_7_code (1 : Nat) (Option.some (Jvm.ClassFile.FieldType.array (Jvm.ClassFile.FieldType.object "java/lang/Object")))) ∈ lw_all := lw_g (lw_at lw_m4 35 rfl) rfl
theorem q886 : (Jvm.Cond.methodLink "java/util/ArrayList" (69 : Nat) ({ cls := "java/util/ArrayList", name := "grow", desc := "(I)[Ljava/lang/Object;" } : Jvm.MethodName)) ∈ lw_all := lw_g (lw_at lw_m4 36 rfl) rfl
theorem q887 : (Jvm.Cond.privateMethod ({ cls := "java/util/ArrayList", name := "grow", desc := "(I)[Ljava/lang/Object;" } : Jvm.MethodName)) ∈ lw_tbl := lw_at lw_m4 37 rfl
theorem q888 : (Jvm.Cond.instanceMethod ({ cls := "java/util/ArrayList", name := "grow", desc := "(I)[Ljava/lang/Object;" } : Jvm.MethodName)) ∈ lw_all := lw_g (lw_at lw_m4 38 rfl) rfl
theorem q889 : (Jvm.Cond.code ({ cls := "java/util/ArrayList", name := "grow", desc := "(I)[Ljava/lang/Object;" } : Jvm.MethodName) prog_40_method_6_code (4 : Nat) (Option.some (Jvm.ClassFile.FieldType.array (Jvm.ClassFile.FieldType.object "java/lang/Object")))) ∈ lw_all := lw_g (lw_at lw_m4 39 rfl) rfl
theorem q890 : (Jvm.Cond.fieldLink "java/util/ArrayList" (39 : Nat) "java/util/ArrayList" "DEFAULTCAPACITY_EMPTY_ELEMENTDATA" "[Ljava/lang/Object;") ∈ lw_all := lw_g (lw_at lw_m4 40 rfl) rfl
theorem q891 : (Jvm.Cond.laysStatic "java/util/ArrayList" "DEFAULTCAPACITY_EMPTY_ELEMENTDATA" "[Ljava/lang/Object;") ∈ lw_tbl := lw_at lw_m4 41 rfl
theorem q892 : (Jvm.Cond.methodLink "java/util/ArrayList" (73 : Nat) ({ cls := "jdk/internal/util/ArraysSupport", name := "newLength", desc := "(III)I" } : Jvm.MethodName)) ∈ lw_all := lw_g (lw_at lw_m4 42 rfl) rfl
theorem q902 : (Jvm.Cond.methodLink "java/util/ArrayList" (66 : Nat) ({ cls := "java/util/Arrays", name := "copyOf", desc := "([Ljava/lang/Object;I)[Ljava/lang/Object;" } : Jvm.MethodName)) ∈ lw_all := lw_g (lw_at lw_m4 52 rfl) rfl
theorem q929 : (Jvm.Cond.selects "java/util/ArrayList" ({ cls := "java/lang/Object", name := "getClass", desc := "()Ljava/lang/Class;" } : Jvm.MethodName) ({ cls := "java/lang/Object", name := "getClass", desc := "()Ljava/lang/Class;" } : Jvm.MethodName)) ∈ lw_all := lw_g (lw_at lw_m4 79 rfl) rfl
theorem q938 : (Jvm.Cond.methodLink "java/util/ArrayList" (79 : Nat) ({ cls := "java/lang/Math", name := "max", desc := "(II)I" } : Jvm.MethodName)) ∈ lw_all := lw_g (lw_at lw_m4 88 rfl) rfl
theorem q997 : (Jvm.Cond.selects "java/util/ArrayList" ({ cls := "java/util/List", name := "isEmpty", desc := "()Z" } : Jvm.MethodName) ({ cls := "java/util/ArrayList", name := "isEmpty", desc := "()Z" } : Jvm.MethodName)) ∈ lw_all := lw_g (lw_at lw_m4 147 rfl) rfl
theorem q998 : (Jvm.Cond.unhidden "java/util/ArrayList" "isEmpty" "()Z") ∈ lw_tbl := lw_at lw_m4 148 rfl
theorem q999 : (Jvm.Cond.instanceMethod ({ cls := "java/util/ArrayList", name := "isEmpty", desc := "()Z" } : Jvm.MethodName)) ∈ lw_all := lw_g (lw_at lw_m4 149 rfl) rfl
theorem q1000 : (Jvm.Cond.publicMethod ({ cls := "java/util/ArrayList", name := "isEmpty", desc := "()Z" } : Jvm.MethodName)) ∈ lw_tbl := lw_at lw_m4 150 rfl
theorem q1001 : (Jvm.Cond.code ({ cls := "java/util/ArrayList", name := "isEmpty", desc := "()Z" } : Jvm.MethodName) prog_40_method_9_code (1 : Nat) (Option.some Jvm.ClassFile.FieldType.boolean)) ∈ lw_all := lw_g (lw_at lw_m4 151 rfl) rfl
theorem q2314 : (Jvm.Cond.castable "java/util/ArrayList" "java/lang/Object") ∈ lw_tbl := lw_at lw_m10 24 rfl
theorem in_J2 : ∀ w ∈ wsJ20, w ∈ lw_all := lw_in wsJ20 [420, 416, 418] (by decide +kernel) (by decide +kernel)
/-! java/lang/Math -/
set_option maxRecDepth 100000
def RJ3 : String := "java/lang/Math"
abbrev cJ3_min : ByteArray := prog_29_method_69_code
def yJ3_min : MethodName := ⟨RJ3, "min", "(II)I"⟩
def dkwJ3_min_0 : List UInt8 := [26, 27, 163, 0, 7, 26, 167, 0, 4, 27, 172]
abbrev dktJ3_min_0 : List UInt8 := dkwJ3_min_0 ++ []
theorem dksJ3_min_0 : cJ3_min.data.toList.drop 0 = dktJ3_min_0 := by decide +kernel
theorem dJ3_min_0 : decode cJ3_min 0 = .ok (.iload_n 0, 1) := dk_26 (dk_at dksJ3_min_0 0 rfl rfl)
theorem dJ3_min_1 : decode cJ3_min 1 = .ok (.iload_n 1, 1) := dk_27 (dk_at dksJ3_min_0 1 rfl rfl)
theorem dJ3_min_2 : decode cJ3_min 2 = .ok (.if_icmp .gt 7, 3) := dk_163 0 7 (dk_at dksJ3_min_0 2 rfl rfl)
theorem dJ3_min_5 : decode cJ3_min 5 = .ok (.iload_n 0, 1) := dk_26 (dk_at dksJ3_min_0 5 rfl rfl)
theorem dJ3_min_6 : decode cJ3_min 6 = .ok (.goto 4, 3) := dk_167 0 4 (dk_at dksJ3_min_0 6 rfl rfl)
theorem dJ3_min_9 : decode cJ3_min 9 = .ok (.iload_n 1, 1) := dk_27 (dk_at dksJ3_min_0 9 rfl rfl)
theorem dJ3_min_10 : decode cJ3_min 10 = .ok (.ireturn, 1) := dk_172 (dk_at dksJ3_min_0 10 rfl rfl)
abbrev cJ3_max : ByteArray := prog_29_method_65_code
def yJ3_max : MethodName := ⟨RJ3, "max", "(II)I"⟩
def dkwJ3_max_0 : List UInt8 := [26, 27, 161, 0, 7, 26, 167, 0, 4, 27, 172]
abbrev dktJ3_max_0 : List UInt8 := dkwJ3_max_0 ++ []
theorem dksJ3_max_0 : cJ3_max.data.toList.drop 0 = dktJ3_max_0 := by decide +kernel
theorem dJ3_max_0 : decode cJ3_max 0 = .ok (.iload_n 0, 1) := dk_26 (dk_at dksJ3_max_0 0 rfl rfl)
theorem dJ3_max_1 : decode cJ3_max 1 = .ok (.iload_n 1, 1) := dk_27 (dk_at dksJ3_max_0 1 rfl rfl)
theorem dJ3_max_2 : decode cJ3_max 2 = .ok (.if_icmp .lt 7, 3) := dk_161 0 7 (dk_at dksJ3_max_0 2 rfl rfl)
theorem dJ3_max_5 : decode cJ3_max 5 = .ok (.iload_n 0, 1) := dk_26 (dk_at dksJ3_max_0 5 rfl rfl)
theorem dJ3_max_6 : decode cJ3_max 6 = .ok (.goto 4, 3) := dk_167 0 4 (dk_at dksJ3_max_0 6 rfl rfl)
theorem dJ3_max_9 : decode cJ3_max 9 = .ok (.iload_n 1, 1) := dk_27 (dk_at dksJ3_max_0 9 rfl rfl)
theorem dJ3_max_10 : decode cJ3_max 10 = .ok (.ireturn, 1) := dk_172 (dk_at dksJ3_max_0 10 rfl rfl)
abbrev cJ3_abs : ByteArray := prog_29_method_59_code
def yJ3_abs : MethodName := ⟨RJ3, "abs", "(I)I"⟩
def dkwJ3_abs_0 : List UInt8 := [26, 156, 0, 8, 26, 116, 167, 0, 4, 26, 172]
abbrev dktJ3_abs_0 : List UInt8 := dkwJ3_abs_0 ++ []
theorem dksJ3_abs_0 : cJ3_abs.data.toList.drop 0 = dktJ3_abs_0 := by decide +kernel
theorem dJ3_abs_0 : decode cJ3_abs 0 = .ok (.iload_n 0, 1) := dk_26 (dk_at dksJ3_abs_0 0 rfl rfl)
theorem dJ3_abs_1 : decode cJ3_abs 1 = .ok (.ifCond .ge 8, 3) := dk_156 0 8 (dk_at dksJ3_abs_0 1 rfl rfl)
theorem dJ3_abs_4 : decode cJ3_abs 4 = .ok (.iload_n 0, 1) := dk_26 (dk_at dksJ3_abs_0 4 rfl rfl)
theorem dJ3_abs_5 : decode cJ3_abs 5 = .ok (.ineg, 1) := dk_116 (dk_at dksJ3_abs_0 5 rfl rfl)
theorem dJ3_abs_6 : decode cJ3_abs 6 = .ok (.goto 4, 3) := dk_167 0 4 (dk_at dksJ3_abs_0 6 rfl rfl)
theorem dJ3_abs_9 : decode cJ3_abs 9 = .ok (.iload_n 0, 1) := dk_26 (dk_at dksJ3_abs_0 9 rfl rfl)
theorem dJ3_abs_10 : decode cJ3_abs 10 = .ok (.ireturn, 1) := dk_172 (dk_at dksJ3_abs_0 10 rfl rfl)
theorem q140 : (Jvm.Cond.initialized "java/lang/Math") ∈ lw_all := lw_g (lw_at lw_m1 10 rfl) rfl
theorem q628 : (Jvm.Cond.static ({ cls := "java/lang/Math", name := "min", desc := "(II)I" } : Jvm.MethodName)) ∈ lw_all := lw_g (lw_at lw_m3 18 rfl) rfl
theorem q629 : (Jvm.Cond.code ({ cls := "java/lang/Math", name := "min", desc := "(II)I" } : Jvm.MethodName) prog_29_method_69_code (2 : Nat) (Option.some Jvm.ClassFile.FieldType.int)) ∈ lw_all := lw_g (lw_at lw_m3 19 rfl) rfl
theorem q896 : (Jvm.Cond.static ({ cls := "java/lang/Math", name := "max", desc := "(II)I" } : Jvm.MethodName)) ∈ lw_all := lw_g (lw_at lw_m4 46 rfl) rfl
theorem q897 : (Jvm.Cond.code ({ cls := "java/lang/Math", name := "max", desc := "(II)I" } : Jvm.MethodName) prog_29_method_65_code (2 : Nat) (Option.some Jvm.ClassFile.FieldType.int)) ∈ lw_all := lw_g (lw_at lw_m4 47 rfl) rfl
theorem q1174 : (Jvm.Cond.static ({ cls := "java/lang/Math", name := "abs", desc := "(I)I" } : Jvm.MethodName)) ∈ lw_all := lw_g (lw_at lw_m5 84 rfl) rfl
theorem q1175 : (Jvm.Cond.code ({ cls := "java/lang/Math", name := "abs", desc := "(I)I" } : Jvm.MethodName) prog_29_method_59_code (1 : Nat) (Option.some Jvm.ClassFile.FieldType.int)) ∈ lw_all := lw_g (lw_at lw_m5 85 rfl) rfl
/-! java/lang/String -/
set_option maxRecDepth 100000
def RJ4 : String := "java/lang/String"
def TJ4 : u_T := fun k => match k with
  | 0 => ("java/lang/String", "value", "[B", true)
  | _ => ("java/lang/String", "coder", "B", true)
def tyJ4 : Nat → FieldType := fun k => match k with
  | 0 => .array .byte
  | _ => .byte
abbrev wsJ40 : List Cond := u_ws RJ4 TJ4 2
theorem nmJ4 : ∀ a, a < 2 → ∀ b, b < 2 → a ≠ b → (TJ4 a).2.1 ≠ (TJ4 b).2.1 := by decide +kernel
theorem tyJ4_ok : ∀ k, k < 2 → parseFieldDescriptor (TJ4 k).2.2.1 = some (tyJ4 k) := by decide +kernel
abbrev cJ4_length : ByteArray := prog_33_method_54_code
def yJ4_length : MethodName := ⟨RJ4, "length", "()I"⟩
def dkwJ4_length_0 : List UInt8 := [42, 180, 0, 9, 190, 42, 182, 1, 79, 122, 172]
abbrev dktJ4_length_0 : List UInt8 := dkwJ4_length_0 ++ []
theorem dksJ4_length_0 : cJ4_length.data.toList.drop 0 = dktJ4_length_0 := by decide +kernel
theorem dJ4_length_0 : decode cJ4_length 0 = .ok (.aload_n 0, 1) := dk_42 (dk_at dksJ4_length_0 0 rfl rfl)
theorem dJ4_length_1 : decode cJ4_length 1 = .ok (.getfield 9, 3) := dk_180 0 9 (dk_at dksJ4_length_0 1 rfl rfl)
theorem dJ4_length_4 : decode cJ4_length 4 = .ok (.arraylength, 1) := dk_190 (dk_at dksJ4_length_0 4 rfl rfl)
theorem dJ4_length_5 : decode cJ4_length 5 = .ok (.aload_n 0, 1) := dk_42 (dk_at dksJ4_length_0 5 rfl rfl)
theorem dJ4_length_6 : decode cJ4_length 6 = .ok (.invokevirtual 335, 3) := dk_182 1 79 (dk_at dksJ4_length_0 6 rfl rfl)
theorem dJ4_length_9 : decode cJ4_length 9 = .ok (.ishr, 1) := dk_122 (dk_at dksJ4_length_0 9 rfl rfl)
theorem dJ4_length_10 : decode cJ4_length 10 = .ok (.ireturn, 1) := dk_172 (dk_at dksJ4_length_0 10 rfl rfl)
abbrev cJ4_coder : ByteArray := prog_33_method_152_code
def yJ4_coder : MethodName := ⟨RJ4, "coder", "()B"⟩
def dkwJ4_coder_0 : List UInt8 := [178, 0, 38, 153, 0, 10, 42, 180, 0, 15, 167, 0, 4, 4, 172]
abbrev dktJ4_coder_0 : List UInt8 := dkwJ4_coder_0 ++ []
theorem dksJ4_coder_0 : cJ4_coder.data.toList.drop 0 = dktJ4_coder_0 := by decide +kernel
theorem dJ4_coder_0 : decode cJ4_coder 0 = .ok (.getstatic 38, 3) := dk_178 0 38 (dk_at dksJ4_coder_0 0 rfl rfl)
theorem dJ4_coder_3 : decode cJ4_coder 3 = .ok (.ifCond .eq 10, 3) := dk_153 0 10 (dk_at dksJ4_coder_0 3 rfl rfl)
theorem dJ4_coder_6 : decode cJ4_coder 6 = .ok (.aload_n 0, 1) := dk_42 (dk_at dksJ4_coder_0 6 rfl rfl)
theorem dJ4_coder_7 : decode cJ4_coder 7 = .ok (.getfield 15, 3) := dk_180 0 15 (dk_at dksJ4_coder_0 7 rfl rfl)
theorem dJ4_coder_10 : decode cJ4_coder 10 = .ok (.goto 4, 3) := dk_167 0 4 (dk_at dksJ4_coder_0 10 rfl rfl)
theorem dJ4_coder_13 : decode cJ4_coder 13 = .ok (.iconst 1, 1) := dk_4 (dk_at dksJ4_coder_0 13 rfl rfl)
theorem dJ4_coder_14 : decode cJ4_coder 14 = .ok (.ireturn, 1) := dk_172 (dk_at dksJ4_coder_0 14 rfl rfl)
abbrev cJ4_charAt : ByteArray := prog_33_method_56_code
def yJ4_charAt : MethodName := ⟨RJ4, "charAt", "(I)C"⟩
def dkwJ4_charAt_1 : List UInt8 := [172]
abbrev dktJ4_charAt_1 : List UInt8 := dkwJ4_charAt_1 ++ []
def dkwJ4_charAt_0 : List UInt8 := [42, 182, 1, 236, 153, 0, 12, 42, 180, 0, 9, 27, 184, 1, 239, 172, 42, 180, 0, 9, 27, 184, 1, 242]
abbrev dktJ4_charAt_0 : List UInt8 := dkwJ4_charAt_0 ++ dktJ4_charAt_1
theorem dksJ4_charAt_0 : cJ4_charAt.data.toList.drop 0 = dktJ4_charAt_0 := by decide +kernel
theorem dksJ4_charAt_1 : cJ4_charAt.data.toList.drop 24 = dktJ4_charAt_1 := dk_seg dksJ4_charAt_0 24 rfl rfl
theorem dJ4_charAt_0 : decode cJ4_charAt 0 = .ok (.aload_n 0, 1) := dk_42 (dk_at dksJ4_charAt_0 0 rfl rfl)
theorem dJ4_charAt_1 : decode cJ4_charAt 1 = .ok (.invokevirtual 492, 3) := dk_182 1 236 (dk_at dksJ4_charAt_0 1 rfl rfl)
theorem dJ4_charAt_4 : decode cJ4_charAt 4 = .ok (.ifCond .eq 12, 3) := dk_153 0 12 (dk_at dksJ4_charAt_0 4 rfl rfl)
theorem dJ4_charAt_7 : decode cJ4_charAt 7 = .ok (.aload_n 0, 1) := dk_42 (dk_at dksJ4_charAt_0 7 rfl rfl)
theorem dJ4_charAt_8 : decode cJ4_charAt 8 = .ok (.getfield 9, 3) := dk_180 0 9 (dk_at dksJ4_charAt_0 8 rfl rfl)
theorem dJ4_charAt_11 : decode cJ4_charAt 11 = .ok (.iload_n 1, 1) := dk_27 (dk_at dksJ4_charAt_0 11 rfl rfl)
theorem dJ4_charAt_12 : decode cJ4_charAt 12 = .ok (.invokestatic 495, 3) := dk_184 1 239 (dk_at dksJ4_charAt_0 12 rfl rfl)
theorem dJ4_charAt_15 : decode cJ4_charAt 15 = .ok (.ireturn, 1) := dk_172 (dk_at dksJ4_charAt_0 15 rfl rfl)
theorem dJ4_charAt_16 : decode cJ4_charAt 16 = .ok (.aload_n 0, 1) := dk_42 (dk_at dksJ4_charAt_0 16 rfl rfl)
theorem dJ4_charAt_17 : decode cJ4_charAt 17 = .ok (.getfield 9, 3) := dk_180 0 9 (dk_at dksJ4_charAt_0 17 rfl rfl)
theorem dJ4_charAt_20 : decode cJ4_charAt 20 = .ok (.iload_n 1, 1) := dk_27 (dk_at dksJ4_charAt_0 20 rfl rfl)
theorem dJ4_charAt_21 : decode cJ4_charAt 21 = .ok (.invokestatic 498, 3) := dk_184 1 242 (dk_at dksJ4_charAt_0 21 rfl rfl)
theorem dJ4_charAt_24 : decode cJ4_charAt 24 = .ok (.ireturn, 1) := dk_172 (dk_at dksJ4_charAt_1 0 rfl rfl)
abbrev cJ4_isLatin1 : ByteArray := prog_33_method_154_code
def yJ4_isLatin1 : MethodName := ⟨RJ4, "isLatin1", "()Z"⟩
def dkwJ4_isLatin1_0 : List UInt8 := [178, 0, 38, 153, 0, 14, 42, 180, 0, 15, 154, 0, 7, 4, 167, 0, 4, 3, 172]
abbrev dktJ4_isLatin1_0 : List UInt8 := dkwJ4_isLatin1_0 ++ []
theorem dksJ4_isLatin1_0 : cJ4_isLatin1.data.toList.drop 0 = dktJ4_isLatin1_0 := by decide +kernel
theorem dJ4_isLatin1_0 : decode cJ4_isLatin1 0 = .ok (.getstatic 38, 3) := dk_178 0 38 (dk_at dksJ4_isLatin1_0 0 rfl rfl)
theorem dJ4_isLatin1_3 : decode cJ4_isLatin1 3 = .ok (.ifCond .eq 14, 3) := dk_153 0 14 (dk_at dksJ4_isLatin1_0 3 rfl rfl)
theorem dJ4_isLatin1_6 : decode cJ4_isLatin1 6 = .ok (.aload_n 0, 1) := dk_42 (dk_at dksJ4_isLatin1_0 6 rfl rfl)
theorem dJ4_isLatin1_7 : decode cJ4_isLatin1 7 = .ok (.getfield 15, 3) := dk_180 0 15 (dk_at dksJ4_isLatin1_0 7 rfl rfl)
theorem dJ4_isLatin1_10 : decode cJ4_isLatin1 10 = .ok (.ifCond .ne 7, 3) := dk_154 0 7 (dk_at dksJ4_isLatin1_0 10 rfl rfl)
theorem dJ4_isLatin1_13 : decode cJ4_isLatin1 13 = .ok (.iconst 1, 1) := dk_4 (dk_at dksJ4_isLatin1_0 13 rfl rfl)
theorem dJ4_isLatin1_14 : decode cJ4_isLatin1 14 = .ok (.goto 4, 3) := dk_167 0 4 (dk_at dksJ4_isLatin1_0 14 rfl rfl)
theorem dJ4_isLatin1_17 : decode cJ4_isLatin1 17 = .ok (.iconst 0, 1) := dk_3 (dk_at dksJ4_isLatin1_0 17 rfl rfl)
theorem dJ4_isLatin1_18 : decode cJ4_isLatin1 18 = .ok (.ireturn, 1) := dk_172 (dk_at dksJ4_isLatin1_0 18 rfl rfl)
abbrev cJ4_checkIndex : ByteArray := prog_33_method_155_code
def yJ4_checkIndex : MethodName := ⟨RJ4, "checkIndex", "(II)V"⟩
def dkwJ4_checkIndex_0 : List UInt8 := [26, 27, 178, 4, 29, 184, 4, 35, 87, 177]
abbrev dktJ4_checkIndex_0 : List UInt8 := dkwJ4_checkIndex_0 ++ []
theorem dksJ4_checkIndex_0 : cJ4_checkIndex.data.toList.drop 0 = dktJ4_checkIndex_0 := by decide +kernel
theorem dJ4_checkIndex_0 : decode cJ4_checkIndex 0 = .ok (.iload_n 0, 1) := dk_26 (dk_at dksJ4_checkIndex_0 0 rfl rfl)
theorem dJ4_checkIndex_1 : decode cJ4_checkIndex 1 = .ok (.iload_n 1, 1) := dk_27 (dk_at dksJ4_checkIndex_0 1 rfl rfl)
theorem dJ4_checkIndex_2 : decode cJ4_checkIndex 2 = .ok (.getstatic 1053, 3) := dk_178 4 29 (dk_at dksJ4_checkIndex_0 2 rfl rfl)
theorem dJ4_checkIndex_5 : decode cJ4_checkIndex 5 = .ok (.invokestatic 1059, 3) := dk_184 4 35 (dk_at dksJ4_checkIndex_0 5 rfl rfl)
theorem dJ4_checkIndex_8 : decode cJ4_checkIndex 8 = .ok (.pop, 1) := dk_87 (dk_at dksJ4_checkIndex_0 8 rfl rfl)
theorem dJ4_checkIndex_9 : decode cJ4_checkIndex 9 = .ok (.return_, 1) := dk_177 (dk_at dksJ4_checkIndex_0 9 rfl rfl)
theorem q141 : (Jvm.Cond.initialized "java/lang/String") ∈ lw_all := lw_g (lw_at lw_m1 11 rfl) rfl
theorem q268 : (Jvm.Cond.instantiable "java/lang/String" (4 : Nat)) ∈ lw_all := lw_g (lw_at lw_m1 138 rfl) rfl
theorem q270 : (Jvm.Cond.laysFinal "java/lang/String" "java/lang/String" "value" "[B") ∈ lw_all := lw_g (lw_at lw_m1 140 rfl) rfl
theorem q271 : (Jvm.Cond.soleField "java/lang/String" "value") ∈ lw_all := lw_g (lw_at lw_m1 141 rfl) rfl
theorem q272 : (Jvm.Cond.laysFinal "java/lang/String" "java/lang/String" "coder" "B") ∈ lw_all := lw_g (lw_at lw_m1 142 rfl) rfl
theorem q273 : (Jvm.Cond.soleField "java/lang/String" "coder") ∈ lw_all := lw_g (lw_at lw_m1 143 rfl) rfl
theorem q674 : (Jvm.Cond.instanceMethod ({ cls := "java/lang/String", name := "length", desc := "()I" } : Jvm.MethodName)) ∈ lw_all := lw_g (lw_at lw_m3 64 rfl) rfl
theorem q675 : (Jvm.Cond.selects "java/lang/String" ({ cls := "java/lang/String", name := "length", desc := "()I" } : Jvm.MethodName) ({ cls := "java/lang/String", name := "length", desc := "()I" } : Jvm.MethodName)) ∈ lw_all := lw_g (lw_at lw_m3 65 rfl) rfl
theorem q676 : (Jvm.Cond.code ({ cls := "java/lang/String", name := "length", desc := "()I" } : Jvm.MethodName) prog_33_method_54_code (1 : Nat) (Option.some Jvm.ClassFile.FieldType.int)) ∈ lw_all := lw_g (lw_at lw_m3 66 rfl) rfl
theorem q677 : (Jvm.Cond.methodLink "java/lang/String" (335 : Nat) ({ cls := "java/lang/String", name := "coder", desc := "()B" } : Jvm.MethodName)) ∈ lw_all := lw_g (lw_at lw_m3 67 rfl) rfl
theorem q678 : (Jvm.Cond.instanceMethod ({ cls := "java/lang/String", name := "coder", desc := "()B" } : Jvm.MethodName)) ∈ lw_all := lw_g (lw_at lw_m3 68 rfl) rfl
theorem q679 : (Jvm.Cond.selects "java/lang/String" ({ cls := "java/lang/String", name := "coder", desc := "()B" } : Jvm.MethodName) ({ cls := "java/lang/String", name := "coder", desc := "()B" } : Jvm.MethodName)) ∈ lw_all := lw_g (lw_at lw_m3 69 rfl) rfl
theorem q680 : (Jvm.Cond.code ({ cls := "java/lang/String", name := "coder", desc := "()B" } : Jvm.MethodName) prog_33_method_152_code (1 : Nat) (Option.some Jvm.ClassFile.FieldType.byte)) ∈ lw_all := lw_g (lw_at lw_m3 70 rfl) rfl
theorem q681 : (Jvm.Cond.fieldLink "java/lang/String" (38 : Nat) "java/lang/String" "COMPACT_STRINGS" "Z") ∈ lw_all := lw_g (lw_at lw_m3 71 rfl) rfl
theorem q682 : (Jvm.Cond.laysStatic "java/lang/String" "COMPACT_STRINGS" "Z") ∈ lw_tbl := lw_at lw_m3 72 rfl
theorem q684 : (Jvm.Cond.instanceMethod ({ cls := "java/lang/String", name := "charAt", desc := "(I)C" } : Jvm.MethodName)) ∈ lw_all := lw_g (lw_at lw_m3 74 rfl) rfl
theorem q685 : (Jvm.Cond.selects "java/lang/String" ({ cls := "java/lang/String", name := "charAt", desc := "(I)C" } : Jvm.MethodName) ({ cls := "java/lang/String", name := "charAt", desc := "(I)C" } : Jvm.MethodName)) ∈ lw_all := lw_g (lw_at lw_m3 75 rfl) rfl
theorem q686 : (Jvm.Cond.code ({ cls := "java/lang/String", name := "charAt", desc := "(I)C" } : Jvm.MethodName) prog_33_method_56_code (2 : Nat) (Option.some Jvm.ClassFile.FieldType.char)) ∈ lw_all := lw_g (lw_at lw_m3 76 rfl) rfl
theorem q687 : (Jvm.Cond.methodLink "java/lang/String" (492 : Nat) ({ cls := "java/lang/String", name := "isLatin1", desc := "()Z" } : Jvm.MethodName)) ∈ lw_all := lw_g (lw_at lw_m3 77 rfl) rfl
theorem q688 : (Jvm.Cond.instanceMethod ({ cls := "java/lang/String", name := "isLatin1", desc := "()Z" } : Jvm.MethodName)) ∈ lw_all := lw_g (lw_at lw_m3 78 rfl) rfl
theorem q689 : (Jvm.Cond.selects "java/lang/String" ({ cls := "java/lang/String", name := "isLatin1", desc := "()Z" } : Jvm.MethodName) ({ cls := "java/lang/String", name := "isLatin1", desc := "()Z" } : Jvm.MethodName)) ∈ lw_all := lw_g (lw_at lw_m3 79 rfl) rfl
theorem q690 : (Jvm.Cond.code ({ cls := "java/lang/String", name := "isLatin1", desc := "()Z" } : Jvm.MethodName) prog_33_method_154_code (1 : Nat) (Option.some Jvm.ClassFile.FieldType.boolean)) ∈ lw_all := lw_g (lw_at lw_m3 80 rfl) rfl
theorem q691 : (Jvm.Cond.methodLink "java/lang/String" (495 : Nat) ({ cls := "java/lang/StringLatin1", name := "charAt", desc := "([BI)C" } : Jvm.MethodName)) ∈ lw_all := lw_g (lw_at lw_m3 81 rfl) rfl
theorem q695 : (Jvm.Cond.static ({ cls := "java/lang/String", name := "checkIndex", desc := "(II)V" } : Jvm.MethodName)) ∈ lw_all := lw_g (lw_at lw_m3 85 rfl) rfl
theorem q696 : (Jvm.Cond.code ({ cls := "java/lang/String", name := "checkIndex", desc := "(II)V" } : Jvm.MethodName) prog_33_method_155_code (2 : Nat) (Option.none : Option Jvm.ClassFile.FieldType)) ∈ lw_all := lw_g (lw_at lw_m3 86 rfl) rfl
theorem q697 : (Jvm.Cond.fieldLink "java/lang/String" (1053 : Nat) "jdk/internal/util/Preconditions" "SIOOBE_FORMATTER" "Ljava/util/function/BiFunction;") ∈ lw_all := lw_g (lw_at lw_m3 87 rfl) rfl
theorem q699 : (Jvm.Cond.methodLink "java/lang/String" (1059 : Nat) ({ cls := "jdk/internal/util/Preconditions", name := "checkIndex", desc := "(IILjava/util/function/BiFunction;)I" } : Jvm.MethodName)) ∈ lw_all := lw_g (lw_at lw_m3 89 rfl) rfl
theorem q702 : (Jvm.Cond.methodLink "java/lang/String" (498 : Nat) ({ cls := "java/lang/StringUTF16", name := "charAt", desc := "([BI)C" } : Jvm.MethodName)) ∈ lw_all := lw_g (lw_at lw_m3 92 rfl) rfl
theorem q2333 : (Jvm.Cond.castable "java/lang/String" "java/lang/Object") ∈ lw_tbl := lw_at lw_m10 43 rfl
theorem q2347 : (Jvm.Cond.fieldLink "java/lang/String" (9 : Nat) "java/lang/String" "value" "[B") ∈ lw_all := lw_g (lw_at lw_m10 57 rfl) rfl
theorem q2348 : (Jvm.Cond.fieldLink "java/lang/String" (15 : Nat) "java/lang/String" "coder" "B") ∈ lw_all := lw_g (lw_at lw_m10 58 rfl) rfl
theorem in_J4 : ∀ w ∈ wsJ40, w ∈ lw_all := lw_in wsJ40 [270, 272] (by decide +kernel) (by decide +kernel)
/-! java/lang/StringLatin1 -/
set_option maxRecDepth 100000
def RJ5 : String := "java/lang/StringLatin1"
abbrev cJ5_charAt : ByteArray := prog_34_method_2_code
def yJ5_charAt : MethodName := ⟨RJ5, "charAt", "([BI)C"⟩
def dkwJ5_charAt_0 : List UInt8 := [27, 42, 190, 184, 0, 9, 42, 27, 51, 17, 0, 255, 126, 146, 172]
abbrev dktJ5_charAt_0 : List UInt8 := dkwJ5_charAt_0 ++ []
theorem dksJ5_charAt_0 : cJ5_charAt.data.toList.drop 0 = dktJ5_charAt_0 := by decide +kernel
theorem dJ5_charAt_0 : decode cJ5_charAt 0 = .ok (.iload_n 1, 1) := dk_27 (dk_at dksJ5_charAt_0 0 rfl rfl)
theorem dJ5_charAt_1 : decode cJ5_charAt 1 = .ok (.aload_n 0, 1) := dk_42 (dk_at dksJ5_charAt_0 1 rfl rfl)
theorem dJ5_charAt_2 : decode cJ5_charAt 2 = .ok (.arraylength, 1) := dk_190 (dk_at dksJ5_charAt_0 2 rfl rfl)
theorem dJ5_charAt_3 : decode cJ5_charAt 3 = .ok (.invokestatic 9, 3) := dk_184 0 9 (dk_at dksJ5_charAt_0 3 rfl rfl)
theorem dJ5_charAt_6 : decode cJ5_charAt 6 = .ok (.aload_n 0, 1) := dk_42 (dk_at dksJ5_charAt_0 6 rfl rfl)
theorem dJ5_charAt_7 : decode cJ5_charAt 7 = .ok (.iload_n 1, 1) := dk_27 (dk_at dksJ5_charAt_0 7 rfl rfl)
theorem dJ5_charAt_8 : decode cJ5_charAt 8 = .ok (.baload, 1) := dk_51 (dk_at dksJ5_charAt_0 8 rfl rfl)
theorem dJ5_charAt_9 : decode cJ5_charAt 9 = .ok (.sipush 255, 3) := dk_17 0 255 (dk_at dksJ5_charAt_0 9 rfl rfl)
theorem dJ5_charAt_12 : decode cJ5_charAt 12 = .ok (.iand, 1) := dk_126 (dk_at dksJ5_charAt_0 12 rfl rfl)
theorem dJ5_charAt_13 : decode cJ5_charAt 13 = .ok (.i2c, 1) := dk_146 (dk_at dksJ5_charAt_0 13 rfl rfl)
theorem dJ5_charAt_14 : decode cJ5_charAt 14 = .ok (.ireturn, 1) := dk_172 (dk_at dksJ5_charAt_0 14 rfl rfl)
theorem q142 : (Jvm.Cond.initialized "java/lang/StringLatin1") ∈ lw_all := lw_g (lw_at lw_m1 12 rfl) rfl
theorem q692 : (Jvm.Cond.static ({ cls := "java/lang/StringLatin1", name := "charAt", desc := "([BI)C" } : Jvm.MethodName)) ∈ lw_all := lw_g (lw_at lw_m3 82 rfl) rfl
theorem q693 : (Jvm.Cond.code ({ cls := "java/lang/StringLatin1", name := "charAt", desc := "([BI)C" } : Jvm.MethodName) prog_34_method_2_code (2 : Nat) (Option.some Jvm.ClassFile.FieldType.char)) ∈ lw_all := lw_g (lw_at lw_m3 83 rfl) rfl
theorem q694 : (Jvm.Cond.methodLink "java/lang/StringLatin1" (9 : Nat) ({ cls := "java/lang/String", name := "checkIndex", desc := "(II)V" } : Jvm.MethodName)) ∈ lw_all := lw_g (lw_at lw_m3 84 rfl) rfl
/-! jdk/internal/util/Preconditions -/
set_option maxRecDepth 100000
def RJ6 : String := "jdk/internal/util/Preconditions"
abbrev cJ6_checkIndex : ByteArray := prog_48_method_11_code
def yJ6_checkIndex : MethodName := ⟨RJ6, "checkIndex", "(IILjava/util/function/BiFunction;)I"⟩
def dkwJ6_checkIndex_0 : List UInt8 := [26, 155, 0, 8, 26, 27, 161, 0, 10, 44, 26, 27, 184, 0, 95, 191, 26, 172]
abbrev dktJ6_checkIndex_0 : List UInt8 := dkwJ6_checkIndex_0 ++ []
theorem dksJ6_checkIndex_0 : cJ6_checkIndex.data.toList.drop 0 = dktJ6_checkIndex_0 := by decide +kernel
theorem dJ6_checkIndex_0 : decode cJ6_checkIndex 0 = .ok (.iload_n 0, 1) := dk_26 (dk_at dksJ6_checkIndex_0 0 rfl rfl)
theorem dJ6_checkIndex_1 : decode cJ6_checkIndex 1 = .ok (.ifCond .lt 8, 3) := dk_155 0 8 (dk_at dksJ6_checkIndex_0 1 rfl rfl)
theorem dJ6_checkIndex_4 : decode cJ6_checkIndex 4 = .ok (.iload_n 0, 1) := dk_26 (dk_at dksJ6_checkIndex_0 4 rfl rfl)
theorem dJ6_checkIndex_5 : decode cJ6_checkIndex 5 = .ok (.iload_n 1, 1) := dk_27 (dk_at dksJ6_checkIndex_0 5 rfl rfl)
theorem dJ6_checkIndex_6 : decode cJ6_checkIndex 6 = .ok (.if_icmp .lt 10, 3) := dk_161 0 10 (dk_at dksJ6_checkIndex_0 6 rfl rfl)
theorem dJ6_checkIndex_9 : decode cJ6_checkIndex 9 = .ok (.aload_n 2, 1) := dk_44 (dk_at dksJ6_checkIndex_0 9 rfl rfl)
theorem dJ6_checkIndex_10 : decode cJ6_checkIndex 10 = .ok (.iload_n 0, 1) := dk_26 (dk_at dksJ6_checkIndex_0 10 rfl rfl)
theorem dJ6_checkIndex_11 : decode cJ6_checkIndex 11 = .ok (.iload_n 1, 1) := dk_27 (dk_at dksJ6_checkIndex_0 11 rfl rfl)
theorem dJ6_checkIndex_12 : decode cJ6_checkIndex 12 = .ok (.invokestatic 95, 3) := dk_184 0 95 (dk_at dksJ6_checkIndex_0 12 rfl rfl)
theorem dJ6_checkIndex_15 : decode cJ6_checkIndex 15 = .ok (.athrow, 1) := dk_191 (dk_at dksJ6_checkIndex_0 15 rfl rfl)
theorem dJ6_checkIndex_16 : decode cJ6_checkIndex 16 = .ok (.iload_n 0, 1) := dk_26 (dk_at dksJ6_checkIndex_0 16 rfl rfl)
theorem dJ6_checkIndex_17 : decode cJ6_checkIndex 17 = .ok (.ireturn, 1) := dk_172 (dk_at dksJ6_checkIndex_0 17 rfl rfl)
theorem q143 : (Jvm.Cond.initialized "jdk/internal/util/Preconditions") ∈ lw_all := lw_g (lw_at lw_m1 13 rfl) rfl
theorem q698 : (Jvm.Cond.laysStatic "jdk/internal/util/Preconditions" "SIOOBE_FORMATTER" "Ljava/util/function/BiFunction;") ∈ lw_tbl := lw_at lw_m3 88 rfl
theorem q700 : (Jvm.Cond.static ({ cls := "jdk/internal/util/Preconditions", name := "checkIndex", desc := "(IILjava/util/function/BiFunction;)I" } : Jvm.MethodName)) ∈ lw_all := lw_g (lw_at lw_m3 90 rfl) rfl
theorem q701 : (Jvm.Cond.code ({ cls := "jdk/internal/util/Preconditions", name := "checkIndex", desc := "(IILjava/util/function/BiFunction;)I" } : Jvm.MethodName) prog_48_method_11_code (3 : Nat) (Option.some Jvm.ClassFile.FieldType.int)) ∈ lw_all := lw_g (lw_at lw_m3 91 rfl) rfl
/-! java/lang/StringUTF16 -/
set_option maxRecDepth 100000
def RJ7 : String := "java/lang/StringUTF16"
abbrev cJ7_charAt : ByteArray := prog_35_method_83_code
def yJ7_charAt : MethodName := ⟨RJ7, "charAt", "([BI)C"⟩
def dkwJ7_charAt_0 : List UInt8 := [27, 42, 184, 0, 67, 42, 27, 184, 0, 71, 172]
abbrev dktJ7_charAt_0 : List UInt8 := dkwJ7_charAt_0 ++ []
theorem dksJ7_charAt_0 : cJ7_charAt.data.toList.drop 0 = dktJ7_charAt_0 := by decide +kernel
theorem dJ7_charAt_0 : decode cJ7_charAt 0 = .ok (.iload_n 1, 1) := dk_27 (dk_at dksJ7_charAt_0 0 rfl rfl)
theorem dJ7_charAt_1 : decode cJ7_charAt 1 = .ok (.aload_n 0, 1) := dk_42 (dk_at dksJ7_charAt_0 1 rfl rfl)
theorem dJ7_charAt_2 : decode cJ7_charAt 2 = .ok (.invokestatic 67, 3) := dk_184 0 67 (dk_at dksJ7_charAt_0 2 rfl rfl)
theorem dJ7_charAt_5 : decode cJ7_charAt 5 = .ok (.aload_n 0, 1) := dk_42 (dk_at dksJ7_charAt_0 5 rfl rfl)
theorem dJ7_charAt_6 : decode cJ7_charAt 6 = .ok (.iload_n 1, 1) := dk_27 (dk_at dksJ7_charAt_0 6 rfl rfl)
theorem dJ7_charAt_7 : decode cJ7_charAt 7 = .ok (.invokestatic 71, 3) := dk_184 0 71 (dk_at dksJ7_charAt_0 7 rfl rfl)
theorem dJ7_charAt_10 : decode cJ7_charAt 10 = .ok (.ireturn, 1) := dk_172 (dk_at dksJ7_charAt_0 10 rfl rfl)
abbrev cJ7_checkIndex : ByteArray := prog_35_method_91_code
def yJ7_checkIndex : MethodName := ⟨RJ7, "checkIndex", "(I[B)V"⟩
def dkwJ7_checkIndex_0 : List UInt8 := [26, 43, 184, 0, 48, 184, 1, 158, 177]
abbrev dktJ7_checkIndex_0 : List UInt8 := dkwJ7_checkIndex_0 ++ []
theorem dksJ7_checkIndex_0 : cJ7_checkIndex.data.toList.drop 0 = dktJ7_checkIndex_0 := by decide +kernel
theorem dJ7_checkIndex_0 : decode cJ7_checkIndex 0 = .ok (.iload_n 0, 1) := dk_26 (dk_at dksJ7_checkIndex_0 0 rfl rfl)
theorem dJ7_checkIndex_1 : decode cJ7_checkIndex 1 = .ok (.aload_n 1, 1) := dk_43 (dk_at dksJ7_checkIndex_0 1 rfl rfl)
theorem dJ7_checkIndex_2 : decode cJ7_checkIndex 2 = .ok (.invokestatic 48, 3) := dk_184 0 48 (dk_at dksJ7_checkIndex_0 2 rfl rfl)
theorem dJ7_checkIndex_5 : decode cJ7_checkIndex 5 = .ok (.invokestatic 414, 3) := dk_184 1 158 (dk_at dksJ7_checkIndex_0 5 rfl rfl)
theorem dJ7_checkIndex_8 : decode cJ7_checkIndex 8 = .ok (.return_, 1) := dk_177 (dk_at dksJ7_checkIndex_0 8 rfl rfl)
abbrev cJ7_length : ByteArray := prog_35_method_6_code
def yJ7_length : MethodName := ⟨RJ7, "length", "([B)I"⟩
def dkwJ7_length_0 : List UInt8 := [42, 190, 4, 122, 172]
abbrev dktJ7_length_0 : List UInt8 := dkwJ7_length_0 ++ []
theorem dksJ7_length_0 : cJ7_length.data.toList.drop 0 = dktJ7_length_0 := by decide +kernel
theorem dJ7_length_0 : decode cJ7_length 0 = .ok (.aload_n 0, 1) := dk_42 (dk_at dksJ7_length_0 0 rfl rfl)
theorem dJ7_length_1 : decode cJ7_length 1 = .ok (.arraylength, 1) := dk_190 (dk_at dksJ7_length_0 1 rfl rfl)
theorem dJ7_length_2 : decode cJ7_length 2 = .ok (.iconst 1, 1) := dk_4 (dk_at dksJ7_length_0 2 rfl rfl)
theorem dJ7_length_3 : decode cJ7_length 3 = .ok (.ishr, 1) := dk_122 (dk_at dksJ7_length_0 3 rfl rfl)
theorem dJ7_length_4 : decode cJ7_length 4 = .ok (.ireturn, 1) := dk_172 (dk_at dksJ7_length_0 4 rfl rfl)
abbrev cJ7_getChar : ByteArray := prog_35_method_5_code
def yJ7_getChar : MethodName := ⟨RJ7, "getChar", "([BI)C"⟩
def dkwJ7_getChar_2 : List UInt8 := [51, 17, 0, 255, 126, 178, 0, 63, 120, 128, 146, 172]
abbrev dktJ7_getChar_2 : List UInt8 := dkwJ7_getChar_2 ++ []
def dkwJ7_getChar_1 : List UInt8 := [183, 0, 56, 191, 27, 4, 120, 60, 42, 27, 132, 1, 1, 51, 17, 0, 255, 126, 178, 0, 59, 120, 42, 27]
abbrev dktJ7_getChar_1 : List UInt8 := dkwJ7_getChar_1 ++ dktJ7_getChar_2
def dkwJ7_getChar_0 : List UInt8 := [178, 0, 44, 154, 0, 25, 27, 155, 0, 11, 27, 42, 184, 0, 48, 161, 0, 13, 187, 0, 52, 89, 18, 54]
abbrev dktJ7_getChar_0 : List UInt8 := dkwJ7_getChar_0 ++ dktJ7_getChar_1
theorem dksJ7_getChar_0 : cJ7_getChar.data.toList.drop 0 = dktJ7_getChar_0 := by decide +kernel
theorem dksJ7_getChar_1 : cJ7_getChar.data.toList.drop 24 = dktJ7_getChar_1 := dk_seg dksJ7_getChar_0 24 rfl rfl
theorem dksJ7_getChar_2 : cJ7_getChar.data.toList.drop 48 = dktJ7_getChar_2 := dk_seg dksJ7_getChar_1 24 rfl rfl
theorem dJ7_getChar_0 : decode cJ7_getChar 0 = .ok (.getstatic 44, 3) := dk_178 0 44 (dk_at dksJ7_getChar_0 0 rfl rfl)
theorem dJ7_getChar_3 : decode cJ7_getChar 3 = .ok (.ifCond .ne 25, 3) := dk_154 0 25 (dk_at dksJ7_getChar_0 3 rfl rfl)
theorem dJ7_getChar_6 : decode cJ7_getChar 6 = .ok (.iload_n 1, 1) := dk_27 (dk_at dksJ7_getChar_0 6 rfl rfl)
theorem dJ7_getChar_7 : decode cJ7_getChar 7 = .ok (.ifCond .lt 11, 3) := dk_155 0 11 (dk_at dksJ7_getChar_0 7 rfl rfl)
theorem dJ7_getChar_10 : decode cJ7_getChar 10 = .ok (.iload_n 1, 1) := dk_27 (dk_at dksJ7_getChar_0 10 rfl rfl)
theorem dJ7_getChar_11 : decode cJ7_getChar 11 = .ok (.aload_n 0, 1) := dk_42 (dk_at dksJ7_getChar_0 11 rfl rfl)
theorem dJ7_getChar_12 : decode cJ7_getChar 12 = .ok (.invokestatic 48, 3) := dk_184 0 48 (dk_at dksJ7_getChar_0 12 rfl rfl)
theorem dJ7_getChar_15 : decode cJ7_getChar 15 = .ok (.if_icmp .lt 13, 3) := dk_161 0 13 (dk_at dksJ7_getChar_0 15 rfl rfl)
theorem dJ7_getChar_18 : decode cJ7_getChar 18 = .ok (.new 52, 3) := dk_187 0 52 (dk_at dksJ7_getChar_0 18 rfl rfl)
theorem dJ7_getChar_21 : decode cJ7_getChar 21 = .ok (.dup, 1) := dk_89 (dk_at dksJ7_getChar_0 21 rfl rfl)
theorem dJ7_getChar_22 : decode cJ7_getChar 22 = .ok (.ldc 54, 2) := dk_18 54 (dk_at dksJ7_getChar_0 22 rfl rfl)
theorem dJ7_getChar_24 : decode cJ7_getChar 24 = .ok (.invokespecial 56, 3) := dk_183 0 56 (dk_at dksJ7_getChar_1 0 rfl rfl)
theorem dJ7_getChar_27 : decode cJ7_getChar 27 = .ok (.athrow, 1) := dk_191 (dk_at dksJ7_getChar_1 3 rfl rfl)
theorem dJ7_getChar_28 : decode cJ7_getChar 28 = .ok (.iload_n 1, 1) := dk_27 (dk_at dksJ7_getChar_1 4 rfl rfl)
theorem dJ7_getChar_29 : decode cJ7_getChar 29 = .ok (.iconst 1, 1) := dk_4 (dk_at dksJ7_getChar_1 5 rfl rfl)
theorem dJ7_getChar_30 : decode cJ7_getChar 30 = .ok (.ishl, 1) := dk_120 (dk_at dksJ7_getChar_1 6 rfl rfl)
theorem dJ7_getChar_31 : decode cJ7_getChar 31 = .ok (.istore_n 1, 1) := dk_60 (dk_at dksJ7_getChar_1 7 rfl rfl)
theorem dJ7_getChar_32 : decode cJ7_getChar 32 = .ok (.aload_n 0, 1) := dk_42 (dk_at dksJ7_getChar_1 8 rfl rfl)
theorem dJ7_getChar_33 : decode cJ7_getChar 33 = .ok (.iload_n 1, 1) := dk_27 (dk_at dksJ7_getChar_1 9 rfl rfl)
theorem dJ7_getChar_34 : decode cJ7_getChar 34 = .ok (.iinc 1 1, 3) := dk_132 1 1 (dk_at dksJ7_getChar_1 10 rfl rfl)
theorem dJ7_getChar_37 : decode cJ7_getChar 37 = .ok (.baload, 1) := dk_51 (dk_at dksJ7_getChar_1 13 rfl rfl)
theorem dJ7_getChar_38 : decode cJ7_getChar 38 = .ok (.sipush 255, 3) := dk_17 0 255 (dk_at dksJ7_getChar_1 14 rfl rfl)
theorem dJ7_getChar_41 : decode cJ7_getChar 41 = .ok (.iand, 1) := dk_126 (dk_at dksJ7_getChar_1 17 rfl rfl)
theorem dJ7_getChar_42 : decode cJ7_getChar 42 = .ok (.getstatic 59, 3) := dk_178 0 59 (dk_at dksJ7_getChar_1 18 rfl rfl)
theorem dJ7_getChar_45 : decode cJ7_getChar 45 = .ok (.ishl, 1) := dk_120 (dk_at dksJ7_getChar_1 21 rfl rfl)
theorem dJ7_getChar_46 : decode cJ7_getChar 46 = .ok (.aload_n 0, 1) := dk_42 (dk_at dksJ7_getChar_1 22 rfl rfl)
theorem dJ7_getChar_47 : decode cJ7_getChar 47 = .ok (.iload_n 1, 1) := dk_27 (dk_at dksJ7_getChar_1 23 rfl rfl)
theorem dJ7_getChar_48 : decode cJ7_getChar 48 = .ok (.baload, 1) := dk_51 (dk_at dksJ7_getChar_2 0 rfl rfl)
theorem dJ7_getChar_49 : decode cJ7_getChar 49 = .ok (.sipush 255, 3) := dk_17 0 255 (dk_at dksJ7_getChar_2 1 rfl rfl)
theorem dJ7_getChar_52 : decode cJ7_getChar 52 = .ok (.iand, 1) := dk_126 (dk_at dksJ7_getChar_2 4 rfl rfl)
theorem dJ7_getChar_53 : decode cJ7_getChar 53 = .ok (.getstatic 63, 3) := dk_178 0 63 (dk_at dksJ7_getChar_2 5 rfl rfl)
theorem dJ7_getChar_56 : decode cJ7_getChar 56 = .ok (.ishl, 1) := dk_120 (dk_at dksJ7_getChar_2 8 rfl rfl)
theorem dJ7_getChar_57 : decode cJ7_getChar 57 = .ok (.ior, 1) := dk_128 (dk_at dksJ7_getChar_2 9 rfl rfl)
theorem dJ7_getChar_58 : decode cJ7_getChar 58 = .ok (.i2c, 1) := dk_146 (dk_at dksJ7_getChar_2 10 rfl rfl)
theorem dJ7_getChar_59 : decode cJ7_getChar 59 = .ok (.ireturn, 1) := dk_172 (dk_at dksJ7_getChar_2 11 rfl rfl)
theorem q144 : (Jvm.Cond.initialized "java/lang/StringUTF16") ∈ lw_all := lw_g (lw_at lw_m1 14 rfl) rfl
theorem q703 : (Jvm.Cond.static ({ cls := "java/lang/StringUTF16", name := "charAt", desc := "([BI)C" } : Jvm.MethodName)) ∈ lw_all := lw_g (lw_at lw_m3 93 rfl) rfl
theorem q704 : (Jvm.Cond.code ({ cls := "java/lang/StringUTF16", name := "charAt", desc := "([BI)C" } : Jvm.MethodName) prog_35_method_83_code (2 : Nat) (Option.some Jvm.ClassFile.FieldType.char)) ∈ lw_all := lw_g (lw_at lw_m3 94 rfl) rfl
theorem q705 : (Jvm.Cond.methodLink "java/lang/StringUTF16" (67 : Nat) ({ cls := "java/lang/StringUTF16", name := "checkIndex", desc := "(I[B)V" } : Jvm.MethodName)) ∈ lw_all := lw_g (lw_at lw_m3 95 rfl) rfl
theorem q706 : (Jvm.Cond.static ({ cls := "java/lang/StringUTF16", name := "checkIndex", desc := "(I[B)V" } : Jvm.MethodName)) ∈ lw_all := lw_g (lw_at lw_m3 96 rfl) rfl
theorem q707 : (Jvm.Cond.code ({ cls := "java/lang/StringUTF16", name := "checkIndex", desc := "(I[B)V" } : Jvm.MethodName) prog_35_method_91_code (2 : Nat) (Option.none : Option Jvm.ClassFile.FieldType)) ∈ lw_all := lw_g (lw_at lw_m3 97 rfl) rfl
theorem q708 : (Jvm.Cond.methodLink "java/lang/StringUTF16" (48 : Nat) ({ cls := "java/lang/StringUTF16", name := "length", desc := "([B)I" } : Jvm.MethodName)) ∈ lw_all := lw_g (lw_at lw_m3 98 rfl) rfl
theorem q709 : (Jvm.Cond.static ({ cls := "java/lang/StringUTF16", name := "length", desc := "([B)I" } : Jvm.MethodName)) ∈ lw_all := lw_g (lw_at lw_m3 99 rfl) rfl
theorem q710 : (Jvm.Cond.code ({ cls := "java/lang/StringUTF16", name := "length", desc := "([B)I" } : Jvm.MethodName) prog_35_method_6_code (1 : Nat) (Option.some Jvm.ClassFile.FieldType.int)) ∈ lw_all := lw_g (lw_at lw_m3 100 rfl) rfl
theorem q711 : (Jvm.Cond.methodLink "java/lang/StringUTF16" (414 : Nat) ({ cls := "java/lang/String", name := "checkIndex", desc := "(II)V" } : Jvm.MethodName)) ∈ lw_all := lw_g (lw_at lw_m3 101 rfl) rfl
theorem q712 : (Jvm.Cond.methodLink "java/lang/StringUTF16" (71 : Nat) ({ cls := "java/lang/StringUTF16", name := "getChar", desc := "([BI)C" } : Jvm.MethodName)) ∈ lw_all := lw_g (lw_at lw_m3 102 rfl) rfl
theorem q713 : (Jvm.Cond.static ({ cls := "java/lang/StringUTF16", name := "getChar", desc := "([BI)C" } : Jvm.MethodName)) ∈ lw_all := lw_g (lw_at lw_m3 103 rfl) rfl
theorem q714 : (Jvm.Cond.code ({ cls := "java/lang/StringUTF16", name := "getChar", desc := "([BI)C" } : Jvm.MethodName) prog_35_method_5_code (2 : Nat) (Option.some Jvm.ClassFile.FieldType.char)) ∈ lw_all := lw_g (lw_at lw_m3 104 rfl) rfl
theorem q715 : (Jvm.Cond.fieldLink "java/lang/StringUTF16" (44 : Nat) "java/lang/StringUTF16" "$assertionsDisabled" "Z") ∈ lw_all := lw_g (lw_at lw_m3 105 rfl) rfl
theorem q716 : (Jvm.Cond.laysStatic "java/lang/StringUTF16" "$assertionsDisabled" "Z") ∈ lw_tbl := lw_at lw_m3 106 rfl
theorem q717 : (Jvm.Cond.fieldLink "java/lang/StringUTF16" (59 : Nat) "java/lang/StringUTF16" "HI_BYTE_SHIFT" "I") ∈ lw_all := lw_g (lw_at lw_m3 107 rfl) rfl
theorem q718 : (Jvm.Cond.laysStatic "java/lang/StringUTF16" "HI_BYTE_SHIFT" "I") ∈ lw_tbl := lw_at lw_m3 108 rfl
theorem q719 : (Jvm.Cond.fieldLink "java/lang/StringUTF16" (63 : Nat) "java/lang/StringUTF16" "LO_BYTE_SHIFT" "I") ∈ lw_all := lw_g (lw_at lw_m3 109 rfl) rfl
theorem q720 : (Jvm.Cond.laysStatic "java/lang/StringUTF16" "LO_BYTE_SHIFT" "I") ∈ lw_tbl := lw_at lw_m3 110 rfl
/-! java/lang/Throwable -/
set_option maxRecDepth 100000
def RJ8 : String := "java/lang/Throwable"
def TJ8 : u_T := fun k => match k with
  | 0 => ("java/lang/Throwable", "cause", "Ljava/lang/Throwable;", false)
  | 1 => ("java/lang/Throwable", "stackTrace", "[Ljava/lang/StackTraceElement;", false)
  | 2 => ("java/lang/Throwable", "suppressedExceptions", "Ljava/util/List;", false)
  | 3 => ("java/lang/Throwable", "detailMessage", "Ljava/lang/String;", false)
  | _ => ("java/lang/Throwable", "backtrace", "Ljava/lang/Object;", false)
def tyJ8 : Nat → FieldType := fun k => match k with
  | 0 => .object "java/lang/Throwable"
  | 1 => .array (.object "java/lang/StackTraceElement")
  | 2 => .object "java/util/List"
  | 3 => .object "java/lang/String"
  | _ => .object "java/lang/Object"
abbrev wsJ80 : List Cond := u_ws RJ8 TJ8 5
theorem nmJ8 : ∀ a, a < 5 → ∀ b, b < 5 → a ≠ b → (TJ8 a).2.1 ≠ (TJ8 b).2.1 := by decide +kernel
theorem tyJ8_ok : ∀ k, k < 5 → parseFieldDescriptor (TJ8 k).2.2.1 = some (tyJ8 k) := by decide +kernel
abbrev cJ8_init : ByteArray := prog_37_method_2_code
def yJ8_init : MethodName := ⟨RJ8, "<init>", "(Ljava/lang/String;)V"⟩
def dkwJ8_init_1 : List UInt8 := [182, 0, 27, 87, 42, 43, 181, 0, 31, 177]
abbrev dktJ8_init_1 : List UInt8 := dkwJ8_init_1 ++ []
def dkwJ8_init_0 : List UInt8 := [42, 183, 0, 1, 42, 42, 181, 0, 7, 42, 178, 0, 13, 181, 0, 17, 42, 178, 0, 20, 181, 0, 24, 42]
abbrev dktJ8_init_0 : List UInt8 := dkwJ8_init_0 ++ dktJ8_init_1
theorem dksJ8_init_0 : cJ8_init.data.toList.drop 0 = dktJ8_init_0 := by decide +kernel
theorem dksJ8_init_1 : cJ8_init.data.toList.drop 24 = dktJ8_init_1 := dk_seg dksJ8_init_0 24 rfl rfl
theorem dJ8_init_0 : decode cJ8_init 0 = .ok (.aload_n 0, 1) := dk_42 (dk_at dksJ8_init_0 0 rfl rfl)
theorem dJ8_init_1 : decode cJ8_init 1 = .ok (.invokespecial 1, 3) := dk_183 0 1 (dk_at dksJ8_init_0 1 rfl rfl)
theorem dJ8_init_4 : decode cJ8_init 4 = .ok (.aload_n 0, 1) := dk_42 (dk_at dksJ8_init_0 4 rfl rfl)
theorem dJ8_init_5 : decode cJ8_init 5 = .ok (.aload_n 0, 1) := dk_42 (dk_at dksJ8_init_0 5 rfl rfl)
theorem dJ8_init_6 : decode cJ8_init 6 = .ok (.putfield 7, 3) := dk_181 0 7 (dk_at dksJ8_init_0 6 rfl rfl)
theorem dJ8_init_9 : decode cJ8_init 9 = .ok (.aload_n 0, 1) := dk_42 (dk_at dksJ8_init_0 9 rfl rfl)
theorem dJ8_init_10 : decode cJ8_init 10 = .ok (.getstatic 13, 3) := dk_178 0 13 (dk_at dksJ8_init_0 10 rfl rfl)
theorem dJ8_init_13 : decode cJ8_init 13 = .ok (.putfield 17, 3) := dk_181 0 17 (dk_at dksJ8_init_0 13 rfl rfl)
theorem dJ8_init_16 : decode cJ8_init 16 = .ok (.aload_n 0, 1) := dk_42 (dk_at dksJ8_init_0 16 rfl rfl)
theorem dJ8_init_17 : decode cJ8_init 17 = .ok (.getstatic 20, 3) := dk_178 0 20 (dk_at dksJ8_init_0 17 rfl rfl)
theorem dJ8_init_20 : decode cJ8_init 20 = .ok (.putfield 24, 3) := dk_181 0 24 (dk_at dksJ8_init_0 20 rfl rfl)
theorem dJ8_init_23 : decode cJ8_init 23 = .ok (.aload_n 0, 1) := dk_42 (dk_at dksJ8_init_0 23 rfl rfl)
theorem dJ8_init_24 : decode cJ8_init 24 = .ok (.invokevirtual 27, 3) := dk_182 0 27 (dk_at dksJ8_init_1 0 rfl rfl)
theorem dJ8_init_27 : decode cJ8_init 27 = .ok (.pop, 1) := dk_87 (dk_at dksJ8_init_1 3 rfl rfl)
theorem dJ8_init_28 : decode cJ8_init 28 = .ok (.aload_n 0, 1) := dk_42 (dk_at dksJ8_init_1 4 rfl rfl)
theorem dJ8_init_29 : decode cJ8_init 29 = .ok (.aload_n 1, 1) := dk_43 (dk_at dksJ8_init_1 5 rfl rfl)
theorem dJ8_init_30 : decode cJ8_init 30 = .ok (.putfield 31, 3) := dk_181 0 31 (dk_at dksJ8_init_1 6 rfl rfl)
theorem dJ8_init_33 : decode cJ8_init 33 = .ok (.return_, 1) := dk_177 (dk_at dksJ8_init_1 9 rfl rfl)
abbrev cJ8_init_2 : ByteArray := prog_37_method_1_code
def yJ8_init_2 : MethodName := ⟨RJ8, "<init>", "()V"⟩
def dkwJ8_init_2_1 : List UInt8 := [182, 0, 27, 87, 177]
abbrev dktJ8_init_2_1 : List UInt8 := dkwJ8_init_2_1 ++ []
def dkwJ8_init_2_0 : List UInt8 := [42, 183, 0, 1, 42, 42, 181, 0, 7, 42, 178, 0, 13, 181, 0, 17, 42, 178, 0, 20, 181, 0, 24, 42]
abbrev dktJ8_init_2_0 : List UInt8 := dkwJ8_init_2_0 ++ dktJ8_init_2_1
theorem dksJ8_init_2_0 : cJ8_init_2.data.toList.drop 0 = dktJ8_init_2_0 := by decide +kernel
theorem dksJ8_init_2_1 : cJ8_init_2.data.toList.drop 24 = dktJ8_init_2_1 := dk_seg dksJ8_init_2_0 24 rfl rfl
theorem dJ8_init_2_0 : decode cJ8_init_2 0 = .ok (.aload_n 0, 1) := dk_42 (dk_at dksJ8_init_2_0 0 rfl rfl)
theorem dJ8_init_2_1 : decode cJ8_init_2 1 = .ok (.invokespecial 1, 3) := dk_183 0 1 (dk_at dksJ8_init_2_0 1 rfl rfl)
theorem dJ8_init_2_4 : decode cJ8_init_2 4 = .ok (.aload_n 0, 1) := dk_42 (dk_at dksJ8_init_2_0 4 rfl rfl)
theorem dJ8_init_2_5 : decode cJ8_init_2 5 = .ok (.aload_n 0, 1) := dk_42 (dk_at dksJ8_init_2_0 5 rfl rfl)
theorem dJ8_init_2_6 : decode cJ8_init_2 6 = .ok (.putfield 7, 3) := dk_181 0 7 (dk_at dksJ8_init_2_0 6 rfl rfl)
theorem dJ8_init_2_9 : decode cJ8_init_2 9 = .ok (.aload_n 0, 1) := dk_42 (dk_at dksJ8_init_2_0 9 rfl rfl)
theorem dJ8_init_2_10 : decode cJ8_init_2 10 = .ok (.getstatic 13, 3) := dk_178 0 13 (dk_at dksJ8_init_2_0 10 rfl rfl)
theorem dJ8_init_2_13 : decode cJ8_init_2 13 = .ok (.putfield 17, 3) := dk_181 0 17 (dk_at dksJ8_init_2_0 13 rfl rfl)
theorem dJ8_init_2_16 : decode cJ8_init_2 16 = .ok (.aload_n 0, 1) := dk_42 (dk_at dksJ8_init_2_0 16 rfl rfl)
theorem dJ8_init_2_17 : decode cJ8_init_2 17 = .ok (.getstatic 20, 3) := dk_178 0 20 (dk_at dksJ8_init_2_0 17 rfl rfl)
theorem dJ8_init_2_20 : decode cJ8_init_2 20 = .ok (.putfield 24, 3) := dk_181 0 24 (dk_at dksJ8_init_2_0 20 rfl rfl)
theorem dJ8_init_2_23 : decode cJ8_init_2 23 = .ok (.aload_n 0, 1) := dk_42 (dk_at dksJ8_init_2_0 23 rfl rfl)
theorem dJ8_init_2_24 : decode cJ8_init_2 24 = .ok (.invokevirtual 27, 3) := dk_182 0 27 (dk_at dksJ8_init_2_1 0 rfl rfl)
theorem dJ8_init_2_27 : decode cJ8_init_2 27 = .ok (.pop, 1) := dk_87 (dk_at dksJ8_init_2_1 3 rfl rfl)
theorem dJ8_init_2_28 : decode cJ8_init_2 28 = .ok (.return_, 1) := dk_177 (dk_at dksJ8_init_2_1 4 rfl rfl)
abbrev cJ8_init_3 : ByteArray := prog_37_method_5_code
def yJ8_init_3 : MethodName := ⟨RJ8, "<init>", "(Ljava/lang/String;Ljava/lang/Throwable;ZZ)V"⟩
def dkwJ8_init_3_2 : List UInt8 := [44, 181, 0, 7, 29, 154, 0, 8, 42, 1, 181, 0, 24, 177]
abbrev dktJ8_init_3_2 : List UInt8 := dkwJ8_init_3_2 ++ []
def dkwJ8_init_3_1 : List UInt8 := [21, 4, 153, 0, 11, 42, 182, 0, 27, 87, 167, 0, 8, 42, 1, 181, 0, 17, 42, 43, 181, 0, 31, 42]
abbrev dktJ8_init_3_1 : List UInt8 := dkwJ8_init_3_1 ++ dktJ8_init_3_2
def dkwJ8_init_3_0 : List UInt8 := [42, 183, 0, 1, 42, 42, 181, 0, 7, 42, 178, 0, 13, 181, 0, 17, 42, 178, 0, 20, 181, 0, 24]
abbrev dktJ8_init_3_0 : List UInt8 := dkwJ8_init_3_0 ++ dktJ8_init_3_1
theorem dksJ8_init_3_0 : cJ8_init_3.data.toList.drop 0 = dktJ8_init_3_0 := by decide +kernel
theorem dksJ8_init_3_1 : cJ8_init_3.data.toList.drop 23 = dktJ8_init_3_1 := dk_seg dksJ8_init_3_0 23 rfl rfl
theorem dksJ8_init_3_2 : cJ8_init_3.data.toList.drop 47 = dktJ8_init_3_2 := dk_seg dksJ8_init_3_1 24 rfl rfl
theorem dJ8_init_3_0 : decode cJ8_init_3 0 = .ok (.aload_n 0, 1) := dk_42 (dk_at dksJ8_init_3_0 0 rfl rfl)
theorem dJ8_init_3_1 : decode cJ8_init_3 1 = .ok (.invokespecial 1, 3) := dk_183 0 1 (dk_at dksJ8_init_3_0 1 rfl rfl)
theorem dJ8_init_3_4 : decode cJ8_init_3 4 = .ok (.aload_n 0, 1) := dk_42 (dk_at dksJ8_init_3_0 4 rfl rfl)
theorem dJ8_init_3_5 : decode cJ8_init_3 5 = .ok (.aload_n 0, 1) := dk_42 (dk_at dksJ8_init_3_0 5 rfl rfl)
theorem dJ8_init_3_6 : decode cJ8_init_3 6 = .ok (.putfield 7, 3) := dk_181 0 7 (dk_at dksJ8_init_3_0 6 rfl rfl)
theorem dJ8_init_3_9 : decode cJ8_init_3 9 = .ok (.aload_n 0, 1) := dk_42 (dk_at dksJ8_init_3_0 9 rfl rfl)
theorem dJ8_init_3_10 : decode cJ8_init_3 10 = .ok (.getstatic 13, 3) := dk_178 0 13 (dk_at dksJ8_init_3_0 10 rfl rfl)
theorem dJ8_init_3_13 : decode cJ8_init_3 13 = .ok (.putfield 17, 3) := dk_181 0 17 (dk_at dksJ8_init_3_0 13 rfl rfl)
theorem dJ8_init_3_16 : decode cJ8_init_3 16 = .ok (.aload_n 0, 1) := dk_42 (dk_at dksJ8_init_3_0 16 rfl rfl)
theorem dJ8_init_3_17 : decode cJ8_init_3 17 = .ok (.getstatic 20, 3) := dk_178 0 20 (dk_at dksJ8_init_3_0 17 rfl rfl)
theorem dJ8_init_3_20 : decode cJ8_init_3 20 = .ok (.putfield 24, 3) := dk_181 0 24 (dk_at dksJ8_init_3_0 20 rfl rfl)
theorem dJ8_init_3_23 : decode cJ8_init_3 23 = .ok (.iload 4, 2) := dk_21 4 (dk_at dksJ8_init_3_1 0 rfl rfl)
theorem dJ8_init_3_25 : decode cJ8_init_3 25 = .ok (.ifCond .eq 11, 3) := dk_153 0 11 (dk_at dksJ8_init_3_1 2 rfl rfl)
theorem dJ8_init_3_28 : decode cJ8_init_3 28 = .ok (.aload_n 0, 1) := dk_42 (dk_at dksJ8_init_3_1 5 rfl rfl)
theorem dJ8_init_3_29 : decode cJ8_init_3 29 = .ok (.invokevirtual 27, 3) := dk_182 0 27 (dk_at dksJ8_init_3_1 6 rfl rfl)
theorem dJ8_init_3_32 : decode cJ8_init_3 32 = .ok (.pop, 1) := dk_87 (dk_at dksJ8_init_3_1 9 rfl rfl)
theorem dJ8_init_3_33 : decode cJ8_init_3 33 = .ok (.goto 8, 3) := dk_167 0 8 (dk_at dksJ8_init_3_1 10 rfl rfl)
theorem dJ8_init_3_36 : decode cJ8_init_3 36 = .ok (.aload_n 0, 1) := dk_42 (dk_at dksJ8_init_3_1 13 rfl rfl)
theorem dJ8_init_3_37 : decode cJ8_init_3 37 = .ok (.aconst_null, 1) := dk_1 (dk_at dksJ8_init_3_1 14 rfl rfl)
theorem dJ8_init_3_38 : decode cJ8_init_3 38 = .ok (.putfield 17, 3) := dk_181 0 17 (dk_at dksJ8_init_3_1 15 rfl rfl)
theorem dJ8_init_3_41 : decode cJ8_init_3 41 = .ok (.aload_n 0, 1) := dk_42 (dk_at dksJ8_init_3_1 18 rfl rfl)
theorem dJ8_init_3_42 : decode cJ8_init_3 42 = .ok (.aload_n 1, 1) := dk_43 (dk_at dksJ8_init_3_1 19 rfl rfl)
theorem dJ8_init_3_43 : decode cJ8_init_3 43 = .ok (.putfield 31, 3) := dk_181 0 31 (dk_at dksJ8_init_3_1 20 rfl rfl)
theorem dJ8_init_3_46 : decode cJ8_init_3 46 = .ok (.aload_n 0, 1) := dk_42 (dk_at dksJ8_init_3_1 23 rfl rfl)
theorem dJ8_init_3_47 : decode cJ8_init_3 47 = .ok (.aload_n 2, 1) := dk_44 (dk_at dksJ8_init_3_2 0 rfl rfl)
theorem dJ8_init_3_48 : decode cJ8_init_3 48 = .ok (.putfield 7, 3) := dk_181 0 7 (dk_at dksJ8_init_3_2 1 rfl rfl)
theorem dJ8_init_3_51 : decode cJ8_init_3 51 = .ok (.iload_n 3, 1) := dk_29 (dk_at dksJ8_init_3_2 4 rfl rfl)
theorem dJ8_init_3_52 : decode cJ8_init_3 52 = .ok (.ifCond .ne 8, 3) := dk_154 0 8 (dk_at dksJ8_init_3_2 5 rfl rfl)
theorem dJ8_init_3_55 : decode cJ8_init_3 55 = .ok (.aload_n 0, 1) := dk_42 (dk_at dksJ8_init_3_2 8 rfl rfl)
theorem dJ8_init_3_56 : decode cJ8_init_3 56 = .ok (.aconst_null, 1) := dk_1 (dk_at dksJ8_init_3_2 9 rfl rfl)
theorem dJ8_init_3_57 : decode cJ8_init_3 57 = .ok (.putfield 24, 3) := dk_181 0 24 (dk_at dksJ8_init_3_2 10 rfl rfl)
theorem dJ8_init_3_60 : decode cJ8_init_3 60 = .ok (.return_, 1) := dk_177 (dk_at dksJ8_init_3_2 13 rfl rfl)
theorem q145 : (Jvm.Cond.initialized "java/lang/Throwable") ∈ lw_all := lw_g (lw_at lw_m1 15 rfl) rfl
theorem q197 : (Jvm.Cond.instanceMethod ({ cls := "java/lang/Throwable", name := "<init>", desc := "(Ljava/lang/String;)V" } : Jvm.MethodName)) ∈ lw_all := lw_g (lw_at lw_m1 67 rfl) rfl
theorem q198 : (Jvm.Cond.code ({ cls := "java/lang/Throwable", name := "<init>", desc := "(Ljava/lang/String;)V" } : Jvm.MethodName) prog_37_method_2_code (2 : Nat) (Option.none : Option Jvm.ClassFile.FieldType)) ∈ lw_all := lw_g (lw_at lw_m1 68 rfl) rfl
theorem q199 : (Jvm.Cond.methodLink "java/lang/Throwable" (1 : Nat) ({ cls := "java/lang/Object", name := "<init>", desc := "()V" } : Jvm.MethodName)) ∈ lw_all := lw_g (lw_at lw_m1 69 rfl) rfl
theorem q202 : (Jvm.Cond.fieldLink "java/lang/Throwable" (13 : Nat) "java/lang/Throwable" "UNASSIGNED_STACK" "[Ljava/lang/StackTraceElement;") ∈ lw_all := lw_g (lw_at lw_m1 72 rfl) rfl
theorem q203 : (Jvm.Cond.laysStatic "java/lang/Throwable" "UNASSIGNED_STACK" "[Ljava/lang/StackTraceElement;") ∈ lw_tbl := lw_at lw_m1 73 rfl
theorem q204 : (Jvm.Cond.fieldLink "java/lang/Throwable" (20 : Nat) "java/lang/Throwable" "SUPPRESSED_SENTINEL" "Ljava/util/List;") ∈ lw_all := lw_g (lw_at lw_m1 74 rfl) rfl
theorem q205 : (Jvm.Cond.laysStatic "java/lang/Throwable" "SUPPRESSED_SENTINEL" "Ljava/util/List;") ∈ lw_tbl := lw_at lw_m1 75 rfl
theorem q206 : (Jvm.Cond.methodLink "java/lang/Throwable" (27 : Nat) ({ cls := "java/lang/Throwable", name := "fillInStackTrace", desc := "()Ljava/lang/Throwable;" } : Jvm.MethodName)) ∈ lw_all := lw_g (lw_at lw_m1 76 rfl) rfl
theorem q207 : (Jvm.Cond.instanceMethod ({ cls := "java/lang/Throwable", name := "fillInStackTrace", desc := "()Ljava/lang/Throwable;" } : Jvm.MethodName)) ∈ lw_all := lw_g (lw_at lw_m1 77 rfl) rfl
theorem q208 : (Jvm.Cond.sameMethod "java/lang/Throwable" "java/lang/Throwable" "fillInStackTrace" "()Ljava/lang/Throwable;") ∈ lw_all := lw_g (lw_at lw_m1 78 rfl) rfl
theorem q223 : (Jvm.Cond.declares ({ cls := "java/lang/Throwable", name := "fillInStackTrace", desc := "()Ljava/lang/Throwable;" } : Jvm.MethodName)) ∈ lw_tbl := lw_at lw_m1 93 rfl
theorem q227 : (Jvm.Cond.codeSync ({ cls := "java/lang/Throwable", name := "fillInStackTrace", desc := "()Ljava/lang/Throwable;" } : Jvm.MethodName) prog_37_method_18_code (1 : Nat) (Option.some (Jvm.ClassFile.FieldType.object "java/lang/Throwable"))) ∈ lw_all := lw_g (lw_at lw_m1 97 rfl) rfl
theorem q228 : (Jvm.Cond.methodLink "java/lang/Throwable" (202 : Nat) ({ cls := "java/lang/Throwable", name := "fillInStackTrace", desc := "(I)Ljava/lang/Throwable;" } : Jvm.MethodName)) ∈ lw_all := lw_g (lw_at lw_m1 98 rfl) rfl
theorem q229 : (Jvm.Cond.privateMethod ({ cls := "java/lang/Throwable", name := "fillInStackTrace", desc := "(I)Ljava/lang/Throwable;" } : Jvm.MethodName)) ∈ lw_tbl := lw_at lw_m1 99 rfl
theorem q230 : (Jvm.Cond.instanceMethod ({ cls := "java/lang/Throwable", name := "fillInStackTrace", desc := "(I)Ljava/lang/Throwable;" } : Jvm.MethodName)) ∈ lw_all := lw_g (lw_at lw_m1 100 rfl) rfl
theorem q231 : (Jvm.Cond.instantiable "java/lang/Throwable" (6 : Nat)) ∈ lw_all := lw_g (lw_at lw_m1 101 rfl) rfl
theorem q232 : (Jvm.Cond.native ({ cls := "java/lang/Throwable", name := "fillInStackTrace", desc := "(I)Ljava/lang/Throwable;" } : Jvm.MethodName)) ∈ lw_all := lw_g (lw_at lw_m1 102 rfl) rfl
theorem q233 : (Jvm.Cond.fieldLink "java/lang/Throwable" (198 : Nat) "java/lang/Throwable" "backtrace" "Ljava/lang/Object;") ∈ lw_all := lw_g (lw_at lw_m1 103 rfl) rfl
theorem q234 : (Jvm.Cond.fieldLink "java/lang/Throwable" (31 : Nat) "java/lang/Throwable" "detailMessage" "Ljava/lang/String;") ∈ lw_all := lw_g (lw_at lw_m1 104 rfl) rfl
theorem q235 : (Jvm.Cond.fieldLink "java/lang/Throwable" (7 : Nat) "java/lang/Throwable" "cause" "Ljava/lang/Throwable;") ∈ lw_all := lw_g (lw_at lw_m1 105 rfl) rfl
theorem q236 : (Jvm.Cond.fieldLink "java/lang/Throwable" (17 : Nat) "java/lang/Throwable" "stackTrace" "[Ljava/lang/StackTraceElement;") ∈ lw_all := lw_g (lw_at lw_m1 106 rfl) rfl
theorem q237 : (Jvm.Cond.fieldLink "java/lang/Throwable" (24 : Nat) "java/lang/Throwable" "suppressedExceptions" "Ljava/util/List;") ∈ lw_all := lw_g (lw_at lw_m1 107 rfl) rfl
theorem q239 : (Jvm.Cond.soleField "java/lang/Throwable" "backtrace") ∈ lw_all := lw_g (lw_at lw_m1 109 rfl) rfl
theorem q241 : (Jvm.Cond.soleField "java/lang/Throwable" "detailMessage") ∈ lw_all := lw_g (lw_at lw_m1 111 rfl) rfl
theorem q243 : (Jvm.Cond.soleField "java/lang/Throwable" "cause") ∈ lw_all := lw_g (lw_at lw_m1 113 rfl) rfl
theorem q245 : (Jvm.Cond.soleField "java/lang/Throwable" "stackTrace") ∈ lw_all := lw_g (lw_at lw_m1 115 rfl) rfl
theorem q247 : (Jvm.Cond.soleField "java/lang/Throwable" "depth") ∈ lw_all := lw_g (lw_at lw_m1 117 rfl) rfl
theorem q249 : (Jvm.Cond.soleField "java/lang/Throwable" "suppressedExceptions") ∈ lw_all := lw_g (lw_at lw_m1 119 rfl) rfl
theorem q256 : (Jvm.Cond.declares ({ cls := "java/lang/Throwable", name := "<init>", desc := "()V" } : Jvm.MethodName)) ∈ lw_tbl := lw_at lw_m1 126 rfl
theorem q257 : (Jvm.Cond.declares ({ cls := "java/lang/Throwable", name := "<init>", desc := "(Ljava/lang/String;)V" } : Jvm.MethodName)) ∈ lw_tbl := lw_at lw_m1 127 rfl
theorem q259 : (Jvm.Cond.lays "java/lang/Throwable" "java/lang/Throwable" "cause" "Ljava/lang/Throwable;") ∈ lw_all := lw_g (lw_at lw_m1 129 rfl) rfl
theorem q260 : (Jvm.Cond.lays "java/lang/Throwable" "java/lang/Throwable" "stackTrace" "[Ljava/lang/StackTraceElement;") ∈ lw_all := lw_g (lw_at lw_m1 130 rfl) rfl
theorem q261 : (Jvm.Cond.lays "java/lang/Throwable" "java/lang/Throwable" "suppressedExceptions" "Ljava/util/List;") ∈ lw_all := lw_g (lw_at lw_m1 131 rfl) rfl
theorem q262 : (Jvm.Cond.lays "java/lang/Throwable" "java/lang/Throwable" "detailMessage" "Ljava/lang/String;") ∈ lw_all := lw_g (lw_at lw_m1 132 rfl) rfl
theorem q263 : (Jvm.Cond.lays "java/lang/Throwable" "java/lang/Throwable" "backtrace" "Ljava/lang/Object;") ∈ lw_all := lw_g (lw_at lw_m1 133 rfl) rfl
theorem q264 : (Jvm.Cond.fieldLink "java/lang/Throwable" (198 : Nat) "java/lang/Throwable" "backtrace" "Ljava/lang/Object;") ∈ lw_all := lw_g (lw_at lw_m1 134 rfl) rfl
theorem q265 : (Jvm.Cond.superclass "java/lang/Throwable" "java/lang/Object") ∈ lw_all := lw_g (lw_at lw_m1 135 rfl) rfl
theorem q266 : (Jvm.Cond.instanceMethod ({ cls := "java/lang/Throwable", name := "<init>", desc := "()V" } : Jvm.MethodName)) ∈ lw_all := lw_g (lw_at lw_m1 136 rfl) rfl
theorem q267 : (Jvm.Cond.code ({ cls := "java/lang/Throwable", name := "<init>", desc := "()V" } : Jvm.MethodName) prog_37_method_1_code (1 : Nat) (Option.none : Option Jvm.ClassFile.FieldType)) ∈ lw_all := lw_g (lw_at lw_m1 137 rfl) rfl
theorem q744 : (Jvm.Cond.instanceMethod ({ cls := "java/lang/Throwable", name := "<init>", desc := "(Ljava/lang/String;Ljava/lang/Throwable;ZZ)V" } : Jvm.MethodName)) ∈ lw_all := lw_g (lw_at lw_m3 134 rfl) rfl
theorem q745 : (Jvm.Cond.code ({ cls := "java/lang/Throwable", name := "<init>", desc := "(Ljava/lang/String;Ljava/lang/Throwable;ZZ)V" } : Jvm.MethodName) prog_37_method_5_code (5 : Nat) (Option.none : Option Jvm.ClassFile.FieldType)) ∈ lw_all := lw_g (lw_at lw_m3 135 rfl) rfl
theorem q2302 : (Jvm.Cond.sameMethod "java/lang/Throwable" "java/lang/Throwable" "fillInStackTrace" "(I)Ljava/lang/Throwable;") ∈ lw_all := lw_g (lw_at lw_m10 12 rfl) rfl
theorem q2332 : (Jvm.Cond.castable "java/lang/Throwable" "java/lang/Object") ∈ lw_tbl := lw_at lw_m10 42 rfl
theorem in_J8 : ∀ w ∈ wsJ80, w ∈ lw_all := lw_in wsJ80 [259, 260, 261, 262, 263] (by decide +kernel) (by decide +kernel)
/-! java/lang/Exception -/
set_option maxRecDepth 100000
def RJ9 : String := "java/lang/Exception"
abbrev cJ9_init : ByteArray := prog_24_method_2_code
def yJ9_init : MethodName := ⟨RJ9, "<init>", "(Ljava/lang/String;)V"⟩
def dkwJ9_init_0 : List UInt8 := [42, 43, 183, 0, 7, 177]
abbrev dktJ9_init_0 : List UInt8 := dkwJ9_init_0 ++ []
theorem dksJ9_init_0 : cJ9_init.data.toList.drop 0 = dktJ9_init_0 := by decide +kernel
theorem dJ9_init_0 : decode cJ9_init 0 = .ok (.aload_n 0, 1) := dk_42 (dk_at dksJ9_init_0 0 rfl rfl)
theorem dJ9_init_1 : decode cJ9_init 1 = .ok (.aload_n 1, 1) := dk_43 (dk_at dksJ9_init_0 1 rfl rfl)
theorem dJ9_init_2 : decode cJ9_init 2 = .ok (.invokespecial 7, 3) := dk_183 0 7 (dk_at dksJ9_init_0 2 rfl rfl)
theorem dJ9_init_5 : decode cJ9_init 5 = .ok (.return_, 1) := dk_177 (dk_at dksJ9_init_0 5 rfl rfl)
abbrev cJ9_init_2 : ByteArray := prog_24_method_1_code
def yJ9_init_2 : MethodName := ⟨RJ9, "<init>", "()V"⟩
theorem dJ9_init_2_0 : decode cJ9_init_2 0 = .ok (.aload_n 0, 1) := by decide +kernel
theorem dJ9_init_2_1 : decode cJ9_init_2 1 = .ok (.invokespecial 1, 3) := by decide +kernel
theorem dJ9_init_2_4 : decode cJ9_init_2 4 = .ok (.return_, 1) := by decide +kernel
abbrev cJ9_init_3 : ByteArray := prog_24_method_5_code
def yJ9_init_3 : MethodName := ⟨RJ9, "<init>", "(Ljava/lang/String;Ljava/lang/Throwable;ZZ)V"⟩
def dkwJ9_init_3_0 : List UInt8 := [42, 43, 44, 29, 21, 4, 183, 0, 16, 177]
abbrev dktJ9_init_3_0 : List UInt8 := dkwJ9_init_3_0 ++ []
theorem dksJ9_init_3_0 : cJ9_init_3.data.toList.drop 0 = dktJ9_init_3_0 := by decide +kernel
theorem dJ9_init_3_0 : decode cJ9_init_3 0 = .ok (.aload_n 0, 1) := dk_42 (dk_at dksJ9_init_3_0 0 rfl rfl)
theorem dJ9_init_3_1 : decode cJ9_init_3 1 = .ok (.aload_n 1, 1) := dk_43 (dk_at dksJ9_init_3_0 1 rfl rfl)
theorem dJ9_init_3_2 : decode cJ9_init_3 2 = .ok (.aload_n 2, 1) := dk_44 (dk_at dksJ9_init_3_0 2 rfl rfl)
theorem dJ9_init_3_3 : decode cJ9_init_3 3 = .ok (.iload_n 3, 1) := dk_29 (dk_at dksJ9_init_3_0 3 rfl rfl)
theorem dJ9_init_3_4 : decode cJ9_init_3 4 = .ok (.iload 4, 2) := dk_21 4 (dk_at dksJ9_init_3_0 4 rfl rfl)
theorem dJ9_init_3_6 : decode cJ9_init_3 6 = .ok (.invokespecial 16, 3) := dk_183 0 16 (dk_at dksJ9_init_3_0 6 rfl rfl)
theorem dJ9_init_3_9 : decode cJ9_init_3 9 = .ok (.return_, 1) := dk_177 (dk_at dksJ9_init_3_0 9 rfl rfl)
theorem q146 : (Jvm.Cond.initialized "java/lang/Exception") ∈ lw_all := lw_g (lw_at lw_m1 16 rfl) rfl
theorem q194 : (Jvm.Cond.instanceMethod ({ cls := "java/lang/Exception", name := "<init>", desc := "(Ljava/lang/String;)V" } : Jvm.MethodName)) ∈ lw_all := lw_g (lw_at lw_m1 64 rfl) rfl
theorem q195 : (Jvm.Cond.code ({ cls := "java/lang/Exception", name := "<init>", desc := "(Ljava/lang/String;)V" } : Jvm.MethodName) prog_24_method_2_code (2 : Nat) (Option.none : Option Jvm.ClassFile.FieldType)) ∈ lw_all := lw_g (lw_at lw_m1 65 rfl) rfl
theorem q196 : (Jvm.Cond.methodLink "java/lang/Exception" (7 : Nat) ({ cls := "java/lang/Throwable", name := "<init>", desc := "(Ljava/lang/String;)V" } : Jvm.MethodName)) ∈ lw_all := lw_g (lw_at lw_m1 66 rfl) rfl
theorem q226 : (Jvm.Cond.superclass "java/lang/Exception" "java/lang/Throwable") ∈ lw_all := lw_g (lw_at lw_m1 96 rfl) rfl
theorem q254 : (Jvm.Cond.declares ({ cls := "java/lang/Exception", name := "<init>", desc := "()V" } : Jvm.MethodName)) ∈ lw_tbl := lw_at lw_m1 124 rfl
theorem q255 : (Jvm.Cond.declares ({ cls := "java/lang/Exception", name := "<init>", desc := "(Ljava/lang/String;)V" } : Jvm.MethodName)) ∈ lw_tbl := lw_at lw_m1 125 rfl
theorem q292 : (Jvm.Cond.instanceMethod ({ cls := "java/lang/Exception", name := "<init>", desc := "()V" } : Jvm.MethodName)) ∈ lw_all := lw_g (lw_at lw_m1 162 rfl) rfl
theorem q293 : (Jvm.Cond.code ({ cls := "java/lang/Exception", name := "<init>", desc := "()V" } : Jvm.MethodName) prog_24_method_1_code (1 : Nat) (Option.none : Option Jvm.ClassFile.FieldType)) ∈ lw_all := lw_g (lw_at lw_m1 163 rfl) rfl
theorem q294 : (Jvm.Cond.methodLink "java/lang/Exception" (1 : Nat) ({ cls := "java/lang/Throwable", name := "<init>", desc := "()V" } : Jvm.MethodName)) ∈ lw_all := lw_g (lw_at lw_m1 164 rfl) rfl
theorem q741 : (Jvm.Cond.instanceMethod ({ cls := "java/lang/Exception", name := "<init>", desc := "(Ljava/lang/String;Ljava/lang/Throwable;ZZ)V" } : Jvm.MethodName)) ∈ lw_all := lw_g (lw_at lw_m3 131 rfl) rfl
theorem q742 : (Jvm.Cond.code ({ cls := "java/lang/Exception", name := "<init>", desc := "(Ljava/lang/String;Ljava/lang/Throwable;ZZ)V" } : Jvm.MethodName) prog_24_method_5_code (5 : Nat) (Option.none : Option Jvm.ClassFile.FieldType)) ∈ lw_all := lw_g (lw_at lw_m3 132 rfl) rfl
theorem q743 : (Jvm.Cond.methodLink "java/lang/Exception" (16 : Nat) ({ cls := "java/lang/Throwable", name := "<init>", desc := "(Ljava/lang/String;Ljava/lang/Throwable;ZZ)V" } : Jvm.MethodName)) ∈ lw_all := lw_g (lw_at lw_m3 133 rfl) rfl
/-! java/lang/RuntimeException -/
set_option maxRecDepth 100000
def RJ10 : String := "java/lang/RuntimeException"
abbrev cJ10_init : ByteArray := prog_32_method_2_code
def yJ10_init : MethodName := ⟨RJ10, "<init>", "(Ljava/lang/String;)V"⟩
def dkwJ10_init_0 : List UInt8 := [42, 43, 183, 0, 7, 177]
abbrev dktJ10_init_0 : List UInt8 := dkwJ10_init_0 ++ []
theorem dksJ10_init_0 : cJ10_init.data.toList.drop 0 = dktJ10_init_0 := by decide +kernel
theorem dJ10_init_0 : decode cJ10_init 0 = .ok (.aload_n 0, 1) := dk_42 (dk_at dksJ10_init_0 0 rfl rfl)
theorem dJ10_init_1 : decode cJ10_init 1 = .ok (.aload_n 1, 1) := dk_43 (dk_at dksJ10_init_0 1 rfl rfl)
theorem dJ10_init_2 : decode cJ10_init 2 = .ok (.invokespecial 7, 3) := dk_183 0 7 (dk_at dksJ10_init_0 2 rfl rfl)
theorem dJ10_init_5 : decode cJ10_init 5 = .ok (.return_, 1) := dk_177 (dk_at dksJ10_init_0 5 rfl rfl)
abbrev cJ10_init_2 : ByteArray := prog_32_method_1_code
def yJ10_init_2 : MethodName := ⟨RJ10, "<init>", "()V"⟩
theorem dJ10_init_2_0 : decode cJ10_init_2 0 = .ok (.aload_n 0, 1) := by decide +kernel
theorem dJ10_init_2_1 : decode cJ10_init_2 1 = .ok (.invokespecial 1, 3) := by decide +kernel
theorem dJ10_init_2_4 : decode cJ10_init_2 4 = .ok (.return_, 1) := by decide +kernel
abbrev cJ10_init_3 : ByteArray := prog_32_method_5_code
def yJ10_init_3 : MethodName := ⟨RJ10, "<init>", "(Ljava/lang/String;Ljava/lang/Throwable;ZZ)V"⟩
def dkwJ10_init_3_0 : List UInt8 := [42, 43, 44, 29, 21, 4, 183, 0, 16, 177]
abbrev dktJ10_init_3_0 : List UInt8 := dkwJ10_init_3_0 ++ []
theorem dksJ10_init_3_0 : cJ10_init_3.data.toList.drop 0 = dktJ10_init_3_0 := by decide +kernel
theorem dJ10_init_3_0 : decode cJ10_init_3 0 = .ok (.aload_n 0, 1) := dk_42 (dk_at dksJ10_init_3_0 0 rfl rfl)
theorem dJ10_init_3_1 : decode cJ10_init_3 1 = .ok (.aload_n 1, 1) := dk_43 (dk_at dksJ10_init_3_0 1 rfl rfl)
theorem dJ10_init_3_2 : decode cJ10_init_3 2 = .ok (.aload_n 2, 1) := dk_44 (dk_at dksJ10_init_3_0 2 rfl rfl)
theorem dJ10_init_3_3 : decode cJ10_init_3 3 = .ok (.iload_n 3, 1) := dk_29 (dk_at dksJ10_init_3_0 3 rfl rfl)
theorem dJ10_init_3_4 : decode cJ10_init_3 4 = .ok (.iload 4, 2) := dk_21 4 (dk_at dksJ10_init_3_0 4 rfl rfl)
theorem dJ10_init_3_6 : decode cJ10_init_3 6 = .ok (.invokespecial 16, 3) := dk_183 0 16 (dk_at dksJ10_init_3_0 6 rfl rfl)
theorem dJ10_init_3_9 : decode cJ10_init_3 9 = .ok (.return_, 1) := dk_177 (dk_at dksJ10_init_3_0 9 rfl rfl)
theorem q147 : (Jvm.Cond.initialized "java/lang/RuntimeException") ∈ lw_all := lw_g (lw_at lw_m1 17 rfl) rfl
theorem q191 : (Jvm.Cond.instanceMethod ({ cls := "java/lang/RuntimeException", name := "<init>", desc := "(Ljava/lang/String;)V" } : Jvm.MethodName)) ∈ lw_all := lw_g (lw_at lw_m1 61 rfl) rfl
theorem q192 : (Jvm.Cond.code ({ cls := "java/lang/RuntimeException", name := "<init>", desc := "(Ljava/lang/String;)V" } : Jvm.MethodName) prog_32_method_2_code (2 : Nat) (Option.none : Option Jvm.ClassFile.FieldType)) ∈ lw_all := lw_g (lw_at lw_m1 62 rfl) rfl
theorem q193 : (Jvm.Cond.methodLink "java/lang/RuntimeException" (7 : Nat) ({ cls := "java/lang/Exception", name := "<init>", desc := "(Ljava/lang/String;)V" } : Jvm.MethodName)) ∈ lw_all := lw_g (lw_at lw_m1 63 rfl) rfl
theorem q222 : (Jvm.Cond.sameMethod "java/lang/RuntimeException" "java/lang/Throwable" "fillInStackTrace" "()Ljava/lang/Throwable;") ∈ lw_all := lw_g (lw_at lw_m1 92 rfl) rfl
theorem q225 : (Jvm.Cond.superclass "java/lang/RuntimeException" "java/lang/Exception") ∈ lw_all := lw_g (lw_at lw_m1 95 rfl) rfl
theorem q252 : (Jvm.Cond.declares ({ cls := "java/lang/RuntimeException", name := "<init>", desc := "()V" } : Jvm.MethodName)) ∈ lw_tbl := lw_at lw_m1 122 rfl
theorem q253 : (Jvm.Cond.declares ({ cls := "java/lang/RuntimeException", name := "<init>", desc := "(Ljava/lang/String;)V" } : Jvm.MethodName)) ∈ lw_tbl := lw_at lw_m1 123 rfl
theorem q289 : (Jvm.Cond.instanceMethod ({ cls := "java/lang/RuntimeException", name := "<init>", desc := "()V" } : Jvm.MethodName)) ∈ lw_all := lw_g (lw_at lw_m1 159 rfl) rfl
theorem q290 : (Jvm.Cond.code ({ cls := "java/lang/RuntimeException", name := "<init>", desc := "()V" } : Jvm.MethodName) prog_32_method_1_code (1 : Nat) (Option.none : Option Jvm.ClassFile.FieldType)) ∈ lw_all := lw_g (lw_at lw_m1 160 rfl) rfl
theorem q291 : (Jvm.Cond.methodLink "java/lang/RuntimeException" (1 : Nat) ({ cls := "java/lang/Exception", name := "<init>", desc := "()V" } : Jvm.MethodName)) ∈ lw_all := lw_g (lw_at lw_m1 161 rfl) rfl
theorem q309 : (Jvm.Cond.castable "java/lang/RuntimeException" "java/lang/Throwable") ∈ lw_tbl := lw_at lw_m1 179 rfl
theorem q738 : (Jvm.Cond.instanceMethod ({ cls := "java/lang/RuntimeException", name := "<init>", desc := "(Ljava/lang/String;Ljava/lang/Throwable;ZZ)V" } : Jvm.MethodName)) ∈ lw_all := lw_g (lw_at lw_m3 128 rfl) rfl
theorem q739 : (Jvm.Cond.code ({ cls := "java/lang/RuntimeException", name := "<init>", desc := "(Ljava/lang/String;Ljava/lang/Throwable;ZZ)V" } : Jvm.MethodName) prog_32_method_5_code (5 : Nat) (Option.none : Option Jvm.ClassFile.FieldType)) ∈ lw_all := lw_g (lw_at lw_m3 129 rfl) rfl
theorem q740 : (Jvm.Cond.methodLink "java/lang/RuntimeException" (16 : Nat) ({ cls := "java/lang/Exception", name := "<init>", desc := "(Ljava/lang/String;Ljava/lang/Throwable;ZZ)V" } : Jvm.MethodName)) ∈ lw_all := lw_g (lw_at lw_m3 130 rfl) rfl
/-! java/util/Objects -/
set_option maxRecDepth 100000
def RJ11 : String := "java/util/Objects"
abbrev cJ11_checkIndex : ByteArray := prog_44_method_17_code
def yJ11_checkIndex : MethodName := ⟨RJ11, "checkIndex", "(II)I"⟩
def dkwJ11_checkIndex_0 : List UInt8 := [26, 27, 1, 184, 0, 105, 172]
abbrev dktJ11_checkIndex_0 : List UInt8 := dkwJ11_checkIndex_0 ++ []
theorem dksJ11_checkIndex_0 : cJ11_checkIndex.data.toList.drop 0 = dktJ11_checkIndex_0 := by decide +kernel
theorem dJ11_checkIndex_0 : decode cJ11_checkIndex 0 = .ok (.iload_n 0, 1) := dk_26 (dk_at dksJ11_checkIndex_0 0 rfl rfl)
theorem dJ11_checkIndex_1 : decode cJ11_checkIndex 1 = .ok (.iload_n 1, 1) := dk_27 (dk_at dksJ11_checkIndex_0 1 rfl rfl)
theorem dJ11_checkIndex_2 : decode cJ11_checkIndex 2 = .ok (.aconst_null, 1) := dk_1 (dk_at dksJ11_checkIndex_0 2 rfl rfl)
theorem dJ11_checkIndex_3 : decode cJ11_checkIndex 3 = .ok (.invokestatic 105, 3) := dk_184 0 105 (dk_at dksJ11_checkIndex_0 3 rfl rfl)
theorem dJ11_checkIndex_6 : decode cJ11_checkIndex 6 = .ok (.ireturn, 1) := dk_172 (dk_at dksJ11_checkIndex_0 6 rfl rfl)
theorem q149 : (Jvm.Cond.initialized "java/util/Objects") ∈ lw_all := lw_g (lw_at lw_m1 19 rfl) rfl
theorem q818 : (Jvm.Cond.static ({ cls := "java/util/Objects", name := "checkIndex", desc := "(II)I" } : Jvm.MethodName)) ∈ lw_all := lw_g (lw_at lw_m3 208 rfl) rfl
theorem q819 : (Jvm.Cond.code ({ cls := "java/util/Objects", name := "checkIndex", desc := "(II)I" } : Jvm.MethodName) prog_44_method_17_code (2 : Nat) (Option.some Jvm.ClassFile.FieldType.int)) ∈ lw_all := lw_g (lw_at lw_m3 209 rfl) rfl
theorem q820 : (Jvm.Cond.methodLink "java/util/Objects" (105 : Nat) ({ cls := "jdk/internal/util/Preconditions", name := "checkIndex", desc := "(IILjava/util/function/BiFunction;)I" } : Jvm.MethodName)) ∈ lw_all := lw_g (lw_at lw_m3 210 rfl) rfl
/-! jdk/internal/util/ArraysSupport -/
set_option maxRecDepth 100000
def RJ12 : String := "jdk/internal/util/ArraysSupport"
abbrev cJ12_newLength : ByteArray := prog_47_method_27_code
def yJ12_newLength : MethodName := ⟨RJ12, "newLength", "(III)I"⟩
def dkwJ12_newLength_1 : List UInt8 := [184, 0, 201, 172]
abbrev dktJ12_newLength_1 : List UInt8 := dkwJ12_newLength_1 ++ []
def dkwJ12_newLength_0 : List UInt8 := [26, 27, 28, 184, 0, 194, 96, 62, 3, 29, 162, 0, 11, 29, 18, 200, 163, 0, 5, 29, 172, 26, 27]
abbrev dktJ12_newLength_0 : List UInt8 := dkwJ12_newLength_0 ++ dktJ12_newLength_1
theorem dksJ12_newLength_0 : cJ12_newLength.data.toList.drop 0 = dktJ12_newLength_0 := by decide +kernel
theorem dksJ12_newLength_1 : cJ12_newLength.data.toList.drop 23 = dktJ12_newLength_1 := dk_seg dksJ12_newLength_0 23 rfl rfl
theorem dJ12_newLength_0 : decode cJ12_newLength 0 = .ok (.iload_n 0, 1) := dk_26 (dk_at dksJ12_newLength_0 0 rfl rfl)
theorem dJ12_newLength_1 : decode cJ12_newLength 1 = .ok (.iload_n 1, 1) := dk_27 (dk_at dksJ12_newLength_0 1 rfl rfl)
theorem dJ12_newLength_2 : decode cJ12_newLength 2 = .ok (.iload_n 2, 1) := dk_28 (dk_at dksJ12_newLength_0 2 rfl rfl)
theorem dJ12_newLength_3 : decode cJ12_newLength 3 = .ok (.invokestatic 194, 3) := dk_184 0 194 (dk_at dksJ12_newLength_0 3 rfl rfl)
theorem dJ12_newLength_6 : decode cJ12_newLength 6 = .ok (.iadd, 1) := dk_96 (dk_at dksJ12_newLength_0 6 rfl rfl)
theorem dJ12_newLength_7 : decode cJ12_newLength 7 = .ok (.istore_n 3, 1) := dk_62 (dk_at dksJ12_newLength_0 7 rfl rfl)
theorem dJ12_newLength_8 : decode cJ12_newLength 8 = .ok (.iconst 0, 1) := dk_3 (dk_at dksJ12_newLength_0 8 rfl rfl)
theorem dJ12_newLength_9 : decode cJ12_newLength 9 = .ok (.iload_n 3, 1) := dk_29 (dk_at dksJ12_newLength_0 9 rfl rfl)
theorem dJ12_newLength_10 : decode cJ12_newLength 10 = .ok (.if_icmp .ge 11, 3) := dk_162 0 11 (dk_at dksJ12_newLength_0 10 rfl rfl)
theorem dJ12_newLength_13 : decode cJ12_newLength 13 = .ok (.iload_n 3, 1) := dk_29 (dk_at dksJ12_newLength_0 13 rfl rfl)
theorem dJ12_newLength_14 : decode cJ12_newLength 14 = .ok (.ldc 200, 2) := dk_18 200 (dk_at dksJ12_newLength_0 14 rfl rfl)
theorem dJ12_newLength_16 : decode cJ12_newLength 16 = .ok (.if_icmp .gt 5, 3) := dk_163 0 5 (dk_at dksJ12_newLength_0 16 rfl rfl)
theorem dJ12_newLength_19 : decode cJ12_newLength 19 = .ok (.iload_n 3, 1) := dk_29 (dk_at dksJ12_newLength_0 19 rfl rfl)
theorem dJ12_newLength_20 : decode cJ12_newLength 20 = .ok (.ireturn, 1) := dk_172 (dk_at dksJ12_newLength_0 20 rfl rfl)
theorem dJ12_newLength_21 : decode cJ12_newLength 21 = .ok (.iload_n 0, 1) := dk_26 (dk_at dksJ12_newLength_0 21 rfl rfl)
theorem dJ12_newLength_22 : decode cJ12_newLength 22 = .ok (.iload_n 1, 1) := dk_27 (dk_at dksJ12_newLength_0 22 rfl rfl)
theorem dJ12_newLength_23 : decode cJ12_newLength 23 = .ok (.invokestatic 201, 3) := dk_184 0 201 (dk_at dksJ12_newLength_1 0 rfl rfl)
theorem dJ12_newLength_26 : decode cJ12_newLength 26 = .ok (.ireturn, 1) := dk_172 (dk_at dksJ12_newLength_1 3 rfl rfl)
abbrev cJ12_hugeLength : ByteArray := prog_47_method_28_code
def yJ12_hugeLength : MethodName := ⟨RJ12, "hugeLength", "(II)I"⟩
def dkwJ12_hugeLength_2 : List UInt8 := [191, 28, 18, 200, 163, 0, 6, 18, 200, 172, 28, 172]
abbrev dktJ12_hugeLength_2 : List UInt8 := dkwJ12_hugeLength_2 ++ []
def dkwJ12_hugeLength_1 : List UInt8 := [26, 182, 0, 98, 18, 208, 182, 0, 94, 27, 182, 0, 98, 18, 210, 182, 0, 94, 182, 0, 101, 183, 0, 212]
abbrev dktJ12_hugeLength_1 : List UInt8 := dkwJ12_hugeLength_1 ++ dktJ12_hugeLength_2
def dkwJ12_hugeLength_0 : List UInt8 := [26, 27, 96, 61, 28, 156, 0, 44, 187, 0, 204, 89, 187, 0, 89, 89, 183, 0, 91, 18, 206, 182, 0, 94]
abbrev dktJ12_hugeLength_0 : List UInt8 := dkwJ12_hugeLength_0 ++ dktJ12_hugeLength_1
theorem dksJ12_hugeLength_0 : cJ12_hugeLength.data.toList.drop 0 = dktJ12_hugeLength_0 := by decide +kernel
theorem dksJ12_hugeLength_1 : cJ12_hugeLength.data.toList.drop 24 = dktJ12_hugeLength_1 := dk_seg dksJ12_hugeLength_0 24 rfl rfl
theorem dksJ12_hugeLength_2 : cJ12_hugeLength.data.toList.drop 48 = dktJ12_hugeLength_2 := dk_seg dksJ12_hugeLength_1 24 rfl rfl
theorem dJ12_hugeLength_0 : decode cJ12_hugeLength 0 = .ok (.iload_n 0, 1) := dk_26 (dk_at dksJ12_hugeLength_0 0 rfl rfl)
theorem dJ12_hugeLength_1 : decode cJ12_hugeLength 1 = .ok (.iload_n 1, 1) := dk_27 (dk_at dksJ12_hugeLength_0 1 rfl rfl)
theorem dJ12_hugeLength_2 : decode cJ12_hugeLength 2 = .ok (.iadd, 1) := dk_96 (dk_at dksJ12_hugeLength_0 2 rfl rfl)
theorem dJ12_hugeLength_3 : decode cJ12_hugeLength 3 = .ok (.istore_n 2, 1) := dk_61 (dk_at dksJ12_hugeLength_0 3 rfl rfl)
theorem dJ12_hugeLength_4 : decode cJ12_hugeLength 4 = .ok (.iload_n 2, 1) := dk_28 (dk_at dksJ12_hugeLength_0 4 rfl rfl)
theorem dJ12_hugeLength_5 : decode cJ12_hugeLength 5 = .ok (.ifCond .ge 44, 3) := dk_156 0 44 (dk_at dksJ12_hugeLength_0 5 rfl rfl)
theorem dJ12_hugeLength_8 : decode cJ12_hugeLength 8 = .ok (.new 204, 3) := dk_187 0 204 (dk_at dksJ12_hugeLength_0 8 rfl rfl)
theorem dJ12_hugeLength_11 : decode cJ12_hugeLength 11 = .ok (.dup, 1) := dk_89 (dk_at dksJ12_hugeLength_0 11 rfl rfl)
theorem dJ12_hugeLength_12 : decode cJ12_hugeLength 12 = .ok (.new 89, 3) := dk_187 0 89 (dk_at dksJ12_hugeLength_0 12 rfl rfl)
theorem dJ12_hugeLength_15 : decode cJ12_hugeLength 15 = .ok (.dup, 1) := dk_89 (dk_at dksJ12_hugeLength_0 15 rfl rfl)
theorem dJ12_hugeLength_16 : decode cJ12_hugeLength 16 = .ok (.invokespecial 91, 3) := dk_183 0 91 (dk_at dksJ12_hugeLength_0 16 rfl rfl)
theorem dJ12_hugeLength_19 : decode cJ12_hugeLength 19 = .ok (.ldc 206, 2) := dk_18 206 (dk_at dksJ12_hugeLength_0 19 rfl rfl)
theorem dJ12_hugeLength_21 : decode cJ12_hugeLength 21 = .ok (.invokevirtual 94, 3) := dk_182 0 94 (dk_at dksJ12_hugeLength_0 21 rfl rfl)
theorem dJ12_hugeLength_24 : decode cJ12_hugeLength 24 = .ok (.iload_n 0, 1) := dk_26 (dk_at dksJ12_hugeLength_1 0 rfl rfl)
theorem dJ12_hugeLength_25 : decode cJ12_hugeLength 25 = .ok (.invokevirtual 98, 3) := dk_182 0 98 (dk_at dksJ12_hugeLength_1 1 rfl rfl)
theorem dJ12_hugeLength_28 : decode cJ12_hugeLength 28 = .ok (.ldc 208, 2) := dk_18 208 (dk_at dksJ12_hugeLength_1 4 rfl rfl)
theorem dJ12_hugeLength_30 : decode cJ12_hugeLength 30 = .ok (.invokevirtual 94, 3) := dk_182 0 94 (dk_at dksJ12_hugeLength_1 6 rfl rfl)
theorem dJ12_hugeLength_33 : decode cJ12_hugeLength 33 = .ok (.iload_n 1, 1) := dk_27 (dk_at dksJ12_hugeLength_1 9 rfl rfl)
theorem dJ12_hugeLength_34 : decode cJ12_hugeLength 34 = .ok (.invokevirtual 98, 3) := dk_182 0 98 (dk_at dksJ12_hugeLength_1 10 rfl rfl)
theorem dJ12_hugeLength_37 : decode cJ12_hugeLength 37 = .ok (.ldc 210, 2) := dk_18 210 (dk_at dksJ12_hugeLength_1 13 rfl rfl)
theorem dJ12_hugeLength_39 : decode cJ12_hugeLength 39 = .ok (.invokevirtual 94, 3) := dk_182 0 94 (dk_at dksJ12_hugeLength_1 15 rfl rfl)
theorem dJ12_hugeLength_42 : decode cJ12_hugeLength 42 = .ok (.invokevirtual 101, 3) := dk_182 0 101 (dk_at dksJ12_hugeLength_1 18 rfl rfl)
theorem dJ12_hugeLength_45 : decode cJ12_hugeLength 45 = .ok (.invokespecial 212, 3) := dk_183 0 212 (dk_at dksJ12_hugeLength_1 21 rfl rfl)
theorem dJ12_hugeLength_48 : decode cJ12_hugeLength 48 = .ok (.athrow, 1) := dk_191 (dk_at dksJ12_hugeLength_2 0 rfl rfl)
theorem dJ12_hugeLength_49 : decode cJ12_hugeLength 49 = .ok (.iload_n 2, 1) := dk_28 (dk_at dksJ12_hugeLength_2 1 rfl rfl)
theorem dJ12_hugeLength_50 : decode cJ12_hugeLength 50 = .ok (.ldc 200, 2) := dk_18 200 (dk_at dksJ12_hugeLength_2 2 rfl rfl)
theorem dJ12_hugeLength_52 : decode cJ12_hugeLength 52 = .ok (.if_icmp .gt 6, 3) := dk_163 0 6 (dk_at dksJ12_hugeLength_2 4 rfl rfl)
theorem dJ12_hugeLength_55 : decode cJ12_hugeLength 55 = .ok (.ldc 200, 2) := dk_18 200 (dk_at dksJ12_hugeLength_2 7 rfl rfl)
theorem dJ12_hugeLength_57 : decode cJ12_hugeLength 57 = .ok (.ireturn, 1) := dk_172 (dk_at dksJ12_hugeLength_2 9 rfl rfl)
theorem dJ12_hugeLength_58 : decode cJ12_hugeLength 58 = .ok (.iload_n 2, 1) := dk_28 (dk_at dksJ12_hugeLength_2 10 rfl rfl)
theorem dJ12_hugeLength_59 : decode cJ12_hugeLength 59 = .ok (.ireturn, 1) := dk_172 (dk_at dksJ12_hugeLength_2 11 rfl rfl)
theorem q151 : (Jvm.Cond.initialized "jdk/internal/util/ArraysSupport") ∈ lw_all := lw_g (lw_at lw_m1 21 rfl) rfl
theorem q893 : (Jvm.Cond.static ({ cls := "jdk/internal/util/ArraysSupport", name := "newLength", desc := "(III)I" } : Jvm.MethodName)) ∈ lw_all := lw_g (lw_at lw_m4 43 rfl) rfl
theorem q894 : (Jvm.Cond.code ({ cls := "jdk/internal/util/ArraysSupport", name := "newLength", desc := "(III)I" } : Jvm.MethodName) prog_47_method_27_code (4 : Nat) (Option.some Jvm.ClassFile.FieldType.int)) ∈ lw_all := lw_g (lw_at lw_m4 44 rfl) rfl
theorem q895 : (Jvm.Cond.methodLink "jdk/internal/util/ArraysSupport" (194 : Nat) ({ cls := "java/lang/Math", name := "max", desc := "(II)I" } : Jvm.MethodName)) ∈ lw_all := lw_g (lw_at lw_m4 45 rfl) rfl
theorem q898 : (Jvm.Cond.constant "jdk/internal/util/ArraysSupport" (200 : Nat) (2147483639 : Int32)) ∈ lw_all := lw_g (lw_at lw_m4 48 rfl) rfl
theorem q899 : (Jvm.Cond.methodLink "jdk/internal/util/ArraysSupport" (201 : Nat) ({ cls := "jdk/internal/util/ArraysSupport", name := "hugeLength", desc := "(II)I" } : Jvm.MethodName)) ∈ lw_all := lw_g (lw_at lw_m4 49 rfl) rfl
theorem q900 : (Jvm.Cond.static ({ cls := "jdk/internal/util/ArraysSupport", name := "hugeLength", desc := "(II)I" } : Jvm.MethodName)) ∈ lw_all := lw_g (lw_at lw_m4 50 rfl) rfl
theorem q901 : (Jvm.Cond.code ({ cls := "jdk/internal/util/ArraysSupport", name := "hugeLength", desc := "(II)I" } : Jvm.MethodName) prog_47_method_28_code (3 : Nat) (Option.some Jvm.ClassFile.FieldType.int)) ∈ lw_all := lw_g (lw_at lw_m4 51 rfl) rfl
/-! java/util/Arrays -/
set_option maxRecDepth 100000
def RJ13 : String := "java/util/Arrays"
abbrev cJ13_copyOf : ByteArray := prog_41_method_119_code
def yJ13_copyOf : MethodName := ⟨RJ13, "copyOf", "([Ljava/lang/Object;I)[Ljava/lang/Object;"⟩
def dkwJ13_copyOf_0 : List UInt8 := [42, 27, 42, 182, 0, 86, 184, 1, 44, 176]
abbrev dktJ13_copyOf_0 : List UInt8 := dkwJ13_copyOf_0 ++ []
theorem dksJ13_copyOf_0 : cJ13_copyOf.data.toList.drop 0 = dktJ13_copyOf_0 := by decide +kernel
theorem dJ13_copyOf_0 : decode cJ13_copyOf 0 = .ok (.aload_n 0, 1) := dk_42 (dk_at dksJ13_copyOf_0 0 rfl rfl)
theorem dJ13_copyOf_1 : decode cJ13_copyOf 1 = .ok (.iload_n 1, 1) := dk_27 (dk_at dksJ13_copyOf_0 1 rfl rfl)
theorem dJ13_copyOf_2 : decode cJ13_copyOf 2 = .ok (.aload_n 0, 1) := dk_42 (dk_at dksJ13_copyOf_0 2 rfl rfl)
theorem dJ13_copyOf_3 : decode cJ13_copyOf 3 = .ok (.invokevirtual 86, 3) := dk_182 0 86 (dk_at dksJ13_copyOf_0 3 rfl rfl)
theorem dJ13_copyOf_6 : decode cJ13_copyOf 6 = .ok (.invokestatic 300, 3) := dk_184 1 44 (dk_at dksJ13_copyOf_0 6 rfl rfl)
theorem dJ13_copyOf_9 : decode cJ13_copyOf 9 = .ok (.areturn, 1) := dk_176 (dk_at dksJ13_copyOf_0 9 rfl rfl)
abbrev cJ13_copyOf_2 : ByteArray := prog_41_method_120_code
def yJ13_copyOf_2 : MethodName := ⟨RJ13, "copyOf", "([Ljava/lang/Object;ILjava/lang/Class;)[Ljava/lang/Object;"⟩
def dkwJ13_copyOf_2_1 : List UInt8 := [78, 42, 3, 45, 3, 42, 190, 27, 184, 1, 48, 184, 0, 150, 45, 176]
abbrev dktJ13_copyOf_2_1 : List UInt8 := dkwJ13_copyOf_2_1 ++ []
def dkwJ13_copyOf_2_0 : List UInt8 := [44, 18, 110, 166, 0, 10, 27, 189, 0, 2, 167, 0, 14, 44, 182, 0, 90, 27, 184, 0, 95, 192, 0, 110]
abbrev dktJ13_copyOf_2_0 : List UInt8 := dkwJ13_copyOf_2_0 ++ dktJ13_copyOf_2_1
theorem dksJ13_copyOf_2_0 : cJ13_copyOf_2.data.toList.drop 0 = dktJ13_copyOf_2_0 := by decide +kernel
theorem dksJ13_copyOf_2_1 : cJ13_copyOf_2.data.toList.drop 24 = dktJ13_copyOf_2_1 := dk_seg dksJ13_copyOf_2_0 24 rfl rfl
theorem dJ13_copyOf_2_0 : decode cJ13_copyOf_2 0 = .ok (.aload_n 2, 1) := dk_44 (dk_at dksJ13_copyOf_2_0 0 rfl rfl)
theorem dJ13_copyOf_2_1 : decode cJ13_copyOf_2 1 = .ok (.ldc 110, 2) := dk_18 110 (dk_at dksJ13_copyOf_2_0 1 rfl rfl)
theorem dJ13_copyOf_2_3 : decode cJ13_copyOf_2 3 = .ok (.if_acmp .ne 10, 3) := dk_166 0 10 (dk_at dksJ13_copyOf_2_0 3 rfl rfl)
theorem dJ13_copyOf_2_6 : decode cJ13_copyOf_2 6 = .ok (.iload_n 1, 1) := dk_27 (dk_at dksJ13_copyOf_2_0 6 rfl rfl)
theorem dJ13_copyOf_2_7 : decode cJ13_copyOf_2 7 = .ok (.anewarray 2, 3) := dk_189 0 2 (dk_at dksJ13_copyOf_2_0 7 rfl rfl)
theorem dJ13_copyOf_2_10 : decode cJ13_copyOf_2 10 = .ok (.goto 14, 3) := dk_167 0 14 (dk_at dksJ13_copyOf_2_0 10 rfl rfl)
theorem dJ13_copyOf_2_13 : decode cJ13_copyOf_2 13 = .ok (.aload_n 2, 1) := dk_44 (dk_at dksJ13_copyOf_2_0 13 rfl rfl)
theorem dJ13_copyOf_2_14 : decode cJ13_copyOf_2 14 = .ok (.invokevirtual 90, 3) := dk_182 0 90 (dk_at dksJ13_copyOf_2_0 14 rfl rfl)
theorem dJ13_copyOf_2_17 : decode cJ13_copyOf_2 17 = .ok (.iload_n 1, 1) := dk_27 (dk_at dksJ13_copyOf_2_0 17 rfl rfl)
theorem dJ13_copyOf_2_18 : decode cJ13_copyOf_2 18 = .ok (.invokestatic 95, 3) := dk_184 0 95 (dk_at dksJ13_copyOf_2_0 18 rfl rfl)
theorem dJ13_copyOf_2_21 : decode cJ13_copyOf_2 21 = .ok (.checkcast 110, 3) := dk_192 0 110 (dk_at dksJ13_copyOf_2_0 21 rfl rfl)
theorem dJ13_copyOf_2_24 : decode cJ13_copyOf_2 24 = .ok (.astore_n 3, 1) := dk_78 (dk_at dksJ13_copyOf_2_1 0 rfl rfl)
theorem dJ13_copyOf_2_25 : decode cJ13_copyOf_2 25 = .ok (.aload_n 0, 1) := dk_42 (dk_at dksJ13_copyOf_2_1 1 rfl rfl)
theorem dJ13_copyOf_2_26 : decode cJ13_copyOf_2 26 = .ok (.iconst 0, 1) := dk_3 (dk_at dksJ13_copyOf_2_1 2 rfl rfl)
theorem dJ13_copyOf_2_27 : decode cJ13_copyOf_2 27 = .ok (.aload_n 3, 1) := dk_45 (dk_at dksJ13_copyOf_2_1 3 rfl rfl)
theorem dJ13_copyOf_2_28 : decode cJ13_copyOf_2 28 = .ok (.iconst 0, 1) := dk_3 (dk_at dksJ13_copyOf_2_1 4 rfl rfl)
theorem dJ13_copyOf_2_29 : decode cJ13_copyOf_2 29 = .ok (.aload_n 0, 1) := dk_42 (dk_at dksJ13_copyOf_2_1 5 rfl rfl)
theorem dJ13_copyOf_2_30 : decode cJ13_copyOf_2 30 = .ok (.arraylength, 1) := dk_190 (dk_at dksJ13_copyOf_2_1 6 rfl rfl)
theorem dJ13_copyOf_2_31 : decode cJ13_copyOf_2 31 = .ok (.iload_n 1, 1) := dk_27 (dk_at dksJ13_copyOf_2_1 7 rfl rfl)
theorem dJ13_copyOf_2_32 : decode cJ13_copyOf_2 32 = .ok (.invokestatic 304, 3) := dk_184 1 48 (dk_at dksJ13_copyOf_2_1 8 rfl rfl)
theorem dJ13_copyOf_2_35 : decode cJ13_copyOf_2 35 = .ok (.invokestatic 150, 3) := dk_184 0 150 (dk_at dksJ13_copyOf_2_1 11 rfl rfl)
theorem dJ13_copyOf_2_38 : decode cJ13_copyOf_2 38 = .ok (.aload_n 3, 1) := dk_45 (dk_at dksJ13_copyOf_2_1 14 rfl rfl)
theorem dJ13_copyOf_2_39 : decode cJ13_copyOf_2 39 = .ok (.areturn, 1) := dk_176 (dk_at dksJ13_copyOf_2_1 15 rfl rfl)
abbrev cJ13_fill : ByteArray := prog_41_method_103_code
def yJ13_fill : MethodName := ⟨RJ13, "fill", "([II)V"⟩
def dkwJ13_fill_0 : List UInt8 := [3, 61, 42, 190, 62, 28, 29, 162, 0, 13, 42, 28, 27, 79, 132, 2, 1, 167, 255, 244, 177]
abbrev dktJ13_fill_0 : List UInt8 := dkwJ13_fill_0 ++ []
theorem dksJ13_fill_0 : cJ13_fill.data.toList.drop 0 = dktJ13_fill_0 := by decide +kernel
theorem dJ13_fill_0 : decode cJ13_fill 0 = .ok (.iconst 0, 1) := dk_3 (dk_at dksJ13_fill_0 0 rfl rfl)
theorem dJ13_fill_1 : decode cJ13_fill 1 = .ok (.istore_n 2, 1) := dk_61 (dk_at dksJ13_fill_0 1 rfl rfl)
theorem dJ13_fill_2 : decode cJ13_fill 2 = .ok (.aload_n 0, 1) := dk_42 (dk_at dksJ13_fill_0 2 rfl rfl)
theorem dJ13_fill_3 : decode cJ13_fill 3 = .ok (.arraylength, 1) := dk_190 (dk_at dksJ13_fill_0 3 rfl rfl)
theorem dJ13_fill_4 : decode cJ13_fill 4 = .ok (.istore_n 3, 1) := dk_62 (dk_at dksJ13_fill_0 4 rfl rfl)
theorem dJ13_fill_5 : decode cJ13_fill 5 = .ok (.iload_n 2, 1) := dk_28 (dk_at dksJ13_fill_0 5 rfl rfl)
theorem dJ13_fill_6 : decode cJ13_fill 6 = .ok (.iload_n 3, 1) := dk_29 (dk_at dksJ13_fill_0 6 rfl rfl)
theorem dJ13_fill_7 : decode cJ13_fill 7 = .ok (.if_icmp .ge 13, 3) := dk_162 0 13 (dk_at dksJ13_fill_0 7 rfl rfl)
theorem dJ13_fill_10 : decode cJ13_fill 10 = .ok (.aload_n 0, 1) := dk_42 (dk_at dksJ13_fill_0 10 rfl rfl)
theorem dJ13_fill_11 : decode cJ13_fill 11 = .ok (.iload_n 2, 1) := dk_28 (dk_at dksJ13_fill_0 11 rfl rfl)
theorem dJ13_fill_12 : decode cJ13_fill 12 = .ok (.iload_n 1, 1) := dk_27 (dk_at dksJ13_fill_0 12 rfl rfl)
theorem dJ13_fill_13 : decode cJ13_fill 13 = .ok (.iastore, 1) := dk_79 (dk_at dksJ13_fill_0 13 rfl rfl)
theorem dJ13_fill_14 : decode cJ13_fill 14 = .ok (.iinc 2 1, 3) := dk_132 2 1 (dk_at dksJ13_fill_0 14 rfl rfl)
theorem dJ13_fill_17 : decode cJ13_fill 17 = .ok (.goto (-12), 3) := dk_167 255 244 (dk_at dksJ13_fill_0 17 rfl rfl)
theorem dJ13_fill_20 : decode cJ13_fill 20 = .ok (.return_, 1) := dk_177 (dk_at dksJ13_fill_0 20 rfl rfl)
abbrev cJ13_fill_2 : ByteArray := prog_41_method_111_code
def yJ13_fill_2 : MethodName := ⟨RJ13, "fill", "([ZZ)V"⟩
def dkwJ13_fill_2_0 : List UInt8 := [3, 61, 42, 190, 62, 28, 29, 162, 0, 13, 42, 28, 27, 84, 132, 2, 1, 167, 255, 244, 177]
abbrev dktJ13_fill_2_0 : List UInt8 := dkwJ13_fill_2_0 ++ []
theorem dksJ13_fill_2_0 : cJ13_fill_2.data.toList.drop 0 = dktJ13_fill_2_0 := by decide +kernel
theorem dJ13_fill_2_0 : decode cJ13_fill_2 0 = .ok (.iconst 0, 1) := dk_3 (dk_at dksJ13_fill_2_0 0 rfl rfl)
theorem dJ13_fill_2_1 : decode cJ13_fill_2 1 = .ok (.istore_n 2, 1) := dk_61 (dk_at dksJ13_fill_2_0 1 rfl rfl)
theorem dJ13_fill_2_2 : decode cJ13_fill_2 2 = .ok (.aload_n 0, 1) := dk_42 (dk_at dksJ13_fill_2_0 2 rfl rfl)
theorem dJ13_fill_2_3 : decode cJ13_fill_2 3 = .ok (.arraylength, 1) := dk_190 (dk_at dksJ13_fill_2_0 3 rfl rfl)
theorem dJ13_fill_2_4 : decode cJ13_fill_2 4 = .ok (.istore_n 3, 1) := dk_62 (dk_at dksJ13_fill_2_0 4 rfl rfl)
theorem dJ13_fill_2_5 : decode cJ13_fill_2 5 = .ok (.iload_n 2, 1) := dk_28 (dk_at dksJ13_fill_2_0 5 rfl rfl)
theorem dJ13_fill_2_6 : decode cJ13_fill_2 6 = .ok (.iload_n 3, 1) := dk_29 (dk_at dksJ13_fill_2_0 6 rfl rfl)
theorem dJ13_fill_2_7 : decode cJ13_fill_2 7 = .ok (.if_icmp .ge 13, 3) := dk_162 0 13 (dk_at dksJ13_fill_2_0 7 rfl rfl)
theorem dJ13_fill_2_10 : decode cJ13_fill_2 10 = .ok (.aload_n 0, 1) := dk_42 (dk_at dksJ13_fill_2_0 10 rfl rfl)
theorem dJ13_fill_2_11 : decode cJ13_fill_2 11 = .ok (.iload_n 2, 1) := dk_28 (dk_at dksJ13_fill_2_0 11 rfl rfl)
theorem dJ13_fill_2_12 : decode cJ13_fill_2 12 = .ok (.iload_n 1, 1) := dk_27 (dk_at dksJ13_fill_2_0 12 rfl rfl)
theorem dJ13_fill_2_13 : decode cJ13_fill_2 13 = .ok (.bastore, 1) := dk_84 (dk_at dksJ13_fill_2_0 13 rfl rfl)
theorem dJ13_fill_2_14 : decode cJ13_fill_2 14 = .ok (.iinc 2 1, 3) := dk_132 2 1 (dk_at dksJ13_fill_2_0 14 rfl rfl)
theorem dJ13_fill_2_17 : decode cJ13_fill_2 17 = .ok (.goto (-12), 3) := dk_167 255 244 (dk_at dksJ13_fill_2_0 17 rfl rfl)
theorem dJ13_fill_2_20 : decode cJ13_fill_2 20 = .ok (.return_, 1) := dk_177 (dk_at dksJ13_fill_2_0 20 rfl rfl)
theorem q152 : (Jvm.Cond.initialized "java/util/Arrays") ∈ lw_all := lw_g (lw_at lw_m1 22 rfl) rfl
theorem q903 : (Jvm.Cond.static ({ cls := "java/util/Arrays", name := "copyOf", desc := "([Ljava/lang/Object;I)[Ljava/lang/Object;" } : Jvm.MethodName)) ∈ lw_all := lw_g (lw_at lw_m4 53 rfl) rfl
theorem q904 : (Jvm.Cond.code ({ cls := "java/util/Arrays", name := "copyOf", desc := "([Ljava/lang/Object;I)[Ljava/lang/Object;" } : Jvm.MethodName) prog_41_method_119_code (2 : Nat) (Option.some (Jvm.ClassFile.FieldType.array (Jvm.ClassFile.FieldType.object "java/lang/Object")))) ∈ lw_all := lw_g (lw_at lw_m4 54 rfl) rfl
theorem q905 : (Jvm.Cond.methodLink "java/util/Arrays" (86 : Nat) ({ cls := "java/lang/Object", name := "getClass", desc := "()Ljava/lang/Class;" } : Jvm.MethodName)) ∈ lw_all := lw_g (lw_at lw_m4 55 rfl) rfl
theorem q931 : (Jvm.Cond.methodLink "java/util/Arrays" (300 : Nat) ({ cls := "java/util/Arrays", name := "copyOf", desc := "([Ljava/lang/Object;ILjava/lang/Class;)[Ljava/lang/Object;" } : Jvm.MethodName)) ∈ lw_all := lw_g (lw_at lw_m4 81 rfl) rfl
theorem q932 : (Jvm.Cond.static ({ cls := "java/util/Arrays", name := "copyOf", desc := "([Ljava/lang/Object;ILjava/lang/Class;)[Ljava/lang/Object;" } : Jvm.MethodName)) ∈ lw_all := lw_g (lw_at lw_m4 82 rfl) rfl
theorem q933 : (Jvm.Cond.code ({ cls := "java/util/Arrays", name := "copyOf", desc := "([Ljava/lang/Object;ILjava/lang/Class;)[Ljava/lang/Object;" } : Jvm.MethodName) prog_41_method_120_code (4 : Nat) (Option.some (Jvm.ClassFile.FieldType.array (Jvm.ClassFile.FieldType.object "java/lang/Object")))) ∈ lw_all := lw_g (lw_at lw_m4 83 rfl) rfl
theorem q934 : (Jvm.Cond.classLink "java/util/Arrays" (110 : Nat) "[Ljava/lang/Object;") ∈ lw_all := lw_g (lw_at lw_m4 84 rfl) rfl
theorem q935 : (Jvm.Cond.classLink "java/util/Arrays" (2 : Nat) "java/lang/Object") ∈ lw_all := lw_g (lw_at lw_m4 85 rfl) rfl
theorem q936 : (Jvm.Cond.methodLink "java/util/Arrays" (304 : Nat) ({ cls := "java/lang/Math", name := "min", desc := "(II)I" } : Jvm.MethodName)) ∈ lw_all := lw_g (lw_at lw_m4 86 rfl) rfl
theorem q937 : (Jvm.Cond.methodLink "java/util/Arrays" (150 : Nat) ({ cls := "java/lang/System", name := "arraycopy", desc := "(Ljava/lang/Object;ILjava/lang/Object;II)V" } : Jvm.MethodName)) ∈ lw_all := lw_g (lw_at lw_m4 87 rfl) rfl
theorem q1110 : (Jvm.Cond.static ({ cls := "java/util/Arrays", name := "fill", desc := "([II)V" } : Jvm.MethodName)) ∈ lw_all := lw_g (lw_at lw_m5 20 rfl) rfl
theorem q1111 : (Jvm.Cond.code ({ cls := "java/util/Arrays", name := "fill", desc := "([II)V" } : Jvm.MethodName) prog_41_method_103_code (4 : Nat) (Option.none : Option Jvm.ClassFile.FieldType)) ∈ lw_all := lw_g (lw_at lw_m5 21 rfl) rfl
theorem q1459 : (Jvm.Cond.static ({ cls := "java/util/Arrays", name := "fill", desc := "([ZZ)V" } : Jvm.MethodName)) ∈ lw_all := lw_g (lw_at lw_m6 129 rfl) rfl
theorem q1460 : (Jvm.Cond.code ({ cls := "java/util/Arrays", name := "fill", desc := "([ZZ)V" } : Jvm.MethodName) prog_41_method_111_code (4 : Nat) (Option.none : Option Jvm.ClassFile.FieldType)) ∈ lw_all := lw_g (lw_at lw_m6 130 rfl) rfl
/-! java/lang/Integer -/
set_option maxRecDepth 100000
def RJ14 : String := "java/lang/Integer"
abbrev cJ14_signum : ByteArray := prog_26_method_56_code
def yJ14_signum : MethodName := ⟨RJ14, "signum", "(I)I"⟩
def dkwJ14_signum_0 : List UInt8 := [26, 16, 31, 122, 26, 116, 16, 31, 124, 128, 172]
abbrev dktJ14_signum_0 : List UInt8 := dkwJ14_signum_0 ++ []
theorem dksJ14_signum_0 : cJ14_signum.data.toList.drop 0 = dktJ14_signum_0 := by decide +kernel
theorem dJ14_signum_0 : decode cJ14_signum 0 = .ok (.iload_n 0, 1) := dk_26 (dk_at dksJ14_signum_0 0 rfl rfl)
theorem dJ14_signum_1 : decode cJ14_signum 1 = .ok (.bipush 31, 2) := dk_16 31 (dk_at dksJ14_signum_0 1 rfl rfl)
theorem dJ14_signum_3 : decode cJ14_signum 3 = .ok (.ishr, 1) := dk_122 (dk_at dksJ14_signum_0 3 rfl rfl)
theorem dJ14_signum_4 : decode cJ14_signum 4 = .ok (.iload_n 0, 1) := dk_26 (dk_at dksJ14_signum_0 4 rfl rfl)
theorem dJ14_signum_5 : decode cJ14_signum 5 = .ok (.ineg, 1) := dk_116 (dk_at dksJ14_signum_0 5 rfl rfl)
theorem dJ14_signum_6 : decode cJ14_signum 6 = .ok (.bipush 31, 2) := dk_16 31 (dk_at dksJ14_signum_0 6 rfl rfl)
theorem dJ14_signum_8 : decode cJ14_signum 8 = .ok (.iushr, 1) := dk_124 (dk_at dksJ14_signum_0 8 rfl rfl)
theorem dJ14_signum_9 : decode cJ14_signum 9 = .ok (.ior, 1) := dk_128 (dk_at dksJ14_signum_0 9 rfl rfl)
theorem dJ14_signum_10 : decode cJ14_signum 10 = .ok (.ireturn, 1) := dk_172 (dk_at dksJ14_signum_0 10 rfl rfl)
abbrev cJ14_numberOfTrailingZeros : ByteArray := prog_26_method_48_code
def yJ14_numberOfTrailingZeros : MethodName := ⟨RJ14, "numberOfTrailingZeros", "(I)I"⟩
def dkwJ14_numberOfTrailingZeros_3 : List UInt8 := [5, 124, 59, 27, 26, 4, 124, 96, 172]
abbrev dktJ14_numberOfTrailingZeros_3 : List UInt8 := dkwJ14_numberOfTrailingZeros_3 ++ []
def dkwJ14_numberOfTrailingZeros_2 : List UInt8 := [124, 59, 26, 16, 16, 164, 0, 10, 132, 1, 4, 26, 7, 124, 59, 26, 7, 164, 0, 10, 132, 1, 2, 26]
abbrev dktJ14_numberOfTrailingZeros_2 : List UInt8 := dkwJ14_numberOfTrailingZeros_2 ++ dktJ14_numberOfTrailingZeros_3
def dkwJ14_numberOfTrailingZeros_1 : List UInt8 := [164, 0, 11, 132, 1, 16, 26, 16, 16, 124, 59, 26, 17, 1, 0, 164, 0, 11, 132, 1, 8, 26, 16, 8]
abbrev dktJ14_numberOfTrailingZeros_1 : List UInt8 := dkwJ14_numberOfTrailingZeros_1 ++ dktJ14_numberOfTrailingZeros_2
def dkwJ14_numberOfTrailingZeros_0 : List UInt8 := [26, 2, 130, 26, 4, 100, 126, 59, 26, 157, 0, 8, 26, 16, 32, 126, 172, 4, 60, 26, 19, 1, 8]
abbrev dktJ14_numberOfTrailingZeros_0 : List UInt8 := dkwJ14_numberOfTrailingZeros_0 ++ dktJ14_numberOfTrailingZeros_1
theorem dksJ14_numberOfTrailingZeros_0 : cJ14_numberOfTrailingZeros.data.toList.drop 0 = dktJ14_numberOfTrailingZeros_0 := by decide +kernel
theorem dksJ14_numberOfTrailingZeros_1 : cJ14_numberOfTrailingZeros.data.toList.drop 23 = dktJ14_numberOfTrailingZeros_1 := dk_seg dksJ14_numberOfTrailingZeros_0 23 rfl rfl
theorem dksJ14_numberOfTrailingZeros_2 : cJ14_numberOfTrailingZeros.data.toList.drop 47 = dktJ14_numberOfTrailingZeros_2 := dk_seg dksJ14_numberOfTrailingZeros_1 24 rfl rfl
theorem dksJ14_numberOfTrailingZeros_3 : cJ14_numberOfTrailingZeros.data.toList.drop 71 = dktJ14_numberOfTrailingZeros_3 := dk_seg dksJ14_numberOfTrailingZeros_2 24 rfl rfl
theorem dJ14_numberOfTrailingZeros_0 : decode cJ14_numberOfTrailingZeros 0 = .ok (.iload_n 0, 1) := dk_26 (dk_at dksJ14_numberOfTrailingZeros_0 0 rfl rfl)
theorem dJ14_numberOfTrailingZeros_1 : decode cJ14_numberOfTrailingZeros 1 = .ok (.iconst (-1), 1) := dk_2 (dk_at dksJ14_numberOfTrailingZeros_0 1 rfl rfl)
theorem dJ14_numberOfTrailingZeros_2 : decode cJ14_numberOfTrailingZeros 2 = .ok (.ixor, 1) := dk_130 (dk_at dksJ14_numberOfTrailingZeros_0 2 rfl rfl)
theorem dJ14_numberOfTrailingZeros_3 : decode cJ14_numberOfTrailingZeros 3 = .ok (.iload_n 0, 1) := dk_26 (dk_at dksJ14_numberOfTrailingZeros_0 3 rfl rfl)
theorem dJ14_numberOfTrailingZeros_4 : decode cJ14_numberOfTrailingZeros 4 = .ok (.iconst 1, 1) := dk_4 (dk_at dksJ14_numberOfTrailingZeros_0 4 rfl rfl)
theorem dJ14_numberOfTrailingZeros_5 : decode cJ14_numberOfTrailingZeros 5 = .ok (.isub, 1) := dk_100 (dk_at dksJ14_numberOfTrailingZeros_0 5 rfl rfl)
theorem dJ14_numberOfTrailingZeros_6 : decode cJ14_numberOfTrailingZeros 6 = .ok (.iand, 1) := dk_126 (dk_at dksJ14_numberOfTrailingZeros_0 6 rfl rfl)
theorem dJ14_numberOfTrailingZeros_7 : decode cJ14_numberOfTrailingZeros 7 = .ok (.istore_n 0, 1) := dk_59 (dk_at dksJ14_numberOfTrailingZeros_0 7 rfl rfl)
theorem dJ14_numberOfTrailingZeros_8 : decode cJ14_numberOfTrailingZeros 8 = .ok (.iload_n 0, 1) := dk_26 (dk_at dksJ14_numberOfTrailingZeros_0 8 rfl rfl)
theorem dJ14_numberOfTrailingZeros_9 : decode cJ14_numberOfTrailingZeros 9 = .ok (.ifCond .gt 8, 3) := dk_157 0 8 (dk_at dksJ14_numberOfTrailingZeros_0 9 rfl rfl)
theorem dJ14_numberOfTrailingZeros_12 : decode cJ14_numberOfTrailingZeros 12 = .ok (.iload_n 0, 1) := dk_26 (dk_at dksJ14_numberOfTrailingZeros_0 12 rfl rfl)
theorem dJ14_numberOfTrailingZeros_13 : decode cJ14_numberOfTrailingZeros 13 = .ok (.bipush 32, 2) := dk_16 32 (dk_at dksJ14_numberOfTrailingZeros_0 13 rfl rfl)
theorem dJ14_numberOfTrailingZeros_15 : decode cJ14_numberOfTrailingZeros 15 = .ok (.iand, 1) := dk_126 (dk_at dksJ14_numberOfTrailingZeros_0 15 rfl rfl)
theorem dJ14_numberOfTrailingZeros_16 : decode cJ14_numberOfTrailingZeros 16 = .ok (.ireturn, 1) := dk_172 (dk_at dksJ14_numberOfTrailingZeros_0 16 rfl rfl)
theorem dJ14_numberOfTrailingZeros_17 : decode cJ14_numberOfTrailingZeros 17 = .ok (.iconst 1, 1) := dk_4 (dk_at dksJ14_numberOfTrailingZeros_0 17 rfl rfl)
theorem dJ14_numberOfTrailingZeros_18 : decode cJ14_numberOfTrailingZeros 18 = .ok (.istore_n 1, 1) := dk_60 (dk_at dksJ14_numberOfTrailingZeros_0 18 rfl rfl)
theorem dJ14_numberOfTrailingZeros_19 : decode cJ14_numberOfTrailingZeros 19 = .ok (.iload_n 0, 1) := dk_26 (dk_at dksJ14_numberOfTrailingZeros_0 19 rfl rfl)
theorem dJ14_numberOfTrailingZeros_20 : decode cJ14_numberOfTrailingZeros 20 = .ok (.ldc_w 264, 3) := dk_19 1 8 (dk_at dksJ14_numberOfTrailingZeros_0 20 rfl rfl)
theorem dJ14_numberOfTrailingZeros_23 : decode cJ14_numberOfTrailingZeros 23 = .ok (.if_icmp .le 11, 3) := dk_164 0 11 (dk_at dksJ14_numberOfTrailingZeros_1 0 rfl rfl)
theorem dJ14_numberOfTrailingZeros_26 : decode cJ14_numberOfTrailingZeros 26 = .ok (.iinc 1 16, 3) := dk_132 1 16 (dk_at dksJ14_numberOfTrailingZeros_1 3 rfl rfl)
theorem dJ14_numberOfTrailingZeros_29 : decode cJ14_numberOfTrailingZeros 29 = .ok (.iload_n 0, 1) := dk_26 (dk_at dksJ14_numberOfTrailingZeros_1 6 rfl rfl)
theorem dJ14_numberOfTrailingZeros_30 : decode cJ14_numberOfTrailingZeros 30 = .ok (.bipush 16, 2) := dk_16 16 (dk_at dksJ14_numberOfTrailingZeros_1 7 rfl rfl)
theorem dJ14_numberOfTrailingZeros_32 : decode cJ14_numberOfTrailingZeros 32 = .ok (.iushr, 1) := dk_124 (dk_at dksJ14_numberOfTrailingZeros_1 9 rfl rfl)
theorem dJ14_numberOfTrailingZeros_33 : decode cJ14_numberOfTrailingZeros 33 = .ok (.istore_n 0, 1) := dk_59 (dk_at dksJ14_numberOfTrailingZeros_1 10 rfl rfl)
theorem dJ14_numberOfTrailingZeros_34 : decode cJ14_numberOfTrailingZeros 34 = .ok (.iload_n 0, 1) := dk_26 (dk_at dksJ14_numberOfTrailingZeros_1 11 rfl rfl)
theorem dJ14_numberOfTrailingZeros_35 : decode cJ14_numberOfTrailingZeros 35 = .ok (.sipush 256, 3) := dk_17 1 0 (dk_at dksJ14_numberOfTrailingZeros_1 12 rfl rfl)
theorem dJ14_numberOfTrailingZeros_38 : decode cJ14_numberOfTrailingZeros 38 = .ok (.if_icmp .le 11, 3) := dk_164 0 11 (dk_at dksJ14_numberOfTrailingZeros_1 15 rfl rfl)
theorem dJ14_numberOfTrailingZeros_41 : decode cJ14_numberOfTrailingZeros 41 = .ok (.iinc 1 8, 3) := dk_132 1 8 (dk_at dksJ14_numberOfTrailingZeros_1 18 rfl rfl)
theorem dJ14_numberOfTrailingZeros_44 : decode cJ14_numberOfTrailingZeros 44 = .ok (.iload_n 0, 1) := dk_26 (dk_at dksJ14_numberOfTrailingZeros_1 21 rfl rfl)
theorem dJ14_numberOfTrailingZeros_45 : decode cJ14_numberOfTrailingZeros 45 = .ok (.bipush 8, 2) := dk_16 8 (dk_at dksJ14_numberOfTrailingZeros_1 22 rfl rfl)
theorem dJ14_numberOfTrailingZeros_47 : decode cJ14_numberOfTrailingZeros 47 = .ok (.iushr, 1) := dk_124 (dk_at dksJ14_numberOfTrailingZeros_2 0 rfl rfl)
theorem dJ14_numberOfTrailingZeros_48 : decode cJ14_numberOfTrailingZeros 48 = .ok (.istore_n 0, 1) := dk_59 (dk_at dksJ14_numberOfTrailingZeros_2 1 rfl rfl)
theorem dJ14_numberOfTrailingZeros_49 : decode cJ14_numberOfTrailingZeros 49 = .ok (.iload_n 0, 1) := dk_26 (dk_at dksJ14_numberOfTrailingZeros_2 2 rfl rfl)
theorem dJ14_numberOfTrailingZeros_50 : decode cJ14_numberOfTrailingZeros 50 = .ok (.bipush 16, 2) := dk_16 16 (dk_at dksJ14_numberOfTrailingZeros_2 3 rfl rfl)
theorem dJ14_numberOfTrailingZeros_52 : decode cJ14_numberOfTrailingZeros 52 = .ok (.if_icmp .le 10, 3) := dk_164 0 10 (dk_at dksJ14_numberOfTrailingZeros_2 5 rfl rfl)
theorem dJ14_numberOfTrailingZeros_55 : decode cJ14_numberOfTrailingZeros 55 = .ok (.iinc 1 4, 3) := dk_132 1 4 (dk_at dksJ14_numberOfTrailingZeros_2 8 rfl rfl)
theorem dJ14_numberOfTrailingZeros_58 : decode cJ14_numberOfTrailingZeros 58 = .ok (.iload_n 0, 1) := dk_26 (dk_at dksJ14_numberOfTrailingZeros_2 11 rfl rfl)
theorem dJ14_numberOfTrailingZeros_59 : decode cJ14_numberOfTrailingZeros 59 = .ok (.iconst 4, 1) := dk_7 (dk_at dksJ14_numberOfTrailingZeros_2 12 rfl rfl)
theorem dJ14_numberOfTrailingZeros_60 : decode cJ14_numberOfTrailingZeros 60 = .ok (.iushr, 1) := dk_124 (dk_at dksJ14_numberOfTrailingZeros_2 13 rfl rfl)
theorem dJ14_numberOfTrailingZeros_61 : decode cJ14_numberOfTrailingZeros 61 = .ok (.istore_n 0, 1) := dk_59 (dk_at dksJ14_numberOfTrailingZeros_2 14 rfl rfl)
theorem dJ14_numberOfTrailingZeros_62 : decode cJ14_numberOfTrailingZeros 62 = .ok (.iload_n 0, 1) := dk_26 (dk_at dksJ14_numberOfTrailingZeros_2 15 rfl rfl)
theorem dJ14_numberOfTrailingZeros_63 : decode cJ14_numberOfTrailingZeros 63 = .ok (.iconst 4, 1) := dk_7 (dk_at dksJ14_numberOfTrailingZeros_2 16 rfl rfl)
theorem dJ14_numberOfTrailingZeros_64 : decode cJ14_numberOfTrailingZeros 64 = .ok (.if_icmp .le 10, 3) := dk_164 0 10 (dk_at dksJ14_numberOfTrailingZeros_2 17 rfl rfl)
theorem dJ14_numberOfTrailingZeros_67 : decode cJ14_numberOfTrailingZeros 67 = .ok (.iinc 1 2, 3) := dk_132 1 2 (dk_at dksJ14_numberOfTrailingZeros_2 20 rfl rfl)
theorem dJ14_numberOfTrailingZeros_70 : decode cJ14_numberOfTrailingZeros 70 = .ok (.iload_n 0, 1) := dk_26 (dk_at dksJ14_numberOfTrailingZeros_2 23 rfl rfl)
theorem dJ14_numberOfTrailingZeros_71 : decode cJ14_numberOfTrailingZeros 71 = .ok (.iconst 2, 1) := dk_5 (dk_at dksJ14_numberOfTrailingZeros_3 0 rfl rfl)
theorem dJ14_numberOfTrailingZeros_72 : decode cJ14_numberOfTrailingZeros 72 = .ok (.iushr, 1) := dk_124 (dk_at dksJ14_numberOfTrailingZeros_3 1 rfl rfl)
theorem dJ14_numberOfTrailingZeros_73 : decode cJ14_numberOfTrailingZeros 73 = .ok (.istore_n 0, 1) := dk_59 (dk_at dksJ14_numberOfTrailingZeros_3 2 rfl rfl)
theorem dJ14_numberOfTrailingZeros_74 : decode cJ14_numberOfTrailingZeros 74 = .ok (.iload_n 1, 1) := dk_27 (dk_at dksJ14_numberOfTrailingZeros_3 3 rfl rfl)
theorem dJ14_numberOfTrailingZeros_75 : decode cJ14_numberOfTrailingZeros 75 = .ok (.iload_n 0, 1) := dk_26 (dk_at dksJ14_numberOfTrailingZeros_3 4 rfl rfl)
theorem dJ14_numberOfTrailingZeros_76 : decode cJ14_numberOfTrailingZeros 76 = .ok (.iconst 1, 1) := dk_4 (dk_at dksJ14_numberOfTrailingZeros_3 5 rfl rfl)
theorem dJ14_numberOfTrailingZeros_77 : decode cJ14_numberOfTrailingZeros 77 = .ok (.iushr, 1) := dk_124 (dk_at dksJ14_numberOfTrailingZeros_3 6 rfl rfl)
theorem dJ14_numberOfTrailingZeros_78 : decode cJ14_numberOfTrailingZeros 78 = .ok (.iadd, 1) := dk_96 (dk_at dksJ14_numberOfTrailingZeros_3 7 rfl rfl)
theorem dJ14_numberOfTrailingZeros_79 : decode cJ14_numberOfTrailingZeros 79 = .ok (.ireturn, 1) := dk_172 (dk_at dksJ14_numberOfTrailingZeros_3 8 rfl rfl)
abbrev cJ14_bitCount : ByteArray := prog_26_method_49_code
def yJ14_bitCount : MethodName := ⟨RJ14, "bitCount", "(I)I"⟩
def dkwJ14_bitCount_2 : List UInt8 := [26, 16, 63, 126, 172]
abbrev dktJ14_bitCount_2 : List UInt8 := dkwJ14_bitCount_2 ++ []
def dkwJ14_bitCount_1 : List UInt8 := [26, 26, 7, 124, 96, 19, 1, 11, 126, 59, 26, 26, 16, 8, 124, 96, 59, 26, 26, 16, 16, 124, 96, 59]
abbrev dktJ14_bitCount_1 : List UInt8 := dkwJ14_bitCount_1 ++ dktJ14_bitCount_2
def dkwJ14_bitCount_0 : List UInt8 := [26, 26, 4, 124, 19, 1, 9, 126, 100, 59, 26, 19, 1, 10, 126, 26, 5, 124, 19, 1, 10, 126, 96, 59]
abbrev dktJ14_bitCount_0 : List UInt8 := dkwJ14_bitCount_0 ++ dktJ14_bitCount_1
theorem dksJ14_bitCount_0 : cJ14_bitCount.data.toList.drop 0 = dktJ14_bitCount_0 := by decide +kernel
theorem dksJ14_bitCount_1 : cJ14_bitCount.data.toList.drop 24 = dktJ14_bitCount_1 := dk_seg dksJ14_bitCount_0 24 rfl rfl
theorem dksJ14_bitCount_2 : cJ14_bitCount.data.toList.drop 48 = dktJ14_bitCount_2 := dk_seg dksJ14_bitCount_1 24 rfl rfl
theorem dJ14_bitCount_0 : decode cJ14_bitCount 0 = .ok (.iload_n 0, 1) := dk_26 (dk_at dksJ14_bitCount_0 0 rfl rfl)
theorem dJ14_bitCount_1 : decode cJ14_bitCount 1 = .ok (.iload_n 0, 1) := dk_26 (dk_at dksJ14_bitCount_0 1 rfl rfl)
theorem dJ14_bitCount_2 : decode cJ14_bitCount 2 = .ok (.iconst 1, 1) := dk_4 (dk_at dksJ14_bitCount_0 2 rfl rfl)
theorem dJ14_bitCount_3 : decode cJ14_bitCount 3 = .ok (.iushr, 1) := dk_124 (dk_at dksJ14_bitCount_0 3 rfl rfl)
theorem dJ14_bitCount_4 : decode cJ14_bitCount 4 = .ok (.ldc_w 265, 3) := dk_19 1 9 (dk_at dksJ14_bitCount_0 4 rfl rfl)
theorem dJ14_bitCount_7 : decode cJ14_bitCount 7 = .ok (.iand, 1) := dk_126 (dk_at dksJ14_bitCount_0 7 rfl rfl)
theorem dJ14_bitCount_8 : decode cJ14_bitCount 8 = .ok (.isub, 1) := dk_100 (dk_at dksJ14_bitCount_0 8 rfl rfl)
theorem dJ14_bitCount_9 : decode cJ14_bitCount 9 = .ok (.istore_n 0, 1) := dk_59 (dk_at dksJ14_bitCount_0 9 rfl rfl)
theorem dJ14_bitCount_10 : decode cJ14_bitCount 10 = .ok (.iload_n 0, 1) := dk_26 (dk_at dksJ14_bitCount_0 10 rfl rfl)
theorem dJ14_bitCount_11 : decode cJ14_bitCount 11 = .ok (.ldc_w 266, 3) := dk_19 1 10 (dk_at dksJ14_bitCount_0 11 rfl rfl)
theorem dJ14_bitCount_14 : decode cJ14_bitCount 14 = .ok (.iand, 1) := dk_126 (dk_at dksJ14_bitCount_0 14 rfl rfl)
theorem dJ14_bitCount_15 : decode cJ14_bitCount 15 = .ok (.iload_n 0, 1) := dk_26 (dk_at dksJ14_bitCount_0 15 rfl rfl)
theorem dJ14_bitCount_16 : decode cJ14_bitCount 16 = .ok (.iconst 2, 1) := dk_5 (dk_at dksJ14_bitCount_0 16 rfl rfl)
theorem dJ14_bitCount_17 : decode cJ14_bitCount 17 = .ok (.iushr, 1) := dk_124 (dk_at dksJ14_bitCount_0 17 rfl rfl)
theorem dJ14_bitCount_18 : decode cJ14_bitCount 18 = .ok (.ldc_w 266, 3) := dk_19 1 10 (dk_at dksJ14_bitCount_0 18 rfl rfl)
theorem dJ14_bitCount_21 : decode cJ14_bitCount 21 = .ok (.iand, 1) := dk_126 (dk_at dksJ14_bitCount_0 21 rfl rfl)
theorem dJ14_bitCount_22 : decode cJ14_bitCount 22 = .ok (.iadd, 1) := dk_96 (dk_at dksJ14_bitCount_0 22 rfl rfl)
theorem dJ14_bitCount_23 : decode cJ14_bitCount 23 = .ok (.istore_n 0, 1) := dk_59 (dk_at dksJ14_bitCount_0 23 rfl rfl)
theorem dJ14_bitCount_24 : decode cJ14_bitCount 24 = .ok (.iload_n 0, 1) := dk_26 (dk_at dksJ14_bitCount_1 0 rfl rfl)
theorem dJ14_bitCount_25 : decode cJ14_bitCount 25 = .ok (.iload_n 0, 1) := dk_26 (dk_at dksJ14_bitCount_1 1 rfl rfl)
theorem dJ14_bitCount_26 : decode cJ14_bitCount 26 = .ok (.iconst 4, 1) := dk_7 (dk_at dksJ14_bitCount_1 2 rfl rfl)
theorem dJ14_bitCount_27 : decode cJ14_bitCount 27 = .ok (.iushr, 1) := dk_124 (dk_at dksJ14_bitCount_1 3 rfl rfl)
theorem dJ14_bitCount_28 : decode cJ14_bitCount 28 = .ok (.iadd, 1) := dk_96 (dk_at dksJ14_bitCount_1 4 rfl rfl)
theorem dJ14_bitCount_29 : decode cJ14_bitCount 29 = .ok (.ldc_w 267, 3) := dk_19 1 11 (dk_at dksJ14_bitCount_1 5 rfl rfl)
theorem dJ14_bitCount_32 : decode cJ14_bitCount 32 = .ok (.iand, 1) := dk_126 (dk_at dksJ14_bitCount_1 8 rfl rfl)
theorem dJ14_bitCount_33 : decode cJ14_bitCount 33 = .ok (.istore_n 0, 1) := dk_59 (dk_at dksJ14_bitCount_1 9 rfl rfl)
theorem dJ14_bitCount_34 : decode cJ14_bitCount 34 = .ok (.iload_n 0, 1) := dk_26 (dk_at dksJ14_bitCount_1 10 rfl rfl)
theorem dJ14_bitCount_35 : decode cJ14_bitCount 35 = .ok (.iload_n 0, 1) := dk_26 (dk_at dksJ14_bitCount_1 11 rfl rfl)
theorem dJ14_bitCount_36 : decode cJ14_bitCount 36 = .ok (.bipush 8, 2) := dk_16 8 (dk_at dksJ14_bitCount_1 12 rfl rfl)
theorem dJ14_bitCount_38 : decode cJ14_bitCount 38 = .ok (.iushr, 1) := dk_124 (dk_at dksJ14_bitCount_1 14 rfl rfl)
theorem dJ14_bitCount_39 : decode cJ14_bitCount 39 = .ok (.iadd, 1) := dk_96 (dk_at dksJ14_bitCount_1 15 rfl rfl)
theorem dJ14_bitCount_40 : decode cJ14_bitCount 40 = .ok (.istore_n 0, 1) := dk_59 (dk_at dksJ14_bitCount_1 16 rfl rfl)
theorem dJ14_bitCount_41 : decode cJ14_bitCount 41 = .ok (.iload_n 0, 1) := dk_26 (dk_at dksJ14_bitCount_1 17 rfl rfl)
theorem dJ14_bitCount_42 : decode cJ14_bitCount 42 = .ok (.iload_n 0, 1) := dk_26 (dk_at dksJ14_bitCount_1 18 rfl rfl)
theorem dJ14_bitCount_43 : decode cJ14_bitCount 43 = .ok (.bipush 16, 2) := dk_16 16 (dk_at dksJ14_bitCount_1 19 rfl rfl)
theorem dJ14_bitCount_45 : decode cJ14_bitCount 45 = .ok (.iushr, 1) := dk_124 (dk_at dksJ14_bitCount_1 21 rfl rfl)
theorem dJ14_bitCount_46 : decode cJ14_bitCount 46 = .ok (.iadd, 1) := dk_96 (dk_at dksJ14_bitCount_1 22 rfl rfl)
theorem dJ14_bitCount_47 : decode cJ14_bitCount 47 = .ok (.istore_n 0, 1) := dk_59 (dk_at dksJ14_bitCount_1 23 rfl rfl)
theorem dJ14_bitCount_48 : decode cJ14_bitCount 48 = .ok (.iload_n 0, 1) := dk_26 (dk_at dksJ14_bitCount_2 0 rfl rfl)
theorem dJ14_bitCount_49 : decode cJ14_bitCount 49 = .ok (.bipush 63, 2) := dk_16 63 (dk_at dksJ14_bitCount_2 1 rfl rfl)
theorem dJ14_bitCount_51 : decode cJ14_bitCount 51 = .ok (.iand, 1) := dk_126 (dk_at dksJ14_bitCount_2 3 rfl rfl)
theorem dJ14_bitCount_52 : decode cJ14_bitCount 52 = .ok (.ireturn, 1) := dk_172 (dk_at dksJ14_bitCount_2 4 rfl rfl)
theorem q162 : (Jvm.Cond.initialized "java/lang/Integer") ∈ lw_all := lw_g (lw_at lw_m1 32 rfl) rfl
theorem q1178 : (Jvm.Cond.static ({ cls := "java/lang/Integer", name := "signum", desc := "(I)I" } : Jvm.MethodName)) ∈ lw_all := lw_g (lw_at lw_m5 88 rfl) rfl
theorem q1179 : (Jvm.Cond.code ({ cls := "java/lang/Integer", name := "signum", desc := "(I)I" } : Jvm.MethodName) prog_26_method_56_code (1 : Nat) (Option.some Jvm.ClassFile.FieldType.int)) ∈ lw_all := lw_g (lw_at lw_m5 89 rfl) rfl
theorem q1284 : (Jvm.Cond.static ({ cls := "java/lang/Integer", name := "numberOfTrailingZeros", desc := "(I)I" } : Jvm.MethodName)) ∈ lw_all := lw_g (lw_at lw_m5 194 rfl) rfl
theorem q1285 : (Jvm.Cond.code ({ cls := "java/lang/Integer", name := "numberOfTrailingZeros", desc := "(I)I" } : Jvm.MethodName) prog_26_method_48_code (2 : Nat) (Option.some Jvm.ClassFile.FieldType.int)) ∈ lw_all := lw_g (lw_at lw_m5 195 rfl) rfl
theorem q1286 : (Jvm.Cond.constant "java/lang/Integer" (264 : Nat) (65536 : Int32)) ∈ lw_all := lw_g (lw_at lw_m5 196 rfl) rfl
theorem q1427 : (Jvm.Cond.static ({ cls := "java/lang/Integer", name := "bitCount", desc := "(I)I" } : Jvm.MethodName)) ∈ lw_all := lw_g (lw_at lw_m6 97 rfl) rfl
theorem q1428 : (Jvm.Cond.code ({ cls := "java/lang/Integer", name := "bitCount", desc := "(I)I" } : Jvm.MethodName) prog_26_method_49_code (1 : Nat) (Option.some Jvm.ClassFile.FieldType.int)) ∈ lw_all := lw_g (lw_at lw_m6 98 rfl) rfl
theorem q1429 : (Jvm.Cond.constant "java/lang/Integer" (265 : Nat) (1431655765 : Int32)) ∈ lw_all := lw_g (lw_at lw_m6 99 rfl) rfl
theorem q1430 : (Jvm.Cond.constant "java/lang/Integer" (266 : Nat) (858993459 : Int32)) ∈ lw_all := lw_g (lw_at lw_m6 100 rfl) rfl
theorem q1431 : (Jvm.Cond.constant "java/lang/Integer" (267 : Nat) (252645135 : Int32)) ∈ lw_all := lw_g (lw_at lw_m6 101 rfl) rfl
/-! java/lang/Long -/
set_option maxRecDepth 100000
def RJ15 : String := "java/lang/Long"
abbrev cJ15_bitCount : ByteArray := prog_28_method_50_code
def yJ15_bitCount : MethodName := ⟨RJ15, "bitCount", "(J)I"⟩
def dkwJ15_bitCount_2 : List UInt8 := [30, 30, 16, 32, 125, 97, 63, 30, 136, 16, 127, 126, 172]
abbrev dktJ15_bitCount_2 : List UInt8 := dkwJ15_bitCount_2 ++ []
def dkwJ15_bitCount_1 : List UInt8 := [30, 30, 7, 125, 97, 20, 1, 62, 127, 63, 30, 30, 16, 8, 125, 97, 63, 30, 30, 16, 16, 125, 97, 63]
abbrev dktJ15_bitCount_1 : List UInt8 := dkwJ15_bitCount_1 ++ dktJ15_bitCount_2
def dkwJ15_bitCount_0 : List UInt8 := [30, 30, 4, 125, 20, 1, 58, 127, 101, 63, 30, 20, 1, 60, 127, 30, 5, 125, 20, 1, 60, 127, 97, 63]
abbrev dktJ15_bitCount_0 : List UInt8 := dkwJ15_bitCount_0 ++ dktJ15_bitCount_1
theorem dksJ15_bitCount_0 : cJ15_bitCount.data.toList.drop 0 = dktJ15_bitCount_0 := by decide +kernel
theorem dksJ15_bitCount_1 : cJ15_bitCount.data.toList.drop 24 = dktJ15_bitCount_1 := dk_seg dksJ15_bitCount_0 24 rfl rfl
theorem dksJ15_bitCount_2 : cJ15_bitCount.data.toList.drop 48 = dktJ15_bitCount_2 := dk_seg dksJ15_bitCount_1 24 rfl rfl
theorem dJ15_bitCount_0 : decode cJ15_bitCount 0 = .ok (.lload_n 0, 1) := dk_30 (dk_at dksJ15_bitCount_0 0 rfl rfl)
theorem dJ15_bitCount_1 : decode cJ15_bitCount 1 = .ok (.lload_n 0, 1) := dk_30 (dk_at dksJ15_bitCount_0 1 rfl rfl)
theorem dJ15_bitCount_2 : decode cJ15_bitCount 2 = .ok (.iconst 1, 1) := dk_4 (dk_at dksJ15_bitCount_0 2 rfl rfl)
theorem dJ15_bitCount_3 : decode cJ15_bitCount 3 = .ok (.lushr, 1) := dk_125 (dk_at dksJ15_bitCount_0 3 rfl rfl)
theorem dJ15_bitCount_4 : decode cJ15_bitCount 4 = .ok (.ldc2_w 314, 3) := dk_20 1 58 (dk_at dksJ15_bitCount_0 4 rfl rfl)
theorem dJ15_bitCount_7 : decode cJ15_bitCount 7 = .ok (.land, 1) := dk_127 (dk_at dksJ15_bitCount_0 7 rfl rfl)
theorem dJ15_bitCount_8 : decode cJ15_bitCount 8 = .ok (.lsub, 1) := dk_101 (dk_at dksJ15_bitCount_0 8 rfl rfl)
theorem dJ15_bitCount_9 : decode cJ15_bitCount 9 = .ok (.lstore_n 0, 1) := dk_63 (dk_at dksJ15_bitCount_0 9 rfl rfl)
theorem dJ15_bitCount_10 : decode cJ15_bitCount 10 = .ok (.lload_n 0, 1) := dk_30 (dk_at dksJ15_bitCount_0 10 rfl rfl)
theorem dJ15_bitCount_11 : decode cJ15_bitCount 11 = .ok (.ldc2_w 316, 3) := dk_20 1 60 (dk_at dksJ15_bitCount_0 11 rfl rfl)
theorem dJ15_bitCount_14 : decode cJ15_bitCount 14 = .ok (.land, 1) := dk_127 (dk_at dksJ15_bitCount_0 14 rfl rfl)
theorem dJ15_bitCount_15 : decode cJ15_bitCount 15 = .ok (.lload_n 0, 1) := dk_30 (dk_at dksJ15_bitCount_0 15 rfl rfl)
theorem dJ15_bitCount_16 : decode cJ15_bitCount 16 = .ok (.iconst 2, 1) := dk_5 (dk_at dksJ15_bitCount_0 16 rfl rfl)
theorem dJ15_bitCount_17 : decode cJ15_bitCount 17 = .ok (.lushr, 1) := dk_125 (dk_at dksJ15_bitCount_0 17 rfl rfl)
theorem dJ15_bitCount_18 : decode cJ15_bitCount 18 = .ok (.ldc2_w 316, 3) := dk_20 1 60 (dk_at dksJ15_bitCount_0 18 rfl rfl)
theorem dJ15_bitCount_21 : decode cJ15_bitCount 21 = .ok (.land, 1) := dk_127 (dk_at dksJ15_bitCount_0 21 rfl rfl)
theorem dJ15_bitCount_22 : decode cJ15_bitCount 22 = .ok (.ladd, 1) := dk_97 (dk_at dksJ15_bitCount_0 22 rfl rfl)
theorem dJ15_bitCount_23 : decode cJ15_bitCount 23 = .ok (.lstore_n 0, 1) := dk_63 (dk_at dksJ15_bitCount_0 23 rfl rfl)
theorem dJ15_bitCount_24 : decode cJ15_bitCount 24 = .ok (.lload_n 0, 1) := dk_30 (dk_at dksJ15_bitCount_1 0 rfl rfl)
theorem dJ15_bitCount_25 : decode cJ15_bitCount 25 = .ok (.lload_n 0, 1) := dk_30 (dk_at dksJ15_bitCount_1 1 rfl rfl)
theorem dJ15_bitCount_26 : decode cJ15_bitCount 26 = .ok (.iconst 4, 1) := dk_7 (dk_at dksJ15_bitCount_1 2 rfl rfl)
theorem dJ15_bitCount_27 : decode cJ15_bitCount 27 = .ok (.lushr, 1) := dk_125 (dk_at dksJ15_bitCount_1 3 rfl rfl)
theorem dJ15_bitCount_28 : decode cJ15_bitCount 28 = .ok (.ladd, 1) := dk_97 (dk_at dksJ15_bitCount_1 4 rfl rfl)
theorem dJ15_bitCount_29 : decode cJ15_bitCount 29 = .ok (.ldc2_w 318, 3) := dk_20 1 62 (dk_at dksJ15_bitCount_1 5 rfl rfl)
theorem dJ15_bitCount_32 : decode cJ15_bitCount 32 = .ok (.land, 1) := dk_127 (dk_at dksJ15_bitCount_1 8 rfl rfl)
theorem dJ15_bitCount_33 : decode cJ15_bitCount 33 = .ok (.lstore_n 0, 1) := dk_63 (dk_at dksJ15_bitCount_1 9 rfl rfl)
theorem dJ15_bitCount_34 : decode cJ15_bitCount 34 = .ok (.lload_n 0, 1) := dk_30 (dk_at dksJ15_bitCount_1 10 rfl rfl)
theorem dJ15_bitCount_35 : decode cJ15_bitCount 35 = .ok (.lload_n 0, 1) := dk_30 (dk_at dksJ15_bitCount_1 11 rfl rfl)
theorem dJ15_bitCount_36 : decode cJ15_bitCount 36 = .ok (.bipush 8, 2) := dk_16 8 (dk_at dksJ15_bitCount_1 12 rfl rfl)
theorem dJ15_bitCount_38 : decode cJ15_bitCount 38 = .ok (.lushr, 1) := dk_125 (dk_at dksJ15_bitCount_1 14 rfl rfl)
theorem dJ15_bitCount_39 : decode cJ15_bitCount 39 = .ok (.ladd, 1) := dk_97 (dk_at dksJ15_bitCount_1 15 rfl rfl)
theorem dJ15_bitCount_40 : decode cJ15_bitCount 40 = .ok (.lstore_n 0, 1) := dk_63 (dk_at dksJ15_bitCount_1 16 rfl rfl)
theorem dJ15_bitCount_41 : decode cJ15_bitCount 41 = .ok (.lload_n 0, 1) := dk_30 (dk_at dksJ15_bitCount_1 17 rfl rfl)
theorem dJ15_bitCount_42 : decode cJ15_bitCount 42 = .ok (.lload_n 0, 1) := dk_30 (dk_at dksJ15_bitCount_1 18 rfl rfl)
theorem dJ15_bitCount_43 : decode cJ15_bitCount 43 = .ok (.bipush 16, 2) := dk_16 16 (dk_at dksJ15_bitCount_1 19 rfl rfl)
theorem dJ15_bitCount_45 : decode cJ15_bitCount 45 = .ok (.lushr, 1) := dk_125 (dk_at dksJ15_bitCount_1 21 rfl rfl)
theorem dJ15_bitCount_46 : decode cJ15_bitCount 46 = .ok (.ladd, 1) := dk_97 (dk_at dksJ15_bitCount_1 22 rfl rfl)
theorem dJ15_bitCount_47 : decode cJ15_bitCount 47 = .ok (.lstore_n 0, 1) := dk_63 (dk_at dksJ15_bitCount_1 23 rfl rfl)
theorem dJ15_bitCount_48 : decode cJ15_bitCount 48 = .ok (.lload_n 0, 1) := dk_30 (dk_at dksJ15_bitCount_2 0 rfl rfl)
theorem dJ15_bitCount_49 : decode cJ15_bitCount 49 = .ok (.lload_n 0, 1) := dk_30 (dk_at dksJ15_bitCount_2 1 rfl rfl)
theorem dJ15_bitCount_50 : decode cJ15_bitCount 50 = .ok (.bipush 32, 2) := dk_16 32 (dk_at dksJ15_bitCount_2 2 rfl rfl)
theorem dJ15_bitCount_52 : decode cJ15_bitCount 52 = .ok (.lushr, 1) := dk_125 (dk_at dksJ15_bitCount_2 4 rfl rfl)
theorem dJ15_bitCount_53 : decode cJ15_bitCount 53 = .ok (.ladd, 1) := dk_97 (dk_at dksJ15_bitCount_2 5 rfl rfl)
theorem dJ15_bitCount_54 : decode cJ15_bitCount 54 = .ok (.lstore_n 0, 1) := dk_63 (dk_at dksJ15_bitCount_2 6 rfl rfl)
theorem dJ15_bitCount_55 : decode cJ15_bitCount 55 = .ok (.lload_n 0, 1) := dk_30 (dk_at dksJ15_bitCount_2 7 rfl rfl)
theorem dJ15_bitCount_56 : decode cJ15_bitCount 56 = .ok (.l2i, 1) := dk_136 (dk_at dksJ15_bitCount_2 8 rfl rfl)
theorem dJ15_bitCount_57 : decode cJ15_bitCount 57 = .ok (.bipush 127, 2) := dk_16 127 (dk_at dksJ15_bitCount_2 9 rfl rfl)
theorem dJ15_bitCount_59 : decode cJ15_bitCount 59 = .ok (.iand, 1) := dk_126 (dk_at dksJ15_bitCount_2 11 rfl rfl)
theorem dJ15_bitCount_60 : decode cJ15_bitCount 60 = .ok (.ireturn, 1) := dk_172 (dk_at dksJ15_bitCount_2 12 rfl rfl)
theorem q164 : (Jvm.Cond.initialized "java/lang/Long") ∈ lw_all := lw_g (lw_at lw_m1 34 rfl) rfl
theorem q1521 : (Jvm.Cond.static ({ cls := "java/lang/Long", name := "bitCount", desc := "(J)I" } : Jvm.MethodName)) ∈ lw_all := lw_g (lw_at lw_m6 191 rfl) rfl
theorem q1522 : (Jvm.Cond.code ({ cls := "java/lang/Long", name := "bitCount", desc := "(J)I" } : Jvm.MethodName) prog_28_method_50_code (2 : Nat) (Option.some Jvm.ClassFile.FieldType.int)) ∈ lw_all := lw_g (lw_at lw_m6 192 rfl) rfl
theorem q1523 : (Jvm.Cond.constantLong "java/lang/Long" (314 : Nat) (6148914691236517205 : Int64)) ∈ lw_all := lw_g (lw_at lw_m6 193 rfl) rfl
theorem q1524 : (Jvm.Cond.constantLong "java/lang/Long" (316 : Nat) (3689348814741910323 : Int64)) ∈ lw_all := lw_g (lw_at lw_m6 194 rfl) rfl
theorem q1525 : (Jvm.Cond.constantLong "java/lang/Long" (318 : Nat) (1085102592571150095 : Int64)) ∈ lw_all := lw_g (lw_at lw_m6 195 rfl) rfl
/-! java/lang/NegativeArraySizeException -/
set_option maxRecDepth 100000
def RJ16 : String := "java/lang/NegativeArraySizeException"
def TJ16 : u_T := fun k => match k with
  | 0 => ("java/lang/Throwable", "backtrace", "Ljava/lang/Object;", false)
  | 1 => ("java/lang/Throwable", "detailMessage", "Ljava/lang/String;", false)
  | 2 => ("java/lang/Throwable", "cause", "Ljava/lang/Throwable;", false)
  | 3 => ("java/lang/Throwable", "stackTrace", "[Ljava/lang/StackTraceElement;", false)
  | 4 => ("java/lang/Throwable", "depth", "I", false)
  | _ => ("java/lang/Throwable", "suppressedExceptions", "Ljava/util/List;", false)
def tyJ16 : Nat → FieldType := fun k => match k with
  | 0 => .object "java/lang/Object"
  | 1 => .object "java/lang/String"
  | 2 => .object "java/lang/Throwable"
  | 3 => .array (.object "java/lang/StackTraceElement")
  | 4 => .int
  | _ => .object "java/util/List"
abbrev wsJ160 : List Cond := u_ws RJ16 TJ16 6
theorem nmJ16 : ∀ a, a < 6 → ∀ b, b < 6 → a ≠ b → (TJ16 a).2.1 ≠ (TJ16 b).2.1 := by decide +kernel
theorem tyJ16_ok : ∀ k, k < 6 → parseFieldDescriptor (TJ16 k).2.2.1 = some (tyJ16 k) := by decide +kernel
abbrev cJ16_init : ByteArray := prog_30_method_2_code
def yJ16_init : MethodName := ⟨RJ16, "<init>", "(Ljava/lang/String;)V"⟩
def dkwJ16_init_0 : List UInt8 := [42, 43, 183, 0, 7, 177]
abbrev dktJ16_init_0 : List UInt8 := dkwJ16_init_0 ++ []
theorem dksJ16_init_0 : cJ16_init.data.toList.drop 0 = dktJ16_init_0 := by decide +kernel
theorem dJ16_init_0 : decode cJ16_init 0 = .ok (.aload_n 0, 1) := dk_42 (dk_at dksJ16_init_0 0 rfl rfl)
theorem dJ16_init_1 : decode cJ16_init 1 = .ok (.aload_n 1, 1) := dk_43 (dk_at dksJ16_init_0 1 rfl rfl)
theorem dJ16_init_2 : decode cJ16_init 2 = .ok (.invokespecial 7, 3) := dk_183 0 7 (dk_at dksJ16_init_0 2 rfl rfl)
theorem dJ16_init_5 : decode cJ16_init 5 = .ok (.return_, 1) := dk_177 (dk_at dksJ16_init_0 5 rfl rfl)
theorem q166 : (Jvm.Cond.initialized "java/lang/NegativeArraySizeException") ∈ lw_all := lw_g (lw_at lw_m1 36 rfl) rfl
theorem q187 : (Jvm.Cond.instantiable "java/lang/NegativeArraySizeException" (6 : Nat)) ∈ lw_all := lw_g (lw_at lw_m1 57 rfl) rfl
theorem q188 : (Jvm.Cond.instanceMethod ({ cls := "java/lang/NegativeArraySizeException", name := "<init>", desc := "(Ljava/lang/String;)V" } : Jvm.MethodName)) ∈ lw_all := lw_g (lw_at lw_m1 58 rfl) rfl
theorem q189 : (Jvm.Cond.code ({ cls := "java/lang/NegativeArraySizeException", name := "<init>", desc := "(Ljava/lang/String;)V" } : Jvm.MethodName) prog_30_method_2_code (2 : Nat) (Option.none : Option Jvm.ClassFile.FieldType)) ∈ lw_all := lw_g (lw_at lw_m1 59 rfl) rfl
theorem q190 : (Jvm.Cond.methodLink "java/lang/NegativeArraySizeException" (7 : Nat) ({ cls := "java/lang/RuntimeException", name := "<init>", desc := "(Ljava/lang/String;)V" } : Jvm.MethodName)) ∈ lw_all := lw_g (lw_at lw_m1 60 rfl) rfl
theorem q212 : (Jvm.Cond.selects "java/lang/NegativeArraySizeException" ({ cls := "java/lang/Throwable", name := "fillInStackTrace", desc := "()Ljava/lang/Throwable;" } : Jvm.MethodName) ({ cls := "java/lang/Throwable", name := "fillInStackTrace", desc := "()Ljava/lang/Throwable;" } : Jvm.MethodName)) ∈ lw_all := lw_g (lw_at lw_m1 82 rfl) rfl
theorem q238 : (Jvm.Cond.lays "java/lang/NegativeArraySizeException" "java/lang/Throwable" "backtrace" "Ljava/lang/Object;") ∈ lw_all := lw_g (lw_at lw_m1 108 rfl) rfl
theorem q240 : (Jvm.Cond.lays "java/lang/NegativeArraySizeException" "java/lang/Throwable" "detailMessage" "Ljava/lang/String;") ∈ lw_all := lw_g (lw_at lw_m1 110 rfl) rfl
theorem q242 : (Jvm.Cond.lays "java/lang/NegativeArraySizeException" "java/lang/Throwable" "cause" "Ljava/lang/Throwable;") ∈ lw_all := lw_g (lw_at lw_m1 112 rfl) rfl
theorem q244 : (Jvm.Cond.lays "java/lang/NegativeArraySizeException" "java/lang/Throwable" "stackTrace" "[Ljava/lang/StackTraceElement;") ∈ lw_all := lw_g (lw_at lw_m1 114 rfl) rfl
theorem q246 : (Jvm.Cond.lays "java/lang/NegativeArraySizeException" "java/lang/Throwable" "depth" "I") ∈ lw_all := lw_g (lw_at lw_m1 116 rfl) rfl
theorem q248 : (Jvm.Cond.lays "java/lang/NegativeArraySizeException" "java/lang/Throwable" "suppressedExceptions" "Ljava/util/List;") ∈ lw_all := lw_g (lw_at lw_m1 118 rfl) rfl
theorem q250 : (Jvm.Cond.superclass "java/lang/NegativeArraySizeException" "java/lang/RuntimeException") ∈ lw_all := lw_g (lw_at lw_m1 120 rfl) rfl
theorem q251 : (Jvm.Cond.castable "java/lang/NegativeArraySizeException" "java/lang/NegativeArraySizeException") ∈ lw_tbl := lw_at lw_m1 121 rfl
theorem q258 : (Jvm.Cond.selects "java/lang/NegativeArraySizeException" ({ cls := "java/lang/Throwable", name := "fillInStackTrace", desc := "(I)Ljava/lang/Throwable;" } : Jvm.MethodName) ({ cls := "java/lang/Throwable", name := "fillInStackTrace", desc := "(I)Ljava/lang/Throwable;" } : Jvm.MethodName)) ∈ lw_all := lw_g (lw_at lw_m1 128 rfl) rfl
theorem q927 : (Jvm.Cond.selects "java/lang/NegativeArraySizeException" ({ cls := "java/lang/Object", name := "getClass", desc := "()Ljava/lang/Class;" } : Jvm.MethodName) ({ cls := "java/lang/Object", name := "getClass", desc := "()Ljava/lang/Class;" } : Jvm.MethodName)) ∈ lw_all := lw_g (lw_at lw_m4 77 rfl) rfl
theorem q2328 : (Jvm.Cond.castable "java/lang/NegativeArraySizeException" "java/lang/Object") ∈ lw_tbl := lw_at lw_m10 38 rfl
theorem in_J16 : ∀ w ∈ wsJ160, w ∈ lw_all := lw_in wsJ160 [238, 240, 242, 244, 246, 248] (by decide +kernel) (by decide +kernel)
/-! java/lang/NullPointerException -/
set_option maxRecDepth 100000
def RJ17 : String := "java/lang/NullPointerException"
def TJ17 : u_T := fun k => match k with
  | 0 => ("java/lang/Throwable", "backtrace", "Ljava/lang/Object;", false)
  | 1 => ("java/lang/Throwable", "detailMessage", "Ljava/lang/String;", false)
  | 2 => ("java/lang/Throwable", "cause", "Ljava/lang/Throwable;", false)
  | 3 => ("java/lang/Throwable", "stackTrace", "[Ljava/lang/StackTraceElement;", false)
  | 4 => ("java/lang/Throwable", "depth", "I", false)
  | 5 => ("java/lang/Throwable", "suppressedExceptions", "Ljava/util/List;", false)
  | 6 => ("java/lang/NullPointerException", "extendedMessageState", "I", false)
  | _ => ("java/lang/NullPointerException", "extendedMessage", "Ljava/lang/String;", false)
def tyJ17 : Nat → FieldType := fun k => match k with
  | 0 => .object "java/lang/Object"
  | 1 => .object "java/lang/String"
  | 2 => .object "java/lang/Throwable"
  | 3 => .array (.object "java/lang/StackTraceElement")
  | 4 => .int
  | 5 => .object "java/util/List"
  | 6 => .int
  | _ => .object "java/lang/String"
abbrev wsJ170 : List Cond := u_ws RJ17 TJ17 8
theorem nmJ17 : ∀ a, a < 8 → ∀ b, b < 8 → a ≠ b → (TJ17 a).2.1 ≠ (TJ17 b).2.1 := by decide +kernel
theorem tyJ17_ok : ∀ k, k < 8 → parseFieldDescriptor (TJ17 k).2.2.1 = some (tyJ17 k) := by decide +kernel
abbrev cJ17_init : ByteArray := prog_31_method_1_code
def yJ17_init : MethodName := ⟨RJ17, "<init>", "()V"⟩
theorem dJ17_init_0 : decode cJ17_init 0 = .ok (.aload_n 0, 1) := by decide +kernel
theorem dJ17_init_1 : decode cJ17_init 1 = .ok (.invokespecial 1, 3) := by decide +kernel
theorem dJ17_init_4 : decode cJ17_init 4 = .ok (.return_, 1) := by decide +kernel
theorem q167 : (Jvm.Cond.initialized "java/lang/NullPointerException") ∈ lw_all := lw_g (lw_at lw_m1 37 rfl) rfl
theorem q213 : (Jvm.Cond.selects "java/lang/NullPointerException" ({ cls := "java/lang/Throwable", name := "fillInStackTrace", desc := "()Ljava/lang/Throwable;" } : Jvm.MethodName) ({ cls := "java/lang/NullPointerException", name := "fillInStackTrace", desc := "()Ljava/lang/Throwable;" } : Jvm.MethodName)) ∈ lw_all := lw_g (lw_at lw_m1 83 rfl) rfl
theorem q214 : (Jvm.Cond.instanceMethod ({ cls := "java/lang/NullPointerException", name := "fillInStackTrace", desc := "()Ljava/lang/Throwable;" } : Jvm.MethodName)) ∈ lw_all := lw_g (lw_at lw_m1 84 rfl) rfl
theorem q215 : (Jvm.Cond.codeSync ({ cls := "java/lang/NullPointerException", name := "fillInStackTrace", desc := "()Ljava/lang/Throwable;" } : Jvm.MethodName) prog_31_method_3_code (1 : Nat) (Option.some (Jvm.ClassFile.FieldType.object "java/lang/Throwable"))) ∈ lw_all := lw_g (lw_at lw_m1 85 rfl) rfl
theorem q216 : (Jvm.Cond.methodLink "java/lang/NullPointerException" (16 : Nat) ({ cls := "java/lang/NullPointerException", name := "getExtendedNPEMessage", desc := "()Ljava/lang/String;" } : Jvm.MethodName)) ∈ lw_all := lw_g (lw_at lw_m1 86 rfl) rfl
theorem q217 : (Jvm.Cond.privateMethod ({ cls := "java/lang/NullPointerException", name := "getExtendedNPEMessage", desc := "()Ljava/lang/String;" } : Jvm.MethodName)) ∈ lw_tbl := lw_at lw_m1 87 rfl
theorem q218 : (Jvm.Cond.instanceMethod ({ cls := "java/lang/NullPointerException", name := "getExtendedNPEMessage", desc := "()Ljava/lang/String;" } : Jvm.MethodName)) ∈ lw_all := lw_g (lw_at lw_m1 88 rfl) rfl
theorem q219 : (Jvm.Cond.instantiable "java/lang/NullPointerException" (8 : Nat)) ∈ lw_all := lw_g (lw_at lw_m1 89 rfl) rfl
theorem q220 : (Jvm.Cond.native ({ cls := "java/lang/NullPointerException", name := "getExtendedNPEMessage", desc := "()Ljava/lang/String;" } : Jvm.MethodName)) ∈ lw_all := lw_g (lw_at lw_m1 90 rfl) rfl
theorem q221 : (Jvm.Cond.methodLink "java/lang/NullPointerException" (24 : Nat) ({ cls := "java/lang/RuntimeException", name := "fillInStackTrace", desc := "()Ljava/lang/Throwable;" } : Jvm.MethodName)) ∈ lw_all := lw_g (lw_at lw_m1 91 rfl) rfl
theorem q224 : (Jvm.Cond.superclass "java/lang/NullPointerException" "java/lang/RuntimeException") ∈ lw_all := lw_g (lw_at lw_m1 94 rfl) rfl
theorem q286 : (Jvm.Cond.instanceMethod ({ cls := "java/lang/NullPointerException", name := "<init>", desc := "()V" } : Jvm.MethodName)) ∈ lw_all := lw_g (lw_at lw_m1 156 rfl) rfl
theorem q287 : (Jvm.Cond.code ({ cls := "java/lang/NullPointerException", name := "<init>", desc := "()V" } : Jvm.MethodName) prog_31_method_1_code (1 : Nat) (Option.none : Option Jvm.ClassFile.FieldType)) ∈ lw_all := lw_g (lw_at lw_m1 157 rfl) rfl
theorem q288 : (Jvm.Cond.methodLink "java/lang/NullPointerException" (1 : Nat) ({ cls := "java/lang/RuntimeException", name := "<init>", desc := "()V" } : Jvm.MethodName)) ∈ lw_all := lw_g (lw_at lw_m1 158 rfl) rfl
theorem q295 : (Jvm.Cond.fieldLink "java/lang/NullPointerException" (10 : Nat) "java/lang/NullPointerException" "extendedMessageState" "I") ∈ lw_all := lw_g (lw_at lw_m1 165 rfl) rfl
theorem q296 : (Jvm.Cond.fieldLink "java/lang/NullPointerException" (20 : Nat) "java/lang/NullPointerException" "extendedMessage" "Ljava/lang/String;") ∈ lw_all := lw_g (lw_at lw_m1 166 rfl) rfl
theorem q297 : (Jvm.Cond.lays "java/lang/NullPointerException" "java/lang/NullPointerException" "extendedMessageState" "I") ∈ lw_all := lw_g (lw_at lw_m1 167 rfl) rfl
theorem q298 : (Jvm.Cond.soleField "java/lang/NullPointerException" "extendedMessageState") ∈ lw_all := lw_g (lw_at lw_m1 168 rfl) rfl
theorem q299 : (Jvm.Cond.lays "java/lang/NullPointerException" "java/lang/NullPointerException" "extendedMessage" "Ljava/lang/String;") ∈ lw_all := lw_g (lw_at lw_m1 169 rfl) rfl
theorem q300 : (Jvm.Cond.soleField "java/lang/NullPointerException" "extendedMessage") ∈ lw_all := lw_g (lw_at lw_m1 170 rfl) rfl
theorem q301 : (Jvm.Cond.lays "java/lang/NullPointerException" "java/lang/Throwable" "backtrace" "Ljava/lang/Object;") ∈ lw_all := lw_g (lw_at lw_m1 171 rfl) rfl
theorem q302 : (Jvm.Cond.lays "java/lang/NullPointerException" "java/lang/Throwable" "detailMessage" "Ljava/lang/String;") ∈ lw_all := lw_g (lw_at lw_m1 172 rfl) rfl
theorem q303 : (Jvm.Cond.lays "java/lang/NullPointerException" "java/lang/Throwable" "cause" "Ljava/lang/Throwable;") ∈ lw_all := lw_g (lw_at lw_m1 173 rfl) rfl
theorem q304 : (Jvm.Cond.lays "java/lang/NullPointerException" "java/lang/Throwable" "stackTrace" "[Ljava/lang/StackTraceElement;") ∈ lw_all := lw_g (lw_at lw_m1 174 rfl) rfl
theorem q305 : (Jvm.Cond.lays "java/lang/NullPointerException" "java/lang/Throwable" "depth" "I") ∈ lw_all := lw_g (lw_at lw_m1 175 rfl) rfl
theorem q306 : (Jvm.Cond.lays "java/lang/NullPointerException" "java/lang/Throwable" "suppressedExceptions" "Ljava/util/List;") ∈ lw_all := lw_g (lw_at lw_m1 176 rfl) rfl
theorem q307 : (Jvm.Cond.castable "java/lang/NullPointerException" "java/lang/NullPointerException") ∈ lw_tbl := lw_at lw_m1 177 rfl
theorem q308 : (Jvm.Cond.selects "java/lang/NullPointerException" ({ cls := "java/lang/Throwable", name := "fillInStackTrace", desc := "(I)Ljava/lang/Throwable;" } : Jvm.MethodName) ({ cls := "java/lang/Throwable", name := "fillInStackTrace", desc := "(I)Ljava/lang/Throwable;" } : Jvm.MethodName)) ∈ lw_all := lw_g (lw_at lw_m1 178 rfl) rfl
theorem q928 : (Jvm.Cond.selects "java/lang/NullPointerException" ({ cls := "java/lang/Object", name := "getClass", desc := "()Ljava/lang/Class;" } : Jvm.MethodName) ({ cls := "java/lang/Object", name := "getClass", desc := "()Ljava/lang/Class;" } : Jvm.MethodName)) ∈ lw_all := lw_g (lw_at lw_m4 78 rfl) rfl
theorem q2329 : (Jvm.Cond.castable "java/lang/NullPointerException" "java/lang/Object") ∈ lw_tbl := lw_at lw_m10 39 rfl
theorem in_J17 : ∀ w ∈ wsJ170, w ∈ lw_all := lw_in wsJ170 [301, 302, 303, 304, 305, 306, 297, 299] (by decide +kernel) (by decide +kernel)
/-! java/lang/IndexOutOfBoundsException -/
set_option maxRecDepth 100000
def RJ18 : String := "java/lang/IndexOutOfBoundsException"
abbrev cJ18_init : ByteArray := prog_25_method_2_code
def yJ18_init : MethodName := ⟨RJ18, "<init>", "(Ljava/lang/String;)V"⟩
def dkwJ18_init_0 : List UInt8 := [42, 43, 183, 0, 7, 177]
abbrev dktJ18_init_0 : List UInt8 := dkwJ18_init_0 ++ []
theorem dksJ18_init_0 : cJ18_init.data.toList.drop 0 = dktJ18_init_0 := by decide +kernel
theorem dJ18_init_0 : decode cJ18_init 0 = .ok (.aload_n 0, 1) := dk_42 (dk_at dksJ18_init_0 0 rfl rfl)
theorem dJ18_init_1 : decode cJ18_init 1 = .ok (.aload_n 1, 1) := dk_43 (dk_at dksJ18_init_0 1 rfl rfl)
theorem dJ18_init_2 : decode cJ18_init 2 = .ok (.invokespecial 7, 3) := dk_183 0 7 (dk_at dksJ18_init_0 2 rfl rfl)
theorem dJ18_init_5 : decode cJ18_init 5 = .ok (.return_, 1) := dk_177 (dk_at dksJ18_init_0 5 rfl rfl)
theorem q168 : (Jvm.Cond.initialized "java/lang/IndexOutOfBoundsException") ∈ lw_all := lw_g (lw_at lw_m1 38 rfl) rfl
theorem q315 : (Jvm.Cond.instanceMethod ({ cls := "java/lang/IndexOutOfBoundsException", name := "<init>", desc := "(Ljava/lang/String;)V" } : Jvm.MethodName)) ∈ lw_all := lw_g (lw_at lw_m1 185 rfl) rfl
theorem q316 : (Jvm.Cond.code ({ cls := "java/lang/IndexOutOfBoundsException", name := "<init>", desc := "(Ljava/lang/String;)V" } : Jvm.MethodName) prog_25_method_2_code (2 : Nat) (Option.none : Option Jvm.ClassFile.FieldType)) ∈ lw_all := lw_g (lw_at lw_m1 186 rfl) rfl
theorem q317 : (Jvm.Cond.methodLink "java/lang/IndexOutOfBoundsException" (7 : Nat) ({ cls := "java/lang/RuntimeException", name := "<init>", desc := "(Ljava/lang/String;)V" } : Jvm.MethodName)) ∈ lw_all := lw_g (lw_at lw_m1 187 rfl) rfl
theorem q326 : (Jvm.Cond.declares ({ cls := "java/lang/IndexOutOfBoundsException", name := "<init>", desc := "()V" } : Jvm.MethodName)) ∈ lw_tbl := lw_at lw_m1 196 rfl
theorem q327 : (Jvm.Cond.declares ({ cls := "java/lang/IndexOutOfBoundsException", name := "<init>", desc := "(Ljava/lang/String;)V" } : Jvm.MethodName)) ∈ lw_tbl := lw_at lw_m1 197 rfl
/-! java/lang/ArrayIndexOutOfBoundsException -/
set_option maxRecDepth 100000
def RJ19 : String := "java/lang/ArrayIndexOutOfBoundsException"
def TJ19 : u_T := fun k => match k with
  | 0 => ("java/lang/Throwable", "backtrace", "Ljava/lang/Object;", false)
  | 1 => ("java/lang/Throwable", "detailMessage", "Ljava/lang/String;", false)
  | 2 => ("java/lang/Throwable", "cause", "Ljava/lang/Throwable;", false)
  | 3 => ("java/lang/Throwable", "stackTrace", "[Ljava/lang/StackTraceElement;", false)
  | 4 => ("java/lang/Throwable", "depth", "I", false)
  | _ => ("java/lang/Throwable", "suppressedExceptions", "Ljava/util/List;", false)
def tyJ19 : Nat → FieldType := fun k => match k with
  | 0 => .object "java/lang/Object"
  | 1 => .object "java/lang/String"
  | 2 => .object "java/lang/Throwable"
  | 3 => .array (.object "java/lang/StackTraceElement")
  | 4 => .int
  | _ => .object "java/util/List"
abbrev wsJ190 : List Cond := u_ws RJ19 TJ19 6
theorem nmJ19 : ∀ a, a < 6 → ∀ b, b < 6 → a ≠ b → (TJ19 a).2.1 ≠ (TJ19 b).2.1 := by decide +kernel
theorem tyJ19_ok : ∀ k, k < 6 → parseFieldDescriptor (TJ19 k).2.2.1 = some (tyJ19 k) := by decide +kernel
abbrev cJ19_init : ByteArray := prog_21_method_2_code
def yJ19_init : MethodName := ⟨RJ19, "<init>", "(Ljava/lang/String;)V"⟩
def dkwJ19_init_0 : List UInt8 := [42, 43, 183, 0, 7, 177]
abbrev dktJ19_init_0 : List UInt8 := dkwJ19_init_0 ++ []
theorem dksJ19_init_0 : cJ19_init.data.toList.drop 0 = dktJ19_init_0 := by decide +kernel
theorem dJ19_init_0 : decode cJ19_init 0 = .ok (.aload_n 0, 1) := dk_42 (dk_at dksJ19_init_0 0 rfl rfl)
theorem dJ19_init_1 : decode cJ19_init 1 = .ok (.aload_n 1, 1) := dk_43 (dk_at dksJ19_init_0 1 rfl rfl)
theorem dJ19_init_2 : decode cJ19_init 2 = .ok (.invokespecial 7, 3) := dk_183 0 7 (dk_at dksJ19_init_0 2 rfl rfl)
theorem dJ19_init_5 : decode cJ19_init 5 = .ok (.return_, 1) := dk_177 (dk_at dksJ19_init_0 5 rfl rfl)
theorem q169 : (Jvm.Cond.initialized "java/lang/ArrayIndexOutOfBoundsException") ∈ lw_all := lw_g (lw_at lw_m1 39 rfl) rfl
theorem q210 : (Jvm.Cond.selects "java/lang/ArrayIndexOutOfBoundsException" ({ cls := "java/lang/Throwable", name := "fillInStackTrace", desc := "()Ljava/lang/Throwable;" } : Jvm.MethodName) ({ cls := "java/lang/Throwable", name := "fillInStackTrace", desc := "()Ljava/lang/Throwable;" } : Jvm.MethodName)) ∈ lw_all := lw_g (lw_at lw_m1 80 rfl) rfl
theorem q311 : (Jvm.Cond.instantiable "java/lang/ArrayIndexOutOfBoundsException" (6 : Nat)) ∈ lw_all := lw_g (lw_at lw_m1 181 rfl) rfl
theorem q312 : (Jvm.Cond.instanceMethod ({ cls := "java/lang/ArrayIndexOutOfBoundsException", name := "<init>", desc := "(Ljava/lang/String;)V" } : Jvm.MethodName)) ∈ lw_all := lw_g (lw_at lw_m1 182 rfl) rfl
theorem q313 : (Jvm.Cond.code ({ cls := "java/lang/ArrayIndexOutOfBoundsException", name := "<init>", desc := "(Ljava/lang/String;)V" } : Jvm.MethodName) prog_21_method_2_code (2 : Nat) (Option.none : Option Jvm.ClassFile.FieldType)) ∈ lw_all := lw_g (lw_at lw_m1 183 rfl) rfl
theorem q314 : (Jvm.Cond.methodLink "java/lang/ArrayIndexOutOfBoundsException" (7 : Nat) ({ cls := "java/lang/IndexOutOfBoundsException", name := "<init>", desc := "(Ljava/lang/String;)V" } : Jvm.MethodName)) ∈ lw_all := lw_g (lw_at lw_m1 184 rfl) rfl
theorem q318 : (Jvm.Cond.lays "java/lang/ArrayIndexOutOfBoundsException" "java/lang/Throwable" "backtrace" "Ljava/lang/Object;") ∈ lw_all := lw_g (lw_at lw_m1 188 rfl) rfl
theorem q319 : (Jvm.Cond.lays "java/lang/ArrayIndexOutOfBoundsException" "java/lang/Throwable" "detailMessage" "Ljava/lang/String;") ∈ lw_all := lw_g (lw_at lw_m1 189 rfl) rfl
theorem q320 : (Jvm.Cond.lays "java/lang/ArrayIndexOutOfBoundsException" "java/lang/Throwable" "cause" "Ljava/lang/Throwable;") ∈ lw_all := lw_g (lw_at lw_m1 190 rfl) rfl
theorem q321 : (Jvm.Cond.lays "java/lang/ArrayIndexOutOfBoundsException" "java/lang/Throwable" "stackTrace" "[Ljava/lang/StackTraceElement;") ∈ lw_all := lw_g (lw_at lw_m1 191 rfl) rfl
theorem q322 : (Jvm.Cond.lays "java/lang/ArrayIndexOutOfBoundsException" "java/lang/Throwable" "depth" "I") ∈ lw_all := lw_g (lw_at lw_m1 192 rfl) rfl
theorem q323 : (Jvm.Cond.lays "java/lang/ArrayIndexOutOfBoundsException" "java/lang/Throwable" "suppressedExceptions" "Ljava/util/List;") ∈ lw_all := lw_g (lw_at lw_m1 193 rfl) rfl
theorem q324 : (Jvm.Cond.superclass "java/lang/ArrayIndexOutOfBoundsException" "java/lang/IndexOutOfBoundsException") ∈ lw_all := lw_g (lw_at lw_m1 194 rfl) rfl
theorem q325 : (Jvm.Cond.castable "java/lang/ArrayIndexOutOfBoundsException" "java/lang/ArrayIndexOutOfBoundsException") ∈ lw_tbl := lw_at lw_m1 195 rfl
theorem q328 : (Jvm.Cond.selects "java/lang/ArrayIndexOutOfBoundsException" ({ cls := "java/lang/Throwable", name := "fillInStackTrace", desc := "(I)Ljava/lang/Throwable;" } : Jvm.MethodName) ({ cls := "java/lang/Throwable", name := "fillInStackTrace", desc := "(I)Ljava/lang/Throwable;" } : Jvm.MethodName)) ∈ lw_all := lw_g (lw_at lw_m1 198 rfl) rfl
theorem q925 : (Jvm.Cond.selects "java/lang/ArrayIndexOutOfBoundsException" ({ cls := "java/lang/Object", name := "getClass", desc := "()Ljava/lang/Class;" } : Jvm.MethodName) ({ cls := "java/lang/Object", name := "getClass", desc := "()Ljava/lang/Class;" } : Jvm.MethodName)) ∈ lw_all := lw_g (lw_at lw_m4 75 rfl) rfl
theorem q2303 : (Jvm.Cond.castable "java/lang/ArrayIndexOutOfBoundsException" "java/lang/IndexOutOfBoundsException") ∈ lw_tbl := lw_at lw_m10 13 rfl
theorem q2330 : (Jvm.Cond.castable "java/lang/ArrayIndexOutOfBoundsException" "java/lang/Object") ∈ lw_tbl := lw_at lw_m10 40 rfl
theorem in_J19 : ∀ w ∈ wsJ190, w ∈ lw_all := lw_in wsJ190 [318, 319, 320, 321, 322, 323] (by decide +kernel) (by decide +kernel)
/-! java/lang/ClassCastException -/
set_option maxRecDepth 100000
def RJ20 : String := "java/lang/ClassCastException"
def TJ20 : u_T := fun k => match k with
  | 0 => ("java/lang/Throwable", "backtrace", "Ljava/lang/Object;", false)
  | 1 => ("java/lang/Throwable", "detailMessage", "Ljava/lang/String;", false)
  | 2 => ("java/lang/Throwable", "cause", "Ljava/lang/Throwable;", false)
  | 3 => ("java/lang/Throwable", "stackTrace", "[Ljava/lang/StackTraceElement;", false)
  | 4 => ("java/lang/Throwable", "depth", "I", false)
  | _ => ("java/lang/Throwable", "suppressedExceptions", "Ljava/util/List;", false)
def tyJ20 : Nat → FieldType := fun k => match k with
  | 0 => .object "java/lang/Object"
  | 1 => .object "java/lang/String"
  | 2 => .object "java/lang/Throwable"
  | 3 => .array (.object "java/lang/StackTraceElement")
  | 4 => .int
  | _ => .object "java/util/List"
abbrev wsJ200 : List Cond := u_ws RJ20 TJ20 6
theorem nmJ20 : ∀ a, a < 6 → ∀ b, b < 6 → a ≠ b → (TJ20 a).2.1 ≠ (TJ20 b).2.1 := by decide +kernel
theorem tyJ20_ok : ∀ k, k < 6 → parseFieldDescriptor (TJ20 k).2.2.1 = some (tyJ20 k) := by decide +kernel
abbrev cJ20_init : ByteArray := prog_22_method_2_code
def yJ20_init : MethodName := ⟨RJ20, "<init>", "(Ljava/lang/String;)V"⟩
def dkwJ20_init_0 : List UInt8 := [42, 43, 183, 0, 7, 177]
abbrev dktJ20_init_0 : List UInt8 := dkwJ20_init_0 ++ []
theorem dksJ20_init_0 : cJ20_init.data.toList.drop 0 = dktJ20_init_0 := by decide +kernel
theorem dJ20_init_0 : decode cJ20_init 0 = .ok (.aload_n 0, 1) := dk_42 (dk_at dksJ20_init_0 0 rfl rfl)
theorem dJ20_init_1 : decode cJ20_init 1 = .ok (.aload_n 1, 1) := dk_43 (dk_at dksJ20_init_0 1 rfl rfl)
theorem dJ20_init_2 : decode cJ20_init 2 = .ok (.invokespecial 7, 3) := dk_183 0 7 (dk_at dksJ20_init_0 2 rfl rfl)
theorem dJ20_init_5 : decode cJ20_init 5 = .ok (.return_, 1) := dk_177 (dk_at dksJ20_init_0 5 rfl rfl)
theorem q170 : (Jvm.Cond.initialized "java/lang/ClassCastException") ∈ lw_all := lw_g (lw_at lw_m1 40 rfl) rfl
theorem q211 : (Jvm.Cond.selects "java/lang/ClassCastException" ({ cls := "java/lang/Throwable", name := "fillInStackTrace", desc := "()Ljava/lang/Throwable;" } : Jvm.MethodName) ({ cls := "java/lang/Throwable", name := "fillInStackTrace", desc := "()Ljava/lang/Throwable;" } : Jvm.MethodName)) ∈ lw_all := lw_g (lw_at lw_m1 81 rfl) rfl
theorem q341 : (Jvm.Cond.instantiable "java/lang/ClassCastException" (6 : Nat)) ∈ lw_all := lw_g (lw_at lw_m1 211 rfl) rfl
theorem q342 : (Jvm.Cond.instanceMethod ({ cls := "java/lang/ClassCastException", name := "<init>", desc := "(Ljava/lang/String;)V" } : Jvm.MethodName)) ∈ lw_all := lw_g (lw_at lw_m1 212 rfl) rfl
theorem q343 : (Jvm.Cond.code ({ cls := "java/lang/ClassCastException", name := "<init>", desc := "(Ljava/lang/String;)V" } : Jvm.MethodName) prog_22_method_2_code (2 : Nat) (Option.none : Option Jvm.ClassFile.FieldType)) ∈ lw_all := lw_g (lw_at lw_m1 213 rfl) rfl
theorem q344 : (Jvm.Cond.methodLink "java/lang/ClassCastException" (7 : Nat) ({ cls := "java/lang/RuntimeException", name := "<init>", desc := "(Ljava/lang/String;)V" } : Jvm.MethodName)) ∈ lw_all := lw_g (lw_at lw_m1 214 rfl) rfl
theorem q345 : (Jvm.Cond.lays "java/lang/ClassCastException" "java/lang/Throwable" "backtrace" "Ljava/lang/Object;") ∈ lw_all := lw_g (lw_at lw_m1 215 rfl) rfl
theorem q346 : (Jvm.Cond.lays "java/lang/ClassCastException" "java/lang/Throwable" "detailMessage" "Ljava/lang/String;") ∈ lw_all := lw_g (lw_at lw_m1 216 rfl) rfl
theorem q347 : (Jvm.Cond.lays "java/lang/ClassCastException" "java/lang/Throwable" "cause" "Ljava/lang/Throwable;") ∈ lw_all := lw_g (lw_at lw_m1 217 rfl) rfl
theorem q348 : (Jvm.Cond.lays "java/lang/ClassCastException" "java/lang/Throwable" "stackTrace" "[Ljava/lang/StackTraceElement;") ∈ lw_all := lw_g (lw_at lw_m1 218 rfl) rfl
theorem q349 : (Jvm.Cond.lays "java/lang/ClassCastException" "java/lang/Throwable" "depth" "I") ∈ lw_all := lw_g (lw_at lw_m1 219 rfl) rfl
theorem q350 : (Jvm.Cond.lays "java/lang/ClassCastException" "java/lang/Throwable" "suppressedExceptions" "Ljava/util/List;") ∈ lw_all := lw_g (lw_at lw_m1 220 rfl) rfl
theorem q351 : (Jvm.Cond.superclass "java/lang/ClassCastException" "java/lang/RuntimeException") ∈ lw_all := lw_g (lw_at lw_m1 221 rfl) rfl
theorem q352 : (Jvm.Cond.castable "java/lang/ClassCastException" "java/lang/ClassCastException") ∈ lw_tbl := lw_at lw_m1 222 rfl
theorem q353 : (Jvm.Cond.selects "java/lang/ClassCastException" ({ cls := "java/lang/Throwable", name := "fillInStackTrace", desc := "(I)Ljava/lang/Throwable;" } : Jvm.MethodName) ({ cls := "java/lang/Throwable", name := "fillInStackTrace", desc := "(I)Ljava/lang/Throwable;" } : Jvm.MethodName)) ∈ lw_all := lw_g (lw_at lw_m1 223 rfl) rfl
theorem q926 : (Jvm.Cond.selects "java/lang/ClassCastException" ({ cls := "java/lang/Object", name := "getClass", desc := "()Ljava/lang/Class;" } : Jvm.MethodName) ({ cls := "java/lang/Object", name := "getClass", desc := "()Ljava/lang/Class;" } : Jvm.MethodName)) ∈ lw_all := lw_g (lw_at lw_m4 76 rfl) rfl
theorem q2331 : (Jvm.Cond.castable "java/lang/ClassCastException" "java/lang/Object") ∈ lw_tbl := lw_at lw_m10 41 rfl
theorem in_J20 : ∀ w ∈ wsJ200, w ∈ lw_all := lw_in wsJ200 [345, 346, 347, 348, 349, 350] (by decide +kernel) (by decide +kernel)
/-! java/lang/Object -/
set_option maxRecDepth 100000
def RJ21 : String := "java/lang/Object"
abbrev cJ21_init : ByteArray := object_method_1_code
def yJ21_init : MethodName := ⟨RJ21, "<init>", "()V"⟩
theorem dJ21_init_0 : decode cJ21_init 0 = .ok (.return_, 1) := by decide +kernel
theorem q200 : (Jvm.Cond.instanceMethod ({ cls := "java/lang/Object", name := "<init>", desc := "()V" } : Jvm.MethodName)) ∈ lw_all := lw_g (lw_at lw_m1 70 rfl) rfl
theorem q201 : (Jvm.Cond.code ({ cls := "java/lang/Object", name := "<init>", desc := "()V" } : Jvm.MethodName) object_method_1_code (1 : Nat) (Option.none : Option Jvm.ClassFile.FieldType)) ∈ lw_all := lw_g (lw_at lw_m1 71 rfl) rfl
theorem q906 : (Jvm.Cond.instanceMethod ({ cls := "java/lang/Object", name := "getClass", desc := "()Ljava/lang/Class;" } : Jvm.MethodName)) ∈ lw_all := lw_g (lw_at lw_m4 56 rfl) rfl
theorem q907 : (Jvm.Cond.sameMethod "java/lang/Object" "java/lang/Object" "getClass" "()Ljava/lang/Class;") ∈ lw_all := lw_g (lw_at lw_m4 57 rfl) rfl
theorem q930 : (Jvm.Cond.native ({ cls := "java/lang/Object", name := "getClass", desc := "()Ljava/lang/Class;" } : Jvm.MethodName)) ∈ lw_all := lw_g (lw_at lw_m4 80 rfl) rfl
theorem q2336 : (Jvm.Cond.declares ({ cls := "java/lang/Object", name := "getClass", desc := "()Ljava/lang/Class;" } : Jvm.MethodName)) ∈ lw_tbl := lw_at lw_m10 46 rfl
theorem q130 : (Jvm.Cond.initialized "UnseenClockLaw") ∈ lw_all := lw_g (lw_at lw_m1 0 rfl) rfl
set_option maxRecDepth 100000
theorem q171 : (Jvm.Cond.methodLink "UnseenClockLaw" (208 : Nat) ({ cls := "UnseenClock", name := "row", desc := "(III)I" } : Jvm.MethodName)) ∈ lw_all := lw_g (lw_at lw_m1 41 rfl) rfl
theorem q277 : (Jvm.Cond.methodLink "UnseenClockLaw" (214 : Nat) ({ cls := "UnseenClock", name := "write", desc := "(IIJ)I" } : Jvm.MethodName)) ∈ lw_all := lw_g (lw_at lw_m1 147 rfl) rfl
theorem q356 : (Jvm.Cond.methodLink "UnseenClockLaw" (219 : Nat) ({ cls := "UnseenClock", name := "paste", desc := "(IIIII)I" } : Jvm.MethodName)) ∈ lw_all := lw_g (lw_at lw_m1 226 rfl) rfl
theorem q372 : (Jvm.Cond.classLink "UnseenClockLaw" (7 : Nat) "UnseenClock") ∈ lw_all := lw_g (lw_at lw_m2 2 rfl) rfl
theorem q374 : (Jvm.Cond.methodLink "UnseenClockLaw" (9 : Nat) ({ cls := "UnseenClock", name := "<init>", desc := "()V" } : Jvm.MethodName)) ∈ lw_all := lw_g (lw_at lw_m2 4 rfl) rfl
theorem q596 : (Jvm.Cond.methodLink "UnseenClockLaw" (13 : Nat) ({ cls := "UnseenClock", name := "feed", desc := "(IIIII)I" } : Jvm.MethodName)) ∈ lw_all := lw_g (lw_at lw_m2 226 rfl) rfl
theorem q600 : (Jvm.Cond.methodLink "UnseenClockLaw" (18 : Nat) ({ cls := "UnseenClock", name := "end", desc := "(I)I" } : Jvm.MethodName)) ∈ lw_all := lw_g (lw_at lw_m2 230 rfl) rfl
theorem q604 : (Jvm.Cond.methodLink "UnseenClockLaw" (23 : Nat) ({ cls := "UnseenClock", name := "square", desc := "()I" } : Jvm.MethodName)) ∈ lw_all := lw_g (lw_at lw_m2 234 rfl) rfl
theorem q1119 : (Jvm.Cond.methodLink "UnseenClockLaw" (28 : Nat) ({ cls := "UnseenClock", name := "fault", desc := "(I)I" } : Jvm.MethodName)) ∈ lw_all := lw_g (lw_at lw_m5 29 rfl) rfl
theorem q1123 : (Jvm.Cond.methodLink "UnseenClockLaw" (32 : Nat) ({ cls := "UnseenClock", name := "at", desc := "(II)I" } : Jvm.MethodName)) ∈ lw_all := lw_g (lw_at lw_m5 33 rfl) rfl
theorem q1142 : (Jvm.Cond.methodLink "UnseenClockLaw" (37 : Nat) ({ cls := "UnseenClock", name := "sees", desc := "(III)I" } : Jvm.MethodName)) ∈ lw_all := lw_g (lw_at lw_m5 52 rfl) rfl
theorem q1180 : (Jvm.Cond.methodLink "UnseenClockLaw" (42 : Nat) ({ cls := "UnseenClock", name := "looks", desc := "(III)I" } : Jvm.MethodName)) ∈ lw_all := lw_g (lw_at lw_m5 90 rfl) rfl
theorem q1299 : (Jvm.Cond.methodLink "UnseenClockLaw" (46 : Nat) ({ cls := "UnseenClock", name := "eyes", desc := "(II)I" } : Jvm.MethodName)) ∈ lw_all := lw_g (lw_at lw_m5 209 rfl) rfl
theorem q1304 : (Jvm.Cond.methodLink "UnseenClockLaw" (50 : Nat) ({ cls := "UnseenClock", name := "shows", desc := "(II)I" } : Jvm.MethodName)) ∈ lw_all := lw_g (lw_at lw_m5 214 rfl) rfl
theorem q1316 : (Jvm.Cond.methodLink "UnseenClockLaw" (54 : Nat) ({ cls := "UnseenClock", name := "value", desc := "(III)I" } : Jvm.MethodName)) ∈ lw_all := lw_g (lw_at lw_m5 226 rfl) rfl
theorem q1321 : (Jvm.Cond.methodLink "UnseenClockLaw" (58 : Nat) ({ cls := "UnseenClock", name := "still", desc := "(II)I" } : Jvm.MethodName)) ∈ lw_all := lw_g (lw_at lw_m5 231 rfl) rfl
theorem q1326 : (Jvm.Cond.methodLink "UnseenClockLaw" (62 : Nat) ({ cls := "UnseenClock", name := "open", desc := "()I" } : Jvm.MethodName)) ∈ lw_all := lw_g (lw_at lw_m5 236 rfl) rfl
theorem q1330 : (Jvm.Cond.methodLink "UnseenClockLaw" (66 : Nat) ({ cls := "UnseenClock", name := "opens", desc := "(I)I" } : Jvm.MethodName)) ∈ lw_all := lw_g (lw_at lw_m6 0 rfl) rfl
theorem q1334 : (Jvm.Cond.methodLink "UnseenClockLaw" (70 : Nat) ({ cls := "UnseenClock", name := "bell", desc := "(II)I" } : Jvm.MethodName)) ∈ lw_all := lw_g (lw_at lw_m6 4 rfl) rfl
theorem q1351 : (Jvm.Cond.methodLink "UnseenClockLaw" (74 : Nat) ({ cls := "UnseenClock", name := "courses", desc := "()I" } : Jvm.MethodName)) ∈ lw_all := lw_g (lw_at lw_m6 21 rfl) rfl
theorem q1382 : (Jvm.Cond.methodLink "UnseenClockLaw" (78 : Nat) ({ cls := "UnseenClock", name := "among", desc := "(III)I" } : Jvm.MethodName)) ∈ lw_all := lw_g (lw_at lw_m6 52 rfl) rfl
theorem q1394 : (Jvm.Cond.methodLink "UnseenClockLaw" (82 : Nat) ({ cls := "UnseenClock", name := "agree", desc := "(I)I" } : Jvm.MethodName)) ∈ lw_all := lw_g (lw_at lw_m6 64 rfl) rfl
theorem q1414 : (Jvm.Cond.methodLink "UnseenClockLaw" (86 : Nat) ({ cls := "UnseenClock", name := "sure", desc := "(III)I" } : Jvm.MethodName)) ∈ lw_all := lw_g (lw_at lw_m6 84 rfl) rfl
theorem q1422 : (Jvm.Cond.methodLink "UnseenClockLaw" (90 : Nat) ({ cls := "UnseenClock", name := "needs", desc := "(III)I" } : Jvm.MethodName)) ∈ lw_all := lw_g (lw_at lw_m6 92 rfl) rfl
theorem q1432 : (Jvm.Cond.methodLink "UnseenClockLaw" (94 : Nat) ({ cls := "UnseenClock", name := "knows", desc := "(III)I" } : Jvm.MethodName)) ∈ lw_all := lw_g (lw_at lw_m6 102 rfl) rfl
theorem q1450 : (Jvm.Cond.methodLink "UnseenClockLaw" (98 : Nat) ({ cls := "UnseenClock", name := "common", desc := "(III)I" } : Jvm.MethodName)) ∈ lw_all := lw_g (lw_at lw_m6 120 rfl) rfl
theorem q1465 : (Jvm.Cond.methodLink "UnseenClockLaw" (102 : Nat) ({ cls := "UnseenClock", name := "alike", desc := "(I)I" } : Jvm.MethodName)) ∈ lw_all := lw_g (lw_at lw_m6 135 rfl) rfl
theorem q1469 : (Jvm.Cond.methodLink "UnseenClockLaw" (115 : Nat) ({ cls := "UnseenClock", name := "both", desc := "(IIII)I" } : Jvm.MethodName)) ∈ lw_all := lw_g (lw_at lw_m6 139 rfl) rfl
theorem q1473 : (Jvm.Cond.methodLink "UnseenClockLaw" (119 : Nat) ({ cls := "UnseenClock", name := "learns", desc := "(III)I" } : Jvm.MethodName)) ∈ lw_all := lw_g (lw_at lw_m6 143 rfl) rfl
theorem q1481 : (Jvm.Cond.methodLink "UnseenClockLaw" (123 : Nat) ({ cls := "UnseenClock", name := "sights", desc := "(I)I" } : Jvm.MethodName)) ∈ lw_all := lw_g (lw_at lw_m6 151 rfl) rfl
theorem q1485 : (Jvm.Cond.methodLink "UnseenClockLaw" (106 : Nat) ({ cls := "UnseenClock", name := "lie", desc := "(IIII)I" } : Jvm.MethodName)) ∈ lw_all := lw_g (lw_at lw_m6 155 rfl) rfl
theorem q1493 : (Jvm.Cond.methodLink "UnseenClockLaw" (111 : Nat) ({ cls := "UnseenClock", name := "shown", desc := "(IIII)I" } : Jvm.MethodName)) ∈ lw_all := lw_g (lw_at lw_m6 163 rfl) rfl
theorem q1497 : (Jvm.Cond.methodLink "UnseenClockLaw" (127 : Nat) ({ cls := "UnseenClock", name := "meets", desc := "(II)I" } : Jvm.MethodName)) ∈ lw_all := lw_g (lw_at lw_m6 167 rfl) rfl
theorem q1506 : (Jvm.Cond.methodLink "UnseenClockLaw" (131 : Nat) ({ cls := "UnseenClock", name := "spots", desc := "(I)I" } : Jvm.MethodName)) ∈ lw_all := lw_g (lw_at lw_m6 176 rfl) rfl
theorem q1512 : (Jvm.Cond.methodLink "UnseenClockLaw" (135 : Nat) ({ cls := "UnseenClock", name := "when", desc := "(II)I" } : Jvm.MethodName)) ∈ lw_all := lw_g (lw_at lw_m6 182 rfl) rfl
theorem q1516 : (Jvm.Cond.methodLink "UnseenClockLaw" (139 : Nat) ({ cls := "UnseenClock", name := "hours", desc := "(I)I" } : Jvm.MethodName)) ∈ lw_all := lw_g (lw_at lw_m6 186 rfl) rfl
theorem q1526 : (Jvm.Cond.methodLink "UnseenClockLaw" (143 : Nat) ({ cls := "UnseenClock", name := "without", desc := "(III)I" } : Jvm.MethodName)) ∈ lw_all := lw_g (lw_at lw_m6 196 rfl) rfl
theorem q1530 : (Jvm.Cond.methodLink "UnseenClockLaw" (147 : Nat) ({ cls := "UnseenClock", name := "hush", desc := "(IIII)I" } : Jvm.MethodName)) ∈ lw_all := lw_g (lw_at lw_m6 200 rfl) rfl
theorem q1538 : (Jvm.Cond.methodLink "UnseenClockLaw" (151 : Nat) ({ cls := "UnseenClock", name := "call", desc := "(IZ)I" } : Jvm.MethodName)) ∈ lw_all := lw_g (lw_at lw_m6 208 rfl) rfl
theorem q1542 : (Jvm.Cond.methodLink "UnseenClockLaw" (156 : Nat) ({ cls := "UnseenClock", name := "away", desc := "(IIII)I" } : Jvm.MethodName)) ∈ lw_all := lw_g (lw_at lw_m6 212 rfl) rfl
theorem q1546 : (Jvm.Cond.methodLink "UnseenClockLaw" (160 : Nat) ({ cls := "UnseenClock", name := "kept", desc := "(III)I" } : Jvm.MethodName)) ∈ lw_all := lw_g (lw_at lw_m6 216 rfl) rfl
theorem q1555 : (Jvm.Cond.methodLink "UnseenClockLaw" (164 : Nat) ({ cls := "UnseenClock", name := "keep", desc := "(III)I" } : Jvm.MethodName)) ∈ lw_all := lw_g (lw_at lw_m6 225 rfl) rfl
theorem q1563 : (Jvm.Cond.methodLink "UnseenClockLaw" (168 : Nat) ({ cls := "UnseenClock", name := "shifts", desc := "(IIII)I" } : Jvm.MethodName)) ∈ lw_all := lw_g (lw_at lw_m6 233 rfl) rfl
theorem q1567 : (Jvm.Cond.methodLink "UnseenClockLaw" (172 : Nat) ({ cls := "UnseenClock", name := "last", desc := "(III)I" } : Jvm.MethodName)) ∈ lw_all := lw_g (lw_at lw_m6 237 rfl) rfl
theorem q1571 : (Jvm.Cond.methodLink "UnseenClockLaw" (176 : Nat) ({ cls := "UnseenClock", name := "all", desc := "(III)I" } : Jvm.MethodName)) ∈ lw_all := lw_g (lw_at lw_m7 1 rfl) rfl
theorem q1576 : (Jvm.Cond.methodLink "UnseenClockLaw" (180 : Nat) ({ cls := "UnseenClock", name := "pace", desc := "(III)I" } : Jvm.MethodName)) ∈ lw_all := lw_g (lw_at lw_m7 6 rfl) rfl
theorem q1580 : (Jvm.Cond.methodLink "UnseenClockLaw" (184 : Nat) ({ cls := "UnseenClock", name := "mends", desc := "(II)I" } : Jvm.MethodName)) ∈ lw_all := lw_g (lw_at lw_m7 10 rfl) rfl
theorem q1585 : (Jvm.Cond.methodLink "UnseenClockLaw" (188 : Nat) ({ cls := "UnseenClock", name := "day", desc := "(III)I" } : Jvm.MethodName)) ∈ lw_all := lw_g (lw_at lw_m7 15 rfl) rfl
theorem q1598 : (Jvm.Cond.methodLink "UnseenClockLaw" (192 : Nat) ({ cls := "UnseenClock", name := "days", desc := "(IIIII)I" } : Jvm.MethodName)) ∈ lw_all := lw_g (lw_at lw_m7 28 rfl) rfl
theorem q1603 : (Jvm.Cond.methodLink "UnseenClockLaw" (196 : Nat) ({ cls := "UnseenClock", name := "count", desc := "(I)I" } : Jvm.MethodName)) ∈ lw_all := lw_g (lw_at lw_m7 33 rfl) rfl
theorem q1607 : (Jvm.Cond.methodLink "UnseenClockLaw" (200 : Nat) ({ cls := "UnseenClock", name := "image", desc := "(I)I" } : Jvm.MethodName)) ∈ lw_all := lw_g (lw_at lw_m7 37 rfl) rfl
theorem q1628 : (Jvm.Cond.methodLink "UnseenClockLaw" (204 : Nat) ({ cls := "UnseenClock", name := "back", desc := "(I)I" } : Jvm.MethodName)) ∈ lw_all := lw_g (lw_at lw_m7 58 rfl) rfl
theorem q1632 : (Jvm.Cond.classLink "UnseenClockLaw" (10 : Nat) "UnseenClockModel") ∈ lw_all := lw_g (lw_at lw_m7 62 rfl) rfl
theorem q1634 : (Jvm.Cond.methodLink "UnseenClockLaw" (12 : Nat) ({ cls := "UnseenClockModel", name := "<init>", desc := "()V" } : Jvm.MethodName)) ∈ lw_all := lw_g (lw_at lw_m7 64 rfl) rfl
theorem q1762 : (Jvm.Cond.methodLink "UnseenClockLaw" (203 : Nat) ({ cls := "UnseenClockModel", name := "image", desc := "(I)I" } : Jvm.MethodName)) ∈ lw_all := lw_g (lw_at lw_m7 192 rfl) rfl
theorem q1770 : (Jvm.Cond.methodLink "UnseenClockLaw" (207 : Nat) ({ cls := "UnseenClockModel", name := "back", desc := "(I)I" } : Jvm.MethodName)) ∈ lw_all := lw_g (lw_at lw_m7 200 rfl) rfl
theorem q1774 : (Jvm.Cond.methodLink "UnseenClockLaw" (17 : Nat) ({ cls := "UnseenClockModel", name := "feed", desc := "(IIIII)I" } : Jvm.MethodName)) ∈ lw_all := lw_g (lw_at lw_m7 204 rfl) rfl
theorem q1778 : (Jvm.Cond.methodLink "UnseenClockLaw" (22 : Nat) ({ cls := "UnseenClockModel", name := "end", desc := "(I)I" } : Jvm.MethodName)) ∈ lw_all := lw_g (lw_at lw_m7 208 rfl) rfl
theorem q1782 : (Jvm.Cond.methodLink "UnseenClockLaw" (31 : Nat) ({ cls := "UnseenClockModel", name := "fault", desc := "(I)I" } : Jvm.MethodName)) ∈ lw_all := lw_g (lw_at lw_m7 212 rfl) rfl
theorem q1786 : (Jvm.Cond.methodLink "UnseenClockLaw" (27 : Nat) ({ cls := "UnseenClockModel", name := "square", desc := "()I" } : Jvm.MethodName)) ∈ lw_all := lw_g (lw_at lw_m7 216 rfl) rfl
theorem q1900 : (Jvm.Cond.methodLink "UnseenClockLaw" (36 : Nat) ({ cls := "UnseenClockModel", name := "at", desc := "(II)I" } : Jvm.MethodName)) ∈ lw_all := lw_g (lw_at lw_m8 90 rfl) rfl
theorem q1932 : (Jvm.Cond.methodLink "UnseenClockLaw" (41 : Nat) ({ cls := "UnseenClockModel", name := "sees", desc := "(III)I" } : Jvm.MethodName)) ∈ lw_all := lw_g (lw_at lw_m8 122 rfl) rfl
theorem q1953 : (Jvm.Cond.methodLink "UnseenClockLaw" (45 : Nat) ({ cls := "UnseenClockModel", name := "looks", desc := "(III)I" } : Jvm.MethodName)) ∈ lw_all := lw_g (lw_at lw_m8 143 rfl) rfl
theorem q2026 : (Jvm.Cond.methodLink "UnseenClockLaw" (49 : Nat) ({ cls := "UnseenClockModel", name := "eyes", desc := "(II)I" } : Jvm.MethodName)) ∈ lw_all := lw_g (lw_at lw_m8 216 rfl) rfl
theorem q2030 : (Jvm.Cond.methodLink "UnseenClockLaw" (53 : Nat) ({ cls := "UnseenClockModel", name := "shows", desc := "(II)I" } : Jvm.MethodName)) ∈ lw_all := lw_g (lw_at lw_m8 220 rfl) rfl
theorem q2042 : (Jvm.Cond.methodLink "UnseenClockLaw" (57 : Nat) ({ cls := "UnseenClockModel", name := "value", desc := "(III)I" } : Jvm.MethodName)) ∈ lw_all := lw_g (lw_at lw_m8 232 rfl) rfl
theorem q2046 : (Jvm.Cond.methodLink "UnseenClockLaw" (61 : Nat) ({ cls := "UnseenClockModel", name := "still", desc := "(II)I" } : Jvm.MethodName)) ∈ lw_all := lw_g (lw_at lw_m8 236 rfl) rfl
theorem q2050 : (Jvm.Cond.methodLink "UnseenClockLaw" (65 : Nat) ({ cls := "UnseenClockModel", name := "open", desc := "()I" } : Jvm.MethodName)) ∈ lw_all := lw_g (lw_at lw_m9 0 rfl) rfl
theorem q2054 : (Jvm.Cond.methodLink "UnseenClockLaw" (69 : Nat) ({ cls := "UnseenClockModel", name := "opens", desc := "(I)I" } : Jvm.MethodName)) ∈ lw_all := lw_g (lw_at lw_m9 4 rfl) rfl
theorem q2058 : (Jvm.Cond.methodLink "UnseenClockLaw" (73 : Nat) ({ cls := "UnseenClockModel", name := "bell", desc := "(II)I" } : Jvm.MethodName)) ∈ lw_all := lw_g (lw_at lw_m9 8 rfl) rfl
theorem q2071 : (Jvm.Cond.methodLink "UnseenClockLaw" (77 : Nat) ({ cls := "UnseenClockModel", name := "courses", desc := "()I" } : Jvm.MethodName)) ∈ lw_all := lw_g (lw_at lw_m9 21 rfl) rfl
theorem q2087 : (Jvm.Cond.methodLink "UnseenClockLaw" (81 : Nat) ({ cls := "UnseenClockModel", name := "among", desc := "(III)I" } : Jvm.MethodName)) ∈ lw_all := lw_g (lw_at lw_m9 37 rfl) rfl
theorem q2095 : (Jvm.Cond.methodLink "UnseenClockLaw" (85 : Nat) ({ cls := "UnseenClockModel", name := "agree", desc := "(I)I" } : Jvm.MethodName)) ∈ lw_all := lw_g (lw_at lw_m9 45 rfl) rfl
theorem q2111 : (Jvm.Cond.methodLink "UnseenClockLaw" (89 : Nat) ({ cls := "UnseenClockModel", name := "sure", desc := "(III)I" } : Jvm.MethodName)) ∈ lw_all := lw_g (lw_at lw_m9 61 rfl) rfl
theorem q2119 : (Jvm.Cond.methodLink "UnseenClockLaw" (93 : Nat) ({ cls := "UnseenClockModel", name := "needs", desc := "(III)I" } : Jvm.MethodName)) ∈ lw_all := lw_g (lw_at lw_m9 69 rfl) rfl
theorem q2126 : (Jvm.Cond.methodLink "UnseenClockLaw" (97 : Nat) ({ cls := "UnseenClockModel", name := "knows", desc := "(III)I" } : Jvm.MethodName)) ∈ lw_all := lw_g (lw_at lw_m9 76 rfl) rfl
theorem q2142 : (Jvm.Cond.methodLink "UnseenClockLaw" (101 : Nat) ({ cls := "UnseenClockModel", name := "common", desc := "(III)I" } : Jvm.MethodName)) ∈ lw_all := lw_g (lw_at lw_m9 92 rfl) rfl
theorem q2154 : (Jvm.Cond.methodLink "UnseenClockLaw" (105 : Nat) ({ cls := "UnseenClockModel", name := "alike", desc := "(I)I" } : Jvm.MethodName)) ∈ lw_all := lw_g (lw_at lw_m9 104 rfl) rfl
theorem q2158 : (Jvm.Cond.methodLink "UnseenClockLaw" (110 : Nat) ({ cls := "UnseenClockModel", name := "lie", desc := "(IIII)I" } : Jvm.MethodName)) ∈ lw_all := lw_g (lw_at lw_m9 108 rfl) rfl
theorem q2170 : (Jvm.Cond.methodLink "UnseenClockLaw" (114 : Nat) ({ cls := "UnseenClockModel", name := "shown", desc := "(IIII)I" } : Jvm.MethodName)) ∈ lw_all := lw_g (lw_at lw_m9 120 rfl) rfl
theorem q2174 : (Jvm.Cond.methodLink "UnseenClockLaw" (118 : Nat) ({ cls := "UnseenClockModel", name := "both", desc := "(IIII)I" } : Jvm.MethodName)) ∈ lw_all := lw_g (lw_at lw_m9 124 rfl) rfl
theorem q2182 : (Jvm.Cond.methodLink "UnseenClockLaw" (122 : Nat) ({ cls := "UnseenClockModel", name := "learns", desc := "(III)I" } : Jvm.MethodName)) ∈ lw_all := lw_g (lw_at lw_m9 132 rfl) rfl
theorem q2186 : (Jvm.Cond.methodLink "UnseenClockLaw" (126 : Nat) ({ cls := "UnseenClockModel", name := "sights", desc := "(I)I" } : Jvm.MethodName)) ∈ lw_all := lw_g (lw_at lw_m9 136 rfl) rfl
theorem q2190 : (Jvm.Cond.methodLink "UnseenClockLaw" (130 : Nat) ({ cls := "UnseenClockModel", name := "meets", desc := "(II)I" } : Jvm.MethodName)) ∈ lw_all := lw_g (lw_at lw_m9 140 rfl) rfl
theorem q2194 : (Jvm.Cond.methodLink "UnseenClockLaw" (134 : Nat) ({ cls := "UnseenClockModel", name := "spots", desc := "(I)I" } : Jvm.MethodName)) ∈ lw_all := lw_g (lw_at lw_m9 144 rfl) rfl
theorem q2198 : (Jvm.Cond.methodLink "UnseenClockLaw" (138 : Nat) ({ cls := "UnseenClockModel", name := "when", desc := "(II)I" } : Jvm.MethodName)) ∈ lw_all := lw_g (lw_at lw_m9 148 rfl) rfl
theorem q2202 : (Jvm.Cond.methodLink "UnseenClockLaw" (142 : Nat) ({ cls := "UnseenClockModel", name := "hours", desc := "(I)I" } : Jvm.MethodName)) ∈ lw_all := lw_g (lw_at lw_m9 152 rfl) rfl
theorem q2206 : (Jvm.Cond.methodLink "UnseenClockLaw" (146 : Nat) ({ cls := "UnseenClockModel", name := "without", desc := "(III)I" } : Jvm.MethodName)) ∈ lw_all := lw_g (lw_at lw_m9 156 rfl) rfl
theorem q2210 : (Jvm.Cond.methodLink "UnseenClockLaw" (150 : Nat) ({ cls := "UnseenClockModel", name := "hush", desc := "(IIII)I" } : Jvm.MethodName)) ∈ lw_all := lw_g (lw_at lw_m9 160 rfl) rfl
theorem q2218 : (Jvm.Cond.methodLink "UnseenClockLaw" (155 : Nat) ({ cls := "UnseenClockModel", name := "call", desc := "(IZ)I" } : Jvm.MethodName)) ∈ lw_all := lw_g (lw_at lw_m9 168 rfl) rfl
theorem q2222 : (Jvm.Cond.methodLink "UnseenClockLaw" (159 : Nat) ({ cls := "UnseenClockModel", name := "away", desc := "(IIII)I" } : Jvm.MethodName)) ∈ lw_all := lw_g (lw_at lw_m9 172 rfl) rfl
theorem q2230 : (Jvm.Cond.methodLink "UnseenClockLaw" (163 : Nat) ({ cls := "UnseenClockModel", name := "kept", desc := "(III)I" } : Jvm.MethodName)) ∈ lw_all := lw_g (lw_at lw_m9 180 rfl) rfl
theorem q2239 : (Jvm.Cond.methodLink "UnseenClockLaw" (167 : Nat) ({ cls := "UnseenClockModel", name := "keep", desc := "(III)I" } : Jvm.MethodName)) ∈ lw_all := lw_g (lw_at lw_m9 189 rfl) rfl
theorem q2247 : (Jvm.Cond.methodLink "UnseenClockLaw" (171 : Nat) ({ cls := "UnseenClockModel", name := "shifts", desc := "(IIII)I" } : Jvm.MethodName)) ∈ lw_all := lw_g (lw_at lw_m9 197 rfl) rfl
theorem q2251 : (Jvm.Cond.methodLink "UnseenClockLaw" (175 : Nat) ({ cls := "UnseenClockModel", name := "last", desc := "(III)I" } : Jvm.MethodName)) ∈ lw_all := lw_g (lw_at lw_m9 201 rfl) rfl
theorem q2255 : (Jvm.Cond.methodLink "UnseenClockLaw" (179 : Nat) ({ cls := "UnseenClockModel", name := "all", desc := "(III)I" } : Jvm.MethodName)) ∈ lw_all := lw_g (lw_at lw_m9 205 rfl) rfl
theorem q2259 : (Jvm.Cond.methodLink "UnseenClockLaw" (183 : Nat) ({ cls := "UnseenClockModel", name := "pace", desc := "(III)I" } : Jvm.MethodName)) ∈ lw_all := lw_g (lw_at lw_m9 209 rfl) rfl
theorem q2263 : (Jvm.Cond.methodLink "UnseenClockLaw" (187 : Nat) ({ cls := "UnseenClockModel", name := "mends", desc := "(II)I" } : Jvm.MethodName)) ∈ lw_all := lw_g (lw_at lw_m9 213 rfl) rfl
theorem q2268 : (Jvm.Cond.methodLink "UnseenClockLaw" (191 : Nat) ({ cls := "UnseenClockModel", name := "day", desc := "(III)I" } : Jvm.MethodName)) ∈ lw_all := lw_g (lw_at lw_m9 218 rfl) rfl
theorem q2277 : (Jvm.Cond.methodLink "UnseenClockLaw" (195 : Nat) ({ cls := "UnseenClockModel", name := "days", desc := "(IIIII)I" } : Jvm.MethodName)) ∈ lw_all := lw_g (lw_at lw_m9 227 rfl) rfl
theorem q2282 : (Jvm.Cond.methodLink "UnseenClockLaw" (199 : Nat) ({ cls := "UnseenClockModel", name := "count", desc := "(I)I" } : Jvm.MethodName)) ∈ lw_all := lw_g (lw_at lw_m9 232 rfl) rfl
theorem q2286 : (Jvm.Cond.methodLink "UnseenClockLaw" (211 : Nat) ({ cls := "UnseenClockModel", name := "row", desc := "(III)I" } : Jvm.MethodName)) ∈ lw_all := lw_g (lw_at lw_m9 236 rfl) rfl
theorem q2290 : (Jvm.Cond.methodLink "UnseenClockLaw" (218 : Nat) ({ cls := "UnseenClockModel", name := "write", desc := "(IIJ)I" } : Jvm.MethodName)) ∈ lw_all := lw_g (lw_at lw_m10 0 rfl) rfl
theorem q2297 : (Jvm.Cond.methodLink "UnseenClockLaw" (222 : Nat) ({ cls := "UnseenClockModel", name := "paste", desc := "(IIIII)I" } : Jvm.MethodName)) ∈ lw_all := lw_g (lw_at lw_m10 7 rfl) rfl
theorem q2301 : (Jvm.Cond.constantLong "UnseenClockLaw" (212 : Nat) (4294967295 : Int64)) ∈ lw_all := lw_g (lw_at lw_m10 11 rfl) rfl
theorem q2337 : (Jvm.Cond.castable "[B" "java/lang/Object") ∈ lw_tbl := lw_at lw_m10 47 rfl
set_option maxRecDepth 100000
theorem q2339 : (Jvm.Cond.castable "[I" "java/lang/Object") ∈ lw_tbl := lw_at lw_m10 49 rfl
set_option maxRecDepth 100000
theorem q2340 : (Jvm.Cond.castable "[J" "java/lang/Object") ∈ lw_tbl := lw_at lw_m10 50 rfl
set_option maxRecDepth 100000
theorem q2346 : (Jvm.Cond.castable "[LUnseenClock$Image;" "java/lang/Object") ∈ lw_tbl := lw_at lw_m10 56 rfl
set_option maxRecDepth 100000
theorem q2341 : (Jvm.Cond.castable "[LUnseenClock$Slot;" "java/lang/Object") ∈ lw_tbl := lw_at lw_m10 51 rfl
set_option maxRecDepth 100000
theorem q2334 : (Jvm.Cond.sameMethod "[Ljava/lang/Object;" "java/lang/Object" "getClass" "()Ljava/lang/Class;") ∈ lw_all := lw_g (lw_at lw_m10 44 rfl) rfl
set_option maxRecDepth 100000
theorem q2335 : (Jvm.Cond.selects "[Ljava/lang/Object;" ({ cls := "java/lang/Object", name := "getClass", desc := "()Ljava/lang/Class;" } : Jvm.MethodName) ({ cls := "java/lang/Object", name := "getClass", desc := "()Ljava/lang/Class;" } : Jvm.MethodName)) ∈ lw_all := lw_g (lw_at lw_m10 45 rfl) rfl
theorem q2342 : (Jvm.Cond.castable "[Ljava/lang/Object;" "java/lang/Object") ∈ lw_tbl := lw_at lw_m10 52 rfl
theorem q2338 : (Jvm.Cond.castable "[S" "java/lang/Object") ∈ lw_tbl := lw_at lw_m10 48 rfl
set_option maxRecDepth 100000
theorem q2344 : (Jvm.Cond.castable "[Z" "java/lang/Object") ∈ lw_tbl := lw_at lw_m10 54 rfl
set_option maxRecDepth 100000
theorem q2343 : (Jvm.Cond.castable "[[I" "java/lang/Object") ∈ lw_tbl := lw_at lw_m10 53 rfl
set_option maxRecDepth 100000
theorem q2345 : (Jvm.Cond.castable "[[Z" "java/lang/Object") ∈ lw_tbl := lw_at lw_m10 55 rfl
set_option maxRecDepth 100000
theorem q153 : (Jvm.Cond.initialized "java/lang/System") ∈ lw_all := lw_g (lw_at lw_m1 23 rfl) rfl
set_option maxRecDepth 100000
theorem q370 : (Jvm.Cond.static ({ cls := "java/lang/System", name := "arraycopy", desc := "(Ljava/lang/Object;ILjava/lang/Object;II)V" } : Jvm.MethodName)) ∈ lw_all := lw_g (lw_at lw_m2 0 rfl) rfl
theorem q371 : (Jvm.Cond.native ({ cls := "java/lang/System", name := "arraycopy", desc := "(Ljava/lang/Object;ILjava/lang/Object;II)V" } : Jvm.MethodName)) ∈ lw_all := lw_g (lw_at lw_m2 1 rfl) rfl
theorem q800 : (Jvm.Cond.interfaceMethod "java/util/List" "java/util/List" "size" "()I") ∈ lw_tbl := lw_at lw_m3 190 rfl
set_option maxRecDepth 100000
theorem q801 : (Jvm.Cond.declares ({ cls := "java/util/List", name := "size", desc := "()I" } : Jvm.MethodName)) ∈ lw_tbl := lw_at lw_m3 191 rfl
theorem q810 : (Jvm.Cond.interfaceMethod "java/util/List" "java/util/List" "get" "(I)Ljava/lang/Object;") ∈ lw_tbl := lw_at lw_m3 200 rfl
theorem q811 : (Jvm.Cond.declares ({ cls := "java/util/List", name := "get", desc := "(I)Ljava/lang/Object;" } : Jvm.MethodName)) ∈ lw_tbl := lw_at lw_m3 201 rfl
theorem q871 : (Jvm.Cond.interfaceMethod "java/util/List" "java/util/List" "add" "(Ljava/lang/Object;)Z") ∈ lw_tbl := lw_at lw_m4 21 rfl
theorem q872 : (Jvm.Cond.declares ({ cls := "java/util/List", name := "add", desc := "(Ljava/lang/Object;)Z" } : Jvm.MethodName)) ∈ lw_tbl := lw_at lw_m4 22 rfl
theorem q995 : (Jvm.Cond.interfaceMethod "java/util/List" "java/util/List" "isEmpty" "()Z") ∈ lw_tbl := lw_at lw_m4 145 rfl
theorem q996 : (Jvm.Cond.declares ({ cls := "java/util/List", name := "isEmpty", desc := "()Z" } : Jvm.MethodName)) ∈ lw_tbl := lw_at lw_m4 146 rfl
theorem q269 : (Jvm.Cond.arrayClass Jvm.ClassFile.FieldType.byte) ∈ lw_all := lw_g (lw_at lw_m1 139 rfl) rfl
set_option maxRecDepth 100000
theorem q274 : (Jvm.Cond.arrayClass Jvm.ClassFile.FieldType.short) ∈ lw_all := lw_g (lw_at lw_m1 144 rfl) rfl
theorem q275 : (Jvm.Cond.arrayClass Jvm.ClassFile.FieldType.int) ∈ lw_all := lw_g (lw_at lw_m1 145 rfl) rfl
theorem q276 : (Jvm.Cond.arrayClass Jvm.ClassFile.FieldType.long) ∈ lw_all := lw_g (lw_at lw_m1 146 rfl) rfl
theorem q379 : (Jvm.Cond.arrayOver (Jvm.ClassFile.FieldType.object "UnseenClock$Slot")) ∈ lw_tbl := lw_at lw_m2 9 rfl
theorem q408 : (Jvm.Cond.arrayOver (Jvm.ClassFile.FieldType.object "java/lang/Object")) ∈ lw_tbl := lw_at lw_m2 38 rfl
theorem q424 : (Jvm.Cond.arrayOver (Jvm.ClassFile.FieldType.array Jvm.ClassFile.FieldType.int)) ∈ lw_tbl := lw_at lw_m2 54 rfl
theorem q473 : (Jvm.Cond.arrayClass Jvm.ClassFile.FieldType.boolean) ∈ lw_all := lw_g (lw_at lw_m2 103 rfl) rfl
theorem q482 : (Jvm.Cond.arrayOver (Jvm.ClassFile.FieldType.array Jvm.ClassFile.FieldType.boolean)) ∈ lw_tbl := lw_at lw_m2 112 rfl
theorem q555 : (Jvm.Cond.arrayOver (Jvm.ClassFile.FieldType.object "UnseenClock$Image")) ∈ lw_tbl := lw_at lw_m2 185 rfl
