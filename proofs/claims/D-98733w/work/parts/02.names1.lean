/-! DECODE ROWS BY BYTES: one lemma an opcode; a method's code is cut into short pieces once, and a row reads its own piece alone. -/
set_option maxRecDepth 100000
/-- the code has just these bytes from pc on -/
def DkAt (code : ByteArray) (pc : Nat) (bs : List UInt8) : Prop := ∀ (j : Nat) (b : UInt8), bs[j]? = some b → code.data.toList[pc + j]? = some b
/-- the piece W has the bytes bs from its place j on -/
def dkIn (W : List UInt8) (j : Nat) (bs : List UInt8) : Bool := decide ((W.drop j).take bs.length = bs)
theorem dk_seg {l W T : List UInt8} {o o2 : Nat} (h : l.drop o = W ++ T) (n : Nat) (hn : W.length = n) (ho : o + n = o2) : l.drop o2 = T := by
  subst ho
  rw [← List.drop_drop, h, List.drop_left' hn]
theorem dk_at {code : ByteArray} {W T bs : List UInt8} {o pc : Nat} (h : code.data.toList.drop o = W ++ T) (j : Nat) (hp : o + j = pc) (hw : dkIn W j bs = true) : DkAt code pc bs := by
  subst hp
  intro i b e
  have h1 := of_decide_eq_true hw
  have h2 : i < bs.length := (List.getElem?_eq_some_iff.mp e).1
  have h3 : W[j + i]? = some b := by
    rw [← h1, List.getElem?_take, if_pos h2, List.getElem?_drop] at e
    exact e
  have h4 : j + i < W.length := (List.getElem?_eq_some_iff.mp h3).1
  have h5 : (code.data.toList.drop o)[j + i]? = some b := by
    rw [h, List.getElem?_append_left h4]
    exact h3
  rw [List.getElem?_drop, ← Nat.add_assoc] at h5
  exact h5
theorem dk_u1 {A : ByteArray} {p : Nat} {b : UInt8} (h : A.data.toList[p]? = some b) : (Reader.u1 : Reader DecodeError Nat) A p = .ok (b.toNat, p + 1) := by
  obtain ⟨h1, h2⟩ := List.getElem?_eq_some_iff.mp h
  have h3 : p < A.size := by simpa using h1
  have h4 : A[p]'h3 = b := h2
  have e : (Reader.u1 : Reader DecodeError Nat) A p = (if h : p < A.size then .ok (A[p].toNat, p + 1) else .error (HasTruncated.truncated p)) := by
    show (do if h : p < A.size then do set (p + 1); Pure.pure A[p].toNat else MonadExcept.throw (HasTruncated.truncated p) : Reader DecodeError Nat) A p = _
    by_cases hi : p < A.size
    · rw [dif_pos hi, dif_pos hi]; rfl
    · rw [dif_neg hi, dif_neg hi]; rfl
  rw [e, dif_pos h3, h4]
theorem dk_bind {α β : Type} {r : Reader DecodeError α} {f : α → Reader DecodeError β} {A : ByteArray} {p s : Nat} {a : α} (h : r A p = .ok (a, s)) : (r >>= f) A p = f a A s := by
  show (do let (a, s) ← r A p; f a A s : Except DecodeError (β × Nat)) = _
  rw [h]
  rfl
theorem dk_map {α β : Type} {r : Reader DecodeError α} {g : α → β} {A : ByteArray} {p s : Nat} {a : α} (h : r A p = .ok (a, s)) : (g <$> r) A p = .ok (g a, s) := by
  show (do let (a, s) ← r A p; .ok (g a, s) : Except DecodeError (β × Nat)) = _
  rw [h]
  rfl
theorem dk_u2 {A : ByteArray} {p : Nat} {a b : UInt8} (h : A.data.toList[p]? = some a) (h2 : A.data.toList[p + 1]? = some b) : (Reader.u2 : Reader DecodeError Nat) A p = .ok (a.toNat * 256 + b.toNat, p + 2) := by
  show (Reader.u1 >>= fun hi => Reader.u1 >>= fun lo => Pure.pure (hi * 256 + lo) : Reader DecodeError Nat) A p = _
  rw [dk_bind (dk_u1 h), dk_bind (dk_u1 h2)]
  rfl
theorem dk_of {code : ByteArray} {pc n : Nat} {i : Instr} (h : Decoder.instr pc code pc = .ok (i, pc + n)) : decode code pc = .ok (i, n) := by
  have e : decode code pc = (match Decoder.instr pc code pc with | .error x => .error x | .ok (j, s) => .ok (j, s - pc)) := by
    show (do let (j, s) ← Decoder.instr pc code pc; Pure.pure (j, s - pc) : Except DecodeError (Instr × Nat)) = _
    cases Decoder.instr pc code pc <;> rfl
  rw [e, h]
  show Except.ok (i, pc + n - pc) = _
  rw [Nat.add_sub_cancel_left]
theorem dk_1 {code : ByteArray} {pc : Nat} (h : DkAt code pc [1]) : decode code pc = .ok (.aconst_null, 1) := dk_of ((dk_bind (dk_u1 (h 0 _ rfl))).trans rfl)
theorem dk_2 {code : ByteArray} {pc : Nat} (h : DkAt code pc [2]) : decode code pc = .ok (.iconst (-1), 1) := dk_of ((dk_bind (dk_u1 (h 0 _ rfl))).trans rfl)
theorem dk_3 {code : ByteArray} {pc : Nat} (h : DkAt code pc [3]) : decode code pc = .ok (.iconst 0, 1) := dk_of ((dk_bind (dk_u1 (h 0 _ rfl))).trans rfl)
theorem dk_4 {code : ByteArray} {pc : Nat} (h : DkAt code pc [4]) : decode code pc = .ok (.iconst 1, 1) := dk_of ((dk_bind (dk_u1 (h 0 _ rfl))).trans rfl)
theorem dk_5 {code : ByteArray} {pc : Nat} (h : DkAt code pc [5]) : decode code pc = .ok (.iconst 2, 1) := dk_of ((dk_bind (dk_u1 (h 0 _ rfl))).trans rfl)
theorem dk_6 {code : ByteArray} {pc : Nat} (h : DkAt code pc [6]) : decode code pc = .ok (.iconst 3, 1) := dk_of ((dk_bind (dk_u1 (h 0 _ rfl))).trans rfl)
theorem dk_7 {code : ByteArray} {pc : Nat} (h : DkAt code pc [7]) : decode code pc = .ok (.iconst 4, 1) := dk_of ((dk_bind (dk_u1 (h 0 _ rfl))).trans rfl)
theorem dk_8 {code : ByteArray} {pc : Nat} (h : DkAt code pc [8]) : decode code pc = .ok (.iconst 5, 1) := dk_of ((dk_bind (dk_u1 (h 0 _ rfl))).trans rfl)
theorem dk_9 {code : ByteArray} {pc : Nat} (h : DkAt code pc [9]) : decode code pc = .ok (.lconst 0, 1) := dk_of ((dk_bind (dk_u1 (h 0 _ rfl))).trans rfl)
theorem dk_10 {code : ByteArray} {pc : Nat} (h : DkAt code pc [10]) : decode code pc = .ok (.lconst 1, 1) := dk_of ((dk_bind (dk_u1 (h 0 _ rfl))).trans rfl)
theorem dk_16 {code : ByteArray} {pc : Nat} (a : UInt8) (h : DkAt code pc [16, a]) : decode code pc = .ok (.bipush (Reader.signed 8 a.toNat), 2) := dk_of ((dk_bind (dk_u1 (h 0 _ rfl))).trans ((dk_bind (dk_map (dk_u1 (h 1 _ rfl)))).trans rfl))
theorem dk_17 {code : ByteArray} {pc : Nat} (a b : UInt8) (h : DkAt code pc [17, a, b]) : decode code pc = .ok (.sipush (Reader.signed 16 (a.toNat * 256 + b.toNat)), 3) := dk_of ((dk_bind (dk_u1 (h 0 _ rfl))).trans ((dk_bind (dk_map (dk_u2 (h 1 _ rfl) (h 2 _ rfl)))).trans rfl))
theorem dk_18 {code : ByteArray} {pc : Nat} (a : UInt8) (h : DkAt code pc [18, a]) : decode code pc = .ok (.ldc a.toNat, 2) := dk_of ((dk_bind (dk_u1 (h 0 _ rfl))).trans ((dk_bind (dk_u1 (h 1 _ rfl))).trans rfl))
theorem dk_19 {code : ByteArray} {pc : Nat} (a b : UInt8) (h : DkAt code pc [19, a, b]) : decode code pc = .ok (.ldc_w (a.toNat * 256 + b.toNat), 3) := dk_of ((dk_bind (dk_u1 (h 0 _ rfl))).trans ((dk_bind (dk_u2 (h 1 _ rfl) (h 2 _ rfl))).trans rfl))
theorem dk_20 {code : ByteArray} {pc : Nat} (a b : UInt8) (h : DkAt code pc [20, a, b]) : decode code pc = .ok (.ldc2_w (a.toNat * 256 + b.toNat), 3) := dk_of ((dk_bind (dk_u1 (h 0 _ rfl))).trans ((dk_bind (dk_u2 (h 1 _ rfl) (h 2 _ rfl))).trans rfl))
theorem dk_21 {code : ByteArray} {pc : Nat} (a : UInt8) (h : DkAt code pc [21, a]) : decode code pc = .ok (.iload a.toNat, 2) := dk_of ((dk_bind (dk_u1 (h 0 _ rfl))).trans ((dk_bind (dk_u1 (h 1 _ rfl))).trans rfl))
theorem dk_22 {code : ByteArray} {pc : Nat} (a : UInt8) (h : DkAt code pc [22, a]) : decode code pc = .ok (.lload a.toNat, 2) := dk_of ((dk_bind (dk_u1 (h 0 _ rfl))).trans ((dk_bind (dk_u1 (h 1 _ rfl))).trans rfl))
theorem dk_25 {code : ByteArray} {pc : Nat} (a : UInt8) (h : DkAt code pc [25, a]) : decode code pc = .ok (.aload a.toNat, 2) := dk_of ((dk_bind (dk_u1 (h 0 _ rfl))).trans ((dk_bind (dk_u1 (h 1 _ rfl))).trans rfl))
theorem dk_26 {code : ByteArray} {pc : Nat} (h : DkAt code pc [26]) : decode code pc = .ok (.iload_n 0, 1) := dk_of ((dk_bind (dk_u1 (h 0 _ rfl))).trans rfl)
theorem dk_27 {code : ByteArray} {pc : Nat} (h : DkAt code pc [27]) : decode code pc = .ok (.iload_n 1, 1) := dk_of ((dk_bind (dk_u1 (h 0 _ rfl))).trans rfl)
theorem dk_28 {code : ByteArray} {pc : Nat} (h : DkAt code pc [28]) : decode code pc = .ok (.iload_n 2, 1) := dk_of ((dk_bind (dk_u1 (h 0 _ rfl))).trans rfl)
theorem dk_29 {code : ByteArray} {pc : Nat} (h : DkAt code pc [29]) : decode code pc = .ok (.iload_n 3, 1) := dk_of ((dk_bind (dk_u1 (h 0 _ rfl))).trans rfl)
theorem dk_30 {code : ByteArray} {pc : Nat} (h : DkAt code pc [30]) : decode code pc = .ok (.lload_n 0, 1) := dk_of ((dk_bind (dk_u1 (h 0 _ rfl))).trans rfl)
theorem dk_31 {code : ByteArray} {pc : Nat} (h : DkAt code pc [31]) : decode code pc = .ok (.lload_n 1, 1) := dk_of ((dk_bind (dk_u1 (h 0 _ rfl))).trans rfl)
theorem dk_32 {code : ByteArray} {pc : Nat} (h : DkAt code pc [32]) : decode code pc = .ok (.lload_n 2, 1) := dk_of ((dk_bind (dk_u1 (h 0 _ rfl))).trans rfl)
theorem dk_33 {code : ByteArray} {pc : Nat} (h : DkAt code pc [33]) : decode code pc = .ok (.lload_n 3, 1) := dk_of ((dk_bind (dk_u1 (h 0 _ rfl))).trans rfl)
theorem dk_42 {code : ByteArray} {pc : Nat} (h : DkAt code pc [42]) : decode code pc = .ok (.aload_n 0, 1) := dk_of ((dk_bind (dk_u1 (h 0 _ rfl))).trans rfl)
theorem dk_43 {code : ByteArray} {pc : Nat} (h : DkAt code pc [43]) : decode code pc = .ok (.aload_n 1, 1) := dk_of ((dk_bind (dk_u1 (h 0 _ rfl))).trans rfl)
theorem dk_44 {code : ByteArray} {pc : Nat} (h : DkAt code pc [44]) : decode code pc = .ok (.aload_n 2, 1) := dk_of ((dk_bind (dk_u1 (h 0 _ rfl))).trans rfl)
theorem dk_45 {code : ByteArray} {pc : Nat} (h : DkAt code pc [45]) : decode code pc = .ok (.aload_n 3, 1) := dk_of ((dk_bind (dk_u1 (h 0 _ rfl))).trans rfl)
theorem dk_46 {code : ByteArray} {pc : Nat} (h : DkAt code pc [46]) : decode code pc = .ok (.iaload, 1) := dk_of ((dk_bind (dk_u1 (h 0 _ rfl))).trans rfl)
theorem dk_47 {code : ByteArray} {pc : Nat} (h : DkAt code pc [47]) : decode code pc = .ok (.laload, 1) := dk_of ((dk_bind (dk_u1 (h 0 _ rfl))).trans rfl)
theorem dk_50 {code : ByteArray} {pc : Nat} (h : DkAt code pc [50]) : decode code pc = .ok (.aaload, 1) := dk_of ((dk_bind (dk_u1 (h 0 _ rfl))).trans rfl)
theorem dk_51 {code : ByteArray} {pc : Nat} (h : DkAt code pc [51]) : decode code pc = .ok (.baload, 1) := dk_of ((dk_bind (dk_u1 (h 0 _ rfl))).trans rfl)
theorem dk_53 {code : ByteArray} {pc : Nat} (h : DkAt code pc [53]) : decode code pc = .ok (.saload, 1) := dk_of ((dk_bind (dk_u1 (h 0 _ rfl))).trans rfl)
theorem dk_54 {code : ByteArray} {pc : Nat} (a : UInt8) (h : DkAt code pc [54, a]) : decode code pc = .ok (.istore a.toNat, 2) := dk_of ((dk_bind (dk_u1 (h 0 _ rfl))).trans ((dk_bind (dk_u1 (h 1 _ rfl))).trans rfl))
theorem dk_55 {code : ByteArray} {pc : Nat} (a : UInt8) (h : DkAt code pc [55, a]) : decode code pc = .ok (.lstore a.toNat, 2) := dk_of ((dk_bind (dk_u1 (h 0 _ rfl))).trans ((dk_bind (dk_u1 (h 1 _ rfl))).trans rfl))
theorem dk_58 {code : ByteArray} {pc : Nat} (a : UInt8) (h : DkAt code pc [58, a]) : decode code pc = .ok (.astore a.toNat, 2) := dk_of ((dk_bind (dk_u1 (h 0 _ rfl))).trans ((dk_bind (dk_u1 (h 1 _ rfl))).trans rfl))
theorem dk_59 {code : ByteArray} {pc : Nat} (h : DkAt code pc [59]) : decode code pc = .ok (.istore_n 0, 1) := dk_of ((dk_bind (dk_u1 (h 0 _ rfl))).trans rfl)
theorem dk_60 {code : ByteArray} {pc : Nat} (h : DkAt code pc [60]) : decode code pc = .ok (.istore_n 1, 1) := dk_of ((dk_bind (dk_u1 (h 0 _ rfl))).trans rfl)
theorem dk_61 {code : ByteArray} {pc : Nat} (h : DkAt code pc [61]) : decode code pc = .ok (.istore_n 2, 1) := dk_of ((dk_bind (dk_u1 (h 0 _ rfl))).trans rfl)
theorem dk_62 {code : ByteArray} {pc : Nat} (h : DkAt code pc [62]) : decode code pc = .ok (.istore_n 3, 1) := dk_of ((dk_bind (dk_u1 (h 0 _ rfl))).trans rfl)
theorem dk_64 {code : ByteArray} {pc : Nat} (h : DkAt code pc [64]) : decode code pc = .ok (.lstore_n 1, 1) := dk_of ((dk_bind (dk_u1 (h 0 _ rfl))).trans rfl)
theorem dk_66 {code : ByteArray} {pc : Nat} (h : DkAt code pc [66]) : decode code pc = .ok (.lstore_n 3, 1) := dk_of ((dk_bind (dk_u1 (h 0 _ rfl))).trans rfl)
theorem dk_76 {code : ByteArray} {pc : Nat} (h : DkAt code pc [76]) : decode code pc = .ok (.astore_n 1, 1) := dk_of ((dk_bind (dk_u1 (h 0 _ rfl))).trans rfl)
theorem dk_77 {code : ByteArray} {pc : Nat} (h : DkAt code pc [77]) : decode code pc = .ok (.astore_n 2, 1) := dk_of ((dk_bind (dk_u1 (h 0 _ rfl))).trans rfl)
theorem dk_78 {code : ByteArray} {pc : Nat} (h : DkAt code pc [78]) : decode code pc = .ok (.astore_n 3, 1) := dk_of ((dk_bind (dk_u1 (h 0 _ rfl))).trans rfl)
theorem dk_79 {code : ByteArray} {pc : Nat} (h : DkAt code pc [79]) : decode code pc = .ok (.iastore, 1) := dk_of ((dk_bind (dk_u1 (h 0 _ rfl))).trans rfl)
theorem dk_80 {code : ByteArray} {pc : Nat} (h : DkAt code pc [80]) : decode code pc = .ok (.lastore, 1) := dk_of ((dk_bind (dk_u1 (h 0 _ rfl))).trans rfl)
theorem dk_83 {code : ByteArray} {pc : Nat} (h : DkAt code pc [83]) : decode code pc = .ok (.aastore, 1) := dk_of ((dk_bind (dk_u1 (h 0 _ rfl))).trans rfl)
theorem dk_84 {code : ByteArray} {pc : Nat} (h : DkAt code pc [84]) : decode code pc = .ok (.bastore, 1) := dk_of ((dk_bind (dk_u1 (h 0 _ rfl))).trans rfl)
theorem dk_86 {code : ByteArray} {pc : Nat} (h : DkAt code pc [86]) : decode code pc = .ok (.sastore, 1) := dk_of ((dk_bind (dk_u1 (h 0 _ rfl))).trans rfl)
theorem dk_87 {code : ByteArray} {pc : Nat} (h : DkAt code pc [87]) : decode code pc = .ok (.pop, 1) := dk_of ((dk_bind (dk_u1 (h 0 _ rfl))).trans rfl)
theorem dk_89 {code : ByteArray} {pc : Nat} (h : DkAt code pc [89]) : decode code pc = .ok (.dup, 1) := dk_of ((dk_bind (dk_u1 (h 0 _ rfl))).trans rfl)
theorem dk_92 {code : ByteArray} {pc : Nat} (h : DkAt code pc [92]) : decode code pc = .ok (.dup2, 1) := dk_of ((dk_bind (dk_u1 (h 0 _ rfl))).trans rfl)
theorem dk_96 {code : ByteArray} {pc : Nat} (h : DkAt code pc [96]) : decode code pc = .ok (.iadd, 1) := dk_of ((dk_bind (dk_u1 (h 0 _ rfl))).trans rfl)
theorem dk_97 {code : ByteArray} {pc : Nat} (h : DkAt code pc [97]) : decode code pc = .ok (.ladd, 1) := dk_of ((dk_bind (dk_u1 (h 0 _ rfl))).trans rfl)
theorem dk_100 {code : ByteArray} {pc : Nat} (h : DkAt code pc [100]) : decode code pc = .ok (.isub, 1) := dk_of ((dk_bind (dk_u1 (h 0 _ rfl))).trans rfl)
theorem dk_101 {code : ByteArray} {pc : Nat} (h : DkAt code pc [101]) : decode code pc = .ok (.lsub, 1) := dk_of ((dk_bind (dk_u1 (h 0 _ rfl))).trans rfl)
theorem dk_104 {code : ByteArray} {pc : Nat} (h : DkAt code pc [104]) : decode code pc = .ok (.imul, 1) := dk_of ((dk_bind (dk_u1 (h 0 _ rfl))).trans rfl)
theorem dk_105 {code : ByteArray} {pc : Nat} (h : DkAt code pc [105]) : decode code pc = .ok (.lmul, 1) := dk_of ((dk_bind (dk_u1 (h 0 _ rfl))).trans rfl)
theorem dk_108 {code : ByteArray} {pc : Nat} (h : DkAt code pc [108]) : decode code pc = .ok (.idiv, 1) := dk_of ((dk_bind (dk_u1 (h 0 _ rfl))).trans rfl)
theorem dk_109 {code : ByteArray} {pc : Nat} (h : DkAt code pc [109]) : decode code pc = .ok (.ldiv, 1) := dk_of ((dk_bind (dk_u1 (h 0 _ rfl))).trans rfl)
theorem dk_112 {code : ByteArray} {pc : Nat} (h : DkAt code pc [112]) : decode code pc = .ok (.irem, 1) := dk_of ((dk_bind (dk_u1 (h 0 _ rfl))).trans rfl)
theorem dk_113 {code : ByteArray} {pc : Nat} (h : DkAt code pc [113]) : decode code pc = .ok (.lrem, 1) := dk_of ((dk_bind (dk_u1 (h 0 _ rfl))).trans rfl)
theorem dk_116 {code : ByteArray} {pc : Nat} (h : DkAt code pc [116]) : decode code pc = .ok (.ineg, 1) := dk_of ((dk_bind (dk_u1 (h 0 _ rfl))).trans rfl)
theorem dk_117 {code : ByteArray} {pc : Nat} (h : DkAt code pc [117]) : decode code pc = .ok (.lneg, 1) := dk_of ((dk_bind (dk_u1 (h 0 _ rfl))).trans rfl)
theorem dk_120 {code : ByteArray} {pc : Nat} (h : DkAt code pc [120]) : decode code pc = .ok (.ishl, 1) := dk_of ((dk_bind (dk_u1 (h 0 _ rfl))).trans rfl)
theorem dk_121 {code : ByteArray} {pc : Nat} (h : DkAt code pc [121]) : decode code pc = .ok (.lshl, 1) := dk_of ((dk_bind (dk_u1 (h 0 _ rfl))).trans rfl)
theorem dk_122 {code : ByteArray} {pc : Nat} (h : DkAt code pc [122]) : decode code pc = .ok (.ishr, 1) := dk_of ((dk_bind (dk_u1 (h 0 _ rfl))).trans rfl)
theorem dk_123 {code : ByteArray} {pc : Nat} (h : DkAt code pc [123]) : decode code pc = .ok (.lshr, 1) := dk_of ((dk_bind (dk_u1 (h 0 _ rfl))).trans rfl)
theorem dk_124 {code : ByteArray} {pc : Nat} (h : DkAt code pc [124]) : decode code pc = .ok (.iushr, 1) := dk_of ((dk_bind (dk_u1 (h 0 _ rfl))).trans rfl)
theorem dk_125 {code : ByteArray} {pc : Nat} (h : DkAt code pc [125]) : decode code pc = .ok (.lushr, 1) := dk_of ((dk_bind (dk_u1 (h 0 _ rfl))).trans rfl)
theorem dk_126 {code : ByteArray} {pc : Nat} (h : DkAt code pc [126]) : decode code pc = .ok (.iand, 1) := dk_of ((dk_bind (dk_u1 (h 0 _ rfl))).trans rfl)
theorem dk_127 {code : ByteArray} {pc : Nat} (h : DkAt code pc [127]) : decode code pc = .ok (.land, 1) := dk_of ((dk_bind (dk_u1 (h 0 _ rfl))).trans rfl)
theorem dk_128 {code : ByteArray} {pc : Nat} (h : DkAt code pc [128]) : decode code pc = .ok (.ior, 1) := dk_of ((dk_bind (dk_u1 (h 0 _ rfl))).trans rfl)
theorem dk_129 {code : ByteArray} {pc : Nat} (h : DkAt code pc [129]) : decode code pc = .ok (.lor, 1) := dk_of ((dk_bind (dk_u1 (h 0 _ rfl))).trans rfl)
theorem dk_130 {code : ByteArray} {pc : Nat} (h : DkAt code pc [130]) : decode code pc = .ok (.ixor, 1) := dk_of ((dk_bind (dk_u1 (h 0 _ rfl))).trans rfl)
theorem dk_132 {code : ByteArray} {pc : Nat} (a b : UInt8) (h : DkAt code pc [132, a, b]) : decode code pc = .ok (.iinc a.toNat (Reader.signed 8 b.toNat), 3) := dk_of ((dk_bind (dk_u1 (h 0 _ rfl))).trans ((dk_bind (dk_u1 (h 1 _ rfl))).trans ((dk_bind (dk_map (dk_u1 (h 2 _ rfl)))).trans rfl)))
theorem dk_133 {code : ByteArray} {pc : Nat} (h : DkAt code pc [133]) : decode code pc = .ok (.i2l, 1) := dk_of ((dk_bind (dk_u1 (h 0 _ rfl))).trans rfl)
theorem dk_136 {code : ByteArray} {pc : Nat} (h : DkAt code pc [136]) : decode code pc = .ok (.l2i, 1) := dk_of ((dk_bind (dk_u1 (h 0 _ rfl))).trans rfl)
theorem dk_145 {code : ByteArray} {pc : Nat} (h : DkAt code pc [145]) : decode code pc = .ok (.i2b, 1) := dk_of ((dk_bind (dk_u1 (h 0 _ rfl))).trans rfl)
theorem dk_146 {code : ByteArray} {pc : Nat} (h : DkAt code pc [146]) : decode code pc = .ok (.i2c, 1) := dk_of ((dk_bind (dk_u1 (h 0 _ rfl))).trans rfl)
theorem dk_147 {code : ByteArray} {pc : Nat} (h : DkAt code pc [147]) : decode code pc = .ok (.i2s, 1) := dk_of ((dk_bind (dk_u1 (h 0 _ rfl))).trans rfl)
theorem dk_148 {code : ByteArray} {pc : Nat} (h : DkAt code pc [148]) : decode code pc = .ok (.lcmp, 1) := dk_of ((dk_bind (dk_u1 (h 0 _ rfl))).trans rfl)
theorem dk_153 {code : ByteArray} {pc : Nat} (a b : UInt8) (h : DkAt code pc [153, a, b]) : decode code pc = .ok (.ifCond .eq (Reader.signed 16 (a.toNat * 256 + b.toNat)), 3) := dk_of ((dk_bind (dk_u1 (h 0 _ rfl))).trans ((dk_bind (dk_map (dk_u2 (h 1 _ rfl) (h 2 _ rfl)))).trans rfl))
theorem dk_154 {code : ByteArray} {pc : Nat} (a b : UInt8) (h : DkAt code pc [154, a, b]) : decode code pc = .ok (.ifCond .ne (Reader.signed 16 (a.toNat * 256 + b.toNat)), 3) := dk_of ((dk_bind (dk_u1 (h 0 _ rfl))).trans ((dk_bind (dk_map (dk_u2 (h 1 _ rfl) (h 2 _ rfl)))).trans rfl))
theorem dk_155 {code : ByteArray} {pc : Nat} (a b : UInt8) (h : DkAt code pc [155, a, b]) : decode code pc = .ok (.ifCond .lt (Reader.signed 16 (a.toNat * 256 + b.toNat)), 3) := dk_of ((dk_bind (dk_u1 (h 0 _ rfl))).trans ((dk_bind (dk_map (dk_u2 (h 1 _ rfl) (h 2 _ rfl)))).trans rfl))
theorem dk_156 {code : ByteArray} {pc : Nat} (a b : UInt8) (h : DkAt code pc [156, a, b]) : decode code pc = .ok (.ifCond .ge (Reader.signed 16 (a.toNat * 256 + b.toNat)), 3) := dk_of ((dk_bind (dk_u1 (h 0 _ rfl))).trans ((dk_bind (dk_map (dk_u2 (h 1 _ rfl) (h 2 _ rfl)))).trans rfl))
theorem dk_157 {code : ByteArray} {pc : Nat} (a b : UInt8) (h : DkAt code pc [157, a, b]) : decode code pc = .ok (.ifCond .gt (Reader.signed 16 (a.toNat * 256 + b.toNat)), 3) := dk_of ((dk_bind (dk_u1 (h 0 _ rfl))).trans ((dk_bind (dk_map (dk_u2 (h 1 _ rfl) (h 2 _ rfl)))).trans rfl))
theorem dk_158 {code : ByteArray} {pc : Nat} (a b : UInt8) (h : DkAt code pc [158, a, b]) : decode code pc = .ok (.ifCond .le (Reader.signed 16 (a.toNat * 256 + b.toNat)), 3) := dk_of ((dk_bind (dk_u1 (h 0 _ rfl))).trans ((dk_bind (dk_map (dk_u2 (h 1 _ rfl) (h 2 _ rfl)))).trans rfl))
theorem dk_159 {code : ByteArray} {pc : Nat} (a b : UInt8) (h : DkAt code pc [159, a, b]) : decode code pc = .ok (.if_icmp .eq (Reader.signed 16 (a.toNat * 256 + b.toNat)), 3) := dk_of ((dk_bind (dk_u1 (h 0 _ rfl))).trans ((dk_bind (dk_map (dk_u2 (h 1 _ rfl) (h 2 _ rfl)))).trans rfl))
theorem dk_160 {code : ByteArray} {pc : Nat} (a b : UInt8) (h : DkAt code pc [160, a, b]) : decode code pc = .ok (.if_icmp .ne (Reader.signed 16 (a.toNat * 256 + b.toNat)), 3) := dk_of ((dk_bind (dk_u1 (h 0 _ rfl))).trans ((dk_bind (dk_map (dk_u2 (h 1 _ rfl) (h 2 _ rfl)))).trans rfl))
theorem dk_161 {code : ByteArray} {pc : Nat} (a b : UInt8) (h : DkAt code pc [161, a, b]) : decode code pc = .ok (.if_icmp .lt (Reader.signed 16 (a.toNat * 256 + b.toNat)), 3) := dk_of ((dk_bind (dk_u1 (h 0 _ rfl))).trans ((dk_bind (dk_map (dk_u2 (h 1 _ rfl) (h 2 _ rfl)))).trans rfl))
theorem dk_162 {code : ByteArray} {pc : Nat} (a b : UInt8) (h : DkAt code pc [162, a, b]) : decode code pc = .ok (.if_icmp .ge (Reader.signed 16 (a.toNat * 256 + b.toNat)), 3) := dk_of ((dk_bind (dk_u1 (h 0 _ rfl))).trans ((dk_bind (dk_map (dk_u2 (h 1 _ rfl) (h 2 _ rfl)))).trans rfl))
theorem dk_163 {code : ByteArray} {pc : Nat} (a b : UInt8) (h : DkAt code pc [163, a, b]) : decode code pc = .ok (.if_icmp .gt (Reader.signed 16 (a.toNat * 256 + b.toNat)), 3) := dk_of ((dk_bind (dk_u1 (h 0 _ rfl))).trans ((dk_bind (dk_map (dk_u2 (h 1 _ rfl) (h 2 _ rfl)))).trans rfl))
theorem dk_164 {code : ByteArray} {pc : Nat} (a b : UInt8) (h : DkAt code pc [164, a, b]) : decode code pc = .ok (.if_icmp .le (Reader.signed 16 (a.toNat * 256 + b.toNat)), 3) := dk_of ((dk_bind (dk_u1 (h 0 _ rfl))).trans ((dk_bind (dk_map (dk_u2 (h 1 _ rfl) (h 2 _ rfl)))).trans rfl))
theorem dk_167 {code : ByteArray} {pc : Nat} (a b : UInt8) (h : DkAt code pc [167, a, b]) : decode code pc = .ok (.goto (Reader.signed 16 (a.toNat * 256 + b.toNat)), 3) := dk_of ((dk_bind (dk_u1 (h 0 _ rfl))).trans ((dk_bind (dk_map (dk_u2 (h 1 _ rfl) (h 2 _ rfl)))).trans rfl))
theorem dk_172 {code : ByteArray} {pc : Nat} (h : DkAt code pc [172]) : decode code pc = .ok (.ireturn, 1) := dk_of ((dk_bind (dk_u1 (h 0 _ rfl))).trans rfl)
theorem dk_173 {code : ByteArray} {pc : Nat} (h : DkAt code pc [173]) : decode code pc = .ok (.lreturn, 1) := dk_of ((dk_bind (dk_u1 (h 0 _ rfl))).trans rfl)
theorem dk_176 {code : ByteArray} {pc : Nat} (h : DkAt code pc [176]) : decode code pc = .ok (.areturn, 1) := dk_of ((dk_bind (dk_u1 (h 0 _ rfl))).trans rfl)
theorem dk_177 {code : ByteArray} {pc : Nat} (h : DkAt code pc [177]) : decode code pc = .ok (.return_, 1) := dk_of ((dk_bind (dk_u1 (h 0 _ rfl))).trans rfl)
theorem dk_178 {code : ByteArray} {pc : Nat} (a b : UInt8) (h : DkAt code pc [178, a, b]) : decode code pc = .ok (.getstatic (a.toNat * 256 + b.toNat), 3) := dk_of ((dk_bind (dk_u1 (h 0 _ rfl))).trans ((dk_bind (dk_u2 (h 1 _ rfl) (h 2 _ rfl))).trans rfl))
theorem dk_180 {code : ByteArray} {pc : Nat} (a b : UInt8) (h : DkAt code pc [180, a, b]) : decode code pc = .ok (.getfield (a.toNat * 256 + b.toNat), 3) := dk_of ((dk_bind (dk_u1 (h 0 _ rfl))).trans ((dk_bind (dk_u2 (h 1 _ rfl) (h 2 _ rfl))).trans rfl))
theorem dk_181 {code : ByteArray} {pc : Nat} (a b : UInt8) (h : DkAt code pc [181, a, b]) : decode code pc = .ok (.putfield (a.toNat * 256 + b.toNat), 3) := dk_of ((dk_bind (dk_u1 (h 0 _ rfl))).trans ((dk_bind (dk_u2 (h 1 _ rfl) (h 2 _ rfl))).trans rfl))
theorem dk_182 {code : ByteArray} {pc : Nat} (a b : UInt8) (h : DkAt code pc [182, a, b]) : decode code pc = .ok (.invokevirtual (a.toNat * 256 + b.toNat), 3) := dk_of ((dk_bind (dk_u1 (h 0 _ rfl))).trans ((dk_bind (dk_u2 (h 1 _ rfl) (h 2 _ rfl))).trans rfl))
theorem dk_183 {code : ByteArray} {pc : Nat} (a b : UInt8) (h : DkAt code pc [183, a, b]) : decode code pc = .ok (.invokespecial (a.toNat * 256 + b.toNat), 3) := dk_of ((dk_bind (dk_u1 (h 0 _ rfl))).trans ((dk_bind (dk_u2 (h 1 _ rfl) (h 2 _ rfl))).trans rfl))
theorem dk_184 {code : ByteArray} {pc : Nat} (a b : UInt8) (h : DkAt code pc [184, a, b]) : decode code pc = .ok (.invokestatic (a.toNat * 256 + b.toNat), 3) := dk_of ((dk_bind (dk_u1 (h 0 _ rfl))).trans ((dk_bind (dk_u2 (h 1 _ rfl) (h 2 _ rfl))).trans rfl))
theorem dk_187 {code : ByteArray} {pc : Nat} (a b : UInt8) (h : DkAt code pc [187, a, b]) : decode code pc = .ok (.new (a.toNat * 256 + b.toNat), 3) := dk_of ((dk_bind (dk_u1 (h 0 _ rfl))).trans ((dk_bind (dk_u2 (h 1 _ rfl) (h 2 _ rfl))).trans rfl))
theorem dk_188_8 {code : ByteArray} {pc : Nat} (h : DkAt code pc [188, 8]) : decode code pc = .ok (.newarray .byte, 2) := dk_of ((dk_bind (dk_u1 (h 0 _ rfl))).trans ((dk_bind (dk_u1 (h 1 _ rfl))).trans rfl))
theorem dk_188_9 {code : ByteArray} {pc : Nat} (h : DkAt code pc [188, 9]) : decode code pc = .ok (.newarray .short, 2) := dk_of ((dk_bind (dk_u1 (h 0 _ rfl))).trans ((dk_bind (dk_u1 (h 1 _ rfl))).trans rfl))
theorem dk_188_10 {code : ByteArray} {pc : Nat} (h : DkAt code pc [188, 10]) : decode code pc = .ok (.newarray .int, 2) := dk_of ((dk_bind (dk_u1 (h 0 _ rfl))).trans ((dk_bind (dk_u1 (h 1 _ rfl))).trans rfl))
theorem dk_188_11 {code : ByteArray} {pc : Nat} (h : DkAt code pc [188, 11]) : decode code pc = .ok (.newarray .long, 2) := dk_of ((dk_bind (dk_u1 (h 0 _ rfl))).trans ((dk_bind (dk_u1 (h 1 _ rfl))).trans rfl))
theorem dk_189 {code : ByteArray} {pc : Nat} (a b : UInt8) (h : DkAt code pc [189, a, b]) : decode code pc = .ok (.anewarray (a.toNat * 256 + b.toNat), 3) := dk_of ((dk_bind (dk_u1 (h 0 _ rfl))).trans ((dk_bind (dk_u2 (h 1 _ rfl) (h 2 _ rfl))).trans rfl))
theorem dk_190 {code : ByteArray} {pc : Nat} (h : DkAt code pc [190]) : decode code pc = .ok (.arraylength, 1) := dk_of ((dk_bind (dk_u1 (h 0 _ rfl))).trans rfl)
theorem dk_191 {code : ByteArray} {pc : Nat} (h : DkAt code pc [191]) : decode code pc = .ok (.athrow, 1) := dk_of ((dk_bind (dk_u1 (h 0 _ rfl))).trans rfl)
theorem dk_192 {code : ByteArray} {pc : Nat} (a b : UInt8) (h : DkAt code pc [192, a, b]) : decode code pc = .ok (.checkcast (a.toNat * 256 + b.toNat), 3) := dk_of ((dk_bind (dk_u1 (h 0 _ rfl))).trans ((dk_bind (dk_u2 (h 1 _ rfl) (h 2 _ rfl))).trans rfl))
theorem dk_193 {code : ByteArray} {pc : Nat} (a b : UInt8) (h : DkAt code pc [193, a, b]) : decode code pc = .ok (.instanceof (a.toNat * 256 + b.toNat), 3) := dk_of ((dk_bind (dk_u1 (h 0 _ rfl))).trans ((dk_bind (dk_u2 (h 1 _ rfl) (h 2 _ rfl))).trans rfl))
theorem dk_198 {code : ByteArray} {pc : Nat} (a b : UInt8) (h : DkAt code pc [198, a, b]) : decode code pc = .ok (.ifnull (Reader.signed 16 (a.toNat * 256 + b.toNat)), 3) := dk_of ((dk_bind (dk_u1 (h 0 _ rfl))).trans ((dk_bind (dk_map (dk_u2 (h 1 _ rfl) (h 2 _ rfl)))).trans rfl))
theorem dk_199 {code : ByteArray} {pc : Nat} (a b : UInt8) (h : DkAt code pc [199, a, b]) : decode code pc = .ok (.ifnonnull (Reader.signed 16 (a.toNat * 256 + b.toNat)), 3) := dk_of ((dk_bind (dk_u1 (h 0 _ rfl))).trans ((dk_bind (dk_map (dk_u2 (h 1 _ rfl) (h 2 _ rfl)))).trans rfl))

/-! java/lang/Throwable -/
set_option maxRecDepth 100000
def RJ0 : String := "java/lang/Throwable"
def TJ0 : u_T := fun k => match k with
  | 0 => ("java/lang/Throwable", "cause", "Ljava/lang/Throwable;", false)
  | 1 => ("java/lang/Throwable", "stackTrace", "[Ljava/lang/StackTraceElement;", false)
  | 2 => ("java/lang/Throwable", "suppressedExceptions", "Ljava/util/List;", false)
  | 3 => ("java/lang/Throwable", "detailMessage", "Ljava/lang/String;", false)
  | _ => ("java/lang/Throwable", "backtrace", "Ljava/lang/Object;", false)
def tyJ0 : Nat → FieldType := fun k => match k with
  | 0 => .object "java/lang/Throwable"
  | 1 => .array (.object "java/lang/StackTraceElement")
  | 2 => .object "java/util/List"
  | 3 => .object "java/lang/String"
  | _ => .object "java/lang/Object"
abbrev wsJ00 : List Cond := u_ws RJ0 TJ0 5
theorem nmJ0 : ∀ a, a < 5 → ∀ b, b < 5 → a ≠ b → (TJ0 a).2.1 ≠ (TJ0 b).2.1 := by decide +kernel
theorem tyJ0_ok : ∀ k, k < 5 → parseFieldDescriptor (TJ0 k).2.2.1 = some (tyJ0 k) := by decide +kernel
abbrev cJ0_init : ByteArray := prog_33_method_1_code
def yJ0_init : MethodName := ⟨RJ0, "<init>", "()V"⟩
def dkwJ0_init_1 : List UInt8 := [182, 0, 27, 87, 177]
abbrev dktJ0_init_1 : List UInt8 := dkwJ0_init_1 ++ []
def dkwJ0_init_0 : List UInt8 := [42, 183, 0, 1, 42, 42, 181, 0, 7, 42, 178, 0, 13, 181, 0, 17, 42, 178, 0, 20, 181, 0, 24, 42]
abbrev dktJ0_init_0 : List UInt8 := dkwJ0_init_0 ++ dktJ0_init_1
theorem dksJ0_init_0 : cJ0_init.data.toList.drop 0 = dktJ0_init_0 := by decide +kernel
theorem dksJ0_init_1 : cJ0_init.data.toList.drop 24 = dktJ0_init_1 := dk_seg dksJ0_init_0 24 rfl rfl
theorem dJ0_init_0 : decode cJ0_init 0 = .ok (.aload_n 0, 1) := dk_42 (dk_at dksJ0_init_0 0 rfl rfl)
theorem dJ0_init_1 : decode cJ0_init 1 = .ok (.invokespecial 1, 3) := dk_183 0 1 (dk_at dksJ0_init_0 1 rfl rfl)
theorem dJ0_init_4 : decode cJ0_init 4 = .ok (.aload_n 0, 1) := dk_42 (dk_at dksJ0_init_0 4 rfl rfl)
theorem dJ0_init_5 : decode cJ0_init 5 = .ok (.aload_n 0, 1) := dk_42 (dk_at dksJ0_init_0 5 rfl rfl)
theorem dJ0_init_6 : decode cJ0_init 6 = .ok (.putfield 7, 3) := dk_181 0 7 (dk_at dksJ0_init_0 6 rfl rfl)
theorem dJ0_init_9 : decode cJ0_init 9 = .ok (.aload_n 0, 1) := dk_42 (dk_at dksJ0_init_0 9 rfl rfl)
theorem dJ0_init_10 : decode cJ0_init 10 = .ok (.getstatic 13, 3) := dk_178 0 13 (dk_at dksJ0_init_0 10 rfl rfl)
theorem dJ0_init_13 : decode cJ0_init 13 = .ok (.putfield 17, 3) := dk_181 0 17 (dk_at dksJ0_init_0 13 rfl rfl)
theorem dJ0_init_16 : decode cJ0_init 16 = .ok (.aload_n 0, 1) := dk_42 (dk_at dksJ0_init_0 16 rfl rfl)
theorem dJ0_init_17 : decode cJ0_init 17 = .ok (.getstatic 20, 3) := dk_178 0 20 (dk_at dksJ0_init_0 17 rfl rfl)
theorem dJ0_init_20 : decode cJ0_init 20 = .ok (.putfield 24, 3) := dk_181 0 24 (dk_at dksJ0_init_0 20 rfl rfl)
theorem dJ0_init_23 : decode cJ0_init 23 = .ok (.aload_n 0, 1) := dk_42 (dk_at dksJ0_init_0 23 rfl rfl)
theorem dJ0_init_24 : decode cJ0_init 24 = .ok (.invokevirtual 27, 3) := dk_182 0 27 (dk_at dksJ0_init_1 0 rfl rfl)
theorem dJ0_init_27 : decode cJ0_init 27 = .ok (.pop, 1) := dk_87 (dk_at dksJ0_init_1 3 rfl rfl)
theorem dJ0_init_28 : decode cJ0_init 28 = .ok (.return_, 1) := dk_177 (dk_at dksJ0_init_1 4 rfl rfl)
abbrev cJ0_init_2 : ByteArray := prog_33_method_5_code
def yJ0_init_2 : MethodName := ⟨RJ0, "<init>", "(Ljava/lang/String;Ljava/lang/Throwable;ZZ)V"⟩
def dkwJ0_init_2_2 : List UInt8 := [44, 181, 0, 7, 29, 154, 0, 8, 42, 1, 181, 0, 24, 177]
abbrev dktJ0_init_2_2 : List UInt8 := dkwJ0_init_2_2 ++ []
def dkwJ0_init_2_1 : List UInt8 := [21, 4, 153, 0, 11, 42, 182, 0, 27, 87, 167, 0, 8, 42, 1, 181, 0, 17, 42, 43, 181, 0, 31, 42]
abbrev dktJ0_init_2_1 : List UInt8 := dkwJ0_init_2_1 ++ dktJ0_init_2_2
def dkwJ0_init_2_0 : List UInt8 := [42, 183, 0, 1, 42, 42, 181, 0, 7, 42, 178, 0, 13, 181, 0, 17, 42, 178, 0, 20, 181, 0, 24]
abbrev dktJ0_init_2_0 : List UInt8 := dkwJ0_init_2_0 ++ dktJ0_init_2_1
theorem dksJ0_init_2_0 : cJ0_init_2.data.toList.drop 0 = dktJ0_init_2_0 := by decide +kernel
theorem dksJ0_init_2_1 : cJ0_init_2.data.toList.drop 23 = dktJ0_init_2_1 := dk_seg dksJ0_init_2_0 23 rfl rfl
theorem dksJ0_init_2_2 : cJ0_init_2.data.toList.drop 47 = dktJ0_init_2_2 := dk_seg dksJ0_init_2_1 24 rfl rfl
theorem dJ0_init_2_0 : decode cJ0_init_2 0 = .ok (.aload_n 0, 1) := dk_42 (dk_at dksJ0_init_2_0 0 rfl rfl)
theorem dJ0_init_2_1 : decode cJ0_init_2 1 = .ok (.invokespecial 1, 3) := dk_183 0 1 (dk_at dksJ0_init_2_0 1 rfl rfl)
theorem dJ0_init_2_4 : decode cJ0_init_2 4 = .ok (.aload_n 0, 1) := dk_42 (dk_at dksJ0_init_2_0 4 rfl rfl)
theorem dJ0_init_2_5 : decode cJ0_init_2 5 = .ok (.aload_n 0, 1) := dk_42 (dk_at dksJ0_init_2_0 5 rfl rfl)
theorem dJ0_init_2_6 : decode cJ0_init_2 6 = .ok (.putfield 7, 3) := dk_181 0 7 (dk_at dksJ0_init_2_0 6 rfl rfl)
theorem dJ0_init_2_9 : decode cJ0_init_2 9 = .ok (.aload_n 0, 1) := dk_42 (dk_at dksJ0_init_2_0 9 rfl rfl)
theorem dJ0_init_2_10 : decode cJ0_init_2 10 = .ok (.getstatic 13, 3) := dk_178 0 13 (dk_at dksJ0_init_2_0 10 rfl rfl)
theorem dJ0_init_2_13 : decode cJ0_init_2 13 = .ok (.putfield 17, 3) := dk_181 0 17 (dk_at dksJ0_init_2_0 13 rfl rfl)
theorem dJ0_init_2_16 : decode cJ0_init_2 16 = .ok (.aload_n 0, 1) := dk_42 (dk_at dksJ0_init_2_0 16 rfl rfl)
theorem dJ0_init_2_17 : decode cJ0_init_2 17 = .ok (.getstatic 20, 3) := dk_178 0 20 (dk_at dksJ0_init_2_0 17 rfl rfl)
theorem dJ0_init_2_20 : decode cJ0_init_2 20 = .ok (.putfield 24, 3) := dk_181 0 24 (dk_at dksJ0_init_2_0 20 rfl rfl)
theorem dJ0_init_2_23 : decode cJ0_init_2 23 = .ok (.iload 4, 2) := dk_21 4 (dk_at dksJ0_init_2_1 0 rfl rfl)
theorem dJ0_init_2_25 : decode cJ0_init_2 25 = .ok (.ifCond .eq 11, 3) := dk_153 0 11 (dk_at dksJ0_init_2_1 2 rfl rfl)
theorem dJ0_init_2_28 : decode cJ0_init_2 28 = .ok (.aload_n 0, 1) := dk_42 (dk_at dksJ0_init_2_1 5 rfl rfl)
theorem dJ0_init_2_29 : decode cJ0_init_2 29 = .ok (.invokevirtual 27, 3) := dk_182 0 27 (dk_at dksJ0_init_2_1 6 rfl rfl)
theorem dJ0_init_2_32 : decode cJ0_init_2 32 = .ok (.pop, 1) := dk_87 (dk_at dksJ0_init_2_1 9 rfl rfl)
theorem dJ0_init_2_33 : decode cJ0_init_2 33 = .ok (.goto 8, 3) := dk_167 0 8 (dk_at dksJ0_init_2_1 10 rfl rfl)
theorem dJ0_init_2_36 : decode cJ0_init_2 36 = .ok (.aload_n 0, 1) := dk_42 (dk_at dksJ0_init_2_1 13 rfl rfl)
theorem dJ0_init_2_37 : decode cJ0_init_2 37 = .ok (.aconst_null, 1) := dk_1 (dk_at dksJ0_init_2_1 14 rfl rfl)
theorem dJ0_init_2_38 : decode cJ0_init_2 38 = .ok (.putfield 17, 3) := dk_181 0 17 (dk_at dksJ0_init_2_1 15 rfl rfl)
theorem dJ0_init_2_41 : decode cJ0_init_2 41 = .ok (.aload_n 0, 1) := dk_42 (dk_at dksJ0_init_2_1 18 rfl rfl)
theorem dJ0_init_2_42 : decode cJ0_init_2 42 = .ok (.aload_n 1, 1) := dk_43 (dk_at dksJ0_init_2_1 19 rfl rfl)
theorem dJ0_init_2_43 : decode cJ0_init_2 43 = .ok (.putfield 31, 3) := dk_181 0 31 (dk_at dksJ0_init_2_1 20 rfl rfl)
theorem dJ0_init_2_46 : decode cJ0_init_2 46 = .ok (.aload_n 0, 1) := dk_42 (dk_at dksJ0_init_2_1 23 rfl rfl)
theorem dJ0_init_2_47 : decode cJ0_init_2 47 = .ok (.aload_n 2, 1) := dk_44 (dk_at dksJ0_init_2_2 0 rfl rfl)
theorem dJ0_init_2_48 : decode cJ0_init_2 48 = .ok (.putfield 7, 3) := dk_181 0 7 (dk_at dksJ0_init_2_2 1 rfl rfl)
theorem dJ0_init_2_51 : decode cJ0_init_2 51 = .ok (.iload_n 3, 1) := dk_29 (dk_at dksJ0_init_2_2 4 rfl rfl)
theorem dJ0_init_2_52 : decode cJ0_init_2 52 = .ok (.ifCond .ne 8, 3) := dk_154 0 8 (dk_at dksJ0_init_2_2 5 rfl rfl)
theorem dJ0_init_2_55 : decode cJ0_init_2 55 = .ok (.aload_n 0, 1) := dk_42 (dk_at dksJ0_init_2_2 8 rfl rfl)
theorem dJ0_init_2_56 : decode cJ0_init_2 56 = .ok (.aconst_null, 1) := dk_1 (dk_at dksJ0_init_2_2 9 rfl rfl)
theorem dJ0_init_2_57 : decode cJ0_init_2 57 = .ok (.putfield 24, 3) := dk_181 0 24 (dk_at dksJ0_init_2_2 10 rfl rfl)
theorem dJ0_init_2_60 : decode cJ0_init_2 60 = .ok (.return_, 1) := dk_177 (dk_at dksJ0_init_2_2 13 rfl rfl)
abbrev cJ0_init_3 : ByteArray := prog_33_method_2_code
def yJ0_init_3 : MethodName := ⟨RJ0, "<init>", "(Ljava/lang/String;)V"⟩
def dkwJ0_init_3_1 : List UInt8 := [182, 0, 27, 87, 42, 43, 181, 0, 31, 177]
abbrev dktJ0_init_3_1 : List UInt8 := dkwJ0_init_3_1 ++ []
def dkwJ0_init_3_0 : List UInt8 := [42, 183, 0, 1, 42, 42, 181, 0, 7, 42, 178, 0, 13, 181, 0, 17, 42, 178, 0, 20, 181, 0, 24, 42]
abbrev dktJ0_init_3_0 : List UInt8 := dkwJ0_init_3_0 ++ dktJ0_init_3_1
theorem dksJ0_init_3_0 : cJ0_init_3.data.toList.drop 0 = dktJ0_init_3_0 := by decide +kernel
theorem dksJ0_init_3_1 : cJ0_init_3.data.toList.drop 24 = dktJ0_init_3_1 := dk_seg dksJ0_init_3_0 24 rfl rfl
theorem dJ0_init_3_0 : decode cJ0_init_3 0 = .ok (.aload_n 0, 1) := dk_42 (dk_at dksJ0_init_3_0 0 rfl rfl)
theorem dJ0_init_3_1 : decode cJ0_init_3 1 = .ok (.invokespecial 1, 3) := dk_183 0 1 (dk_at dksJ0_init_3_0 1 rfl rfl)
theorem dJ0_init_3_4 : decode cJ0_init_3 4 = .ok (.aload_n 0, 1) := dk_42 (dk_at dksJ0_init_3_0 4 rfl rfl)
theorem dJ0_init_3_5 : decode cJ0_init_3 5 = .ok (.aload_n 0, 1) := dk_42 (dk_at dksJ0_init_3_0 5 rfl rfl)
theorem dJ0_init_3_6 : decode cJ0_init_3 6 = .ok (.putfield 7, 3) := dk_181 0 7 (dk_at dksJ0_init_3_0 6 rfl rfl)
theorem dJ0_init_3_9 : decode cJ0_init_3 9 = .ok (.aload_n 0, 1) := dk_42 (dk_at dksJ0_init_3_0 9 rfl rfl)
theorem dJ0_init_3_10 : decode cJ0_init_3 10 = .ok (.getstatic 13, 3) := dk_178 0 13 (dk_at dksJ0_init_3_0 10 rfl rfl)
theorem dJ0_init_3_13 : decode cJ0_init_3 13 = .ok (.putfield 17, 3) := dk_181 0 17 (dk_at dksJ0_init_3_0 13 rfl rfl)
theorem dJ0_init_3_16 : decode cJ0_init_3 16 = .ok (.aload_n 0, 1) := dk_42 (dk_at dksJ0_init_3_0 16 rfl rfl)
theorem dJ0_init_3_17 : decode cJ0_init_3 17 = .ok (.getstatic 20, 3) := dk_178 0 20 (dk_at dksJ0_init_3_0 17 rfl rfl)
theorem dJ0_init_3_20 : decode cJ0_init_3 20 = .ok (.putfield 24, 3) := dk_181 0 24 (dk_at dksJ0_init_3_0 20 rfl rfl)
theorem dJ0_init_3_23 : decode cJ0_init_3 23 = .ok (.aload_n 0, 1) := dk_42 (dk_at dksJ0_init_3_0 23 rfl rfl)
theorem dJ0_init_3_24 : decode cJ0_init_3 24 = .ok (.invokevirtual 27, 3) := dk_182 0 27 (dk_at dksJ0_init_3_1 0 rfl rfl)
theorem dJ0_init_3_27 : decode cJ0_init_3 27 = .ok (.pop, 1) := dk_87 (dk_at dksJ0_init_3_1 3 rfl rfl)
theorem dJ0_init_3_28 : decode cJ0_init_3 28 = .ok (.aload_n 0, 1) := dk_42 (dk_at dksJ0_init_3_1 4 rfl rfl)
theorem dJ0_init_3_29 : decode cJ0_init_3 29 = .ok (.aload_n 1, 1) := dk_43 (dk_at dksJ0_init_3_1 5 rfl rfl)
theorem dJ0_init_3_30 : decode cJ0_init_3 30 = .ok (.putfield 31, 3) := dk_181 0 31 (dk_at dksJ0_init_3_1 6 rfl rfl)
theorem dJ0_init_3_33 : decode cJ0_init_3 33 = .ok (.return_, 1) := dk_177 (dk_at dksJ0_init_3_1 9 rfl rfl)
theorem q178 : (Jvm.Cond.initialized "java/lang/Throwable") ∈ lw_all := lw_g (lw_at lw_m1 3 rfl) rfl
theorem q233 : (Jvm.Cond.declares ({ cls := "java/lang/Throwable", name := "<init>", desc := "()V" } : Jvm.MethodName)) ∈ lw_tbl := lw_at lw_m1 58 rfl
theorem q234 : (Jvm.Cond.declares ({ cls := "java/lang/Throwable", name := "<init>", desc := "(Ljava/lang/String;)V" } : Jvm.MethodName)) ∈ lw_tbl := lw_at lw_m1 59 rfl
theorem q238 : (Jvm.Cond.lays "java/lang/Throwable" "java/lang/Throwable" "cause" "Ljava/lang/Throwable;") ∈ lw_all := lw_g (lw_at lw_m1 63 rfl) rfl
theorem q240 : (Jvm.Cond.lays "java/lang/Throwable" "java/lang/Throwable" "stackTrace" "[Ljava/lang/StackTraceElement;") ∈ lw_all := lw_g (lw_at lw_m1 65 rfl) rfl
theorem q242 : (Jvm.Cond.lays "java/lang/Throwable" "java/lang/Throwable" "suppressedExceptions" "Ljava/util/List;") ∈ lw_all := lw_g (lw_at lw_m1 67 rfl) rfl
theorem q244 : (Jvm.Cond.lays "java/lang/Throwable" "java/lang/Throwable" "detailMessage" "Ljava/lang/String;") ∈ lw_all := lw_g (lw_at lw_m1 69 rfl) rfl
theorem q246 : (Jvm.Cond.lays "java/lang/Throwable" "java/lang/Throwable" "backtrace" "Ljava/lang/Object;") ∈ lw_all := lw_g (lw_at lw_m1 71 rfl) rfl
theorem q247 : (Jvm.Cond.fieldLink "java/lang/Throwable" (198 : Nat) "java/lang/Throwable" "backtrace" "Ljava/lang/Object;") ∈ lw_all := lw_g (lw_at lw_m1 72 rfl) rfl
theorem q248 : (Jvm.Cond.superclass "java/lang/Throwable" "java/lang/Object") ∈ lw_all := lw_g (lw_at lw_m1 73 rfl) rfl
theorem q249 : (Jvm.Cond.instanceMethod ({ cls := "java/lang/Throwable", name := "<init>", desc := "()V" } : Jvm.MethodName)) ∈ lw_all := lw_g (lw_at lw_m1 74 rfl) rfl
theorem q250 : (Jvm.Cond.code ({ cls := "java/lang/Throwable", name := "<init>", desc := "()V" } : Jvm.MethodName) prog_33_method_1_code (1 : Nat) (Option.none : Option Jvm.ClassFile.FieldType)) ∈ lw_all := lw_g (lw_at lw_m1 75 rfl) rfl
theorem q251 : (Jvm.Cond.methodLink "java/lang/Throwable" (1 : Nat) ({ cls := "java/lang/Object", name := "<init>", desc := "()V" } : Jvm.MethodName)) ∈ lw_all := lw_g (lw_at lw_m1 76 rfl) rfl
theorem q252 : (Jvm.Cond.fieldLink "java/lang/Throwable" (13 : Nat) "java/lang/Throwable" "UNASSIGNED_STACK" "[Ljava/lang/StackTraceElement;") ∈ lw_all := lw_g (lw_at lw_m1 77 rfl) rfl
theorem q253 : (Jvm.Cond.laysStatic "java/lang/Throwable" "UNASSIGNED_STACK" "[Ljava/lang/StackTraceElement;") ∈ lw_tbl := lw_at lw_m1 78 rfl
theorem q254 : (Jvm.Cond.fieldLink "java/lang/Throwable" (20 : Nat) "java/lang/Throwable" "SUPPRESSED_SENTINEL" "Ljava/util/List;") ∈ lw_all := lw_g (lw_at lw_m1 79 rfl) rfl
theorem q255 : (Jvm.Cond.laysStatic "java/lang/Throwable" "SUPPRESSED_SENTINEL" "Ljava/util/List;") ∈ lw_tbl := lw_at lw_m1 80 rfl
theorem q256 : (Jvm.Cond.methodLink "java/lang/Throwable" (27 : Nat) ({ cls := "java/lang/Throwable", name := "fillInStackTrace", desc := "()Ljava/lang/Throwable;" } : Jvm.MethodName)) ∈ lw_all := lw_g (lw_at lw_m1 81 rfl) rfl
theorem q257 : (Jvm.Cond.instanceMethod ({ cls := "java/lang/Throwable", name := "fillInStackTrace", desc := "()Ljava/lang/Throwable;" } : Jvm.MethodName)) ∈ lw_all := lw_g (lw_at lw_m1 82 rfl) rfl
theorem q258 : (Jvm.Cond.sameMethod "java/lang/Throwable" "java/lang/Throwable" "fillInStackTrace" "()Ljava/lang/Throwable;") ∈ lw_all := lw_g (lw_at lw_m1 83 rfl) rfl
theorem q262 : (Jvm.Cond.codeSync ({ cls := "java/lang/Throwable", name := "fillInStackTrace", desc := "()Ljava/lang/Throwable;" } : Jvm.MethodName) prog_33_method_18_code (1 : Nat) (Option.some (Jvm.ClassFile.FieldType.object "java/lang/Throwable"))) ∈ lw_all := lw_g (lw_at lw_m1 87 rfl) rfl
theorem q263 : (Jvm.Cond.methodLink "java/lang/Throwable" (202 : Nat) ({ cls := "java/lang/Throwable", name := "fillInStackTrace", desc := "(I)Ljava/lang/Throwable;" } : Jvm.MethodName)) ∈ lw_all := lw_g (lw_at lw_m1 88 rfl) rfl
theorem q264 : (Jvm.Cond.privateMethod ({ cls := "java/lang/Throwable", name := "fillInStackTrace", desc := "(I)Ljava/lang/Throwable;" } : Jvm.MethodName)) ∈ lw_tbl := lw_at lw_m1 89 rfl
theorem q265 : (Jvm.Cond.instanceMethod ({ cls := "java/lang/Throwable", name := "fillInStackTrace", desc := "(I)Ljava/lang/Throwable;" } : Jvm.MethodName)) ∈ lw_all := lw_g (lw_at lw_m1 90 rfl) rfl
theorem q266 : (Jvm.Cond.instantiable "java/lang/Throwable" (6 : Nat)) ∈ lw_all := lw_g (lw_at lw_m1 91 rfl) rfl
theorem q267 : (Jvm.Cond.native ({ cls := "java/lang/Throwable", name := "fillInStackTrace", desc := "(I)Ljava/lang/Throwable;" } : Jvm.MethodName)) ∈ lw_all := lw_g (lw_at lw_m1 92 rfl) rfl
theorem q275 : (Jvm.Cond.instanceMethod ({ cls := "java/lang/Throwable", name := "<init>", desc := "(Ljava/lang/String;Ljava/lang/Throwable;ZZ)V" } : Jvm.MethodName)) ∈ lw_all := lw_g (lw_at lw_m1 100 rfl) rfl
theorem q276 : (Jvm.Cond.code ({ cls := "java/lang/Throwable", name := "<init>", desc := "(Ljava/lang/String;Ljava/lang/Throwable;ZZ)V" } : Jvm.MethodName) prog_33_method_5_code (5 : Nat) (Option.none : Option Jvm.ClassFile.FieldType)) ∈ lw_all := lw_g (lw_at lw_m1 101 rfl) rfl
theorem q281 : (Jvm.Cond.fieldLink "java/lang/Throwable" (198 : Nat) "java/lang/Throwable" "backtrace" "Ljava/lang/Object;") ∈ lw_all := lw_g (lw_at lw_m1 106 rfl) rfl
theorem q282 : (Jvm.Cond.fieldLink "java/lang/Throwable" (31 : Nat) "java/lang/Throwable" "detailMessage" "Ljava/lang/String;") ∈ lw_all := lw_g (lw_at lw_m1 107 rfl) rfl
theorem q283 : (Jvm.Cond.fieldLink "java/lang/Throwable" (7 : Nat) "java/lang/Throwable" "cause" "Ljava/lang/Throwable;") ∈ lw_all := lw_g (lw_at lw_m1 108 rfl) rfl
theorem q284 : (Jvm.Cond.fieldLink "java/lang/Throwable" (17 : Nat) "java/lang/Throwable" "stackTrace" "[Ljava/lang/StackTraceElement;") ∈ lw_all := lw_g (lw_at lw_m1 109 rfl) rfl
theorem q285 : (Jvm.Cond.fieldLink "java/lang/Throwable" (24 : Nat) "java/lang/Throwable" "suppressedExceptions" "Ljava/util/List;") ∈ lw_all := lw_g (lw_at lw_m1 110 rfl) rfl
theorem q290 : (Jvm.Cond.soleField "java/lang/Throwable" "backtrace") ∈ lw_all := lw_g (lw_at lw_m1 115 rfl) rfl
theorem q291 : (Jvm.Cond.soleField "java/lang/Throwable" "detailMessage") ∈ lw_all := lw_g (lw_at lw_m1 116 rfl) rfl
theorem q292 : (Jvm.Cond.soleField "java/lang/Throwable" "cause") ∈ lw_all := lw_g (lw_at lw_m1 117 rfl) rfl
theorem q293 : (Jvm.Cond.soleField "java/lang/Throwable" "stackTrace") ∈ lw_all := lw_g (lw_at lw_m1 118 rfl) rfl
theorem q295 : (Jvm.Cond.soleField "java/lang/Throwable" "depth") ∈ lw_all := lw_g (lw_at lw_m1 120 rfl) rfl
theorem q296 : (Jvm.Cond.soleField "java/lang/Throwable" "suppressedExceptions") ∈ lw_all := lw_g (lw_at lw_m1 121 rfl) rfl
theorem q559 : (Jvm.Cond.instanceMethod ({ cls := "java/lang/Throwable", name := "<init>", desc := "(Ljava/lang/String;)V" } : Jvm.MethodName)) ∈ lw_all := lw_g (lw_at lw_m2 144 rfl) rfl
theorem q560 : (Jvm.Cond.code ({ cls := "java/lang/Throwable", name := "<init>", desc := "(Ljava/lang/String;)V" } : Jvm.MethodName) prog_33_method_2_code (2 : Nat) (Option.none : Option Jvm.ClassFile.FieldType)) ∈ lw_all := lw_g (lw_at lw_m2 145 rfl) rfl
theorem q2549 : (Jvm.Cond.sameMethod "java/lang/Throwable" "java/lang/Throwable" "fillInStackTrace" "(I)Ljava/lang/Throwable;") ∈ lw_all := lw_g (lw_at lw_m10 214 rfl) rfl
theorem in_J0 : ∀ w ∈ wsJ00, w ∈ lw_all := lw_in wsJ00 [238, 240, 242, 244, 246] (by decide +kernel) (by decide +kernel)

/-! java/lang/Exception -/
set_option maxRecDepth 100000
def RJ1 : String := "java/lang/Exception"
abbrev cJ1_init : ByteArray := prog_22_method_5_code
def yJ1_init : MethodName := ⟨RJ1, "<init>", "(Ljava/lang/String;Ljava/lang/Throwable;ZZ)V"⟩
def dkwJ1_init_0 : List UInt8 := [42, 43, 44, 29, 21, 4, 183, 0, 16, 177]
abbrev dktJ1_init_0 : List UInt8 := dkwJ1_init_0 ++ []
theorem dksJ1_init_0 : cJ1_init.data.toList.drop 0 = dktJ1_init_0 := by decide +kernel
theorem dJ1_init_0 : decode cJ1_init 0 = .ok (.aload_n 0, 1) := dk_42 (dk_at dksJ1_init_0 0 rfl rfl)
theorem dJ1_init_1 : decode cJ1_init 1 = .ok (.aload_n 1, 1) := dk_43 (dk_at dksJ1_init_0 1 rfl rfl)
theorem dJ1_init_2 : decode cJ1_init 2 = .ok (.aload_n 2, 1) := dk_44 (dk_at dksJ1_init_0 2 rfl rfl)
theorem dJ1_init_3 : decode cJ1_init 3 = .ok (.iload_n 3, 1) := dk_29 (dk_at dksJ1_init_0 3 rfl rfl)
theorem dJ1_init_4 : decode cJ1_init 4 = .ok (.iload 4, 2) := dk_21 4 (dk_at dksJ1_init_0 4 rfl rfl)
theorem dJ1_init_6 : decode cJ1_init 6 = .ok (.invokespecial 16, 3) := dk_183 0 16 (dk_at dksJ1_init_0 6 rfl rfl)
theorem dJ1_init_9 : decode cJ1_init 9 = .ok (.return_, 1) := dk_177 (dk_at dksJ1_init_0 9 rfl rfl)
abbrev cJ1_init_2 : ByteArray := prog_22_method_2_code
def yJ1_init_2 : MethodName := ⟨RJ1, "<init>", "(Ljava/lang/String;)V"⟩
def dkwJ1_init_2_0 : List UInt8 := [42, 43, 183, 0, 7, 177]
abbrev dktJ1_init_2_0 : List UInt8 := dkwJ1_init_2_0 ++ []
theorem dksJ1_init_2_0 : cJ1_init_2.data.toList.drop 0 = dktJ1_init_2_0 := by decide +kernel
theorem dJ1_init_2_0 : decode cJ1_init_2 0 = .ok (.aload_n 0, 1) := dk_42 (dk_at dksJ1_init_2_0 0 rfl rfl)
theorem dJ1_init_2_1 : decode cJ1_init_2 1 = .ok (.aload_n 1, 1) := dk_43 (dk_at dksJ1_init_2_0 1 rfl rfl)
theorem dJ1_init_2_2 : decode cJ1_init_2 2 = .ok (.invokespecial 7, 3) := dk_183 0 7 (dk_at dksJ1_init_2_0 2 rfl rfl)
theorem dJ1_init_2_5 : decode cJ1_init_2 5 = .ok (.return_, 1) := dk_177 (dk_at dksJ1_init_2_0 5 rfl rfl)
theorem q179 : (Jvm.Cond.initialized "java/lang/Exception") ∈ lw_all := lw_g (lw_at lw_m1 4 rfl) rfl
theorem q231 : (Jvm.Cond.declares ({ cls := "java/lang/Exception", name := "<init>", desc := "()V" } : Jvm.MethodName)) ∈ lw_tbl := lw_at lw_m1 56 rfl
theorem q232 : (Jvm.Cond.declares ({ cls := "java/lang/Exception", name := "<init>", desc := "(Ljava/lang/String;)V" } : Jvm.MethodName)) ∈ lw_tbl := lw_at lw_m1 57 rfl
theorem q272 : (Jvm.Cond.instanceMethod ({ cls := "java/lang/Exception", name := "<init>", desc := "(Ljava/lang/String;Ljava/lang/Throwable;ZZ)V" } : Jvm.MethodName)) ∈ lw_all := lw_g (lw_at lw_m1 97 rfl) rfl
theorem q273 : (Jvm.Cond.code ({ cls := "java/lang/Exception", name := "<init>", desc := "(Ljava/lang/String;Ljava/lang/Throwable;ZZ)V" } : Jvm.MethodName) prog_22_method_5_code (5 : Nat) (Option.none : Option Jvm.ClassFile.FieldType)) ∈ lw_all := lw_g (lw_at lw_m1 98 rfl) rfl
theorem q274 : (Jvm.Cond.methodLink "java/lang/Exception" (16 : Nat) ({ cls := "java/lang/Throwable", name := "<init>", desc := "(Ljava/lang/String;Ljava/lang/Throwable;ZZ)V" } : Jvm.MethodName)) ∈ lw_all := lw_g (lw_at lw_m1 99 rfl) rfl
theorem q556 : (Jvm.Cond.instanceMethod ({ cls := "java/lang/Exception", name := "<init>", desc := "(Ljava/lang/String;)V" } : Jvm.MethodName)) ∈ lw_all := lw_g (lw_at lw_m2 141 rfl) rfl
theorem q557 : (Jvm.Cond.code ({ cls := "java/lang/Exception", name := "<init>", desc := "(Ljava/lang/String;)V" } : Jvm.MethodName) prog_22_method_2_code (2 : Nat) (Option.none : Option Jvm.ClassFile.FieldType)) ∈ lw_all := lw_g (lw_at lw_m2 142 rfl) rfl
theorem q558 : (Jvm.Cond.methodLink "java/lang/Exception" (7 : Nat) ({ cls := "java/lang/Throwable", name := "<init>", desc := "(Ljava/lang/String;)V" } : Jvm.MethodName)) ∈ lw_all := lw_g (lw_at lw_m2 143 rfl) rfl

/-! java/lang/Math -/
set_option maxRecDepth 100000
def RJ10 : String := "java/lang/Math"
abbrev cJ10_abs : ByteArray := prog_26_method_61_code
def yJ10_abs : MethodName := ⟨RJ10, "abs", "(J)J"⟩
def dkwJ10_abs_0 : List UInt8 := [30, 9, 148, 156, 0, 8, 30, 117, 167, 0, 4, 30, 173]
abbrev dktJ10_abs_0 : List UInt8 := dkwJ10_abs_0 ++ []
theorem dksJ10_abs_0 : cJ10_abs.data.toList.drop 0 = dktJ10_abs_0 := by decide +kernel
theorem dJ10_abs_0 : decode cJ10_abs 0 = .ok (.lload_n 0, 1) := dk_30 (dk_at dksJ10_abs_0 0 rfl rfl)
theorem dJ10_abs_1 : decode cJ10_abs 1 = .ok (.lconst 0, 1) := dk_9 (dk_at dksJ10_abs_0 1 rfl rfl)
theorem dJ10_abs_2 : decode cJ10_abs 2 = .ok (.lcmp, 1) := dk_148 (dk_at dksJ10_abs_0 2 rfl rfl)
theorem dJ10_abs_3 : decode cJ10_abs 3 = .ok (.ifCond .ge 8, 3) := dk_156 0 8 (dk_at dksJ10_abs_0 3 rfl rfl)
theorem dJ10_abs_6 : decode cJ10_abs 6 = .ok (.lload_n 0, 1) := dk_30 (dk_at dksJ10_abs_0 6 rfl rfl)
theorem dJ10_abs_7 : decode cJ10_abs 7 = .ok (.lneg, 1) := dk_117 (dk_at dksJ10_abs_0 7 rfl rfl)
theorem dJ10_abs_8 : decode cJ10_abs 8 = .ok (.goto 4, 3) := dk_167 0 4 (dk_at dksJ10_abs_0 8 rfl rfl)
theorem dJ10_abs_11 : decode cJ10_abs 11 = .ok (.lload_n 0, 1) := dk_30 (dk_at dksJ10_abs_0 11 rfl rfl)
theorem dJ10_abs_12 : decode cJ10_abs 12 = .ok (.lreturn, 1) := dk_173 (dk_at dksJ10_abs_0 12 rfl rfl)
abbrev cJ10_min : ByteArray := prog_26_method_69_code
def yJ10_min : MethodName := ⟨RJ10, "min", "(II)I"⟩
def dkwJ10_min_0 : List UInt8 := [26, 27, 163, 0, 7, 26, 167, 0, 4, 27, 172]
abbrev dktJ10_min_0 : List UInt8 := dkwJ10_min_0 ++ []
theorem dksJ10_min_0 : cJ10_min.data.toList.drop 0 = dktJ10_min_0 := by decide +kernel
theorem dJ10_min_0 : decode cJ10_min 0 = .ok (.iload_n 0, 1) := dk_26 (dk_at dksJ10_min_0 0 rfl rfl)
theorem dJ10_min_1 : decode cJ10_min 1 = .ok (.iload_n 1, 1) := dk_27 (dk_at dksJ10_min_0 1 rfl rfl)
theorem dJ10_min_2 : decode cJ10_min 2 = .ok (.if_icmp .gt 7, 3) := dk_163 0 7 (dk_at dksJ10_min_0 2 rfl rfl)
theorem dJ10_min_5 : decode cJ10_min 5 = .ok (.iload_n 0, 1) := dk_26 (dk_at dksJ10_min_0 5 rfl rfl)
theorem dJ10_min_6 : decode cJ10_min 6 = .ok (.goto 4, 3) := dk_167 0 4 (dk_at dksJ10_min_0 6 rfl rfl)
theorem dJ10_min_9 : decode cJ10_min 9 = .ok (.iload_n 1, 1) := dk_27 (dk_at dksJ10_min_0 9 rfl rfl)
theorem dJ10_min_10 : decode cJ10_min 10 = .ok (.ireturn, 1) := dk_172 (dk_at dksJ10_min_0 10 rfl rfl)
abbrev cJ10_max : ByteArray := prog_26_method_65_code
def yJ10_max : MethodName := ⟨RJ10, "max", "(II)I"⟩
def dkwJ10_max_0 : List UInt8 := [26, 27, 161, 0, 7, 26, 167, 0, 4, 27, 172]
abbrev dktJ10_max_0 : List UInt8 := dkwJ10_max_0 ++ []
theorem dksJ10_max_0 : cJ10_max.data.toList.drop 0 = dktJ10_max_0 := by decide +kernel
theorem dJ10_max_0 : decode cJ10_max 0 = .ok (.iload_n 0, 1) := dk_26 (dk_at dksJ10_max_0 0 rfl rfl)
theorem dJ10_max_1 : decode cJ10_max 1 = .ok (.iload_n 1, 1) := dk_27 (dk_at dksJ10_max_0 1 rfl rfl)
theorem dJ10_max_2 : decode cJ10_max 2 = .ok (.if_icmp .lt 7, 3) := dk_161 0 7 (dk_at dksJ10_max_0 2 rfl rfl)
theorem dJ10_max_5 : decode cJ10_max 5 = .ok (.iload_n 0, 1) := dk_26 (dk_at dksJ10_max_0 5 rfl rfl)
theorem dJ10_max_6 : decode cJ10_max 6 = .ok (.goto 4, 3) := dk_167 0 4 (dk_at dksJ10_max_0 6 rfl rfl)
theorem dJ10_max_9 : decode cJ10_max 9 = .ok (.iload_n 1, 1) := dk_27 (dk_at dksJ10_max_0 9 rfl rfl)
theorem dJ10_max_10 : decode cJ10_max 10 = .ok (.ireturn, 1) := dk_172 (dk_at dksJ10_max_0 10 rfl rfl)
theorem q200 : (Jvm.Cond.initialized "java/lang/Math") ∈ lw_all := lw_g (lw_at lw_m1 25 rfl) rfl
theorem q1269 : (Jvm.Cond.static ({ cls := "java/lang/Math", name := "abs", desc := "(J)J" } : Jvm.MethodName)) ∈ lw_all := lw_g (lw_at lw_m5 134 rfl) rfl
theorem q1270 : (Jvm.Cond.code ({ cls := "java/lang/Math", name := "abs", desc := "(J)J" } : Jvm.MethodName) prog_26_method_61_code (2 : Nat) (Option.some Jvm.ClassFile.FieldType.long)) ∈ lw_all := lw_g (lw_at lw_m5 135 rfl) rfl
theorem q1335 : (Jvm.Cond.static ({ cls := "java/lang/Math", name := "min", desc := "(II)I" } : Jvm.MethodName)) ∈ lw_all := lw_g (lw_at lw_m5 200 rfl) rfl
theorem q1336 : (Jvm.Cond.code ({ cls := "java/lang/Math", name := "min", desc := "(II)I" } : Jvm.MethodName) prog_26_method_69_code (2 : Nat) (Option.some Jvm.ClassFile.FieldType.int)) ∈ lw_all := lw_g (lw_at lw_m5 201 rfl) rfl
theorem q1375 : (Jvm.Cond.static ({ cls := "java/lang/Math", name := "max", desc := "(II)I" } : Jvm.MethodName)) ∈ lw_all := lw_g (lw_at lw_m6 0 rfl) rfl
theorem q1376 : (Jvm.Cond.code ({ cls := "java/lang/Math", name := "max", desc := "(II)I" } : Jvm.MethodName) prog_26_method_65_code (2 : Nat) (Option.some Jvm.ClassFile.FieldType.int)) ∈ lw_all := lw_g (lw_at lw_m6 1 rfl) rfl

/-! java/lang/Integer -/
set_option maxRecDepth 100000
def RJ11 : String := "java/lang/Integer"
abbrev cJ11_bitCount : ByteArray := prog_24_method_49_code
def yJ11_bitCount : MethodName := ⟨RJ11, "bitCount", "(I)I"⟩
def dkwJ11_bitCount_2 : List UInt8 := [26, 16, 63, 126, 172]
abbrev dktJ11_bitCount_2 : List UInt8 := dkwJ11_bitCount_2 ++ []
def dkwJ11_bitCount_1 : List UInt8 := [26, 26, 7, 124, 96, 19, 1, 11, 126, 59, 26, 26, 16, 8, 124, 96, 59, 26, 26, 16, 16, 124, 96, 59]
abbrev dktJ11_bitCount_1 : List UInt8 := dkwJ11_bitCount_1 ++ dktJ11_bitCount_2
def dkwJ11_bitCount_0 : List UInt8 := [26, 26, 4, 124, 19, 1, 9, 126, 100, 59, 26, 19, 1, 10, 126, 26, 5, 124, 19, 1, 10, 126, 96, 59]
abbrev dktJ11_bitCount_0 : List UInt8 := dkwJ11_bitCount_0 ++ dktJ11_bitCount_1
theorem dksJ11_bitCount_0 : cJ11_bitCount.data.toList.drop 0 = dktJ11_bitCount_0 := by decide +kernel
theorem dksJ11_bitCount_1 : cJ11_bitCount.data.toList.drop 24 = dktJ11_bitCount_1 := dk_seg dksJ11_bitCount_0 24 rfl rfl
theorem dksJ11_bitCount_2 : cJ11_bitCount.data.toList.drop 48 = dktJ11_bitCount_2 := dk_seg dksJ11_bitCount_1 24 rfl rfl
theorem dJ11_bitCount_0 : decode cJ11_bitCount 0 = .ok (.iload_n 0, 1) := dk_26 (dk_at dksJ11_bitCount_0 0 rfl rfl)
theorem dJ11_bitCount_1 : decode cJ11_bitCount 1 = .ok (.iload_n 0, 1) := dk_26 (dk_at dksJ11_bitCount_0 1 rfl rfl)
theorem dJ11_bitCount_2 : decode cJ11_bitCount 2 = .ok (.iconst 1, 1) := dk_4 (dk_at dksJ11_bitCount_0 2 rfl rfl)
theorem dJ11_bitCount_3 : decode cJ11_bitCount 3 = .ok (.iushr, 1) := dk_124 (dk_at dksJ11_bitCount_0 3 rfl rfl)
theorem dJ11_bitCount_4 : decode cJ11_bitCount 4 = .ok (.ldc_w 265, 3) := dk_19 1 9 (dk_at dksJ11_bitCount_0 4 rfl rfl)
theorem dJ11_bitCount_7 : decode cJ11_bitCount 7 = .ok (.iand, 1) := dk_126 (dk_at dksJ11_bitCount_0 7 rfl rfl)
theorem dJ11_bitCount_8 : decode cJ11_bitCount 8 = .ok (.isub, 1) := dk_100 (dk_at dksJ11_bitCount_0 8 rfl rfl)
theorem dJ11_bitCount_9 : decode cJ11_bitCount 9 = .ok (.istore_n 0, 1) := dk_59 (dk_at dksJ11_bitCount_0 9 rfl rfl)
theorem dJ11_bitCount_10 : decode cJ11_bitCount 10 = .ok (.iload_n 0, 1) := dk_26 (dk_at dksJ11_bitCount_0 10 rfl rfl)
theorem dJ11_bitCount_11 : decode cJ11_bitCount 11 = .ok (.ldc_w 266, 3) := dk_19 1 10 (dk_at dksJ11_bitCount_0 11 rfl rfl)
theorem dJ11_bitCount_14 : decode cJ11_bitCount 14 = .ok (.iand, 1) := dk_126 (dk_at dksJ11_bitCount_0 14 rfl rfl)
theorem dJ11_bitCount_15 : decode cJ11_bitCount 15 = .ok (.iload_n 0, 1) := dk_26 (dk_at dksJ11_bitCount_0 15 rfl rfl)
theorem dJ11_bitCount_16 : decode cJ11_bitCount 16 = .ok (.iconst 2, 1) := dk_5 (dk_at dksJ11_bitCount_0 16 rfl rfl)
theorem dJ11_bitCount_17 : decode cJ11_bitCount 17 = .ok (.iushr, 1) := dk_124 (dk_at dksJ11_bitCount_0 17 rfl rfl)
theorem dJ11_bitCount_18 : decode cJ11_bitCount 18 = .ok (.ldc_w 266, 3) := dk_19 1 10 (dk_at dksJ11_bitCount_0 18 rfl rfl)
theorem dJ11_bitCount_21 : decode cJ11_bitCount 21 = .ok (.iand, 1) := dk_126 (dk_at dksJ11_bitCount_0 21 rfl rfl)
theorem dJ11_bitCount_22 : decode cJ11_bitCount 22 = .ok (.iadd, 1) := dk_96 (dk_at dksJ11_bitCount_0 22 rfl rfl)
theorem dJ11_bitCount_23 : decode cJ11_bitCount 23 = .ok (.istore_n 0, 1) := dk_59 (dk_at dksJ11_bitCount_0 23 rfl rfl)
theorem dJ11_bitCount_24 : decode cJ11_bitCount 24 = .ok (.iload_n 0, 1) := dk_26 (dk_at dksJ11_bitCount_1 0 rfl rfl)
theorem dJ11_bitCount_25 : decode cJ11_bitCount 25 = .ok (.iload_n 0, 1) := dk_26 (dk_at dksJ11_bitCount_1 1 rfl rfl)
theorem dJ11_bitCount_26 : decode cJ11_bitCount 26 = .ok (.iconst 4, 1) := dk_7 (dk_at dksJ11_bitCount_1 2 rfl rfl)
theorem dJ11_bitCount_27 : decode cJ11_bitCount 27 = .ok (.iushr, 1) := dk_124 (dk_at dksJ11_bitCount_1 3 rfl rfl)
theorem dJ11_bitCount_28 : decode cJ11_bitCount 28 = .ok (.iadd, 1) := dk_96 (dk_at dksJ11_bitCount_1 4 rfl rfl)
theorem dJ11_bitCount_29 : decode cJ11_bitCount 29 = .ok (.ldc_w 267, 3) := dk_19 1 11 (dk_at dksJ11_bitCount_1 5 rfl rfl)
theorem dJ11_bitCount_32 : decode cJ11_bitCount 32 = .ok (.iand, 1) := dk_126 (dk_at dksJ11_bitCount_1 8 rfl rfl)
theorem dJ11_bitCount_33 : decode cJ11_bitCount 33 = .ok (.istore_n 0, 1) := dk_59 (dk_at dksJ11_bitCount_1 9 rfl rfl)
theorem dJ11_bitCount_34 : decode cJ11_bitCount 34 = .ok (.iload_n 0, 1) := dk_26 (dk_at dksJ11_bitCount_1 10 rfl rfl)
theorem dJ11_bitCount_35 : decode cJ11_bitCount 35 = .ok (.iload_n 0, 1) := dk_26 (dk_at dksJ11_bitCount_1 11 rfl rfl)
theorem dJ11_bitCount_36 : decode cJ11_bitCount 36 = .ok (.bipush 8, 2) := dk_16 8 (dk_at dksJ11_bitCount_1 12 rfl rfl)
theorem dJ11_bitCount_38 : decode cJ11_bitCount 38 = .ok (.iushr, 1) := dk_124 (dk_at dksJ11_bitCount_1 14 rfl rfl)
theorem dJ11_bitCount_39 : decode cJ11_bitCount 39 = .ok (.iadd, 1) := dk_96 (dk_at dksJ11_bitCount_1 15 rfl rfl)
theorem dJ11_bitCount_40 : decode cJ11_bitCount 40 = .ok (.istore_n 0, 1) := dk_59 (dk_at dksJ11_bitCount_1 16 rfl rfl)
theorem dJ11_bitCount_41 : decode cJ11_bitCount 41 = .ok (.iload_n 0, 1) := dk_26 (dk_at dksJ11_bitCount_1 17 rfl rfl)
theorem dJ11_bitCount_42 : decode cJ11_bitCount 42 = .ok (.iload_n 0, 1) := dk_26 (dk_at dksJ11_bitCount_1 18 rfl rfl)
theorem dJ11_bitCount_43 : decode cJ11_bitCount 43 = .ok (.bipush 16, 2) := dk_16 16 (dk_at dksJ11_bitCount_1 19 rfl rfl)
theorem dJ11_bitCount_45 : decode cJ11_bitCount 45 = .ok (.iushr, 1) := dk_124 (dk_at dksJ11_bitCount_1 21 rfl rfl)
theorem dJ11_bitCount_46 : decode cJ11_bitCount 46 = .ok (.iadd, 1) := dk_96 (dk_at dksJ11_bitCount_1 22 rfl rfl)
theorem dJ11_bitCount_47 : decode cJ11_bitCount 47 = .ok (.istore_n 0, 1) := dk_59 (dk_at dksJ11_bitCount_1 23 rfl rfl)
theorem dJ11_bitCount_48 : decode cJ11_bitCount 48 = .ok (.iload_n 0, 1) := dk_26 (dk_at dksJ11_bitCount_2 0 rfl rfl)
theorem dJ11_bitCount_49 : decode cJ11_bitCount 49 = .ok (.bipush 63, 2) := dk_16 63 (dk_at dksJ11_bitCount_2 1 rfl rfl)
theorem dJ11_bitCount_51 : decode cJ11_bitCount 51 = .ok (.iand, 1) := dk_126 (dk_at dksJ11_bitCount_2 3 rfl rfl)
theorem dJ11_bitCount_52 : decode cJ11_bitCount 52 = .ok (.ireturn, 1) := dk_172 (dk_at dksJ11_bitCount_2 4 rfl rfl)
abbrev cJ11_numberOfTrailingZeros : ByteArray := prog_24_method_48_code
def yJ11_numberOfTrailingZeros : MethodName := ⟨RJ11, "numberOfTrailingZeros", "(I)I"⟩
def dkwJ11_numberOfTrailingZeros_3 : List UInt8 := [5, 124, 59, 27, 26, 4, 124, 96, 172]
abbrev dktJ11_numberOfTrailingZeros_3 : List UInt8 := dkwJ11_numberOfTrailingZeros_3 ++ []
def dkwJ11_numberOfTrailingZeros_2 : List UInt8 := [124, 59, 26, 16, 16, 164, 0, 10, 132, 1, 4, 26, 7, 124, 59, 26, 7, 164, 0, 10, 132, 1, 2, 26]
abbrev dktJ11_numberOfTrailingZeros_2 : List UInt8 := dkwJ11_numberOfTrailingZeros_2 ++ dktJ11_numberOfTrailingZeros_3
def dkwJ11_numberOfTrailingZeros_1 : List UInt8 := [164, 0, 11, 132, 1, 16, 26, 16, 16, 124, 59, 26, 17, 1, 0, 164, 0, 11, 132, 1, 8, 26, 16, 8]
abbrev dktJ11_numberOfTrailingZeros_1 : List UInt8 := dkwJ11_numberOfTrailingZeros_1 ++ dktJ11_numberOfTrailingZeros_2
def dkwJ11_numberOfTrailingZeros_0 : List UInt8 := [26, 2, 130, 26, 4, 100, 126, 59, 26, 157, 0, 8, 26, 16, 32, 126, 172, 4, 60, 26, 19, 1, 8]
abbrev dktJ11_numberOfTrailingZeros_0 : List UInt8 := dkwJ11_numberOfTrailingZeros_0 ++ dktJ11_numberOfTrailingZeros_1
theorem dksJ11_numberOfTrailingZeros_0 : cJ11_numberOfTrailingZeros.data.toList.drop 0 = dktJ11_numberOfTrailingZeros_0 := by decide +kernel
theorem dksJ11_numberOfTrailingZeros_1 : cJ11_numberOfTrailingZeros.data.toList.drop 23 = dktJ11_numberOfTrailingZeros_1 := dk_seg dksJ11_numberOfTrailingZeros_0 23 rfl rfl
theorem dksJ11_numberOfTrailingZeros_2 : cJ11_numberOfTrailingZeros.data.toList.drop 47 = dktJ11_numberOfTrailingZeros_2 := dk_seg dksJ11_numberOfTrailingZeros_1 24 rfl rfl
theorem dksJ11_numberOfTrailingZeros_3 : cJ11_numberOfTrailingZeros.data.toList.drop 71 = dktJ11_numberOfTrailingZeros_3 := dk_seg dksJ11_numberOfTrailingZeros_2 24 rfl rfl
theorem dJ11_numberOfTrailingZeros_0 : decode cJ11_numberOfTrailingZeros 0 = .ok (.iload_n 0, 1) := dk_26 (dk_at dksJ11_numberOfTrailingZeros_0 0 rfl rfl)
theorem dJ11_numberOfTrailingZeros_1 : decode cJ11_numberOfTrailingZeros 1 = .ok (.iconst (-1), 1) := dk_2 (dk_at dksJ11_numberOfTrailingZeros_0 1 rfl rfl)
theorem dJ11_numberOfTrailingZeros_2 : decode cJ11_numberOfTrailingZeros 2 = .ok (.ixor, 1) := dk_130 (dk_at dksJ11_numberOfTrailingZeros_0 2 rfl rfl)
theorem dJ11_numberOfTrailingZeros_3 : decode cJ11_numberOfTrailingZeros 3 = .ok (.iload_n 0, 1) := dk_26 (dk_at dksJ11_numberOfTrailingZeros_0 3 rfl rfl)
theorem dJ11_numberOfTrailingZeros_4 : decode cJ11_numberOfTrailingZeros 4 = .ok (.iconst 1, 1) := dk_4 (dk_at dksJ11_numberOfTrailingZeros_0 4 rfl rfl)
theorem dJ11_numberOfTrailingZeros_5 : decode cJ11_numberOfTrailingZeros 5 = .ok (.isub, 1) := dk_100 (dk_at dksJ11_numberOfTrailingZeros_0 5 rfl rfl)
theorem dJ11_numberOfTrailingZeros_6 : decode cJ11_numberOfTrailingZeros 6 = .ok (.iand, 1) := dk_126 (dk_at dksJ11_numberOfTrailingZeros_0 6 rfl rfl)
theorem dJ11_numberOfTrailingZeros_7 : decode cJ11_numberOfTrailingZeros 7 = .ok (.istore_n 0, 1) := dk_59 (dk_at dksJ11_numberOfTrailingZeros_0 7 rfl rfl)
theorem dJ11_numberOfTrailingZeros_8 : decode cJ11_numberOfTrailingZeros 8 = .ok (.iload_n 0, 1) := dk_26 (dk_at dksJ11_numberOfTrailingZeros_0 8 rfl rfl)
theorem dJ11_numberOfTrailingZeros_9 : decode cJ11_numberOfTrailingZeros 9 = .ok (.ifCond .gt 8, 3) := dk_157 0 8 (dk_at dksJ11_numberOfTrailingZeros_0 9 rfl rfl)
theorem dJ11_numberOfTrailingZeros_12 : decode cJ11_numberOfTrailingZeros 12 = .ok (.iload_n 0, 1) := dk_26 (dk_at dksJ11_numberOfTrailingZeros_0 12 rfl rfl)
theorem dJ11_numberOfTrailingZeros_13 : decode cJ11_numberOfTrailingZeros 13 = .ok (.bipush 32, 2) := dk_16 32 (dk_at dksJ11_numberOfTrailingZeros_0 13 rfl rfl)
theorem dJ11_numberOfTrailingZeros_15 : decode cJ11_numberOfTrailingZeros 15 = .ok (.iand, 1) := dk_126 (dk_at dksJ11_numberOfTrailingZeros_0 15 rfl rfl)
theorem dJ11_numberOfTrailingZeros_16 : decode cJ11_numberOfTrailingZeros 16 = .ok (.ireturn, 1) := dk_172 (dk_at dksJ11_numberOfTrailingZeros_0 16 rfl rfl)
theorem dJ11_numberOfTrailingZeros_17 : decode cJ11_numberOfTrailingZeros 17 = .ok (.iconst 1, 1) := dk_4 (dk_at dksJ11_numberOfTrailingZeros_0 17 rfl rfl)
theorem dJ11_numberOfTrailingZeros_18 : decode cJ11_numberOfTrailingZeros 18 = .ok (.istore_n 1, 1) := dk_60 (dk_at dksJ11_numberOfTrailingZeros_0 18 rfl rfl)
theorem dJ11_numberOfTrailingZeros_19 : decode cJ11_numberOfTrailingZeros 19 = .ok (.iload_n 0, 1) := dk_26 (dk_at dksJ11_numberOfTrailingZeros_0 19 rfl rfl)
theorem dJ11_numberOfTrailingZeros_20 : decode cJ11_numberOfTrailingZeros 20 = .ok (.ldc_w 264, 3) := dk_19 1 8 (dk_at dksJ11_numberOfTrailingZeros_0 20 rfl rfl)
theorem dJ11_numberOfTrailingZeros_23 : decode cJ11_numberOfTrailingZeros 23 = .ok (.if_icmp .le 11, 3) := dk_164 0 11 (dk_at dksJ11_numberOfTrailingZeros_1 0 rfl rfl)
theorem dJ11_numberOfTrailingZeros_26 : decode cJ11_numberOfTrailingZeros 26 = .ok (.iinc 1 16, 3) := dk_132 1 16 (dk_at dksJ11_numberOfTrailingZeros_1 3 rfl rfl)
theorem dJ11_numberOfTrailingZeros_29 : decode cJ11_numberOfTrailingZeros 29 = .ok (.iload_n 0, 1) := dk_26 (dk_at dksJ11_numberOfTrailingZeros_1 6 rfl rfl)
theorem dJ11_numberOfTrailingZeros_30 : decode cJ11_numberOfTrailingZeros 30 = .ok (.bipush 16, 2) := dk_16 16 (dk_at dksJ11_numberOfTrailingZeros_1 7 rfl rfl)
theorem dJ11_numberOfTrailingZeros_32 : decode cJ11_numberOfTrailingZeros 32 = .ok (.iushr, 1) := dk_124 (dk_at dksJ11_numberOfTrailingZeros_1 9 rfl rfl)
theorem dJ11_numberOfTrailingZeros_33 : decode cJ11_numberOfTrailingZeros 33 = .ok (.istore_n 0, 1) := dk_59 (dk_at dksJ11_numberOfTrailingZeros_1 10 rfl rfl)
theorem dJ11_numberOfTrailingZeros_34 : decode cJ11_numberOfTrailingZeros 34 = .ok (.iload_n 0, 1) := dk_26 (dk_at dksJ11_numberOfTrailingZeros_1 11 rfl rfl)
theorem dJ11_numberOfTrailingZeros_35 : decode cJ11_numberOfTrailingZeros 35 = .ok (.sipush 256, 3) := dk_17 1 0 (dk_at dksJ11_numberOfTrailingZeros_1 12 rfl rfl)
theorem dJ11_numberOfTrailingZeros_38 : decode cJ11_numberOfTrailingZeros 38 = .ok (.if_icmp .le 11, 3) := dk_164 0 11 (dk_at dksJ11_numberOfTrailingZeros_1 15 rfl rfl)
theorem dJ11_numberOfTrailingZeros_41 : decode cJ11_numberOfTrailingZeros 41 = .ok (.iinc 1 8, 3) := dk_132 1 8 (dk_at dksJ11_numberOfTrailingZeros_1 18 rfl rfl)
theorem dJ11_numberOfTrailingZeros_44 : decode cJ11_numberOfTrailingZeros 44 = .ok (.iload_n 0, 1) := dk_26 (dk_at dksJ11_numberOfTrailingZeros_1 21 rfl rfl)
theorem dJ11_numberOfTrailingZeros_45 : decode cJ11_numberOfTrailingZeros 45 = .ok (.bipush 8, 2) := dk_16 8 (dk_at dksJ11_numberOfTrailingZeros_1 22 rfl rfl)
theorem dJ11_numberOfTrailingZeros_47 : decode cJ11_numberOfTrailingZeros 47 = .ok (.iushr, 1) := dk_124 (dk_at dksJ11_numberOfTrailingZeros_2 0 rfl rfl)
theorem dJ11_numberOfTrailingZeros_48 : decode cJ11_numberOfTrailingZeros 48 = .ok (.istore_n 0, 1) := dk_59 (dk_at dksJ11_numberOfTrailingZeros_2 1 rfl rfl)
theorem dJ11_numberOfTrailingZeros_49 : decode cJ11_numberOfTrailingZeros 49 = .ok (.iload_n 0, 1) := dk_26 (dk_at dksJ11_numberOfTrailingZeros_2 2 rfl rfl)
theorem dJ11_numberOfTrailingZeros_50 : decode cJ11_numberOfTrailingZeros 50 = .ok (.bipush 16, 2) := dk_16 16 (dk_at dksJ11_numberOfTrailingZeros_2 3 rfl rfl)
theorem dJ11_numberOfTrailingZeros_52 : decode cJ11_numberOfTrailingZeros 52 = .ok (.if_icmp .le 10, 3) := dk_164 0 10 (dk_at dksJ11_numberOfTrailingZeros_2 5 rfl rfl)
theorem dJ11_numberOfTrailingZeros_55 : decode cJ11_numberOfTrailingZeros 55 = .ok (.iinc 1 4, 3) := dk_132 1 4 (dk_at dksJ11_numberOfTrailingZeros_2 8 rfl rfl)
theorem dJ11_numberOfTrailingZeros_58 : decode cJ11_numberOfTrailingZeros 58 = .ok (.iload_n 0, 1) := dk_26 (dk_at dksJ11_numberOfTrailingZeros_2 11 rfl rfl)
theorem dJ11_numberOfTrailingZeros_59 : decode cJ11_numberOfTrailingZeros 59 = .ok (.iconst 4, 1) := dk_7 (dk_at dksJ11_numberOfTrailingZeros_2 12 rfl rfl)
theorem dJ11_numberOfTrailingZeros_60 : decode cJ11_numberOfTrailingZeros 60 = .ok (.iushr, 1) := dk_124 (dk_at dksJ11_numberOfTrailingZeros_2 13 rfl rfl)
theorem dJ11_numberOfTrailingZeros_61 : decode cJ11_numberOfTrailingZeros 61 = .ok (.istore_n 0, 1) := dk_59 (dk_at dksJ11_numberOfTrailingZeros_2 14 rfl rfl)
theorem dJ11_numberOfTrailingZeros_62 : decode cJ11_numberOfTrailingZeros 62 = .ok (.iload_n 0, 1) := dk_26 (dk_at dksJ11_numberOfTrailingZeros_2 15 rfl rfl)
theorem dJ11_numberOfTrailingZeros_63 : decode cJ11_numberOfTrailingZeros 63 = .ok (.iconst 4, 1) := dk_7 (dk_at dksJ11_numberOfTrailingZeros_2 16 rfl rfl)
theorem dJ11_numberOfTrailingZeros_64 : decode cJ11_numberOfTrailingZeros 64 = .ok (.if_icmp .le 10, 3) := dk_164 0 10 (dk_at dksJ11_numberOfTrailingZeros_2 17 rfl rfl)
theorem dJ11_numberOfTrailingZeros_67 : decode cJ11_numberOfTrailingZeros 67 = .ok (.iinc 1 2, 3) := dk_132 1 2 (dk_at dksJ11_numberOfTrailingZeros_2 20 rfl rfl)
theorem dJ11_numberOfTrailingZeros_70 : decode cJ11_numberOfTrailingZeros 70 = .ok (.iload_n 0, 1) := dk_26 (dk_at dksJ11_numberOfTrailingZeros_2 23 rfl rfl)
theorem dJ11_numberOfTrailingZeros_71 : decode cJ11_numberOfTrailingZeros 71 = .ok (.iconst 2, 1) := dk_5 (dk_at dksJ11_numberOfTrailingZeros_3 0 rfl rfl)
theorem dJ11_numberOfTrailingZeros_72 : decode cJ11_numberOfTrailingZeros 72 = .ok (.iushr, 1) := dk_124 (dk_at dksJ11_numberOfTrailingZeros_3 1 rfl rfl)
theorem dJ11_numberOfTrailingZeros_73 : decode cJ11_numberOfTrailingZeros 73 = .ok (.istore_n 0, 1) := dk_59 (dk_at dksJ11_numberOfTrailingZeros_3 2 rfl rfl)
theorem dJ11_numberOfTrailingZeros_74 : decode cJ11_numberOfTrailingZeros 74 = .ok (.iload_n 1, 1) := dk_27 (dk_at dksJ11_numberOfTrailingZeros_3 3 rfl rfl)
theorem dJ11_numberOfTrailingZeros_75 : decode cJ11_numberOfTrailingZeros 75 = .ok (.iload_n 0, 1) := dk_26 (dk_at dksJ11_numberOfTrailingZeros_3 4 rfl rfl)
theorem dJ11_numberOfTrailingZeros_76 : decode cJ11_numberOfTrailingZeros 76 = .ok (.iconst 1, 1) := dk_4 (dk_at dksJ11_numberOfTrailingZeros_3 5 rfl rfl)
theorem dJ11_numberOfTrailingZeros_77 : decode cJ11_numberOfTrailingZeros 77 = .ok (.iushr, 1) := dk_124 (dk_at dksJ11_numberOfTrailingZeros_3 6 rfl rfl)
theorem dJ11_numberOfTrailingZeros_78 : decode cJ11_numberOfTrailingZeros 78 = .ok (.iadd, 1) := dk_96 (dk_at dksJ11_numberOfTrailingZeros_3 7 rfl rfl)
theorem dJ11_numberOfTrailingZeros_79 : decode cJ11_numberOfTrailingZeros 79 = .ok (.ireturn, 1) := dk_172 (dk_at dksJ11_numberOfTrailingZeros_3 8 rfl rfl)
theorem q206 : (Jvm.Cond.initialized "java/lang/Integer") ∈ lw_all := lw_g (lw_at lw_m1 31 rfl) rfl
theorem q1155 : (Jvm.Cond.static ({ cls := "java/lang/Integer", name := "bitCount", desc := "(I)I" } : Jvm.MethodName)) ∈ lw_all := lw_g (lw_at lw_m5 20 rfl) rfl
theorem q1156 : (Jvm.Cond.code ({ cls := "java/lang/Integer", name := "bitCount", desc := "(I)I" } : Jvm.MethodName) prog_24_method_49_code (1 : Nat) (Option.some Jvm.ClassFile.FieldType.int)) ∈ lw_all := lw_g (lw_at lw_m5 21 rfl) rfl
theorem q1157 : (Jvm.Cond.constant "java/lang/Integer" (265 : Nat) (1431655765 : Int32)) ∈ lw_all := lw_g (lw_at lw_m5 22 rfl) rfl
theorem q1158 : (Jvm.Cond.constant "java/lang/Integer" (266 : Nat) (858993459 : Int32)) ∈ lw_all := lw_g (lw_at lw_m5 23 rfl) rfl
theorem q1159 : (Jvm.Cond.constant "java/lang/Integer" (267 : Nat) (252645135 : Int32)) ∈ lw_all := lw_g (lw_at lw_m5 24 rfl) rfl
theorem q1161 : (Jvm.Cond.static ({ cls := "java/lang/Integer", name := "numberOfTrailingZeros", desc := "(I)I" } : Jvm.MethodName)) ∈ lw_all := lw_g (lw_at lw_m5 26 rfl) rfl
theorem q1162 : (Jvm.Cond.code ({ cls := "java/lang/Integer", name := "numberOfTrailingZeros", desc := "(I)I" } : Jvm.MethodName) prog_24_method_48_code (2 : Nat) (Option.some Jvm.ClassFile.FieldType.int)) ∈ lw_all := lw_g (lw_at lw_m5 27 rfl) rfl
theorem q1163 : (Jvm.Cond.constant "java/lang/Integer" (264 : Nat) (65536 : Int32)) ∈ lw_all := lw_g (lw_at lw_m5 28 rfl) rfl

/-! java/lang/Long -/
set_option maxRecDepth 100000
def RJ12 : String := "java/lang/Long"
abbrev cJ12_signum : ByteArray := prog_25_method_57_code
def yJ12_signum : MethodName := ⟨RJ12, "signum", "(J)I"⟩
def dkwJ12_signum_0 : List UInt8 := [30, 16, 63, 123, 30, 117, 16, 63, 125, 129, 136, 172]
abbrev dktJ12_signum_0 : List UInt8 := dkwJ12_signum_0 ++ []
theorem dksJ12_signum_0 : cJ12_signum.data.toList.drop 0 = dktJ12_signum_0 := by decide +kernel
theorem dJ12_signum_0 : decode cJ12_signum 0 = .ok (.lload_n 0, 1) := dk_30 (dk_at dksJ12_signum_0 0 rfl rfl)
theorem dJ12_signum_1 : decode cJ12_signum 1 = .ok (.bipush 63, 2) := dk_16 63 (dk_at dksJ12_signum_0 1 rfl rfl)
theorem dJ12_signum_3 : decode cJ12_signum 3 = .ok (.lshr, 1) := dk_123 (dk_at dksJ12_signum_0 3 rfl rfl)
theorem dJ12_signum_4 : decode cJ12_signum 4 = .ok (.lload_n 0, 1) := dk_30 (dk_at dksJ12_signum_0 4 rfl rfl)
theorem dJ12_signum_5 : decode cJ12_signum 5 = .ok (.lneg, 1) := dk_117 (dk_at dksJ12_signum_0 5 rfl rfl)
theorem dJ12_signum_6 : decode cJ12_signum 6 = .ok (.bipush 63, 2) := dk_16 63 (dk_at dksJ12_signum_0 6 rfl rfl)
theorem dJ12_signum_8 : decode cJ12_signum 8 = .ok (.lushr, 1) := dk_125 (dk_at dksJ12_signum_0 8 rfl rfl)
theorem dJ12_signum_9 : decode cJ12_signum 9 = .ok (.lor, 1) := dk_129 (dk_at dksJ12_signum_0 9 rfl rfl)
theorem dJ12_signum_10 : decode cJ12_signum 10 = .ok (.l2i, 1) := dk_136 (dk_at dksJ12_signum_0 10 rfl rfl)
theorem dJ12_signum_11 : decode cJ12_signum 11 = .ok (.ireturn, 1) := dk_172 (dk_at dksJ12_signum_0 11 rfl rfl)
theorem q207 : (Jvm.Cond.initialized "java/lang/Long") ∈ lw_all := lw_g (lw_at lw_m1 32 rfl) rfl
theorem q1272 : (Jvm.Cond.static ({ cls := "java/lang/Long", name := "signum", desc := "(J)I" } : Jvm.MethodName)) ∈ lw_all := lw_g (lw_at lw_m5 137 rfl) rfl
theorem q1273 : (Jvm.Cond.code ({ cls := "java/lang/Long", name := "signum", desc := "(J)I" } : Jvm.MethodName) prog_25_method_57_code (2 : Nat) (Option.some Jvm.ClassFile.FieldType.int)) ∈ lw_all := lw_g (lw_at lw_m5 138 rfl) rfl

/-! java/lang/Object -/
set_option maxRecDepth 100000
def RJ13 : String := "java/lang/Object"
abbrev cJ13_init : ByteArray := object_method_1_code
def yJ13_init : MethodName := ⟨RJ13, "<init>", "()V"⟩
theorem dJ13_init_0 : decode cJ13_init 0 = .ok (.return_, 1) := by decide +kernel
theorem q215 : (Jvm.Cond.instanceMethod ({ cls := "java/lang/Object", name := "<init>", desc := "()V" } : Jvm.MethodName)) ∈ lw_all := lw_g (lw_at lw_m1 40 rfl) rfl
theorem q216 : (Jvm.Cond.code ({ cls := "java/lang/Object", name := "<init>", desc := "()V" } : Jvm.MethodName) object_method_1_code (1 : Nat) (Option.none : Option Jvm.ClassFile.FieldType)) ∈ lw_all := lw_g (lw_at lw_m1 41 rfl) rfl

/-! java/lang/RuntimeException -/
set_option maxRecDepth 100000
def RJ2 : String := "java/lang/RuntimeException"
abbrev cJ2_init : ByteArray := prog_28_method_2_code
def yJ2_init : MethodName := ⟨RJ2, "<init>", "(Ljava/lang/String;)V"⟩
def dkwJ2_init_0 : List UInt8 := [42, 43, 183, 0, 7, 177]
abbrev dktJ2_init_0 : List UInt8 := dkwJ2_init_0 ++ []
theorem dksJ2_init_0 : cJ2_init.data.toList.drop 0 = dktJ2_init_0 := by decide +kernel
theorem dJ2_init_0 : decode cJ2_init 0 = .ok (.aload_n 0, 1) := dk_42 (dk_at dksJ2_init_0 0 rfl rfl)
theorem dJ2_init_1 : decode cJ2_init 1 = .ok (.aload_n 1, 1) := dk_43 (dk_at dksJ2_init_0 1 rfl rfl)
theorem dJ2_init_2 : decode cJ2_init 2 = .ok (.invokespecial 7, 3) := dk_183 0 7 (dk_at dksJ2_init_0 2 rfl rfl)
theorem dJ2_init_5 : decode cJ2_init 5 = .ok (.return_, 1) := dk_177 (dk_at dksJ2_init_0 5 rfl rfl)
theorem q185 : (Jvm.Cond.initialized "java/lang/RuntimeException") ∈ lw_all := lw_g (lw_at lw_m1 10 rfl) rfl
theorem q553 : (Jvm.Cond.instanceMethod ({ cls := "java/lang/RuntimeException", name := "<init>", desc := "(Ljava/lang/String;)V" } : Jvm.MethodName)) ∈ lw_all := lw_g (lw_at lw_m2 138 rfl) rfl
theorem q554 : (Jvm.Cond.code ({ cls := "java/lang/RuntimeException", name := "<init>", desc := "(Ljava/lang/String;)V" } : Jvm.MethodName) prog_28_method_2_code (2 : Nat) (Option.none : Option Jvm.ClassFile.FieldType)) ∈ lw_all := lw_g (lw_at lw_m2 139 rfl) rfl
theorem q555 : (Jvm.Cond.methodLink "java/lang/RuntimeException" (7 : Nat) ({ cls := "java/lang/Exception", name := "<init>", desc := "(Ljava/lang/String;)V" } : Jvm.MethodName)) ∈ lw_all := lw_g (lw_at lw_m2 140 rfl) rfl
theorem q569 : (Jvm.Cond.declares ({ cls := "java/lang/RuntimeException", name := "<init>", desc := "()V" } : Jvm.MethodName)) ∈ lw_tbl := lw_at lw_m2 154 rfl
theorem q570 : (Jvm.Cond.declares ({ cls := "java/lang/RuntimeException", name := "<init>", desc := "(Ljava/lang/String;)V" } : Jvm.MethodName)) ∈ lw_tbl := lw_at lw_m2 155 rfl

/-! java/lang/NegativeArraySizeException -/
set_option maxRecDepth 100000
def RJ3 : String := "java/lang/NegativeArraySizeException"
def TJ3 : u_T := fun k => match k with
  | 0 => ("java/lang/Throwable", "backtrace", "Ljava/lang/Object;", false)
  | 1 => ("java/lang/Throwable", "detailMessage", "Ljava/lang/String;", false)
  | 2 => ("java/lang/Throwable", "cause", "Ljava/lang/Throwable;", false)
  | 3 => ("java/lang/Throwable", "stackTrace", "[Ljava/lang/StackTraceElement;", false)
  | 4 => ("java/lang/Throwable", "depth", "I", false)
  | _ => ("java/lang/Throwable", "suppressedExceptions", "Ljava/util/List;", false)
def tyJ3 : Nat → FieldType := fun k => match k with
  | 0 => .object "java/lang/Object"
  | 1 => .object "java/lang/String"
  | 2 => .object "java/lang/Throwable"
  | 3 => .array (.object "java/lang/StackTraceElement")
  | 4 => .int
  | _ => .object "java/util/List"
abbrev wsJ30 : List Cond := u_ws RJ3 TJ3 6
theorem nmJ3 : ∀ a, a < 6 → ∀ b, b < 6 → a ≠ b → (TJ3 a).2.1 ≠ (TJ3 b).2.1 := by decide +kernel
theorem tyJ3_ok : ∀ k, k < 6 → parseFieldDescriptor (TJ3 k).2.2.1 = some (tyJ3 k) := by decide +kernel
abbrev cJ3_init : ByteArray := prog_27_method_2_code
def yJ3_init : MethodName := ⟨RJ3, "<init>", "(Ljava/lang/String;)V"⟩
def dkwJ3_init_0 : List UInt8 := [42, 43, 183, 0, 7, 177]
abbrev dktJ3_init_0 : List UInt8 := dkwJ3_init_0 ++ []
theorem dksJ3_init_0 : cJ3_init.data.toList.drop 0 = dktJ3_init_0 := by decide +kernel
theorem dJ3_init_0 : decode cJ3_init 0 = .ok (.aload_n 0, 1) := dk_42 (dk_at dksJ3_init_0 0 rfl rfl)
theorem dJ3_init_1 : decode cJ3_init 1 = .ok (.aload_n 1, 1) := dk_43 (dk_at dksJ3_init_0 1 rfl rfl)
theorem dJ3_init_2 : decode cJ3_init 2 = .ok (.invokespecial 7, 3) := dk_183 0 7 (dk_at dksJ3_init_0 2 rfl rfl)
theorem dJ3_init_5 : decode cJ3_init 5 = .ok (.return_, 1) := dk_177 (dk_at dksJ3_init_0 5 rfl rfl)
theorem q186 : (Jvm.Cond.initialized "java/lang/NegativeArraySizeException") ∈ lw_all := lw_g (lw_at lw_m1 11 rfl) rfl
theorem q261 : (Jvm.Cond.selects "java/lang/NegativeArraySizeException" ({ cls := "java/lang/Throwable", name := "fillInStackTrace", desc := "()Ljava/lang/Throwable;" } : Jvm.MethodName) ({ cls := "java/lang/Throwable", name := "fillInStackTrace", desc := "()Ljava/lang/Throwable;" } : Jvm.MethodName)) ∈ lw_all := lw_g (lw_at lw_m1 86 rfl) rfl
theorem q549 : (Jvm.Cond.instantiable "java/lang/NegativeArraySizeException" (6 : Nat)) ∈ lw_all := lw_g (lw_at lw_m2 134 rfl) rfl
theorem q550 : (Jvm.Cond.instanceMethod ({ cls := "java/lang/NegativeArraySizeException", name := "<init>", desc := "(Ljava/lang/String;)V" } : Jvm.MethodName)) ∈ lw_all := lw_g (lw_at lw_m2 135 rfl) rfl
theorem q551 : (Jvm.Cond.code ({ cls := "java/lang/NegativeArraySizeException", name := "<init>", desc := "(Ljava/lang/String;)V" } : Jvm.MethodName) prog_27_method_2_code (2 : Nat) (Option.none : Option Jvm.ClassFile.FieldType)) ∈ lw_all := lw_g (lw_at lw_m2 136 rfl) rfl
theorem q552 : (Jvm.Cond.methodLink "java/lang/NegativeArraySizeException" (7 : Nat) ({ cls := "java/lang/RuntimeException", name := "<init>", desc := "(Ljava/lang/String;)V" } : Jvm.MethodName)) ∈ lw_all := lw_g (lw_at lw_m2 137 rfl) rfl
theorem q561 : (Jvm.Cond.lays "java/lang/NegativeArraySizeException" "java/lang/Throwable" "backtrace" "Ljava/lang/Object;") ∈ lw_all := lw_g (lw_at lw_m2 146 rfl) rfl
theorem q562 : (Jvm.Cond.lays "java/lang/NegativeArraySizeException" "java/lang/Throwable" "detailMessage" "Ljava/lang/String;") ∈ lw_all := lw_g (lw_at lw_m2 147 rfl) rfl
theorem q563 : (Jvm.Cond.lays "java/lang/NegativeArraySizeException" "java/lang/Throwable" "cause" "Ljava/lang/Throwable;") ∈ lw_all := lw_g (lw_at lw_m2 148 rfl) rfl
theorem q564 : (Jvm.Cond.lays "java/lang/NegativeArraySizeException" "java/lang/Throwable" "stackTrace" "[Ljava/lang/StackTraceElement;") ∈ lw_all := lw_g (lw_at lw_m2 149 rfl) rfl
theorem q565 : (Jvm.Cond.lays "java/lang/NegativeArraySizeException" "java/lang/Throwable" "depth" "I") ∈ lw_all := lw_g (lw_at lw_m2 150 rfl) rfl
theorem q566 : (Jvm.Cond.lays "java/lang/NegativeArraySizeException" "java/lang/Throwable" "suppressedExceptions" "Ljava/util/List;") ∈ lw_all := lw_g (lw_at lw_m2 151 rfl) rfl
theorem q567 : (Jvm.Cond.superclass "java/lang/NegativeArraySizeException" "java/lang/RuntimeException") ∈ lw_all := lw_g (lw_at lw_m2 152 rfl) rfl
theorem q568 : (Jvm.Cond.castable "java/lang/NegativeArraySizeException" "java/lang/NegativeArraySizeException") ∈ lw_tbl := lw_at lw_m2 153 rfl
theorem q571 : (Jvm.Cond.selects "java/lang/NegativeArraySizeException" ({ cls := "java/lang/Throwable", name := "fillInStackTrace", desc := "(I)Ljava/lang/Throwable;" } : Jvm.MethodName) ({ cls := "java/lang/Throwable", name := "fillInStackTrace", desc := "(I)Ljava/lang/Throwable;" } : Jvm.MethodName)) ∈ lw_all := lw_g (lw_at lw_m2 156 rfl) rfl
theorem in_J3 : ∀ w ∈ wsJ30, w ∈ lw_all := lw_in wsJ30 [561, 562, 563, 564, 565, 566] (by decide +kernel) (by decide +kernel)

/-! java/lang/String -/
set_option maxRecDepth 100000
def RJ4 : String := "java/lang/String"
def TJ4 : u_T := fun k => match k with
  | 0 => ("java/lang/String", "value", "[B", true)
  | _ => ("java/lang/String", "coder", "B", true)
def tyJ4 : Nat → FieldType := fun k => match k with
  | 0 => .array .byte
  | _ => .byte
abbrev wsJ40 : List Cond := u_ws RJ4 TJ4 2
theorem nmJ4 : ∀ a, a < 2 → ∀ b, b < 2 → a ≠ b → (TJ4 a).2.1 ≠ (TJ4 b).2.1 := by decide +kernel
theorem tyJ4_ok : ∀ k, k < 2 → parseFieldDescriptor (TJ4 k).2.2.1 = some (tyJ4 k) := by decide +kernel
abbrev cJ4_length : ByteArray := prog_29_method_54_code
def yJ4_length : MethodName := ⟨RJ4, "length", "()I"⟩
def dkwJ4_length_0 : List UInt8 := [42, 180, 0, 9, 190, 42, 182, 1, 79, 122, 172]
abbrev dktJ4_length_0 : List UInt8 := dkwJ4_length_0 ++ []
theorem dksJ4_length_0 : cJ4_length.data.toList.drop 0 = dktJ4_length_0 := by decide +kernel
theorem dJ4_length_0 : decode cJ4_length 0 = .ok (.aload_n 0, 1) := dk_42 (dk_at dksJ4_length_0 0 rfl rfl)
theorem dJ4_length_1 : decode cJ4_length 1 = .ok (.getfield 9, 3) := dk_180 0 9 (dk_at dksJ4_length_0 1 rfl rfl)
theorem dJ4_length_4 : decode cJ4_length 4 = .ok (.arraylength, 1) := dk_190 (dk_at dksJ4_length_0 4 rfl rfl)
theorem dJ4_length_5 : decode cJ4_length 5 = .ok (.aload_n 0, 1) := dk_42 (dk_at dksJ4_length_0 5 rfl rfl)
theorem dJ4_length_6 : decode cJ4_length 6 = .ok (.invokevirtual 335, 3) := dk_182 1 79 (dk_at dksJ4_length_0 6 rfl rfl)
theorem dJ4_length_9 : decode cJ4_length 9 = .ok (.ishr, 1) := dk_122 (dk_at dksJ4_length_0 9 rfl rfl)
theorem dJ4_length_10 : decode cJ4_length 10 = .ok (.ireturn, 1) := dk_172 (dk_at dksJ4_length_0 10 rfl rfl)
abbrev cJ4_coder : ByteArray := prog_29_method_152_code
def yJ4_coder : MethodName := ⟨RJ4, "coder", "()B"⟩
def dkwJ4_coder_0 : List UInt8 := [178, 0, 38, 153, 0, 10, 42, 180, 0, 15, 167, 0, 4, 4, 172]
abbrev dktJ4_coder_0 : List UInt8 := dkwJ4_coder_0 ++ []
theorem dksJ4_coder_0 : cJ4_coder.data.toList.drop 0 = dktJ4_coder_0 := by decide +kernel
theorem dJ4_coder_0 : decode cJ4_coder 0 = .ok (.getstatic 38, 3) := dk_178 0 38 (dk_at dksJ4_coder_0 0 rfl rfl)
theorem dJ4_coder_3 : decode cJ4_coder 3 = .ok (.ifCond .eq 10, 3) := dk_153 0 10 (dk_at dksJ4_coder_0 3 rfl rfl)
theorem dJ4_coder_6 : decode cJ4_coder 6 = .ok (.aload_n 0, 1) := dk_42 (dk_at dksJ4_coder_0 6 rfl rfl)
theorem dJ4_coder_7 : decode cJ4_coder 7 = .ok (.getfield 15, 3) := dk_180 0 15 (dk_at dksJ4_coder_0 7 rfl rfl)
theorem dJ4_coder_10 : decode cJ4_coder 10 = .ok (.goto 4, 3) := dk_167 0 4 (dk_at dksJ4_coder_0 10 rfl rfl)
theorem dJ4_coder_13 : decode cJ4_coder 13 = .ok (.iconst 1, 1) := dk_4 (dk_at dksJ4_coder_0 13 rfl rfl)
theorem dJ4_coder_14 : decode cJ4_coder 14 = .ok (.ireturn, 1) := dk_172 (dk_at dksJ4_coder_0 14 rfl rfl)
abbrev cJ4_charAt : ByteArray := prog_29_method_56_code
def yJ4_charAt : MethodName := ⟨RJ4, "charAt", "(I)C"⟩
def dkwJ4_charAt_1 : List UInt8 := [172]
abbrev dktJ4_charAt_1 : List UInt8 := dkwJ4_charAt_1 ++ []
def dkwJ4_charAt_0 : List UInt8 := [42, 182, 1, 236, 153, 0, 12, 42, 180, 0, 9, 27, 184, 1, 239, 172, 42, 180, 0, 9, 27, 184, 1, 242]
abbrev dktJ4_charAt_0 : List UInt8 := dkwJ4_charAt_0 ++ dktJ4_charAt_1
theorem dksJ4_charAt_0 : cJ4_charAt.data.toList.drop 0 = dktJ4_charAt_0 := by decide +kernel
theorem dksJ4_charAt_1 : cJ4_charAt.data.toList.drop 24 = dktJ4_charAt_1 := dk_seg dksJ4_charAt_0 24 rfl rfl
theorem dJ4_charAt_0 : decode cJ4_charAt 0 = .ok (.aload_n 0, 1) := dk_42 (dk_at dksJ4_charAt_0 0 rfl rfl)
theorem dJ4_charAt_1 : decode cJ4_charAt 1 = .ok (.invokevirtual 492, 3) := dk_182 1 236 (dk_at dksJ4_charAt_0 1 rfl rfl)
theorem dJ4_charAt_4 : decode cJ4_charAt 4 = .ok (.ifCond .eq 12, 3) := dk_153 0 12 (dk_at dksJ4_charAt_0 4 rfl rfl)
theorem dJ4_charAt_7 : decode cJ4_charAt 7 = .ok (.aload_n 0, 1) := dk_42 (dk_at dksJ4_charAt_0 7 rfl rfl)
theorem dJ4_charAt_8 : decode cJ4_charAt 8 = .ok (.getfield 9, 3) := dk_180 0 9 (dk_at dksJ4_charAt_0 8 rfl rfl)
theorem dJ4_charAt_11 : decode cJ4_charAt 11 = .ok (.iload_n 1, 1) := dk_27 (dk_at dksJ4_charAt_0 11 rfl rfl)
theorem dJ4_charAt_12 : decode cJ4_charAt 12 = .ok (.invokestatic 495, 3) := dk_184 1 239 (dk_at dksJ4_charAt_0 12 rfl rfl)
theorem dJ4_charAt_15 : decode cJ4_charAt 15 = .ok (.ireturn, 1) := dk_172 (dk_at dksJ4_charAt_0 15 rfl rfl)
theorem dJ4_charAt_16 : decode cJ4_charAt 16 = .ok (.aload_n 0, 1) := dk_42 (dk_at dksJ4_charAt_0 16 rfl rfl)
theorem dJ4_charAt_17 : decode cJ4_charAt 17 = .ok (.getfield 9, 3) := dk_180 0 9 (dk_at dksJ4_charAt_0 17 rfl rfl)
theorem dJ4_charAt_20 : decode cJ4_charAt 20 = .ok (.iload_n 1, 1) := dk_27 (dk_at dksJ4_charAt_0 20 rfl rfl)
theorem dJ4_charAt_21 : decode cJ4_charAt 21 = .ok (.invokestatic 498, 3) := dk_184 1 242 (dk_at dksJ4_charAt_0 21 rfl rfl)
theorem dJ4_charAt_24 : decode cJ4_charAt 24 = .ok (.ireturn, 1) := dk_172 (dk_at dksJ4_charAt_1 0 rfl rfl)
abbrev cJ4_isLatin1 : ByteArray := prog_29_method_154_code
def yJ4_isLatin1 : MethodName := ⟨RJ4, "isLatin1", "()Z"⟩
def dkwJ4_isLatin1_0 : List UInt8 := [178, 0, 38, 153, 0, 14, 42, 180, 0, 15, 154, 0, 7, 4, 167, 0, 4, 3, 172]
abbrev dktJ4_isLatin1_0 : List UInt8 := dkwJ4_isLatin1_0 ++ []
theorem dksJ4_isLatin1_0 : cJ4_isLatin1.data.toList.drop 0 = dktJ4_isLatin1_0 := by decide +kernel
theorem dJ4_isLatin1_0 : decode cJ4_isLatin1 0 = .ok (.getstatic 38, 3) := dk_178 0 38 (dk_at dksJ4_isLatin1_0 0 rfl rfl)
theorem dJ4_isLatin1_3 : decode cJ4_isLatin1 3 = .ok (.ifCond .eq 14, 3) := dk_153 0 14 (dk_at dksJ4_isLatin1_0 3 rfl rfl)
theorem dJ4_isLatin1_6 : decode cJ4_isLatin1 6 = .ok (.aload_n 0, 1) := dk_42 (dk_at dksJ4_isLatin1_0 6 rfl rfl)
theorem dJ4_isLatin1_7 : decode cJ4_isLatin1 7 = .ok (.getfield 15, 3) := dk_180 0 15 (dk_at dksJ4_isLatin1_0 7 rfl rfl)
theorem dJ4_isLatin1_10 : decode cJ4_isLatin1 10 = .ok (.ifCond .ne 7, 3) := dk_154 0 7 (dk_at dksJ4_isLatin1_0 10 rfl rfl)
theorem dJ4_isLatin1_13 : decode cJ4_isLatin1 13 = .ok (.iconst 1, 1) := dk_4 (dk_at dksJ4_isLatin1_0 13 rfl rfl)
theorem dJ4_isLatin1_14 : decode cJ4_isLatin1 14 = .ok (.goto 4, 3) := dk_167 0 4 (dk_at dksJ4_isLatin1_0 14 rfl rfl)
theorem dJ4_isLatin1_17 : decode cJ4_isLatin1 17 = .ok (.iconst 0, 1) := dk_3 (dk_at dksJ4_isLatin1_0 17 rfl rfl)
theorem dJ4_isLatin1_18 : decode cJ4_isLatin1 18 = .ok (.ireturn, 1) := dk_172 (dk_at dksJ4_isLatin1_0 18 rfl rfl)
abbrev cJ4_checkIndex : ByteArray := prog_29_method_155_code
def yJ4_checkIndex : MethodName := ⟨RJ4, "checkIndex", "(II)V"⟩
def dkwJ4_checkIndex_0 : List UInt8 := [26, 27, 178, 4, 29, 184, 4, 35, 87, 177]
abbrev dktJ4_checkIndex_0 : List UInt8 := dkwJ4_checkIndex_0 ++ []
theorem dksJ4_checkIndex_0 : cJ4_checkIndex.data.toList.drop 0 = dktJ4_checkIndex_0 := by decide +kernel
theorem dJ4_checkIndex_0 : decode cJ4_checkIndex 0 = .ok (.iload_n 0, 1) := dk_26 (dk_at dksJ4_checkIndex_0 0 rfl rfl)
theorem dJ4_checkIndex_1 : decode cJ4_checkIndex 1 = .ok (.iload_n 1, 1) := dk_27 (dk_at dksJ4_checkIndex_0 1 rfl rfl)
theorem dJ4_checkIndex_2 : decode cJ4_checkIndex 2 = .ok (.getstatic 1053, 3) := dk_178 4 29 (dk_at dksJ4_checkIndex_0 2 rfl rfl)
theorem dJ4_checkIndex_5 : decode cJ4_checkIndex 5 = .ok (.invokestatic 1059, 3) := dk_184 4 35 (dk_at dksJ4_checkIndex_0 5 rfl rfl)
theorem dJ4_checkIndex_8 : decode cJ4_checkIndex 8 = .ok (.pop, 1) := dk_87 (dk_at dksJ4_checkIndex_0 8 rfl rfl)
theorem dJ4_checkIndex_9 : decode cJ4_checkIndex 9 = .ok (.return_, 1) := dk_177 (dk_at dksJ4_checkIndex_0 9 rfl rfl)
theorem q187 : (Jvm.Cond.initialized "java/lang/String") ∈ lw_all := lw_g (lw_at lw_m1 12 rfl) rfl
theorem q572 : (Jvm.Cond.instantiable "java/lang/String" (4 : Nat)) ∈ lw_all := lw_g (lw_at lw_m2 157 rfl) rfl
theorem q573 : (Jvm.Cond.laysFinal "java/lang/String" "java/lang/String" "value" "[B") ∈ lw_all := lw_g (lw_at lw_m2 158 rfl) rfl
theorem q574 : (Jvm.Cond.soleField "java/lang/String" "value") ∈ lw_all := lw_g (lw_at lw_m2 159 rfl) rfl
theorem q575 : (Jvm.Cond.laysFinal "java/lang/String" "java/lang/String" "coder" "B") ∈ lw_all := lw_g (lw_at lw_m2 160 rfl) rfl
theorem q576 : (Jvm.Cond.soleField "java/lang/String" "coder") ∈ lw_all := lw_g (lw_at lw_m2 161 rfl) rfl
theorem q721 : (Jvm.Cond.instanceMethod ({ cls := "java/lang/String", name := "length", desc := "()I" } : Jvm.MethodName)) ∈ lw_all := lw_g (lw_at lw_m3 66 rfl) rfl
theorem q722 : (Jvm.Cond.selects "java/lang/String" ({ cls := "java/lang/String", name := "length", desc := "()I" } : Jvm.MethodName) ({ cls := "java/lang/String", name := "length", desc := "()I" } : Jvm.MethodName)) ∈ lw_all := lw_g (lw_at lw_m3 67 rfl) rfl
theorem q723 : (Jvm.Cond.code ({ cls := "java/lang/String", name := "length", desc := "()I" } : Jvm.MethodName) prog_29_method_54_code (1 : Nat) (Option.some Jvm.ClassFile.FieldType.int)) ∈ lw_all := lw_g (lw_at lw_m3 68 rfl) rfl
theorem q724 : (Jvm.Cond.methodLink "java/lang/String" (335 : Nat) ({ cls := "java/lang/String", name := "coder", desc := "()B" } : Jvm.MethodName)) ∈ lw_all := lw_g (lw_at lw_m3 69 rfl) rfl
theorem q725 : (Jvm.Cond.instanceMethod ({ cls := "java/lang/String", name := "coder", desc := "()B" } : Jvm.MethodName)) ∈ lw_all := lw_g (lw_at lw_m3 70 rfl) rfl
theorem q726 : (Jvm.Cond.selects "java/lang/String" ({ cls := "java/lang/String", name := "coder", desc := "()B" } : Jvm.MethodName) ({ cls := "java/lang/String", name := "coder", desc := "()B" } : Jvm.MethodName)) ∈ lw_all := lw_g (lw_at lw_m3 71 rfl) rfl
theorem q727 : (Jvm.Cond.code ({ cls := "java/lang/String", name := "coder", desc := "()B" } : Jvm.MethodName) prog_29_method_152_code (1 : Nat) (Option.some Jvm.ClassFile.FieldType.byte)) ∈ lw_all := lw_g (lw_at lw_m3 72 rfl) rfl
theorem q728 : (Jvm.Cond.fieldLink "java/lang/String" (38 : Nat) "java/lang/String" "COMPACT_STRINGS" "Z") ∈ lw_all := lw_g (lw_at lw_m3 73 rfl) rfl
theorem q729 : (Jvm.Cond.laysStatic "java/lang/String" "COMPACT_STRINGS" "Z") ∈ lw_tbl := lw_at lw_m3 74 rfl
theorem q731 : (Jvm.Cond.instanceMethod ({ cls := "java/lang/String", name := "charAt", desc := "(I)C" } : Jvm.MethodName)) ∈ lw_all := lw_g (lw_at lw_m3 76 rfl) rfl
theorem q732 : (Jvm.Cond.selects "java/lang/String" ({ cls := "java/lang/String", name := "charAt", desc := "(I)C" } : Jvm.MethodName) ({ cls := "java/lang/String", name := "charAt", desc := "(I)C" } : Jvm.MethodName)) ∈ lw_all := lw_g (lw_at lw_m3 77 rfl) rfl
theorem q733 : (Jvm.Cond.code ({ cls := "java/lang/String", name := "charAt", desc := "(I)C" } : Jvm.MethodName) prog_29_method_56_code (2 : Nat) (Option.some Jvm.ClassFile.FieldType.char)) ∈ lw_all := lw_g (lw_at lw_m3 78 rfl) rfl
theorem q734 : (Jvm.Cond.methodLink "java/lang/String" (492 : Nat) ({ cls := "java/lang/String", name := "isLatin1", desc := "()Z" } : Jvm.MethodName)) ∈ lw_all := lw_g (lw_at lw_m3 79 rfl) rfl
theorem q735 : (Jvm.Cond.instanceMethod ({ cls := "java/lang/String", name := "isLatin1", desc := "()Z" } : Jvm.MethodName)) ∈ lw_all := lw_g (lw_at lw_m3 80 rfl) rfl
theorem q736 : (Jvm.Cond.selects "java/lang/String" ({ cls := "java/lang/String", name := "isLatin1", desc := "()Z" } : Jvm.MethodName) ({ cls := "java/lang/String", name := "isLatin1", desc := "()Z" } : Jvm.MethodName)) ∈ lw_all := lw_g (lw_at lw_m3 81 rfl) rfl
theorem q737 : (Jvm.Cond.code ({ cls := "java/lang/String", name := "isLatin1", desc := "()Z" } : Jvm.MethodName) prog_29_method_154_code (1 : Nat) (Option.some Jvm.ClassFile.FieldType.boolean)) ∈ lw_all := lw_g (lw_at lw_m3 82 rfl) rfl
theorem q738 : (Jvm.Cond.methodLink "java/lang/String" (495 : Nat) ({ cls := "java/lang/StringLatin1", name := "charAt", desc := "([BI)C" } : Jvm.MethodName)) ∈ lw_all := lw_g (lw_at lw_m3 83 rfl) rfl
theorem q742 : (Jvm.Cond.static ({ cls := "java/lang/String", name := "checkIndex", desc := "(II)V" } : Jvm.MethodName)) ∈ lw_all := lw_g (lw_at lw_m3 87 rfl) rfl
theorem q743 : (Jvm.Cond.code ({ cls := "java/lang/String", name := "checkIndex", desc := "(II)V" } : Jvm.MethodName) prog_29_method_155_code (2 : Nat) (Option.none : Option Jvm.ClassFile.FieldType)) ∈ lw_all := lw_g (lw_at lw_m3 88 rfl) rfl
theorem q744 : (Jvm.Cond.fieldLink "java/lang/String" (1053 : Nat) "jdk/internal/util/Preconditions" "SIOOBE_FORMATTER" "Ljava/util/function/BiFunction;") ∈ lw_all := lw_g (lw_at lw_m3 89 rfl) rfl
theorem q746 : (Jvm.Cond.methodLink "java/lang/String" (1059 : Nat) ({ cls := "jdk/internal/util/Preconditions", name := "checkIndex", desc := "(IILjava/util/function/BiFunction;)I" } : Jvm.MethodName)) ∈ lw_all := lw_g (lw_at lw_m3 91 rfl) rfl
theorem q749 : (Jvm.Cond.methodLink "java/lang/String" (498 : Nat) ({ cls := "java/lang/StringUTF16", name := "charAt", desc := "([BI)C" } : Jvm.MethodName)) ∈ lw_all := lw_g (lw_at lw_m3 94 rfl) rfl
theorem q2554 : (Jvm.Cond.fieldLink "java/lang/String" (9 : Nat) "java/lang/String" "value" "[B") ∈ lw_all := lw_g (lw_at lw_m10 219 rfl) rfl
theorem q2555 : (Jvm.Cond.fieldLink "java/lang/String" (15 : Nat) "java/lang/String" "coder" "B") ∈ lw_all := lw_g (lw_at lw_m10 220 rfl) rfl
theorem in_J4 : ∀ w ∈ wsJ40, w ∈ lw_all := lw_in wsJ40 [573, 575] (by decide +kernel) (by decide +kernel)

/-! java/lang/IndexOutOfBoundsException -/
set_option maxRecDepth 100000
def RJ5 : String := "java/lang/IndexOutOfBoundsException"
abbrev cJ5_init : ByteArray := prog_23_method_2_code
def yJ5_init : MethodName := ⟨RJ5, "<init>", "(Ljava/lang/String;)V"⟩
def dkwJ5_init_0 : List UInt8 := [42, 43, 183, 0, 7, 177]
abbrev dktJ5_init_0 : List UInt8 := dkwJ5_init_0 ++ []
theorem dksJ5_init_0 : cJ5_init.data.toList.drop 0 = dktJ5_init_0 := by decide +kernel
theorem dJ5_init_0 : decode cJ5_init 0 = .ok (.aload_n 0, 1) := dk_42 (dk_at dksJ5_init_0 0 rfl rfl)
theorem dJ5_init_1 : decode cJ5_init 1 = .ok (.aload_n 1, 1) := dk_43 (dk_at dksJ5_init_0 1 rfl rfl)
theorem dJ5_init_2 : decode cJ5_init 2 = .ok (.invokespecial 7, 3) := dk_183 0 7 (dk_at dksJ5_init_0 2 rfl rfl)
theorem dJ5_init_5 : decode cJ5_init 5 = .ok (.return_, 1) := dk_177 (dk_at dksJ5_init_0 5 rfl rfl)
theorem q188 : (Jvm.Cond.initialized "java/lang/IndexOutOfBoundsException") ∈ lw_all := lw_g (lw_at lw_m1 13 rfl) rfl
theorem q603 : (Jvm.Cond.instanceMethod ({ cls := "java/lang/IndexOutOfBoundsException", name := "<init>", desc := "(Ljava/lang/String;)V" } : Jvm.MethodName)) ∈ lw_all := lw_g (lw_at lw_m2 188 rfl) rfl
theorem q604 : (Jvm.Cond.code ({ cls := "java/lang/IndexOutOfBoundsException", name := "<init>", desc := "(Ljava/lang/String;)V" } : Jvm.MethodName) prog_23_method_2_code (2 : Nat) (Option.none : Option Jvm.ClassFile.FieldType)) ∈ lw_all := lw_g (lw_at lw_m2 189 rfl) rfl
theorem q605 : (Jvm.Cond.methodLink "java/lang/IndexOutOfBoundsException" (7 : Nat) ({ cls := "java/lang/RuntimeException", name := "<init>", desc := "(Ljava/lang/String;)V" } : Jvm.MethodName)) ∈ lw_all := lw_g (lw_at lw_m2 190 rfl) rfl
theorem q614 : (Jvm.Cond.declares ({ cls := "java/lang/IndexOutOfBoundsException", name := "<init>", desc := "()V" } : Jvm.MethodName)) ∈ lw_tbl := lw_at lw_m2 199 rfl
theorem q615 : (Jvm.Cond.declares ({ cls := "java/lang/IndexOutOfBoundsException", name := "<init>", desc := "(Ljava/lang/String;)V" } : Jvm.MethodName)) ∈ lw_tbl := lw_at lw_m2 200 rfl

/-! java/lang/ArrayIndexOutOfBoundsException -/
set_option maxRecDepth 100000
def RJ6 : String := "java/lang/ArrayIndexOutOfBoundsException"
def TJ6 : u_T := fun k => match k with
  | 0 => ("java/lang/Throwable", "backtrace", "Ljava/lang/Object;", false)
  | 1 => ("java/lang/Throwable", "detailMessage", "Ljava/lang/String;", false)
  | 2 => ("java/lang/Throwable", "cause", "Ljava/lang/Throwable;", false)
  | 3 => ("java/lang/Throwable", "stackTrace", "[Ljava/lang/StackTraceElement;", false)
  | 4 => ("java/lang/Throwable", "depth", "I", false)
  | _ => ("java/lang/Throwable", "suppressedExceptions", "Ljava/util/List;", false)
def tyJ6 : Nat → FieldType := fun k => match k with
  | 0 => .object "java/lang/Object"
  | 1 => .object "java/lang/String"
  | 2 => .object "java/lang/Throwable"
  | 3 => .array (.object "java/lang/StackTraceElement")
  | 4 => .int
  | _ => .object "java/util/List"
abbrev wsJ60 : List Cond := u_ws RJ6 TJ6 6
theorem nmJ6 : ∀ a, a < 6 → ∀ b, b < 6 → a ≠ b → (TJ6 a).2.1 ≠ (TJ6 b).2.1 := by decide +kernel
theorem tyJ6_ok : ∀ k, k < 6 → parseFieldDescriptor (TJ6 k).2.2.1 = some (tyJ6 k) := by decide +kernel
abbrev cJ6_init : ByteArray := prog_21_method_2_code
def yJ6_init : MethodName := ⟨RJ6, "<init>", "(Ljava/lang/String;)V"⟩
def dkwJ6_init_0 : List UInt8 := [42, 43, 183, 0, 7, 177]
abbrev dktJ6_init_0 : List UInt8 := dkwJ6_init_0 ++ []
theorem dksJ6_init_0 : cJ6_init.data.toList.drop 0 = dktJ6_init_0 := by decide +kernel
theorem dJ6_init_0 : decode cJ6_init 0 = .ok (.aload_n 0, 1) := dk_42 (dk_at dksJ6_init_0 0 rfl rfl)
theorem dJ6_init_1 : decode cJ6_init 1 = .ok (.aload_n 1, 1) := dk_43 (dk_at dksJ6_init_0 1 rfl rfl)
theorem dJ6_init_2 : decode cJ6_init 2 = .ok (.invokespecial 7, 3) := dk_183 0 7 (dk_at dksJ6_init_0 2 rfl rfl)
theorem dJ6_init_5 : decode cJ6_init 5 = .ok (.return_, 1) := dk_177 (dk_at dksJ6_init_0 5 rfl rfl)
theorem q189 : (Jvm.Cond.initialized "java/lang/ArrayIndexOutOfBoundsException") ∈ lw_all := lw_g (lw_at lw_m1 14 rfl) rfl
theorem q260 : (Jvm.Cond.selects "java/lang/ArrayIndexOutOfBoundsException" ({ cls := "java/lang/Throwable", name := "fillInStackTrace", desc := "()Ljava/lang/Throwable;" } : Jvm.MethodName) ({ cls := "java/lang/Throwable", name := "fillInStackTrace", desc := "()Ljava/lang/Throwable;" } : Jvm.MethodName)) ∈ lw_all := lw_g (lw_at lw_m1 85 rfl) rfl
theorem q599 : (Jvm.Cond.instantiable "java/lang/ArrayIndexOutOfBoundsException" (6 : Nat)) ∈ lw_all := lw_g (lw_at lw_m2 184 rfl) rfl
theorem q600 : (Jvm.Cond.instanceMethod ({ cls := "java/lang/ArrayIndexOutOfBoundsException", name := "<init>", desc := "(Ljava/lang/String;)V" } : Jvm.MethodName)) ∈ lw_all := lw_g (lw_at lw_m2 185 rfl) rfl
theorem q601 : (Jvm.Cond.code ({ cls := "java/lang/ArrayIndexOutOfBoundsException", name := "<init>", desc := "(Ljava/lang/String;)V" } : Jvm.MethodName) prog_21_method_2_code (2 : Nat) (Option.none : Option Jvm.ClassFile.FieldType)) ∈ lw_all := lw_g (lw_at lw_m2 186 rfl) rfl
theorem q602 : (Jvm.Cond.methodLink "java/lang/ArrayIndexOutOfBoundsException" (7 : Nat) ({ cls := "java/lang/IndexOutOfBoundsException", name := "<init>", desc := "(Ljava/lang/String;)V" } : Jvm.MethodName)) ∈ lw_all := lw_g (lw_at lw_m2 187 rfl) rfl
theorem q606 : (Jvm.Cond.lays "java/lang/ArrayIndexOutOfBoundsException" "java/lang/Throwable" "backtrace" "Ljava/lang/Object;") ∈ lw_all := lw_g (lw_at lw_m2 191 rfl) rfl
theorem q607 : (Jvm.Cond.lays "java/lang/ArrayIndexOutOfBoundsException" "java/lang/Throwable" "detailMessage" "Ljava/lang/String;") ∈ lw_all := lw_g (lw_at lw_m2 192 rfl) rfl
theorem q608 : (Jvm.Cond.lays "java/lang/ArrayIndexOutOfBoundsException" "java/lang/Throwable" "cause" "Ljava/lang/Throwable;") ∈ lw_all := lw_g (lw_at lw_m2 193 rfl) rfl
theorem q609 : (Jvm.Cond.lays "java/lang/ArrayIndexOutOfBoundsException" "java/lang/Throwable" "stackTrace" "[Ljava/lang/StackTraceElement;") ∈ lw_all := lw_g (lw_at lw_m2 194 rfl) rfl
theorem q610 : (Jvm.Cond.lays "java/lang/ArrayIndexOutOfBoundsException" "java/lang/Throwable" "depth" "I") ∈ lw_all := lw_g (lw_at lw_m2 195 rfl) rfl
theorem q611 : (Jvm.Cond.lays "java/lang/ArrayIndexOutOfBoundsException" "java/lang/Throwable" "suppressedExceptions" "Ljava/util/List;") ∈ lw_all := lw_g (lw_at lw_m2 196 rfl) rfl
theorem q612 : (Jvm.Cond.superclass "java/lang/ArrayIndexOutOfBoundsException" "java/lang/IndexOutOfBoundsException") ∈ lw_all := lw_g (lw_at lw_m2 197 rfl) rfl
theorem q613 : (Jvm.Cond.castable "java/lang/ArrayIndexOutOfBoundsException" "java/lang/ArrayIndexOutOfBoundsException") ∈ lw_tbl := lw_at lw_m2 198 rfl
theorem q616 : (Jvm.Cond.selects "java/lang/ArrayIndexOutOfBoundsException" ({ cls := "java/lang/Throwable", name := "fillInStackTrace", desc := "(I)Ljava/lang/Throwable;" } : Jvm.MethodName) ({ cls := "java/lang/Throwable", name := "fillInStackTrace", desc := "(I)Ljava/lang/Throwable;" } : Jvm.MethodName)) ∈ lw_all := lw_g (lw_at lw_m2 201 rfl) rfl
theorem q2550 : (Jvm.Cond.castable "java/lang/ArrayIndexOutOfBoundsException" "java/lang/IndexOutOfBoundsException") ∈ lw_tbl := lw_at lw_m10 215 rfl
theorem in_J6 : ∀ w ∈ wsJ60, w ∈ lw_all := lw_in wsJ60 [606, 607, 608, 609, 610, 611] (by decide +kernel) (by decide +kernel)

/-! java/lang/StringLatin1 -/
set_option maxRecDepth 100000
def RJ7 : String := "java/lang/StringLatin1"
abbrev cJ7_charAt : ByteArray := prog_30_method_2_code
def yJ7_charAt : MethodName := ⟨RJ7, "charAt", "([BI)C"⟩
def dkwJ7_charAt_0 : List UInt8 := [27, 42, 190, 184, 0, 9, 42, 27, 51, 17, 0, 255, 126, 146, 172]
abbrev dktJ7_charAt_0 : List UInt8 := dkwJ7_charAt_0 ++ []
theorem dksJ7_charAt_0 : cJ7_charAt.data.toList.drop 0 = dktJ7_charAt_0 := by decide +kernel
theorem dJ7_charAt_0 : decode cJ7_charAt 0 = .ok (.iload_n 1, 1) := dk_27 (dk_at dksJ7_charAt_0 0 rfl rfl)
theorem dJ7_charAt_1 : decode cJ7_charAt 1 = .ok (.aload_n 0, 1) := dk_42 (dk_at dksJ7_charAt_0 1 rfl rfl)
theorem dJ7_charAt_2 : decode cJ7_charAt 2 = .ok (.arraylength, 1) := dk_190 (dk_at dksJ7_charAt_0 2 rfl rfl)
theorem dJ7_charAt_3 : decode cJ7_charAt 3 = .ok (.invokestatic 9, 3) := dk_184 0 9 (dk_at dksJ7_charAt_0 3 rfl rfl)
theorem dJ7_charAt_6 : decode cJ7_charAt 6 = .ok (.aload_n 0, 1) := dk_42 (dk_at dksJ7_charAt_0 6 rfl rfl)
theorem dJ7_charAt_7 : decode cJ7_charAt 7 = .ok (.iload_n 1, 1) := dk_27 (dk_at dksJ7_charAt_0 7 rfl rfl)
theorem dJ7_charAt_8 : decode cJ7_charAt 8 = .ok (.baload, 1) := dk_51 (dk_at dksJ7_charAt_0 8 rfl rfl)
theorem dJ7_charAt_9 : decode cJ7_charAt 9 = .ok (.sipush 255, 3) := dk_17 0 255 (dk_at dksJ7_charAt_0 9 rfl rfl)
theorem dJ7_charAt_12 : decode cJ7_charAt 12 = .ok (.iand, 1) := dk_126 (dk_at dksJ7_charAt_0 12 rfl rfl)
theorem dJ7_charAt_13 : decode cJ7_charAt 13 = .ok (.i2c, 1) := dk_146 (dk_at dksJ7_charAt_0 13 rfl rfl)
theorem dJ7_charAt_14 : decode cJ7_charAt 14 = .ok (.ireturn, 1) := dk_172 (dk_at dksJ7_charAt_0 14 rfl rfl)
theorem q192 : (Jvm.Cond.initialized "java/lang/StringLatin1") ∈ lw_all := lw_g (lw_at lw_m1 17 rfl) rfl
theorem q739 : (Jvm.Cond.static ({ cls := "java/lang/StringLatin1", name := "charAt", desc := "([BI)C" } : Jvm.MethodName)) ∈ lw_all := lw_g (lw_at lw_m3 84 rfl) rfl
theorem q740 : (Jvm.Cond.code ({ cls := "java/lang/StringLatin1", name := "charAt", desc := "([BI)C" } : Jvm.MethodName) prog_30_method_2_code (2 : Nat) (Option.some Jvm.ClassFile.FieldType.char)) ∈ lw_all := lw_g (lw_at lw_m3 85 rfl) rfl
theorem q741 : (Jvm.Cond.methodLink "java/lang/StringLatin1" (9 : Nat) ({ cls := "java/lang/String", name := "checkIndex", desc := "(II)V" } : Jvm.MethodName)) ∈ lw_all := lw_g (lw_at lw_m3 86 rfl) rfl

/-! jdk/internal/util/Preconditions -/
set_option maxRecDepth 100000
def RJ8 : String := "jdk/internal/util/Preconditions"
abbrev cJ8_checkIndex : ByteArray := prog_34_method_11_code
def yJ8_checkIndex : MethodName := ⟨RJ8, "checkIndex", "(IILjava/util/function/BiFunction;)I"⟩
def dkwJ8_checkIndex_0 : List UInt8 := [26, 155, 0, 8, 26, 27, 161, 0, 10, 44, 26, 27, 184, 0, 95, 191, 26, 172]
abbrev dktJ8_checkIndex_0 : List UInt8 := dkwJ8_checkIndex_0 ++ []
theorem dksJ8_checkIndex_0 : cJ8_checkIndex.data.toList.drop 0 = dktJ8_checkIndex_0 := by decide +kernel
theorem dJ8_checkIndex_0 : decode cJ8_checkIndex 0 = .ok (.iload_n 0, 1) := dk_26 (dk_at dksJ8_checkIndex_0 0 rfl rfl)
theorem dJ8_checkIndex_1 : decode cJ8_checkIndex 1 = .ok (.ifCond .lt 8, 3) := dk_155 0 8 (dk_at dksJ8_checkIndex_0 1 rfl rfl)
theorem dJ8_checkIndex_4 : decode cJ8_checkIndex 4 = .ok (.iload_n 0, 1) := dk_26 (dk_at dksJ8_checkIndex_0 4 rfl rfl)
theorem dJ8_checkIndex_5 : decode cJ8_checkIndex 5 = .ok (.iload_n 1, 1) := dk_27 (dk_at dksJ8_checkIndex_0 5 rfl rfl)
theorem dJ8_checkIndex_6 : decode cJ8_checkIndex 6 = .ok (.if_icmp .lt 10, 3) := dk_161 0 10 (dk_at dksJ8_checkIndex_0 6 rfl rfl)
theorem dJ8_checkIndex_9 : decode cJ8_checkIndex 9 = .ok (.aload_n 2, 1) := dk_44 (dk_at dksJ8_checkIndex_0 9 rfl rfl)
theorem dJ8_checkIndex_10 : decode cJ8_checkIndex 10 = .ok (.iload_n 0, 1) := dk_26 (dk_at dksJ8_checkIndex_0 10 rfl rfl)
theorem dJ8_checkIndex_11 : decode cJ8_checkIndex 11 = .ok (.iload_n 1, 1) := dk_27 (dk_at dksJ8_checkIndex_0 11 rfl rfl)
theorem dJ8_checkIndex_12 : decode cJ8_checkIndex 12 = .ok (.invokestatic 95, 3) := dk_184 0 95 (dk_at dksJ8_checkIndex_0 12 rfl rfl)
theorem dJ8_checkIndex_15 : decode cJ8_checkIndex 15 = .ok (.athrow, 1) := dk_191 (dk_at dksJ8_checkIndex_0 15 rfl rfl)
theorem dJ8_checkIndex_16 : decode cJ8_checkIndex 16 = .ok (.iload_n 0, 1) := dk_26 (dk_at dksJ8_checkIndex_0 16 rfl rfl)
theorem dJ8_checkIndex_17 : decode cJ8_checkIndex 17 = .ok (.ireturn, 1) := dk_172 (dk_at dksJ8_checkIndex_0 17 rfl rfl)
theorem q193 : (Jvm.Cond.initialized "jdk/internal/util/Preconditions") ∈ lw_all := lw_g (lw_at lw_m1 18 rfl) rfl
theorem q745 : (Jvm.Cond.laysStatic "jdk/internal/util/Preconditions" "SIOOBE_FORMATTER" "Ljava/util/function/BiFunction;") ∈ lw_tbl := lw_at lw_m3 90 rfl
theorem q747 : (Jvm.Cond.static ({ cls := "jdk/internal/util/Preconditions", name := "checkIndex", desc := "(IILjava/util/function/BiFunction;)I" } : Jvm.MethodName)) ∈ lw_all := lw_g (lw_at lw_m3 92 rfl) rfl
theorem q748 : (Jvm.Cond.code ({ cls := "jdk/internal/util/Preconditions", name := "checkIndex", desc := "(IILjava/util/function/BiFunction;)I" } : Jvm.MethodName) prog_34_method_11_code (3 : Nat) (Option.some Jvm.ClassFile.FieldType.int)) ∈ lw_all := lw_g (lw_at lw_m3 93 rfl) rfl

/-! java/lang/StringUTF16 -/
set_option maxRecDepth 100000
def RJ9 : String := "java/lang/StringUTF16"
abbrev cJ9_charAt : ByteArray := prog_31_method_83_code
def yJ9_charAt : MethodName := ⟨RJ9, "charAt", "([BI)C"⟩
def dkwJ9_charAt_0 : List UInt8 := [27, 42, 184, 0, 67, 42, 27, 184, 0, 71, 172]
abbrev dktJ9_charAt_0 : List UInt8 := dkwJ9_charAt_0 ++ []
theorem dksJ9_charAt_0 : cJ9_charAt.data.toList.drop 0 = dktJ9_charAt_0 := by decide +kernel
theorem dJ9_charAt_0 : decode cJ9_charAt 0 = .ok (.iload_n 1, 1) := dk_27 (dk_at dksJ9_charAt_0 0 rfl rfl)
theorem dJ9_charAt_1 : decode cJ9_charAt 1 = .ok (.aload_n 0, 1) := dk_42 (dk_at dksJ9_charAt_0 1 rfl rfl)
theorem dJ9_charAt_2 : decode cJ9_charAt 2 = .ok (.invokestatic 67, 3) := dk_184 0 67 (dk_at dksJ9_charAt_0 2 rfl rfl)
theorem dJ9_charAt_5 : decode cJ9_charAt 5 = .ok (.aload_n 0, 1) := dk_42 (dk_at dksJ9_charAt_0 5 rfl rfl)
theorem dJ9_charAt_6 : decode cJ9_charAt 6 = .ok (.iload_n 1, 1) := dk_27 (dk_at dksJ9_charAt_0 6 rfl rfl)
theorem dJ9_charAt_7 : decode cJ9_charAt 7 = .ok (.invokestatic 71, 3) := dk_184 0 71 (dk_at dksJ9_charAt_0 7 rfl rfl)
theorem dJ9_charAt_10 : decode cJ9_charAt 10 = .ok (.ireturn, 1) := dk_172 (dk_at dksJ9_charAt_0 10 rfl rfl)
abbrev cJ9_checkIndex : ByteArray := prog_31_method_91_code
def yJ9_checkIndex : MethodName := ⟨RJ9, "checkIndex", "(I[B)V"⟩
def dkwJ9_checkIndex_0 : List UInt8 := [26, 43, 184, 0, 48, 184, 1, 158, 177]
abbrev dktJ9_checkIndex_0 : List UInt8 := dkwJ9_checkIndex_0 ++ []
theorem dksJ9_checkIndex_0 : cJ9_checkIndex.data.toList.drop 0 = dktJ9_checkIndex_0 := by decide +kernel
theorem dJ9_checkIndex_0 : decode cJ9_checkIndex 0 = .ok (.iload_n 0, 1) := dk_26 (dk_at dksJ9_checkIndex_0 0 rfl rfl)
theorem dJ9_checkIndex_1 : decode cJ9_checkIndex 1 = .ok (.aload_n 1, 1) := dk_43 (dk_at dksJ9_checkIndex_0 1 rfl rfl)
theorem dJ9_checkIndex_2 : decode cJ9_checkIndex 2 = .ok (.invokestatic 48, 3) := dk_184 0 48 (dk_at dksJ9_checkIndex_0 2 rfl rfl)
theorem dJ9_checkIndex_5 : decode cJ9_checkIndex 5 = .ok (.invokestatic 414, 3) := dk_184 1 158 (dk_at dksJ9_checkIndex_0 5 rfl rfl)
theorem dJ9_checkIndex_8 : decode cJ9_checkIndex 8 = .ok (.return_, 1) := dk_177 (dk_at dksJ9_checkIndex_0 8 rfl rfl)
abbrev cJ9_length : ByteArray := prog_31_method_6_code
def yJ9_length : MethodName := ⟨RJ9, "length", "([B)I"⟩
def dkwJ9_length_0 : List UInt8 := [42, 190, 4, 122, 172]
abbrev dktJ9_length_0 : List UInt8 := dkwJ9_length_0 ++ []
theorem dksJ9_length_0 : cJ9_length.data.toList.drop 0 = dktJ9_length_0 := by decide +kernel
theorem dJ9_length_0 : decode cJ9_length 0 = .ok (.aload_n 0, 1) := dk_42 (dk_at dksJ9_length_0 0 rfl rfl)
theorem dJ9_length_1 : decode cJ9_length 1 = .ok (.arraylength, 1) := dk_190 (dk_at dksJ9_length_0 1 rfl rfl)
theorem dJ9_length_2 : decode cJ9_length 2 = .ok (.iconst 1, 1) := dk_4 (dk_at dksJ9_length_0 2 rfl rfl)
theorem dJ9_length_3 : decode cJ9_length 3 = .ok (.ishr, 1) := dk_122 (dk_at dksJ9_length_0 3 rfl rfl)
theorem dJ9_length_4 : decode cJ9_length 4 = .ok (.ireturn, 1) := dk_172 (dk_at dksJ9_length_0 4 rfl rfl)
abbrev cJ9_getChar : ByteArray := prog_31_method_5_code
def yJ9_getChar : MethodName := ⟨RJ9, "getChar", "([BI)C"⟩
def dkwJ9_getChar_2 : List UInt8 := [51, 17, 0, 255, 126, 178, 0, 63, 120, 128, 146, 172]
abbrev dktJ9_getChar_2 : List UInt8 := dkwJ9_getChar_2 ++ []
def dkwJ9_getChar_1 : List UInt8 := [183, 0, 56, 191, 27, 4, 120, 60, 42, 27, 132, 1, 1, 51, 17, 0, 255, 126, 178, 0, 59, 120, 42, 27]
abbrev dktJ9_getChar_1 : List UInt8 := dkwJ9_getChar_1 ++ dktJ9_getChar_2
def dkwJ9_getChar_0 : List UInt8 := [178, 0, 44, 154, 0, 25, 27, 155, 0, 11, 27, 42, 184, 0, 48, 161, 0, 13, 187, 0, 52, 89, 18, 54]
abbrev dktJ9_getChar_0 : List UInt8 := dkwJ9_getChar_0 ++ dktJ9_getChar_1
theorem dksJ9_getChar_0 : cJ9_getChar.data.toList.drop 0 = dktJ9_getChar_0 := by decide +kernel
theorem dksJ9_getChar_1 : cJ9_getChar.data.toList.drop 24 = dktJ9_getChar_1 := dk_seg dksJ9_getChar_0 24 rfl rfl
theorem dksJ9_getChar_2 : cJ9_getChar.data.toList.drop 48 = dktJ9_getChar_2 := dk_seg dksJ9_getChar_1 24 rfl rfl
theorem dJ9_getChar_0 : decode cJ9_getChar 0 = .ok (.getstatic 44, 3) := dk_178 0 44 (dk_at dksJ9_getChar_0 0 rfl rfl)
theorem dJ9_getChar_3 : decode cJ9_getChar 3 = .ok (.ifCond .ne 25, 3) := dk_154 0 25 (dk_at dksJ9_getChar_0 3 rfl rfl)
theorem dJ9_getChar_6 : decode cJ9_getChar 6 = .ok (.iload_n 1, 1) := dk_27 (dk_at dksJ9_getChar_0 6 rfl rfl)
theorem dJ9_getChar_7 : decode cJ9_getChar 7 = .ok (.ifCond .lt 11, 3) := dk_155 0 11 (dk_at dksJ9_getChar_0 7 rfl rfl)
theorem dJ9_getChar_10 : decode cJ9_getChar 10 = .ok (.iload_n 1, 1) := dk_27 (dk_at dksJ9_getChar_0 10 rfl rfl)
theorem dJ9_getChar_11 : decode cJ9_getChar 11 = .ok (.aload_n 0, 1) := dk_42 (dk_at dksJ9_getChar_0 11 rfl rfl)
theorem dJ9_getChar_12 : decode cJ9_getChar 12 = .ok (.invokestatic 48, 3) := dk_184 0 48 (dk_at dksJ9_getChar_0 12 rfl rfl)
theorem dJ9_getChar_15 : decode cJ9_getChar 15 = .ok (.if_icmp .lt 13, 3) := dk_161 0 13 (dk_at dksJ9_getChar_0 15 rfl rfl)
theorem dJ9_getChar_18 : decode cJ9_getChar 18 = .ok (.new 52, 3) := dk_187 0 52 (dk_at dksJ9_getChar_0 18 rfl rfl)
theorem dJ9_getChar_21 : decode cJ9_getChar 21 = .ok (.dup, 1) := dk_89 (dk_at dksJ9_getChar_0 21 rfl rfl)
theorem dJ9_getChar_22 : decode cJ9_getChar 22 = .ok (.ldc 54, 2) := dk_18 54 (dk_at dksJ9_getChar_0 22 rfl rfl)
theorem dJ9_getChar_24 : decode cJ9_getChar 24 = .ok (.invokespecial 56, 3) := dk_183 0 56 (dk_at dksJ9_getChar_1 0 rfl rfl)
theorem dJ9_getChar_27 : decode cJ9_getChar 27 = .ok (.athrow, 1) := dk_191 (dk_at dksJ9_getChar_1 3 rfl rfl)
theorem dJ9_getChar_28 : decode cJ9_getChar 28 = .ok (.iload_n 1, 1) := dk_27 (dk_at dksJ9_getChar_1 4 rfl rfl)
theorem dJ9_getChar_29 : decode cJ9_getChar 29 = .ok (.iconst 1, 1) := dk_4 (dk_at dksJ9_getChar_1 5 rfl rfl)
theorem dJ9_getChar_30 : decode cJ9_getChar 30 = .ok (.ishl, 1) := dk_120 (dk_at dksJ9_getChar_1 6 rfl rfl)
theorem dJ9_getChar_31 : decode cJ9_getChar 31 = .ok (.istore_n 1, 1) := dk_60 (dk_at dksJ9_getChar_1 7 rfl rfl)
theorem dJ9_getChar_32 : decode cJ9_getChar 32 = .ok (.aload_n 0, 1) := dk_42 (dk_at dksJ9_getChar_1 8 rfl rfl)
theorem dJ9_getChar_33 : decode cJ9_getChar 33 = .ok (.iload_n 1, 1) := dk_27 (dk_at dksJ9_getChar_1 9 rfl rfl)
theorem dJ9_getChar_34 : decode cJ9_getChar 34 = .ok (.iinc 1 1, 3) := dk_132 1 1 (dk_at dksJ9_getChar_1 10 rfl rfl)
theorem dJ9_getChar_37 : decode cJ9_getChar 37 = .ok (.baload, 1) := dk_51 (dk_at dksJ9_getChar_1 13 rfl rfl)
theorem dJ9_getChar_38 : decode cJ9_getChar 38 = .ok (.sipush 255, 3) := dk_17 0 255 (dk_at dksJ9_getChar_1 14 rfl rfl)
theorem dJ9_getChar_41 : decode cJ9_getChar 41 = .ok (.iand, 1) := dk_126 (dk_at dksJ9_getChar_1 17 rfl rfl)
theorem dJ9_getChar_42 : decode cJ9_getChar 42 = .ok (.getstatic 59, 3) := dk_178 0 59 (dk_at dksJ9_getChar_1 18 rfl rfl)
theorem dJ9_getChar_45 : decode cJ9_getChar 45 = .ok (.ishl, 1) := dk_120 (dk_at dksJ9_getChar_1 21 rfl rfl)
theorem dJ9_getChar_46 : decode cJ9_getChar 46 = .ok (.aload_n 0, 1) := dk_42 (dk_at dksJ9_getChar_1 22 rfl rfl)
theorem dJ9_getChar_47 : decode cJ9_getChar 47 = .ok (.iload_n 1, 1) := dk_27 (dk_at dksJ9_getChar_1 23 rfl rfl)
theorem dJ9_getChar_48 : decode cJ9_getChar 48 = .ok (.baload, 1) := dk_51 (dk_at dksJ9_getChar_2 0 rfl rfl)
theorem dJ9_getChar_49 : decode cJ9_getChar 49 = .ok (.sipush 255, 3) := dk_17 0 255 (dk_at dksJ9_getChar_2 1 rfl rfl)
theorem dJ9_getChar_52 : decode cJ9_getChar 52 = .ok (.iand, 1) := dk_126 (dk_at dksJ9_getChar_2 4 rfl rfl)
theorem dJ9_getChar_53 : decode cJ9_getChar 53 = .ok (.getstatic 63, 3) := dk_178 0 63 (dk_at dksJ9_getChar_2 5 rfl rfl)
theorem dJ9_getChar_56 : decode cJ9_getChar 56 = .ok (.ishl, 1) := dk_120 (dk_at dksJ9_getChar_2 8 rfl rfl)
theorem dJ9_getChar_57 : decode cJ9_getChar 57 = .ok (.ior, 1) := dk_128 (dk_at dksJ9_getChar_2 9 rfl rfl)
theorem dJ9_getChar_58 : decode cJ9_getChar 58 = .ok (.i2c, 1) := dk_146 (dk_at dksJ9_getChar_2 10 rfl rfl)
theorem dJ9_getChar_59 : decode cJ9_getChar 59 = .ok (.ireturn, 1) := dk_172 (dk_at dksJ9_getChar_2 11 rfl rfl)
theorem q194 : (Jvm.Cond.initialized "java/lang/StringUTF16") ∈ lw_all := lw_g (lw_at lw_m1 19 rfl) rfl
theorem q750 : (Jvm.Cond.static ({ cls := "java/lang/StringUTF16", name := "charAt", desc := "([BI)C" } : Jvm.MethodName)) ∈ lw_all := lw_g (lw_at lw_m3 95 rfl) rfl
theorem q751 : (Jvm.Cond.code ({ cls := "java/lang/StringUTF16", name := "charAt", desc := "([BI)C" } : Jvm.MethodName) prog_31_method_83_code (2 : Nat) (Option.some Jvm.ClassFile.FieldType.char)) ∈ lw_all := lw_g (lw_at lw_m3 96 rfl) rfl
theorem q752 : (Jvm.Cond.methodLink "java/lang/StringUTF16" (67 : Nat) ({ cls := "java/lang/StringUTF16", name := "checkIndex", desc := "(I[B)V" } : Jvm.MethodName)) ∈ lw_all := lw_g (lw_at lw_m3 97 rfl) rfl
theorem q753 : (Jvm.Cond.static ({ cls := "java/lang/StringUTF16", name := "checkIndex", desc := "(I[B)V" } : Jvm.MethodName)) ∈ lw_all := lw_g (lw_at lw_m3 98 rfl) rfl
theorem q754 : (Jvm.Cond.code ({ cls := "java/lang/StringUTF16", name := "checkIndex", desc := "(I[B)V" } : Jvm.MethodName) prog_31_method_91_code (2 : Nat) (Option.none : Option Jvm.ClassFile.FieldType)) ∈ lw_all := lw_g (lw_at lw_m3 99 rfl) rfl
theorem q755 : (Jvm.Cond.methodLink "java/lang/StringUTF16" (48 : Nat) ({ cls := "java/lang/StringUTF16", name := "length", desc := "([B)I" } : Jvm.MethodName)) ∈ lw_all := lw_g (lw_at lw_m3 100 rfl) rfl
theorem q756 : (Jvm.Cond.static ({ cls := "java/lang/StringUTF16", name := "length", desc := "([B)I" } : Jvm.MethodName)) ∈ lw_all := lw_g (lw_at lw_m3 101 rfl) rfl
theorem q757 : (Jvm.Cond.code ({ cls := "java/lang/StringUTF16", name := "length", desc := "([B)I" } : Jvm.MethodName) prog_31_method_6_code (1 : Nat) (Option.some Jvm.ClassFile.FieldType.int)) ∈ lw_all := lw_g (lw_at lw_m3 102 rfl) rfl
theorem q758 : (Jvm.Cond.methodLink "java/lang/StringUTF16" (414 : Nat) ({ cls := "java/lang/String", name := "checkIndex", desc := "(II)V" } : Jvm.MethodName)) ∈ lw_all := lw_g (lw_at lw_m3 103 rfl) rfl
theorem q759 : (Jvm.Cond.methodLink "java/lang/StringUTF16" (71 : Nat) ({ cls := "java/lang/StringUTF16", name := "getChar", desc := "([BI)C" } : Jvm.MethodName)) ∈ lw_all := lw_g (lw_at lw_m3 104 rfl) rfl
theorem q760 : (Jvm.Cond.static ({ cls := "java/lang/StringUTF16", name := "getChar", desc := "([BI)C" } : Jvm.MethodName)) ∈ lw_all := lw_g (lw_at lw_m3 105 rfl) rfl
theorem q761 : (Jvm.Cond.code ({ cls := "java/lang/StringUTF16", name := "getChar", desc := "([BI)C" } : Jvm.MethodName) prog_31_method_5_code (2 : Nat) (Option.some Jvm.ClassFile.FieldType.char)) ∈ lw_all := lw_g (lw_at lw_m3 106 rfl) rfl
theorem q762 : (Jvm.Cond.fieldLink "java/lang/StringUTF16" (44 : Nat) "java/lang/StringUTF16" "$assertionsDisabled" "Z") ∈ lw_all := lw_g (lw_at lw_m3 107 rfl) rfl
theorem q763 : (Jvm.Cond.laysStatic "java/lang/StringUTF16" "$assertionsDisabled" "Z") ∈ lw_tbl := lw_at lw_m3 108 rfl
theorem q764 : (Jvm.Cond.fieldLink "java/lang/StringUTF16" (59 : Nat) "java/lang/StringUTF16" "HI_BYTE_SHIFT" "I") ∈ lw_all := lw_g (lw_at lw_m3 109 rfl) rfl
theorem q765 : (Jvm.Cond.laysStatic "java/lang/StringUTF16" "HI_BYTE_SHIFT" "I") ∈ lw_tbl := lw_at lw_m3 110 rfl
theorem q766 : (Jvm.Cond.fieldLink "java/lang/StringUTF16" (63 : Nat) "java/lang/StringUTF16" "LO_BYTE_SHIFT" "I") ∈ lw_all := lw_g (lw_at lw_m3 111 rfl) rfl
theorem q767 : (Jvm.Cond.laysStatic "java/lang/StringUTF16" "LO_BYTE_SHIFT" "I") ∈ lw_tbl := lw_at lw_m3 112 rfl

/-! CargoFlag$Tray -/
set_option maxRecDepth 100000
def RX1 : String := "CargoFlag$Tray"
def TX1 : u_T := fun k => match k with
  | _ => ("CargoFlag$Tray", "row", "Ljava/lang/Object;", false)
def tyX1 : Nat → FieldType := fun k => match k with
  | _ => .object "java/lang/Object"
abbrev wsX10 : List Cond := u_ws RX1 TX1 1
theorem nmX1 : ∀ a, a < 1 → ∀ b, b < 1 → a ≠ b → (TX1 a).2.1 ≠ (TX1 b).2.1 := by decide +kernel
theorem tyX1_ok : ∀ k, k < 1 → parseFieldDescriptor (TX1 k).2.2.1 = some (tyX1 k) := by decide +kernel
abbrev cX1_init : ByteArray := prog_16_method_1_code
def yX1_init : MethodName := ⟨RX1, "<init>", "()V"⟩
theorem dX1_init_0 : decode cX1_init 0 = .ok (.aload_n 0, 1) := by decide +kernel
theorem dX1_init_1 : decode cX1_init 1 = .ok (.invokespecial 1, 3) := by decide +kernel
theorem dX1_init_4 : decode cX1_init 4 = .ok (.return_, 1) := by decide +kernel
theorem q177 : (Jvm.Cond.initialized "CargoFlag$Tray") ∈ lw_all := lw_g (lw_at lw_m1 2 rfl) rfl
theorem q219 : (Jvm.Cond.instantiable "CargoFlag$Tray" (1 : Nat)) ∈ lw_all := lw_g (lw_at lw_m1 44 rfl) rfl
theorem q221 : (Jvm.Cond.instanceMethod ({ cls := "CargoFlag$Tray", name := "<init>", desc := "()V" } : Jvm.MethodName)) ∈ lw_all := lw_g (lw_at lw_m1 46 rfl) rfl
theorem q222 : (Jvm.Cond.code ({ cls := "CargoFlag$Tray", name := "<init>", desc := "()V" } : Jvm.MethodName) prog_16_method_1_code (1 : Nat) (Option.none : Option Jvm.ClassFile.FieldType)) ∈ lw_all := lw_g (lw_at lw_m1 47 rfl) rfl
theorem q223 : (Jvm.Cond.methodLink "CargoFlag$Tray" (1 : Nat) ({ cls := "java/lang/Object", name := "<init>", desc := "()V" } : Jvm.MethodName)) ∈ lw_all := lw_g (lw_at lw_m1 48 rfl) rfl
theorem q225 : (Jvm.Cond.lays "CargoFlag$Tray" "CargoFlag$Tray" "row" "Ljava/lang/Object;") ∈ lw_all := lw_g (lw_at lw_m1 50 rfl) rfl
theorem q226 : (Jvm.Cond.soleField "CargoFlag$Tray" "row") ∈ lw_all := lw_g (lw_at lw_m1 51 rfl) rfl
theorem q227 : (Jvm.Cond.superclass "CargoFlag$Tray" "java/lang/Object") ∈ lw_all := lw_g (lw_at lw_m1 52 rfl) rfl
theorem in_X1 : ∀ w ∈ wsX10, w ∈ lw_all := lw_in wsX10 [225] (by decide +kernel) (by decide +kernel)

/-! CargoFlag$Good -/
set_option maxRecDepth 100000
def RX10 : String := "CargoFlag$Good"
def TX10 : u_T := fun k => match k with
  | 0 => ("CargoFlag$Named", "name", "J", true)
  | 1 => ("CargoFlag$Good", "nation", "I", false)
  | 2 => ("CargoFlag$Good", "worth", "I", false)
  | _ => ("CargoFlag$Good", "leaks", "I", false)
def tyX10 : Nat → FieldType := fun k => match k with
  | 0 => .long
  | 1 => .int
  | 2 => .int
  | _ => .int
abbrev wsX100 : List Cond := u_ws RX10 TX10 4
theorem nmX10 : ∀ a, a < 4 → ∀ b, b < 4 → a ≠ b → (TX10 a).2.1 ≠ (TX10 b).2.1 := by decide +kernel
theorem tyX10_ok : ∀ k, k < 4 → parseFieldDescriptor (TX10 k).2.2.1 = some (tyX10 k) := by decide +kernel
abbrev cX10_init : ByteArray := prog_5_method_1_code
def yX10_init : MethodName := ⟨RX10, "<init>", "(J)V"⟩
def dkwX10_init_0 : List UInt8 := [42, 31, 183, 0, 1, 177]
abbrev dktX10_init_0 : List UInt8 := dkwX10_init_0 ++ []
theorem dksX10_init_0 : cX10_init.data.toList.drop 0 = dktX10_init_0 := by decide +kernel
theorem dX10_init_0 : decode cX10_init 0 = .ok (.aload_n 0, 1) := dk_42 (dk_at dksX10_init_0 0 rfl rfl)
theorem dX10_init_1 : decode cX10_init 1 = .ok (.lload_n 1, 1) := dk_31 (dk_at dksX10_init_0 1 rfl rfl)
theorem dX10_init_2 : decode cX10_init 2 = .ok (.invokespecial 1, 3) := dk_183 0 1 (dk_at dksX10_init_0 2 rfl rfl)
theorem dX10_init_5 : decode cX10_init 5 = .ok (.return_, 1) := dk_177 (dk_at dksX10_init_0 5 rfl rfl)
theorem q197 : (Jvm.Cond.initialized "CargoFlag$Good") ∈ lw_all := lw_g (lw_at lw_m1 22 rfl) rfl
theorem q902 : (Jvm.Cond.instantiable "CargoFlag$Good" (4 : Nat)) ∈ lw_all := lw_g (lw_at lw_m4 7 rfl) rfl
theorem q904 : (Jvm.Cond.instanceMethod ({ cls := "CargoFlag$Good", name := "<init>", desc := "(J)V" } : Jvm.MethodName)) ∈ lw_all := lw_g (lw_at lw_m4 9 rfl) rfl
theorem q905 : (Jvm.Cond.code ({ cls := "CargoFlag$Good", name := "<init>", desc := "(J)V" } : Jvm.MethodName) prog_5_method_1_code (3 : Nat) (Option.none : Option Jvm.ClassFile.FieldType)) ∈ lw_all := lw_g (lw_at lw_m4 10 rfl) rfl
theorem q906 : (Jvm.Cond.methodLink "CargoFlag$Good" (1 : Nat) ({ cls := "CargoFlag$Named", name := "<init>", desc := "(J)V" } : Jvm.MethodName)) ∈ lw_all := lw_g (lw_at lw_m4 11 rfl) rfl
theorem q916 : (Jvm.Cond.lays "CargoFlag$Good" "CargoFlag$Good" "nation" "I") ∈ lw_all := lw_g (lw_at lw_m4 21 rfl) rfl
theorem q917 : (Jvm.Cond.soleField "CargoFlag$Good" "nation") ∈ lw_all := lw_g (lw_at lw_m4 22 rfl) rfl
theorem q918 : (Jvm.Cond.lays "CargoFlag$Good" "CargoFlag$Good" "worth" "I") ∈ lw_all := lw_g (lw_at lw_m4 23 rfl) rfl
theorem q919 : (Jvm.Cond.soleField "CargoFlag$Good" "worth") ∈ lw_all := lw_g (lw_at lw_m4 24 rfl) rfl
theorem q920 : (Jvm.Cond.lays "CargoFlag$Good" "CargoFlag$Good" "leaks" "I") ∈ lw_all := lw_g (lw_at lw_m4 25 rfl) rfl
theorem q921 : (Jvm.Cond.soleField "CargoFlag$Good" "leaks") ∈ lw_all := lw_g (lw_at lw_m4 26 rfl) rfl
theorem q922 : (Jvm.Cond.laysFinal "CargoFlag$Good" "CargoFlag$Named" "name" "J") ∈ lw_all := lw_g (lw_at lw_m4 27 rfl) rfl
theorem q923 : (Jvm.Cond.superclass "CargoFlag$Good" "CargoFlag$Named") ∈ lw_all := lw_g (lw_at lw_m4 28 rfl) rfl
theorem in_X10 : ∀ w ∈ wsX100, w ∈ lw_all := lw_in wsX100 [922, 916, 918, 920] (by decide +kernel) (by decide +kernel)

/-! CargoFlag$Port -/
set_option maxRecDepth 100000
def RX11 : String := "CargoFlag$Port"
def TX11 : u_T := fun k => match k with
  | 0 => ("CargoFlag$Named", "name", "J", true)
  | _ => ("CargoFlag$Port", "nation", "I", false)
def tyX11 : Nat → FieldType := fun k => match k with
  | 0 => .long
  | _ => .int
abbrev wsX110 : List Cond := u_ws RX11 TX11 2
theorem nmX11 : ∀ a, a < 2 → ∀ b, b < 2 → a ≠ b → (TX11 a).2.1 ≠ (TX11 b).2.1 := by decide +kernel
theorem tyX11_ok : ∀ k, k < 2 → parseFieldDescriptor (TX11 k).2.2.1 = some (tyX11 k) := by decide +kernel
abbrev cX11_init : ByteArray := prog_11_method_1_code
def yX11_init : MethodName := ⟨RX11, "<init>", "(J)V"⟩
def dkwX11_init_0 : List UInt8 := [42, 31, 183, 0, 3, 42, 2, 181, 0, 9, 177]
abbrev dktX11_init_0 : List UInt8 := dkwX11_init_0 ++ []
theorem dksX11_init_0 : cX11_init.data.toList.drop 0 = dktX11_init_0 := by decide +kernel
theorem dX11_init_0 : decode cX11_init 0 = .ok (.aload_n 0, 1) := dk_42 (dk_at dksX11_init_0 0 rfl rfl)
theorem dX11_init_1 : decode cX11_init 1 = .ok (.lload_n 1, 1) := dk_31 (dk_at dksX11_init_0 1 rfl rfl)
theorem dX11_init_2 : decode cX11_init 2 = .ok (.invokespecial 3, 3) := dk_183 0 3 (dk_at dksX11_init_0 2 rfl rfl)
theorem dX11_init_5 : decode cX11_init 5 = .ok (.aload_n 0, 1) := dk_42 (dk_at dksX11_init_0 5 rfl rfl)
theorem dX11_init_6 : decode cX11_init 6 = .ok (.iconst (-1), 1) := dk_2 (dk_at dksX11_init_0 6 rfl rfl)
theorem dX11_init_7 : decode cX11_init 7 = .ok (.putfield 9, 3) := dk_181 0 9 (dk_at dksX11_init_0 7 rfl rfl)
theorem dX11_init_10 : decode cX11_init 10 = .ok (.return_, 1) := dk_177 (dk_at dksX11_init_0 10 rfl rfl)
theorem q198 : (Jvm.Cond.initialized "CargoFlag$Port") ∈ lw_all := lw_g (lw_at lw_m1 23 rfl) rfl
theorem q929 : (Jvm.Cond.instantiable "CargoFlag$Port" (2 : Nat)) ∈ lw_all := lw_g (lw_at lw_m4 34 rfl) rfl
theorem q931 : (Jvm.Cond.instanceMethod ({ cls := "CargoFlag$Port", name := "<init>", desc := "(J)V" } : Jvm.MethodName)) ∈ lw_all := lw_g (lw_at lw_m4 36 rfl) rfl
theorem q932 : (Jvm.Cond.code ({ cls := "CargoFlag$Port", name := "<init>", desc := "(J)V" } : Jvm.MethodName) prog_11_method_1_code (3 : Nat) (Option.none : Option Jvm.ClassFile.FieldType)) ∈ lw_all := lw_g (lw_at lw_m4 37 rfl) rfl
theorem q933 : (Jvm.Cond.methodLink "CargoFlag$Port" (3 : Nat) ({ cls := "CargoFlag$Named", name := "<init>", desc := "(J)V" } : Jvm.MethodName)) ∈ lw_all := lw_g (lw_at lw_m4 38 rfl) rfl
theorem q934 : (Jvm.Cond.fieldLink "CargoFlag$Port" (9 : Nat) "CargoFlag$Port" "nation" "I") ∈ lw_all := lw_g (lw_at lw_m4 39 rfl) rfl
theorem q938 : (Jvm.Cond.lays "CargoFlag$Port" "CargoFlag$Port" "nation" "I") ∈ lw_all := lw_g (lw_at lw_m4 43 rfl) rfl
theorem q939 : (Jvm.Cond.soleField "CargoFlag$Port" "nation") ∈ lw_all := lw_g (lw_at lw_m4 44 rfl) rfl
theorem q940 : (Jvm.Cond.laysFinal "CargoFlag$Port" "CargoFlag$Named" "name" "J") ∈ lw_all := lw_g (lw_at lw_m4 45 rfl) rfl
theorem q941 : (Jvm.Cond.superclass "CargoFlag$Port" "CargoFlag$Named") ∈ lw_all := lw_g (lw_at lw_m4 46 rfl) rfl
theorem in_X11 : ∀ w ∈ wsX110, w ∈ lw_all := lw_in wsX110 [940, 938] (by decide +kernel) (by decide +kernel)

/-! CargoFlag$Ship -/
set_option maxRecDepth 100000
def RX12 : String := "CargoFlag$Ship"
def TX12 : u_T := fun k => match k with
  | 0 => ("CargoFlag$Named", "name", "J", true)
  | _ => ("CargoFlag$Ship", "hold", "I", false)
def tyX12 : Nat → FieldType := fun k => match k with
  | 0 => .long
  | _ => .int
abbrev wsX120 : List Cond := u_ws RX12 TX12 2
theorem nmX12 : ∀ a, a < 2 → ∀ b, b < 2 → a ≠ b → (TX12 a).2.1 ≠ (TX12 b).2.1 := by decide +kernel
theorem tyX12_ok : ∀ k, k < 2 → parseFieldDescriptor (TX12 k).2.2.1 = some (tyX12 k) := by decide +kernel
abbrev cX12_init : ByteArray := prog_14_method_1_code
def yX12_init : MethodName := ⟨RX12, "<init>", "(J)V"⟩
def dkwX12_init_0 : List UInt8 := [42, 31, 183, 0, 1, 177]
abbrev dktX12_init_0 : List UInt8 := dkwX12_init_0 ++ []
theorem dksX12_init_0 : cX12_init.data.toList.drop 0 = dktX12_init_0 := by decide +kernel
theorem dX12_init_0 : decode cX12_init 0 = .ok (.aload_n 0, 1) := dk_42 (dk_at dksX12_init_0 0 rfl rfl)
theorem dX12_init_1 : decode cX12_init 1 = .ok (.lload_n 1, 1) := dk_31 (dk_at dksX12_init_0 1 rfl rfl)
theorem dX12_init_2 : decode cX12_init 2 = .ok (.invokespecial 1, 3) := dk_183 0 1 (dk_at dksX12_init_0 2 rfl rfl)
theorem dX12_init_5 : decode cX12_init 5 = .ok (.return_, 1) := dk_177 (dk_at dksX12_init_0 5 rfl rfl)
theorem q199 : (Jvm.Cond.initialized "CargoFlag$Ship") ∈ lw_all := lw_g (lw_at lw_m1 24 rfl) rfl
theorem q963 : (Jvm.Cond.instantiable "CargoFlag$Ship" (2 : Nat)) ∈ lw_all := lw_g (lw_at lw_m4 68 rfl) rfl
theorem q965 : (Jvm.Cond.instanceMethod ({ cls := "CargoFlag$Ship", name := "<init>", desc := "(J)V" } : Jvm.MethodName)) ∈ lw_all := lw_g (lw_at lw_m4 70 rfl) rfl
theorem q966 : (Jvm.Cond.code ({ cls := "CargoFlag$Ship", name := "<init>", desc := "(J)V" } : Jvm.MethodName) prog_14_method_1_code (3 : Nat) (Option.none : Option Jvm.ClassFile.FieldType)) ∈ lw_all := lw_g (lw_at lw_m4 71 rfl) rfl
theorem q967 : (Jvm.Cond.methodLink "CargoFlag$Ship" (1 : Nat) ({ cls := "CargoFlag$Named", name := "<init>", desc := "(J)V" } : Jvm.MethodName)) ∈ lw_all := lw_g (lw_at lw_m4 72 rfl) rfl
theorem q971 : (Jvm.Cond.lays "CargoFlag$Ship" "CargoFlag$Ship" "hold" "I") ∈ lw_all := lw_g (lw_at lw_m4 76 rfl) rfl
theorem q972 : (Jvm.Cond.soleField "CargoFlag$Ship" "hold") ∈ lw_all := lw_g (lw_at lw_m4 77 rfl) rfl
theorem q973 : (Jvm.Cond.laysFinal "CargoFlag$Ship" "CargoFlag$Named" "name" "J") ∈ lw_all := lw_g (lw_at lw_m4 78 rfl) rfl
theorem q974 : (Jvm.Cond.superclass "CargoFlag$Ship" "CargoFlag$Named") ∈ lw_all := lw_g (lw_at lw_m4 79 rfl) rfl
theorem in_X12 : ∀ w ∈ wsX120, w ∈ lw_all := lw_in wsX120 [973, 971] (by decide +kernel) (by decide +kernel)

/-! CargoFlag$Step -/
set_option maxRecDepth 100000
def RX13 : String := "CargoFlag$Step"
abbrev cX13_init : ByteArray := prog_15_method_1_code
def yX13_init : MethodName := ⟨RX13, "<init>", "()V"⟩
theorem dX13_init_0 : decode cX13_init 0 = .ok (.aload_n 0, 1) := by decide +kernel
theorem dX13_init_1 : decode cX13_init 1 = .ok (.invokespecial 3, 3) := by decide +kernel
theorem dX13_init_4 : decode cX13_init 4 = .ok (.return_, 1) := by decide +kernel
abbrev cX13_go : ByteArray := prog_15_method_3_code
def yX13_go : MethodName := ⟨RX13, "go", "(LCargoFlag$Living;)V"⟩
def dkwX13_go_1 : List UInt8 := [180, 0, 9, 4, 96, 181, 0, 9, 42, 43, 182, 0, 22, 177]
abbrev dktX13_go_1 : List UInt8 := dkwX13_go_1 ++ []
def dkwX13_go_0 : List UInt8 := [43, 180, 0, 9, 17, 1, 44, 160, 0, 14, 43, 4, 181, 0, 15, 43, 4, 181, 0, 19, 177, 43, 89]
abbrev dktX13_go_0 : List UInt8 := dkwX13_go_0 ++ dktX13_go_1
theorem dksX13_go_0 : cX13_go.data.toList.drop 0 = dktX13_go_0 := by decide +kernel
theorem dksX13_go_1 : cX13_go.data.toList.drop 23 = dktX13_go_1 := dk_seg dksX13_go_0 23 rfl rfl
theorem dX13_go_0 : decode cX13_go 0 = .ok (.aload_n 1, 1) := dk_43 (dk_at dksX13_go_0 0 rfl rfl)
theorem dX13_go_1 : decode cX13_go 1 = .ok (.getfield 9, 3) := dk_180 0 9 (dk_at dksX13_go_0 1 rfl rfl)
theorem dX13_go_4 : decode cX13_go 4 = .ok (.sipush 300, 3) := dk_17 1 44 (dk_at dksX13_go_0 4 rfl rfl)
theorem dX13_go_7 : decode cX13_go 7 = .ok (.if_icmp .ne 14, 3) := dk_160 0 14 (dk_at dksX13_go_0 7 rfl rfl)
theorem dX13_go_10 : decode cX13_go 10 = .ok (.aload_n 1, 1) := dk_43 (dk_at dksX13_go_0 10 rfl rfl)
theorem dX13_go_11 : decode cX13_go 11 = .ok (.iconst 1, 1) := dk_4 (dk_at dksX13_go_0 11 rfl rfl)
theorem dX13_go_12 : decode cX13_go 12 = .ok (.putfield 15, 3) := dk_181 0 15 (dk_at dksX13_go_0 12 rfl rfl)
theorem dX13_go_15 : decode cX13_go 15 = .ok (.aload_n 1, 1) := dk_43 (dk_at dksX13_go_0 15 rfl rfl)
theorem dX13_go_16 : decode cX13_go 16 = .ok (.iconst 1, 1) := dk_4 (dk_at dksX13_go_0 16 rfl rfl)
theorem dX13_go_17 : decode cX13_go 17 = .ok (.putfield 19, 3) := dk_181 0 19 (dk_at dksX13_go_0 17 rfl rfl)
theorem dX13_go_20 : decode cX13_go 20 = .ok (.return_, 1) := dk_177 (dk_at dksX13_go_0 20 rfl rfl)
theorem dX13_go_21 : decode cX13_go 21 = .ok (.aload_n 1, 1) := dk_43 (dk_at dksX13_go_0 21 rfl rfl)
theorem dX13_go_22 : decode cX13_go 22 = .ok (.dup, 1) := dk_89 (dk_at dksX13_go_0 22 rfl rfl)
theorem dX13_go_23 : decode cX13_go 23 = .ok (.getfield 9, 3) := dk_180 0 9 (dk_at dksX13_go_1 0 rfl rfl)
theorem dX13_go_26 : decode cX13_go 26 = .ok (.iconst 1, 1) := dk_4 (dk_at dksX13_go_1 3 rfl rfl)
theorem dX13_go_27 : decode cX13_go 27 = .ok (.iadd, 1) := dk_96 (dk_at dksX13_go_1 4 rfl rfl)
theorem dX13_go_28 : decode cX13_go 28 = .ok (.putfield 9, 3) := dk_181 0 9 (dk_at dksX13_go_1 5 rfl rfl)
theorem dX13_go_31 : decode cX13_go 31 = .ok (.aload_n 0, 1) := dk_42 (dk_at dksX13_go_1 8 rfl rfl)
theorem dX13_go_32 : decode cX13_go 32 = .ok (.aload_n 1, 1) := dk_43 (dk_at dksX13_go_1 9 rfl rfl)
theorem dX13_go_33 : decode cX13_go 33 = .ok (.invokevirtual 22, 3) := dk_182 0 22 (dk_at dksX13_go_1 10 rfl rfl)
theorem dX13_go_36 : decode cX13_go 36 = .ok (.return_, 1) := dk_177 (dk_at dksX13_go_1 13 rfl rfl)
theorem q201 : (Jvm.Cond.initialized "CargoFlag$Step") ∈ lw_all := lw_g (lw_at lw_m1 26 rfl) rfl
theorem q1032 : (Jvm.Cond.instanceMethod ({ cls := "CargoFlag$Step", name := "<init>", desc := "()V" } : Jvm.MethodName)) ∈ lw_all := lw_g (lw_at lw_m4 137 rfl) rfl
theorem q1033 : (Jvm.Cond.code ({ cls := "CargoFlag$Step", name := "<init>", desc := "()V" } : Jvm.MethodName) prog_15_method_1_code (1 : Nat) (Option.none : Option Jvm.ClassFile.FieldType)) ∈ lw_all := lw_g (lw_at lw_m4 138 rfl) rfl
theorem q1034 : (Jvm.Cond.methodLink "CargoFlag$Step" (3 : Nat) ({ cls := "java/lang/Object", name := "<init>", desc := "()V" } : Jvm.MethodName)) ∈ lw_all := lw_g (lw_at lw_m4 139 rfl) rfl
theorem q1580 : (Jvm.Cond.fieldLinkNest "CargoFlag$Step" (9 : Nat) "CargoFlag$Living" "done" "I" "CargoFlag") ∈ lw_tbl := lw_at lw_m6 205 rfl
theorem q1593 : (Jvm.Cond.fieldLinkNest "CargoFlag$Step" (15 : Nat) "CargoFlag$Living" "isOver" "Z" "CargoFlag") ∈ lw_tbl := lw_at lw_m6 218 rfl
theorem q1594 : (Jvm.Cond.fieldLinkNest "CargoFlag$Step" (19 : Nat) "CargoFlag$Living" "isLeft" "Z" "CargoFlag") ∈ lw_tbl := lw_at lw_m6 219 rfl
theorem q1622 : (Jvm.Cond.instanceMethod ({ cls := "CargoFlag$Step", name := "go", desc := "(LCargoFlag$Living;)V" } : Jvm.MethodName)) ∈ lw_all := lw_g (lw_at lw_m7 7 rfl) rfl
theorem q1623 : (Jvm.Cond.sameMethod "CargoFlag$Step" "CargoFlag$Step" "go" "(LCargoFlag$Living;)V") ∈ lw_all := lw_g (lw_at lw_m7 8 rfl) rfl
theorem q1627 : (Jvm.Cond.code ({ cls := "CargoFlag$Step", name := "go", desc := "(LCargoFlag$Living;)V" } : Jvm.MethodName) prog_15_method_3_code (2 : Nat) (Option.none : Option Jvm.ClassFile.FieldType)) ∈ lw_all := lw_g (lw_at lw_m7 12 rfl) rfl
theorem q1628 : (Jvm.Cond.methodLink "CargoFlag$Step" (22 : Nat) ({ cls := "CargoFlag$Step", name := "does", desc := "(LCargoFlag$Living;)V" } : Jvm.MethodName)) ∈ lw_all := lw_g (lw_at lw_m7 13 rfl) rfl
theorem q1629 : (Jvm.Cond.declares ({ cls := "CargoFlag$Step", name := "does", desc := "(LCargoFlag$Living;)V" } : Jvm.MethodName)) ∈ lw_tbl := lw_at lw_m7 14 rfl
theorem q1630 : (Jvm.Cond.sameMethod "CargoFlag$Step" "CargoFlag$Step" "does" "(LCargoFlag$Living;)V") ∈ lw_all := lw_g (lw_at lw_m7 15 rfl) rfl

/-! CargoFlag$Block -/
set_option maxRecDepth 100000
def RX14 : String := "CargoFlag$Block"
abbrev cX14_init : ByteArray := prog_4_method_1_code
def yX14_init : MethodName := ⟨RX14, "<init>", "()V"⟩
def dkwX14_init_0 : List UInt8 := [42, 183, 0, 1, 42, 7, 189, 0, 2, 181, 0, 7, 177]
abbrev dktX14_init_0 : List UInt8 := dkwX14_init_0 ++ []
theorem dksX14_init_0 : cX14_init.data.toList.drop 0 = dktX14_init_0 := by decide +kernel
theorem dX14_init_0 : decode cX14_init 0 = .ok (.aload_n 0, 1) := dk_42 (dk_at dksX14_init_0 0 rfl rfl)
theorem dX14_init_1 : decode cX14_init 1 = .ok (.invokespecial 1, 3) := dk_183 0 1 (dk_at dksX14_init_0 1 rfl rfl)
theorem dX14_init_4 : decode cX14_init 4 = .ok (.aload_n 0, 1) := dk_42 (dk_at dksX14_init_0 4 rfl rfl)
theorem dX14_init_5 : decode cX14_init 5 = .ok (.iconst 4, 1) := dk_7 (dk_at dksX14_init_0 5 rfl rfl)
theorem dX14_init_6 : decode cX14_init 6 = .ok (.anewarray 2, 3) := dk_189 0 2 (dk_at dksX14_init_0 6 rfl rfl)
theorem dX14_init_9 : decode cX14_init 9 = .ok (.putfield 7, 3) := dk_181 0 7 (dk_at dksX14_init_0 9 rfl rfl)
theorem dX14_init_12 : decode cX14_init 12 = .ok (.return_, 1) := dk_177 (dk_at dksX14_init_0 12 rfl rfl)
abbrev cX14_add : ByteArray := prog_4_method_2_code
def yX14_add : MethodName := ⟨RX14, "add", "(LCargoFlag$Step;)V"⟩
def dkwX14_add_2 : List UInt8 := [180, 0, 13, 43, 83, 42, 89, 180, 0, 13, 4, 96, 181, 0, 13, 177]
abbrev dktX14_add_2 : List UInt8 := dkwX14_add_2 ++ []
def dkwX14_add_1 : List UInt8 := [180, 0, 7, 3, 44, 3, 42, 180, 0, 13, 184, 0, 17, 42, 44, 181, 0, 7, 42, 180, 0, 7, 42]
abbrev dktX14_add_1 : List UInt8 := dkwX14_add_1 ++ dktX14_add_2
def dkwX14_add_0 : List UInt8 := [42, 180, 0, 13, 42, 180, 0, 7, 190, 160, 0, 32, 5, 42, 180, 0, 13, 104, 189, 0, 2, 77, 42]
abbrev dktX14_add_0 : List UInt8 := dkwX14_add_0 ++ dktX14_add_1
theorem dksX14_add_0 : cX14_add.data.toList.drop 0 = dktX14_add_0 := by decide +kernel
theorem dksX14_add_1 : cX14_add.data.toList.drop 23 = dktX14_add_1 := dk_seg dksX14_add_0 23 rfl rfl
theorem dksX14_add_2 : cX14_add.data.toList.drop 46 = dktX14_add_2 := dk_seg dksX14_add_1 23 rfl rfl
theorem dX14_add_0 : decode cX14_add 0 = .ok (.aload_n 0, 1) := dk_42 (dk_at dksX14_add_0 0 rfl rfl)
theorem dX14_add_1 : decode cX14_add 1 = .ok (.getfield 13, 3) := dk_180 0 13 (dk_at dksX14_add_0 1 rfl rfl)
theorem dX14_add_4 : decode cX14_add 4 = .ok (.aload_n 0, 1) := dk_42 (dk_at dksX14_add_0 4 rfl rfl)
theorem dX14_add_5 : decode cX14_add 5 = .ok (.getfield 7, 3) := dk_180 0 7 (dk_at dksX14_add_0 5 rfl rfl)
theorem dX14_add_8 : decode cX14_add 8 = .ok (.arraylength, 1) := dk_190 (dk_at dksX14_add_0 8 rfl rfl)
theorem dX14_add_9 : decode cX14_add 9 = .ok (.if_icmp .ne 32, 3) := dk_160 0 32 (dk_at dksX14_add_0 9 rfl rfl)
theorem dX14_add_12 : decode cX14_add 12 = .ok (.iconst 2, 1) := dk_5 (dk_at dksX14_add_0 12 rfl rfl)
theorem dX14_add_13 : decode cX14_add 13 = .ok (.aload_n 0, 1) := dk_42 (dk_at dksX14_add_0 13 rfl rfl)
theorem dX14_add_14 : decode cX14_add 14 = .ok (.getfield 13, 3) := dk_180 0 13 (dk_at dksX14_add_0 14 rfl rfl)
theorem dX14_add_17 : decode cX14_add 17 = .ok (.imul, 1) := dk_104 (dk_at dksX14_add_0 17 rfl rfl)
theorem dX14_add_18 : decode cX14_add 18 = .ok (.anewarray 2, 3) := dk_189 0 2 (dk_at dksX14_add_0 18 rfl rfl)
theorem dX14_add_21 : decode cX14_add 21 = .ok (.astore_n 2, 1) := dk_77 (dk_at dksX14_add_0 21 rfl rfl)
theorem dX14_add_22 : decode cX14_add 22 = .ok (.aload_n 0, 1) := dk_42 (dk_at dksX14_add_0 22 rfl rfl)
theorem dX14_add_23 : decode cX14_add 23 = .ok (.getfield 7, 3) := dk_180 0 7 (dk_at dksX14_add_1 0 rfl rfl)
theorem dX14_add_26 : decode cX14_add 26 = .ok (.iconst 0, 1) := dk_3 (dk_at dksX14_add_1 3 rfl rfl)
theorem dX14_add_27 : decode cX14_add 27 = .ok (.aload_n 2, 1) := dk_44 (dk_at dksX14_add_1 4 rfl rfl)
theorem dX14_add_28 : decode cX14_add 28 = .ok (.iconst 0, 1) := dk_3 (dk_at dksX14_add_1 5 rfl rfl)
theorem dX14_add_29 : decode cX14_add 29 = .ok (.aload_n 0, 1) := dk_42 (dk_at dksX14_add_1 6 rfl rfl)
theorem dX14_add_30 : decode cX14_add 30 = .ok (.getfield 13, 3) := dk_180 0 13 (dk_at dksX14_add_1 7 rfl rfl)
theorem dX14_add_33 : decode cX14_add 33 = .ok (.invokestatic 17, 3) := dk_184 0 17 (dk_at dksX14_add_1 10 rfl rfl)
theorem dX14_add_36 : decode cX14_add 36 = .ok (.aload_n 0, 1) := dk_42 (dk_at dksX14_add_1 13 rfl rfl)
theorem dX14_add_37 : decode cX14_add 37 = .ok (.aload_n 2, 1) := dk_44 (dk_at dksX14_add_1 14 rfl rfl)
theorem dX14_add_38 : decode cX14_add 38 = .ok (.putfield 7, 3) := dk_181 0 7 (dk_at dksX14_add_1 15 rfl rfl)
theorem dX14_add_41 : decode cX14_add 41 = .ok (.aload_n 0, 1) := dk_42 (dk_at dksX14_add_1 18 rfl rfl)
theorem dX14_add_42 : decode cX14_add 42 = .ok (.getfield 7, 3) := dk_180 0 7 (dk_at dksX14_add_1 19 rfl rfl)
theorem dX14_add_45 : decode cX14_add 45 = .ok (.aload_n 0, 1) := dk_42 (dk_at dksX14_add_1 22 rfl rfl)
theorem dX14_add_46 : decode cX14_add 46 = .ok (.getfield 13, 3) := dk_180 0 13 (dk_at dksX14_add_2 0 rfl rfl)
theorem dX14_add_49 : decode cX14_add 49 = .ok (.aload_n 1, 1) := dk_43 (dk_at dksX14_add_2 3 rfl rfl)
theorem dX14_add_50 : decode cX14_add 50 = .ok (.aastore, 1) := dk_83 (dk_at dksX14_add_2 4 rfl rfl)
theorem dX14_add_51 : decode cX14_add 51 = .ok (.aload_n 0, 1) := dk_42 (dk_at dksX14_add_2 5 rfl rfl)
theorem dX14_add_52 : decode cX14_add 52 = .ok (.dup, 1) := dk_89 (dk_at dksX14_add_2 6 rfl rfl)
theorem dX14_add_53 : decode cX14_add 53 = .ok (.getfield 13, 3) := dk_180 0 13 (dk_at dksX14_add_2 7 rfl rfl)
theorem dX14_add_56 : decode cX14_add 56 = .ok (.iconst 1, 1) := dk_4 (dk_at dksX14_add_2 10 rfl rfl)
theorem dX14_add_57 : decode cX14_add 57 = .ok (.iadd, 1) := dk_96 (dk_at dksX14_add_2 11 rfl rfl)
theorem dX14_add_58 : decode cX14_add 58 = .ok (.putfield 13, 3) := dk_181 0 13 (dk_at dksX14_add_2 12 rfl rfl)
theorem dX14_add_61 : decode cX14_add 61 = .ok (.return_, 1) := dk_177 (dk_at dksX14_add_2 15 rfl rfl)
abbrev cX14_all : ByteArray := prog_4_method_3_code
def yX14_all : MethodName := ⟨RX14, "all", "(LCargoFlag$Living;)V"⟩
def dkwX14_all_1 : List UInt8 := [182, 0, 29, 132, 2, 1, 167, 255, 228, 177]
abbrev dktX14_all_1 : List UInt8 := dkwX14_all_1 ++ []
def dkwX14_all_0 : List UInt8 := [3, 61, 28, 42, 180, 0, 13, 162, 0, 26, 43, 180, 0, 23, 154, 0, 19, 42, 180, 0, 7, 28, 50, 43]
abbrev dktX14_all_0 : List UInt8 := dkwX14_all_0 ++ dktX14_all_1
theorem dksX14_all_0 : cX14_all.data.toList.drop 0 = dktX14_all_0 := by decide +kernel
theorem dksX14_all_1 : cX14_all.data.toList.drop 24 = dktX14_all_1 := dk_seg dksX14_all_0 24 rfl rfl
theorem dX14_all_0 : decode cX14_all 0 = .ok (.iconst 0, 1) := dk_3 (dk_at dksX14_all_0 0 rfl rfl)
theorem dX14_all_1 : decode cX14_all 1 = .ok (.istore_n 2, 1) := dk_61 (dk_at dksX14_all_0 1 rfl rfl)
theorem dX14_all_2 : decode cX14_all 2 = .ok (.iload_n 2, 1) := dk_28 (dk_at dksX14_all_0 2 rfl rfl)
theorem dX14_all_3 : decode cX14_all 3 = .ok (.aload_n 0, 1) := dk_42 (dk_at dksX14_all_0 3 rfl rfl)
theorem dX14_all_4 : decode cX14_all 4 = .ok (.getfield 13, 3) := dk_180 0 13 (dk_at dksX14_all_0 4 rfl rfl)
theorem dX14_all_7 : decode cX14_all 7 = .ok (.if_icmp .ge 26, 3) := dk_162 0 26 (dk_at dksX14_all_0 7 rfl rfl)
theorem dX14_all_10 : decode cX14_all 10 = .ok (.aload_n 1, 1) := dk_43 (dk_at dksX14_all_0 10 rfl rfl)
theorem dX14_all_11 : decode cX14_all 11 = .ok (.getfield 23, 3) := dk_180 0 23 (dk_at dksX14_all_0 11 rfl rfl)
theorem dX14_all_14 : decode cX14_all 14 = .ok (.ifCond .ne 19, 3) := dk_154 0 19 (dk_at dksX14_all_0 14 rfl rfl)
theorem dX14_all_17 : decode cX14_all 17 = .ok (.aload_n 0, 1) := dk_42 (dk_at dksX14_all_0 17 rfl rfl)
theorem dX14_all_18 : decode cX14_all 18 = .ok (.getfield 7, 3) := dk_180 0 7 (dk_at dksX14_all_0 18 rfl rfl)
theorem dX14_all_21 : decode cX14_all 21 = .ok (.iload_n 2, 1) := dk_28 (dk_at dksX14_all_0 21 rfl rfl)
theorem dX14_all_22 : decode cX14_all 22 = .ok (.aaload, 1) := dk_50 (dk_at dksX14_all_0 22 rfl rfl)
theorem dX14_all_23 : decode cX14_all 23 = .ok (.aload_n 1, 1) := dk_43 (dk_at dksX14_all_0 23 rfl rfl)
theorem dX14_all_24 : decode cX14_all 24 = .ok (.invokevirtual 29, 3) := dk_182 0 29 (dk_at dksX14_all_1 0 rfl rfl)
theorem dX14_all_27 : decode cX14_all 27 = .ok (.iinc 2 1, 3) := dk_132 2 1 (dk_at dksX14_all_1 3 rfl rfl)
theorem dX14_all_30 : decode cX14_all 30 = .ok (.goto (-28), 3) := dk_167 255 228 (dk_at dksX14_all_1 6 rfl rfl)
theorem dX14_all_33 : decode cX14_all 33 = .ok (.return_, 1) := dk_177 (dk_at dksX14_all_1 9 rfl rfl)
theorem q202 : (Jvm.Cond.initialized "CargoFlag$Block") ∈ lw_all := lw_g (lw_at lw_m1 27 rfl) rfl
theorem q1029 : (Jvm.Cond.instanceMethod ({ cls := "CargoFlag$Block", name := "<init>", desc := "()V" } : Jvm.MethodName)) ∈ lw_all := lw_g (lw_at lw_m4 134 rfl) rfl
theorem q1030 : (Jvm.Cond.code ({ cls := "CargoFlag$Block", name := "<init>", desc := "()V" } : Jvm.MethodName) prog_4_method_1_code (1 : Nat) (Option.none : Option Jvm.ClassFile.FieldType)) ∈ lw_all := lw_g (lw_at lw_m4 135 rfl) rfl
theorem q1031 : (Jvm.Cond.methodLinkNest "CargoFlag$Block" (1 : Nat) ({ cls := "CargoFlag$Step", name := "<init>", desc := "()V" } : Jvm.MethodName) "CargoFlag") ∈ lw_tbl := lw_at lw_m4 136 rfl
theorem q1035 : (Jvm.Cond.classLink "CargoFlag$Block" (2 : Nat) "CargoFlag$Step") ∈ lw_all := lw_g (lw_at lw_m4 140 rfl) rfl
theorem q1038 : (Jvm.Cond.fieldLink "CargoFlag$Block" (7 : Nat) "CargoFlag$Block" "steps" "[LCargoFlag$Step;") ∈ lw_all := lw_g (lw_at lw_m4 143 rfl) rfl
theorem q1039 : (Jvm.Cond.fieldLink "CargoFlag$Block" (13 : Nat) "CargoFlag$Block" "size" "I") ∈ lw_all := lw_g (lw_at lw_m4 144 rfl) rfl
theorem q1043 : (Jvm.Cond.soleField "CargoFlag$Block" "steps") ∈ lw_all := lw_g (lw_at lw_m4 148 rfl) rfl
theorem q1045 : (Jvm.Cond.soleField "CargoFlag$Block" "size") ∈ lw_all := lw_g (lw_at lw_m4 150 rfl) rfl
theorem q1113 : (Jvm.Cond.instanceMethod ({ cls := "CargoFlag$Block", name := "add", desc := "(LCargoFlag$Step;)V" } : Jvm.MethodName)) ∈ lw_all := lw_g (lw_at lw_m4 218 rfl) rfl
theorem q1114 : (Jvm.Cond.sameMethod "CargoFlag$Block" "CargoFlag$Block" "add" "(LCargoFlag$Step;)V") ∈ lw_all := lw_g (lw_at lw_m4 219 rfl) rfl
theorem q1117 : (Jvm.Cond.code ({ cls := "CargoFlag$Block", name := "add", desc := "(LCargoFlag$Step;)V" } : Jvm.MethodName) prog_4_method_2_code (3 : Nat) (Option.none : Option Jvm.ClassFile.FieldType)) ∈ lw_all := lw_g (lw_at lw_m4 222 rfl) rfl
theorem q1118 : (Jvm.Cond.methodLink "CargoFlag$Block" (17 : Nat) ({ cls := "java/lang/System", name := "arraycopy", desc := "(Ljava/lang/Object;ILjava/lang/Object;II)V" } : Jvm.MethodName)) ∈ lw_all := lw_g (lw_at lw_m4 223 rfl) rfl
theorem q1592 : (Jvm.Cond.fieldLinkNest "CargoFlag$Block" (23 : Nat) "CargoFlag$Living" "isOver" "Z" "CargoFlag") ∈ lw_tbl := lw_at lw_m6 217 rfl
theorem q1617 : (Jvm.Cond.declares ({ cls := "CargoFlag$Block", name := "all", desc := "(LCargoFlag$Living;)V" } : Jvm.MethodName)) ∈ lw_tbl := lw_at lw_m7 2 rfl
theorem q1619 : (Jvm.Cond.instanceMethod ({ cls := "CargoFlag$Block", name := "all", desc := "(LCargoFlag$Living;)V" } : Jvm.MethodName)) ∈ lw_all := lw_g (lw_at lw_m7 4 rfl) rfl
theorem q1620 : (Jvm.Cond.code ({ cls := "CargoFlag$Block", name := "all", desc := "(LCargoFlag$Living;)V" } : Jvm.MethodName) prog_4_method_3_code (3 : Nat) (Option.none : Option Jvm.ClassFile.FieldType)) ∈ lw_all := lw_g (lw_at lw_m7 5 rfl) rfl
theorem q1621 : (Jvm.Cond.methodLink "CargoFlag$Block" (29 : Nat) ({ cls := "CargoFlag$Step", name := "go", desc := "(LCargoFlag$Living;)V" } : Jvm.MethodName)) ∈ lw_all := lw_g (lw_at lw_m7 6 rfl) rfl

/-! CargoFlag$Loop -/
set_option maxRecDepth 100000
def RX15 : String := "CargoFlag$Loop"
def TX15 : u_T := fun k => match k with
  | 0 => ("CargoFlag$Block", "steps", "[LCargoFlag$Step;", false)
  | 1 => ("CargoFlag$Block", "size", "I", false)
  | _ => ("CargoFlag$Loop", "times", "I", true)
def tyX15 : Nat → FieldType := fun k => match k with
  | 0 => .array (.object "CargoFlag$Step")
  | 1 => .int
  | _ => .int
abbrev wsX150 : List Cond := u_ws RX15 TX15 3
theorem nmX15 : ∀ a, a < 3 → ∀ b, b < 3 → a ≠ b → (TX15 a).2.1 ≠ (TX15 b).2.1 := by decide +kernel
theorem tyX15_ok : ∀ k, k < 3 → parseFieldDescriptor (TX15 k).2.2.1 = some (tyX15 k) := by decide +kernel
abbrev cX15_init : ByteArray := prog_8_method_1_code
def yX15_init : MethodName := ⟨RX15, "<init>", "(I)V"⟩
def dkwX15_init_0 : List UInt8 := [42, 183, 0, 1, 42, 27, 181, 0, 7, 177]
abbrev dktX15_init_0 : List UInt8 := dkwX15_init_0 ++ []
theorem dksX15_init_0 : cX15_init.data.toList.drop 0 = dktX15_init_0 := by decide +kernel
theorem dX15_init_0 : decode cX15_init 0 = .ok (.aload_n 0, 1) := dk_42 (dk_at dksX15_init_0 0 rfl rfl)
theorem dX15_init_1 : decode cX15_init 1 = .ok (.invokespecial 1, 3) := dk_183 0 1 (dk_at dksX15_init_0 1 rfl rfl)
theorem dX15_init_4 : decode cX15_init 4 = .ok (.aload_n 0, 1) := dk_42 (dk_at dksX15_init_0 4 rfl rfl)
theorem dX15_init_5 : decode cX15_init 5 = .ok (.iload_n 1, 1) := dk_27 (dk_at dksX15_init_0 5 rfl rfl)
theorem dX15_init_6 : decode cX15_init 6 = .ok (.putfield 7, 3) := dk_181 0 7 (dk_at dksX15_init_0 6 rfl rfl)
theorem dX15_init_9 : decode cX15_init 9 = .ok (.return_, 1) := dk_177 (dk_at dksX15_init_0 9 rfl rfl)
abbrev cX15_does : ByteArray := prog_8_method_2_code
def yX15_does : MethodName := ⟨RX15, "does", "(LCargoFlag$Living;)V"⟩
def dkwX15_does_1 : List UInt8 := [132, 2, 1, 167, 255, 233, 177]
abbrev dktX15_does_1 : List UInt8 := dkwX15_does_1 ++ []
def dkwX15_does_0 : List UInt8 := [3, 61, 28, 42, 180, 0, 7, 162, 0, 21, 43, 180, 0, 13, 154, 0, 14, 42, 43, 182, 0, 19]
abbrev dktX15_does_0 : List UInt8 := dkwX15_does_0 ++ dktX15_does_1
theorem dksX15_does_0 : cX15_does.data.toList.drop 0 = dktX15_does_0 := by decide +kernel
theorem dksX15_does_1 : cX15_does.data.toList.drop 22 = dktX15_does_1 := dk_seg dksX15_does_0 22 rfl rfl
theorem dX15_does_0 : decode cX15_does 0 = .ok (.iconst 0, 1) := dk_3 (dk_at dksX15_does_0 0 rfl rfl)
theorem dX15_does_1 : decode cX15_does 1 = .ok (.istore_n 2, 1) := dk_61 (dk_at dksX15_does_0 1 rfl rfl)
theorem dX15_does_2 : decode cX15_does 2 = .ok (.iload_n 2, 1) := dk_28 (dk_at dksX15_does_0 2 rfl rfl)
theorem dX15_does_3 : decode cX15_does 3 = .ok (.aload_n 0, 1) := dk_42 (dk_at dksX15_does_0 3 rfl rfl)
theorem dX15_does_4 : decode cX15_does 4 = .ok (.getfield 7, 3) := dk_180 0 7 (dk_at dksX15_does_0 4 rfl rfl)
theorem dX15_does_7 : decode cX15_does 7 = .ok (.if_icmp .ge 21, 3) := dk_162 0 21 (dk_at dksX15_does_0 7 rfl rfl)
theorem dX15_does_10 : decode cX15_does 10 = .ok (.aload_n 1, 1) := dk_43 (dk_at dksX15_does_0 10 rfl rfl)
theorem dX15_does_11 : decode cX15_does 11 = .ok (.getfield 13, 3) := dk_180 0 13 (dk_at dksX15_does_0 11 rfl rfl)
theorem dX15_does_14 : decode cX15_does 14 = .ok (.ifCond .ne 14, 3) := dk_154 0 14 (dk_at dksX15_does_0 14 rfl rfl)
theorem dX15_does_17 : decode cX15_does 17 = .ok (.aload_n 0, 1) := dk_42 (dk_at dksX15_does_0 17 rfl rfl)
theorem dX15_does_18 : decode cX15_does 18 = .ok (.aload_n 1, 1) := dk_43 (dk_at dksX15_does_0 18 rfl rfl)
theorem dX15_does_19 : decode cX15_does 19 = .ok (.invokevirtual 19, 3) := dk_182 0 19 (dk_at dksX15_does_0 19 rfl rfl)
theorem dX15_does_22 : decode cX15_does 22 = .ok (.iinc 2 1, 3) := dk_132 2 1 (dk_at dksX15_does_1 0 rfl rfl)
theorem dX15_does_25 : decode cX15_does 25 = .ok (.goto (-23), 3) := dk_167 255 233 (dk_at dksX15_does_1 3 rfl rfl)
theorem dX15_does_28 : decode cX15_does 28 = .ok (.return_, 1) := dk_177 (dk_at dksX15_does_1 6 rfl rfl)
theorem q203 : (Jvm.Cond.initialized "CargoFlag$Loop") ∈ lw_all := lw_g (lw_at lw_m1 28 rfl) rfl
theorem q1024 : (Jvm.Cond.instantiable "CargoFlag$Loop" (3 : Nat)) ∈ lw_all := lw_g (lw_at lw_m4 129 rfl) rfl
theorem q1026 : (Jvm.Cond.instanceMethod ({ cls := "CargoFlag$Loop", name := "<init>", desc := "(I)V" } : Jvm.MethodName)) ∈ lw_all := lw_g (lw_at lw_m4 131 rfl) rfl
theorem q1027 : (Jvm.Cond.code ({ cls := "CargoFlag$Loop", name := "<init>", desc := "(I)V" } : Jvm.MethodName) prog_8_method_1_code (2 : Nat) (Option.none : Option Jvm.ClassFile.FieldType)) ∈ lw_all := lw_g (lw_at lw_m4 132 rfl) rfl
theorem q1028 : (Jvm.Cond.methodLinkNest "CargoFlag$Loop" (1 : Nat) ({ cls := "CargoFlag$Block", name := "<init>", desc := "()V" } : Jvm.MethodName) "CargoFlag") ∈ lw_tbl := lw_at lw_m4 133 rfl
theorem q1037 : (Jvm.Cond.fieldLink "CargoFlag$Loop" (7 : Nat) "CargoFlag$Loop" "times" "I") ∈ lw_all := lw_g (lw_at lw_m4 142 rfl) rfl
theorem q1040 : (Jvm.Cond.laysFinal "CargoFlag$Loop" "CargoFlag$Loop" "times" "I") ∈ lw_all := lw_g (lw_at lw_m4 145 rfl) rfl
theorem q1041 : (Jvm.Cond.soleField "CargoFlag$Loop" "times") ∈ lw_all := lw_g (lw_at lw_m4 146 rfl) rfl
theorem q1042 : (Jvm.Cond.lays "CargoFlag$Loop" "CargoFlag$Block" "steps" "[LCargoFlag$Step;") ∈ lw_all := lw_g (lw_at lw_m4 147 rfl) rfl
theorem q1044 : (Jvm.Cond.lays "CargoFlag$Loop" "CargoFlag$Block" "size" "I") ∈ lw_all := lw_g (lw_at lw_m4 149 rfl) rfl
theorem q1046 : (Jvm.Cond.superclass "CargoFlag$Loop" "CargoFlag$Block") ∈ lw_all := lw_g (lw_at lw_m4 151 rfl) rfl
theorem q1115 : (Jvm.Cond.selects "CargoFlag$Loop" ({ cls := "CargoFlag$Block", name := "add", desc := "(LCargoFlag$Step;)V" } : Jvm.MethodName) ({ cls := "CargoFlag$Block", name := "add", desc := "(LCargoFlag$Step;)V" } : Jvm.MethodName)) ∈ lw_all := lw_g (lw_at lw_m4 220 rfl) rfl
theorem q1590 : (Jvm.Cond.fieldLinkNest "CargoFlag$Loop" (13 : Nat) "CargoFlag$Living" "isOver" "Z" "CargoFlag") ∈ lw_tbl := lw_at lw_m6 215 rfl
theorem q1616 : (Jvm.Cond.sameMethod "CargoFlag$Loop" "CargoFlag$Block" "all" "(LCargoFlag$Living;)V") ∈ lw_all := lw_g (lw_at lw_m7 1 rfl) rfl
theorem q1618 : (Jvm.Cond.selects "CargoFlag$Loop" ({ cls := "CargoFlag$Loop", name := "all", desc := "(LCargoFlag$Living;)V" } : Jvm.MethodName) ({ cls := "CargoFlag$Block", name := "all", desc := "(LCargoFlag$Living;)V" } : Jvm.MethodName)) ∈ lw_all := lw_g (lw_at lw_m7 3 rfl) rfl
theorem q1625 : (Jvm.Cond.selects "CargoFlag$Loop" ({ cls := "CargoFlag$Step", name := "go", desc := "(LCargoFlag$Living;)V" } : Jvm.MethodName) ({ cls := "CargoFlag$Step", name := "go", desc := "(LCargoFlag$Living;)V" } : Jvm.MethodName)) ∈ lw_all := lw_g (lw_at lw_m7 10 rfl) rfl
theorem q1657 : (Jvm.Cond.selects "CargoFlag$Loop" ({ cls := "CargoFlag$Step", name := "does", desc := "(LCargoFlag$Living;)V" } : Jvm.MethodName) ({ cls := "CargoFlag$Loop", name := "does", desc := "(LCargoFlag$Living;)V" } : Jvm.MethodName)) ∈ lw_all := lw_g (lw_at lw_m7 42 rfl) rfl
theorem q1658 : (Jvm.Cond.instanceMethod ({ cls := "CargoFlag$Loop", name := "does", desc := "(LCargoFlag$Living;)V" } : Jvm.MethodName)) ∈ lw_all := lw_g (lw_at lw_m7 43 rfl) rfl
theorem q1659 : (Jvm.Cond.code ({ cls := "CargoFlag$Loop", name := "does", desc := "(LCargoFlag$Living;)V" } : Jvm.MethodName) prog_8_method_2_code (3 : Nat) (Option.none : Option Jvm.ClassFile.FieldType)) ∈ lw_all := lw_g (lw_at lw_m7 44 rfl) rfl
theorem q1660 : (Jvm.Cond.methodLink "CargoFlag$Loop" (19 : Nat) ({ cls := "CargoFlag$Loop", name := "all", desc := "(LCargoFlag$Living;)V" } : Jvm.MethodName)) ∈ lw_all := lw_g (lw_at lw_m7 45 rfl) rfl
theorem q2551 : (Jvm.Cond.castable "CargoFlag$Loop" "CargoFlag$Step") ∈ lw_tbl := lw_at lw_m10 216 rfl
theorem in_X15 : ∀ w ∈ wsX150, w ∈ lw_all := lw_in wsX150 [1042, 1044, 1040] (by decide +kernel) (by decide +kernel)

/-! CargoFlag$When -/
set_option maxRecDepth 100000
def RX16 : String := "CargoFlag$When"
def TX16 : u_T := fun k => match k with
  | 0 => ("CargoFlag$Block", "steps", "[LCargoFlag$Step;", false)
  | 1 => ("CargoFlag$Block", "size", "I", false)
  | 2 => ("CargoFlag$When", "what", "I", true)
  | 3 => ("CargoFlag$When", "ship", "I", true)
  | 4 => ("CargoFlag$When", "other", "I", true)
  | 5 => ("CargoFlag$When", "sign", "I", true)
  | _ => ("CargoFlag$When", "number", "I", true)
def tyX16 : Nat → FieldType := fun k => match k with
  | 0 => .array (.object "CargoFlag$Step")
  | 1 => .int
  | 2 => .int
  | 3 => .int
  | 4 => .int
  | 5 => .int
  | _ => .int
abbrev wsX160 : List Cond := u_ws RX16 TX16 7
theorem nmX16 : ∀ a, a < 7 → ∀ b, b < 7 → a ≠ b → (TX16 a).2.1 ≠ (TX16 b).2.1 := by decide +kernel
theorem tyX16_ok : ∀ k, k < 7 → parseFieldDescriptor (TX16 k).2.2.1 = some (tyX16 k) := by decide +kernel
abbrev cX16_init : ByteArray := prog_17_method_1_code
def yX16_init : MethodName := ⟨RX16, "<init>", "(IIIII)V"⟩
def dkwX16_init_1 : List UInt8 := [181, 0, 21, 42, 21, 5, 181, 0, 24, 177]
abbrev dktX16_init_1 : List UInt8 := dkwX16_init_1 ++ []
def dkwX16_init_0 : List UInt8 := [42, 183, 0, 3, 42, 27, 181, 0, 9, 42, 28, 181, 0, 15, 42, 29, 181, 0, 18, 42, 21, 4]
abbrev dktX16_init_0 : List UInt8 := dkwX16_init_0 ++ dktX16_init_1
theorem dksX16_init_0 : cX16_init.data.toList.drop 0 = dktX16_init_0 := by decide +kernel
theorem dksX16_init_1 : cX16_init.data.toList.drop 22 = dktX16_init_1 := dk_seg dksX16_init_0 22 rfl rfl
theorem dX16_init_0 : decode cX16_init 0 = .ok (.aload_n 0, 1) := dk_42 (dk_at dksX16_init_0 0 rfl rfl)
theorem dX16_init_1 : decode cX16_init 1 = .ok (.invokespecial 3, 3) := dk_183 0 3 (dk_at dksX16_init_0 1 rfl rfl)
theorem dX16_init_4 : decode cX16_init 4 = .ok (.aload_n 0, 1) := dk_42 (dk_at dksX16_init_0 4 rfl rfl)
theorem dX16_init_5 : decode cX16_init 5 = .ok (.iload_n 1, 1) := dk_27 (dk_at dksX16_init_0 5 rfl rfl)
theorem dX16_init_6 : decode cX16_init 6 = .ok (.putfield 9, 3) := dk_181 0 9 (dk_at dksX16_init_0 6 rfl rfl)
theorem dX16_init_9 : decode cX16_init 9 = .ok (.aload_n 0, 1) := dk_42 (dk_at dksX16_init_0 9 rfl rfl)
theorem dX16_init_10 : decode cX16_init 10 = .ok (.iload_n 2, 1) := dk_28 (dk_at dksX16_init_0 10 rfl rfl)
theorem dX16_init_11 : decode cX16_init 11 = .ok (.putfield 15, 3) := dk_181 0 15 (dk_at dksX16_init_0 11 rfl rfl)
theorem dX16_init_14 : decode cX16_init 14 = .ok (.aload_n 0, 1) := dk_42 (dk_at dksX16_init_0 14 rfl rfl)
theorem dX16_init_15 : decode cX16_init 15 = .ok (.iload_n 3, 1) := dk_29 (dk_at dksX16_init_0 15 rfl rfl)
theorem dX16_init_16 : decode cX16_init 16 = .ok (.putfield 18, 3) := dk_181 0 18 (dk_at dksX16_init_0 16 rfl rfl)
theorem dX16_init_19 : decode cX16_init 19 = .ok (.aload_n 0, 1) := dk_42 (dk_at dksX16_init_0 19 rfl rfl)
theorem dX16_init_20 : decode cX16_init 20 = .ok (.iload 4, 2) := dk_21 4 (dk_at dksX16_init_0 20 rfl rfl)
theorem dX16_init_22 : decode cX16_init 22 = .ok (.putfield 21, 3) := dk_181 0 21 (dk_at dksX16_init_1 0 rfl rfl)
theorem dX16_init_25 : decode cX16_init 25 = .ok (.aload_n 0, 1) := dk_42 (dk_at dksX16_init_1 3 rfl rfl)
theorem dX16_init_26 : decode cX16_init 26 = .ok (.iload 5, 2) := dk_21 5 (dk_at dksX16_init_1 4 rfl rfl)
theorem dX16_init_28 : decode cX16_init 28 = .ok (.putfield 24, 3) := dk_181 0 24 (dk_at dksX16_init_1 6 rfl rfl)
theorem dX16_init_31 : decode cX16_init 31 = .ok (.return_, 1) := dk_177 (dk_at dksX16_init_1 9 rfl rfl)
abbrev cX16_does : ByteArray := prog_17_method_3_code
def yX16_does : MethodName := ⟨RX16, "does", "(LCargoFlag$Living;)V"⟩
def dkwX16_does_0 : List UInt8 := [42, 43, 180, 0, 44, 182, 0, 50, 153, 0, 8, 42, 43, 182, 0, 54, 177]
abbrev dktX16_does_0 : List UInt8 := dkwX16_does_0 ++ []
theorem dksX16_does_0 : cX16_does.data.toList.drop 0 = dktX16_does_0 := by decide +kernel
theorem dX16_does_0 : decode cX16_does 0 = .ok (.aload_n 0, 1) := dk_42 (dk_at dksX16_does_0 0 rfl rfl)
theorem dX16_does_1 : decode cX16_does 1 = .ok (.aload_n 1, 1) := dk_43 (dk_at dksX16_does_0 1 rfl rfl)
theorem dX16_does_2 : decode cX16_does 2 = .ok (.getfield 44, 3) := dk_180 0 44 (dk_at dksX16_does_0 2 rfl rfl)
theorem dX16_does_5 : decode cX16_does 5 = .ok (.invokevirtual 50, 3) := dk_182 0 50 (dk_at dksX16_does_0 5 rfl rfl)
theorem dX16_does_8 : decode cX16_does 8 = .ok (.ifCond .eq 8, 3) := dk_153 0 8 (dk_at dksX16_does_0 8 rfl rfl)
theorem dX16_does_11 : decode cX16_does 11 = .ok (.aload_n 0, 1) := dk_42 (dk_at dksX16_does_0 11 rfl rfl)
theorem dX16_does_12 : decode cX16_does 12 = .ok (.aload_n 1, 1) := dk_43 (dk_at dksX16_does_0 12 rfl rfl)
theorem dX16_does_13 : decode cX16_does 13 = .ok (.invokevirtual 54, 3) := dk_182 0 54 (dk_at dksX16_does_0 13 rfl rfl)
theorem dX16_does_16 : decode cX16_does 16 = .ok (.return_, 1) := dk_177 (dk_at dksX16_does_0 16 rfl rfl)
abbrev cX16_is : ByteArray := prog_17_method_2_code
def yX16_is : MethodName := ⟨RX16, "is", "(LCargoFlag$World;)Z"⟩
def dkwX16_is_6 : List UInt8 := [167, 0, 4, 3, 172]
abbrev dktX16_is_6 : List UInt8 := dkwX16_is_6 ++ []
def dkwX16_is_5 : List UInt8 := [180, 0, 24, 164, 0, 7, 4, 167, 0, 20, 3, 167, 0, 16, 28, 42, 180, 0, 24, 160, 0, 7, 4]
abbrev dktX16_is_5 : List UInt8 := dkwX16_is_5 ++ dktX16_is_6
def dkwX16_is_4 : List UInt8 := [162, 0, 7, 4, 167, 0, 45, 3, 167, 0, 41, 42, 180, 0, 21, 16, 62, 160, 0, 19, 28, 42]
abbrev dktX16_is_4 : List UInt8 := dkwX16_is_4 ++ dktX16_is_5
def dkwX16_is_3 : List UInt8 := [180, 0, 41, 42, 180, 0, 15, 46, 61, 42, 180, 0, 21, 16, 60, 160, 0, 19, 28, 42, 180, 0, 24]
abbrev dktX16_is_3 : List UInt8 := dkwX16_is_3 ++ dktX16_is_4
def dkwX16_is_2 : List UInt8 := [43, 180, 0, 37, 42, 180, 0, 15, 46, 42, 180, 0, 18, 160, 0, 7, 4, 167, 0, 4, 3, 172, 43]
abbrev dktX16_is_2 : List UInt8 := dkwX16_is_2 ++ dktX16_is_3
def dkwX16_is_1 : List UInt8 := [167, 0, 4, 3, 172, 42, 180, 0, 9, 4, 160, 0, 36, 43, 42, 180, 0, 15, 182, 0, 33, 154, 0, 23]
abbrev dktX16_is_1 : List UInt8 := dkwX16_is_1 ++ dktX16_is_2
def dkwX16_is_0 : List UInt8 := [42, 180, 0, 9, 154, 0, 24, 43, 42, 180, 0, 15, 182, 0, 27, 42, 180, 0, 18, 160, 0, 7, 4]
abbrev dktX16_is_0 : List UInt8 := dkwX16_is_0 ++ dktX16_is_1
theorem dksX16_is_0 : cX16_is.data.toList.drop 0 = dktX16_is_0 := by decide +kernel
theorem dksX16_is_1 : cX16_is.data.toList.drop 23 = dktX16_is_1 := dk_seg dksX16_is_0 23 rfl rfl
theorem dksX16_is_2 : cX16_is.data.toList.drop 47 = dktX16_is_2 := dk_seg dksX16_is_1 24 rfl rfl
theorem dksX16_is_3 : cX16_is.data.toList.drop 70 = dktX16_is_3 := dk_seg dksX16_is_2 23 rfl rfl
theorem dksX16_is_4 : cX16_is.data.toList.drop 93 = dktX16_is_4 := dk_seg dksX16_is_3 23 rfl rfl
theorem dksX16_is_5 : cX16_is.data.toList.drop 115 = dktX16_is_5 := dk_seg dksX16_is_4 22 rfl rfl
theorem dksX16_is_6 : cX16_is.data.toList.drop 138 = dktX16_is_6 := dk_seg dksX16_is_5 23 rfl rfl
theorem dX16_is_0 : decode cX16_is 0 = .ok (.aload_n 0, 1) := dk_42 (dk_at dksX16_is_0 0 rfl rfl)
theorem dX16_is_1 : decode cX16_is 1 = .ok (.getfield 9, 3) := dk_180 0 9 (dk_at dksX16_is_0 1 rfl rfl)
theorem dX16_is_4 : decode cX16_is 4 = .ok (.ifCond .ne 24, 3) := dk_154 0 24 (dk_at dksX16_is_0 4 rfl rfl)
theorem dX16_is_7 : decode cX16_is 7 = .ok (.aload_n 1, 1) := dk_43 (dk_at dksX16_is_0 7 rfl rfl)
theorem dX16_is_8 : decode cX16_is 8 = .ok (.aload_n 0, 1) := dk_42 (dk_at dksX16_is_0 8 rfl rfl)
theorem dX16_is_9 : decode cX16_is 9 = .ok (.getfield 15, 3) := dk_180 0 15 (dk_at dksX16_is_0 9 rfl rfl)
theorem dX16_is_12 : decode cX16_is 12 = .ok (.invokevirtual 27, 3) := dk_182 0 27 (dk_at dksX16_is_0 12 rfl rfl)
theorem dX16_is_15 : decode cX16_is 15 = .ok (.aload_n 0, 1) := dk_42 (dk_at dksX16_is_0 15 rfl rfl)
theorem dX16_is_16 : decode cX16_is 16 = .ok (.getfield 18, 3) := dk_180 0 18 (dk_at dksX16_is_0 16 rfl rfl)
theorem dX16_is_19 : decode cX16_is 19 = .ok (.if_icmp .ne 7, 3) := dk_160 0 7 (dk_at dksX16_is_0 19 rfl rfl)
theorem dX16_is_22 : decode cX16_is 22 = .ok (.iconst 1, 1) := dk_4 (dk_at dksX16_is_0 22 rfl rfl)
theorem dX16_is_23 : decode cX16_is 23 = .ok (.goto 4, 3) := dk_167 0 4 (dk_at dksX16_is_1 0 rfl rfl)
theorem dX16_is_26 : decode cX16_is 26 = .ok (.iconst 0, 1) := dk_3 (dk_at dksX16_is_1 3 rfl rfl)
theorem dX16_is_27 : decode cX16_is 27 = .ok (.ireturn, 1) := dk_172 (dk_at dksX16_is_1 4 rfl rfl)
theorem dX16_is_28 : decode cX16_is 28 = .ok (.aload_n 0, 1) := dk_42 (dk_at dksX16_is_1 5 rfl rfl)
theorem dX16_is_29 : decode cX16_is 29 = .ok (.getfield 9, 3) := dk_180 0 9 (dk_at dksX16_is_1 6 rfl rfl)
theorem dX16_is_32 : decode cX16_is 32 = .ok (.iconst 1, 1) := dk_4 (dk_at dksX16_is_1 9 rfl rfl)
theorem dX16_is_33 : decode cX16_is 33 = .ok (.if_icmp .ne 36, 3) := dk_160 0 36 (dk_at dksX16_is_1 10 rfl rfl)
theorem dX16_is_36 : decode cX16_is 36 = .ok (.aload_n 1, 1) := dk_43 (dk_at dksX16_is_1 13 rfl rfl)
theorem dX16_is_37 : decode cX16_is 37 = .ok (.aload_n 0, 1) := dk_42 (dk_at dksX16_is_1 14 rfl rfl)
theorem dX16_is_38 : decode cX16_is 38 = .ok (.getfield 15, 3) := dk_180 0 15 (dk_at dksX16_is_1 15 rfl rfl)
theorem dX16_is_41 : decode cX16_is 41 = .ok (.invokevirtual 33, 3) := dk_182 0 33 (dk_at dksX16_is_1 18 rfl rfl)
theorem dX16_is_44 : decode cX16_is 44 = .ok (.ifCond .ne 23, 3) := dk_154 0 23 (dk_at dksX16_is_1 21 rfl rfl)
theorem dX16_is_47 : decode cX16_is 47 = .ok (.aload_n 1, 1) := dk_43 (dk_at dksX16_is_2 0 rfl rfl)
theorem dX16_is_48 : decode cX16_is 48 = .ok (.getfield 37, 3) := dk_180 0 37 (dk_at dksX16_is_2 1 rfl rfl)
theorem dX16_is_51 : decode cX16_is 51 = .ok (.aload_n 0, 1) := dk_42 (dk_at dksX16_is_2 4 rfl rfl)
theorem dX16_is_52 : decode cX16_is 52 = .ok (.getfield 15, 3) := dk_180 0 15 (dk_at dksX16_is_2 5 rfl rfl)
theorem dX16_is_55 : decode cX16_is 55 = .ok (.iaload, 1) := dk_46 (dk_at dksX16_is_2 8 rfl rfl)
theorem dX16_is_56 : decode cX16_is 56 = .ok (.aload_n 0, 1) := dk_42 (dk_at dksX16_is_2 9 rfl rfl)
theorem dX16_is_57 : decode cX16_is 57 = .ok (.getfield 18, 3) := dk_180 0 18 (dk_at dksX16_is_2 10 rfl rfl)
theorem dX16_is_60 : decode cX16_is 60 = .ok (.if_icmp .ne 7, 3) := dk_160 0 7 (dk_at dksX16_is_2 13 rfl rfl)
theorem dX16_is_63 : decode cX16_is 63 = .ok (.iconst 1, 1) := dk_4 (dk_at dksX16_is_2 16 rfl rfl)
theorem dX16_is_64 : decode cX16_is 64 = .ok (.goto 4, 3) := dk_167 0 4 (dk_at dksX16_is_2 17 rfl rfl)
theorem dX16_is_67 : decode cX16_is 67 = .ok (.iconst 0, 1) := dk_3 (dk_at dksX16_is_2 20 rfl rfl)
theorem dX16_is_68 : decode cX16_is 68 = .ok (.ireturn, 1) := dk_172 (dk_at dksX16_is_2 21 rfl rfl)
theorem dX16_is_69 : decode cX16_is 69 = .ok (.aload_n 1, 1) := dk_43 (dk_at dksX16_is_2 22 rfl rfl)
theorem dX16_is_70 : decode cX16_is 70 = .ok (.getfield 41, 3) := dk_180 0 41 (dk_at dksX16_is_3 0 rfl rfl)
theorem dX16_is_73 : decode cX16_is 73 = .ok (.aload_n 0, 1) := dk_42 (dk_at dksX16_is_3 3 rfl rfl)
theorem dX16_is_74 : decode cX16_is 74 = .ok (.getfield 15, 3) := dk_180 0 15 (dk_at dksX16_is_3 4 rfl rfl)
theorem dX16_is_77 : decode cX16_is 77 = .ok (.iaload, 1) := dk_46 (dk_at dksX16_is_3 7 rfl rfl)
theorem dX16_is_78 : decode cX16_is 78 = .ok (.istore_n 2, 1) := dk_61 (dk_at dksX16_is_3 8 rfl rfl)
theorem dX16_is_79 : decode cX16_is 79 = .ok (.aload_n 0, 1) := dk_42 (dk_at dksX16_is_3 9 rfl rfl)
theorem dX16_is_80 : decode cX16_is 80 = .ok (.getfield 21, 3) := dk_180 0 21 (dk_at dksX16_is_3 10 rfl rfl)
theorem dX16_is_83 : decode cX16_is 83 = .ok (.bipush 60, 2) := dk_16 60 (dk_at dksX16_is_3 13 rfl rfl)
theorem dX16_is_85 : decode cX16_is 85 = .ok (.if_icmp .ne 19, 3) := dk_160 0 19 (dk_at dksX16_is_3 15 rfl rfl)
theorem dX16_is_88 : decode cX16_is 88 = .ok (.iload_n 2, 1) := dk_28 (dk_at dksX16_is_3 18 rfl rfl)
theorem dX16_is_89 : decode cX16_is 89 = .ok (.aload_n 0, 1) := dk_42 (dk_at dksX16_is_3 19 rfl rfl)
theorem dX16_is_90 : decode cX16_is 90 = .ok (.getfield 24, 3) := dk_180 0 24 (dk_at dksX16_is_3 20 rfl rfl)
theorem dX16_is_93 : decode cX16_is 93 = .ok (.if_icmp .ge 7, 3) := dk_162 0 7 (dk_at dksX16_is_4 0 rfl rfl)
theorem dX16_is_96 : decode cX16_is 96 = .ok (.iconst 1, 1) := dk_4 (dk_at dksX16_is_4 3 rfl rfl)
theorem dX16_is_97 : decode cX16_is 97 = .ok (.goto 45, 3) := dk_167 0 45 (dk_at dksX16_is_4 4 rfl rfl)
theorem dX16_is_100 : decode cX16_is 100 = .ok (.iconst 0, 1) := dk_3 (dk_at dksX16_is_4 7 rfl rfl)
theorem dX16_is_101 : decode cX16_is 101 = .ok (.goto 41, 3) := dk_167 0 41 (dk_at dksX16_is_4 8 rfl rfl)
theorem dX16_is_104 : decode cX16_is 104 = .ok (.aload_n 0, 1) := dk_42 (dk_at dksX16_is_4 11 rfl rfl)
theorem dX16_is_105 : decode cX16_is 105 = .ok (.getfield 21, 3) := dk_180 0 21 (dk_at dksX16_is_4 12 rfl rfl)
theorem dX16_is_108 : decode cX16_is 108 = .ok (.bipush 62, 2) := dk_16 62 (dk_at dksX16_is_4 15 rfl rfl)
theorem dX16_is_110 : decode cX16_is 110 = .ok (.if_icmp .ne 19, 3) := dk_160 0 19 (dk_at dksX16_is_4 17 rfl rfl)
theorem dX16_is_113 : decode cX16_is 113 = .ok (.iload_n 2, 1) := dk_28 (dk_at dksX16_is_4 20 rfl rfl)
theorem dX16_is_114 : decode cX16_is 114 = .ok (.aload_n 0, 1) := dk_42 (dk_at dksX16_is_4 21 rfl rfl)
theorem dX16_is_115 : decode cX16_is 115 = .ok (.getfield 24, 3) := dk_180 0 24 (dk_at dksX16_is_5 0 rfl rfl)
theorem dX16_is_118 : decode cX16_is 118 = .ok (.if_icmp .le 7, 3) := dk_164 0 7 (dk_at dksX16_is_5 3 rfl rfl)
theorem dX16_is_121 : decode cX16_is 121 = .ok (.iconst 1, 1) := dk_4 (dk_at dksX16_is_5 6 rfl rfl)
theorem dX16_is_122 : decode cX16_is 122 = .ok (.goto 20, 3) := dk_167 0 20 (dk_at dksX16_is_5 7 rfl rfl)
theorem dX16_is_125 : decode cX16_is 125 = .ok (.iconst 0, 1) := dk_3 (dk_at dksX16_is_5 10 rfl rfl)
theorem dX16_is_126 : decode cX16_is 126 = .ok (.goto 16, 3) := dk_167 0 16 (dk_at dksX16_is_5 11 rfl rfl)
theorem dX16_is_129 : decode cX16_is 129 = .ok (.iload_n 2, 1) := dk_28 (dk_at dksX16_is_5 14 rfl rfl)
theorem dX16_is_130 : decode cX16_is 130 = .ok (.aload_n 0, 1) := dk_42 (dk_at dksX16_is_5 15 rfl rfl)
theorem dX16_is_131 : decode cX16_is 131 = .ok (.getfield 24, 3) := dk_180 0 24 (dk_at dksX16_is_5 16 rfl rfl)
theorem dX16_is_134 : decode cX16_is 134 = .ok (.if_icmp .ne 7, 3) := dk_160 0 7 (dk_at dksX16_is_5 19 rfl rfl)
theorem dX16_is_137 : decode cX16_is 137 = .ok (.iconst 1, 1) := dk_4 (dk_at dksX16_is_5 22 rfl rfl)
theorem dX16_is_138 : decode cX16_is 138 = .ok (.goto 4, 3) := dk_167 0 4 (dk_at dksX16_is_6 0 rfl rfl)
theorem dX16_is_141 : decode cX16_is 141 = .ok (.iconst 0, 1) := dk_3 (dk_at dksX16_is_6 3 rfl rfl)
theorem dX16_is_142 : decode cX16_is 142 = .ok (.ireturn, 1) := dk_172 (dk_at dksX16_is_6 4 rfl rfl)
theorem q204 : (Jvm.Cond.initialized "CargoFlag$When") ∈ lw_all := lw_g (lw_at lw_m1 29 rfl) rfl
theorem q379 : (Jvm.Cond.fieldLinkNest "CargoFlag$When" (37 : Nat) "CargoFlag$World" "at" "[I" "CargoFlag") ∈ lw_tbl := lw_at lw_m1 204 rfl
theorem q387 : (Jvm.Cond.fieldLinkNest "CargoFlag$When" (41 : Nat) "CargoFlag$World" "coins" "[I" "CargoFlag") ∈ lw_tbl := lw_at lw_m1 212 rfl
theorem q1064 : (Jvm.Cond.instantiable "CargoFlag$When" (7 : Nat)) ∈ lw_all := lw_g (lw_at lw_m4 169 rfl) rfl
theorem q1066 : (Jvm.Cond.instanceMethod ({ cls := "CargoFlag$When", name := "<init>", desc := "(IIIII)V" } : Jvm.MethodName)) ∈ lw_all := lw_g (lw_at lw_m4 171 rfl) rfl
theorem q1067 : (Jvm.Cond.code ({ cls := "CargoFlag$When", name := "<init>", desc := "(IIIII)V" } : Jvm.MethodName) prog_17_method_1_code (6 : Nat) (Option.none : Option Jvm.ClassFile.FieldType)) ∈ lw_all := lw_g (lw_at lw_m4 172 rfl) rfl
theorem q1068 : (Jvm.Cond.methodLinkNest "CargoFlag$When" (3 : Nat) ({ cls := "CargoFlag$Block", name := "<init>", desc := "()V" } : Jvm.MethodName) "CargoFlag") ∈ lw_tbl := lw_at lw_m4 173 rfl
theorem q1069 : (Jvm.Cond.fieldLink "CargoFlag$When" (9 : Nat) "CargoFlag$When" "what" "I") ∈ lw_all := lw_g (lw_at lw_m4 174 rfl) rfl
theorem q1070 : (Jvm.Cond.fieldLink "CargoFlag$When" (15 : Nat) "CargoFlag$When" "ship" "I") ∈ lw_all := lw_g (lw_at lw_m4 175 rfl) rfl
theorem q1071 : (Jvm.Cond.fieldLink "CargoFlag$When" (18 : Nat) "CargoFlag$When" "other" "I") ∈ lw_all := lw_g (lw_at lw_m4 176 rfl) rfl
theorem q1072 : (Jvm.Cond.fieldLink "CargoFlag$When" (21 : Nat) "CargoFlag$When" "sign" "I") ∈ lw_all := lw_g (lw_at lw_m4 177 rfl) rfl
theorem q1073 : (Jvm.Cond.fieldLink "CargoFlag$When" (24 : Nat) "CargoFlag$When" "number" "I") ∈ lw_all := lw_g (lw_at lw_m4 178 rfl) rfl
theorem q1074 : (Jvm.Cond.laysFinal "CargoFlag$When" "CargoFlag$When" "what" "I") ∈ lw_all := lw_g (lw_at lw_m4 179 rfl) rfl
theorem q1075 : (Jvm.Cond.soleField "CargoFlag$When" "what") ∈ lw_all := lw_g (lw_at lw_m4 180 rfl) rfl
theorem q1076 : (Jvm.Cond.laysFinal "CargoFlag$When" "CargoFlag$When" "ship" "I") ∈ lw_all := lw_g (lw_at lw_m4 181 rfl) rfl
theorem q1077 : (Jvm.Cond.soleField "CargoFlag$When" "ship") ∈ lw_all := lw_g (lw_at lw_m4 182 rfl) rfl
theorem q1078 : (Jvm.Cond.laysFinal "CargoFlag$When" "CargoFlag$When" "other" "I") ∈ lw_all := lw_g (lw_at lw_m4 183 rfl) rfl
theorem q1079 : (Jvm.Cond.soleField "CargoFlag$When" "other") ∈ lw_all := lw_g (lw_at lw_m4 184 rfl) rfl
theorem q1080 : (Jvm.Cond.laysFinal "CargoFlag$When" "CargoFlag$When" "sign" "I") ∈ lw_all := lw_g (lw_at lw_m4 185 rfl) rfl
theorem q1081 : (Jvm.Cond.soleField "CargoFlag$When" "sign") ∈ lw_all := lw_g (lw_at lw_m4 186 rfl) rfl
theorem q1082 : (Jvm.Cond.laysFinal "CargoFlag$When" "CargoFlag$When" "number" "I") ∈ lw_all := lw_g (lw_at lw_m4 187 rfl) rfl
theorem q1083 : (Jvm.Cond.soleField "CargoFlag$When" "number") ∈ lw_all := lw_g (lw_at lw_m4 188 rfl) rfl
theorem q1084 : (Jvm.Cond.lays "CargoFlag$When" "CargoFlag$Block" "steps" "[LCargoFlag$Step;") ∈ lw_all := lw_g (lw_at lw_m4 189 rfl) rfl
theorem q1085 : (Jvm.Cond.lays "CargoFlag$When" "CargoFlag$Block" "size" "I") ∈ lw_all := lw_g (lw_at lw_m4 190 rfl) rfl
theorem q1086 : (Jvm.Cond.superclass "CargoFlag$When" "CargoFlag$Block") ∈ lw_all := lw_g (lw_at lw_m4 191 rfl) rfl
theorem q1116 : (Jvm.Cond.selects "CargoFlag$When" ({ cls := "CargoFlag$Block", name := "add", desc := "(LCargoFlag$Step;)V" } : Jvm.MethodName) ({ cls := "CargoFlag$Block", name := "add", desc := "(LCargoFlag$Step;)V" } : Jvm.MethodName)) ∈ lw_all := lw_g (lw_at lw_m4 221 rfl) rfl
theorem q1578 : (Jvm.Cond.fieldLinkNest "CargoFlag$When" (44 : Nat) "CargoFlag$Living" "world" "LCargoFlag$World;" "CargoFlag") ∈ lw_tbl := lw_at lw_m6 203 rfl
theorem q1626 : (Jvm.Cond.selects "CargoFlag$When" ({ cls := "CargoFlag$Step", name := "go", desc := "(LCargoFlag$Living;)V" } : Jvm.MethodName) ({ cls := "CargoFlag$Step", name := "go", desc := "(LCargoFlag$Living;)V" } : Jvm.MethodName)) ∈ lw_all := lw_g (lw_at lw_m7 11 rfl) rfl
theorem q1661 : (Jvm.Cond.selects "CargoFlag$When" ({ cls := "CargoFlag$Step", name := "does", desc := "(LCargoFlag$Living;)V" } : Jvm.MethodName) ({ cls := "CargoFlag$When", name := "does", desc := "(LCargoFlag$Living;)V" } : Jvm.MethodName)) ∈ lw_all := lw_g (lw_at lw_m7 46 rfl) rfl
theorem q1662 : (Jvm.Cond.instanceMethod ({ cls := "CargoFlag$When", name := "does", desc := "(LCargoFlag$Living;)V" } : Jvm.MethodName)) ∈ lw_all := lw_g (lw_at lw_m7 47 rfl) rfl
theorem q1663 : (Jvm.Cond.code ({ cls := "CargoFlag$When", name := "does", desc := "(LCargoFlag$Living;)V" } : Jvm.MethodName) prog_17_method_3_code (2 : Nat) (Option.none : Option Jvm.ClassFile.FieldType)) ∈ lw_all := lw_g (lw_at lw_m7 48 rfl) rfl
theorem q1664 : (Jvm.Cond.methodLink "CargoFlag$When" (50 : Nat) ({ cls := "CargoFlag$When", name := "is", desc := "(LCargoFlag$World;)Z" } : Jvm.MethodName)) ∈ lw_all := lw_g (lw_at lw_m7 49 rfl) rfl
theorem q1665 : (Jvm.Cond.privateMethod ({ cls := "CargoFlag$When", name := "is", desc := "(LCargoFlag$World;)Z" } : Jvm.MethodName)) ∈ lw_tbl := lw_at lw_m7 50 rfl
theorem q1666 : (Jvm.Cond.instanceMethod ({ cls := "CargoFlag$When", name := "is", desc := "(LCargoFlag$World;)Z" } : Jvm.MethodName)) ∈ lw_all := lw_g (lw_at lw_m7 51 rfl) rfl
theorem q1667 : (Jvm.Cond.code ({ cls := "CargoFlag$When", name := "is", desc := "(LCargoFlag$World;)Z" } : Jvm.MethodName) prog_17_method_2_code (3 : Nat) (Option.some Jvm.ClassFile.FieldType.boolean)) ∈ lw_all := lw_g (lw_at lw_m7 52 rfl) rfl
theorem q1668 : (Jvm.Cond.methodLink "CargoFlag$When" (27 : Nat) ({ cls := "CargoFlag$World", name := "ruled", desc := "(I)I" } : Jvm.MethodName)) ∈ lw_all := lw_g (lw_at lw_m7 53 rfl) rfl
theorem q1669 : (Jvm.Cond.methodLink "CargoFlag$When" (33 : Nat) ({ cls := "CargoFlag$World", name := "isAtSea", desc := "(I)Z" } : Jvm.MethodName)) ∈ lw_all := lw_g (lw_at lw_m7 54 rfl) rfl
theorem q1670 : (Jvm.Cond.methodLink "CargoFlag$When" (54 : Nat) ({ cls := "CargoFlag$When", name := "all", desc := "(LCargoFlag$Living;)V" } : Jvm.MethodName)) ∈ lw_all := lw_g (lw_at lw_m7 55 rfl) rfl
theorem q1671 : (Jvm.Cond.sameMethod "CargoFlag$When" "CargoFlag$Block" "all" "(LCargoFlag$Living;)V") ∈ lw_all := lw_g (lw_at lw_m7 56 rfl) rfl
theorem q1672 : (Jvm.Cond.selects "CargoFlag$When" ({ cls := "CargoFlag$When", name := "all", desc := "(LCargoFlag$Living;)V" } : Jvm.MethodName) ({ cls := "CargoFlag$Block", name := "all", desc := "(LCargoFlag$Living;)V" } : Jvm.MethodName)) ∈ lw_all := lw_g (lw_at lw_m7 57 rfl) rfl
theorem q2552 : (Jvm.Cond.castable "CargoFlag$When" "CargoFlag$Step") ∈ lw_tbl := lw_at lw_m10 217 rfl
theorem in_X16 : ∀ w ∈ wsX160, w ∈ lw_all := lw_in wsX160 [1084, 1085, 1074, 1076, 1078, 1080, 1082] (by decide +kernel) (by decide +kernel)

/-! CargoFlag$Act -/
set_option maxRecDepth 100000
def RX17 : String := "CargoFlag$Act"
def TX17 : u_T := fun k => match k with
  | 0 => ("CargoFlag$Act", "what", "I", true)
  | 1 => ("CargoFlag$Act", "ship", "I", true)
  | 2 => ("CargoFlag$Act", "other", "I", true)
  | _ => ("CargoFlag$Act", "number", "I", true)
def tyX17 : Nat → FieldType := fun k => match k with
  | 0 => .int
  | 1 => .int
  | 2 => .int
  | _ => .int
abbrev wsX170 : List Cond := u_ws RX17 TX17 4
theorem nmX17 : ∀ a, a < 4 → ∀ b, b < 4 → a ≠ b → (TX17 a).2.1 ≠ (TX17 b).2.1 := by decide +kernel
theorem tyX17_ok : ∀ k, k < 4 → parseFieldDescriptor (TX17 k).2.2.1 = some (tyX17 k) := by decide +kernel
abbrev cX17_init : ByteArray := prog_2_method_1_code
def yX17_init : MethodName := ⟨RX17, "<init>", "(IIII)V"⟩
def dkwX17_init_1 : List UInt8 := [181, 0, 21, 177]
abbrev dktX17_init_1 : List UInt8 := dkwX17_init_1 ++ []
def dkwX17_init_0 : List UInt8 := [42, 183, 0, 3, 42, 27, 181, 0, 9, 42, 28, 181, 0, 15, 42, 29, 181, 0, 18, 42, 21, 4]
abbrev dktX17_init_0 : List UInt8 := dkwX17_init_0 ++ dktX17_init_1
theorem dksX17_init_0 : cX17_init.data.toList.drop 0 = dktX17_init_0 := by decide +kernel
theorem dksX17_init_1 : cX17_init.data.toList.drop 22 = dktX17_init_1 := dk_seg dksX17_init_0 22 rfl rfl
theorem dX17_init_0 : decode cX17_init 0 = .ok (.aload_n 0, 1) := dk_42 (dk_at dksX17_init_0 0 rfl rfl)
theorem dX17_init_1 : decode cX17_init 1 = .ok (.invokespecial 3, 3) := dk_183 0 3 (dk_at dksX17_init_0 1 rfl rfl)
theorem dX17_init_4 : decode cX17_init 4 = .ok (.aload_n 0, 1) := dk_42 (dk_at dksX17_init_0 4 rfl rfl)
theorem dX17_init_5 : decode cX17_init 5 = .ok (.iload_n 1, 1) := dk_27 (dk_at dksX17_init_0 5 rfl rfl)
theorem dX17_init_6 : decode cX17_init 6 = .ok (.putfield 9, 3) := dk_181 0 9 (dk_at dksX17_init_0 6 rfl rfl)
theorem dX17_init_9 : decode cX17_init 9 = .ok (.aload_n 0, 1) := dk_42 (dk_at dksX17_init_0 9 rfl rfl)
theorem dX17_init_10 : decode cX17_init 10 = .ok (.iload_n 2, 1) := dk_28 (dk_at dksX17_init_0 10 rfl rfl)
theorem dX17_init_11 : decode cX17_init 11 = .ok (.putfield 15, 3) := dk_181 0 15 (dk_at dksX17_init_0 11 rfl rfl)
theorem dX17_init_14 : decode cX17_init 14 = .ok (.aload_n 0, 1) := dk_42 (dk_at dksX17_init_0 14 rfl rfl)
theorem dX17_init_15 : decode cX17_init 15 = .ok (.iload_n 3, 1) := dk_29 (dk_at dksX17_init_0 15 rfl rfl)
theorem dX17_init_16 : decode cX17_init 16 = .ok (.putfield 18, 3) := dk_181 0 18 (dk_at dksX17_init_0 16 rfl rfl)
theorem dX17_init_19 : decode cX17_init 19 = .ok (.aload_n 0, 1) := dk_42 (dk_at dksX17_init_0 19 rfl rfl)
theorem dX17_init_20 : decode cX17_init 20 = .ok (.iload 4, 2) := dk_21 4 (dk_at dksX17_init_0 20 rfl rfl)
theorem dX17_init_22 : decode cX17_init 22 = .ok (.putfield 21, 3) := dk_181 0 21 (dk_at dksX17_init_1 0 rfl rfl)
theorem dX17_init_25 : decode cX17_init 25 = .ok (.return_, 1) := dk_177 (dk_at dksX17_init_1 3 rfl rfl)
abbrev cX17_does : ByteArray := prog_2_method_5_code
def yX17_does : MethodName := ⟨RX17, "does", "(LCargoFlag$Living;)V"⟩
def dkwX17_does_0 : List UInt8 := [42, 43, 182, 0, 84, 154, 0, 13, 43, 89, 180, 0, 88, 4, 96, 181, 0, 88, 177]
abbrev dktX17_does_0 : List UInt8 := dkwX17_does_0 ++ []
theorem dksX17_does_0 : cX17_does.data.toList.drop 0 = dktX17_does_0 := by decide +kernel
theorem dX17_does_0 : decode cX17_does 0 = .ok (.aload_n 0, 1) := dk_42 (dk_at dksX17_does_0 0 rfl rfl)
theorem dX17_does_1 : decode cX17_does 1 = .ok (.aload_n 1, 1) := dk_43 (dk_at dksX17_does_0 1 rfl rfl)
theorem dX17_does_2 : decode cX17_does 2 = .ok (.invokevirtual 84, 3) := dk_182 0 84 (dk_at dksX17_does_0 2 rfl rfl)
theorem dX17_does_5 : decode cX17_does 5 = .ok (.ifCond .ne 13, 3) := dk_154 0 13 (dk_at dksX17_does_0 5 rfl rfl)
theorem dX17_does_8 : decode cX17_does 8 = .ok (.aload_n 1, 1) := dk_43 (dk_at dksX17_does_0 8 rfl rfl)
theorem dX17_does_9 : decode cX17_does 9 = .ok (.dup, 1) := dk_89 (dk_at dksX17_does_0 9 rfl rfl)
theorem dX17_does_10 : decode cX17_does 10 = .ok (.getfield 88, 3) := dk_180 0 88 (dk_at dksX17_does_0 10 rfl rfl)
theorem dX17_does_13 : decode cX17_does 13 = .ok (.iconst 1, 1) := dk_4 (dk_at dksX17_does_0 13 rfl rfl)
theorem dX17_does_14 : decode cX17_does 14 = .ok (.iadd, 1) := dk_96 (dk_at dksX17_does_0 14 rfl rfl)
theorem dX17_does_15 : decode cX17_does 15 = .ok (.putfield 88, 3) := dk_181 0 88 (dk_at dksX17_does_0 15 rfl rfl)
theorem dX17_does_18 : decode cX17_does 18 = .ok (.return_, 1) := dk_177 (dk_at dksX17_does_0 18 rfl rfl)
abbrev cX17_can : ByteArray := prog_2_method_2_code
def yX17_can : MethodName := ⟨RX17, "can", "(LCargoFlag$Living;)Z"⟩
def dkwX17_can_5 : List UInt8 := [182, 0, 53, 182, 0, 46, 172, 43, 4, 181, 0, 57, 4, 172]
abbrev dktX17_can_5 : List UInt8 := dkwX17_can_5 ++ []
def dkwX17_can_4 : List UInt8 := [44, 42, 180, 0, 15, 42, 180, 0, 18, 182, 0, 46, 172, 44, 42, 180, 0, 15, 43, 44, 180, 0, 50]
abbrev dktX17_can_4 : List UInt8 := dkwX17_can_4 ++ dktX17_can_5
def dkwX17_can_3 : List UInt8 := [180, 0, 21, 182, 0, 37, 172, 44, 42, 180, 0, 15, 42, 180, 0, 18, 42, 180, 0, 21, 182, 0, 43, 172]
abbrev dktX17_can_3 : List UInt8 := dkwX17_can_3 ++ dktX17_can_4
def dkwX17_can_2 : List UInt8 := [42, 43, 44, 182, 0, 30, 172, 42, 43, 44, 182, 0, 34, 172, 44, 42, 180, 0, 15, 42, 180, 0, 18, 42]
abbrev dktX17_can_2 : List UInt8 := dkwX17_can_2 ++ dktX17_can_3
def dkwX17_can_1 : List UInt8 := [170, 0, 0, 0, 0, 0, 117, 0, 0, 0, 0, 0, 0, 0, 5, 0, 0, 0, 39, 0, 0, 0, 46, 0, 0, 0, 53, 0, 0, 0, 70, 0, 0, 0, 87, 0, 0, 0, 100]
abbrev dktX17_can_1 : List UInt8 := dkwX17_can_1 ++ dktX17_can_2
def dkwX17_can_0 : List UInt8 := [43, 180, 0, 24, 77, 42, 180, 0, 9]
abbrev dktX17_can_0 : List UInt8 := dkwX17_can_0 ++ dktX17_can_1
theorem dksX17_can_0 : cX17_can.data.toList.drop 0 = dktX17_can_0 := by decide +kernel
theorem dksX17_can_1 : cX17_can.data.toList.drop 9 = dktX17_can_1 := dk_seg dksX17_can_0 9 rfl rfl
theorem dksX17_can_2 : cX17_can.data.toList.drop 48 = dktX17_can_2 := dk_seg dksX17_can_1 39 rfl rfl
theorem dksX17_can_3 : cX17_can.data.toList.drop 72 = dktX17_can_3 := dk_seg dksX17_can_2 24 rfl rfl
theorem dksX17_can_4 : cX17_can.data.toList.drop 96 = dktX17_can_4 := dk_seg dksX17_can_3 24 rfl rfl
theorem dksX17_can_5 : cX17_can.data.toList.drop 119 = dktX17_can_5 := dk_seg dksX17_can_4 23 rfl rfl
theorem dX17_can_0 : decode cX17_can 0 = .ok (.aload_n 1, 1) := dk_43 (dk_at dksX17_can_0 0 rfl rfl)
theorem dX17_can_1 : decode cX17_can 1 = .ok (.getfield 24, 3) := dk_180 0 24 (dk_at dksX17_can_0 1 rfl rfl)
theorem dX17_can_4 : decode cX17_can 4 = .ok (.astore_n 2, 1) := dk_77 (dk_at dksX17_can_0 4 rfl rfl)
theorem dX17_can_5 : decode cX17_can 5 = .ok (.aload_n 0, 1) := dk_42 (dk_at dksX17_can_0 5 rfl rfl)
theorem dX17_can_6 : decode cX17_can 6 = .ok (.getfield 9, 3) := dk_180 0 9 (dk_at dksX17_can_0 6 rfl rfl)
theorem dX17_can_9 : decode cX17_can 9 = .ok (.tableswitch 117 0 5 #[39, 46, 53, 70, 87, 100], 39) := by decide +kernel
theorem dX17_can_48 : decode cX17_can 48 = .ok (.aload_n 0, 1) := dk_42 (dk_at dksX17_can_2 0 rfl rfl)
theorem dX17_can_49 : decode cX17_can 49 = .ok (.aload_n 1, 1) := dk_43 (dk_at dksX17_can_2 1 rfl rfl)
theorem dX17_can_50 : decode cX17_can 50 = .ok (.aload_n 2, 1) := dk_44 (dk_at dksX17_can_2 2 rfl rfl)
theorem dX17_can_51 : decode cX17_can 51 = .ok (.invokevirtual 30, 3) := dk_182 0 30 (dk_at dksX17_can_2 3 rfl rfl)
theorem dX17_can_54 : decode cX17_can 54 = .ok (.ireturn, 1) := dk_172 (dk_at dksX17_can_2 6 rfl rfl)
theorem dX17_can_55 : decode cX17_can 55 = .ok (.aload_n 0, 1) := dk_42 (dk_at dksX17_can_2 7 rfl rfl)
theorem dX17_can_56 : decode cX17_can 56 = .ok (.aload_n 1, 1) := dk_43 (dk_at dksX17_can_2 8 rfl rfl)
theorem dX17_can_57 : decode cX17_can 57 = .ok (.aload_n 2, 1) := dk_44 (dk_at dksX17_can_2 9 rfl rfl)
theorem dX17_can_58 : decode cX17_can 58 = .ok (.invokevirtual 34, 3) := dk_182 0 34 (dk_at dksX17_can_2 10 rfl rfl)
theorem dX17_can_61 : decode cX17_can 61 = .ok (.ireturn, 1) := dk_172 (dk_at dksX17_can_2 13 rfl rfl)
theorem dX17_can_62 : decode cX17_can 62 = .ok (.aload_n 2, 1) := dk_44 (dk_at dksX17_can_2 14 rfl rfl)
theorem dX17_can_63 : decode cX17_can 63 = .ok (.aload_n 0, 1) := dk_42 (dk_at dksX17_can_2 15 rfl rfl)
theorem dX17_can_64 : decode cX17_can 64 = .ok (.getfield 15, 3) := dk_180 0 15 (dk_at dksX17_can_2 16 rfl rfl)
theorem dX17_can_67 : decode cX17_can 67 = .ok (.aload_n 0, 1) := dk_42 (dk_at dksX17_can_2 19 rfl rfl)
theorem dX17_can_68 : decode cX17_can 68 = .ok (.getfield 18, 3) := dk_180 0 18 (dk_at dksX17_can_2 20 rfl rfl)
theorem dX17_can_71 : decode cX17_can 71 = .ok (.aload_n 0, 1) := dk_42 (dk_at dksX17_can_2 23 rfl rfl)
theorem dX17_can_72 : decode cX17_can 72 = .ok (.getfield 21, 3) := dk_180 0 21 (dk_at dksX17_can_3 0 rfl rfl)
theorem dX17_can_75 : decode cX17_can 75 = .ok (.invokevirtual 37, 3) := dk_182 0 37 (dk_at dksX17_can_3 3 rfl rfl)
theorem dX17_can_78 : decode cX17_can 78 = .ok (.ireturn, 1) := dk_172 (dk_at dksX17_can_3 6 rfl rfl)
theorem dX17_can_79 : decode cX17_can 79 = .ok (.aload_n 2, 1) := dk_44 (dk_at dksX17_can_3 7 rfl rfl)
theorem dX17_can_80 : decode cX17_can 80 = .ok (.aload_n 0, 1) := dk_42 (dk_at dksX17_can_3 8 rfl rfl)
theorem dX17_can_81 : decode cX17_can 81 = .ok (.getfield 15, 3) := dk_180 0 15 (dk_at dksX17_can_3 9 rfl rfl)
theorem dX17_can_84 : decode cX17_can 84 = .ok (.aload_n 0, 1) := dk_42 (dk_at dksX17_can_3 12 rfl rfl)
theorem dX17_can_85 : decode cX17_can 85 = .ok (.getfield 18, 3) := dk_180 0 18 (dk_at dksX17_can_3 13 rfl rfl)
theorem dX17_can_88 : decode cX17_can 88 = .ok (.aload_n 0, 1) := dk_42 (dk_at dksX17_can_3 16 rfl rfl)
theorem dX17_can_89 : decode cX17_can 89 = .ok (.getfield 21, 3) := dk_180 0 21 (dk_at dksX17_can_3 17 rfl rfl)
theorem dX17_can_92 : decode cX17_can 92 = .ok (.invokevirtual 43, 3) := dk_182 0 43 (dk_at dksX17_can_3 20 rfl rfl)
theorem dX17_can_95 : decode cX17_can 95 = .ok (.ireturn, 1) := dk_172 (dk_at dksX17_can_3 23 rfl rfl)
theorem dX17_can_96 : decode cX17_can 96 = .ok (.aload_n 2, 1) := dk_44 (dk_at dksX17_can_4 0 rfl rfl)
theorem dX17_can_97 : decode cX17_can 97 = .ok (.aload_n 0, 1) := dk_42 (dk_at dksX17_can_4 1 rfl rfl)
theorem dX17_can_98 : decode cX17_can 98 = .ok (.getfield 15, 3) := dk_180 0 15 (dk_at dksX17_can_4 2 rfl rfl)
theorem dX17_can_101 : decode cX17_can 101 = .ok (.aload_n 0, 1) := dk_42 (dk_at dksX17_can_4 5 rfl rfl)
theorem dX17_can_102 : decode cX17_can 102 = .ok (.getfield 18, 3) := dk_180 0 18 (dk_at dksX17_can_4 6 rfl rfl)
theorem dX17_can_105 : decode cX17_can 105 = .ok (.invokevirtual 46, 3) := dk_182 0 46 (dk_at dksX17_can_4 9 rfl rfl)
theorem dX17_can_108 : decode cX17_can 108 = .ok (.ireturn, 1) := dk_172 (dk_at dksX17_can_4 12 rfl rfl)
theorem dX17_can_109 : decode cX17_can 109 = .ok (.aload_n 2, 1) := dk_44 (dk_at dksX17_can_4 13 rfl rfl)
theorem dX17_can_110 : decode cX17_can 110 = .ok (.aload_n 0, 1) := dk_42 (dk_at dksX17_can_4 14 rfl rfl)
theorem dX17_can_111 : decode cX17_can 111 = .ok (.getfield 15, 3) := dk_180 0 15 (dk_at dksX17_can_4 15 rfl rfl)
theorem dX17_can_114 : decode cX17_can 114 = .ok (.aload_n 1, 1) := dk_43 (dk_at dksX17_can_4 18 rfl rfl)
theorem dX17_can_115 : decode cX17_can 115 = .ok (.aload_n 2, 1) := dk_44 (dk_at dksX17_can_4 19 rfl rfl)
theorem dX17_can_116 : decode cX17_can 116 = .ok (.getfield 50, 3) := dk_180 0 50 (dk_at dksX17_can_4 20 rfl rfl)
theorem dX17_can_119 : decode cX17_can 119 = .ok (.invokevirtual 53, 3) := dk_182 0 53 (dk_at dksX17_can_5 0 rfl rfl)
theorem dX17_can_122 : decode cX17_can 122 = .ok (.invokevirtual 46, 3) := dk_182 0 46 (dk_at dksX17_can_5 3 rfl rfl)
theorem dX17_can_125 : decode cX17_can 125 = .ok (.ireturn, 1) := dk_172 (dk_at dksX17_can_5 6 rfl rfl)
theorem dX17_can_126 : decode cX17_can 126 = .ok (.aload_n 1, 1) := dk_43 (dk_at dksX17_can_5 7 rfl rfl)
theorem dX17_can_127 : decode cX17_can 127 = .ok (.iconst 1, 1) := dk_4 (dk_at dksX17_can_5 8 rfl rfl)
theorem dX17_can_128 : decode cX17_can 128 = .ok (.putfield 57, 3) := dk_181 0 57 (dk_at dksX17_can_5 9 rfl rfl)
theorem dX17_can_131 : decode cX17_can 131 = .ok (.iconst 1, 1) := dk_4 (dk_at dksX17_can_5 12 rfl rfl)
theorem dX17_can_132 : decode cX17_can 132 = .ok (.ireturn, 1) := dk_172 (dk_at dksX17_can_5 13 rfl rfl)
abbrev cX17_passes : ByteArray := prog_2_method_3_code
def yX17_passes : MethodName := ⟨RX17, "passes", "(LCargoFlag$Living;LCargoFlag$World;)Z"⟩
def dkwX17_passes_2 : List UInt8 := [167, 255, 229, 43, 89, 180, 0, 76, 42, 180, 0, 21, 96, 181, 0, 76, 4, 172]
abbrev dktX17_passes_2 : List UInt8 := dkwX17_passes_2 ++ []
def dkwX17_passes_1 : List UInt8 := [162, 0, 25, 43, 89, 180, 0, 64, 44, 182, 0, 67, 184, 0, 71, 96, 181, 0, 64, 132, 3, 1]
abbrev dktX17_passes_1 : List UInt8 := dkwX17_passes_1 ++ dktX17_passes_2
def dkwX17_passes_0 : List UInt8 := [44, 180, 0, 61, 42, 180, 0, 21, 96, 17, 39, 15, 164, 0, 5, 3, 172, 3, 62, 29, 42, 180, 0, 21]
abbrev dktX17_passes_0 : List UInt8 := dkwX17_passes_0 ++ dktX17_passes_1
theorem dksX17_passes_0 : cX17_passes.data.toList.drop 0 = dktX17_passes_0 := by decide +kernel
theorem dksX17_passes_1 : cX17_passes.data.toList.drop 24 = dktX17_passes_1 := dk_seg dksX17_passes_0 24 rfl rfl
theorem dksX17_passes_2 : cX17_passes.data.toList.drop 46 = dktX17_passes_2 := dk_seg dksX17_passes_1 22 rfl rfl
theorem dX17_passes_0 : decode cX17_passes 0 = .ok (.aload_n 2, 1) := dk_44 (dk_at dksX17_passes_0 0 rfl rfl)
theorem dX17_passes_1 : decode cX17_passes 1 = .ok (.getfield 61, 3) := dk_180 0 61 (dk_at dksX17_passes_0 1 rfl rfl)
theorem dX17_passes_4 : decode cX17_passes 4 = .ok (.aload_n 0, 1) := dk_42 (dk_at dksX17_passes_0 4 rfl rfl)
theorem dX17_passes_5 : decode cX17_passes 5 = .ok (.getfield 21, 3) := dk_180 0 21 (dk_at dksX17_passes_0 5 rfl rfl)
theorem dX17_passes_8 : decode cX17_passes 8 = .ok (.iadd, 1) := dk_96 (dk_at dksX17_passes_0 8 rfl rfl)
theorem dX17_passes_9 : decode cX17_passes 9 = .ok (.sipush 9999, 3) := dk_17 39 15 (dk_at dksX17_passes_0 9 rfl rfl)
theorem dX17_passes_12 : decode cX17_passes 12 = .ok (.if_icmp .le 5, 3) := dk_164 0 5 (dk_at dksX17_passes_0 12 rfl rfl)
theorem dX17_passes_15 : decode cX17_passes 15 = .ok (.iconst 0, 1) := dk_3 (dk_at dksX17_passes_0 15 rfl rfl)
theorem dX17_passes_16 : decode cX17_passes 16 = .ok (.ireturn, 1) := dk_172 (dk_at dksX17_passes_0 16 rfl rfl)
theorem dX17_passes_17 : decode cX17_passes 17 = .ok (.iconst 0, 1) := dk_3 (dk_at dksX17_passes_0 17 rfl rfl)
theorem dX17_passes_18 : decode cX17_passes 18 = .ok (.istore_n 3, 1) := dk_62 (dk_at dksX17_passes_0 18 rfl rfl)
theorem dX17_passes_19 : decode cX17_passes 19 = .ok (.iload_n 3, 1) := dk_29 (dk_at dksX17_passes_0 19 rfl rfl)
theorem dX17_passes_20 : decode cX17_passes 20 = .ok (.aload_n 0, 1) := dk_42 (dk_at dksX17_passes_0 20 rfl rfl)
theorem dX17_passes_21 : decode cX17_passes 21 = .ok (.getfield 21, 3) := dk_180 0 21 (dk_at dksX17_passes_0 21 rfl rfl)
theorem dX17_passes_24 : decode cX17_passes 24 = .ok (.if_icmp .ge 25, 3) := dk_162 0 25 (dk_at dksX17_passes_1 0 rfl rfl)
theorem dX17_passes_27 : decode cX17_passes 27 = .ok (.aload_n 1, 1) := dk_43 (dk_at dksX17_passes_1 3 rfl rfl)
theorem dX17_passes_28 : decode cX17_passes 28 = .ok (.dup, 1) := dk_89 (dk_at dksX17_passes_1 4 rfl rfl)
theorem dX17_passes_29 : decode cX17_passes 29 = .ok (.getfield 64, 3) := dk_180 0 64 (dk_at dksX17_passes_1 5 rfl rfl)
theorem dX17_passes_32 : decode cX17_passes 32 = .ok (.aload_n 2, 1) := dk_44 (dk_at dksX17_passes_1 8 rfl rfl)
theorem dX17_passes_33 : decode cX17_passes 33 = .ok (.invokevirtual 67, 3) := dk_182 0 67 (dk_at dksX17_passes_1 9 rfl rfl)
theorem dX17_passes_36 : decode cX17_passes 36 = .ok (.invokestatic 71, 3) := dk_184 0 71 (dk_at dksX17_passes_1 12 rfl rfl)
theorem dX17_passes_39 : decode cX17_passes 39 = .ok (.iadd, 1) := dk_96 (dk_at dksX17_passes_1 15 rfl rfl)
theorem dX17_passes_40 : decode cX17_passes 40 = .ok (.putfield 64, 3) := dk_181 0 64 (dk_at dksX17_passes_1 16 rfl rfl)
theorem dX17_passes_43 : decode cX17_passes 43 = .ok (.iinc 3 1, 3) := dk_132 3 1 (dk_at dksX17_passes_1 19 rfl rfl)
theorem dX17_passes_46 : decode cX17_passes 46 = .ok (.goto (-27), 3) := dk_167 255 229 (dk_at dksX17_passes_2 0 rfl rfl)
theorem dX17_passes_49 : decode cX17_passes 49 = .ok (.aload_n 1, 1) := dk_43 (dk_at dksX17_passes_2 3 rfl rfl)
theorem dX17_passes_50 : decode cX17_passes 50 = .ok (.dup, 1) := dk_89 (dk_at dksX17_passes_2 4 rfl rfl)
theorem dX17_passes_51 : decode cX17_passes 51 = .ok (.getfield 76, 3) := dk_180 0 76 (dk_at dksX17_passes_2 5 rfl rfl)
theorem dX17_passes_54 : decode cX17_passes 54 = .ok (.aload_n 0, 1) := dk_42 (dk_at dksX17_passes_2 8 rfl rfl)
theorem dX17_passes_55 : decode cX17_passes 55 = .ok (.getfield 21, 3) := dk_180 0 21 (dk_at dksX17_passes_2 9 rfl rfl)
theorem dX17_passes_58 : decode cX17_passes 58 = .ok (.iadd, 1) := dk_96 (dk_at dksX17_passes_2 12 rfl rfl)
theorem dX17_passes_59 : decode cX17_passes 59 = .ok (.putfield 76, 3) := dk_181 0 76 (dk_at dksX17_passes_2 13 rfl rfl)
theorem dX17_passes_62 : decode cX17_passes 62 = .ok (.iconst 1, 1) := dk_4 (dk_at dksX17_passes_2 16 rfl rfl)
theorem dX17_passes_63 : decode cX17_passes 63 = .ok (.ireturn, 1) := dk_172 (dk_at dksX17_passes_2 17 rfl rfl)
abbrev cX17_buys : ByteArray := prog_2_method_4_code
def yX17_buys : MethodName := ⟨RX17, "buys", "(LCargoFlag$Living;LCargoFlag$World;)Z"⟩
def dkwX17_buys_1 : List UInt8 := [180, 0, 81, 42, 180, 0, 21, 96, 181, 0, 81, 4, 172]
abbrev dktX17_buys_1 : List UInt8 := dkwX17_buys_1 ++ []
def dkwX17_buys_0 : List UInt8 := [44, 42, 180, 0, 15, 42, 180, 0, 18, 42, 180, 0, 21, 182, 0, 79, 154, 0, 5, 3, 172, 43, 89]
abbrev dktX17_buys_0 : List UInt8 := dkwX17_buys_0 ++ dktX17_buys_1
theorem dksX17_buys_0 : cX17_buys.data.toList.drop 0 = dktX17_buys_0 := by decide +kernel
theorem dksX17_buys_1 : cX17_buys.data.toList.drop 23 = dktX17_buys_1 := dk_seg dksX17_buys_0 23 rfl rfl
theorem dX17_buys_0 : decode cX17_buys 0 = .ok (.aload_n 2, 1) := dk_44 (dk_at dksX17_buys_0 0 rfl rfl)
theorem dX17_buys_1 : decode cX17_buys 1 = .ok (.aload_n 0, 1) := dk_42 (dk_at dksX17_buys_0 1 rfl rfl)
theorem dX17_buys_2 : decode cX17_buys 2 = .ok (.getfield 15, 3) := dk_180 0 15 (dk_at dksX17_buys_0 2 rfl rfl)
theorem dX17_buys_5 : decode cX17_buys 5 = .ok (.aload_n 0, 1) := dk_42 (dk_at dksX17_buys_0 5 rfl rfl)
theorem dX17_buys_6 : decode cX17_buys 6 = .ok (.getfield 18, 3) := dk_180 0 18 (dk_at dksX17_buys_0 6 rfl rfl)
theorem dX17_buys_9 : decode cX17_buys 9 = .ok (.aload_n 0, 1) := dk_42 (dk_at dksX17_buys_0 9 rfl rfl)
theorem dX17_buys_10 : decode cX17_buys 10 = .ok (.getfield 21, 3) := dk_180 0 21 (dk_at dksX17_buys_0 10 rfl rfl)
theorem dX17_buys_13 : decode cX17_buys 13 = .ok (.invokevirtual 79, 3) := dk_182 0 79 (dk_at dksX17_buys_0 13 rfl rfl)
theorem dX17_buys_16 : decode cX17_buys 16 = .ok (.ifCond .ne 5, 3) := dk_154 0 5 (dk_at dksX17_buys_0 16 rfl rfl)
theorem dX17_buys_19 : decode cX17_buys 19 = .ok (.iconst 0, 1) := dk_3 (dk_at dksX17_buys_0 19 rfl rfl)
theorem dX17_buys_20 : decode cX17_buys 20 = .ok (.ireturn, 1) := dk_172 (dk_at dksX17_buys_0 20 rfl rfl)
theorem dX17_buys_21 : decode cX17_buys 21 = .ok (.aload_n 1, 1) := dk_43 (dk_at dksX17_buys_0 21 rfl rfl)
theorem dX17_buys_22 : decode cX17_buys 22 = .ok (.dup, 1) := dk_89 (dk_at dksX17_buys_0 22 rfl rfl)
theorem dX17_buys_23 : decode cX17_buys 23 = .ok (.getfield 81, 3) := dk_180 0 81 (dk_at dksX17_buys_1 0 rfl rfl)
theorem dX17_buys_26 : decode cX17_buys 26 = .ok (.aload_n 0, 1) := dk_42 (dk_at dksX17_buys_1 3 rfl rfl)
theorem dX17_buys_27 : decode cX17_buys 27 = .ok (.getfield 21, 3) := dk_180 0 21 (dk_at dksX17_buys_1 4 rfl rfl)
theorem dX17_buys_30 : decode cX17_buys 30 = .ok (.iadd, 1) := dk_96 (dk_at dksX17_buys_1 7 rfl rfl)
theorem dX17_buys_31 : decode cX17_buys 31 = .ok (.putfield 81, 3) := dk_181 0 81 (dk_at dksX17_buys_1 8 rfl rfl)
theorem dX17_buys_34 : decode cX17_buys 34 = .ok (.iconst 1, 1) := dk_4 (dk_at dksX17_buys_1 11 rfl rfl)
theorem dX17_buys_35 : decode cX17_buys 35 = .ok (.ireturn, 1) := dk_172 (dk_at dksX17_buys_1 12 rfl rfl)
theorem q205 : (Jvm.Cond.initialized "CargoFlag$Act") ∈ lw_all := lw_g (lw_at lw_m1 30 rfl) rfl
theorem q345 : (Jvm.Cond.fieldLinkNest "CargoFlag$Act" (50 : Nat) "CargoFlag$World" "ports" "I" "CargoFlag") ∈ lw_tbl := lw_at lw_m1 170 rfl
theorem q355 : (Jvm.Cond.fieldLinkNest "CargoFlag$Act" (61 : Nat) "CargoFlag$World" "day" "I" "CargoFlag") ∈ lw_tbl := lw_at lw_m1 180 rfl
theorem q1094 : (Jvm.Cond.instantiable "CargoFlag$Act" (4 : Nat)) ∈ lw_all := lw_g (lw_at lw_m4 199 rfl) rfl
theorem q1096 : (Jvm.Cond.instanceMethod ({ cls := "CargoFlag$Act", name := "<init>", desc := "(IIII)V" } : Jvm.MethodName)) ∈ lw_all := lw_g (lw_at lw_m4 201 rfl) rfl
theorem q1097 : (Jvm.Cond.code ({ cls := "CargoFlag$Act", name := "<init>", desc := "(IIII)V" } : Jvm.MethodName) prog_2_method_1_code (5 : Nat) (Option.none : Option Jvm.ClassFile.FieldType)) ∈ lw_all := lw_g (lw_at lw_m4 202 rfl) rfl
theorem q1098 : (Jvm.Cond.methodLinkNest "CargoFlag$Act" (3 : Nat) ({ cls := "CargoFlag$Step", name := "<init>", desc := "()V" } : Jvm.MethodName) "CargoFlag") ∈ lw_tbl := lw_at lw_m4 203 rfl
theorem q1099 : (Jvm.Cond.fieldLink "CargoFlag$Act" (9 : Nat) "CargoFlag$Act" "what" "I") ∈ lw_all := lw_g (lw_at lw_m4 204 rfl) rfl
theorem q1100 : (Jvm.Cond.fieldLink "CargoFlag$Act" (15 : Nat) "CargoFlag$Act" "ship" "I") ∈ lw_all := lw_g (lw_at lw_m4 205 rfl) rfl
theorem q1101 : (Jvm.Cond.fieldLink "CargoFlag$Act" (18 : Nat) "CargoFlag$Act" "other" "I") ∈ lw_all := lw_g (lw_at lw_m4 206 rfl) rfl
theorem q1102 : (Jvm.Cond.fieldLink "CargoFlag$Act" (21 : Nat) "CargoFlag$Act" "number" "I") ∈ lw_all := lw_g (lw_at lw_m4 207 rfl) rfl
theorem q1103 : (Jvm.Cond.laysFinal "CargoFlag$Act" "CargoFlag$Act" "what" "I") ∈ lw_all := lw_g (lw_at lw_m4 208 rfl) rfl
theorem q1104 : (Jvm.Cond.soleField "CargoFlag$Act" "what") ∈ lw_all := lw_g (lw_at lw_m4 209 rfl) rfl
theorem q1105 : (Jvm.Cond.laysFinal "CargoFlag$Act" "CargoFlag$Act" "ship" "I") ∈ lw_all := lw_g (lw_at lw_m4 210 rfl) rfl
theorem q1106 : (Jvm.Cond.soleField "CargoFlag$Act" "ship") ∈ lw_all := lw_g (lw_at lw_m4 211 rfl) rfl
theorem q1107 : (Jvm.Cond.laysFinal "CargoFlag$Act" "CargoFlag$Act" "other" "I") ∈ lw_all := lw_g (lw_at lw_m4 212 rfl) rfl
theorem q1108 : (Jvm.Cond.soleField "CargoFlag$Act" "other") ∈ lw_all := lw_g (lw_at lw_m4 213 rfl) rfl
theorem q1109 : (Jvm.Cond.laysFinal "CargoFlag$Act" "CargoFlag$Act" "number" "I") ∈ lw_all := lw_g (lw_at lw_m4 214 rfl) rfl
theorem q1110 : (Jvm.Cond.soleField "CargoFlag$Act" "number") ∈ lw_all := lw_g (lw_at lw_m4 215 rfl) rfl
theorem q1111 : (Jvm.Cond.superclass "CargoFlag$Act" "CargoFlag$Step") ∈ lw_all := lw_g (lw_at lw_m4 216 rfl) rfl
theorem q1577 : (Jvm.Cond.fieldLinkNest "CargoFlag$Act" (24 : Nat) "CargoFlag$Living" "world" "LCargoFlag$World;" "CargoFlag") ∈ lw_tbl := lw_at lw_m6 202 rfl
theorem q1582 : (Jvm.Cond.fieldLinkNest "CargoFlag$Act" (88 : Nat) "CargoFlag$Living" "missed" "I" "CargoFlag") ∈ lw_tbl := lw_at lw_m6 207 rfl
theorem q1584 : (Jvm.Cond.fieldLinkNest "CargoFlag$Act" (76 : Nat) "CargoFlag$Living" "days" "I" "CargoFlag") ∈ lw_tbl := lw_at lw_m6 209 rfl
theorem q1586 : (Jvm.Cond.fieldLinkNest "CargoFlag$Act" (81 : Nat) "CargoFlag$Living" "bought" "I" "CargoFlag") ∈ lw_tbl := lw_at lw_m6 211 rfl
theorem q1588 : (Jvm.Cond.fieldLinkNest "CargoFlag$Act" (64 : Nat) "CargoFlag$Living" "came" "I" "CargoFlag") ∈ lw_tbl := lw_at lw_m6 213 rfl
theorem q1591 : (Jvm.Cond.fieldLinkNest "CargoFlag$Act" (57 : Nat) "CargoFlag$Living" "isOver" "Z" "CargoFlag") ∈ lw_tbl := lw_at lw_m6 216 rfl
theorem q1624 : (Jvm.Cond.selects "CargoFlag$Act" ({ cls := "CargoFlag$Step", name := "go", desc := "(LCargoFlag$Living;)V" } : Jvm.MethodName) ({ cls := "CargoFlag$Step", name := "go", desc := "(LCargoFlag$Living;)V" } : Jvm.MethodName)) ∈ lw_all := lw_g (lw_at lw_m7 9 rfl) rfl
theorem q1631 : (Jvm.Cond.selects "CargoFlag$Act" ({ cls := "CargoFlag$Step", name := "does", desc := "(LCargoFlag$Living;)V" } : Jvm.MethodName) ({ cls := "CargoFlag$Act", name := "does", desc := "(LCargoFlag$Living;)V" } : Jvm.MethodName)) ∈ lw_all := lw_g (lw_at lw_m7 16 rfl) rfl
theorem q1632 : (Jvm.Cond.instanceMethod ({ cls := "CargoFlag$Act", name := "does", desc := "(LCargoFlag$Living;)V" } : Jvm.MethodName)) ∈ lw_all := lw_g (lw_at lw_m7 17 rfl) rfl
theorem q1633 : (Jvm.Cond.code ({ cls := "CargoFlag$Act", name := "does", desc := "(LCargoFlag$Living;)V" } : Jvm.MethodName) prog_2_method_5_code (2 : Nat) (Option.none : Option Jvm.ClassFile.FieldType)) ∈ lw_all := lw_g (lw_at lw_m7 18 rfl) rfl
theorem q1634 : (Jvm.Cond.methodLink "CargoFlag$Act" (84 : Nat) ({ cls := "CargoFlag$Act", name := "can", desc := "(LCargoFlag$Living;)Z" } : Jvm.MethodName)) ∈ lw_all := lw_g (lw_at lw_m7 19 rfl) rfl
theorem q1635 : (Jvm.Cond.privateMethod ({ cls := "CargoFlag$Act", name := "can", desc := "(LCargoFlag$Living;)Z" } : Jvm.MethodName)) ∈ lw_tbl := lw_at lw_m7 20 rfl
theorem q1636 : (Jvm.Cond.instanceMethod ({ cls := "CargoFlag$Act", name := "can", desc := "(LCargoFlag$Living;)Z" } : Jvm.MethodName)) ∈ lw_all := lw_g (lw_at lw_m7 21 rfl) rfl
theorem q1637 : (Jvm.Cond.code ({ cls := "CargoFlag$Act", name := "can", desc := "(LCargoFlag$Living;)Z" } : Jvm.MethodName) prog_2_method_2_code (3 : Nat) (Option.some Jvm.ClassFile.FieldType.boolean)) ∈ lw_all := lw_g (lw_at lw_m7 22 rfl) rfl
theorem q1638 : (Jvm.Cond.methodLink "CargoFlag$Act" (30 : Nat) ({ cls := "CargoFlag$Act", name := "passes", desc := "(LCargoFlag$Living;LCargoFlag$World;)Z" } : Jvm.MethodName)) ∈ lw_all := lw_g (lw_at lw_m7 23 rfl) rfl
theorem q1639 : (Jvm.Cond.privateMethod ({ cls := "CargoFlag$Act", name := "passes", desc := "(LCargoFlag$Living;LCargoFlag$World;)Z" } : Jvm.MethodName)) ∈ lw_tbl := lw_at lw_m7 24 rfl
theorem q1640 : (Jvm.Cond.instanceMethod ({ cls := "CargoFlag$Act", name := "passes", desc := "(LCargoFlag$Living;LCargoFlag$World;)Z" } : Jvm.MethodName)) ∈ lw_all := lw_g (lw_at lw_m7 25 rfl) rfl
theorem q1641 : (Jvm.Cond.code ({ cls := "CargoFlag$Act", name := "passes", desc := "(LCargoFlag$Living;LCargoFlag$World;)Z" } : Jvm.MethodName) prog_2_method_3_code (4 : Nat) (Option.some Jvm.ClassFile.FieldType.boolean)) ∈ lw_all := lw_g (lw_at lw_m7 26 rfl) rfl
theorem q1642 : (Jvm.Cond.methodLink "CargoFlag$Act" (67 : Nat) ({ cls := "CargoFlag$World", name := "goes", desc := "()I" } : Jvm.MethodName)) ∈ lw_all := lw_g (lw_at lw_m7 27 rfl) rfl
theorem q1643 : (Jvm.Cond.methodLink "CargoFlag$Act" (71 : Nat) ({ cls := "java/lang/Integer", name := "bitCount", desc := "(I)I" } : Jvm.MethodName)) ∈ lw_all := lw_g (lw_at lw_m7 28 rfl) rfl
theorem q1644 : (Jvm.Cond.methodLink "CargoFlag$Act" (34 : Nat) ({ cls := "CargoFlag$Act", name := "buys", desc := "(LCargoFlag$Living;LCargoFlag$World;)Z" } : Jvm.MethodName)) ∈ lw_all := lw_g (lw_at lw_m7 29 rfl) rfl
theorem q1645 : (Jvm.Cond.privateMethod ({ cls := "CargoFlag$Act", name := "buys", desc := "(LCargoFlag$Living;LCargoFlag$World;)Z" } : Jvm.MethodName)) ∈ lw_tbl := lw_at lw_m7 30 rfl
theorem q1646 : (Jvm.Cond.instanceMethod ({ cls := "CargoFlag$Act", name := "buys", desc := "(LCargoFlag$Living;LCargoFlag$World;)Z" } : Jvm.MethodName)) ∈ lw_all := lw_g (lw_at lw_m7 31 rfl) rfl
theorem q1647 : (Jvm.Cond.code ({ cls := "CargoFlag$Act", name := "buys", desc := "(LCargoFlag$Living;LCargoFlag$World;)Z" } : Jvm.MethodName) prog_2_method_4_code (3 : Nat) (Option.some Jvm.ClassFile.FieldType.boolean)) ∈ lw_all := lw_g (lw_at lw_m7 32 rfl) rfl
theorem q1648 : (Jvm.Cond.methodLink "CargoFlag$Act" (79 : Nat) ({ cls := "CargoFlag$World", name := "buys", desc := "(III)Z" } : Jvm.MethodName)) ∈ lw_all := lw_g (lw_at lw_m7 33 rfl) rfl
theorem q1649 : (Jvm.Cond.methodLink "CargoFlag$Act" (37 : Nat) ({ cls := "CargoFlag$World", name := "sells", desc := "(III)Z" } : Jvm.MethodName)) ∈ lw_all := lw_g (lw_at lw_m7 34 rfl) rfl
theorem q1650 : (Jvm.Cond.methodLink "CargoFlag$Act" (43 : Nat) ({ cls := "CargoFlag$World", name := "dumps", desc := "(III)Z" } : Jvm.MethodName)) ∈ lw_all := lw_g (lw_at lw_m7 35 rfl) rfl
theorem q1651 : (Jvm.Cond.methodLink "CargoFlag$Act" (46 : Nat) ({ cls := "CargoFlag$World", name := "sails", desc := "(II)Z" } : Jvm.MethodName)) ∈ lw_all := lw_g (lw_at lw_m7 36 rfl) rfl
theorem q1652 : (Jvm.Cond.methodLink "CargoFlag$Act" (53 : Nat) ({ cls := "CargoFlag$Living", name := "draw", desc := "(I)I" } : Jvm.MethodName)) ∈ lw_all := lw_g (lw_at lw_m7 37 rfl) rfl
theorem q2553 : (Jvm.Cond.castable "CargoFlag$Act" "CargoFlag$Step") ∈ lw_tbl := lw_at lw_m10 218 rfl
theorem in_X17 : ∀ w ∈ wsX170, w ∈ lw_all := lw_in wsX170 [1103, 1105, 1107, 1109] (by decide +kernel) (by decide +kernel)

/-! CargoFlag$Living -/
set_option maxRecDepth 100000
def RX18 : String := "CargoFlag$Living"
def TX18 : u_T := fun k => match k with
  | 0 => ("CargoFlag$Living", "world", "LCargoFlag$World;", true)
  | 1 => ("CargoFlag$Living", "state", "I", false)
  | 2 => ("CargoFlag$Living", "done", "I", false)
  | 3 => ("CargoFlag$Living", "missed", "I", false)
  | 4 => ("CargoFlag$Living", "days", "I", false)
  | 5 => ("CargoFlag$Living", "bought", "I", false)
  | 6 => ("CargoFlag$Living", "came", "I", false)
  | 7 => ("CargoFlag$Living", "isOver", "Z", false)
  | _ => ("CargoFlag$Living", "isLeft", "Z", false)
def tyX18 : Nat → FieldType := fun k => match k with
  | 0 => .object "CargoFlag$World"
  | 1 => .int
  | 2 => .int
  | 3 => .int
  | 4 => .int
  | 5 => .int
  | 6 => .int
  | 7 => .boolean
  | _ => .boolean
abbrev wsX180 : List Cond := u_ws RX18 TX18 9
theorem nmX18 : ∀ a, a < 9 → ∀ b, b < 9 → a ≠ b → (TX18 a).2.1 ≠ (TX18 b).2.1 := by decide +kernel
theorem tyX18_ok : ∀ k, k < 9 → parseFieldDescriptor (TX18 k).2.2.1 = some (tyX18 k) := by decide +kernel
abbrev cX18_init : ByteArray := prog_7_method_1_code
def yX18_init : MethodName := ⟨RX18, "<init>", "(LCargoFlag$World;I)V"⟩
def dkwX18_init_0 : List UInt8 := [42, 183, 0, 1, 42, 43, 181, 0, 7, 42, 28, 181, 0, 13, 177]
abbrev dktX18_init_0 : List UInt8 := dkwX18_init_0 ++ []
theorem dksX18_init_0 : cX18_init.data.toList.drop 0 = dktX18_init_0 := by decide +kernel
theorem dX18_init_0 : decode cX18_init 0 = .ok (.aload_n 0, 1) := dk_42 (dk_at dksX18_init_0 0 rfl rfl)
theorem dX18_init_1 : decode cX18_init 1 = .ok (.invokespecial 1, 3) := dk_183 0 1 (dk_at dksX18_init_0 1 rfl rfl)
theorem dX18_init_4 : decode cX18_init 4 = .ok (.aload_n 0, 1) := dk_42 (dk_at dksX18_init_0 4 rfl rfl)
theorem dX18_init_5 : decode cX18_init 5 = .ok (.aload_n 1, 1) := dk_43 (dk_at dksX18_init_0 5 rfl rfl)
theorem dX18_init_6 : decode cX18_init 6 = .ok (.putfield 7, 3) := dk_181 0 7 (dk_at dksX18_init_0 6 rfl rfl)
theorem dX18_init_9 : decode cX18_init 9 = .ok (.aload_n 0, 1) := dk_42 (dk_at dksX18_init_0 9 rfl rfl)
theorem dX18_init_10 : decode cX18_init 10 = .ok (.iload_n 2, 1) := dk_28 (dk_at dksX18_init_0 10 rfl rfl)
theorem dX18_init_11 : decode cX18_init 11 = .ok (.putfield 13, 3) := dk_181 0 13 (dk_at dksX18_init_0 11 rfl rfl)
theorem dX18_init_14 : decode cX18_init 14 = .ok (.return_, 1) := dk_177 (dk_at dksX18_init_0 14 rfl rfl)
abbrev cX18_draw : ByteArray := prog_7_method_2_code
def yX18_draw : MethodName := ⟨RX18, "draw", "(I)I"⟩
def dkwX18_draw_1 : List UInt8 := [16, 8, 108, 27, 112, 172]
abbrev dktX18_draw_1 : List UInt8 := dkwX18_draw_1 ++ []
def dkwX18_draw_0 : List UInt8 := [42, 42, 180, 0, 13, 17, 11, 207, 104, 17, 43, 243, 96, 18, 17, 112, 181, 0, 13, 42, 180, 0, 13]
abbrev dktX18_draw_0 : List UInt8 := dkwX18_draw_0 ++ dktX18_draw_1
theorem dksX18_draw_0 : cX18_draw.data.toList.drop 0 = dktX18_draw_0 := by decide +kernel
theorem dksX18_draw_1 : cX18_draw.data.toList.drop 23 = dktX18_draw_1 := dk_seg dksX18_draw_0 23 rfl rfl
theorem dX18_draw_0 : decode cX18_draw 0 = .ok (.aload_n 0, 1) := dk_42 (dk_at dksX18_draw_0 0 rfl rfl)
theorem dX18_draw_1 : decode cX18_draw 1 = .ok (.aload_n 0, 1) := dk_42 (dk_at dksX18_draw_0 1 rfl rfl)
theorem dX18_draw_2 : decode cX18_draw 2 = .ok (.getfield 13, 3) := dk_180 0 13 (dk_at dksX18_draw_0 2 rfl rfl)
theorem dX18_draw_5 : decode cX18_draw 5 = .ok (.sipush 3023, 3) := dk_17 11 207 (dk_at dksX18_draw_0 5 rfl rfl)
theorem dX18_draw_8 : decode cX18_draw 8 = .ok (.imul, 1) := dk_104 (dk_at dksX18_draw_0 8 rfl rfl)
theorem dX18_draw_9 : decode cX18_draw 9 = .ok (.sipush 11251, 3) := dk_17 43 243 (dk_at dksX18_draw_0 9 rfl rfl)
theorem dX18_draw_12 : decode cX18_draw 12 = .ok (.iadd, 1) := dk_96 (dk_at dksX18_draw_0 12 rfl rfl)
theorem dX18_draw_13 : decode cX18_draw 13 = .ok (.ldc 17, 2) := dk_18 17 (dk_at dksX18_draw_0 13 rfl rfl)
theorem dX18_draw_15 : decode cX18_draw 15 = .ok (.irem, 1) := dk_112 (dk_at dksX18_draw_0 15 rfl rfl)
theorem dX18_draw_16 : decode cX18_draw 16 = .ok (.putfield 13, 3) := dk_181 0 13 (dk_at dksX18_draw_0 16 rfl rfl)
theorem dX18_draw_19 : decode cX18_draw 19 = .ok (.aload_n 0, 1) := dk_42 (dk_at dksX18_draw_0 19 rfl rfl)
theorem dX18_draw_20 : decode cX18_draw 20 = .ok (.getfield 13, 3) := dk_180 0 13 (dk_at dksX18_draw_0 20 rfl rfl)
theorem dX18_draw_23 : decode cX18_draw 23 = .ok (.bipush 8, 2) := dk_16 8 (dk_at dksX18_draw_1 0 rfl rfl)
theorem dX18_draw_25 : decode cX18_draw 25 = .ok (.idiv, 1) := dk_108 (dk_at dksX18_draw_1 2 rfl rfl)
theorem dX18_draw_26 : decode cX18_draw 26 = .ok (.iload_n 1, 1) := dk_27 (dk_at dksX18_draw_1 3 rfl rfl)
theorem dX18_draw_27 : decode cX18_draw 27 = .ok (.irem, 1) := dk_112 (dk_at dksX18_draw_1 4 rfl rfl)
theorem dX18_draw_28 : decode cX18_draw 28 = .ok (.ireturn, 1) := dk_172 (dk_at dksX18_draw_1 5 rfl rfl)
theorem q208 : (Jvm.Cond.initialized "CargoFlag$Living") ∈ lw_all := lw_g (lw_at lw_m1 33 rfl) rfl
theorem q1571 : (Jvm.Cond.instantiable "CargoFlag$Living" (9 : Nat)) ∈ lw_all := lw_g (lw_at lw_m6 196 rfl) rfl
theorem q1573 : (Jvm.Cond.instanceMethod ({ cls := "CargoFlag$Living", name := "<init>", desc := "(LCargoFlag$World;I)V" } : Jvm.MethodName)) ∈ lw_all := lw_g (lw_at lw_m6 198 rfl) rfl
theorem q1574 : (Jvm.Cond.code ({ cls := "CargoFlag$Living", name := "<init>", desc := "(LCargoFlag$World;I)V" } : Jvm.MethodName) prog_7_method_1_code (3 : Nat) (Option.none : Option Jvm.ClassFile.FieldType)) ∈ lw_all := lw_g (lw_at lw_m6 199 rfl) rfl
theorem q1575 : (Jvm.Cond.methodLink "CargoFlag$Living" (1 : Nat) ({ cls := "java/lang/Object", name := "<init>", desc := "()V" } : Jvm.MethodName)) ∈ lw_all := lw_g (lw_at lw_m6 200 rfl) rfl
theorem q1576 : (Jvm.Cond.fieldLink "CargoFlag$Living" (7 : Nat) "CargoFlag$Living" "world" "LCargoFlag$World;") ∈ lw_all := lw_g (lw_at lw_m6 201 rfl) rfl
theorem q1579 : (Jvm.Cond.fieldLink "CargoFlag$Living" (13 : Nat) "CargoFlag$Living" "state" "I") ∈ lw_all := lw_g (lw_at lw_m6 204 rfl) rfl
theorem q1596 : (Jvm.Cond.laysFinal "CargoFlag$Living" "CargoFlag$Living" "world" "LCargoFlag$World;") ∈ lw_all := lw_g (lw_at lw_m6 221 rfl) rfl
theorem q1597 : (Jvm.Cond.soleField "CargoFlag$Living" "world") ∈ lw_all := lw_g (lw_at lw_m6 222 rfl) rfl
theorem q1598 : (Jvm.Cond.lays "CargoFlag$Living" "CargoFlag$Living" "state" "I") ∈ lw_all := lw_g (lw_at lw_m6 223 rfl) rfl
theorem q1599 : (Jvm.Cond.soleField "CargoFlag$Living" "state") ∈ lw_all := lw_g (lw_at lw_m6 224 rfl) rfl
theorem q1600 : (Jvm.Cond.lays "CargoFlag$Living" "CargoFlag$Living" "done" "I") ∈ lw_all := lw_g (lw_at lw_m6 225 rfl) rfl
theorem q1601 : (Jvm.Cond.soleField "CargoFlag$Living" "done") ∈ lw_all := lw_g (lw_at lw_m6 226 rfl) rfl
theorem q1602 : (Jvm.Cond.lays "CargoFlag$Living" "CargoFlag$Living" "missed" "I") ∈ lw_all := lw_g (lw_at lw_m6 227 rfl) rfl
theorem q1603 : (Jvm.Cond.soleField "CargoFlag$Living" "missed") ∈ lw_all := lw_g (lw_at lw_m6 228 rfl) rfl
theorem q1604 : (Jvm.Cond.lays "CargoFlag$Living" "CargoFlag$Living" "days" "I") ∈ lw_all := lw_g (lw_at lw_m6 229 rfl) rfl
theorem q1605 : (Jvm.Cond.soleField "CargoFlag$Living" "days") ∈ lw_all := lw_g (lw_at lw_m6 230 rfl) rfl
theorem q1606 : (Jvm.Cond.lays "CargoFlag$Living" "CargoFlag$Living" "bought" "I") ∈ lw_all := lw_g (lw_at lw_m6 231 rfl) rfl
theorem q1607 : (Jvm.Cond.soleField "CargoFlag$Living" "bought") ∈ lw_all := lw_g (lw_at lw_m6 232 rfl) rfl
theorem q1608 : (Jvm.Cond.lays "CargoFlag$Living" "CargoFlag$Living" "came" "I") ∈ lw_all := lw_g (lw_at lw_m6 233 rfl) rfl
theorem q1609 : (Jvm.Cond.soleField "CargoFlag$Living" "came") ∈ lw_all := lw_g (lw_at lw_m6 234 rfl) rfl
theorem q1610 : (Jvm.Cond.lays "CargoFlag$Living" "CargoFlag$Living" "isOver" "Z") ∈ lw_all := lw_g (lw_at lw_m6 235 rfl) rfl
theorem q1611 : (Jvm.Cond.soleField "CargoFlag$Living" "isOver") ∈ lw_all := lw_g (lw_at lw_m6 236 rfl) rfl
theorem q1612 : (Jvm.Cond.lays "CargoFlag$Living" "CargoFlag$Living" "isLeft" "Z") ∈ lw_all := lw_g (lw_at lw_m6 237 rfl) rfl
theorem q1613 : (Jvm.Cond.soleField "CargoFlag$Living" "isLeft") ∈ lw_all := lw_g (lw_at lw_m6 238 rfl) rfl
theorem q1614 : (Jvm.Cond.superclass "CargoFlag$Living" "java/lang/Object") ∈ lw_all := lw_g (lw_at lw_m6 239 rfl) rfl
theorem q1653 : (Jvm.Cond.instanceMethod ({ cls := "CargoFlag$Living", name := "draw", desc := "(I)I" } : Jvm.MethodName)) ∈ lw_all := lw_g (lw_at lw_m7 38 rfl) rfl
theorem q1654 : (Jvm.Cond.selects "CargoFlag$Living" ({ cls := "CargoFlag$Living", name := "draw", desc := "(I)I" } : Jvm.MethodName) ({ cls := "CargoFlag$Living", name := "draw", desc := "(I)I" } : Jvm.MethodName)) ∈ lw_all := lw_g (lw_at lw_m7 39 rfl) rfl
theorem q1655 : (Jvm.Cond.code ({ cls := "CargoFlag$Living", name := "draw", desc := "(I)I" } : Jvm.MethodName) prog_7_method_2_code (2 : Nat) (Option.some Jvm.ClassFile.FieldType.int)) ∈ lw_all := lw_g (lw_at lw_m7 40 rfl) rfl
theorem q1656 : (Jvm.Cond.constant "CargoFlag$Living" (17 : Nat) (65536 : Int32)) ∈ lw_all := lw_g (lw_at lw_m7 41 rfl) rfl
theorem in_X18 : ∀ w ∈ wsX180, w ∈ lw_all := lw_in wsX180 [1596, 1598, 1600, 1602, 1604, 1606, 1608, 1610, 1612] (by decide +kernel) (by decide +kernel)

/-! CargoFlag$Bad -/
set_option maxRecDepth 100000
def RX2 : String := "CargoFlag$Bad"
def TX2 : u_T := fun k => match k with
  | 0 => ("java/lang/Throwable", "cause", "Ljava/lang/Throwable;", false)
  | 1 => ("java/lang/Throwable", "stackTrace", "[Ljava/lang/StackTraceElement;", false)
  | 2 => ("java/lang/Throwable", "suppressedExceptions", "Ljava/util/List;", false)
  | 3 => ("java/lang/Throwable", "detailMessage", "Ljava/lang/String;", false)
  | 4 => ("java/lang/Throwable", "backtrace", "Ljava/lang/Object;", false)
  | 5 => ("java/lang/Throwable", "depth", "I", false)
  | 6 => ("CargoFlag$Bad", "kind", "I", false)
  | _ => ("CargoFlag$Bad", "place", "I", false)
def tyX2 : Nat → FieldType := fun k => match k with
  | 0 => .object "java/lang/Throwable"
  | 1 => .array (.object "java/lang/StackTraceElement")
  | 2 => .object "java/util/List"
  | 3 => .object "java/lang/String"
  | 4 => .object "java/lang/Object"
  | 5 => .int
  | 6 => .int
  | _ => .int
abbrev wsX20 : List Cond := u_ws RX2 TX2 8
theorem nmX2 : ∀ a, a < 8 → ∀ b, b < 8 → a ≠ b → (TX2 a).2.1 ≠ (TX2 b).2.1 := by decide +kernel
theorem tyX2_ok : ∀ k, k < 8 → parseFieldDescriptor (TX2 k).2.2.1 = some (tyX2 k) := by decide +kernel
abbrev cX2_init : ByteArray := prog_3_method_1_code
def yX2_init : MethodName := ⟨RX2, "<init>", "()V"⟩
def dkwX2_init_0 : List UInt8 := [42, 1, 1, 3, 3, 183, 0, 1, 177]
abbrev dktX2_init_0 : List UInt8 := dkwX2_init_0 ++ []
theorem dksX2_init_0 : cX2_init.data.toList.drop 0 = dktX2_init_0 := by decide +kernel
theorem dX2_init_0 : decode cX2_init 0 = .ok (.aload_n 0, 1) := dk_42 (dk_at dksX2_init_0 0 rfl rfl)
theorem dX2_init_1 : decode cX2_init 1 = .ok (.aconst_null, 1) := dk_1 (dk_at dksX2_init_0 1 rfl rfl)
theorem dX2_init_2 : decode cX2_init 2 = .ok (.aconst_null, 1) := dk_1 (dk_at dksX2_init_0 2 rfl rfl)
theorem dX2_init_3 : decode cX2_init 3 = .ok (.iconst 0, 1) := dk_3 (dk_at dksX2_init_0 3 rfl rfl)
theorem dX2_init_4 : decode cX2_init 4 = .ok (.iconst 0, 1) := dk_3 (dk_at dksX2_init_0 4 rfl rfl)
theorem dX2_init_5 : decode cX2_init 5 = .ok (.invokespecial 1, 3) := dk_183 0 1 (dk_at dksX2_init_0 5 rfl rfl)
theorem dX2_init_8 : decode cX2_init 8 = .ok (.return_, 1) := dk_177 (dk_at dksX2_init_0 8 rfl rfl)
abbrev cX2_at : ByteArray := prog_3_method_2_code
def yX2_at : MethodName := ⟨RX2, "at", "(II)LCargoFlag$Bad;"⟩
def dkwX2_at_0 : List UInt8 := [42, 27, 181, 0, 7, 42, 28, 181, 0, 13, 42, 176]
abbrev dktX2_at_0 : List UInt8 := dkwX2_at_0 ++ []
theorem dksX2_at_0 : cX2_at.data.toList.drop 0 = dktX2_at_0 := by decide +kernel
theorem dX2_at_0 : decode cX2_at 0 = .ok (.aload_n 0, 1) := dk_42 (dk_at dksX2_at_0 0 rfl rfl)
theorem dX2_at_1 : decode cX2_at 1 = .ok (.iload_n 1, 1) := dk_27 (dk_at dksX2_at_0 1 rfl rfl)
theorem dX2_at_2 : decode cX2_at 2 = .ok (.putfield 7, 3) := dk_181 0 7 (dk_at dksX2_at_0 2 rfl rfl)
theorem dX2_at_5 : decode cX2_at 5 = .ok (.aload_n 0, 1) := dk_42 (dk_at dksX2_at_0 5 rfl rfl)
theorem dX2_at_6 : decode cX2_at 6 = .ok (.iload_n 2, 1) := dk_28 (dk_at dksX2_at_0 6 rfl rfl)
theorem dX2_at_7 : decode cX2_at 7 = .ok (.putfield 13, 3) := dk_181 0 13 (dk_at dksX2_at_0 7 rfl rfl)
theorem dX2_at_10 : decode cX2_at 10 = .ok (.aload_n 0, 1) := dk_42 (dk_at dksX2_at_0 10 rfl rfl)
theorem dX2_at_11 : decode cX2_at 11 = .ok (.areturn, 1) := dk_176 (dk_at dksX2_at_0 11 rfl rfl)
theorem q180 : (Jvm.Cond.initialized "CargoFlag$Bad") ∈ lw_all := lw_g (lw_at lw_m1 5 rfl) rfl
theorem q229 : (Jvm.Cond.instantiable "CargoFlag$Bad" (8 : Nat)) ∈ lw_all := lw_g (lw_at lw_m1 54 rfl) rfl
theorem q230 : (Jvm.Cond.castable "CargoFlag$Bad" "CargoFlag$Bad") ∈ lw_tbl := lw_at lw_m1 55 rfl
theorem q235 : (Jvm.Cond.selects "CargoFlag$Bad" ({ cls := "java/lang/Throwable", name := "fillInStackTrace", desc := "(I)Ljava/lang/Throwable;" } : Jvm.MethodName) ({ cls := "java/lang/Throwable", name := "fillInStackTrace", desc := "(I)Ljava/lang/Throwable;" } : Jvm.MethodName)) ∈ lw_all := lw_g (lw_at lw_m1 60 rfl) rfl
theorem q236 : (Jvm.Cond.selects "CargoFlag$Bad" ({ cls := "java/lang/Throwable", name := "fillInStackTrace", desc := "()Ljava/lang/Throwable;" } : Jvm.MethodName) ({ cls := "java/lang/Throwable", name := "fillInStackTrace", desc := "()Ljava/lang/Throwable;" } : Jvm.MethodName)) ∈ lw_all := lw_g (lw_at lw_m1 61 rfl) rfl
theorem q237 : (Jvm.Cond.lays "CargoFlag$Bad" "java/lang/Throwable" "cause" "Ljava/lang/Throwable;") ∈ lw_all := lw_g (lw_at lw_m1 62 rfl) rfl
theorem q239 : (Jvm.Cond.lays "CargoFlag$Bad" "java/lang/Throwable" "stackTrace" "[Ljava/lang/StackTraceElement;") ∈ lw_all := lw_g (lw_at lw_m1 64 rfl) rfl
theorem q241 : (Jvm.Cond.lays "CargoFlag$Bad" "java/lang/Throwable" "suppressedExceptions" "Ljava/util/List;") ∈ lw_all := lw_g (lw_at lw_m1 66 rfl) rfl
theorem q243 : (Jvm.Cond.lays "CargoFlag$Bad" "java/lang/Throwable" "detailMessage" "Ljava/lang/String;") ∈ lw_all := lw_g (lw_at lw_m1 68 rfl) rfl
theorem q245 : (Jvm.Cond.lays "CargoFlag$Bad" "java/lang/Throwable" "backtrace" "Ljava/lang/Object;") ∈ lw_all := lw_g (lw_at lw_m1 70 rfl) rfl
theorem q269 : (Jvm.Cond.instanceMethod ({ cls := "CargoFlag$Bad", name := "<init>", desc := "()V" } : Jvm.MethodName)) ∈ lw_all := lw_g (lw_at lw_m1 94 rfl) rfl
theorem q270 : (Jvm.Cond.code ({ cls := "CargoFlag$Bad", name := "<init>", desc := "()V" } : Jvm.MethodName) prog_3_method_1_code (1 : Nat) (Option.none : Option Jvm.ClassFile.FieldType)) ∈ lw_all := lw_g (lw_at lw_m1 95 rfl) rfl
theorem q271 : (Jvm.Cond.methodLink "CargoFlag$Bad" (1 : Nat) ({ cls := "java/lang/Exception", name := "<init>", desc := "(Ljava/lang/String;Ljava/lang/Throwable;ZZ)V" } : Jvm.MethodName)) ∈ lw_all := lw_g (lw_at lw_m1 96 rfl) rfl
theorem q277 : (Jvm.Cond.fieldLink "CargoFlag$Bad" (7 : Nat) "CargoFlag$Bad" "kind" "I") ∈ lw_all := lw_g (lw_at lw_m1 102 rfl) rfl
theorem q279 : (Jvm.Cond.fieldLink "CargoFlag$Bad" (13 : Nat) "CargoFlag$Bad" "place" "I") ∈ lw_all := lw_g (lw_at lw_m1 104 rfl) rfl
theorem q286 : (Jvm.Cond.lays "CargoFlag$Bad" "CargoFlag$Bad" "kind" "I") ∈ lw_all := lw_g (lw_at lw_m1 111 rfl) rfl
theorem q287 : (Jvm.Cond.soleField "CargoFlag$Bad" "kind") ∈ lw_all := lw_g (lw_at lw_m1 112 rfl) rfl
theorem q288 : (Jvm.Cond.lays "CargoFlag$Bad" "CargoFlag$Bad" "place" "I") ∈ lw_all := lw_g (lw_at lw_m1 113 rfl) rfl
theorem q289 : (Jvm.Cond.soleField "CargoFlag$Bad" "place") ∈ lw_all := lw_g (lw_at lw_m1 114 rfl) rfl
theorem q294 : (Jvm.Cond.lays "CargoFlag$Bad" "java/lang/Throwable" "depth" "I") ∈ lw_all := lw_g (lw_at lw_m1 119 rfl) rfl
theorem q297 : (Jvm.Cond.superclass "CargoFlag$Bad" "java/lang/Exception") ∈ lw_all := lw_g (lw_at lw_m1 122 rfl) rfl
theorem q779 : (Jvm.Cond.instanceMethod ({ cls := "CargoFlag$Bad", name := "at", desc := "(II)LCargoFlag$Bad;" } : Jvm.MethodName)) ∈ lw_all := lw_g (lw_at lw_m3 124 rfl) rfl
theorem q780 : (Jvm.Cond.selects "CargoFlag$Bad" ({ cls := "CargoFlag$Bad", name := "at", desc := "(II)LCargoFlag$Bad;" } : Jvm.MethodName) ({ cls := "CargoFlag$Bad", name := "at", desc := "(II)LCargoFlag$Bad;" } : Jvm.MethodName)) ∈ lw_all := lw_g (lw_at lw_m3 125 rfl) rfl
theorem q781 : (Jvm.Cond.code ({ cls := "CargoFlag$Bad", name := "at", desc := "(II)LCargoFlag$Bad;" } : Jvm.MethodName) prog_3_method_2_code (3 : Nat) (Option.some (Jvm.ClassFile.FieldType.object "CargoFlag$Bad"))) ∈ lw_all := lw_g (lw_at lw_m3 126 rfl) rfl
theorem in_X2 : ∀ w ∈ wsX20, w ∈ lw_all := lw_in wsX20 [237, 239, 241, 243, 245, 294, 286, 288] (by decide +kernel) (by decide +kernel)

/-! CargoFlag$Refused -/
set_option maxRecDepth 100000
def RX3 : String := "CargoFlag$Refused"
def TX3 : u_T := fun k => match k with
  | 0 => ("java/lang/Throwable", "cause", "Ljava/lang/Throwable;", false)
  | 1 => ("java/lang/Throwable", "stackTrace", "[Ljava/lang/StackTraceElement;", false)
  | 2 => ("java/lang/Throwable", "suppressedExceptions", "Ljava/util/List;", false)
  | 3 => ("java/lang/Throwable", "detailMessage", "Ljava/lang/String;", false)
  | 4 => ("java/lang/Throwable", "backtrace", "Ljava/lang/Object;", false)
  | 5 => ("java/lang/Throwable", "depth", "I", false)
  | _ => ("CargoFlag$Refused", "why", "I", false)
def tyX3 : Nat → FieldType := fun k => match k with
  | 0 => .object "java/lang/Throwable"
  | 1 => .array (.object "java/lang/StackTraceElement")
  | 2 => .object "java/util/List"
  | 3 => .object "java/lang/String"
  | 4 => .object "java/lang/Object"
  | 5 => .int
  | _ => .int
abbrev wsX30 : List Cond := u_ws RX3 TX3 7
theorem nmX3 : ∀ a, a < 7 → ∀ b, b < 7 → a ≠ b → (TX3 a).2.1 ≠ (TX3 b).2.1 := by decide +kernel
theorem tyX3_ok : ∀ k, k < 7 → parseFieldDescriptor (TX3 k).2.2.1 = some (tyX3 k) := by decide +kernel
abbrev cX3_init : ByteArray := prog_13_method_1_code
def yX3_init : MethodName := ⟨RX3, "<init>", "()V"⟩
def dkwX3_init_0 : List UInt8 := [42, 1, 1, 3, 3, 183, 0, 1, 177]
abbrev dktX3_init_0 : List UInt8 := dkwX3_init_0 ++ []
theorem dksX3_init_0 : cX3_init.data.toList.drop 0 = dktX3_init_0 := by decide +kernel
theorem dX3_init_0 : decode cX3_init 0 = .ok (.aload_n 0, 1) := dk_42 (dk_at dksX3_init_0 0 rfl rfl)
theorem dX3_init_1 : decode cX3_init 1 = .ok (.aconst_null, 1) := dk_1 (dk_at dksX3_init_0 1 rfl rfl)
theorem dX3_init_2 : decode cX3_init 2 = .ok (.aconst_null, 1) := dk_1 (dk_at dksX3_init_0 2 rfl rfl)
theorem dX3_init_3 : decode cX3_init 3 = .ok (.iconst 0, 1) := dk_3 (dk_at dksX3_init_0 3 rfl rfl)
theorem dX3_init_4 : decode cX3_init 4 = .ok (.iconst 0, 1) := dk_3 (dk_at dksX3_init_0 4 rfl rfl)
theorem dX3_init_5 : decode cX3_init 5 = .ok (.invokespecial 1, 3) := dk_183 0 1 (dk_at dksX3_init_0 5 rfl rfl)
theorem dX3_init_8 : decode cX3_init 8 = .ok (.return_, 1) := dk_177 (dk_at dksX3_init_0 8 rfl rfl)
abbrev cX3_by : ByteArray := prog_13_method_2_code
def yX3_by : MethodName := ⟨RX3, "by", "(I)LCargoFlag$Refused;"⟩
def dkwX3_by_0 : List UInt8 := [42, 27, 181, 0, 7, 42, 176]
abbrev dktX3_by_0 : List UInt8 := dkwX3_by_0 ++ []
theorem dksX3_by_0 : cX3_by.data.toList.drop 0 = dktX3_by_0 := by decide +kernel
theorem dX3_by_0 : decode cX3_by 0 = .ok (.aload_n 0, 1) := dk_42 (dk_at dksX3_by_0 0 rfl rfl)
theorem dX3_by_1 : decode cX3_by 1 = .ok (.iload_n 1, 1) := dk_27 (dk_at dksX3_by_0 1 rfl rfl)
theorem dX3_by_2 : decode cX3_by 2 = .ok (.putfield 7, 3) := dk_181 0 7 (dk_at dksX3_by_0 2 rfl rfl)
theorem dX3_by_5 : decode cX3_by 5 = .ok (.aload_n 0, 1) := dk_42 (dk_at dksX3_by_0 5 rfl rfl)
theorem dX3_by_6 : decode cX3_by 6 = .ok (.areturn, 1) := dk_176 (dk_at dksX3_by_0 6 rfl rfl)
theorem q181 : (Jvm.Cond.initialized "CargoFlag$Refused") ∈ lw_all := lw_g (lw_at lw_m1 6 rfl) rfl
theorem q259 : (Jvm.Cond.selects "CargoFlag$Refused" ({ cls := "java/lang/Throwable", name := "fillInStackTrace", desc := "()Ljava/lang/Throwable;" } : Jvm.MethodName) ({ cls := "java/lang/Throwable", name := "fillInStackTrace", desc := "()Ljava/lang/Throwable;" } : Jvm.MethodName)) ∈ lw_all := lw_g (lw_at lw_m1 84 rfl) rfl
theorem q300 : (Jvm.Cond.instantiable "CargoFlag$Refused" (7 : Nat)) ∈ lw_all := lw_g (lw_at lw_m1 125 rfl) rfl
theorem q301 : (Jvm.Cond.castable "CargoFlag$Refused" "CargoFlag$Refused") ∈ lw_tbl := lw_at lw_m1 126 rfl
theorem q302 : (Jvm.Cond.selects "CargoFlag$Refused" ({ cls := "java/lang/Throwable", name := "fillInStackTrace", desc := "(I)Ljava/lang/Throwable;" } : Jvm.MethodName) ({ cls := "java/lang/Throwable", name := "fillInStackTrace", desc := "(I)Ljava/lang/Throwable;" } : Jvm.MethodName)) ∈ lw_all := lw_g (lw_at lw_m1 127 rfl) rfl
theorem q303 : (Jvm.Cond.lays "CargoFlag$Refused" "java/lang/Throwable" "cause" "Ljava/lang/Throwable;") ∈ lw_all := lw_g (lw_at lw_m1 128 rfl) rfl
theorem q304 : (Jvm.Cond.lays "CargoFlag$Refused" "java/lang/Throwable" "stackTrace" "[Ljava/lang/StackTraceElement;") ∈ lw_all := lw_g (lw_at lw_m1 129 rfl) rfl
theorem q305 : (Jvm.Cond.lays "CargoFlag$Refused" "java/lang/Throwable" "suppressedExceptions" "Ljava/util/List;") ∈ lw_all := lw_g (lw_at lw_m1 130 rfl) rfl
theorem q306 : (Jvm.Cond.lays "CargoFlag$Refused" "java/lang/Throwable" "detailMessage" "Ljava/lang/String;") ∈ lw_all := lw_g (lw_at lw_m1 131 rfl) rfl
theorem q307 : (Jvm.Cond.lays "CargoFlag$Refused" "java/lang/Throwable" "backtrace" "Ljava/lang/Object;") ∈ lw_all := lw_g (lw_at lw_m1 132 rfl) rfl
theorem q309 : (Jvm.Cond.instanceMethod ({ cls := "CargoFlag$Refused", name := "<init>", desc := "()V" } : Jvm.MethodName)) ∈ lw_all := lw_g (lw_at lw_m1 134 rfl) rfl
theorem q310 : (Jvm.Cond.code ({ cls := "CargoFlag$Refused", name := "<init>", desc := "()V" } : Jvm.MethodName) prog_13_method_1_code (1 : Nat) (Option.none : Option Jvm.ClassFile.FieldType)) ∈ lw_all := lw_g (lw_at lw_m1 135 rfl) rfl
theorem q311 : (Jvm.Cond.methodLink "CargoFlag$Refused" (1 : Nat) ({ cls := "java/lang/Exception", name := "<init>", desc := "(Ljava/lang/String;Ljava/lang/Throwable;ZZ)V" } : Jvm.MethodName)) ∈ lw_all := lw_g (lw_at lw_m1 136 rfl) rfl
theorem q312 : (Jvm.Cond.fieldLink "CargoFlag$Refused" (7 : Nat) "CargoFlag$Refused" "why" "I") ∈ lw_all := lw_g (lw_at lw_m1 137 rfl) rfl
theorem q314 : (Jvm.Cond.lays "CargoFlag$Refused" "CargoFlag$Refused" "why" "I") ∈ lw_all := lw_g (lw_at lw_m1 139 rfl) rfl
theorem q315 : (Jvm.Cond.soleField "CargoFlag$Refused" "why") ∈ lw_all := lw_g (lw_at lw_m1 140 rfl) rfl
theorem q316 : (Jvm.Cond.lays "CargoFlag$Refused" "java/lang/Throwable" "depth" "I") ∈ lw_all := lw_g (lw_at lw_m1 141 rfl) rfl
theorem q317 : (Jvm.Cond.superclass "CargoFlag$Refused" "java/lang/Exception") ∈ lw_all := lw_g (lw_at lw_m1 142 rfl) rfl
theorem q582 : (Jvm.Cond.instanceMethod ({ cls := "CargoFlag$Refused", name := "by", desc := "(I)LCargoFlag$Refused;" } : Jvm.MethodName)) ∈ lw_all := lw_g (lw_at lw_m2 167 rfl) rfl
theorem q583 : (Jvm.Cond.selects "CargoFlag$Refused" ({ cls := "CargoFlag$Refused", name := "by", desc := "(I)LCargoFlag$Refused;" } : Jvm.MethodName) ({ cls := "CargoFlag$Refused", name := "by", desc := "(I)LCargoFlag$Refused;" } : Jvm.MethodName)) ∈ lw_all := lw_g (lw_at lw_m2 168 rfl) rfl
theorem q584 : (Jvm.Cond.code ({ cls := "CargoFlag$Refused", name := "by", desc := "(I)LCargoFlag$Refused;" } : Jvm.MethodName) prog_13_method_2_code (2 : Nat) (Option.some (Jvm.ClassFile.FieldType.object "CargoFlag$Refused"))) ∈ lw_all := lw_g (lw_at lw_m2 169 rfl) rfl
theorem in_X3 : ∀ w ∈ wsX30, w ∈ lw_all := lw_in wsX30 [303, 304, 305, 306, 307, 316, 314] (by decide +kernel) (by decide +kernel)

/-! CargoFlag$House -/
set_option maxRecDepth 100000
def RX4 : String := "CargoFlag$House"
def TX4 : u_T := fun k => match k with
  | 0 => ("CargoFlag$House", "world", "LCargoFlag$World;", true)
  | _ => ("CargoFlag$House", "voyages", "LCargoFlag$Loop;", false)
def tyX4 : Nat → FieldType := fun k => match k with
  | 0 => .object "CargoFlag$World"
  | _ => .object "CargoFlag$Loop"
abbrev wsX40 : List Cond := u_ws RX4 TX4 2
theorem nmX4 : ∀ a, a < 2 → ∀ b, b < 2 → a ≠ b → (TX4 a).2.1 ≠ (TX4 b).2.1 := by decide +kernel
theorem tyX4_ok : ∀ k, k < 2 → parseFieldDescriptor (TX4 k).2.2.1 = some (tyX4 k) := by decide +kernel
abbrev cX4_init : ByteArray := prog_6_method_1_code
def yX4_init : MethodName := ⟨RX4, "<init>", "()V"⟩
def dkwX4_init_0 : List UInt8 := [42, 183, 0, 1, 42, 187, 0, 7, 89, 183, 0, 9, 181, 0, 10, 177]
abbrev dktX4_init_0 : List UInt8 := dkwX4_init_0 ++ []
theorem dksX4_init_0 : cX4_init.data.toList.drop 0 = dktX4_init_0 := by decide +kernel
theorem dX4_init_0 : decode cX4_init 0 = .ok (.aload_n 0, 1) := dk_42 (dk_at dksX4_init_0 0 rfl rfl)
theorem dX4_init_1 : decode cX4_init 1 = .ok (.invokespecial 1, 3) := dk_183 0 1 (dk_at dksX4_init_0 1 rfl rfl)
theorem dX4_init_4 : decode cX4_init 4 = .ok (.aload_n 0, 1) := dk_42 (dk_at dksX4_init_0 4 rfl rfl)
theorem dX4_init_5 : decode cX4_init 5 = .ok (.new 7, 3) := dk_187 0 7 (dk_at dksX4_init_0 5 rfl rfl)
theorem dX4_init_8 : decode cX4_init 8 = .ok (.dup, 1) := dk_89 (dk_at dksX4_init_0 8 rfl rfl)
theorem dX4_init_9 : decode cX4_init 9 = .ok (.invokespecial 9, 3) := dk_183 0 9 (dk_at dksX4_init_0 9 rfl rfl)
theorem dX4_init_12 : decode cX4_init 12 = .ok (.putfield 10, 3) := dk_181 0 10 (dk_at dksX4_init_0 12 rfl rfl)
theorem dX4_init_15 : decode cX4_init 15 = .ok (.return_, 1) := dk_177 (dk_at dksX4_init_0 15 rfl rfl)
abbrev cX4_be : ByteArray := prog_6_method_2_code
def yX4_be : MethodName := ⟨RX4, "be", "(LCargoFlag$House;)V"⟩
def dkwX4_be_0 : List UInt8 := [42, 180, 0, 10, 43, 180, 0, 10, 182, 0, 16, 42, 43, 180, 0, 20, 181, 0, 20, 177]
abbrev dktX4_be_0 : List UInt8 := dkwX4_be_0 ++ []
theorem dksX4_be_0 : cX4_be.data.toList.drop 0 = dktX4_be_0 := by decide +kernel
theorem dX4_be_0 : decode cX4_be 0 = .ok (.aload_n 0, 1) := dk_42 (dk_at dksX4_be_0 0 rfl rfl)
theorem dX4_be_1 : decode cX4_be 1 = .ok (.getfield 10, 3) := dk_180 0 10 (dk_at dksX4_be_0 1 rfl rfl)
theorem dX4_be_4 : decode cX4_be 4 = .ok (.aload_n 1, 1) := dk_43 (dk_at dksX4_be_0 4 rfl rfl)
theorem dX4_be_5 : decode cX4_be 5 = .ok (.getfield 10, 3) := dk_180 0 10 (dk_at dksX4_be_0 5 rfl rfl)
theorem dX4_be_8 : decode cX4_be 8 = .ok (.invokevirtual 16, 3) := dk_182 0 16 (dk_at dksX4_be_0 8 rfl rfl)
theorem dX4_be_11 : decode cX4_be 11 = .ok (.aload_n 0, 1) := dk_42 (dk_at dksX4_be_0 11 rfl rfl)
theorem dX4_be_12 : decode cX4_be 12 = .ok (.aload_n 1, 1) := dk_43 (dk_at dksX4_be_0 12 rfl rfl)
theorem dX4_be_13 : decode cX4_be 13 = .ok (.getfield 20, 3) := dk_180 0 20 (dk_at dksX4_be_0 13 rfl rfl)
theorem dX4_be_16 : decode cX4_be 16 = .ok (.putfield 20, 3) := dk_181 0 20 (dk_at dksX4_be_0 16 rfl rfl)
theorem dX4_be_19 : decode cX4_be 19 = .ok (.return_, 1) := dk_177 (dk_at dksX4_be_0 19 rfl rfl)
theorem q182 : (Jvm.Cond.initialized "CargoFlag$House") ∈ lw_all := lw_g (lw_at lw_m1 7 rfl) rfl
theorem q319 : (Jvm.Cond.instantiable "CargoFlag$House" (2 : Nat)) ∈ lw_all := lw_g (lw_at lw_m1 144 rfl) rfl
theorem q321 : (Jvm.Cond.instanceMethod ({ cls := "CargoFlag$House", name := "<init>", desc := "()V" } : Jvm.MethodName)) ∈ lw_all := lw_g (lw_at lw_m1 146 rfl) rfl
theorem q322 : (Jvm.Cond.code ({ cls := "CargoFlag$House", name := "<init>", desc := "()V" } : Jvm.MethodName) prog_6_method_1_code (1 : Nat) (Option.none : Option Jvm.ClassFile.FieldType)) ∈ lw_all := lw_g (lw_at lw_m1 147 rfl) rfl
theorem q323 : (Jvm.Cond.methodLink "CargoFlag$House" (1 : Nat) ({ cls := "java/lang/Object", name := "<init>", desc := "()V" } : Jvm.MethodName)) ∈ lw_all := lw_g (lw_at lw_m1 148 rfl) rfl
theorem q324 : (Jvm.Cond.classLink "CargoFlag$House" (7 : Nat) "CargoFlag$World") ∈ lw_all := lw_g (lw_at lw_m1 149 rfl) rfl
theorem q326 : (Jvm.Cond.methodLinkNest "CargoFlag$House" (9 : Nat) ({ cls := "CargoFlag$World", name := "<init>", desc := "()V" } : Jvm.MethodName) "CargoFlag") ∈ lw_tbl := lw_at lw_m1 151 rfl
theorem q442 : (Jvm.Cond.fieldLink "CargoFlag$House" (10 : Nat) "CargoFlag$House" "world" "LCargoFlag$World;") ∈ lw_all := lw_g (lw_at lw_m2 27 rfl) rfl
theorem q444 : (Jvm.Cond.fieldLink "CargoFlag$House" (20 : Nat) "CargoFlag$House" "voyages" "LCargoFlag$Loop;") ∈ lw_all := lw_g (lw_at lw_m2 29 rfl) rfl
theorem q446 : (Jvm.Cond.laysFinal "CargoFlag$House" "CargoFlag$House" "world" "LCargoFlag$World;") ∈ lw_all := lw_g (lw_at lw_m2 31 rfl) rfl
theorem q447 : (Jvm.Cond.soleField "CargoFlag$House" "world") ∈ lw_all := lw_g (lw_at lw_m2 32 rfl) rfl
theorem q448 : (Jvm.Cond.lays "CargoFlag$House" "CargoFlag$House" "voyages" "LCargoFlag$Loop;") ∈ lw_all := lw_g (lw_at lw_m2 33 rfl) rfl
theorem q449 : (Jvm.Cond.soleField "CargoFlag$House" "voyages") ∈ lw_all := lw_g (lw_at lw_m2 34 rfl) rfl
theorem q450 : (Jvm.Cond.superclass "CargoFlag$House" "java/lang/Object") ∈ lw_all := lw_g (lw_at lw_m2 35 rfl) rfl
theorem q1687 : (Jvm.Cond.instanceMethod ({ cls := "CargoFlag$House", name := "be", desc := "(LCargoFlag$House;)V" } : Jvm.MethodName)) ∈ lw_all := lw_g (lw_at lw_m7 72 rfl) rfl
theorem q1688 : (Jvm.Cond.selects "CargoFlag$House" ({ cls := "CargoFlag$House", name := "be", desc := "(LCargoFlag$House;)V" } : Jvm.MethodName) ({ cls := "CargoFlag$House", name := "be", desc := "(LCargoFlag$House;)V" } : Jvm.MethodName)) ∈ lw_all := lw_g (lw_at lw_m7 73 rfl) rfl
theorem q1689 : (Jvm.Cond.code ({ cls := "CargoFlag$House", name := "be", desc := "(LCargoFlag$House;)V" } : Jvm.MethodName) prog_6_method_2_code (2 : Nat) (Option.none : Option Jvm.ClassFile.FieldType)) ∈ lw_all := lw_g (lw_at lw_m7 74 rfl) rfl
theorem q1690 : (Jvm.Cond.methodLink "CargoFlag$House" (16 : Nat) ({ cls := "CargoFlag$World", name := "be", desc := "(LCargoFlag$World;)V" } : Jvm.MethodName)) ∈ lw_all := lw_g (lw_at lw_m7 75 rfl) rfl
theorem in_X4 : ∀ w ∈ wsX40, w ∈ lw_all := lw_in wsX40 [446, 448] (by decide +kernel) (by decide +kernel)

/-! CargoFlag$Named -/
set_option maxRecDepth 100000
def RX8 : String := "CargoFlag$Named"
abbrev cX8_find : ByteArray := prog_9_method_2_code
def yX8_find : MethodName := ⟨RX8, "find", "([LCargoFlag$Named;IJ)I"⟩
def dkwX8_find_1 : List UInt8 := [132, 4, 1, 167, 255, 232, 2, 172]
abbrev dktX8_find_1 : List UInt8 := dkwX8_find_1 ++ []
def dkwX8_find_0 : List UInt8 := [3, 54, 4, 21, 4, 27, 162, 0, 24, 42, 21, 4, 50, 180, 0, 9, 32, 148, 154, 0, 6, 21, 4, 172]
abbrev dktX8_find_0 : List UInt8 := dkwX8_find_0 ++ dktX8_find_1
theorem dksX8_find_0 : cX8_find.data.toList.drop 0 = dktX8_find_0 := by decide +kernel
theorem dksX8_find_1 : cX8_find.data.toList.drop 24 = dktX8_find_1 := dk_seg dksX8_find_0 24 rfl rfl
theorem dX8_find_0 : decode cX8_find 0 = .ok (.iconst 0, 1) := dk_3 (dk_at dksX8_find_0 0 rfl rfl)
theorem dX8_find_1 : decode cX8_find 1 = .ok (.istore 4, 2) := dk_54 4 (dk_at dksX8_find_0 1 rfl rfl)
theorem dX8_find_3 : decode cX8_find 3 = .ok (.iload 4, 2) := dk_21 4 (dk_at dksX8_find_0 3 rfl rfl)
theorem dX8_find_5 : decode cX8_find 5 = .ok (.iload_n 1, 1) := dk_27 (dk_at dksX8_find_0 5 rfl rfl)
theorem dX8_find_6 : decode cX8_find 6 = .ok (.if_icmp .ge 24, 3) := dk_162 0 24 (dk_at dksX8_find_0 6 rfl rfl)
theorem dX8_find_9 : decode cX8_find 9 = .ok (.aload_n 0, 1) := dk_42 (dk_at dksX8_find_0 9 rfl rfl)
theorem dX8_find_10 : decode cX8_find 10 = .ok (.iload 4, 2) := dk_21 4 (dk_at dksX8_find_0 10 rfl rfl)
theorem dX8_find_12 : decode cX8_find 12 = .ok (.aaload, 1) := dk_50 (dk_at dksX8_find_0 12 rfl rfl)
theorem dX8_find_13 : decode cX8_find 13 = .ok (.getfield 9, 3) := dk_180 0 9 (dk_at dksX8_find_0 13 rfl rfl)
theorem dX8_find_16 : decode cX8_find 16 = .ok (.lload_n 2, 1) := dk_32 (dk_at dksX8_find_0 16 rfl rfl)
theorem dX8_find_17 : decode cX8_find 17 = .ok (.lcmp, 1) := dk_148 (dk_at dksX8_find_0 17 rfl rfl)
theorem dX8_find_18 : decode cX8_find 18 = .ok (.ifCond .ne 6, 3) := dk_154 0 6 (dk_at dksX8_find_0 18 rfl rfl)
theorem dX8_find_21 : decode cX8_find 21 = .ok (.iload 4, 2) := dk_21 4 (dk_at dksX8_find_0 21 rfl rfl)
theorem dX8_find_23 : decode cX8_find 23 = .ok (.ireturn, 1) := dk_172 (dk_at dksX8_find_0 23 rfl rfl)
theorem dX8_find_24 : decode cX8_find 24 = .ok (.iinc 4 1, 3) := dk_132 4 1 (dk_at dksX8_find_1 0 rfl rfl)
theorem dX8_find_27 : decode cX8_find 27 = .ok (.goto (-24), 3) := dk_167 255 232 (dk_at dksX8_find_1 3 rfl rfl)
theorem dX8_find_30 : decode cX8_find 30 = .ok (.iconst (-1), 1) := dk_2 (dk_at dksX8_find_1 6 rfl rfl)
theorem dX8_find_31 : decode cX8_find 31 = .ok (.ireturn, 1) := dk_172 (dk_at dksX8_find_1 7 rfl rfl)
abbrev cX8_init : ByteArray := prog_9_method_1_code
def yX8_init : MethodName := ⟨RX8, "<init>", "(J)V"⟩
def dkwX8_init_0 : List UInt8 := [42, 183, 0, 3, 42, 31, 181, 0, 9, 177]
abbrev dktX8_init_0 : List UInt8 := dkwX8_init_0 ++ []
theorem dksX8_init_0 : cX8_init.data.toList.drop 0 = dktX8_init_0 := by decide +kernel
theorem dX8_init_0 : decode cX8_init 0 = .ok (.aload_n 0, 1) := dk_42 (dk_at dksX8_init_0 0 rfl rfl)
theorem dX8_init_1 : decode cX8_init 1 = .ok (.invokespecial 3, 3) := dk_183 0 3 (dk_at dksX8_init_0 1 rfl rfl)
theorem dX8_init_4 : decode cX8_init 4 = .ok (.aload_n 0, 1) := dk_42 (dk_at dksX8_init_0 4 rfl rfl)
theorem dX8_init_5 : decode cX8_init 5 = .ok (.lload_n 1, 1) := dk_31 (dk_at dksX8_init_0 5 rfl rfl)
theorem dX8_init_6 : decode cX8_init 6 = .ok (.putfield 9, 3) := dk_181 0 9 (dk_at dksX8_init_0 6 rfl rfl)
theorem dX8_init_9 : decode cX8_init 9 = .ok (.return_, 1) := dk_177 (dk_at dksX8_init_0 9 rfl rfl)
theorem q195 : (Jvm.Cond.initialized "CargoFlag$Named") ∈ lw_all := lw_g (lw_at lw_m1 20 rfl) rfl
theorem q839 : (Jvm.Cond.static ({ cls := "CargoFlag$Named", name := "find", desc := "([LCargoFlag$Named;IJ)I" } : Jvm.MethodName)) ∈ lw_all := lw_g (lw_at lw_m3 184 rfl) rfl
theorem q840 : (Jvm.Cond.code ({ cls := "CargoFlag$Named", name := "find", desc := "([LCargoFlag$Named;IJ)I" } : Jvm.MethodName) prog_9_method_2_code (5 : Nat) (Option.some Jvm.ClassFile.FieldType.int)) ∈ lw_all := lw_g (lw_at lw_m3 185 rfl) rfl
theorem q845 : (Jvm.Cond.instanceMethod ({ cls := "CargoFlag$Named", name := "<init>", desc := "(J)V" } : Jvm.MethodName)) ∈ lw_all := lw_g (lw_at lw_m3 190 rfl) rfl
theorem q846 : (Jvm.Cond.code ({ cls := "CargoFlag$Named", name := "<init>", desc := "(J)V" } : Jvm.MethodName) prog_9_method_1_code (3 : Nat) (Option.none : Option Jvm.ClassFile.FieldType)) ∈ lw_all := lw_g (lw_at lw_m3 191 rfl) rfl
theorem q847 : (Jvm.Cond.methodLink "CargoFlag$Named" (3 : Nat) ({ cls := "java/lang/Object", name := "<init>", desc := "()V" } : Jvm.MethodName)) ∈ lw_all := lw_g (lw_at lw_m3 192 rfl) rfl
theorem q858 : (Jvm.Cond.fieldLink "CargoFlag$Named" (9 : Nat) "CargoFlag$Named" "name" "J") ∈ lw_all := lw_g (lw_at lw_m3 203 rfl) rfl
theorem q866 : (Jvm.Cond.soleField "CargoFlag$Named" "name") ∈ lw_all := lw_g (lw_at lw_m3 211 rfl) rfl

/-! CargoFlag$Nation -/
set_option maxRecDepth 100000
def RX9 : String := "CargoFlag$Nation"
def TX9 : u_T := fun k => match k with
  | 0 => ("CargoFlag$Named", "name", "J", true)
  | 1 => ("CargoFlag$Nation", "wage", "I", false)
  | 2 => ("CargoFlag$Nation", "duty", "I", false)
  | _ => ("CargoFlag$Nation", "deeds", "I", false)
def tyX9 : Nat → FieldType := fun k => match k with
  | 0 => .long
  | 1 => .int
  | 2 => .int
  | _ => .int
abbrev wsX90 : List Cond := u_ws RX9 TX9 4
theorem nmX9 : ∀ a, a < 4 → ∀ b, b < 4 → a ≠ b → (TX9 a).2.1 ≠ (TX9 b).2.1 := by decide +kernel
theorem tyX9_ok : ∀ k, k < 4 → parseFieldDescriptor (TX9 k).2.2.1 = some (tyX9 k) := by decide +kernel
abbrev cX9_init : ByteArray := prog_10_method_1_code
def yX9_init : MethodName := ⟨RX9, "<init>", "(J)V"⟩
def dkwX9_init_0 : List UInt8 := [42, 31, 183, 0, 1, 42, 4, 181, 0, 7, 177]
abbrev dktX9_init_0 : List UInt8 := dkwX9_init_0 ++ []
theorem dksX9_init_0 : cX9_init.data.toList.drop 0 = dktX9_init_0 := by decide +kernel
theorem dX9_init_0 : decode cX9_init 0 = .ok (.aload_n 0, 1) := dk_42 (dk_at dksX9_init_0 0 rfl rfl)
theorem dX9_init_1 : decode cX9_init 1 = .ok (.lload_n 1, 1) := dk_31 (dk_at dksX9_init_0 1 rfl rfl)
theorem dX9_init_2 : decode cX9_init 2 = .ok (.invokespecial 1, 3) := dk_183 0 1 (dk_at dksX9_init_0 2 rfl rfl)
theorem dX9_init_5 : decode cX9_init 5 = .ok (.aload_n 0, 1) := dk_42 (dk_at dksX9_init_0 5 rfl rfl)
theorem dX9_init_6 : decode cX9_init 6 = .ok (.iconst 1, 1) := dk_4 (dk_at dksX9_init_0 6 rfl rfl)
theorem dX9_init_7 : decode cX9_init 7 = .ok (.putfield 7, 3) := dk_181 0 7 (dk_at dksX9_init_0 7 rfl rfl)
theorem dX9_init_10 : decode cX9_init 10 = .ok (.return_, 1) := dk_177 (dk_at dksX9_init_0 10 rfl rfl)
theorem q196 : (Jvm.Cond.initialized "CargoFlag$Nation") ∈ lw_all := lw_g (lw_at lw_m1 21 rfl) rfl
theorem q773 : (Jvm.Cond.instantiable "CargoFlag$Nation" (4 : Nat)) ∈ lw_all := lw_g (lw_at lw_m3 118 rfl) rfl
theorem q842 : (Jvm.Cond.instanceMethod ({ cls := "CargoFlag$Nation", name := "<init>", desc := "(J)V" } : Jvm.MethodName)) ∈ lw_all := lw_g (lw_at lw_m3 187 rfl) rfl
theorem q843 : (Jvm.Cond.code ({ cls := "CargoFlag$Nation", name := "<init>", desc := "(J)V" } : Jvm.MethodName) prog_10_method_1_code (3 : Nat) (Option.none : Option Jvm.ClassFile.FieldType)) ∈ lw_all := lw_g (lw_at lw_m3 188 rfl) rfl
theorem q844 : (Jvm.Cond.methodLink "CargoFlag$Nation" (1 : Nat) ({ cls := "CargoFlag$Named", name := "<init>", desc := "(J)V" } : Jvm.MethodName)) ∈ lw_all := lw_g (lw_at lw_m3 189 rfl) rfl
theorem q848 : (Jvm.Cond.fieldLink "CargoFlag$Nation" (7 : Nat) "CargoFlag$Nation" "wage" "I") ∈ lw_all := lw_g (lw_at lw_m3 193 rfl) rfl
theorem q859 : (Jvm.Cond.lays "CargoFlag$Nation" "CargoFlag$Nation" "wage" "I") ∈ lw_all := lw_g (lw_at lw_m3 204 rfl) rfl
theorem q860 : (Jvm.Cond.soleField "CargoFlag$Nation" "wage") ∈ lw_all := lw_g (lw_at lw_m3 205 rfl) rfl
theorem q861 : (Jvm.Cond.lays "CargoFlag$Nation" "CargoFlag$Nation" "duty" "I") ∈ lw_all := lw_g (lw_at lw_m3 206 rfl) rfl
theorem q862 : (Jvm.Cond.soleField "CargoFlag$Nation" "duty") ∈ lw_all := lw_g (lw_at lw_m3 207 rfl) rfl
theorem q863 : (Jvm.Cond.lays "CargoFlag$Nation" "CargoFlag$Nation" "deeds" "I") ∈ lw_all := lw_g (lw_at lw_m3 208 rfl) rfl
theorem q864 : (Jvm.Cond.soleField "CargoFlag$Nation" "deeds") ∈ lw_all := lw_g (lw_at lw_m3 209 rfl) rfl
theorem q865 : (Jvm.Cond.laysFinal "CargoFlag$Nation" "CargoFlag$Named" "name" "J") ∈ lw_all := lw_g (lw_at lw_m3 210 rfl) rfl
theorem q867 : (Jvm.Cond.superclass "CargoFlag$Nation" "CargoFlag$Named") ∈ lw_all := lw_g (lw_at lw_m3 212 rfl) rfl
theorem in_X9 : ∀ w ∈ wsX90, w ∈ lw_all := lw_in wsX90 [865, 859, 861, 863] (by decide +kernel) (by decide +kernel)

theorem q175 : (Jvm.Cond.initialized "CargoFlagLaw") ∈ lw_all := lw_g (lw_at lw_m1 0 rfl) rfl
set_option maxRecDepth 100000
theorem q209 : (Jvm.Cond.classLink "CargoFlagLaw" (7 : Nat) "CargoFlag") ∈ lw_all := lw_g (lw_at lw_m1 34 rfl) rfl
theorem q211 : (Jvm.Cond.methodLink "CargoFlagLaw" (9 : Nat) ({ cls := "CargoFlag", name := "<init>", desc := "()V" } : Jvm.MethodName)) ∈ lw_all := lw_g (lw_at lw_m1 36 rfl) rfl
theorem q532 : (Jvm.Cond.methodLink "CargoFlagLaw" (13 : Nat) ({ cls := "CargoFlag", name := "status", desc := "()I" } : Jvm.MethodName)) ∈ lw_all := lw_g (lw_at lw_m2 117 rfl) rfl
theorem q536 : (Jvm.Cond.methodLink "CargoFlagLaw" (18 : Nat) ({ cls := "CargoFlag", name := "top", desc := "()J" } : Jvm.MethodName)) ∈ lw_all := lw_g (lw_at lw_m2 121 rfl) rfl
theorem q540 : (Jvm.Cond.methodLink "CargoFlagLaw" (23 : Nat) ({ cls := "CargoFlag", name := "bottom", desc := "()J" } : Jvm.MethodName)) ∈ lw_all := lw_g (lw_at lw_m2 125 rfl) rfl
theorem q544 : (Jvm.Cond.methodLink "CargoFlagLaw" (27 : Nat) ({ cls := "CargoFlag", name := "tray", desc := "(III)Z" } : Jvm.MethodName)) ∈ lw_all := lw_g (lw_at lw_m2 129 rfl) rfl
theorem q594 : (Jvm.Cond.methodLink "CargoFlagLaw" (34 : Nat) ({ cls := "CargoFlag", name := "write", desc := "(IIJ)Z" } : Jvm.MethodName)) ∈ lw_all := lw_g (lw_at lw_m2 179 rfl) rfl
theorem q628 : (Jvm.Cond.methodLink "CargoFlagLaw" (39 : Nat) ({ cls := "CargoFlag", name := "read", desc := "(II)J" } : Jvm.MethodName)) ∈ lw_all := lw_g (lw_at lw_m2 213 rfl) rfl
theorem q640 : (Jvm.Cond.methodLink "CargoFlagLaw" (44 : Nat) ({ cls := "CargoFlag", name := "pour", desc := "(IIIII)Z" } : Jvm.MethodName)) ∈ lw_all := lw_g (lw_at lw_m2 225 rfl) rfl
theorem q651 : (Jvm.Cond.methodLink "CargoFlagLaw" (49 : Nat) ({ cls := "CargoFlag", name := "feed", desc := "(IIIII)I" } : Jvm.MethodName)) ∈ lw_all := lw_g (lw_at lw_m2 236 rfl) rfl
theorem q659 : (Jvm.Cond.methodLink "CargoFlagLaw" (54 : Nat) ({ cls := "CargoFlag", name := "world", desc := "(I)I" } : Jvm.MethodName)) ∈ lw_all := lw_g (lw_at lw_m3 4 rfl) rfl
theorem q1019 : (Jvm.Cond.methodLink "CargoFlagLaw" (59 : Nat) ({ cls := "CargoFlag", name := "voyages", desc := "(I)I" } : Jvm.MethodName)) ∈ lw_all := lw_g (lw_at lw_m4 124 rfl) rfl
theorem q1119 : (Jvm.Cond.methodLink "CargoFlagLaw" (63 : Nat) ({ cls := "CargoFlag", name := "fault", desc := "(I)I" } : Jvm.MethodName)) ∈ lw_all := lw_g (lw_at lw_m4 224 rfl) rfl
theorem q1123 : (Jvm.Cond.methodLink "CargoFlagLaw" (67 : Nat) ({ cls := "CargoFlag", name := "told", desc := "(I)I" } : Jvm.MethodName)) ∈ lw_all := lw_g (lw_at lw_m4 228 rfl) rfl
theorem q1173 : (Jvm.Cond.methodLink "CargoFlagLaw" (71 : Nat) ({ cls := "CargoFlag", name := "nation", desc := "(II)I" } : Jvm.MethodName)) ∈ lw_all := lw_g (lw_at lw_m5 38 rfl) rfl
theorem q1182 : (Jvm.Cond.methodLink "CargoFlagLaw" (76 : Nat) ({ cls := "CargoFlag", name := "good", desc := "(II)I" } : Jvm.MethodName)) ∈ lw_all := lw_g (lw_at lw_m5 47 rfl) rfl
theorem q1191 : (Jvm.Cond.methodLink "CargoFlagLaw" (80 : Nat) ({ cls := "CargoFlag", name := "portOf", desc := "(I)I" } : Jvm.MethodName)) ∈ lw_all := lw_g (lw_at lw_m5 56 rfl) rfl
theorem q1203 : (Jvm.Cond.methodLink "CargoFlagLaw" (84 : Nat) ({ cls := "CargoFlag", name := "price", desc := "(II)I" } : Jvm.MethodName)) ∈ lw_all := lw_g (lw_at lw_m5 68 rfl) rfl
theorem q1207 : (Jvm.Cond.methodLink "CargoFlagLaw" (88 : Nat) ({ cls := "CargoFlag", name := "way", desc := "(II)I" } : Jvm.MethodName)) ∈ lw_all := lw_g (lw_at lw_m5 72 rfl) rfl
theorem q1215 : (Jvm.Cond.methodLink "CargoFlagLaw" (92 : Nat) ({ cls := "CargoFlag", name := "ship", desc := "(II)I" } : Jvm.MethodName)) ∈ lw_all := lw_g (lw_at lw_m5 80 rfl) rfl
theorem q1224 : (Jvm.Cond.methodLink "CargoFlagLaw" (96 : Nat) ({ cls := "CargoFlag", name := "aboard", desc := "(II)I" } : Jvm.MethodName)) ∈ lw_all := lw_g (lw_at lw_m5 89 rfl) rfl
theorem q1228 : (Jvm.Cond.methodLink "CargoFlagLaw" (100 : Nat) ({ cls := "CargoFlag", name := "weight", desc := "(II)I" } : Jvm.MethodName)) ∈ lw_all := lw_g (lw_at lw_m5 93 rfl) rfl
theorem q1236 : (Jvm.Cond.methodLink "CargoFlagLaw" (104 : Nat) ({ cls := "CargoFlag", name := "weightBy", desc := "(III)I" } : Jvm.MethodName)) ∈ lw_all := lw_g (lw_at lw_m5 101 rfl) rfl
theorem q1243 : (Jvm.Cond.methodLink "CargoFlagLaw" (109 : Nat) ({ cls := "CargoFlag", name := "captains", desc := "(I)I" } : Jvm.MethodName)) ∈ lw_all := lw_g (lw_at lw_m5 108 rfl) rfl
theorem q1251 : (Jvm.Cond.methodLink "CargoFlagLaw" (113 : Nat) ({ cls := "CargoFlag", name := "ruled", desc := "(I)I" } : Jvm.MethodName)) ∈ lw_all := lw_g (lw_at lw_m5 116 rfl) rfl
theorem q1255 : (Jvm.Cond.methodLink "CargoFlagLaw" (117 : Nat) ({ cls := "CargoFlag", name := "ruledBy", desc := "(II)I" } : Jvm.MethodName)) ∈ lw_all := lw_g (lw_at lw_m5 120 rfl) rfl
theorem q1260 : (Jvm.Cond.methodLink "CargoFlagLaw" (121 : Nat) ({ cls := "CargoFlag", name := "share", desc := "(II)Z" } : Jvm.MethodName)) ∈ lw_all := lw_g (lw_at lw_m5 125 rfl) rfl
theorem q1274 : (Jvm.Cond.methodLink "CargoFlagLaw" (126 : Nat) ({ cls := "CargoFlag", name := "lawful", desc := "(II)I" } : Jvm.MethodName)) ∈ lw_all := lw_g (lw_at lw_m5 139 rfl) rfl
theorem q1286 : (Jvm.Cond.methodLink "CargoFlagLaw" (130 : Nat) ({ cls := "CargoFlag", name := "deeds", desc := "(I)I" } : Jvm.MethodName)) ∈ lw_all := lw_g (lw_at lw_m5 151 rfl) rfl
theorem q1290 : (Jvm.Cond.methodLink "CargoFlagLaw" (134 : Nat) ({ cls := "CargoFlag", name := "board", desc := "(II)I" } : Jvm.MethodName)) ∈ lw_all := lw_g (lw_at lw_m5 155 rfl) rfl
theorem q1303 : (Jvm.Cond.methodLink "CargoFlagLaw" (138 : Nat) ({ cls := "CargoFlag", name := "boarders", desc := "(I)I" } : Jvm.MethodName)) ∈ lw_all := lw_g (lw_at lw_m5 168 rfl) rfl
theorem q1307 : (Jvm.Cond.methodLink "CargoFlagLaw" (142 : Nat) ({ cls := "CargoFlag", name := "greatest", desc := "(I)I" } : Jvm.MethodName)) ∈ lw_all := lw_g (lw_at lw_m5 172 rfl) rfl
theorem q1311 : (Jvm.Cond.methodLink "CargoFlagLaw" (146 : Nat) ({ cls := "CargoFlag", name := "buy", desc := "(III)I" } : Jvm.MethodName)) ∈ lw_all := lw_g (lw_at lw_m5 176 rfl) rfl
theorem q1326 : (Jvm.Cond.methodLink "CargoFlagLaw" (150 : Nat) ({ cls := "CargoFlag", name := "sell", desc := "(III)I" } : Jvm.MethodName)) ∈ lw_all := lw_g (lw_at lw_m5 191 rfl) rfl
theorem q1337 : (Jvm.Cond.methodLink "CargoFlagLaw" (154 : Nat) ({ cls := "CargoFlag", name := "dump", desc := "(III)I" } : Jvm.MethodName)) ∈ lw_all := lw_g (lw_at lw_m5 202 rfl) rfl
theorem q1345 : (Jvm.Cond.methodLink "CargoFlagLaw" (158 : Nat) ({ cls := "CargoFlag", name := "sail", desc := "(II)I" } : Jvm.MethodName)) ∈ lw_all := lw_g (lw_at lw_m5 210 rfl) rfl
theorem q1353 : (Jvm.Cond.methodLink "CargoFlagLaw" (162 : Nat) ({ cls := "CargoFlag", name := "day", desc := "(I)I" } : Jvm.MethodName)) ∈ lw_all := lw_g (lw_at lw_m5 218 rfl) rfl
theorem q1377 : (Jvm.Cond.methodLink "CargoFlagLaw" (166 : Nat) ({ cls := "CargoFlag", name := "pass", desc := "(IIII)Z" } : Jvm.MethodName)) ∈ lw_all := lw_g (lw_at lw_m6 2 rfl) rfl
theorem q1382 : (Jvm.Cond.methodLink "CargoFlagLaw" (171 : Nat) ({ cls := "CargoFlag", name := "rule", desc := "(I)Z" } : Jvm.MethodName)) ∈ lw_all := lw_g (lw_at lw_m6 7 rfl) rfl
theorem q1386 : (Jvm.Cond.methodLink "CargoFlagLaw" (176 : Nat) ({ cls := "CargoFlag", name := "war", desc := "(IIZ)Z" } : Jvm.MethodName)) ∈ lw_all := lw_g (lw_at lw_m6 11 rfl) rfl
theorem q1391 : (Jvm.Cond.methodLink "CargoFlagLaw" (181 : Nat) ({ cls := "CargoFlag", name := "trade", desc := "(III)Z" } : Jvm.MethodName)) ∈ lw_all := lw_g (lw_at lw_m6 16 rfl) rfl
theorem q1395 : (Jvm.Cond.methodLink "CargoFlagLaw" (185 : Nat) ({ cls := "CargoFlag", name := "pay", desc := "(II)I" } : Jvm.MethodName)) ∈ lw_all := lw_g (lw_at lw_m6 20 rfl) rfl
theorem q1401 : (Jvm.Cond.methodLink "CargoFlagLaw" (189 : Nat) ({ cls := "CargoFlag", name := "flagIn", desc := "(II)I" } : Jvm.MethodName)) ∈ lw_all := lw_g (lw_at lw_m6 26 rfl) rfl
theorem q1413 : (Jvm.Cond.methodLink "CargoFlagLaw" (193 : Nat) ({ cls := "CargoFlag", name := "tonsIn", desc := "(II)I" } : Jvm.MethodName)) ∈ lw_all := lw_g (lw_at lw_m6 38 rfl) rfl
theorem q1417 : (Jvm.Cond.methodLink "CargoFlagLaw" (197 : Nat) ({ cls := "CargoFlag", name := "turns", desc := "(I)I" } : Jvm.MethodName)) ∈ lw_all := lw_g (lw_at lw_m6 42 rfl) rfl
theorem q1421 : (Jvm.Cond.methodLink "CargoFlagLaw" (201 : Nat) ({ cls := "CargoFlag", name := "flags", desc := "(II)I" } : Jvm.MethodName)) ∈ lw_all := lw_g (lw_at lw_m6 46 rfl) rfl
theorem q1425 : (Jvm.Cond.methodLink "CargoFlagLaw" (205 : Nat) ({ cls := "CargoFlag", name := "wages", desc := "(II)I" } : Jvm.MethodName)) ∈ lw_all := lw_g (lw_at lw_m6 50 rfl) rfl
theorem q1429 : (Jvm.Cond.methodLink "CargoFlagLaw" (209 : Nat) ({ cls := "CargoFlag", name := "stowaway", desc := "(I)I" } : Jvm.MethodName)) ∈ lw_all := lw_g (lw_at lw_m6 54 rfl) rfl
theorem q1442 : (Jvm.Cond.methodLink "CargoFlagLaw" (213 : Nat) ({ cls := "CargoFlag", name := "stowawayGood", desc := "(I)I" } : Jvm.MethodName)) ∈ lw_all := lw_g (lw_at lw_m6 67 rfl) rfl
theorem q1446 : (Jvm.Cond.methodLink "CargoFlagLaw" (217 : Nat) ({ cls := "CargoFlag", name := "guard", desc := "(II)I" } : Jvm.MethodName)) ∈ lw_all := lw_g (lw_at lw_m6 71 rfl) rfl
theorem q1450 : (Jvm.Cond.methodLink "CargoFlagLaw" (221 : Nat) ({ cls := "CargoFlag", name := "passFor", desc := "(II)I" } : Jvm.MethodName)) ∈ lw_all := lw_g (lw_at lw_m6 75 rfl) rfl
theorem q1458 : (Jvm.Cond.methodLink "CargoFlagLaw" (225 : Nat) ({ cls := "CargoFlag", name := "passGood", desc := "(II)I" } : Jvm.MethodName)) ∈ lw_all := lw_g (lw_at lw_m6 83 rfl) rfl
theorem q1462 : (Jvm.Cond.methodLink "CargoFlagLaw" (229 : Nat) ({ cls := "CargoFlag", name := "peace", desc := "(I)I" } : Jvm.MethodName)) ∈ lw_all := lw_g (lw_at lw_m6 87 rfl) rfl
theorem q1471 : (Jvm.Cond.methodLink "CargoFlagLaw" (233 : Nat) ({ cls := "CargoFlag", name := "peaceCost", desc := "(I)I" } : Jvm.MethodName)) ∈ lw_all := lw_g (lw_at lw_m6 96 rfl) rfl
theorem q1475 : (Jvm.Cond.methodLink "CargoFlagLaw" (237 : Nat) ({ cls := "CargoFlag", name := "voyage", desc := "(II)I" } : Jvm.MethodName)) ∈ lw_all := lw_g (lw_at lw_m6 100 rfl) rfl
theorem q1505 : (Jvm.Cond.methodLink "CargoFlagLaw" (241 : Nat) ({ cls := "CargoFlag", name := "voyageAt", desc := "(III)I" } : Jvm.MethodName)) ∈ lw_all := lw_g (lw_at lw_m6 130 rfl) rfl
theorem q1509 : (Jvm.Cond.methodLink "CargoFlagLaw" (245 : Nat) ({ cls := "CargoFlag", name := "soonest", desc := "(II)I" } : Jvm.MethodName)) ∈ lw_all := lw_g (lw_at lw_m6 134 rfl) rfl
theorem q1517 : (Jvm.Cond.methodLink "CargoFlagLaw" (249 : Nat) ({ cls := "CargoFlag", name := "next", desc := "(II)I" } : Jvm.MethodName)) ∈ lw_all := lw_g (lw_at lw_m6 142 rfl) rfl
theorem q1521 : (Jvm.Cond.methodLink "CargoFlagLaw" (253 : Nat) ({ cls := "CargoFlag", name := "reach", desc := "(I)I" } : Jvm.MethodName)) ∈ lw_all := lw_g (lw_at lw_m6 146 rfl) rfl
theorem q1525 : (Jvm.Cond.methodLink "CargoFlagLaw" (257 : Nat) ({ cls := "CargoFlag", name := "best", desc := "(II)I" } : Jvm.MethodName)) ∈ lw_all := lw_g (lw_at lw_m6 150 rfl) rfl
theorem q1529 : (Jvm.Cond.methodLink "CargoFlagLaw" (261 : Nat) ({ cls := "CargoFlag", name := "log", desc := "(III)I" } : Jvm.MethodName)) ∈ lw_all := lw_g (lw_at lw_m6 154 rfl) rfl
theorem q1557 : (Jvm.Cond.methodLink "CargoFlagLaw" (265 : Nat) ({ cls := "CargoFlag", name := "sure", desc := "(III)I" } : Jvm.MethodName)) ∈ lw_all := lw_g (lw_at lw_m6 182 rfl) rfl
theorem q1561 : (Jvm.Cond.methodLink "CargoFlagLaw" (269 : Nat) ({ cls := "CargoFlag", name := "copyLog", desc := "(III)I" } : Jvm.MethodName)) ∈ lw_all := lw_g (lw_at lw_m6 186 rfl) rfl
theorem q1566 : (Jvm.Cond.methodLink "CargoFlagLaw" (273 : Nat) ({ cls := "CargoFlag", name := "live", desc := "(I)I" } : Jvm.MethodName)) ∈ lw_all := lw_g (lw_at lw_m6 191 rfl) rfl
theorem q1673 : (Jvm.Cond.methodLink "CargoFlagLaw" (277 : Nat) ({ cls := "CargoFlag", name := "lived", desc := "(I)I" } : Jvm.MethodName)) ∈ lw_all := lw_g (lw_at lw_m7 58 rfl) rfl
theorem q1678 : (Jvm.Cond.methodLink "CargoFlagLaw" (281 : Nat) ({ cls := "CargoFlag", name := "mean", desc := "(II)Z" } : Jvm.MethodName)) ∈ lw_all := lw_g (lw_at lw_m7 63 rfl) rfl
theorem q1682 : (Jvm.Cond.methodLink "CargoFlagLaw" (285 : Nat) ({ cls := "CargoFlag", name := "mark", desc := "()I" } : Jvm.MethodName)) ∈ lw_all := lw_g (lw_at lw_m7 67 rfl) rfl
theorem q1691 : (Jvm.Cond.methodLink "CargoFlagLaw" (289 : Nat) ({ cls := "CargoFlag", name := "undo", desc := "()I" } : Jvm.MethodName)) ∈ lw_all := lw_g (lw_at lw_m7 76 rfl) rfl
theorem q1695 : (Jvm.Cond.classLink "CargoFlagLaw" (10 : Nat) "CargoFlagModel") ∈ lw_all := lw_g (lw_at lw_m7 80 rfl) rfl
theorem q1697 : (Jvm.Cond.methodLink "CargoFlagLaw" (12 : Nat) ({ cls := "CargoFlagModel", name := "<init>", desc := "()V" } : Jvm.MethodName)) ∈ lw_all := lw_g (lw_at lw_m7 82 rfl) rfl
theorem q1832 : (Jvm.Cond.methodLink "CargoFlagLaw" (17 : Nat) ({ cls := "CargoFlagModel", name := "status", desc := "()I" } : Jvm.MethodName)) ∈ lw_all := lw_g (lw_at lw_m7 217 rfl) rfl
theorem q1836 : (Jvm.Cond.methodLink "CargoFlagLaw" (22 : Nat) ({ cls := "CargoFlagModel", name := "top", desc := "()J" } : Jvm.MethodName)) ∈ lw_all := lw_g (lw_at lw_m7 221 rfl) rfl
theorem q1840 : (Jvm.Cond.methodLink "CargoFlagLaw" (26 : Nat) ({ cls := "CargoFlagModel", name := "bottom", desc := "()J" } : Jvm.MethodName)) ∈ lw_all := lw_g (lw_at lw_m7 225 rfl) rfl
theorem q1844 : (Jvm.Cond.methodLink "CargoFlagLaw" (31 : Nat) ({ cls := "CargoFlagModel", name := "tray", desc := "(III)Z" } : Jvm.MethodName)) ∈ lw_all := lw_g (lw_at lw_m7 229 rfl) rfl
theorem q1855 : (Jvm.Cond.methodLink "CargoFlagLaw" (38 : Nat) ({ cls := "CargoFlagModel", name := "write", desc := "(IIJ)Z" } : Jvm.MethodName)) ∈ lw_all := lw_g (lw_at lw_m8 0 rfl) rfl
theorem q1866 : (Jvm.Cond.methodLink "CargoFlagLaw" (43 : Nat) ({ cls := "CargoFlagModel", name := "read", desc := "(II)J" } : Jvm.MethodName)) ∈ lw_all := lw_g (lw_at lw_m8 11 rfl) rfl
theorem q1871 : (Jvm.Cond.methodLink "CargoFlagLaw" (48 : Nat) ({ cls := "CargoFlagModel", name := "pour", desc := "(IIIII)Z" } : Jvm.MethodName)) ∈ lw_all := lw_g (lw_at lw_m8 16 rfl) rfl
theorem q1875 : (Jvm.Cond.methodLink "CargoFlagLaw" (53 : Nat) ({ cls := "CargoFlagModel", name := "feed", desc := "(IIIII)I" } : Jvm.MethodName)) ∈ lw_all := lw_g (lw_at lw_m8 20 rfl) rfl
theorem q1883 : (Jvm.Cond.methodLink "CargoFlagLaw" (66 : Nat) ({ cls := "CargoFlagModel", name := "fault", desc := "(I)I" } : Jvm.MethodName)) ∈ lw_all := lw_g (lw_at lw_m8 28 rfl) rfl
theorem q1887 : (Jvm.Cond.methodLink "CargoFlagLaw" (58 : Nat) ({ cls := "CargoFlagModel", name := "world", desc := "(I)I" } : Jvm.MethodName)) ∈ lw_all := lw_g (lw_at lw_m8 32 rfl) rfl
theorem q2018 : (Jvm.Cond.methodLink "CargoFlagLaw" (62 : Nat) ({ cls := "CargoFlagModel", name := "voyages", desc := "(I)I" } : Jvm.MethodName)) ∈ lw_all := lw_g (lw_at lw_m8 163 rfl) rfl
theorem q2042 : (Jvm.Cond.methodLink "CargoFlagLaw" (70 : Nat) ({ cls := "CargoFlagModel", name := "told", desc := "(I)I" } : Jvm.MethodName)) ∈ lw_all := lw_g (lw_at lw_m8 187 rfl) rfl
theorem q2102 : (Jvm.Cond.methodLink "CargoFlagLaw" (75 : Nat) ({ cls := "CargoFlagModel", name := "nation", desc := "(II)I" } : Jvm.MethodName)) ∈ lw_all := lw_g (lw_at lw_m9 7 rfl) rfl
theorem q2113 : (Jvm.Cond.methodLink "CargoFlagLaw" (79 : Nat) ({ cls := "CargoFlagModel", name := "good", desc := "(II)I" } : Jvm.MethodName)) ∈ lw_all := lw_g (lw_at lw_m9 18 rfl) rfl
theorem q2121 : (Jvm.Cond.methodLink "CargoFlagLaw" (83 : Nat) ({ cls := "CargoFlagModel", name := "portOf", desc := "(I)I" } : Jvm.MethodName)) ∈ lw_all := lw_g (lw_at lw_m9 26 rfl) rfl
theorem q2136 : (Jvm.Cond.methodLink "CargoFlagLaw" (87 : Nat) ({ cls := "CargoFlagModel", name := "price", desc := "(II)I" } : Jvm.MethodName)) ∈ lw_all := lw_g (lw_at lw_m9 41 rfl) rfl
theorem q2148 : (Jvm.Cond.methodLink "CargoFlagLaw" (91 : Nat) ({ cls := "CargoFlagModel", name := "way", desc := "(II)I" } : Jvm.MethodName)) ∈ lw_all := lw_g (lw_at lw_m9 53 rfl) rfl
theorem q2160 : (Jvm.Cond.methodLink "CargoFlagLaw" (95 : Nat) ({ cls := "CargoFlagModel", name := "ship", desc := "(II)I" } : Jvm.MethodName)) ∈ lw_all := lw_g (lw_at lw_m9 65 rfl) rfl
theorem q2168 : (Jvm.Cond.methodLink "CargoFlagLaw" (99 : Nat) ({ cls := "CargoFlagModel", name := "aboard", desc := "(II)I" } : Jvm.MethodName)) ∈ lw_all := lw_g (lw_at lw_m9 73 rfl) rfl
theorem q2172 : (Jvm.Cond.methodLink "CargoFlagLaw" (103 : Nat) ({ cls := "CargoFlagModel", name := "weight", desc := "(II)I" } : Jvm.MethodName)) ∈ lw_all := lw_g (lw_at lw_m9 77 rfl) rfl
theorem q2183 : (Jvm.Cond.methodLink "CargoFlagLaw" (108 : Nat) ({ cls := "CargoFlagModel", name := "weightBy", desc := "(III)I" } : Jvm.MethodName)) ∈ lw_all := lw_g (lw_at lw_m9 88 rfl) rfl
theorem q2184 : (Jvm.Cond.methodLink "CargoFlagLaw" (112 : Nat) ({ cls := "CargoFlagModel", name := "captains", desc := "(I)I" } : Jvm.MethodName)) ∈ lw_all := lw_g (lw_at lw_m9 89 rfl) rfl
theorem q2192 : (Jvm.Cond.methodLink "CargoFlagLaw" (116 : Nat) ({ cls := "CargoFlagModel", name := "ruled", desc := "(I)I" } : Jvm.MethodName)) ∈ lw_all := lw_g (lw_at lw_m9 97 rfl) rfl
theorem q2200 : (Jvm.Cond.methodLink "CargoFlagLaw" (120 : Nat) ({ cls := "CargoFlagModel", name := "ruledBy", desc := "(II)I" } : Jvm.MethodName)) ∈ lw_all := lw_g (lw_at lw_m9 105 rfl) rfl
theorem q2201 : (Jvm.Cond.methodLink "CargoFlagLaw" (125 : Nat) ({ cls := "CargoFlagModel", name := "share", desc := "(II)Z" } : Jvm.MethodName)) ∈ lw_all := lw_g (lw_at lw_m9 106 rfl) rfl
theorem q2209 : (Jvm.Cond.methodLink "CargoFlagLaw" (129 : Nat) ({ cls := "CargoFlagModel", name := "lawful", desc := "(II)I" } : Jvm.MethodName)) ∈ lw_all := lw_g (lw_at lw_m9 114 rfl) rfl
theorem q2221 : (Jvm.Cond.methodLink "CargoFlagLaw" (133 : Nat) ({ cls := "CargoFlagModel", name := "deeds", desc := "(I)I" } : Jvm.MethodName)) ∈ lw_all := lw_g (lw_at lw_m9 126 rfl) rfl
theorem q2225 : (Jvm.Cond.methodLink "CargoFlagLaw" (137 : Nat) ({ cls := "CargoFlagModel", name := "board", desc := "(II)I" } : Jvm.MethodName)) ∈ lw_all := lw_g (lw_at lw_m9 130 rfl) rfl
theorem q2233 : (Jvm.Cond.methodLink "CargoFlagLaw" (141 : Nat) ({ cls := "CargoFlagModel", name := "boarders", desc := "(I)I" } : Jvm.MethodName)) ∈ lw_all := lw_g (lw_at lw_m9 138 rfl) rfl
theorem q2237 : (Jvm.Cond.methodLink "CargoFlagLaw" (145 : Nat) ({ cls := "CargoFlagModel", name := "greatest", desc := "(I)I" } : Jvm.MethodName)) ∈ lw_all := lw_g (lw_at lw_m9 142 rfl) rfl
theorem q2245 : (Jvm.Cond.methodLink "CargoFlagLaw" (149 : Nat) ({ cls := "CargoFlagModel", name := "buy", desc := "(III)I" } : Jvm.MethodName)) ∈ lw_all := lw_g (lw_at lw_m9 150 rfl) rfl
theorem q2272 : (Jvm.Cond.methodLink "CargoFlagLaw" (153 : Nat) ({ cls := "CargoFlagModel", name := "sell", desc := "(III)I" } : Jvm.MethodName)) ∈ lw_all := lw_g (lw_at lw_m9 177 rfl) rfl
theorem q2280 : (Jvm.Cond.methodLink "CargoFlagLaw" (157 : Nat) ({ cls := "CargoFlagModel", name := "dump", desc := "(III)I" } : Jvm.MethodName)) ∈ lw_all := lw_g (lw_at lw_m9 185 rfl) rfl
theorem q2288 : (Jvm.Cond.methodLink "CargoFlagLaw" (161 : Nat) ({ cls := "CargoFlagModel", name := "sail", desc := "(II)I" } : Jvm.MethodName)) ∈ lw_all := lw_g (lw_at lw_m9 193 rfl) rfl
theorem q2296 : (Jvm.Cond.methodLink "CargoFlagLaw" (165 : Nat) ({ cls := "CargoFlagModel", name := "day", desc := "(I)I" } : Jvm.MethodName)) ∈ lw_all := lw_g (lw_at lw_m9 201 rfl) rfl
theorem q2321 : (Jvm.Cond.methodLink "CargoFlagLaw" (170 : Nat) ({ cls := "CargoFlagModel", name := "pass", desc := "(IIII)Z" } : Jvm.MethodName)) ∈ lw_all := lw_g (lw_at lw_m9 226 rfl) rfl
theorem q2325 : (Jvm.Cond.methodLink "CargoFlagLaw" (175 : Nat) ({ cls := "CargoFlagModel", name := "rule", desc := "(I)Z" } : Jvm.MethodName)) ∈ lw_all := lw_g (lw_at lw_m9 230 rfl) rfl
theorem q2329 : (Jvm.Cond.methodLink "CargoFlagLaw" (180 : Nat) ({ cls := "CargoFlagModel", name := "war", desc := "(IIZ)Z" } : Jvm.MethodName)) ∈ lw_all := lw_g (lw_at lw_m9 234 rfl) rfl
theorem q2333 : (Jvm.Cond.methodLink "CargoFlagLaw" (184 : Nat) ({ cls := "CargoFlagModel", name := "trade", desc := "(III)Z" } : Jvm.MethodName)) ∈ lw_all := lw_g (lw_at lw_m9 238 rfl) rfl
theorem q2337 : (Jvm.Cond.methodLink "CargoFlagLaw" (188 : Nat) ({ cls := "CargoFlagModel", name := "pay", desc := "(II)I" } : Jvm.MethodName)) ∈ lw_all := lw_g (lw_at lw_m10 2 rfl) rfl
theorem q2343 : (Jvm.Cond.methodLink "CargoFlagLaw" (192 : Nat) ({ cls := "CargoFlagModel", name := "flagIn", desc := "(II)I" } : Jvm.MethodName)) ∈ lw_all := lw_g (lw_at lw_m10 8 rfl) rfl
theorem q2355 : (Jvm.Cond.methodLink "CargoFlagLaw" (196 : Nat) ({ cls := "CargoFlagModel", name := "tonsIn", desc := "(II)I" } : Jvm.MethodName)) ∈ lw_all := lw_g (lw_at lw_m10 20 rfl) rfl
theorem q2359 : (Jvm.Cond.methodLink "CargoFlagLaw" (200 : Nat) ({ cls := "CargoFlagModel", name := "turns", desc := "(I)I" } : Jvm.MethodName)) ∈ lw_all := lw_g (lw_at lw_m10 24 rfl) rfl
theorem q2363 : (Jvm.Cond.methodLink "CargoFlagLaw" (204 : Nat) ({ cls := "CargoFlagModel", name := "flags", desc := "(II)I" } : Jvm.MethodName)) ∈ lw_all := lw_g (lw_at lw_m10 28 rfl) rfl
theorem q2367 : (Jvm.Cond.methodLink "CargoFlagLaw" (208 : Nat) ({ cls := "CargoFlagModel", name := "wages", desc := "(II)I" } : Jvm.MethodName)) ∈ lw_all := lw_g (lw_at lw_m10 32 rfl) rfl
theorem q2371 : (Jvm.Cond.methodLink "CargoFlagLaw" (212 : Nat) ({ cls := "CargoFlagModel", name := "stowaway", desc := "(I)I" } : Jvm.MethodName)) ∈ lw_all := lw_g (lw_at lw_m10 36 rfl) rfl
theorem q2379 : (Jvm.Cond.methodLink "CargoFlagLaw" (216 : Nat) ({ cls := "CargoFlagModel", name := "stowawayGood", desc := "(I)I" } : Jvm.MethodName)) ∈ lw_all := lw_g (lw_at lw_m10 44 rfl) rfl
theorem q2383 : (Jvm.Cond.methodLink "CargoFlagLaw" (220 : Nat) ({ cls := "CargoFlagModel", name := "guard", desc := "(II)I" } : Jvm.MethodName)) ∈ lw_all := lw_g (lw_at lw_m10 48 rfl) rfl
theorem q2391 : (Jvm.Cond.methodLink "CargoFlagLaw" (224 : Nat) ({ cls := "CargoFlagModel", name := "passFor", desc := "(II)I" } : Jvm.MethodName)) ∈ lw_all := lw_g (lw_at lw_m10 56 rfl) rfl
theorem q2399 : (Jvm.Cond.methodLink "CargoFlagLaw" (228 : Nat) ({ cls := "CargoFlagModel", name := "passGood", desc := "(II)I" } : Jvm.MethodName)) ∈ lw_all := lw_g (lw_at lw_m10 64 rfl) rfl
theorem q2403 : (Jvm.Cond.methodLink "CargoFlagLaw" (232 : Nat) ({ cls := "CargoFlagModel", name := "peace", desc := "(I)I" } : Jvm.MethodName)) ∈ lw_all := lw_g (lw_at lw_m10 68 rfl) rfl
theorem q2412 : (Jvm.Cond.methodLink "CargoFlagLaw" (236 : Nat) ({ cls := "CargoFlagModel", name := "peaceCost", desc := "(I)I" } : Jvm.MethodName)) ∈ lw_all := lw_g (lw_at lw_m10 77 rfl) rfl
theorem q2416 : (Jvm.Cond.methodLink "CargoFlagLaw" (240 : Nat) ({ cls := "CargoFlagModel", name := "voyage", desc := "(II)I" } : Jvm.MethodName)) ∈ lw_all := lw_g (lw_at lw_m10 81 rfl) rfl
theorem q2445 : (Jvm.Cond.methodLink "CargoFlagLaw" (244 : Nat) ({ cls := "CargoFlagModel", name := "voyageAt", desc := "(III)I" } : Jvm.MethodName)) ∈ lw_all := lw_g (lw_at lw_m10 110 rfl) rfl
theorem q2449 : (Jvm.Cond.methodLink "CargoFlagLaw" (248 : Nat) ({ cls := "CargoFlagModel", name := "soonest", desc := "(II)I" } : Jvm.MethodName)) ∈ lw_all := lw_g (lw_at lw_m10 114 rfl) rfl
theorem q2457 : (Jvm.Cond.methodLink "CargoFlagLaw" (252 : Nat) ({ cls := "CargoFlagModel", name := "next", desc := "(II)I" } : Jvm.MethodName)) ∈ lw_all := lw_g (lw_at lw_m10 122 rfl) rfl
theorem q2461 : (Jvm.Cond.methodLink "CargoFlagLaw" (256 : Nat) ({ cls := "CargoFlagModel", name := "reach", desc := "(I)I" } : Jvm.MethodName)) ∈ lw_all := lw_g (lw_at lw_m10 126 rfl) rfl
theorem q2465 : (Jvm.Cond.methodLink "CargoFlagLaw" (260 : Nat) ({ cls := "CargoFlagModel", name := "best", desc := "(II)I" } : Jvm.MethodName)) ∈ lw_all := lw_g (lw_at lw_m10 130 rfl) rfl
theorem q2469 : (Jvm.Cond.methodLink "CargoFlagLaw" (264 : Nat) ({ cls := "CargoFlagModel", name := "log", desc := "(III)I" } : Jvm.MethodName)) ∈ lw_all := lw_g (lw_at lw_m10 134 rfl) rfl
theorem q2487 : (Jvm.Cond.methodLink "CargoFlagLaw" (268 : Nat) ({ cls := "CargoFlagModel", name := "sure", desc := "(III)I" } : Jvm.MethodName)) ∈ lw_all := lw_g (lw_at lw_m10 152 rfl) rfl
theorem q2491 : (Jvm.Cond.methodLink "CargoFlagLaw" (272 : Nat) ({ cls := "CargoFlagModel", name := "copyLog", desc := "(III)I" } : Jvm.MethodName)) ∈ lw_all := lw_g (lw_at lw_m10 156 rfl) rfl
theorem q2495 : (Jvm.Cond.methodLink "CargoFlagLaw" (276 : Nat) ({ cls := "CargoFlagModel", name := "live", desc := "(I)I" } : Jvm.MethodName)) ∈ lw_all := lw_g (lw_at lw_m10 160 rfl) rfl
theorem q2528 : (Jvm.Cond.methodLink "CargoFlagLaw" (280 : Nat) ({ cls := "CargoFlagModel", name := "lived", desc := "(I)I" } : Jvm.MethodName)) ∈ lw_all := lw_g (lw_at lw_m10 193 rfl) rfl
theorem q2532 : (Jvm.Cond.methodLink "CargoFlagLaw" (284 : Nat) ({ cls := "CargoFlagModel", name := "mean", desc := "(II)Z" } : Jvm.MethodName)) ∈ lw_all := lw_g (lw_at lw_m10 197 rfl) rfl
theorem q2536 : (Jvm.Cond.methodLink "CargoFlagLaw" (288 : Nat) ({ cls := "CargoFlagModel", name := "mark", desc := "()I" } : Jvm.MethodName)) ∈ lw_all := lw_g (lw_at lw_m10 201 rfl) rfl
theorem q2544 : (Jvm.Cond.methodLink "CargoFlagLaw" (292 : Nat) ({ cls := "CargoFlagModel", name := "undo", desc := "()I" } : Jvm.MethodName)) ∈ lw_all := lw_g (lw_at lw_m10 209 rfl) rfl
theorem q2548 : (Jvm.Cond.constantLong "CargoFlagLaw" (32 : Nat) (4294967295 : Int64)) ∈ lw_all := lw_g (lw_at lw_m10 213 rfl) rfl

theorem q190 : (Jvm.Cond.initialized "java/lang/System") ∈ lw_all := lw_g (lw_at lw_m1 15 rfl) rfl
set_option maxRecDepth 100000
theorem q649 : (Jvm.Cond.static ({ cls := "java/lang/System", name := "arraycopy", desc := "(Ljava/lang/Object;ILjava/lang/Object;II)V" } : Jvm.MethodName)) ∈ lw_all := lw_g (lw_at lw_m2 234 rfl) rfl
theorem q650 : (Jvm.Cond.native ({ cls := "java/lang/System", name := "arraycopy", desc := "(Ljava/lang/Object;ILjava/lang/Object;II)V" } : Jvm.MethodName)) ∈ lw_all := lw_g (lw_at lw_m2 235 rfl) rfl

theorem q218 : (Jvm.Cond.arrayOver (Jvm.ClassFile.FieldType.object "CargoFlag$Tray")) ∈ lw_tbl := lw_at lw_m1 43 rfl
set_option maxRecDepth 100000
theorem q298 : (Jvm.Cond.arrayClass Jvm.ClassFile.FieldType.byte) ∈ lw_all := lw_g (lw_at lw_m1 123 rfl) rfl
theorem q331 : (Jvm.Cond.arrayOver (Jvm.ClassFile.FieldType.object "CargoFlag$Nation")) ∈ lw_tbl := lw_at lw_m1 156 rfl
theorem q333 : (Jvm.Cond.arrayOver (Jvm.ClassFile.FieldType.object "CargoFlag$Good")) ∈ lw_tbl := lw_at lw_m1 158 rfl
theorem q335 : (Jvm.Cond.arrayOver (Jvm.ClassFile.FieldType.object "CargoFlag$Port")) ∈ lw_tbl := lw_at lw_m1 160 rfl
theorem q337 : (Jvm.Cond.arrayOver (Jvm.ClassFile.FieldType.object "CargoFlag$Ship")) ∈ lw_tbl := lw_at lw_m1 162 rfl
theorem q441 : (Jvm.Cond.arrayClass Jvm.ClassFile.FieldType.int) ∈ lw_all := lw_g (lw_at lw_m2 26 rfl) rfl
theorem q451 : (Jvm.Cond.arrayOver (Jvm.ClassFile.FieldType.object "CargoFlag$House")) ∈ lw_tbl := lw_at lw_m2 36 rfl
theorem q592 : (Jvm.Cond.arrayClass Jvm.ClassFile.FieldType.short) ∈ lw_all := lw_g (lw_at lw_m2 177 rfl) rfl
theorem q593 : (Jvm.Cond.arrayClass Jvm.ClassFile.FieldType.long) ∈ lw_all := lw_g (lw_at lw_m2 178 rfl) rfl
theorem q1036 : (Jvm.Cond.arrayOver (Jvm.ClassFile.FieldType.object "CargoFlag$Step")) ∈ lw_tbl := lw_at lw_m4 141 rfl
