/-! DECODE ROWS BY BYTES: one lemma an opcode; a method's code is cut into short pieces once, and a row reads its own piece alone. -/
set_option maxRecDepth 100000
/-- the code has just these bytes from pc on -/
def DkAt (code : ByteArray) (pc : Nat) (bs : List UInt8) : Prop := ∀ (j : Nat) (b : UInt8), bs[j]? = some b → code.data.toList[pc + j]? = some b
/-- the piece W has the bytes bs from its place j on -/
def dkIn (W : List UInt8) (j : Nat) (bs : List UInt8) : Bool := decide ((W.drop j).take bs.length = bs)
theorem dk_seg {l W T : List UInt8} {o o2 : Nat} (h : l.drop o = W ++ T) (n : Nat) (hn : W.length = n) (ho : o + n = o2) : l.drop o2 = T := by
  subst ho
  rw [← List.drop_drop, h, List.drop_left' hn]
theorem dk_at {code : ByteArray} {W T bs : List UInt8} {o pc : Nat} (h : code.data.toList.drop o = W ++ T) (j : Nat) (hp : o + j = pc) (hw : dkIn W j bs = true) : DkAt code pc bs := by
  subst hp
  intro i b e
  have h1 := of_decide_eq_true hw
  have h2 : i < bs.length := (List.getElem?_eq_some_iff.mp e).1
  have h3 : W[j + i]? = some b := by
    rw [← h1, List.getElem?_take, if_pos h2, List.getElem?_drop] at e
    exact e
  have h4 : j + i < W.length := (List.getElem?_eq_some_iff.mp h3).1
  have h5 : (code.data.toList.drop o)[j + i]? = some b := by
    rw [h, List.getElem?_append_left h4]
    exact h3
  rw [List.getElem?_drop, ← Nat.add_assoc] at h5
  exact h5
theorem dk_u1 {A : ByteArray} {p : Nat} {b : UInt8} (h : A.data.toList[p]? = some b) : (Reader.u1 : Reader DecodeError Nat) A p = .ok (b.toNat, p + 1) := by
  obtain ⟨h1, h2⟩ := List.getElem?_eq_some_iff.mp h
  have h3 : p < A.size := by simpa using h1
  have h4 : A[p]'h3 = b := h2
  have e : (Reader.u1 : Reader DecodeError Nat) A p = (if h : p < A.size then .ok (A[p].toNat, p + 1) else .error (HasTruncated.truncated p)) := by
    show (do if h : p < A.size then do set (p + 1); Pure.pure A[p].toNat else MonadExcept.throw (HasTruncated.truncated p) : Reader DecodeError Nat) A p = _
    by_cases hi : p < A.size
    · rw [dif_pos hi, dif_pos hi]; rfl
    · rw [dif_neg hi, dif_neg hi]; rfl
  rw [e, dif_pos h3, h4]
theorem dk_bind {α β : Type} {r : Reader DecodeError α} {f : α → Reader DecodeError β} {A : ByteArray} {p s : Nat} {a : α} (h : r A p = .ok (a, s)) : (r >>= f) A p = f a A s := by
  show (do let (a, s) ← r A p; f a A s : Except DecodeError (β × Nat)) = _
  rw [h]
  rfl
theorem dk_map {α β : Type} {r : Reader DecodeError α} {g : α → β} {A : ByteArray} {p s : Nat} {a : α} (h : r A p = .ok (a, s)) : (g <$> r) A p = .ok (g a, s) := by
  show (do let (a, s) ← r A p; .ok (g a, s) : Except DecodeError (β × Nat)) = _
  rw [h]
  rfl
theorem dk_u2 {A : ByteArray} {p : Nat} {a b : UInt8} (h : A.data.toList[p]? = some a) (h2 : A.data.toList[p + 1]? = some b) : (Reader.u2 : Reader DecodeError Nat) A p = .ok (a.toNat * 256 + b.toNat, p + 2) := by
  show (Reader.u1 >>= fun hi => Reader.u1 >>= fun lo => Pure.pure (hi * 256 + lo) : Reader DecodeError Nat) A p = _
  rw [dk_bind (dk_u1 h), dk_bind (dk_u1 h2)]
  rfl
theorem dk_of {code : ByteArray} {pc n : Nat} {i : Instr} (h : Decoder.instr pc code pc = .ok (i, pc + n)) : decode code pc = .ok (i, n) := by
  have e : decode code pc = (match Decoder.instr pc code pc with | .error x => .error x | .ok (j, s) => .ok (j, s - pc)) := by
    show (do let (j, s) ← Decoder.instr pc code pc; Pure.pure (j, s - pc) : Except DecodeError (Instr × Nat)) = _
    cases Decoder.instr pc code pc <;> rfl
  rw [e, h]
  show Except.ok (i, pc + n - pc) = _
  rw [Nat.add_sub_cancel_left]
theorem dk_1 {code : ByteArray} {pc : Nat} (h : DkAt code pc [1]) : decode code pc = .ok (.aconst_null, 1) := dk_of ((dk_bind (dk_u1 (h 0 _ rfl))).trans rfl)
theorem dk_2 {code : ByteArray} {pc : Nat} (h : DkAt code pc [2]) : decode code pc = .ok (.iconst (-1), 1) := dk_of ((dk_bind (dk_u1 (h 0 _ rfl))).trans rfl)
theorem dk_3 {code : ByteArray} {pc : Nat} (h : DkAt code pc [3]) : decode code pc = .ok (.iconst 0, 1) := dk_of ((dk_bind (dk_u1 (h 0 _ rfl))).trans rfl)
theorem dk_4 {code : ByteArray} {pc : Nat} (h : DkAt code pc [4]) : decode code pc = .ok (.iconst 1, 1) := dk_of ((dk_bind (dk_u1 (h 0 _ rfl))).trans rfl)
theorem dk_5 {code : ByteArray} {pc : Nat} (h : DkAt code pc [5]) : decode code pc = .ok (.iconst 2, 1) := dk_of ((dk_bind (dk_u1 (h 0 _ rfl))).trans rfl)
theorem dk_6 {code : ByteArray} {pc : Nat} (h : DkAt code pc [6]) : decode code pc = .ok (.iconst 3, 1) := dk_of ((dk_bind (dk_u1 (h 0 _ rfl))).trans rfl)
theorem dk_7 {code : ByteArray} {pc : Nat} (h : DkAt code pc [7]) : decode code pc = .ok (.iconst 4, 1) := dk_of ((dk_bind (dk_u1 (h 0 _ rfl))).trans rfl)
theorem dk_8 {code : ByteArray} {pc : Nat} (h : DkAt code pc [8]) : decode code pc = .ok (.iconst 5, 1) := dk_of ((dk_bind (dk_u1 (h 0 _ rfl))).trans rfl)
theorem dk_9 {code : ByteArray} {pc : Nat} (h : DkAt code pc [9]) : decode code pc = .ok (.lconst 0, 1) := dk_of ((dk_bind (dk_u1 (h 0 _ rfl))).trans rfl)
theorem dk_10 {code : ByteArray} {pc : Nat} (h : DkAt code pc [10]) : decode code pc = .ok (.lconst 1, 1) := dk_of ((dk_bind (dk_u1 (h 0 _ rfl))).trans rfl)
theorem dk_16 {code : ByteArray} {pc : Nat} (a : UInt8) (h : DkAt code pc [16, a]) : decode code pc = .ok (.bipush (Reader.signed 8 a.toNat), 2) := dk_of ((dk_bind (dk_u1 (h 0 _ rfl))).trans ((dk_bind (dk_map (dk_u1 (h 1 _ rfl)))).trans rfl))
theorem dk_17 {code : ByteArray} {pc : Nat} (a b : UInt8) (h : DkAt code pc [17, a, b]) : decode code pc = .ok (.sipush (Reader.signed 16 (a.toNat * 256 + b.toNat)), 3) := dk_of ((dk_bind (dk_u1 (h 0 _ rfl))).trans ((dk_bind (dk_map (dk_u2 (h 1 _ rfl) (h 2 _ rfl)))).trans rfl))
theorem dk_18 {code : ByteArray} {pc : Nat} (a : UInt8) (h : DkAt code pc [18, a]) : decode code pc = .ok (.ldc a.toNat, 2) := dk_of ((dk_bind (dk_u1 (h 0 _ rfl))).trans ((dk_bind (dk_u1 (h 1 _ rfl))).trans rfl))
theorem dk_19 {code : ByteArray} {pc : Nat} (a b : UInt8) (h : DkAt code pc [19, a, b]) : decode code pc = .ok (.ldc_w (a.toNat * 256 + b.toNat), 3) := dk_of ((dk_bind (dk_u1 (h 0 _ rfl))).trans ((dk_bind (dk_u2 (h 1 _ rfl) (h 2 _ rfl))).trans rfl))
theorem dk_20 {code : ByteArray} {pc : Nat} (a b : UInt8) (h : DkAt code pc [20, a, b]) : decode code pc = .ok (.ldc2_w (a.toNat * 256 + b.toNat), 3) := dk_of ((dk_bind (dk_u1 (h 0 _ rfl))).trans ((dk_bind (dk_u2 (h 1 _ rfl) (h 2 _ rfl))).trans rfl))
theorem dk_21 {code : ByteArray} {pc : Nat} (a : UInt8) (h : DkAt code pc [21, a]) : decode code pc = .ok (.iload a.toNat, 2) := dk_of ((dk_bind (dk_u1 (h 0 _ rfl))).trans ((dk_bind (dk_u1 (h 1 _ rfl))).trans rfl))
theorem dk_22 {code : ByteArray} {pc : Nat} (a : UInt8) (h : DkAt code pc [22, a]) : decode code pc = .ok (.lload a.toNat, 2) := dk_of ((dk_bind (dk_u1 (h 0 _ rfl))).trans ((dk_bind (dk_u1 (h 1 _ rfl))).trans rfl))
theorem dk_23 {code : ByteArray} {pc : Nat} (a : UInt8) (h : DkAt code pc [23, a]) : decode code pc = .ok (.fload a.toNat, 2) := dk_of ((dk_bind (dk_u1 (h 0 _ rfl))).trans ((dk_bind (dk_u1 (h 1 _ rfl))).trans rfl))
theorem dk_25 {code : ByteArray} {pc : Nat} (a : UInt8) (h : DkAt code pc [25, a]) : decode code pc = .ok (.aload a.toNat, 2) := dk_of ((dk_bind (dk_u1 (h 0 _ rfl))).trans ((dk_bind (dk_u1 (h 1 _ rfl))).trans rfl))
theorem dk_26 {code : ByteArray} {pc : Nat} (h : DkAt code pc [26]) : decode code pc = .ok (.iload_n 0, 1) := dk_of ((dk_bind (dk_u1 (h 0 _ rfl))).trans rfl)
theorem dk_27 {code : ByteArray} {pc : Nat} (h : DkAt code pc [27]) : decode code pc = .ok (.iload_n 1, 1) := dk_of ((dk_bind (dk_u1 (h 0 _ rfl))).trans rfl)
theorem dk_28 {code : ByteArray} {pc : Nat} (h : DkAt code pc [28]) : decode code pc = .ok (.iload_n 2, 1) := dk_of ((dk_bind (dk_u1 (h 0 _ rfl))).trans rfl)
theorem dk_29 {code : ByteArray} {pc : Nat} (h : DkAt code pc [29]) : decode code pc = .ok (.iload_n 3, 1) := dk_of ((dk_bind (dk_u1 (h 0 _ rfl))).trans rfl)
theorem dk_30 {code : ByteArray} {pc : Nat} (h : DkAt code pc [30]) : decode code pc = .ok (.lload_n 0, 1) := dk_of ((dk_bind (dk_u1 (h 0 _ rfl))).trans rfl)
theorem dk_31 {code : ByteArray} {pc : Nat} (h : DkAt code pc [31]) : decode code pc = .ok (.lload_n 1, 1) := dk_of ((dk_bind (dk_u1 (h 0 _ rfl))).trans rfl)
theorem dk_32 {code : ByteArray} {pc : Nat} (h : DkAt code pc [32]) : decode code pc = .ok (.lload_n 2, 1) := dk_of ((dk_bind (dk_u1 (h 0 _ rfl))).trans rfl)
theorem dk_42 {code : ByteArray} {pc : Nat} (h : DkAt code pc [42]) : decode code pc = .ok (.aload_n 0, 1) := dk_of ((dk_bind (dk_u1 (h 0 _ rfl))).trans rfl)
theorem dk_43 {code : ByteArray} {pc : Nat} (h : DkAt code pc [43]) : decode code pc = .ok (.aload_n 1, 1) := dk_of ((dk_bind (dk_u1 (h 0 _ rfl))).trans rfl)
theorem dk_44 {code : ByteArray} {pc : Nat} (h : DkAt code pc [44]) : decode code pc = .ok (.aload_n 2, 1) := dk_of ((dk_bind (dk_u1 (h 0 _ rfl))).trans rfl)
theorem dk_45 {code : ByteArray} {pc : Nat} (h : DkAt code pc [45]) : decode code pc = .ok (.aload_n 3, 1) := dk_of ((dk_bind (dk_u1 (h 0 _ rfl))).trans rfl)
theorem dk_46 {code : ByteArray} {pc : Nat} (h : DkAt code pc [46]) : decode code pc = .ok (.iaload, 1) := dk_of ((dk_bind (dk_u1 (h 0 _ rfl))).trans rfl)
theorem dk_47 {code : ByteArray} {pc : Nat} (h : DkAt code pc [47]) : decode code pc = .ok (.laload, 1) := dk_of ((dk_bind (dk_u1 (h 0 _ rfl))).trans rfl)
theorem dk_50 {code : ByteArray} {pc : Nat} (h : DkAt code pc [50]) : decode code pc = .ok (.aaload, 1) := dk_of ((dk_bind (dk_u1 (h 0 _ rfl))).trans rfl)
theorem dk_51 {code : ByteArray} {pc : Nat} (h : DkAt code pc [51]) : decode code pc = .ok (.baload, 1) := dk_of ((dk_bind (dk_u1 (h 0 _ rfl))).trans rfl)
theorem dk_52 {code : ByteArray} {pc : Nat} (h : DkAt code pc [52]) : decode code pc = .ok (.caload, 1) := dk_of ((dk_bind (dk_u1 (h 0 _ rfl))).trans rfl)
theorem dk_53 {code : ByteArray} {pc : Nat} (h : DkAt code pc [53]) : decode code pc = .ok (.saload, 1) := dk_of ((dk_bind (dk_u1 (h 0 _ rfl))).trans rfl)
theorem dk_54 {code : ByteArray} {pc : Nat} (a : UInt8) (h : DkAt code pc [54, a]) : decode code pc = .ok (.istore a.toNat, 2) := dk_of ((dk_bind (dk_u1 (h 0 _ rfl))).trans ((dk_bind (dk_u1 (h 1 _ rfl))).trans rfl))
theorem dk_55 {code : ByteArray} {pc : Nat} (a : UInt8) (h : DkAt code pc [55, a]) : decode code pc = .ok (.lstore a.toNat, 2) := dk_of ((dk_bind (dk_u1 (h 0 _ rfl))).trans ((dk_bind (dk_u1 (h 1 _ rfl))).trans rfl))
theorem dk_56 {code : ByteArray} {pc : Nat} (a : UInt8) (h : DkAt code pc [56, a]) : decode code pc = .ok (.fstore a.toNat, 2) := dk_of ((dk_bind (dk_u1 (h 0 _ rfl))).trans ((dk_bind (dk_u1 (h 1 _ rfl))).trans rfl))
theorem dk_58 {code : ByteArray} {pc : Nat} (a : UInt8) (h : DkAt code pc [58, a]) : decode code pc = .ok (.astore a.toNat, 2) := dk_of ((dk_bind (dk_u1 (h 0 _ rfl))).trans ((dk_bind (dk_u1 (h 1 _ rfl))).trans rfl))
theorem dk_59 {code : ByteArray} {pc : Nat} (h : DkAt code pc [59]) : decode code pc = .ok (.istore_n 0, 1) := dk_of ((dk_bind (dk_u1 (h 0 _ rfl))).trans rfl)
theorem dk_60 {code : ByteArray} {pc : Nat} (h : DkAt code pc [60]) : decode code pc = .ok (.istore_n 1, 1) := dk_of ((dk_bind (dk_u1 (h 0 _ rfl))).trans rfl)
theorem dk_61 {code : ByteArray} {pc : Nat} (h : DkAt code pc [61]) : decode code pc = .ok (.istore_n 2, 1) := dk_of ((dk_bind (dk_u1 (h 0 _ rfl))).trans rfl)
theorem dk_62 {code : ByteArray} {pc : Nat} (h : DkAt code pc [62]) : decode code pc = .ok (.istore_n 3, 1) := dk_of ((dk_bind (dk_u1 (h 0 _ rfl))).trans rfl)
theorem dk_75 {code : ByteArray} {pc : Nat} (h : DkAt code pc [75]) : decode code pc = .ok (.astore_n 0, 1) := dk_of ((dk_bind (dk_u1 (h 0 _ rfl))).trans rfl)
theorem dk_76 {code : ByteArray} {pc : Nat} (h : DkAt code pc [76]) : decode code pc = .ok (.astore_n 1, 1) := dk_of ((dk_bind (dk_u1 (h 0 _ rfl))).trans rfl)
theorem dk_77 {code : ByteArray} {pc : Nat} (h : DkAt code pc [77]) : decode code pc = .ok (.astore_n 2, 1) := dk_of ((dk_bind (dk_u1 (h 0 _ rfl))).trans rfl)
theorem dk_78 {code : ByteArray} {pc : Nat} (h : DkAt code pc [78]) : decode code pc = .ok (.astore_n 3, 1) := dk_of ((dk_bind (dk_u1 (h 0 _ rfl))).trans rfl)
theorem dk_79 {code : ByteArray} {pc : Nat} (h : DkAt code pc [79]) : decode code pc = .ok (.iastore, 1) := dk_of ((dk_bind (dk_u1 (h 0 _ rfl))).trans rfl)
theorem dk_80 {code : ByteArray} {pc : Nat} (h : DkAt code pc [80]) : decode code pc = .ok (.lastore, 1) := dk_of ((dk_bind (dk_u1 (h 0 _ rfl))).trans rfl)
theorem dk_83 {code : ByteArray} {pc : Nat} (h : DkAt code pc [83]) : decode code pc = .ok (.aastore, 1) := dk_of ((dk_bind (dk_u1 (h 0 _ rfl))).trans rfl)
theorem dk_84 {code : ByteArray} {pc : Nat} (h : DkAt code pc [84]) : decode code pc = .ok (.bastore, 1) := dk_of ((dk_bind (dk_u1 (h 0 _ rfl))).trans rfl)
theorem dk_87 {code : ByteArray} {pc : Nat} (h : DkAt code pc [87]) : decode code pc = .ok (.pop, 1) := dk_of ((dk_bind (dk_u1 (h 0 _ rfl))).trans rfl)
theorem dk_89 {code : ByteArray} {pc : Nat} (h : DkAt code pc [89]) : decode code pc = .ok (.dup, 1) := dk_of ((dk_bind (dk_u1 (h 0 _ rfl))).trans rfl)
theorem dk_90 {code : ByteArray} {pc : Nat} (h : DkAt code pc [90]) : decode code pc = .ok (.dup_x1, 1) := dk_of ((dk_bind (dk_u1 (h 0 _ rfl))).trans rfl)
theorem dk_91 {code : ByteArray} {pc : Nat} (h : DkAt code pc [91]) : decode code pc = .ok (.dup_x2, 1) := dk_of ((dk_bind (dk_u1 (h 0 _ rfl))).trans rfl)
theorem dk_92 {code : ByteArray} {pc : Nat} (h : DkAt code pc [92]) : decode code pc = .ok (.dup2, 1) := dk_of ((dk_bind (dk_u1 (h 0 _ rfl))).trans rfl)
theorem dk_96 {code : ByteArray} {pc : Nat} (h : DkAt code pc [96]) : decode code pc = .ok (.iadd, 1) := dk_of ((dk_bind (dk_u1 (h 0 _ rfl))).trans rfl)
theorem dk_97 {code : ByteArray} {pc : Nat} (h : DkAt code pc [97]) : decode code pc = .ok (.ladd, 1) := dk_of ((dk_bind (dk_u1 (h 0 _ rfl))).trans rfl)
theorem dk_100 {code : ByteArray} {pc : Nat} (h : DkAt code pc [100]) : decode code pc = .ok (.isub, 1) := dk_of ((dk_bind (dk_u1 (h 0 _ rfl))).trans rfl)
theorem dk_104 {code : ByteArray} {pc : Nat} (h : DkAt code pc [104]) : decode code pc = .ok (.imul, 1) := dk_of ((dk_bind (dk_u1 (h 0 _ rfl))).trans rfl)
theorem dk_106 {code : ByteArray} {pc : Nat} (h : DkAt code pc [106]) : decode code pc = .ok (.fmul, 1) := dk_of ((dk_bind (dk_u1 (h 0 _ rfl))).trans rfl)
theorem dk_108 {code : ByteArray} {pc : Nat} (h : DkAt code pc [108]) : decode code pc = .ok (.idiv, 1) := dk_of ((dk_bind (dk_u1 (h 0 _ rfl))).trans rfl)
theorem dk_112 {code : ByteArray} {pc : Nat} (h : DkAt code pc [112]) : decode code pc = .ok (.irem, 1) := dk_of ((dk_bind (dk_u1 (h 0 _ rfl))).trans rfl)
theorem dk_116 {code : ByteArray} {pc : Nat} (h : DkAt code pc [116]) : decode code pc = .ok (.ineg, 1) := dk_of ((dk_bind (dk_u1 (h 0 _ rfl))).trans rfl)
theorem dk_120 {code : ByteArray} {pc : Nat} (h : DkAt code pc [120]) : decode code pc = .ok (.ishl, 1) := dk_of ((dk_bind (dk_u1 (h 0 _ rfl))).trans rfl)
theorem dk_121 {code : ByteArray} {pc : Nat} (h : DkAt code pc [121]) : decode code pc = .ok (.lshl, 1) := dk_of ((dk_bind (dk_u1 (h 0 _ rfl))).trans rfl)
theorem dk_122 {code : ByteArray} {pc : Nat} (h : DkAt code pc [122]) : decode code pc = .ok (.ishr, 1) := dk_of ((dk_bind (dk_u1 (h 0 _ rfl))).trans rfl)
theorem dk_124 {code : ByteArray} {pc : Nat} (h : DkAt code pc [124]) : decode code pc = .ok (.iushr, 1) := dk_of ((dk_bind (dk_u1 (h 0 _ rfl))).trans rfl)
theorem dk_125 {code : ByteArray} {pc : Nat} (h : DkAt code pc [125]) : decode code pc = .ok (.lushr, 1) := dk_of ((dk_bind (dk_u1 (h 0 _ rfl))).trans rfl)
theorem dk_126 {code : ByteArray} {pc : Nat} (h : DkAt code pc [126]) : decode code pc = .ok (.iand, 1) := dk_of ((dk_bind (dk_u1 (h 0 _ rfl))).trans rfl)
theorem dk_127 {code : ByteArray} {pc : Nat} (h : DkAt code pc [127]) : decode code pc = .ok (.land, 1) := dk_of ((dk_bind (dk_u1 (h 0 _ rfl))).trans rfl)
theorem dk_128 {code : ByteArray} {pc : Nat} (h : DkAt code pc [128]) : decode code pc = .ok (.ior, 1) := dk_of ((dk_bind (dk_u1 (h 0 _ rfl))).trans rfl)
theorem dk_129 {code : ByteArray} {pc : Nat} (h : DkAt code pc [129]) : decode code pc = .ok (.lor, 1) := dk_of ((dk_bind (dk_u1 (h 0 _ rfl))).trans rfl)
theorem dk_130 {code : ByteArray} {pc : Nat} (h : DkAt code pc [130]) : decode code pc = .ok (.ixor, 1) := dk_of ((dk_bind (dk_u1 (h 0 _ rfl))).trans rfl)
theorem dk_131 {code : ByteArray} {pc : Nat} (h : DkAt code pc [131]) : decode code pc = .ok (.lxor, 1) := dk_of ((dk_bind (dk_u1 (h 0 _ rfl))).trans rfl)
theorem dk_132 {code : ByteArray} {pc : Nat} (a b : UInt8) (h : DkAt code pc [132, a, b]) : decode code pc = .ok (.iinc a.toNat (Reader.signed 8 b.toNat), 3) := dk_of ((dk_bind (dk_u1 (h 0 _ rfl))).trans ((dk_bind (dk_u1 (h 1 _ rfl))).trans ((dk_bind (dk_map (dk_u1 (h 2 _ rfl)))).trans rfl)))
theorem dk_133 {code : ByteArray} {pc : Nat} (h : DkAt code pc [133]) : decode code pc = .ok (.i2l, 1) := dk_of ((dk_bind (dk_u1 (h 0 _ rfl))).trans rfl)
theorem dk_134 {code : ByteArray} {pc : Nat} (h : DkAt code pc [134]) : decode code pc = .ok (.i2f, 1) := dk_of ((dk_bind (dk_u1 (h 0 _ rfl))).trans rfl)
theorem dk_136 {code : ByteArray} {pc : Nat} (h : DkAt code pc [136]) : decode code pc = .ok (.l2i, 1) := dk_of ((dk_bind (dk_u1 (h 0 _ rfl))).trans rfl)
theorem dk_139 {code : ByteArray} {pc : Nat} (h : DkAt code pc [139]) : decode code pc = .ok (.f2i, 1) := dk_of ((dk_bind (dk_u1 (h 0 _ rfl))).trans rfl)
theorem dk_145 {code : ByteArray} {pc : Nat} (h : DkAt code pc [145]) : decode code pc = .ok (.i2b, 1) := dk_of ((dk_bind (dk_u1 (h 0 _ rfl))).trans rfl)
theorem dk_146 {code : ByteArray} {pc : Nat} (h : DkAt code pc [146]) : decode code pc = .ok (.i2c, 1) := dk_of ((dk_bind (dk_u1 (h 0 _ rfl))).trans rfl)
theorem dk_148 {code : ByteArray} {pc : Nat} (h : DkAt code pc [148]) : decode code pc = .ok (.lcmp, 1) := dk_of ((dk_bind (dk_u1 (h 0 _ rfl))).trans rfl)
theorem dk_150 {code : ByteArray} {pc : Nat} (h : DkAt code pc [150]) : decode code pc = .ok (.fcmp .g, 1) := dk_of ((dk_bind (dk_u1 (h 0 _ rfl))).trans rfl)
theorem dk_153 {code : ByteArray} {pc : Nat} (a b : UInt8) (h : DkAt code pc [153, a, b]) : decode code pc = .ok (.ifCond .eq (Reader.signed 16 (a.toNat * 256 + b.toNat)), 3) := dk_of ((dk_bind (dk_u1 (h 0 _ rfl))).trans ((dk_bind (dk_map (dk_u2 (h 1 _ rfl) (h 2 _ rfl)))).trans rfl))
theorem dk_154 {code : ByteArray} {pc : Nat} (a b : UInt8) (h : DkAt code pc [154, a, b]) : decode code pc = .ok (.ifCond .ne (Reader.signed 16 (a.toNat * 256 + b.toNat)), 3) := dk_of ((dk_bind (dk_u1 (h 0 _ rfl))).trans ((dk_bind (dk_map (dk_u2 (h 1 _ rfl) (h 2 _ rfl)))).trans rfl))
theorem dk_155 {code : ByteArray} {pc : Nat} (a b : UInt8) (h : DkAt code pc [155, a, b]) : decode code pc = .ok (.ifCond .lt (Reader.signed 16 (a.toNat * 256 + b.toNat)), 3) := dk_of ((dk_bind (dk_u1 (h 0 _ rfl))).trans ((dk_bind (dk_map (dk_u2 (h 1 _ rfl) (h 2 _ rfl)))).trans rfl))
theorem dk_156 {code : ByteArray} {pc : Nat} (a b : UInt8) (h : DkAt code pc [156, a, b]) : decode code pc = .ok (.ifCond .ge (Reader.signed 16 (a.toNat * 256 + b.toNat)), 3) := dk_of ((dk_bind (dk_u1 (h 0 _ rfl))).trans ((dk_bind (dk_map (dk_u2 (h 1 _ rfl) (h 2 _ rfl)))).trans rfl))
theorem dk_157 {code : ByteArray} {pc : Nat} (a b : UInt8) (h : DkAt code pc [157, a, b]) : decode code pc = .ok (.ifCond .gt (Reader.signed 16 (a.toNat * 256 + b.toNat)), 3) := dk_of ((dk_bind (dk_u1 (h 0 _ rfl))).trans ((dk_bind (dk_map (dk_u2 (h 1 _ rfl) (h 2 _ rfl)))).trans rfl))
theorem dk_158 {code : ByteArray} {pc : Nat} (a b : UInt8) (h : DkAt code pc [158, a, b]) : decode code pc = .ok (.ifCond .le (Reader.signed 16 (a.toNat * 256 + b.toNat)), 3) := dk_of ((dk_bind (dk_u1 (h 0 _ rfl))).trans ((dk_bind (dk_map (dk_u2 (h 1 _ rfl) (h 2 _ rfl)))).trans rfl))
theorem dk_159 {code : ByteArray} {pc : Nat} (a b : UInt8) (h : DkAt code pc [159, a, b]) : decode code pc = .ok (.if_icmp .eq (Reader.signed 16 (a.toNat * 256 + b.toNat)), 3) := dk_of ((dk_bind (dk_u1 (h 0 _ rfl))).trans ((dk_bind (dk_map (dk_u2 (h 1 _ rfl) (h 2 _ rfl)))).trans rfl))
theorem dk_160 {code : ByteArray} {pc : Nat} (a b : UInt8) (h : DkAt code pc [160, a, b]) : decode code pc = .ok (.if_icmp .ne (Reader.signed 16 (a.toNat * 256 + b.toNat)), 3) := dk_of ((dk_bind (dk_u1 (h 0 _ rfl))).trans ((dk_bind (dk_map (dk_u2 (h 1 _ rfl) (h 2 _ rfl)))).trans rfl))
theorem dk_161 {code : ByteArray} {pc : Nat} (a b : UInt8) (h : DkAt code pc [161, a, b]) : decode code pc = .ok (.if_icmp .lt (Reader.signed 16 (a.toNat * 256 + b.toNat)), 3) := dk_of ((dk_bind (dk_u1 (h 0 _ rfl))).trans ((dk_bind (dk_map (dk_u2 (h 1 _ rfl) (h 2 _ rfl)))).trans rfl))
theorem dk_162 {code : ByteArray} {pc : Nat} (a b : UInt8) (h : DkAt code pc [162, a, b]) : decode code pc = .ok (.if_icmp .ge (Reader.signed 16 (a.toNat * 256 + b.toNat)), 3) := dk_of ((dk_bind (dk_u1 (h 0 _ rfl))).trans ((dk_bind (dk_map (dk_u2 (h 1 _ rfl) (h 2 _ rfl)))).trans rfl))
theorem dk_163 {code : ByteArray} {pc : Nat} (a b : UInt8) (h : DkAt code pc [163, a, b]) : decode code pc = .ok (.if_icmp .gt (Reader.signed 16 (a.toNat * 256 + b.toNat)), 3) := dk_of ((dk_bind (dk_u1 (h 0 _ rfl))).trans ((dk_bind (dk_map (dk_u2 (h 1 _ rfl) (h 2 _ rfl)))).trans rfl))
theorem dk_164 {code : ByteArray} {pc : Nat} (a b : UInt8) (h : DkAt code pc [164, a, b]) : decode code pc = .ok (.if_icmp .le (Reader.signed 16 (a.toNat * 256 + b.toNat)), 3) := dk_of ((dk_bind (dk_u1 (h 0 _ rfl))).trans ((dk_bind (dk_map (dk_u2 (h 1 _ rfl) (h 2 _ rfl)))).trans rfl))
theorem dk_165 {code : ByteArray} {pc : Nat} (a b : UInt8) (h : DkAt code pc [165, a, b]) : decode code pc = .ok (.if_acmp .eq (Reader.signed 16 (a.toNat * 256 + b.toNat)), 3) := dk_of ((dk_bind (dk_u1 (h 0 _ rfl))).trans ((dk_bind (dk_map (dk_u2 (h 1 _ rfl) (h 2 _ rfl)))).trans rfl))
theorem dk_166 {code : ByteArray} {pc : Nat} (a b : UInt8) (h : DkAt code pc [166, a, b]) : decode code pc = .ok (.if_acmp .ne (Reader.signed 16 (a.toNat * 256 + b.toNat)), 3) := dk_of ((dk_bind (dk_u1 (h 0 _ rfl))).trans ((dk_bind (dk_map (dk_u2 (h 1 _ rfl) (h 2 _ rfl)))).trans rfl))
theorem dk_167 {code : ByteArray} {pc : Nat} (a b : UInt8) (h : DkAt code pc [167, a, b]) : decode code pc = .ok (.goto (Reader.signed 16 (a.toNat * 256 + b.toNat)), 3) := dk_of ((dk_bind (dk_u1 (h 0 _ rfl))).trans ((dk_bind (dk_map (dk_u2 (h 1 _ rfl) (h 2 _ rfl)))).trans rfl))
theorem dk_172 {code : ByteArray} {pc : Nat} (h : DkAt code pc [172]) : decode code pc = .ok (.ireturn, 1) := dk_of ((dk_bind (dk_u1 (h 0 _ rfl))).trans rfl)
theorem dk_173 {code : ByteArray} {pc : Nat} (h : DkAt code pc [173]) : decode code pc = .ok (.lreturn, 1) := dk_of ((dk_bind (dk_u1 (h 0 _ rfl))).trans rfl)
theorem dk_176 {code : ByteArray} {pc : Nat} (h : DkAt code pc [176]) : decode code pc = .ok (.areturn, 1) := dk_of ((dk_bind (dk_u1 (h 0 _ rfl))).trans rfl)
theorem dk_177 {code : ByteArray} {pc : Nat} (h : DkAt code pc [177]) : decode code pc = .ok (.return_, 1) := dk_of ((dk_bind (dk_u1 (h 0 _ rfl))).trans rfl)
theorem dk_178 {code : ByteArray} {pc : Nat} (a b : UInt8) (h : DkAt code pc [178, a, b]) : decode code pc = .ok (.getstatic (a.toNat * 256 + b.toNat), 3) := dk_of ((dk_bind (dk_u1 (h 0 _ rfl))).trans ((dk_bind (dk_u2 (h 1 _ rfl) (h 2 _ rfl))).trans rfl))
theorem dk_180 {code : ByteArray} {pc : Nat} (a b : UInt8) (h : DkAt code pc [180, a, b]) : decode code pc = .ok (.getfield (a.toNat * 256 + b.toNat), 3) := dk_of ((dk_bind (dk_u1 (h 0 _ rfl))).trans ((dk_bind (dk_u2 (h 1 _ rfl) (h 2 _ rfl))).trans rfl))
theorem dk_181 {code : ByteArray} {pc : Nat} (a b : UInt8) (h : DkAt code pc [181, a, b]) : decode code pc = .ok (.putfield (a.toNat * 256 + b.toNat), 3) := dk_of ((dk_bind (dk_u1 (h 0 _ rfl))).trans ((dk_bind (dk_u2 (h 1 _ rfl) (h 2 _ rfl))).trans rfl))
theorem dk_182 {code : ByteArray} {pc : Nat} (a b : UInt8) (h : DkAt code pc [182, a, b]) : decode code pc = .ok (.invokevirtual (a.toNat * 256 + b.toNat), 3) := dk_of ((dk_bind (dk_u1 (h 0 _ rfl))).trans ((dk_bind (dk_u2 (h 1 _ rfl) (h 2 _ rfl))).trans rfl))
theorem dk_183 {code : ByteArray} {pc : Nat} (a b : UInt8) (h : DkAt code pc [183, a, b]) : decode code pc = .ok (.invokespecial (a.toNat * 256 + b.toNat), 3) := dk_of ((dk_bind (dk_u1 (h 0 _ rfl))).trans ((dk_bind (dk_u2 (h 1 _ rfl) (h 2 _ rfl))).trans rfl))
theorem dk_184 {code : ByteArray} {pc : Nat} (a b : UInt8) (h : DkAt code pc [184, a, b]) : decode code pc = .ok (.invokestatic (a.toNat * 256 + b.toNat), 3) := dk_of ((dk_bind (dk_u1 (h 0 _ rfl))).trans ((dk_bind (dk_u2 (h 1 _ rfl) (h 2 _ rfl))).trans rfl))
theorem dk_187 {code : ByteArray} {pc : Nat} (a b : UInt8) (h : DkAt code pc [187, a, b]) : decode code pc = .ok (.new (a.toNat * 256 + b.toNat), 3) := dk_of ((dk_bind (dk_u1 (h 0 _ rfl))).trans ((dk_bind (dk_u2 (h 1 _ rfl) (h 2 _ rfl))).trans rfl))
theorem dk_188_4 {code : ByteArray} {pc : Nat} (h : DkAt code pc [188, 4]) : decode code pc = .ok (.newarray .boolean, 2) := dk_of ((dk_bind (dk_u1 (h 0 _ rfl))).trans ((dk_bind (dk_u1 (h 1 _ rfl))).trans rfl))
theorem dk_188_8 {code : ByteArray} {pc : Nat} (h : DkAt code pc [188, 8]) : decode code pc = .ok (.newarray .byte, 2) := dk_of ((dk_bind (dk_u1 (h 0 _ rfl))).trans ((dk_bind (dk_u1 (h 1 _ rfl))).trans rfl))
theorem dk_188_10 {code : ByteArray} {pc : Nat} (h : DkAt code pc [188, 10]) : decode code pc = .ok (.newarray .int, 2) := dk_of ((dk_bind (dk_u1 (h 0 _ rfl))).trans ((dk_bind (dk_u1 (h 1 _ rfl))).trans rfl))
theorem dk_188_11 {code : ByteArray} {pc : Nat} (h : DkAt code pc [188, 11]) : decode code pc = .ok (.newarray .long, 2) := dk_of ((dk_bind (dk_u1 (h 0 _ rfl))).trans ((dk_bind (dk_u1 (h 1 _ rfl))).trans rfl))
theorem dk_189 {code : ByteArray} {pc : Nat} (a b : UInt8) (h : DkAt code pc [189, a, b]) : decode code pc = .ok (.anewarray (a.toNat * 256 + b.toNat), 3) := dk_of ((dk_bind (dk_u1 (h 0 _ rfl))).trans ((dk_bind (dk_u2 (h 1 _ rfl) (h 2 _ rfl))).trans rfl))
theorem dk_190 {code : ByteArray} {pc : Nat} (h : DkAt code pc [190]) : decode code pc = .ok (.arraylength, 1) := dk_of ((dk_bind (dk_u1 (h 0 _ rfl))).trans rfl)
theorem dk_191 {code : ByteArray} {pc : Nat} (h : DkAt code pc [191]) : decode code pc = .ok (.athrow, 1) := dk_of ((dk_bind (dk_u1 (h 0 _ rfl))).trans rfl)
theorem dk_192 {code : ByteArray} {pc : Nat} (a b : UInt8) (h : DkAt code pc [192, a, b]) : decode code pc = .ok (.checkcast (a.toNat * 256 + b.toNat), 3) := dk_of ((dk_bind (dk_u1 (h 0 _ rfl))).trans ((dk_bind (dk_u2 (h 1 _ rfl) (h 2 _ rfl))).trans rfl))
theorem dk_193 {code : ByteArray} {pc : Nat} (a b : UInt8) (h : DkAt code pc [193, a, b]) : decode code pc = .ok (.instanceof (a.toNat * 256 + b.toNat), 3) := dk_of ((dk_bind (dk_u1 (h 0 _ rfl))).trans ((dk_bind (dk_u2 (h 1 _ rfl) (h 2 _ rfl))).trans rfl))
theorem dk_198 {code : ByteArray} {pc : Nat} (a b : UInt8) (h : DkAt code pc [198, a, b]) : decode code pc = .ok (.ifnull (Reader.signed 16 (a.toNat * 256 + b.toNat)), 3) := dk_of ((dk_bind (dk_u1 (h 0 _ rfl))).trans ((dk_bind (dk_map (dk_u2 (h 1 _ rfl) (h 2 _ rfl)))).trans rfl))
theorem dk_199 {code : ByteArray} {pc : Nat} (a b : UInt8) (h : DkAt code pc [199, a, b]) : decode code pc = .ok (.ifnonnull (Reader.signed 16 (a.toNat * 256 + b.toNat)), 3) := dk_of ((dk_bind (dk_u1 (h 0 _ rfl))).trans ((dk_bind (dk_map (dk_u2 (h 1 _ rfl) (h 2 _ rfl)))).trans rfl))

theorem q542 : (Jvm.Cond.sameMethod "[B" "java/lang/Object" "clone" "()Ljava/lang/Object;") ∈ lw_all := lw_g (lw_at lw_m3 14 rfl) rfl
set_option maxRecDepth 100000
theorem q545 : (Jvm.Cond.selects "[B" ({ cls := "[B", name := "clone", desc := "()Ljava/lang/Object;" } : Jvm.MethodName) ({ cls := "java/lang/Object", name := "clone", desc := "()Ljava/lang/Object;" } : Jvm.MethodName)) ∈ lw_all := lw_g (lw_at lw_m3 17 rfl) rfl
theorem q546 : (Jvm.Cond.castable "[B" "java/lang/Cloneable") ∈ lw_tbl := lw_at lw_m3 18 rfl
theorem q2742 : (Jvm.Cond.castable "[B" "java/lang/Object") ∈ lw_tbl := lw_at lw_m12 54 rfl
theorem q2739 : (Jvm.Cond.castable "[I" "java/lang/Object") ∈ lw_tbl := lw_at lw_m12 51 rfl
set_option maxRecDepth 100000
theorem q2745 : (Jvm.Cond.castable "[J" "java/lang/Object") ∈ lw_tbl := lw_at lw_m12 57 rfl
set_option maxRecDepth 100000
theorem q2741 : (Jvm.Cond.castable "[LTrunkYards$Trunk;" "java/lang/Object") ∈ lw_tbl := lw_at lw_m12 53 rfl
set_option maxRecDepth 100000
theorem q2734 : (Jvm.Cond.sameMethod "[Ljava/lang/Object;" "java/lang/Object" "getClass" "()Ljava/lang/Class;") ∈ lw_all := lw_g (lw_at lw_m12 46 rfl) rfl
set_option maxRecDepth 100000
theorem q2735 : (Jvm.Cond.selects "[Ljava/lang/Object;" ({ cls := "java/lang/Object", name := "getClass", desc := "()Ljava/lang/Class;" } : Jvm.MethodName) ({ cls := "java/lang/Object", name := "getClass", desc := "()Ljava/lang/Class;" } : Jvm.MethodName)) ∈ lw_all := lw_g (lw_at lw_m12 47 rfl) rfl
theorem q2740 : (Jvm.Cond.castable "[Ljava/lang/Object;" "java/lang/Object") ∈ lw_tbl := lw_at lw_m12 52 rfl
theorem q2743 : (Jvm.Cond.castable "[Ljava/util/HashMap$Node;" "java/lang/Object") ∈ lw_tbl := lw_at lw_m12 55 rfl
set_option maxRecDepth 100000
theorem q2738 : (Jvm.Cond.castable "[Z" "java/lang/Object") ∈ lw_tbl := lw_at lw_m12 50 rfl
set_option maxRecDepth 100000
theorem q2744 : (Jvm.Cond.castable "[[I" "java/lang/Object") ∈ lw_tbl := lw_at lw_m12 56 rfl
set_option maxRecDepth 100000
theorem q2737 : (Jvm.Cond.castable "[[Z" "java/lang/Object") ∈ lw_tbl := lw_at lw_m12 49 rfl
set_option maxRecDepth 100000
theorem q836 : (Jvm.Cond.interfaceMethod "java/lang/Comparable" "java/lang/Comparable" "compareTo" "(Ljava/lang/Object;)I") ∈ lw_tbl := lw_at lw_m4 68 rfl
set_option maxRecDepth 100000
theorem q837 : (Jvm.Cond.declares ({ cls := "java/lang/Comparable", name := "compareTo", desc := "(Ljava/lang/Object;)I" } : Jvm.MethodName)) ∈ lw_tbl := lw_at lw_m4 69 rfl
theorem q74 : (Jvm.Cond.initialized "java/lang/Number") ∈ lw_all := lw_g (lw_at lw_m1 26 rfl) rfl
set_option maxRecDepth 100000
theorem q61 : (Jvm.Cond.initialized "java/lang/System") ∈ lw_all := lw_g (lw_at lw_m1 13 rfl) rfl
set_option maxRecDepth 100000
theorem q304 : (Jvm.Cond.static ({ cls := "java/lang/System", name := "arraycopy", desc := "(Ljava/lang/Object;ILjava/lang/Object;II)V" } : Jvm.MethodName)) ∈ lw_all := lw_g (lw_at lw_m2 16 rfl) rfl
theorem q305 : (Jvm.Cond.native ({ cls := "java/lang/System", name := "arraycopy", desc := "(Ljava/lang/Object;ILjava/lang/Object;II)V" } : Jvm.MethodName)) ∈ lw_all := lw_g (lw_at lw_m2 17 rfl) rfl
theorem q368 : (Jvm.Cond.static ({ cls := "java/lang/System", name := "identityHashCode", desc := "(Ljava/lang/Object;)I" } : Jvm.MethodName)) ∈ lw_all := lw_g (lw_at lw_m2 80 rfl) rfl
theorem q369 : (Jvm.Cond.native ({ cls := "java/lang/System", name := "identityHashCode", desc := "(Ljava/lang/Object;)I" } : Jvm.MethodName)) ∈ lw_all := lw_g (lw_at lw_m2 81 rfl) rfl
theorem q101 : (Jvm.Cond.initialized "java/util/AbstractList$ListItr") ∈ lw_all := lw_g (lw_at lw_m1 53 rfl) rfl
set_option maxRecDepth 100000
theorem q278 : (Jvm.Cond.selects "java/util/AbstractList$ListItr" ({ cls := "java/lang/Object", name := "getClass", desc := "()Ljava/lang/Class;" } : Jvm.MethodName) ({ cls := "java/lang/Object", name := "getClass", desc := "()Ljava/lang/Class;" } : Jvm.MethodName)) ∈ lw_all := lw_g (lw_at lw_m1 230 rfl) rfl
theorem q1474 : (Jvm.Cond.castable "java/util/AbstractList$ListItr" "java/util/Iterator") ∈ lw_tbl := lw_at lw_m6 226 rfl
theorem q1475 : (Jvm.Cond.selects "java/util/AbstractList$ListItr" ({ cls := "java/util/Iterator", name := "hasNext", desc := "()Z" } : Jvm.MethodName) ({ cls := "java/util/AbstractList$Itr", name := "hasNext", desc := "()Z" } : Jvm.MethodName)) ∈ lw_all := lw_g (lw_at lw_m6 227 rfl) rfl
theorem q1476 : (Jvm.Cond.unhidden "java/util/AbstractList$ListItr" "hasNext" "()Z") ∈ lw_tbl := lw_at lw_m6 228 rfl
theorem q1510 : (Jvm.Cond.selects "java/util/AbstractList$ListItr" ({ cls := "java/util/Iterator", name := "next", desc := "()Ljava/lang/Object;" } : Jvm.MethodName) ({ cls := "java/util/AbstractList$Itr", name := "next", desc := "()Ljava/lang/Object;" } : Jvm.MethodName)) ∈ lw_all := lw_g (lw_at lw_m7 22 rfl) rfl
theorem q1511 : (Jvm.Cond.unhidden "java/util/AbstractList$ListItr" "next" "()Ljava/lang/Object;") ∈ lw_tbl := lw_at lw_m7 23 rfl
theorem q1518 : (Jvm.Cond.selects "java/util/AbstractList$ListItr" ({ cls := "java/util/AbstractList$Itr", name := "checkForComodification", desc := "()V" } : Jvm.MethodName) ({ cls := "java/util/AbstractList$Itr", name := "checkForComodification", desc := "()V" } : Jvm.MethodName)) ∈ lw_all := lw_g (lw_at lw_m7 30 rfl) rfl
theorem q2723 : (Jvm.Cond.castable "java/util/AbstractList$ListItr" "java/lang/Object") ∈ lw_tbl := lw_at lw_m12 35 rfl
theorem q2754 : (Jvm.Cond.fieldLink "java/util/AbstractList$ListItr" (1 : Nat) "java/util/AbstractList$ListItr" "this$0" "Ljava/util/AbstractList;") ∈ lw_all := lw_g (lw_at lw_m12 66 rfl) rfl
theorem q2755 : (Jvm.Cond.fieldLink "java/util/AbstractList$ListItr" (13 : Nat) "java/util/AbstractList$ListItr" "cursor" "I") ∈ lw_all := lw_g (lw_at lw_m12 67 rfl) rfl
theorem q2756 : (Jvm.Cond.sameField "java/util/AbstractList$ListItr" "java/util/AbstractList$Itr" "cursor" "I") ∈ lw_all := lw_g (lw_at lw_m12 68 rfl) rfl
theorem q2256 : (Jvm.Cond.interfaceMethod "java/util/Collection" "java/util/Collection" "toArray" "()[Ljava/lang/Object;") ∈ lw_tbl := lw_at lw_m10 48 rfl
set_option maxRecDepth 100000
theorem q2257 : (Jvm.Cond.declares ({ cls := "java/util/Collection", name := "toArray", desc := "()[Ljava/lang/Object;" } : Jvm.MethodName)) ∈ lw_tbl := lw_at lw_m10 49 rfl
theorem q1472 : (Jvm.Cond.interfaceMethod "java/util/Iterator" "java/util/Iterator" "hasNext" "()Z") ∈ lw_tbl := lw_at lw_m6 224 rfl
set_option maxRecDepth 100000
theorem q1473 : (Jvm.Cond.declares ({ cls := "java/util/Iterator", name := "hasNext", desc := "()Z" } : Jvm.MethodName)) ∈ lw_tbl := lw_at lw_m6 225 rfl
theorem q1508 : (Jvm.Cond.interfaceMethod "java/util/Iterator" "java/util/Iterator" "next" "()Ljava/lang/Object;") ∈ lw_tbl := lw_at lw_m7 20 rfl
theorem q1509 : (Jvm.Cond.declares ({ cls := "java/util/Iterator", name := "next", desc := "()Ljava/lang/Object;" } : Jvm.MethodName)) ∈ lw_tbl := lw_at lw_m7 21 rfl
theorem q407 : (Jvm.Cond.interfaceMethod "jdk/internal/access/JavaLangAccess" "jdk/internal/access/JavaLangAccess" "getUTF16Char" "([BI)C") ∈ lw_tbl := lw_at lw_m2 119 rfl
set_option maxRecDepth 100000
theorem q408 : (Jvm.Cond.declares ({ cls := "jdk/internal/access/JavaLangAccess", name := "getUTF16Char", desc := "([BI)C" } : Jvm.MethodName)) ∈ lw_tbl := lw_at lw_m2 120 rfl
theorem q79 : (Jvm.Cond.initialized "jdk/internal/misc/UnsafeConstants") ∈ lw_all := lw_g (lw_at lw_m1 31 rfl) rfl
set_option maxRecDepth 100000
theorem q929 : (Jvm.Cond.laysStatic "jdk/internal/misc/UnsafeConstants" "BIG_ENDIAN" "Z") ∈ lw_tbl := lw_at lw_m4 161 rfl
theorem q149 : (Jvm.Cond.arrayOver (Jvm.ClassFile.FieldType.array Jvm.ClassFile.FieldType.boolean)) ∈ lw_tbl := lw_at lw_m1 101 rfl
set_option maxRecDepth 100000
theorem q199 : (Jvm.Cond.arrayClass Jvm.ClassFile.FieldType.boolean) ∈ lw_all := lw_g (lw_at lw_m1 151 rfl) rfl
theorem q221 : (Jvm.Cond.arrayClass Jvm.ClassFile.FieldType.int) ∈ lw_all := lw_g (lw_at lw_m1 173 rfl) rfl
theorem q298 : (Jvm.Cond.arrayOver (Jvm.ClassFile.FieldType.object "java/lang/Object")) ∈ lw_tbl := lw_at lw_m2 10 rfl
theorem q324 : (Jvm.Cond.arrayOver (Jvm.ClassFile.FieldType.object "TrunkYards$Trunk")) ∈ lw_tbl := lw_at lw_m2 36 rfl
theorem q515 : (Jvm.Cond.arrayClass Jvm.ClassFile.FieldType.byte) ∈ lw_all := lw_g (lw_at lw_m2 227 rfl) rfl
theorem q752 : (Jvm.Cond.arrayOver (Jvm.ClassFile.FieldType.object "java/util/HashMap$Node")) ∈ lw_tbl := lw_at lw_m3 224 rfl
theorem q1752 : (Jvm.Cond.arrayOver (Jvm.ClassFile.FieldType.array Jvm.ClassFile.FieldType.int)) ∈ lw_tbl := lw_at lw_m8 24 rfl
theorem q2663 : (Jvm.Cond.arrayClass Jvm.ClassFile.FieldType.long) ∈ lw_all := lw_g (lw_at lw_m11 215 rfl) rfl
theorem q2746 : (Jvm.Cond.arrayClass Jvm.ClassFile.FieldType.char) ∈ lw_all := lw_g (lw_at lw_m12 58 rfl) rfl
theorem q2747 : (Jvm.Cond.arrayClass Jvm.ClassFile.FieldType.short) ∈ lw_all := lw_g (lw_at lw_m12 59 rfl) rfl

/-! java/util/AbstractCollection -/
set_option maxRecDepth 100000
def RJ0 : String := "java/util/AbstractCollection"
abbrev cJ0_init : ByteArray := prog_47_method_1_code
def yJ0_init : MethodName := ⟨RJ0, "<init>", "()V"⟩
theorem dJ0_init_0 : decode cJ0_init 0 = .ok (.aload_n 0, 1) := by decide +kernel
theorem dJ0_init_1 : decode cJ0_init 1 = .ok (.invokespecial 1, 3) := by decide +kernel
theorem dJ0_init_4 : decode cJ0_init 4 = .ok (.return_, 1) := by decide +kernel
abbrev cJ0_isEmpty : ByteArray := prog_47_method_4_code
def yJ0_isEmpty : MethodName := ⟨RJ0, "isEmpty", "()Z"⟩
def dkwJ0_isEmpty_0 : List UInt8 := [42, 182, 0, 7, 154, 0, 7, 4, 167, 0, 4, 3, 172]
abbrev dktJ0_isEmpty_0 : List UInt8 := dkwJ0_isEmpty_0 ++ []
theorem dksJ0_isEmpty_0 : cJ0_isEmpty.data.toList.drop 0 = dktJ0_isEmpty_0 := by decide +kernel
theorem dJ0_isEmpty_0 : decode cJ0_isEmpty 0 = .ok (.aload_n 0, 1) := dk_42 (dk_at dksJ0_isEmpty_0 0 rfl rfl)
theorem dJ0_isEmpty_1 : decode cJ0_isEmpty 1 = .ok (.invokevirtual 7, 3) := dk_182 0 7 (dk_at dksJ0_isEmpty_0 1 rfl rfl)
theorem dJ0_isEmpty_4 : decode cJ0_isEmpty 4 = .ok (.ifCond .ne 7, 3) := dk_154 0 7 (dk_at dksJ0_isEmpty_0 4 rfl rfl)
theorem dJ0_isEmpty_7 : decode cJ0_isEmpty 7 = .ok (.iconst 1, 1) := dk_4 (dk_at dksJ0_isEmpty_0 7 rfl rfl)
theorem dJ0_isEmpty_8 : decode cJ0_isEmpty 8 = .ok (.goto 4, 3) := dk_167 0 4 (dk_at dksJ0_isEmpty_0 8 rfl rfl)
theorem dJ0_isEmpty_11 : decode cJ0_isEmpty 11 = .ok (.iconst 0, 1) := dk_3 (dk_at dksJ0_isEmpty_0 11 rfl rfl)
theorem dJ0_isEmpty_12 : decode cJ0_isEmpty 12 = .ok (.ireturn, 1) := dk_172 (dk_at dksJ0_isEmpty_0 12 rfl rfl)
theorem q50 : (Jvm.Cond.initialized "java/util/AbstractCollection") ∈ lw_all := lw_g (lw_at lw_m1 2 rfl) rfl
theorem q124 : (Jvm.Cond.instanceMethod ({ cls := "java/util/AbstractCollection", name := "<init>", desc := "()V" } : Jvm.MethodName)) ∈ lw_all := lw_g (lw_at lw_m1 76 rfl) rfl
theorem q125 : (Jvm.Cond.code ({ cls := "java/util/AbstractCollection", name := "<init>", desc := "()V" } : Jvm.MethodName) prog_47_method_1_code (1 : Nat) (Option.none : Option Jvm.ClassFile.FieldType)) ∈ lw_all := lw_g (lw_at lw_m1 77 rfl) rfl
theorem q126 : (Jvm.Cond.methodLink "java/util/AbstractCollection" (1 : Nat) ({ cls := "java/lang/Object", name := "<init>", desc := "()V" } : Jvm.MethodName)) ∈ lw_all := lw_g (lw_at lw_m1 78 rfl) rfl
theorem q1482 : (Jvm.Cond.declares ({ cls := "java/util/AbstractCollection", name := "size", desc := "()I" } : Jvm.MethodName)) ∈ lw_tbl := lw_at lw_m6 234 rfl
theorem q1683 : (Jvm.Cond.declares ({ cls := "java/util/AbstractCollection", name := "isEmpty", desc := "()Z" } : Jvm.MethodName)) ∈ lw_tbl := lw_at lw_m7 195 rfl
theorem q1685 : (Jvm.Cond.instanceMethod ({ cls := "java/util/AbstractCollection", name := "isEmpty", desc := "()Z" } : Jvm.MethodName)) ∈ lw_all := lw_g (lw_at lw_m7 197 rfl) rfl
theorem q1686 : (Jvm.Cond.code ({ cls := "java/util/AbstractCollection", name := "isEmpty", desc := "()Z" } : Jvm.MethodName) prog_47_method_4_code (1 : Nat) (Option.some Jvm.ClassFile.FieldType.boolean)) ∈ lw_all := lw_g (lw_at lw_m7 198 rfl) rfl
theorem q1687 : (Jvm.Cond.methodLink "java/util/AbstractCollection" (7 : Nat) ({ cls := "java/util/AbstractCollection", name := "size", desc := "()I" } : Jvm.MethodName)) ∈ lw_all := lw_g (lw_at lw_m7 199 rfl) rfl
theorem q2675 : (Jvm.Cond.sameMethod "java/util/AbstractCollection" "java/util/AbstractCollection" "size" "()I") ∈ lw_all := lw_g (lw_at lw_m11 227 rfl) rfl

/-! java/util/AbstractList -/
set_option maxRecDepth 100000
def RJ1 : String := "java/util/AbstractList"
abbrev cJ1_init : ByteArray := prog_48_method_1_code
def yJ1_init : MethodName := ⟨RJ1, "<init>", "()V"⟩
def dkwJ1_init_0 : List UInt8 := [42, 183, 0, 1, 42, 3, 181, 0, 7, 177]
abbrev dktJ1_init_0 : List UInt8 := dkwJ1_init_0 ++ []
theorem dksJ1_init_0 : cJ1_init.data.toList.drop 0 = dktJ1_init_0 := by decide +kernel
theorem dJ1_init_0 : decode cJ1_init 0 = .ok (.aload_n 0, 1) := dk_42 (dk_at dksJ1_init_0 0 rfl rfl)
theorem dJ1_init_1 : decode cJ1_init 1 = .ok (.invokespecial 1, 3) := dk_183 0 1 (dk_at dksJ1_init_0 1 rfl rfl)
theorem dJ1_init_4 : decode cJ1_init 4 = .ok (.aload_n 0, 1) := dk_42 (dk_at dksJ1_init_0 4 rfl rfl)
theorem dJ1_init_5 : decode cJ1_init 5 = .ok (.iconst 0, 1) := dk_3 (dk_at dksJ1_init_0 5 rfl rfl)
theorem dJ1_init_6 : decode cJ1_init 6 = .ok (.putfield 7, 3) := dk_181 0 7 (dk_at dksJ1_init_0 6 rfl rfl)
theorem dJ1_init_9 : decode cJ1_init 9 = .ok (.return_, 1) := dk_177 (dk_at dksJ1_init_0 9 rfl rfl)
abbrev cJ1_listIterator : ByteArray := prog_48_method_12_code
def yJ1_listIterator : MethodName := ⟨RJ1, "listIterator", "()Ljava/util/ListIterator;"⟩
def dkwJ1_listIterator_0 : List UInt8 := [42, 3, 182, 0, 47, 176]
abbrev dktJ1_listIterator_0 : List UInt8 := dkwJ1_listIterator_0 ++ []
theorem dksJ1_listIterator_0 : cJ1_listIterator.data.toList.drop 0 = dktJ1_listIterator_0 := by decide +kernel
theorem dJ1_listIterator_0 : decode cJ1_listIterator 0 = .ok (.aload_n 0, 1) := dk_42 (dk_at dksJ1_listIterator_0 0 rfl rfl)
theorem dJ1_listIterator_1 : decode cJ1_listIterator 1 = .ok (.iconst 0, 1) := dk_3 (dk_at dksJ1_listIterator_0 1 rfl rfl)
theorem dJ1_listIterator_2 : decode cJ1_listIterator 2 = .ok (.invokevirtual 47, 3) := dk_182 0 47 (dk_at dksJ1_listIterator_0 2 rfl rfl)
theorem dJ1_listIterator_5 : decode cJ1_listIterator 5 = .ok (.areturn, 1) := dk_176 (dk_at dksJ1_listIterator_0 5 rfl rfl)
theorem q51 : (Jvm.Cond.initialized "java/util/AbstractList") ∈ lw_all := lw_g (lw_at lw_m1 3 rfl) rfl
theorem q121 : (Jvm.Cond.instanceMethod ({ cls := "java/util/AbstractList", name := "<init>", desc := "()V" } : Jvm.MethodName)) ∈ lw_all := lw_g (lw_at lw_m1 73 rfl) rfl
theorem q122 : (Jvm.Cond.code ({ cls := "java/util/AbstractList", name := "<init>", desc := "()V" } : Jvm.MethodName) prog_48_method_1_code (1 : Nat) (Option.none : Option Jvm.ClassFile.FieldType)) ∈ lw_all := lw_g (lw_at lw_m1 74 rfl) rfl
theorem q123 : (Jvm.Cond.methodLink "java/util/AbstractList" (1 : Nat) ({ cls := "java/util/AbstractCollection", name := "<init>", desc := "()V" } : Jvm.MethodName)) ∈ lw_all := lw_g (lw_at lw_m1 75 rfl) rfl
theorem q133 : (Jvm.Cond.fieldLink "java/util/AbstractList" (7 : Nat) "java/util/AbstractList" "modCount" "I") ∈ lw_all := lw_g (lw_at lw_m1 85 rfl) rfl
theorem q146 : (Jvm.Cond.soleField "java/util/AbstractList" "modCount") ∈ lw_all := lw_g (lw_at lw_m1 98 rfl) rfl
theorem q1481 : (Jvm.Cond.sameMethod "java/util/AbstractList" "java/util/AbstractCollection" "size" "()I") ∈ lw_all := lw_g (lw_at lw_m6 233 rfl) rfl
theorem q1521 : (Jvm.Cond.declares ({ cls := "java/util/AbstractList", name := "get", desc := "(I)Ljava/lang/Object;" } : Jvm.MethodName)) ∈ lw_tbl := lw_at lw_m7 33 rfl
theorem q1522 : (Jvm.Cond.sameMethod "java/util/AbstractList" "java/util/AbstractList" "get" "(I)Ljava/lang/Object;") ∈ lw_all := lw_g (lw_at lw_m7 34 rfl) rfl
theorem q2149 : (Jvm.Cond.declares ({ cls := "java/util/AbstractList", name := "listIterator", desc := "()Ljava/util/ListIterator;" } : Jvm.MethodName)) ∈ lw_tbl := lw_at lw_m9 181 rfl
theorem q2151 : (Jvm.Cond.instanceMethod ({ cls := "java/util/AbstractList", name := "listIterator", desc := "()Ljava/util/ListIterator;" } : Jvm.MethodName)) ∈ lw_all := lw_g (lw_at lw_m9 183 rfl) rfl
theorem q2152 : (Jvm.Cond.code ({ cls := "java/util/AbstractList", name := "listIterator", desc := "()Ljava/util/ListIterator;" } : Jvm.MethodName) prog_48_method_12_code (1 : Nat) (Option.some (Jvm.ClassFile.FieldType.object "java/util/ListIterator"))) ∈ lw_all := lw_g (lw_at lw_m9 184 rfl) rfl
theorem q2153 : (Jvm.Cond.methodLink "java/util/AbstractList" (47 : Nat) ({ cls := "java/util/AbstractList", name := "listIterator", desc := "(I)Ljava/util/ListIterator;" } : Jvm.MethodName)) ∈ lw_all := lw_g (lw_at lw_m9 185 rfl) rfl
theorem q2154 : (Jvm.Cond.instanceMethod ({ cls := "java/util/AbstractList", name := "listIterator", desc := "(I)Ljava/util/ListIterator;" } : Jvm.MethodName)) ∈ lw_all := lw_g (lw_at lw_m9 186 rfl) rfl
theorem q2155 : (Jvm.Cond.sameMethod "java/util/AbstractList" "java/util/AbstractList" "listIterator" "(I)Ljava/util/ListIterator;") ∈ lw_all := lw_g (lw_at lw_m9 187 rfl) rfl
theorem q2224 : (Jvm.Cond.declares ({ cls := "java/util/AbstractList", name := "listIterator", desc := "(I)Ljava/util/ListIterator;" } : Jvm.MethodName)) ∈ lw_tbl := lw_at lw_m10 16 rfl

/-! java/util/ArrayList -/
set_option maxRecDepth 100000
def RJ2 : String := "java/util/ArrayList"
def TJ2 : u_T := fun k => match k with
  | 0 => ("java/util/AbstractList", "modCount", "I", false)
  | 1 => ("java/util/ArrayList", "elementData", "[Ljava/lang/Object;", false)
  | _ => ("java/util/ArrayList", "size", "I", false)
def tyJ2 : Nat → FieldType := fun k => match k with
  | 0 => .int
  | 1 => .array (.object "java/lang/Object")
  | _ => .int
abbrev wsJ20 : List Cond := u_ws RJ2 TJ2 3
theorem nmJ2 : ∀ a, a < 3 → ∀ b, b < 3 → a ≠ b → (TJ2 a).2.1 ≠ (TJ2 b).2.1 := by decide +kernel
theorem tyJ2_ok : ∀ k, k < 3 → parseFieldDescriptor (TJ2 k).2.2.1 = some (tyJ2 k) := by decide +kernel
abbrev cJ2_init : ByteArray := prog_55_method_2_code
def yJ2_init : MethodName := ⟨RJ2, "<init>", "()V"⟩
def dkwJ2_init_0 : List UInt8 := [42, 183, 0, 1, 42, 178, 0, 39, 181, 0, 9, 177]
abbrev dktJ2_init_0 : List UInt8 := dkwJ2_init_0 ++ []
theorem dksJ2_init_0 : cJ2_init.data.toList.drop 0 = dktJ2_init_0 := by decide +kernel
theorem dJ2_init_0 : decode cJ2_init 0 = .ok (.aload_n 0, 1) := dk_42 (dk_at dksJ2_init_0 0 rfl rfl)
theorem dJ2_init_1 : decode cJ2_init 1 = .ok (.invokespecial 1, 3) := dk_183 0 1 (dk_at dksJ2_init_0 1 rfl rfl)
theorem dJ2_init_4 : decode cJ2_init 4 = .ok (.aload_n 0, 1) := dk_42 (dk_at dksJ2_init_0 4 rfl rfl)
theorem dJ2_init_5 : decode cJ2_init 5 = .ok (.getstatic 39, 3) := dk_178 0 39 (dk_at dksJ2_init_0 5 rfl rfl)
theorem dJ2_init_8 : decode cJ2_init 8 = .ok (.putfield 9, 3) := dk_181 0 9 (dk_at dksJ2_init_0 8 rfl rfl)
theorem dJ2_init_11 : decode cJ2_init 11 = .ok (.return_, 1) := dk_177 (dk_at dksJ2_init_0 11 rfl rfl)
abbrev cJ2_add : ByteArray := prog_55_method_25_code
def yJ2_add : MethodName := ⟨RJ2, "add", "(Ljava/lang/Object;)Z"⟩
def dkwJ2_add_1 : List UInt8 := [172]
abbrev dktJ2_add_1 : List UInt8 := dkwJ2_add_1 ++ []
def dkwJ2_add_0 : List UInt8 := [42, 89, 180, 0, 63, 4, 96, 181, 0, 63, 42, 43, 42, 180, 0, 9, 42, 180, 0, 48, 182, 0, 131, 4]
abbrev dktJ2_add_0 : List UInt8 := dkwJ2_add_0 ++ dktJ2_add_1
theorem dksJ2_add_0 : cJ2_add.data.toList.drop 0 = dktJ2_add_0 := by decide +kernel
theorem dksJ2_add_1 : cJ2_add.data.toList.drop 24 = dktJ2_add_1 := dk_seg dksJ2_add_0 24 rfl rfl
theorem dJ2_add_0 : decode cJ2_add 0 = .ok (.aload_n 0, 1) := dk_42 (dk_at dksJ2_add_0 0 rfl rfl)
theorem dJ2_add_1 : decode cJ2_add 1 = .ok (.dup, 1) := dk_89 (dk_at dksJ2_add_0 1 rfl rfl)
theorem dJ2_add_2 : decode cJ2_add 2 = .ok (.getfield 63, 3) := dk_180 0 63 (dk_at dksJ2_add_0 2 rfl rfl)
theorem dJ2_add_5 : decode cJ2_add 5 = .ok (.iconst 1, 1) := dk_4 (dk_at dksJ2_add_0 5 rfl rfl)
theorem dJ2_add_6 : decode cJ2_add 6 = .ok (.iadd, 1) := dk_96 (dk_at dksJ2_add_0 6 rfl rfl)
theorem dJ2_add_7 : decode cJ2_add 7 = .ok (.putfield 63, 3) := dk_181 0 63 (dk_at dksJ2_add_0 7 rfl rfl)
theorem dJ2_add_10 : decode cJ2_add 10 = .ok (.aload_n 0, 1) := dk_42 (dk_at dksJ2_add_0 10 rfl rfl)
theorem dJ2_add_11 : decode cJ2_add 11 = .ok (.aload_n 1, 1) := dk_43 (dk_at dksJ2_add_0 11 rfl rfl)
theorem dJ2_add_12 : decode cJ2_add 12 = .ok (.aload_n 0, 1) := dk_42 (dk_at dksJ2_add_0 12 rfl rfl)
theorem dJ2_add_13 : decode cJ2_add 13 = .ok (.getfield 9, 3) := dk_180 0 9 (dk_at dksJ2_add_0 13 rfl rfl)
theorem dJ2_add_16 : decode cJ2_add 16 = .ok (.aload_n 0, 1) := dk_42 (dk_at dksJ2_add_0 16 rfl rfl)
theorem dJ2_add_17 : decode cJ2_add 17 = .ok (.getfield 48, 3) := dk_180 0 48 (dk_at dksJ2_add_0 17 rfl rfl)
theorem dJ2_add_20 : decode cJ2_add 20 = .ok (.invokevirtual 131, 3) := dk_182 0 131 (dk_at dksJ2_add_0 20 rfl rfl)
theorem dJ2_add_23 : decode cJ2_add 23 = .ok (.iconst 1, 1) := dk_4 (dk_at dksJ2_add_0 23 rfl rfl)
theorem dJ2_add_24 : decode cJ2_add 24 = .ok (.ireturn, 1) := dk_172 (dk_at dksJ2_add_1 0 rfl rfl)
abbrev cJ2_add_2 : ByteArray := prog_55_method_24_code
def yJ2_add_2 : MethodName := ⟨RJ2, "add", "(Ljava/lang/Object;[Ljava/lang/Object;I)V"⟩
def dkwJ2_add_2_0 : List UInt8 := [29, 44, 190, 160, 0, 8, 42, 182, 0, 129, 77, 44, 29, 43, 83, 42, 29, 4, 96, 181, 0, 48, 177]
abbrev dktJ2_add_2_0 : List UInt8 := dkwJ2_add_2_0 ++ []
theorem dksJ2_add_2_0 : cJ2_add_2.data.toList.drop 0 = dktJ2_add_2_0 := by decide +kernel
theorem dJ2_add_2_0 : decode cJ2_add_2 0 = .ok (.iload_n 3, 1) := dk_29 (dk_at dksJ2_add_2_0 0 rfl rfl)
theorem dJ2_add_2_1 : decode cJ2_add_2 1 = .ok (.aload_n 2, 1) := dk_44 (dk_at dksJ2_add_2_0 1 rfl rfl)
theorem dJ2_add_2_2 : decode cJ2_add_2 2 = .ok (.arraylength, 1) := dk_190 (dk_at dksJ2_add_2_0 2 rfl rfl)
theorem dJ2_add_2_3 : decode cJ2_add_2 3 = .ok (.if_icmp .ne 8, 3) := dk_160 0 8 (dk_at dksJ2_add_2_0 3 rfl rfl)
theorem dJ2_add_2_6 : decode cJ2_add_2 6 = .ok (.aload_n 0, 1) := dk_42 (dk_at dksJ2_add_2_0 6 rfl rfl)
theorem dJ2_add_2_7 : decode cJ2_add_2 7 = .ok (.invokevirtual 129, 3) := dk_182 0 129 (dk_at dksJ2_add_2_0 7 rfl rfl)
theorem dJ2_add_2_10 : decode cJ2_add_2 10 = .ok (.astore_n 2, 1) := dk_77 (dk_at dksJ2_add_2_0 10 rfl rfl)
theorem dJ2_add_2_11 : decode cJ2_add_2 11 = .ok (.aload_n 2, 1) := dk_44 (dk_at dksJ2_add_2_0 11 rfl rfl)
theorem dJ2_add_2_12 : decode cJ2_add_2 12 = .ok (.iload_n 3, 1) := dk_29 (dk_at dksJ2_add_2_0 12 rfl rfl)
theorem dJ2_add_2_13 : decode cJ2_add_2 13 = .ok (.aload_n 1, 1) := dk_43 (dk_at dksJ2_add_2_0 13 rfl rfl)
theorem dJ2_add_2_14 : decode cJ2_add_2 14 = .ok (.aastore, 1) := dk_83 (dk_at dksJ2_add_2_0 14 rfl rfl)
theorem dJ2_add_2_15 : decode cJ2_add_2 15 = .ok (.aload_n 0, 1) := dk_42 (dk_at dksJ2_add_2_0 15 rfl rfl)
theorem dJ2_add_2_16 : decode cJ2_add_2 16 = .ok (.iload_n 3, 1) := dk_29 (dk_at dksJ2_add_2_0 16 rfl rfl)
theorem dJ2_add_2_17 : decode cJ2_add_2 17 = .ok (.iconst 1, 1) := dk_4 (dk_at dksJ2_add_2_0 17 rfl rfl)
theorem dJ2_add_2_18 : decode cJ2_add_2 18 = .ok (.iadd, 1) := dk_96 (dk_at dksJ2_add_2_0 18 rfl rfl)
theorem dJ2_add_2_19 : decode cJ2_add_2 19 = .ok (.putfield 48, 3) := dk_181 0 48 (dk_at dksJ2_add_2_0 19 rfl rfl)
theorem dJ2_add_2_22 : decode cJ2_add_2 22 = .ok (.return_, 1) := dk_177 (dk_at dksJ2_add_2_0 22 rfl rfl)
abbrev cJ2_grow : ByteArray := prog_55_method_7_code
def yJ2_grow : MethodName := ⟨RJ2, "grow", "()[Ljava/lang/Object;"⟩
def dkwJ2_grow_0 : List UInt8 := [42, 42, 180, 0, 48, 4, 96, 182, 0, 69, 176]
abbrev dktJ2_grow_0 : List UInt8 := dkwJ2_grow_0 ++ []
theorem dksJ2_grow_0 : cJ2_grow.data.toList.drop 0 = dktJ2_grow_0 := by decide +kernel
theorem dJ2_grow_0 : decode cJ2_grow 0 = .ok (.aload_n 0, 1) := dk_42 (dk_at dksJ2_grow_0 0 rfl rfl)
theorem dJ2_grow_1 : decode cJ2_grow 1 = .ok (.aload_n 0, 1) := dk_42 (dk_at dksJ2_grow_0 1 rfl rfl)
theorem dJ2_grow_2 : decode cJ2_grow 2 = .ok (.getfield 48, 3) := dk_180 0 48 (dk_at dksJ2_grow_0 2 rfl rfl)
theorem dJ2_grow_5 : decode cJ2_grow 5 = .ok (.iconst 1, 1) := dk_4 (dk_at dksJ2_grow_0 5 rfl rfl)
theorem dJ2_grow_6 : decode cJ2_grow 6 = .ok (.iadd, 1) := dk_96 (dk_at dksJ2_grow_0 6 rfl rfl)
theorem dJ2_grow_7 : decode cJ2_grow 7 = .ok (.invokevirtual 69, 3) := dk_182 0 69 (dk_at dksJ2_grow_0 7 rfl rfl)
theorem dJ2_grow_10 : decode cJ2_grow 10 = .ok (.areturn, 1) := dk_176 (dk_at dksJ2_grow_0 10 rfl rfl)
abbrev cJ2_grow_2 : ByteArray := prog_55_method_6_code
def yJ2_grow_2 : MethodName := ⟨RJ2, "grow", "(I)[Ljava/lang/Object;"⟩
def dkwJ2_grow_2_2 : List UInt8 := [27, 184, 0, 79, 189, 0, 7, 90, 181, 0, 9, 176]
abbrev dktJ2_grow_2_2 : List UInt8 := dkwJ2_grow_2_2 ++ []
def dkwJ2_grow_2_1 : List UInt8 := [28, 4, 122, 184, 0, 73, 62, 42, 42, 180, 0, 9, 29, 184, 0, 66, 90, 181, 0, 9, 176, 42, 16, 10]
abbrev dktJ2_grow_2_1 : List UInt8 := dkwJ2_grow_2_1 ++ dktJ2_grow_2_2
def dkwJ2_grow_2_0 : List UInt8 := [42, 180, 0, 9, 190, 61, 28, 157, 0, 13, 42, 180, 0, 9, 178, 0, 39, 165, 0, 28, 28, 27, 28, 100]
abbrev dktJ2_grow_2_0 : List UInt8 := dkwJ2_grow_2_0 ++ dktJ2_grow_2_1
theorem dksJ2_grow_2_0 : cJ2_grow_2.data.toList.drop 0 = dktJ2_grow_2_0 := by decide +kernel
theorem dksJ2_grow_2_1 : cJ2_grow_2.data.toList.drop 24 = dktJ2_grow_2_1 := dk_seg dksJ2_grow_2_0 24 rfl rfl
theorem dksJ2_grow_2_2 : cJ2_grow_2.data.toList.drop 48 = dktJ2_grow_2_2 := dk_seg dksJ2_grow_2_1 24 rfl rfl
theorem dJ2_grow_2_0 : decode cJ2_grow_2 0 = .ok (.aload_n 0, 1) := dk_42 (dk_at dksJ2_grow_2_0 0 rfl rfl)
theorem dJ2_grow_2_1 : decode cJ2_grow_2 1 = .ok (.getfield 9, 3) := dk_180 0 9 (dk_at dksJ2_grow_2_0 1 rfl rfl)
theorem dJ2_grow_2_4 : decode cJ2_grow_2 4 = .ok (.arraylength, 1) := dk_190 (dk_at dksJ2_grow_2_0 4 rfl rfl)
theorem dJ2_grow_2_5 : decode cJ2_grow_2 5 = .ok (.istore_n 2, 1) := dk_61 (dk_at dksJ2_grow_2_0 5 rfl rfl)
theorem dJ2_grow_2_6 : decode cJ2_grow_2 6 = .ok (.iload_n 2, 1) := dk_28 (dk_at dksJ2_grow_2_0 6 rfl rfl)
theorem dJ2_grow_2_7 : decode cJ2_grow_2 7 = .ok (.ifCond .gt 13, 3) := dk_157 0 13 (dk_at dksJ2_grow_2_0 7 rfl rfl)
theorem dJ2_grow_2_10 : decode cJ2_grow_2 10 = .ok (.aload_n 0, 1) := dk_42 (dk_at dksJ2_grow_2_0 10 rfl rfl)
theorem dJ2_grow_2_11 : decode cJ2_grow_2 11 = .ok (.getfield 9, 3) := dk_180 0 9 (dk_at dksJ2_grow_2_0 11 rfl rfl)
theorem dJ2_grow_2_14 : decode cJ2_grow_2 14 = .ok (.getstatic 39, 3) := dk_178 0 39 (dk_at dksJ2_grow_2_0 14 rfl rfl)
theorem dJ2_grow_2_17 : decode cJ2_grow_2 17 = .ok (.if_acmp .eq 28, 3) := dk_165 0 28 (dk_at dksJ2_grow_2_0 17 rfl rfl)
theorem dJ2_grow_2_20 : decode cJ2_grow_2 20 = .ok (.iload_n 2, 1) := dk_28 (dk_at dksJ2_grow_2_0 20 rfl rfl)
theorem dJ2_grow_2_21 : decode cJ2_grow_2 21 = .ok (.iload_n 1, 1) := dk_27 (dk_at dksJ2_grow_2_0 21 rfl rfl)
theorem dJ2_grow_2_22 : decode cJ2_grow_2 22 = .ok (.iload_n 2, 1) := dk_28 (dk_at dksJ2_grow_2_0 22 rfl rfl)
theorem dJ2_grow_2_23 : decode cJ2_grow_2 23 = .ok (.isub, 1) := dk_100 (dk_at dksJ2_grow_2_0 23 rfl rfl)
theorem dJ2_grow_2_24 : decode cJ2_grow_2 24 = .ok (.iload_n 2, 1) := dk_28 (dk_at dksJ2_grow_2_1 0 rfl rfl)
theorem dJ2_grow_2_25 : decode cJ2_grow_2 25 = .ok (.iconst 1, 1) := dk_4 (dk_at dksJ2_grow_2_1 1 rfl rfl)
theorem dJ2_grow_2_26 : decode cJ2_grow_2 26 = .ok (.ishr, 1) := dk_122 (dk_at dksJ2_grow_2_1 2 rfl rfl)
theorem dJ2_grow_2_27 : decode cJ2_grow_2 27 = .ok (.invokestatic 73, 3) := dk_184 0 73 (dk_at dksJ2_grow_2_1 3 rfl rfl)
theorem dJ2_grow_2_30 : decode cJ2_grow_2 30 = .ok (.istore_n 3, 1) := dk_62 (dk_at dksJ2_grow_2_1 6 rfl rfl)
theorem dJ2_grow_2_31 : decode cJ2_grow_2 31 = .ok (.aload_n 0, 1) := dk_42 (dk_at dksJ2_grow_2_1 7 rfl rfl)
theorem dJ2_grow_2_32 : decode cJ2_grow_2 32 = .ok (.aload_n 0, 1) := dk_42 (dk_at dksJ2_grow_2_1 8 rfl rfl)
theorem dJ2_grow_2_33 : decode cJ2_grow_2 33 = .ok (.getfield 9, 3) := dk_180 0 9 (dk_at dksJ2_grow_2_1 9 rfl rfl)
theorem dJ2_grow_2_36 : decode cJ2_grow_2 36 = .ok (.iload_n 3, 1) := dk_29 (dk_at dksJ2_grow_2_1 12 rfl rfl)
theorem dJ2_grow_2_37 : decode cJ2_grow_2 37 = .ok (.invokestatic 66, 3) := dk_184 0 66 (dk_at dksJ2_grow_2_1 13 rfl rfl)
theorem dJ2_grow_2_40 : decode cJ2_grow_2 40 = .ok (.dup_x1, 1) := dk_90 (dk_at dksJ2_grow_2_1 16 rfl rfl)
theorem dJ2_grow_2_41 : decode cJ2_grow_2 41 = .ok (.putfield 9, 3) := dk_181 0 9 (dk_at dksJ2_grow_2_1 17 rfl rfl)
theorem dJ2_grow_2_44 : decode cJ2_grow_2 44 = .ok (.areturn, 1) := dk_176 (dk_at dksJ2_grow_2_1 20 rfl rfl)
theorem dJ2_grow_2_45 : decode cJ2_grow_2 45 = .ok (.aload_n 0, 1) := dk_42 (dk_at dksJ2_grow_2_1 21 rfl rfl)
theorem dJ2_grow_2_46 : decode cJ2_grow_2 46 = .ok (.bipush 10, 2) := dk_16 10 (dk_at dksJ2_grow_2_1 22 rfl rfl)
theorem dJ2_grow_2_48 : decode cJ2_grow_2 48 = .ok (.iload_n 1, 1) := dk_27 (dk_at dksJ2_grow_2_2 0 rfl rfl)
theorem dJ2_grow_2_49 : decode cJ2_grow_2 49 = .ok (.invokestatic 79, 3) := dk_184 0 79 (dk_at dksJ2_grow_2_2 1 rfl rfl)
theorem dJ2_grow_2_52 : decode cJ2_grow_2 52 = .ok (.anewarray 7, 3) := dk_189 0 7 (dk_at dksJ2_grow_2_2 4 rfl rfl)
theorem dJ2_grow_2_55 : decode cJ2_grow_2 55 = .ok (.dup_x1, 1) := dk_90 (dk_at dksJ2_grow_2_2 7 rfl rfl)
theorem dJ2_grow_2_56 : decode cJ2_grow_2 56 = .ok (.putfield 9, 3) := dk_181 0 9 (dk_at dksJ2_grow_2_2 8 rfl rfl)
theorem dJ2_grow_2_59 : decode cJ2_grow_2 59 = .ok (.areturn, 1) := dk_176 (dk_at dksJ2_grow_2_2 11 rfl rfl)
abbrev cJ2_size : ByteArray := prog_55_method_8_code
def yJ2_size : MethodName := ⟨RJ2, "size", "()I"⟩
theorem dJ2_size_0 : decode cJ2_size 0 = .ok (.aload_n 0, 1) := by decide +kernel
theorem dJ2_size_1 : decode cJ2_size 1 = .ok (.getfield 48, 3) := by decide +kernel
theorem dJ2_size_4 : decode cJ2_size 4 = .ok (.ireturn, 1) := by decide +kernel
abbrev cJ2_get : ByteArray := prog_55_method_20_code
def yJ2_get : MethodName := ⟨RJ2, "get", "(I)Ljava/lang/Object;"⟩
def dkwJ2_get_0 : List UInt8 := [27, 42, 180, 0, 48, 184, 0, 118, 87, 42, 27, 182, 0, 123, 176]
abbrev dktJ2_get_0 : List UInt8 := dkwJ2_get_0 ++ []
theorem dksJ2_get_0 : cJ2_get.data.toList.drop 0 = dktJ2_get_0 := by decide +kernel
theorem dJ2_get_0 : decode cJ2_get 0 = .ok (.iload_n 1, 1) := dk_27 (dk_at dksJ2_get_0 0 rfl rfl)
theorem dJ2_get_1 : decode cJ2_get 1 = .ok (.aload_n 0, 1) := dk_42 (dk_at dksJ2_get_0 1 rfl rfl)
theorem dJ2_get_2 : decode cJ2_get 2 = .ok (.getfield 48, 3) := dk_180 0 48 (dk_at dksJ2_get_0 2 rfl rfl)
theorem dJ2_get_5 : decode cJ2_get 5 = .ok (.invokestatic 118, 3) := dk_184 0 118 (dk_at dksJ2_get_0 5 rfl rfl)
theorem dJ2_get_8 : decode cJ2_get 8 = .ok (.pop, 1) := dk_87 (dk_at dksJ2_get_0 8 rfl rfl)
theorem dJ2_get_9 : decode cJ2_get 9 = .ok (.aload_n 0, 1) := dk_42 (dk_at dksJ2_get_0 9 rfl rfl)
theorem dJ2_get_10 : decode cJ2_get 10 = .ok (.iload_n 1, 1) := dk_27 (dk_at dksJ2_get_0 10 rfl rfl)
theorem dJ2_get_11 : decode cJ2_get 11 = .ok (.invokevirtual 123, 3) := dk_182 0 123 (dk_at dksJ2_get_0 11 rfl rfl)
theorem dJ2_get_14 : decode cJ2_get 14 = .ok (.areturn, 1) := dk_176 (dk_at dksJ2_get_0 14 rfl rfl)
abbrev cJ2_elementData : ByteArray := prog_55_method_18_code
def yJ2_elementData : MethodName := ⟨RJ2, "elementData", "(I)Ljava/lang/Object;"⟩
def dkwJ2_elementData_0 : List UInt8 := [42, 180, 0, 9, 27, 50, 176]
abbrev dktJ2_elementData_0 : List UInt8 := dkwJ2_elementData_0 ++ []
theorem dksJ2_elementData_0 : cJ2_elementData.data.toList.drop 0 = dktJ2_elementData_0 := by decide +kernel
theorem dJ2_elementData_0 : decode cJ2_elementData 0 = .ok (.aload_n 0, 1) := dk_42 (dk_at dksJ2_elementData_0 0 rfl rfl)
theorem dJ2_elementData_1 : decode cJ2_elementData 1 = .ok (.getfield 9, 3) := dk_180 0 9 (dk_at dksJ2_elementData_0 1 rfl rfl)
theorem dJ2_elementData_4 : decode cJ2_elementData 4 = .ok (.iload_n 1, 1) := dk_27 (dk_at dksJ2_elementData_0 4 rfl rfl)
theorem dJ2_elementData_5 : decode cJ2_elementData 5 = .ok (.aaload, 1) := dk_50 (dk_at dksJ2_elementData_0 5 rfl rfl)
theorem dJ2_elementData_6 : decode cJ2_elementData 6 = .ok (.areturn, 1) := dk_176 (dk_at dksJ2_elementData_0 6 rfl rfl)
abbrev cJ2_iterator : ByteArray := prog_55_method_55_code
def yJ2_iterator : MethodName := ⟨RJ2, "iterator", "()Ljava/util/Iterator;"⟩
def dkwJ2_iterator_0 : List UInt8 := [187, 1, 11, 89, 42, 183, 1, 13, 176]
abbrev dktJ2_iterator_0 : List UInt8 := dkwJ2_iterator_0 ++ []
theorem dksJ2_iterator_0 : cJ2_iterator.data.toList.drop 0 = dktJ2_iterator_0 := by decide +kernel
theorem dJ2_iterator_0 : decode cJ2_iterator 0 = .ok (.new 267, 3) := dk_187 1 11 (dk_at dksJ2_iterator_0 0 rfl rfl)
theorem dJ2_iterator_3 : decode cJ2_iterator 3 = .ok (.dup, 1) := dk_89 (dk_at dksJ2_iterator_0 3 rfl rfl)
theorem dJ2_iterator_4 : decode cJ2_iterator 4 = .ok (.aload_n 0, 1) := dk_42 (dk_at dksJ2_iterator_0 4 rfl rfl)
theorem dJ2_iterator_5 : decode cJ2_iterator 5 = .ok (.invokespecial 269, 3) := dk_183 1 13 (dk_at dksJ2_iterator_0 5 rfl rfl)
theorem dJ2_iterator_8 : decode cJ2_iterator 8 = .ok (.areturn, 1) := dk_176 (dk_at dksJ2_iterator_0 8 rfl rfl)
abbrev cJ2_listIterator : ByteArray := prog_55_method_53_code
def yJ2_listIterator : MethodName := ⟨RJ2, "listIterator", "(I)Ljava/util/ListIterator;"⟩
def dkwJ2_listIterator_0 : List UInt8 := [42, 27, 182, 0, 135, 187, 1, 6, 89, 42, 27, 183, 1, 8, 176]
abbrev dktJ2_listIterator_0 : List UInt8 := dkwJ2_listIterator_0 ++ []
theorem dksJ2_listIterator_0 : cJ2_listIterator.data.toList.drop 0 = dktJ2_listIterator_0 := by decide +kernel
theorem dJ2_listIterator_0 : decode cJ2_listIterator 0 = .ok (.aload_n 0, 1) := dk_42 (dk_at dksJ2_listIterator_0 0 rfl rfl)
theorem dJ2_listIterator_1 : decode cJ2_listIterator 1 = .ok (.iload_n 1, 1) := dk_27 (dk_at dksJ2_listIterator_0 1 rfl rfl)
theorem dJ2_listIterator_2 : decode cJ2_listIterator 2 = .ok (.invokevirtual 135, 3) := dk_182 0 135 (dk_at dksJ2_listIterator_0 2 rfl rfl)
theorem dJ2_listIterator_5 : decode cJ2_listIterator 5 = .ok (.new 262, 3) := dk_187 1 6 (dk_at dksJ2_listIterator_0 5 rfl rfl)
theorem dJ2_listIterator_8 : decode cJ2_listIterator 8 = .ok (.dup, 1) := dk_89 (dk_at dksJ2_listIterator_0 8 rfl rfl)
theorem dJ2_listIterator_9 : decode cJ2_listIterator 9 = .ok (.aload_n 0, 1) := dk_42 (dk_at dksJ2_listIterator_0 9 rfl rfl)
theorem dJ2_listIterator_10 : decode cJ2_listIterator 10 = .ok (.iload_n 1, 1) := dk_27 (dk_at dksJ2_listIterator_0 10 rfl rfl)
theorem dJ2_listIterator_11 : decode cJ2_listIterator 11 = .ok (.invokespecial 264, 3) := dk_183 1 8 (dk_at dksJ2_listIterator_0 11 rfl rfl)
theorem dJ2_listIterator_14 : decode cJ2_listIterator 14 = .ok (.areturn, 1) := dk_176 (dk_at dksJ2_listIterator_0 14 rfl rfl)
abbrev cJ2_rangeCheckForAdd : ByteArray := prog_55_method_45_code
def yJ2_rangeCheckForAdd : MethodName := ⟨RJ2, "rangeCheckForAdd", "(I)V"⟩
def dkwJ2_rangeCheckForAdd_1 : List UInt8 := [191, 177]
abbrev dktJ2_rangeCheckForAdd_1 : List UInt8 := dkwJ2_rangeCheckForAdd_1 ++ []
def dkwJ2_rangeCheckForAdd_0 : List UInt8 := [27, 42, 180, 0, 48, 163, 0, 7, 27, 156, 0, 16, 187, 0, 187, 89, 42, 27, 182, 0, 198, 183, 0, 193]
abbrev dktJ2_rangeCheckForAdd_0 : List UInt8 := dkwJ2_rangeCheckForAdd_0 ++ dktJ2_rangeCheckForAdd_1
theorem dksJ2_rangeCheckForAdd_0 : cJ2_rangeCheckForAdd.data.toList.drop 0 = dktJ2_rangeCheckForAdd_0 := by decide +kernel
theorem dksJ2_rangeCheckForAdd_1 : cJ2_rangeCheckForAdd.data.toList.drop 24 = dktJ2_rangeCheckForAdd_1 := dk_seg dksJ2_rangeCheckForAdd_0 24 rfl rfl
theorem dJ2_rangeCheckForAdd_0 : decode cJ2_rangeCheckForAdd 0 = .ok (.iload_n 1, 1) := dk_27 (dk_at dksJ2_rangeCheckForAdd_0 0 rfl rfl)
theorem dJ2_rangeCheckForAdd_1 : decode cJ2_rangeCheckForAdd 1 = .ok (.aload_n 0, 1) := dk_42 (dk_at dksJ2_rangeCheckForAdd_0 1 rfl rfl)
theorem dJ2_rangeCheckForAdd_2 : decode cJ2_rangeCheckForAdd 2 = .ok (.getfield 48, 3) := dk_180 0 48 (dk_at dksJ2_rangeCheckForAdd_0 2 rfl rfl)
theorem dJ2_rangeCheckForAdd_5 : decode cJ2_rangeCheckForAdd 5 = .ok (.if_icmp .gt 7, 3) := dk_163 0 7 (dk_at dksJ2_rangeCheckForAdd_0 5 rfl rfl)
theorem dJ2_rangeCheckForAdd_8 : decode cJ2_rangeCheckForAdd 8 = .ok (.iload_n 1, 1) := dk_27 (dk_at dksJ2_rangeCheckForAdd_0 8 rfl rfl)
theorem dJ2_rangeCheckForAdd_9 : decode cJ2_rangeCheckForAdd 9 = .ok (.ifCond .ge 16, 3) := dk_156 0 16 (dk_at dksJ2_rangeCheckForAdd_0 9 rfl rfl)
theorem dJ2_rangeCheckForAdd_12 : decode cJ2_rangeCheckForAdd 12 = .ok (.new 187, 3) := dk_187 0 187 (dk_at dksJ2_rangeCheckForAdd_0 12 rfl rfl)
theorem dJ2_rangeCheckForAdd_15 : decode cJ2_rangeCheckForAdd 15 = .ok (.dup, 1) := dk_89 (dk_at dksJ2_rangeCheckForAdd_0 15 rfl rfl)
theorem dJ2_rangeCheckForAdd_16 : decode cJ2_rangeCheckForAdd 16 = .ok (.aload_n 0, 1) := dk_42 (dk_at dksJ2_rangeCheckForAdd_0 16 rfl rfl)
theorem dJ2_rangeCheckForAdd_17 : decode cJ2_rangeCheckForAdd 17 = .ok (.iload_n 1, 1) := dk_27 (dk_at dksJ2_rangeCheckForAdd_0 17 rfl rfl)
theorem dJ2_rangeCheckForAdd_18 : decode cJ2_rangeCheckForAdd 18 = .ok (.invokevirtual 198, 3) := dk_182 0 198 (dk_at dksJ2_rangeCheckForAdd_0 18 rfl rfl)
theorem dJ2_rangeCheckForAdd_21 : decode cJ2_rangeCheckForAdd 21 = .ok (.invokespecial 193, 3) := dk_183 0 193 (dk_at dksJ2_rangeCheckForAdd_0 21 rfl rfl)
theorem dJ2_rangeCheckForAdd_24 : decode cJ2_rangeCheckForAdd 24 = .ok (.athrow, 1) := dk_191 (dk_at dksJ2_rangeCheckForAdd_1 0 rfl rfl)
theorem dJ2_rangeCheckForAdd_25 : decode cJ2_rangeCheckForAdd 25 = .ok (.return_, 1) := dk_177 (dk_at dksJ2_rangeCheckForAdd_1 1 rfl rfl)
abbrev cJ2_outOfBoundsMsg : ByteArray := prog_55_method_46_code
def yJ2_outOfBoundsMsg : MethodName := ⟨RJ2, "outOfBoundsMsg", "(I)Ljava/lang/String;"⟩
def dkwJ2_outOfBoundsMsg_1 : List UInt8 := [180, 0, 48, 182, 0, 29, 182, 0, 32, 176]
abbrev dktJ2_outOfBoundsMsg_1 : List UInt8 := dkwJ2_outOfBoundsMsg_1 ++ []
def dkwJ2_outOfBoundsMsg_0 : List UInt8 := [187, 0, 20, 89, 183, 0, 22, 18, 201, 182, 0, 25, 27, 182, 0, 29, 18, 203, 182, 0, 25, 42]
abbrev dktJ2_outOfBoundsMsg_0 : List UInt8 := dkwJ2_outOfBoundsMsg_0 ++ dktJ2_outOfBoundsMsg_1
theorem dksJ2_outOfBoundsMsg_0 : cJ2_outOfBoundsMsg.data.toList.drop 0 = dktJ2_outOfBoundsMsg_0 := by decide +kernel
theorem dksJ2_outOfBoundsMsg_1 : cJ2_outOfBoundsMsg.data.toList.drop 22 = dktJ2_outOfBoundsMsg_1 := dk_seg dksJ2_outOfBoundsMsg_0 22 rfl rfl
theorem dJ2_outOfBoundsMsg_0 : decode cJ2_outOfBoundsMsg 0 = .ok (.new 20, 3) := dk_187 0 20 (dk_at dksJ2_outOfBoundsMsg_0 0 rfl rfl)
theorem dJ2_outOfBoundsMsg_3 : decode cJ2_outOfBoundsMsg 3 = .ok (.dup, 1) := dk_89 (dk_at dksJ2_outOfBoundsMsg_0 3 rfl rfl)
theorem dJ2_outOfBoundsMsg_4 : decode cJ2_outOfBoundsMsg 4 = .ok (.invokespecial 22, 3) := dk_183 0 22 (dk_at dksJ2_outOfBoundsMsg_0 4 rfl rfl)
theorem dJ2_outOfBoundsMsg_7 : decode cJ2_outOfBoundsMsg 7 = .ok (.ldc 201, 2) := dk_18 201 (dk_at dksJ2_outOfBoundsMsg_0 7 rfl rfl)
theorem dJ2_outOfBoundsMsg_9 : decode cJ2_outOfBoundsMsg 9 = .ok (.invokevirtual 25, 3) := dk_182 0 25 (dk_at dksJ2_outOfBoundsMsg_0 9 rfl rfl)
theorem dJ2_outOfBoundsMsg_12 : decode cJ2_outOfBoundsMsg 12 = .ok (.iload_n 1, 1) := dk_27 (dk_at dksJ2_outOfBoundsMsg_0 12 rfl rfl)
theorem dJ2_outOfBoundsMsg_13 : decode cJ2_outOfBoundsMsg 13 = .ok (.invokevirtual 29, 3) := dk_182 0 29 (dk_at dksJ2_outOfBoundsMsg_0 13 rfl rfl)
theorem dJ2_outOfBoundsMsg_16 : decode cJ2_outOfBoundsMsg 16 = .ok (.ldc 203, 2) := dk_18 203 (dk_at dksJ2_outOfBoundsMsg_0 16 rfl rfl)
theorem dJ2_outOfBoundsMsg_18 : decode cJ2_outOfBoundsMsg 18 = .ok (.invokevirtual 25, 3) := dk_182 0 25 (dk_at dksJ2_outOfBoundsMsg_0 18 rfl rfl)
theorem dJ2_outOfBoundsMsg_21 : decode cJ2_outOfBoundsMsg 21 = .ok (.aload_n 0, 1) := dk_42 (dk_at dksJ2_outOfBoundsMsg_0 21 rfl rfl)
theorem dJ2_outOfBoundsMsg_22 : decode cJ2_outOfBoundsMsg 22 = .ok (.getfield 48, 3) := dk_180 0 48 (dk_at dksJ2_outOfBoundsMsg_1 0 rfl rfl)
theorem dJ2_outOfBoundsMsg_25 : decode cJ2_outOfBoundsMsg 25 = .ok (.invokevirtual 29, 3) := dk_182 0 29 (dk_at dksJ2_outOfBoundsMsg_1 3 rfl rfl)
theorem dJ2_outOfBoundsMsg_28 : decode cJ2_outOfBoundsMsg 28 = .ok (.invokevirtual 32, 3) := dk_182 0 32 (dk_at dksJ2_outOfBoundsMsg_1 6 rfl rfl)
theorem dJ2_outOfBoundsMsg_31 : decode cJ2_outOfBoundsMsg 31 = .ok (.areturn, 1) := dk_176 (dk_at dksJ2_outOfBoundsMsg_1 9 rfl rfl)
abbrev cJ2_toArray : ByteArray := prog_55_method_16_code
def yJ2_toArray : MethodName := ⟨RJ2, "toArray", "()[Ljava/lang/Object;"⟩
def dkwJ2_toArray_0 : List UInt8 := [42, 180, 0, 9, 42, 180, 0, 48, 184, 0, 66, 176]
abbrev dktJ2_toArray_0 : List UInt8 := dkwJ2_toArray_0 ++ []
theorem dksJ2_toArray_0 : cJ2_toArray.data.toList.drop 0 = dktJ2_toArray_0 := by decide +kernel
theorem dJ2_toArray_0 : decode cJ2_toArray 0 = .ok (.aload_n 0, 1) := dk_42 (dk_at dksJ2_toArray_0 0 rfl rfl)
theorem dJ2_toArray_1 : decode cJ2_toArray 1 = .ok (.getfield 9, 3) := dk_180 0 9 (dk_at dksJ2_toArray_0 1 rfl rfl)
theorem dJ2_toArray_4 : decode cJ2_toArray 4 = .ok (.aload_n 0, 1) := dk_42 (dk_at dksJ2_toArray_0 4 rfl rfl)
theorem dJ2_toArray_5 : decode cJ2_toArray 5 = .ok (.getfield 48, 3) := dk_180 0 48 (dk_at dksJ2_toArray_0 5 rfl rfl)
theorem dJ2_toArray_8 : decode cJ2_toArray 8 = .ok (.invokestatic 66, 3) := dk_184 0 66 (dk_at dksJ2_toArray_0 8 rfl rfl)
theorem dJ2_toArray_11 : decode cJ2_toArray 11 = .ok (.areturn, 1) := dk_176 (dk_at dksJ2_toArray_0 11 rfl rfl)
theorem q52 : (Jvm.Cond.initialized "java/util/ArrayList") ∈ lw_all := lw_g (lw_at lw_m1 4 rfl) rfl
theorem q116 : (Jvm.Cond.instantiable "java/util/ArrayList" (3 : Nat)) ∈ lw_all := lw_g (lw_at lw_m1 68 rfl) rfl
theorem q118 : (Jvm.Cond.instanceMethod ({ cls := "java/util/ArrayList", name := "<init>", desc := "()V" } : Jvm.MethodName)) ∈ lw_all := lw_g (lw_at lw_m1 70 rfl) rfl
theorem q119 : (Jvm.Cond.code ({ cls := "java/util/ArrayList", name := "<init>", desc := "()V" } : Jvm.MethodName) prog_55_method_2_code (1 : Nat) (Option.none : Option Jvm.ClassFile.FieldType)) ∈ lw_all := lw_g (lw_at lw_m1 71 rfl) rfl
theorem q120 : (Jvm.Cond.methodLink "java/util/ArrayList" (1 : Nat) ({ cls := "java/util/AbstractList", name := "<init>", desc := "()V" } : Jvm.MethodName)) ∈ lw_all := lw_g (lw_at lw_m1 72 rfl) rfl
theorem q127 : (Jvm.Cond.fieldLink "java/util/ArrayList" (39 : Nat) "java/util/ArrayList" "DEFAULTCAPACITY_EMPTY_ELEMENTDATA" "[Ljava/lang/Object;") ∈ lw_all := lw_g (lw_at lw_m1 79 rfl) rfl
theorem q128 : (Jvm.Cond.laysStatic "java/util/ArrayList" "DEFAULTCAPACITY_EMPTY_ELEMENTDATA" "[Ljava/lang/Object;") ∈ lw_tbl := lw_at lw_m1 80 rfl
theorem q129 : (Jvm.Cond.fieldLink "java/util/ArrayList" (9 : Nat) "java/util/ArrayList" "elementData" "[Ljava/lang/Object;") ∈ lw_all := lw_g (lw_at lw_m1 81 rfl) rfl
theorem q132 : (Jvm.Cond.fieldLink "java/util/ArrayList" (48 : Nat) "java/util/ArrayList" "size" "I") ∈ lw_all := lw_g (lw_at lw_m1 84 rfl) rfl
theorem q137 : (Jvm.Cond.sameField "java/util/ArrayList" "java/util/AbstractList" "modCount" "I") ∈ lw_all := lw_g (lw_at lw_m1 89 rfl) rfl
theorem q140 : (Jvm.Cond.fieldLink "java/util/ArrayList" (63 : Nat) "java/util/ArrayList" "modCount" "I") ∈ lw_all := lw_g (lw_at lw_m1 92 rfl) rfl
theorem q141 : (Jvm.Cond.lays "java/util/ArrayList" "java/util/ArrayList" "elementData" "[Ljava/lang/Object;") ∈ lw_all := lw_g (lw_at lw_m1 93 rfl) rfl
theorem q142 : (Jvm.Cond.soleField "java/util/ArrayList" "elementData") ∈ lw_all := lw_g (lw_at lw_m1 94 rfl) rfl
theorem q143 : (Jvm.Cond.lays "java/util/ArrayList" "java/util/ArrayList" "size" "I") ∈ lw_all := lw_g (lw_at lw_m1 95 rfl) rfl
theorem q144 : (Jvm.Cond.soleField "java/util/ArrayList" "size") ∈ lw_all := lw_g (lw_at lw_m1 96 rfl) rfl
theorem q145 : (Jvm.Cond.lays "java/util/ArrayList" "java/util/AbstractList" "modCount" "I") ∈ lw_all := lw_g (lw_at lw_m1 97 rfl) rfl
theorem q147 : (Jvm.Cond.superclass "java/util/ArrayList" "java/util/AbstractList") ∈ lw_all := lw_g (lw_at lw_m1 99 rfl) rfl
theorem q223 : (Jvm.Cond.instanceMethod ({ cls := "java/util/ArrayList", name := "add", desc := "(Ljava/lang/Object;)Z" } : Jvm.MethodName)) ∈ lw_all := lw_g (lw_at lw_m1 175 rfl) rfl
theorem q224 : (Jvm.Cond.selects "java/util/ArrayList" ({ cls := "java/util/ArrayList", name := "add", desc := "(Ljava/lang/Object;)Z" } : Jvm.MethodName) ({ cls := "java/util/ArrayList", name := "add", desc := "(Ljava/lang/Object;)Z" } : Jvm.MethodName)) ∈ lw_all := lw_g (lw_at lw_m1 176 rfl) rfl
theorem q225 : (Jvm.Cond.code ({ cls := "java/util/ArrayList", name := "add", desc := "(Ljava/lang/Object;)Z" } : Jvm.MethodName) prog_55_method_25_code (2 : Nat) (Option.some Jvm.ClassFile.FieldType.boolean)) ∈ lw_all := lw_g (lw_at lw_m1 177 rfl) rfl
theorem q226 : (Jvm.Cond.methodLink "java/util/ArrayList" (131 : Nat) ({ cls := "java/util/ArrayList", name := "add", desc := "(Ljava/lang/Object;[Ljava/lang/Object;I)V" } : Jvm.MethodName)) ∈ lw_all := lw_g (lw_at lw_m1 178 rfl) rfl
theorem q227 : (Jvm.Cond.privateMethod ({ cls := "java/util/ArrayList", name := "add", desc := "(Ljava/lang/Object;[Ljava/lang/Object;I)V" } : Jvm.MethodName)) ∈ lw_tbl := lw_at lw_m1 179 rfl
theorem q228 : (Jvm.Cond.instanceMethod ({ cls := "java/util/ArrayList", name := "add", desc := "(Ljava/lang/Object;[Ljava/lang/Object;I)V" } : Jvm.MethodName)) ∈ lw_all := lw_g (lw_at lw_m1 180 rfl) rfl
theorem q229 : (Jvm.Cond.code ({ cls := "java/util/ArrayList", name := "add", desc := "(Ljava/lang/Object;[Ljava/lang/Object;I)V" } : Jvm.MethodName) prog_55_method_24_code (4 : Nat) (Option.none : Option Jvm.ClassFile.FieldType)) ∈ lw_all := lw_g (lw_at lw_m1 181 rfl) rfl
theorem q230 : (Jvm.Cond.methodLink "java/util/ArrayList" (129 : Nat) ({ cls := "java/util/ArrayList", name := "grow", desc := "()[Ljava/lang/Object;" } : Jvm.MethodName)) ∈ lw_all := lw_g (lw_at lw_m1 182 rfl) rfl
theorem q231 : (Jvm.Cond.privateMethod ({ cls := "java/util/ArrayList", name := "grow", desc := "()[Ljava/lang/Object;" } : Jvm.MethodName)) ∈ lw_tbl := lw_at lw_m1 183 rfl
theorem q232 : (Jvm.Cond.instanceMethod ({ cls := "java/util/ArrayList", name := "grow", desc := "()[Ljava/lang/Object;" } : Jvm.MethodName)) ∈ lw_all := lw_g (lw_at lw_m1 184 rfl) rfl
theorem q233 : (Jvm.Cond.code ({ cls := "java/util/ArrayList", name := "grow", desc := "()[Ljava/lang/Object;" } : Jvm.MethodName) prog_55_method_7_code (1 : Nat) (Option.some (Jvm.ClassFile.FieldType.array (Jvm.ClassFile.FieldType.object "java/lang/Object")))) ∈ lw_all := lw_g (lw_at lw_m1 185 rfl) rfl
theorem q234 : (Jvm.Cond.methodLink "java/util/ArrayList" (69 : Nat) ({ cls := "java/util/ArrayList", name := "grow", desc := "(I)[Ljava/lang/Object;" } : Jvm.MethodName)) ∈ lw_all := lw_g (lw_at lw_m1 186 rfl) rfl
theorem q235 : (Jvm.Cond.privateMethod ({ cls := "java/util/ArrayList", name := "grow", desc := "(I)[Ljava/lang/Object;" } : Jvm.MethodName)) ∈ lw_tbl := lw_at lw_m1 187 rfl
theorem q236 : (Jvm.Cond.instanceMethod ({ cls := "java/util/ArrayList", name := "grow", desc := "(I)[Ljava/lang/Object;" } : Jvm.MethodName)) ∈ lw_all := lw_g (lw_at lw_m1 188 rfl) rfl
theorem q237 : (Jvm.Cond.code ({ cls := "java/util/ArrayList", name := "grow", desc := "(I)[Ljava/lang/Object;" } : Jvm.MethodName) prog_55_method_6_code (4 : Nat) (Option.some (Jvm.ClassFile.FieldType.array (Jvm.ClassFile.FieldType.object "java/lang/Object")))) ∈ lw_all := lw_g (lw_at lw_m1 189 rfl) rfl
theorem q238 : (Jvm.Cond.methodLink "java/util/ArrayList" (73 : Nat) ({ cls := "jdk/internal/util/ArraysSupport", name := "newLength", desc := "(III)I" } : Jvm.MethodName)) ∈ lw_all := lw_g (lw_at lw_m1 190 rfl) rfl
theorem q248 : (Jvm.Cond.methodLink "java/util/ArrayList" (66 : Nat) ({ cls := "java/util/Arrays", name := "copyOf", desc := "([Ljava/lang/Object;I)[Ljava/lang/Object;" } : Jvm.MethodName)) ∈ lw_all := lw_g (lw_at lw_m1 200 rfl) rfl
theorem q281 : (Jvm.Cond.selects "java/util/ArrayList" ({ cls := "java/lang/Object", name := "getClass", desc := "()Ljava/lang/Class;" } : Jvm.MethodName) ({ cls := "java/lang/Object", name := "getClass", desc := "()Ljava/lang/Class;" } : Jvm.MethodName)) ∈ lw_all := lw_g (lw_at lw_m1 233 rfl) rfl
theorem q306 : (Jvm.Cond.methodLink "java/util/ArrayList" (79 : Nat) ({ cls := "java/lang/Math", name := "max", desc := "(II)I" } : Jvm.MethodName)) ∈ lw_all := lw_g (lw_at lw_m2 18 rfl) rfl
theorem q307 : (Jvm.Cond.classLink "java/util/ArrayList" (7 : Nat) "java/lang/Object") ∈ lw_all := lw_g (lw_at lw_m2 19 rfl) rfl
theorem q1241 : (Jvm.Cond.instanceMethod ({ cls := "java/util/ArrayList", name := "size", desc := "()I" } : Jvm.MethodName)) ∈ lw_all := lw_g (lw_at lw_m5 233 rfl) rfl
theorem q1242 : (Jvm.Cond.selects "java/util/ArrayList" ({ cls := "java/util/ArrayList", name := "size", desc := "()I" } : Jvm.MethodName) ({ cls := "java/util/ArrayList", name := "size", desc := "()I" } : Jvm.MethodName)) ∈ lw_all := lw_g (lw_at lw_m5 234 rfl) rfl
theorem q1243 : (Jvm.Cond.code ({ cls := "java/util/ArrayList", name := "size", desc := "()I" } : Jvm.MethodName) prog_55_method_8_code (1 : Nat) (Option.some Jvm.ClassFile.FieldType.int)) ∈ lw_all := lw_g (lw_at lw_m5 235 rfl) rfl
theorem q1275 : (Jvm.Cond.instanceMethod ({ cls := "java/util/ArrayList", name := "get", desc := "(I)Ljava/lang/Object;" } : Jvm.MethodName)) ∈ lw_all := lw_g (lw_at lw_m6 27 rfl) rfl
theorem q1276 : (Jvm.Cond.selects "java/util/ArrayList" ({ cls := "java/util/ArrayList", name := "get", desc := "(I)Ljava/lang/Object;" } : Jvm.MethodName) ({ cls := "java/util/ArrayList", name := "get", desc := "(I)Ljava/lang/Object;" } : Jvm.MethodName)) ∈ lw_all := lw_g (lw_at lw_m6 28 rfl) rfl
theorem q1277 : (Jvm.Cond.code ({ cls := "java/util/ArrayList", name := "get", desc := "(I)Ljava/lang/Object;" } : Jvm.MethodName) prog_55_method_20_code (2 : Nat) (Option.some (Jvm.ClassFile.FieldType.object "java/lang/Object"))) ∈ lw_all := lw_g (lw_at lw_m6 29 rfl) rfl
theorem q1278 : (Jvm.Cond.methodLink "java/util/ArrayList" (118 : Nat) ({ cls := "java/util/Objects", name := "checkIndex", desc := "(II)I" } : Jvm.MethodName)) ∈ lw_all := lw_g (lw_at lw_m6 30 rfl) rfl
theorem q1284 : (Jvm.Cond.methodLink "java/util/ArrayList" (123 : Nat) ({ cls := "java/util/ArrayList", name := "elementData", desc := "(I)Ljava/lang/Object;" } : Jvm.MethodName)) ∈ lw_all := lw_g (lw_at lw_m6 36 rfl) rfl
theorem q1285 : (Jvm.Cond.instanceMethod ({ cls := "java/util/ArrayList", name := "elementData", desc := "(I)Ljava/lang/Object;" } : Jvm.MethodName)) ∈ lw_all := lw_g (lw_at lw_m6 37 rfl) rfl
theorem q1286 : (Jvm.Cond.selects "java/util/ArrayList" ({ cls := "java/util/ArrayList", name := "elementData", desc := "(I)Ljava/lang/Object;" } : Jvm.MethodName) ({ cls := "java/util/ArrayList", name := "elementData", desc := "(I)Ljava/lang/Object;" } : Jvm.MethodName)) ∈ lw_all := lw_g (lw_at lw_m6 38 rfl) rfl
theorem q1287 : (Jvm.Cond.code ({ cls := "java/util/ArrayList", name := "elementData", desc := "(I)Ljava/lang/Object;" } : Jvm.MethodName) prog_55_method_18_code (2 : Nat) (Option.some (Jvm.ClassFile.FieldType.object "java/lang/Object"))) ∈ lw_all := lw_g (lw_at lw_m6 39 rfl) rfl
theorem q1483 : (Jvm.Cond.selects "java/util/ArrayList" ({ cls := "java/util/AbstractList", name := "size", desc := "()I" } : Jvm.MethodName) ({ cls := "java/util/ArrayList", name := "size", desc := "()I" } : Jvm.MethodName)) ∈ lw_all := lw_g (lw_at lw_m6 235 rfl) rfl
theorem q1523 : (Jvm.Cond.selects "java/util/ArrayList" ({ cls := "java/util/AbstractList", name := "get", desc := "(I)Ljava/lang/Object;" } : Jvm.MethodName) ({ cls := "java/util/ArrayList", name := "get", desc := "(I)Ljava/lang/Object;" } : Jvm.MethodName)) ∈ lw_all := lw_g (lw_at lw_m7 35 rfl) rfl
theorem q1821 : (Jvm.Cond.instanceMethod ({ cls := "java/util/ArrayList", name := "iterator", desc := "()Ljava/util/Iterator;" } : Jvm.MethodName)) ∈ lw_all := lw_g (lw_at lw_m8 93 rfl) rfl
theorem q1822 : (Jvm.Cond.selects "java/util/ArrayList" ({ cls := "java/util/ArrayList", name := "iterator", desc := "()Ljava/util/Iterator;" } : Jvm.MethodName) ({ cls := "java/util/ArrayList", name := "iterator", desc := "()Ljava/util/Iterator;" } : Jvm.MethodName)) ∈ lw_all := lw_g (lw_at lw_m8 94 rfl) rfl
theorem q1823 : (Jvm.Cond.code ({ cls := "java/util/ArrayList", name := "iterator", desc := "()Ljava/util/Iterator;" } : Jvm.MethodName) prog_55_method_55_code (1 : Nat) (Option.some (Jvm.ClassFile.FieldType.object "java/util/Iterator"))) ∈ lw_all := lw_g (lw_at lw_m8 95 rfl) rfl
theorem q1824 : (Jvm.Cond.classLink "java/util/ArrayList" (267 : Nat) "java/util/ArrayList$Itr") ∈ lw_all := lw_g (lw_at lw_m8 96 rfl) rfl
theorem q1826 : (Jvm.Cond.methodLink "java/util/ArrayList" (269 : Nat) ({ cls := "java/util/ArrayList$Itr", name := "<init>", desc := "(Ljava/util/ArrayList;)V" } : Jvm.MethodName)) ∈ lw_all := lw_g (lw_at lw_m8 98 rfl) rfl
theorem q2156 : (Jvm.Cond.selects "java/util/ArrayList" ({ cls := "java/util/AbstractList", name := "listIterator", desc := "(I)Ljava/util/ListIterator;" } : Jvm.MethodName) ({ cls := "java/util/ArrayList", name := "listIterator", desc := "(I)Ljava/util/ListIterator;" } : Jvm.MethodName)) ∈ lw_all := lw_g (lw_at lw_m9 188 rfl) rfl
theorem q2157 : (Jvm.Cond.instanceMethod ({ cls := "java/util/ArrayList", name := "listIterator", desc := "(I)Ljava/util/ListIterator;" } : Jvm.MethodName)) ∈ lw_all := lw_g (lw_at lw_m9 189 rfl) rfl
theorem q2158 : (Jvm.Cond.code ({ cls := "java/util/ArrayList", name := "listIterator", desc := "(I)Ljava/util/ListIterator;" } : Jvm.MethodName) prog_55_method_53_code (2 : Nat) (Option.some (Jvm.ClassFile.FieldType.object "java/util/ListIterator"))) ∈ lw_all := lw_g (lw_at lw_m9 190 rfl) rfl
theorem q2159 : (Jvm.Cond.methodLink "java/util/ArrayList" (135 : Nat) ({ cls := "java/util/ArrayList", name := "rangeCheckForAdd", desc := "(I)V" } : Jvm.MethodName)) ∈ lw_all := lw_g (lw_at lw_m9 191 rfl) rfl
theorem q2160 : (Jvm.Cond.privateMethod ({ cls := "java/util/ArrayList", name := "rangeCheckForAdd", desc := "(I)V" } : Jvm.MethodName)) ∈ lw_tbl := lw_at lw_m9 192 rfl
theorem q2161 : (Jvm.Cond.instanceMethod ({ cls := "java/util/ArrayList", name := "rangeCheckForAdd", desc := "(I)V" } : Jvm.MethodName)) ∈ lw_all := lw_g (lw_at lw_m9 193 rfl) rfl
theorem q2162 : (Jvm.Cond.code ({ cls := "java/util/ArrayList", name := "rangeCheckForAdd", desc := "(I)V" } : Jvm.MethodName) prog_55_method_45_code (2 : Nat) (Option.none : Option Jvm.ClassFile.FieldType)) ∈ lw_all := lw_g (lw_at lw_m9 194 rfl) rfl
theorem q2163 : (Jvm.Cond.classLink "java/util/ArrayList" (187 : Nat) "java/lang/IndexOutOfBoundsException") ∈ lw_all := lw_g (lw_at lw_m9 195 rfl) rfl
theorem q2164 : (Jvm.Cond.methodLink "java/util/ArrayList" (198 : Nat) ({ cls := "java/util/ArrayList", name := "outOfBoundsMsg", desc := "(I)Ljava/lang/String;" } : Jvm.MethodName)) ∈ lw_all := lw_g (lw_at lw_m9 196 rfl) rfl
theorem q2165 : (Jvm.Cond.privateMethod ({ cls := "java/util/ArrayList", name := "outOfBoundsMsg", desc := "(I)Ljava/lang/String;" } : Jvm.MethodName)) ∈ lw_tbl := lw_at lw_m9 197 rfl
theorem q2166 : (Jvm.Cond.instanceMethod ({ cls := "java/util/ArrayList", name := "outOfBoundsMsg", desc := "(I)Ljava/lang/String;" } : Jvm.MethodName)) ∈ lw_all := lw_g (lw_at lw_m9 198 rfl) rfl
theorem q2167 : (Jvm.Cond.code ({ cls := "java/util/ArrayList", name := "outOfBoundsMsg", desc := "(I)Ljava/lang/String;" } : Jvm.MethodName) prog_55_method_46_code (2 : Nat) (Option.some (Jvm.ClassFile.FieldType.object "java/lang/String"))) ∈ lw_all := lw_g (lw_at lw_m9 199 rfl) rfl
theorem q2168 : (Jvm.Cond.classLink "java/util/ArrayList" (20 : Nat) "java/lang/StringBuilder") ∈ lw_all := lw_g (lw_at lw_m9 200 rfl) rfl
theorem q2169 : (Jvm.Cond.methodLink "java/util/ArrayList" (22 : Nat) ({ cls := "java/lang/StringBuilder", name := "<init>", desc := "()V" } : Jvm.MethodName)) ∈ lw_all := lw_g (lw_at lw_m9 201 rfl) rfl
theorem q2170 : (Jvm.Cond.stringRef "java/util/ArrayList" (201 : Nat) "Index: ") ∈ lw_tbl := lw_at lw_m9 202 rfl
theorem q2171 : (Jvm.Cond.methodLink "java/util/ArrayList" (25 : Nat) ({ cls := "java/lang/StringBuilder", name := "append", desc := "(Ljava/lang/String;)Ljava/lang/StringBuilder;" } : Jvm.MethodName)) ∈ lw_all := lw_g (lw_at lw_m9 203 rfl) rfl
theorem q2172 : (Jvm.Cond.methodLink "java/util/ArrayList" (29 : Nat) ({ cls := "java/lang/StringBuilder", name := "append", desc := "(I)Ljava/lang/StringBuilder;" } : Jvm.MethodName)) ∈ lw_all := lw_g (lw_at lw_m9 204 rfl) rfl
theorem q2173 : (Jvm.Cond.stringRef "java/util/ArrayList" (203 : Nat) ", Size: ") ∈ lw_tbl := lw_at lw_m9 205 rfl
theorem q2174 : (Jvm.Cond.methodLink "java/util/ArrayList" (32 : Nat) ({ cls := "java/lang/StringBuilder", name := "toString", desc := "()Ljava/lang/String;" } : Jvm.MethodName)) ∈ lw_all := lw_g (lw_at lw_m9 206 rfl) rfl
theorem q2175 : (Jvm.Cond.methodLink "java/util/ArrayList" (193 : Nat) ({ cls := "java/lang/IndexOutOfBoundsException", name := "<init>", desc := "(Ljava/lang/String;)V" } : Jvm.MethodName)) ∈ lw_all := lw_g (lw_at lw_m9 207 rfl) rfl
theorem q2176 : (Jvm.Cond.classLink "java/util/ArrayList" (262 : Nat) "java/util/ArrayList$ListItr") ∈ lw_all := lw_g (lw_at lw_m9 208 rfl) rfl
theorem q2178 : (Jvm.Cond.methodLink "java/util/ArrayList" (264 : Nat) ({ cls := "java/util/ArrayList$ListItr", name := "<init>", desc := "(Ljava/util/ArrayList;I)V" } : Jvm.MethodName)) ∈ lw_all := lw_g (lw_at lw_m9 210 rfl) rfl
theorem q2272 : (Jvm.Cond.castable "java/util/ArrayList" "java/util/Collection") ∈ lw_tbl := lw_at lw_m10 64 rfl
theorem q2273 : (Jvm.Cond.selects "java/util/ArrayList" ({ cls := "java/util/Collection", name := "toArray", desc := "()[Ljava/lang/Object;" } : Jvm.MethodName) ({ cls := "java/util/ArrayList", name := "toArray", desc := "()[Ljava/lang/Object;" } : Jvm.MethodName)) ∈ lw_all := lw_g (lw_at lw_m10 65 rfl) rfl
theorem q2274 : (Jvm.Cond.unhidden "java/util/ArrayList" "toArray" "()[Ljava/lang/Object;") ∈ lw_tbl := lw_at lw_m10 66 rfl
theorem q2275 : (Jvm.Cond.instanceMethod ({ cls := "java/util/ArrayList", name := "toArray", desc := "()[Ljava/lang/Object;" } : Jvm.MethodName)) ∈ lw_all := lw_g (lw_at lw_m10 67 rfl) rfl
theorem q2276 : (Jvm.Cond.publicMethod ({ cls := "java/util/ArrayList", name := "toArray", desc := "()[Ljava/lang/Object;" } : Jvm.MethodName)) ∈ lw_tbl := lw_at lw_m10 68 rfl
theorem q2277 : (Jvm.Cond.code ({ cls := "java/util/ArrayList", name := "toArray", desc := "()[Ljava/lang/Object;" } : Jvm.MethodName) prog_55_method_16_code (1 : Nat) (Option.some (Jvm.ClassFile.FieldType.array (Jvm.ClassFile.FieldType.object "java/lang/Object")))) ∈ lw_all := lw_g (lw_at lw_m10 69 rfl) rfl
theorem q2677 : (Jvm.Cond.selects "java/util/ArrayList" ({ cls := "java/util/AbstractCollection", name := "size", desc := "()I" } : Jvm.MethodName) ({ cls := "java/util/ArrayList", name := "size", desc := "()I" } : Jvm.MethodName)) ∈ lw_all := lw_g (lw_at lw_m11 229 rfl) rfl
theorem q2695 : (Jvm.Cond.castable "java/util/ArrayList" "java/lang/Object") ∈ lw_tbl := lw_at lw_m12 7 rfl
theorem in_J2 : ∀ w ∈ wsJ20, w ∈ lw_all := lw_in wsJ20 [145, 141, 143] (by decide +kernel) (by decide +kernel)

/-! java/util/AbstractMap -/
set_option maxRecDepth 100000
def RJ3 : String := "java/util/AbstractMap"
abbrev cJ3_init : ByteArray := prog_51_method_1_code
def yJ3_init : MethodName := ⟨RJ3, "<init>", "()V"⟩
theorem dJ3_init_0 : decode cJ3_init 0 = .ok (.aload_n 0, 1) := by decide +kernel
theorem dJ3_init_1 : decode cJ3_init 1 = .ok (.invokespecial 1, 3) := by decide +kernel
theorem dJ3_init_4 : decode cJ3_init 4 = .ok (.return_, 1) := by decide +kernel
theorem q53 : (Jvm.Cond.initialized "java/util/AbstractMap") ∈ lw_all := lw_g (lw_at lw_m1 5 rfl) rfl
theorem q159 : (Jvm.Cond.instanceMethod ({ cls := "java/util/AbstractMap", name := "<init>", desc := "()V" } : Jvm.MethodName)) ∈ lw_all := lw_g (lw_at lw_m1 111 rfl) rfl
theorem q160 : (Jvm.Cond.code ({ cls := "java/util/AbstractMap", name := "<init>", desc := "()V" } : Jvm.MethodName) prog_51_method_1_code (1 : Nat) (Option.none : Option Jvm.ClassFile.FieldType)) ∈ lw_all := lw_g (lw_at lw_m1 112 rfl) rfl
theorem q161 : (Jvm.Cond.methodLink "java/util/AbstractMap" (1 : Nat) ({ cls := "java/lang/Object", name := "<init>", desc := "()V" } : Jvm.MethodName)) ∈ lw_all := lw_g (lw_at lw_m1 113 rfl) rfl
theorem q195 : (Jvm.Cond.soleField "java/util/AbstractMap" "keySet") ∈ lw_all := lw_g (lw_at lw_m1 147 rfl) rfl
theorem q197 : (Jvm.Cond.soleField "java/util/AbstractMap" "values") ∈ lw_all := lw_g (lw_at lw_m1 149 rfl) rfl

/-! java/util/HashMap -/
set_option maxRecDepth 100000
def RJ4 : String := "java/util/HashMap"
abbrev cJ4_init : ByteArray := prog_61_method_7_code
def yJ4_init : MethodName := ⟨RJ4, "<init>", "()V"⟩
def dkwJ4_init_0 : List UInt8 := [42, 183, 0, 43, 42, 18, 92, 181, 0, 81, 177]
abbrev dktJ4_init_0 : List UInt8 := dkwJ4_init_0 ++ []
theorem dksJ4_init_0 : cJ4_init.data.toList.drop 0 = dktJ4_init_0 := by decide +kernel
theorem dJ4_init_0 : decode cJ4_init 0 = .ok (.aload_n 0, 1) := dk_42 (dk_at dksJ4_init_0 0 rfl rfl)
theorem dJ4_init_1 : decode cJ4_init 1 = .ok (.invokespecial 43, 3) := dk_183 0 43 (dk_at dksJ4_init_0 1 rfl rfl)
theorem dJ4_init_4 : decode cJ4_init 4 = .ok (.aload_n 0, 1) := dk_42 (dk_at dksJ4_init_0 4 rfl rfl)
theorem dJ4_init_5 : decode cJ4_init 5 = .ok (.ldc 92, 2) := dk_18 92 (dk_at dksJ4_init_0 5 rfl rfl)
theorem dJ4_init_7 : decode cJ4_init 7 = .ok (.putfield 81, 3) := dk_181 0 81 (dk_at dksJ4_init_0 7 rfl rfl)
theorem dJ4_init_10 : decode cJ4_init 10 = .ok (.return_, 1) := dk_177 (dk_at dksJ4_init_0 10 rfl rfl)
abbrev cJ4_put : ByteArray := prog_61_method_15_code
def yJ4_put : MethodName := ⟨RJ4, "put", "(Ljava/lang/Object;Ljava/lang/Object;)Ljava/lang/Object;"⟩
def dkwJ4_put_0 : List UInt8 := [42, 43, 184, 0, 149, 43, 44, 3, 4, 182, 0, 152, 176]
abbrev dktJ4_put_0 : List UInt8 := dkwJ4_put_0 ++ []
theorem dksJ4_put_0 : cJ4_put.data.toList.drop 0 = dktJ4_put_0 := by decide +kernel
theorem dJ4_put_0 : decode cJ4_put 0 = .ok (.aload_n 0, 1) := dk_42 (dk_at dksJ4_put_0 0 rfl rfl)
theorem dJ4_put_1 : decode cJ4_put 1 = .ok (.aload_n 1, 1) := dk_43 (dk_at dksJ4_put_0 1 rfl rfl)
theorem dJ4_put_2 : decode cJ4_put 2 = .ok (.invokestatic 149, 3) := dk_184 0 149 (dk_at dksJ4_put_0 2 rfl rfl)
theorem dJ4_put_5 : decode cJ4_put 5 = .ok (.aload_n 1, 1) := dk_43 (dk_at dksJ4_put_0 5 rfl rfl)
theorem dJ4_put_6 : decode cJ4_put 6 = .ok (.aload_n 2, 1) := dk_44 (dk_at dksJ4_put_0 6 rfl rfl)
theorem dJ4_put_7 : decode cJ4_put 7 = .ok (.iconst 0, 1) := dk_3 (dk_at dksJ4_put_0 7 rfl rfl)
theorem dJ4_put_8 : decode cJ4_put 8 = .ok (.iconst 1, 1) := dk_4 (dk_at dksJ4_put_0 8 rfl rfl)
theorem dJ4_put_9 : decode cJ4_put 9 = .ok (.invokevirtual 152, 3) := dk_182 0 152 (dk_at dksJ4_put_0 9 rfl rfl)
theorem dJ4_put_12 : decode cJ4_put 12 = .ok (.areturn, 1) := dk_176 (dk_at dksJ4_put_0 12 rfl rfl)
abbrev cJ4_hash : ByteArray := prog_61_method_1_code
def yJ4_hash : MethodName := ⟨RJ4, "hash", "(Ljava/lang/Object;)I"⟩
def dkwJ4_hash_0 : List UInt8 := [42, 199, 0, 7, 3, 167, 0, 14, 42, 182, 0, 1, 89, 60, 27, 16, 16, 124, 130, 172]
abbrev dktJ4_hash_0 : List UInt8 := dkwJ4_hash_0 ++ []
theorem dksJ4_hash_0 : cJ4_hash.data.toList.drop 0 = dktJ4_hash_0 := by decide +kernel
theorem dJ4_hash_0 : decode cJ4_hash 0 = .ok (.aload_n 0, 1) := dk_42 (dk_at dksJ4_hash_0 0 rfl rfl)
theorem dJ4_hash_1 : decode cJ4_hash 1 = .ok (.ifnonnull 7, 3) := dk_199 0 7 (dk_at dksJ4_hash_0 1 rfl rfl)
theorem dJ4_hash_4 : decode cJ4_hash 4 = .ok (.iconst 0, 1) := dk_3 (dk_at dksJ4_hash_0 4 rfl rfl)
theorem dJ4_hash_5 : decode cJ4_hash 5 = .ok (.goto 14, 3) := dk_167 0 14 (dk_at dksJ4_hash_0 5 rfl rfl)
theorem dJ4_hash_8 : decode cJ4_hash 8 = .ok (.aload_n 0, 1) := dk_42 (dk_at dksJ4_hash_0 8 rfl rfl)
theorem dJ4_hash_9 : decode cJ4_hash 9 = .ok (.invokevirtual 1, 3) := dk_182 0 1 (dk_at dksJ4_hash_0 9 rfl rfl)
theorem dJ4_hash_12 : decode cJ4_hash 12 = .ok (.dup, 1) := dk_89 (dk_at dksJ4_hash_0 12 rfl rfl)
theorem dJ4_hash_13 : decode cJ4_hash 13 = .ok (.istore_n 1, 1) := dk_60 (dk_at dksJ4_hash_0 13 rfl rfl)
theorem dJ4_hash_14 : decode cJ4_hash 14 = .ok (.iload_n 1, 1) := dk_27 (dk_at dksJ4_hash_0 14 rfl rfl)
theorem dJ4_hash_15 : decode cJ4_hash 15 = .ok (.bipush 16, 2) := dk_16 16 (dk_at dksJ4_hash_0 15 rfl rfl)
theorem dJ4_hash_17 : decode cJ4_hash 17 = .ok (.iushr, 1) := dk_124 (dk_at dksJ4_hash_0 17 rfl rfl)
theorem dJ4_hash_18 : decode cJ4_hash 18 = .ok (.ixor, 1) := dk_130 (dk_at dksJ4_hash_0 18 rfl rfl)
theorem dJ4_hash_19 : decode cJ4_hash 19 = .ok (.ireturn, 1) := dk_172 (dk_at dksJ4_hash_0 19 rfl rfl)
abbrev cJ4_putVal : ByteArray := prog_61_method_16_code
def yJ4_putVal : MethodName := ⟨RJ4, "putVal", "(ILjava/lang/Object;Ljava/lang/Object;ZZ)Ljava/lang/Object;"⟩
def dkwJ4_putVal_12 : List UInt8 := [181, 0, 156, 42, 180, 0, 88, 164, 0, 8, 42, 182, 0, 117, 87, 42, 21, 5, 182, 0, 205, 1, 176]
abbrev dktJ4_putVal_12 : List UInt8 := dkwJ4_putVal_12 ++ []
def dkwJ4_putVal_11 : List UInt8 := [182, 0, 198, 25, 12, 176, 42, 89, 180, 0, 202, 4, 96, 181, 0, 202, 42, 89, 180, 0, 156, 4, 96, 90]
abbrev dktJ4_putVal_11 : List UInt8 := dkwJ4_putVal_11 ++ dktJ4_putVal_12
def dkwJ4_putVal_10 : List UInt8 := [180, 0, 162, 58, 12, 21, 4, 153, 0, 8, 25, 12, 199, 0, 9, 25, 10, 45, 181, 0, 162, 42, 25, 10]
abbrev dktJ4_putVal_10 : List UInt8 := dkwJ4_putVal_10 ++ dktJ4_putVal_11
def dkwJ4_putVal_9 : List UInt8 := [153, 0, 6, 167, 0, 13, 25, 10, 58, 7, 132, 12, 1, 167, 255, 171, 25, 10, 198, 0, 35, 25, 10]
abbrev dktJ4_putVal_9 : List UInt8 := dkwJ4_putVal_9 ++ dktJ4_putVal_10
def dkwJ4_putVal_8 : List UInt8 := [25, 10, 180, 0, 170, 89, 58, 11, 44, 165, 0, 29, 44, 198, 0, 15, 44, 25, 11, 182, 0, 173]
abbrev dktJ4_putVal_8 : List UInt8 := dkwJ4_putVal_8 ++ dktJ4_putVal_9
def dkwJ4_putVal_7 : List UInt8 := [16, 7, 161, 0, 60, 42, 25, 6, 27, 182, 0, 194, 167, 0, 50, 25, 10, 180, 0, 168, 27, 160, 0, 31]
abbrev dktJ4_putVal_7 : List UInt8 := dkwJ4_putVal_7 ++ dktJ4_putVal_8
def dkwJ4_putVal_6 : List UInt8 := [180, 0, 177, 89, 58, 10, 199, 0, 33, 25, 7, 42, 27, 44, 45, 1, 182, 0, 186, 181, 0, 177, 21, 12]
abbrev dktJ4_putVal_6 : List UInt8 := dkwJ4_putVal_6 ++ dktJ4_putVal_7
def dkwJ4_putVal_5 : List UInt8 := [192, 0, 180, 42, 25, 6, 27, 44, 45, 182, 0, 190, 58, 10, 167, 0, 94, 3, 54, 12, 25, 7]
abbrev dktJ4_putVal_5 : List UInt8 := dkwJ4_putVal_5 ++ dktJ4_putVal_6
def dkwJ4_putVal_4 : List UInt8 := [182, 0, 173, 153, 0, 10, 25, 7, 58, 10, 167, 0, 121, 25, 7, 193, 0, 180, 153, 0, 22, 25, 7]
abbrev dktJ4_putVal_4 : List UInt8 := dkwJ4_putVal_4 ++ dktJ4_putVal_5
def dkwJ4_putVal_3 : List UInt8 := [160, 0, 35, 25, 7, 180, 0, 170, 89, 58, 11, 44, 165, 0, 16, 44, 198, 0, 19, 44, 25, 11]
abbrev dktJ4_putVal_3 : List UInt8 := dkwJ4_putVal_3 ++ dktJ4_putVal_4
def dkwJ4_putVal_2 : List UInt8 := [25, 6, 21, 9, 42, 27, 44, 45, 1, 182, 0, 186, 83, 167, 0, 199, 25, 7, 180, 0, 168, 27]
abbrev dktJ4_putVal_2 : List UInt8 := dkwJ4_putVal_2 ++ dktJ4_putVal_3
def dkwJ4_putVal_1 : List UInt8 := [58, 6, 190, 54, 8, 25, 6, 21, 8, 4, 100, 27, 126, 89, 54, 9, 50, 89, 58, 7, 199, 0, 19]
abbrev dktJ4_putVal_1 : List UInt8 := dkwJ4_putVal_1 ++ dktJ4_putVal_2
def dkwJ4_putVal_0 : List UInt8 := [42, 180, 0, 105, 89, 58, 6, 198, 0, 12, 25, 6, 190, 89, 54, 8, 154, 0, 13, 42, 182, 0, 117, 89]
abbrev dktJ4_putVal_0 : List UInt8 := dkwJ4_putVal_0 ++ dktJ4_putVal_1
theorem dksJ4_putVal_0 : cJ4_putVal.data.toList.drop 0 = dktJ4_putVal_0 := by decide +kernel
theorem dksJ4_putVal_1 : cJ4_putVal.data.toList.drop 24 = dktJ4_putVal_1 := dk_seg dksJ4_putVal_0 24 rfl rfl
theorem dksJ4_putVal_2 : cJ4_putVal.data.toList.drop 47 = dktJ4_putVal_2 := dk_seg dksJ4_putVal_1 23 rfl rfl
theorem dksJ4_putVal_3 : cJ4_putVal.data.toList.drop 69 = dktJ4_putVal_3 := dk_seg dksJ4_putVal_2 22 rfl rfl
theorem dksJ4_putVal_4 : cJ4_putVal.data.toList.drop 91 = dktJ4_putVal_4 := dk_seg dksJ4_putVal_3 22 rfl rfl
theorem dksJ4_putVal_5 : cJ4_putVal.data.toList.drop 114 = dktJ4_putVal_5 := dk_seg dksJ4_putVal_4 23 rfl rfl
theorem dksJ4_putVal_6 : cJ4_putVal.data.toList.drop 136 = dktJ4_putVal_6 := dk_seg dksJ4_putVal_5 22 rfl rfl
theorem dksJ4_putVal_7 : cJ4_putVal.data.toList.drop 160 = dktJ4_putVal_7 := dk_seg dksJ4_putVal_6 24 rfl rfl
theorem dksJ4_putVal_8 : cJ4_putVal.data.toList.drop 184 = dktJ4_putVal_8 := dk_seg dksJ4_putVal_7 24 rfl rfl
theorem dksJ4_putVal_9 : cJ4_putVal.data.toList.drop 206 = dktJ4_putVal_9 := dk_seg dksJ4_putVal_8 22 rfl rfl
theorem dksJ4_putVal_10 : cJ4_putVal.data.toList.drop 229 = dktJ4_putVal_10 := dk_seg dksJ4_putVal_9 23 rfl rfl
theorem dksJ4_putVal_11 : cJ4_putVal.data.toList.drop 253 = dktJ4_putVal_11 := dk_seg dksJ4_putVal_10 24 rfl rfl
theorem dksJ4_putVal_12 : cJ4_putVal.data.toList.drop 277 = dktJ4_putVal_12 := dk_seg dksJ4_putVal_11 24 rfl rfl
theorem dJ4_putVal_0 : decode cJ4_putVal 0 = .ok (.aload_n 0, 1) := dk_42 (dk_at dksJ4_putVal_0 0 rfl rfl)
theorem dJ4_putVal_1 : decode cJ4_putVal 1 = .ok (.getfield 105, 3) := dk_180 0 105 (dk_at dksJ4_putVal_0 1 rfl rfl)
theorem dJ4_putVal_4 : decode cJ4_putVal 4 = .ok (.dup, 1) := dk_89 (dk_at dksJ4_putVal_0 4 rfl rfl)
theorem dJ4_putVal_5 : decode cJ4_putVal 5 = .ok (.astore 6, 2) := dk_58 6 (dk_at dksJ4_putVal_0 5 rfl rfl)
theorem dJ4_putVal_7 : decode cJ4_putVal 7 = .ok (.ifnull 12, 3) := dk_198 0 12 (dk_at dksJ4_putVal_0 7 rfl rfl)
theorem dJ4_putVal_10 : decode cJ4_putVal 10 = .ok (.aload 6, 2) := dk_25 6 (dk_at dksJ4_putVal_0 10 rfl rfl)
theorem dJ4_putVal_12 : decode cJ4_putVal 12 = .ok (.arraylength, 1) := dk_190 (dk_at dksJ4_putVal_0 12 rfl rfl)
theorem dJ4_putVal_13 : decode cJ4_putVal 13 = .ok (.dup, 1) := dk_89 (dk_at dksJ4_putVal_0 13 rfl rfl)
theorem dJ4_putVal_14 : decode cJ4_putVal 14 = .ok (.istore 8, 2) := dk_54 8 (dk_at dksJ4_putVal_0 14 rfl rfl)
theorem dJ4_putVal_16 : decode cJ4_putVal 16 = .ok (.ifCond .ne 13, 3) := dk_154 0 13 (dk_at dksJ4_putVal_0 16 rfl rfl)
theorem dJ4_putVal_19 : decode cJ4_putVal 19 = .ok (.aload_n 0, 1) := dk_42 (dk_at dksJ4_putVal_0 19 rfl rfl)
theorem dJ4_putVal_20 : decode cJ4_putVal 20 = .ok (.invokevirtual 117, 3) := dk_182 0 117 (dk_at dksJ4_putVal_0 20 rfl rfl)
theorem dJ4_putVal_23 : decode cJ4_putVal 23 = .ok (.dup, 1) := dk_89 (dk_at dksJ4_putVal_0 23 rfl rfl)
theorem dJ4_putVal_24 : decode cJ4_putVal 24 = .ok (.astore 6, 2) := dk_58 6 (dk_at dksJ4_putVal_1 0 rfl rfl)
theorem dJ4_putVal_26 : decode cJ4_putVal 26 = .ok (.arraylength, 1) := dk_190 (dk_at dksJ4_putVal_1 2 rfl rfl)
theorem dJ4_putVal_27 : decode cJ4_putVal 27 = .ok (.istore 8, 2) := dk_54 8 (dk_at dksJ4_putVal_1 3 rfl rfl)
theorem dJ4_putVal_29 : decode cJ4_putVal 29 = .ok (.aload 6, 2) := dk_25 6 (dk_at dksJ4_putVal_1 5 rfl rfl)
theorem dJ4_putVal_31 : decode cJ4_putVal 31 = .ok (.iload 8, 2) := dk_21 8 (dk_at dksJ4_putVal_1 7 rfl rfl)
theorem dJ4_putVal_33 : decode cJ4_putVal 33 = .ok (.iconst 1, 1) := dk_4 (dk_at dksJ4_putVal_1 9 rfl rfl)
theorem dJ4_putVal_34 : decode cJ4_putVal 34 = .ok (.isub, 1) := dk_100 (dk_at dksJ4_putVal_1 10 rfl rfl)
theorem dJ4_putVal_35 : decode cJ4_putVal 35 = .ok (.iload_n 1, 1) := dk_27 (dk_at dksJ4_putVal_1 11 rfl rfl)
theorem dJ4_putVal_36 : decode cJ4_putVal 36 = .ok (.iand, 1) := dk_126 (dk_at dksJ4_putVal_1 12 rfl rfl)
theorem dJ4_putVal_37 : decode cJ4_putVal 37 = .ok (.dup, 1) := dk_89 (dk_at dksJ4_putVal_1 13 rfl rfl)
theorem dJ4_putVal_38 : decode cJ4_putVal 38 = .ok (.istore 9, 2) := dk_54 9 (dk_at dksJ4_putVal_1 14 rfl rfl)
theorem dJ4_putVal_40 : decode cJ4_putVal 40 = .ok (.aaload, 1) := dk_50 (dk_at dksJ4_putVal_1 16 rfl rfl)
theorem dJ4_putVal_41 : decode cJ4_putVal 41 = .ok (.dup, 1) := dk_89 (dk_at dksJ4_putVal_1 17 rfl rfl)
theorem dJ4_putVal_42 : decode cJ4_putVal 42 = .ok (.astore 7, 2) := dk_58 7 (dk_at dksJ4_putVal_1 18 rfl rfl)
theorem dJ4_putVal_44 : decode cJ4_putVal 44 = .ok (.ifnonnull 19, 3) := dk_199 0 19 (dk_at dksJ4_putVal_1 20 rfl rfl)
theorem dJ4_putVal_47 : decode cJ4_putVal 47 = .ok (.aload 6, 2) := dk_25 6 (dk_at dksJ4_putVal_2 0 rfl rfl)
theorem dJ4_putVal_49 : decode cJ4_putVal 49 = .ok (.iload 9, 2) := dk_21 9 (dk_at dksJ4_putVal_2 2 rfl rfl)
theorem dJ4_putVal_51 : decode cJ4_putVal 51 = .ok (.aload_n 0, 1) := dk_42 (dk_at dksJ4_putVal_2 4 rfl rfl)
theorem dJ4_putVal_52 : decode cJ4_putVal 52 = .ok (.iload_n 1, 1) := dk_27 (dk_at dksJ4_putVal_2 5 rfl rfl)
theorem dJ4_putVal_53 : decode cJ4_putVal 53 = .ok (.aload_n 2, 1) := dk_44 (dk_at dksJ4_putVal_2 6 rfl rfl)
theorem dJ4_putVal_54 : decode cJ4_putVal 54 = .ok (.aload_n 3, 1) := dk_45 (dk_at dksJ4_putVal_2 7 rfl rfl)
theorem dJ4_putVal_55 : decode cJ4_putVal 55 = .ok (.aconst_null, 1) := dk_1 (dk_at dksJ4_putVal_2 8 rfl rfl)
theorem dJ4_putVal_56 : decode cJ4_putVal 56 = .ok (.invokevirtual 186, 3) := dk_182 0 186 (dk_at dksJ4_putVal_2 9 rfl rfl)
theorem dJ4_putVal_59 : decode cJ4_putVal 59 = .ok (.aastore, 1) := dk_83 (dk_at dksJ4_putVal_2 12 rfl rfl)
theorem dJ4_putVal_60 : decode cJ4_putVal 60 = .ok (.goto 199, 3) := dk_167 0 199 (dk_at dksJ4_putVal_2 13 rfl rfl)
theorem dJ4_putVal_63 : decode cJ4_putVal 63 = .ok (.aload 7, 2) := dk_25 7 (dk_at dksJ4_putVal_2 16 rfl rfl)
theorem dJ4_putVal_65 : decode cJ4_putVal 65 = .ok (.getfield 168, 3) := dk_180 0 168 (dk_at dksJ4_putVal_2 18 rfl rfl)
theorem dJ4_putVal_68 : decode cJ4_putVal 68 = .ok (.iload_n 1, 1) := dk_27 (dk_at dksJ4_putVal_2 21 rfl rfl)
theorem dJ4_putVal_69 : decode cJ4_putVal 69 = .ok (.if_icmp .ne 35, 3) := dk_160 0 35 (dk_at dksJ4_putVal_3 0 rfl rfl)
theorem dJ4_putVal_72 : decode cJ4_putVal 72 = .ok (.aload 7, 2) := dk_25 7 (dk_at dksJ4_putVal_3 3 rfl rfl)
theorem dJ4_putVal_74 : decode cJ4_putVal 74 = .ok (.getfield 170, 3) := dk_180 0 170 (dk_at dksJ4_putVal_3 5 rfl rfl)
theorem dJ4_putVal_77 : decode cJ4_putVal 77 = .ok (.dup, 1) := dk_89 (dk_at dksJ4_putVal_3 8 rfl rfl)
theorem dJ4_putVal_78 : decode cJ4_putVal 78 = .ok (.astore 11, 2) := dk_58 11 (dk_at dksJ4_putVal_3 9 rfl rfl)
theorem dJ4_putVal_80 : decode cJ4_putVal 80 = .ok (.aload_n 2, 1) := dk_44 (dk_at dksJ4_putVal_3 11 rfl rfl)
theorem dJ4_putVal_81 : decode cJ4_putVal 81 = .ok (.if_acmp .eq 16, 3) := dk_165 0 16 (dk_at dksJ4_putVal_3 12 rfl rfl)
theorem dJ4_putVal_84 : decode cJ4_putVal 84 = .ok (.aload_n 2, 1) := dk_44 (dk_at dksJ4_putVal_3 15 rfl rfl)
theorem dJ4_putVal_85 : decode cJ4_putVal 85 = .ok (.ifnull 19, 3) := dk_198 0 19 (dk_at dksJ4_putVal_3 16 rfl rfl)
theorem dJ4_putVal_88 : decode cJ4_putVal 88 = .ok (.aload_n 2, 1) := dk_44 (dk_at dksJ4_putVal_3 19 rfl rfl)
theorem dJ4_putVal_89 : decode cJ4_putVal 89 = .ok (.aload 11, 2) := dk_25 11 (dk_at dksJ4_putVal_3 20 rfl rfl)
theorem dJ4_putVal_91 : decode cJ4_putVal 91 = .ok (.invokevirtual 173, 3) := dk_182 0 173 (dk_at dksJ4_putVal_4 0 rfl rfl)
theorem dJ4_putVal_94 : decode cJ4_putVal 94 = .ok (.ifCond .eq 10, 3) := dk_153 0 10 (dk_at dksJ4_putVal_4 3 rfl rfl)
theorem dJ4_putVal_97 : decode cJ4_putVal 97 = .ok (.aload 7, 2) := dk_25 7 (dk_at dksJ4_putVal_4 6 rfl rfl)
theorem dJ4_putVal_99 : decode cJ4_putVal 99 = .ok (.astore 10, 2) := dk_58 10 (dk_at dksJ4_putVal_4 8 rfl rfl)
theorem dJ4_putVal_101 : decode cJ4_putVal 101 = .ok (.goto 121, 3) := dk_167 0 121 (dk_at dksJ4_putVal_4 10 rfl rfl)
theorem dJ4_putVal_104 : decode cJ4_putVal 104 = .ok (.aload 7, 2) := dk_25 7 (dk_at dksJ4_putVal_4 13 rfl rfl)
theorem dJ4_putVal_106 : decode cJ4_putVal 106 = .ok (.instanceof 180, 3) := dk_193 0 180 (dk_at dksJ4_putVal_4 15 rfl rfl)
theorem dJ4_putVal_109 : decode cJ4_putVal 109 = .ok (.ifCond .eq 22, 3) := dk_153 0 22 (dk_at dksJ4_putVal_4 18 rfl rfl)
theorem dJ4_putVal_112 : decode cJ4_putVal 112 = .ok (.aload 7, 2) := dk_25 7 (dk_at dksJ4_putVal_4 21 rfl rfl)
theorem dJ4_putVal_114 : decode cJ4_putVal 114 = .ok (.checkcast 180, 3) := dk_192 0 180 (dk_at dksJ4_putVal_5 0 rfl rfl)
theorem dJ4_putVal_117 : decode cJ4_putVal 117 = .ok (.aload_n 0, 1) := dk_42 (dk_at dksJ4_putVal_5 3 rfl rfl)
theorem dJ4_putVal_118 : decode cJ4_putVal 118 = .ok (.aload 6, 2) := dk_25 6 (dk_at dksJ4_putVal_5 4 rfl rfl)
theorem dJ4_putVal_120 : decode cJ4_putVal 120 = .ok (.iload_n 1, 1) := dk_27 (dk_at dksJ4_putVal_5 6 rfl rfl)
theorem dJ4_putVal_121 : decode cJ4_putVal 121 = .ok (.aload_n 2, 1) := dk_44 (dk_at dksJ4_putVal_5 7 rfl rfl)
theorem dJ4_putVal_122 : decode cJ4_putVal 122 = .ok (.aload_n 3, 1) := dk_45 (dk_at dksJ4_putVal_5 8 rfl rfl)
theorem dJ4_putVal_123 : decode cJ4_putVal 123 = .ok (.invokevirtual 190, 3) := dk_182 0 190 (dk_at dksJ4_putVal_5 9 rfl rfl)
theorem dJ4_putVal_126 : decode cJ4_putVal 126 = .ok (.astore 10, 2) := dk_58 10 (dk_at dksJ4_putVal_5 12 rfl rfl)
theorem dJ4_putVal_128 : decode cJ4_putVal 128 = .ok (.goto 94, 3) := dk_167 0 94 (dk_at dksJ4_putVal_5 14 rfl rfl)
theorem dJ4_putVal_131 : decode cJ4_putVal 131 = .ok (.iconst 0, 1) := dk_3 (dk_at dksJ4_putVal_5 17 rfl rfl)
theorem dJ4_putVal_132 : decode cJ4_putVal 132 = .ok (.istore 12, 2) := dk_54 12 (dk_at dksJ4_putVal_5 18 rfl rfl)
theorem dJ4_putVal_134 : decode cJ4_putVal 134 = .ok (.aload 7, 2) := dk_25 7 (dk_at dksJ4_putVal_5 20 rfl rfl)
theorem dJ4_putVal_136 : decode cJ4_putVal 136 = .ok (.getfield 177, 3) := dk_180 0 177 (dk_at dksJ4_putVal_6 0 rfl rfl)
theorem dJ4_putVal_139 : decode cJ4_putVal 139 = .ok (.dup, 1) := dk_89 (dk_at dksJ4_putVal_6 3 rfl rfl)
theorem dJ4_putVal_140 : decode cJ4_putVal 140 = .ok (.astore 10, 2) := dk_58 10 (dk_at dksJ4_putVal_6 4 rfl rfl)
theorem dJ4_putVal_142 : decode cJ4_putVal 142 = .ok (.ifnonnull 33, 3) := dk_199 0 33 (dk_at dksJ4_putVal_6 6 rfl rfl)
theorem dJ4_putVal_145 : decode cJ4_putVal 145 = .ok (.aload 7, 2) := dk_25 7 (dk_at dksJ4_putVal_6 9 rfl rfl)
theorem dJ4_putVal_147 : decode cJ4_putVal 147 = .ok (.aload_n 0, 1) := dk_42 (dk_at dksJ4_putVal_6 11 rfl rfl)
theorem dJ4_putVal_148 : decode cJ4_putVal 148 = .ok (.iload_n 1, 1) := dk_27 (dk_at dksJ4_putVal_6 12 rfl rfl)
theorem dJ4_putVal_149 : decode cJ4_putVal 149 = .ok (.aload_n 2, 1) := dk_44 (dk_at dksJ4_putVal_6 13 rfl rfl)
theorem dJ4_putVal_150 : decode cJ4_putVal 150 = .ok (.aload_n 3, 1) := dk_45 (dk_at dksJ4_putVal_6 14 rfl rfl)
theorem dJ4_putVal_151 : decode cJ4_putVal 151 = .ok (.aconst_null, 1) := dk_1 (dk_at dksJ4_putVal_6 15 rfl rfl)
theorem dJ4_putVal_152 : decode cJ4_putVal 152 = .ok (.invokevirtual 186, 3) := dk_182 0 186 (dk_at dksJ4_putVal_6 16 rfl rfl)
theorem dJ4_putVal_155 : decode cJ4_putVal 155 = .ok (.putfield 177, 3) := dk_181 0 177 (dk_at dksJ4_putVal_6 19 rfl rfl)
theorem dJ4_putVal_158 : decode cJ4_putVal 158 = .ok (.iload 12, 2) := dk_21 12 (dk_at dksJ4_putVal_6 22 rfl rfl)
theorem dJ4_putVal_160 : decode cJ4_putVal 160 = .ok (.bipush 7, 2) := dk_16 7 (dk_at dksJ4_putVal_7 0 rfl rfl)
theorem dJ4_putVal_162 : decode cJ4_putVal 162 = .ok (.if_icmp .lt 60, 3) := dk_161 0 60 (dk_at dksJ4_putVal_7 2 rfl rfl)
theorem dJ4_putVal_165 : decode cJ4_putVal 165 = .ok (.aload_n 0, 1) := dk_42 (dk_at dksJ4_putVal_7 5 rfl rfl)
theorem dJ4_putVal_166 : decode cJ4_putVal 166 = .ok (.aload 6, 2) := dk_25 6 (dk_at dksJ4_putVal_7 6 rfl rfl)
theorem dJ4_putVal_168 : decode cJ4_putVal 168 = .ok (.iload_n 1, 1) := dk_27 (dk_at dksJ4_putVal_7 8 rfl rfl)
theorem dJ4_putVal_169 : decode cJ4_putVal 169 = .ok (.invokevirtual 194, 3) := dk_182 0 194 (dk_at dksJ4_putVal_7 9 rfl rfl)
theorem dJ4_putVal_172 : decode cJ4_putVal 172 = .ok (.goto 50, 3) := dk_167 0 50 (dk_at dksJ4_putVal_7 12 rfl rfl)
theorem dJ4_putVal_175 : decode cJ4_putVal 175 = .ok (.aload 10, 2) := dk_25 10 (dk_at dksJ4_putVal_7 15 rfl rfl)
theorem dJ4_putVal_177 : decode cJ4_putVal 177 = .ok (.getfield 168, 3) := dk_180 0 168 (dk_at dksJ4_putVal_7 17 rfl rfl)
theorem dJ4_putVal_180 : decode cJ4_putVal 180 = .ok (.iload_n 1, 1) := dk_27 (dk_at dksJ4_putVal_7 20 rfl rfl)
theorem dJ4_putVal_181 : decode cJ4_putVal 181 = .ok (.if_icmp .ne 31, 3) := dk_160 0 31 (dk_at dksJ4_putVal_7 21 rfl rfl)
theorem dJ4_putVal_184 : decode cJ4_putVal 184 = .ok (.aload 10, 2) := dk_25 10 (dk_at dksJ4_putVal_8 0 rfl rfl)
theorem dJ4_putVal_186 : decode cJ4_putVal 186 = .ok (.getfield 170, 3) := dk_180 0 170 (dk_at dksJ4_putVal_8 2 rfl rfl)
theorem dJ4_putVal_189 : decode cJ4_putVal 189 = .ok (.dup, 1) := dk_89 (dk_at dksJ4_putVal_8 5 rfl rfl)
theorem dJ4_putVal_190 : decode cJ4_putVal 190 = .ok (.astore 11, 2) := dk_58 11 (dk_at dksJ4_putVal_8 6 rfl rfl)
theorem dJ4_putVal_192 : decode cJ4_putVal 192 = .ok (.aload_n 2, 1) := dk_44 (dk_at dksJ4_putVal_8 8 rfl rfl)
theorem dJ4_putVal_193 : decode cJ4_putVal 193 = .ok (.if_acmp .eq 29, 3) := dk_165 0 29 (dk_at dksJ4_putVal_8 9 rfl rfl)
theorem dJ4_putVal_196 : decode cJ4_putVal 196 = .ok (.aload_n 2, 1) := dk_44 (dk_at dksJ4_putVal_8 12 rfl rfl)
theorem dJ4_putVal_197 : decode cJ4_putVal 197 = .ok (.ifnull 15, 3) := dk_198 0 15 (dk_at dksJ4_putVal_8 13 rfl rfl)
theorem dJ4_putVal_200 : decode cJ4_putVal 200 = .ok (.aload_n 2, 1) := dk_44 (dk_at dksJ4_putVal_8 16 rfl rfl)
theorem dJ4_putVal_201 : decode cJ4_putVal 201 = .ok (.aload 11, 2) := dk_25 11 (dk_at dksJ4_putVal_8 17 rfl rfl)
theorem dJ4_putVal_203 : decode cJ4_putVal 203 = .ok (.invokevirtual 173, 3) := dk_182 0 173 (dk_at dksJ4_putVal_8 19 rfl rfl)
theorem dJ4_putVal_206 : decode cJ4_putVal 206 = .ok (.ifCond .eq 6, 3) := dk_153 0 6 (dk_at dksJ4_putVal_9 0 rfl rfl)
theorem dJ4_putVal_209 : decode cJ4_putVal 209 = .ok (.goto 13, 3) := dk_167 0 13 (dk_at dksJ4_putVal_9 3 rfl rfl)
theorem dJ4_putVal_212 : decode cJ4_putVal 212 = .ok (.aload 10, 2) := dk_25 10 (dk_at dksJ4_putVal_9 6 rfl rfl)
theorem dJ4_putVal_214 : decode cJ4_putVal 214 = .ok (.astore 7, 2) := dk_58 7 (dk_at dksJ4_putVal_9 8 rfl rfl)
theorem dJ4_putVal_216 : decode cJ4_putVal 216 = .ok (.iinc 12 1, 3) := dk_132 12 1 (dk_at dksJ4_putVal_9 10 rfl rfl)
theorem dJ4_putVal_219 : decode cJ4_putVal 219 = .ok (.goto (-85), 3) := dk_167 255 171 (dk_at dksJ4_putVal_9 13 rfl rfl)
theorem dJ4_putVal_222 : decode cJ4_putVal 222 = .ok (.aload 10, 2) := dk_25 10 (dk_at dksJ4_putVal_9 16 rfl rfl)
theorem dJ4_putVal_224 : decode cJ4_putVal 224 = .ok (.ifnull 35, 3) := dk_198 0 35 (dk_at dksJ4_putVal_9 18 rfl rfl)
theorem dJ4_putVal_227 : decode cJ4_putVal 227 = .ok (.aload 10, 2) := dk_25 10 (dk_at dksJ4_putVal_9 21 rfl rfl)
theorem dJ4_putVal_229 : decode cJ4_putVal 229 = .ok (.getfield 162, 3) := dk_180 0 162 (dk_at dksJ4_putVal_10 0 rfl rfl)
theorem dJ4_putVal_232 : decode cJ4_putVal 232 = .ok (.astore 12, 2) := dk_58 12 (dk_at dksJ4_putVal_10 3 rfl rfl)
theorem dJ4_putVal_234 : decode cJ4_putVal 234 = .ok (.iload 4, 2) := dk_21 4 (dk_at dksJ4_putVal_10 5 rfl rfl)
theorem dJ4_putVal_236 : decode cJ4_putVal 236 = .ok (.ifCond .eq 8, 3) := dk_153 0 8 (dk_at dksJ4_putVal_10 7 rfl rfl)
theorem dJ4_putVal_239 : decode cJ4_putVal 239 = .ok (.aload 12, 2) := dk_25 12 (dk_at dksJ4_putVal_10 10 rfl rfl)
theorem dJ4_putVal_241 : decode cJ4_putVal 241 = .ok (.ifnonnull 9, 3) := dk_199 0 9 (dk_at dksJ4_putVal_10 12 rfl rfl)
theorem dJ4_putVal_244 : decode cJ4_putVal 244 = .ok (.aload 10, 2) := dk_25 10 (dk_at dksJ4_putVal_10 15 rfl rfl)
theorem dJ4_putVal_246 : decode cJ4_putVal 246 = .ok (.aload_n 3, 1) := dk_45 (dk_at dksJ4_putVal_10 17 rfl rfl)
theorem dJ4_putVal_247 : decode cJ4_putVal 247 = .ok (.putfield 162, 3) := dk_181 0 162 (dk_at dksJ4_putVal_10 18 rfl rfl)
theorem dJ4_putVal_250 : decode cJ4_putVal 250 = .ok (.aload_n 0, 1) := dk_42 (dk_at dksJ4_putVal_10 21 rfl rfl)
theorem dJ4_putVal_251 : decode cJ4_putVal 251 = .ok (.aload 10, 2) := dk_25 10 (dk_at dksJ4_putVal_10 22 rfl rfl)
theorem dJ4_putVal_253 : decode cJ4_putVal 253 = .ok (.invokevirtual 198, 3) := dk_182 0 198 (dk_at dksJ4_putVal_11 0 rfl rfl)
theorem dJ4_putVal_256 : decode cJ4_putVal 256 = .ok (.aload 12, 2) := dk_25 12 (dk_at dksJ4_putVal_11 3 rfl rfl)
theorem dJ4_putVal_258 : decode cJ4_putVal 258 = .ok (.areturn, 1) := dk_176 (dk_at dksJ4_putVal_11 5 rfl rfl)
theorem dJ4_putVal_259 : decode cJ4_putVal 259 = .ok (.aload_n 0, 1) := dk_42 (dk_at dksJ4_putVal_11 6 rfl rfl)
theorem dJ4_putVal_260 : decode cJ4_putVal 260 = .ok (.dup, 1) := dk_89 (dk_at dksJ4_putVal_11 7 rfl rfl)
theorem dJ4_putVal_261 : decode cJ4_putVal 261 = .ok (.getfield 202, 3) := dk_180 0 202 (dk_at dksJ4_putVal_11 8 rfl rfl)
theorem dJ4_putVal_264 : decode cJ4_putVal 264 = .ok (.iconst 1, 1) := dk_4 (dk_at dksJ4_putVal_11 11 rfl rfl)
theorem dJ4_putVal_265 : decode cJ4_putVal 265 = .ok (.iadd, 1) := dk_96 (dk_at dksJ4_putVal_11 12 rfl rfl)
theorem dJ4_putVal_266 : decode cJ4_putVal 266 = .ok (.putfield 202, 3) := dk_181 0 202 (dk_at dksJ4_putVal_11 13 rfl rfl)
theorem dJ4_putVal_269 : decode cJ4_putVal 269 = .ok (.aload_n 0, 1) := dk_42 (dk_at dksJ4_putVal_11 16 rfl rfl)
theorem dJ4_putVal_270 : decode cJ4_putVal 270 = .ok (.dup, 1) := dk_89 (dk_at dksJ4_putVal_11 17 rfl rfl)
theorem dJ4_putVal_271 : decode cJ4_putVal 271 = .ok (.getfield 156, 3) := dk_180 0 156 (dk_at dksJ4_putVal_11 18 rfl rfl)
theorem dJ4_putVal_274 : decode cJ4_putVal 274 = .ok (.iconst 1, 1) := dk_4 (dk_at dksJ4_putVal_11 21 rfl rfl)
theorem dJ4_putVal_275 : decode cJ4_putVal 275 = .ok (.iadd, 1) := dk_96 (dk_at dksJ4_putVal_11 22 rfl rfl)
theorem dJ4_putVal_276 : decode cJ4_putVal 276 = .ok (.dup_x1, 1) := dk_90 (dk_at dksJ4_putVal_11 23 rfl rfl)
theorem dJ4_putVal_277 : decode cJ4_putVal 277 = .ok (.putfield 156, 3) := dk_181 0 156 (dk_at dksJ4_putVal_12 0 rfl rfl)
theorem dJ4_putVal_280 : decode cJ4_putVal 280 = .ok (.aload_n 0, 1) := dk_42 (dk_at dksJ4_putVal_12 3 rfl rfl)
theorem dJ4_putVal_281 : decode cJ4_putVal 281 = .ok (.getfield 88, 3) := dk_180 0 88 (dk_at dksJ4_putVal_12 4 rfl rfl)
theorem dJ4_putVal_284 : decode cJ4_putVal 284 = .ok (.if_icmp .le 8, 3) := dk_164 0 8 (dk_at dksJ4_putVal_12 7 rfl rfl)
theorem dJ4_putVal_287 : decode cJ4_putVal 287 = .ok (.aload_n 0, 1) := dk_42 (dk_at dksJ4_putVal_12 10 rfl rfl)
theorem dJ4_putVal_288 : decode cJ4_putVal 288 = .ok (.invokevirtual 117, 3) := dk_182 0 117 (dk_at dksJ4_putVal_12 11 rfl rfl)
theorem dJ4_putVal_291 : decode cJ4_putVal 291 = .ok (.pop, 1) := dk_87 (dk_at dksJ4_putVal_12 14 rfl rfl)
theorem dJ4_putVal_292 : decode cJ4_putVal 292 = .ok (.aload_n 0, 1) := dk_42 (dk_at dksJ4_putVal_12 15 rfl rfl)
theorem dJ4_putVal_293 : decode cJ4_putVal 293 = .ok (.iload 5, 2) := dk_21 5 (dk_at dksJ4_putVal_12 16 rfl rfl)
theorem dJ4_putVal_295 : decode cJ4_putVal 295 = .ok (.invokevirtual 205, 3) := dk_182 0 205 (dk_at dksJ4_putVal_12 18 rfl rfl)
theorem dJ4_putVal_298 : decode cJ4_putVal 298 = .ok (.aconst_null, 1) := dk_1 (dk_at dksJ4_putVal_12 21 rfl rfl)
theorem dJ4_putVal_299 : decode cJ4_putVal 299 = .ok (.areturn, 1) := dk_176 (dk_at dksJ4_putVal_12 22 rfl rfl)
abbrev cJ4_resize : ByteArray := prog_61_method_17_code
def yJ4_resize : MethodName := ⟨RJ4, "resize", "()[Ljava/util/HashMap$Node;"⟩
def dkwJ4_resize_15 : List UInt8 := [25, 6, 176]
abbrev dktJ4_resize_15 : List UInt8 := dkwJ4_resize_15 ++ []
def dkwJ4_resize_14 : List UInt8 := [198, 0, 18, 25, 12, 1, 181, 0, 177, 25, 6, 21, 7, 28, 96, 25, 11, 83, 132, 7, 1, 167, 255, 57]
abbrev dktJ4_resize_14 : List UInt8 := dkwJ4_resize_14 ++ dktJ4_resize_15
def dkwJ4_resize_13 : List UInt8 := [199, 255, 185, 25, 10, 198, 0, 16, 25, 10, 1, 181, 0, 177, 25, 6, 21, 7, 25, 9, 83, 25, 12]
abbrev dktJ4_resize_13 : List UInt8 := dkwJ4_resize_13 ++ dktJ4_resize_14
def dkwJ4_resize_12 : List UInt8 := [25, 8, 58, 11, 167, 0, 10, 25, 12, 25, 8, 181, 0, 177, 25, 8, 58, 12, 25, 13, 89, 58, 8]
abbrev dktJ4_resize_12 : List UInt8 := dkwJ4_resize_12 ++ dktJ4_resize_13
def dkwJ4_resize_11 : List UInt8 := [58, 9, 167, 0, 10, 25, 10, 25, 8, 181, 0, 177, 25, 8, 58, 10, 167, 0, 26, 25, 12, 199, 0, 10]
abbrev dktJ4_resize_11 : List UInt8 := dkwJ4_resize_11 ++ dktJ4_resize_12
def dkwJ4_resize_10 : List UInt8 := [25, 8, 180, 0, 177, 58, 13, 25, 8, 180, 0, 168, 28, 126, 154, 0, 29, 25, 10, 199, 0, 10, 25, 8]
abbrev dktJ4_resize_10 : List UInt8 := dkwJ4_resize_10 ++ dktJ4_resize_11
def dkwJ4_resize_9 : List UInt8 := [42, 25, 6, 21, 7, 28, 182, 0, 211, 167, 0, 127, 1, 58, 9, 1, 58, 10, 1, 58, 11, 1, 58, 12]
abbrev dktJ4_resize_9 : List UInt8 := dkwJ4_resize_9 ++ dktJ4_resize_10
def dkwJ4_resize_8 : List UInt8 := [21, 4, 4, 100, 126, 25, 8, 83, 167, 0, 152, 25, 8, 193, 0, 180, 153, 0, 20, 25, 8, 192, 0, 180]
abbrev dktJ4_resize_8 : List UInt8 := dkwJ4_resize_8 ++ dktJ4_resize_9
def dkwJ4_resize_7 : List UInt8 := [198, 0, 183, 43, 21, 7, 1, 83, 25, 8, 180, 0, 177, 199, 0, 21, 25, 6, 25, 8, 180, 0, 168]
abbrev dktJ4_resize_7 : List UInt8 := dkwJ4_resize_7 ++ dktJ4_resize_8
def dkwJ4_resize_6 : List UInt8 := [181, 0, 105, 43, 198, 0, 208, 3, 54, 7, 21, 7, 28, 162, 0, 199, 43, 21, 7, 50, 89, 58, 8]
abbrev dktJ4_resize_6 : List UInt8 := dkwJ4_resize_6 ++ dktJ4_resize_7
def dkwJ4_resize_5 : List UInt8 := [167, 0, 5, 18, 209, 54, 5, 42, 21, 5, 181, 0, 88, 21, 4, 189, 0, 163, 58, 6, 42, 25, 6]
abbrev dktJ4_resize_5 : List UInt8 := dkwJ4_resize_5 ++ dktJ4_resize_6
def dkwJ4_resize_4 : List UInt8 := [180, 0, 81, 106, 56, 6, 21, 4, 18, 42, 162, 0, 17, 23, 6, 18, 210, 150, 156, 0, 9, 23, 6, 139]
abbrev dktJ4_resize_4 : List UInt8 := dkwJ4_resize_4 ++ dktJ4_resize_5
def dkwJ4_resize_3 : List UInt8 := [54, 4, 167, 0, 11, 16, 16, 54, 4, 16, 12, 54, 5, 21, 5, 154, 0, 38, 21, 4, 134, 42]
abbrev dktJ4_resize_3 : List UInt8 := dkwJ4_resize_3 ++ dktJ4_resize_4
def dkwJ4_resize_2 : List UInt8 := [18, 42, 162, 0, 35, 28, 16, 16, 161, 0, 29, 29, 4, 120, 54, 5, 167, 0, 21, 29, 158, 0, 9, 29]
abbrev dktJ4_resize_2 : List UInt8 := dkwJ4_resize_2 ++ dktJ4_resize_3
def dkwJ4_resize_1 : List UInt8 := [28, 158, 0, 42, 28, 18, 42, 161, 0, 11, 42, 18, 209, 181, 0, 88, 43, 176, 28, 4, 120, 89, 54, 4]
abbrev dktJ4_resize_1 : List UInt8 := dkwJ4_resize_1 ++ dktJ4_resize_2
def dkwJ4_resize_0 : List UInt8 := [42, 180, 0, 105, 76, 43, 199, 0, 7, 3, 167, 0, 5, 43, 190, 61, 42, 180, 0, 88, 62, 3, 54, 5]
abbrev dktJ4_resize_0 : List UInt8 := dkwJ4_resize_0 ++ dktJ4_resize_1
theorem dksJ4_resize_0 : cJ4_resize.data.toList.drop 0 = dktJ4_resize_0 := by decide +kernel
theorem dksJ4_resize_1 : cJ4_resize.data.toList.drop 24 = dktJ4_resize_1 := dk_seg dksJ4_resize_0 24 rfl rfl
theorem dksJ4_resize_2 : cJ4_resize.data.toList.drop 48 = dktJ4_resize_2 := dk_seg dksJ4_resize_1 24 rfl rfl
theorem dksJ4_resize_3 : cJ4_resize.data.toList.drop 72 = dktJ4_resize_3 := dk_seg dksJ4_resize_2 24 rfl rfl
theorem dksJ4_resize_4 : cJ4_resize.data.toList.drop 94 = dktJ4_resize_4 := dk_seg dksJ4_resize_3 22 rfl rfl
theorem dksJ4_resize_5 : cJ4_resize.data.toList.drop 118 = dktJ4_resize_5 := dk_seg dksJ4_resize_4 24 rfl rfl
theorem dksJ4_resize_6 : cJ4_resize.data.toList.drop 141 = dktJ4_resize_6 := dk_seg dksJ4_resize_5 23 rfl rfl
theorem dksJ4_resize_7 : cJ4_resize.data.toList.drop 164 = dktJ4_resize_7 := dk_seg dksJ4_resize_6 23 rfl rfl
theorem dksJ4_resize_8 : cJ4_resize.data.toList.drop 187 = dktJ4_resize_8 := dk_seg dksJ4_resize_7 23 rfl rfl
theorem dksJ4_resize_9 : cJ4_resize.data.toList.drop 211 = dktJ4_resize_9 := dk_seg dksJ4_resize_8 24 rfl rfl
theorem dksJ4_resize_10 : cJ4_resize.data.toList.drop 235 = dktJ4_resize_10 := dk_seg dksJ4_resize_9 24 rfl rfl
theorem dksJ4_resize_11 : cJ4_resize.data.toList.drop 259 = dktJ4_resize_11 := dk_seg dksJ4_resize_10 24 rfl rfl
theorem dksJ4_resize_12 : cJ4_resize.data.toList.drop 283 = dktJ4_resize_12 := dk_seg dksJ4_resize_11 24 rfl rfl
theorem dksJ4_resize_13 : cJ4_resize.data.toList.drop 306 = dktJ4_resize_13 := dk_seg dksJ4_resize_12 23 rfl rfl
theorem dksJ4_resize_14 : cJ4_resize.data.toList.drop 329 = dktJ4_resize_14 := dk_seg dksJ4_resize_13 23 rfl rfl
theorem dksJ4_resize_15 : cJ4_resize.data.toList.drop 353 = dktJ4_resize_15 := dk_seg dksJ4_resize_14 24 rfl rfl
theorem dJ4_resize_0 : decode cJ4_resize 0 = .ok (.aload_n 0, 1) := dk_42 (dk_at dksJ4_resize_0 0 rfl rfl)
theorem dJ4_resize_1 : decode cJ4_resize 1 = .ok (.getfield 105, 3) := dk_180 0 105 (dk_at dksJ4_resize_0 1 rfl rfl)
theorem dJ4_resize_4 : decode cJ4_resize 4 = .ok (.astore_n 1, 1) := dk_76 (dk_at dksJ4_resize_0 4 rfl rfl)
theorem dJ4_resize_5 : decode cJ4_resize 5 = .ok (.aload_n 1, 1) := dk_43 (dk_at dksJ4_resize_0 5 rfl rfl)
theorem dJ4_resize_6 : decode cJ4_resize 6 = .ok (.ifnonnull 7, 3) := dk_199 0 7 (dk_at dksJ4_resize_0 6 rfl rfl)
theorem dJ4_resize_9 : decode cJ4_resize 9 = .ok (.iconst 0, 1) := dk_3 (dk_at dksJ4_resize_0 9 rfl rfl)
theorem dJ4_resize_10 : decode cJ4_resize 10 = .ok (.goto 5, 3) := dk_167 0 5 (dk_at dksJ4_resize_0 10 rfl rfl)
theorem dJ4_resize_13 : decode cJ4_resize 13 = .ok (.aload_n 1, 1) := dk_43 (dk_at dksJ4_resize_0 13 rfl rfl)
theorem dJ4_resize_14 : decode cJ4_resize 14 = .ok (.arraylength, 1) := dk_190 (dk_at dksJ4_resize_0 14 rfl rfl)
theorem dJ4_resize_15 : decode cJ4_resize 15 = .ok (.istore_n 2, 1) := dk_61 (dk_at dksJ4_resize_0 15 rfl rfl)
theorem dJ4_resize_16 : decode cJ4_resize 16 = .ok (.aload_n 0, 1) := dk_42 (dk_at dksJ4_resize_0 16 rfl rfl)
theorem dJ4_resize_17 : decode cJ4_resize 17 = .ok (.getfield 88, 3) := dk_180 0 88 (dk_at dksJ4_resize_0 17 rfl rfl)
theorem dJ4_resize_20 : decode cJ4_resize 20 = .ok (.istore_n 3, 1) := dk_62 (dk_at dksJ4_resize_0 20 rfl rfl)
theorem dJ4_resize_21 : decode cJ4_resize 21 = .ok (.iconst 0, 1) := dk_3 (dk_at dksJ4_resize_0 21 rfl rfl)
theorem dJ4_resize_22 : decode cJ4_resize 22 = .ok (.istore 5, 2) := dk_54 5 (dk_at dksJ4_resize_0 22 rfl rfl)
theorem dJ4_resize_24 : decode cJ4_resize 24 = .ok (.iload_n 2, 1) := dk_28 (dk_at dksJ4_resize_1 0 rfl rfl)
theorem dJ4_resize_25 : decode cJ4_resize 25 = .ok (.ifCond .le 42, 3) := dk_158 0 42 (dk_at dksJ4_resize_1 1 rfl rfl)
theorem dJ4_resize_28 : decode cJ4_resize 28 = .ok (.iload_n 2, 1) := dk_28 (dk_at dksJ4_resize_1 4 rfl rfl)
theorem dJ4_resize_29 : decode cJ4_resize 29 = .ok (.ldc 42, 2) := dk_18 42 (dk_at dksJ4_resize_1 5 rfl rfl)
theorem dJ4_resize_31 : decode cJ4_resize 31 = .ok (.if_icmp .lt 11, 3) := dk_161 0 11 (dk_at dksJ4_resize_1 7 rfl rfl)
theorem dJ4_resize_34 : decode cJ4_resize 34 = .ok (.aload_n 0, 1) := dk_42 (dk_at dksJ4_resize_1 10 rfl rfl)
theorem dJ4_resize_35 : decode cJ4_resize 35 = .ok (.ldc 209, 2) := dk_18 209 (dk_at dksJ4_resize_1 11 rfl rfl)
theorem dJ4_resize_37 : decode cJ4_resize 37 = .ok (.putfield 88, 3) := dk_181 0 88 (dk_at dksJ4_resize_1 13 rfl rfl)
theorem dJ4_resize_40 : decode cJ4_resize 40 = .ok (.aload_n 1, 1) := dk_43 (dk_at dksJ4_resize_1 16 rfl rfl)
theorem dJ4_resize_41 : decode cJ4_resize 41 = .ok (.areturn, 1) := dk_176 (dk_at dksJ4_resize_1 17 rfl rfl)
theorem dJ4_resize_42 : decode cJ4_resize 42 = .ok (.iload_n 2, 1) := dk_28 (dk_at dksJ4_resize_1 18 rfl rfl)
theorem dJ4_resize_43 : decode cJ4_resize 43 = .ok (.iconst 1, 1) := dk_4 (dk_at dksJ4_resize_1 19 rfl rfl)
theorem dJ4_resize_44 : decode cJ4_resize 44 = .ok (.ishl, 1) := dk_120 (dk_at dksJ4_resize_1 20 rfl rfl)
theorem dJ4_resize_45 : decode cJ4_resize 45 = .ok (.dup, 1) := dk_89 (dk_at dksJ4_resize_1 21 rfl rfl)
theorem dJ4_resize_46 : decode cJ4_resize 46 = .ok (.istore 4, 2) := dk_54 4 (dk_at dksJ4_resize_1 22 rfl rfl)
theorem dJ4_resize_48 : decode cJ4_resize 48 = .ok (.ldc 42, 2) := dk_18 42 (dk_at dksJ4_resize_2 0 rfl rfl)
theorem dJ4_resize_50 : decode cJ4_resize 50 = .ok (.if_icmp .ge 35, 3) := dk_162 0 35 (dk_at dksJ4_resize_2 2 rfl rfl)
theorem dJ4_resize_53 : decode cJ4_resize 53 = .ok (.iload_n 2, 1) := dk_28 (dk_at dksJ4_resize_2 5 rfl rfl)
theorem dJ4_resize_54 : decode cJ4_resize 54 = .ok (.bipush 16, 2) := dk_16 16 (dk_at dksJ4_resize_2 6 rfl rfl)
theorem dJ4_resize_56 : decode cJ4_resize 56 = .ok (.if_icmp .lt 29, 3) := dk_161 0 29 (dk_at dksJ4_resize_2 8 rfl rfl)
theorem dJ4_resize_59 : decode cJ4_resize 59 = .ok (.iload_n 3, 1) := dk_29 (dk_at dksJ4_resize_2 11 rfl rfl)
theorem dJ4_resize_60 : decode cJ4_resize 60 = .ok (.iconst 1, 1) := dk_4 (dk_at dksJ4_resize_2 12 rfl rfl)
theorem dJ4_resize_61 : decode cJ4_resize 61 = .ok (.ishl, 1) := dk_120 (dk_at dksJ4_resize_2 13 rfl rfl)
theorem dJ4_resize_62 : decode cJ4_resize 62 = .ok (.istore 5, 2) := dk_54 5 (dk_at dksJ4_resize_2 14 rfl rfl)
theorem dJ4_resize_64 : decode cJ4_resize 64 = .ok (.goto 21, 3) := dk_167 0 21 (dk_at dksJ4_resize_2 16 rfl rfl)
theorem dJ4_resize_67 : decode cJ4_resize 67 = .ok (.iload_n 3, 1) := dk_29 (dk_at dksJ4_resize_2 19 rfl rfl)
theorem dJ4_resize_68 : decode cJ4_resize 68 = .ok (.ifCond .le 9, 3) := dk_158 0 9 (dk_at dksJ4_resize_2 20 rfl rfl)
theorem dJ4_resize_71 : decode cJ4_resize 71 = .ok (.iload_n 3, 1) := dk_29 (dk_at dksJ4_resize_2 23 rfl rfl)
theorem dJ4_resize_72 : decode cJ4_resize 72 = .ok (.istore 4, 2) := dk_54 4 (dk_at dksJ4_resize_3 0 rfl rfl)
theorem dJ4_resize_74 : decode cJ4_resize 74 = .ok (.goto 11, 3) := dk_167 0 11 (dk_at dksJ4_resize_3 2 rfl rfl)
theorem dJ4_resize_77 : decode cJ4_resize 77 = .ok (.bipush 16, 2) := dk_16 16 (dk_at dksJ4_resize_3 5 rfl rfl)
theorem dJ4_resize_79 : decode cJ4_resize 79 = .ok (.istore 4, 2) := dk_54 4 (dk_at dksJ4_resize_3 7 rfl rfl)
theorem dJ4_resize_81 : decode cJ4_resize 81 = .ok (.bipush 12, 2) := dk_16 12 (dk_at dksJ4_resize_3 9 rfl rfl)
theorem dJ4_resize_83 : decode cJ4_resize 83 = .ok (.istore 5, 2) := dk_54 5 (dk_at dksJ4_resize_3 11 rfl rfl)
theorem dJ4_resize_85 : decode cJ4_resize 85 = .ok (.iload 5, 2) := dk_21 5 (dk_at dksJ4_resize_3 13 rfl rfl)
theorem dJ4_resize_87 : decode cJ4_resize 87 = .ok (.ifCond .ne 38, 3) := dk_154 0 38 (dk_at dksJ4_resize_3 15 rfl rfl)
theorem dJ4_resize_90 : decode cJ4_resize 90 = .ok (.iload 4, 2) := dk_21 4 (dk_at dksJ4_resize_3 18 rfl rfl)
theorem dJ4_resize_92 : decode cJ4_resize 92 = .ok (.i2f, 1) := dk_134 (dk_at dksJ4_resize_3 20 rfl rfl)
theorem dJ4_resize_93 : decode cJ4_resize 93 = .ok (.aload_n 0, 1) := dk_42 (dk_at dksJ4_resize_3 21 rfl rfl)
theorem dJ4_resize_94 : decode cJ4_resize 94 = .ok (.getfield 81, 3) := dk_180 0 81 (dk_at dksJ4_resize_4 0 rfl rfl)
theorem dJ4_resize_97 : decode cJ4_resize 97 = .ok (.fmul, 1) := dk_106 (dk_at dksJ4_resize_4 3 rfl rfl)
theorem dJ4_resize_98 : decode cJ4_resize 98 = .ok (.fstore 6, 2) := dk_56 6 (dk_at dksJ4_resize_4 4 rfl rfl)
theorem dJ4_resize_100 : decode cJ4_resize 100 = .ok (.iload 4, 2) := dk_21 4 (dk_at dksJ4_resize_4 6 rfl rfl)
theorem dJ4_resize_102 : decode cJ4_resize 102 = .ok (.ldc 42, 2) := dk_18 42 (dk_at dksJ4_resize_4 8 rfl rfl)
theorem dJ4_resize_104 : decode cJ4_resize 104 = .ok (.if_icmp .ge 17, 3) := dk_162 0 17 (dk_at dksJ4_resize_4 10 rfl rfl)
theorem dJ4_resize_107 : decode cJ4_resize 107 = .ok (.fload 6, 2) := dk_23 6 (dk_at dksJ4_resize_4 13 rfl rfl)
theorem dJ4_resize_109 : decode cJ4_resize 109 = .ok (.ldc 210, 2) := dk_18 210 (dk_at dksJ4_resize_4 15 rfl rfl)
theorem dJ4_resize_111 : decode cJ4_resize 111 = .ok (.fcmp .g, 1) := dk_150 (dk_at dksJ4_resize_4 17 rfl rfl)
theorem dJ4_resize_112 : decode cJ4_resize 112 = .ok (.ifCond .ge 9, 3) := dk_156 0 9 (dk_at dksJ4_resize_4 18 rfl rfl)
theorem dJ4_resize_115 : decode cJ4_resize 115 = .ok (.fload 6, 2) := dk_23 6 (dk_at dksJ4_resize_4 21 rfl rfl)
theorem dJ4_resize_117 : decode cJ4_resize 117 = .ok (.f2i, 1) := dk_139 (dk_at dksJ4_resize_4 23 rfl rfl)
theorem dJ4_resize_118 : decode cJ4_resize 118 = .ok (.goto 5, 3) := dk_167 0 5 (dk_at dksJ4_resize_5 0 rfl rfl)
theorem dJ4_resize_121 : decode cJ4_resize 121 = .ok (.ldc 209, 2) := dk_18 209 (dk_at dksJ4_resize_5 3 rfl rfl)
theorem dJ4_resize_123 : decode cJ4_resize 123 = .ok (.istore 5, 2) := dk_54 5 (dk_at dksJ4_resize_5 5 rfl rfl)
theorem dJ4_resize_125 : decode cJ4_resize 125 = .ok (.aload_n 0, 1) := dk_42 (dk_at dksJ4_resize_5 7 rfl rfl)
theorem dJ4_resize_126 : decode cJ4_resize 126 = .ok (.iload 5, 2) := dk_21 5 (dk_at dksJ4_resize_5 8 rfl rfl)
theorem dJ4_resize_128 : decode cJ4_resize 128 = .ok (.putfield 88, 3) := dk_181 0 88 (dk_at dksJ4_resize_5 10 rfl rfl)
theorem dJ4_resize_131 : decode cJ4_resize 131 = .ok (.iload 4, 2) := dk_21 4 (dk_at dksJ4_resize_5 13 rfl rfl)
theorem dJ4_resize_133 : decode cJ4_resize 133 = .ok (.anewarray 163, 3) := dk_189 0 163 (dk_at dksJ4_resize_5 15 rfl rfl)
theorem dJ4_resize_136 : decode cJ4_resize 136 = .ok (.astore 6, 2) := dk_58 6 (dk_at dksJ4_resize_5 18 rfl rfl)
theorem dJ4_resize_138 : decode cJ4_resize 138 = .ok (.aload_n 0, 1) := dk_42 (dk_at dksJ4_resize_5 20 rfl rfl)
theorem dJ4_resize_139 : decode cJ4_resize 139 = .ok (.aload 6, 2) := dk_25 6 (dk_at dksJ4_resize_5 21 rfl rfl)
theorem dJ4_resize_141 : decode cJ4_resize 141 = .ok (.putfield 105, 3) := dk_181 0 105 (dk_at dksJ4_resize_6 0 rfl rfl)
theorem dJ4_resize_144 : decode cJ4_resize 144 = .ok (.aload_n 1, 1) := dk_43 (dk_at dksJ4_resize_6 3 rfl rfl)
theorem dJ4_resize_145 : decode cJ4_resize 145 = .ok (.ifnull 208, 3) := dk_198 0 208 (dk_at dksJ4_resize_6 4 rfl rfl)
theorem dJ4_resize_148 : decode cJ4_resize 148 = .ok (.iconst 0, 1) := dk_3 (dk_at dksJ4_resize_6 7 rfl rfl)
theorem dJ4_resize_149 : decode cJ4_resize 149 = .ok (.istore 7, 2) := dk_54 7 (dk_at dksJ4_resize_6 8 rfl rfl)
theorem dJ4_resize_151 : decode cJ4_resize 151 = .ok (.iload 7, 2) := dk_21 7 (dk_at dksJ4_resize_6 10 rfl rfl)
theorem dJ4_resize_153 : decode cJ4_resize 153 = .ok (.iload_n 2, 1) := dk_28 (dk_at dksJ4_resize_6 12 rfl rfl)
theorem dJ4_resize_154 : decode cJ4_resize 154 = .ok (.if_icmp .ge 199, 3) := dk_162 0 199 (dk_at dksJ4_resize_6 13 rfl rfl)
theorem dJ4_resize_157 : decode cJ4_resize 157 = .ok (.aload_n 1, 1) := dk_43 (dk_at dksJ4_resize_6 16 rfl rfl)
theorem dJ4_resize_158 : decode cJ4_resize 158 = .ok (.iload 7, 2) := dk_21 7 (dk_at dksJ4_resize_6 17 rfl rfl)
theorem dJ4_resize_160 : decode cJ4_resize 160 = .ok (.aaload, 1) := dk_50 (dk_at dksJ4_resize_6 19 rfl rfl)
theorem dJ4_resize_161 : decode cJ4_resize 161 = .ok (.dup, 1) := dk_89 (dk_at dksJ4_resize_6 20 rfl rfl)
theorem dJ4_resize_162 : decode cJ4_resize 162 = .ok (.astore 8, 2) := dk_58 8 (dk_at dksJ4_resize_6 21 rfl rfl)
theorem dJ4_resize_164 : decode cJ4_resize 164 = .ok (.ifnull 183, 3) := dk_198 0 183 (dk_at dksJ4_resize_7 0 rfl rfl)
theorem dJ4_resize_167 : decode cJ4_resize 167 = .ok (.aload_n 1, 1) := dk_43 (dk_at dksJ4_resize_7 3 rfl rfl)
theorem dJ4_resize_168 : decode cJ4_resize 168 = .ok (.iload 7, 2) := dk_21 7 (dk_at dksJ4_resize_7 4 rfl rfl)
theorem dJ4_resize_170 : decode cJ4_resize 170 = .ok (.aconst_null, 1) := dk_1 (dk_at dksJ4_resize_7 6 rfl rfl)
theorem dJ4_resize_171 : decode cJ4_resize 171 = .ok (.aastore, 1) := dk_83 (dk_at dksJ4_resize_7 7 rfl rfl)
theorem dJ4_resize_172 : decode cJ4_resize 172 = .ok (.aload 8, 2) := dk_25 8 (dk_at dksJ4_resize_7 8 rfl rfl)
theorem dJ4_resize_174 : decode cJ4_resize 174 = .ok (.getfield 177, 3) := dk_180 0 177 (dk_at dksJ4_resize_7 10 rfl rfl)
theorem dJ4_resize_177 : decode cJ4_resize 177 = .ok (.ifnonnull 21, 3) := dk_199 0 21 (dk_at dksJ4_resize_7 13 rfl rfl)
theorem dJ4_resize_180 : decode cJ4_resize 180 = .ok (.aload 6, 2) := dk_25 6 (dk_at dksJ4_resize_7 16 rfl rfl)
theorem dJ4_resize_182 : decode cJ4_resize 182 = .ok (.aload 8, 2) := dk_25 8 (dk_at dksJ4_resize_7 18 rfl rfl)
theorem dJ4_resize_184 : decode cJ4_resize 184 = .ok (.getfield 168, 3) := dk_180 0 168 (dk_at dksJ4_resize_7 20 rfl rfl)
theorem dJ4_resize_187 : decode cJ4_resize 187 = .ok (.iload 4, 2) := dk_21 4 (dk_at dksJ4_resize_8 0 rfl rfl)
theorem dJ4_resize_189 : decode cJ4_resize 189 = .ok (.iconst 1, 1) := dk_4 (dk_at dksJ4_resize_8 2 rfl rfl)
theorem dJ4_resize_190 : decode cJ4_resize 190 = .ok (.isub, 1) := dk_100 (dk_at dksJ4_resize_8 3 rfl rfl)
theorem dJ4_resize_191 : decode cJ4_resize 191 = .ok (.iand, 1) := dk_126 (dk_at dksJ4_resize_8 4 rfl rfl)
theorem dJ4_resize_192 : decode cJ4_resize 192 = .ok (.aload 8, 2) := dk_25 8 (dk_at dksJ4_resize_8 5 rfl rfl)
theorem dJ4_resize_194 : decode cJ4_resize 194 = .ok (.aastore, 1) := dk_83 (dk_at dksJ4_resize_8 7 rfl rfl)
theorem dJ4_resize_195 : decode cJ4_resize 195 = .ok (.goto 152, 3) := dk_167 0 152 (dk_at dksJ4_resize_8 8 rfl rfl)
theorem dJ4_resize_198 : decode cJ4_resize 198 = .ok (.aload 8, 2) := dk_25 8 (dk_at dksJ4_resize_8 11 rfl rfl)
theorem dJ4_resize_200 : decode cJ4_resize 200 = .ok (.instanceof 180, 3) := dk_193 0 180 (dk_at dksJ4_resize_8 13 rfl rfl)
theorem dJ4_resize_203 : decode cJ4_resize 203 = .ok (.ifCond .eq 20, 3) := dk_153 0 20 (dk_at dksJ4_resize_8 16 rfl rfl)
theorem dJ4_resize_206 : decode cJ4_resize 206 = .ok (.aload 8, 2) := dk_25 8 (dk_at dksJ4_resize_8 19 rfl rfl)
theorem dJ4_resize_208 : decode cJ4_resize 208 = .ok (.checkcast 180, 3) := dk_192 0 180 (dk_at dksJ4_resize_8 21 rfl rfl)
theorem dJ4_resize_211 : decode cJ4_resize 211 = .ok (.aload_n 0, 1) := dk_42 (dk_at dksJ4_resize_9 0 rfl rfl)
theorem dJ4_resize_212 : decode cJ4_resize 212 = .ok (.aload 6, 2) := dk_25 6 (dk_at dksJ4_resize_9 1 rfl rfl)
theorem dJ4_resize_214 : decode cJ4_resize 214 = .ok (.iload 7, 2) := dk_21 7 (dk_at dksJ4_resize_9 3 rfl rfl)
theorem dJ4_resize_216 : decode cJ4_resize 216 = .ok (.iload_n 2, 1) := dk_28 (dk_at dksJ4_resize_9 5 rfl rfl)
theorem dJ4_resize_217 : decode cJ4_resize 217 = .ok (.invokevirtual 211, 3) := dk_182 0 211 (dk_at dksJ4_resize_9 6 rfl rfl)
theorem dJ4_resize_220 : decode cJ4_resize 220 = .ok (.goto 127, 3) := dk_167 0 127 (dk_at dksJ4_resize_9 9 rfl rfl)
theorem dJ4_resize_223 : decode cJ4_resize 223 = .ok (.aconst_null, 1) := dk_1 (dk_at dksJ4_resize_9 12 rfl rfl)
theorem dJ4_resize_224 : decode cJ4_resize 224 = .ok (.astore 9, 2) := dk_58 9 (dk_at dksJ4_resize_9 13 rfl rfl)
theorem dJ4_resize_226 : decode cJ4_resize 226 = .ok (.aconst_null, 1) := dk_1 (dk_at dksJ4_resize_9 15 rfl rfl)
theorem dJ4_resize_227 : decode cJ4_resize 227 = .ok (.astore 10, 2) := dk_58 10 (dk_at dksJ4_resize_9 16 rfl rfl)
theorem dJ4_resize_229 : decode cJ4_resize 229 = .ok (.aconst_null, 1) := dk_1 (dk_at dksJ4_resize_9 18 rfl rfl)
theorem dJ4_resize_230 : decode cJ4_resize 230 = .ok (.astore 11, 2) := dk_58 11 (dk_at dksJ4_resize_9 19 rfl rfl)
theorem dJ4_resize_232 : decode cJ4_resize 232 = .ok (.aconst_null, 1) := dk_1 (dk_at dksJ4_resize_9 21 rfl rfl)
theorem dJ4_resize_233 : decode cJ4_resize 233 = .ok (.astore 12, 2) := dk_58 12 (dk_at dksJ4_resize_9 22 rfl rfl)
theorem dJ4_resize_235 : decode cJ4_resize 235 = .ok (.aload 8, 2) := dk_25 8 (dk_at dksJ4_resize_10 0 rfl rfl)
theorem dJ4_resize_237 : decode cJ4_resize 237 = .ok (.getfield 177, 3) := dk_180 0 177 (dk_at dksJ4_resize_10 2 rfl rfl)
theorem dJ4_resize_240 : decode cJ4_resize 240 = .ok (.astore 13, 2) := dk_58 13 (dk_at dksJ4_resize_10 5 rfl rfl)
theorem dJ4_resize_242 : decode cJ4_resize 242 = .ok (.aload 8, 2) := dk_25 8 (dk_at dksJ4_resize_10 7 rfl rfl)
theorem dJ4_resize_244 : decode cJ4_resize 244 = .ok (.getfield 168, 3) := dk_180 0 168 (dk_at dksJ4_resize_10 9 rfl rfl)
theorem dJ4_resize_247 : decode cJ4_resize 247 = .ok (.iload_n 2, 1) := dk_28 (dk_at dksJ4_resize_10 12 rfl rfl)
theorem dJ4_resize_248 : decode cJ4_resize 248 = .ok (.iand, 1) := dk_126 (dk_at dksJ4_resize_10 13 rfl rfl)
theorem dJ4_resize_249 : decode cJ4_resize 249 = .ok (.ifCond .ne 29, 3) := dk_154 0 29 (dk_at dksJ4_resize_10 14 rfl rfl)
theorem dJ4_resize_252 : decode cJ4_resize 252 = .ok (.aload 10, 2) := dk_25 10 (dk_at dksJ4_resize_10 17 rfl rfl)
theorem dJ4_resize_254 : decode cJ4_resize 254 = .ok (.ifnonnull 10, 3) := dk_199 0 10 (dk_at dksJ4_resize_10 19 rfl rfl)
theorem dJ4_resize_257 : decode cJ4_resize 257 = .ok (.aload 8, 2) := dk_25 8 (dk_at dksJ4_resize_10 22 rfl rfl)
theorem dJ4_resize_259 : decode cJ4_resize 259 = .ok (.astore 9, 2) := dk_58 9 (dk_at dksJ4_resize_11 0 rfl rfl)
theorem dJ4_resize_261 : decode cJ4_resize 261 = .ok (.goto 10, 3) := dk_167 0 10 (dk_at dksJ4_resize_11 2 rfl rfl)
theorem dJ4_resize_264 : decode cJ4_resize 264 = .ok (.aload 10, 2) := dk_25 10 (dk_at dksJ4_resize_11 5 rfl rfl)
theorem dJ4_resize_266 : decode cJ4_resize 266 = .ok (.aload 8, 2) := dk_25 8 (dk_at dksJ4_resize_11 7 rfl rfl)
theorem dJ4_resize_268 : decode cJ4_resize 268 = .ok (.putfield 177, 3) := dk_181 0 177 (dk_at dksJ4_resize_11 9 rfl rfl)
theorem dJ4_resize_271 : decode cJ4_resize 271 = .ok (.aload 8, 2) := dk_25 8 (dk_at dksJ4_resize_11 12 rfl rfl)
theorem dJ4_resize_273 : decode cJ4_resize 273 = .ok (.astore 10, 2) := dk_58 10 (dk_at dksJ4_resize_11 14 rfl rfl)
theorem dJ4_resize_275 : decode cJ4_resize 275 = .ok (.goto 26, 3) := dk_167 0 26 (dk_at dksJ4_resize_11 16 rfl rfl)
theorem dJ4_resize_278 : decode cJ4_resize 278 = .ok (.aload 12, 2) := dk_25 12 (dk_at dksJ4_resize_11 19 rfl rfl)
theorem dJ4_resize_280 : decode cJ4_resize 280 = .ok (.ifnonnull 10, 3) := dk_199 0 10 (dk_at dksJ4_resize_11 21 rfl rfl)
theorem dJ4_resize_283 : decode cJ4_resize 283 = .ok (.aload 8, 2) := dk_25 8 (dk_at dksJ4_resize_12 0 rfl rfl)
theorem dJ4_resize_285 : decode cJ4_resize 285 = .ok (.astore 11, 2) := dk_58 11 (dk_at dksJ4_resize_12 2 rfl rfl)
theorem dJ4_resize_287 : decode cJ4_resize 287 = .ok (.goto 10, 3) := dk_167 0 10 (dk_at dksJ4_resize_12 4 rfl rfl)
theorem dJ4_resize_290 : decode cJ4_resize 290 = .ok (.aload 12, 2) := dk_25 12 (dk_at dksJ4_resize_12 7 rfl rfl)
theorem dJ4_resize_292 : decode cJ4_resize 292 = .ok (.aload 8, 2) := dk_25 8 (dk_at dksJ4_resize_12 9 rfl rfl)
theorem dJ4_resize_294 : decode cJ4_resize 294 = .ok (.putfield 177, 3) := dk_181 0 177 (dk_at dksJ4_resize_12 11 rfl rfl)
theorem dJ4_resize_297 : decode cJ4_resize 297 = .ok (.aload 8, 2) := dk_25 8 (dk_at dksJ4_resize_12 14 rfl rfl)
theorem dJ4_resize_299 : decode cJ4_resize 299 = .ok (.astore 12, 2) := dk_58 12 (dk_at dksJ4_resize_12 16 rfl rfl)
theorem dJ4_resize_301 : decode cJ4_resize 301 = .ok (.aload 13, 2) := dk_25 13 (dk_at dksJ4_resize_12 18 rfl rfl)
theorem dJ4_resize_303 : decode cJ4_resize 303 = .ok (.dup, 1) := dk_89 (dk_at dksJ4_resize_12 20 rfl rfl)
theorem dJ4_resize_304 : decode cJ4_resize 304 = .ok (.astore 8, 2) := dk_58 8 (dk_at dksJ4_resize_12 21 rfl rfl)
theorem dJ4_resize_306 : decode cJ4_resize 306 = .ok (.ifnonnull (-71), 3) := dk_199 255 185 (dk_at dksJ4_resize_13 0 rfl rfl)
theorem dJ4_resize_309 : decode cJ4_resize 309 = .ok (.aload 10, 2) := dk_25 10 (dk_at dksJ4_resize_13 3 rfl rfl)
theorem dJ4_resize_311 : decode cJ4_resize 311 = .ok (.ifnull 16, 3) := dk_198 0 16 (dk_at dksJ4_resize_13 5 rfl rfl)
theorem dJ4_resize_314 : decode cJ4_resize 314 = .ok (.aload 10, 2) := dk_25 10 (dk_at dksJ4_resize_13 8 rfl rfl)
theorem dJ4_resize_316 : decode cJ4_resize 316 = .ok (.aconst_null, 1) := dk_1 (dk_at dksJ4_resize_13 10 rfl rfl)
theorem dJ4_resize_317 : decode cJ4_resize 317 = .ok (.putfield 177, 3) := dk_181 0 177 (dk_at dksJ4_resize_13 11 rfl rfl)
theorem dJ4_resize_320 : decode cJ4_resize 320 = .ok (.aload 6, 2) := dk_25 6 (dk_at dksJ4_resize_13 14 rfl rfl)
theorem dJ4_resize_322 : decode cJ4_resize 322 = .ok (.iload 7, 2) := dk_21 7 (dk_at dksJ4_resize_13 16 rfl rfl)
theorem dJ4_resize_324 : decode cJ4_resize 324 = .ok (.aload 9, 2) := dk_25 9 (dk_at dksJ4_resize_13 18 rfl rfl)
theorem dJ4_resize_326 : decode cJ4_resize 326 = .ok (.aastore, 1) := dk_83 (dk_at dksJ4_resize_13 20 rfl rfl)
theorem dJ4_resize_327 : decode cJ4_resize 327 = .ok (.aload 12, 2) := dk_25 12 (dk_at dksJ4_resize_13 21 rfl rfl)
theorem dJ4_resize_329 : decode cJ4_resize 329 = .ok (.ifnull 18, 3) := dk_198 0 18 (dk_at dksJ4_resize_14 0 rfl rfl)
theorem dJ4_resize_332 : decode cJ4_resize 332 = .ok (.aload 12, 2) := dk_25 12 (dk_at dksJ4_resize_14 3 rfl rfl)
theorem dJ4_resize_334 : decode cJ4_resize 334 = .ok (.aconst_null, 1) := dk_1 (dk_at dksJ4_resize_14 5 rfl rfl)
theorem dJ4_resize_335 : decode cJ4_resize 335 = .ok (.putfield 177, 3) := dk_181 0 177 (dk_at dksJ4_resize_14 6 rfl rfl)
theorem dJ4_resize_338 : decode cJ4_resize 338 = .ok (.aload 6, 2) := dk_25 6 (dk_at dksJ4_resize_14 9 rfl rfl)
theorem dJ4_resize_340 : decode cJ4_resize 340 = .ok (.iload 7, 2) := dk_21 7 (dk_at dksJ4_resize_14 11 rfl rfl)
theorem dJ4_resize_342 : decode cJ4_resize 342 = .ok (.iload_n 2, 1) := dk_28 (dk_at dksJ4_resize_14 13 rfl rfl)
theorem dJ4_resize_343 : decode cJ4_resize 343 = .ok (.iadd, 1) := dk_96 (dk_at dksJ4_resize_14 14 rfl rfl)
theorem dJ4_resize_344 : decode cJ4_resize 344 = .ok (.aload 11, 2) := dk_25 11 (dk_at dksJ4_resize_14 15 rfl rfl)
theorem dJ4_resize_346 : decode cJ4_resize 346 = .ok (.aastore, 1) := dk_83 (dk_at dksJ4_resize_14 17 rfl rfl)
theorem dJ4_resize_347 : decode cJ4_resize 347 = .ok (.iinc 7 1, 3) := dk_132 7 1 (dk_at dksJ4_resize_14 18 rfl rfl)
theorem dJ4_resize_350 : decode cJ4_resize 350 = .ok (.goto (-199), 3) := dk_167 255 57 (dk_at dksJ4_resize_14 21 rfl rfl)
theorem dJ4_resize_353 : decode cJ4_resize 353 = .ok (.aload 6, 2) := dk_25 6 (dk_at dksJ4_resize_15 0 rfl rfl)
theorem dJ4_resize_355 : decode cJ4_resize 355 = .ok (.areturn, 1) := dk_176 (dk_at dksJ4_resize_15 2 rfl rfl)
abbrev cJ4_comparableClassFor : ByteArray := prog_61_method_2_code
def yJ4_comparableClassFor : MethodName := ⟨RJ4, "comparableClassFor", "(Ljava/lang/Object;)Ljava/lang/Class;"⟩
def dkwJ4_comparableClassFor_4 : List UInt8 := [4, 160, 0, 12, 45, 3, 50, 43, 166, 0, 5, 43, 176, 132, 7, 1, 167, 255, 186, 1, 176]
abbrev dktJ4_comparableClassFor_4 : List UInt8 := dkwJ4_comparableClassFor_4 ++ []
def dkwJ4_comparableClassFor_3 : List UInt8 := [185, 0, 23, 1, 0, 18, 7, 166, 0, 30, 25, 4, 185, 0, 27, 1, 0, 89, 78, 198, 0, 18, 45, 190]
abbrev dktJ4_comparableClassFor_3 : List UInt8 := dkwJ4_comparableClassFor_3 ++ dktJ4_comparableClassFor_4
def dkwJ4_comparableClassFor_2 : List UInt8 := [25, 5, 21, 7, 50, 58, 8, 25, 8, 193, 0, 21, 153, 0, 48, 25, 8, 192, 0, 21, 89, 58, 4]
abbrev dktJ4_comparableClassFor_2 : List UInt8 := dkwJ4_comparableClassFor_2 ++ dktJ4_comparableClassFor_3
def dkwJ4_comparableClassFor_1 : List UInt8 := [89, 77, 198, 0, 87, 44, 58, 5, 25, 5, 190, 54, 6, 3, 54, 7, 21, 7, 21, 6, 162, 0, 69]
abbrev dktJ4_comparableClassFor_1 : List UInt8 := dkwJ4_comparableClassFor_1 ++ dktJ4_comparableClassFor_2
def dkwJ4_comparableClassFor_0 : List UInt8 := [42, 193, 0, 7, 153, 0, 109, 42, 182, 0, 9, 89, 76, 18, 13, 166, 0, 5, 43, 176, 43, 182, 0, 15]
abbrev dktJ4_comparableClassFor_0 : List UInt8 := dkwJ4_comparableClassFor_0 ++ dktJ4_comparableClassFor_1
theorem dksJ4_comparableClassFor_0 : cJ4_comparableClassFor.data.toList.drop 0 = dktJ4_comparableClassFor_0 := by decide +kernel
theorem dksJ4_comparableClassFor_1 : cJ4_comparableClassFor.data.toList.drop 24 = dktJ4_comparableClassFor_1 := dk_seg dksJ4_comparableClassFor_0 24 rfl rfl
theorem dksJ4_comparableClassFor_2 : cJ4_comparableClassFor.data.toList.drop 47 = dktJ4_comparableClassFor_2 := dk_seg dksJ4_comparableClassFor_1 23 rfl rfl
theorem dksJ4_comparableClassFor_3 : cJ4_comparableClassFor.data.toList.drop 70 = dktJ4_comparableClassFor_3 := dk_seg dksJ4_comparableClassFor_2 23 rfl rfl
theorem dksJ4_comparableClassFor_4 : cJ4_comparableClassFor.data.toList.drop 94 = dktJ4_comparableClassFor_4 := dk_seg dksJ4_comparableClassFor_3 24 rfl rfl
theorem dJ4_comparableClassFor_0 : decode cJ4_comparableClassFor 0 = .ok (.aload_n 0, 1) := dk_42 (dk_at dksJ4_comparableClassFor_0 0 rfl rfl)
theorem dJ4_comparableClassFor_1 : decode cJ4_comparableClassFor 1 = .ok (.instanceof 7, 3) := dk_193 0 7 (dk_at dksJ4_comparableClassFor_0 1 rfl rfl)
theorem dJ4_comparableClassFor_4 : decode cJ4_comparableClassFor 4 = .ok (.ifCond .eq 109, 3) := dk_153 0 109 (dk_at dksJ4_comparableClassFor_0 4 rfl rfl)
theorem dJ4_comparableClassFor_7 : decode cJ4_comparableClassFor 7 = .ok (.aload_n 0, 1) := dk_42 (dk_at dksJ4_comparableClassFor_0 7 rfl rfl)
theorem dJ4_comparableClassFor_8 : decode cJ4_comparableClassFor 8 = .ok (.invokevirtual 9, 3) := dk_182 0 9 (dk_at dksJ4_comparableClassFor_0 8 rfl rfl)
theorem dJ4_comparableClassFor_11 : decode cJ4_comparableClassFor 11 = .ok (.dup, 1) := dk_89 (dk_at dksJ4_comparableClassFor_0 11 rfl rfl)
theorem dJ4_comparableClassFor_12 : decode cJ4_comparableClassFor 12 = .ok (.astore_n 1, 1) := dk_76 (dk_at dksJ4_comparableClassFor_0 12 rfl rfl)
theorem dJ4_comparableClassFor_13 : decode cJ4_comparableClassFor 13 = .ok (.ldc 13, 2) := dk_18 13 (dk_at dksJ4_comparableClassFor_0 13 rfl rfl)
theorem dJ4_comparableClassFor_15 : decode cJ4_comparableClassFor 15 = .ok (.if_acmp .ne 5, 3) := dk_166 0 5 (dk_at dksJ4_comparableClassFor_0 15 rfl rfl)
theorem dJ4_comparableClassFor_18 : decode cJ4_comparableClassFor 18 = .ok (.aload_n 1, 1) := dk_43 (dk_at dksJ4_comparableClassFor_0 18 rfl rfl)
theorem dJ4_comparableClassFor_19 : decode cJ4_comparableClassFor 19 = .ok (.areturn, 1) := dk_176 (dk_at dksJ4_comparableClassFor_0 19 rfl rfl)
theorem dJ4_comparableClassFor_20 : decode cJ4_comparableClassFor 20 = .ok (.aload_n 1, 1) := dk_43 (dk_at dksJ4_comparableClassFor_0 20 rfl rfl)
theorem dJ4_comparableClassFor_21 : decode cJ4_comparableClassFor 21 = .ok (.invokevirtual 15, 3) := dk_182 0 15 (dk_at dksJ4_comparableClassFor_0 21 rfl rfl)
theorem dJ4_comparableClassFor_24 : decode cJ4_comparableClassFor 24 = .ok (.dup, 1) := dk_89 (dk_at dksJ4_comparableClassFor_1 0 rfl rfl)
theorem dJ4_comparableClassFor_25 : decode cJ4_comparableClassFor 25 = .ok (.astore_n 2, 1) := dk_77 (dk_at dksJ4_comparableClassFor_1 1 rfl rfl)
theorem dJ4_comparableClassFor_26 : decode cJ4_comparableClassFor 26 = .ok (.ifnull 87, 3) := dk_198 0 87 (dk_at dksJ4_comparableClassFor_1 2 rfl rfl)
theorem dJ4_comparableClassFor_29 : decode cJ4_comparableClassFor 29 = .ok (.aload_n 2, 1) := dk_44 (dk_at dksJ4_comparableClassFor_1 5 rfl rfl)
theorem dJ4_comparableClassFor_30 : decode cJ4_comparableClassFor 30 = .ok (.astore 5, 2) := dk_58 5 (dk_at dksJ4_comparableClassFor_1 6 rfl rfl)
theorem dJ4_comparableClassFor_32 : decode cJ4_comparableClassFor 32 = .ok (.aload 5, 2) := dk_25 5 (dk_at dksJ4_comparableClassFor_1 8 rfl rfl)
theorem dJ4_comparableClassFor_34 : decode cJ4_comparableClassFor 34 = .ok (.arraylength, 1) := dk_190 (dk_at dksJ4_comparableClassFor_1 10 rfl rfl)
theorem dJ4_comparableClassFor_35 : decode cJ4_comparableClassFor 35 = .ok (.istore 6, 2) := dk_54 6 (dk_at dksJ4_comparableClassFor_1 11 rfl rfl)
theorem dJ4_comparableClassFor_37 : decode cJ4_comparableClassFor 37 = .ok (.iconst 0, 1) := dk_3 (dk_at dksJ4_comparableClassFor_1 13 rfl rfl)
theorem dJ4_comparableClassFor_38 : decode cJ4_comparableClassFor 38 = .ok (.istore 7, 2) := dk_54 7 (dk_at dksJ4_comparableClassFor_1 14 rfl rfl)
theorem dJ4_comparableClassFor_40 : decode cJ4_comparableClassFor 40 = .ok (.iload 7, 2) := dk_21 7 (dk_at dksJ4_comparableClassFor_1 16 rfl rfl)
theorem dJ4_comparableClassFor_42 : decode cJ4_comparableClassFor 42 = .ok (.iload 6, 2) := dk_21 6 (dk_at dksJ4_comparableClassFor_1 18 rfl rfl)
theorem dJ4_comparableClassFor_44 : decode cJ4_comparableClassFor 44 = .ok (.if_icmp .ge 69, 3) := dk_162 0 69 (dk_at dksJ4_comparableClassFor_1 20 rfl rfl)
theorem dJ4_comparableClassFor_47 : decode cJ4_comparableClassFor 47 = .ok (.aload 5, 2) := dk_25 5 (dk_at dksJ4_comparableClassFor_2 0 rfl rfl)
theorem dJ4_comparableClassFor_49 : decode cJ4_comparableClassFor 49 = .ok (.iload 7, 2) := dk_21 7 (dk_at dksJ4_comparableClassFor_2 2 rfl rfl)
theorem dJ4_comparableClassFor_51 : decode cJ4_comparableClassFor 51 = .ok (.aaload, 1) := dk_50 (dk_at dksJ4_comparableClassFor_2 4 rfl rfl)
theorem dJ4_comparableClassFor_52 : decode cJ4_comparableClassFor 52 = .ok (.astore 8, 2) := dk_58 8 (dk_at dksJ4_comparableClassFor_2 5 rfl rfl)
theorem dJ4_comparableClassFor_54 : decode cJ4_comparableClassFor 54 = .ok (.aload 8, 2) := dk_25 8 (dk_at dksJ4_comparableClassFor_2 7 rfl rfl)
theorem dJ4_comparableClassFor_56 : decode cJ4_comparableClassFor 56 = .ok (.instanceof 21, 3) := dk_193 0 21 (dk_at dksJ4_comparableClassFor_2 9 rfl rfl)
theorem dJ4_comparableClassFor_59 : decode cJ4_comparableClassFor 59 = .ok (.ifCond .eq 48, 3) := dk_153 0 48 (dk_at dksJ4_comparableClassFor_2 12 rfl rfl)
theorem dJ4_comparableClassFor_62 : decode cJ4_comparableClassFor 62 = .ok (.aload 8, 2) := dk_25 8 (dk_at dksJ4_comparableClassFor_2 15 rfl rfl)
theorem dJ4_comparableClassFor_64 : decode cJ4_comparableClassFor 64 = .ok (.checkcast 21, 3) := dk_192 0 21 (dk_at dksJ4_comparableClassFor_2 17 rfl rfl)
theorem dJ4_comparableClassFor_67 : decode cJ4_comparableClassFor 67 = .ok (.dup, 1) := dk_89 (dk_at dksJ4_comparableClassFor_2 20 rfl rfl)
theorem dJ4_comparableClassFor_68 : decode cJ4_comparableClassFor 68 = .ok (.astore 4, 2) := dk_58 4 (dk_at dksJ4_comparableClassFor_2 21 rfl rfl)
theorem dJ4_comparableClassFor_70 : decode cJ4_comparableClassFor 70 = .ok (.invokeinterface 23 1, 5) := by decide +kernel
theorem dJ4_comparableClassFor_75 : decode cJ4_comparableClassFor 75 = .ok (.ldc 7, 2) := dk_18 7 (dk_at dksJ4_comparableClassFor_3 5 rfl rfl)
theorem dJ4_comparableClassFor_77 : decode cJ4_comparableClassFor 77 = .ok (.if_acmp .ne 30, 3) := dk_166 0 30 (dk_at dksJ4_comparableClassFor_3 7 rfl rfl)
theorem dJ4_comparableClassFor_80 : decode cJ4_comparableClassFor 80 = .ok (.aload 4, 2) := dk_25 4 (dk_at dksJ4_comparableClassFor_3 10 rfl rfl)
theorem dJ4_comparableClassFor_82 : decode cJ4_comparableClassFor 82 = .ok (.invokeinterface 27 1, 5) := by decide +kernel
theorem dJ4_comparableClassFor_87 : decode cJ4_comparableClassFor 87 = .ok (.dup, 1) := dk_89 (dk_at dksJ4_comparableClassFor_3 17 rfl rfl)
theorem dJ4_comparableClassFor_88 : decode cJ4_comparableClassFor 88 = .ok (.astore_n 3, 1) := dk_78 (dk_at dksJ4_comparableClassFor_3 18 rfl rfl)
theorem dJ4_comparableClassFor_89 : decode cJ4_comparableClassFor 89 = .ok (.ifnull 18, 3) := dk_198 0 18 (dk_at dksJ4_comparableClassFor_3 19 rfl rfl)
theorem dJ4_comparableClassFor_92 : decode cJ4_comparableClassFor 92 = .ok (.aload_n 3, 1) := dk_45 (dk_at dksJ4_comparableClassFor_3 22 rfl rfl)
theorem dJ4_comparableClassFor_93 : decode cJ4_comparableClassFor 93 = .ok (.arraylength, 1) := dk_190 (dk_at dksJ4_comparableClassFor_3 23 rfl rfl)
theorem dJ4_comparableClassFor_94 : decode cJ4_comparableClassFor 94 = .ok (.iconst 1, 1) := dk_4 (dk_at dksJ4_comparableClassFor_4 0 rfl rfl)
theorem dJ4_comparableClassFor_95 : decode cJ4_comparableClassFor 95 = .ok (.if_icmp .ne 12, 3) := dk_160 0 12 (dk_at dksJ4_comparableClassFor_4 1 rfl rfl)
theorem dJ4_comparableClassFor_98 : decode cJ4_comparableClassFor 98 = .ok (.aload_n 3, 1) := dk_45 (dk_at dksJ4_comparableClassFor_4 4 rfl rfl)
theorem dJ4_comparableClassFor_99 : decode cJ4_comparableClassFor 99 = .ok (.iconst 0, 1) := dk_3 (dk_at dksJ4_comparableClassFor_4 5 rfl rfl)
theorem dJ4_comparableClassFor_100 : decode cJ4_comparableClassFor 100 = .ok (.aaload, 1) := dk_50 (dk_at dksJ4_comparableClassFor_4 6 rfl rfl)
theorem dJ4_comparableClassFor_101 : decode cJ4_comparableClassFor 101 = .ok (.aload_n 1, 1) := dk_43 (dk_at dksJ4_comparableClassFor_4 7 rfl rfl)
theorem dJ4_comparableClassFor_102 : decode cJ4_comparableClassFor 102 = .ok (.if_acmp .ne 5, 3) := dk_166 0 5 (dk_at dksJ4_comparableClassFor_4 8 rfl rfl)
theorem dJ4_comparableClassFor_105 : decode cJ4_comparableClassFor 105 = .ok (.aload_n 1, 1) := dk_43 (dk_at dksJ4_comparableClassFor_4 11 rfl rfl)
theorem dJ4_comparableClassFor_106 : decode cJ4_comparableClassFor 106 = .ok (.areturn, 1) := dk_176 (dk_at dksJ4_comparableClassFor_4 12 rfl rfl)
theorem dJ4_comparableClassFor_107 : decode cJ4_comparableClassFor 107 = .ok (.iinc 7 1, 3) := dk_132 7 1 (dk_at dksJ4_comparableClassFor_4 13 rfl rfl)
theorem dJ4_comparableClassFor_110 : decode cJ4_comparableClassFor 110 = .ok (.goto (-70), 3) := dk_167 255 186 (dk_at dksJ4_comparableClassFor_4 16 rfl rfl)
theorem dJ4_comparableClassFor_113 : decode cJ4_comparableClassFor 113 = .ok (.aconst_null, 1) := dk_1 (dk_at dksJ4_comparableClassFor_4 19 rfl rfl)
theorem dJ4_comparableClassFor_114 : decode cJ4_comparableClassFor 114 = .ok (.areturn, 1) := dk_176 (dk_at dksJ4_comparableClassFor_4 20 rfl rfl)
abbrev cJ4_compareComparables : ByteArray := prog_61_method_3_code
def yJ4_compareComparables : MethodName := ⟨RJ4, "compareComparables", "(Ljava/lang/Class;Ljava/lang/Object;Ljava/lang/Object;)I"⟩
def dkwJ4_compareComparables_1 : List UInt8 := [185, 0, 30, 2, 0, 172]
abbrev dktJ4_compareComparables_1 : List UInt8 := dkwJ4_compareComparables_1 ++ []
def dkwJ4_compareComparables_0 : List UInt8 := [44, 198, 0, 11, 44, 182, 0, 9, 42, 165, 0, 7, 3, 167, 0, 13, 43, 192, 0, 7, 44]
abbrev dktJ4_compareComparables_0 : List UInt8 := dkwJ4_compareComparables_0 ++ dktJ4_compareComparables_1
theorem dksJ4_compareComparables_0 : cJ4_compareComparables.data.toList.drop 0 = dktJ4_compareComparables_0 := by decide +kernel
theorem dksJ4_compareComparables_1 : cJ4_compareComparables.data.toList.drop 21 = dktJ4_compareComparables_1 := dk_seg dksJ4_compareComparables_0 21 rfl rfl
theorem dJ4_compareComparables_0 : decode cJ4_compareComparables 0 = .ok (.aload_n 2, 1) := dk_44 (dk_at dksJ4_compareComparables_0 0 rfl rfl)
theorem dJ4_compareComparables_1 : decode cJ4_compareComparables 1 = .ok (.ifnull 11, 3) := dk_198 0 11 (dk_at dksJ4_compareComparables_0 1 rfl rfl)
theorem dJ4_compareComparables_4 : decode cJ4_compareComparables 4 = .ok (.aload_n 2, 1) := dk_44 (dk_at dksJ4_compareComparables_0 4 rfl rfl)
theorem dJ4_compareComparables_5 : decode cJ4_compareComparables 5 = .ok (.invokevirtual 9, 3) := dk_182 0 9 (dk_at dksJ4_compareComparables_0 5 rfl rfl)
theorem dJ4_compareComparables_8 : decode cJ4_compareComparables 8 = .ok (.aload_n 0, 1) := dk_42 (dk_at dksJ4_compareComparables_0 8 rfl rfl)
theorem dJ4_compareComparables_9 : decode cJ4_compareComparables 9 = .ok (.if_acmp .eq 7, 3) := dk_165 0 7 (dk_at dksJ4_compareComparables_0 9 rfl rfl)
theorem dJ4_compareComparables_12 : decode cJ4_compareComparables 12 = .ok (.iconst 0, 1) := dk_3 (dk_at dksJ4_compareComparables_0 12 rfl rfl)
theorem dJ4_compareComparables_13 : decode cJ4_compareComparables 13 = .ok (.goto 13, 3) := dk_167 0 13 (dk_at dksJ4_compareComparables_0 13 rfl rfl)
theorem dJ4_compareComparables_16 : decode cJ4_compareComparables 16 = .ok (.aload_n 1, 1) := dk_43 (dk_at dksJ4_compareComparables_0 16 rfl rfl)
theorem dJ4_compareComparables_17 : decode cJ4_compareComparables 17 = .ok (.checkcast 7, 3) := dk_192 0 7 (dk_at dksJ4_compareComparables_0 17 rfl rfl)
theorem dJ4_compareComparables_20 : decode cJ4_compareComparables 20 = .ok (.aload_n 2, 1) := dk_44 (dk_at dksJ4_compareComparables_0 20 rfl rfl)
theorem dJ4_compareComparables_21 : decode cJ4_compareComparables 21 = .ok (.invokeinterface 30 2, 5) := by decide +kernel
theorem dJ4_compareComparables_26 : decode cJ4_compareComparables 26 = .ok (.ireturn, 1) := dk_172 (dk_at dksJ4_compareComparables_1 5 rfl rfl)
abbrev cJ4_treeifyBin : ByteArray := prog_61_method_18_code
def yJ4_treeifyBin : MethodName := ⟨RJ4, "treeifyBin", "([Ljava/util/HashMap$Node;I)V"⟩
def dkwJ4_treeifyBin_4 : List UInt8 := [21, 4, 25, 6, 91, 83, 198, 0, 9, 25, 6, 43, 182, 0, 224, 177]
abbrev dktJ4_treeifyBin_4 : List UInt8 := dkwJ4_treeifyBin_4 ++ []
def dkwJ4_treeifyBin_3 : List UInt8 := [25, 7, 25, 8, 181, 0, 223, 25, 8, 58, 7, 25, 5, 180, 0, 177, 89, 58, 5, 199, 255, 209, 43]
abbrev dktJ4_treeifyBin_3 : List UInt8 := dkwJ4_treeifyBin_3 ++ dktJ4_treeifyBin_4
def dkwJ4_treeifyBin_2 : List UInt8 := [182, 0, 215, 58, 8, 25, 7, 199, 0, 10, 25, 8, 58, 6, 167, 0, 17, 25, 8, 25, 7, 181, 0, 219]
abbrev dktJ4_treeifyBin_2 : List UInt8 := dkwJ4_treeifyBin_2 ++ dktJ4_treeifyBin_3
def dkwJ4_treeifyBin_1 : List UInt8 := [100, 28, 126, 89, 54, 4, 50, 89, 58, 5, 198, 0, 75, 1, 58, 6, 1, 58, 7, 42, 25, 5, 1]
abbrev dktJ4_treeifyBin_1 : List UInt8 := dkwJ4_treeifyBin_1 ++ dktJ4_treeifyBin_2
def dkwJ4_treeifyBin_0 : List UInt8 := [43, 198, 0, 12, 43, 190, 89, 62, 16, 64, 162, 0, 11, 42, 182, 0, 117, 87, 167, 0, 91, 43, 29, 4]
abbrev dktJ4_treeifyBin_0 : List UInt8 := dkwJ4_treeifyBin_0 ++ dktJ4_treeifyBin_1
theorem dksJ4_treeifyBin_0 : cJ4_treeifyBin.data.toList.drop 0 = dktJ4_treeifyBin_0 := by decide +kernel
theorem dksJ4_treeifyBin_1 : cJ4_treeifyBin.data.toList.drop 24 = dktJ4_treeifyBin_1 := dk_seg dksJ4_treeifyBin_0 24 rfl rfl
theorem dksJ4_treeifyBin_2 : cJ4_treeifyBin.data.toList.drop 47 = dktJ4_treeifyBin_2 := dk_seg dksJ4_treeifyBin_1 23 rfl rfl
theorem dksJ4_treeifyBin_3 : cJ4_treeifyBin.data.toList.drop 71 = dktJ4_treeifyBin_3 := dk_seg dksJ4_treeifyBin_2 24 rfl rfl
theorem dksJ4_treeifyBin_4 : cJ4_treeifyBin.data.toList.drop 94 = dktJ4_treeifyBin_4 := dk_seg dksJ4_treeifyBin_3 23 rfl rfl
theorem dJ4_treeifyBin_0 : decode cJ4_treeifyBin 0 = .ok (.aload_n 1, 1) := dk_43 (dk_at dksJ4_treeifyBin_0 0 rfl rfl)
theorem dJ4_treeifyBin_1 : decode cJ4_treeifyBin 1 = .ok (.ifnull 12, 3) := dk_198 0 12 (dk_at dksJ4_treeifyBin_0 1 rfl rfl)
theorem dJ4_treeifyBin_4 : decode cJ4_treeifyBin 4 = .ok (.aload_n 1, 1) := dk_43 (dk_at dksJ4_treeifyBin_0 4 rfl rfl)
theorem dJ4_treeifyBin_5 : decode cJ4_treeifyBin 5 = .ok (.arraylength, 1) := dk_190 (dk_at dksJ4_treeifyBin_0 5 rfl rfl)
theorem dJ4_treeifyBin_6 : decode cJ4_treeifyBin 6 = .ok (.dup, 1) := dk_89 (dk_at dksJ4_treeifyBin_0 6 rfl rfl)
theorem dJ4_treeifyBin_7 : decode cJ4_treeifyBin 7 = .ok (.istore_n 3, 1) := dk_62 (dk_at dksJ4_treeifyBin_0 7 rfl rfl)
theorem dJ4_treeifyBin_8 : decode cJ4_treeifyBin 8 = .ok (.bipush 64, 2) := dk_16 64 (dk_at dksJ4_treeifyBin_0 8 rfl rfl)
theorem dJ4_treeifyBin_10 : decode cJ4_treeifyBin 10 = .ok (.if_icmp .ge 11, 3) := dk_162 0 11 (dk_at dksJ4_treeifyBin_0 10 rfl rfl)
theorem dJ4_treeifyBin_13 : decode cJ4_treeifyBin 13 = .ok (.aload_n 0, 1) := dk_42 (dk_at dksJ4_treeifyBin_0 13 rfl rfl)
theorem dJ4_treeifyBin_14 : decode cJ4_treeifyBin 14 = .ok (.invokevirtual 117, 3) := dk_182 0 117 (dk_at dksJ4_treeifyBin_0 14 rfl rfl)
theorem dJ4_treeifyBin_17 : decode cJ4_treeifyBin 17 = .ok (.pop, 1) := dk_87 (dk_at dksJ4_treeifyBin_0 17 rfl rfl)
theorem dJ4_treeifyBin_18 : decode cJ4_treeifyBin 18 = .ok (.goto 91, 3) := dk_167 0 91 (dk_at dksJ4_treeifyBin_0 18 rfl rfl)
theorem dJ4_treeifyBin_21 : decode cJ4_treeifyBin 21 = .ok (.aload_n 1, 1) := dk_43 (dk_at dksJ4_treeifyBin_0 21 rfl rfl)
theorem dJ4_treeifyBin_22 : decode cJ4_treeifyBin 22 = .ok (.iload_n 3, 1) := dk_29 (dk_at dksJ4_treeifyBin_0 22 rfl rfl)
theorem dJ4_treeifyBin_23 : decode cJ4_treeifyBin 23 = .ok (.iconst 1, 1) := dk_4 (dk_at dksJ4_treeifyBin_0 23 rfl rfl)
theorem dJ4_treeifyBin_24 : decode cJ4_treeifyBin 24 = .ok (.isub, 1) := dk_100 (dk_at dksJ4_treeifyBin_1 0 rfl rfl)
theorem dJ4_treeifyBin_25 : decode cJ4_treeifyBin 25 = .ok (.iload_n 2, 1) := dk_28 (dk_at dksJ4_treeifyBin_1 1 rfl rfl)
theorem dJ4_treeifyBin_26 : decode cJ4_treeifyBin 26 = .ok (.iand, 1) := dk_126 (dk_at dksJ4_treeifyBin_1 2 rfl rfl)
theorem dJ4_treeifyBin_27 : decode cJ4_treeifyBin 27 = .ok (.dup, 1) := dk_89 (dk_at dksJ4_treeifyBin_1 3 rfl rfl)
theorem dJ4_treeifyBin_28 : decode cJ4_treeifyBin 28 = .ok (.istore 4, 2) := dk_54 4 (dk_at dksJ4_treeifyBin_1 4 rfl rfl)
theorem dJ4_treeifyBin_30 : decode cJ4_treeifyBin 30 = .ok (.aaload, 1) := dk_50 (dk_at dksJ4_treeifyBin_1 6 rfl rfl)
theorem dJ4_treeifyBin_31 : decode cJ4_treeifyBin 31 = .ok (.dup, 1) := dk_89 (dk_at dksJ4_treeifyBin_1 7 rfl rfl)
theorem dJ4_treeifyBin_32 : decode cJ4_treeifyBin 32 = .ok (.astore 5, 2) := dk_58 5 (dk_at dksJ4_treeifyBin_1 8 rfl rfl)
theorem dJ4_treeifyBin_34 : decode cJ4_treeifyBin 34 = .ok (.ifnull 75, 3) := dk_198 0 75 (dk_at dksJ4_treeifyBin_1 10 rfl rfl)
theorem dJ4_treeifyBin_37 : decode cJ4_treeifyBin 37 = .ok (.aconst_null, 1) := dk_1 (dk_at dksJ4_treeifyBin_1 13 rfl rfl)
theorem dJ4_treeifyBin_38 : decode cJ4_treeifyBin 38 = .ok (.astore 6, 2) := dk_58 6 (dk_at dksJ4_treeifyBin_1 14 rfl rfl)
theorem dJ4_treeifyBin_40 : decode cJ4_treeifyBin 40 = .ok (.aconst_null, 1) := dk_1 (dk_at dksJ4_treeifyBin_1 16 rfl rfl)
theorem dJ4_treeifyBin_41 : decode cJ4_treeifyBin 41 = .ok (.astore 7, 2) := dk_58 7 (dk_at dksJ4_treeifyBin_1 17 rfl rfl)
theorem dJ4_treeifyBin_43 : decode cJ4_treeifyBin 43 = .ok (.aload_n 0, 1) := dk_42 (dk_at dksJ4_treeifyBin_1 19 rfl rfl)
theorem dJ4_treeifyBin_44 : decode cJ4_treeifyBin 44 = .ok (.aload 5, 2) := dk_25 5 (dk_at dksJ4_treeifyBin_1 20 rfl rfl)
theorem dJ4_treeifyBin_46 : decode cJ4_treeifyBin 46 = .ok (.aconst_null, 1) := dk_1 (dk_at dksJ4_treeifyBin_1 22 rfl rfl)
theorem dJ4_treeifyBin_47 : decode cJ4_treeifyBin 47 = .ok (.invokevirtual 215, 3) := dk_182 0 215 (dk_at dksJ4_treeifyBin_2 0 rfl rfl)
theorem dJ4_treeifyBin_50 : decode cJ4_treeifyBin 50 = .ok (.astore 8, 2) := dk_58 8 (dk_at dksJ4_treeifyBin_2 3 rfl rfl)
theorem dJ4_treeifyBin_52 : decode cJ4_treeifyBin 52 = .ok (.aload 7, 2) := dk_25 7 (dk_at dksJ4_treeifyBin_2 5 rfl rfl)
theorem dJ4_treeifyBin_54 : decode cJ4_treeifyBin 54 = .ok (.ifnonnull 10, 3) := dk_199 0 10 (dk_at dksJ4_treeifyBin_2 7 rfl rfl)
theorem dJ4_treeifyBin_57 : decode cJ4_treeifyBin 57 = .ok (.aload 8, 2) := dk_25 8 (dk_at dksJ4_treeifyBin_2 10 rfl rfl)
theorem dJ4_treeifyBin_59 : decode cJ4_treeifyBin 59 = .ok (.astore 6, 2) := dk_58 6 (dk_at dksJ4_treeifyBin_2 12 rfl rfl)
theorem dJ4_treeifyBin_61 : decode cJ4_treeifyBin 61 = .ok (.goto 17, 3) := dk_167 0 17 (dk_at dksJ4_treeifyBin_2 14 rfl rfl)
theorem dJ4_treeifyBin_64 : decode cJ4_treeifyBin 64 = .ok (.aload 8, 2) := dk_25 8 (dk_at dksJ4_treeifyBin_2 17 rfl rfl)
theorem dJ4_treeifyBin_66 : decode cJ4_treeifyBin 66 = .ok (.aload 7, 2) := dk_25 7 (dk_at dksJ4_treeifyBin_2 19 rfl rfl)
theorem dJ4_treeifyBin_68 : decode cJ4_treeifyBin 68 = .ok (.putfield 219, 3) := dk_181 0 219 (dk_at dksJ4_treeifyBin_2 21 rfl rfl)
theorem dJ4_treeifyBin_71 : decode cJ4_treeifyBin 71 = .ok (.aload 7, 2) := dk_25 7 (dk_at dksJ4_treeifyBin_3 0 rfl rfl)
theorem dJ4_treeifyBin_73 : decode cJ4_treeifyBin 73 = .ok (.aload 8, 2) := dk_25 8 (dk_at dksJ4_treeifyBin_3 2 rfl rfl)
theorem dJ4_treeifyBin_75 : decode cJ4_treeifyBin 75 = .ok (.putfield 223, 3) := dk_181 0 223 (dk_at dksJ4_treeifyBin_3 4 rfl rfl)
theorem dJ4_treeifyBin_78 : decode cJ4_treeifyBin 78 = .ok (.aload 8, 2) := dk_25 8 (dk_at dksJ4_treeifyBin_3 7 rfl rfl)
theorem dJ4_treeifyBin_80 : decode cJ4_treeifyBin 80 = .ok (.astore 7, 2) := dk_58 7 (dk_at dksJ4_treeifyBin_3 9 rfl rfl)
theorem dJ4_treeifyBin_82 : decode cJ4_treeifyBin 82 = .ok (.aload 5, 2) := dk_25 5 (dk_at dksJ4_treeifyBin_3 11 rfl rfl)
theorem dJ4_treeifyBin_84 : decode cJ4_treeifyBin 84 = .ok (.getfield 177, 3) := dk_180 0 177 (dk_at dksJ4_treeifyBin_3 13 rfl rfl)
theorem dJ4_treeifyBin_87 : decode cJ4_treeifyBin 87 = .ok (.dup, 1) := dk_89 (dk_at dksJ4_treeifyBin_3 16 rfl rfl)
theorem dJ4_treeifyBin_88 : decode cJ4_treeifyBin 88 = .ok (.astore 5, 2) := dk_58 5 (dk_at dksJ4_treeifyBin_3 17 rfl rfl)
theorem dJ4_treeifyBin_90 : decode cJ4_treeifyBin 90 = .ok (.ifnonnull (-47), 3) := dk_199 255 209 (dk_at dksJ4_treeifyBin_3 19 rfl rfl)
theorem dJ4_treeifyBin_93 : decode cJ4_treeifyBin 93 = .ok (.aload_n 1, 1) := dk_43 (dk_at dksJ4_treeifyBin_3 22 rfl rfl)
theorem dJ4_treeifyBin_94 : decode cJ4_treeifyBin 94 = .ok (.iload 4, 2) := dk_21 4 (dk_at dksJ4_treeifyBin_4 0 rfl rfl)
theorem dJ4_treeifyBin_96 : decode cJ4_treeifyBin 96 = .ok (.aload 6, 2) := dk_25 6 (dk_at dksJ4_treeifyBin_4 2 rfl rfl)
theorem dJ4_treeifyBin_98 : decode cJ4_treeifyBin 98 = .ok (.dup_x2, 1) := dk_91 (dk_at dksJ4_treeifyBin_4 4 rfl rfl)
theorem dJ4_treeifyBin_99 : decode cJ4_treeifyBin 99 = .ok (.aastore, 1) := dk_83 (dk_at dksJ4_treeifyBin_4 5 rfl rfl)
theorem dJ4_treeifyBin_100 : decode cJ4_treeifyBin 100 = .ok (.ifnull 9, 3) := dk_198 0 9 (dk_at dksJ4_treeifyBin_4 6 rfl rfl)
theorem dJ4_treeifyBin_103 : decode cJ4_treeifyBin 103 = .ok (.aload 6, 2) := dk_25 6 (dk_at dksJ4_treeifyBin_4 9 rfl rfl)
theorem dJ4_treeifyBin_105 : decode cJ4_treeifyBin 105 = .ok (.aload_n 1, 1) := dk_43 (dk_at dksJ4_treeifyBin_4 11 rfl rfl)
theorem dJ4_treeifyBin_106 : decode cJ4_treeifyBin 106 = .ok (.invokevirtual 224, 3) := dk_182 0 224 (dk_at dksJ4_treeifyBin_4 12 rfl rfl)
theorem dJ4_treeifyBin_109 : decode cJ4_treeifyBin 109 = .ok (.return_, 1) := dk_177 (dk_at dksJ4_treeifyBin_4 15 rfl rfl)
abbrev cJ4_getNode : ByteArray := prog_61_method_13_code
def yJ4_getNode : MethodName := ⟨RJ4, "getNode", "(Ljava/lang/Object;)Ljava/util/HashMap$Node;"⟩
def dkwJ4_getNode_6 : List UInt8 := [89, 58, 4, 199, 255, 210, 1, 176]
abbrev dktJ4_getNode_6 : List UInt8 := dkwJ4_getNode_6 ++ []
def dkwJ4_getNode_5 : List UInt8 := [165, 0, 16, 43, 198, 0, 15, 43, 25, 7, 182, 0, 173, 153, 0, 6, 25, 4, 176, 25, 4, 180, 0, 177]
abbrev dktJ4_getNode_5 : List UInt8 := dkwJ4_getNode_5 ++ dktJ4_getNode_6
def dkwJ4_getNode_4 : List UInt8 := [43, 182, 0, 182, 176, 25, 4, 180, 0, 168, 21, 6, 160, 0, 31, 25, 4, 180, 0, 170, 89, 58, 7, 43]
abbrev dktJ4_getNode_4 : List UInt8 := dkwJ4_getNode_4 ++ dktJ4_getNode_5
def dkwJ4_getNode_3 : List UInt8 := [176, 45, 180, 0, 177, 89, 58, 4, 198, 0, 70, 45, 193, 0, 180, 153, 0, 14, 45, 192, 0, 180, 21, 6]
abbrev dktJ4_getNode_3 : List UInt8 := dkwJ4_getNode_3 ++ dktJ4_getNode_4
def dkwJ4_getNode_2 : List UInt8 := [180, 0, 170, 89, 58, 7, 43, 165, 0, 16, 43, 198, 0, 14, 43, 25, 7, 182, 0, 173, 153, 0, 5, 45]
abbrev dktJ4_getNode_2 : List UInt8 := dkwJ4_getNode_2 ++ dktJ4_getNode_3
def dkwJ4_getNode_1 : List UInt8 := [184, 0, 149, 89, 54, 6, 126, 50, 89, 78, 198, 0, 115, 45, 180, 0, 168, 21, 6, 160, 0, 29, 45]
abbrev dktJ4_getNode_1 : List UInt8 := dkwJ4_getNode_1 ++ dktJ4_getNode_2
def dkwJ4_getNode_0 : List UInt8 := [42, 180, 0, 105, 89, 77, 198, 0, 142, 44, 190, 89, 54, 5, 158, 0, 134, 44, 21, 5, 4, 100, 43]
abbrev dktJ4_getNode_0 : List UInt8 := dkwJ4_getNode_0 ++ dktJ4_getNode_1
theorem dksJ4_getNode_0 : cJ4_getNode.data.toList.drop 0 = dktJ4_getNode_0 := by decide +kernel
theorem dksJ4_getNode_1 : cJ4_getNode.data.toList.drop 23 = dktJ4_getNode_1 := dk_seg dksJ4_getNode_0 23 rfl rfl
theorem dksJ4_getNode_2 : cJ4_getNode.data.toList.drop 46 = dktJ4_getNode_2 := dk_seg dksJ4_getNode_1 23 rfl rfl
theorem dksJ4_getNode_3 : cJ4_getNode.data.toList.drop 70 = dktJ4_getNode_3 := dk_seg dksJ4_getNode_2 24 rfl rfl
theorem dksJ4_getNode_4 : cJ4_getNode.data.toList.drop 94 = dktJ4_getNode_4 := dk_seg dksJ4_getNode_3 24 rfl rfl
theorem dksJ4_getNode_5 : cJ4_getNode.data.toList.drop 118 = dktJ4_getNode_5 := dk_seg dksJ4_getNode_4 24 rfl rfl
theorem dksJ4_getNode_6 : cJ4_getNode.data.toList.drop 142 = dktJ4_getNode_6 := dk_seg dksJ4_getNode_5 24 rfl rfl
theorem dJ4_getNode_0 : decode cJ4_getNode 0 = .ok (.aload_n 0, 1) := dk_42 (dk_at dksJ4_getNode_0 0 rfl rfl)
theorem dJ4_getNode_1 : decode cJ4_getNode 1 = .ok (.getfield 105, 3) := dk_180 0 105 (dk_at dksJ4_getNode_0 1 rfl rfl)
theorem dJ4_getNode_4 : decode cJ4_getNode 4 = .ok (.dup, 1) := dk_89 (dk_at dksJ4_getNode_0 4 rfl rfl)
theorem dJ4_getNode_5 : decode cJ4_getNode 5 = .ok (.astore_n 2, 1) := dk_77 (dk_at dksJ4_getNode_0 5 rfl rfl)
theorem dJ4_getNode_6 : decode cJ4_getNode 6 = .ok (.ifnull 142, 3) := dk_198 0 142 (dk_at dksJ4_getNode_0 6 rfl rfl)
theorem dJ4_getNode_9 : decode cJ4_getNode 9 = .ok (.aload_n 2, 1) := dk_44 (dk_at dksJ4_getNode_0 9 rfl rfl)
theorem dJ4_getNode_10 : decode cJ4_getNode 10 = .ok (.arraylength, 1) := dk_190 (dk_at dksJ4_getNode_0 10 rfl rfl)
theorem dJ4_getNode_11 : decode cJ4_getNode 11 = .ok (.dup, 1) := dk_89 (dk_at dksJ4_getNode_0 11 rfl rfl)
theorem dJ4_getNode_12 : decode cJ4_getNode 12 = .ok (.istore 5, 2) := dk_54 5 (dk_at dksJ4_getNode_0 12 rfl rfl)
theorem dJ4_getNode_14 : decode cJ4_getNode 14 = .ok (.ifCond .le 134, 3) := dk_158 0 134 (dk_at dksJ4_getNode_0 14 rfl rfl)
theorem dJ4_getNode_17 : decode cJ4_getNode 17 = .ok (.aload_n 2, 1) := dk_44 (dk_at dksJ4_getNode_0 17 rfl rfl)
theorem dJ4_getNode_18 : decode cJ4_getNode 18 = .ok (.iload 5, 2) := dk_21 5 (dk_at dksJ4_getNode_0 18 rfl rfl)
theorem dJ4_getNode_20 : decode cJ4_getNode 20 = .ok (.iconst 1, 1) := dk_4 (dk_at dksJ4_getNode_0 20 rfl rfl)
theorem dJ4_getNode_21 : decode cJ4_getNode 21 = .ok (.isub, 1) := dk_100 (dk_at dksJ4_getNode_0 21 rfl rfl)
theorem dJ4_getNode_22 : decode cJ4_getNode 22 = .ok (.aload_n 1, 1) := dk_43 (dk_at dksJ4_getNode_0 22 rfl rfl)
theorem dJ4_getNode_23 : decode cJ4_getNode 23 = .ok (.invokestatic 149, 3) := dk_184 0 149 (dk_at dksJ4_getNode_1 0 rfl rfl)
theorem dJ4_getNode_26 : decode cJ4_getNode 26 = .ok (.dup, 1) := dk_89 (dk_at dksJ4_getNode_1 3 rfl rfl)
theorem dJ4_getNode_27 : decode cJ4_getNode 27 = .ok (.istore 6, 2) := dk_54 6 (dk_at dksJ4_getNode_1 4 rfl rfl)
theorem dJ4_getNode_29 : decode cJ4_getNode 29 = .ok (.iand, 1) := dk_126 (dk_at dksJ4_getNode_1 6 rfl rfl)
theorem dJ4_getNode_30 : decode cJ4_getNode 30 = .ok (.aaload, 1) := dk_50 (dk_at dksJ4_getNode_1 7 rfl rfl)
theorem dJ4_getNode_31 : decode cJ4_getNode 31 = .ok (.dup, 1) := dk_89 (dk_at dksJ4_getNode_1 8 rfl rfl)
theorem dJ4_getNode_32 : decode cJ4_getNode 32 = .ok (.astore_n 3, 1) := dk_78 (dk_at dksJ4_getNode_1 9 rfl rfl)
theorem dJ4_getNode_33 : decode cJ4_getNode 33 = .ok (.ifnull 115, 3) := dk_198 0 115 (dk_at dksJ4_getNode_1 10 rfl rfl)
theorem dJ4_getNode_36 : decode cJ4_getNode 36 = .ok (.aload_n 3, 1) := dk_45 (dk_at dksJ4_getNode_1 13 rfl rfl)
theorem dJ4_getNode_37 : decode cJ4_getNode 37 = .ok (.getfield 168, 3) := dk_180 0 168 (dk_at dksJ4_getNode_1 14 rfl rfl)
theorem dJ4_getNode_40 : decode cJ4_getNode 40 = .ok (.iload 6, 2) := dk_21 6 (dk_at dksJ4_getNode_1 17 rfl rfl)
theorem dJ4_getNode_42 : decode cJ4_getNode 42 = .ok (.if_icmp .ne 29, 3) := dk_160 0 29 (dk_at dksJ4_getNode_1 19 rfl rfl)
theorem dJ4_getNode_45 : decode cJ4_getNode 45 = .ok (.aload_n 3, 1) := dk_45 (dk_at dksJ4_getNode_1 22 rfl rfl)
theorem dJ4_getNode_46 : decode cJ4_getNode 46 = .ok (.getfield 170, 3) := dk_180 0 170 (dk_at dksJ4_getNode_2 0 rfl rfl)
theorem dJ4_getNode_49 : decode cJ4_getNode 49 = .ok (.dup, 1) := dk_89 (dk_at dksJ4_getNode_2 3 rfl rfl)
theorem dJ4_getNode_50 : decode cJ4_getNode 50 = .ok (.astore 7, 2) := dk_58 7 (dk_at dksJ4_getNode_2 4 rfl rfl)
theorem dJ4_getNode_52 : decode cJ4_getNode 52 = .ok (.aload_n 1, 1) := dk_43 (dk_at dksJ4_getNode_2 6 rfl rfl)
theorem dJ4_getNode_53 : decode cJ4_getNode 53 = .ok (.if_acmp .eq 16, 3) := dk_165 0 16 (dk_at dksJ4_getNode_2 7 rfl rfl)
theorem dJ4_getNode_56 : decode cJ4_getNode 56 = .ok (.aload_n 1, 1) := dk_43 (dk_at dksJ4_getNode_2 10 rfl rfl)
theorem dJ4_getNode_57 : decode cJ4_getNode 57 = .ok (.ifnull 14, 3) := dk_198 0 14 (dk_at dksJ4_getNode_2 11 rfl rfl)
theorem dJ4_getNode_60 : decode cJ4_getNode 60 = .ok (.aload_n 1, 1) := dk_43 (dk_at dksJ4_getNode_2 14 rfl rfl)
theorem dJ4_getNode_61 : decode cJ4_getNode 61 = .ok (.aload 7, 2) := dk_25 7 (dk_at dksJ4_getNode_2 15 rfl rfl)
theorem dJ4_getNode_63 : decode cJ4_getNode 63 = .ok (.invokevirtual 173, 3) := dk_182 0 173 (dk_at dksJ4_getNode_2 17 rfl rfl)
theorem dJ4_getNode_66 : decode cJ4_getNode 66 = .ok (.ifCond .eq 5, 3) := dk_153 0 5 (dk_at dksJ4_getNode_2 20 rfl rfl)
theorem dJ4_getNode_69 : decode cJ4_getNode 69 = .ok (.aload_n 3, 1) := dk_45 (dk_at dksJ4_getNode_2 23 rfl rfl)
theorem dJ4_getNode_70 : decode cJ4_getNode 70 = .ok (.areturn, 1) := dk_176 (dk_at dksJ4_getNode_3 0 rfl rfl)
theorem dJ4_getNode_71 : decode cJ4_getNode 71 = .ok (.aload_n 3, 1) := dk_45 (dk_at dksJ4_getNode_3 1 rfl rfl)
theorem dJ4_getNode_72 : decode cJ4_getNode 72 = .ok (.getfield 177, 3) := dk_180 0 177 (dk_at dksJ4_getNode_3 2 rfl rfl)
theorem dJ4_getNode_75 : decode cJ4_getNode 75 = .ok (.dup, 1) := dk_89 (dk_at dksJ4_getNode_3 5 rfl rfl)
theorem dJ4_getNode_76 : decode cJ4_getNode 76 = .ok (.astore 4, 2) := dk_58 4 (dk_at dksJ4_getNode_3 6 rfl rfl)
theorem dJ4_getNode_78 : decode cJ4_getNode 78 = .ok (.ifnull 70, 3) := dk_198 0 70 (dk_at dksJ4_getNode_3 8 rfl rfl)
theorem dJ4_getNode_81 : decode cJ4_getNode 81 = .ok (.aload_n 3, 1) := dk_45 (dk_at dksJ4_getNode_3 11 rfl rfl)
theorem dJ4_getNode_82 : decode cJ4_getNode 82 = .ok (.instanceof 180, 3) := dk_193 0 180 (dk_at dksJ4_getNode_3 12 rfl rfl)
theorem dJ4_getNode_85 : decode cJ4_getNode 85 = .ok (.ifCond .eq 14, 3) := dk_153 0 14 (dk_at dksJ4_getNode_3 15 rfl rfl)
theorem dJ4_getNode_88 : decode cJ4_getNode 88 = .ok (.aload_n 3, 1) := dk_45 (dk_at dksJ4_getNode_3 18 rfl rfl)
theorem dJ4_getNode_89 : decode cJ4_getNode 89 = .ok (.checkcast 180, 3) := dk_192 0 180 (dk_at dksJ4_getNode_3 19 rfl rfl)
theorem dJ4_getNode_92 : decode cJ4_getNode 92 = .ok (.iload 6, 2) := dk_21 6 (dk_at dksJ4_getNode_3 22 rfl rfl)
theorem dJ4_getNode_94 : decode cJ4_getNode 94 = .ok (.aload_n 1, 1) := dk_43 (dk_at dksJ4_getNode_4 0 rfl rfl)
theorem dJ4_getNode_95 : decode cJ4_getNode 95 = .ok (.invokevirtual 182, 3) := dk_182 0 182 (dk_at dksJ4_getNode_4 1 rfl rfl)
theorem dJ4_getNode_98 : decode cJ4_getNode 98 = .ok (.areturn, 1) := dk_176 (dk_at dksJ4_getNode_4 4 rfl rfl)
theorem dJ4_getNode_99 : decode cJ4_getNode 99 = .ok (.aload 4, 2) := dk_25 4 (dk_at dksJ4_getNode_4 5 rfl rfl)
theorem dJ4_getNode_101 : decode cJ4_getNode 101 = .ok (.getfield 168, 3) := dk_180 0 168 (dk_at dksJ4_getNode_4 7 rfl rfl)
theorem dJ4_getNode_104 : decode cJ4_getNode 104 = .ok (.iload 6, 2) := dk_21 6 (dk_at dksJ4_getNode_4 10 rfl rfl)
theorem dJ4_getNode_106 : decode cJ4_getNode 106 = .ok (.if_icmp .ne 31, 3) := dk_160 0 31 (dk_at dksJ4_getNode_4 12 rfl rfl)
theorem dJ4_getNode_109 : decode cJ4_getNode 109 = .ok (.aload 4, 2) := dk_25 4 (dk_at dksJ4_getNode_4 15 rfl rfl)
theorem dJ4_getNode_111 : decode cJ4_getNode 111 = .ok (.getfield 170, 3) := dk_180 0 170 (dk_at dksJ4_getNode_4 17 rfl rfl)
theorem dJ4_getNode_114 : decode cJ4_getNode 114 = .ok (.dup, 1) := dk_89 (dk_at dksJ4_getNode_4 20 rfl rfl)
theorem dJ4_getNode_115 : decode cJ4_getNode 115 = .ok (.astore 7, 2) := dk_58 7 (dk_at dksJ4_getNode_4 21 rfl rfl)
theorem dJ4_getNode_117 : decode cJ4_getNode 117 = .ok (.aload_n 1, 1) := dk_43 (dk_at dksJ4_getNode_4 23 rfl rfl)
theorem dJ4_getNode_118 : decode cJ4_getNode 118 = .ok (.if_acmp .eq 16, 3) := dk_165 0 16 (dk_at dksJ4_getNode_5 0 rfl rfl)
theorem dJ4_getNode_121 : decode cJ4_getNode 121 = .ok (.aload_n 1, 1) := dk_43 (dk_at dksJ4_getNode_5 3 rfl rfl)
theorem dJ4_getNode_122 : decode cJ4_getNode 122 = .ok (.ifnull 15, 3) := dk_198 0 15 (dk_at dksJ4_getNode_5 4 rfl rfl)
theorem dJ4_getNode_125 : decode cJ4_getNode 125 = .ok (.aload_n 1, 1) := dk_43 (dk_at dksJ4_getNode_5 7 rfl rfl)
theorem dJ4_getNode_126 : decode cJ4_getNode 126 = .ok (.aload 7, 2) := dk_25 7 (dk_at dksJ4_getNode_5 8 rfl rfl)
theorem dJ4_getNode_128 : decode cJ4_getNode 128 = .ok (.invokevirtual 173, 3) := dk_182 0 173 (dk_at dksJ4_getNode_5 10 rfl rfl)
theorem dJ4_getNode_131 : decode cJ4_getNode 131 = .ok (.ifCond .eq 6, 3) := dk_153 0 6 (dk_at dksJ4_getNode_5 13 rfl rfl)
theorem dJ4_getNode_134 : decode cJ4_getNode 134 = .ok (.aload 4, 2) := dk_25 4 (dk_at dksJ4_getNode_5 16 rfl rfl)
theorem dJ4_getNode_136 : decode cJ4_getNode 136 = .ok (.areturn, 1) := dk_176 (dk_at dksJ4_getNode_5 18 rfl rfl)
theorem dJ4_getNode_137 : decode cJ4_getNode 137 = .ok (.aload 4, 2) := dk_25 4 (dk_at dksJ4_getNode_5 19 rfl rfl)
theorem dJ4_getNode_139 : decode cJ4_getNode 139 = .ok (.getfield 177, 3) := dk_180 0 177 (dk_at dksJ4_getNode_5 21 rfl rfl)
theorem dJ4_getNode_142 : decode cJ4_getNode 142 = .ok (.dup, 1) := dk_89 (dk_at dksJ4_getNode_6 0 rfl rfl)
theorem dJ4_getNode_143 : decode cJ4_getNode 143 = .ok (.astore 4, 2) := dk_58 4 (dk_at dksJ4_getNode_6 1 rfl rfl)
theorem dJ4_getNode_145 : decode cJ4_getNode 145 = .ok (.ifnonnull (-46), 3) := dk_199 255 210 (dk_at dksJ4_getNode_6 3 rfl rfl)
theorem dJ4_getNode_148 : decode cJ4_getNode 148 = .ok (.aconst_null, 1) := dk_1 (dk_at dksJ4_getNode_6 6 rfl rfl)
theorem dJ4_getNode_149 : decode cJ4_getNode 149 = .ok (.areturn, 1) := dk_176 (dk_at dksJ4_getNode_6 7 rfl rfl)
theorem q54 : (Jvm.Cond.initialized "java/util/HashMap") ∈ lw_all := lw_g (lw_at lw_m1 6 rfl) rfl
theorem q156 : (Jvm.Cond.instanceMethod ({ cls := "java/util/HashMap", name := "<init>", desc := "()V" } : Jvm.MethodName)) ∈ lw_all := lw_g (lw_at lw_m1 108 rfl) rfl
theorem q157 : (Jvm.Cond.code ({ cls := "java/util/HashMap", name := "<init>", desc := "()V" } : Jvm.MethodName) prog_61_method_7_code (1 : Nat) (Option.none : Option Jvm.ClassFile.FieldType)) ∈ lw_all := lw_g (lw_at lw_m1 109 rfl) rfl
theorem q158 : (Jvm.Cond.methodLink "java/util/HashMap" (43 : Nat) ({ cls := "java/util/AbstractMap", name := "<init>", desc := "()V" } : Jvm.MethodName)) ∈ lw_all := lw_g (lw_at lw_m1 110 rfl) rfl
theorem q162 : (Jvm.Cond.constantFloat "java/util/HashMap" (92 : Nat) (1061158912 : UInt32)) ∈ lw_all := lw_g (lw_at lw_m1 114 rfl) rfl
theorem q167 : (Jvm.Cond.fieldLink "java/util/HashMap" (105 : Nat) "java/util/HashMap" "table" "[Ljava/util/HashMap$Node;") ∈ lw_all := lw_g (lw_at lw_m1 119 rfl) rfl
theorem q168 : (Jvm.Cond.fieldLink "java/util/HashMap" (156 : Nat) "java/util/HashMap" "size" "I") ∈ lw_all := lw_g (lw_at lw_m1 120 rfl) rfl
theorem q171 : (Jvm.Cond.fieldLink "java/util/HashMap" (202 : Nat) "java/util/HashMap" "modCount" "I") ∈ lw_all := lw_g (lw_at lw_m1 123 rfl) rfl
theorem q172 : (Jvm.Cond.fieldLink "java/util/HashMap" (88 : Nat) "java/util/HashMap" "threshold" "I") ∈ lw_all := lw_g (lw_at lw_m1 124 rfl) rfl
theorem q173 : (Jvm.Cond.fieldLink "java/util/HashMap" (81 : Nat) "java/util/HashMap" "loadFactor" "F") ∈ lw_all := lw_g (lw_at lw_m1 125 rfl) rfl
theorem q183 : (Jvm.Cond.soleField "java/util/HashMap" "table") ∈ lw_all := lw_g (lw_at lw_m1 135 rfl) rfl
theorem q185 : (Jvm.Cond.soleField "java/util/HashMap" "entrySet") ∈ lw_all := lw_g (lw_at lw_m1 137 rfl) rfl
theorem q187 : (Jvm.Cond.soleField "java/util/HashMap" "size") ∈ lw_all := lw_g (lw_at lw_m1 139 rfl) rfl
theorem q189 : (Jvm.Cond.soleField "java/util/HashMap" "modCount") ∈ lw_all := lw_g (lw_at lw_m1 141 rfl) rfl
theorem q191 : (Jvm.Cond.soleField "java/util/HashMap" "threshold") ∈ lw_all := lw_g (lw_at lw_m1 143 rfl) rfl
theorem q193 : (Jvm.Cond.soleField "java/util/HashMap" "loadFactor") ∈ lw_all := lw_g (lw_at lw_m1 145 rfl) rfl
theorem q342 : (Jvm.Cond.declares ({ cls := "java/util/HashMap", name := "put", desc := "(Ljava/lang/Object;Ljava/lang/Object;)Ljava/lang/Object;" } : Jvm.MethodName)) ∈ lw_tbl := lw_at lw_m2 54 rfl
theorem q344 : (Jvm.Cond.instanceMethod ({ cls := "java/util/HashMap", name := "put", desc := "(Ljava/lang/Object;Ljava/lang/Object;)Ljava/lang/Object;" } : Jvm.MethodName)) ∈ lw_all := lw_g (lw_at lw_m2 56 rfl) rfl
theorem q345 : (Jvm.Cond.code ({ cls := "java/util/HashMap", name := "put", desc := "(Ljava/lang/Object;Ljava/lang/Object;)Ljava/lang/Object;" } : Jvm.MethodName) prog_61_method_15_code (3 : Nat) (Option.some (Jvm.ClassFile.FieldType.object "java/lang/Object"))) ∈ lw_all := lw_g (lw_at lw_m2 57 rfl) rfl
theorem q346 : (Jvm.Cond.methodLink "java/util/HashMap" (149 : Nat) ({ cls := "java/util/HashMap", name := "hash", desc := "(Ljava/lang/Object;)I" } : Jvm.MethodName)) ∈ lw_all := lw_g (lw_at lw_m2 58 rfl) rfl
theorem q347 : (Jvm.Cond.static ({ cls := "java/util/HashMap", name := "hash", desc := "(Ljava/lang/Object;)I" } : Jvm.MethodName)) ∈ lw_all := lw_g (lw_at lw_m2 59 rfl) rfl
theorem q348 : (Jvm.Cond.code ({ cls := "java/util/HashMap", name := "hash", desc := "(Ljava/lang/Object;)I" } : Jvm.MethodName) prog_61_method_1_code (2 : Nat) (Option.some Jvm.ClassFile.FieldType.int)) ∈ lw_all := lw_g (lw_at lw_m2 60 rfl) rfl
theorem q350 : (Jvm.Cond.methodLink "java/util/HashMap" (1 : Nat) ({ cls := "java/lang/Object", name := "hashCode", desc := "()I" } : Jvm.MethodName)) ∈ lw_all := lw_g (lw_at lw_m2 62 rfl) rfl
theorem q738 : (Jvm.Cond.methodLink "java/util/HashMap" (152 : Nat) ({ cls := "java/util/HashMap", name := "putVal", desc := "(ILjava/lang/Object;Ljava/lang/Object;ZZ)Ljava/lang/Object;" } : Jvm.MethodName)) ∈ lw_all := lw_g (lw_at lw_m3 210 rfl) rfl
theorem q739 : (Jvm.Cond.instanceMethod ({ cls := "java/util/HashMap", name := "putVal", desc := "(ILjava/lang/Object;Ljava/lang/Object;ZZ)Ljava/lang/Object;" } : Jvm.MethodName)) ∈ lw_all := lw_g (lw_at lw_m3 211 rfl) rfl
theorem q740 : (Jvm.Cond.sameMethod "java/util/HashMap" "java/util/HashMap" "putVal" "(ILjava/lang/Object;Ljava/lang/Object;ZZ)Ljava/lang/Object;") ∈ lw_all := lw_g (lw_at lw_m3 212 rfl) rfl
theorem q742 : (Jvm.Cond.code ({ cls := "java/util/HashMap", name := "putVal", desc := "(ILjava/lang/Object;Ljava/lang/Object;ZZ)Ljava/lang/Object;" } : Jvm.MethodName) prog_61_method_16_code (13 : Nat) (Option.some (Jvm.ClassFile.FieldType.object "java/lang/Object"))) ∈ lw_all := lw_g (lw_at lw_m3 214 rfl) rfl
theorem q743 : (Jvm.Cond.methodLink "java/util/HashMap" (117 : Nat) ({ cls := "java/util/HashMap", name := "resize", desc := "()[Ljava/util/HashMap$Node;" } : Jvm.MethodName)) ∈ lw_all := lw_g (lw_at lw_m3 215 rfl) rfl
theorem q744 : (Jvm.Cond.instanceMethod ({ cls := "java/util/HashMap", name := "resize", desc := "()[Ljava/util/HashMap$Node;" } : Jvm.MethodName)) ∈ lw_all := lw_g (lw_at lw_m3 216 rfl) rfl
theorem q745 : (Jvm.Cond.sameMethod "java/util/HashMap" "java/util/HashMap" "resize" "()[Ljava/util/HashMap$Node;") ∈ lw_all := lw_g (lw_at lw_m3 217 rfl) rfl
theorem q747 : (Jvm.Cond.code ({ cls := "java/util/HashMap", name := "resize", desc := "()[Ljava/util/HashMap$Node;" } : Jvm.MethodName) prog_61_method_17_code (14 : Nat) (Option.some (Jvm.ClassFile.FieldType.array (Jvm.ClassFile.FieldType.object "java/util/HashMap$Node")))) ∈ lw_all := lw_g (lw_at lw_m3 219 rfl) rfl
theorem q748 : (Jvm.Cond.constant "java/util/HashMap" (42 : Nat) (1073741824 : Int32)) ∈ lw_all := lw_g (lw_at lw_m3 220 rfl) rfl
theorem q749 : (Jvm.Cond.constant "java/util/HashMap" (209 : Nat) (2147483647 : Int32)) ∈ lw_all := lw_g (lw_at lw_m3 221 rfl) rfl
theorem q750 : (Jvm.Cond.constantFloat "java/util/HashMap" (210 : Nat) (1317011456 : UInt32)) ∈ lw_all := lw_g (lw_at lw_m3 222 rfl) rfl
theorem q751 : (Jvm.Cond.classLink "java/util/HashMap" (163 : Nat) "java/util/HashMap$Node") ∈ lw_all := lw_g (lw_at lw_m3 223 rfl) rfl
theorem q753 : (Jvm.Cond.classLink "java/util/HashMap" (180 : Nat) "java/util/HashMap$TreeNode") ∈ lw_all := lw_g (lw_at lw_m3 225 rfl) rfl
theorem q754 : (Jvm.Cond.methodLink "java/util/HashMap" (211 : Nat) ({ cls := "java/util/HashMap$TreeNode", name := "split", desc := "(Ljava/util/HashMap;[Ljava/util/HashMap$Node;II)V" } : Jvm.MethodName)) ∈ lw_all := lw_g (lw_at lw_m3 226 rfl) rfl
theorem q764 : (Jvm.Cond.instanceMethod ({ cls := "java/util/HashMap", name := "replacementNode", desc := "(Ljava/util/HashMap$Node;Ljava/util/HashMap$Node;)Ljava/util/HashMap$Node;" } : Jvm.MethodName)) ∈ lw_all := lw_g (lw_at lw_m3 236 rfl) rfl
theorem q765 : (Jvm.Cond.sameMethod "java/util/HashMap" "java/util/HashMap" "replacementNode" "(Ljava/util/HashMap$Node;Ljava/util/HashMap$Node;)Ljava/util/HashMap$Node;") ∈ lw_all := lw_g (lw_at lw_m3 237 rfl) rfl
theorem q785 : (Jvm.Cond.fieldLink "java/util/HashMap" (168 : Nat) "java/util/HashMap$Node" "hash" "I") ∈ lw_all := lw_g (lw_at lw_m4 17 rfl) rfl
theorem q791 : (Jvm.Cond.fieldLink "java/util/HashMap" (170 : Nat) "java/util/HashMap$Node" "key" "Ljava/lang/Object;") ∈ lw_all := lw_g (lw_at lw_m4 23 rfl) rfl
theorem q795 : (Jvm.Cond.fieldLink "java/util/HashMap" (162 : Nat) "java/util/HashMap$Node" "value" "Ljava/lang/Object;") ∈ lw_all := lw_g (lw_at lw_m4 27 rfl) rfl
theorem q801 : (Jvm.Cond.fieldLink "java/util/HashMap" (177 : Nat) "java/util/HashMap$Node" "next" "Ljava/util/HashMap$Node;") ∈ lw_all := lw_g (lw_at lw_m4 33 rfl) rfl
theorem q802 : (Jvm.Cond.fieldLink "java/util/HashMap" (223 : Nat) "java/util/HashMap$TreeNode" "next" "Ljava/util/HashMap$Node;") ∈ lw_all := lw_g (lw_at lw_m4 34 rfl) rfl
theorem q820 : (Jvm.Cond.declares ({ cls := "java/util/HashMap", name := "replacementNode", desc := "(Ljava/util/HashMap$Node;Ljava/util/HashMap$Node;)Ljava/util/HashMap$Node;" } : Jvm.MethodName)) ∈ lw_tbl := lw_at lw_m4 52 rfl
theorem q826 : (Jvm.Cond.static ({ cls := "java/util/HashMap", name := "comparableClassFor", desc := "(Ljava/lang/Object;)Ljava/lang/Class;" } : Jvm.MethodName)) ∈ lw_all := lw_g (lw_at lw_m4 58 rfl) rfl
theorem q827 : (Jvm.Cond.code ({ cls := "java/util/HashMap", name := "comparableClassFor", desc := "(Ljava/lang/Object;)Ljava/lang/Class;" } : Jvm.MethodName) prog_61_method_2_code (9 : Nat) (Option.some (Jvm.ClassFile.FieldType.object "java/lang/Class"))) ∈ lw_all := lw_g (lw_at lw_m4 59 rfl) rfl
theorem q828 : (Jvm.Cond.classLink "java/util/HashMap" (7 : Nat) "java/lang/Comparable") ∈ lw_all := lw_g (lw_at lw_m4 60 rfl) rfl
theorem q829 : (Jvm.Cond.methodLink "java/util/HashMap" (9 : Nat) ({ cls := "java/lang/Object", name := "getClass", desc := "()Ljava/lang/Class;" } : Jvm.MethodName)) ∈ lw_all := lw_g (lw_at lw_m4 61 rfl) rfl
theorem q830 : (Jvm.Cond.classLink "java/util/HashMap" (13 : Nat) "java/lang/String") ∈ lw_all := lw_g (lw_at lw_m4 62 rfl) rfl
theorem q832 : (Jvm.Cond.static ({ cls := "java/util/HashMap", name := "compareComparables", desc := "(Ljava/lang/Class;Ljava/lang/Object;Ljava/lang/Object;)I" } : Jvm.MethodName)) ∈ lw_all := lw_g (lw_at lw_m4 64 rfl) rfl
theorem q833 : (Jvm.Cond.code ({ cls := "java/util/HashMap", name := "compareComparables", desc := "(Ljava/lang/Class;Ljava/lang/Object;Ljava/lang/Object;)I" } : Jvm.MethodName) prog_61_method_3_code (3 : Nat) (Option.some Jvm.ClassFile.FieldType.int)) ∈ lw_all := lw_g (lw_at lw_m4 65 rfl) rfl
theorem q834 : (Jvm.Cond.interfaceEntry "java/util/HashMap" (30 : Nat)) ∈ lw_tbl := lw_at lw_m4 66 rfl
theorem q835 : (Jvm.Cond.methodLink "java/util/HashMap" (30 : Nat) ({ cls := "java/lang/Comparable", name := "compareTo", desc := "(Ljava/lang/Object;)I" } : Jvm.MethodName)) ∈ lw_all := lw_g (lw_at lw_m4 67 rfl) rfl
theorem q1064 : (Jvm.Cond.methodLink "java/util/HashMap" (186 : Nat) ({ cls := "java/util/HashMap", name := "newNode", desc := "(ILjava/lang/Object;Ljava/lang/Object;Ljava/util/HashMap$Node;)Ljava/util/HashMap$Node;" } : Jvm.MethodName)) ∈ lw_all := lw_g (lw_at lw_m5 56 rfl) rfl
theorem q1065 : (Jvm.Cond.instanceMethod ({ cls := "java/util/HashMap", name := "newNode", desc := "(ILjava/lang/Object;Ljava/lang/Object;Ljava/util/HashMap$Node;)Ljava/util/HashMap$Node;" } : Jvm.MethodName)) ∈ lw_all := lw_g (lw_at lw_m5 57 rfl) rfl
theorem q1066 : (Jvm.Cond.sameMethod "java/util/HashMap" "java/util/HashMap" "newNode" "(ILjava/lang/Object;Ljava/lang/Object;Ljava/util/HashMap$Node;)Ljava/util/HashMap$Node;") ∈ lw_all := lw_g (lw_at lw_m5 58 rfl) rfl
theorem q1074 : (Jvm.Cond.declares ({ cls := "java/util/HashMap", name := "newNode", desc := "(ILjava/lang/Object;Ljava/lang/Object;Ljava/util/HashMap$Node;)Ljava/util/HashMap$Node;" } : Jvm.MethodName)) ∈ lw_tbl := lw_at lw_m5 66 rfl
theorem q1076 : (Jvm.Cond.methodLink "java/util/HashMap" (173 : Nat) ({ cls := "java/lang/Object", name := "equals", desc := "(Ljava/lang/Object;)Z" } : Jvm.MethodName)) ∈ lw_all := lw_g (lw_at lw_m5 68 rfl) rfl
theorem q1115 : (Jvm.Cond.methodLink "java/util/HashMap" (190 : Nat) ({ cls := "java/util/HashMap$TreeNode", name := "putTreeVal", desc := "(Ljava/util/HashMap;[Ljava/util/HashMap$Node;ILjava/lang/Object;Ljava/lang/Object;)Ljava/util/HashMap$TreeNode;" } : Jvm.MethodName)) ∈ lw_all := lw_g (lw_at lw_m5 107 rfl) rfl
theorem q1129 : (Jvm.Cond.instanceMethod ({ cls := "java/util/HashMap", name := "newTreeNode", desc := "(ILjava/lang/Object;Ljava/lang/Object;Ljava/util/HashMap$Node;)Ljava/util/HashMap$TreeNode;" } : Jvm.MethodName)) ∈ lw_all := lw_g (lw_at lw_m5 121 rfl) rfl
theorem q1130 : (Jvm.Cond.sameMethod "java/util/HashMap" "java/util/HashMap" "newTreeNode" "(ILjava/lang/Object;Ljava/lang/Object;Ljava/util/HashMap$Node;)Ljava/util/HashMap$TreeNode;") ∈ lw_all := lw_g (lw_at lw_m5 122 rfl) rfl
theorem q1144 : (Jvm.Cond.fieldLink "java/util/HashMap" (219 : Nat) "java/util/HashMap$TreeNode" "prev" "Ljava/util/HashMap$TreeNode;") ∈ lw_all := lw_g (lw_at lw_m5 136 rfl) rfl
theorem q1163 : (Jvm.Cond.declares ({ cls := "java/util/HashMap", name := "newTreeNode", desc := "(ILjava/lang/Object;Ljava/lang/Object;Ljava/util/HashMap$Node;)Ljava/util/HashMap$TreeNode;" } : Jvm.MethodName)) ∈ lw_tbl := lw_at lw_m5 155 rfl
theorem q1164 : (Jvm.Cond.methodLink "java/util/HashMap" (194 : Nat) ({ cls := "java/util/HashMap", name := "treeifyBin", desc := "([Ljava/util/HashMap$Node;I)V" } : Jvm.MethodName)) ∈ lw_all := lw_g (lw_at lw_m5 156 rfl) rfl
theorem q1165 : (Jvm.Cond.instanceMethod ({ cls := "java/util/HashMap", name := "treeifyBin", desc := "([Ljava/util/HashMap$Node;I)V" } : Jvm.MethodName)) ∈ lw_all := lw_g (lw_at lw_m5 157 rfl) rfl
theorem q1166 : (Jvm.Cond.sameMethod "java/util/HashMap" "java/util/HashMap" "treeifyBin" "([Ljava/util/HashMap$Node;I)V") ∈ lw_all := lw_g (lw_at lw_m5 158 rfl) rfl
theorem q1168 : (Jvm.Cond.code ({ cls := "java/util/HashMap", name := "treeifyBin", desc := "([Ljava/util/HashMap$Node;I)V" } : Jvm.MethodName) prog_61_method_18_code (9 : Nat) (Option.none : Option Jvm.ClassFile.FieldType)) ∈ lw_all := lw_g (lw_at lw_m5 160 rfl) rfl
theorem q1169 : (Jvm.Cond.methodLink "java/util/HashMap" (215 : Nat) ({ cls := "java/util/HashMap", name := "replacementTreeNode", desc := "(Ljava/util/HashMap$Node;Ljava/util/HashMap$Node;)Ljava/util/HashMap$TreeNode;" } : Jvm.MethodName)) ∈ lw_all := lw_g (lw_at lw_m5 161 rfl) rfl
theorem q1170 : (Jvm.Cond.instanceMethod ({ cls := "java/util/HashMap", name := "replacementTreeNode", desc := "(Ljava/util/HashMap$Node;Ljava/util/HashMap$Node;)Ljava/util/HashMap$TreeNode;" } : Jvm.MethodName)) ∈ lw_all := lw_g (lw_at lw_m5 162 rfl) rfl
theorem q1171 : (Jvm.Cond.sameMethod "java/util/HashMap" "java/util/HashMap" "replacementTreeNode" "(Ljava/util/HashMap$Node;Ljava/util/HashMap$Node;)Ljava/util/HashMap$TreeNode;") ∈ lw_all := lw_g (lw_at lw_m5 163 rfl) rfl
theorem q1175 : (Jvm.Cond.declares ({ cls := "java/util/HashMap", name := "replacementTreeNode", desc := "(Ljava/util/HashMap$Node;Ljava/util/HashMap$Node;)Ljava/util/HashMap$TreeNode;" } : Jvm.MethodName)) ∈ lw_tbl := lw_at lw_m5 167 rfl
theorem q1176 : (Jvm.Cond.methodLink "java/util/HashMap" (224 : Nat) ({ cls := "java/util/HashMap$TreeNode", name := "treeify", desc := "([Ljava/util/HashMap$Node;)V" } : Jvm.MethodName)) ∈ lw_all := lw_g (lw_at lw_m5 168 rfl) rfl
theorem q1177 : (Jvm.Cond.methodLink "java/util/HashMap" (198 : Nat) ({ cls := "java/util/HashMap", name := "afterNodeAccess", desc := "(Ljava/util/HashMap$Node;)V" } : Jvm.MethodName)) ∈ lw_all := lw_g (lw_at lw_m5 169 rfl) rfl
theorem q1178 : (Jvm.Cond.instanceMethod ({ cls := "java/util/HashMap", name := "afterNodeAccess", desc := "(Ljava/util/HashMap$Node;)V" } : Jvm.MethodName)) ∈ lw_all := lw_g (lw_at lw_m5 170 rfl) rfl
theorem q1179 : (Jvm.Cond.sameMethod "java/util/HashMap" "java/util/HashMap" "afterNodeAccess" "(Ljava/util/HashMap$Node;)V") ∈ lw_all := lw_g (lw_at lw_m5 171 rfl) rfl
theorem q1183 : (Jvm.Cond.declares ({ cls := "java/util/HashMap", name := "afterNodeAccess", desc := "(Ljava/util/HashMap$Node;)V" } : Jvm.MethodName)) ∈ lw_tbl := lw_at lw_m5 175 rfl
theorem q1184 : (Jvm.Cond.methodLink "java/util/HashMap" (205 : Nat) ({ cls := "java/util/HashMap", name := "afterNodeInsertion", desc := "(Z)V" } : Jvm.MethodName)) ∈ lw_all := lw_g (lw_at lw_m5 176 rfl) rfl
theorem q1185 : (Jvm.Cond.instanceMethod ({ cls := "java/util/HashMap", name := "afterNodeInsertion", desc := "(Z)V" } : Jvm.MethodName)) ∈ lw_all := lw_g (lw_at lw_m5 177 rfl) rfl
theorem q1186 : (Jvm.Cond.sameMethod "java/util/HashMap" "java/util/HashMap" "afterNodeInsertion" "(Z)V") ∈ lw_all := lw_g (lw_at lw_m5 178 rfl) rfl
theorem q1194 : (Jvm.Cond.declares ({ cls := "java/util/HashMap", name := "afterNodeInsertion", desc := "(Z)V" } : Jvm.MethodName)) ∈ lw_tbl := lw_at lw_m5 186 rfl
theorem q1864 : (Jvm.Cond.declares ({ cls := "java/util/HashMap", name := "getNode", desc := "(Ljava/lang/Object;)Ljava/util/HashMap$Node;" } : Jvm.MethodName)) ∈ lw_tbl := lw_at lw_m8 136 rfl
theorem q1866 : (Jvm.Cond.instanceMethod ({ cls := "java/util/HashMap", name := "getNode", desc := "(Ljava/lang/Object;)Ljava/util/HashMap$Node;" } : Jvm.MethodName)) ∈ lw_all := lw_g (lw_at lw_m8 138 rfl) rfl
theorem q1867 : (Jvm.Cond.code ({ cls := "java/util/HashMap", name := "getNode", desc := "(Ljava/lang/Object;)Ljava/util/HashMap$Node;" } : Jvm.MethodName) prog_61_method_13_code (8 : Nat) (Option.some (Jvm.ClassFile.FieldType.object "java/util/HashMap$Node"))) ∈ lw_all := lw_g (lw_at lw_m8 139 rfl) rfl
theorem q1868 : (Jvm.Cond.methodLink "java/util/HashMap" (182 : Nat) ({ cls := "java/util/HashMap$TreeNode", name := "getTreeNode", desc := "(ILjava/lang/Object;)Ljava/util/HashMap$TreeNode;" } : Jvm.MethodName)) ∈ lw_all := lw_g (lw_at lw_m8 140 rfl) rfl

/-! java/util/LinkedHashMap -/
set_option maxRecDepth 100000
def RJ5 : String := "java/util/LinkedHashMap"
def TJ5 : u_T := fun k => match k with
  | 0 => ("java/util/HashMap", "table", "[Ljava/util/HashMap$Node;", false)
  | 1 => ("java/util/HashMap", "entrySet", "Ljava/util/Set;", false)
  | 2 => ("java/util/HashMap", "size", "I", false)
  | 3 => ("java/util/HashMap", "modCount", "I", false)
  | 4 => ("java/util/HashMap", "threshold", "I", false)
  | 5 => ("java/util/HashMap", "loadFactor", "F", true)
  | 6 => ("java/util/AbstractMap", "keySet", "Ljava/util/Set;", false)
  | 7 => ("java/util/AbstractMap", "values", "Ljava/util/Collection;", false)
  | 8 => ("java/util/LinkedHashMap", "head", "Ljava/util/LinkedHashMap$Entry;", false)
  | 9 => ("java/util/LinkedHashMap", "tail", "Ljava/util/LinkedHashMap$Entry;", false)
  | 10 => ("java/util/LinkedHashMap", "accessOrder", "Z", true)
  | _ => ("java/util/LinkedHashMap", "putMode", "I", false)
def tyJ5 : Nat → FieldType := fun k => match k with
  | 0 => .array (.object "java/util/HashMap$Node")
  | 1 => .object "java/util/Set"
  | 2 => .int
  | 3 => .int
  | 4 => .int
  | 5 => .float
  | 6 => .object "java/util/Set"
  | 7 => .object "java/util/Collection"
  | 8 => .object "java/util/LinkedHashMap$Entry"
  | 9 => .object "java/util/LinkedHashMap$Entry"
  | 10 => .boolean
  | _ => .int
abbrev wsJ50 : List Cond := u_ws RJ5 TJ5 12
theorem nmJ5 : ∀ a, a < 12 → ∀ b, b < 12 → a ≠ b → (TJ5 a).2.1 ≠ (TJ5 b).2.1 := by decide +kernel
theorem tyJ5_ok : ∀ k, k < 12 → parseFieldDescriptor (TJ5 k).2.2.1 = some (tyJ5 k) := by decide +kernel
abbrev cJ5_init : ByteArray := prog_65_method_16_code
def yJ5_init : MethodName := ⟨RJ5, "<init>", "()V"⟩
def dkwJ5_init_0 : List UInt8 := [42, 183, 0, 87, 42, 3, 181, 0, 1, 42, 3, 181, 0, 64, 177]
abbrev dktJ5_init_0 : List UInt8 := dkwJ5_init_0 ++ []
theorem dksJ5_init_0 : cJ5_init.data.toList.drop 0 = dktJ5_init_0 := by decide +kernel
theorem dJ5_init_0 : decode cJ5_init 0 = .ok (.aload_n 0, 1) := dk_42 (dk_at dksJ5_init_0 0 rfl rfl)
theorem dJ5_init_1 : decode cJ5_init 1 = .ok (.invokespecial 87, 3) := dk_183 0 87 (dk_at dksJ5_init_0 1 rfl rfl)
theorem dJ5_init_4 : decode cJ5_init 4 = .ok (.aload_n 0, 1) := dk_42 (dk_at dksJ5_init_0 4 rfl rfl)
theorem dJ5_init_5 : decode cJ5_init 5 = .ok (.iconst 0, 1) := dk_3 (dk_at dksJ5_init_0 5 rfl rfl)
theorem dJ5_init_6 : decode cJ5_init 6 = .ok (.putfield 1, 3) := dk_181 0 1 (dk_at dksJ5_init_0 6 rfl rfl)
theorem dJ5_init_9 : decode cJ5_init 9 = .ok (.aload_n 0, 1) := dk_42 (dk_at dksJ5_init_0 9 rfl rfl)
theorem dJ5_init_10 : decode cJ5_init 10 = .ok (.iconst 0, 1) := dk_3 (dk_at dksJ5_init_0 10 rfl rfl)
theorem dJ5_init_11 : decode cJ5_init 11 = .ok (.putfield 64, 3) := dk_181 0 64 (dk_at dksJ5_init_0 11 rfl rfl)
theorem dJ5_init_14 : decode cJ5_init 14 = .ok (.return_, 1) := dk_177 (dk_at dksJ5_init_0 14 rfl rfl)
abbrev cJ5_replacementNode : ByteArray := prog_65_method_5_code
def yJ5_replacementNode : MethodName := ⟨RJ5, "replacementNode", "(Ljava/util/HashMap$Node;Ljava/util/HashMap$Node;)Ljava/util/HashMap$Node;"⟩
def dkwJ5_replacementNode_1 : List UInt8 := [183, 0, 28, 58, 4, 42, 45, 25, 4, 182, 0, 46, 25, 4, 176]
abbrev dktJ5_replacementNode_1 : List UInt8 := dkwJ5_replacementNode_1 ++ []
def dkwJ5_replacementNode_0 : List UInt8 := [43, 192, 0, 15, 78, 187, 0, 15, 89, 45, 180, 0, 36, 45, 180, 0, 39, 45, 180, 0, 43, 44]
abbrev dktJ5_replacementNode_0 : List UInt8 := dkwJ5_replacementNode_0 ++ dktJ5_replacementNode_1
theorem dksJ5_replacementNode_0 : cJ5_replacementNode.data.toList.drop 0 = dktJ5_replacementNode_0 := by decide +kernel
theorem dksJ5_replacementNode_1 : cJ5_replacementNode.data.toList.drop 22 = dktJ5_replacementNode_1 := dk_seg dksJ5_replacementNode_0 22 rfl rfl
theorem dJ5_replacementNode_0 : decode cJ5_replacementNode 0 = .ok (.aload_n 1, 1) := dk_43 (dk_at dksJ5_replacementNode_0 0 rfl rfl)
theorem dJ5_replacementNode_1 : decode cJ5_replacementNode 1 = .ok (.checkcast 15, 3) := dk_192 0 15 (dk_at dksJ5_replacementNode_0 1 rfl rfl)
theorem dJ5_replacementNode_4 : decode cJ5_replacementNode 4 = .ok (.astore_n 3, 1) := dk_78 (dk_at dksJ5_replacementNode_0 4 rfl rfl)
theorem dJ5_replacementNode_5 : decode cJ5_replacementNode 5 = .ok (.new 15, 3) := dk_187 0 15 (dk_at dksJ5_replacementNode_0 5 rfl rfl)
theorem dJ5_replacementNode_8 : decode cJ5_replacementNode 8 = .ok (.dup, 1) := dk_89 (dk_at dksJ5_replacementNode_0 8 rfl rfl)
theorem dJ5_replacementNode_9 : decode cJ5_replacementNode 9 = .ok (.aload_n 3, 1) := dk_45 (dk_at dksJ5_replacementNode_0 9 rfl rfl)
theorem dJ5_replacementNode_10 : decode cJ5_replacementNode 10 = .ok (.getfield 36, 3) := dk_180 0 36 (dk_at dksJ5_replacementNode_0 10 rfl rfl)
theorem dJ5_replacementNode_13 : decode cJ5_replacementNode 13 = .ok (.aload_n 3, 1) := dk_45 (dk_at dksJ5_replacementNode_0 13 rfl rfl)
theorem dJ5_replacementNode_14 : decode cJ5_replacementNode 14 = .ok (.getfield 39, 3) := dk_180 0 39 (dk_at dksJ5_replacementNode_0 14 rfl rfl)
theorem dJ5_replacementNode_17 : decode cJ5_replacementNode 17 = .ok (.aload_n 3, 1) := dk_45 (dk_at dksJ5_replacementNode_0 17 rfl rfl)
theorem dJ5_replacementNode_18 : decode cJ5_replacementNode 18 = .ok (.getfield 43, 3) := dk_180 0 43 (dk_at dksJ5_replacementNode_0 18 rfl rfl)
theorem dJ5_replacementNode_21 : decode cJ5_replacementNode 21 = .ok (.aload_n 2, 1) := dk_44 (dk_at dksJ5_replacementNode_0 21 rfl rfl)
theorem dJ5_replacementNode_22 : decode cJ5_replacementNode 22 = .ok (.invokespecial 28, 3) := dk_183 0 28 (dk_at dksJ5_replacementNode_1 0 rfl rfl)
theorem dJ5_replacementNode_25 : decode cJ5_replacementNode 25 = .ok (.astore 4, 2) := dk_58 4 (dk_at dksJ5_replacementNode_1 3 rfl rfl)
theorem dJ5_replacementNode_27 : decode cJ5_replacementNode 27 = .ok (.aload_n 0, 1) := dk_42 (dk_at dksJ5_replacementNode_1 5 rfl rfl)
theorem dJ5_replacementNode_28 : decode cJ5_replacementNode 28 = .ok (.aload_n 3, 1) := dk_45 (dk_at dksJ5_replacementNode_1 6 rfl rfl)
theorem dJ5_replacementNode_29 : decode cJ5_replacementNode 29 = .ok (.aload 4, 2) := dk_25 4 (dk_at dksJ5_replacementNode_1 7 rfl rfl)
theorem dJ5_replacementNode_31 : decode cJ5_replacementNode 31 = .ok (.invokevirtual 46, 3) := dk_182 0 46 (dk_at dksJ5_replacementNode_1 9 rfl rfl)
theorem dJ5_replacementNode_34 : decode cJ5_replacementNode 34 = .ok (.aload 4, 2) := dk_25 4 (dk_at dksJ5_replacementNode_1 12 rfl rfl)
theorem dJ5_replacementNode_36 : decode cJ5_replacementNode 36 = .ok (.areturn, 1) := dk_176 (dk_at dksJ5_replacementNode_1 14 rfl rfl)
abbrev cJ5_transferLinks : ByteArray := prog_65_method_2_code
def yJ5_transferLinks : MethodName := ⟨RJ5, "transferLinks", "(Ljava/util/LinkedHashMap$Entry;Ljava/util/LinkedHashMap$Entry;)V"⟩
def dkwJ5_transferLinks_2 : List UInt8 := [181, 0, 11, 167, 0, 9, 25, 4, 44, 181, 0, 19, 177]
abbrev dktJ5_transferLinks_2 : List UInt8 := dkwJ5_transferLinks_2 ++ []
def dkwJ5_transferLinks_1 : List UInt8 := [199, 0, 11, 42, 44, 181, 0, 7, 167, 0, 8, 45, 44, 181, 0, 14, 25, 4, 199, 0, 11, 42, 44]
abbrev dktJ5_transferLinks_1 : List UInt8 := dkwJ5_transferLinks_1 ++ dktJ5_transferLinks_2
def dkwJ5_transferLinks_0 : List UInt8 := [44, 43, 180, 0, 19, 90, 181, 0, 19, 78, 44, 43, 180, 0, 14, 90, 181, 0, 14, 58, 4, 45]
abbrev dktJ5_transferLinks_0 : List UInt8 := dkwJ5_transferLinks_0 ++ dktJ5_transferLinks_1
theorem dksJ5_transferLinks_0 : cJ5_transferLinks.data.toList.drop 0 = dktJ5_transferLinks_0 := by decide +kernel
theorem dksJ5_transferLinks_1 : cJ5_transferLinks.data.toList.drop 22 = dktJ5_transferLinks_1 := dk_seg dksJ5_transferLinks_0 22 rfl rfl
theorem dksJ5_transferLinks_2 : cJ5_transferLinks.data.toList.drop 45 = dktJ5_transferLinks_2 := dk_seg dksJ5_transferLinks_1 23 rfl rfl
theorem dJ5_transferLinks_0 : decode cJ5_transferLinks 0 = .ok (.aload_n 2, 1) := dk_44 (dk_at dksJ5_transferLinks_0 0 rfl rfl)
theorem dJ5_transferLinks_1 : decode cJ5_transferLinks 1 = .ok (.aload_n 1, 1) := dk_43 (dk_at dksJ5_transferLinks_0 1 rfl rfl)
theorem dJ5_transferLinks_2 : decode cJ5_transferLinks 2 = .ok (.getfield 19, 3) := dk_180 0 19 (dk_at dksJ5_transferLinks_0 2 rfl rfl)
theorem dJ5_transferLinks_5 : decode cJ5_transferLinks 5 = .ok (.dup_x1, 1) := dk_90 (dk_at dksJ5_transferLinks_0 5 rfl rfl)
theorem dJ5_transferLinks_6 : decode cJ5_transferLinks 6 = .ok (.putfield 19, 3) := dk_181 0 19 (dk_at dksJ5_transferLinks_0 6 rfl rfl)
theorem dJ5_transferLinks_9 : decode cJ5_transferLinks 9 = .ok (.astore_n 3, 1) := dk_78 (dk_at dksJ5_transferLinks_0 9 rfl rfl)
theorem dJ5_transferLinks_10 : decode cJ5_transferLinks 10 = .ok (.aload_n 2, 1) := dk_44 (dk_at dksJ5_transferLinks_0 10 rfl rfl)
theorem dJ5_transferLinks_11 : decode cJ5_transferLinks 11 = .ok (.aload_n 1, 1) := dk_43 (dk_at dksJ5_transferLinks_0 11 rfl rfl)
theorem dJ5_transferLinks_12 : decode cJ5_transferLinks 12 = .ok (.getfield 14, 3) := dk_180 0 14 (dk_at dksJ5_transferLinks_0 12 rfl rfl)
theorem dJ5_transferLinks_15 : decode cJ5_transferLinks 15 = .ok (.dup_x1, 1) := dk_90 (dk_at dksJ5_transferLinks_0 15 rfl rfl)
theorem dJ5_transferLinks_16 : decode cJ5_transferLinks 16 = .ok (.putfield 14, 3) := dk_181 0 14 (dk_at dksJ5_transferLinks_0 16 rfl rfl)
theorem dJ5_transferLinks_19 : decode cJ5_transferLinks 19 = .ok (.astore 4, 2) := dk_58 4 (dk_at dksJ5_transferLinks_0 19 rfl rfl)
theorem dJ5_transferLinks_21 : decode cJ5_transferLinks 21 = .ok (.aload_n 3, 1) := dk_45 (dk_at dksJ5_transferLinks_0 21 rfl rfl)
theorem dJ5_transferLinks_22 : decode cJ5_transferLinks 22 = .ok (.ifnonnull 11, 3) := dk_199 0 11 (dk_at dksJ5_transferLinks_1 0 rfl rfl)
theorem dJ5_transferLinks_25 : decode cJ5_transferLinks 25 = .ok (.aload_n 0, 1) := dk_42 (dk_at dksJ5_transferLinks_1 3 rfl rfl)
theorem dJ5_transferLinks_26 : decode cJ5_transferLinks 26 = .ok (.aload_n 2, 1) := dk_44 (dk_at dksJ5_transferLinks_1 4 rfl rfl)
theorem dJ5_transferLinks_27 : decode cJ5_transferLinks 27 = .ok (.putfield 7, 3) := dk_181 0 7 (dk_at dksJ5_transferLinks_1 5 rfl rfl)
theorem dJ5_transferLinks_30 : decode cJ5_transferLinks 30 = .ok (.goto 8, 3) := dk_167 0 8 (dk_at dksJ5_transferLinks_1 8 rfl rfl)
theorem dJ5_transferLinks_33 : decode cJ5_transferLinks 33 = .ok (.aload_n 3, 1) := dk_45 (dk_at dksJ5_transferLinks_1 11 rfl rfl)
theorem dJ5_transferLinks_34 : decode cJ5_transferLinks 34 = .ok (.aload_n 2, 1) := dk_44 (dk_at dksJ5_transferLinks_1 12 rfl rfl)
theorem dJ5_transferLinks_35 : decode cJ5_transferLinks 35 = .ok (.putfield 14, 3) := dk_181 0 14 (dk_at dksJ5_transferLinks_1 13 rfl rfl)
theorem dJ5_transferLinks_38 : decode cJ5_transferLinks 38 = .ok (.aload 4, 2) := dk_25 4 (dk_at dksJ5_transferLinks_1 16 rfl rfl)
theorem dJ5_transferLinks_40 : decode cJ5_transferLinks 40 = .ok (.ifnonnull 11, 3) := dk_199 0 11 (dk_at dksJ5_transferLinks_1 18 rfl rfl)
theorem dJ5_transferLinks_43 : decode cJ5_transferLinks 43 = .ok (.aload_n 0, 1) := dk_42 (dk_at dksJ5_transferLinks_1 21 rfl rfl)
theorem dJ5_transferLinks_44 : decode cJ5_transferLinks 44 = .ok (.aload_n 2, 1) := dk_44 (dk_at dksJ5_transferLinks_1 22 rfl rfl)
theorem dJ5_transferLinks_45 : decode cJ5_transferLinks 45 = .ok (.putfield 11, 3) := dk_181 0 11 (dk_at dksJ5_transferLinks_2 0 rfl rfl)
theorem dJ5_transferLinks_48 : decode cJ5_transferLinks 48 = .ok (.goto 9, 3) := dk_167 0 9 (dk_at dksJ5_transferLinks_2 3 rfl rfl)
theorem dJ5_transferLinks_51 : decode cJ5_transferLinks 51 = .ok (.aload 4, 2) := dk_25 4 (dk_at dksJ5_transferLinks_2 6 rfl rfl)
theorem dJ5_transferLinks_53 : decode cJ5_transferLinks 53 = .ok (.aload_n 2, 1) := dk_44 (dk_at dksJ5_transferLinks_2 8 rfl rfl)
theorem dJ5_transferLinks_54 : decode cJ5_transferLinks 54 = .ok (.putfield 19, 3) := dk_181 0 19 (dk_at dksJ5_transferLinks_2 9 rfl rfl)
theorem dJ5_transferLinks_57 : decode cJ5_transferLinks 57 = .ok (.return_, 1) := dk_177 (dk_at dksJ5_transferLinks_2 12 rfl rfl)
abbrev cJ5_newNode : ByteArray := prog_65_method_4_code
def yJ5_newNode : MethodName := ⟨RJ5, "newNode", "(ILjava/lang/Object;Ljava/lang/Object;Ljava/util/HashMap$Node;)Ljava/util/HashMap$Node;"⟩
def dkwJ5_newNode_0 : List UInt8 := [187, 0, 15, 89, 27, 44, 45, 25, 4, 183, 0, 28, 58, 5, 42, 25, 5, 182, 0, 32, 25, 5, 176]
abbrev dktJ5_newNode_0 : List UInt8 := dkwJ5_newNode_0 ++ []
theorem dksJ5_newNode_0 : cJ5_newNode.data.toList.drop 0 = dktJ5_newNode_0 := by decide +kernel
theorem dJ5_newNode_0 : decode cJ5_newNode 0 = .ok (.new 15, 3) := dk_187 0 15 (dk_at dksJ5_newNode_0 0 rfl rfl)
theorem dJ5_newNode_3 : decode cJ5_newNode 3 = .ok (.dup, 1) := dk_89 (dk_at dksJ5_newNode_0 3 rfl rfl)
theorem dJ5_newNode_4 : decode cJ5_newNode 4 = .ok (.iload_n 1, 1) := dk_27 (dk_at dksJ5_newNode_0 4 rfl rfl)
theorem dJ5_newNode_5 : decode cJ5_newNode 5 = .ok (.aload_n 2, 1) := dk_44 (dk_at dksJ5_newNode_0 5 rfl rfl)
theorem dJ5_newNode_6 : decode cJ5_newNode 6 = .ok (.aload_n 3, 1) := dk_45 (dk_at dksJ5_newNode_0 6 rfl rfl)
theorem dJ5_newNode_7 : decode cJ5_newNode 7 = .ok (.aload 4, 2) := dk_25 4 (dk_at dksJ5_newNode_0 7 rfl rfl)
theorem dJ5_newNode_9 : decode cJ5_newNode 9 = .ok (.invokespecial 28, 3) := dk_183 0 28 (dk_at dksJ5_newNode_0 9 rfl rfl)
theorem dJ5_newNode_12 : decode cJ5_newNode 12 = .ok (.astore 5, 2) := dk_58 5 (dk_at dksJ5_newNode_0 12 rfl rfl)
theorem dJ5_newNode_14 : decode cJ5_newNode 14 = .ok (.aload_n 0, 1) := dk_42 (dk_at dksJ5_newNode_0 14 rfl rfl)
theorem dJ5_newNode_15 : decode cJ5_newNode 15 = .ok (.aload 5, 2) := dk_25 5 (dk_at dksJ5_newNode_0 15 rfl rfl)
theorem dJ5_newNode_17 : decode cJ5_newNode 17 = .ok (.invokevirtual 32, 3) := dk_182 0 32 (dk_at dksJ5_newNode_0 17 rfl rfl)
theorem dJ5_newNode_20 : decode cJ5_newNode 20 = .ok (.aload 5, 2) := dk_25 5 (dk_at dksJ5_newNode_0 20 rfl rfl)
theorem dJ5_newNode_22 : decode cJ5_newNode 22 = .ok (.areturn, 1) := dk_176 (dk_at dksJ5_newNode_0 22 rfl rfl)
abbrev cJ5_linkNodeAtEnd : ByteArray := prog_65_method_1_code
def yJ5_linkNodeAtEnd : MethodName := ⟨RJ5, "linkNodeAtEnd", "(Ljava/util/LinkedHashMap$Entry;)V"⟩
def dkwJ5_linkNodeAtEnd_3 : List UInt8 := [181, 0, 14, 177]
abbrev dktJ5_linkNodeAtEnd_3 : List UInt8 := dkwJ5_linkNodeAtEnd_3 ++ []
def dkwJ5_linkNodeAtEnd_2 : List UInt8 := [42, 43, 181, 0, 11, 44, 199, 0, 11, 42, 43, 181, 0, 7, 167, 0, 13, 43, 44, 181, 0, 19, 44, 43]
abbrev dktJ5_linkNodeAtEnd_2 : List UInt8 := dkwJ5_linkNodeAtEnd_2 ++ dktJ5_linkNodeAtEnd_3
def dkwJ5_linkNodeAtEnd_1 : List UInt8 := [181, 0, 11, 167, 0, 13, 43, 44, 181, 0, 14, 44, 43, 181, 0, 19, 167, 0, 35, 42, 180, 0, 11, 77]
abbrev dktJ5_linkNodeAtEnd_1 : List UInt8 := dkwJ5_linkNodeAtEnd_1 ++ dktJ5_linkNodeAtEnd_2
def dkwJ5_linkNodeAtEnd_0 : List UInt8 := [42, 180, 0, 1, 4, 160, 0, 38, 42, 180, 0, 7, 77, 42, 43, 181, 0, 7, 44, 199, 0, 11, 42, 43]
abbrev dktJ5_linkNodeAtEnd_0 : List UInt8 := dkwJ5_linkNodeAtEnd_0 ++ dktJ5_linkNodeAtEnd_1
theorem dksJ5_linkNodeAtEnd_0 : cJ5_linkNodeAtEnd.data.toList.drop 0 = dktJ5_linkNodeAtEnd_0 := by decide +kernel
theorem dksJ5_linkNodeAtEnd_1 : cJ5_linkNodeAtEnd.data.toList.drop 24 = dktJ5_linkNodeAtEnd_1 := dk_seg dksJ5_linkNodeAtEnd_0 24 rfl rfl
theorem dksJ5_linkNodeAtEnd_2 : cJ5_linkNodeAtEnd.data.toList.drop 48 = dktJ5_linkNodeAtEnd_2 := dk_seg dksJ5_linkNodeAtEnd_1 24 rfl rfl
theorem dksJ5_linkNodeAtEnd_3 : cJ5_linkNodeAtEnd.data.toList.drop 72 = dktJ5_linkNodeAtEnd_3 := dk_seg dksJ5_linkNodeAtEnd_2 24 rfl rfl
theorem dJ5_linkNodeAtEnd_0 : decode cJ5_linkNodeAtEnd 0 = .ok (.aload_n 0, 1) := dk_42 (dk_at dksJ5_linkNodeAtEnd_0 0 rfl rfl)
theorem dJ5_linkNodeAtEnd_1 : decode cJ5_linkNodeAtEnd 1 = .ok (.getfield 1, 3) := dk_180 0 1 (dk_at dksJ5_linkNodeAtEnd_0 1 rfl rfl)
theorem dJ5_linkNodeAtEnd_4 : decode cJ5_linkNodeAtEnd 4 = .ok (.iconst 1, 1) := dk_4 (dk_at dksJ5_linkNodeAtEnd_0 4 rfl rfl)
theorem dJ5_linkNodeAtEnd_5 : decode cJ5_linkNodeAtEnd 5 = .ok (.if_icmp .ne 38, 3) := dk_160 0 38 (dk_at dksJ5_linkNodeAtEnd_0 5 rfl rfl)
theorem dJ5_linkNodeAtEnd_8 : decode cJ5_linkNodeAtEnd 8 = .ok (.aload_n 0, 1) := dk_42 (dk_at dksJ5_linkNodeAtEnd_0 8 rfl rfl)
theorem dJ5_linkNodeAtEnd_9 : decode cJ5_linkNodeAtEnd 9 = .ok (.getfield 7, 3) := dk_180 0 7 (dk_at dksJ5_linkNodeAtEnd_0 9 rfl rfl)
theorem dJ5_linkNodeAtEnd_12 : decode cJ5_linkNodeAtEnd 12 = .ok (.astore_n 2, 1) := dk_77 (dk_at dksJ5_linkNodeAtEnd_0 12 rfl rfl)
theorem dJ5_linkNodeAtEnd_13 : decode cJ5_linkNodeAtEnd 13 = .ok (.aload_n 0, 1) := dk_42 (dk_at dksJ5_linkNodeAtEnd_0 13 rfl rfl)
theorem dJ5_linkNodeAtEnd_14 : decode cJ5_linkNodeAtEnd 14 = .ok (.aload_n 1, 1) := dk_43 (dk_at dksJ5_linkNodeAtEnd_0 14 rfl rfl)
theorem dJ5_linkNodeAtEnd_15 : decode cJ5_linkNodeAtEnd 15 = .ok (.putfield 7, 3) := dk_181 0 7 (dk_at dksJ5_linkNodeAtEnd_0 15 rfl rfl)
theorem dJ5_linkNodeAtEnd_18 : decode cJ5_linkNodeAtEnd 18 = .ok (.aload_n 2, 1) := dk_44 (dk_at dksJ5_linkNodeAtEnd_0 18 rfl rfl)
theorem dJ5_linkNodeAtEnd_19 : decode cJ5_linkNodeAtEnd 19 = .ok (.ifnonnull 11, 3) := dk_199 0 11 (dk_at dksJ5_linkNodeAtEnd_0 19 rfl rfl)
theorem dJ5_linkNodeAtEnd_22 : decode cJ5_linkNodeAtEnd 22 = .ok (.aload_n 0, 1) := dk_42 (dk_at dksJ5_linkNodeAtEnd_0 22 rfl rfl)
theorem dJ5_linkNodeAtEnd_23 : decode cJ5_linkNodeAtEnd 23 = .ok (.aload_n 1, 1) := dk_43 (dk_at dksJ5_linkNodeAtEnd_0 23 rfl rfl)
theorem dJ5_linkNodeAtEnd_24 : decode cJ5_linkNodeAtEnd 24 = .ok (.putfield 11, 3) := dk_181 0 11 (dk_at dksJ5_linkNodeAtEnd_1 0 rfl rfl)
theorem dJ5_linkNodeAtEnd_27 : decode cJ5_linkNodeAtEnd 27 = .ok (.goto 13, 3) := dk_167 0 13 (dk_at dksJ5_linkNodeAtEnd_1 3 rfl rfl)
theorem dJ5_linkNodeAtEnd_30 : decode cJ5_linkNodeAtEnd 30 = .ok (.aload_n 1, 1) := dk_43 (dk_at dksJ5_linkNodeAtEnd_1 6 rfl rfl)
theorem dJ5_linkNodeAtEnd_31 : decode cJ5_linkNodeAtEnd 31 = .ok (.aload_n 2, 1) := dk_44 (dk_at dksJ5_linkNodeAtEnd_1 7 rfl rfl)
theorem dJ5_linkNodeAtEnd_32 : decode cJ5_linkNodeAtEnd 32 = .ok (.putfield 14, 3) := dk_181 0 14 (dk_at dksJ5_linkNodeAtEnd_1 8 rfl rfl)
theorem dJ5_linkNodeAtEnd_35 : decode cJ5_linkNodeAtEnd 35 = .ok (.aload_n 2, 1) := dk_44 (dk_at dksJ5_linkNodeAtEnd_1 11 rfl rfl)
theorem dJ5_linkNodeAtEnd_36 : decode cJ5_linkNodeAtEnd 36 = .ok (.aload_n 1, 1) := dk_43 (dk_at dksJ5_linkNodeAtEnd_1 12 rfl rfl)
theorem dJ5_linkNodeAtEnd_37 : decode cJ5_linkNodeAtEnd 37 = .ok (.putfield 19, 3) := dk_181 0 19 (dk_at dksJ5_linkNodeAtEnd_1 13 rfl rfl)
theorem dJ5_linkNodeAtEnd_40 : decode cJ5_linkNodeAtEnd 40 = .ok (.goto 35, 3) := dk_167 0 35 (dk_at dksJ5_linkNodeAtEnd_1 16 rfl rfl)
theorem dJ5_linkNodeAtEnd_43 : decode cJ5_linkNodeAtEnd 43 = .ok (.aload_n 0, 1) := dk_42 (dk_at dksJ5_linkNodeAtEnd_1 19 rfl rfl)
theorem dJ5_linkNodeAtEnd_44 : decode cJ5_linkNodeAtEnd 44 = .ok (.getfield 11, 3) := dk_180 0 11 (dk_at dksJ5_linkNodeAtEnd_1 20 rfl rfl)
theorem dJ5_linkNodeAtEnd_47 : decode cJ5_linkNodeAtEnd 47 = .ok (.astore_n 2, 1) := dk_77 (dk_at dksJ5_linkNodeAtEnd_1 23 rfl rfl)
theorem dJ5_linkNodeAtEnd_48 : decode cJ5_linkNodeAtEnd 48 = .ok (.aload_n 0, 1) := dk_42 (dk_at dksJ5_linkNodeAtEnd_2 0 rfl rfl)
theorem dJ5_linkNodeAtEnd_49 : decode cJ5_linkNodeAtEnd 49 = .ok (.aload_n 1, 1) := dk_43 (dk_at dksJ5_linkNodeAtEnd_2 1 rfl rfl)
theorem dJ5_linkNodeAtEnd_50 : decode cJ5_linkNodeAtEnd 50 = .ok (.putfield 11, 3) := dk_181 0 11 (dk_at dksJ5_linkNodeAtEnd_2 2 rfl rfl)
theorem dJ5_linkNodeAtEnd_53 : decode cJ5_linkNodeAtEnd 53 = .ok (.aload_n 2, 1) := dk_44 (dk_at dksJ5_linkNodeAtEnd_2 5 rfl rfl)
theorem dJ5_linkNodeAtEnd_54 : decode cJ5_linkNodeAtEnd 54 = .ok (.ifnonnull 11, 3) := dk_199 0 11 (dk_at dksJ5_linkNodeAtEnd_2 6 rfl rfl)
theorem dJ5_linkNodeAtEnd_57 : decode cJ5_linkNodeAtEnd 57 = .ok (.aload_n 0, 1) := dk_42 (dk_at dksJ5_linkNodeAtEnd_2 9 rfl rfl)
theorem dJ5_linkNodeAtEnd_58 : decode cJ5_linkNodeAtEnd 58 = .ok (.aload_n 1, 1) := dk_43 (dk_at dksJ5_linkNodeAtEnd_2 10 rfl rfl)
theorem dJ5_linkNodeAtEnd_59 : decode cJ5_linkNodeAtEnd 59 = .ok (.putfield 7, 3) := dk_181 0 7 (dk_at dksJ5_linkNodeAtEnd_2 11 rfl rfl)
theorem dJ5_linkNodeAtEnd_62 : decode cJ5_linkNodeAtEnd 62 = .ok (.goto 13, 3) := dk_167 0 13 (dk_at dksJ5_linkNodeAtEnd_2 14 rfl rfl)
theorem dJ5_linkNodeAtEnd_65 : decode cJ5_linkNodeAtEnd 65 = .ok (.aload_n 1, 1) := dk_43 (dk_at dksJ5_linkNodeAtEnd_2 17 rfl rfl)
theorem dJ5_linkNodeAtEnd_66 : decode cJ5_linkNodeAtEnd 66 = .ok (.aload_n 2, 1) := dk_44 (dk_at dksJ5_linkNodeAtEnd_2 18 rfl rfl)
theorem dJ5_linkNodeAtEnd_67 : decode cJ5_linkNodeAtEnd 67 = .ok (.putfield 19, 3) := dk_181 0 19 (dk_at dksJ5_linkNodeAtEnd_2 19 rfl rfl)
theorem dJ5_linkNodeAtEnd_70 : decode cJ5_linkNodeAtEnd 70 = .ok (.aload_n 2, 1) := dk_44 (dk_at dksJ5_linkNodeAtEnd_2 22 rfl rfl)
theorem dJ5_linkNodeAtEnd_71 : decode cJ5_linkNodeAtEnd 71 = .ok (.aload_n 1, 1) := dk_43 (dk_at dksJ5_linkNodeAtEnd_2 23 rfl rfl)
theorem dJ5_linkNodeAtEnd_72 : decode cJ5_linkNodeAtEnd 72 = .ok (.putfield 14, 3) := dk_181 0 14 (dk_at dksJ5_linkNodeAtEnd_3 0 rfl rfl)
theorem dJ5_linkNodeAtEnd_75 : decode cJ5_linkNodeAtEnd 75 = .ok (.return_, 1) := dk_177 (dk_at dksJ5_linkNodeAtEnd_3 3 rfl rfl)
abbrev cJ5_newTreeNode : ByteArray := prog_65_method_6_code
def yJ5_newTreeNode : MethodName := ⟨RJ5, "newTreeNode", "(ILjava/lang/Object;Ljava/lang/Object;Ljava/util/HashMap$Node;)Ljava/util/HashMap$TreeNode;"⟩
def dkwJ5_newTreeNode_0 : List UInt8 := [187, 0, 50, 89, 27, 44, 45, 25, 4, 183, 0, 52, 58, 5, 42, 25, 5, 182, 0, 32, 25, 5, 176]
abbrev dktJ5_newTreeNode_0 : List UInt8 := dkwJ5_newTreeNode_0 ++ []
theorem dksJ5_newTreeNode_0 : cJ5_newTreeNode.data.toList.drop 0 = dktJ5_newTreeNode_0 := by decide +kernel
theorem dJ5_newTreeNode_0 : decode cJ5_newTreeNode 0 = .ok (.new 50, 3) := dk_187 0 50 (dk_at dksJ5_newTreeNode_0 0 rfl rfl)
theorem dJ5_newTreeNode_3 : decode cJ5_newTreeNode 3 = .ok (.dup, 1) := dk_89 (dk_at dksJ5_newTreeNode_0 3 rfl rfl)
theorem dJ5_newTreeNode_4 : decode cJ5_newTreeNode 4 = .ok (.iload_n 1, 1) := dk_27 (dk_at dksJ5_newTreeNode_0 4 rfl rfl)
theorem dJ5_newTreeNode_5 : decode cJ5_newTreeNode 5 = .ok (.aload_n 2, 1) := dk_44 (dk_at dksJ5_newTreeNode_0 5 rfl rfl)
theorem dJ5_newTreeNode_6 : decode cJ5_newTreeNode 6 = .ok (.aload_n 3, 1) := dk_45 (dk_at dksJ5_newTreeNode_0 6 rfl rfl)
theorem dJ5_newTreeNode_7 : decode cJ5_newTreeNode 7 = .ok (.aload 4, 2) := dk_25 4 (dk_at dksJ5_newTreeNode_0 7 rfl rfl)
theorem dJ5_newTreeNode_9 : decode cJ5_newTreeNode 9 = .ok (.invokespecial 52, 3) := dk_183 0 52 (dk_at dksJ5_newTreeNode_0 9 rfl rfl)
theorem dJ5_newTreeNode_12 : decode cJ5_newTreeNode 12 = .ok (.astore 5, 2) := dk_58 5 (dk_at dksJ5_newTreeNode_0 12 rfl rfl)
theorem dJ5_newTreeNode_14 : decode cJ5_newTreeNode 14 = .ok (.aload_n 0, 1) := dk_42 (dk_at dksJ5_newTreeNode_0 14 rfl rfl)
theorem dJ5_newTreeNode_15 : decode cJ5_newTreeNode 15 = .ok (.aload 5, 2) := dk_25 5 (dk_at dksJ5_newTreeNode_0 15 rfl rfl)
theorem dJ5_newTreeNode_17 : decode cJ5_newTreeNode 17 = .ok (.invokevirtual 32, 3) := dk_182 0 32 (dk_at dksJ5_newTreeNode_0 17 rfl rfl)
theorem dJ5_newTreeNode_20 : decode cJ5_newTreeNode 20 = .ok (.aload 5, 2) := dk_25 5 (dk_at dksJ5_newTreeNode_0 20 rfl rfl)
theorem dJ5_newTreeNode_22 : decode cJ5_newTreeNode 22 = .ok (.areturn, 1) := dk_176 (dk_at dksJ5_newTreeNode_0 22 rfl rfl)
abbrev cJ5_replacementTreeNode : ByteArray := prog_65_method_7_code
def yJ5_replacementTreeNode : MethodName := ⟨RJ5, "replacementTreeNode", "(Ljava/util/HashMap$Node;Ljava/util/HashMap$Node;)Ljava/util/HashMap$TreeNode;"⟩
def dkwJ5_replacementTreeNode_1 : List UInt8 := [183, 0, 52, 58, 4, 42, 45, 25, 4, 182, 0, 46, 25, 4, 176]
abbrev dktJ5_replacementTreeNode_1 : List UInt8 := dkwJ5_replacementTreeNode_1 ++ []
def dkwJ5_replacementTreeNode_0 : List UInt8 := [43, 192, 0, 15, 78, 187, 0, 50, 89, 45, 180, 0, 36, 45, 180, 0, 39, 45, 180, 0, 43, 44]
abbrev dktJ5_replacementTreeNode_0 : List UInt8 := dkwJ5_replacementTreeNode_0 ++ dktJ5_replacementTreeNode_1
theorem dksJ5_replacementTreeNode_0 : cJ5_replacementTreeNode.data.toList.drop 0 = dktJ5_replacementTreeNode_0 := by decide +kernel
theorem dksJ5_replacementTreeNode_1 : cJ5_replacementTreeNode.data.toList.drop 22 = dktJ5_replacementTreeNode_1 := dk_seg dksJ5_replacementTreeNode_0 22 rfl rfl
theorem dJ5_replacementTreeNode_0 : decode cJ5_replacementTreeNode 0 = .ok (.aload_n 1, 1) := dk_43 (dk_at dksJ5_replacementTreeNode_0 0 rfl rfl)
theorem dJ5_replacementTreeNode_1 : decode cJ5_replacementTreeNode 1 = .ok (.checkcast 15, 3) := dk_192 0 15 (dk_at dksJ5_replacementTreeNode_0 1 rfl rfl)
theorem dJ5_replacementTreeNode_4 : decode cJ5_replacementTreeNode 4 = .ok (.astore_n 3, 1) := dk_78 (dk_at dksJ5_replacementTreeNode_0 4 rfl rfl)
theorem dJ5_replacementTreeNode_5 : decode cJ5_replacementTreeNode 5 = .ok (.new 50, 3) := dk_187 0 50 (dk_at dksJ5_replacementTreeNode_0 5 rfl rfl)
theorem dJ5_replacementTreeNode_8 : decode cJ5_replacementTreeNode 8 = .ok (.dup, 1) := dk_89 (dk_at dksJ5_replacementTreeNode_0 8 rfl rfl)
theorem dJ5_replacementTreeNode_9 : decode cJ5_replacementTreeNode 9 = .ok (.aload_n 3, 1) := dk_45 (dk_at dksJ5_replacementTreeNode_0 9 rfl rfl)
theorem dJ5_replacementTreeNode_10 : decode cJ5_replacementTreeNode 10 = .ok (.getfield 36, 3) := dk_180 0 36 (dk_at dksJ5_replacementTreeNode_0 10 rfl rfl)
theorem dJ5_replacementTreeNode_13 : decode cJ5_replacementTreeNode 13 = .ok (.aload_n 3, 1) := dk_45 (dk_at dksJ5_replacementTreeNode_0 13 rfl rfl)
theorem dJ5_replacementTreeNode_14 : decode cJ5_replacementTreeNode 14 = .ok (.getfield 39, 3) := dk_180 0 39 (dk_at dksJ5_replacementTreeNode_0 14 rfl rfl)
theorem dJ5_replacementTreeNode_17 : decode cJ5_replacementTreeNode 17 = .ok (.aload_n 3, 1) := dk_45 (dk_at dksJ5_replacementTreeNode_0 17 rfl rfl)
theorem dJ5_replacementTreeNode_18 : decode cJ5_replacementTreeNode 18 = .ok (.getfield 43, 3) := dk_180 0 43 (dk_at dksJ5_replacementTreeNode_0 18 rfl rfl)
theorem dJ5_replacementTreeNode_21 : decode cJ5_replacementTreeNode 21 = .ok (.aload_n 2, 1) := dk_44 (dk_at dksJ5_replacementTreeNode_0 21 rfl rfl)
theorem dJ5_replacementTreeNode_22 : decode cJ5_replacementTreeNode 22 = .ok (.invokespecial 52, 3) := dk_183 0 52 (dk_at dksJ5_replacementTreeNode_1 0 rfl rfl)
theorem dJ5_replacementTreeNode_25 : decode cJ5_replacementTreeNode 25 = .ok (.astore 4, 2) := dk_58 4 (dk_at dksJ5_replacementTreeNode_1 3 rfl rfl)
theorem dJ5_replacementTreeNode_27 : decode cJ5_replacementTreeNode 27 = .ok (.aload_n 0, 1) := dk_42 (dk_at dksJ5_replacementTreeNode_1 5 rfl rfl)
theorem dJ5_replacementTreeNode_28 : decode cJ5_replacementTreeNode 28 = .ok (.aload_n 3, 1) := dk_45 (dk_at dksJ5_replacementTreeNode_1 6 rfl rfl)
theorem dJ5_replacementTreeNode_29 : decode cJ5_replacementTreeNode 29 = .ok (.aload 4, 2) := dk_25 4 (dk_at dksJ5_replacementTreeNode_1 7 rfl rfl)
theorem dJ5_replacementTreeNode_31 : decode cJ5_replacementTreeNode 31 = .ok (.invokevirtual 46, 3) := dk_182 0 46 (dk_at dksJ5_replacementTreeNode_1 9 rfl rfl)
theorem dJ5_replacementTreeNode_34 : decode cJ5_replacementTreeNode 34 = .ok (.aload 4, 2) := dk_25 4 (dk_at dksJ5_replacementTreeNode_1 12 rfl rfl)
theorem dJ5_replacementTreeNode_36 : decode cJ5_replacementTreeNode 36 = .ok (.areturn, 1) := dk_176 (dk_at dksJ5_replacementTreeNode_1 14 rfl rfl)
abbrev cJ5_afterNodeAccess : ByteArray := prog_65_method_10_code
def yJ5_afterNodeAccess : MethodName := ⟨RJ5, "afterNodeAccess", "(Ljava/util/HashMap$Node;)V"⟩
def dkwJ5_afterNodeAccess_11 : List UInt8 := [181, 0, 7, 42, 89, 180, 0, 68, 4, 96, 181, 0, 68, 177]
abbrev dktJ5_afterNodeAccess_11 : List UInt8 := dkwJ5_afterNodeAccess_11 ++ []
def dkwJ5_afterNodeAccess_10 : List UInt8 := [25, 4, 181, 0, 11, 167, 0, 15, 25, 4, 45, 181, 0, 14, 45, 25, 4, 181, 0, 19, 42, 25, 4]
abbrev dktJ5_afterNodeAccess_10 : List UInt8 := dkwJ5_afterNodeAccess_10 ++ dktJ5_afterNodeAccess_11
def dkwJ5_afterNodeAccess_9 : List UInt8 := [25, 5, 198, 0, 13, 25, 5, 25, 6, 181, 0, 14, 167, 0, 6, 25, 6, 78, 45, 199, 0, 12, 42]
abbrev dktJ5_afterNodeAccess_9 : List UInt8 := dkwJ5_afterNodeAccess_9 ++ dktJ5_afterNodeAccess_10
def dkwJ5_afterNodeAccess_8 : List UInt8 := [181, 0, 19, 25, 6, 199, 0, 12, 42, 25, 5, 181, 0, 11, 167, 0, 10, 25, 6, 25, 5, 181, 0, 19]
abbrev dktJ5_afterNodeAccess_8 : List UInt8 := dkwJ5_afterNodeAccess_8 ++ dktJ5_afterNodeAccess_9
def dkwJ5_afterNodeAccess_7 : List UInt8 := [43, 192, 0, 15, 58, 4, 25, 4, 180, 0, 19, 58, 5, 25, 4, 180, 0, 14, 58, 6, 25, 4, 1]
abbrev dktJ5_afterNodeAccess_7 : List UInt8 := dkwJ5_afterNodeAccess_7 ++ dktJ5_afterNodeAccess_8
def dkwJ5_afterNodeAccess_6 : List UInt8 := [181, 0, 68, 167, 0, 127, 42, 180, 0, 1, 4, 160, 0, 119, 42, 180, 0, 7, 89, 78, 43, 165, 0, 109]
abbrev dktJ5_afterNodeAccess_6 : List UInt8 := dkwJ5_afterNodeAccess_6 ++ dktJ5_afterNodeAccess_7
def dkwJ5_afterNodeAccess_5 : List UInt8 := [181, 0, 19, 44, 25, 4, 181, 0, 14, 42, 25, 4, 181, 0, 11, 42, 89, 180, 0, 68, 4, 96]
abbrev dktJ5_afterNodeAccess_5 : List UInt8 := dkwJ5_afterNodeAccess_5 ++ dktJ5_afterNodeAccess_6
def dkwJ5_afterNodeAccess_4 : List UInt8 := [167, 0, 6, 25, 5, 77, 44, 199, 0, 12, 42, 25, 4, 181, 0, 7, 167, 0, 15, 25, 4, 44]
abbrev dktJ5_afterNodeAccess_4 : List UInt8 := dkwJ5_afterNodeAccess_4 ++ dktJ5_afterNodeAccess_5
def dkwJ5_afterNodeAccess_3 : List UInt8 := [167, 0, 10, 25, 5, 25, 6, 181, 0, 14, 25, 6, 198, 0, 13, 25, 6, 25, 5, 181, 0, 19]
abbrev dktJ5_afterNodeAccess_3 : List UInt8 := dkwJ5_afterNodeAccess_3 ++ dktJ5_afterNodeAccess_4
def dkwJ5_afterNodeAccess_2 : List UInt8 := [180, 0, 14, 58, 6, 25, 4, 1, 181, 0, 14, 25, 5, 199, 0, 12, 42, 25, 6, 181, 0, 7]
abbrev dktJ5_afterNodeAccess_2 : List UInt8 := dkwJ5_afterNodeAccess_2 ++ dktJ5_afterNodeAccess_3
def dkwJ5_afterNodeAccess_1 : List UInt8 := [180, 0, 11, 89, 77, 43, 165, 0, 112, 43, 192, 0, 15, 58, 4, 25, 4, 180, 0, 19, 58, 5, 25, 4]
abbrev dktJ5_afterNodeAccess_1 : List UInt8 := dkwJ5_afterNodeAccess_1 ++ dktJ5_afterNodeAccess_2
def dkwJ5_afterNodeAccess_0 : List UInt8 := [42, 180, 0, 1, 5, 159, 0, 17, 42, 180, 0, 1, 154, 0, 129, 42, 180, 0, 64, 153, 0, 122, 42]
abbrev dktJ5_afterNodeAccess_0 : List UInt8 := dkwJ5_afterNodeAccess_0 ++ dktJ5_afterNodeAccess_1
theorem dksJ5_afterNodeAccess_0 : cJ5_afterNodeAccess.data.toList.drop 0 = dktJ5_afterNodeAccess_0 := by decide +kernel
theorem dksJ5_afterNodeAccess_1 : cJ5_afterNodeAccess.data.toList.drop 23 = dktJ5_afterNodeAccess_1 := dk_seg dksJ5_afterNodeAccess_0 23 rfl rfl
theorem dksJ5_afterNodeAccess_2 : cJ5_afterNodeAccess.data.toList.drop 47 = dktJ5_afterNodeAccess_2 := dk_seg dksJ5_afterNodeAccess_1 24 rfl rfl
theorem dksJ5_afterNodeAccess_3 : cJ5_afterNodeAccess.data.toList.drop 69 = dktJ5_afterNodeAccess_3 := dk_seg dksJ5_afterNodeAccess_2 22 rfl rfl
theorem dksJ5_afterNodeAccess_4 : cJ5_afterNodeAccess.data.toList.drop 91 = dktJ5_afterNodeAccess_4 := dk_seg dksJ5_afterNodeAccess_3 22 rfl rfl
theorem dksJ5_afterNodeAccess_5 : cJ5_afterNodeAccess.data.toList.drop 113 = dktJ5_afterNodeAccess_5 := dk_seg dksJ5_afterNodeAccess_4 22 rfl rfl
theorem dksJ5_afterNodeAccess_6 : cJ5_afterNodeAccess.data.toList.drop 135 = dktJ5_afterNodeAccess_6 := dk_seg dksJ5_afterNodeAccess_5 22 rfl rfl
theorem dksJ5_afterNodeAccess_7 : cJ5_afterNodeAccess.data.toList.drop 159 = dktJ5_afterNodeAccess_7 := dk_seg dksJ5_afterNodeAccess_6 24 rfl rfl
theorem dksJ5_afterNodeAccess_8 : cJ5_afterNodeAccess.data.toList.drop 182 = dktJ5_afterNodeAccess_8 := dk_seg dksJ5_afterNodeAccess_7 23 rfl rfl
theorem dksJ5_afterNodeAccess_9 : cJ5_afterNodeAccess.data.toList.drop 206 = dktJ5_afterNodeAccess_9 := dk_seg dksJ5_afterNodeAccess_8 24 rfl rfl
theorem dksJ5_afterNodeAccess_10 : cJ5_afterNodeAccess.data.toList.drop 229 = dktJ5_afterNodeAccess_10 := dk_seg dksJ5_afterNodeAccess_9 23 rfl rfl
theorem dksJ5_afterNodeAccess_11 : cJ5_afterNodeAccess.data.toList.drop 252 = dktJ5_afterNodeAccess_11 := dk_seg dksJ5_afterNodeAccess_10 23 rfl rfl
theorem dJ5_afterNodeAccess_0 : decode cJ5_afterNodeAccess 0 = .ok (.aload_n 0, 1) := dk_42 (dk_at dksJ5_afterNodeAccess_0 0 rfl rfl)
theorem dJ5_afterNodeAccess_1 : decode cJ5_afterNodeAccess 1 = .ok (.getfield 1, 3) := dk_180 0 1 (dk_at dksJ5_afterNodeAccess_0 1 rfl rfl)
theorem dJ5_afterNodeAccess_4 : decode cJ5_afterNodeAccess 4 = .ok (.iconst 2, 1) := dk_5 (dk_at dksJ5_afterNodeAccess_0 4 rfl rfl)
theorem dJ5_afterNodeAccess_5 : decode cJ5_afterNodeAccess 5 = .ok (.if_icmp .eq 17, 3) := dk_159 0 17 (dk_at dksJ5_afterNodeAccess_0 5 rfl rfl)
theorem dJ5_afterNodeAccess_8 : decode cJ5_afterNodeAccess 8 = .ok (.aload_n 0, 1) := dk_42 (dk_at dksJ5_afterNodeAccess_0 8 rfl rfl)
theorem dJ5_afterNodeAccess_9 : decode cJ5_afterNodeAccess 9 = .ok (.getfield 1, 3) := dk_180 0 1 (dk_at dksJ5_afterNodeAccess_0 9 rfl rfl)
theorem dJ5_afterNodeAccess_12 : decode cJ5_afterNodeAccess 12 = .ok (.ifCond .ne 129, 3) := dk_154 0 129 (dk_at dksJ5_afterNodeAccess_0 12 rfl rfl)
theorem dJ5_afterNodeAccess_15 : decode cJ5_afterNodeAccess 15 = .ok (.aload_n 0, 1) := dk_42 (dk_at dksJ5_afterNodeAccess_0 15 rfl rfl)
theorem dJ5_afterNodeAccess_16 : decode cJ5_afterNodeAccess 16 = .ok (.getfield 64, 3) := dk_180 0 64 (dk_at dksJ5_afterNodeAccess_0 16 rfl rfl)
theorem dJ5_afterNodeAccess_19 : decode cJ5_afterNodeAccess 19 = .ok (.ifCond .eq 122, 3) := dk_153 0 122 (dk_at dksJ5_afterNodeAccess_0 19 rfl rfl)
theorem dJ5_afterNodeAccess_22 : decode cJ5_afterNodeAccess 22 = .ok (.aload_n 0, 1) := dk_42 (dk_at dksJ5_afterNodeAccess_0 22 rfl rfl)
theorem dJ5_afterNodeAccess_23 : decode cJ5_afterNodeAccess 23 = .ok (.getfield 11, 3) := dk_180 0 11 (dk_at dksJ5_afterNodeAccess_1 0 rfl rfl)
theorem dJ5_afterNodeAccess_26 : decode cJ5_afterNodeAccess 26 = .ok (.dup, 1) := dk_89 (dk_at dksJ5_afterNodeAccess_1 3 rfl rfl)
theorem dJ5_afterNodeAccess_27 : decode cJ5_afterNodeAccess 27 = .ok (.astore_n 2, 1) := dk_77 (dk_at dksJ5_afterNodeAccess_1 4 rfl rfl)
theorem dJ5_afterNodeAccess_28 : decode cJ5_afterNodeAccess 28 = .ok (.aload_n 1, 1) := dk_43 (dk_at dksJ5_afterNodeAccess_1 5 rfl rfl)
theorem dJ5_afterNodeAccess_29 : decode cJ5_afterNodeAccess 29 = .ok (.if_acmp .eq 112, 3) := dk_165 0 112 (dk_at dksJ5_afterNodeAccess_1 6 rfl rfl)
theorem dJ5_afterNodeAccess_32 : decode cJ5_afterNodeAccess 32 = .ok (.aload_n 1, 1) := dk_43 (dk_at dksJ5_afterNodeAccess_1 9 rfl rfl)
theorem dJ5_afterNodeAccess_33 : decode cJ5_afterNodeAccess 33 = .ok (.checkcast 15, 3) := dk_192 0 15 (dk_at dksJ5_afterNodeAccess_1 10 rfl rfl)
theorem dJ5_afterNodeAccess_36 : decode cJ5_afterNodeAccess 36 = .ok (.astore 4, 2) := dk_58 4 (dk_at dksJ5_afterNodeAccess_1 13 rfl rfl)
theorem dJ5_afterNodeAccess_38 : decode cJ5_afterNodeAccess 38 = .ok (.aload 4, 2) := dk_25 4 (dk_at dksJ5_afterNodeAccess_1 15 rfl rfl)
theorem dJ5_afterNodeAccess_40 : decode cJ5_afterNodeAccess 40 = .ok (.getfield 19, 3) := dk_180 0 19 (dk_at dksJ5_afterNodeAccess_1 17 rfl rfl)
theorem dJ5_afterNodeAccess_43 : decode cJ5_afterNodeAccess 43 = .ok (.astore 5, 2) := dk_58 5 (dk_at dksJ5_afterNodeAccess_1 20 rfl rfl)
theorem dJ5_afterNodeAccess_45 : decode cJ5_afterNodeAccess 45 = .ok (.aload 4, 2) := dk_25 4 (dk_at dksJ5_afterNodeAccess_1 22 rfl rfl)
theorem dJ5_afterNodeAccess_47 : decode cJ5_afterNodeAccess 47 = .ok (.getfield 14, 3) := dk_180 0 14 (dk_at dksJ5_afterNodeAccess_2 0 rfl rfl)
theorem dJ5_afterNodeAccess_50 : decode cJ5_afterNodeAccess 50 = .ok (.astore 6, 2) := dk_58 6 (dk_at dksJ5_afterNodeAccess_2 3 rfl rfl)
theorem dJ5_afterNodeAccess_52 : decode cJ5_afterNodeAccess 52 = .ok (.aload 4, 2) := dk_25 4 (dk_at dksJ5_afterNodeAccess_2 5 rfl rfl)
theorem dJ5_afterNodeAccess_54 : decode cJ5_afterNodeAccess 54 = .ok (.aconst_null, 1) := dk_1 (dk_at dksJ5_afterNodeAccess_2 7 rfl rfl)
theorem dJ5_afterNodeAccess_55 : decode cJ5_afterNodeAccess 55 = .ok (.putfield 14, 3) := dk_181 0 14 (dk_at dksJ5_afterNodeAccess_2 8 rfl rfl)
theorem dJ5_afterNodeAccess_58 : decode cJ5_afterNodeAccess 58 = .ok (.aload 5, 2) := dk_25 5 (dk_at dksJ5_afterNodeAccess_2 11 rfl rfl)
theorem dJ5_afterNodeAccess_60 : decode cJ5_afterNodeAccess 60 = .ok (.ifnonnull 12, 3) := dk_199 0 12 (dk_at dksJ5_afterNodeAccess_2 13 rfl rfl)
theorem dJ5_afterNodeAccess_63 : decode cJ5_afterNodeAccess 63 = .ok (.aload_n 0, 1) := dk_42 (dk_at dksJ5_afterNodeAccess_2 16 rfl rfl)
theorem dJ5_afterNodeAccess_64 : decode cJ5_afterNodeAccess 64 = .ok (.aload 6, 2) := dk_25 6 (dk_at dksJ5_afterNodeAccess_2 17 rfl rfl)
theorem dJ5_afterNodeAccess_66 : decode cJ5_afterNodeAccess 66 = .ok (.putfield 7, 3) := dk_181 0 7 (dk_at dksJ5_afterNodeAccess_2 19 rfl rfl)
theorem dJ5_afterNodeAccess_69 : decode cJ5_afterNodeAccess 69 = .ok (.goto 10, 3) := dk_167 0 10 (dk_at dksJ5_afterNodeAccess_3 0 rfl rfl)
theorem dJ5_afterNodeAccess_72 : decode cJ5_afterNodeAccess 72 = .ok (.aload 5, 2) := dk_25 5 (dk_at dksJ5_afterNodeAccess_3 3 rfl rfl)
theorem dJ5_afterNodeAccess_74 : decode cJ5_afterNodeAccess 74 = .ok (.aload 6, 2) := dk_25 6 (dk_at dksJ5_afterNodeAccess_3 5 rfl rfl)
theorem dJ5_afterNodeAccess_76 : decode cJ5_afterNodeAccess 76 = .ok (.putfield 14, 3) := dk_181 0 14 (dk_at dksJ5_afterNodeAccess_3 7 rfl rfl)
theorem dJ5_afterNodeAccess_79 : decode cJ5_afterNodeAccess 79 = .ok (.aload 6, 2) := dk_25 6 (dk_at dksJ5_afterNodeAccess_3 10 rfl rfl)
theorem dJ5_afterNodeAccess_81 : decode cJ5_afterNodeAccess 81 = .ok (.ifnull 13, 3) := dk_198 0 13 (dk_at dksJ5_afterNodeAccess_3 12 rfl rfl)
theorem dJ5_afterNodeAccess_84 : decode cJ5_afterNodeAccess 84 = .ok (.aload 6, 2) := dk_25 6 (dk_at dksJ5_afterNodeAccess_3 15 rfl rfl)
theorem dJ5_afterNodeAccess_86 : decode cJ5_afterNodeAccess 86 = .ok (.aload 5, 2) := dk_25 5 (dk_at dksJ5_afterNodeAccess_3 17 rfl rfl)
theorem dJ5_afterNodeAccess_88 : decode cJ5_afterNodeAccess 88 = .ok (.putfield 19, 3) := dk_181 0 19 (dk_at dksJ5_afterNodeAccess_3 19 rfl rfl)
theorem dJ5_afterNodeAccess_91 : decode cJ5_afterNodeAccess 91 = .ok (.goto 6, 3) := dk_167 0 6 (dk_at dksJ5_afterNodeAccess_4 0 rfl rfl)
theorem dJ5_afterNodeAccess_94 : decode cJ5_afterNodeAccess 94 = .ok (.aload 5, 2) := dk_25 5 (dk_at dksJ5_afterNodeAccess_4 3 rfl rfl)
theorem dJ5_afterNodeAccess_96 : decode cJ5_afterNodeAccess 96 = .ok (.astore_n 2, 1) := dk_77 (dk_at dksJ5_afterNodeAccess_4 5 rfl rfl)
theorem dJ5_afterNodeAccess_97 : decode cJ5_afterNodeAccess 97 = .ok (.aload_n 2, 1) := dk_44 (dk_at dksJ5_afterNodeAccess_4 6 rfl rfl)
theorem dJ5_afterNodeAccess_98 : decode cJ5_afterNodeAccess 98 = .ok (.ifnonnull 12, 3) := dk_199 0 12 (dk_at dksJ5_afterNodeAccess_4 7 rfl rfl)
theorem dJ5_afterNodeAccess_101 : decode cJ5_afterNodeAccess 101 = .ok (.aload_n 0, 1) := dk_42 (dk_at dksJ5_afterNodeAccess_4 10 rfl rfl)
theorem dJ5_afterNodeAccess_102 : decode cJ5_afterNodeAccess 102 = .ok (.aload 4, 2) := dk_25 4 (dk_at dksJ5_afterNodeAccess_4 11 rfl rfl)
theorem dJ5_afterNodeAccess_104 : decode cJ5_afterNodeAccess 104 = .ok (.putfield 7, 3) := dk_181 0 7 (dk_at dksJ5_afterNodeAccess_4 13 rfl rfl)
theorem dJ5_afterNodeAccess_107 : decode cJ5_afterNodeAccess 107 = .ok (.goto 15, 3) := dk_167 0 15 (dk_at dksJ5_afterNodeAccess_4 16 rfl rfl)
theorem dJ5_afterNodeAccess_110 : decode cJ5_afterNodeAccess 110 = .ok (.aload 4, 2) := dk_25 4 (dk_at dksJ5_afterNodeAccess_4 19 rfl rfl)
theorem dJ5_afterNodeAccess_112 : decode cJ5_afterNodeAccess 112 = .ok (.aload_n 2, 1) := dk_44 (dk_at dksJ5_afterNodeAccess_4 21 rfl rfl)
theorem dJ5_afterNodeAccess_113 : decode cJ5_afterNodeAccess 113 = .ok (.putfield 19, 3) := dk_181 0 19 (dk_at dksJ5_afterNodeAccess_5 0 rfl rfl)
theorem dJ5_afterNodeAccess_116 : decode cJ5_afterNodeAccess 116 = .ok (.aload_n 2, 1) := dk_44 (dk_at dksJ5_afterNodeAccess_5 3 rfl rfl)
theorem dJ5_afterNodeAccess_117 : decode cJ5_afterNodeAccess 117 = .ok (.aload 4, 2) := dk_25 4 (dk_at dksJ5_afterNodeAccess_5 4 rfl rfl)
theorem dJ5_afterNodeAccess_119 : decode cJ5_afterNodeAccess 119 = .ok (.putfield 14, 3) := dk_181 0 14 (dk_at dksJ5_afterNodeAccess_5 6 rfl rfl)
theorem dJ5_afterNodeAccess_122 : decode cJ5_afterNodeAccess 122 = .ok (.aload_n 0, 1) := dk_42 (dk_at dksJ5_afterNodeAccess_5 9 rfl rfl)
theorem dJ5_afterNodeAccess_123 : decode cJ5_afterNodeAccess 123 = .ok (.aload 4, 2) := dk_25 4 (dk_at dksJ5_afterNodeAccess_5 10 rfl rfl)
theorem dJ5_afterNodeAccess_125 : decode cJ5_afterNodeAccess 125 = .ok (.putfield 11, 3) := dk_181 0 11 (dk_at dksJ5_afterNodeAccess_5 12 rfl rfl)
theorem dJ5_afterNodeAccess_128 : decode cJ5_afterNodeAccess 128 = .ok (.aload_n 0, 1) := dk_42 (dk_at dksJ5_afterNodeAccess_5 15 rfl rfl)
theorem dJ5_afterNodeAccess_129 : decode cJ5_afterNodeAccess 129 = .ok (.dup, 1) := dk_89 (dk_at dksJ5_afterNodeAccess_5 16 rfl rfl)
theorem dJ5_afterNodeAccess_130 : decode cJ5_afterNodeAccess 130 = .ok (.getfield 68, 3) := dk_180 0 68 (dk_at dksJ5_afterNodeAccess_5 17 rfl rfl)
theorem dJ5_afterNodeAccess_133 : decode cJ5_afterNodeAccess 133 = .ok (.iconst 1, 1) := dk_4 (dk_at dksJ5_afterNodeAccess_5 20 rfl rfl)
theorem dJ5_afterNodeAccess_134 : decode cJ5_afterNodeAccess 134 = .ok (.iadd, 1) := dk_96 (dk_at dksJ5_afterNodeAccess_5 21 rfl rfl)
theorem dJ5_afterNodeAccess_135 : decode cJ5_afterNodeAccess 135 = .ok (.putfield 68, 3) := dk_181 0 68 (dk_at dksJ5_afterNodeAccess_6 0 rfl rfl)
theorem dJ5_afterNodeAccess_138 : decode cJ5_afterNodeAccess 138 = .ok (.goto 127, 3) := dk_167 0 127 (dk_at dksJ5_afterNodeAccess_6 3 rfl rfl)
theorem dJ5_afterNodeAccess_141 : decode cJ5_afterNodeAccess 141 = .ok (.aload_n 0, 1) := dk_42 (dk_at dksJ5_afterNodeAccess_6 6 rfl rfl)
theorem dJ5_afterNodeAccess_142 : decode cJ5_afterNodeAccess 142 = .ok (.getfield 1, 3) := dk_180 0 1 (dk_at dksJ5_afterNodeAccess_6 7 rfl rfl)
theorem dJ5_afterNodeAccess_145 : decode cJ5_afterNodeAccess 145 = .ok (.iconst 1, 1) := dk_4 (dk_at dksJ5_afterNodeAccess_6 10 rfl rfl)
theorem dJ5_afterNodeAccess_146 : decode cJ5_afterNodeAccess 146 = .ok (.if_icmp .ne 119, 3) := dk_160 0 119 (dk_at dksJ5_afterNodeAccess_6 11 rfl rfl)
theorem dJ5_afterNodeAccess_149 : decode cJ5_afterNodeAccess 149 = .ok (.aload_n 0, 1) := dk_42 (dk_at dksJ5_afterNodeAccess_6 14 rfl rfl)
theorem dJ5_afterNodeAccess_150 : decode cJ5_afterNodeAccess 150 = .ok (.getfield 7, 3) := dk_180 0 7 (dk_at dksJ5_afterNodeAccess_6 15 rfl rfl)
theorem dJ5_afterNodeAccess_153 : decode cJ5_afterNodeAccess 153 = .ok (.dup, 1) := dk_89 (dk_at dksJ5_afterNodeAccess_6 18 rfl rfl)
theorem dJ5_afterNodeAccess_154 : decode cJ5_afterNodeAccess 154 = .ok (.astore_n 3, 1) := dk_78 (dk_at dksJ5_afterNodeAccess_6 19 rfl rfl)
theorem dJ5_afterNodeAccess_155 : decode cJ5_afterNodeAccess 155 = .ok (.aload_n 1, 1) := dk_43 (dk_at dksJ5_afterNodeAccess_6 20 rfl rfl)
theorem dJ5_afterNodeAccess_156 : decode cJ5_afterNodeAccess 156 = .ok (.if_acmp .eq 109, 3) := dk_165 0 109 (dk_at dksJ5_afterNodeAccess_6 21 rfl rfl)
theorem dJ5_afterNodeAccess_159 : decode cJ5_afterNodeAccess 159 = .ok (.aload_n 1, 1) := dk_43 (dk_at dksJ5_afterNodeAccess_7 0 rfl rfl)
theorem dJ5_afterNodeAccess_160 : decode cJ5_afterNodeAccess 160 = .ok (.checkcast 15, 3) := dk_192 0 15 (dk_at dksJ5_afterNodeAccess_7 1 rfl rfl)
theorem dJ5_afterNodeAccess_163 : decode cJ5_afterNodeAccess 163 = .ok (.astore 4, 2) := dk_58 4 (dk_at dksJ5_afterNodeAccess_7 4 rfl rfl)
theorem dJ5_afterNodeAccess_165 : decode cJ5_afterNodeAccess 165 = .ok (.aload 4, 2) := dk_25 4 (dk_at dksJ5_afterNodeAccess_7 6 rfl rfl)
theorem dJ5_afterNodeAccess_167 : decode cJ5_afterNodeAccess 167 = .ok (.getfield 19, 3) := dk_180 0 19 (dk_at dksJ5_afterNodeAccess_7 8 rfl rfl)
theorem dJ5_afterNodeAccess_170 : decode cJ5_afterNodeAccess 170 = .ok (.astore 5, 2) := dk_58 5 (dk_at dksJ5_afterNodeAccess_7 11 rfl rfl)
theorem dJ5_afterNodeAccess_172 : decode cJ5_afterNodeAccess 172 = .ok (.aload 4, 2) := dk_25 4 (dk_at dksJ5_afterNodeAccess_7 13 rfl rfl)
theorem dJ5_afterNodeAccess_174 : decode cJ5_afterNodeAccess 174 = .ok (.getfield 14, 3) := dk_180 0 14 (dk_at dksJ5_afterNodeAccess_7 15 rfl rfl)
theorem dJ5_afterNodeAccess_177 : decode cJ5_afterNodeAccess 177 = .ok (.astore 6, 2) := dk_58 6 (dk_at dksJ5_afterNodeAccess_7 18 rfl rfl)
theorem dJ5_afterNodeAccess_179 : decode cJ5_afterNodeAccess 179 = .ok (.aload 4, 2) := dk_25 4 (dk_at dksJ5_afterNodeAccess_7 20 rfl rfl)
theorem dJ5_afterNodeAccess_181 : decode cJ5_afterNodeAccess 181 = .ok (.aconst_null, 1) := dk_1 (dk_at dksJ5_afterNodeAccess_7 22 rfl rfl)
theorem dJ5_afterNodeAccess_182 : decode cJ5_afterNodeAccess 182 = .ok (.putfield 19, 3) := dk_181 0 19 (dk_at dksJ5_afterNodeAccess_8 0 rfl rfl)
theorem dJ5_afterNodeAccess_185 : decode cJ5_afterNodeAccess 185 = .ok (.aload 6, 2) := dk_25 6 (dk_at dksJ5_afterNodeAccess_8 3 rfl rfl)
theorem dJ5_afterNodeAccess_187 : decode cJ5_afterNodeAccess 187 = .ok (.ifnonnull 12, 3) := dk_199 0 12 (dk_at dksJ5_afterNodeAccess_8 5 rfl rfl)
theorem dJ5_afterNodeAccess_190 : decode cJ5_afterNodeAccess 190 = .ok (.aload_n 0, 1) := dk_42 (dk_at dksJ5_afterNodeAccess_8 8 rfl rfl)
theorem dJ5_afterNodeAccess_191 : decode cJ5_afterNodeAccess 191 = .ok (.aload 5, 2) := dk_25 5 (dk_at dksJ5_afterNodeAccess_8 9 rfl rfl)
theorem dJ5_afterNodeAccess_193 : decode cJ5_afterNodeAccess 193 = .ok (.putfield 11, 3) := dk_181 0 11 (dk_at dksJ5_afterNodeAccess_8 11 rfl rfl)
theorem dJ5_afterNodeAccess_196 : decode cJ5_afterNodeAccess 196 = .ok (.goto 10, 3) := dk_167 0 10 (dk_at dksJ5_afterNodeAccess_8 14 rfl rfl)
theorem dJ5_afterNodeAccess_199 : decode cJ5_afterNodeAccess 199 = .ok (.aload 6, 2) := dk_25 6 (dk_at dksJ5_afterNodeAccess_8 17 rfl rfl)
theorem dJ5_afterNodeAccess_201 : decode cJ5_afterNodeAccess 201 = .ok (.aload 5, 2) := dk_25 5 (dk_at dksJ5_afterNodeAccess_8 19 rfl rfl)
theorem dJ5_afterNodeAccess_203 : decode cJ5_afterNodeAccess 203 = .ok (.putfield 19, 3) := dk_181 0 19 (dk_at dksJ5_afterNodeAccess_8 21 rfl rfl)
theorem dJ5_afterNodeAccess_206 : decode cJ5_afterNodeAccess 206 = .ok (.aload 5, 2) := dk_25 5 (dk_at dksJ5_afterNodeAccess_9 0 rfl rfl)
theorem dJ5_afterNodeAccess_208 : decode cJ5_afterNodeAccess 208 = .ok (.ifnull 13, 3) := dk_198 0 13 (dk_at dksJ5_afterNodeAccess_9 2 rfl rfl)
theorem dJ5_afterNodeAccess_211 : decode cJ5_afterNodeAccess 211 = .ok (.aload 5, 2) := dk_25 5 (dk_at dksJ5_afterNodeAccess_9 5 rfl rfl)
theorem dJ5_afterNodeAccess_213 : decode cJ5_afterNodeAccess 213 = .ok (.aload 6, 2) := dk_25 6 (dk_at dksJ5_afterNodeAccess_9 7 rfl rfl)
theorem dJ5_afterNodeAccess_215 : decode cJ5_afterNodeAccess 215 = .ok (.putfield 14, 3) := dk_181 0 14 (dk_at dksJ5_afterNodeAccess_9 9 rfl rfl)
theorem dJ5_afterNodeAccess_218 : decode cJ5_afterNodeAccess 218 = .ok (.goto 6, 3) := dk_167 0 6 (dk_at dksJ5_afterNodeAccess_9 12 rfl rfl)
theorem dJ5_afterNodeAccess_221 : decode cJ5_afterNodeAccess 221 = .ok (.aload 6, 2) := dk_25 6 (dk_at dksJ5_afterNodeAccess_9 15 rfl rfl)
theorem dJ5_afterNodeAccess_223 : decode cJ5_afterNodeAccess 223 = .ok (.astore_n 3, 1) := dk_78 (dk_at dksJ5_afterNodeAccess_9 17 rfl rfl)
theorem dJ5_afterNodeAccess_224 : decode cJ5_afterNodeAccess 224 = .ok (.aload_n 3, 1) := dk_45 (dk_at dksJ5_afterNodeAccess_9 18 rfl rfl)
theorem dJ5_afterNodeAccess_225 : decode cJ5_afterNodeAccess 225 = .ok (.ifnonnull 12, 3) := dk_199 0 12 (dk_at dksJ5_afterNodeAccess_9 19 rfl rfl)
theorem dJ5_afterNodeAccess_228 : decode cJ5_afterNodeAccess 228 = .ok (.aload_n 0, 1) := dk_42 (dk_at dksJ5_afterNodeAccess_9 22 rfl rfl)
theorem dJ5_afterNodeAccess_229 : decode cJ5_afterNodeAccess 229 = .ok (.aload 4, 2) := dk_25 4 (dk_at dksJ5_afterNodeAccess_10 0 rfl rfl)
theorem dJ5_afterNodeAccess_231 : decode cJ5_afterNodeAccess 231 = .ok (.putfield 11, 3) := dk_181 0 11 (dk_at dksJ5_afterNodeAccess_10 2 rfl rfl)
theorem dJ5_afterNodeAccess_234 : decode cJ5_afterNodeAccess 234 = .ok (.goto 15, 3) := dk_167 0 15 (dk_at dksJ5_afterNodeAccess_10 5 rfl rfl)
theorem dJ5_afterNodeAccess_237 : decode cJ5_afterNodeAccess 237 = .ok (.aload 4, 2) := dk_25 4 (dk_at dksJ5_afterNodeAccess_10 8 rfl rfl)
theorem dJ5_afterNodeAccess_239 : decode cJ5_afterNodeAccess 239 = .ok (.aload_n 3, 1) := dk_45 (dk_at dksJ5_afterNodeAccess_10 10 rfl rfl)
theorem dJ5_afterNodeAccess_240 : decode cJ5_afterNodeAccess 240 = .ok (.putfield 14, 3) := dk_181 0 14 (dk_at dksJ5_afterNodeAccess_10 11 rfl rfl)
theorem dJ5_afterNodeAccess_243 : decode cJ5_afterNodeAccess 243 = .ok (.aload_n 3, 1) := dk_45 (dk_at dksJ5_afterNodeAccess_10 14 rfl rfl)
theorem dJ5_afterNodeAccess_244 : decode cJ5_afterNodeAccess 244 = .ok (.aload 4, 2) := dk_25 4 (dk_at dksJ5_afterNodeAccess_10 15 rfl rfl)
theorem dJ5_afterNodeAccess_246 : decode cJ5_afterNodeAccess 246 = .ok (.putfield 19, 3) := dk_181 0 19 (dk_at dksJ5_afterNodeAccess_10 17 rfl rfl)
theorem dJ5_afterNodeAccess_249 : decode cJ5_afterNodeAccess 249 = .ok (.aload_n 0, 1) := dk_42 (dk_at dksJ5_afterNodeAccess_10 20 rfl rfl)
theorem dJ5_afterNodeAccess_250 : decode cJ5_afterNodeAccess 250 = .ok (.aload 4, 2) := dk_25 4 (dk_at dksJ5_afterNodeAccess_10 21 rfl rfl)
theorem dJ5_afterNodeAccess_252 : decode cJ5_afterNodeAccess 252 = .ok (.putfield 7, 3) := dk_181 0 7 (dk_at dksJ5_afterNodeAccess_11 0 rfl rfl)
theorem dJ5_afterNodeAccess_255 : decode cJ5_afterNodeAccess 255 = .ok (.aload_n 0, 1) := dk_42 (dk_at dksJ5_afterNodeAccess_11 3 rfl rfl)
theorem dJ5_afterNodeAccess_256 : decode cJ5_afterNodeAccess 256 = .ok (.dup, 1) := dk_89 (dk_at dksJ5_afterNodeAccess_11 4 rfl rfl)
theorem dJ5_afterNodeAccess_257 : decode cJ5_afterNodeAccess 257 = .ok (.getfield 68, 3) := dk_180 0 68 (dk_at dksJ5_afterNodeAccess_11 5 rfl rfl)
theorem dJ5_afterNodeAccess_260 : decode cJ5_afterNodeAccess 260 = .ok (.iconst 1, 1) := dk_4 (dk_at dksJ5_afterNodeAccess_11 8 rfl rfl)
theorem dJ5_afterNodeAccess_261 : decode cJ5_afterNodeAccess 261 = .ok (.iadd, 1) := dk_96 (dk_at dksJ5_afterNodeAccess_11 9 rfl rfl)
theorem dJ5_afterNodeAccess_262 : decode cJ5_afterNodeAccess 262 = .ok (.putfield 68, 3) := dk_181 0 68 (dk_at dksJ5_afterNodeAccess_11 10 rfl rfl)
theorem dJ5_afterNodeAccess_265 : decode cJ5_afterNodeAccess 265 = .ok (.return_, 1) := dk_177 (dk_at dksJ5_afterNodeAccess_11 13 rfl rfl)
abbrev cJ5_afterNodeInsertion : ByteArray := prog_65_method_9_code
def yJ5_afterNodeInsertion : MethodName := ⟨RJ5, "afterNodeInsertion", "(Z)V"⟩
def dkwJ5_afterNodeInsertion_1 : List UInt8 := [180, 0, 39, 78, 42, 45, 184, 0, 57, 45, 1, 3, 4, 182, 0, 60, 87, 177]
abbrev dktJ5_afterNodeInsertion_1 : List UInt8 := dkwJ5_afterNodeInsertion_1 ++ []
def dkwJ5_afterNodeInsertion_0 : List UInt8 := [27, 153, 0, 38, 42, 180, 0, 7, 89, 77, 198, 0, 29, 42, 44, 182, 0, 53, 153, 0, 21, 44]
abbrev dktJ5_afterNodeInsertion_0 : List UInt8 := dkwJ5_afterNodeInsertion_0 ++ dktJ5_afterNodeInsertion_1
theorem dksJ5_afterNodeInsertion_0 : cJ5_afterNodeInsertion.data.toList.drop 0 = dktJ5_afterNodeInsertion_0 := by decide +kernel
theorem dksJ5_afterNodeInsertion_1 : cJ5_afterNodeInsertion.data.toList.drop 22 = dktJ5_afterNodeInsertion_1 := dk_seg dksJ5_afterNodeInsertion_0 22 rfl rfl
theorem dJ5_afterNodeInsertion_0 : decode cJ5_afterNodeInsertion 0 = .ok (.iload_n 1, 1) := dk_27 (dk_at dksJ5_afterNodeInsertion_0 0 rfl rfl)
theorem dJ5_afterNodeInsertion_1 : decode cJ5_afterNodeInsertion 1 = .ok (.ifCond .eq 38, 3) := dk_153 0 38 (dk_at dksJ5_afterNodeInsertion_0 1 rfl rfl)
theorem dJ5_afterNodeInsertion_4 : decode cJ5_afterNodeInsertion 4 = .ok (.aload_n 0, 1) := dk_42 (dk_at dksJ5_afterNodeInsertion_0 4 rfl rfl)
theorem dJ5_afterNodeInsertion_5 : decode cJ5_afterNodeInsertion 5 = .ok (.getfield 7, 3) := dk_180 0 7 (dk_at dksJ5_afterNodeInsertion_0 5 rfl rfl)
theorem dJ5_afterNodeInsertion_8 : decode cJ5_afterNodeInsertion 8 = .ok (.dup, 1) := dk_89 (dk_at dksJ5_afterNodeInsertion_0 8 rfl rfl)
theorem dJ5_afterNodeInsertion_9 : decode cJ5_afterNodeInsertion 9 = .ok (.astore_n 2, 1) := dk_77 (dk_at dksJ5_afterNodeInsertion_0 9 rfl rfl)
theorem dJ5_afterNodeInsertion_10 : decode cJ5_afterNodeInsertion 10 = .ok (.ifnull 29, 3) := dk_198 0 29 (dk_at dksJ5_afterNodeInsertion_0 10 rfl rfl)
theorem dJ5_afterNodeInsertion_13 : decode cJ5_afterNodeInsertion 13 = .ok (.aload_n 0, 1) := dk_42 (dk_at dksJ5_afterNodeInsertion_0 13 rfl rfl)
theorem dJ5_afterNodeInsertion_14 : decode cJ5_afterNodeInsertion 14 = .ok (.aload_n 2, 1) := dk_44 (dk_at dksJ5_afterNodeInsertion_0 14 rfl rfl)
theorem dJ5_afterNodeInsertion_15 : decode cJ5_afterNodeInsertion 15 = .ok (.invokevirtual 53, 3) := dk_182 0 53 (dk_at dksJ5_afterNodeInsertion_0 15 rfl rfl)
theorem dJ5_afterNodeInsertion_18 : decode cJ5_afterNodeInsertion 18 = .ok (.ifCond .eq 21, 3) := dk_153 0 21 (dk_at dksJ5_afterNodeInsertion_0 18 rfl rfl)
theorem dJ5_afterNodeInsertion_21 : decode cJ5_afterNodeInsertion 21 = .ok (.aload_n 2, 1) := dk_44 (dk_at dksJ5_afterNodeInsertion_0 21 rfl rfl)
theorem dJ5_afterNodeInsertion_22 : decode cJ5_afterNodeInsertion 22 = .ok (.getfield 39, 3) := dk_180 0 39 (dk_at dksJ5_afterNodeInsertion_1 0 rfl rfl)
theorem dJ5_afterNodeInsertion_25 : decode cJ5_afterNodeInsertion 25 = .ok (.astore_n 3, 1) := dk_78 (dk_at dksJ5_afterNodeInsertion_1 3 rfl rfl)
theorem dJ5_afterNodeInsertion_26 : decode cJ5_afterNodeInsertion 26 = .ok (.aload_n 0, 1) := dk_42 (dk_at dksJ5_afterNodeInsertion_1 4 rfl rfl)
theorem dJ5_afterNodeInsertion_27 : decode cJ5_afterNodeInsertion 27 = .ok (.aload_n 3, 1) := dk_45 (dk_at dksJ5_afterNodeInsertion_1 5 rfl rfl)
theorem dJ5_afterNodeInsertion_28 : decode cJ5_afterNodeInsertion 28 = .ok (.invokestatic 57, 3) := dk_184 0 57 (dk_at dksJ5_afterNodeInsertion_1 6 rfl rfl)
theorem dJ5_afterNodeInsertion_31 : decode cJ5_afterNodeInsertion 31 = .ok (.aload_n 3, 1) := dk_45 (dk_at dksJ5_afterNodeInsertion_1 9 rfl rfl)
theorem dJ5_afterNodeInsertion_32 : decode cJ5_afterNodeInsertion 32 = .ok (.aconst_null, 1) := dk_1 (dk_at dksJ5_afterNodeInsertion_1 10 rfl rfl)
theorem dJ5_afterNodeInsertion_33 : decode cJ5_afterNodeInsertion 33 = .ok (.iconst 0, 1) := dk_3 (dk_at dksJ5_afterNodeInsertion_1 11 rfl rfl)
theorem dJ5_afterNodeInsertion_34 : decode cJ5_afterNodeInsertion 34 = .ok (.iconst 1, 1) := dk_4 (dk_at dksJ5_afterNodeInsertion_1 12 rfl rfl)
theorem dJ5_afterNodeInsertion_35 : decode cJ5_afterNodeInsertion 35 = .ok (.invokevirtual 60, 3) := dk_182 0 60 (dk_at dksJ5_afterNodeInsertion_1 13 rfl rfl)
theorem dJ5_afterNodeInsertion_38 : decode cJ5_afterNodeInsertion 38 = .ok (.pop, 1) := dk_87 (dk_at dksJ5_afterNodeInsertion_1 16 rfl rfl)
theorem dJ5_afterNodeInsertion_39 : decode cJ5_afterNodeInsertion 39 = .ok (.return_, 1) := dk_177 (dk_at dksJ5_afterNodeInsertion_1 17 rfl rfl)
abbrev cJ5_removeEldestEntry : ByteArray := prog_65_method_23_code
def yJ5_removeEldestEntry : MethodName := ⟨RJ5, "removeEldestEntry", "(Ljava/util/Map$Entry;)Z"⟩
theorem dJ5_removeEldestEntry_0 : decode cJ5_removeEldestEntry 0 = .ok (.iconst 0, 1) := by decide +kernel
theorem dJ5_removeEldestEntry_1 : decode cJ5_removeEldestEntry 1 = .ok (.ireturn, 1) := by decide +kernel
abbrev cJ5_get : ByteArray := prog_65_method_20_code
def yJ5_get : MethodName := ⟨RJ5, "get", "(Ljava/lang/Object;)Ljava/lang/Object;"⟩
def dkwJ5_get_1 : List UInt8 := [44, 180, 0, 107, 176]
abbrev dktJ5_get_1 : List UInt8 := dkwJ5_get_1 ++ []
def dkwJ5_get_0 : List UInt8 := [42, 43, 182, 0, 99, 89, 77, 199, 0, 5, 1, 176, 42, 180, 0, 64, 153, 0, 8, 42, 44, 182, 0, 103]
abbrev dktJ5_get_0 : List UInt8 := dkwJ5_get_0 ++ dktJ5_get_1
theorem dksJ5_get_0 : cJ5_get.data.toList.drop 0 = dktJ5_get_0 := by decide +kernel
theorem dksJ5_get_1 : cJ5_get.data.toList.drop 24 = dktJ5_get_1 := dk_seg dksJ5_get_0 24 rfl rfl
theorem dJ5_get_0 : decode cJ5_get 0 = .ok (.aload_n 0, 1) := dk_42 (dk_at dksJ5_get_0 0 rfl rfl)
theorem dJ5_get_1 : decode cJ5_get 1 = .ok (.aload_n 1, 1) := dk_43 (dk_at dksJ5_get_0 1 rfl rfl)
theorem dJ5_get_2 : decode cJ5_get 2 = .ok (.invokevirtual 99, 3) := dk_182 0 99 (dk_at dksJ5_get_0 2 rfl rfl)
theorem dJ5_get_5 : decode cJ5_get 5 = .ok (.dup, 1) := dk_89 (dk_at dksJ5_get_0 5 rfl rfl)
theorem dJ5_get_6 : decode cJ5_get 6 = .ok (.astore_n 2, 1) := dk_77 (dk_at dksJ5_get_0 6 rfl rfl)
theorem dJ5_get_7 : decode cJ5_get 7 = .ok (.ifnonnull 5, 3) := dk_199 0 5 (dk_at dksJ5_get_0 7 rfl rfl)
theorem dJ5_get_10 : decode cJ5_get 10 = .ok (.aconst_null, 1) := dk_1 (dk_at dksJ5_get_0 10 rfl rfl)
theorem dJ5_get_11 : decode cJ5_get 11 = .ok (.areturn, 1) := dk_176 (dk_at dksJ5_get_0 11 rfl rfl)
theorem dJ5_get_12 : decode cJ5_get 12 = .ok (.aload_n 0, 1) := dk_42 (dk_at dksJ5_get_0 12 rfl rfl)
theorem dJ5_get_13 : decode cJ5_get 13 = .ok (.getfield 64, 3) := dk_180 0 64 (dk_at dksJ5_get_0 13 rfl rfl)
theorem dJ5_get_16 : decode cJ5_get 16 = .ok (.ifCond .eq 8, 3) := dk_153 0 8 (dk_at dksJ5_get_0 16 rfl rfl)
theorem dJ5_get_19 : decode cJ5_get 19 = .ok (.aload_n 0, 1) := dk_42 (dk_at dksJ5_get_0 19 rfl rfl)
theorem dJ5_get_20 : decode cJ5_get 20 = .ok (.aload_n 2, 1) := dk_44 (dk_at dksJ5_get_0 20 rfl rfl)
theorem dJ5_get_21 : decode cJ5_get 21 = .ok (.invokevirtual 103, 3) := dk_182 0 103 (dk_at dksJ5_get_0 21 rfl rfl)
theorem dJ5_get_24 : decode cJ5_get 24 = .ok (.aload_n 2, 1) := dk_44 (dk_at dksJ5_get_1 0 rfl rfl)
theorem dJ5_get_25 : decode cJ5_get 25 = .ok (.getfield 107, 3) := dk_180 0 107 (dk_at dksJ5_get_1 1 rfl rfl)
theorem dJ5_get_28 : decode cJ5_get 28 = .ok (.areturn, 1) := dk_176 (dk_at dksJ5_get_1 4 rfl rfl)
theorem q55 : (Jvm.Cond.initialized "java/util/LinkedHashMap") ∈ lw_all := lw_g (lw_at lw_m1 7 rfl) rfl
theorem q151 : (Jvm.Cond.instantiable "java/util/LinkedHashMap" (12 : Nat)) ∈ lw_all := lw_g (lw_at lw_m1 103 rfl) rfl
theorem q153 : (Jvm.Cond.instanceMethod ({ cls := "java/util/LinkedHashMap", name := "<init>", desc := "()V" } : Jvm.MethodName)) ∈ lw_all := lw_g (lw_at lw_m1 105 rfl) rfl
theorem q154 : (Jvm.Cond.code ({ cls := "java/util/LinkedHashMap", name := "<init>", desc := "()V" } : Jvm.MethodName) prog_65_method_16_code (1 : Nat) (Option.none : Option Jvm.ClassFile.FieldType)) ∈ lw_all := lw_g (lw_at lw_m1 106 rfl) rfl
theorem q155 : (Jvm.Cond.methodLink "java/util/LinkedHashMap" (87 : Nat) ({ cls := "java/util/HashMap", name := "<init>", desc := "()V" } : Jvm.MethodName)) ∈ lw_all := lw_g (lw_at lw_m1 107 rfl) rfl
theorem q163 : (Jvm.Cond.fieldLink "java/util/LinkedHashMap" (7 : Nat) "java/util/LinkedHashMap" "head" "Ljava/util/LinkedHashMap$Entry;") ∈ lw_all := lw_g (lw_at lw_m1 115 rfl) rfl
theorem q164 : (Jvm.Cond.fieldLink "java/util/LinkedHashMap" (11 : Nat) "java/util/LinkedHashMap" "tail" "Ljava/util/LinkedHashMap$Entry;") ∈ lw_all := lw_g (lw_at lw_m1 116 rfl) rfl
theorem q165 : (Jvm.Cond.fieldLink "java/util/LinkedHashMap" (64 : Nat) "java/util/LinkedHashMap" "accessOrder" "Z") ∈ lw_all := lw_g (lw_at lw_m1 117 rfl) rfl
theorem q166 : (Jvm.Cond.fieldLink "java/util/LinkedHashMap" (1 : Nat) "java/util/LinkedHashMap" "putMode" "I") ∈ lw_all := lw_g (lw_at lw_m1 118 rfl) rfl
theorem q169 : (Jvm.Cond.fieldLink "java/util/LinkedHashMap" (68 : Nat) "java/util/LinkedHashMap" "modCount" "I") ∈ lw_all := lw_g (lw_at lw_m1 121 rfl) rfl
theorem q170 : (Jvm.Cond.sameField "java/util/LinkedHashMap" "java/util/HashMap" "modCount" "I") ∈ lw_all := lw_g (lw_at lw_m1 122 rfl) rfl
theorem q174 : (Jvm.Cond.lays "java/util/LinkedHashMap" "java/util/LinkedHashMap" "head" "Ljava/util/LinkedHashMap$Entry;") ∈ lw_all := lw_g (lw_at lw_m1 126 rfl) rfl
theorem q175 : (Jvm.Cond.soleField "java/util/LinkedHashMap" "head") ∈ lw_all := lw_g (lw_at lw_m1 127 rfl) rfl
theorem q176 : (Jvm.Cond.lays "java/util/LinkedHashMap" "java/util/LinkedHashMap" "tail" "Ljava/util/LinkedHashMap$Entry;") ∈ lw_all := lw_g (lw_at lw_m1 128 rfl) rfl
theorem q177 : (Jvm.Cond.soleField "java/util/LinkedHashMap" "tail") ∈ lw_all := lw_g (lw_at lw_m1 129 rfl) rfl
theorem q178 : (Jvm.Cond.laysFinal "java/util/LinkedHashMap" "java/util/LinkedHashMap" "accessOrder" "Z") ∈ lw_all := lw_g (lw_at lw_m1 130 rfl) rfl
theorem q179 : (Jvm.Cond.soleField "java/util/LinkedHashMap" "accessOrder") ∈ lw_all := lw_g (lw_at lw_m1 131 rfl) rfl
theorem q180 : (Jvm.Cond.lays "java/util/LinkedHashMap" "java/util/LinkedHashMap" "putMode" "I") ∈ lw_all := lw_g (lw_at lw_m1 132 rfl) rfl
theorem q181 : (Jvm.Cond.soleField "java/util/LinkedHashMap" "putMode") ∈ lw_all := lw_g (lw_at lw_m1 133 rfl) rfl
theorem q182 : (Jvm.Cond.lays "java/util/LinkedHashMap" "java/util/HashMap" "table" "[Ljava/util/HashMap$Node;") ∈ lw_all := lw_g (lw_at lw_m1 134 rfl) rfl
theorem q184 : (Jvm.Cond.lays "java/util/LinkedHashMap" "java/util/HashMap" "entrySet" "Ljava/util/Set;") ∈ lw_all := lw_g (lw_at lw_m1 136 rfl) rfl
theorem q186 : (Jvm.Cond.lays "java/util/LinkedHashMap" "java/util/HashMap" "size" "I") ∈ lw_all := lw_g (lw_at lw_m1 138 rfl) rfl
theorem q188 : (Jvm.Cond.lays "java/util/LinkedHashMap" "java/util/HashMap" "modCount" "I") ∈ lw_all := lw_g (lw_at lw_m1 140 rfl) rfl
theorem q190 : (Jvm.Cond.lays "java/util/LinkedHashMap" "java/util/HashMap" "threshold" "I") ∈ lw_all := lw_g (lw_at lw_m1 142 rfl) rfl
theorem q192 : (Jvm.Cond.laysFinal "java/util/LinkedHashMap" "java/util/HashMap" "loadFactor" "F") ∈ lw_all := lw_g (lw_at lw_m1 144 rfl) rfl
theorem q194 : (Jvm.Cond.lays "java/util/LinkedHashMap" "java/util/AbstractMap" "keySet" "Ljava/util/Set;") ∈ lw_all := lw_g (lw_at lw_m1 146 rfl) rfl
theorem q196 : (Jvm.Cond.lays "java/util/LinkedHashMap" "java/util/AbstractMap" "values" "Ljava/util/Collection;") ∈ lw_all := lw_g (lw_at lw_m1 148 rfl) rfl
theorem q198 : (Jvm.Cond.superclass "java/util/LinkedHashMap" "java/util/HashMap") ∈ lw_all := lw_g (lw_at lw_m1 150 rfl) rfl
theorem q286 : (Jvm.Cond.selects "java/util/LinkedHashMap" ({ cls := "java/lang/Object", name := "getClass", desc := "()Ljava/lang/Class;" } : Jvm.MethodName) ({ cls := "java/lang/Object", name := "getClass", desc := "()Ljava/lang/Class;" } : Jvm.MethodName)) ∈ lw_all := lw_g (lw_at lw_m1 238 rfl) rfl
theorem q341 : (Jvm.Cond.sameMethod "java/util/LinkedHashMap" "java/util/HashMap" "put" "(Ljava/lang/Object;Ljava/lang/Object;)Ljava/lang/Object;") ∈ lw_all := lw_g (lw_at lw_m2 53 rfl) rfl
theorem q343 : (Jvm.Cond.selects "java/util/LinkedHashMap" ({ cls := "java/util/LinkedHashMap", name := "put", desc := "(Ljava/lang/Object;Ljava/lang/Object;)Ljava/lang/Object;" } : Jvm.MethodName) ({ cls := "java/util/HashMap", name := "put", desc := "(Ljava/lang/Object;Ljava/lang/Object;)Ljava/lang/Object;" } : Jvm.MethodName)) ∈ lw_all := lw_g (lw_at lw_m2 55 rfl) rfl
theorem q741 : (Jvm.Cond.selects "java/util/LinkedHashMap" ({ cls := "java/util/HashMap", name := "putVal", desc := "(ILjava/lang/Object;Ljava/lang/Object;ZZ)Ljava/lang/Object;" } : Jvm.MethodName) ({ cls := "java/util/HashMap", name := "putVal", desc := "(ILjava/lang/Object;Ljava/lang/Object;ZZ)Ljava/lang/Object;" } : Jvm.MethodName)) ∈ lw_all := lw_g (lw_at lw_m3 213 rfl) rfl
theorem q746 : (Jvm.Cond.selects "java/util/LinkedHashMap" ({ cls := "java/util/HashMap", name := "resize", desc := "()[Ljava/util/HashMap$Node;" } : Jvm.MethodName) ({ cls := "java/util/HashMap", name := "resize", desc := "()[Ljava/util/HashMap$Node;" } : Jvm.MethodName)) ∈ lw_all := lw_g (lw_at lw_m3 218 rfl) rfl
theorem q766 : (Jvm.Cond.selects "java/util/LinkedHashMap" ({ cls := "java/util/HashMap", name := "replacementNode", desc := "(Ljava/util/HashMap$Node;Ljava/util/HashMap$Node;)Ljava/util/HashMap$Node;" } : Jvm.MethodName) ({ cls := "java/util/LinkedHashMap", name := "replacementNode", desc := "(Ljava/util/HashMap$Node;Ljava/util/HashMap$Node;)Ljava/util/HashMap$Node;" } : Jvm.MethodName)) ∈ lw_all := lw_g (lw_at lw_m3 238 rfl) rfl
theorem q767 : (Jvm.Cond.instanceMethod ({ cls := "java/util/LinkedHashMap", name := "replacementNode", desc := "(Ljava/util/HashMap$Node;Ljava/util/HashMap$Node;)Ljava/util/HashMap$Node;" } : Jvm.MethodName)) ∈ lw_all := lw_g (lw_at lw_m3 239 rfl) rfl
theorem q768 : (Jvm.Cond.code ({ cls := "java/util/LinkedHashMap", name := "replacementNode", desc := "(Ljava/util/HashMap$Node;Ljava/util/HashMap$Node;)Ljava/util/HashMap$Node;" } : Jvm.MethodName) prog_65_method_5_code (5 : Nat) (Option.some (Jvm.ClassFile.FieldType.object "java/util/HashMap$Node"))) ∈ lw_all := lw_g (lw_at lw_m4 0 rfl) rfl
theorem q769 : (Jvm.Cond.classLink "java/util/LinkedHashMap" (15 : Nat) "java/util/LinkedHashMap$Entry") ∈ lw_all := lw_g (lw_at lw_m4 1 rfl) rfl
theorem q771 : (Jvm.Cond.methodLink "java/util/LinkedHashMap" (28 : Nat) ({ cls := "java/util/LinkedHashMap$Entry", name := "<init>", desc := "(ILjava/lang/Object;Ljava/lang/Object;Ljava/util/HashMap$Node;)V" } : Jvm.MethodName)) ∈ lw_all := lw_g (lw_at lw_m4 3 rfl) rfl
theorem q778 : (Jvm.Cond.fieldLink "java/util/LinkedHashMap" (19 : Nat) "java/util/LinkedHashMap$Entry" "before" "Ljava/util/LinkedHashMap$Entry;") ∈ lw_all := lw_g (lw_at lw_m4 10 rfl) rfl
theorem q779 : (Jvm.Cond.fieldLink "java/util/LinkedHashMap" (14 : Nat) "java/util/LinkedHashMap$Entry" "after" "Ljava/util/LinkedHashMap$Entry;") ∈ lw_all := lw_g (lw_at lw_m4 11 rfl) rfl
theorem q783 : (Jvm.Cond.fieldLink "java/util/LinkedHashMap" (36 : Nat) "java/util/LinkedHashMap$Entry" "hash" "I") ∈ lw_all := lw_g (lw_at lw_m4 15 rfl) rfl
theorem q789 : (Jvm.Cond.fieldLink "java/util/LinkedHashMap" (39 : Nat) "java/util/LinkedHashMap$Entry" "key" "Ljava/lang/Object;") ∈ lw_all := lw_g (lw_at lw_m4 21 rfl) rfl
theorem q793 : (Jvm.Cond.fieldLink "java/util/LinkedHashMap" (43 : Nat) "java/util/LinkedHashMap$Entry" "value" "Ljava/lang/Object;") ∈ lw_all := lw_g (lw_at lw_m4 25 rfl) rfl
theorem q796 : (Jvm.Cond.fieldLink "java/util/LinkedHashMap" (107 : Nat) "java/util/HashMap$Node" "value" "Ljava/lang/Object;") ∈ lw_all := lw_g (lw_at lw_m4 28 rfl) rfl
theorem q816 : (Jvm.Cond.methodLink "java/util/LinkedHashMap" (46 : Nat) ({ cls := "java/util/LinkedHashMap", name := "transferLinks", desc := "(Ljava/util/LinkedHashMap$Entry;Ljava/util/LinkedHashMap$Entry;)V" } : Jvm.MethodName)) ∈ lw_all := lw_g (lw_at lw_m4 48 rfl) rfl
theorem q817 : (Jvm.Cond.privateMethod ({ cls := "java/util/LinkedHashMap", name := "transferLinks", desc := "(Ljava/util/LinkedHashMap$Entry;Ljava/util/LinkedHashMap$Entry;)V" } : Jvm.MethodName)) ∈ lw_tbl := lw_at lw_m4 49 rfl
theorem q818 : (Jvm.Cond.instanceMethod ({ cls := "java/util/LinkedHashMap", name := "transferLinks", desc := "(Ljava/util/LinkedHashMap$Entry;Ljava/util/LinkedHashMap$Entry;)V" } : Jvm.MethodName)) ∈ lw_all := lw_g (lw_at lw_m4 50 rfl) rfl
theorem q819 : (Jvm.Cond.code ({ cls := "java/util/LinkedHashMap", name := "transferLinks", desc := "(Ljava/util/LinkedHashMap$Entry;Ljava/util/LinkedHashMap$Entry;)V" } : Jvm.MethodName) prog_65_method_2_code (5 : Nat) (Option.none : Option Jvm.ClassFile.FieldType)) ∈ lw_all := lw_g (lw_at lw_m4 51 rfl) rfl
theorem q1067 : (Jvm.Cond.selects "java/util/LinkedHashMap" ({ cls := "java/util/HashMap", name := "newNode", desc := "(ILjava/lang/Object;Ljava/lang/Object;Ljava/util/HashMap$Node;)Ljava/util/HashMap$Node;" } : Jvm.MethodName) ({ cls := "java/util/LinkedHashMap", name := "newNode", desc := "(ILjava/lang/Object;Ljava/lang/Object;Ljava/util/HashMap$Node;)Ljava/util/HashMap$Node;" } : Jvm.MethodName)) ∈ lw_all := lw_g (lw_at lw_m5 59 rfl) rfl
theorem q1068 : (Jvm.Cond.instanceMethod ({ cls := "java/util/LinkedHashMap", name := "newNode", desc := "(ILjava/lang/Object;Ljava/lang/Object;Ljava/util/HashMap$Node;)Ljava/util/HashMap$Node;" } : Jvm.MethodName)) ∈ lw_all := lw_g (lw_at lw_m5 60 rfl) rfl
theorem q1069 : (Jvm.Cond.code ({ cls := "java/util/LinkedHashMap", name := "newNode", desc := "(ILjava/lang/Object;Ljava/lang/Object;Ljava/util/HashMap$Node;)Ljava/util/HashMap$Node;" } : Jvm.MethodName) prog_65_method_4_code (6 : Nat) (Option.some (Jvm.ClassFile.FieldType.object "java/util/HashMap$Node"))) ∈ lw_all := lw_g (lw_at lw_m5 61 rfl) rfl
theorem q1070 : (Jvm.Cond.methodLink "java/util/LinkedHashMap" (32 : Nat) ({ cls := "java/util/LinkedHashMap", name := "linkNodeAtEnd", desc := "(Ljava/util/LinkedHashMap$Entry;)V" } : Jvm.MethodName)) ∈ lw_all := lw_g (lw_at lw_m5 62 rfl) rfl
theorem q1071 : (Jvm.Cond.privateMethod ({ cls := "java/util/LinkedHashMap", name := "linkNodeAtEnd", desc := "(Ljava/util/LinkedHashMap$Entry;)V" } : Jvm.MethodName)) ∈ lw_tbl := lw_at lw_m5 63 rfl
theorem q1072 : (Jvm.Cond.instanceMethod ({ cls := "java/util/LinkedHashMap", name := "linkNodeAtEnd", desc := "(Ljava/util/LinkedHashMap$Entry;)V" } : Jvm.MethodName)) ∈ lw_all := lw_g (lw_at lw_m5 64 rfl) rfl
theorem q1073 : (Jvm.Cond.code ({ cls := "java/util/LinkedHashMap", name := "linkNodeAtEnd", desc := "(Ljava/util/LinkedHashMap$Entry;)V" } : Jvm.MethodName) prog_65_method_1_code (3 : Nat) (Option.none : Option Jvm.ClassFile.FieldType)) ∈ lw_all := lw_g (lw_at lw_m5 65 rfl) rfl
theorem q1131 : (Jvm.Cond.selects "java/util/LinkedHashMap" ({ cls := "java/util/HashMap", name := "newTreeNode", desc := "(ILjava/lang/Object;Ljava/lang/Object;Ljava/util/HashMap$Node;)Ljava/util/HashMap$TreeNode;" } : Jvm.MethodName) ({ cls := "java/util/LinkedHashMap", name := "newTreeNode", desc := "(ILjava/lang/Object;Ljava/lang/Object;Ljava/util/HashMap$Node;)Ljava/util/HashMap$TreeNode;" } : Jvm.MethodName)) ∈ lw_all := lw_g (lw_at lw_m5 123 rfl) rfl
theorem q1132 : (Jvm.Cond.instanceMethod ({ cls := "java/util/LinkedHashMap", name := "newTreeNode", desc := "(ILjava/lang/Object;Ljava/lang/Object;Ljava/util/HashMap$Node;)Ljava/util/HashMap$TreeNode;" } : Jvm.MethodName)) ∈ lw_all := lw_g (lw_at lw_m5 124 rfl) rfl
theorem q1133 : (Jvm.Cond.code ({ cls := "java/util/LinkedHashMap", name := "newTreeNode", desc := "(ILjava/lang/Object;Ljava/lang/Object;Ljava/util/HashMap$Node;)Ljava/util/HashMap$TreeNode;" } : Jvm.MethodName) prog_65_method_6_code (6 : Nat) (Option.some (Jvm.ClassFile.FieldType.object "java/util/HashMap$TreeNode"))) ∈ lw_all := lw_g (lw_at lw_m5 125 rfl) rfl
theorem q1134 : (Jvm.Cond.classLink "java/util/LinkedHashMap" (50 : Nat) "java/util/HashMap$TreeNode") ∈ lw_all := lw_g (lw_at lw_m5 126 rfl) rfl
theorem q1136 : (Jvm.Cond.methodLink "java/util/LinkedHashMap" (52 : Nat) ({ cls := "java/util/HashMap$TreeNode", name := "<init>", desc := "(ILjava/lang/Object;Ljava/lang/Object;Ljava/util/HashMap$Node;)V" } : Jvm.MethodName)) ∈ lw_all := lw_g (lw_at lw_m5 128 rfl) rfl
theorem q1167 : (Jvm.Cond.selects "java/util/LinkedHashMap" ({ cls := "java/util/HashMap", name := "treeifyBin", desc := "([Ljava/util/HashMap$Node;I)V" } : Jvm.MethodName) ({ cls := "java/util/HashMap", name := "treeifyBin", desc := "([Ljava/util/HashMap$Node;I)V" } : Jvm.MethodName)) ∈ lw_all := lw_g (lw_at lw_m5 159 rfl) rfl
theorem q1172 : (Jvm.Cond.selects "java/util/LinkedHashMap" ({ cls := "java/util/HashMap", name := "replacementTreeNode", desc := "(Ljava/util/HashMap$Node;Ljava/util/HashMap$Node;)Ljava/util/HashMap$TreeNode;" } : Jvm.MethodName) ({ cls := "java/util/LinkedHashMap", name := "replacementTreeNode", desc := "(Ljava/util/HashMap$Node;Ljava/util/HashMap$Node;)Ljava/util/HashMap$TreeNode;" } : Jvm.MethodName)) ∈ lw_all := lw_g (lw_at lw_m5 164 rfl) rfl
theorem q1173 : (Jvm.Cond.instanceMethod ({ cls := "java/util/LinkedHashMap", name := "replacementTreeNode", desc := "(Ljava/util/HashMap$Node;Ljava/util/HashMap$Node;)Ljava/util/HashMap$TreeNode;" } : Jvm.MethodName)) ∈ lw_all := lw_g (lw_at lw_m5 165 rfl) rfl
theorem q1174 : (Jvm.Cond.code ({ cls := "java/util/LinkedHashMap", name := "replacementTreeNode", desc := "(Ljava/util/HashMap$Node;Ljava/util/HashMap$Node;)Ljava/util/HashMap$TreeNode;" } : Jvm.MethodName) prog_65_method_7_code (5 : Nat) (Option.some (Jvm.ClassFile.FieldType.object "java/util/HashMap$TreeNode"))) ∈ lw_all := lw_g (lw_at lw_m5 166 rfl) rfl
theorem q1180 : (Jvm.Cond.selects "java/util/LinkedHashMap" ({ cls := "java/util/HashMap", name := "afterNodeAccess", desc := "(Ljava/util/HashMap$Node;)V" } : Jvm.MethodName) ({ cls := "java/util/LinkedHashMap", name := "afterNodeAccess", desc := "(Ljava/util/HashMap$Node;)V" } : Jvm.MethodName)) ∈ lw_all := lw_g (lw_at lw_m5 172 rfl) rfl
theorem q1181 : (Jvm.Cond.instanceMethod ({ cls := "java/util/LinkedHashMap", name := "afterNodeAccess", desc := "(Ljava/util/HashMap$Node;)V" } : Jvm.MethodName)) ∈ lw_all := lw_g (lw_at lw_m5 173 rfl) rfl
theorem q1182 : (Jvm.Cond.code ({ cls := "java/util/LinkedHashMap", name := "afterNodeAccess", desc := "(Ljava/util/HashMap$Node;)V" } : Jvm.MethodName) prog_65_method_10_code (7 : Nat) (Option.none : Option Jvm.ClassFile.FieldType)) ∈ lw_all := lw_g (lw_at lw_m5 174 rfl) rfl
theorem q1187 : (Jvm.Cond.selects "java/util/LinkedHashMap" ({ cls := "java/util/HashMap", name := "afterNodeInsertion", desc := "(Z)V" } : Jvm.MethodName) ({ cls := "java/util/LinkedHashMap", name := "afterNodeInsertion", desc := "(Z)V" } : Jvm.MethodName)) ∈ lw_all := lw_g (lw_at lw_m5 179 rfl) rfl
theorem q1188 : (Jvm.Cond.instanceMethod ({ cls := "java/util/LinkedHashMap", name := "afterNodeInsertion", desc := "(Z)V" } : Jvm.MethodName)) ∈ lw_all := lw_g (lw_at lw_m5 180 rfl) rfl
theorem q1189 : (Jvm.Cond.code ({ cls := "java/util/LinkedHashMap", name := "afterNodeInsertion", desc := "(Z)V" } : Jvm.MethodName) prog_65_method_9_code (4 : Nat) (Option.none : Option Jvm.ClassFile.FieldType)) ∈ lw_all := lw_g (lw_at lw_m5 181 rfl) rfl
theorem q1190 : (Jvm.Cond.methodLink "java/util/LinkedHashMap" (53 : Nat) ({ cls := "java/util/LinkedHashMap", name := "removeEldestEntry", desc := "(Ljava/util/Map$Entry;)Z" } : Jvm.MethodName)) ∈ lw_all := lw_g (lw_at lw_m5 182 rfl) rfl
theorem q1191 : (Jvm.Cond.instanceMethod ({ cls := "java/util/LinkedHashMap", name := "removeEldestEntry", desc := "(Ljava/util/Map$Entry;)Z" } : Jvm.MethodName)) ∈ lw_all := lw_g (lw_at lw_m5 183 rfl) rfl
theorem q1192 : (Jvm.Cond.selects "java/util/LinkedHashMap" ({ cls := "java/util/LinkedHashMap", name := "removeEldestEntry", desc := "(Ljava/util/Map$Entry;)Z" } : Jvm.MethodName) ({ cls := "java/util/LinkedHashMap", name := "removeEldestEntry", desc := "(Ljava/util/Map$Entry;)Z" } : Jvm.MethodName)) ∈ lw_all := lw_g (lw_at lw_m5 184 rfl) rfl
theorem q1193 : (Jvm.Cond.code ({ cls := "java/util/LinkedHashMap", name := "removeEldestEntry", desc := "(Ljava/util/Map$Entry;)Z" } : Jvm.MethodName) prog_65_method_23_code (2 : Nat) (Option.some Jvm.ClassFile.FieldType.boolean)) ∈ lw_all := lw_g (lw_at lw_m5 185 rfl) rfl
theorem q1859 : (Jvm.Cond.instanceMethod ({ cls := "java/util/LinkedHashMap", name := "get", desc := "(Ljava/lang/Object;)Ljava/lang/Object;" } : Jvm.MethodName)) ∈ lw_all := lw_g (lw_at lw_m8 131 rfl) rfl
theorem q1860 : (Jvm.Cond.selects "java/util/LinkedHashMap" ({ cls := "java/util/LinkedHashMap", name := "get", desc := "(Ljava/lang/Object;)Ljava/lang/Object;" } : Jvm.MethodName) ({ cls := "java/util/LinkedHashMap", name := "get", desc := "(Ljava/lang/Object;)Ljava/lang/Object;" } : Jvm.MethodName)) ∈ lw_all := lw_g (lw_at lw_m8 132 rfl) rfl
theorem q1861 : (Jvm.Cond.code ({ cls := "java/util/LinkedHashMap", name := "get", desc := "(Ljava/lang/Object;)Ljava/lang/Object;" } : Jvm.MethodName) prog_65_method_20_code (3 : Nat) (Option.some (Jvm.ClassFile.FieldType.object "java/lang/Object"))) ∈ lw_all := lw_g (lw_at lw_m8 133 rfl) rfl
theorem q1862 : (Jvm.Cond.methodLink "java/util/LinkedHashMap" (99 : Nat) ({ cls := "java/util/LinkedHashMap", name := "getNode", desc := "(Ljava/lang/Object;)Ljava/util/HashMap$Node;" } : Jvm.MethodName)) ∈ lw_all := lw_g (lw_at lw_m8 134 rfl) rfl
theorem q1863 : (Jvm.Cond.sameMethod "java/util/LinkedHashMap" "java/util/HashMap" "getNode" "(Ljava/lang/Object;)Ljava/util/HashMap$Node;") ∈ lw_all := lw_g (lw_at lw_m8 135 rfl) rfl
theorem q1865 : (Jvm.Cond.selects "java/util/LinkedHashMap" ({ cls := "java/util/LinkedHashMap", name := "getNode", desc := "(Ljava/lang/Object;)Ljava/util/HashMap$Node;" } : Jvm.MethodName) ({ cls := "java/util/HashMap", name := "getNode", desc := "(Ljava/lang/Object;)Ljava/util/HashMap$Node;" } : Jvm.MethodName)) ∈ lw_all := lw_g (lw_at lw_m8 137 rfl) rfl
theorem q1872 : (Jvm.Cond.methodLink "java/util/LinkedHashMap" (103 : Nat) ({ cls := "java/util/LinkedHashMap", name := "afterNodeAccess", desc := "(Ljava/util/HashMap$Node;)V" } : Jvm.MethodName)) ∈ lw_all := lw_g (lw_at lw_m8 144 rfl) rfl
theorem q2680 : (Jvm.Cond.selects "java/util/LinkedHashMap" ({ cls := "java/util/LinkedHashMap", name := "afterNodeAccess", desc := "(Ljava/util/HashMap$Node;)V" } : Jvm.MethodName) ({ cls := "java/util/LinkedHashMap", name := "afterNodeAccess", desc := "(Ljava/util/HashMap$Node;)V" } : Jvm.MethodName)) ∈ lw_all := lw_g (lw_at lw_m11 232 rfl) rfl
theorem q2696 : (Jvm.Cond.castable "java/util/LinkedHashMap" "java/lang/Object") ∈ lw_tbl := lw_at lw_m12 8 rfl
theorem in_J5 : ∀ w ∈ wsJ50, w ∈ lw_all := lw_in wsJ50 [182, 184, 186, 188, 190, 192, 194, 196, 174, 176, 178, 180] (by decide +kernel) (by decide +kernel)

/-! java/util/AbstractSequentialList -/
set_option maxRecDepth 100000
def RJ6 : String := "java/util/AbstractSequentialList"
abbrev cJ6_init : ByteArray := prog_52_method_1_code
def yJ6_init : MethodName := ⟨RJ6, "<init>", "()V"⟩
theorem dJ6_init_0 : decode cJ6_init 0 = .ok (.aload_n 0, 1) := by decide +kernel
theorem dJ6_init_1 : decode cJ6_init 1 = .ok (.invokespecial 1, 3) := by decide +kernel
theorem dJ6_init_4 : decode cJ6_init 4 = .ok (.return_, 1) := by decide +kernel
abbrev cJ6_iterator : ByteArray := prog_52_method_7_code
def yJ6_iterator : MethodName := ⟨RJ6, "iterator", "()Ljava/util/Iterator;"⟩
theorem dJ6_iterator_0 : decode cJ6_iterator 0 = .ok (.aload_n 0, 1) := by decide +kernel
theorem dJ6_iterator_1 : decode cJ6_iterator 1 = .ok (.invokevirtual 65, 3) := by decide +kernel
theorem dJ6_iterator_4 : decode cJ6_iterator 4 = .ok (.areturn, 1) := by decide +kernel
theorem q56 : (Jvm.Cond.initialized "java/util/AbstractSequentialList") ∈ lw_all := lw_g (lw_at lw_m1 8 rfl) rfl
theorem q206 : (Jvm.Cond.instanceMethod ({ cls := "java/util/AbstractSequentialList", name := "<init>", desc := "()V" } : Jvm.MethodName)) ∈ lw_all := lw_g (lw_at lw_m1 158 rfl) rfl
theorem q207 : (Jvm.Cond.code ({ cls := "java/util/AbstractSequentialList", name := "<init>", desc := "()V" } : Jvm.MethodName) prog_52_method_1_code (1 : Nat) (Option.none : Option Jvm.ClassFile.FieldType)) ∈ lw_all := lw_g (lw_at lw_m1 159 rfl) rfl
theorem q208 : (Jvm.Cond.methodLink "java/util/AbstractSequentialList" (1 : Nat) ({ cls := "java/util/AbstractList", name := "<init>", desc := "()V" } : Jvm.MethodName)) ∈ lw_all := lw_g (lw_at lw_m1 160 rfl) rfl
theorem q2143 : (Jvm.Cond.declares ({ cls := "java/util/AbstractSequentialList", name := "iterator", desc := "()Ljava/util/Iterator;" } : Jvm.MethodName)) ∈ lw_tbl := lw_at lw_m9 175 rfl
theorem q2145 : (Jvm.Cond.instanceMethod ({ cls := "java/util/AbstractSequentialList", name := "iterator", desc := "()Ljava/util/Iterator;" } : Jvm.MethodName)) ∈ lw_all := lw_g (lw_at lw_m9 177 rfl) rfl
theorem q2146 : (Jvm.Cond.code ({ cls := "java/util/AbstractSequentialList", name := "iterator", desc := "()Ljava/util/Iterator;" } : Jvm.MethodName) prog_52_method_7_code (1 : Nat) (Option.some (Jvm.ClassFile.FieldType.object "java/util/Iterator"))) ∈ lw_all := lw_g (lw_at lw_m9 178 rfl) rfl
theorem q2147 : (Jvm.Cond.methodLink "java/util/AbstractSequentialList" (65 : Nat) ({ cls := "java/util/AbstractSequentialList", name := "listIterator", desc := "()Ljava/util/ListIterator;" } : Jvm.MethodName)) ∈ lw_all := lw_g (lw_at lw_m9 179 rfl) rfl
theorem q2148 : (Jvm.Cond.sameMethod "java/util/AbstractSequentialList" "java/util/AbstractList" "listIterator" "()Ljava/util/ListIterator;") ∈ lw_all := lw_g (lw_at lw_m9 180 rfl) rfl

/-! java/util/LinkedList -/
set_option maxRecDepth 100000
def RJ7 : String := "java/util/LinkedList"
def TJ7 : u_T := fun k => match k with
  | 0 => ("java/util/AbstractList", "modCount", "I", false)
  | 1 => ("java/util/LinkedList", "size", "I", false)
  | 2 => ("java/util/LinkedList", "first", "Ljava/util/LinkedList$Node;", false)
  | _ => ("java/util/LinkedList", "last", "Ljava/util/LinkedList$Node;", false)
def tyJ7 : Nat → FieldType := fun k => match k with
  | 0 => .int
  | 1 => .int
  | 2 => .object "java/util/LinkedList$Node"
  | _ => .object "java/util/LinkedList$Node"
abbrev wsJ70 : List Cond := u_ws RJ7 TJ7 4
theorem nmJ7 : ∀ a, a < 4 → ∀ b, b < 4 → a ≠ b → (TJ7 a).2.1 ≠ (TJ7 b).2.1 := by decide +kernel
theorem tyJ7_ok : ∀ k, k < 4 → parseFieldDescriptor (TJ7 k).2.2.1 = some (tyJ7 k) := by decide +kernel
abbrev cJ7_init : ByteArray := prog_67_method_1_code
def yJ7_init : MethodName := ⟨RJ7, "<init>", "()V"⟩
def dkwJ7_init_0 : List UInt8 := [42, 183, 0, 1, 42, 3, 181, 0, 7, 177]
abbrev dktJ7_init_0 : List UInt8 := dkwJ7_init_0 ++ []
theorem dksJ7_init_0 : cJ7_init.data.toList.drop 0 = dktJ7_init_0 := by decide +kernel
theorem dJ7_init_0 : decode cJ7_init 0 = .ok (.aload_n 0, 1) := dk_42 (dk_at dksJ7_init_0 0 rfl rfl)
theorem dJ7_init_1 : decode cJ7_init 1 = .ok (.invokespecial 1, 3) := dk_183 0 1 (dk_at dksJ7_init_0 1 rfl rfl)
theorem dJ7_init_4 : decode cJ7_init 4 = .ok (.aload_n 0, 1) := dk_42 (dk_at dksJ7_init_0 4 rfl rfl)
theorem dJ7_init_5 : decode cJ7_init 5 = .ok (.iconst 0, 1) := dk_3 (dk_at dksJ7_init_0 5 rfl rfl)
theorem dJ7_init_6 : decode cJ7_init 6 = .ok (.putfield 7, 3) := dk_181 0 7 (dk_at dksJ7_init_0 6 rfl rfl)
theorem dJ7_init_9 : decode cJ7_init 9 = .ok (.return_, 1) := dk_177 (dk_at dksJ7_init_0 9 rfl rfl)
abbrev cJ7_size : ByteArray := prog_67_method_16_code
def yJ7_size : MethodName := ⟨RJ7, "size", "()I"⟩
theorem dJ7_size_0 : decode cJ7_size 0 = .ok (.aload_n 0, 1) := by decide +kernel
theorem dJ7_size_1 : decode cJ7_size 1 = .ok (.getfield 7, 3) := by decide +kernel
theorem dJ7_size_4 : decode cJ7_size 4 = .ok (.ireturn, 1) := by decide +kernel
abbrev cJ7_addLast : ByteArray := prog_67_method_14_code
def yJ7_addLast : MethodName := ⟨RJ7, "addLast", "(Ljava/lang/Object;)V"⟩
def dkwJ7_addLast_0 : List UInt8 := [42, 43, 182, 0, 57, 177]
abbrev dktJ7_addLast_0 : List UInt8 := dkwJ7_addLast_0 ++ []
theorem dksJ7_addLast_0 : cJ7_addLast.data.toList.drop 0 = dktJ7_addLast_0 := by decide +kernel
theorem dJ7_addLast_0 : decode cJ7_addLast 0 = .ok (.aload_n 0, 1) := dk_42 (dk_at dksJ7_addLast_0 0 rfl rfl)
theorem dJ7_addLast_1 : decode cJ7_addLast 1 = .ok (.aload_n 1, 1) := dk_43 (dk_at dksJ7_addLast_0 1 rfl rfl)
theorem dJ7_addLast_2 : decode cJ7_addLast 2 = .ok (.invokevirtual 57, 3) := dk_182 0 57 (dk_at dksJ7_addLast_0 2 rfl rfl)
theorem dJ7_addLast_5 : decode cJ7_addLast 5 = .ok (.return_, 1) := dk_177 (dk_at dksJ7_addLast_0 5 rfl rfl)
abbrev cJ7_linkLast : ByteArray := prog_67_method_4_code
def yJ7_linkLast : MethodName := ⟨RJ7, "linkLast", "(Ljava/lang/Object;)V"⟩
def dkwJ7_linkLast_2 : List UInt8 := [181, 0, 7, 42, 89, 180, 0, 33, 4, 96, 181, 0, 33, 177]
abbrev dktJ7_linkLast_2 : List UInt8 := dkwJ7_linkLast_2 ++ []
def dkwJ7_linkLast_1 : List UInt8 := [199, 0, 11, 42, 45, 181, 0, 18, 167, 0, 8, 44, 45, 181, 0, 36, 42, 89, 180, 0, 7, 4, 96]
abbrev dktJ7_linkLast_1 : List UInt8 := dkwJ7_linkLast_1 ++ dktJ7_linkLast_2
def dkwJ7_linkLast_0 : List UInt8 := [42, 180, 0, 27, 77, 187, 0, 22, 89, 44, 43, 1, 183, 0, 24, 78, 42, 45, 181, 0, 27, 44]
abbrev dktJ7_linkLast_0 : List UInt8 := dkwJ7_linkLast_0 ++ dktJ7_linkLast_1
theorem dksJ7_linkLast_0 : cJ7_linkLast.data.toList.drop 0 = dktJ7_linkLast_0 := by decide +kernel
theorem dksJ7_linkLast_1 : cJ7_linkLast.data.toList.drop 22 = dktJ7_linkLast_1 := dk_seg dksJ7_linkLast_0 22 rfl rfl
theorem dksJ7_linkLast_2 : cJ7_linkLast.data.toList.drop 45 = dktJ7_linkLast_2 := dk_seg dksJ7_linkLast_1 23 rfl rfl
theorem dJ7_linkLast_0 : decode cJ7_linkLast 0 = .ok (.aload_n 0, 1) := dk_42 (dk_at dksJ7_linkLast_0 0 rfl rfl)
theorem dJ7_linkLast_1 : decode cJ7_linkLast 1 = .ok (.getfield 27, 3) := dk_180 0 27 (dk_at dksJ7_linkLast_0 1 rfl rfl)
theorem dJ7_linkLast_4 : decode cJ7_linkLast 4 = .ok (.astore_n 2, 1) := dk_77 (dk_at dksJ7_linkLast_0 4 rfl rfl)
theorem dJ7_linkLast_5 : decode cJ7_linkLast 5 = .ok (.new 22, 3) := dk_187 0 22 (dk_at dksJ7_linkLast_0 5 rfl rfl)
theorem dJ7_linkLast_8 : decode cJ7_linkLast 8 = .ok (.dup, 1) := dk_89 (dk_at dksJ7_linkLast_0 8 rfl rfl)
theorem dJ7_linkLast_9 : decode cJ7_linkLast 9 = .ok (.aload_n 2, 1) := dk_44 (dk_at dksJ7_linkLast_0 9 rfl rfl)
theorem dJ7_linkLast_10 : decode cJ7_linkLast 10 = .ok (.aload_n 1, 1) := dk_43 (dk_at dksJ7_linkLast_0 10 rfl rfl)
theorem dJ7_linkLast_11 : decode cJ7_linkLast 11 = .ok (.aconst_null, 1) := dk_1 (dk_at dksJ7_linkLast_0 11 rfl rfl)
theorem dJ7_linkLast_12 : decode cJ7_linkLast 12 = .ok (.invokespecial 24, 3) := dk_183 0 24 (dk_at dksJ7_linkLast_0 12 rfl rfl)
theorem dJ7_linkLast_15 : decode cJ7_linkLast 15 = .ok (.astore_n 3, 1) := dk_78 (dk_at dksJ7_linkLast_0 15 rfl rfl)
theorem dJ7_linkLast_16 : decode cJ7_linkLast 16 = .ok (.aload_n 0, 1) := dk_42 (dk_at dksJ7_linkLast_0 16 rfl rfl)
theorem dJ7_linkLast_17 : decode cJ7_linkLast 17 = .ok (.aload_n 3, 1) := dk_45 (dk_at dksJ7_linkLast_0 17 rfl rfl)
theorem dJ7_linkLast_18 : decode cJ7_linkLast 18 = .ok (.putfield 27, 3) := dk_181 0 27 (dk_at dksJ7_linkLast_0 18 rfl rfl)
theorem dJ7_linkLast_21 : decode cJ7_linkLast 21 = .ok (.aload_n 2, 1) := dk_44 (dk_at dksJ7_linkLast_0 21 rfl rfl)
theorem dJ7_linkLast_22 : decode cJ7_linkLast 22 = .ok (.ifnonnull 11, 3) := dk_199 0 11 (dk_at dksJ7_linkLast_1 0 rfl rfl)
theorem dJ7_linkLast_25 : decode cJ7_linkLast 25 = .ok (.aload_n 0, 1) := dk_42 (dk_at dksJ7_linkLast_1 3 rfl rfl)
theorem dJ7_linkLast_26 : decode cJ7_linkLast 26 = .ok (.aload_n 3, 1) := dk_45 (dk_at dksJ7_linkLast_1 4 rfl rfl)
theorem dJ7_linkLast_27 : decode cJ7_linkLast 27 = .ok (.putfield 18, 3) := dk_181 0 18 (dk_at dksJ7_linkLast_1 5 rfl rfl)
theorem dJ7_linkLast_30 : decode cJ7_linkLast 30 = .ok (.goto 8, 3) := dk_167 0 8 (dk_at dksJ7_linkLast_1 8 rfl rfl)
theorem dJ7_linkLast_33 : decode cJ7_linkLast 33 = .ok (.aload_n 2, 1) := dk_44 (dk_at dksJ7_linkLast_1 11 rfl rfl)
theorem dJ7_linkLast_34 : decode cJ7_linkLast 34 = .ok (.aload_n 3, 1) := dk_45 (dk_at dksJ7_linkLast_1 12 rfl rfl)
theorem dJ7_linkLast_35 : decode cJ7_linkLast 35 = .ok (.putfield 36, 3) := dk_181 0 36 (dk_at dksJ7_linkLast_1 13 rfl rfl)
theorem dJ7_linkLast_38 : decode cJ7_linkLast 38 = .ok (.aload_n 0, 1) := dk_42 (dk_at dksJ7_linkLast_1 16 rfl rfl)
theorem dJ7_linkLast_39 : decode cJ7_linkLast 39 = .ok (.dup, 1) := dk_89 (dk_at dksJ7_linkLast_1 17 rfl rfl)
theorem dJ7_linkLast_40 : decode cJ7_linkLast 40 = .ok (.getfield 7, 3) := dk_180 0 7 (dk_at dksJ7_linkLast_1 18 rfl rfl)
theorem dJ7_linkLast_43 : decode cJ7_linkLast 43 = .ok (.iconst 1, 1) := dk_4 (dk_at dksJ7_linkLast_1 21 rfl rfl)
theorem dJ7_linkLast_44 : decode cJ7_linkLast 44 = .ok (.iadd, 1) := dk_96 (dk_at dksJ7_linkLast_1 22 rfl rfl)
theorem dJ7_linkLast_45 : decode cJ7_linkLast 45 = .ok (.putfield 7, 3) := dk_181 0 7 (dk_at dksJ7_linkLast_2 0 rfl rfl)
theorem dJ7_linkLast_48 : decode cJ7_linkLast 48 = .ok (.aload_n 0, 1) := dk_42 (dk_at dksJ7_linkLast_2 3 rfl rfl)
theorem dJ7_linkLast_49 : decode cJ7_linkLast 49 = .ok (.dup, 1) := dk_89 (dk_at dksJ7_linkLast_2 4 rfl rfl)
theorem dJ7_linkLast_50 : decode cJ7_linkLast 50 = .ok (.getfield 33, 3) := dk_180 0 33 (dk_at dksJ7_linkLast_2 5 rfl rfl)
theorem dJ7_linkLast_53 : decode cJ7_linkLast 53 = .ok (.iconst 1, 1) := dk_4 (dk_at dksJ7_linkLast_2 8 rfl rfl)
theorem dJ7_linkLast_54 : decode cJ7_linkLast 54 = .ok (.iadd, 1) := dk_96 (dk_at dksJ7_linkLast_2 9 rfl rfl)
theorem dJ7_linkLast_55 : decode cJ7_linkLast 55 = .ok (.putfield 33, 3) := dk_181 0 33 (dk_at dksJ7_linkLast_2 10 rfl rfl)
theorem dJ7_linkLast_58 : decode cJ7_linkLast 58 = .ok (.return_, 1) := dk_177 (dk_at dksJ7_linkLast_2 13 rfl rfl)
abbrev cJ7_removeLast : ByteArray := prog_67_method_12_code
def yJ7_removeLast : MethodName := ⟨RJ7, "removeLast", "()Ljava/lang/Object;"⟩
def dkwJ7_removeLast_0 : List UInt8 := [42, 180, 0, 27, 76, 43, 199, 0, 11, 187, 0, 43, 89, 183, 0, 45, 191, 42, 43, 182, 0, 50, 176]
abbrev dktJ7_removeLast_0 : List UInt8 := dkwJ7_removeLast_0 ++ []
theorem dksJ7_removeLast_0 : cJ7_removeLast.data.toList.drop 0 = dktJ7_removeLast_0 := by decide +kernel
theorem dJ7_removeLast_0 : decode cJ7_removeLast 0 = .ok (.aload_n 0, 1) := dk_42 (dk_at dksJ7_removeLast_0 0 rfl rfl)
theorem dJ7_removeLast_1 : decode cJ7_removeLast 1 = .ok (.getfield 27, 3) := dk_180 0 27 (dk_at dksJ7_removeLast_0 1 rfl rfl)
theorem dJ7_removeLast_4 : decode cJ7_removeLast 4 = .ok (.astore_n 1, 1) := dk_76 (dk_at dksJ7_removeLast_0 4 rfl rfl)
theorem dJ7_removeLast_5 : decode cJ7_removeLast 5 = .ok (.aload_n 1, 1) := dk_43 (dk_at dksJ7_removeLast_0 5 rfl rfl)
theorem dJ7_removeLast_6 : decode cJ7_removeLast 6 = .ok (.ifnonnull 11, 3) := dk_199 0 11 (dk_at dksJ7_removeLast_0 6 rfl rfl)
theorem dJ7_removeLast_9 : decode cJ7_removeLast 9 = .ok (.new 43, 3) := dk_187 0 43 (dk_at dksJ7_removeLast_0 9 rfl rfl)
theorem dJ7_removeLast_12 : decode cJ7_removeLast 12 = .ok (.dup, 1) := dk_89 (dk_at dksJ7_removeLast_0 12 rfl rfl)
theorem dJ7_removeLast_13 : decode cJ7_removeLast 13 = .ok (.invokespecial 45, 3) := dk_183 0 45 (dk_at dksJ7_removeLast_0 13 rfl rfl)
theorem dJ7_removeLast_16 : decode cJ7_removeLast 16 = .ok (.athrow, 1) := dk_191 (dk_at dksJ7_removeLast_0 16 rfl rfl)
theorem dJ7_removeLast_17 : decode cJ7_removeLast 17 = .ok (.aload_n 0, 1) := dk_42 (dk_at dksJ7_removeLast_0 17 rfl rfl)
theorem dJ7_removeLast_18 : decode cJ7_removeLast 18 = .ok (.aload_n 1, 1) := dk_43 (dk_at dksJ7_removeLast_0 18 rfl rfl)
theorem dJ7_removeLast_19 : decode cJ7_removeLast 19 = .ok (.invokevirtual 50, 3) := dk_182 0 50 (dk_at dksJ7_removeLast_0 19 rfl rfl)
theorem dJ7_removeLast_22 : decode cJ7_removeLast 22 = .ok (.areturn, 1) := dk_176 (dk_at dksJ7_removeLast_0 22 rfl rfl)
abbrev cJ7_unlinkLast : ByteArray := prog_67_method_7_code
def yJ7_unlinkLast : MethodName := ⟨RJ7, "unlinkLast", "(Ljava/util/LinkedList$Node;)Ljava/lang/Object;"⟩
def dkwJ7_unlinkLast_2 : List UInt8 := [180, 0, 7, 4, 100, 181, 0, 7, 42, 89, 180, 0, 33, 4, 96, 181, 0, 33, 44, 176]
abbrev dktJ7_unlinkLast_2 : List UInt8 := dkwJ7_unlinkLast_2 ++ []
def dkwJ7_unlinkLast_1 : List UInt8 := [181, 0, 27, 45, 199, 0, 11, 42, 1, 181, 0, 18, 167, 0, 8, 45, 1, 181, 0, 36, 42, 89]
abbrev dktJ7_unlinkLast_1 : List UInt8 := dkwJ7_unlinkLast_1 ++ dktJ7_unlinkLast_2
def dkwJ7_unlinkLast_0 : List UInt8 := [43, 180, 0, 39, 77, 43, 180, 0, 30, 78, 43, 1, 181, 0, 39, 43, 1, 181, 0, 30, 42, 45]
abbrev dktJ7_unlinkLast_0 : List UInt8 := dkwJ7_unlinkLast_0 ++ dktJ7_unlinkLast_1
theorem dksJ7_unlinkLast_0 : cJ7_unlinkLast.data.toList.drop 0 = dktJ7_unlinkLast_0 := by decide +kernel
theorem dksJ7_unlinkLast_1 : cJ7_unlinkLast.data.toList.drop 22 = dktJ7_unlinkLast_1 := dk_seg dksJ7_unlinkLast_0 22 rfl rfl
theorem dksJ7_unlinkLast_2 : cJ7_unlinkLast.data.toList.drop 44 = dktJ7_unlinkLast_2 := dk_seg dksJ7_unlinkLast_1 22 rfl rfl
theorem dJ7_unlinkLast_0 : decode cJ7_unlinkLast 0 = .ok (.aload_n 1, 1) := dk_43 (dk_at dksJ7_unlinkLast_0 0 rfl rfl)
theorem dJ7_unlinkLast_1 : decode cJ7_unlinkLast 1 = .ok (.getfield 39, 3) := dk_180 0 39 (dk_at dksJ7_unlinkLast_0 1 rfl rfl)
theorem dJ7_unlinkLast_4 : decode cJ7_unlinkLast 4 = .ok (.astore_n 2, 1) := dk_77 (dk_at dksJ7_unlinkLast_0 4 rfl rfl)
theorem dJ7_unlinkLast_5 : decode cJ7_unlinkLast 5 = .ok (.aload_n 1, 1) := dk_43 (dk_at dksJ7_unlinkLast_0 5 rfl rfl)
theorem dJ7_unlinkLast_6 : decode cJ7_unlinkLast 6 = .ok (.getfield 30, 3) := dk_180 0 30 (dk_at dksJ7_unlinkLast_0 6 rfl rfl)
theorem dJ7_unlinkLast_9 : decode cJ7_unlinkLast 9 = .ok (.astore_n 3, 1) := dk_78 (dk_at dksJ7_unlinkLast_0 9 rfl rfl)
theorem dJ7_unlinkLast_10 : decode cJ7_unlinkLast 10 = .ok (.aload_n 1, 1) := dk_43 (dk_at dksJ7_unlinkLast_0 10 rfl rfl)
theorem dJ7_unlinkLast_11 : decode cJ7_unlinkLast 11 = .ok (.aconst_null, 1) := dk_1 (dk_at dksJ7_unlinkLast_0 11 rfl rfl)
theorem dJ7_unlinkLast_12 : decode cJ7_unlinkLast 12 = .ok (.putfield 39, 3) := dk_181 0 39 (dk_at dksJ7_unlinkLast_0 12 rfl rfl)
theorem dJ7_unlinkLast_15 : decode cJ7_unlinkLast 15 = .ok (.aload_n 1, 1) := dk_43 (dk_at dksJ7_unlinkLast_0 15 rfl rfl)
theorem dJ7_unlinkLast_16 : decode cJ7_unlinkLast 16 = .ok (.aconst_null, 1) := dk_1 (dk_at dksJ7_unlinkLast_0 16 rfl rfl)
theorem dJ7_unlinkLast_17 : decode cJ7_unlinkLast 17 = .ok (.putfield 30, 3) := dk_181 0 30 (dk_at dksJ7_unlinkLast_0 17 rfl rfl)
theorem dJ7_unlinkLast_20 : decode cJ7_unlinkLast 20 = .ok (.aload_n 0, 1) := dk_42 (dk_at dksJ7_unlinkLast_0 20 rfl rfl)
theorem dJ7_unlinkLast_21 : decode cJ7_unlinkLast 21 = .ok (.aload_n 3, 1) := dk_45 (dk_at dksJ7_unlinkLast_0 21 rfl rfl)
theorem dJ7_unlinkLast_22 : decode cJ7_unlinkLast 22 = .ok (.putfield 27, 3) := dk_181 0 27 (dk_at dksJ7_unlinkLast_1 0 rfl rfl)
theorem dJ7_unlinkLast_25 : decode cJ7_unlinkLast 25 = .ok (.aload_n 3, 1) := dk_45 (dk_at dksJ7_unlinkLast_1 3 rfl rfl)
theorem dJ7_unlinkLast_26 : decode cJ7_unlinkLast 26 = .ok (.ifnonnull 11, 3) := dk_199 0 11 (dk_at dksJ7_unlinkLast_1 4 rfl rfl)
theorem dJ7_unlinkLast_29 : decode cJ7_unlinkLast 29 = .ok (.aload_n 0, 1) := dk_42 (dk_at dksJ7_unlinkLast_1 7 rfl rfl)
theorem dJ7_unlinkLast_30 : decode cJ7_unlinkLast 30 = .ok (.aconst_null, 1) := dk_1 (dk_at dksJ7_unlinkLast_1 8 rfl rfl)
theorem dJ7_unlinkLast_31 : decode cJ7_unlinkLast 31 = .ok (.putfield 18, 3) := dk_181 0 18 (dk_at dksJ7_unlinkLast_1 9 rfl rfl)
theorem dJ7_unlinkLast_34 : decode cJ7_unlinkLast 34 = .ok (.goto 8, 3) := dk_167 0 8 (dk_at dksJ7_unlinkLast_1 12 rfl rfl)
theorem dJ7_unlinkLast_37 : decode cJ7_unlinkLast 37 = .ok (.aload_n 3, 1) := dk_45 (dk_at dksJ7_unlinkLast_1 15 rfl rfl)
theorem dJ7_unlinkLast_38 : decode cJ7_unlinkLast 38 = .ok (.aconst_null, 1) := dk_1 (dk_at dksJ7_unlinkLast_1 16 rfl rfl)
theorem dJ7_unlinkLast_39 : decode cJ7_unlinkLast 39 = .ok (.putfield 36, 3) := dk_181 0 36 (dk_at dksJ7_unlinkLast_1 17 rfl rfl)
theorem dJ7_unlinkLast_42 : decode cJ7_unlinkLast 42 = .ok (.aload_n 0, 1) := dk_42 (dk_at dksJ7_unlinkLast_1 20 rfl rfl)
theorem dJ7_unlinkLast_43 : decode cJ7_unlinkLast 43 = .ok (.dup, 1) := dk_89 (dk_at dksJ7_unlinkLast_1 21 rfl rfl)
theorem dJ7_unlinkLast_44 : decode cJ7_unlinkLast 44 = .ok (.getfield 7, 3) := dk_180 0 7 (dk_at dksJ7_unlinkLast_2 0 rfl rfl)
theorem dJ7_unlinkLast_47 : decode cJ7_unlinkLast 47 = .ok (.iconst 1, 1) := dk_4 (dk_at dksJ7_unlinkLast_2 3 rfl rfl)
theorem dJ7_unlinkLast_48 : decode cJ7_unlinkLast 48 = .ok (.isub, 1) := dk_100 (dk_at dksJ7_unlinkLast_2 4 rfl rfl)
theorem dJ7_unlinkLast_49 : decode cJ7_unlinkLast 49 = .ok (.putfield 7, 3) := dk_181 0 7 (dk_at dksJ7_unlinkLast_2 5 rfl rfl)
theorem dJ7_unlinkLast_52 : decode cJ7_unlinkLast 52 = .ok (.aload_n 0, 1) := dk_42 (dk_at dksJ7_unlinkLast_2 8 rfl rfl)
theorem dJ7_unlinkLast_53 : decode cJ7_unlinkLast 53 = .ok (.dup, 1) := dk_89 (dk_at dksJ7_unlinkLast_2 9 rfl rfl)
theorem dJ7_unlinkLast_54 : decode cJ7_unlinkLast 54 = .ok (.getfield 33, 3) := dk_180 0 33 (dk_at dksJ7_unlinkLast_2 10 rfl rfl)
theorem dJ7_unlinkLast_57 : decode cJ7_unlinkLast 57 = .ok (.iconst 1, 1) := dk_4 (dk_at dksJ7_unlinkLast_2 13 rfl rfl)
theorem dJ7_unlinkLast_58 : decode cJ7_unlinkLast 58 = .ok (.iadd, 1) := dk_96 (dk_at dksJ7_unlinkLast_2 14 rfl rfl)
theorem dJ7_unlinkLast_59 : decode cJ7_unlinkLast 59 = .ok (.putfield 33, 3) := dk_181 0 33 (dk_at dksJ7_unlinkLast_2 15 rfl rfl)
theorem dJ7_unlinkLast_62 : decode cJ7_unlinkLast 62 = .ok (.aload_n 2, 1) := dk_44 (dk_at dksJ7_unlinkLast_2 18 rfl rfl)
theorem dJ7_unlinkLast_63 : decode cJ7_unlinkLast 63 = .ok (.areturn, 1) := dk_176 (dk_at dksJ7_unlinkLast_2 19 rfl rfl)
abbrev cJ7_get : ByteArray := prog_67_method_22_code
def yJ7_get : MethodName := ⟨RJ7, "get", "(I)Ljava/lang/Object;"⟩
def dkwJ7_get_0 : List UInt8 := [42, 27, 182, 0, 90, 42, 27, 182, 0, 86, 180, 0, 39, 176]
abbrev dktJ7_get_0 : List UInt8 := dkwJ7_get_0 ++ []
theorem dksJ7_get_0 : cJ7_get.data.toList.drop 0 = dktJ7_get_0 := by decide +kernel
theorem dJ7_get_0 : decode cJ7_get 0 = .ok (.aload_n 0, 1) := dk_42 (dk_at dksJ7_get_0 0 rfl rfl)
theorem dJ7_get_1 : decode cJ7_get 1 = .ok (.iload_n 1, 1) := dk_27 (dk_at dksJ7_get_0 1 rfl rfl)
theorem dJ7_get_2 : decode cJ7_get 2 = .ok (.invokevirtual 90, 3) := dk_182 0 90 (dk_at dksJ7_get_0 2 rfl rfl)
theorem dJ7_get_5 : decode cJ7_get 5 = .ok (.aload_n 0, 1) := dk_42 (dk_at dksJ7_get_0 5 rfl rfl)
theorem dJ7_get_6 : decode cJ7_get 6 = .ok (.iload_n 1, 1) := dk_27 (dk_at dksJ7_get_0 6 rfl rfl)
theorem dJ7_get_7 : decode cJ7_get 7 = .ok (.invokevirtual 86, 3) := dk_182 0 86 (dk_at dksJ7_get_0 7 rfl rfl)
theorem dJ7_get_10 : decode cJ7_get 10 = .ok (.getfield 39, 3) := dk_180 0 39 (dk_at dksJ7_get_0 10 rfl rfl)
theorem dJ7_get_13 : decode cJ7_get 13 = .ok (.areturn, 1) := dk_176 (dk_at dksJ7_get_0 13 rfl rfl)
abbrev cJ7_checkElementIndex : ByteArray := prog_67_method_29_code
def yJ7_checkElementIndex : MethodName := ⟨RJ7, "checkElementIndex", "(I)V"⟩
def dkwJ7_checkElementIndex_0 : List UInt8 := [42, 27, 182, 0, 115, 154, 0, 16, 187, 0, 119, 89, 42, 27, 182, 0, 121, 183, 0, 125, 191, 177]
abbrev dktJ7_checkElementIndex_0 : List UInt8 := dkwJ7_checkElementIndex_0 ++ []
theorem dksJ7_checkElementIndex_0 : cJ7_checkElementIndex.data.toList.drop 0 = dktJ7_checkElementIndex_0 := by decide +kernel
theorem dJ7_checkElementIndex_0 : decode cJ7_checkElementIndex 0 = .ok (.aload_n 0, 1) := dk_42 (dk_at dksJ7_checkElementIndex_0 0 rfl rfl)
theorem dJ7_checkElementIndex_1 : decode cJ7_checkElementIndex 1 = .ok (.iload_n 1, 1) := dk_27 (dk_at dksJ7_checkElementIndex_0 1 rfl rfl)
theorem dJ7_checkElementIndex_2 : decode cJ7_checkElementIndex 2 = .ok (.invokevirtual 115, 3) := dk_182 0 115 (dk_at dksJ7_checkElementIndex_0 2 rfl rfl)
theorem dJ7_checkElementIndex_5 : decode cJ7_checkElementIndex 5 = .ok (.ifCond .ne 16, 3) := dk_154 0 16 (dk_at dksJ7_checkElementIndex_0 5 rfl rfl)
theorem dJ7_checkElementIndex_8 : decode cJ7_checkElementIndex 8 = .ok (.new 119, 3) := dk_187 0 119 (dk_at dksJ7_checkElementIndex_0 8 rfl rfl)
theorem dJ7_checkElementIndex_11 : decode cJ7_checkElementIndex 11 = .ok (.dup, 1) := dk_89 (dk_at dksJ7_checkElementIndex_0 11 rfl rfl)
theorem dJ7_checkElementIndex_12 : decode cJ7_checkElementIndex 12 = .ok (.aload_n 0, 1) := dk_42 (dk_at dksJ7_checkElementIndex_0 12 rfl rfl)
theorem dJ7_checkElementIndex_13 : decode cJ7_checkElementIndex 13 = .ok (.iload_n 1, 1) := dk_27 (dk_at dksJ7_checkElementIndex_0 13 rfl rfl)
theorem dJ7_checkElementIndex_14 : decode cJ7_checkElementIndex 14 = .ok (.invokevirtual 121, 3) := dk_182 0 121 (dk_at dksJ7_checkElementIndex_0 14 rfl rfl)
theorem dJ7_checkElementIndex_17 : decode cJ7_checkElementIndex 17 = .ok (.invokespecial 125, 3) := dk_183 0 125 (dk_at dksJ7_checkElementIndex_0 17 rfl rfl)
theorem dJ7_checkElementIndex_20 : decode cJ7_checkElementIndex 20 = .ok (.athrow, 1) := dk_191 (dk_at dksJ7_checkElementIndex_0 20 rfl rfl)
theorem dJ7_checkElementIndex_21 : decode cJ7_checkElementIndex 21 = .ok (.return_, 1) := dk_177 (dk_at dksJ7_checkElementIndex_0 21 rfl rfl)
abbrev cJ7_isElementIndex : ByteArray := prog_67_method_26_code
def yJ7_isElementIndex : MethodName := ⟨RJ7, "isElementIndex", "(I)Z"⟩
def dkwJ7_isElementIndex_0 : List UInt8 := [27, 155, 0, 15, 27, 42, 180, 0, 7, 162, 0, 7, 4, 167, 0, 4, 3, 172]
abbrev dktJ7_isElementIndex_0 : List UInt8 := dkwJ7_isElementIndex_0 ++ []
theorem dksJ7_isElementIndex_0 : cJ7_isElementIndex.data.toList.drop 0 = dktJ7_isElementIndex_0 := by decide +kernel
theorem dJ7_isElementIndex_0 : decode cJ7_isElementIndex 0 = .ok (.iload_n 1, 1) := dk_27 (dk_at dksJ7_isElementIndex_0 0 rfl rfl)
theorem dJ7_isElementIndex_1 : decode cJ7_isElementIndex 1 = .ok (.ifCond .lt 15, 3) := dk_155 0 15 (dk_at dksJ7_isElementIndex_0 1 rfl rfl)
theorem dJ7_isElementIndex_4 : decode cJ7_isElementIndex 4 = .ok (.iload_n 1, 1) := dk_27 (dk_at dksJ7_isElementIndex_0 4 rfl rfl)
theorem dJ7_isElementIndex_5 : decode cJ7_isElementIndex 5 = .ok (.aload_n 0, 1) := dk_42 (dk_at dksJ7_isElementIndex_0 5 rfl rfl)
theorem dJ7_isElementIndex_6 : decode cJ7_isElementIndex 6 = .ok (.getfield 7, 3) := dk_180 0 7 (dk_at dksJ7_isElementIndex_0 6 rfl rfl)
theorem dJ7_isElementIndex_9 : decode cJ7_isElementIndex 9 = .ok (.if_icmp .ge 7, 3) := dk_162 0 7 (dk_at dksJ7_isElementIndex_0 9 rfl rfl)
theorem dJ7_isElementIndex_12 : decode cJ7_isElementIndex 12 = .ok (.iconst 1, 1) := dk_4 (dk_at dksJ7_isElementIndex_0 12 rfl rfl)
theorem dJ7_isElementIndex_13 : decode cJ7_isElementIndex 13 = .ok (.goto 4, 3) := dk_167 0 4 (dk_at dksJ7_isElementIndex_0 13 rfl rfl)
theorem dJ7_isElementIndex_16 : decode cJ7_isElementIndex 16 = .ok (.iconst 0, 1) := dk_3 (dk_at dksJ7_isElementIndex_0 16 rfl rfl)
theorem dJ7_isElementIndex_17 : decode cJ7_isElementIndex 17 = .ok (.ireturn, 1) := dk_172 (dk_at dksJ7_isElementIndex_0 17 rfl rfl)
abbrev cJ7_outOfBoundsMsg : ByteArray := prog_67_method_28_code
def yJ7_outOfBoundsMsg : MethodName := ⟨RJ7, "outOfBoundsMsg", "(I)Ljava/lang/String;"⟩
def dkwJ7_outOfBoundsMsg_1 : List UInt8 := [180, 0, 7, 182, 0, 106, 182, 0, 111, 176]
abbrev dktJ7_outOfBoundsMsg_1 : List UInt8 := dkwJ7_outOfBoundsMsg_1 ++ []
def dkwJ7_outOfBoundsMsg_0 : List UInt8 := [187, 0, 97, 89, 183, 0, 99, 18, 100, 182, 0, 102, 27, 182, 0, 106, 18, 109, 182, 0, 102, 42]
abbrev dktJ7_outOfBoundsMsg_0 : List UInt8 := dkwJ7_outOfBoundsMsg_0 ++ dktJ7_outOfBoundsMsg_1
theorem dksJ7_outOfBoundsMsg_0 : cJ7_outOfBoundsMsg.data.toList.drop 0 = dktJ7_outOfBoundsMsg_0 := by decide +kernel
theorem dksJ7_outOfBoundsMsg_1 : cJ7_outOfBoundsMsg.data.toList.drop 22 = dktJ7_outOfBoundsMsg_1 := dk_seg dksJ7_outOfBoundsMsg_0 22 rfl rfl
theorem dJ7_outOfBoundsMsg_0 : decode cJ7_outOfBoundsMsg 0 = .ok (.new 97, 3) := dk_187 0 97 (dk_at dksJ7_outOfBoundsMsg_0 0 rfl rfl)
theorem dJ7_outOfBoundsMsg_3 : decode cJ7_outOfBoundsMsg 3 = .ok (.dup, 1) := dk_89 (dk_at dksJ7_outOfBoundsMsg_0 3 rfl rfl)
theorem dJ7_outOfBoundsMsg_4 : decode cJ7_outOfBoundsMsg 4 = .ok (.invokespecial 99, 3) := dk_183 0 99 (dk_at dksJ7_outOfBoundsMsg_0 4 rfl rfl)
theorem dJ7_outOfBoundsMsg_7 : decode cJ7_outOfBoundsMsg 7 = .ok (.ldc 100, 2) := dk_18 100 (dk_at dksJ7_outOfBoundsMsg_0 7 rfl rfl)
theorem dJ7_outOfBoundsMsg_9 : decode cJ7_outOfBoundsMsg 9 = .ok (.invokevirtual 102, 3) := dk_182 0 102 (dk_at dksJ7_outOfBoundsMsg_0 9 rfl rfl)
theorem dJ7_outOfBoundsMsg_12 : decode cJ7_outOfBoundsMsg 12 = .ok (.iload_n 1, 1) := dk_27 (dk_at dksJ7_outOfBoundsMsg_0 12 rfl rfl)
theorem dJ7_outOfBoundsMsg_13 : decode cJ7_outOfBoundsMsg 13 = .ok (.invokevirtual 106, 3) := dk_182 0 106 (dk_at dksJ7_outOfBoundsMsg_0 13 rfl rfl)
theorem dJ7_outOfBoundsMsg_16 : decode cJ7_outOfBoundsMsg 16 = .ok (.ldc 109, 2) := dk_18 109 (dk_at dksJ7_outOfBoundsMsg_0 16 rfl rfl)
theorem dJ7_outOfBoundsMsg_18 : decode cJ7_outOfBoundsMsg 18 = .ok (.invokevirtual 102, 3) := dk_182 0 102 (dk_at dksJ7_outOfBoundsMsg_0 18 rfl rfl)
theorem dJ7_outOfBoundsMsg_21 : decode cJ7_outOfBoundsMsg 21 = .ok (.aload_n 0, 1) := dk_42 (dk_at dksJ7_outOfBoundsMsg_0 21 rfl rfl)
theorem dJ7_outOfBoundsMsg_22 : decode cJ7_outOfBoundsMsg 22 = .ok (.getfield 7, 3) := dk_180 0 7 (dk_at dksJ7_outOfBoundsMsg_1 0 rfl rfl)
theorem dJ7_outOfBoundsMsg_25 : decode cJ7_outOfBoundsMsg 25 = .ok (.invokevirtual 106, 3) := dk_182 0 106 (dk_at dksJ7_outOfBoundsMsg_1 3 rfl rfl)
theorem dJ7_outOfBoundsMsg_28 : decode cJ7_outOfBoundsMsg 28 = .ok (.invokevirtual 111, 3) := dk_182 0 111 (dk_at dksJ7_outOfBoundsMsg_1 6 rfl rfl)
theorem dJ7_outOfBoundsMsg_31 : decode cJ7_outOfBoundsMsg 31 = .ok (.areturn, 1) := dk_176 (dk_at dksJ7_outOfBoundsMsg_1 9 rfl rfl)
abbrev cJ7_node : ByteArray := prog_67_method_31_code
def yJ7_node : MethodName := ⟨RJ7, "node", "(I)Ljava/util/LinkedList$Node;"⟩
def dkwJ7_node_2 : List UInt8 := [29, 27, 164, 0, 14, 44, 180, 0, 30, 77, 132, 3, 255, 167, 255, 243, 44, 176]
abbrev dktJ7_node_2 : List UInt8 := dkwJ7_node_2 ++ []
def dkwJ7_node_1 : List UInt8 := [180, 0, 36, 77, 132, 3, 1, 167, 255, 243, 44, 176, 42, 180, 0, 27, 77, 42, 180, 0, 7, 4, 100, 62]
abbrev dktJ7_node_1 : List UInt8 := dkwJ7_node_1 ++ dktJ7_node_2
def dkwJ7_node_0 : List UInt8 := [27, 42, 180, 0, 7, 4, 122, 162, 0, 28, 42, 180, 0, 18, 77, 3, 62, 29, 27, 162, 0, 14, 44]
abbrev dktJ7_node_0 : List UInt8 := dkwJ7_node_0 ++ dktJ7_node_1
theorem dksJ7_node_0 : cJ7_node.data.toList.drop 0 = dktJ7_node_0 := by decide +kernel
theorem dksJ7_node_1 : cJ7_node.data.toList.drop 23 = dktJ7_node_1 := dk_seg dksJ7_node_0 23 rfl rfl
theorem dksJ7_node_2 : cJ7_node.data.toList.drop 47 = dktJ7_node_2 := dk_seg dksJ7_node_1 24 rfl rfl
theorem dJ7_node_0 : decode cJ7_node 0 = .ok (.iload_n 1, 1) := dk_27 (dk_at dksJ7_node_0 0 rfl rfl)
theorem dJ7_node_1 : decode cJ7_node 1 = .ok (.aload_n 0, 1) := dk_42 (dk_at dksJ7_node_0 1 rfl rfl)
theorem dJ7_node_2 : decode cJ7_node 2 = .ok (.getfield 7, 3) := dk_180 0 7 (dk_at dksJ7_node_0 2 rfl rfl)
theorem dJ7_node_5 : decode cJ7_node 5 = .ok (.iconst 1, 1) := dk_4 (dk_at dksJ7_node_0 5 rfl rfl)
theorem dJ7_node_6 : decode cJ7_node 6 = .ok (.ishr, 1) := dk_122 (dk_at dksJ7_node_0 6 rfl rfl)
theorem dJ7_node_7 : decode cJ7_node 7 = .ok (.if_icmp .ge 28, 3) := dk_162 0 28 (dk_at dksJ7_node_0 7 rfl rfl)
theorem dJ7_node_10 : decode cJ7_node 10 = .ok (.aload_n 0, 1) := dk_42 (dk_at dksJ7_node_0 10 rfl rfl)
theorem dJ7_node_11 : decode cJ7_node 11 = .ok (.getfield 18, 3) := dk_180 0 18 (dk_at dksJ7_node_0 11 rfl rfl)
theorem dJ7_node_14 : decode cJ7_node 14 = .ok (.astore_n 2, 1) := dk_77 (dk_at dksJ7_node_0 14 rfl rfl)
theorem dJ7_node_15 : decode cJ7_node 15 = .ok (.iconst 0, 1) := dk_3 (dk_at dksJ7_node_0 15 rfl rfl)
theorem dJ7_node_16 : decode cJ7_node 16 = .ok (.istore_n 3, 1) := dk_62 (dk_at dksJ7_node_0 16 rfl rfl)
theorem dJ7_node_17 : decode cJ7_node 17 = .ok (.iload_n 3, 1) := dk_29 (dk_at dksJ7_node_0 17 rfl rfl)
theorem dJ7_node_18 : decode cJ7_node 18 = .ok (.iload_n 1, 1) := dk_27 (dk_at dksJ7_node_0 18 rfl rfl)
theorem dJ7_node_19 : decode cJ7_node 19 = .ok (.if_icmp .ge 14, 3) := dk_162 0 14 (dk_at dksJ7_node_0 19 rfl rfl)
theorem dJ7_node_22 : decode cJ7_node 22 = .ok (.aload_n 2, 1) := dk_44 (dk_at dksJ7_node_0 22 rfl rfl)
theorem dJ7_node_23 : decode cJ7_node 23 = .ok (.getfield 36, 3) := dk_180 0 36 (dk_at dksJ7_node_1 0 rfl rfl)
theorem dJ7_node_26 : decode cJ7_node 26 = .ok (.astore_n 2, 1) := dk_77 (dk_at dksJ7_node_1 3 rfl rfl)
theorem dJ7_node_27 : decode cJ7_node 27 = .ok (.iinc 3 1, 3) := dk_132 3 1 (dk_at dksJ7_node_1 4 rfl rfl)
theorem dJ7_node_30 : decode cJ7_node 30 = .ok (.goto (-13), 3) := dk_167 255 243 (dk_at dksJ7_node_1 7 rfl rfl)
theorem dJ7_node_33 : decode cJ7_node 33 = .ok (.aload_n 2, 1) := dk_44 (dk_at dksJ7_node_1 10 rfl rfl)
theorem dJ7_node_34 : decode cJ7_node 34 = .ok (.areturn, 1) := dk_176 (dk_at dksJ7_node_1 11 rfl rfl)
theorem dJ7_node_35 : decode cJ7_node 35 = .ok (.aload_n 0, 1) := dk_42 (dk_at dksJ7_node_1 12 rfl rfl)
theorem dJ7_node_36 : decode cJ7_node 36 = .ok (.getfield 27, 3) := dk_180 0 27 (dk_at dksJ7_node_1 13 rfl rfl)
theorem dJ7_node_39 : decode cJ7_node 39 = .ok (.astore_n 2, 1) := dk_77 (dk_at dksJ7_node_1 16 rfl rfl)
theorem dJ7_node_40 : decode cJ7_node 40 = .ok (.aload_n 0, 1) := dk_42 (dk_at dksJ7_node_1 17 rfl rfl)
theorem dJ7_node_41 : decode cJ7_node 41 = .ok (.getfield 7, 3) := dk_180 0 7 (dk_at dksJ7_node_1 18 rfl rfl)
theorem dJ7_node_44 : decode cJ7_node 44 = .ok (.iconst 1, 1) := dk_4 (dk_at dksJ7_node_1 21 rfl rfl)
theorem dJ7_node_45 : decode cJ7_node 45 = .ok (.isub, 1) := dk_100 (dk_at dksJ7_node_1 22 rfl rfl)
theorem dJ7_node_46 : decode cJ7_node 46 = .ok (.istore_n 3, 1) := dk_62 (dk_at dksJ7_node_1 23 rfl rfl)
theorem dJ7_node_47 : decode cJ7_node 47 = .ok (.iload_n 3, 1) := dk_29 (dk_at dksJ7_node_2 0 rfl rfl)
theorem dJ7_node_48 : decode cJ7_node 48 = .ok (.iload_n 1, 1) := dk_27 (dk_at dksJ7_node_2 1 rfl rfl)
theorem dJ7_node_49 : decode cJ7_node 49 = .ok (.if_icmp .le 14, 3) := dk_164 0 14 (dk_at dksJ7_node_2 2 rfl rfl)
theorem dJ7_node_52 : decode cJ7_node 52 = .ok (.aload_n 2, 1) := dk_44 (dk_at dksJ7_node_2 5 rfl rfl)
theorem dJ7_node_53 : decode cJ7_node 53 = .ok (.getfield 30, 3) := dk_180 0 30 (dk_at dksJ7_node_2 6 rfl rfl)
theorem dJ7_node_56 : decode cJ7_node 56 = .ok (.astore_n 2, 1) := dk_77 (dk_at dksJ7_node_2 9 rfl rfl)
theorem dJ7_node_57 : decode cJ7_node 57 = .ok (.iinc 3 (-1), 3) := dk_132 3 255 (dk_at dksJ7_node_2 10 rfl rfl)
theorem dJ7_node_60 : decode cJ7_node 60 = .ok (.goto (-13), 3) := dk_167 255 243 (dk_at dksJ7_node_2 13 rfl rfl)
theorem dJ7_node_63 : decode cJ7_node 63 = .ok (.aload_n 2, 1) := dk_44 (dk_at dksJ7_node_2 16 rfl rfl)
theorem dJ7_node_64 : decode cJ7_node 64 = .ok (.areturn, 1) := dk_176 (dk_at dksJ7_node_2 17 rfl rfl)
abbrev cJ7_getLast : ByteArray := prog_67_method_10_code
def yJ7_getLast : MethodName := ⟨RJ7, "getLast", "()Ljava/lang/Object;"⟩
def dkwJ7_getLast_0 : List UInt8 := [42, 180, 0, 27, 76, 43, 199, 0, 11, 187, 0, 43, 89, 183, 0, 45, 191, 43, 180, 0, 39, 176]
abbrev dktJ7_getLast_0 : List UInt8 := dkwJ7_getLast_0 ++ []
theorem dksJ7_getLast_0 : cJ7_getLast.data.toList.drop 0 = dktJ7_getLast_0 := by decide +kernel
theorem dJ7_getLast_0 : decode cJ7_getLast 0 = .ok (.aload_n 0, 1) := dk_42 (dk_at dksJ7_getLast_0 0 rfl rfl)
theorem dJ7_getLast_1 : decode cJ7_getLast 1 = .ok (.getfield 27, 3) := dk_180 0 27 (dk_at dksJ7_getLast_0 1 rfl rfl)
theorem dJ7_getLast_4 : decode cJ7_getLast 4 = .ok (.astore_n 1, 1) := dk_76 (dk_at dksJ7_getLast_0 4 rfl rfl)
theorem dJ7_getLast_5 : decode cJ7_getLast 5 = .ok (.aload_n 1, 1) := dk_43 (dk_at dksJ7_getLast_0 5 rfl rfl)
theorem dJ7_getLast_6 : decode cJ7_getLast 6 = .ok (.ifnonnull 11, 3) := dk_199 0 11 (dk_at dksJ7_getLast_0 6 rfl rfl)
theorem dJ7_getLast_9 : decode cJ7_getLast 9 = .ok (.new 43, 3) := dk_187 0 43 (dk_at dksJ7_getLast_0 9 rfl rfl)
theorem dJ7_getLast_12 : decode cJ7_getLast 12 = .ok (.dup, 1) := dk_89 (dk_at dksJ7_getLast_0 12 rfl rfl)
theorem dJ7_getLast_13 : decode cJ7_getLast 13 = .ok (.invokespecial 45, 3) := dk_183 0 45 (dk_at dksJ7_getLast_0 13 rfl rfl)
theorem dJ7_getLast_16 : decode cJ7_getLast 16 = .ok (.athrow, 1) := dk_191 (dk_at dksJ7_getLast_0 16 rfl rfl)
theorem dJ7_getLast_17 : decode cJ7_getLast 17 = .ok (.aload_n 1, 1) := dk_43 (dk_at dksJ7_getLast_0 17 rfl rfl)
theorem dJ7_getLast_18 : decode cJ7_getLast 18 = .ok (.getfield 39, 3) := dk_180 0 39 (dk_at dksJ7_getLast_0 18 rfl rfl)
theorem dJ7_getLast_21 : decode cJ7_getLast 21 = .ok (.areturn, 1) := dk_176 (dk_at dksJ7_getLast_0 21 rfl rfl)
abbrev cJ7_listIterator : ByteArray := prog_67_method_49_code
def yJ7_listIterator : MethodName := ⟨RJ7, "listIterator", "(I)Ljava/util/ListIterator;"⟩
def dkwJ7_listIterator_0 : List UInt8 := [42, 27, 182, 0, 76, 187, 0, 150, 89, 42, 27, 183, 0, 152, 176]
abbrev dktJ7_listIterator_0 : List UInt8 := dkwJ7_listIterator_0 ++ []
theorem dksJ7_listIterator_0 : cJ7_listIterator.data.toList.drop 0 = dktJ7_listIterator_0 := by decide +kernel
theorem dJ7_listIterator_0 : decode cJ7_listIterator 0 = .ok (.aload_n 0, 1) := dk_42 (dk_at dksJ7_listIterator_0 0 rfl rfl)
theorem dJ7_listIterator_1 : decode cJ7_listIterator 1 = .ok (.iload_n 1, 1) := dk_27 (dk_at dksJ7_listIterator_0 1 rfl rfl)
theorem dJ7_listIterator_2 : decode cJ7_listIterator 2 = .ok (.invokevirtual 76, 3) := dk_182 0 76 (dk_at dksJ7_listIterator_0 2 rfl rfl)
theorem dJ7_listIterator_5 : decode cJ7_listIterator 5 = .ok (.new 150, 3) := dk_187 0 150 (dk_at dksJ7_listIterator_0 5 rfl rfl)
theorem dJ7_listIterator_8 : decode cJ7_listIterator 8 = .ok (.dup, 1) := dk_89 (dk_at dksJ7_listIterator_0 8 rfl rfl)
theorem dJ7_listIterator_9 : decode cJ7_listIterator 9 = .ok (.aload_n 0, 1) := dk_42 (dk_at dksJ7_listIterator_0 9 rfl rfl)
theorem dJ7_listIterator_10 : decode cJ7_listIterator 10 = .ok (.iload_n 1, 1) := dk_27 (dk_at dksJ7_listIterator_0 10 rfl rfl)
theorem dJ7_listIterator_11 : decode cJ7_listIterator 11 = .ok (.invokespecial 152, 3) := dk_183 0 152 (dk_at dksJ7_listIterator_0 11 rfl rfl)
theorem dJ7_listIterator_14 : decode cJ7_listIterator 14 = .ok (.areturn, 1) := dk_176 (dk_at dksJ7_listIterator_0 14 rfl rfl)
abbrev cJ7_checkPositionIndex : ByteArray := prog_67_method_30_code
def yJ7_checkPositionIndex : MethodName := ⟨RJ7, "checkPositionIndex", "(I)V"⟩
def dkwJ7_checkPositionIndex_0 : List UInt8 := [42, 27, 182, 0, 128, 154, 0, 16, 187, 0, 119, 89, 42, 27, 182, 0, 121, 183, 0, 125, 191, 177]
abbrev dktJ7_checkPositionIndex_0 : List UInt8 := dkwJ7_checkPositionIndex_0 ++ []
theorem dksJ7_checkPositionIndex_0 : cJ7_checkPositionIndex.data.toList.drop 0 = dktJ7_checkPositionIndex_0 := by decide +kernel
theorem dJ7_checkPositionIndex_0 : decode cJ7_checkPositionIndex 0 = .ok (.aload_n 0, 1) := dk_42 (dk_at dksJ7_checkPositionIndex_0 0 rfl rfl)
theorem dJ7_checkPositionIndex_1 : decode cJ7_checkPositionIndex 1 = .ok (.iload_n 1, 1) := dk_27 (dk_at dksJ7_checkPositionIndex_0 1 rfl rfl)
theorem dJ7_checkPositionIndex_2 : decode cJ7_checkPositionIndex 2 = .ok (.invokevirtual 128, 3) := dk_182 0 128 (dk_at dksJ7_checkPositionIndex_0 2 rfl rfl)
theorem dJ7_checkPositionIndex_5 : decode cJ7_checkPositionIndex 5 = .ok (.ifCond .ne 16, 3) := dk_154 0 16 (dk_at dksJ7_checkPositionIndex_0 5 rfl rfl)
theorem dJ7_checkPositionIndex_8 : decode cJ7_checkPositionIndex 8 = .ok (.new 119, 3) := dk_187 0 119 (dk_at dksJ7_checkPositionIndex_0 8 rfl rfl)
theorem dJ7_checkPositionIndex_11 : decode cJ7_checkPositionIndex 11 = .ok (.dup, 1) := dk_89 (dk_at dksJ7_checkPositionIndex_0 11 rfl rfl)
theorem dJ7_checkPositionIndex_12 : decode cJ7_checkPositionIndex 12 = .ok (.aload_n 0, 1) := dk_42 (dk_at dksJ7_checkPositionIndex_0 12 rfl rfl)
theorem dJ7_checkPositionIndex_13 : decode cJ7_checkPositionIndex 13 = .ok (.iload_n 1, 1) := dk_27 (dk_at dksJ7_checkPositionIndex_0 13 rfl rfl)
theorem dJ7_checkPositionIndex_14 : decode cJ7_checkPositionIndex 14 = .ok (.invokevirtual 121, 3) := dk_182 0 121 (dk_at dksJ7_checkPositionIndex_0 14 rfl rfl)
theorem dJ7_checkPositionIndex_17 : decode cJ7_checkPositionIndex 17 = .ok (.invokespecial 125, 3) := dk_183 0 125 (dk_at dksJ7_checkPositionIndex_0 17 rfl rfl)
theorem dJ7_checkPositionIndex_20 : decode cJ7_checkPositionIndex 20 = .ok (.athrow, 1) := dk_191 (dk_at dksJ7_checkPositionIndex_0 20 rfl rfl)
theorem dJ7_checkPositionIndex_21 : decode cJ7_checkPositionIndex 21 = .ok (.return_, 1) := dk_177 (dk_at dksJ7_checkPositionIndex_0 21 rfl rfl)
abbrev cJ7_isPositionIndex : ByteArray := prog_67_method_27_code
def yJ7_isPositionIndex : MethodName := ⟨RJ7, "isPositionIndex", "(I)Z"⟩
def dkwJ7_isPositionIndex_0 : List UInt8 := [27, 155, 0, 15, 27, 42, 180, 0, 7, 163, 0, 7, 4, 167, 0, 4, 3, 172]
abbrev dktJ7_isPositionIndex_0 : List UInt8 := dkwJ7_isPositionIndex_0 ++ []
theorem dksJ7_isPositionIndex_0 : cJ7_isPositionIndex.data.toList.drop 0 = dktJ7_isPositionIndex_0 := by decide +kernel
theorem dJ7_isPositionIndex_0 : decode cJ7_isPositionIndex 0 = .ok (.iload_n 1, 1) := dk_27 (dk_at dksJ7_isPositionIndex_0 0 rfl rfl)
theorem dJ7_isPositionIndex_1 : decode cJ7_isPositionIndex 1 = .ok (.ifCond .lt 15, 3) := dk_155 0 15 (dk_at dksJ7_isPositionIndex_0 1 rfl rfl)
theorem dJ7_isPositionIndex_4 : decode cJ7_isPositionIndex 4 = .ok (.iload_n 1, 1) := dk_27 (dk_at dksJ7_isPositionIndex_0 4 rfl rfl)
theorem dJ7_isPositionIndex_5 : decode cJ7_isPositionIndex 5 = .ok (.aload_n 0, 1) := dk_42 (dk_at dksJ7_isPositionIndex_0 5 rfl rfl)
theorem dJ7_isPositionIndex_6 : decode cJ7_isPositionIndex 6 = .ok (.getfield 7, 3) := dk_180 0 7 (dk_at dksJ7_isPositionIndex_0 6 rfl rfl)
theorem dJ7_isPositionIndex_9 : decode cJ7_isPositionIndex 9 = .ok (.if_icmp .gt 7, 3) := dk_163 0 7 (dk_at dksJ7_isPositionIndex_0 9 rfl rfl)
theorem dJ7_isPositionIndex_12 : decode cJ7_isPositionIndex 12 = .ok (.iconst 1, 1) := dk_4 (dk_at dksJ7_isPositionIndex_0 12 rfl rfl)
theorem dJ7_isPositionIndex_13 : decode cJ7_isPositionIndex 13 = .ok (.goto 4, 3) := dk_167 0 4 (dk_at dksJ7_isPositionIndex_0 13 rfl rfl)
theorem dJ7_isPositionIndex_16 : decode cJ7_isPositionIndex 16 = .ok (.iconst 0, 1) := dk_3 (dk_at dksJ7_isPositionIndex_0 16 rfl rfl)
theorem dJ7_isPositionIndex_17 : decode cJ7_isPositionIndex 17 = .ok (.ireturn, 1) := dk_172 (dk_at dksJ7_isPositionIndex_0 17 rfl rfl)
abbrev cJ7_init_2 : ByteArray := prog_67_method_2_code
def yJ7_init_2 : MethodName := ⟨RJ7, "<init>", "(Ljava/util/Collection;)V"⟩
def dkwJ7_init_2_0 : List UInt8 := [42, 183, 0, 13, 42, 43, 182, 0, 14, 87, 177]
abbrev dktJ7_init_2_0 : List UInt8 := dkwJ7_init_2_0 ++ []
theorem dksJ7_init_2_0 : cJ7_init_2.data.toList.drop 0 = dktJ7_init_2_0 := by decide +kernel
theorem dJ7_init_2_0 : decode cJ7_init_2 0 = .ok (.aload_n 0, 1) := dk_42 (dk_at dksJ7_init_2_0 0 rfl rfl)
theorem dJ7_init_2_1 : decode cJ7_init_2 1 = .ok (.invokespecial 13, 3) := dk_183 0 13 (dk_at dksJ7_init_2_0 1 rfl rfl)
theorem dJ7_init_2_4 : decode cJ7_init_2 4 = .ok (.aload_n 0, 1) := dk_42 (dk_at dksJ7_init_2_0 4 rfl rfl)
theorem dJ7_init_2_5 : decode cJ7_init_2 5 = .ok (.aload_n 1, 1) := dk_43 (dk_at dksJ7_init_2_0 5 rfl rfl)
theorem dJ7_init_2_6 : decode cJ7_init_2 6 = .ok (.invokevirtual 14, 3) := dk_182 0 14 (dk_at dksJ7_init_2_0 6 rfl rfl)
theorem dJ7_init_2_9 : decode cJ7_init_2 9 = .ok (.pop, 1) := dk_87 (dk_at dksJ7_init_2_0 9 rfl rfl)
theorem dJ7_init_2_10 : decode cJ7_init_2 10 = .ok (.return_, 1) := dk_177 (dk_at dksJ7_init_2_0 10 rfl rfl)
abbrev cJ7_addAll : ByteArray := prog_67_method_19_code
def yJ7_addAll : MethodName := ⟨RJ7, "addAll", "(Ljava/util/Collection;)Z"⟩
def dkwJ7_addAll_0 : List UInt8 := [42, 42, 180, 0, 7, 43, 182, 0, 73, 172]
abbrev dktJ7_addAll_0 : List UInt8 := dkwJ7_addAll_0 ++ []
theorem dksJ7_addAll_0 : cJ7_addAll.data.toList.drop 0 = dktJ7_addAll_0 := by decide +kernel
theorem dJ7_addAll_0 : decode cJ7_addAll 0 = .ok (.aload_n 0, 1) := dk_42 (dk_at dksJ7_addAll_0 0 rfl rfl)
theorem dJ7_addAll_1 : decode cJ7_addAll 1 = .ok (.aload_n 0, 1) := dk_42 (dk_at dksJ7_addAll_0 1 rfl rfl)
theorem dJ7_addAll_2 : decode cJ7_addAll 2 = .ok (.getfield 7, 3) := dk_180 0 7 (dk_at dksJ7_addAll_0 2 rfl rfl)
theorem dJ7_addAll_5 : decode cJ7_addAll 5 = .ok (.aload_n 1, 1) := dk_43 (dk_at dksJ7_addAll_0 5 rfl rfl)
theorem dJ7_addAll_6 : decode cJ7_addAll 6 = .ok (.invokevirtual 73, 3) := dk_182 0 73 (dk_at dksJ7_addAll_0 6 rfl rfl)
theorem dJ7_addAll_9 : decode cJ7_addAll 9 = .ok (.ireturn, 1) := dk_172 (dk_at dksJ7_addAll_0 9 rfl rfl)
abbrev cJ7_addAll_2 : ByteArray := prog_67_method_20_code
def yJ7_addAll_2 : MethodName := ⟨RJ7, "addAll", "(ILjava/util/Collection;)Z"⟩
def dkwJ7_addAll_2_7 : List UInt8 := [96, 181, 0, 7, 42, 89, 180, 0, 33, 4, 96, 181, 0, 33, 4, 172]
abbrev dktJ7_addAll_2_7 : List UInt8 := dkwJ7_addAll_2_7 ++ []
def dkwJ7_addAll_2_6 : List UInt8 := [167, 0, 17, 25, 5, 25, 6, 181, 0, 36, 25, 6, 25, 5, 181, 0, 30, 42, 89, 180, 0, 7, 21, 4]
abbrev dktJ7_addAll_2_6 : List UInt8 := dkwJ7_addAll_2_6 ++ dktJ7_addAll_2_7
def dkwJ7_addAll_2_5 : List UInt8 := [181, 0, 36, 25, 12, 58, 5, 132, 9, 1, 167, 255, 196, 25, 6, 199, 0, 12, 42, 25, 5, 181, 0, 27]
abbrev dktJ7_addAll_2_5 : List UInt8 := dkwJ7_addAll_2_5 ++ dktJ7_addAll_2_6
def dkwJ7_addAll_2_4 : List UInt8 := [183, 0, 24, 58, 12, 25, 5, 199, 0, 12, 42, 25, 12, 181, 0, 18, 167, 0, 10, 25, 5, 25, 12]
abbrev dktJ7_addAll_2_4 : List UInt8 := dkwJ7_addAll_2_4 ++ dktJ7_addAll_2_5
def dkwJ7_addAll_2_3 : List UInt8 := [162, 0, 59, 25, 7, 21, 9, 50, 58, 10, 25, 10, 58, 11, 187, 0, 22, 89, 25, 5, 25, 11, 1]
abbrev dktJ7_addAll_2_3 : List UInt8 := dkwJ7_addAll_2_3 ++ dktJ7_addAll_2_4
def dkwJ7_addAll_2_2 : List UInt8 := [58, 6, 25, 6, 180, 0, 30, 58, 5, 45, 58, 7, 25, 7, 190, 54, 8, 3, 54, 9, 21, 9, 21, 8]
abbrev dktJ7_addAll_2_2 : List UInt8 := dkwJ7_addAll_2_2 ++ dktJ7_addAll_2_3
def dkwJ7_addAll_2_1 : List UInt8 := [42, 180, 0, 7, 160, 0, 15, 1, 58, 6, 42, 180, 0, 27, 58, 5, 167, 0, 17, 42, 27, 182, 0, 86]
abbrev dktJ7_addAll_2_1 : List UInt8 := dkwJ7_addAll_2_1 ++ dktJ7_addAll_2_2
def dkwJ7_addAll_2_0 : List UInt8 := [42, 27, 182, 0, 76, 44, 185, 0, 80, 1, 0, 78, 45, 190, 54, 4, 21, 4, 154, 0, 5, 3, 172, 27]
abbrev dktJ7_addAll_2_0 : List UInt8 := dkwJ7_addAll_2_0 ++ dktJ7_addAll_2_1
theorem dksJ7_addAll_2_0 : cJ7_addAll_2.data.toList.drop 0 = dktJ7_addAll_2_0 := by decide +kernel
theorem dksJ7_addAll_2_1 : cJ7_addAll_2.data.toList.drop 24 = dktJ7_addAll_2_1 := dk_seg dksJ7_addAll_2_0 24 rfl rfl
theorem dksJ7_addAll_2_2 : cJ7_addAll_2.data.toList.drop 48 = dktJ7_addAll_2_2 := dk_seg dksJ7_addAll_2_1 24 rfl rfl
theorem dksJ7_addAll_2_3 : cJ7_addAll_2.data.toList.drop 72 = dktJ7_addAll_2_3 := dk_seg dksJ7_addAll_2_2 24 rfl rfl
theorem dksJ7_addAll_2_4 : cJ7_addAll_2.data.toList.drop 95 = dktJ7_addAll_2_4 := dk_seg dksJ7_addAll_2_3 23 rfl rfl
theorem dksJ7_addAll_2_5 : cJ7_addAll_2.data.toList.drop 118 = dktJ7_addAll_2_5 := dk_seg dksJ7_addAll_2_4 23 rfl rfl
theorem dksJ7_addAll_2_6 : cJ7_addAll_2.data.toList.drop 142 = dktJ7_addAll_2_6 := dk_seg dksJ7_addAll_2_5 24 rfl rfl
theorem dksJ7_addAll_2_7 : cJ7_addAll_2.data.toList.drop 166 = dktJ7_addAll_2_7 := dk_seg dksJ7_addAll_2_6 24 rfl rfl
theorem dJ7_addAll_2_0 : decode cJ7_addAll_2 0 = .ok (.aload_n 0, 1) := dk_42 (dk_at dksJ7_addAll_2_0 0 rfl rfl)
theorem dJ7_addAll_2_1 : decode cJ7_addAll_2 1 = .ok (.iload_n 1, 1) := dk_27 (dk_at dksJ7_addAll_2_0 1 rfl rfl)
theorem dJ7_addAll_2_2 : decode cJ7_addAll_2 2 = .ok (.invokevirtual 76, 3) := dk_182 0 76 (dk_at dksJ7_addAll_2_0 2 rfl rfl)
theorem dJ7_addAll_2_5 : decode cJ7_addAll_2 5 = .ok (.aload_n 2, 1) := dk_44 (dk_at dksJ7_addAll_2_0 5 rfl rfl)
theorem dJ7_addAll_2_6 : decode cJ7_addAll_2 6 = .ok (.invokeinterface 80 1, 5) := by decide +kernel
theorem dJ7_addAll_2_11 : decode cJ7_addAll_2 11 = .ok (.astore_n 3, 1) := dk_78 (dk_at dksJ7_addAll_2_0 11 rfl rfl)
theorem dJ7_addAll_2_12 : decode cJ7_addAll_2 12 = .ok (.aload_n 3, 1) := dk_45 (dk_at dksJ7_addAll_2_0 12 rfl rfl)
theorem dJ7_addAll_2_13 : decode cJ7_addAll_2 13 = .ok (.arraylength, 1) := dk_190 (dk_at dksJ7_addAll_2_0 13 rfl rfl)
theorem dJ7_addAll_2_14 : decode cJ7_addAll_2 14 = .ok (.istore 4, 2) := dk_54 4 (dk_at dksJ7_addAll_2_0 14 rfl rfl)
theorem dJ7_addAll_2_16 : decode cJ7_addAll_2 16 = .ok (.iload 4, 2) := dk_21 4 (dk_at dksJ7_addAll_2_0 16 rfl rfl)
theorem dJ7_addAll_2_18 : decode cJ7_addAll_2 18 = .ok (.ifCond .ne 5, 3) := dk_154 0 5 (dk_at dksJ7_addAll_2_0 18 rfl rfl)
theorem dJ7_addAll_2_21 : decode cJ7_addAll_2 21 = .ok (.iconst 0, 1) := dk_3 (dk_at dksJ7_addAll_2_0 21 rfl rfl)
theorem dJ7_addAll_2_22 : decode cJ7_addAll_2 22 = .ok (.ireturn, 1) := dk_172 (dk_at dksJ7_addAll_2_0 22 rfl rfl)
theorem dJ7_addAll_2_23 : decode cJ7_addAll_2 23 = .ok (.iload_n 1, 1) := dk_27 (dk_at dksJ7_addAll_2_0 23 rfl rfl)
theorem dJ7_addAll_2_24 : decode cJ7_addAll_2 24 = .ok (.aload_n 0, 1) := dk_42 (dk_at dksJ7_addAll_2_1 0 rfl rfl)
theorem dJ7_addAll_2_25 : decode cJ7_addAll_2 25 = .ok (.getfield 7, 3) := dk_180 0 7 (dk_at dksJ7_addAll_2_1 1 rfl rfl)
theorem dJ7_addAll_2_28 : decode cJ7_addAll_2 28 = .ok (.if_icmp .ne 15, 3) := dk_160 0 15 (dk_at dksJ7_addAll_2_1 4 rfl rfl)
theorem dJ7_addAll_2_31 : decode cJ7_addAll_2 31 = .ok (.aconst_null, 1) := dk_1 (dk_at dksJ7_addAll_2_1 7 rfl rfl)
theorem dJ7_addAll_2_32 : decode cJ7_addAll_2 32 = .ok (.astore 6, 2) := dk_58 6 (dk_at dksJ7_addAll_2_1 8 rfl rfl)
theorem dJ7_addAll_2_34 : decode cJ7_addAll_2 34 = .ok (.aload_n 0, 1) := dk_42 (dk_at dksJ7_addAll_2_1 10 rfl rfl)
theorem dJ7_addAll_2_35 : decode cJ7_addAll_2 35 = .ok (.getfield 27, 3) := dk_180 0 27 (dk_at dksJ7_addAll_2_1 11 rfl rfl)
theorem dJ7_addAll_2_38 : decode cJ7_addAll_2 38 = .ok (.astore 5, 2) := dk_58 5 (dk_at dksJ7_addAll_2_1 14 rfl rfl)
theorem dJ7_addAll_2_40 : decode cJ7_addAll_2 40 = .ok (.goto 17, 3) := dk_167 0 17 (dk_at dksJ7_addAll_2_1 16 rfl rfl)
theorem dJ7_addAll_2_43 : decode cJ7_addAll_2 43 = .ok (.aload_n 0, 1) := dk_42 (dk_at dksJ7_addAll_2_1 19 rfl rfl)
theorem dJ7_addAll_2_44 : decode cJ7_addAll_2 44 = .ok (.iload_n 1, 1) := dk_27 (dk_at dksJ7_addAll_2_1 20 rfl rfl)
theorem dJ7_addAll_2_45 : decode cJ7_addAll_2 45 = .ok (.invokevirtual 86, 3) := dk_182 0 86 (dk_at dksJ7_addAll_2_1 21 rfl rfl)
theorem dJ7_addAll_2_48 : decode cJ7_addAll_2 48 = .ok (.astore 6, 2) := dk_58 6 (dk_at dksJ7_addAll_2_2 0 rfl rfl)
theorem dJ7_addAll_2_50 : decode cJ7_addAll_2 50 = .ok (.aload 6, 2) := dk_25 6 (dk_at dksJ7_addAll_2_2 2 rfl rfl)
theorem dJ7_addAll_2_52 : decode cJ7_addAll_2 52 = .ok (.getfield 30, 3) := dk_180 0 30 (dk_at dksJ7_addAll_2_2 4 rfl rfl)
theorem dJ7_addAll_2_55 : decode cJ7_addAll_2 55 = .ok (.astore 5, 2) := dk_58 5 (dk_at dksJ7_addAll_2_2 7 rfl rfl)
theorem dJ7_addAll_2_57 : decode cJ7_addAll_2 57 = .ok (.aload_n 3, 1) := dk_45 (dk_at dksJ7_addAll_2_2 9 rfl rfl)
theorem dJ7_addAll_2_58 : decode cJ7_addAll_2 58 = .ok (.astore 7, 2) := dk_58 7 (dk_at dksJ7_addAll_2_2 10 rfl rfl)
theorem dJ7_addAll_2_60 : decode cJ7_addAll_2 60 = .ok (.aload 7, 2) := dk_25 7 (dk_at dksJ7_addAll_2_2 12 rfl rfl)
theorem dJ7_addAll_2_62 : decode cJ7_addAll_2 62 = .ok (.arraylength, 1) := dk_190 (dk_at dksJ7_addAll_2_2 14 rfl rfl)
theorem dJ7_addAll_2_63 : decode cJ7_addAll_2 63 = .ok (.istore 8, 2) := dk_54 8 (dk_at dksJ7_addAll_2_2 15 rfl rfl)
theorem dJ7_addAll_2_65 : decode cJ7_addAll_2 65 = .ok (.iconst 0, 1) := dk_3 (dk_at dksJ7_addAll_2_2 17 rfl rfl)
theorem dJ7_addAll_2_66 : decode cJ7_addAll_2 66 = .ok (.istore 9, 2) := dk_54 9 (dk_at dksJ7_addAll_2_2 18 rfl rfl)
theorem dJ7_addAll_2_68 : decode cJ7_addAll_2 68 = .ok (.iload 9, 2) := dk_21 9 (dk_at dksJ7_addAll_2_2 20 rfl rfl)
theorem dJ7_addAll_2_70 : decode cJ7_addAll_2 70 = .ok (.iload 8, 2) := dk_21 8 (dk_at dksJ7_addAll_2_2 22 rfl rfl)
theorem dJ7_addAll_2_72 : decode cJ7_addAll_2 72 = .ok (.if_icmp .ge 59, 3) := dk_162 0 59 (dk_at dksJ7_addAll_2_3 0 rfl rfl)
theorem dJ7_addAll_2_75 : decode cJ7_addAll_2 75 = .ok (.aload 7, 2) := dk_25 7 (dk_at dksJ7_addAll_2_3 3 rfl rfl)
theorem dJ7_addAll_2_77 : decode cJ7_addAll_2 77 = .ok (.iload 9, 2) := dk_21 9 (dk_at dksJ7_addAll_2_3 5 rfl rfl)
theorem dJ7_addAll_2_79 : decode cJ7_addAll_2 79 = .ok (.aaload, 1) := dk_50 (dk_at dksJ7_addAll_2_3 7 rfl rfl)
theorem dJ7_addAll_2_80 : decode cJ7_addAll_2 80 = .ok (.astore 10, 2) := dk_58 10 (dk_at dksJ7_addAll_2_3 8 rfl rfl)
theorem dJ7_addAll_2_82 : decode cJ7_addAll_2 82 = .ok (.aload 10, 2) := dk_25 10 (dk_at dksJ7_addAll_2_3 10 rfl rfl)
theorem dJ7_addAll_2_84 : decode cJ7_addAll_2 84 = .ok (.astore 11, 2) := dk_58 11 (dk_at dksJ7_addAll_2_3 12 rfl rfl)
theorem dJ7_addAll_2_86 : decode cJ7_addAll_2 86 = .ok (.new 22, 3) := dk_187 0 22 (dk_at dksJ7_addAll_2_3 14 rfl rfl)
theorem dJ7_addAll_2_89 : decode cJ7_addAll_2 89 = .ok (.dup, 1) := dk_89 (dk_at dksJ7_addAll_2_3 17 rfl rfl)
theorem dJ7_addAll_2_90 : decode cJ7_addAll_2 90 = .ok (.aload 5, 2) := dk_25 5 (dk_at dksJ7_addAll_2_3 18 rfl rfl)
theorem dJ7_addAll_2_92 : decode cJ7_addAll_2 92 = .ok (.aload 11, 2) := dk_25 11 (dk_at dksJ7_addAll_2_3 20 rfl rfl)
theorem dJ7_addAll_2_94 : decode cJ7_addAll_2 94 = .ok (.aconst_null, 1) := dk_1 (dk_at dksJ7_addAll_2_3 22 rfl rfl)
theorem dJ7_addAll_2_95 : decode cJ7_addAll_2 95 = .ok (.invokespecial 24, 3) := dk_183 0 24 (dk_at dksJ7_addAll_2_4 0 rfl rfl)
theorem dJ7_addAll_2_98 : decode cJ7_addAll_2 98 = .ok (.astore 12, 2) := dk_58 12 (dk_at dksJ7_addAll_2_4 3 rfl rfl)
theorem dJ7_addAll_2_100 : decode cJ7_addAll_2 100 = .ok (.aload 5, 2) := dk_25 5 (dk_at dksJ7_addAll_2_4 5 rfl rfl)
theorem dJ7_addAll_2_102 : decode cJ7_addAll_2 102 = .ok (.ifnonnull 12, 3) := dk_199 0 12 (dk_at dksJ7_addAll_2_4 7 rfl rfl)
theorem dJ7_addAll_2_105 : decode cJ7_addAll_2 105 = .ok (.aload_n 0, 1) := dk_42 (dk_at dksJ7_addAll_2_4 10 rfl rfl)
theorem dJ7_addAll_2_106 : decode cJ7_addAll_2 106 = .ok (.aload 12, 2) := dk_25 12 (dk_at dksJ7_addAll_2_4 11 rfl rfl)
theorem dJ7_addAll_2_108 : decode cJ7_addAll_2 108 = .ok (.putfield 18, 3) := dk_181 0 18 (dk_at dksJ7_addAll_2_4 13 rfl rfl)
theorem dJ7_addAll_2_111 : decode cJ7_addAll_2 111 = .ok (.goto 10, 3) := dk_167 0 10 (dk_at dksJ7_addAll_2_4 16 rfl rfl)
theorem dJ7_addAll_2_114 : decode cJ7_addAll_2 114 = .ok (.aload 5, 2) := dk_25 5 (dk_at dksJ7_addAll_2_4 19 rfl rfl)
theorem dJ7_addAll_2_116 : decode cJ7_addAll_2 116 = .ok (.aload 12, 2) := dk_25 12 (dk_at dksJ7_addAll_2_4 21 rfl rfl)
theorem dJ7_addAll_2_118 : decode cJ7_addAll_2 118 = .ok (.putfield 36, 3) := dk_181 0 36 (dk_at dksJ7_addAll_2_5 0 rfl rfl)
theorem dJ7_addAll_2_121 : decode cJ7_addAll_2 121 = .ok (.aload 12, 2) := dk_25 12 (dk_at dksJ7_addAll_2_5 3 rfl rfl)
theorem dJ7_addAll_2_123 : decode cJ7_addAll_2 123 = .ok (.astore 5, 2) := dk_58 5 (dk_at dksJ7_addAll_2_5 5 rfl rfl)
theorem dJ7_addAll_2_125 : decode cJ7_addAll_2 125 = .ok (.iinc 9 1, 3) := dk_132 9 1 (dk_at dksJ7_addAll_2_5 7 rfl rfl)
theorem dJ7_addAll_2_128 : decode cJ7_addAll_2 128 = .ok (.goto (-60), 3) := dk_167 255 196 (dk_at dksJ7_addAll_2_5 10 rfl rfl)
theorem dJ7_addAll_2_131 : decode cJ7_addAll_2 131 = .ok (.aload 6, 2) := dk_25 6 (dk_at dksJ7_addAll_2_5 13 rfl rfl)
theorem dJ7_addAll_2_133 : decode cJ7_addAll_2 133 = .ok (.ifnonnull 12, 3) := dk_199 0 12 (dk_at dksJ7_addAll_2_5 15 rfl rfl)
theorem dJ7_addAll_2_136 : decode cJ7_addAll_2 136 = .ok (.aload_n 0, 1) := dk_42 (dk_at dksJ7_addAll_2_5 18 rfl rfl)
theorem dJ7_addAll_2_137 : decode cJ7_addAll_2 137 = .ok (.aload 5, 2) := dk_25 5 (dk_at dksJ7_addAll_2_5 19 rfl rfl)
theorem dJ7_addAll_2_139 : decode cJ7_addAll_2 139 = .ok (.putfield 27, 3) := dk_181 0 27 (dk_at dksJ7_addAll_2_5 21 rfl rfl)
theorem dJ7_addAll_2_142 : decode cJ7_addAll_2 142 = .ok (.goto 17, 3) := dk_167 0 17 (dk_at dksJ7_addAll_2_6 0 rfl rfl)
theorem dJ7_addAll_2_145 : decode cJ7_addAll_2 145 = .ok (.aload 5, 2) := dk_25 5 (dk_at dksJ7_addAll_2_6 3 rfl rfl)
theorem dJ7_addAll_2_147 : decode cJ7_addAll_2 147 = .ok (.aload 6, 2) := dk_25 6 (dk_at dksJ7_addAll_2_6 5 rfl rfl)
theorem dJ7_addAll_2_149 : decode cJ7_addAll_2 149 = .ok (.putfield 36, 3) := dk_181 0 36 (dk_at dksJ7_addAll_2_6 7 rfl rfl)
theorem dJ7_addAll_2_152 : decode cJ7_addAll_2 152 = .ok (.aload 6, 2) := dk_25 6 (dk_at dksJ7_addAll_2_6 10 rfl rfl)
theorem dJ7_addAll_2_154 : decode cJ7_addAll_2 154 = .ok (.aload 5, 2) := dk_25 5 (dk_at dksJ7_addAll_2_6 12 rfl rfl)
theorem dJ7_addAll_2_156 : decode cJ7_addAll_2 156 = .ok (.putfield 30, 3) := dk_181 0 30 (dk_at dksJ7_addAll_2_6 14 rfl rfl)
theorem dJ7_addAll_2_159 : decode cJ7_addAll_2 159 = .ok (.aload_n 0, 1) := dk_42 (dk_at dksJ7_addAll_2_6 17 rfl rfl)
theorem dJ7_addAll_2_160 : decode cJ7_addAll_2 160 = .ok (.dup, 1) := dk_89 (dk_at dksJ7_addAll_2_6 18 rfl rfl)
theorem dJ7_addAll_2_161 : decode cJ7_addAll_2 161 = .ok (.getfield 7, 3) := dk_180 0 7 (dk_at dksJ7_addAll_2_6 19 rfl rfl)
theorem dJ7_addAll_2_164 : decode cJ7_addAll_2 164 = .ok (.iload 4, 2) := dk_21 4 (dk_at dksJ7_addAll_2_6 22 rfl rfl)
theorem dJ7_addAll_2_166 : decode cJ7_addAll_2 166 = .ok (.iadd, 1) := dk_96 (dk_at dksJ7_addAll_2_7 0 rfl rfl)
theorem dJ7_addAll_2_167 : decode cJ7_addAll_2 167 = .ok (.putfield 7, 3) := dk_181 0 7 (dk_at dksJ7_addAll_2_7 1 rfl rfl)
theorem dJ7_addAll_2_170 : decode cJ7_addAll_2 170 = .ok (.aload_n 0, 1) := dk_42 (dk_at dksJ7_addAll_2_7 4 rfl rfl)
theorem dJ7_addAll_2_171 : decode cJ7_addAll_2 171 = .ok (.dup, 1) := dk_89 (dk_at dksJ7_addAll_2_7 5 rfl rfl)
theorem dJ7_addAll_2_172 : decode cJ7_addAll_2 172 = .ok (.getfield 33, 3) := dk_180 0 33 (dk_at dksJ7_addAll_2_7 6 rfl rfl)
theorem dJ7_addAll_2_175 : decode cJ7_addAll_2 175 = .ok (.iconst 1, 1) := dk_4 (dk_at dksJ7_addAll_2_7 9 rfl rfl)
theorem dJ7_addAll_2_176 : decode cJ7_addAll_2 176 = .ok (.iadd, 1) := dk_96 (dk_at dksJ7_addAll_2_7 10 rfl rfl)
theorem dJ7_addAll_2_177 : decode cJ7_addAll_2 177 = .ok (.putfield 33, 3) := dk_181 0 33 (dk_at dksJ7_addAll_2_7 11 rfl rfl)
theorem dJ7_addAll_2_180 : decode cJ7_addAll_2 180 = .ok (.iconst 1, 1) := dk_4 (dk_at dksJ7_addAll_2_7 14 rfl rfl)
theorem dJ7_addAll_2_181 : decode cJ7_addAll_2 181 = .ok (.ireturn, 1) := dk_172 (dk_at dksJ7_addAll_2_7 15 rfl rfl)
abbrev cJ7_toArray : ByteArray := prog_67_method_53_code
def yJ7_toArray : MethodName := ⟨RJ7, "toArray", "()[Ljava/lang/Object;"⟩
def dkwJ7_toArray_1 : List UInt8 := [45, 180, 0, 39, 83, 45, 180, 0, 36, 78, 167, 255, 237, 43, 176]
abbrev dktJ7_toArray_1 : List UInt8 := dkwJ7_toArray_1 ++ []
def dkwJ7_toArray_0 : List UInt8 := [42, 180, 0, 7, 189, 0, 68, 76, 3, 61, 42, 180, 0, 18, 78, 45, 198, 0, 21, 43, 28, 132, 2, 1]
abbrev dktJ7_toArray_0 : List UInt8 := dkwJ7_toArray_0 ++ dktJ7_toArray_1
theorem dksJ7_toArray_0 : cJ7_toArray.data.toList.drop 0 = dktJ7_toArray_0 := by decide +kernel
theorem dksJ7_toArray_1 : cJ7_toArray.data.toList.drop 24 = dktJ7_toArray_1 := dk_seg dksJ7_toArray_0 24 rfl rfl
theorem dJ7_toArray_0 : decode cJ7_toArray 0 = .ok (.aload_n 0, 1) := dk_42 (dk_at dksJ7_toArray_0 0 rfl rfl)
theorem dJ7_toArray_1 : decode cJ7_toArray 1 = .ok (.getfield 7, 3) := dk_180 0 7 (dk_at dksJ7_toArray_0 1 rfl rfl)
theorem dJ7_toArray_4 : decode cJ7_toArray 4 = .ok (.anewarray 68, 3) := dk_189 0 68 (dk_at dksJ7_toArray_0 4 rfl rfl)
theorem dJ7_toArray_7 : decode cJ7_toArray 7 = .ok (.astore_n 1, 1) := dk_76 (dk_at dksJ7_toArray_0 7 rfl rfl)
theorem dJ7_toArray_8 : decode cJ7_toArray 8 = .ok (.iconst 0, 1) := dk_3 (dk_at dksJ7_toArray_0 8 rfl rfl)
theorem dJ7_toArray_9 : decode cJ7_toArray 9 = .ok (.istore_n 2, 1) := dk_61 (dk_at dksJ7_toArray_0 9 rfl rfl)
theorem dJ7_toArray_10 : decode cJ7_toArray 10 = .ok (.aload_n 0, 1) := dk_42 (dk_at dksJ7_toArray_0 10 rfl rfl)
theorem dJ7_toArray_11 : decode cJ7_toArray 11 = .ok (.getfield 18, 3) := dk_180 0 18 (dk_at dksJ7_toArray_0 11 rfl rfl)
theorem dJ7_toArray_14 : decode cJ7_toArray 14 = .ok (.astore_n 3, 1) := dk_78 (dk_at dksJ7_toArray_0 14 rfl rfl)
theorem dJ7_toArray_15 : decode cJ7_toArray 15 = .ok (.aload_n 3, 1) := dk_45 (dk_at dksJ7_toArray_0 15 rfl rfl)
theorem dJ7_toArray_16 : decode cJ7_toArray 16 = .ok (.ifnull 21, 3) := dk_198 0 21 (dk_at dksJ7_toArray_0 16 rfl rfl)
theorem dJ7_toArray_19 : decode cJ7_toArray 19 = .ok (.aload_n 1, 1) := dk_43 (dk_at dksJ7_toArray_0 19 rfl rfl)
theorem dJ7_toArray_20 : decode cJ7_toArray 20 = .ok (.iload_n 2, 1) := dk_28 (dk_at dksJ7_toArray_0 20 rfl rfl)
theorem dJ7_toArray_21 : decode cJ7_toArray 21 = .ok (.iinc 2 1, 3) := dk_132 2 1 (dk_at dksJ7_toArray_0 21 rfl rfl)
theorem dJ7_toArray_24 : decode cJ7_toArray 24 = .ok (.aload_n 3, 1) := dk_45 (dk_at dksJ7_toArray_1 0 rfl rfl)
theorem dJ7_toArray_25 : decode cJ7_toArray 25 = .ok (.getfield 39, 3) := dk_180 0 39 (dk_at dksJ7_toArray_1 1 rfl rfl)
theorem dJ7_toArray_28 : decode cJ7_toArray 28 = .ok (.aastore, 1) := dk_83 (dk_at dksJ7_toArray_1 4 rfl rfl)
theorem dJ7_toArray_29 : decode cJ7_toArray 29 = .ok (.aload_n 3, 1) := dk_45 (dk_at dksJ7_toArray_1 5 rfl rfl)
theorem dJ7_toArray_30 : decode cJ7_toArray 30 = .ok (.getfield 36, 3) := dk_180 0 36 (dk_at dksJ7_toArray_1 6 rfl rfl)
theorem dJ7_toArray_33 : decode cJ7_toArray 33 = .ok (.astore_n 3, 1) := dk_78 (dk_at dksJ7_toArray_1 9 rfl rfl)
theorem dJ7_toArray_34 : decode cJ7_toArray 34 = .ok (.goto (-19), 3) := dk_167 255 237 (dk_at dksJ7_toArray_1 10 rfl rfl)
theorem dJ7_toArray_37 : decode cJ7_toArray 37 = .ok (.aload_n 1, 1) := dk_43 (dk_at dksJ7_toArray_1 13 rfl rfl)
theorem dJ7_toArray_38 : decode cJ7_toArray 38 = .ok (.areturn, 1) := dk_176 (dk_at dksJ7_toArray_1 14 rfl rfl)
abbrev cJ7_clear : ByteArray := prog_67_method_21_code
def yJ7_clear : MethodName := ⟨RJ7, "clear", "()V"⟩
def dkwJ7_clear_2 : List UInt8 := [181, 0, 7, 42, 89, 180, 0, 33, 4, 96, 181, 0, 33, 177]
abbrev dktJ7_clear_2 : List UInt8 := dkwJ7_clear_2 ++ []
def dkwJ7_clear_1 : List UInt8 := [43, 1, 181, 0, 30, 44, 76, 167, 255, 230, 42, 42, 1, 90, 181, 0, 27, 181, 0, 18, 42, 3]
abbrev dktJ7_clear_1 : List UInt8 := dkwJ7_clear_1 ++ dktJ7_clear_2
def dkwJ7_clear_0 : List UInt8 := [42, 180, 0, 18, 76, 43, 198, 0, 28, 43, 180, 0, 36, 77, 43, 1, 181, 0, 39, 43, 1, 181, 0, 36]
abbrev dktJ7_clear_0 : List UInt8 := dkwJ7_clear_0 ++ dktJ7_clear_1
theorem dksJ7_clear_0 : cJ7_clear.data.toList.drop 0 = dktJ7_clear_0 := by decide +kernel
theorem dksJ7_clear_1 : cJ7_clear.data.toList.drop 24 = dktJ7_clear_1 := dk_seg dksJ7_clear_0 24 rfl rfl
theorem dksJ7_clear_2 : cJ7_clear.data.toList.drop 46 = dktJ7_clear_2 := dk_seg dksJ7_clear_1 22 rfl rfl
theorem dJ7_clear_0 : decode cJ7_clear 0 = .ok (.aload_n 0, 1) := dk_42 (dk_at dksJ7_clear_0 0 rfl rfl)
theorem dJ7_clear_1 : decode cJ7_clear 1 = .ok (.getfield 18, 3) := dk_180 0 18 (dk_at dksJ7_clear_0 1 rfl rfl)
theorem dJ7_clear_4 : decode cJ7_clear 4 = .ok (.astore_n 1, 1) := dk_76 (dk_at dksJ7_clear_0 4 rfl rfl)
theorem dJ7_clear_5 : decode cJ7_clear 5 = .ok (.aload_n 1, 1) := dk_43 (dk_at dksJ7_clear_0 5 rfl rfl)
theorem dJ7_clear_6 : decode cJ7_clear 6 = .ok (.ifnull 28, 3) := dk_198 0 28 (dk_at dksJ7_clear_0 6 rfl rfl)
theorem dJ7_clear_9 : decode cJ7_clear 9 = .ok (.aload_n 1, 1) := dk_43 (dk_at dksJ7_clear_0 9 rfl rfl)
theorem dJ7_clear_10 : decode cJ7_clear 10 = .ok (.getfield 36, 3) := dk_180 0 36 (dk_at dksJ7_clear_0 10 rfl rfl)
theorem dJ7_clear_13 : decode cJ7_clear 13 = .ok (.astore_n 2, 1) := dk_77 (dk_at dksJ7_clear_0 13 rfl rfl)
theorem dJ7_clear_14 : decode cJ7_clear 14 = .ok (.aload_n 1, 1) := dk_43 (dk_at dksJ7_clear_0 14 rfl rfl)
theorem dJ7_clear_15 : decode cJ7_clear 15 = .ok (.aconst_null, 1) := dk_1 (dk_at dksJ7_clear_0 15 rfl rfl)
theorem dJ7_clear_16 : decode cJ7_clear 16 = .ok (.putfield 39, 3) := dk_181 0 39 (dk_at dksJ7_clear_0 16 rfl rfl)
theorem dJ7_clear_19 : decode cJ7_clear 19 = .ok (.aload_n 1, 1) := dk_43 (dk_at dksJ7_clear_0 19 rfl rfl)
theorem dJ7_clear_20 : decode cJ7_clear 20 = .ok (.aconst_null, 1) := dk_1 (dk_at dksJ7_clear_0 20 rfl rfl)
theorem dJ7_clear_21 : decode cJ7_clear 21 = .ok (.putfield 36, 3) := dk_181 0 36 (dk_at dksJ7_clear_0 21 rfl rfl)
theorem dJ7_clear_24 : decode cJ7_clear 24 = .ok (.aload_n 1, 1) := dk_43 (dk_at dksJ7_clear_1 0 rfl rfl)
theorem dJ7_clear_25 : decode cJ7_clear 25 = .ok (.aconst_null, 1) := dk_1 (dk_at dksJ7_clear_1 1 rfl rfl)
theorem dJ7_clear_26 : decode cJ7_clear 26 = .ok (.putfield 30, 3) := dk_181 0 30 (dk_at dksJ7_clear_1 2 rfl rfl)
theorem dJ7_clear_29 : decode cJ7_clear 29 = .ok (.aload_n 2, 1) := dk_44 (dk_at dksJ7_clear_1 5 rfl rfl)
theorem dJ7_clear_30 : decode cJ7_clear 30 = .ok (.astore_n 1, 1) := dk_76 (dk_at dksJ7_clear_1 6 rfl rfl)
theorem dJ7_clear_31 : decode cJ7_clear 31 = .ok (.goto (-26), 3) := dk_167 255 230 (dk_at dksJ7_clear_1 7 rfl rfl)
theorem dJ7_clear_34 : decode cJ7_clear 34 = .ok (.aload_n 0, 1) := dk_42 (dk_at dksJ7_clear_1 10 rfl rfl)
theorem dJ7_clear_35 : decode cJ7_clear 35 = .ok (.aload_n 0, 1) := dk_42 (dk_at dksJ7_clear_1 11 rfl rfl)
theorem dJ7_clear_36 : decode cJ7_clear 36 = .ok (.aconst_null, 1) := dk_1 (dk_at dksJ7_clear_1 12 rfl rfl)
theorem dJ7_clear_37 : decode cJ7_clear 37 = .ok (.dup_x1, 1) := dk_90 (dk_at dksJ7_clear_1 13 rfl rfl)
theorem dJ7_clear_38 : decode cJ7_clear 38 = .ok (.putfield 27, 3) := dk_181 0 27 (dk_at dksJ7_clear_1 14 rfl rfl)
theorem dJ7_clear_41 : decode cJ7_clear 41 = .ok (.putfield 18, 3) := dk_181 0 18 (dk_at dksJ7_clear_1 17 rfl rfl)
theorem dJ7_clear_44 : decode cJ7_clear 44 = .ok (.aload_n 0, 1) := dk_42 (dk_at dksJ7_clear_1 20 rfl rfl)
theorem dJ7_clear_45 : decode cJ7_clear 45 = .ok (.iconst 0, 1) := dk_3 (dk_at dksJ7_clear_1 21 rfl rfl)
theorem dJ7_clear_46 : decode cJ7_clear 46 = .ok (.putfield 7, 3) := dk_181 0 7 (dk_at dksJ7_clear_2 0 rfl rfl)
theorem dJ7_clear_49 : decode cJ7_clear 49 = .ok (.aload_n 0, 1) := dk_42 (dk_at dksJ7_clear_2 3 rfl rfl)
theorem dJ7_clear_50 : decode cJ7_clear 50 = .ok (.dup, 1) := dk_89 (dk_at dksJ7_clear_2 4 rfl rfl)
theorem dJ7_clear_51 : decode cJ7_clear 51 = .ok (.getfield 33, 3) := dk_180 0 33 (dk_at dksJ7_clear_2 5 rfl rfl)
theorem dJ7_clear_54 : decode cJ7_clear 54 = .ok (.iconst 1, 1) := dk_4 (dk_at dksJ7_clear_2 8 rfl rfl)
theorem dJ7_clear_55 : decode cJ7_clear 55 = .ok (.iadd, 1) := dk_96 (dk_at dksJ7_clear_2 9 rfl rfl)
theorem dJ7_clear_56 : decode cJ7_clear 56 = .ok (.putfield 33, 3) := dk_181 0 33 (dk_at dksJ7_clear_2 10 rfl rfl)
theorem dJ7_clear_59 : decode cJ7_clear 59 = .ok (.return_, 1) := dk_177 (dk_at dksJ7_clear_2 13 rfl rfl)
theorem q57 : (Jvm.Cond.initialized "java/util/LinkedList") ∈ lw_all := lw_g (lw_at lw_m1 9 rfl) rfl
theorem q135 : (Jvm.Cond.sameField "java/util/LinkedList" "java/util/AbstractList" "modCount" "I") ∈ lw_all := lw_g (lw_at lw_m1 87 rfl) rfl
theorem q139 : (Jvm.Cond.fieldLink "java/util/LinkedList" (33 : Nat) "java/util/LinkedList" "modCount" "I") ∈ lw_all := lw_g (lw_at lw_m1 91 rfl) rfl
theorem q201 : (Jvm.Cond.instantiable "java/util/LinkedList" (4 : Nat)) ∈ lw_all := lw_g (lw_at lw_m1 153 rfl) rfl
theorem q203 : (Jvm.Cond.instanceMethod ({ cls := "java/util/LinkedList", name := "<init>", desc := "()V" } : Jvm.MethodName)) ∈ lw_all := lw_g (lw_at lw_m1 155 rfl) rfl
theorem q204 : (Jvm.Cond.code ({ cls := "java/util/LinkedList", name := "<init>", desc := "()V" } : Jvm.MethodName) prog_67_method_1_code (1 : Nat) (Option.none : Option Jvm.ClassFile.FieldType)) ∈ lw_all := lw_g (lw_at lw_m1 156 rfl) rfl
theorem q205 : (Jvm.Cond.methodLink "java/util/LinkedList" (1 : Nat) ({ cls := "java/util/AbstractSequentialList", name := "<init>", desc := "()V" } : Jvm.MethodName)) ∈ lw_all := lw_g (lw_at lw_m1 157 rfl) rfl
theorem q209 : (Jvm.Cond.fieldLink "java/util/LinkedList" (7 : Nat) "java/util/LinkedList" "size" "I") ∈ lw_all := lw_g (lw_at lw_m1 161 rfl) rfl
theorem q211 : (Jvm.Cond.fieldLink "java/util/LinkedList" (18 : Nat) "java/util/LinkedList" "first" "Ljava/util/LinkedList$Node;") ∈ lw_all := lw_g (lw_at lw_m1 163 rfl) rfl
theorem q212 : (Jvm.Cond.fieldLink "java/util/LinkedList" (27 : Nat) "java/util/LinkedList" "last" "Ljava/util/LinkedList$Node;") ∈ lw_all := lw_g (lw_at lw_m1 164 rfl) rfl
theorem q213 : (Jvm.Cond.lays "java/util/LinkedList" "java/util/LinkedList" "size" "I") ∈ lw_all := lw_g (lw_at lw_m1 165 rfl) rfl
theorem q214 : (Jvm.Cond.soleField "java/util/LinkedList" "size") ∈ lw_all := lw_g (lw_at lw_m1 166 rfl) rfl
theorem q215 : (Jvm.Cond.lays "java/util/LinkedList" "java/util/LinkedList" "first" "Ljava/util/LinkedList$Node;") ∈ lw_all := lw_g (lw_at lw_m1 167 rfl) rfl
theorem q216 : (Jvm.Cond.soleField "java/util/LinkedList" "first") ∈ lw_all := lw_g (lw_at lw_m1 168 rfl) rfl
theorem q217 : (Jvm.Cond.lays "java/util/LinkedList" "java/util/LinkedList" "last" "Ljava/util/LinkedList$Node;") ∈ lw_all := lw_g (lw_at lw_m1 169 rfl) rfl
theorem q218 : (Jvm.Cond.soleField "java/util/LinkedList" "last") ∈ lw_all := lw_g (lw_at lw_m1 170 rfl) rfl
theorem q219 : (Jvm.Cond.lays "java/util/LinkedList" "java/util/AbstractList" "modCount" "I") ∈ lw_all := lw_g (lw_at lw_m1 171 rfl) rfl
theorem q220 : (Jvm.Cond.superclass "java/util/LinkedList" "java/util/AbstractSequentialList") ∈ lw_all := lw_g (lw_at lw_m1 172 rfl) rfl
theorem q288 : (Jvm.Cond.selects "java/util/LinkedList" ({ cls := "java/lang/Object", name := "getClass", desc := "()Ljava/lang/Class;" } : Jvm.MethodName) ({ cls := "java/lang/Object", name := "getClass", desc := "()Ljava/lang/Class;" } : Jvm.MethodName)) ∈ lw_all := lw_g (lw_at lw_m2 0 rfl) rfl
theorem q1289 : (Jvm.Cond.instanceMethod ({ cls := "java/util/LinkedList", name := "size", desc := "()I" } : Jvm.MethodName)) ∈ lw_all := lw_g (lw_at lw_m6 41 rfl) rfl
theorem q1290 : (Jvm.Cond.selects "java/util/LinkedList" ({ cls := "java/util/LinkedList", name := "size", desc := "()I" } : Jvm.MethodName) ({ cls := "java/util/LinkedList", name := "size", desc := "()I" } : Jvm.MethodName)) ∈ lw_all := lw_g (lw_at lw_m6 42 rfl) rfl
theorem q1291 : (Jvm.Cond.code ({ cls := "java/util/LinkedList", name := "size", desc := "()I" } : Jvm.MethodName) prog_67_method_16_code (1 : Nat) (Option.some Jvm.ClassFile.FieldType.int)) ∈ lw_all := lw_g (lw_at lw_m6 43 rfl) rfl
theorem q1334 : (Jvm.Cond.instanceMethod ({ cls := "java/util/LinkedList", name := "addLast", desc := "(Ljava/lang/Object;)V" } : Jvm.MethodName)) ∈ lw_all := lw_g (lw_at lw_m6 86 rfl) rfl
theorem q1335 : (Jvm.Cond.selects "java/util/LinkedList" ({ cls := "java/util/LinkedList", name := "addLast", desc := "(Ljava/lang/Object;)V" } : Jvm.MethodName) ({ cls := "java/util/LinkedList", name := "addLast", desc := "(Ljava/lang/Object;)V" } : Jvm.MethodName)) ∈ lw_all := lw_g (lw_at lw_m6 87 rfl) rfl
theorem q1336 : (Jvm.Cond.code ({ cls := "java/util/LinkedList", name := "addLast", desc := "(Ljava/lang/Object;)V" } : Jvm.MethodName) prog_67_method_14_code (2 : Nat) (Option.none : Option Jvm.ClassFile.FieldType)) ∈ lw_all := lw_g (lw_at lw_m6 88 rfl) rfl
theorem q1337 : (Jvm.Cond.methodLink "java/util/LinkedList" (57 : Nat) ({ cls := "java/util/LinkedList", name := "linkLast", desc := "(Ljava/lang/Object;)V" } : Jvm.MethodName)) ∈ lw_all := lw_g (lw_at lw_m6 89 rfl) rfl
theorem q1338 : (Jvm.Cond.instanceMethod ({ cls := "java/util/LinkedList", name := "linkLast", desc := "(Ljava/lang/Object;)V" } : Jvm.MethodName)) ∈ lw_all := lw_g (lw_at lw_m6 90 rfl) rfl
theorem q1339 : (Jvm.Cond.selects "java/util/LinkedList" ({ cls := "java/util/LinkedList", name := "linkLast", desc := "(Ljava/lang/Object;)V" } : Jvm.MethodName) ({ cls := "java/util/LinkedList", name := "linkLast", desc := "(Ljava/lang/Object;)V" } : Jvm.MethodName)) ∈ lw_all := lw_g (lw_at lw_m6 91 rfl) rfl
theorem q1340 : (Jvm.Cond.code ({ cls := "java/util/LinkedList", name := "linkLast", desc := "(Ljava/lang/Object;)V" } : Jvm.MethodName) prog_67_method_4_code (4 : Nat) (Option.none : Option Jvm.ClassFile.FieldType)) ∈ lw_all := lw_g (lw_at lw_m6 92 rfl) rfl
theorem q1341 : (Jvm.Cond.classLink "java/util/LinkedList" (22 : Nat) "java/util/LinkedList$Node") ∈ lw_all := lw_g (lw_at lw_m6 93 rfl) rfl
theorem q1343 : (Jvm.Cond.methodLink "java/util/LinkedList" (24 : Nat) ({ cls := "java/util/LinkedList$Node", name := "<init>", desc := "(Ljava/util/LinkedList$Node;Ljava/lang/Object;Ljava/util/LinkedList$Node;)V" } : Jvm.MethodName)) ∈ lw_all := lw_g (lw_at lw_m6 95 rfl) rfl
theorem q1349 : (Jvm.Cond.fieldLink "java/util/LinkedList" (39 : Nat) "java/util/LinkedList$Node" "item" "Ljava/lang/Object;") ∈ lw_all := lw_g (lw_at lw_m6 101 rfl) rfl
theorem q1352 : (Jvm.Cond.fieldLink "java/util/LinkedList" (36 : Nat) "java/util/LinkedList$Node" "next" "Ljava/util/LinkedList$Node;") ∈ lw_all := lw_g (lw_at lw_m6 104 rfl) rfl
theorem q1354 : (Jvm.Cond.fieldLink "java/util/LinkedList" (30 : Nat) "java/util/LinkedList$Node" "prev" "Ljava/util/LinkedList$Node;") ∈ lw_all := lw_g (lw_at lw_m6 106 rfl) rfl
theorem q1414 : (Jvm.Cond.instanceMethod ({ cls := "java/util/LinkedList", name := "removeLast", desc := "()Ljava/lang/Object;" } : Jvm.MethodName)) ∈ lw_all := lw_g (lw_at lw_m6 166 rfl) rfl
theorem q1415 : (Jvm.Cond.selects "java/util/LinkedList" ({ cls := "java/util/LinkedList", name := "removeLast", desc := "()Ljava/lang/Object;" } : Jvm.MethodName) ({ cls := "java/util/LinkedList", name := "removeLast", desc := "()Ljava/lang/Object;" } : Jvm.MethodName)) ∈ lw_all := lw_g (lw_at lw_m6 167 rfl) rfl
theorem q1416 : (Jvm.Cond.code ({ cls := "java/util/LinkedList", name := "removeLast", desc := "()Ljava/lang/Object;" } : Jvm.MethodName) prog_67_method_12_code (2 : Nat) (Option.some (Jvm.ClassFile.FieldType.object "java/lang/Object"))) ∈ lw_all := lw_g (lw_at lw_m6 168 rfl) rfl
theorem q1417 : (Jvm.Cond.methodLink "java/util/LinkedList" (50 : Nat) ({ cls := "java/util/LinkedList", name := "unlinkLast", desc := "(Ljava/util/LinkedList$Node;)Ljava/lang/Object;" } : Jvm.MethodName)) ∈ lw_all := lw_g (lw_at lw_m6 169 rfl) rfl
theorem q1418 : (Jvm.Cond.privateMethod ({ cls := "java/util/LinkedList", name := "unlinkLast", desc := "(Ljava/util/LinkedList$Node;)Ljava/lang/Object;" } : Jvm.MethodName)) ∈ lw_tbl := lw_at lw_m6 170 rfl
theorem q1419 : (Jvm.Cond.instanceMethod ({ cls := "java/util/LinkedList", name := "unlinkLast", desc := "(Ljava/util/LinkedList$Node;)Ljava/lang/Object;" } : Jvm.MethodName)) ∈ lw_all := lw_g (lw_at lw_m6 171 rfl) rfl
theorem q1420 : (Jvm.Cond.code ({ cls := "java/util/LinkedList", name := "unlinkLast", desc := "(Ljava/util/LinkedList$Node;)Ljava/lang/Object;" } : Jvm.MethodName) prog_67_method_7_code (4 : Nat) (Option.some (Jvm.ClassFile.FieldType.object "java/lang/Object"))) ∈ lw_all := lw_g (lw_at lw_m6 172 rfl) rfl
theorem q1484 : (Jvm.Cond.selects "java/util/LinkedList" ({ cls := "java/util/AbstractList", name := "size", desc := "()I" } : Jvm.MethodName) ({ cls := "java/util/LinkedList", name := "size", desc := "()I" } : Jvm.MethodName)) ∈ lw_all := lw_g (lw_at lw_m6 236 rfl) rfl
theorem q1524 : (Jvm.Cond.selects "java/util/LinkedList" ({ cls := "java/util/AbstractList", name := "get", desc := "(I)Ljava/lang/Object;" } : Jvm.MethodName) ({ cls := "java/util/LinkedList", name := "get", desc := "(I)Ljava/lang/Object;" } : Jvm.MethodName)) ∈ lw_all := lw_g (lw_at lw_m7 36 rfl) rfl
theorem q1525 : (Jvm.Cond.instanceMethod ({ cls := "java/util/LinkedList", name := "get", desc := "(I)Ljava/lang/Object;" } : Jvm.MethodName)) ∈ lw_all := lw_g (lw_at lw_m7 37 rfl) rfl
theorem q1526 : (Jvm.Cond.code ({ cls := "java/util/LinkedList", name := "get", desc := "(I)Ljava/lang/Object;" } : Jvm.MethodName) prog_67_method_22_code (2 : Nat) (Option.some (Jvm.ClassFile.FieldType.object "java/lang/Object"))) ∈ lw_all := lw_g (lw_at lw_m7 38 rfl) rfl
theorem q1527 : (Jvm.Cond.methodLink "java/util/LinkedList" (90 : Nat) ({ cls := "java/util/LinkedList", name := "checkElementIndex", desc := "(I)V" } : Jvm.MethodName)) ∈ lw_all := lw_g (lw_at lw_m7 39 rfl) rfl
theorem q1528 : (Jvm.Cond.privateMethod ({ cls := "java/util/LinkedList", name := "checkElementIndex", desc := "(I)V" } : Jvm.MethodName)) ∈ lw_tbl := lw_at lw_m7 40 rfl
theorem q1529 : (Jvm.Cond.instanceMethod ({ cls := "java/util/LinkedList", name := "checkElementIndex", desc := "(I)V" } : Jvm.MethodName)) ∈ lw_all := lw_g (lw_at lw_m7 41 rfl) rfl
theorem q1530 : (Jvm.Cond.code ({ cls := "java/util/LinkedList", name := "checkElementIndex", desc := "(I)V" } : Jvm.MethodName) prog_67_method_29_code (2 : Nat) (Option.none : Option Jvm.ClassFile.FieldType)) ∈ lw_all := lw_g (lw_at lw_m7 42 rfl) rfl
theorem q1531 : (Jvm.Cond.methodLink "java/util/LinkedList" (115 : Nat) ({ cls := "java/util/LinkedList", name := "isElementIndex", desc := "(I)Z" } : Jvm.MethodName)) ∈ lw_all := lw_g (lw_at lw_m7 43 rfl) rfl
theorem q1532 : (Jvm.Cond.privateMethod ({ cls := "java/util/LinkedList", name := "isElementIndex", desc := "(I)Z" } : Jvm.MethodName)) ∈ lw_tbl := lw_at lw_m7 44 rfl
theorem q1533 : (Jvm.Cond.instanceMethod ({ cls := "java/util/LinkedList", name := "isElementIndex", desc := "(I)Z" } : Jvm.MethodName)) ∈ lw_all := lw_g (lw_at lw_m7 45 rfl) rfl
theorem q1534 : (Jvm.Cond.code ({ cls := "java/util/LinkedList", name := "isElementIndex", desc := "(I)Z" } : Jvm.MethodName) prog_67_method_26_code (2 : Nat) (Option.some Jvm.ClassFile.FieldType.boolean)) ∈ lw_all := lw_g (lw_at lw_m7 46 rfl) rfl
theorem q1535 : (Jvm.Cond.classLink "java/util/LinkedList" (119 : Nat) "java/lang/IndexOutOfBoundsException") ∈ lw_all := lw_g (lw_at lw_m7 47 rfl) rfl
theorem q1544 : (Jvm.Cond.methodLink "java/util/LinkedList" (121 : Nat) ({ cls := "java/util/LinkedList", name := "outOfBoundsMsg", desc := "(I)Ljava/lang/String;" } : Jvm.MethodName)) ∈ lw_all := lw_g (lw_at lw_m7 56 rfl) rfl
theorem q1545 : (Jvm.Cond.privateMethod ({ cls := "java/util/LinkedList", name := "outOfBoundsMsg", desc := "(I)Ljava/lang/String;" } : Jvm.MethodName)) ∈ lw_tbl := lw_at lw_m7 57 rfl
theorem q1546 : (Jvm.Cond.instanceMethod ({ cls := "java/util/LinkedList", name := "outOfBoundsMsg", desc := "(I)Ljava/lang/String;" } : Jvm.MethodName)) ∈ lw_all := lw_g (lw_at lw_m7 58 rfl) rfl
theorem q1547 : (Jvm.Cond.code ({ cls := "java/util/LinkedList", name := "outOfBoundsMsg", desc := "(I)Ljava/lang/String;" } : Jvm.MethodName) prog_67_method_28_code (2 : Nat) (Option.some (Jvm.ClassFile.FieldType.object "java/lang/String"))) ∈ lw_all := lw_g (lw_at lw_m7 59 rfl) rfl
theorem q1548 : (Jvm.Cond.classLink "java/util/LinkedList" (97 : Nat) "java/lang/StringBuilder") ∈ lw_all := lw_g (lw_at lw_m7 60 rfl) rfl
theorem q1549 : (Jvm.Cond.methodLink "java/util/LinkedList" (99 : Nat) ({ cls := "java/lang/StringBuilder", name := "<init>", desc := "()V" } : Jvm.MethodName)) ∈ lw_all := lw_g (lw_at lw_m7 61 rfl) rfl
theorem q1550 : (Jvm.Cond.stringRef "java/util/LinkedList" (100 : Nat) "Index: ") ∈ lw_tbl := lw_at lw_m7 62 rfl
theorem q1551 : (Jvm.Cond.methodLink "java/util/LinkedList" (102 : Nat) ({ cls := "java/lang/StringBuilder", name := "append", desc := "(Ljava/lang/String;)Ljava/lang/StringBuilder;" } : Jvm.MethodName)) ∈ lw_all := lw_g (lw_at lw_m7 63 rfl) rfl
theorem q1552 : (Jvm.Cond.methodLink "java/util/LinkedList" (106 : Nat) ({ cls := "java/lang/StringBuilder", name := "append", desc := "(I)Ljava/lang/StringBuilder;" } : Jvm.MethodName)) ∈ lw_all := lw_g (lw_at lw_m7 64 rfl) rfl
theorem q1553 : (Jvm.Cond.stringRef "java/util/LinkedList" (109 : Nat) ", Size: ") ∈ lw_tbl := lw_at lw_m7 65 rfl
theorem q1554 : (Jvm.Cond.methodLink "java/util/LinkedList" (111 : Nat) ({ cls := "java/lang/StringBuilder", name := "toString", desc := "()Ljava/lang/String;" } : Jvm.MethodName)) ∈ lw_all := lw_g (lw_at lw_m7 66 rfl) rfl
theorem q1555 : (Jvm.Cond.methodLink "java/util/LinkedList" (125 : Nat) ({ cls := "java/lang/IndexOutOfBoundsException", name := "<init>", desc := "(Ljava/lang/String;)V" } : Jvm.MethodName)) ∈ lw_all := lw_g (lw_at lw_m7 67 rfl) rfl
theorem q1561 : (Jvm.Cond.methodLink "java/util/LinkedList" (86 : Nat) ({ cls := "java/util/LinkedList", name := "node", desc := "(I)Ljava/util/LinkedList$Node;" } : Jvm.MethodName)) ∈ lw_all := lw_g (lw_at lw_m7 73 rfl) rfl
theorem q1562 : (Jvm.Cond.instanceMethod ({ cls := "java/util/LinkedList", name := "node", desc := "(I)Ljava/util/LinkedList$Node;" } : Jvm.MethodName)) ∈ lw_all := lw_g (lw_at lw_m7 74 rfl) rfl
theorem q1563 : (Jvm.Cond.selects "java/util/LinkedList" ({ cls := "java/util/LinkedList", name := "node", desc := "(I)Ljava/util/LinkedList$Node;" } : Jvm.MethodName) ({ cls := "java/util/LinkedList", name := "node", desc := "(I)Ljava/util/LinkedList$Node;" } : Jvm.MethodName)) ∈ lw_all := lw_g (lw_at lw_m7 75 rfl) rfl
theorem q1564 : (Jvm.Cond.code ({ cls := "java/util/LinkedList", name := "node", desc := "(I)Ljava/util/LinkedList$Node;" } : Jvm.MethodName) prog_67_method_31_code (4 : Nat) (Option.some (Jvm.ClassFile.FieldType.object "java/util/LinkedList$Node"))) ∈ lw_all := lw_g (lw_at lw_m7 76 rfl) rfl
theorem q1682 : (Jvm.Cond.sameMethod "java/util/LinkedList" "java/util/AbstractCollection" "isEmpty" "()Z") ∈ lw_all := lw_g (lw_at lw_m7 194 rfl) rfl
theorem q1684 : (Jvm.Cond.selects "java/util/LinkedList" ({ cls := "java/util/LinkedList", name := "isEmpty", desc := "()Z" } : Jvm.MethodName) ({ cls := "java/util/AbstractCollection", name := "isEmpty", desc := "()Z" } : Jvm.MethodName)) ∈ lw_all := lw_g (lw_at lw_m7 196 rfl) rfl
theorem q1689 : (Jvm.Cond.instanceMethod ({ cls := "java/util/LinkedList", name := "getLast", desc := "()Ljava/lang/Object;" } : Jvm.MethodName)) ∈ lw_all := lw_g (lw_at lw_m7 201 rfl) rfl
theorem q1690 : (Jvm.Cond.selects "java/util/LinkedList" ({ cls := "java/util/LinkedList", name := "getLast", desc := "()Ljava/lang/Object;" } : Jvm.MethodName) ({ cls := "java/util/LinkedList", name := "getLast", desc := "()Ljava/lang/Object;" } : Jvm.MethodName)) ∈ lw_all := lw_g (lw_at lw_m7 202 rfl) rfl
theorem q1691 : (Jvm.Cond.code ({ cls := "java/util/LinkedList", name := "getLast", desc := "()Ljava/lang/Object;" } : Jvm.MethodName) prog_67_method_10_code (2 : Nat) (Option.some (Jvm.ClassFile.FieldType.object "java/lang/Object"))) ∈ lw_all := lw_g (lw_at lw_m7 203 rfl) rfl
theorem q2142 : (Jvm.Cond.sameMethod "java/util/LinkedList" "java/util/AbstractSequentialList" "iterator" "()Ljava/util/Iterator;") ∈ lw_all := lw_g (lw_at lw_m9 174 rfl) rfl
theorem q2144 : (Jvm.Cond.selects "java/util/LinkedList" ({ cls := "java/util/LinkedList", name := "iterator", desc := "()Ljava/util/Iterator;" } : Jvm.MethodName) ({ cls := "java/util/AbstractSequentialList", name := "iterator", desc := "()Ljava/util/Iterator;" } : Jvm.MethodName)) ∈ lw_all := lw_g (lw_at lw_m9 176 rfl) rfl
theorem q2150 : (Jvm.Cond.selects "java/util/LinkedList" ({ cls := "java/util/AbstractSequentialList", name := "listIterator", desc := "()Ljava/util/ListIterator;" } : Jvm.MethodName) ({ cls := "java/util/AbstractList", name := "listIterator", desc := "()Ljava/util/ListIterator;" } : Jvm.MethodName)) ∈ lw_all := lw_g (lw_at lw_m9 182 rfl) rfl
theorem q2190 : (Jvm.Cond.selects "java/util/LinkedList" ({ cls := "java/util/AbstractList", name := "listIterator", desc := "(I)Ljava/util/ListIterator;" } : Jvm.MethodName) ({ cls := "java/util/LinkedList", name := "listIterator", desc := "(I)Ljava/util/ListIterator;" } : Jvm.MethodName)) ∈ lw_all := lw_g (lw_at lw_m9 222 rfl) rfl
theorem q2191 : (Jvm.Cond.instanceMethod ({ cls := "java/util/LinkedList", name := "listIterator", desc := "(I)Ljava/util/ListIterator;" } : Jvm.MethodName)) ∈ lw_all := lw_g (lw_at lw_m9 223 rfl) rfl
theorem q2192 : (Jvm.Cond.code ({ cls := "java/util/LinkedList", name := "listIterator", desc := "(I)Ljava/util/ListIterator;" } : Jvm.MethodName) prog_67_method_49_code (2 : Nat) (Option.some (Jvm.ClassFile.FieldType.object "java/util/ListIterator"))) ∈ lw_all := lw_g (lw_at lw_m9 224 rfl) rfl
theorem q2193 : (Jvm.Cond.methodLink "java/util/LinkedList" (76 : Nat) ({ cls := "java/util/LinkedList", name := "checkPositionIndex", desc := "(I)V" } : Jvm.MethodName)) ∈ lw_all := lw_g (lw_at lw_m9 225 rfl) rfl
theorem q2194 : (Jvm.Cond.privateMethod ({ cls := "java/util/LinkedList", name := "checkPositionIndex", desc := "(I)V" } : Jvm.MethodName)) ∈ lw_tbl := lw_at lw_m9 226 rfl
theorem q2195 : (Jvm.Cond.instanceMethod ({ cls := "java/util/LinkedList", name := "checkPositionIndex", desc := "(I)V" } : Jvm.MethodName)) ∈ lw_all := lw_g (lw_at lw_m9 227 rfl) rfl
theorem q2196 : (Jvm.Cond.code ({ cls := "java/util/LinkedList", name := "checkPositionIndex", desc := "(I)V" } : Jvm.MethodName) prog_67_method_30_code (2 : Nat) (Option.none : Option Jvm.ClassFile.FieldType)) ∈ lw_all := lw_g (lw_at lw_m9 228 rfl) rfl
theorem q2197 : (Jvm.Cond.methodLink "java/util/LinkedList" (128 : Nat) ({ cls := "java/util/LinkedList", name := "isPositionIndex", desc := "(I)Z" } : Jvm.MethodName)) ∈ lw_all := lw_g (lw_at lw_m9 229 rfl) rfl
theorem q2198 : (Jvm.Cond.privateMethod ({ cls := "java/util/LinkedList", name := "isPositionIndex", desc := "(I)Z" } : Jvm.MethodName)) ∈ lw_tbl := lw_at lw_m9 230 rfl
theorem q2199 : (Jvm.Cond.instanceMethod ({ cls := "java/util/LinkedList", name := "isPositionIndex", desc := "(I)Z" } : Jvm.MethodName)) ∈ lw_all := lw_g (lw_at lw_m9 231 rfl) rfl
theorem q2200 : (Jvm.Cond.code ({ cls := "java/util/LinkedList", name := "isPositionIndex", desc := "(I)Z" } : Jvm.MethodName) prog_67_method_27_code (2 : Nat) (Option.some Jvm.ClassFile.FieldType.boolean)) ∈ lw_all := lw_g (lw_at lw_m9 232 rfl) rfl
theorem q2201 : (Jvm.Cond.classLink "java/util/LinkedList" (150 : Nat) "java/util/LinkedList$ListItr") ∈ lw_all := lw_g (lw_at lw_m9 233 rfl) rfl
theorem q2203 : (Jvm.Cond.methodLink "java/util/LinkedList" (152 : Nat) ({ cls := "java/util/LinkedList$ListItr", name := "<init>", desc := "(Ljava/util/LinkedList;I)V" } : Jvm.MethodName)) ∈ lw_all := lw_g (lw_at lw_m9 235 rfl) rfl
theorem q2243 : (Jvm.Cond.instanceMethod ({ cls := "java/util/LinkedList", name := "<init>", desc := "(Ljava/util/Collection;)V" } : Jvm.MethodName)) ∈ lw_all := lw_g (lw_at lw_m10 35 rfl) rfl
theorem q2244 : (Jvm.Cond.code ({ cls := "java/util/LinkedList", name := "<init>", desc := "(Ljava/util/Collection;)V" } : Jvm.MethodName) prog_67_method_2_code (2 : Nat) (Option.none : Option Jvm.ClassFile.FieldType)) ∈ lw_all := lw_g (lw_at lw_m10 36 rfl) rfl
theorem q2245 : (Jvm.Cond.methodLink "java/util/LinkedList" (13 : Nat) ({ cls := "java/util/LinkedList", name := "<init>", desc := "()V" } : Jvm.MethodName)) ∈ lw_all := lw_g (lw_at lw_m10 37 rfl) rfl
theorem q2246 : (Jvm.Cond.methodLink "java/util/LinkedList" (14 : Nat) ({ cls := "java/util/LinkedList", name := "addAll", desc := "(Ljava/util/Collection;)Z" } : Jvm.MethodName)) ∈ lw_all := lw_g (lw_at lw_m10 38 rfl) rfl
theorem q2247 : (Jvm.Cond.instanceMethod ({ cls := "java/util/LinkedList", name := "addAll", desc := "(Ljava/util/Collection;)Z" } : Jvm.MethodName)) ∈ lw_all := lw_g (lw_at lw_m10 39 rfl) rfl
theorem q2248 : (Jvm.Cond.selects "java/util/LinkedList" ({ cls := "java/util/LinkedList", name := "addAll", desc := "(Ljava/util/Collection;)Z" } : Jvm.MethodName) ({ cls := "java/util/LinkedList", name := "addAll", desc := "(Ljava/util/Collection;)Z" } : Jvm.MethodName)) ∈ lw_all := lw_g (lw_at lw_m10 40 rfl) rfl
theorem q2249 : (Jvm.Cond.code ({ cls := "java/util/LinkedList", name := "addAll", desc := "(Ljava/util/Collection;)Z" } : Jvm.MethodName) prog_67_method_19_code (2 : Nat) (Option.some Jvm.ClassFile.FieldType.boolean)) ∈ lw_all := lw_g (lw_at lw_m10 41 rfl) rfl
theorem q2250 : (Jvm.Cond.methodLink "java/util/LinkedList" (73 : Nat) ({ cls := "java/util/LinkedList", name := "addAll", desc := "(ILjava/util/Collection;)Z" } : Jvm.MethodName)) ∈ lw_all := lw_g (lw_at lw_m10 42 rfl) rfl
theorem q2251 : (Jvm.Cond.instanceMethod ({ cls := "java/util/LinkedList", name := "addAll", desc := "(ILjava/util/Collection;)Z" } : Jvm.MethodName)) ∈ lw_all := lw_g (lw_at lw_m10 43 rfl) rfl
theorem q2252 : (Jvm.Cond.selects "java/util/LinkedList" ({ cls := "java/util/LinkedList", name := "addAll", desc := "(ILjava/util/Collection;)Z" } : Jvm.MethodName) ({ cls := "java/util/LinkedList", name := "addAll", desc := "(ILjava/util/Collection;)Z" } : Jvm.MethodName)) ∈ lw_all := lw_g (lw_at lw_m10 44 rfl) rfl
theorem q2253 : (Jvm.Cond.code ({ cls := "java/util/LinkedList", name := "addAll", desc := "(ILjava/util/Collection;)Z" } : Jvm.MethodName) prog_67_method_20_code (13 : Nat) (Option.some Jvm.ClassFile.FieldType.boolean)) ∈ lw_all := lw_g (lw_at lw_m10 45 rfl) rfl
theorem q2254 : (Jvm.Cond.interfaceEntry "java/util/LinkedList" (80 : Nat)) ∈ lw_tbl := lw_at lw_m10 46 rfl
theorem q2255 : (Jvm.Cond.methodLink "java/util/LinkedList" (80 : Nat) ({ cls := "java/util/Collection", name := "toArray", desc := "()[Ljava/lang/Object;" } : Jvm.MethodName)) ∈ lw_all := lw_g (lw_at lw_m10 47 rfl) rfl
theorem q2278 : (Jvm.Cond.castable "java/util/LinkedList" "java/util/Collection") ∈ lw_tbl := lw_at lw_m10 70 rfl
theorem q2279 : (Jvm.Cond.selects "java/util/LinkedList" ({ cls := "java/util/Collection", name := "toArray", desc := "()[Ljava/lang/Object;" } : Jvm.MethodName) ({ cls := "java/util/LinkedList", name := "toArray", desc := "()[Ljava/lang/Object;" } : Jvm.MethodName)) ∈ lw_all := lw_g (lw_at lw_m10 71 rfl) rfl
theorem q2280 : (Jvm.Cond.unhidden "java/util/LinkedList" "toArray" "()[Ljava/lang/Object;") ∈ lw_tbl := lw_at lw_m10 72 rfl
theorem q2281 : (Jvm.Cond.instanceMethod ({ cls := "java/util/LinkedList", name := "toArray", desc := "()[Ljava/lang/Object;" } : Jvm.MethodName)) ∈ lw_all := lw_g (lw_at lw_m10 73 rfl) rfl
theorem q2282 : (Jvm.Cond.publicMethod ({ cls := "java/util/LinkedList", name := "toArray", desc := "()[Ljava/lang/Object;" } : Jvm.MethodName)) ∈ lw_tbl := lw_at lw_m10 74 rfl
theorem q2283 : (Jvm.Cond.code ({ cls := "java/util/LinkedList", name := "toArray", desc := "()[Ljava/lang/Object;" } : Jvm.MethodName) prog_67_method_53_code (4 : Nat) (Option.some (Jvm.ClassFile.FieldType.array (Jvm.ClassFile.FieldType.object "java/lang/Object")))) ∈ lw_all := lw_g (lw_at lw_m10 75 rfl) rfl
theorem q2284 : (Jvm.Cond.classLink "java/util/LinkedList" (68 : Nat) "java/lang/Object") ∈ lw_all := lw_g (lw_at lw_m10 76 rfl) rfl
theorem q2302 : (Jvm.Cond.instanceMethod ({ cls := "java/util/LinkedList", name := "clear", desc := "()V" } : Jvm.MethodName)) ∈ lw_all := lw_g (lw_at lw_m10 94 rfl) rfl
theorem q2303 : (Jvm.Cond.selects "java/util/LinkedList" ({ cls := "java/util/LinkedList", name := "clear", desc := "()V" } : Jvm.MethodName) ({ cls := "java/util/LinkedList", name := "clear", desc := "()V" } : Jvm.MethodName)) ∈ lw_all := lw_g (lw_at lw_m10 95 rfl) rfl
theorem q2304 : (Jvm.Cond.code ({ cls := "java/util/LinkedList", name := "clear", desc := "()V" } : Jvm.MethodName) prog_67_method_21_code (3 : Nat) (Option.none : Option Jvm.ClassFile.FieldType)) ∈ lw_all := lw_g (lw_at lw_m10 96 rfl) rfl
theorem q2678 : (Jvm.Cond.selects "java/util/LinkedList" ({ cls := "java/util/AbstractCollection", name := "size", desc := "()I" } : Jvm.MethodName) ({ cls := "java/util/LinkedList", name := "size", desc := "()I" } : Jvm.MethodName)) ∈ lw_all := lw_g (lw_at lw_m11 230 rfl) rfl
theorem q2679 : (Jvm.Cond.selects "java/util/LinkedList" ({ cls := "java/util/LinkedList", name := "get", desc := "(I)Ljava/lang/Object;" } : Jvm.MethodName) ({ cls := "java/util/LinkedList", name := "get", desc := "(I)Ljava/lang/Object;" } : Jvm.MethodName)) ∈ lw_all := lw_g (lw_at lw_m11 231 rfl) rfl
theorem q2697 : (Jvm.Cond.castable "java/util/LinkedList" "java/lang/Object") ∈ lw_tbl := lw_at lw_m12 9 rfl
theorem in_J7 : ∀ w ∈ wsJ70, w ∈ lw_all := lw_in wsJ70 [219, 213, 215, 217] (by decide +kernel) (by decide +kernel)

/-! jdk/internal/util/ArraysSupport -/
set_option maxRecDepth 100000
def RJ8 : String := "jdk/internal/util/ArraysSupport"
abbrev cJ8_newLength : ByteArray := prog_83_method_27_code
def yJ8_newLength : MethodName := ⟨RJ8, "newLength", "(III)I"⟩
def dkwJ8_newLength_1 : List UInt8 := [184, 0, 201, 172]
abbrev dktJ8_newLength_1 : List UInt8 := dkwJ8_newLength_1 ++ []
def dkwJ8_newLength_0 : List UInt8 := [26, 27, 28, 184, 0, 194, 96, 62, 3, 29, 162, 0, 11, 29, 18, 200, 163, 0, 5, 29, 172, 26, 27]
abbrev dktJ8_newLength_0 : List UInt8 := dkwJ8_newLength_0 ++ dktJ8_newLength_1
theorem dksJ8_newLength_0 : cJ8_newLength.data.toList.drop 0 = dktJ8_newLength_0 := by decide +kernel
theorem dksJ8_newLength_1 : cJ8_newLength.data.toList.drop 23 = dktJ8_newLength_1 := dk_seg dksJ8_newLength_0 23 rfl rfl
theorem dJ8_newLength_0 : decode cJ8_newLength 0 = .ok (.iload_n 0, 1) := dk_26 (dk_at dksJ8_newLength_0 0 rfl rfl)
theorem dJ8_newLength_1 : decode cJ8_newLength 1 = .ok (.iload_n 1, 1) := dk_27 (dk_at dksJ8_newLength_0 1 rfl rfl)
theorem dJ8_newLength_2 : decode cJ8_newLength 2 = .ok (.iload_n 2, 1) := dk_28 (dk_at dksJ8_newLength_0 2 rfl rfl)
theorem dJ8_newLength_3 : decode cJ8_newLength 3 = .ok (.invokestatic 194, 3) := dk_184 0 194 (dk_at dksJ8_newLength_0 3 rfl rfl)
theorem dJ8_newLength_6 : decode cJ8_newLength 6 = .ok (.iadd, 1) := dk_96 (dk_at dksJ8_newLength_0 6 rfl rfl)
theorem dJ8_newLength_7 : decode cJ8_newLength 7 = .ok (.istore_n 3, 1) := dk_62 (dk_at dksJ8_newLength_0 7 rfl rfl)
theorem dJ8_newLength_8 : decode cJ8_newLength 8 = .ok (.iconst 0, 1) := dk_3 (dk_at dksJ8_newLength_0 8 rfl rfl)
theorem dJ8_newLength_9 : decode cJ8_newLength 9 = .ok (.iload_n 3, 1) := dk_29 (dk_at dksJ8_newLength_0 9 rfl rfl)
theorem dJ8_newLength_10 : decode cJ8_newLength 10 = .ok (.if_icmp .ge 11, 3) := dk_162 0 11 (dk_at dksJ8_newLength_0 10 rfl rfl)
theorem dJ8_newLength_13 : decode cJ8_newLength 13 = .ok (.iload_n 3, 1) := dk_29 (dk_at dksJ8_newLength_0 13 rfl rfl)
theorem dJ8_newLength_14 : decode cJ8_newLength 14 = .ok (.ldc 200, 2) := dk_18 200 (dk_at dksJ8_newLength_0 14 rfl rfl)
theorem dJ8_newLength_16 : decode cJ8_newLength 16 = .ok (.if_icmp .gt 5, 3) := dk_163 0 5 (dk_at dksJ8_newLength_0 16 rfl rfl)
theorem dJ8_newLength_19 : decode cJ8_newLength 19 = .ok (.iload_n 3, 1) := dk_29 (dk_at dksJ8_newLength_0 19 rfl rfl)
theorem dJ8_newLength_20 : decode cJ8_newLength 20 = .ok (.ireturn, 1) := dk_172 (dk_at dksJ8_newLength_0 20 rfl rfl)
theorem dJ8_newLength_21 : decode cJ8_newLength 21 = .ok (.iload_n 0, 1) := dk_26 (dk_at dksJ8_newLength_0 21 rfl rfl)
theorem dJ8_newLength_22 : decode cJ8_newLength 22 = .ok (.iload_n 1, 1) := dk_27 (dk_at dksJ8_newLength_0 22 rfl rfl)
theorem dJ8_newLength_23 : decode cJ8_newLength 23 = .ok (.invokestatic 201, 3) := dk_184 0 201 (dk_at dksJ8_newLength_1 0 rfl rfl)
theorem dJ8_newLength_26 : decode cJ8_newLength 26 = .ok (.ireturn, 1) := dk_172 (dk_at dksJ8_newLength_1 3 rfl rfl)
abbrev cJ8_hugeLength : ByteArray := prog_83_method_28_code
def yJ8_hugeLength : MethodName := ⟨RJ8, "hugeLength", "(II)I"⟩
def dkwJ8_hugeLength_2 : List UInt8 := [191, 28, 18, 200, 163, 0, 6, 18, 200, 172, 28, 172]
abbrev dktJ8_hugeLength_2 : List UInt8 := dkwJ8_hugeLength_2 ++ []
def dkwJ8_hugeLength_1 : List UInt8 := [26, 182, 0, 98, 18, 208, 182, 0, 94, 27, 182, 0, 98, 18, 210, 182, 0, 94, 182, 0, 101, 183, 0, 212]
abbrev dktJ8_hugeLength_1 : List UInt8 := dkwJ8_hugeLength_1 ++ dktJ8_hugeLength_2
def dkwJ8_hugeLength_0 : List UInt8 := [26, 27, 96, 61, 28, 156, 0, 44, 187, 0, 204, 89, 187, 0, 89, 89, 183, 0, 91, 18, 206, 182, 0, 94]
abbrev dktJ8_hugeLength_0 : List UInt8 := dkwJ8_hugeLength_0 ++ dktJ8_hugeLength_1
theorem dksJ8_hugeLength_0 : cJ8_hugeLength.data.toList.drop 0 = dktJ8_hugeLength_0 := by decide +kernel
theorem dksJ8_hugeLength_1 : cJ8_hugeLength.data.toList.drop 24 = dktJ8_hugeLength_1 := dk_seg dksJ8_hugeLength_0 24 rfl rfl
theorem dksJ8_hugeLength_2 : cJ8_hugeLength.data.toList.drop 48 = dktJ8_hugeLength_2 := dk_seg dksJ8_hugeLength_1 24 rfl rfl
theorem dJ8_hugeLength_0 : decode cJ8_hugeLength 0 = .ok (.iload_n 0, 1) := dk_26 (dk_at dksJ8_hugeLength_0 0 rfl rfl)
theorem dJ8_hugeLength_1 : decode cJ8_hugeLength 1 = .ok (.iload_n 1, 1) := dk_27 (dk_at dksJ8_hugeLength_0 1 rfl rfl)
theorem dJ8_hugeLength_2 : decode cJ8_hugeLength 2 = .ok (.iadd, 1) := dk_96 (dk_at dksJ8_hugeLength_0 2 rfl rfl)
theorem dJ8_hugeLength_3 : decode cJ8_hugeLength 3 = .ok (.istore_n 2, 1) := dk_61 (dk_at dksJ8_hugeLength_0 3 rfl rfl)
theorem dJ8_hugeLength_4 : decode cJ8_hugeLength 4 = .ok (.iload_n 2, 1) := dk_28 (dk_at dksJ8_hugeLength_0 4 rfl rfl)
theorem dJ8_hugeLength_5 : decode cJ8_hugeLength 5 = .ok (.ifCond .ge 44, 3) := dk_156 0 44 (dk_at dksJ8_hugeLength_0 5 rfl rfl)
theorem dJ8_hugeLength_8 : decode cJ8_hugeLength 8 = .ok (.new 204, 3) := dk_187 0 204 (dk_at dksJ8_hugeLength_0 8 rfl rfl)
theorem dJ8_hugeLength_11 : decode cJ8_hugeLength 11 = .ok (.dup, 1) := dk_89 (dk_at dksJ8_hugeLength_0 11 rfl rfl)
theorem dJ8_hugeLength_12 : decode cJ8_hugeLength 12 = .ok (.new 89, 3) := dk_187 0 89 (dk_at dksJ8_hugeLength_0 12 rfl rfl)
theorem dJ8_hugeLength_15 : decode cJ8_hugeLength 15 = .ok (.dup, 1) := dk_89 (dk_at dksJ8_hugeLength_0 15 rfl rfl)
theorem dJ8_hugeLength_16 : decode cJ8_hugeLength 16 = .ok (.invokespecial 91, 3) := dk_183 0 91 (dk_at dksJ8_hugeLength_0 16 rfl rfl)
theorem dJ8_hugeLength_19 : decode cJ8_hugeLength 19 = .ok (.ldc 206, 2) := dk_18 206 (dk_at dksJ8_hugeLength_0 19 rfl rfl)
theorem dJ8_hugeLength_21 : decode cJ8_hugeLength 21 = .ok (.invokevirtual 94, 3) := dk_182 0 94 (dk_at dksJ8_hugeLength_0 21 rfl rfl)
theorem dJ8_hugeLength_24 : decode cJ8_hugeLength 24 = .ok (.iload_n 0, 1) := dk_26 (dk_at dksJ8_hugeLength_1 0 rfl rfl)
theorem dJ8_hugeLength_25 : decode cJ8_hugeLength 25 = .ok (.invokevirtual 98, 3) := dk_182 0 98 (dk_at dksJ8_hugeLength_1 1 rfl rfl)
theorem dJ8_hugeLength_28 : decode cJ8_hugeLength 28 = .ok (.ldc 208, 2) := dk_18 208 (dk_at dksJ8_hugeLength_1 4 rfl rfl)
theorem dJ8_hugeLength_30 : decode cJ8_hugeLength 30 = .ok (.invokevirtual 94, 3) := dk_182 0 94 (dk_at dksJ8_hugeLength_1 6 rfl rfl)
theorem dJ8_hugeLength_33 : decode cJ8_hugeLength 33 = .ok (.iload_n 1, 1) := dk_27 (dk_at dksJ8_hugeLength_1 9 rfl rfl)
theorem dJ8_hugeLength_34 : decode cJ8_hugeLength 34 = .ok (.invokevirtual 98, 3) := dk_182 0 98 (dk_at dksJ8_hugeLength_1 10 rfl rfl)
theorem dJ8_hugeLength_37 : decode cJ8_hugeLength 37 = .ok (.ldc 210, 2) := dk_18 210 (dk_at dksJ8_hugeLength_1 13 rfl rfl)
theorem dJ8_hugeLength_39 : decode cJ8_hugeLength 39 = .ok (.invokevirtual 94, 3) := dk_182 0 94 (dk_at dksJ8_hugeLength_1 15 rfl rfl)
theorem dJ8_hugeLength_42 : decode cJ8_hugeLength 42 = .ok (.invokevirtual 101, 3) := dk_182 0 101 (dk_at dksJ8_hugeLength_1 18 rfl rfl)
theorem dJ8_hugeLength_45 : decode cJ8_hugeLength 45 = .ok (.invokespecial 212, 3) := dk_183 0 212 (dk_at dksJ8_hugeLength_1 21 rfl rfl)
theorem dJ8_hugeLength_48 : decode cJ8_hugeLength 48 = .ok (.athrow, 1) := dk_191 (dk_at dksJ8_hugeLength_2 0 rfl rfl)
theorem dJ8_hugeLength_49 : decode cJ8_hugeLength 49 = .ok (.iload_n 2, 1) := dk_28 (dk_at dksJ8_hugeLength_2 1 rfl rfl)
theorem dJ8_hugeLength_50 : decode cJ8_hugeLength 50 = .ok (.ldc 200, 2) := dk_18 200 (dk_at dksJ8_hugeLength_2 2 rfl rfl)
theorem dJ8_hugeLength_52 : decode cJ8_hugeLength 52 = .ok (.if_icmp .gt 6, 3) := dk_163 0 6 (dk_at dksJ8_hugeLength_2 4 rfl rfl)
theorem dJ8_hugeLength_55 : decode cJ8_hugeLength 55 = .ok (.ldc 200, 2) := dk_18 200 (dk_at dksJ8_hugeLength_2 7 rfl rfl)
theorem dJ8_hugeLength_57 : decode cJ8_hugeLength 57 = .ok (.ireturn, 1) := dk_172 (dk_at dksJ8_hugeLength_2 9 rfl rfl)
theorem dJ8_hugeLength_58 : decode cJ8_hugeLength 58 = .ok (.iload_n 2, 1) := dk_28 (dk_at dksJ8_hugeLength_2 10 rfl rfl)
theorem dJ8_hugeLength_59 : decode cJ8_hugeLength 59 = .ok (.ireturn, 1) := dk_172 (dk_at dksJ8_hugeLength_2 11 rfl rfl)
abbrev cJ8_vectorizedHashCode : ByteArray := prog_83_method_4_code
def yJ8_vectorizedHashCode : MethodName := ⟨RJ8, "vectorizedHashCode", "(Ljava/lang/Object;IIII)I"⟩
def dkwJ8_vectorizedHashCode_6 : List UInt8 := [183, 0, 91, 18, 92, 182, 0, 94, 21, 4, 182, 0, 98, 182, 0, 101, 183, 0, 105, 191, 172]
abbrev dktJ8_vectorizedHashCode_6 : List UInt8 := dkwJ8_vectorizedHashCode_6 ++ []
def dkwJ8_vectorizedHashCode_5 : List UInt8 := [167, 0, 44, 29, 42, 192, 0, 82, 27, 28, 184, 0, 84, 167, 0, 31, 187, 0, 87, 89, 187, 0, 89, 89]
abbrev dktJ8_vectorizedHashCode_5 : List UInt8 := dkwJ8_vectorizedHashCode_5 ++ dktJ8_vectorizedHashCode_6
def dkwJ8_vectorizedHashCode_4 : List UInt8 := [29, 42, 192, 0, 60, 27, 28, 184, 0, 75, 167, 0, 57, 29, 42, 192, 0, 77, 27, 28, 184, 0, 79]
abbrev dktJ8_vectorizedHashCode_4 : List UInt8 := dkwJ8_vectorizedHashCode_4 ++ dktJ8_vectorizedHashCode_5
def dkwJ8_vectorizedHashCode_3 : List UInt8 := [192, 0, 60, 27, 28, 184, 0, 66, 167, 0, 83, 29, 42, 192, 0, 69, 27, 28, 184, 0, 71, 167, 0, 70]
abbrev dktJ8_vectorizedHashCode_3 : List UInt8 := dkwJ8_vectorizedHashCode_3 ++ dktJ8_vectorizedHashCode_4
def dkwJ8_vectorizedHashCode_2 : List UInt8 := [29, 42, 192, 0, 60, 27, 28, 184, 0, 62, 167, 0, 103, 42, 193, 0, 60, 153, 0, 16, 29, 42]
abbrev dktJ8_vectorizedHashCode_2 : List UInt8 := dkwJ8_vectorizedHashCode_2 ++ dktJ8_vectorizedHashCode_3
def dkwJ8_vectorizedHashCode_1 : List UInt8 := [170, 0, 0, 0, 0, 127, 0, 0, 0, 4, 0, 0, 0, 10, 0, 0, 0, 42, 0, 0, 0, 55, 0, 0, 0, 127, 0, 0, 0, 127, 0, 0, 0, 88, 0, 0, 0, 101, 0, 0, 0, 114]
abbrev dktJ8_vectorizedHashCode_1 : List UInt8 := dkwJ8_vectorizedHashCode_1 ++ dktJ8_vectorizedHashCode_2
def dkwJ8_vectorizedHashCode_0 : List UInt8 := [21, 4]
abbrev dktJ8_vectorizedHashCode_0 : List UInt8 := dkwJ8_vectorizedHashCode_0 ++ dktJ8_vectorizedHashCode_1
theorem dksJ8_vectorizedHashCode_0 : cJ8_vectorizedHashCode.data.toList.drop 0 = dktJ8_vectorizedHashCode_0 := by decide +kernel
theorem dksJ8_vectorizedHashCode_1 : cJ8_vectorizedHashCode.data.toList.drop 2 = dktJ8_vectorizedHashCode_1 := dk_seg dksJ8_vectorizedHashCode_0 2 rfl rfl
theorem dksJ8_vectorizedHashCode_2 : cJ8_vectorizedHashCode.data.toList.drop 44 = dktJ8_vectorizedHashCode_2 := dk_seg dksJ8_vectorizedHashCode_1 42 rfl rfl
theorem dksJ8_vectorizedHashCode_3 : cJ8_vectorizedHashCode.data.toList.drop 66 = dktJ8_vectorizedHashCode_3 := dk_seg dksJ8_vectorizedHashCode_2 22 rfl rfl
theorem dksJ8_vectorizedHashCode_4 : cJ8_vectorizedHashCode.data.toList.drop 90 = dktJ8_vectorizedHashCode_4 := dk_seg dksJ8_vectorizedHashCode_3 24 rfl rfl
theorem dksJ8_vectorizedHashCode_5 : cJ8_vectorizedHashCode.data.toList.drop 113 = dktJ8_vectorizedHashCode_5 := dk_seg dksJ8_vectorizedHashCode_4 23 rfl rfl
theorem dksJ8_vectorizedHashCode_6 : cJ8_vectorizedHashCode.data.toList.drop 137 = dktJ8_vectorizedHashCode_6 := dk_seg dksJ8_vectorizedHashCode_5 24 rfl rfl
theorem dJ8_vectorizedHashCode_0 : decode cJ8_vectorizedHashCode 0 = .ok (.iload 4, 2) := dk_21 4 (dk_at dksJ8_vectorizedHashCode_0 0 rfl rfl)
theorem dJ8_vectorizedHashCode_2 : decode cJ8_vectorizedHashCode 2 = .ok (.tableswitch 127 4 10 #[42, 55, 127, 127, 88, 101, 114], 42) := by decide +kernel
theorem dJ8_vectorizedHashCode_44 : decode cJ8_vectorizedHashCode 44 = .ok (.iload_n 3, 1) := dk_29 (dk_at dksJ8_vectorizedHashCode_2 0 rfl rfl)
theorem dJ8_vectorizedHashCode_45 : decode cJ8_vectorizedHashCode 45 = .ok (.aload_n 0, 1) := dk_42 (dk_at dksJ8_vectorizedHashCode_2 1 rfl rfl)
theorem dJ8_vectorizedHashCode_46 : decode cJ8_vectorizedHashCode 46 = .ok (.checkcast 60, 3) := dk_192 0 60 (dk_at dksJ8_vectorizedHashCode_2 2 rfl rfl)
theorem dJ8_vectorizedHashCode_49 : decode cJ8_vectorizedHashCode 49 = .ok (.iload_n 1, 1) := dk_27 (dk_at dksJ8_vectorizedHashCode_2 5 rfl rfl)
theorem dJ8_vectorizedHashCode_50 : decode cJ8_vectorizedHashCode 50 = .ok (.iload_n 2, 1) := dk_28 (dk_at dksJ8_vectorizedHashCode_2 6 rfl rfl)
theorem dJ8_vectorizedHashCode_51 : decode cJ8_vectorizedHashCode 51 = .ok (.invokestatic 62, 3) := dk_184 0 62 (dk_at dksJ8_vectorizedHashCode_2 7 rfl rfl)
theorem dJ8_vectorizedHashCode_54 : decode cJ8_vectorizedHashCode 54 = .ok (.goto 103, 3) := dk_167 0 103 (dk_at dksJ8_vectorizedHashCode_2 10 rfl rfl)
theorem dJ8_vectorizedHashCode_57 : decode cJ8_vectorizedHashCode 57 = .ok (.aload_n 0, 1) := dk_42 (dk_at dksJ8_vectorizedHashCode_2 13 rfl rfl)
theorem dJ8_vectorizedHashCode_58 : decode cJ8_vectorizedHashCode 58 = .ok (.instanceof 60, 3) := dk_193 0 60 (dk_at dksJ8_vectorizedHashCode_2 14 rfl rfl)
theorem dJ8_vectorizedHashCode_61 : decode cJ8_vectorizedHashCode 61 = .ok (.ifCond .eq 16, 3) := dk_153 0 16 (dk_at dksJ8_vectorizedHashCode_2 17 rfl rfl)
theorem dJ8_vectorizedHashCode_64 : decode cJ8_vectorizedHashCode 64 = .ok (.iload_n 3, 1) := dk_29 (dk_at dksJ8_vectorizedHashCode_2 20 rfl rfl)
theorem dJ8_vectorizedHashCode_65 : decode cJ8_vectorizedHashCode 65 = .ok (.aload_n 0, 1) := dk_42 (dk_at dksJ8_vectorizedHashCode_2 21 rfl rfl)
theorem dJ8_vectorizedHashCode_66 : decode cJ8_vectorizedHashCode 66 = .ok (.checkcast 60, 3) := dk_192 0 60 (dk_at dksJ8_vectorizedHashCode_3 0 rfl rfl)
theorem dJ8_vectorizedHashCode_69 : decode cJ8_vectorizedHashCode 69 = .ok (.iload_n 1, 1) := dk_27 (dk_at dksJ8_vectorizedHashCode_3 3 rfl rfl)
theorem dJ8_vectorizedHashCode_70 : decode cJ8_vectorizedHashCode 70 = .ok (.iload_n 2, 1) := dk_28 (dk_at dksJ8_vectorizedHashCode_3 4 rfl rfl)
theorem dJ8_vectorizedHashCode_71 : decode cJ8_vectorizedHashCode 71 = .ok (.invokestatic 66, 3) := dk_184 0 66 (dk_at dksJ8_vectorizedHashCode_3 5 rfl rfl)
theorem dJ8_vectorizedHashCode_74 : decode cJ8_vectorizedHashCode 74 = .ok (.goto 83, 3) := dk_167 0 83 (dk_at dksJ8_vectorizedHashCode_3 8 rfl rfl)
theorem dJ8_vectorizedHashCode_77 : decode cJ8_vectorizedHashCode 77 = .ok (.iload_n 3, 1) := dk_29 (dk_at dksJ8_vectorizedHashCode_3 11 rfl rfl)
theorem dJ8_vectorizedHashCode_78 : decode cJ8_vectorizedHashCode 78 = .ok (.aload_n 0, 1) := dk_42 (dk_at dksJ8_vectorizedHashCode_3 12 rfl rfl)
theorem dJ8_vectorizedHashCode_79 : decode cJ8_vectorizedHashCode 79 = .ok (.checkcast 69, 3) := dk_192 0 69 (dk_at dksJ8_vectorizedHashCode_3 13 rfl rfl)
theorem dJ8_vectorizedHashCode_82 : decode cJ8_vectorizedHashCode 82 = .ok (.iload_n 1, 1) := dk_27 (dk_at dksJ8_vectorizedHashCode_3 16 rfl rfl)
theorem dJ8_vectorizedHashCode_83 : decode cJ8_vectorizedHashCode 83 = .ok (.iload_n 2, 1) := dk_28 (dk_at dksJ8_vectorizedHashCode_3 17 rfl rfl)
theorem dJ8_vectorizedHashCode_84 : decode cJ8_vectorizedHashCode 84 = .ok (.invokestatic 71, 3) := dk_184 0 71 (dk_at dksJ8_vectorizedHashCode_3 18 rfl rfl)
theorem dJ8_vectorizedHashCode_87 : decode cJ8_vectorizedHashCode 87 = .ok (.goto 70, 3) := dk_167 0 70 (dk_at dksJ8_vectorizedHashCode_3 21 rfl rfl)
theorem dJ8_vectorizedHashCode_90 : decode cJ8_vectorizedHashCode 90 = .ok (.iload_n 3, 1) := dk_29 (dk_at dksJ8_vectorizedHashCode_4 0 rfl rfl)
theorem dJ8_vectorizedHashCode_91 : decode cJ8_vectorizedHashCode 91 = .ok (.aload_n 0, 1) := dk_42 (dk_at dksJ8_vectorizedHashCode_4 1 rfl rfl)
theorem dJ8_vectorizedHashCode_92 : decode cJ8_vectorizedHashCode 92 = .ok (.checkcast 60, 3) := dk_192 0 60 (dk_at dksJ8_vectorizedHashCode_4 2 rfl rfl)
theorem dJ8_vectorizedHashCode_95 : decode cJ8_vectorizedHashCode 95 = .ok (.iload_n 1, 1) := dk_27 (dk_at dksJ8_vectorizedHashCode_4 5 rfl rfl)
theorem dJ8_vectorizedHashCode_96 : decode cJ8_vectorizedHashCode 96 = .ok (.iload_n 2, 1) := dk_28 (dk_at dksJ8_vectorizedHashCode_4 6 rfl rfl)
theorem dJ8_vectorizedHashCode_97 : decode cJ8_vectorizedHashCode 97 = .ok (.invokestatic 75, 3) := dk_184 0 75 (dk_at dksJ8_vectorizedHashCode_4 7 rfl rfl)
theorem dJ8_vectorizedHashCode_100 : decode cJ8_vectorizedHashCode 100 = .ok (.goto 57, 3) := dk_167 0 57 (dk_at dksJ8_vectorizedHashCode_4 10 rfl rfl)
theorem dJ8_vectorizedHashCode_103 : decode cJ8_vectorizedHashCode 103 = .ok (.iload_n 3, 1) := dk_29 (dk_at dksJ8_vectorizedHashCode_4 13 rfl rfl)
theorem dJ8_vectorizedHashCode_104 : decode cJ8_vectorizedHashCode 104 = .ok (.aload_n 0, 1) := dk_42 (dk_at dksJ8_vectorizedHashCode_4 14 rfl rfl)
theorem dJ8_vectorizedHashCode_105 : decode cJ8_vectorizedHashCode 105 = .ok (.checkcast 77, 3) := dk_192 0 77 (dk_at dksJ8_vectorizedHashCode_4 15 rfl rfl)
theorem dJ8_vectorizedHashCode_108 : decode cJ8_vectorizedHashCode 108 = .ok (.iload_n 1, 1) := dk_27 (dk_at dksJ8_vectorizedHashCode_4 18 rfl rfl)
theorem dJ8_vectorizedHashCode_109 : decode cJ8_vectorizedHashCode 109 = .ok (.iload_n 2, 1) := dk_28 (dk_at dksJ8_vectorizedHashCode_4 19 rfl rfl)
theorem dJ8_vectorizedHashCode_110 : decode cJ8_vectorizedHashCode 110 = .ok (.invokestatic 79, 3) := dk_184 0 79 (dk_at dksJ8_vectorizedHashCode_4 20 rfl rfl)
theorem dJ8_vectorizedHashCode_113 : decode cJ8_vectorizedHashCode 113 = .ok (.goto 44, 3) := dk_167 0 44 (dk_at dksJ8_vectorizedHashCode_5 0 rfl rfl)
theorem dJ8_vectorizedHashCode_116 : decode cJ8_vectorizedHashCode 116 = .ok (.iload_n 3, 1) := dk_29 (dk_at dksJ8_vectorizedHashCode_5 3 rfl rfl)
theorem dJ8_vectorizedHashCode_117 : decode cJ8_vectorizedHashCode 117 = .ok (.aload_n 0, 1) := dk_42 (dk_at dksJ8_vectorizedHashCode_5 4 rfl rfl)
theorem dJ8_vectorizedHashCode_118 : decode cJ8_vectorizedHashCode 118 = .ok (.checkcast 82, 3) := dk_192 0 82 (dk_at dksJ8_vectorizedHashCode_5 5 rfl rfl)
theorem dJ8_vectorizedHashCode_121 : decode cJ8_vectorizedHashCode 121 = .ok (.iload_n 1, 1) := dk_27 (dk_at dksJ8_vectorizedHashCode_5 8 rfl rfl)
theorem dJ8_vectorizedHashCode_122 : decode cJ8_vectorizedHashCode 122 = .ok (.iload_n 2, 1) := dk_28 (dk_at dksJ8_vectorizedHashCode_5 9 rfl rfl)
theorem dJ8_vectorizedHashCode_123 : decode cJ8_vectorizedHashCode 123 = .ok (.invokestatic 84, 3) := dk_184 0 84 (dk_at dksJ8_vectorizedHashCode_5 10 rfl rfl)
theorem dJ8_vectorizedHashCode_126 : decode cJ8_vectorizedHashCode 126 = .ok (.goto 31, 3) := dk_167 0 31 (dk_at dksJ8_vectorizedHashCode_5 13 rfl rfl)
theorem dJ8_vectorizedHashCode_129 : decode cJ8_vectorizedHashCode 129 = .ok (.new 87, 3) := dk_187 0 87 (dk_at dksJ8_vectorizedHashCode_5 16 rfl rfl)
theorem dJ8_vectorizedHashCode_132 : decode cJ8_vectorizedHashCode 132 = .ok (.dup, 1) := dk_89 (dk_at dksJ8_vectorizedHashCode_5 19 rfl rfl)
theorem dJ8_vectorizedHashCode_133 : decode cJ8_vectorizedHashCode 133 = .ok (.new 89, 3) := dk_187 0 89 (dk_at dksJ8_vectorizedHashCode_5 20 rfl rfl)
theorem dJ8_vectorizedHashCode_136 : decode cJ8_vectorizedHashCode 136 = .ok (.dup, 1) := dk_89 (dk_at dksJ8_vectorizedHashCode_5 23 rfl rfl)
theorem dJ8_vectorizedHashCode_137 : decode cJ8_vectorizedHashCode 137 = .ok (.invokespecial 91, 3) := dk_183 0 91 (dk_at dksJ8_vectorizedHashCode_6 0 rfl rfl)
theorem dJ8_vectorizedHashCode_140 : decode cJ8_vectorizedHashCode 140 = .ok (.ldc 92, 2) := dk_18 92 (dk_at dksJ8_vectorizedHashCode_6 3 rfl rfl)
theorem dJ8_vectorizedHashCode_142 : decode cJ8_vectorizedHashCode 142 = .ok (.invokevirtual 94, 3) := dk_182 0 94 (dk_at dksJ8_vectorizedHashCode_6 5 rfl rfl)
theorem dJ8_vectorizedHashCode_145 : decode cJ8_vectorizedHashCode 145 = .ok (.iload 4, 2) := dk_21 4 (dk_at dksJ8_vectorizedHashCode_6 8 rfl rfl)
theorem dJ8_vectorizedHashCode_147 : decode cJ8_vectorizedHashCode 147 = .ok (.invokevirtual 98, 3) := dk_182 0 98 (dk_at dksJ8_vectorizedHashCode_6 10 rfl rfl)
theorem dJ8_vectorizedHashCode_150 : decode cJ8_vectorizedHashCode 150 = .ok (.invokevirtual 101, 3) := dk_182 0 101 (dk_at dksJ8_vectorizedHashCode_6 13 rfl rfl)
theorem dJ8_vectorizedHashCode_153 : decode cJ8_vectorizedHashCode 153 = .ok (.invokespecial 105, 3) := dk_183 0 105 (dk_at dksJ8_vectorizedHashCode_6 16 rfl rfl)
theorem dJ8_vectorizedHashCode_156 : decode cJ8_vectorizedHashCode 156 = .ok (.athrow, 1) := dk_191 (dk_at dksJ8_vectorizedHashCode_6 19 rfl rfl)
theorem dJ8_vectorizedHashCode_157 : decode cJ8_vectorizedHashCode 157 = .ok (.ireturn, 1) := dk_172 (dk_at dksJ8_vectorizedHashCode_6 20 rfl rfl)
abbrev cJ8_signedHashCode : ByteArray := prog_83_method_5_code
def yJ8_signedHashCode : MethodName := ⟨RJ8, "signedHashCode", "(I[BII)I"⟩
def dkwJ8_signedHashCode_1 : List UInt8 := [17, 0, 255, 126, 96, 59, 132, 5, 1, 167, 255, 232, 26, 172]
abbrev dktJ8_signedHashCode_1 : List UInt8 := dkwJ8_signedHashCode_1 ++ []
def dkwJ8_signedHashCode_0 : List UInt8 := [28, 29, 96, 54, 4, 28, 54, 5, 21, 5, 21, 4, 162, 0, 23, 16, 31, 26, 104, 43, 21, 5, 51]
abbrev dktJ8_signedHashCode_0 : List UInt8 := dkwJ8_signedHashCode_0 ++ dktJ8_signedHashCode_1
theorem dksJ8_signedHashCode_0 : cJ8_signedHashCode.data.toList.drop 0 = dktJ8_signedHashCode_0 := by decide +kernel
theorem dksJ8_signedHashCode_1 : cJ8_signedHashCode.data.toList.drop 23 = dktJ8_signedHashCode_1 := dk_seg dksJ8_signedHashCode_0 23 rfl rfl
theorem dJ8_signedHashCode_0 : decode cJ8_signedHashCode 0 = .ok (.iload_n 2, 1) := dk_28 (dk_at dksJ8_signedHashCode_0 0 rfl rfl)
theorem dJ8_signedHashCode_1 : decode cJ8_signedHashCode 1 = .ok (.iload_n 3, 1) := dk_29 (dk_at dksJ8_signedHashCode_0 1 rfl rfl)
theorem dJ8_signedHashCode_2 : decode cJ8_signedHashCode 2 = .ok (.iadd, 1) := dk_96 (dk_at dksJ8_signedHashCode_0 2 rfl rfl)
theorem dJ8_signedHashCode_3 : decode cJ8_signedHashCode 3 = .ok (.istore 4, 2) := dk_54 4 (dk_at dksJ8_signedHashCode_0 3 rfl rfl)
theorem dJ8_signedHashCode_5 : decode cJ8_signedHashCode 5 = .ok (.iload_n 2, 1) := dk_28 (dk_at dksJ8_signedHashCode_0 5 rfl rfl)
theorem dJ8_signedHashCode_6 : decode cJ8_signedHashCode 6 = .ok (.istore 5, 2) := dk_54 5 (dk_at dksJ8_signedHashCode_0 6 rfl rfl)
theorem dJ8_signedHashCode_8 : decode cJ8_signedHashCode 8 = .ok (.iload 5, 2) := dk_21 5 (dk_at dksJ8_signedHashCode_0 8 rfl rfl)
theorem dJ8_signedHashCode_10 : decode cJ8_signedHashCode 10 = .ok (.iload 4, 2) := dk_21 4 (dk_at dksJ8_signedHashCode_0 10 rfl rfl)
theorem dJ8_signedHashCode_12 : decode cJ8_signedHashCode 12 = .ok (.if_icmp .ge 23, 3) := dk_162 0 23 (dk_at dksJ8_signedHashCode_0 12 rfl rfl)
theorem dJ8_signedHashCode_15 : decode cJ8_signedHashCode 15 = .ok (.bipush 31, 2) := dk_16 31 (dk_at dksJ8_signedHashCode_0 15 rfl rfl)
theorem dJ8_signedHashCode_17 : decode cJ8_signedHashCode 17 = .ok (.iload_n 0, 1) := dk_26 (dk_at dksJ8_signedHashCode_0 17 rfl rfl)
theorem dJ8_signedHashCode_18 : decode cJ8_signedHashCode 18 = .ok (.imul, 1) := dk_104 (dk_at dksJ8_signedHashCode_0 18 rfl rfl)
theorem dJ8_signedHashCode_19 : decode cJ8_signedHashCode 19 = .ok (.aload_n 1, 1) := dk_43 (dk_at dksJ8_signedHashCode_0 19 rfl rfl)
theorem dJ8_signedHashCode_20 : decode cJ8_signedHashCode 20 = .ok (.iload 5, 2) := dk_21 5 (dk_at dksJ8_signedHashCode_0 20 rfl rfl)
theorem dJ8_signedHashCode_22 : decode cJ8_signedHashCode 22 = .ok (.baload, 1) := dk_51 (dk_at dksJ8_signedHashCode_0 22 rfl rfl)
theorem dJ8_signedHashCode_23 : decode cJ8_signedHashCode 23 = .ok (.sipush 255, 3) := dk_17 0 255 (dk_at dksJ8_signedHashCode_1 0 rfl rfl)
theorem dJ8_signedHashCode_26 : decode cJ8_signedHashCode 26 = .ok (.iand, 1) := dk_126 (dk_at dksJ8_signedHashCode_1 3 rfl rfl)
theorem dJ8_signedHashCode_27 : decode cJ8_signedHashCode 27 = .ok (.iadd, 1) := dk_96 (dk_at dksJ8_signedHashCode_1 4 rfl rfl)
theorem dJ8_signedHashCode_28 : decode cJ8_signedHashCode 28 = .ok (.istore_n 0, 1) := dk_59 (dk_at dksJ8_signedHashCode_1 5 rfl rfl)
theorem dJ8_signedHashCode_29 : decode cJ8_signedHashCode 29 = .ok (.iinc 5 1, 3) := dk_132 5 1 (dk_at dksJ8_signedHashCode_1 6 rfl rfl)
theorem dJ8_signedHashCode_32 : decode cJ8_signedHashCode 32 = .ok (.goto (-24), 3) := dk_167 255 232 (dk_at dksJ8_signedHashCode_1 9 rfl rfl)
theorem dJ8_signedHashCode_35 : decode cJ8_signedHashCode 35 = .ok (.iload_n 0, 1) := dk_26 (dk_at dksJ8_signedHashCode_1 12 rfl rfl)
theorem dJ8_signedHashCode_36 : decode cJ8_signedHashCode 36 = .ok (.ireturn, 1) := dk_172 (dk_at dksJ8_signedHashCode_1 13 rfl rfl)
abbrev cJ8_utf16hashCode : ByteArray := prog_83_method_10_code
def yJ8_utf16hashCode : MethodName := ⟨RJ8, "utf16hashCode", "(I[BII)I"⟩
def dkwJ8_utf16hashCode_1 : List UInt8 := [21, 5, 185, 0, 110, 3, 0, 96, 59, 132, 5, 1, 167, 255, 229, 26, 172]
abbrev dktJ8_utf16hashCode_1 : List UInt8 := dkwJ8_utf16hashCode_1 ++ []
def dkwJ8_utf16hashCode_0 : List UInt8 := [28, 29, 96, 54, 4, 28, 54, 5, 21, 5, 21, 4, 162, 0, 26, 16, 31, 26, 104, 178, 0, 106, 43]
abbrev dktJ8_utf16hashCode_0 : List UInt8 := dkwJ8_utf16hashCode_0 ++ dktJ8_utf16hashCode_1
theorem dksJ8_utf16hashCode_0 : cJ8_utf16hashCode.data.toList.drop 0 = dktJ8_utf16hashCode_0 := by decide +kernel
theorem dksJ8_utf16hashCode_1 : cJ8_utf16hashCode.data.toList.drop 23 = dktJ8_utf16hashCode_1 := dk_seg dksJ8_utf16hashCode_0 23 rfl rfl
theorem dJ8_utf16hashCode_0 : decode cJ8_utf16hashCode 0 = .ok (.iload_n 2, 1) := dk_28 (dk_at dksJ8_utf16hashCode_0 0 rfl rfl)
theorem dJ8_utf16hashCode_1 : decode cJ8_utf16hashCode 1 = .ok (.iload_n 3, 1) := dk_29 (dk_at dksJ8_utf16hashCode_0 1 rfl rfl)
theorem dJ8_utf16hashCode_2 : decode cJ8_utf16hashCode 2 = .ok (.iadd, 1) := dk_96 (dk_at dksJ8_utf16hashCode_0 2 rfl rfl)
theorem dJ8_utf16hashCode_3 : decode cJ8_utf16hashCode 3 = .ok (.istore 4, 2) := dk_54 4 (dk_at dksJ8_utf16hashCode_0 3 rfl rfl)
theorem dJ8_utf16hashCode_5 : decode cJ8_utf16hashCode 5 = .ok (.iload_n 2, 1) := dk_28 (dk_at dksJ8_utf16hashCode_0 5 rfl rfl)
theorem dJ8_utf16hashCode_6 : decode cJ8_utf16hashCode 6 = .ok (.istore 5, 2) := dk_54 5 (dk_at dksJ8_utf16hashCode_0 6 rfl rfl)
theorem dJ8_utf16hashCode_8 : decode cJ8_utf16hashCode 8 = .ok (.iload 5, 2) := dk_21 5 (dk_at dksJ8_utf16hashCode_0 8 rfl rfl)
theorem dJ8_utf16hashCode_10 : decode cJ8_utf16hashCode 10 = .ok (.iload 4, 2) := dk_21 4 (dk_at dksJ8_utf16hashCode_0 10 rfl rfl)
theorem dJ8_utf16hashCode_12 : decode cJ8_utf16hashCode 12 = .ok (.if_icmp .ge 26, 3) := dk_162 0 26 (dk_at dksJ8_utf16hashCode_0 12 rfl rfl)
theorem dJ8_utf16hashCode_15 : decode cJ8_utf16hashCode 15 = .ok (.bipush 31, 2) := dk_16 31 (dk_at dksJ8_utf16hashCode_0 15 rfl rfl)
theorem dJ8_utf16hashCode_17 : decode cJ8_utf16hashCode 17 = .ok (.iload_n 0, 1) := dk_26 (dk_at dksJ8_utf16hashCode_0 17 rfl rfl)
theorem dJ8_utf16hashCode_18 : decode cJ8_utf16hashCode 18 = .ok (.imul, 1) := dk_104 (dk_at dksJ8_utf16hashCode_0 18 rfl rfl)
theorem dJ8_utf16hashCode_19 : decode cJ8_utf16hashCode 19 = .ok (.getstatic 106, 3) := dk_178 0 106 (dk_at dksJ8_utf16hashCode_0 19 rfl rfl)
theorem dJ8_utf16hashCode_22 : decode cJ8_utf16hashCode 22 = .ok (.aload_n 1, 1) := dk_43 (dk_at dksJ8_utf16hashCode_0 22 rfl rfl)
theorem dJ8_utf16hashCode_23 : decode cJ8_utf16hashCode 23 = .ok (.iload 5, 2) := dk_21 5 (dk_at dksJ8_utf16hashCode_1 0 rfl rfl)
theorem dJ8_utf16hashCode_25 : decode cJ8_utf16hashCode 25 = .ok (.invokeinterface 110 3, 5) := by decide +kernel
theorem dJ8_utf16hashCode_30 : decode cJ8_utf16hashCode 30 = .ok (.iadd, 1) := dk_96 (dk_at dksJ8_utf16hashCode_1 7 rfl rfl)
theorem dJ8_utf16hashCode_31 : decode cJ8_utf16hashCode 31 = .ok (.istore_n 0, 1) := dk_59 (dk_at dksJ8_utf16hashCode_1 8 rfl rfl)
theorem dJ8_utf16hashCode_32 : decode cJ8_utf16hashCode 32 = .ok (.iinc 5 1, 3) := dk_132 5 1 (dk_at dksJ8_utf16hashCode_1 9 rfl rfl)
theorem dJ8_utf16hashCode_35 : decode cJ8_utf16hashCode 35 = .ok (.goto (-27), 3) := dk_167 255 229 (dk_at dksJ8_utf16hashCode_1 12 rfl rfl)
theorem dJ8_utf16hashCode_38 : decode cJ8_utf16hashCode 38 = .ok (.iload_n 0, 1) := dk_26 (dk_at dksJ8_utf16hashCode_1 15 rfl rfl)
theorem dJ8_utf16hashCode_39 : decode cJ8_utf16hashCode 39 = .ok (.ireturn, 1) := dk_172 (dk_at dksJ8_utf16hashCode_1 16 rfl rfl)
abbrev cJ8_hashCode : ByteArray := prog_83_method_7_code
def yJ8_hashCode : MethodName := ⟨RJ8, "hashCode", "(I[CII)I"⟩
def dkwJ8_hashCode_1 : List UInt8 := [59, 132, 5, 1, 167, 255, 236, 26, 172]
abbrev dktJ8_hashCode_1 : List UInt8 := dkwJ8_hashCode_1 ++ []
def dkwJ8_hashCode_0 : List UInt8 := [28, 29, 96, 54, 4, 28, 54, 5, 21, 5, 21, 4, 162, 0, 19, 16, 31, 26, 104, 43, 21, 5, 52, 96]
abbrev dktJ8_hashCode_0 : List UInt8 := dkwJ8_hashCode_0 ++ dktJ8_hashCode_1
theorem dksJ8_hashCode_0 : cJ8_hashCode.data.toList.drop 0 = dktJ8_hashCode_0 := by decide +kernel
theorem dksJ8_hashCode_1 : cJ8_hashCode.data.toList.drop 24 = dktJ8_hashCode_1 := dk_seg dksJ8_hashCode_0 24 rfl rfl
theorem dJ8_hashCode_0 : decode cJ8_hashCode 0 = .ok (.iload_n 2, 1) := dk_28 (dk_at dksJ8_hashCode_0 0 rfl rfl)
theorem dJ8_hashCode_1 : decode cJ8_hashCode 1 = .ok (.iload_n 3, 1) := dk_29 (dk_at dksJ8_hashCode_0 1 rfl rfl)
theorem dJ8_hashCode_2 : decode cJ8_hashCode 2 = .ok (.iadd, 1) := dk_96 (dk_at dksJ8_hashCode_0 2 rfl rfl)
theorem dJ8_hashCode_3 : decode cJ8_hashCode 3 = .ok (.istore 4, 2) := dk_54 4 (dk_at dksJ8_hashCode_0 3 rfl rfl)
theorem dJ8_hashCode_5 : decode cJ8_hashCode 5 = .ok (.iload_n 2, 1) := dk_28 (dk_at dksJ8_hashCode_0 5 rfl rfl)
theorem dJ8_hashCode_6 : decode cJ8_hashCode 6 = .ok (.istore 5, 2) := dk_54 5 (dk_at dksJ8_hashCode_0 6 rfl rfl)
theorem dJ8_hashCode_8 : decode cJ8_hashCode 8 = .ok (.iload 5, 2) := dk_21 5 (dk_at dksJ8_hashCode_0 8 rfl rfl)
theorem dJ8_hashCode_10 : decode cJ8_hashCode 10 = .ok (.iload 4, 2) := dk_21 4 (dk_at dksJ8_hashCode_0 10 rfl rfl)
theorem dJ8_hashCode_12 : decode cJ8_hashCode 12 = .ok (.if_icmp .ge 19, 3) := dk_162 0 19 (dk_at dksJ8_hashCode_0 12 rfl rfl)
theorem dJ8_hashCode_15 : decode cJ8_hashCode 15 = .ok (.bipush 31, 2) := dk_16 31 (dk_at dksJ8_hashCode_0 15 rfl rfl)
theorem dJ8_hashCode_17 : decode cJ8_hashCode 17 = .ok (.iload_n 0, 1) := dk_26 (dk_at dksJ8_hashCode_0 17 rfl rfl)
theorem dJ8_hashCode_18 : decode cJ8_hashCode 18 = .ok (.imul, 1) := dk_104 (dk_at dksJ8_hashCode_0 18 rfl rfl)
theorem dJ8_hashCode_19 : decode cJ8_hashCode 19 = .ok (.aload_n 1, 1) := dk_43 (dk_at dksJ8_hashCode_0 19 rfl rfl)
theorem dJ8_hashCode_20 : decode cJ8_hashCode 20 = .ok (.iload 5, 2) := dk_21 5 (dk_at dksJ8_hashCode_0 20 rfl rfl)
theorem dJ8_hashCode_22 : decode cJ8_hashCode 22 = .ok (.caload, 1) := dk_52 (dk_at dksJ8_hashCode_0 22 rfl rfl)
theorem dJ8_hashCode_23 : decode cJ8_hashCode 23 = .ok (.iadd, 1) := dk_96 (dk_at dksJ8_hashCode_0 23 rfl rfl)
theorem dJ8_hashCode_24 : decode cJ8_hashCode 24 = .ok (.istore_n 0, 1) := dk_59 (dk_at dksJ8_hashCode_1 0 rfl rfl)
theorem dJ8_hashCode_25 : decode cJ8_hashCode 25 = .ok (.iinc 5 1, 3) := dk_132 5 1 (dk_at dksJ8_hashCode_1 1 rfl rfl)
theorem dJ8_hashCode_28 : decode cJ8_hashCode 28 = .ok (.goto (-20), 3) := dk_167 255 236 (dk_at dksJ8_hashCode_1 4 rfl rfl)
theorem dJ8_hashCode_31 : decode cJ8_hashCode 31 = .ok (.iload_n 0, 1) := dk_26 (dk_at dksJ8_hashCode_1 7 rfl rfl)
theorem dJ8_hashCode_32 : decode cJ8_hashCode 32 = .ok (.ireturn, 1) := dk_172 (dk_at dksJ8_hashCode_1 8 rfl rfl)
abbrev cJ8_hashCode_2 : ByteArray := prog_83_method_6_code
def yJ8_hashCode_2 : MethodName := ⟨RJ8, "hashCode", "(I[BII)I"⟩
def dkwJ8_hashCode_2_1 : List UInt8 := [59, 132, 5, 1, 167, 255, 236, 26, 172]
abbrev dktJ8_hashCode_2_1 : List UInt8 := dkwJ8_hashCode_2_1 ++ []
def dkwJ8_hashCode_2_0 : List UInt8 := [28, 29, 96, 54, 4, 28, 54, 5, 21, 5, 21, 4, 162, 0, 19, 16, 31, 26, 104, 43, 21, 5, 51, 96]
abbrev dktJ8_hashCode_2_0 : List UInt8 := dkwJ8_hashCode_2_0 ++ dktJ8_hashCode_2_1
theorem dksJ8_hashCode_2_0 : cJ8_hashCode_2.data.toList.drop 0 = dktJ8_hashCode_2_0 := by decide +kernel
theorem dksJ8_hashCode_2_1 : cJ8_hashCode_2.data.toList.drop 24 = dktJ8_hashCode_2_1 := dk_seg dksJ8_hashCode_2_0 24 rfl rfl
theorem dJ8_hashCode_2_0 : decode cJ8_hashCode_2 0 = .ok (.iload_n 2, 1) := dk_28 (dk_at dksJ8_hashCode_2_0 0 rfl rfl)
theorem dJ8_hashCode_2_1 : decode cJ8_hashCode_2 1 = .ok (.iload_n 3, 1) := dk_29 (dk_at dksJ8_hashCode_2_0 1 rfl rfl)
theorem dJ8_hashCode_2_2 : decode cJ8_hashCode_2 2 = .ok (.iadd, 1) := dk_96 (dk_at dksJ8_hashCode_2_0 2 rfl rfl)
theorem dJ8_hashCode_2_3 : decode cJ8_hashCode_2 3 = .ok (.istore 4, 2) := dk_54 4 (dk_at dksJ8_hashCode_2_0 3 rfl rfl)
theorem dJ8_hashCode_2_5 : decode cJ8_hashCode_2 5 = .ok (.iload_n 2, 1) := dk_28 (dk_at dksJ8_hashCode_2_0 5 rfl rfl)
theorem dJ8_hashCode_2_6 : decode cJ8_hashCode_2 6 = .ok (.istore 5, 2) := dk_54 5 (dk_at dksJ8_hashCode_2_0 6 rfl rfl)
theorem dJ8_hashCode_2_8 : decode cJ8_hashCode_2 8 = .ok (.iload 5, 2) := dk_21 5 (dk_at dksJ8_hashCode_2_0 8 rfl rfl)
theorem dJ8_hashCode_2_10 : decode cJ8_hashCode_2 10 = .ok (.iload 4, 2) := dk_21 4 (dk_at dksJ8_hashCode_2_0 10 rfl rfl)
theorem dJ8_hashCode_2_12 : decode cJ8_hashCode_2 12 = .ok (.if_icmp .ge 19, 3) := dk_162 0 19 (dk_at dksJ8_hashCode_2_0 12 rfl rfl)
theorem dJ8_hashCode_2_15 : decode cJ8_hashCode_2 15 = .ok (.bipush 31, 2) := dk_16 31 (dk_at dksJ8_hashCode_2_0 15 rfl rfl)
theorem dJ8_hashCode_2_17 : decode cJ8_hashCode_2 17 = .ok (.iload_n 0, 1) := dk_26 (dk_at dksJ8_hashCode_2_0 17 rfl rfl)
theorem dJ8_hashCode_2_18 : decode cJ8_hashCode_2 18 = .ok (.imul, 1) := dk_104 (dk_at dksJ8_hashCode_2_0 18 rfl rfl)
theorem dJ8_hashCode_2_19 : decode cJ8_hashCode_2 19 = .ok (.aload_n 1, 1) := dk_43 (dk_at dksJ8_hashCode_2_0 19 rfl rfl)
theorem dJ8_hashCode_2_20 : decode cJ8_hashCode_2 20 = .ok (.iload 5, 2) := dk_21 5 (dk_at dksJ8_hashCode_2_0 20 rfl rfl)
theorem dJ8_hashCode_2_22 : decode cJ8_hashCode_2 22 = .ok (.baload, 1) := dk_51 (dk_at dksJ8_hashCode_2_0 22 rfl rfl)
theorem dJ8_hashCode_2_23 : decode cJ8_hashCode_2 23 = .ok (.iadd, 1) := dk_96 (dk_at dksJ8_hashCode_2_0 23 rfl rfl)
theorem dJ8_hashCode_2_24 : decode cJ8_hashCode_2 24 = .ok (.istore_n 0, 1) := dk_59 (dk_at dksJ8_hashCode_2_1 0 rfl rfl)
theorem dJ8_hashCode_2_25 : decode cJ8_hashCode_2 25 = .ok (.iinc 5 1, 3) := dk_132 5 1 (dk_at dksJ8_hashCode_2_1 1 rfl rfl)
theorem dJ8_hashCode_2_28 : decode cJ8_hashCode_2 28 = .ok (.goto (-20), 3) := dk_167 255 236 (dk_at dksJ8_hashCode_2_1 4 rfl rfl)
theorem dJ8_hashCode_2_31 : decode cJ8_hashCode_2 31 = .ok (.iload_n 0, 1) := dk_26 (dk_at dksJ8_hashCode_2_1 7 rfl rfl)
theorem dJ8_hashCode_2_32 : decode cJ8_hashCode_2 32 = .ok (.ireturn, 1) := dk_172 (dk_at dksJ8_hashCode_2_1 8 rfl rfl)
abbrev cJ8_hashCode_3 : ByteArray := prog_83_method_8_code
def yJ8_hashCode_3 : MethodName := ⟨RJ8, "hashCode", "(I[SII)I"⟩
def dkwJ8_hashCode_3_1 : List UInt8 := [59, 132, 5, 1, 167, 255, 236, 26, 172]
abbrev dktJ8_hashCode_3_1 : List UInt8 := dkwJ8_hashCode_3_1 ++ []
def dkwJ8_hashCode_3_0 : List UInt8 := [28, 29, 96, 54, 4, 28, 54, 5, 21, 5, 21, 4, 162, 0, 19, 16, 31, 26, 104, 43, 21, 5, 53, 96]
abbrev dktJ8_hashCode_3_0 : List UInt8 := dkwJ8_hashCode_3_0 ++ dktJ8_hashCode_3_1
theorem dksJ8_hashCode_3_0 : cJ8_hashCode_3.data.toList.drop 0 = dktJ8_hashCode_3_0 := by decide +kernel
theorem dksJ8_hashCode_3_1 : cJ8_hashCode_3.data.toList.drop 24 = dktJ8_hashCode_3_1 := dk_seg dksJ8_hashCode_3_0 24 rfl rfl
theorem dJ8_hashCode_3_0 : decode cJ8_hashCode_3 0 = .ok (.iload_n 2, 1) := dk_28 (dk_at dksJ8_hashCode_3_0 0 rfl rfl)
theorem dJ8_hashCode_3_1 : decode cJ8_hashCode_3 1 = .ok (.iload_n 3, 1) := dk_29 (dk_at dksJ8_hashCode_3_0 1 rfl rfl)
theorem dJ8_hashCode_3_2 : decode cJ8_hashCode_3 2 = .ok (.iadd, 1) := dk_96 (dk_at dksJ8_hashCode_3_0 2 rfl rfl)
theorem dJ8_hashCode_3_3 : decode cJ8_hashCode_3 3 = .ok (.istore 4, 2) := dk_54 4 (dk_at dksJ8_hashCode_3_0 3 rfl rfl)
theorem dJ8_hashCode_3_5 : decode cJ8_hashCode_3 5 = .ok (.iload_n 2, 1) := dk_28 (dk_at dksJ8_hashCode_3_0 5 rfl rfl)
theorem dJ8_hashCode_3_6 : decode cJ8_hashCode_3 6 = .ok (.istore 5, 2) := dk_54 5 (dk_at dksJ8_hashCode_3_0 6 rfl rfl)
theorem dJ8_hashCode_3_8 : decode cJ8_hashCode_3 8 = .ok (.iload 5, 2) := dk_21 5 (dk_at dksJ8_hashCode_3_0 8 rfl rfl)
theorem dJ8_hashCode_3_10 : decode cJ8_hashCode_3 10 = .ok (.iload 4, 2) := dk_21 4 (dk_at dksJ8_hashCode_3_0 10 rfl rfl)
theorem dJ8_hashCode_3_12 : decode cJ8_hashCode_3 12 = .ok (.if_icmp .ge 19, 3) := dk_162 0 19 (dk_at dksJ8_hashCode_3_0 12 rfl rfl)
theorem dJ8_hashCode_3_15 : decode cJ8_hashCode_3 15 = .ok (.bipush 31, 2) := dk_16 31 (dk_at dksJ8_hashCode_3_0 15 rfl rfl)
theorem dJ8_hashCode_3_17 : decode cJ8_hashCode_3 17 = .ok (.iload_n 0, 1) := dk_26 (dk_at dksJ8_hashCode_3_0 17 rfl rfl)
theorem dJ8_hashCode_3_18 : decode cJ8_hashCode_3 18 = .ok (.imul, 1) := dk_104 (dk_at dksJ8_hashCode_3_0 18 rfl rfl)
theorem dJ8_hashCode_3_19 : decode cJ8_hashCode_3 19 = .ok (.aload_n 1, 1) := dk_43 (dk_at dksJ8_hashCode_3_0 19 rfl rfl)
theorem dJ8_hashCode_3_20 : decode cJ8_hashCode_3 20 = .ok (.iload 5, 2) := dk_21 5 (dk_at dksJ8_hashCode_3_0 20 rfl rfl)
theorem dJ8_hashCode_3_22 : decode cJ8_hashCode_3 22 = .ok (.saload, 1) := dk_53 (dk_at dksJ8_hashCode_3_0 22 rfl rfl)
theorem dJ8_hashCode_3_23 : decode cJ8_hashCode_3 23 = .ok (.iadd, 1) := dk_96 (dk_at dksJ8_hashCode_3_0 23 rfl rfl)
theorem dJ8_hashCode_3_24 : decode cJ8_hashCode_3 24 = .ok (.istore_n 0, 1) := dk_59 (dk_at dksJ8_hashCode_3_1 0 rfl rfl)
theorem dJ8_hashCode_3_25 : decode cJ8_hashCode_3 25 = .ok (.iinc 5 1, 3) := dk_132 5 1 (dk_at dksJ8_hashCode_3_1 1 rfl rfl)
theorem dJ8_hashCode_3_28 : decode cJ8_hashCode_3 28 = .ok (.goto (-20), 3) := dk_167 255 236 (dk_at dksJ8_hashCode_3_1 4 rfl rfl)
theorem dJ8_hashCode_3_31 : decode cJ8_hashCode_3 31 = .ok (.iload_n 0, 1) := dk_26 (dk_at dksJ8_hashCode_3_1 7 rfl rfl)
theorem dJ8_hashCode_3_32 : decode cJ8_hashCode_3 32 = .ok (.ireturn, 1) := dk_172 (dk_at dksJ8_hashCode_3_1 8 rfl rfl)
abbrev cJ8_hashCode_4 : ByteArray := prog_83_method_9_code
def yJ8_hashCode_4 : MethodName := ⟨RJ8, "hashCode", "(I[III)I"⟩
def dkwJ8_hashCode_4_1 : List UInt8 := [59, 132, 5, 1, 167, 255, 236, 26, 172]
abbrev dktJ8_hashCode_4_1 : List UInt8 := dkwJ8_hashCode_4_1 ++ []
def dkwJ8_hashCode_4_0 : List UInt8 := [28, 29, 96, 54, 4, 28, 54, 5, 21, 5, 21, 4, 162, 0, 19, 16, 31, 26, 104, 43, 21, 5, 46, 96]
abbrev dktJ8_hashCode_4_0 : List UInt8 := dkwJ8_hashCode_4_0 ++ dktJ8_hashCode_4_1
theorem dksJ8_hashCode_4_0 : cJ8_hashCode_4.data.toList.drop 0 = dktJ8_hashCode_4_0 := by decide +kernel
theorem dksJ8_hashCode_4_1 : cJ8_hashCode_4.data.toList.drop 24 = dktJ8_hashCode_4_1 := dk_seg dksJ8_hashCode_4_0 24 rfl rfl
theorem dJ8_hashCode_4_0 : decode cJ8_hashCode_4 0 = .ok (.iload_n 2, 1) := dk_28 (dk_at dksJ8_hashCode_4_0 0 rfl rfl)
theorem dJ8_hashCode_4_1 : decode cJ8_hashCode_4 1 = .ok (.iload_n 3, 1) := dk_29 (dk_at dksJ8_hashCode_4_0 1 rfl rfl)
theorem dJ8_hashCode_4_2 : decode cJ8_hashCode_4 2 = .ok (.iadd, 1) := dk_96 (dk_at dksJ8_hashCode_4_0 2 rfl rfl)
theorem dJ8_hashCode_4_3 : decode cJ8_hashCode_4 3 = .ok (.istore 4, 2) := dk_54 4 (dk_at dksJ8_hashCode_4_0 3 rfl rfl)
theorem dJ8_hashCode_4_5 : decode cJ8_hashCode_4 5 = .ok (.iload_n 2, 1) := dk_28 (dk_at dksJ8_hashCode_4_0 5 rfl rfl)
theorem dJ8_hashCode_4_6 : decode cJ8_hashCode_4 6 = .ok (.istore 5, 2) := dk_54 5 (dk_at dksJ8_hashCode_4_0 6 rfl rfl)
theorem dJ8_hashCode_4_8 : decode cJ8_hashCode_4 8 = .ok (.iload 5, 2) := dk_21 5 (dk_at dksJ8_hashCode_4_0 8 rfl rfl)
theorem dJ8_hashCode_4_10 : decode cJ8_hashCode_4 10 = .ok (.iload 4, 2) := dk_21 4 (dk_at dksJ8_hashCode_4_0 10 rfl rfl)
theorem dJ8_hashCode_4_12 : decode cJ8_hashCode_4 12 = .ok (.if_icmp .ge 19, 3) := dk_162 0 19 (dk_at dksJ8_hashCode_4_0 12 rfl rfl)
theorem dJ8_hashCode_4_15 : decode cJ8_hashCode_4 15 = .ok (.bipush 31, 2) := dk_16 31 (dk_at dksJ8_hashCode_4_0 15 rfl rfl)
theorem dJ8_hashCode_4_17 : decode cJ8_hashCode_4 17 = .ok (.iload_n 0, 1) := dk_26 (dk_at dksJ8_hashCode_4_0 17 rfl rfl)
theorem dJ8_hashCode_4_18 : decode cJ8_hashCode_4 18 = .ok (.imul, 1) := dk_104 (dk_at dksJ8_hashCode_4_0 18 rfl rfl)
theorem dJ8_hashCode_4_19 : decode cJ8_hashCode_4 19 = .ok (.aload_n 1, 1) := dk_43 (dk_at dksJ8_hashCode_4_0 19 rfl rfl)
theorem dJ8_hashCode_4_20 : decode cJ8_hashCode_4 20 = .ok (.iload 5, 2) := dk_21 5 (dk_at dksJ8_hashCode_4_0 20 rfl rfl)
theorem dJ8_hashCode_4_22 : decode cJ8_hashCode_4 22 = .ok (.iaload, 1) := dk_46 (dk_at dksJ8_hashCode_4_0 22 rfl rfl)
theorem dJ8_hashCode_4_23 : decode cJ8_hashCode_4 23 = .ok (.iadd, 1) := dk_96 (dk_at dksJ8_hashCode_4_0 23 rfl rfl)
theorem dJ8_hashCode_4_24 : decode cJ8_hashCode_4 24 = .ok (.istore_n 0, 1) := dk_59 (dk_at dksJ8_hashCode_4_1 0 rfl rfl)
theorem dJ8_hashCode_4_25 : decode cJ8_hashCode_4 25 = .ok (.iinc 5 1, 3) := dk_132 5 1 (dk_at dksJ8_hashCode_4_1 1 rfl rfl)
theorem dJ8_hashCode_4_28 : decode cJ8_hashCode_4 28 = .ok (.goto (-20), 3) := dk_167 255 236 (dk_at dksJ8_hashCode_4_1 4 rfl rfl)
theorem dJ8_hashCode_4_31 : decode cJ8_hashCode_4 31 = .ok (.iload_n 0, 1) := dk_26 (dk_at dksJ8_hashCode_4_1 7 rfl rfl)
theorem dJ8_hashCode_4_32 : decode cJ8_hashCode_4 32 = .ok (.ireturn, 1) := dk_172 (dk_at dksJ8_hashCode_4_1 8 rfl rfl)
abbrev cJ8_mismatch : ByteArray := prog_83_method_13_code
def yJ8_mismatch : MethodName := ⟨RJ8, "mismatch", "([B[BI)I"⟩
def dkwJ8_mismatch_3 : List UInt8 := [172]
abbrev dktJ8_mismatch_3 : List UInt8 := dkwJ8_mismatch_3 ++ []
def dkwJ8_mismatch_2 : List UInt8 := [62, 29, 28, 162, 0, 20, 42, 29, 51, 43, 29, 51, 159, 0, 5, 29, 172, 132, 3, 1, 167, 255, 237, 2]
abbrev dktJ8_mismatch_2 : List UInt8 := dkwJ8_mismatch_2 ++ dktJ8_mismatch_3
def dkwJ8_mismatch_1 : List UInt8 := [43, 178, 0, 126, 133, 28, 178, 0, 129, 184, 0, 122, 62, 29, 155, 0, 5, 29, 172, 28, 29, 2, 130, 100]
abbrev dktJ8_mismatch_1 : List UInt8 := dkwJ8_mismatch_1 ++ dktJ8_mismatch_2
def dkwJ8_mismatch_0 : List UInt8 := [3, 62, 28, 16, 7, 164, 0, 44, 42, 3, 51, 43, 3, 51, 159, 0, 5, 3, 172, 42, 178, 0, 126, 133]
abbrev dktJ8_mismatch_0 : List UInt8 := dkwJ8_mismatch_0 ++ dktJ8_mismatch_1
theorem dksJ8_mismatch_0 : cJ8_mismatch.data.toList.drop 0 = dktJ8_mismatch_0 := by decide +kernel
theorem dksJ8_mismatch_1 : cJ8_mismatch.data.toList.drop 24 = dktJ8_mismatch_1 := dk_seg dksJ8_mismatch_0 24 rfl rfl
theorem dksJ8_mismatch_2 : cJ8_mismatch.data.toList.drop 48 = dktJ8_mismatch_2 := dk_seg dksJ8_mismatch_1 24 rfl rfl
theorem dksJ8_mismatch_3 : cJ8_mismatch.data.toList.drop 72 = dktJ8_mismatch_3 := dk_seg dksJ8_mismatch_2 24 rfl rfl
theorem dJ8_mismatch_0 : decode cJ8_mismatch 0 = .ok (.iconst 0, 1) := dk_3 (dk_at dksJ8_mismatch_0 0 rfl rfl)
theorem dJ8_mismatch_1 : decode cJ8_mismatch 1 = .ok (.istore_n 3, 1) := dk_62 (dk_at dksJ8_mismatch_0 1 rfl rfl)
theorem dJ8_mismatch_2 : decode cJ8_mismatch 2 = .ok (.iload_n 2, 1) := dk_28 (dk_at dksJ8_mismatch_0 2 rfl rfl)
theorem dJ8_mismatch_3 : decode cJ8_mismatch 3 = .ok (.bipush 7, 2) := dk_16 7 (dk_at dksJ8_mismatch_0 3 rfl rfl)
theorem dJ8_mismatch_5 : decode cJ8_mismatch 5 = .ok (.if_icmp .le 44, 3) := dk_164 0 44 (dk_at dksJ8_mismatch_0 5 rfl rfl)
theorem dJ8_mismatch_8 : decode cJ8_mismatch 8 = .ok (.aload_n 0, 1) := dk_42 (dk_at dksJ8_mismatch_0 8 rfl rfl)
theorem dJ8_mismatch_9 : decode cJ8_mismatch 9 = .ok (.iconst 0, 1) := dk_3 (dk_at dksJ8_mismatch_0 9 rfl rfl)
theorem dJ8_mismatch_10 : decode cJ8_mismatch 10 = .ok (.baload, 1) := dk_51 (dk_at dksJ8_mismatch_0 10 rfl rfl)
theorem dJ8_mismatch_11 : decode cJ8_mismatch 11 = .ok (.aload_n 1, 1) := dk_43 (dk_at dksJ8_mismatch_0 11 rfl rfl)
theorem dJ8_mismatch_12 : decode cJ8_mismatch 12 = .ok (.iconst 0, 1) := dk_3 (dk_at dksJ8_mismatch_0 12 rfl rfl)
theorem dJ8_mismatch_13 : decode cJ8_mismatch 13 = .ok (.baload, 1) := dk_51 (dk_at dksJ8_mismatch_0 13 rfl rfl)
theorem dJ8_mismatch_14 : decode cJ8_mismatch 14 = .ok (.if_icmp .eq 5, 3) := dk_159 0 5 (dk_at dksJ8_mismatch_0 14 rfl rfl)
theorem dJ8_mismatch_17 : decode cJ8_mismatch 17 = .ok (.iconst 0, 1) := dk_3 (dk_at dksJ8_mismatch_0 17 rfl rfl)
theorem dJ8_mismatch_18 : decode cJ8_mismatch 18 = .ok (.ireturn, 1) := dk_172 (dk_at dksJ8_mismatch_0 18 rfl rfl)
theorem dJ8_mismatch_19 : decode cJ8_mismatch 19 = .ok (.aload_n 0, 1) := dk_42 (dk_at dksJ8_mismatch_0 19 rfl rfl)
theorem dJ8_mismatch_20 : decode cJ8_mismatch 20 = .ok (.getstatic 126, 3) := dk_178 0 126 (dk_at dksJ8_mismatch_0 20 rfl rfl)
theorem dJ8_mismatch_23 : decode cJ8_mismatch 23 = .ok (.i2l, 1) := dk_133 (dk_at dksJ8_mismatch_0 23 rfl rfl)
theorem dJ8_mismatch_24 : decode cJ8_mismatch 24 = .ok (.aload_n 1, 1) := dk_43 (dk_at dksJ8_mismatch_1 0 rfl rfl)
theorem dJ8_mismatch_25 : decode cJ8_mismatch 25 = .ok (.getstatic 126, 3) := dk_178 0 126 (dk_at dksJ8_mismatch_1 1 rfl rfl)
theorem dJ8_mismatch_28 : decode cJ8_mismatch 28 = .ok (.i2l, 1) := dk_133 (dk_at dksJ8_mismatch_1 4 rfl rfl)
theorem dJ8_mismatch_29 : decode cJ8_mismatch 29 = .ok (.iload_n 2, 1) := dk_28 (dk_at dksJ8_mismatch_1 5 rfl rfl)
theorem dJ8_mismatch_30 : decode cJ8_mismatch 30 = .ok (.getstatic 129, 3) := dk_178 0 129 (dk_at dksJ8_mismatch_1 6 rfl rfl)
theorem dJ8_mismatch_33 : decode cJ8_mismatch 33 = .ok (.invokestatic 122, 3) := dk_184 0 122 (dk_at dksJ8_mismatch_1 9 rfl rfl)
theorem dJ8_mismatch_36 : decode cJ8_mismatch 36 = .ok (.istore_n 3, 1) := dk_62 (dk_at dksJ8_mismatch_1 12 rfl rfl)
theorem dJ8_mismatch_37 : decode cJ8_mismatch 37 = .ok (.iload_n 3, 1) := dk_29 (dk_at dksJ8_mismatch_1 13 rfl rfl)
theorem dJ8_mismatch_38 : decode cJ8_mismatch 38 = .ok (.ifCond .lt 5, 3) := dk_155 0 5 (dk_at dksJ8_mismatch_1 14 rfl rfl)
theorem dJ8_mismatch_41 : decode cJ8_mismatch 41 = .ok (.iload_n 3, 1) := dk_29 (dk_at dksJ8_mismatch_1 17 rfl rfl)
theorem dJ8_mismatch_42 : decode cJ8_mismatch 42 = .ok (.ireturn, 1) := dk_172 (dk_at dksJ8_mismatch_1 18 rfl rfl)
theorem dJ8_mismatch_43 : decode cJ8_mismatch 43 = .ok (.iload_n 2, 1) := dk_28 (dk_at dksJ8_mismatch_1 19 rfl rfl)
theorem dJ8_mismatch_44 : decode cJ8_mismatch 44 = .ok (.iload_n 3, 1) := dk_29 (dk_at dksJ8_mismatch_1 20 rfl rfl)
theorem dJ8_mismatch_45 : decode cJ8_mismatch 45 = .ok (.iconst (-1), 1) := dk_2 (dk_at dksJ8_mismatch_1 21 rfl rfl)
theorem dJ8_mismatch_46 : decode cJ8_mismatch 46 = .ok (.ixor, 1) := dk_130 (dk_at dksJ8_mismatch_1 22 rfl rfl)
theorem dJ8_mismatch_47 : decode cJ8_mismatch 47 = .ok (.isub, 1) := dk_100 (dk_at dksJ8_mismatch_1 23 rfl rfl)
theorem dJ8_mismatch_48 : decode cJ8_mismatch 48 = .ok (.istore_n 3, 1) := dk_62 (dk_at dksJ8_mismatch_2 0 rfl rfl)
theorem dJ8_mismatch_49 : decode cJ8_mismatch 49 = .ok (.iload_n 3, 1) := dk_29 (dk_at dksJ8_mismatch_2 1 rfl rfl)
theorem dJ8_mismatch_50 : decode cJ8_mismatch 50 = .ok (.iload_n 2, 1) := dk_28 (dk_at dksJ8_mismatch_2 2 rfl rfl)
theorem dJ8_mismatch_51 : decode cJ8_mismatch 51 = .ok (.if_icmp .ge 20, 3) := dk_162 0 20 (dk_at dksJ8_mismatch_2 3 rfl rfl)
theorem dJ8_mismatch_54 : decode cJ8_mismatch 54 = .ok (.aload_n 0, 1) := dk_42 (dk_at dksJ8_mismatch_2 6 rfl rfl)
theorem dJ8_mismatch_55 : decode cJ8_mismatch 55 = .ok (.iload_n 3, 1) := dk_29 (dk_at dksJ8_mismatch_2 7 rfl rfl)
theorem dJ8_mismatch_56 : decode cJ8_mismatch 56 = .ok (.baload, 1) := dk_51 (dk_at dksJ8_mismatch_2 8 rfl rfl)
theorem dJ8_mismatch_57 : decode cJ8_mismatch 57 = .ok (.aload_n 1, 1) := dk_43 (dk_at dksJ8_mismatch_2 9 rfl rfl)
theorem dJ8_mismatch_58 : decode cJ8_mismatch 58 = .ok (.iload_n 3, 1) := dk_29 (dk_at dksJ8_mismatch_2 10 rfl rfl)
theorem dJ8_mismatch_59 : decode cJ8_mismatch 59 = .ok (.baload, 1) := dk_51 (dk_at dksJ8_mismatch_2 11 rfl rfl)
theorem dJ8_mismatch_60 : decode cJ8_mismatch 60 = .ok (.if_icmp .eq 5, 3) := dk_159 0 5 (dk_at dksJ8_mismatch_2 12 rfl rfl)
theorem dJ8_mismatch_63 : decode cJ8_mismatch 63 = .ok (.iload_n 3, 1) := dk_29 (dk_at dksJ8_mismatch_2 15 rfl rfl)
theorem dJ8_mismatch_64 : decode cJ8_mismatch 64 = .ok (.ireturn, 1) := dk_172 (dk_at dksJ8_mismatch_2 16 rfl rfl)
theorem dJ8_mismatch_65 : decode cJ8_mismatch 65 = .ok (.iinc 3 1, 3) := dk_132 3 1 (dk_at dksJ8_mismatch_2 17 rfl rfl)
theorem dJ8_mismatch_68 : decode cJ8_mismatch 68 = .ok (.goto (-19), 3) := dk_167 255 237 (dk_at dksJ8_mismatch_2 20 rfl rfl)
theorem dJ8_mismatch_71 : decode cJ8_mismatch 71 = .ok (.iconst (-1), 1) := dk_2 (dk_at dksJ8_mismatch_2 23 rfl rfl)
theorem dJ8_mismatch_72 : decode cJ8_mismatch 72 = .ok (.ireturn, 1) := dk_172 (dk_at dksJ8_mismatch_3 0 rfl rfl)
abbrev cJ8_vectorizedMismatch : ByteArray := prog_83_method_3_code
def yJ8_vectorizedMismatch : MethodName := ⟨RJ8, "vectorizedMismatch", "(Ljava/lang/Object;JLjava/lang/Object;JII)I"⟩
def dkwJ8_vectorizedMismatch_11 : List UInt8 := [54, 10, 21, 10, 2, 130, 172, 21, 10, 2, 130, 172]
abbrev dktJ8_vectorizedMismatch_11 : List UInt8 := dkwJ8_vectorizedMismatch_11 ++ []
def dkwJ8_vectorizedMismatch_10 : List UInt8 := [178, 0, 46, 21, 7, 96, 122, 54, 17, 21, 9, 21, 8, 120, 21, 17, 96, 172, 21, 10, 21, 11, 100]
abbrev dktJ8_vectorizedMismatch_10 : List UInt8 := dkwJ8_vectorizedMismatch_10 ++ dktJ8_vectorizedMismatch_11
def dkwJ8_vectorizedMismatch_9 : List UInt8 := [153, 0, 18, 21, 16, 184, 0, 58, 178, 0, 46, 21, 7, 96, 122, 167, 0, 15, 21, 16, 184, 0, 11]
abbrev dktJ8_vectorizedMismatch_9 : List UInt8 := dkwJ8_vectorizedMismatch_9 ++ dktJ8_vectorizedMismatch_10
def dkwJ8_vectorizedMismatch_8 : List UInt8 := [182, 0, 54, 54, 15, 21, 14, 21, 15, 159, 0, 54, 21, 14, 21, 15, 130, 54, 16, 178, 0, 36]
abbrev dktJ8_vectorizedMismatch_8 : List UInt8 := dkwJ8_vectorizedMismatch_8 ++ dktJ8_vectorizedMismatch_9
def dkwJ8_vectorizedMismatch_7 : List UInt8 := [55, 12, 178, 0, 26, 42, 31, 22, 12, 97, 182, 0, 54, 54, 14, 178, 0, 26, 45, 22, 4, 22, 12, 97]
abbrev dktJ8_vectorizedMismatch_7 : List UInt8 := dkwJ8_vectorizedMismatch_7 ++ dktJ8_vectorizedMismatch_8
def dkwJ8_vectorizedMismatch_6 : List UInt8 := [4, 178, 0, 51, 21, 7, 100, 120, 54, 11, 21, 10, 21, 11, 161, 0, 104, 21, 9, 133, 178, 0, 20, 121]
abbrev dktJ8_vectorizedMismatch_6 : List UInt8 := dkwJ8_vectorizedMismatch_6 ++ dktJ8_vectorizedMismatch_7
def dkwJ8_vectorizedMismatch_5 : List UInt8 := [132, 9, 1, 167, 255, 148, 21, 6, 21, 9, 21, 8, 120, 100, 54, 10, 21, 7, 178, 0, 51, 162, 0, 126]
abbrev dktJ8_vectorizedMismatch_5 : List UInt8 := dkwJ8_vectorizedMismatch_5 ++ dktJ8_vectorizedMismatch_6
def dkwJ8_vectorizedMismatch_4 : List UInt8 := [22, 16, 184, 0, 49, 178, 0, 46, 21, 7, 96, 122, 54, 18, 21, 9, 21, 8, 120, 21, 18, 96, 172]
abbrev dktJ8_vectorizedMismatch_4 : List UInt8 := dkwJ8_vectorizedMismatch_4 ++ dktJ8_vectorizedMismatch_5
def dkwJ8_vectorizedMismatch_3 : List UInt8 := [55, 16, 178, 0, 36, 153, 0, 18, 22, 16, 184, 0, 40, 178, 0, 46, 21, 7, 96, 122, 167, 0, 15]
abbrev dktJ8_vectorizedMismatch_3 : List UInt8 := dkwJ8_vectorizedMismatch_3 ++ dktJ8_vectorizedMismatch_4
def dkwJ8_vectorizedMismatch_2 : List UInt8 := [22, 4, 22, 10, 97, 182, 0, 30, 55, 14, 22, 12, 22, 14, 148, 153, 0, 54, 22, 12, 22, 14, 131]
abbrev dktJ8_vectorizedMismatch_2 : List UInt8 := dkwJ8_vectorizedMismatch_2 ++ dktJ8_vectorizedMismatch_3
def dkwJ8_vectorizedMismatch_1 : List UInt8 := [178, 0, 20, 121, 55, 10, 178, 0, 26, 42, 31, 22, 10, 97, 182, 0, 30, 55, 12, 178, 0, 26, 45]
abbrev dktJ8_vectorizedMismatch_1 : List UInt8 := dkwJ8_vectorizedMismatch_1 ++ dktJ8_vectorizedMismatch_2
def dkwJ8_vectorizedMismatch_0 : List UInt8 := [178, 0, 20, 21, 7, 100, 54, 8, 3, 54, 9, 21, 9, 21, 6, 21, 8, 122, 162, 0, 104, 21, 9, 133]
abbrev dktJ8_vectorizedMismatch_0 : List UInt8 := dkwJ8_vectorizedMismatch_0 ++ dktJ8_vectorizedMismatch_1
theorem dksJ8_vectorizedMismatch_0 : cJ8_vectorizedMismatch.data.toList.drop 0 = dktJ8_vectorizedMismatch_0 := by decide +kernel
theorem dksJ8_vectorizedMismatch_1 : cJ8_vectorizedMismatch.data.toList.drop 24 = dktJ8_vectorizedMismatch_1 := dk_seg dksJ8_vectorizedMismatch_0 24 rfl rfl
theorem dksJ8_vectorizedMismatch_2 : cJ8_vectorizedMismatch.data.toList.drop 47 = dktJ8_vectorizedMismatch_2 := dk_seg dksJ8_vectorizedMismatch_1 23 rfl rfl
theorem dksJ8_vectorizedMismatch_3 : cJ8_vectorizedMismatch.data.toList.drop 70 = dktJ8_vectorizedMismatch_3 := dk_seg dksJ8_vectorizedMismatch_2 23 rfl rfl
theorem dksJ8_vectorizedMismatch_4 : cJ8_vectorizedMismatch.data.toList.drop 93 = dktJ8_vectorizedMismatch_4 := dk_seg dksJ8_vectorizedMismatch_3 23 rfl rfl
theorem dksJ8_vectorizedMismatch_5 : cJ8_vectorizedMismatch.data.toList.drop 116 = dktJ8_vectorizedMismatch_5 := dk_seg dksJ8_vectorizedMismatch_4 23 rfl rfl
theorem dksJ8_vectorizedMismatch_6 : cJ8_vectorizedMismatch.data.toList.drop 140 = dktJ8_vectorizedMismatch_6 := dk_seg dksJ8_vectorizedMismatch_5 24 rfl rfl
theorem dksJ8_vectorizedMismatch_7 : cJ8_vectorizedMismatch.data.toList.drop 164 = dktJ8_vectorizedMismatch_7 := dk_seg dksJ8_vectorizedMismatch_6 24 rfl rfl
theorem dksJ8_vectorizedMismatch_8 : cJ8_vectorizedMismatch.data.toList.drop 188 = dktJ8_vectorizedMismatch_8 := dk_seg dksJ8_vectorizedMismatch_7 24 rfl rfl
theorem dksJ8_vectorizedMismatch_9 : cJ8_vectorizedMismatch.data.toList.drop 210 = dktJ8_vectorizedMismatch_9 := dk_seg dksJ8_vectorizedMismatch_8 22 rfl rfl
theorem dksJ8_vectorizedMismatch_10 : cJ8_vectorizedMismatch.data.toList.drop 233 = dktJ8_vectorizedMismatch_10 := dk_seg dksJ8_vectorizedMismatch_9 23 rfl rfl
theorem dksJ8_vectorizedMismatch_11 : cJ8_vectorizedMismatch.data.toList.drop 256 = dktJ8_vectorizedMismatch_11 := dk_seg dksJ8_vectorizedMismatch_10 23 rfl rfl
theorem dJ8_vectorizedMismatch_0 : decode cJ8_vectorizedMismatch 0 = .ok (.getstatic 20, 3) := dk_178 0 20 (dk_at dksJ8_vectorizedMismatch_0 0 rfl rfl)
theorem dJ8_vectorizedMismatch_3 : decode cJ8_vectorizedMismatch 3 = .ok (.iload 7, 2) := dk_21 7 (dk_at dksJ8_vectorizedMismatch_0 3 rfl rfl)
theorem dJ8_vectorizedMismatch_5 : decode cJ8_vectorizedMismatch 5 = .ok (.isub, 1) := dk_100 (dk_at dksJ8_vectorizedMismatch_0 5 rfl rfl)
theorem dJ8_vectorizedMismatch_6 : decode cJ8_vectorizedMismatch 6 = .ok (.istore 8, 2) := dk_54 8 (dk_at dksJ8_vectorizedMismatch_0 6 rfl rfl)
theorem dJ8_vectorizedMismatch_8 : decode cJ8_vectorizedMismatch 8 = .ok (.iconst 0, 1) := dk_3 (dk_at dksJ8_vectorizedMismatch_0 8 rfl rfl)
theorem dJ8_vectorizedMismatch_9 : decode cJ8_vectorizedMismatch 9 = .ok (.istore 9, 2) := dk_54 9 (dk_at dksJ8_vectorizedMismatch_0 9 rfl rfl)
theorem dJ8_vectorizedMismatch_11 : decode cJ8_vectorizedMismatch 11 = .ok (.iload 9, 2) := dk_21 9 (dk_at dksJ8_vectorizedMismatch_0 11 rfl rfl)
theorem dJ8_vectorizedMismatch_13 : decode cJ8_vectorizedMismatch 13 = .ok (.iload 6, 2) := dk_21 6 (dk_at dksJ8_vectorizedMismatch_0 13 rfl rfl)
theorem dJ8_vectorizedMismatch_15 : decode cJ8_vectorizedMismatch 15 = .ok (.iload 8, 2) := dk_21 8 (dk_at dksJ8_vectorizedMismatch_0 15 rfl rfl)
theorem dJ8_vectorizedMismatch_17 : decode cJ8_vectorizedMismatch 17 = .ok (.ishr, 1) := dk_122 (dk_at dksJ8_vectorizedMismatch_0 17 rfl rfl)
theorem dJ8_vectorizedMismatch_18 : decode cJ8_vectorizedMismatch 18 = .ok (.if_icmp .ge 104, 3) := dk_162 0 104 (dk_at dksJ8_vectorizedMismatch_0 18 rfl rfl)
theorem dJ8_vectorizedMismatch_21 : decode cJ8_vectorizedMismatch 21 = .ok (.iload 9, 2) := dk_21 9 (dk_at dksJ8_vectorizedMismatch_0 21 rfl rfl)
theorem dJ8_vectorizedMismatch_23 : decode cJ8_vectorizedMismatch 23 = .ok (.i2l, 1) := dk_133 (dk_at dksJ8_vectorizedMismatch_0 23 rfl rfl)
theorem dJ8_vectorizedMismatch_24 : decode cJ8_vectorizedMismatch 24 = .ok (.getstatic 20, 3) := dk_178 0 20 (dk_at dksJ8_vectorizedMismatch_1 0 rfl rfl)
theorem dJ8_vectorizedMismatch_27 : decode cJ8_vectorizedMismatch 27 = .ok (.lshl, 1) := dk_121 (dk_at dksJ8_vectorizedMismatch_1 3 rfl rfl)
theorem dJ8_vectorizedMismatch_28 : decode cJ8_vectorizedMismatch 28 = .ok (.lstore 10, 2) := dk_55 10 (dk_at dksJ8_vectorizedMismatch_1 4 rfl rfl)
theorem dJ8_vectorizedMismatch_30 : decode cJ8_vectorizedMismatch 30 = .ok (.getstatic 26, 3) := dk_178 0 26 (dk_at dksJ8_vectorizedMismatch_1 6 rfl rfl)
theorem dJ8_vectorizedMismatch_33 : decode cJ8_vectorizedMismatch 33 = .ok (.aload_n 0, 1) := dk_42 (dk_at dksJ8_vectorizedMismatch_1 9 rfl rfl)
theorem dJ8_vectorizedMismatch_34 : decode cJ8_vectorizedMismatch 34 = .ok (.lload_n 1, 1) := dk_31 (dk_at dksJ8_vectorizedMismatch_1 10 rfl rfl)
theorem dJ8_vectorizedMismatch_35 : decode cJ8_vectorizedMismatch 35 = .ok (.lload 10, 2) := dk_22 10 (dk_at dksJ8_vectorizedMismatch_1 11 rfl rfl)
theorem dJ8_vectorizedMismatch_37 : decode cJ8_vectorizedMismatch 37 = .ok (.ladd, 1) := dk_97 (dk_at dksJ8_vectorizedMismatch_1 13 rfl rfl)
theorem dJ8_vectorizedMismatch_38 : decode cJ8_vectorizedMismatch 38 = .ok (.invokevirtual 30, 3) := dk_182 0 30 (dk_at dksJ8_vectorizedMismatch_1 14 rfl rfl)
theorem dJ8_vectorizedMismatch_41 : decode cJ8_vectorizedMismatch 41 = .ok (.lstore 12, 2) := dk_55 12 (dk_at dksJ8_vectorizedMismatch_1 17 rfl rfl)
theorem dJ8_vectorizedMismatch_43 : decode cJ8_vectorizedMismatch 43 = .ok (.getstatic 26, 3) := dk_178 0 26 (dk_at dksJ8_vectorizedMismatch_1 19 rfl rfl)
theorem dJ8_vectorizedMismatch_46 : decode cJ8_vectorizedMismatch 46 = .ok (.aload_n 3, 1) := dk_45 (dk_at dksJ8_vectorizedMismatch_1 22 rfl rfl)
theorem dJ8_vectorizedMismatch_47 : decode cJ8_vectorizedMismatch 47 = .ok (.lload 4, 2) := dk_22 4 (dk_at dksJ8_vectorizedMismatch_2 0 rfl rfl)
theorem dJ8_vectorizedMismatch_49 : decode cJ8_vectorizedMismatch 49 = .ok (.lload 10, 2) := dk_22 10 (dk_at dksJ8_vectorizedMismatch_2 2 rfl rfl)
theorem dJ8_vectorizedMismatch_51 : decode cJ8_vectorizedMismatch 51 = .ok (.ladd, 1) := dk_97 (dk_at dksJ8_vectorizedMismatch_2 4 rfl rfl)
theorem dJ8_vectorizedMismatch_52 : decode cJ8_vectorizedMismatch 52 = .ok (.invokevirtual 30, 3) := dk_182 0 30 (dk_at dksJ8_vectorizedMismatch_2 5 rfl rfl)
theorem dJ8_vectorizedMismatch_55 : decode cJ8_vectorizedMismatch 55 = .ok (.lstore 14, 2) := dk_55 14 (dk_at dksJ8_vectorizedMismatch_2 8 rfl rfl)
theorem dJ8_vectorizedMismatch_57 : decode cJ8_vectorizedMismatch 57 = .ok (.lload 12, 2) := dk_22 12 (dk_at dksJ8_vectorizedMismatch_2 10 rfl rfl)
theorem dJ8_vectorizedMismatch_59 : decode cJ8_vectorizedMismatch 59 = .ok (.lload 14, 2) := dk_22 14 (dk_at dksJ8_vectorizedMismatch_2 12 rfl rfl)
theorem dJ8_vectorizedMismatch_61 : decode cJ8_vectorizedMismatch 61 = .ok (.lcmp, 1) := dk_148 (dk_at dksJ8_vectorizedMismatch_2 14 rfl rfl)
theorem dJ8_vectorizedMismatch_62 : decode cJ8_vectorizedMismatch 62 = .ok (.ifCond .eq 54, 3) := dk_153 0 54 (dk_at dksJ8_vectorizedMismatch_2 15 rfl rfl)
theorem dJ8_vectorizedMismatch_65 : decode cJ8_vectorizedMismatch 65 = .ok (.lload 12, 2) := dk_22 12 (dk_at dksJ8_vectorizedMismatch_2 18 rfl rfl)
theorem dJ8_vectorizedMismatch_67 : decode cJ8_vectorizedMismatch 67 = .ok (.lload 14, 2) := dk_22 14 (dk_at dksJ8_vectorizedMismatch_2 20 rfl rfl)
theorem dJ8_vectorizedMismatch_69 : decode cJ8_vectorizedMismatch 69 = .ok (.lxor, 1) := dk_131 (dk_at dksJ8_vectorizedMismatch_2 22 rfl rfl)
theorem dJ8_vectorizedMismatch_70 : decode cJ8_vectorizedMismatch 70 = .ok (.lstore 16, 2) := dk_55 16 (dk_at dksJ8_vectorizedMismatch_3 0 rfl rfl)
theorem dJ8_vectorizedMismatch_72 : decode cJ8_vectorizedMismatch 72 = .ok (.getstatic 36, 3) := dk_178 0 36 (dk_at dksJ8_vectorizedMismatch_3 2 rfl rfl)
theorem dJ8_vectorizedMismatch_75 : decode cJ8_vectorizedMismatch 75 = .ok (.ifCond .eq 18, 3) := dk_153 0 18 (dk_at dksJ8_vectorizedMismatch_3 5 rfl rfl)
theorem dJ8_vectorizedMismatch_78 : decode cJ8_vectorizedMismatch 78 = .ok (.lload 16, 2) := dk_22 16 (dk_at dksJ8_vectorizedMismatch_3 8 rfl rfl)
theorem dJ8_vectorizedMismatch_80 : decode cJ8_vectorizedMismatch 80 = .ok (.invokestatic 40, 3) := dk_184 0 40 (dk_at dksJ8_vectorizedMismatch_3 10 rfl rfl)
theorem dJ8_vectorizedMismatch_83 : decode cJ8_vectorizedMismatch 83 = .ok (.getstatic 46, 3) := dk_178 0 46 (dk_at dksJ8_vectorizedMismatch_3 13 rfl rfl)
theorem dJ8_vectorizedMismatch_86 : decode cJ8_vectorizedMismatch 86 = .ok (.iload 7, 2) := dk_21 7 (dk_at dksJ8_vectorizedMismatch_3 16 rfl rfl)
theorem dJ8_vectorizedMismatch_88 : decode cJ8_vectorizedMismatch 88 = .ok (.iadd, 1) := dk_96 (dk_at dksJ8_vectorizedMismatch_3 18 rfl rfl)
theorem dJ8_vectorizedMismatch_89 : decode cJ8_vectorizedMismatch 89 = .ok (.ishr, 1) := dk_122 (dk_at dksJ8_vectorizedMismatch_3 19 rfl rfl)
theorem dJ8_vectorizedMismatch_90 : decode cJ8_vectorizedMismatch 90 = .ok (.goto 15, 3) := dk_167 0 15 (dk_at dksJ8_vectorizedMismatch_3 20 rfl rfl)
theorem dJ8_vectorizedMismatch_93 : decode cJ8_vectorizedMismatch 93 = .ok (.lload 16, 2) := dk_22 16 (dk_at dksJ8_vectorizedMismatch_4 0 rfl rfl)
theorem dJ8_vectorizedMismatch_95 : decode cJ8_vectorizedMismatch 95 = .ok (.invokestatic 49, 3) := dk_184 0 49 (dk_at dksJ8_vectorizedMismatch_4 2 rfl rfl)
theorem dJ8_vectorizedMismatch_98 : decode cJ8_vectorizedMismatch 98 = .ok (.getstatic 46, 3) := dk_178 0 46 (dk_at dksJ8_vectorizedMismatch_4 5 rfl rfl)
theorem dJ8_vectorizedMismatch_101 : decode cJ8_vectorizedMismatch 101 = .ok (.iload 7, 2) := dk_21 7 (dk_at dksJ8_vectorizedMismatch_4 8 rfl rfl)
theorem dJ8_vectorizedMismatch_103 : decode cJ8_vectorizedMismatch 103 = .ok (.iadd, 1) := dk_96 (dk_at dksJ8_vectorizedMismatch_4 10 rfl rfl)
theorem dJ8_vectorizedMismatch_104 : decode cJ8_vectorizedMismatch 104 = .ok (.ishr, 1) := dk_122 (dk_at dksJ8_vectorizedMismatch_4 11 rfl rfl)
theorem dJ8_vectorizedMismatch_105 : decode cJ8_vectorizedMismatch 105 = .ok (.istore 18, 2) := dk_54 18 (dk_at dksJ8_vectorizedMismatch_4 12 rfl rfl)
theorem dJ8_vectorizedMismatch_107 : decode cJ8_vectorizedMismatch 107 = .ok (.iload 9, 2) := dk_21 9 (dk_at dksJ8_vectorizedMismatch_4 14 rfl rfl)
theorem dJ8_vectorizedMismatch_109 : decode cJ8_vectorizedMismatch 109 = .ok (.iload 8, 2) := dk_21 8 (dk_at dksJ8_vectorizedMismatch_4 16 rfl rfl)
theorem dJ8_vectorizedMismatch_111 : decode cJ8_vectorizedMismatch 111 = .ok (.ishl, 1) := dk_120 (dk_at dksJ8_vectorizedMismatch_4 18 rfl rfl)
theorem dJ8_vectorizedMismatch_112 : decode cJ8_vectorizedMismatch 112 = .ok (.iload 18, 2) := dk_21 18 (dk_at dksJ8_vectorizedMismatch_4 19 rfl rfl)
theorem dJ8_vectorizedMismatch_114 : decode cJ8_vectorizedMismatch 114 = .ok (.iadd, 1) := dk_96 (dk_at dksJ8_vectorizedMismatch_4 21 rfl rfl)
theorem dJ8_vectorizedMismatch_115 : decode cJ8_vectorizedMismatch 115 = .ok (.ireturn, 1) := dk_172 (dk_at dksJ8_vectorizedMismatch_4 22 rfl rfl)
theorem dJ8_vectorizedMismatch_116 : decode cJ8_vectorizedMismatch 116 = .ok (.iinc 9 1, 3) := dk_132 9 1 (dk_at dksJ8_vectorizedMismatch_5 0 rfl rfl)
theorem dJ8_vectorizedMismatch_119 : decode cJ8_vectorizedMismatch 119 = .ok (.goto (-108), 3) := dk_167 255 148 (dk_at dksJ8_vectorizedMismatch_5 3 rfl rfl)
theorem dJ8_vectorizedMismatch_122 : decode cJ8_vectorizedMismatch 122 = .ok (.iload 6, 2) := dk_21 6 (dk_at dksJ8_vectorizedMismatch_5 6 rfl rfl)
theorem dJ8_vectorizedMismatch_124 : decode cJ8_vectorizedMismatch 124 = .ok (.iload 9, 2) := dk_21 9 (dk_at dksJ8_vectorizedMismatch_5 8 rfl rfl)
theorem dJ8_vectorizedMismatch_126 : decode cJ8_vectorizedMismatch 126 = .ok (.iload 8, 2) := dk_21 8 (dk_at dksJ8_vectorizedMismatch_5 10 rfl rfl)
theorem dJ8_vectorizedMismatch_128 : decode cJ8_vectorizedMismatch 128 = .ok (.ishl, 1) := dk_120 (dk_at dksJ8_vectorizedMismatch_5 12 rfl rfl)
theorem dJ8_vectorizedMismatch_129 : decode cJ8_vectorizedMismatch 129 = .ok (.isub, 1) := dk_100 (dk_at dksJ8_vectorizedMismatch_5 13 rfl rfl)
theorem dJ8_vectorizedMismatch_130 : decode cJ8_vectorizedMismatch 130 = .ok (.istore 10, 2) := dk_54 10 (dk_at dksJ8_vectorizedMismatch_5 14 rfl rfl)
theorem dJ8_vectorizedMismatch_132 : decode cJ8_vectorizedMismatch 132 = .ok (.iload 7, 2) := dk_21 7 (dk_at dksJ8_vectorizedMismatch_5 16 rfl rfl)
theorem dJ8_vectorizedMismatch_134 : decode cJ8_vectorizedMismatch 134 = .ok (.getstatic 51, 3) := dk_178 0 51 (dk_at dksJ8_vectorizedMismatch_5 18 rfl rfl)
theorem dJ8_vectorizedMismatch_137 : decode cJ8_vectorizedMismatch 137 = .ok (.if_icmp .ge 126, 3) := dk_162 0 126 (dk_at dksJ8_vectorizedMismatch_5 21 rfl rfl)
theorem dJ8_vectorizedMismatch_140 : decode cJ8_vectorizedMismatch 140 = .ok (.iconst 1, 1) := dk_4 (dk_at dksJ8_vectorizedMismatch_6 0 rfl rfl)
theorem dJ8_vectorizedMismatch_141 : decode cJ8_vectorizedMismatch 141 = .ok (.getstatic 51, 3) := dk_178 0 51 (dk_at dksJ8_vectorizedMismatch_6 1 rfl rfl)
theorem dJ8_vectorizedMismatch_144 : decode cJ8_vectorizedMismatch 144 = .ok (.iload 7, 2) := dk_21 7 (dk_at dksJ8_vectorizedMismatch_6 4 rfl rfl)
theorem dJ8_vectorizedMismatch_146 : decode cJ8_vectorizedMismatch 146 = .ok (.isub, 1) := dk_100 (dk_at dksJ8_vectorizedMismatch_6 6 rfl rfl)
theorem dJ8_vectorizedMismatch_147 : decode cJ8_vectorizedMismatch 147 = .ok (.ishl, 1) := dk_120 (dk_at dksJ8_vectorizedMismatch_6 7 rfl rfl)
theorem dJ8_vectorizedMismatch_148 : decode cJ8_vectorizedMismatch 148 = .ok (.istore 11, 2) := dk_54 11 (dk_at dksJ8_vectorizedMismatch_6 8 rfl rfl)
theorem dJ8_vectorizedMismatch_150 : decode cJ8_vectorizedMismatch 150 = .ok (.iload 10, 2) := dk_21 10 (dk_at dksJ8_vectorizedMismatch_6 10 rfl rfl)
theorem dJ8_vectorizedMismatch_152 : decode cJ8_vectorizedMismatch 152 = .ok (.iload 11, 2) := dk_21 11 (dk_at dksJ8_vectorizedMismatch_6 12 rfl rfl)
theorem dJ8_vectorizedMismatch_154 : decode cJ8_vectorizedMismatch 154 = .ok (.if_icmp .lt 104, 3) := dk_161 0 104 (dk_at dksJ8_vectorizedMismatch_6 14 rfl rfl)
theorem dJ8_vectorizedMismatch_157 : decode cJ8_vectorizedMismatch 157 = .ok (.iload 9, 2) := dk_21 9 (dk_at dksJ8_vectorizedMismatch_6 17 rfl rfl)
theorem dJ8_vectorizedMismatch_159 : decode cJ8_vectorizedMismatch 159 = .ok (.i2l, 1) := dk_133 (dk_at dksJ8_vectorizedMismatch_6 19 rfl rfl)
theorem dJ8_vectorizedMismatch_160 : decode cJ8_vectorizedMismatch 160 = .ok (.getstatic 20, 3) := dk_178 0 20 (dk_at dksJ8_vectorizedMismatch_6 20 rfl rfl)
theorem dJ8_vectorizedMismatch_163 : decode cJ8_vectorizedMismatch 163 = .ok (.lshl, 1) := dk_121 (dk_at dksJ8_vectorizedMismatch_6 23 rfl rfl)
theorem dJ8_vectorizedMismatch_164 : decode cJ8_vectorizedMismatch 164 = .ok (.lstore 12, 2) := dk_55 12 (dk_at dksJ8_vectorizedMismatch_7 0 rfl rfl)
theorem dJ8_vectorizedMismatch_166 : decode cJ8_vectorizedMismatch 166 = .ok (.getstatic 26, 3) := dk_178 0 26 (dk_at dksJ8_vectorizedMismatch_7 2 rfl rfl)
theorem dJ8_vectorizedMismatch_169 : decode cJ8_vectorizedMismatch 169 = .ok (.aload_n 0, 1) := dk_42 (dk_at dksJ8_vectorizedMismatch_7 5 rfl rfl)
theorem dJ8_vectorizedMismatch_170 : decode cJ8_vectorizedMismatch 170 = .ok (.lload_n 1, 1) := dk_31 (dk_at dksJ8_vectorizedMismatch_7 6 rfl rfl)
theorem dJ8_vectorizedMismatch_171 : decode cJ8_vectorizedMismatch 171 = .ok (.lload 12, 2) := dk_22 12 (dk_at dksJ8_vectorizedMismatch_7 7 rfl rfl)
theorem dJ8_vectorizedMismatch_173 : decode cJ8_vectorizedMismatch 173 = .ok (.ladd, 1) := dk_97 (dk_at dksJ8_vectorizedMismatch_7 9 rfl rfl)
theorem dJ8_vectorizedMismatch_174 : decode cJ8_vectorizedMismatch 174 = .ok (.invokevirtual 54, 3) := dk_182 0 54 (dk_at dksJ8_vectorizedMismatch_7 10 rfl rfl)
theorem dJ8_vectorizedMismatch_177 : decode cJ8_vectorizedMismatch 177 = .ok (.istore 14, 2) := dk_54 14 (dk_at dksJ8_vectorizedMismatch_7 13 rfl rfl)
theorem dJ8_vectorizedMismatch_179 : decode cJ8_vectorizedMismatch 179 = .ok (.getstatic 26, 3) := dk_178 0 26 (dk_at dksJ8_vectorizedMismatch_7 15 rfl rfl)
theorem dJ8_vectorizedMismatch_182 : decode cJ8_vectorizedMismatch 182 = .ok (.aload_n 3, 1) := dk_45 (dk_at dksJ8_vectorizedMismatch_7 18 rfl rfl)
theorem dJ8_vectorizedMismatch_183 : decode cJ8_vectorizedMismatch 183 = .ok (.lload 4, 2) := dk_22 4 (dk_at dksJ8_vectorizedMismatch_7 19 rfl rfl)
theorem dJ8_vectorizedMismatch_185 : decode cJ8_vectorizedMismatch 185 = .ok (.lload 12, 2) := dk_22 12 (dk_at dksJ8_vectorizedMismatch_7 21 rfl rfl)
theorem dJ8_vectorizedMismatch_187 : decode cJ8_vectorizedMismatch 187 = .ok (.ladd, 1) := dk_97 (dk_at dksJ8_vectorizedMismatch_7 23 rfl rfl)
theorem dJ8_vectorizedMismatch_188 : decode cJ8_vectorizedMismatch 188 = .ok (.invokevirtual 54, 3) := dk_182 0 54 (dk_at dksJ8_vectorizedMismatch_8 0 rfl rfl)
theorem dJ8_vectorizedMismatch_191 : decode cJ8_vectorizedMismatch 191 = .ok (.istore 15, 2) := dk_54 15 (dk_at dksJ8_vectorizedMismatch_8 3 rfl rfl)
theorem dJ8_vectorizedMismatch_193 : decode cJ8_vectorizedMismatch 193 = .ok (.iload 14, 2) := dk_21 14 (dk_at dksJ8_vectorizedMismatch_8 5 rfl rfl)
theorem dJ8_vectorizedMismatch_195 : decode cJ8_vectorizedMismatch 195 = .ok (.iload 15, 2) := dk_21 15 (dk_at dksJ8_vectorizedMismatch_8 7 rfl rfl)
theorem dJ8_vectorizedMismatch_197 : decode cJ8_vectorizedMismatch 197 = .ok (.if_icmp .eq 54, 3) := dk_159 0 54 (dk_at dksJ8_vectorizedMismatch_8 9 rfl rfl)
theorem dJ8_vectorizedMismatch_200 : decode cJ8_vectorizedMismatch 200 = .ok (.iload 14, 2) := dk_21 14 (dk_at dksJ8_vectorizedMismatch_8 12 rfl rfl)
theorem dJ8_vectorizedMismatch_202 : decode cJ8_vectorizedMismatch 202 = .ok (.iload 15, 2) := dk_21 15 (dk_at dksJ8_vectorizedMismatch_8 14 rfl rfl)
theorem dJ8_vectorizedMismatch_204 : decode cJ8_vectorizedMismatch 204 = .ok (.ixor, 1) := dk_130 (dk_at dksJ8_vectorizedMismatch_8 16 rfl rfl)
theorem dJ8_vectorizedMismatch_205 : decode cJ8_vectorizedMismatch 205 = .ok (.istore 16, 2) := dk_54 16 (dk_at dksJ8_vectorizedMismatch_8 17 rfl rfl)
theorem dJ8_vectorizedMismatch_207 : decode cJ8_vectorizedMismatch 207 = .ok (.getstatic 36, 3) := dk_178 0 36 (dk_at dksJ8_vectorizedMismatch_8 19 rfl rfl)
theorem dJ8_vectorizedMismatch_210 : decode cJ8_vectorizedMismatch 210 = .ok (.ifCond .eq 18, 3) := dk_153 0 18 (dk_at dksJ8_vectorizedMismatch_9 0 rfl rfl)
theorem dJ8_vectorizedMismatch_213 : decode cJ8_vectorizedMismatch 213 = .ok (.iload 16, 2) := dk_21 16 (dk_at dksJ8_vectorizedMismatch_9 3 rfl rfl)
theorem dJ8_vectorizedMismatch_215 : decode cJ8_vectorizedMismatch 215 = .ok (.invokestatic 58, 3) := dk_184 0 58 (dk_at dksJ8_vectorizedMismatch_9 5 rfl rfl)
theorem dJ8_vectorizedMismatch_218 : decode cJ8_vectorizedMismatch 218 = .ok (.getstatic 46, 3) := dk_178 0 46 (dk_at dksJ8_vectorizedMismatch_9 8 rfl rfl)
theorem dJ8_vectorizedMismatch_221 : decode cJ8_vectorizedMismatch 221 = .ok (.iload 7, 2) := dk_21 7 (dk_at dksJ8_vectorizedMismatch_9 11 rfl rfl)
theorem dJ8_vectorizedMismatch_223 : decode cJ8_vectorizedMismatch 223 = .ok (.iadd, 1) := dk_96 (dk_at dksJ8_vectorizedMismatch_9 13 rfl rfl)
theorem dJ8_vectorizedMismatch_224 : decode cJ8_vectorizedMismatch 224 = .ok (.ishr, 1) := dk_122 (dk_at dksJ8_vectorizedMismatch_9 14 rfl rfl)
theorem dJ8_vectorizedMismatch_225 : decode cJ8_vectorizedMismatch 225 = .ok (.goto 15, 3) := dk_167 0 15 (dk_at dksJ8_vectorizedMismatch_9 15 rfl rfl)
theorem dJ8_vectorizedMismatch_228 : decode cJ8_vectorizedMismatch 228 = .ok (.iload 16, 2) := dk_21 16 (dk_at dksJ8_vectorizedMismatch_9 18 rfl rfl)
theorem dJ8_vectorizedMismatch_230 : decode cJ8_vectorizedMismatch 230 = .ok (.invokestatic 11, 3) := dk_184 0 11 (dk_at dksJ8_vectorizedMismatch_9 20 rfl rfl)
theorem dJ8_vectorizedMismatch_233 : decode cJ8_vectorizedMismatch 233 = .ok (.getstatic 46, 3) := dk_178 0 46 (dk_at dksJ8_vectorizedMismatch_10 0 rfl rfl)
theorem dJ8_vectorizedMismatch_236 : decode cJ8_vectorizedMismatch 236 = .ok (.iload 7, 2) := dk_21 7 (dk_at dksJ8_vectorizedMismatch_10 3 rfl rfl)
theorem dJ8_vectorizedMismatch_238 : decode cJ8_vectorizedMismatch 238 = .ok (.iadd, 1) := dk_96 (dk_at dksJ8_vectorizedMismatch_10 5 rfl rfl)
theorem dJ8_vectorizedMismatch_239 : decode cJ8_vectorizedMismatch 239 = .ok (.ishr, 1) := dk_122 (dk_at dksJ8_vectorizedMismatch_10 6 rfl rfl)
theorem dJ8_vectorizedMismatch_240 : decode cJ8_vectorizedMismatch 240 = .ok (.istore 17, 2) := dk_54 17 (dk_at dksJ8_vectorizedMismatch_10 7 rfl rfl)
theorem dJ8_vectorizedMismatch_242 : decode cJ8_vectorizedMismatch 242 = .ok (.iload 9, 2) := dk_21 9 (dk_at dksJ8_vectorizedMismatch_10 9 rfl rfl)
theorem dJ8_vectorizedMismatch_244 : decode cJ8_vectorizedMismatch 244 = .ok (.iload 8, 2) := dk_21 8 (dk_at dksJ8_vectorizedMismatch_10 11 rfl rfl)
theorem dJ8_vectorizedMismatch_246 : decode cJ8_vectorizedMismatch 246 = .ok (.ishl, 1) := dk_120 (dk_at dksJ8_vectorizedMismatch_10 13 rfl rfl)
theorem dJ8_vectorizedMismatch_247 : decode cJ8_vectorizedMismatch 247 = .ok (.iload 17, 2) := dk_21 17 (dk_at dksJ8_vectorizedMismatch_10 14 rfl rfl)
theorem dJ8_vectorizedMismatch_249 : decode cJ8_vectorizedMismatch 249 = .ok (.iadd, 1) := dk_96 (dk_at dksJ8_vectorizedMismatch_10 16 rfl rfl)
theorem dJ8_vectorizedMismatch_250 : decode cJ8_vectorizedMismatch 250 = .ok (.ireturn, 1) := dk_172 (dk_at dksJ8_vectorizedMismatch_10 17 rfl rfl)
theorem dJ8_vectorizedMismatch_251 : decode cJ8_vectorizedMismatch 251 = .ok (.iload 10, 2) := dk_21 10 (dk_at dksJ8_vectorizedMismatch_10 18 rfl rfl)
theorem dJ8_vectorizedMismatch_253 : decode cJ8_vectorizedMismatch 253 = .ok (.iload 11, 2) := dk_21 11 (dk_at dksJ8_vectorizedMismatch_10 20 rfl rfl)
theorem dJ8_vectorizedMismatch_255 : decode cJ8_vectorizedMismatch 255 = .ok (.isub, 1) := dk_100 (dk_at dksJ8_vectorizedMismatch_10 22 rfl rfl)
theorem dJ8_vectorizedMismatch_256 : decode cJ8_vectorizedMismatch 256 = .ok (.istore 10, 2) := dk_54 10 (dk_at dksJ8_vectorizedMismatch_11 0 rfl rfl)
theorem dJ8_vectorizedMismatch_258 : decode cJ8_vectorizedMismatch 258 = .ok (.iload 10, 2) := dk_21 10 (dk_at dksJ8_vectorizedMismatch_11 2 rfl rfl)
theorem dJ8_vectorizedMismatch_260 : decode cJ8_vectorizedMismatch 260 = .ok (.iconst (-1), 1) := dk_2 (dk_at dksJ8_vectorizedMismatch_11 4 rfl rfl)
theorem dJ8_vectorizedMismatch_261 : decode cJ8_vectorizedMismatch 261 = .ok (.ixor, 1) := dk_130 (dk_at dksJ8_vectorizedMismatch_11 5 rfl rfl)
theorem dJ8_vectorizedMismatch_262 : decode cJ8_vectorizedMismatch 262 = .ok (.ireturn, 1) := dk_172 (dk_at dksJ8_vectorizedMismatch_11 6 rfl rfl)
theorem dJ8_vectorizedMismatch_263 : decode cJ8_vectorizedMismatch 263 = .ok (.iload 10, 2) := dk_21 10 (dk_at dksJ8_vectorizedMismatch_11 7 rfl rfl)
theorem dJ8_vectorizedMismatch_265 : decode cJ8_vectorizedMismatch 265 = .ok (.iconst (-1), 1) := dk_2 (dk_at dksJ8_vectorizedMismatch_11 9 rfl rfl)
theorem dJ8_vectorizedMismatch_266 : decode cJ8_vectorizedMismatch 266 = .ok (.ixor, 1) := dk_130 (dk_at dksJ8_vectorizedMismatch_11 10 rfl rfl)
theorem dJ8_vectorizedMismatch_267 : decode cJ8_vectorizedMismatch 267 = .ok (.ireturn, 1) := dk_172 (dk_at dksJ8_vectorizedMismatch_11 11 rfl rfl)
theorem q58 : (Jvm.Cond.initialized "jdk/internal/util/ArraysSupport") ∈ lw_all := lw_g (lw_at lw_m1 10 rfl) rfl
theorem q239 : (Jvm.Cond.static ({ cls := "jdk/internal/util/ArraysSupport", name := "newLength", desc := "(III)I" } : Jvm.MethodName)) ∈ lw_all := lw_g (lw_at lw_m1 191 rfl) rfl
theorem q240 : (Jvm.Cond.code ({ cls := "jdk/internal/util/ArraysSupport", name := "newLength", desc := "(III)I" } : Jvm.MethodName) prog_83_method_27_code (4 : Nat) (Option.some Jvm.ClassFile.FieldType.int)) ∈ lw_all := lw_g (lw_at lw_m1 192 rfl) rfl
theorem q241 : (Jvm.Cond.methodLink "jdk/internal/util/ArraysSupport" (194 : Nat) ({ cls := "java/lang/Math", name := "max", desc := "(II)I" } : Jvm.MethodName)) ∈ lw_all := lw_g (lw_at lw_m1 193 rfl) rfl
theorem q244 : (Jvm.Cond.constant "jdk/internal/util/ArraysSupport" (200 : Nat) (2147483639 : Int32)) ∈ lw_all := lw_g (lw_at lw_m1 196 rfl) rfl
theorem q245 : (Jvm.Cond.methodLink "jdk/internal/util/ArraysSupport" (201 : Nat) ({ cls := "jdk/internal/util/ArraysSupport", name := "hugeLength", desc := "(II)I" } : Jvm.MethodName)) ∈ lw_all := lw_g (lw_at lw_m1 197 rfl) rfl
theorem q246 : (Jvm.Cond.static ({ cls := "jdk/internal/util/ArraysSupport", name := "hugeLength", desc := "(II)I" } : Jvm.MethodName)) ∈ lw_all := lw_g (lw_at lw_m1 198 rfl) rfl
theorem q247 : (Jvm.Cond.code ({ cls := "jdk/internal/util/ArraysSupport", name := "hugeLength", desc := "(II)I" } : Jvm.MethodName) prog_83_method_28_code (3 : Nat) (Option.some Jvm.ClassFile.FieldType.int)) ∈ lw_all := lw_g (lw_at lw_m1 199 rfl) rfl
theorem q394 : (Jvm.Cond.static ({ cls := "jdk/internal/util/ArraysSupport", name := "vectorizedHashCode", desc := "(Ljava/lang/Object;IIII)I" } : Jvm.MethodName)) ∈ lw_all := lw_g (lw_at lw_m2 106 rfl) rfl
theorem q395 : (Jvm.Cond.code ({ cls := "jdk/internal/util/ArraysSupport", name := "vectorizedHashCode", desc := "(Ljava/lang/Object;IIII)I" } : Jvm.MethodName) prog_83_method_4_code (5 : Nat) (Option.some Jvm.ClassFile.FieldType.int)) ∈ lw_all := lw_g (lw_at lw_m2 107 rfl) rfl
theorem q396 : (Jvm.Cond.classLink "jdk/internal/util/ArraysSupport" (60 : Nat) "[B") ∈ lw_all := lw_g (lw_at lw_m2 108 rfl) rfl
theorem q397 : (Jvm.Cond.methodLink "jdk/internal/util/ArraysSupport" (62 : Nat) ({ cls := "jdk/internal/util/ArraysSupport", name := "signedHashCode", desc := "(I[BII)I" } : Jvm.MethodName)) ∈ lw_all := lw_g (lw_at lw_m2 109 rfl) rfl
theorem q398 : (Jvm.Cond.static ({ cls := "jdk/internal/util/ArraysSupport", name := "signedHashCode", desc := "(I[BII)I" } : Jvm.MethodName)) ∈ lw_all := lw_g (lw_at lw_m2 110 rfl) rfl
theorem q399 : (Jvm.Cond.code ({ cls := "jdk/internal/util/ArraysSupport", name := "signedHashCode", desc := "(I[BII)I" } : Jvm.MethodName) prog_83_method_5_code (6 : Nat) (Option.some Jvm.ClassFile.FieldType.int)) ∈ lw_all := lw_g (lw_at lw_m2 111 rfl) rfl
theorem q400 : (Jvm.Cond.methodLink "jdk/internal/util/ArraysSupport" (66 : Nat) ({ cls := "jdk/internal/util/ArraysSupport", name := "utf16hashCode", desc := "(I[BII)I" } : Jvm.MethodName)) ∈ lw_all := lw_g (lw_at lw_m2 112 rfl) rfl
theorem q401 : (Jvm.Cond.static ({ cls := "jdk/internal/util/ArraysSupport", name := "utf16hashCode", desc := "(I[BII)I" } : Jvm.MethodName)) ∈ lw_all := lw_g (lw_at lw_m2 113 rfl) rfl
theorem q402 : (Jvm.Cond.code ({ cls := "jdk/internal/util/ArraysSupport", name := "utf16hashCode", desc := "(I[BII)I" } : Jvm.MethodName) prog_83_method_10_code (6 : Nat) (Option.some Jvm.ClassFile.FieldType.int)) ∈ lw_all := lw_g (lw_at lw_m2 114 rfl) rfl
theorem q403 : (Jvm.Cond.fieldLink "jdk/internal/util/ArraysSupport" (106 : Nat) "jdk/internal/util/ArraysSupport" "JLA" "Ljdk/internal/access/JavaLangAccess;") ∈ lw_all := lw_g (lw_at lw_m2 115 rfl) rfl
theorem q404 : (Jvm.Cond.laysStatic "jdk/internal/util/ArraysSupport" "JLA" "Ljdk/internal/access/JavaLangAccess;") ∈ lw_tbl := lw_at lw_m2 116 rfl
theorem q405 : (Jvm.Cond.interfaceEntry "jdk/internal/util/ArraysSupport" (110 : Nat)) ∈ lw_tbl := lw_at lw_m2 117 rfl
theorem q406 : (Jvm.Cond.methodLink "jdk/internal/util/ArraysSupport" (110 : Nat) ({ cls := "jdk/internal/access/JavaLangAccess", name := "getUTF16Char", desc := "([BI)C" } : Jvm.MethodName)) ∈ lw_all := lw_g (lw_at lw_m2 118 rfl) rfl
theorem q427 : (Jvm.Cond.classLink "jdk/internal/util/ArraysSupport" (69 : Nat) "[C") ∈ lw_all := lw_g (lw_at lw_m2 139 rfl) rfl
theorem q428 : (Jvm.Cond.methodLink "jdk/internal/util/ArraysSupport" (71 : Nat) ({ cls := "jdk/internal/util/ArraysSupport", name := "hashCode", desc := "(I[CII)I" } : Jvm.MethodName)) ∈ lw_all := lw_g (lw_at lw_m2 140 rfl) rfl
theorem q429 : (Jvm.Cond.static ({ cls := "jdk/internal/util/ArraysSupport", name := "hashCode", desc := "(I[CII)I" } : Jvm.MethodName)) ∈ lw_all := lw_g (lw_at lw_m2 141 rfl) rfl
theorem q430 : (Jvm.Cond.code ({ cls := "jdk/internal/util/ArraysSupport", name := "hashCode", desc := "(I[CII)I" } : Jvm.MethodName) prog_83_method_7_code (6 : Nat) (Option.some Jvm.ClassFile.FieldType.int)) ∈ lw_all := lw_g (lw_at lw_m2 142 rfl) rfl
theorem q431 : (Jvm.Cond.methodLink "jdk/internal/util/ArraysSupport" (75 : Nat) ({ cls := "jdk/internal/util/ArraysSupport", name := "hashCode", desc := "(I[BII)I" } : Jvm.MethodName)) ∈ lw_all := lw_g (lw_at lw_m2 143 rfl) rfl
theorem q432 : (Jvm.Cond.static ({ cls := "jdk/internal/util/ArraysSupport", name := "hashCode", desc := "(I[BII)I" } : Jvm.MethodName)) ∈ lw_all := lw_g (lw_at lw_m2 144 rfl) rfl
theorem q433 : (Jvm.Cond.code ({ cls := "jdk/internal/util/ArraysSupport", name := "hashCode", desc := "(I[BII)I" } : Jvm.MethodName) prog_83_method_6_code (6 : Nat) (Option.some Jvm.ClassFile.FieldType.int)) ∈ lw_all := lw_g (lw_at lw_m2 145 rfl) rfl
theorem q434 : (Jvm.Cond.classLink "jdk/internal/util/ArraysSupport" (77 : Nat) "[S") ∈ lw_all := lw_g (lw_at lw_m2 146 rfl) rfl
theorem q435 : (Jvm.Cond.methodLink "jdk/internal/util/ArraysSupport" (79 : Nat) ({ cls := "jdk/internal/util/ArraysSupport", name := "hashCode", desc := "(I[SII)I" } : Jvm.MethodName)) ∈ lw_all := lw_g (lw_at lw_m2 147 rfl) rfl
theorem q436 : (Jvm.Cond.static ({ cls := "jdk/internal/util/ArraysSupport", name := "hashCode", desc := "(I[SII)I" } : Jvm.MethodName)) ∈ lw_all := lw_g (lw_at lw_m2 148 rfl) rfl
theorem q437 : (Jvm.Cond.code ({ cls := "jdk/internal/util/ArraysSupport", name := "hashCode", desc := "(I[SII)I" } : Jvm.MethodName) prog_83_method_8_code (6 : Nat) (Option.some Jvm.ClassFile.FieldType.int)) ∈ lw_all := lw_g (lw_at lw_m2 149 rfl) rfl
theorem q438 : (Jvm.Cond.classLink "jdk/internal/util/ArraysSupport" (82 : Nat) "[I") ∈ lw_all := lw_g (lw_at lw_m2 150 rfl) rfl
theorem q439 : (Jvm.Cond.methodLink "jdk/internal/util/ArraysSupport" (84 : Nat) ({ cls := "jdk/internal/util/ArraysSupport", name := "hashCode", desc := "(I[III)I" } : Jvm.MethodName)) ∈ lw_all := lw_g (lw_at lw_m2 151 rfl) rfl
theorem q440 : (Jvm.Cond.static ({ cls := "jdk/internal/util/ArraysSupport", name := "hashCode", desc := "(I[III)I" } : Jvm.MethodName)) ∈ lw_all := lw_g (lw_at lw_m2 152 rfl) rfl
theorem q441 : (Jvm.Cond.code ({ cls := "jdk/internal/util/ArraysSupport", name := "hashCode", desc := "(I[III)I" } : Jvm.MethodName) prog_83_method_9_code (6 : Nat) (Option.some Jvm.ClassFile.FieldType.int)) ∈ lw_all := lw_g (lw_at lw_m2 153 rfl) rfl
theorem q442 : (Jvm.Cond.classLink "jdk/internal/util/ArraysSupport" (87 : Nat) "java/lang/IllegalArgumentException") ∈ lw_all := lw_g (lw_at lw_m2 154 rfl) rfl
theorem q485 : (Jvm.Cond.classLink "jdk/internal/util/ArraysSupport" (89 : Nat) "java/lang/StringBuilder") ∈ lw_all := lw_g (lw_at lw_m2 197 rfl) rfl
theorem q487 : (Jvm.Cond.methodLink "jdk/internal/util/ArraysSupport" (91 : Nat) ({ cls := "java/lang/StringBuilder", name := "<init>", desc := "()V" } : Jvm.MethodName)) ∈ lw_all := lw_g (lw_at lw_m2 199 rfl) rfl
theorem q516 : (Jvm.Cond.stringRef "jdk/internal/util/ArraysSupport" (92 : Nat) "unrecognized basic type: ") ∈ lw_tbl := lw_at lw_m2 228 rfl
theorem q517 : (Jvm.Cond.methodLink "jdk/internal/util/ArraysSupport" (94 : Nat) ({ cls := "java/lang/StringBuilder", name := "append", desc := "(Ljava/lang/String;)Ljava/lang/StringBuilder;" } : Jvm.MethodName)) ∈ lw_all := lw_g (lw_at lw_m2 229 rfl) rfl
theorem q612 : (Jvm.Cond.methodLink "jdk/internal/util/ArraysSupport" (98 : Nat) ({ cls := "java/lang/StringBuilder", name := "append", desc := "(I)Ljava/lang/StringBuilder;" } : Jvm.MethodName)) ∈ lw_all := lw_g (lw_at lw_m3 84 rfl) rfl
theorem q637 : (Jvm.Cond.methodLink "jdk/internal/util/ArraysSupport" (101 : Nat) ({ cls := "java/lang/StringBuilder", name := "toString", desc := "()Ljava/lang/String;" } : Jvm.MethodName)) ∈ lw_all := lw_g (lw_at lw_m3 109 rfl) rfl
theorem q729 : (Jvm.Cond.methodLink "jdk/internal/util/ArraysSupport" (105 : Nat) ({ cls := "java/lang/IllegalArgumentException", name := "<init>", desc := "(Ljava/lang/String;)V" } : Jvm.MethodName)) ∈ lw_all := lw_g (lw_at lw_m3 201 rfl) rfl
theorem q890 : (Jvm.Cond.static ({ cls := "jdk/internal/util/ArraysSupport", name := "mismatch", desc := "([B[BI)I" } : Jvm.MethodName)) ∈ lw_all := lw_g (lw_at lw_m4 122 rfl) rfl
theorem q891 : (Jvm.Cond.code ({ cls := "jdk/internal/util/ArraysSupport", name := "mismatch", desc := "([B[BI)I" } : Jvm.MethodName) prog_83_method_13_code (4 : Nat) (Option.some Jvm.ClassFile.FieldType.int)) ∈ lw_all := lw_g (lw_at lw_m4 123 rfl) rfl
theorem q892 : (Jvm.Cond.fieldLink "jdk/internal/util/ArraysSupport" (126 : Nat) "jdk/internal/misc/Unsafe" "ARRAY_BYTE_BASE_OFFSET" "I") ∈ lw_all := lw_g (lw_at lw_m4 124 rfl) rfl
theorem q894 : (Jvm.Cond.fieldLink "jdk/internal/util/ArraysSupport" (129 : Nat) "jdk/internal/util/ArraysSupport" "LOG2_ARRAY_BYTE_INDEX_SCALE" "I") ∈ lw_all := lw_g (lw_at lw_m4 126 rfl) rfl
theorem q895 : (Jvm.Cond.laysStatic "jdk/internal/util/ArraysSupport" "LOG2_ARRAY_BYTE_INDEX_SCALE" "I") ∈ lw_tbl := lw_at lw_m4 127 rfl
theorem q896 : (Jvm.Cond.methodLink "jdk/internal/util/ArraysSupport" (122 : Nat) ({ cls := "jdk/internal/util/ArraysSupport", name := "vectorizedMismatch", desc := "(Ljava/lang/Object;JLjava/lang/Object;JII)I" } : Jvm.MethodName)) ∈ lw_all := lw_g (lw_at lw_m4 128 rfl) rfl
theorem q897 : (Jvm.Cond.static ({ cls := "jdk/internal/util/ArraysSupport", name := "vectorizedMismatch", desc := "(Ljava/lang/Object;JLjava/lang/Object;JII)I" } : Jvm.MethodName)) ∈ lw_all := lw_g (lw_at lw_m4 129 rfl) rfl
theorem q898 : (Jvm.Cond.code ({ cls := "jdk/internal/util/ArraysSupport", name := "vectorizedMismatch", desc := "(Ljava/lang/Object;JLjava/lang/Object;JII)I" } : Jvm.MethodName) prog_83_method_3_code (19 : Nat) (Option.some Jvm.ClassFile.FieldType.int)) ∈ lw_all := lw_g (lw_at lw_m4 130 rfl) rfl
theorem q899 : (Jvm.Cond.fieldLink "jdk/internal/util/ArraysSupport" (20 : Nat) "jdk/internal/util/ArraysSupport" "LOG2_ARRAY_LONG_INDEX_SCALE" "I") ∈ lw_all := lw_g (lw_at lw_m4 131 rfl) rfl
theorem q900 : (Jvm.Cond.laysStatic "jdk/internal/util/ArraysSupport" "LOG2_ARRAY_LONG_INDEX_SCALE" "I") ∈ lw_tbl := lw_at lw_m4 132 rfl
theorem q901 : (Jvm.Cond.fieldLink "jdk/internal/util/ArraysSupport" (26 : Nat) "jdk/internal/util/ArraysSupport" "U" "Ljdk/internal/misc/Unsafe;") ∈ lw_all := lw_g (lw_at lw_m4 133 rfl) rfl
theorem q902 : (Jvm.Cond.laysStatic "jdk/internal/util/ArraysSupport" "U" "Ljdk/internal/misc/Unsafe;") ∈ lw_tbl := lw_at lw_m4 134 rfl
theorem q903 : (Jvm.Cond.methodLink "jdk/internal/util/ArraysSupport" (30 : Nat) ({ cls := "jdk/internal/misc/Unsafe", name := "getLongUnaligned", desc := "(Ljava/lang/Object;J)J" } : Jvm.MethodName)) ∈ lw_all := lw_g (lw_at lw_m4 135 rfl) rfl
theorem q955 : (Jvm.Cond.fieldLink "jdk/internal/util/ArraysSupport" (36 : Nat) "jdk/internal/util/ArraysSupport" "BIG_ENDIAN" "Z") ∈ lw_all := lw_g (lw_at lw_m4 187 rfl) rfl
theorem q956 : (Jvm.Cond.laysStatic "jdk/internal/util/ArraysSupport" "BIG_ENDIAN" "Z") ∈ lw_tbl := lw_at lw_m4 188 rfl
theorem q957 : (Jvm.Cond.methodLink "jdk/internal/util/ArraysSupport" (40 : Nat) ({ cls := "java/lang/Long", name := "numberOfLeadingZeros", desc := "(J)I" } : Jvm.MethodName)) ∈ lw_all := lw_g (lw_at lw_m4 189 rfl) rfl
theorem q964 : (Jvm.Cond.fieldLink "jdk/internal/util/ArraysSupport" (46 : Nat) "jdk/internal/util/ArraysSupport" "LOG2_BYTE_BIT_SIZE" "I") ∈ lw_all := lw_g (lw_at lw_m4 196 rfl) rfl
theorem q965 : (Jvm.Cond.laysStatic "jdk/internal/util/ArraysSupport" "LOG2_BYTE_BIT_SIZE" "I") ∈ lw_tbl := lw_at lw_m4 197 rfl
theorem q966 : (Jvm.Cond.methodLink "jdk/internal/util/ArraysSupport" (49 : Nat) ({ cls := "java/lang/Long", name := "numberOfTrailingZeros", desc := "(J)I" } : Jvm.MethodName)) ∈ lw_all := lw_g (lw_at lw_m4 198 rfl) rfl
theorem q972 : (Jvm.Cond.fieldLink "jdk/internal/util/ArraysSupport" (51 : Nat) "jdk/internal/util/ArraysSupport" "LOG2_ARRAY_INT_INDEX_SCALE" "I") ∈ lw_all := lw_g (lw_at lw_m4 204 rfl) rfl
theorem q973 : (Jvm.Cond.laysStatic "jdk/internal/util/ArraysSupport" "LOG2_ARRAY_INT_INDEX_SCALE" "I") ∈ lw_tbl := lw_at lw_m4 205 rfl
theorem q974 : (Jvm.Cond.methodLink "jdk/internal/util/ArraysSupport" (54 : Nat) ({ cls := "jdk/internal/misc/Unsafe", name := "getIntUnaligned", desc := "(Ljava/lang/Object;J)I" } : Jvm.MethodName)) ∈ lw_all := lw_g (lw_at lw_m4 206 rfl) rfl
theorem q991 : (Jvm.Cond.methodLink "jdk/internal/util/ArraysSupport" (58 : Nat) ({ cls := "java/lang/Integer", name := "numberOfLeadingZeros", desc := "(I)I" } : Jvm.MethodName)) ∈ lw_all := lw_g (lw_at lw_m4 223 rfl) rfl
theorem q992 : (Jvm.Cond.methodLink "jdk/internal/util/ArraysSupport" (11 : Nat) ({ cls := "java/lang/Integer", name := "numberOfTrailingZeros", desc := "(I)I" } : Jvm.MethodName)) ∈ lw_all := lw_g (lw_at lw_m4 224 rfl) rfl

/-! java/lang/Math -/
set_option maxRecDepth 100000
def RJ9 : String := "java/lang/Math"
abbrev cJ9_max : ByteArray := prog_35_method_65_code
def yJ9_max : MethodName := ⟨RJ9, "max", "(II)I"⟩
def dkwJ9_max_0 : List UInt8 := [26, 27, 161, 0, 7, 26, 167, 0, 4, 27, 172]
abbrev dktJ9_max_0 : List UInt8 := dkwJ9_max_0 ++ []
theorem dksJ9_max_0 : cJ9_max.data.toList.drop 0 = dktJ9_max_0 := by decide +kernel
theorem dJ9_max_0 : decode cJ9_max 0 = .ok (.iload_n 0, 1) := dk_26 (dk_at dksJ9_max_0 0 rfl rfl)
theorem dJ9_max_1 : decode cJ9_max 1 = .ok (.iload_n 1, 1) := dk_27 (dk_at dksJ9_max_0 1 rfl rfl)
theorem dJ9_max_2 : decode cJ9_max 2 = .ok (.if_icmp .lt 7, 3) := dk_161 0 7 (dk_at dksJ9_max_0 2 rfl rfl)
theorem dJ9_max_5 : decode cJ9_max 5 = .ok (.iload_n 0, 1) := dk_26 (dk_at dksJ9_max_0 5 rfl rfl)
theorem dJ9_max_6 : decode cJ9_max 6 = .ok (.goto 4, 3) := dk_167 0 4 (dk_at dksJ9_max_0 6 rfl rfl)
theorem dJ9_max_9 : decode cJ9_max 9 = .ok (.iload_n 1, 1) := dk_27 (dk_at dksJ9_max_0 9 rfl rfl)
theorem dJ9_max_10 : decode cJ9_max 10 = .ok (.ireturn, 1) := dk_172 (dk_at dksJ9_max_0 10 rfl rfl)
abbrev cJ9_min : ByteArray := prog_35_method_69_code
def yJ9_min : MethodName := ⟨RJ9, "min", "(II)I"⟩
def dkwJ9_min_0 : List UInt8 := [26, 27, 163, 0, 7, 26, 167, 0, 4, 27, 172]
abbrev dktJ9_min_0 : List UInt8 := dkwJ9_min_0 ++ []
theorem dksJ9_min_0 : cJ9_min.data.toList.drop 0 = dktJ9_min_0 := by decide +kernel
theorem dJ9_min_0 : decode cJ9_min 0 = .ok (.iload_n 0, 1) := dk_26 (dk_at dksJ9_min_0 0 rfl rfl)
theorem dJ9_min_1 : decode cJ9_min 1 = .ok (.iload_n 1, 1) := dk_27 (dk_at dksJ9_min_0 1 rfl rfl)
theorem dJ9_min_2 : decode cJ9_min 2 = .ok (.if_icmp .gt 7, 3) := dk_163 0 7 (dk_at dksJ9_min_0 2 rfl rfl)
theorem dJ9_min_5 : decode cJ9_min 5 = .ok (.iload_n 0, 1) := dk_26 (dk_at dksJ9_min_0 5 rfl rfl)
theorem dJ9_min_6 : decode cJ9_min 6 = .ok (.goto 4, 3) := dk_167 0 4 (dk_at dksJ9_min_0 6 rfl rfl)
theorem dJ9_min_9 : decode cJ9_min 9 = .ok (.iload_n 1, 1) := dk_27 (dk_at dksJ9_min_0 9 rfl rfl)
theorem dJ9_min_10 : decode cJ9_min 10 = .ok (.ireturn, 1) := dk_172 (dk_at dksJ9_min_0 10 rfl rfl)
theorem q59 : (Jvm.Cond.initialized "java/lang/Math") ∈ lw_all := lw_g (lw_at lw_m1 11 rfl) rfl
theorem q242 : (Jvm.Cond.static ({ cls := "java/lang/Math", name := "max", desc := "(II)I" } : Jvm.MethodName)) ∈ lw_all := lw_g (lw_at lw_m1 194 rfl) rfl
theorem q243 : (Jvm.Cond.code ({ cls := "java/lang/Math", name := "max", desc := "(II)I" } : Jvm.MethodName) prog_35_method_65_code (2 : Nat) (Option.some Jvm.ClassFile.FieldType.int)) ∈ lw_all := lw_g (lw_at lw_m1 195 rfl) rfl
theorem q301 : (Jvm.Cond.static ({ cls := "java/lang/Math", name := "min", desc := "(II)I" } : Jvm.MethodName)) ∈ lw_all := lw_g (lw_at lw_m2 13 rfl) rfl
theorem q302 : (Jvm.Cond.code ({ cls := "java/lang/Math", name := "min", desc := "(II)I" } : Jvm.MethodName) prog_35_method_69_code (2 : Nat) (Option.some Jvm.ClassFile.FieldType.int)) ∈ lw_all := lw_g (lw_at lw_m2 14 rfl) rfl

/-! java/util/Arrays -/
set_option maxRecDepth 100000
def RJ10 : String := "java/util/Arrays"
abbrev cJ10_copyOf : ByteArray := prog_58_method_119_code
def yJ10_copyOf : MethodName := ⟨RJ10, "copyOf", "([Ljava/lang/Object;I)[Ljava/lang/Object;"⟩
def dkwJ10_copyOf_0 : List UInt8 := [42, 27, 42, 182, 0, 86, 184, 1, 44, 176]
abbrev dktJ10_copyOf_0 : List UInt8 := dkwJ10_copyOf_0 ++ []
theorem dksJ10_copyOf_0 : cJ10_copyOf.data.toList.drop 0 = dktJ10_copyOf_0 := by decide +kernel
theorem dJ10_copyOf_0 : decode cJ10_copyOf 0 = .ok (.aload_n 0, 1) := dk_42 (dk_at dksJ10_copyOf_0 0 rfl rfl)
theorem dJ10_copyOf_1 : decode cJ10_copyOf 1 = .ok (.iload_n 1, 1) := dk_27 (dk_at dksJ10_copyOf_0 1 rfl rfl)
theorem dJ10_copyOf_2 : decode cJ10_copyOf 2 = .ok (.aload_n 0, 1) := dk_42 (dk_at dksJ10_copyOf_0 2 rfl rfl)
theorem dJ10_copyOf_3 : decode cJ10_copyOf 3 = .ok (.invokevirtual 86, 3) := dk_182 0 86 (dk_at dksJ10_copyOf_0 3 rfl rfl)
theorem dJ10_copyOf_6 : decode cJ10_copyOf 6 = .ok (.invokestatic 300, 3) := dk_184 1 44 (dk_at dksJ10_copyOf_0 6 rfl rfl)
theorem dJ10_copyOf_9 : decode cJ10_copyOf 9 = .ok (.areturn, 1) := dk_176 (dk_at dksJ10_copyOf_0 9 rfl rfl)
abbrev cJ10_copyOf_2 : ByteArray := prog_58_method_120_code
def yJ10_copyOf_2 : MethodName := ⟨RJ10, "copyOf", "([Ljava/lang/Object;ILjava/lang/Class;)[Ljava/lang/Object;"⟩
def dkwJ10_copyOf_2_1 : List UInt8 := [78, 42, 3, 45, 3, 42, 190, 27, 184, 1, 48, 184, 0, 150, 45, 176]
abbrev dktJ10_copyOf_2_1 : List UInt8 := dkwJ10_copyOf_2_1 ++ []
def dkwJ10_copyOf_2_0 : List UInt8 := [44, 18, 110, 166, 0, 10, 27, 189, 0, 2, 167, 0, 14, 44, 182, 0, 90, 27, 184, 0, 95, 192, 0, 110]
abbrev dktJ10_copyOf_2_0 : List UInt8 := dkwJ10_copyOf_2_0 ++ dktJ10_copyOf_2_1
theorem dksJ10_copyOf_2_0 : cJ10_copyOf_2.data.toList.drop 0 = dktJ10_copyOf_2_0 := by decide +kernel
theorem dksJ10_copyOf_2_1 : cJ10_copyOf_2.data.toList.drop 24 = dktJ10_copyOf_2_1 := dk_seg dksJ10_copyOf_2_0 24 rfl rfl
theorem dJ10_copyOf_2_0 : decode cJ10_copyOf_2 0 = .ok (.aload_n 2, 1) := dk_44 (dk_at dksJ10_copyOf_2_0 0 rfl rfl)
theorem dJ10_copyOf_2_1 : decode cJ10_copyOf_2 1 = .ok (.ldc 110, 2) := dk_18 110 (dk_at dksJ10_copyOf_2_0 1 rfl rfl)
theorem dJ10_copyOf_2_3 : decode cJ10_copyOf_2 3 = .ok (.if_acmp .ne 10, 3) := dk_166 0 10 (dk_at dksJ10_copyOf_2_0 3 rfl rfl)
theorem dJ10_copyOf_2_6 : decode cJ10_copyOf_2 6 = .ok (.iload_n 1, 1) := dk_27 (dk_at dksJ10_copyOf_2_0 6 rfl rfl)
theorem dJ10_copyOf_2_7 : decode cJ10_copyOf_2 7 = .ok (.anewarray 2, 3) := dk_189 0 2 (dk_at dksJ10_copyOf_2_0 7 rfl rfl)
theorem dJ10_copyOf_2_10 : decode cJ10_copyOf_2 10 = .ok (.goto 14, 3) := dk_167 0 14 (dk_at dksJ10_copyOf_2_0 10 rfl rfl)
theorem dJ10_copyOf_2_13 : decode cJ10_copyOf_2 13 = .ok (.aload_n 2, 1) := dk_44 (dk_at dksJ10_copyOf_2_0 13 rfl rfl)
theorem dJ10_copyOf_2_14 : decode cJ10_copyOf_2 14 = .ok (.invokevirtual 90, 3) := dk_182 0 90 (dk_at dksJ10_copyOf_2_0 14 rfl rfl)
theorem dJ10_copyOf_2_17 : decode cJ10_copyOf_2 17 = .ok (.iload_n 1, 1) := dk_27 (dk_at dksJ10_copyOf_2_0 17 rfl rfl)
theorem dJ10_copyOf_2_18 : decode cJ10_copyOf_2 18 = .ok (.invokestatic 95, 3) := dk_184 0 95 (dk_at dksJ10_copyOf_2_0 18 rfl rfl)
theorem dJ10_copyOf_2_21 : decode cJ10_copyOf_2 21 = .ok (.checkcast 110, 3) := dk_192 0 110 (dk_at dksJ10_copyOf_2_0 21 rfl rfl)
theorem dJ10_copyOf_2_24 : decode cJ10_copyOf_2 24 = .ok (.astore_n 3, 1) := dk_78 (dk_at dksJ10_copyOf_2_1 0 rfl rfl)
theorem dJ10_copyOf_2_25 : decode cJ10_copyOf_2 25 = .ok (.aload_n 0, 1) := dk_42 (dk_at dksJ10_copyOf_2_1 1 rfl rfl)
theorem dJ10_copyOf_2_26 : decode cJ10_copyOf_2 26 = .ok (.iconst 0, 1) := dk_3 (dk_at dksJ10_copyOf_2_1 2 rfl rfl)
theorem dJ10_copyOf_2_27 : decode cJ10_copyOf_2 27 = .ok (.aload_n 3, 1) := dk_45 (dk_at dksJ10_copyOf_2_1 3 rfl rfl)
theorem dJ10_copyOf_2_28 : decode cJ10_copyOf_2 28 = .ok (.iconst 0, 1) := dk_3 (dk_at dksJ10_copyOf_2_1 4 rfl rfl)
theorem dJ10_copyOf_2_29 : decode cJ10_copyOf_2 29 = .ok (.aload_n 0, 1) := dk_42 (dk_at dksJ10_copyOf_2_1 5 rfl rfl)
theorem dJ10_copyOf_2_30 : decode cJ10_copyOf_2 30 = .ok (.arraylength, 1) := dk_190 (dk_at dksJ10_copyOf_2_1 6 rfl rfl)
theorem dJ10_copyOf_2_31 : decode cJ10_copyOf_2 31 = .ok (.iload_n 1, 1) := dk_27 (dk_at dksJ10_copyOf_2_1 7 rfl rfl)
theorem dJ10_copyOf_2_32 : decode cJ10_copyOf_2 32 = .ok (.invokestatic 304, 3) := dk_184 1 48 (dk_at dksJ10_copyOf_2_1 8 rfl rfl)
theorem dJ10_copyOf_2_35 : decode cJ10_copyOf_2 35 = .ok (.invokestatic 150, 3) := dk_184 0 150 (dk_at dksJ10_copyOf_2_1 11 rfl rfl)
theorem dJ10_copyOf_2_38 : decode cJ10_copyOf_2 38 = .ok (.aload_n 3, 1) := dk_45 (dk_at dksJ10_copyOf_2_1 14 rfl rfl)
theorem dJ10_copyOf_2_39 : decode cJ10_copyOf_2 39 = .ok (.areturn, 1) := dk_176 (dk_at dksJ10_copyOf_2_1 15 rfl rfl)
abbrev cJ10_copyOf_3 : ByteArray := prog_58_method_121_code
def yJ10_copyOf_3 : MethodName := ⟨RJ10, "copyOf", "([BI)[B"⟩
def dkwJ10_copyOf_3_1 : List UInt8 := [27, 184, 1, 48, 184, 0, 150, 44, 176]
abbrev dktJ10_copyOf_3_1 : List UInt8 := dkwJ10_copyOf_3_1 ++ []
def dkwJ10_copyOf_3_0 : List UInt8 := [27, 42, 190, 160, 0, 11, 42, 182, 1, 54, 192, 1, 55, 176, 27, 188, 8, 77, 42, 3, 44, 3, 42, 190]
abbrev dktJ10_copyOf_3_0 : List UInt8 := dkwJ10_copyOf_3_0 ++ dktJ10_copyOf_3_1
theorem dksJ10_copyOf_3_0 : cJ10_copyOf_3.data.toList.drop 0 = dktJ10_copyOf_3_0 := by decide +kernel
theorem dksJ10_copyOf_3_1 : cJ10_copyOf_3.data.toList.drop 24 = dktJ10_copyOf_3_1 := dk_seg dksJ10_copyOf_3_0 24 rfl rfl
theorem dJ10_copyOf_3_0 : decode cJ10_copyOf_3 0 = .ok (.iload_n 1, 1) := dk_27 (dk_at dksJ10_copyOf_3_0 0 rfl rfl)
theorem dJ10_copyOf_3_1 : decode cJ10_copyOf_3 1 = .ok (.aload_n 0, 1) := dk_42 (dk_at dksJ10_copyOf_3_0 1 rfl rfl)
theorem dJ10_copyOf_3_2 : decode cJ10_copyOf_3 2 = .ok (.arraylength, 1) := dk_190 (dk_at dksJ10_copyOf_3_0 2 rfl rfl)
theorem dJ10_copyOf_3_3 : decode cJ10_copyOf_3 3 = .ok (.if_icmp .ne 11, 3) := dk_160 0 11 (dk_at dksJ10_copyOf_3_0 3 rfl rfl)
theorem dJ10_copyOf_3_6 : decode cJ10_copyOf_3 6 = .ok (.aload_n 0, 1) := dk_42 (dk_at dksJ10_copyOf_3_0 6 rfl rfl)
theorem dJ10_copyOf_3_7 : decode cJ10_copyOf_3 7 = .ok (.invokevirtual 310, 3) := dk_182 1 54 (dk_at dksJ10_copyOf_3_0 7 rfl rfl)
theorem dJ10_copyOf_3_10 : decode cJ10_copyOf_3 10 = .ok (.checkcast 311, 3) := dk_192 1 55 (dk_at dksJ10_copyOf_3_0 10 rfl rfl)
theorem dJ10_copyOf_3_13 : decode cJ10_copyOf_3 13 = .ok (.areturn, 1) := dk_176 (dk_at dksJ10_copyOf_3_0 13 rfl rfl)
theorem dJ10_copyOf_3_14 : decode cJ10_copyOf_3 14 = .ok (.iload_n 1, 1) := dk_27 (dk_at dksJ10_copyOf_3_0 14 rfl rfl)
theorem dJ10_copyOf_3_15 : decode cJ10_copyOf_3 15 = .ok (.newarray .byte, 2) := dk_188_8 (dk_at dksJ10_copyOf_3_0 15 rfl rfl)
theorem dJ10_copyOf_3_17 : decode cJ10_copyOf_3 17 = .ok (.astore_n 2, 1) := dk_77 (dk_at dksJ10_copyOf_3_0 17 rfl rfl)
theorem dJ10_copyOf_3_18 : decode cJ10_copyOf_3 18 = .ok (.aload_n 0, 1) := dk_42 (dk_at dksJ10_copyOf_3_0 18 rfl rfl)
theorem dJ10_copyOf_3_19 : decode cJ10_copyOf_3 19 = .ok (.iconst 0, 1) := dk_3 (dk_at dksJ10_copyOf_3_0 19 rfl rfl)
theorem dJ10_copyOf_3_20 : decode cJ10_copyOf_3 20 = .ok (.aload_n 2, 1) := dk_44 (dk_at dksJ10_copyOf_3_0 20 rfl rfl)
theorem dJ10_copyOf_3_21 : decode cJ10_copyOf_3 21 = .ok (.iconst 0, 1) := dk_3 (dk_at dksJ10_copyOf_3_0 21 rfl rfl)
theorem dJ10_copyOf_3_22 : decode cJ10_copyOf_3 22 = .ok (.aload_n 0, 1) := dk_42 (dk_at dksJ10_copyOf_3_0 22 rfl rfl)
theorem dJ10_copyOf_3_23 : decode cJ10_copyOf_3 23 = .ok (.arraylength, 1) := dk_190 (dk_at dksJ10_copyOf_3_0 23 rfl rfl)
theorem dJ10_copyOf_3_24 : decode cJ10_copyOf_3 24 = .ok (.iload_n 1, 1) := dk_27 (dk_at dksJ10_copyOf_3_1 0 rfl rfl)
theorem dJ10_copyOf_3_25 : decode cJ10_copyOf_3 25 = .ok (.invokestatic 304, 3) := dk_184 1 48 (dk_at dksJ10_copyOf_3_1 1 rfl rfl)
theorem dJ10_copyOf_3_28 : decode cJ10_copyOf_3 28 = .ok (.invokestatic 150, 3) := dk_184 0 150 (dk_at dksJ10_copyOf_3_1 4 rfl rfl)
theorem dJ10_copyOf_3_31 : decode cJ10_copyOf_3 31 = .ok (.aload_n 2, 1) := dk_44 (dk_at dksJ10_copyOf_3_1 7 rfl rfl)
theorem dJ10_copyOf_3_32 : decode cJ10_copyOf_3 32 = .ok (.areturn, 1) := dk_176 (dk_at dksJ10_copyOf_3_1 8 rfl rfl)
abbrev cJ10_copyOfRange : ByteArray := prog_58_method_132_code
def yJ10_copyOfRange : MethodName := ⟨RJ10, "copyOfRange", "([BII)[B"⟩
def dkwJ10_copyOfRange_1 : List UInt8 := [176]
abbrev dktJ10_copyOfRange_1 : List UInt8 := dkwJ10_copyOfRange_1 ++ []
def dkwJ10_copyOfRange_0 : List UInt8 := [27, 154, 0, 9, 28, 42, 190, 159, 0, 10, 42, 27, 28, 184, 1, 83, 176, 42, 182, 1, 54, 192, 1, 55]
abbrev dktJ10_copyOfRange_0 : List UInt8 := dkwJ10_copyOfRange_0 ++ dktJ10_copyOfRange_1
theorem dksJ10_copyOfRange_0 : cJ10_copyOfRange.data.toList.drop 0 = dktJ10_copyOfRange_0 := by decide +kernel
theorem dksJ10_copyOfRange_1 : cJ10_copyOfRange.data.toList.drop 24 = dktJ10_copyOfRange_1 := dk_seg dksJ10_copyOfRange_0 24 rfl rfl
theorem dJ10_copyOfRange_0 : decode cJ10_copyOfRange 0 = .ok (.iload_n 1, 1) := dk_27 (dk_at dksJ10_copyOfRange_0 0 rfl rfl)
theorem dJ10_copyOfRange_1 : decode cJ10_copyOfRange 1 = .ok (.ifCond .ne 9, 3) := dk_154 0 9 (dk_at dksJ10_copyOfRange_0 1 rfl rfl)
theorem dJ10_copyOfRange_4 : decode cJ10_copyOfRange 4 = .ok (.iload_n 2, 1) := dk_28 (dk_at dksJ10_copyOfRange_0 4 rfl rfl)
theorem dJ10_copyOfRange_5 : decode cJ10_copyOfRange 5 = .ok (.aload_n 0, 1) := dk_42 (dk_at dksJ10_copyOfRange_0 5 rfl rfl)
theorem dJ10_copyOfRange_6 : decode cJ10_copyOfRange 6 = .ok (.arraylength, 1) := dk_190 (dk_at dksJ10_copyOfRange_0 6 rfl rfl)
theorem dJ10_copyOfRange_7 : decode cJ10_copyOfRange 7 = .ok (.if_icmp .eq 10, 3) := dk_159 0 10 (dk_at dksJ10_copyOfRange_0 7 rfl rfl)
theorem dJ10_copyOfRange_10 : decode cJ10_copyOfRange 10 = .ok (.aload_n 0, 1) := dk_42 (dk_at dksJ10_copyOfRange_0 10 rfl rfl)
theorem dJ10_copyOfRange_11 : decode cJ10_copyOfRange 11 = .ok (.iload_n 1, 1) := dk_27 (dk_at dksJ10_copyOfRange_0 11 rfl rfl)
theorem dJ10_copyOfRange_12 : decode cJ10_copyOfRange 12 = .ok (.iload_n 2, 1) := dk_28 (dk_at dksJ10_copyOfRange_0 12 rfl rfl)
theorem dJ10_copyOfRange_13 : decode cJ10_copyOfRange 13 = .ok (.invokestatic 339, 3) := dk_184 1 83 (dk_at dksJ10_copyOfRange_0 13 rfl rfl)
theorem dJ10_copyOfRange_16 : decode cJ10_copyOfRange 16 = .ok (.areturn, 1) := dk_176 (dk_at dksJ10_copyOfRange_0 16 rfl rfl)
theorem dJ10_copyOfRange_17 : decode cJ10_copyOfRange 17 = .ok (.aload_n 0, 1) := dk_42 (dk_at dksJ10_copyOfRange_0 17 rfl rfl)
theorem dJ10_copyOfRange_18 : decode cJ10_copyOfRange 18 = .ok (.invokevirtual 310, 3) := dk_182 1 54 (dk_at dksJ10_copyOfRange_0 18 rfl rfl)
theorem dJ10_copyOfRange_21 : decode cJ10_copyOfRange 21 = .ok (.checkcast 311, 3) := dk_192 1 55 (dk_at dksJ10_copyOfRange_0 21 rfl rfl)
theorem dJ10_copyOfRange_24 : decode cJ10_copyOfRange 24 = .ok (.areturn, 1) := dk_176 (dk_at dksJ10_copyOfRange_1 0 rfl rfl)
abbrev cJ10_copyOfRangeByte : ByteArray := prog_58_method_133_code
def yJ10_copyOfRangeByte : MethodName := ⟨RJ10, "copyOfRangeByte", "([BII)[B"⟩
def dkwJ10_copyOfRangeByte_1 : List UInt8 := [184, 1, 48, 184, 0, 150, 25, 4, 176]
abbrev dktJ10_copyOfRangeByte_1 : List UInt8 := dkwJ10_copyOfRangeByte_1 ++ []
def dkwJ10_copyOfRangeByte_0 : List UInt8 := [27, 28, 184, 1, 87, 28, 27, 100, 62, 29, 188, 8, 58, 4, 42, 27, 25, 4, 3, 42, 190, 27, 100, 29]
abbrev dktJ10_copyOfRangeByte_0 : List UInt8 := dkwJ10_copyOfRangeByte_0 ++ dktJ10_copyOfRangeByte_1
theorem dksJ10_copyOfRangeByte_0 : cJ10_copyOfRangeByte.data.toList.drop 0 = dktJ10_copyOfRangeByte_0 := by decide +kernel
theorem dksJ10_copyOfRangeByte_1 : cJ10_copyOfRangeByte.data.toList.drop 24 = dktJ10_copyOfRangeByte_1 := dk_seg dksJ10_copyOfRangeByte_0 24 rfl rfl
theorem dJ10_copyOfRangeByte_0 : decode cJ10_copyOfRangeByte 0 = .ok (.iload_n 1, 1) := dk_27 (dk_at dksJ10_copyOfRangeByte_0 0 rfl rfl)
theorem dJ10_copyOfRangeByte_1 : decode cJ10_copyOfRangeByte 1 = .ok (.iload_n 2, 1) := dk_28 (dk_at dksJ10_copyOfRangeByte_0 1 rfl rfl)
theorem dJ10_copyOfRangeByte_2 : decode cJ10_copyOfRangeByte 2 = .ok (.invokestatic 343, 3) := dk_184 1 87 (dk_at dksJ10_copyOfRangeByte_0 2 rfl rfl)
theorem dJ10_copyOfRangeByte_5 : decode cJ10_copyOfRangeByte 5 = .ok (.iload_n 2, 1) := dk_28 (dk_at dksJ10_copyOfRangeByte_0 5 rfl rfl)
theorem dJ10_copyOfRangeByte_6 : decode cJ10_copyOfRangeByte 6 = .ok (.iload_n 1, 1) := dk_27 (dk_at dksJ10_copyOfRangeByte_0 6 rfl rfl)
theorem dJ10_copyOfRangeByte_7 : decode cJ10_copyOfRangeByte 7 = .ok (.isub, 1) := dk_100 (dk_at dksJ10_copyOfRangeByte_0 7 rfl rfl)
theorem dJ10_copyOfRangeByte_8 : decode cJ10_copyOfRangeByte 8 = .ok (.istore_n 3, 1) := dk_62 (dk_at dksJ10_copyOfRangeByte_0 8 rfl rfl)
theorem dJ10_copyOfRangeByte_9 : decode cJ10_copyOfRangeByte 9 = .ok (.iload_n 3, 1) := dk_29 (dk_at dksJ10_copyOfRangeByte_0 9 rfl rfl)
theorem dJ10_copyOfRangeByte_10 : decode cJ10_copyOfRangeByte 10 = .ok (.newarray .byte, 2) := dk_188_8 (dk_at dksJ10_copyOfRangeByte_0 10 rfl rfl)
theorem dJ10_copyOfRangeByte_12 : decode cJ10_copyOfRangeByte 12 = .ok (.astore 4, 2) := dk_58 4 (dk_at dksJ10_copyOfRangeByte_0 12 rfl rfl)
theorem dJ10_copyOfRangeByte_14 : decode cJ10_copyOfRangeByte 14 = .ok (.aload_n 0, 1) := dk_42 (dk_at dksJ10_copyOfRangeByte_0 14 rfl rfl)
theorem dJ10_copyOfRangeByte_15 : decode cJ10_copyOfRangeByte 15 = .ok (.iload_n 1, 1) := dk_27 (dk_at dksJ10_copyOfRangeByte_0 15 rfl rfl)
theorem dJ10_copyOfRangeByte_16 : decode cJ10_copyOfRangeByte 16 = .ok (.aload 4, 2) := dk_25 4 (dk_at dksJ10_copyOfRangeByte_0 16 rfl rfl)
theorem dJ10_copyOfRangeByte_18 : decode cJ10_copyOfRangeByte 18 = .ok (.iconst 0, 1) := dk_3 (dk_at dksJ10_copyOfRangeByte_0 18 rfl rfl)
theorem dJ10_copyOfRangeByte_19 : decode cJ10_copyOfRangeByte 19 = .ok (.aload_n 0, 1) := dk_42 (dk_at dksJ10_copyOfRangeByte_0 19 rfl rfl)
theorem dJ10_copyOfRangeByte_20 : decode cJ10_copyOfRangeByte 20 = .ok (.arraylength, 1) := dk_190 (dk_at dksJ10_copyOfRangeByte_0 20 rfl rfl)
theorem dJ10_copyOfRangeByte_21 : decode cJ10_copyOfRangeByte 21 = .ok (.iload_n 1, 1) := dk_27 (dk_at dksJ10_copyOfRangeByte_0 21 rfl rfl)
theorem dJ10_copyOfRangeByte_22 : decode cJ10_copyOfRangeByte 22 = .ok (.isub, 1) := dk_100 (dk_at dksJ10_copyOfRangeByte_0 22 rfl rfl)
theorem dJ10_copyOfRangeByte_23 : decode cJ10_copyOfRangeByte 23 = .ok (.iload_n 3, 1) := dk_29 (dk_at dksJ10_copyOfRangeByte_0 23 rfl rfl)
theorem dJ10_copyOfRangeByte_24 : decode cJ10_copyOfRangeByte 24 = .ok (.invokestatic 304, 3) := dk_184 1 48 (dk_at dksJ10_copyOfRangeByte_1 0 rfl rfl)
theorem dJ10_copyOfRangeByte_27 : decode cJ10_copyOfRangeByte 27 = .ok (.invokestatic 150, 3) := dk_184 0 150 (dk_at dksJ10_copyOfRangeByte_1 3 rfl rfl)
theorem dJ10_copyOfRangeByte_30 : decode cJ10_copyOfRangeByte 30 = .ok (.aload 4, 2) := dk_25 4 (dk_at dksJ10_copyOfRangeByte_1 6 rfl rfl)
theorem dJ10_copyOfRangeByte_32 : decode cJ10_copyOfRangeByte 32 = .ok (.areturn, 1) := dk_176 (dk_at dksJ10_copyOfRangeByte_1 8 rfl rfl)
abbrev cJ10_checkLength : ByteArray := prog_58_method_131_code
def yJ10_checkLength : MethodName := ⟨RJ10, "checkLength", "(II)V"⟩
def dkwJ10_checkLength_1 : List UInt8 := [182, 0, 50, 27, 182, 0, 54, 182, 0, 61, 183, 0, 65, 191, 177]
abbrev dktJ10_checkLength_1 : List UInt8 := dkwJ10_checkLength_1 ++ []
def dkwJ10_checkLength_0 : List UInt8 := [27, 26, 162, 0, 35, 187, 0, 43, 89, 187, 0, 45, 89, 183, 0, 47, 26, 182, 0, 54, 19, 1, 81]
abbrev dktJ10_checkLength_0 : List UInt8 := dkwJ10_checkLength_0 ++ dktJ10_checkLength_1
theorem dksJ10_checkLength_0 : cJ10_checkLength.data.toList.drop 0 = dktJ10_checkLength_0 := by decide +kernel
theorem dksJ10_checkLength_1 : cJ10_checkLength.data.toList.drop 23 = dktJ10_checkLength_1 := dk_seg dksJ10_checkLength_0 23 rfl rfl
theorem dJ10_checkLength_0 : decode cJ10_checkLength 0 = .ok (.iload_n 1, 1) := dk_27 (dk_at dksJ10_checkLength_0 0 rfl rfl)
theorem dJ10_checkLength_1 : decode cJ10_checkLength 1 = .ok (.iload_n 0, 1) := dk_26 (dk_at dksJ10_checkLength_0 1 rfl rfl)
theorem dJ10_checkLength_2 : decode cJ10_checkLength 2 = .ok (.if_icmp .ge 35, 3) := dk_162 0 35 (dk_at dksJ10_checkLength_0 2 rfl rfl)
theorem dJ10_checkLength_5 : decode cJ10_checkLength 5 = .ok (.new 43, 3) := dk_187 0 43 (dk_at dksJ10_checkLength_0 5 rfl rfl)
theorem dJ10_checkLength_8 : decode cJ10_checkLength 8 = .ok (.dup, 1) := dk_89 (dk_at dksJ10_checkLength_0 8 rfl rfl)
theorem dJ10_checkLength_9 : decode cJ10_checkLength 9 = .ok (.new 45, 3) := dk_187 0 45 (dk_at dksJ10_checkLength_0 9 rfl rfl)
theorem dJ10_checkLength_12 : decode cJ10_checkLength 12 = .ok (.dup, 1) := dk_89 (dk_at dksJ10_checkLength_0 12 rfl rfl)
theorem dJ10_checkLength_13 : decode cJ10_checkLength 13 = .ok (.invokespecial 47, 3) := dk_183 0 47 (dk_at dksJ10_checkLength_0 13 rfl rfl)
theorem dJ10_checkLength_16 : decode cJ10_checkLength 16 = .ok (.iload_n 0, 1) := dk_26 (dk_at dksJ10_checkLength_0 16 rfl rfl)
theorem dJ10_checkLength_17 : decode cJ10_checkLength 17 = .ok (.invokevirtual 54, 3) := dk_182 0 54 (dk_at dksJ10_checkLength_0 17 rfl rfl)
theorem dJ10_checkLength_20 : decode cJ10_checkLength 20 = .ok (.ldc_w 337, 3) := dk_19 1 81 (dk_at dksJ10_checkLength_0 20 rfl rfl)
theorem dJ10_checkLength_23 : decode cJ10_checkLength 23 = .ok (.invokevirtual 50, 3) := dk_182 0 50 (dk_at dksJ10_checkLength_1 0 rfl rfl)
theorem dJ10_checkLength_26 : decode cJ10_checkLength 26 = .ok (.iload_n 1, 1) := dk_27 (dk_at dksJ10_checkLength_1 3 rfl rfl)
theorem dJ10_checkLength_27 : decode cJ10_checkLength 27 = .ok (.invokevirtual 54, 3) := dk_182 0 54 (dk_at dksJ10_checkLength_1 4 rfl rfl)
theorem dJ10_checkLength_30 : decode cJ10_checkLength 30 = .ok (.invokevirtual 61, 3) := dk_182 0 61 (dk_at dksJ10_checkLength_1 7 rfl rfl)
theorem dJ10_checkLength_33 : decode cJ10_checkLength 33 = .ok (.invokespecial 65, 3) := dk_183 0 65 (dk_at dksJ10_checkLength_1 10 rfl rfl)
theorem dJ10_checkLength_36 : decode cJ10_checkLength 36 = .ok (.athrow, 1) := dk_191 (dk_at dksJ10_checkLength_1 13 rfl rfl)
theorem dJ10_checkLength_37 : decode cJ10_checkLength 37 = .ok (.return_, 1) := dk_177 (dk_at dksJ10_checkLength_1 14 rfl rfl)
abbrev cJ10_copyOfRange_2 : ByteArray := prog_58_method_130_code
def yJ10_copyOfRange_2 : MethodName := ⟨RJ10, "copyOfRange", "([Ljava/lang/Object;IILjava/lang/Class;)[Ljava/lang/Object;"⟩
def dkwJ10_copyOfRange_2_3 : List UInt8 := [58, 5, 42, 27, 25, 5, 3, 42, 190, 27, 100, 21, 4, 184, 1, 48, 184, 0, 150, 25, 5, 176]
abbrev dktJ10_copyOfRange_2_3 : List UInt8 := dkwJ10_copyOfRange_2_3 ++ []
def dkwJ10_copyOfRange_2_2 : List UInt8 := [166, 0, 11, 21, 4, 189, 0, 2, 167, 0, 15, 45, 182, 0, 90, 21, 4, 184, 0, 95, 192, 0, 110]
abbrev dktJ10_copyOfRange_2_2 : List UInt8 := dkwJ10_copyOfRange_2_2 ++ dktJ10_copyOfRange_2_3
def dkwJ10_copyOfRange_2_1 : List UInt8 := [182, 0, 54, 19, 1, 81, 182, 0, 50, 28, 182, 0, 54, 182, 0, 61, 183, 0, 65, 191, 45, 18, 110]
abbrev dktJ10_copyOfRange_2_1 : List UInt8 := dkwJ10_copyOfRange_2_1 ++ dktJ10_copyOfRange_2_2
def dkwJ10_copyOfRange_2_0 : List UInt8 := [28, 27, 100, 54, 4, 21, 4, 156, 0, 35, 187, 0, 43, 89, 187, 0, 45, 89, 183, 0, 47, 27]
abbrev dktJ10_copyOfRange_2_0 : List UInt8 := dkwJ10_copyOfRange_2_0 ++ dktJ10_copyOfRange_2_1
theorem dksJ10_copyOfRange_2_0 : cJ10_copyOfRange_2.data.toList.drop 0 = dktJ10_copyOfRange_2_0 := by decide +kernel
theorem dksJ10_copyOfRange_2_1 : cJ10_copyOfRange_2.data.toList.drop 22 = dktJ10_copyOfRange_2_1 := dk_seg dksJ10_copyOfRange_2_0 22 rfl rfl
theorem dksJ10_copyOfRange_2_2 : cJ10_copyOfRange_2.data.toList.drop 45 = dktJ10_copyOfRange_2_2 := dk_seg dksJ10_copyOfRange_2_1 23 rfl rfl
theorem dksJ10_copyOfRange_2_3 : cJ10_copyOfRange_2.data.toList.drop 68 = dktJ10_copyOfRange_2_3 := dk_seg dksJ10_copyOfRange_2_2 23 rfl rfl
theorem dJ10_copyOfRange_2_0 : decode cJ10_copyOfRange_2 0 = .ok (.iload_n 2, 1) := dk_28 (dk_at dksJ10_copyOfRange_2_0 0 rfl rfl)
theorem dJ10_copyOfRange_2_1 : decode cJ10_copyOfRange_2 1 = .ok (.iload_n 1, 1) := dk_27 (dk_at dksJ10_copyOfRange_2_0 1 rfl rfl)
theorem dJ10_copyOfRange_2_2 : decode cJ10_copyOfRange_2 2 = .ok (.isub, 1) := dk_100 (dk_at dksJ10_copyOfRange_2_0 2 rfl rfl)
theorem dJ10_copyOfRange_2_3 : decode cJ10_copyOfRange_2 3 = .ok (.istore 4, 2) := dk_54 4 (dk_at dksJ10_copyOfRange_2_0 3 rfl rfl)
theorem dJ10_copyOfRange_2_5 : decode cJ10_copyOfRange_2 5 = .ok (.iload 4, 2) := dk_21 4 (dk_at dksJ10_copyOfRange_2_0 5 rfl rfl)
theorem dJ10_copyOfRange_2_7 : decode cJ10_copyOfRange_2 7 = .ok (.ifCond .ge 35, 3) := dk_156 0 35 (dk_at dksJ10_copyOfRange_2_0 7 rfl rfl)
theorem dJ10_copyOfRange_2_10 : decode cJ10_copyOfRange_2 10 = .ok (.new 43, 3) := dk_187 0 43 (dk_at dksJ10_copyOfRange_2_0 10 rfl rfl)
theorem dJ10_copyOfRange_2_13 : decode cJ10_copyOfRange_2 13 = .ok (.dup, 1) := dk_89 (dk_at dksJ10_copyOfRange_2_0 13 rfl rfl)
theorem dJ10_copyOfRange_2_14 : decode cJ10_copyOfRange_2 14 = .ok (.new 45, 3) := dk_187 0 45 (dk_at dksJ10_copyOfRange_2_0 14 rfl rfl)
theorem dJ10_copyOfRange_2_17 : decode cJ10_copyOfRange_2 17 = .ok (.dup, 1) := dk_89 (dk_at dksJ10_copyOfRange_2_0 17 rfl rfl)
theorem dJ10_copyOfRange_2_18 : decode cJ10_copyOfRange_2 18 = .ok (.invokespecial 47, 3) := dk_183 0 47 (dk_at dksJ10_copyOfRange_2_0 18 rfl rfl)
theorem dJ10_copyOfRange_2_21 : decode cJ10_copyOfRange_2 21 = .ok (.iload_n 1, 1) := dk_27 (dk_at dksJ10_copyOfRange_2_0 21 rfl rfl)
theorem dJ10_copyOfRange_2_22 : decode cJ10_copyOfRange_2 22 = .ok (.invokevirtual 54, 3) := dk_182 0 54 (dk_at dksJ10_copyOfRange_2_1 0 rfl rfl)
theorem dJ10_copyOfRange_2_25 : decode cJ10_copyOfRange_2 25 = .ok (.ldc_w 337, 3) := dk_19 1 81 (dk_at dksJ10_copyOfRange_2_1 3 rfl rfl)
theorem dJ10_copyOfRange_2_28 : decode cJ10_copyOfRange_2 28 = .ok (.invokevirtual 50, 3) := dk_182 0 50 (dk_at dksJ10_copyOfRange_2_1 6 rfl rfl)
theorem dJ10_copyOfRange_2_31 : decode cJ10_copyOfRange_2 31 = .ok (.iload_n 2, 1) := dk_28 (dk_at dksJ10_copyOfRange_2_1 9 rfl rfl)
theorem dJ10_copyOfRange_2_32 : decode cJ10_copyOfRange_2 32 = .ok (.invokevirtual 54, 3) := dk_182 0 54 (dk_at dksJ10_copyOfRange_2_1 10 rfl rfl)
theorem dJ10_copyOfRange_2_35 : decode cJ10_copyOfRange_2 35 = .ok (.invokevirtual 61, 3) := dk_182 0 61 (dk_at dksJ10_copyOfRange_2_1 13 rfl rfl)
theorem dJ10_copyOfRange_2_38 : decode cJ10_copyOfRange_2 38 = .ok (.invokespecial 65, 3) := dk_183 0 65 (dk_at dksJ10_copyOfRange_2_1 16 rfl rfl)
theorem dJ10_copyOfRange_2_41 : decode cJ10_copyOfRange_2 41 = .ok (.athrow, 1) := dk_191 (dk_at dksJ10_copyOfRange_2_1 19 rfl rfl)
theorem dJ10_copyOfRange_2_42 : decode cJ10_copyOfRange_2 42 = .ok (.aload_n 3, 1) := dk_45 (dk_at dksJ10_copyOfRange_2_1 20 rfl rfl)
theorem dJ10_copyOfRange_2_43 : decode cJ10_copyOfRange_2 43 = .ok (.ldc 110, 2) := dk_18 110 (dk_at dksJ10_copyOfRange_2_1 21 rfl rfl)
theorem dJ10_copyOfRange_2_45 : decode cJ10_copyOfRange_2 45 = .ok (.if_acmp .ne 11, 3) := dk_166 0 11 (dk_at dksJ10_copyOfRange_2_2 0 rfl rfl)
theorem dJ10_copyOfRange_2_48 : decode cJ10_copyOfRange_2 48 = .ok (.iload 4, 2) := dk_21 4 (dk_at dksJ10_copyOfRange_2_2 3 rfl rfl)
theorem dJ10_copyOfRange_2_50 : decode cJ10_copyOfRange_2 50 = .ok (.anewarray 2, 3) := dk_189 0 2 (dk_at dksJ10_copyOfRange_2_2 5 rfl rfl)
theorem dJ10_copyOfRange_2_53 : decode cJ10_copyOfRange_2 53 = .ok (.goto 15, 3) := dk_167 0 15 (dk_at dksJ10_copyOfRange_2_2 8 rfl rfl)
theorem dJ10_copyOfRange_2_56 : decode cJ10_copyOfRange_2 56 = .ok (.aload_n 3, 1) := dk_45 (dk_at dksJ10_copyOfRange_2_2 11 rfl rfl)
theorem dJ10_copyOfRange_2_57 : decode cJ10_copyOfRange_2 57 = .ok (.invokevirtual 90, 3) := dk_182 0 90 (dk_at dksJ10_copyOfRange_2_2 12 rfl rfl)
theorem dJ10_copyOfRange_2_60 : decode cJ10_copyOfRange_2 60 = .ok (.iload 4, 2) := dk_21 4 (dk_at dksJ10_copyOfRange_2_2 15 rfl rfl)
theorem dJ10_copyOfRange_2_62 : decode cJ10_copyOfRange_2 62 = .ok (.invokestatic 95, 3) := dk_184 0 95 (dk_at dksJ10_copyOfRange_2_2 17 rfl rfl)
theorem dJ10_copyOfRange_2_65 : decode cJ10_copyOfRange_2 65 = .ok (.checkcast 110, 3) := dk_192 0 110 (dk_at dksJ10_copyOfRange_2_2 20 rfl rfl)
theorem dJ10_copyOfRange_2_68 : decode cJ10_copyOfRange_2 68 = .ok (.astore 5, 2) := dk_58 5 (dk_at dksJ10_copyOfRange_2_3 0 rfl rfl)
theorem dJ10_copyOfRange_2_70 : decode cJ10_copyOfRange_2 70 = .ok (.aload_n 0, 1) := dk_42 (dk_at dksJ10_copyOfRange_2_3 2 rfl rfl)
theorem dJ10_copyOfRange_2_71 : decode cJ10_copyOfRange_2 71 = .ok (.iload_n 1, 1) := dk_27 (dk_at dksJ10_copyOfRange_2_3 3 rfl rfl)
theorem dJ10_copyOfRange_2_72 : decode cJ10_copyOfRange_2 72 = .ok (.aload 5, 2) := dk_25 5 (dk_at dksJ10_copyOfRange_2_3 4 rfl rfl)
theorem dJ10_copyOfRange_2_74 : decode cJ10_copyOfRange_2 74 = .ok (.iconst 0, 1) := dk_3 (dk_at dksJ10_copyOfRange_2_3 6 rfl rfl)
theorem dJ10_copyOfRange_2_75 : decode cJ10_copyOfRange_2 75 = .ok (.aload_n 0, 1) := dk_42 (dk_at dksJ10_copyOfRange_2_3 7 rfl rfl)
theorem dJ10_copyOfRange_2_76 : decode cJ10_copyOfRange_2 76 = .ok (.arraylength, 1) := dk_190 (dk_at dksJ10_copyOfRange_2_3 8 rfl rfl)
theorem dJ10_copyOfRange_2_77 : decode cJ10_copyOfRange_2 77 = .ok (.iload_n 1, 1) := dk_27 (dk_at dksJ10_copyOfRange_2_3 9 rfl rfl)
theorem dJ10_copyOfRange_2_78 : decode cJ10_copyOfRange_2 78 = .ok (.isub, 1) := dk_100 (dk_at dksJ10_copyOfRange_2_3 10 rfl rfl)
theorem dJ10_copyOfRange_2_79 : decode cJ10_copyOfRange_2 79 = .ok (.iload 4, 2) := dk_21 4 (dk_at dksJ10_copyOfRange_2_3 11 rfl rfl)
theorem dJ10_copyOfRange_2_81 : decode cJ10_copyOfRange_2 81 = .ok (.invokestatic 304, 3) := dk_184 1 48 (dk_at dksJ10_copyOfRange_2_3 13 rfl rfl)
theorem dJ10_copyOfRange_2_84 : decode cJ10_copyOfRange_2 84 = .ok (.invokestatic 150, 3) := dk_184 0 150 (dk_at dksJ10_copyOfRange_2_3 16 rfl rfl)
theorem dJ10_copyOfRange_2_87 : decode cJ10_copyOfRange_2 87 = .ok (.aload 5, 2) := dk_25 5 (dk_at dksJ10_copyOfRange_2_3 19 rfl rfl)
theorem dJ10_copyOfRange_2_89 : decode cJ10_copyOfRange_2 89 = .ok (.areturn, 1) := dk_176 (dk_at dksJ10_copyOfRange_2_3 21 rfl rfl)
theorem q60 : (Jvm.Cond.initialized "java/util/Arrays") ∈ lw_all := lw_g (lw_at lw_m1 12 rfl) rfl
theorem q249 : (Jvm.Cond.static ({ cls := "java/util/Arrays", name := "copyOf", desc := "([Ljava/lang/Object;I)[Ljava/lang/Object;" } : Jvm.MethodName)) ∈ lw_all := lw_g (lw_at lw_m1 201 rfl) rfl
theorem q250 : (Jvm.Cond.code ({ cls := "java/util/Arrays", name := "copyOf", desc := "([Ljava/lang/Object;I)[Ljava/lang/Object;" } : Jvm.MethodName) prog_58_method_119_code (2 : Nat) (Option.some (Jvm.ClassFile.FieldType.array (Jvm.ClassFile.FieldType.object "java/lang/Object")))) ∈ lw_all := lw_g (lw_at lw_m1 202 rfl) rfl
theorem q251 : (Jvm.Cond.methodLink "java/util/Arrays" (86 : Nat) ({ cls := "java/lang/Object", name := "getClass", desc := "()Ljava/lang/Class;" } : Jvm.MethodName)) ∈ lw_all := lw_g (lw_at lw_m1 203 rfl) rfl
theorem q294 : (Jvm.Cond.methodLink "java/util/Arrays" (300 : Nat) ({ cls := "java/util/Arrays", name := "copyOf", desc := "([Ljava/lang/Object;ILjava/lang/Class;)[Ljava/lang/Object;" } : Jvm.MethodName)) ∈ lw_all := lw_g (lw_at lw_m2 6 rfl) rfl
theorem q295 : (Jvm.Cond.static ({ cls := "java/util/Arrays", name := "copyOf", desc := "([Ljava/lang/Object;ILjava/lang/Class;)[Ljava/lang/Object;" } : Jvm.MethodName)) ∈ lw_all := lw_g (lw_at lw_m2 7 rfl) rfl
theorem q296 : (Jvm.Cond.code ({ cls := "java/util/Arrays", name := "copyOf", desc := "([Ljava/lang/Object;ILjava/lang/Class;)[Ljava/lang/Object;" } : Jvm.MethodName) prog_58_method_120_code (4 : Nat) (Option.some (Jvm.ClassFile.FieldType.array (Jvm.ClassFile.FieldType.object "java/lang/Object")))) ∈ lw_all := lw_g (lw_at lw_m2 8 rfl) rfl
theorem q297 : (Jvm.Cond.classLink "java/util/Arrays" (110 : Nat) "[Ljava/lang/Object;") ∈ lw_all := lw_g (lw_at lw_m2 9 rfl) rfl
theorem q299 : (Jvm.Cond.classLink "java/util/Arrays" (2 : Nat) "java/lang/Object") ∈ lw_all := lw_g (lw_at lw_m2 11 rfl) rfl
theorem q300 : (Jvm.Cond.methodLink "java/util/Arrays" (304 : Nat) ({ cls := "java/lang/Math", name := "min", desc := "(II)I" } : Jvm.MethodName)) ∈ lw_all := lw_g (lw_at lw_m2 12 rfl) rfl
theorem q303 : (Jvm.Cond.methodLink "java/util/Arrays" (150 : Nat) ({ cls := "java/lang/System", name := "arraycopy", desc := "(Ljava/lang/Object;ILjava/lang/Object;II)V" } : Jvm.MethodName)) ∈ lw_all := lw_g (lw_at lw_m2 15 rfl) rfl
theorem q539 : (Jvm.Cond.static ({ cls := "java/util/Arrays", name := "copyOf", desc := "([BI)[B" } : Jvm.MethodName)) ∈ lw_all := lw_g (lw_at lw_m3 11 rfl) rfl
theorem q540 : (Jvm.Cond.code ({ cls := "java/util/Arrays", name := "copyOf", desc := "([BI)[B" } : Jvm.MethodName) prog_58_method_121_code (3 : Nat) (Option.some (Jvm.ClassFile.FieldType.array Jvm.ClassFile.FieldType.byte))) ∈ lw_all := lw_g (lw_at lw_m3 12 rfl) rfl
theorem q541 : (Jvm.Cond.methodLink "java/util/Arrays" (310 : Nat) ({ cls := "[B", name := "clone", desc := "()Ljava/lang/Object;" } : Jvm.MethodName)) ∈ lw_all := lw_g (lw_at lw_m3 13 rfl) rfl
theorem q547 : (Jvm.Cond.classLink "java/util/Arrays" (311 : Nat) "[B") ∈ lw_all := lw_g (lw_at lw_m3 19 rfl) rfl
theorem q665 : (Jvm.Cond.static ({ cls := "java/util/Arrays", name := "copyOfRange", desc := "([BII)[B" } : Jvm.MethodName)) ∈ lw_all := lw_g (lw_at lw_m3 137 rfl) rfl
theorem q666 : (Jvm.Cond.code ({ cls := "java/util/Arrays", name := "copyOfRange", desc := "([BII)[B" } : Jvm.MethodName) prog_58_method_132_code (3 : Nat) (Option.some (Jvm.ClassFile.FieldType.array Jvm.ClassFile.FieldType.byte))) ∈ lw_all := lw_g (lw_at lw_m3 138 rfl) rfl
theorem q667 : (Jvm.Cond.methodLink "java/util/Arrays" (339 : Nat) ({ cls := "java/util/Arrays", name := "copyOfRangeByte", desc := "([BII)[B" } : Jvm.MethodName)) ∈ lw_all := lw_g (lw_at lw_m3 139 rfl) rfl
theorem q668 : (Jvm.Cond.static ({ cls := "java/util/Arrays", name := "copyOfRangeByte", desc := "([BII)[B" } : Jvm.MethodName)) ∈ lw_all := lw_g (lw_at lw_m3 140 rfl) rfl
theorem q669 : (Jvm.Cond.code ({ cls := "java/util/Arrays", name := "copyOfRangeByte", desc := "([BII)[B" } : Jvm.MethodName) prog_58_method_133_code (5 : Nat) (Option.some (Jvm.ClassFile.FieldType.array Jvm.ClassFile.FieldType.byte))) ∈ lw_all := lw_g (lw_at lw_m3 141 rfl) rfl
theorem q670 : (Jvm.Cond.methodLink "java/util/Arrays" (343 : Nat) ({ cls := "java/util/Arrays", name := "checkLength", desc := "(II)V" } : Jvm.MethodName)) ∈ lw_all := lw_g (lw_at lw_m3 142 rfl) rfl
theorem q671 : (Jvm.Cond.static ({ cls := "java/util/Arrays", name := "checkLength", desc := "(II)V" } : Jvm.MethodName)) ∈ lw_all := lw_g (lw_at lw_m3 143 rfl) rfl
theorem q672 : (Jvm.Cond.code ({ cls := "java/util/Arrays", name := "checkLength", desc := "(II)V" } : Jvm.MethodName) prog_58_method_131_code (2 : Nat) (Option.none : Option Jvm.ClassFile.FieldType)) ∈ lw_all := lw_g (lw_at lw_m3 144 rfl) rfl
theorem q673 : (Jvm.Cond.classLink "java/util/Arrays" (43 : Nat) "java/lang/IllegalArgumentException") ∈ lw_all := lw_g (lw_at lw_m3 145 rfl) rfl
theorem q674 : (Jvm.Cond.classLink "java/util/Arrays" (45 : Nat) "java/lang/StringBuilder") ∈ lw_all := lw_g (lw_at lw_m3 146 rfl) rfl
theorem q675 : (Jvm.Cond.methodLink "java/util/Arrays" (47 : Nat) ({ cls := "java/lang/StringBuilder", name := "<init>", desc := "()V" } : Jvm.MethodName)) ∈ lw_all := lw_g (lw_at lw_m3 147 rfl) rfl
theorem q676 : (Jvm.Cond.methodLink "java/util/Arrays" (54 : Nat) ({ cls := "java/lang/StringBuilder", name := "append", desc := "(I)Ljava/lang/StringBuilder;" } : Jvm.MethodName)) ∈ lw_all := lw_g (lw_at lw_m3 148 rfl) rfl
theorem q677 : (Jvm.Cond.stringRef "java/util/Arrays" (337 : Nat) " > ") ∈ lw_tbl := lw_at lw_m3 149 rfl
theorem q678 : (Jvm.Cond.methodLink "java/util/Arrays" (50 : Nat) ({ cls := "java/lang/StringBuilder", name := "append", desc := "(Ljava/lang/String;)Ljava/lang/StringBuilder;" } : Jvm.MethodName)) ∈ lw_all := lw_g (lw_at lw_m3 150 rfl) rfl
theorem q679 : (Jvm.Cond.methodLink "java/util/Arrays" (61 : Nat) ({ cls := "java/lang/StringBuilder", name := "toString", desc := "()Ljava/lang/String;" } : Jvm.MethodName)) ∈ lw_all := lw_g (lw_at lw_m3 151 rfl) rfl
theorem q680 : (Jvm.Cond.methodLink "java/util/Arrays" (65 : Nat) ({ cls := "java/lang/IllegalArgumentException", name := "<init>", desc := "(Ljava/lang/String;)V" } : Jvm.MethodName)) ∈ lw_all := lw_g (lw_at lw_m3 152 rfl) rfl
theorem q2270 : (Jvm.Cond.static ({ cls := "java/util/Arrays", name := "copyOfRange", desc := "([Ljava/lang/Object;IILjava/lang/Class;)[Ljava/lang/Object;" } : Jvm.MethodName)) ∈ lw_all := lw_g (lw_at lw_m10 62 rfl) rfl
theorem q2271 : (Jvm.Cond.code ({ cls := "java/util/Arrays", name := "copyOfRange", desc := "([Ljava/lang/Object;IILjava/lang/Class;)[Ljava/lang/Object;" } : Jvm.MethodName) prog_58_method_130_code (6 : Nat) (Option.some (Jvm.ClassFile.FieldType.array (Jvm.ClassFile.FieldType.object "java/lang/Object")))) ∈ lw_all := lw_g (lw_at lw_m10 63 rfl) rfl

/-! java/lang/Throwable -/
set_option maxRecDepth 100000
def RJ14 : String := "java/lang/Throwable"
def TJ14 : u_T := fun k => match k with
  | 0 => ("java/lang/Throwable", "cause", "Ljava/lang/Throwable;", false)
  | 1 => ("java/lang/Throwable", "stackTrace", "[Ljava/lang/StackTraceElement;", false)
  | 2 => ("java/lang/Throwable", "suppressedExceptions", "Ljava/util/List;", false)
  | 3 => ("java/lang/Throwable", "detailMessage", "Ljava/lang/String;", false)
  | _ => ("java/lang/Throwable", "backtrace", "Ljava/lang/Object;", false)
def tyJ14 : Nat → FieldType := fun k => match k with
  | 0 => .object "java/lang/Throwable"
  | 1 => .array (.object "java/lang/StackTraceElement")
  | 2 => .object "java/util/List"
  | 3 => .object "java/lang/String"
  | _ => .object "java/lang/Object"
abbrev wsJ140 : List Cond := u_ws RJ14 TJ14 5
theorem nmJ14 : ∀ a, a < 5 → ∀ b, b < 5 → a ≠ b → (TJ14 a).2.1 ≠ (TJ14 b).2.1 := by decide +kernel
theorem tyJ14_ok : ∀ k, k < 5 → parseFieldDescriptor (TJ14 k).2.2.1 = some (tyJ14 k) := by decide +kernel
abbrev cJ14_init : ByteArray := prog_44_method_1_code
def yJ14_init : MethodName := ⟨RJ14, "<init>", "()V"⟩
def dkwJ14_init_1 : List UInt8 := [182, 0, 27, 87, 177]
abbrev dktJ14_init_1 : List UInt8 := dkwJ14_init_1 ++ []
def dkwJ14_init_0 : List UInt8 := [42, 183, 0, 1, 42, 42, 181, 0, 7, 42, 178, 0, 13, 181, 0, 17, 42, 178, 0, 20, 181, 0, 24, 42]
abbrev dktJ14_init_0 : List UInt8 := dkwJ14_init_0 ++ dktJ14_init_1
theorem dksJ14_init_0 : cJ14_init.data.toList.drop 0 = dktJ14_init_0 := by decide +kernel
theorem dksJ14_init_1 : cJ14_init.data.toList.drop 24 = dktJ14_init_1 := dk_seg dksJ14_init_0 24 rfl rfl
theorem dJ14_init_0 : decode cJ14_init 0 = .ok (.aload_n 0, 1) := dk_42 (dk_at dksJ14_init_0 0 rfl rfl)
theorem dJ14_init_1 : decode cJ14_init 1 = .ok (.invokespecial 1, 3) := dk_183 0 1 (dk_at dksJ14_init_0 1 rfl rfl)
theorem dJ14_init_4 : decode cJ14_init 4 = .ok (.aload_n 0, 1) := dk_42 (dk_at dksJ14_init_0 4 rfl rfl)
theorem dJ14_init_5 : decode cJ14_init 5 = .ok (.aload_n 0, 1) := dk_42 (dk_at dksJ14_init_0 5 rfl rfl)
theorem dJ14_init_6 : decode cJ14_init 6 = .ok (.putfield 7, 3) := dk_181 0 7 (dk_at dksJ14_init_0 6 rfl rfl)
theorem dJ14_init_9 : decode cJ14_init 9 = .ok (.aload_n 0, 1) := dk_42 (dk_at dksJ14_init_0 9 rfl rfl)
theorem dJ14_init_10 : decode cJ14_init 10 = .ok (.getstatic 13, 3) := dk_178 0 13 (dk_at dksJ14_init_0 10 rfl rfl)
theorem dJ14_init_13 : decode cJ14_init 13 = .ok (.putfield 17, 3) := dk_181 0 17 (dk_at dksJ14_init_0 13 rfl rfl)
theorem dJ14_init_16 : decode cJ14_init 16 = .ok (.aload_n 0, 1) := dk_42 (dk_at dksJ14_init_0 16 rfl rfl)
theorem dJ14_init_17 : decode cJ14_init 17 = .ok (.getstatic 20, 3) := dk_178 0 20 (dk_at dksJ14_init_0 17 rfl rfl)
theorem dJ14_init_20 : decode cJ14_init 20 = .ok (.putfield 24, 3) := dk_181 0 24 (dk_at dksJ14_init_0 20 rfl rfl)
theorem dJ14_init_23 : decode cJ14_init 23 = .ok (.aload_n 0, 1) := dk_42 (dk_at dksJ14_init_0 23 rfl rfl)
theorem dJ14_init_24 : decode cJ14_init 24 = .ok (.invokevirtual 27, 3) := dk_182 0 27 (dk_at dksJ14_init_1 0 rfl rfl)
theorem dJ14_init_27 : decode cJ14_init 27 = .ok (.pop, 1) := dk_87 (dk_at dksJ14_init_1 3 rfl rfl)
theorem dJ14_init_28 : decode cJ14_init 28 = .ok (.return_, 1) := dk_177 (dk_at dksJ14_init_1 4 rfl rfl)
abbrev cJ14_init_2 : ByteArray := prog_44_method_2_code
def yJ14_init_2 : MethodName := ⟨RJ14, "<init>", "(Ljava/lang/String;)V"⟩
def dkwJ14_init_2_1 : List UInt8 := [182, 0, 27, 87, 42, 43, 181, 0, 31, 177]
abbrev dktJ14_init_2_1 : List UInt8 := dkwJ14_init_2_1 ++ []
def dkwJ14_init_2_0 : List UInt8 := [42, 183, 0, 1, 42, 42, 181, 0, 7, 42, 178, 0, 13, 181, 0, 17, 42, 178, 0, 20, 181, 0, 24, 42]
abbrev dktJ14_init_2_0 : List UInt8 := dkwJ14_init_2_0 ++ dktJ14_init_2_1
theorem dksJ14_init_2_0 : cJ14_init_2.data.toList.drop 0 = dktJ14_init_2_0 := by decide +kernel
theorem dksJ14_init_2_1 : cJ14_init_2.data.toList.drop 24 = dktJ14_init_2_1 := dk_seg dksJ14_init_2_0 24 rfl rfl
theorem dJ14_init_2_0 : decode cJ14_init_2 0 = .ok (.aload_n 0, 1) := dk_42 (dk_at dksJ14_init_2_0 0 rfl rfl)
theorem dJ14_init_2_1 : decode cJ14_init_2 1 = .ok (.invokespecial 1, 3) := dk_183 0 1 (dk_at dksJ14_init_2_0 1 rfl rfl)
theorem dJ14_init_2_4 : decode cJ14_init_2 4 = .ok (.aload_n 0, 1) := dk_42 (dk_at dksJ14_init_2_0 4 rfl rfl)
theorem dJ14_init_2_5 : decode cJ14_init_2 5 = .ok (.aload_n 0, 1) := dk_42 (dk_at dksJ14_init_2_0 5 rfl rfl)
theorem dJ14_init_2_6 : decode cJ14_init_2 6 = .ok (.putfield 7, 3) := dk_181 0 7 (dk_at dksJ14_init_2_0 6 rfl rfl)
theorem dJ14_init_2_9 : decode cJ14_init_2 9 = .ok (.aload_n 0, 1) := dk_42 (dk_at dksJ14_init_2_0 9 rfl rfl)
theorem dJ14_init_2_10 : decode cJ14_init_2 10 = .ok (.getstatic 13, 3) := dk_178 0 13 (dk_at dksJ14_init_2_0 10 rfl rfl)
theorem dJ14_init_2_13 : decode cJ14_init_2 13 = .ok (.putfield 17, 3) := dk_181 0 17 (dk_at dksJ14_init_2_0 13 rfl rfl)
theorem dJ14_init_2_16 : decode cJ14_init_2 16 = .ok (.aload_n 0, 1) := dk_42 (dk_at dksJ14_init_2_0 16 rfl rfl)
theorem dJ14_init_2_17 : decode cJ14_init_2 17 = .ok (.getstatic 20, 3) := dk_178 0 20 (dk_at dksJ14_init_2_0 17 rfl rfl)
theorem dJ14_init_2_20 : decode cJ14_init_2 20 = .ok (.putfield 24, 3) := dk_181 0 24 (dk_at dksJ14_init_2_0 20 rfl rfl)
theorem dJ14_init_2_23 : decode cJ14_init_2 23 = .ok (.aload_n 0, 1) := dk_42 (dk_at dksJ14_init_2_0 23 rfl rfl)
theorem dJ14_init_2_24 : decode cJ14_init_2 24 = .ok (.invokevirtual 27, 3) := dk_182 0 27 (dk_at dksJ14_init_2_1 0 rfl rfl)
theorem dJ14_init_2_27 : decode cJ14_init_2 27 = .ok (.pop, 1) := dk_87 (dk_at dksJ14_init_2_1 3 rfl rfl)
theorem dJ14_init_2_28 : decode cJ14_init_2 28 = .ok (.aload_n 0, 1) := dk_42 (dk_at dksJ14_init_2_1 4 rfl rfl)
theorem dJ14_init_2_29 : decode cJ14_init_2 29 = .ok (.aload_n 1, 1) := dk_43 (dk_at dksJ14_init_2_1 5 rfl rfl)
theorem dJ14_init_2_30 : decode cJ14_init_2 30 = .ok (.putfield 31, 3) := dk_181 0 31 (dk_at dksJ14_init_2_1 6 rfl rfl)
theorem dJ14_init_2_33 : decode cJ14_init_2 33 = .ok (.return_, 1) := dk_177 (dk_at dksJ14_init_2_1 9 rfl rfl)
abbrev cJ14_init_3 : ByteArray := prog_44_method_4_code
def yJ14_init_3 : MethodName := ⟨RJ14, "<init>", "(Ljava/lang/Throwable;)V"⟩
def dkwJ14_init_3_2 : List UInt8 := [181, 0, 7, 177]
abbrev dktJ14_init_3_2 : List UInt8 := dkwJ14_init_3_2 ++ []
def dkwJ14_init_3_1 : List UInt8 := [182, 0, 27, 87, 42, 43, 199, 0, 7, 1, 167, 0, 7, 43, 182, 0, 35, 181, 0, 31, 42, 43]
abbrev dktJ14_init_3_1 : List UInt8 := dkwJ14_init_3_1 ++ dktJ14_init_3_2
def dkwJ14_init_3_0 : List UInt8 := [42, 183, 0, 1, 42, 42, 181, 0, 7, 42, 178, 0, 13, 181, 0, 17, 42, 178, 0, 20, 181, 0, 24, 42]
abbrev dktJ14_init_3_0 : List UInt8 := dkwJ14_init_3_0 ++ dktJ14_init_3_1
theorem dksJ14_init_3_0 : cJ14_init_3.data.toList.drop 0 = dktJ14_init_3_0 := by decide +kernel
theorem dksJ14_init_3_1 : cJ14_init_3.data.toList.drop 24 = dktJ14_init_3_1 := dk_seg dksJ14_init_3_0 24 rfl rfl
theorem dksJ14_init_3_2 : cJ14_init_3.data.toList.drop 46 = dktJ14_init_3_2 := dk_seg dksJ14_init_3_1 22 rfl rfl
theorem dJ14_init_3_0 : decode cJ14_init_3 0 = .ok (.aload_n 0, 1) := dk_42 (dk_at dksJ14_init_3_0 0 rfl rfl)
theorem dJ14_init_3_1 : decode cJ14_init_3 1 = .ok (.invokespecial 1, 3) := dk_183 0 1 (dk_at dksJ14_init_3_0 1 rfl rfl)
theorem dJ14_init_3_4 : decode cJ14_init_3 4 = .ok (.aload_n 0, 1) := dk_42 (dk_at dksJ14_init_3_0 4 rfl rfl)
theorem dJ14_init_3_5 : decode cJ14_init_3 5 = .ok (.aload_n 0, 1) := dk_42 (dk_at dksJ14_init_3_0 5 rfl rfl)
theorem dJ14_init_3_6 : decode cJ14_init_3 6 = .ok (.putfield 7, 3) := dk_181 0 7 (dk_at dksJ14_init_3_0 6 rfl rfl)
theorem dJ14_init_3_9 : decode cJ14_init_3 9 = .ok (.aload_n 0, 1) := dk_42 (dk_at dksJ14_init_3_0 9 rfl rfl)
theorem dJ14_init_3_10 : decode cJ14_init_3 10 = .ok (.getstatic 13, 3) := dk_178 0 13 (dk_at dksJ14_init_3_0 10 rfl rfl)
theorem dJ14_init_3_13 : decode cJ14_init_3 13 = .ok (.putfield 17, 3) := dk_181 0 17 (dk_at dksJ14_init_3_0 13 rfl rfl)
theorem dJ14_init_3_16 : decode cJ14_init_3 16 = .ok (.aload_n 0, 1) := dk_42 (dk_at dksJ14_init_3_0 16 rfl rfl)
theorem dJ14_init_3_17 : decode cJ14_init_3 17 = .ok (.getstatic 20, 3) := dk_178 0 20 (dk_at dksJ14_init_3_0 17 rfl rfl)
theorem dJ14_init_3_20 : decode cJ14_init_3 20 = .ok (.putfield 24, 3) := dk_181 0 24 (dk_at dksJ14_init_3_0 20 rfl rfl)
theorem dJ14_init_3_23 : decode cJ14_init_3 23 = .ok (.aload_n 0, 1) := dk_42 (dk_at dksJ14_init_3_0 23 rfl rfl)
theorem dJ14_init_3_24 : decode cJ14_init_3 24 = .ok (.invokevirtual 27, 3) := dk_182 0 27 (dk_at dksJ14_init_3_1 0 rfl rfl)
theorem dJ14_init_3_27 : decode cJ14_init_3 27 = .ok (.pop, 1) := dk_87 (dk_at dksJ14_init_3_1 3 rfl rfl)
theorem dJ14_init_3_28 : decode cJ14_init_3 28 = .ok (.aload_n 0, 1) := dk_42 (dk_at dksJ14_init_3_1 4 rfl rfl)
theorem dJ14_init_3_29 : decode cJ14_init_3 29 = .ok (.aload_n 1, 1) := dk_43 (dk_at dksJ14_init_3_1 5 rfl rfl)
theorem dJ14_init_3_30 : decode cJ14_init_3 30 = .ok (.ifnonnull 7, 3) := dk_199 0 7 (dk_at dksJ14_init_3_1 6 rfl rfl)
theorem dJ14_init_3_33 : decode cJ14_init_3 33 = .ok (.aconst_null, 1) := dk_1 (dk_at dksJ14_init_3_1 9 rfl rfl)
theorem dJ14_init_3_34 : decode cJ14_init_3 34 = .ok (.goto 7, 3) := dk_167 0 7 (dk_at dksJ14_init_3_1 10 rfl rfl)
theorem dJ14_init_3_37 : decode cJ14_init_3 37 = .ok (.aload_n 1, 1) := dk_43 (dk_at dksJ14_init_3_1 13 rfl rfl)
theorem dJ14_init_3_38 : decode cJ14_init_3 38 = .ok (.invokevirtual 35, 3) := dk_182 0 35 (dk_at dksJ14_init_3_1 14 rfl rfl)
theorem dJ14_init_3_41 : decode cJ14_init_3 41 = .ok (.putfield 31, 3) := dk_181 0 31 (dk_at dksJ14_init_3_1 17 rfl rfl)
theorem dJ14_init_3_44 : decode cJ14_init_3 44 = .ok (.aload_n 0, 1) := dk_42 (dk_at dksJ14_init_3_1 20 rfl rfl)
theorem dJ14_init_3_45 : decode cJ14_init_3 45 = .ok (.aload_n 1, 1) := dk_43 (dk_at dksJ14_init_3_1 21 rfl rfl)
theorem dJ14_init_3_46 : decode cJ14_init_3 46 = .ok (.putfield 7, 3) := dk_181 0 7 (dk_at dksJ14_init_3_2 0 rfl rfl)
theorem dJ14_init_3_49 : decode cJ14_init_3 49 = .ok (.return_, 1) := dk_177 (dk_at dksJ14_init_3_2 3 rfl rfl)
abbrev cJ14_toString : ByteArray := prog_44_method_11_code
def yJ14_toString : MethodName := ⟨RJ14, "toString", "()Ljava/lang/String;"⟩
def dkwJ14_toString_1 : List UInt8 := [43, 182, 0, 49, 18, 81, 182, 0, 49, 44, 182, 0, 49, 182, 0, 60, 167, 0, 4, 43, 176]
abbrev dktJ14_toString_1 : List UInt8 := dkwJ14_toString_1 ++ []
def dkwJ14_toString_0 : List UInt8 := [42, 182, 0, 69, 182, 0, 73, 76, 42, 182, 0, 78, 77, 44, 198, 0, 29, 187, 0, 44, 89, 183, 0, 46]
abbrev dktJ14_toString_0 : List UInt8 := dkwJ14_toString_0 ++ dktJ14_toString_1
theorem dksJ14_toString_0 : cJ14_toString.data.toList.drop 0 = dktJ14_toString_0 := by decide +kernel
theorem dksJ14_toString_1 : cJ14_toString.data.toList.drop 24 = dktJ14_toString_1 := dk_seg dksJ14_toString_0 24 rfl rfl
theorem dJ14_toString_0 : decode cJ14_toString 0 = .ok (.aload_n 0, 1) := dk_42 (dk_at dksJ14_toString_0 0 rfl rfl)
theorem dJ14_toString_1 : decode cJ14_toString 1 = .ok (.invokevirtual 69, 3) := dk_182 0 69 (dk_at dksJ14_toString_0 1 rfl rfl)
theorem dJ14_toString_4 : decode cJ14_toString 4 = .ok (.invokevirtual 73, 3) := dk_182 0 73 (dk_at dksJ14_toString_0 4 rfl rfl)
theorem dJ14_toString_7 : decode cJ14_toString 7 = .ok (.astore_n 1, 1) := dk_76 (dk_at dksJ14_toString_0 7 rfl rfl)
theorem dJ14_toString_8 : decode cJ14_toString 8 = .ok (.aload_n 0, 1) := dk_42 (dk_at dksJ14_toString_0 8 rfl rfl)
theorem dJ14_toString_9 : decode cJ14_toString 9 = .ok (.invokevirtual 78, 3) := dk_182 0 78 (dk_at dksJ14_toString_0 9 rfl rfl)
theorem dJ14_toString_12 : decode cJ14_toString 12 = .ok (.astore_n 2, 1) := dk_77 (dk_at dksJ14_toString_0 12 rfl rfl)
theorem dJ14_toString_13 : decode cJ14_toString 13 = .ok (.aload_n 2, 1) := dk_44 (dk_at dksJ14_toString_0 13 rfl rfl)
theorem dJ14_toString_14 : decode cJ14_toString 14 = .ok (.ifnull 29, 3) := dk_198 0 29 (dk_at dksJ14_toString_0 14 rfl rfl)
theorem dJ14_toString_17 : decode cJ14_toString 17 = .ok (.new 44, 3) := dk_187 0 44 (dk_at dksJ14_toString_0 17 rfl rfl)
theorem dJ14_toString_20 : decode cJ14_toString 20 = .ok (.dup, 1) := dk_89 (dk_at dksJ14_toString_0 20 rfl rfl)
theorem dJ14_toString_21 : decode cJ14_toString 21 = .ok (.invokespecial 46, 3) := dk_183 0 46 (dk_at dksJ14_toString_0 21 rfl rfl)
theorem dJ14_toString_24 : decode cJ14_toString 24 = .ok (.aload_n 1, 1) := dk_43 (dk_at dksJ14_toString_1 0 rfl rfl)
theorem dJ14_toString_25 : decode cJ14_toString 25 = .ok (.invokevirtual 49, 3) := dk_182 0 49 (dk_at dksJ14_toString_1 1 rfl rfl)
theorem dJ14_toString_28 : decode cJ14_toString 28 = .ok (.ldc 81, 2) := dk_18 81 (dk_at dksJ14_toString_1 4 rfl rfl)
theorem dJ14_toString_30 : decode cJ14_toString 30 = .ok (.invokevirtual 49, 3) := dk_182 0 49 (dk_at dksJ14_toString_1 6 rfl rfl)
theorem dJ14_toString_33 : decode cJ14_toString 33 = .ok (.aload_n 2, 1) := dk_44 (dk_at dksJ14_toString_1 9 rfl rfl)
theorem dJ14_toString_34 : decode cJ14_toString 34 = .ok (.invokevirtual 49, 3) := dk_182 0 49 (dk_at dksJ14_toString_1 10 rfl rfl)
theorem dJ14_toString_37 : decode cJ14_toString 37 = .ok (.invokevirtual 60, 3) := dk_182 0 60 (dk_at dksJ14_toString_1 13 rfl rfl)
theorem dJ14_toString_40 : decode cJ14_toString 40 = .ok (.goto 4, 3) := dk_167 0 4 (dk_at dksJ14_toString_1 16 rfl rfl)
theorem dJ14_toString_43 : decode cJ14_toString 43 = .ok (.aload_n 1, 1) := dk_43 (dk_at dksJ14_toString_1 19 rfl rfl)
theorem dJ14_toString_44 : decode cJ14_toString 44 = .ok (.areturn, 1) := dk_176 (dk_at dksJ14_toString_1 20 rfl rfl)
abbrev cJ14_getLocalizedMessage : ByteArray := prog_44_method_7_code
def yJ14_getLocalizedMessage : MethodName := ⟨RJ14, "getLocalizedMessage", "()Ljava/lang/String;"⟩
theorem dJ14_getLocalizedMessage_0 : decode cJ14_getLocalizedMessage 0 = .ok (.aload_n 0, 1) := by decide +kernel
theorem dJ14_getLocalizedMessage_1 : decode cJ14_getLocalizedMessage 1 = .ok (.invokevirtual 39, 3) := by decide +kernel
theorem dJ14_getLocalizedMessage_4 : decode cJ14_getLocalizedMessage 4 = .ok (.areturn, 1) := by decide +kernel
abbrev cJ14_getMessage : ByteArray := prog_44_method_6_code
def yJ14_getMessage : MethodName := ⟨RJ14, "getMessage", "()Ljava/lang/String;"⟩
theorem dJ14_getMessage_0 : decode cJ14_getMessage 0 = .ok (.aload_n 0, 1) := by decide +kernel
theorem dJ14_getMessage_1 : decode cJ14_getMessage 1 = .ok (.getfield 31, 3) := by decide +kernel
theorem dJ14_getMessage_4 : decode cJ14_getMessage 4 = .ok (.areturn, 1) := by decide +kernel
theorem q67 : (Jvm.Cond.initialized "java/lang/Throwable") ∈ lw_all := lw_g (lw_at lw_m1 19 rfl) rfl
theorem q449 : (Jvm.Cond.declares ({ cls := "java/lang/Throwable", name := "<init>", desc := "()V" } : Jvm.MethodName)) ∈ lw_tbl := lw_at lw_m2 161 rfl
theorem q450 : (Jvm.Cond.declares ({ cls := "java/lang/Throwable", name := "<init>", desc := "(Ljava/lang/String;)V" } : Jvm.MethodName)) ∈ lw_tbl := lw_at lw_m2 162 rfl
theorem q454 : (Jvm.Cond.lays "java/lang/Throwable" "java/lang/Throwable" "cause" "Ljava/lang/Throwable;") ∈ lw_all := lw_g (lw_at lw_m2 166 rfl) rfl
theorem q456 : (Jvm.Cond.lays "java/lang/Throwable" "java/lang/Throwable" "stackTrace" "[Ljava/lang/StackTraceElement;") ∈ lw_all := lw_g (lw_at lw_m2 168 rfl) rfl
theorem q458 : (Jvm.Cond.lays "java/lang/Throwable" "java/lang/Throwable" "suppressedExceptions" "Ljava/util/List;") ∈ lw_all := lw_g (lw_at lw_m2 170 rfl) rfl
theorem q460 : (Jvm.Cond.lays "java/lang/Throwable" "java/lang/Throwable" "detailMessage" "Ljava/lang/String;") ∈ lw_all := lw_g (lw_at lw_m2 172 rfl) rfl
theorem q462 : (Jvm.Cond.lays "java/lang/Throwable" "java/lang/Throwable" "backtrace" "Ljava/lang/Object;") ∈ lw_all := lw_g (lw_at lw_m2 174 rfl) rfl
theorem q463 : (Jvm.Cond.fieldLink "java/lang/Throwable" (198 : Nat) "java/lang/Throwable" "backtrace" "Ljava/lang/Object;") ∈ lw_all := lw_g (lw_at lw_m2 175 rfl) rfl
theorem q464 : (Jvm.Cond.superclass "java/lang/Throwable" "java/lang/Object") ∈ lw_all := lw_g (lw_at lw_m2 176 rfl) rfl
theorem q465 : (Jvm.Cond.instanceMethod ({ cls := "java/lang/Throwable", name := "<init>", desc := "()V" } : Jvm.MethodName)) ∈ lw_all := lw_g (lw_at lw_m2 177 rfl) rfl
theorem q466 : (Jvm.Cond.code ({ cls := "java/lang/Throwable", name := "<init>", desc := "()V" } : Jvm.MethodName) prog_44_method_1_code (1 : Nat) (Option.none : Option Jvm.ClassFile.FieldType)) ∈ lw_all := lw_g (lw_at lw_m2 178 rfl) rfl
theorem q467 : (Jvm.Cond.methodLink "java/lang/Throwable" (1 : Nat) ({ cls := "java/lang/Object", name := "<init>", desc := "()V" } : Jvm.MethodName)) ∈ lw_all := lw_g (lw_at lw_m2 179 rfl) rfl
theorem q468 : (Jvm.Cond.fieldLink "java/lang/Throwable" (13 : Nat) "java/lang/Throwable" "UNASSIGNED_STACK" "[Ljava/lang/StackTraceElement;") ∈ lw_all := lw_g (lw_at lw_m2 180 rfl) rfl
theorem q469 : (Jvm.Cond.laysStatic "java/lang/Throwable" "UNASSIGNED_STACK" "[Ljava/lang/StackTraceElement;") ∈ lw_tbl := lw_at lw_m2 181 rfl
theorem q470 : (Jvm.Cond.fieldLink "java/lang/Throwable" (20 : Nat) "java/lang/Throwable" "SUPPRESSED_SENTINEL" "Ljava/util/List;") ∈ lw_all := lw_g (lw_at lw_m2 182 rfl) rfl
theorem q471 : (Jvm.Cond.laysStatic "java/lang/Throwable" "SUPPRESSED_SENTINEL" "Ljava/util/List;") ∈ lw_tbl := lw_at lw_m2 183 rfl
theorem q472 : (Jvm.Cond.methodLink "java/lang/Throwable" (27 : Nat) ({ cls := "java/lang/Throwable", name := "fillInStackTrace", desc := "()Ljava/lang/Throwable;" } : Jvm.MethodName)) ∈ lw_all := lw_g (lw_at lw_m2 184 rfl) rfl
theorem q473 : (Jvm.Cond.instanceMethod ({ cls := "java/lang/Throwable", name := "fillInStackTrace", desc := "()Ljava/lang/Throwable;" } : Jvm.MethodName)) ∈ lw_all := lw_g (lw_at lw_m2 185 rfl) rfl
theorem q474 : (Jvm.Cond.sameMethod "java/lang/Throwable" "java/lang/Throwable" "fillInStackTrace" "()Ljava/lang/Throwable;") ∈ lw_all := lw_g (lw_at lw_m2 186 rfl) rfl
theorem q479 : (Jvm.Cond.codeSync ({ cls := "java/lang/Throwable", name := "fillInStackTrace", desc := "()Ljava/lang/Throwable;" } : Jvm.MethodName) prog_44_method_18_code (1 : Nat) (Option.some (Jvm.ClassFile.FieldType.object "java/lang/Throwable"))) ∈ lw_all := lw_g (lw_at lw_m2 191 rfl) rfl
theorem q480 : (Jvm.Cond.methodLink "java/lang/Throwable" (202 : Nat) ({ cls := "java/lang/Throwable", name := "fillInStackTrace", desc := "(I)Ljava/lang/Throwable;" } : Jvm.MethodName)) ∈ lw_all := lw_g (lw_at lw_m2 192 rfl) rfl
theorem q481 : (Jvm.Cond.privateMethod ({ cls := "java/lang/Throwable", name := "fillInStackTrace", desc := "(I)Ljava/lang/Throwable;" } : Jvm.MethodName)) ∈ lw_tbl := lw_at lw_m2 193 rfl
theorem q482 : (Jvm.Cond.instanceMethod ({ cls := "java/lang/Throwable", name := "fillInStackTrace", desc := "(I)Ljava/lang/Throwable;" } : Jvm.MethodName)) ∈ lw_all := lw_g (lw_at lw_m2 194 rfl) rfl
theorem q483 : (Jvm.Cond.instantiable "java/lang/Throwable" (6 : Nat)) ∈ lw_all := lw_g (lw_at lw_m2 195 rfl) rfl
theorem q484 : (Jvm.Cond.native ({ cls := "java/lang/Throwable", name := "fillInStackTrace", desc := "(I)Ljava/lang/Throwable;" } : Jvm.MethodName)) ∈ lw_all := lw_g (lw_at lw_m2 196 rfl) rfl
theorem q690 : (Jvm.Cond.instanceMethod ({ cls := "java/lang/Throwable", name := "<init>", desc := "(Ljava/lang/String;)V" } : Jvm.MethodName)) ∈ lw_all := lw_g (lw_at lw_m3 162 rfl) rfl
theorem q691 : (Jvm.Cond.code ({ cls := "java/lang/Throwable", name := "<init>", desc := "(Ljava/lang/String;)V" } : Jvm.MethodName) prog_44_method_2_code (2 : Nat) (Option.none : Option Jvm.ClassFile.FieldType)) ∈ lw_all := lw_g (lw_at lw_m3 163 rfl) rfl
theorem q692 : (Jvm.Cond.fieldLink "java/lang/Throwable" (198 : Nat) "java/lang/Throwable" "backtrace" "Ljava/lang/Object;") ∈ lw_all := lw_g (lw_at lw_m3 164 rfl) rfl
theorem q693 : (Jvm.Cond.fieldLink "java/lang/Throwable" (31 : Nat) "java/lang/Throwable" "detailMessage" "Ljava/lang/String;") ∈ lw_all := lw_g (lw_at lw_m3 165 rfl) rfl
theorem q694 : (Jvm.Cond.fieldLink "java/lang/Throwable" (7 : Nat) "java/lang/Throwable" "cause" "Ljava/lang/Throwable;") ∈ lw_all := lw_g (lw_at lw_m3 166 rfl) rfl
theorem q695 : (Jvm.Cond.fieldLink "java/lang/Throwable" (17 : Nat) "java/lang/Throwable" "stackTrace" "[Ljava/lang/StackTraceElement;") ∈ lw_all := lw_g (lw_at lw_m3 167 rfl) rfl
theorem q696 : (Jvm.Cond.fieldLink "java/lang/Throwable" (24 : Nat) "java/lang/Throwable" "suppressedExceptions" "Ljava/util/List;") ∈ lw_all := lw_g (lw_at lw_m3 168 rfl) rfl
theorem q697 : (Jvm.Cond.soleField "java/lang/Throwable" "backtrace") ∈ lw_all := lw_g (lw_at lw_m3 169 rfl) rfl
theorem q698 : (Jvm.Cond.soleField "java/lang/Throwable" "detailMessage") ∈ lw_all := lw_g (lw_at lw_m3 170 rfl) rfl
theorem q699 : (Jvm.Cond.soleField "java/lang/Throwable" "cause") ∈ lw_all := lw_g (lw_at lw_m3 171 rfl) rfl
theorem q700 : (Jvm.Cond.soleField "java/lang/Throwable" "stackTrace") ∈ lw_all := lw_g (lw_at lw_m3 172 rfl) rfl
theorem q702 : (Jvm.Cond.soleField "java/lang/Throwable" "depth") ∈ lw_all := lw_g (lw_at lw_m3 174 rfl) rfl
theorem q703 : (Jvm.Cond.soleField "java/lang/Throwable" "suppressedExceptions") ∈ lw_all := lw_g (lw_at lw_m3 175 rfl) rfl
theorem q1584 : (Jvm.Cond.instanceMethod ({ cls := "java/lang/Throwable", name := "<init>", desc := "(Ljava/lang/Throwable;)V" } : Jvm.MethodName)) ∈ lw_all := lw_g (lw_at lw_m7 96 rfl) rfl
theorem q1585 : (Jvm.Cond.code ({ cls := "java/lang/Throwable", name := "<init>", desc := "(Ljava/lang/Throwable;)V" } : Jvm.MethodName) prog_44_method_4_code (2 : Nat) (Option.none : Option Jvm.ClassFile.FieldType)) ∈ lw_all := lw_g (lw_at lw_m7 97 rfl) rfl
theorem q1586 : (Jvm.Cond.methodLink "java/lang/Throwable" (35 : Nat) ({ cls := "java/lang/Throwable", name := "toString", desc := "()Ljava/lang/String;" } : Jvm.MethodName)) ∈ lw_all := lw_g (lw_at lw_m7 98 rfl) rfl
theorem q1587 : (Jvm.Cond.instanceMethod ({ cls := "java/lang/Throwable", name := "toString", desc := "()Ljava/lang/String;" } : Jvm.MethodName)) ∈ lw_all := lw_g (lw_at lw_m7 99 rfl) rfl
theorem q1588 : (Jvm.Cond.sameMethod "java/lang/Throwable" "java/lang/Throwable" "toString" "()Ljava/lang/String;") ∈ lw_all := lw_g (lw_at lw_m7 100 rfl) rfl
theorem q1594 : (Jvm.Cond.code ({ cls := "java/lang/Throwable", name := "toString", desc := "()Ljava/lang/String;" } : Jvm.MethodName) prog_44_method_11_code (3 : Nat) (Option.some (Jvm.ClassFile.FieldType.object "java/lang/String"))) ∈ lw_all := lw_g (lw_at lw_m7 106 rfl) rfl
theorem q1595 : (Jvm.Cond.methodLink "java/lang/Throwable" (69 : Nat) ({ cls := "java/lang/Object", name := "getClass", desc := "()Ljava/lang/Class;" } : Jvm.MethodName)) ∈ lw_all := lw_g (lw_at lw_m7 107 rfl) rfl
theorem q1596 : (Jvm.Cond.methodLink "java/lang/Throwable" (78 : Nat) ({ cls := "java/lang/Throwable", name := "getLocalizedMessage", desc := "()Ljava/lang/String;" } : Jvm.MethodName)) ∈ lw_all := lw_g (lw_at lw_m7 108 rfl) rfl
theorem q1597 : (Jvm.Cond.instanceMethod ({ cls := "java/lang/Throwable", name := "getLocalizedMessage", desc := "()Ljava/lang/String;" } : Jvm.MethodName)) ∈ lw_all := lw_g (lw_at lw_m7 109 rfl) rfl
theorem q1598 : (Jvm.Cond.sameMethod "java/lang/Throwable" "java/lang/Throwable" "getLocalizedMessage" "()Ljava/lang/String;") ∈ lw_all := lw_g (lw_at lw_m7 110 rfl) rfl
theorem q1604 : (Jvm.Cond.code ({ cls := "java/lang/Throwable", name := "getLocalizedMessage", desc := "()Ljava/lang/String;" } : Jvm.MethodName) prog_44_method_7_code (1 : Nat) (Option.some (Jvm.ClassFile.FieldType.object "java/lang/String"))) ∈ lw_all := lw_g (lw_at lw_m7 116 rfl) rfl
theorem q1605 : (Jvm.Cond.methodLink "java/lang/Throwable" (39 : Nat) ({ cls := "java/lang/Throwable", name := "getMessage", desc := "()Ljava/lang/String;" } : Jvm.MethodName)) ∈ lw_all := lw_g (lw_at lw_m7 117 rfl) rfl
theorem q1606 : (Jvm.Cond.instanceMethod ({ cls := "java/lang/Throwable", name := "getMessage", desc := "()Ljava/lang/String;" } : Jvm.MethodName)) ∈ lw_all := lw_g (lw_at lw_m7 118 rfl) rfl
theorem q1607 : (Jvm.Cond.sameMethod "java/lang/Throwable" "java/lang/Throwable" "getMessage" "()Ljava/lang/String;") ∈ lw_all := lw_g (lw_at lw_m7 119 rfl) rfl
theorem q1613 : (Jvm.Cond.code ({ cls := "java/lang/Throwable", name := "getMessage", desc := "()Ljava/lang/String;" } : Jvm.MethodName) prog_44_method_6_code (1 : Nat) (Option.some (Jvm.ClassFile.FieldType.object "java/lang/String"))) ∈ lw_all := lw_g (lw_at lw_m7 125 rfl) rfl
theorem q1614 : (Jvm.Cond.classLink "java/lang/Throwable" (44 : Nat) "java/lang/StringBuilder") ∈ lw_all := lw_g (lw_at lw_m7 126 rfl) rfl
theorem q1615 : (Jvm.Cond.methodLink "java/lang/Throwable" (46 : Nat) ({ cls := "java/lang/StringBuilder", name := "<init>", desc := "()V" } : Jvm.MethodName)) ∈ lw_all := lw_g (lw_at lw_m7 127 rfl) rfl
theorem q1616 : (Jvm.Cond.methodLink "java/lang/Throwable" (49 : Nat) ({ cls := "java/lang/StringBuilder", name := "append", desc := "(Ljava/lang/String;)Ljava/lang/StringBuilder;" } : Jvm.MethodName)) ∈ lw_all := lw_g (lw_at lw_m7 128 rfl) rfl
theorem q1617 : (Jvm.Cond.stringRef "java/lang/Throwable" (81 : Nat) ": ") ∈ lw_tbl := lw_at lw_m7 129 rfl
theorem q1618 : (Jvm.Cond.methodLink "java/lang/Throwable" (60 : Nat) ({ cls := "java/lang/StringBuilder", name := "toString", desc := "()Ljava/lang/String;" } : Jvm.MethodName)) ∈ lw_all := lw_g (lw_at lw_m7 130 rfl) rfl
theorem q2664 : (Jvm.Cond.sameMethod "java/lang/Throwable" "java/lang/Throwable" "fillInStackTrace" "(I)Ljava/lang/Throwable;") ∈ lw_all := lw_g (lw_at lw_m11 216 rfl) rfl
theorem q2731 : (Jvm.Cond.castable "java/lang/Throwable" "java/lang/Object") ∈ lw_tbl := lw_at lw_m12 43 rfl
theorem in_J14 : ∀ w ∈ wsJ140, w ∈ lw_all := lw_in wsJ140 [454, 456, 458, 460, 462] (by decide +kernel) (by decide +kernel)

/-! java/lang/Exception -/
set_option maxRecDepth 100000
def RJ15 : String := "java/lang/Exception"
abbrev cJ15_init : ByteArray := prog_28_method_2_code
def yJ15_init : MethodName := ⟨RJ15, "<init>", "(Ljava/lang/String;)V"⟩
def dkwJ15_init_0 : List UInt8 := [42, 43, 183, 0, 7, 177]
abbrev dktJ15_init_0 : List UInt8 := dkwJ15_init_0 ++ []
theorem dksJ15_init_0 : cJ15_init.data.toList.drop 0 = dktJ15_init_0 := by decide +kernel
theorem dJ15_init_0 : decode cJ15_init 0 = .ok (.aload_n 0, 1) := dk_42 (dk_at dksJ15_init_0 0 rfl rfl)
theorem dJ15_init_1 : decode cJ15_init 1 = .ok (.aload_n 1, 1) := dk_43 (dk_at dksJ15_init_0 1 rfl rfl)
theorem dJ15_init_2 : decode cJ15_init 2 = .ok (.invokespecial 7, 3) := dk_183 0 7 (dk_at dksJ15_init_0 2 rfl rfl)
theorem dJ15_init_5 : decode cJ15_init 5 = .ok (.return_, 1) := dk_177 (dk_at dksJ15_init_0 5 rfl rfl)
abbrev cJ15_init_2 : ByteArray := prog_28_method_1_code
def yJ15_init_2 : MethodName := ⟨RJ15, "<init>", "()V"⟩
theorem dJ15_init_2_0 : decode cJ15_init_2 0 = .ok (.aload_n 0, 1) := by decide +kernel
theorem dJ15_init_2_1 : decode cJ15_init_2 1 = .ok (.invokespecial 1, 3) := by decide +kernel
theorem dJ15_init_2_4 : decode cJ15_init_2 4 = .ok (.return_, 1) := by decide +kernel
abbrev cJ15_init_3 : ByteArray := prog_28_method_4_code
def yJ15_init_3 : MethodName := ⟨RJ15, "<init>", "(Ljava/lang/Throwable;)V"⟩
def dkwJ15_init_3_0 : List UInt8 := [42, 43, 183, 0, 13, 177]
abbrev dktJ15_init_3_0 : List UInt8 := dkwJ15_init_3_0 ++ []
theorem dksJ15_init_3_0 : cJ15_init_3.data.toList.drop 0 = dktJ15_init_3_0 := by decide +kernel
theorem dJ15_init_3_0 : decode cJ15_init_3 0 = .ok (.aload_n 0, 1) := dk_42 (dk_at dksJ15_init_3_0 0 rfl rfl)
theorem dJ15_init_3_1 : decode cJ15_init_3 1 = .ok (.aload_n 1, 1) := dk_43 (dk_at dksJ15_init_3_0 1 rfl rfl)
theorem dJ15_init_3_2 : decode cJ15_init_3 2 = .ok (.invokespecial 13, 3) := dk_183 0 13 (dk_at dksJ15_init_3_0 2 rfl rfl)
theorem dJ15_init_3_5 : decode cJ15_init_3 5 = .ok (.return_, 1) := dk_177 (dk_at dksJ15_init_3_0 5 rfl rfl)
theorem q68 : (Jvm.Cond.initialized "java/lang/Exception") ∈ lw_all := lw_g (lw_at lw_m1 20 rfl) rfl
theorem q447 : (Jvm.Cond.declares ({ cls := "java/lang/Exception", name := "<init>", desc := "()V" } : Jvm.MethodName)) ∈ lw_tbl := lw_at lw_m2 159 rfl
theorem q448 : (Jvm.Cond.declares ({ cls := "java/lang/Exception", name := "<init>", desc := "(Ljava/lang/String;)V" } : Jvm.MethodName)) ∈ lw_tbl := lw_at lw_m2 160 rfl
theorem q687 : (Jvm.Cond.instanceMethod ({ cls := "java/lang/Exception", name := "<init>", desc := "(Ljava/lang/String;)V" } : Jvm.MethodName)) ∈ lw_all := lw_g (lw_at lw_m3 159 rfl) rfl
theorem q688 : (Jvm.Cond.code ({ cls := "java/lang/Exception", name := "<init>", desc := "(Ljava/lang/String;)V" } : Jvm.MethodName) prog_28_method_2_code (2 : Nat) (Option.none : Option Jvm.ClassFile.FieldType)) ∈ lw_all := lw_g (lw_at lw_m3 160 rfl) rfl
theorem q689 : (Jvm.Cond.methodLink "java/lang/Exception" (7 : Nat) ({ cls := "java/lang/Throwable", name := "<init>", desc := "(Ljava/lang/String;)V" } : Jvm.MethodName)) ∈ lw_all := lw_g (lw_at lw_m3 161 rfl) rfl
theorem q1271 : (Jvm.Cond.instanceMethod ({ cls := "java/lang/Exception", name := "<init>", desc := "()V" } : Jvm.MethodName)) ∈ lw_all := lw_g (lw_at lw_m6 23 rfl) rfl
theorem q1272 : (Jvm.Cond.code ({ cls := "java/lang/Exception", name := "<init>", desc := "()V" } : Jvm.MethodName) prog_28_method_1_code (1 : Nat) (Option.none : Option Jvm.ClassFile.FieldType)) ∈ lw_all := lw_g (lw_at lw_m6 24 rfl) rfl
theorem q1273 : (Jvm.Cond.methodLink "java/lang/Exception" (1 : Nat) ({ cls := "java/lang/Throwable", name := "<init>", desc := "()V" } : Jvm.MethodName)) ∈ lw_all := lw_g (lw_at lw_m6 25 rfl) rfl
theorem q1581 : (Jvm.Cond.instanceMethod ({ cls := "java/lang/Exception", name := "<init>", desc := "(Ljava/lang/Throwable;)V" } : Jvm.MethodName)) ∈ lw_all := lw_g (lw_at lw_m7 93 rfl) rfl
theorem q1582 : (Jvm.Cond.code ({ cls := "java/lang/Exception", name := "<init>", desc := "(Ljava/lang/Throwable;)V" } : Jvm.MethodName) prog_28_method_4_code (2 : Nat) (Option.none : Option Jvm.ClassFile.FieldType)) ∈ lw_all := lw_g (lw_at lw_m7 94 rfl) rfl
theorem q1583 : (Jvm.Cond.methodLink "java/lang/Exception" (13 : Nat) ({ cls := "java/lang/Throwable", name := "<init>", desc := "(Ljava/lang/Throwable;)V" } : Jvm.MethodName)) ∈ lw_all := lw_g (lw_at lw_m7 95 rfl) rfl

/-! java/lang/RuntimeException -/
set_option maxRecDepth 100000
def RJ16 : String := "java/lang/RuntimeException"
abbrev cJ16_init : ByteArray := prog_37_method_2_code
def yJ16_init : MethodName := ⟨RJ16, "<init>", "(Ljava/lang/String;)V"⟩
def dkwJ16_init_0 : List UInt8 := [42, 43, 183, 0, 7, 177]
abbrev dktJ16_init_0 : List UInt8 := dkwJ16_init_0 ++ []
theorem dksJ16_init_0 : cJ16_init.data.toList.drop 0 = dktJ16_init_0 := by decide +kernel
theorem dJ16_init_0 : decode cJ16_init 0 = .ok (.aload_n 0, 1) := dk_42 (dk_at dksJ16_init_0 0 rfl rfl)
theorem dJ16_init_1 : decode cJ16_init 1 = .ok (.aload_n 1, 1) := dk_43 (dk_at dksJ16_init_0 1 rfl rfl)
theorem dJ16_init_2 : decode cJ16_init 2 = .ok (.invokespecial 7, 3) := dk_183 0 7 (dk_at dksJ16_init_0 2 rfl rfl)
theorem dJ16_init_5 : decode cJ16_init 5 = .ok (.return_, 1) := dk_177 (dk_at dksJ16_init_0 5 rfl rfl)
abbrev cJ16_init_2 : ByteArray := prog_37_method_1_code
def yJ16_init_2 : MethodName := ⟨RJ16, "<init>", "()V"⟩
theorem dJ16_init_2_0 : decode cJ16_init_2 0 = .ok (.aload_n 0, 1) := by decide +kernel
theorem dJ16_init_2_1 : decode cJ16_init_2 1 = .ok (.invokespecial 1, 3) := by decide +kernel
theorem dJ16_init_2_4 : decode cJ16_init_2 4 = .ok (.return_, 1) := by decide +kernel
abbrev cJ16_init_3 : ByteArray := prog_37_method_4_code
def yJ16_init_3 : MethodName := ⟨RJ16, "<init>", "(Ljava/lang/Throwable;)V"⟩
def dkwJ16_init_3_0 : List UInt8 := [42, 43, 183, 0, 13, 177]
abbrev dktJ16_init_3_0 : List UInt8 := dkwJ16_init_3_0 ++ []
theorem dksJ16_init_3_0 : cJ16_init_3.data.toList.drop 0 = dktJ16_init_3_0 := by decide +kernel
theorem dJ16_init_3_0 : decode cJ16_init_3 0 = .ok (.aload_n 0, 1) := dk_42 (dk_at dksJ16_init_3_0 0 rfl rfl)
theorem dJ16_init_3_1 : decode cJ16_init_3 1 = .ok (.aload_n 1, 1) := dk_43 (dk_at dksJ16_init_3_0 1 rfl rfl)
theorem dJ16_init_3_2 : decode cJ16_init_3 2 = .ok (.invokespecial 13, 3) := dk_183 0 13 (dk_at dksJ16_init_3_0 2 rfl rfl)
theorem dJ16_init_3_5 : decode cJ16_init_3 5 = .ok (.return_, 1) := dk_177 (dk_at dksJ16_init_3_0 5 rfl rfl)
theorem q69 : (Jvm.Cond.initialized "java/lang/RuntimeException") ∈ lw_all := lw_g (lw_at lw_m1 21 rfl) rfl
theorem q445 : (Jvm.Cond.declares ({ cls := "java/lang/RuntimeException", name := "<init>", desc := "()V" } : Jvm.MethodName)) ∈ lw_tbl := lw_at lw_m2 157 rfl
theorem q446 : (Jvm.Cond.declares ({ cls := "java/lang/RuntimeException", name := "<init>", desc := "(Ljava/lang/String;)V" } : Jvm.MethodName)) ∈ lw_tbl := lw_at lw_m2 158 rfl
theorem q684 : (Jvm.Cond.instanceMethod ({ cls := "java/lang/RuntimeException", name := "<init>", desc := "(Ljava/lang/String;)V" } : Jvm.MethodName)) ∈ lw_all := lw_g (lw_at lw_m3 156 rfl) rfl
theorem q685 : (Jvm.Cond.code ({ cls := "java/lang/RuntimeException", name := "<init>", desc := "(Ljava/lang/String;)V" } : Jvm.MethodName) prog_37_method_2_code (2 : Nat) (Option.none : Option Jvm.ClassFile.FieldType)) ∈ lw_all := lw_g (lw_at lw_m3 157 rfl) rfl
theorem q686 : (Jvm.Cond.methodLink "java/lang/RuntimeException" (7 : Nat) ({ cls := "java/lang/Exception", name := "<init>", desc := "(Ljava/lang/String;)V" } : Jvm.MethodName)) ∈ lw_all := lw_g (lw_at lw_m3 158 rfl) rfl
theorem q1268 : (Jvm.Cond.instanceMethod ({ cls := "java/lang/RuntimeException", name := "<init>", desc := "()V" } : Jvm.MethodName)) ∈ lw_all := lw_g (lw_at lw_m6 20 rfl) rfl
theorem q1269 : (Jvm.Cond.code ({ cls := "java/lang/RuntimeException", name := "<init>", desc := "()V" } : Jvm.MethodName) prog_37_method_1_code (1 : Nat) (Option.none : Option Jvm.ClassFile.FieldType)) ∈ lw_all := lw_g (lw_at lw_m6 21 rfl) rfl
theorem q1270 : (Jvm.Cond.methodLink "java/lang/RuntimeException" (1 : Nat) ({ cls := "java/lang/Exception", name := "<init>", desc := "()V" } : Jvm.MethodName)) ∈ lw_all := lw_g (lw_at lw_m6 22 rfl) rfl
theorem q1578 : (Jvm.Cond.instanceMethod ({ cls := "java/lang/RuntimeException", name := "<init>", desc := "(Ljava/lang/Throwable;)V" } : Jvm.MethodName)) ∈ lw_all := lw_g (lw_at lw_m7 90 rfl) rfl
theorem q1579 : (Jvm.Cond.code ({ cls := "java/lang/RuntimeException", name := "<init>", desc := "(Ljava/lang/Throwable;)V" } : Jvm.MethodName) prog_37_method_4_code (2 : Nat) (Option.none : Option Jvm.ClassFile.FieldType)) ∈ lw_all := lw_g (lw_at lw_m7 91 rfl) rfl
theorem q1580 : (Jvm.Cond.methodLink "java/lang/RuntimeException" (13 : Nat) ({ cls := "java/lang/Exception", name := "<init>", desc := "(Ljava/lang/Throwable;)V" } : Jvm.MethodName)) ∈ lw_all := lw_g (lw_at lw_m7 92 rfl) rfl

/-! java/lang/IllegalArgumentException -/
set_option maxRecDepth 100000
def RJ17 : String := "java/lang/IllegalArgumentException"
def TJ17 : u_T := fun k => match k with
  | 0 => ("java/lang/Throwable", "cause", "Ljava/lang/Throwable;", false)
  | 1 => ("java/lang/Throwable", "stackTrace", "[Ljava/lang/StackTraceElement;", false)
  | 2 => ("java/lang/Throwable", "suppressedExceptions", "Ljava/util/List;", false)
  | 3 => ("java/lang/Throwable", "detailMessage", "Ljava/lang/String;", false)
  | 4 => ("java/lang/Throwable", "backtrace", "Ljava/lang/Object;", false)
  | _ => ("java/lang/Throwable", "depth", "I", false)
def tyJ17 : Nat → FieldType := fun k => match k with
  | 0 => .object "java/lang/Throwable"
  | 1 => .array (.object "java/lang/StackTraceElement")
  | 2 => .object "java/util/List"
  | 3 => .object "java/lang/String"
  | 4 => .object "java/lang/Object"
  | _ => .int
abbrev wsJ170 : List Cond := u_ws RJ17 TJ17 6
theorem nmJ17 : ∀ a, a < 6 → ∀ b, b < 6 → a ≠ b → (TJ17 a).2.1 ≠ (TJ17 b).2.1 := by decide +kernel
theorem tyJ17_ok : ∀ k, k < 6 → parseFieldDescriptor (TJ17 k).2.2.1 = some (tyJ17 k) := by decide +kernel
abbrev cJ17_init : ByteArray := prog_29_method_2_code
def yJ17_init : MethodName := ⟨RJ17, "<init>", "(Ljava/lang/String;)V"⟩
def dkwJ17_init_0 : List UInt8 := [42, 43, 183, 0, 7, 177]
abbrev dktJ17_init_0 : List UInt8 := dkwJ17_init_0 ++ []
theorem dksJ17_init_0 : cJ17_init.data.toList.drop 0 = dktJ17_init_0 := by decide +kernel
theorem dJ17_init_0 : decode cJ17_init 0 = .ok (.aload_n 0, 1) := dk_42 (dk_at dksJ17_init_0 0 rfl rfl)
theorem dJ17_init_1 : decode cJ17_init 1 = .ok (.aload_n 1, 1) := dk_43 (dk_at dksJ17_init_0 1 rfl rfl)
theorem dJ17_init_2 : decode cJ17_init 2 = .ok (.invokespecial 7, 3) := dk_183 0 7 (dk_at dksJ17_init_0 2 rfl rfl)
theorem dJ17_init_5 : decode cJ17_init 5 = .ok (.return_, 1) := dk_177 (dk_at dksJ17_init_0 5 rfl rfl)
abbrev cJ17_init_2 : ByteArray := prog_29_method_1_code
def yJ17_init_2 : MethodName := ⟨RJ17, "<init>", "()V"⟩
theorem dJ17_init_2_0 : decode cJ17_init_2 0 = .ok (.aload_n 0, 1) := by decide +kernel
theorem dJ17_init_2_1 : decode cJ17_init_2 1 = .ok (.invokespecial 1, 3) := by decide +kernel
theorem dJ17_init_2_4 : decode cJ17_init_2 4 = .ok (.return_, 1) := by decide +kernel
theorem q70 : (Jvm.Cond.initialized "java/lang/IllegalArgumentException") ∈ lw_all := lw_g (lw_at lw_m1 22 rfl) rfl
theorem q272 : (Jvm.Cond.selects "java/lang/IllegalArgumentException" ({ cls := "java/lang/Object", name := "getClass", desc := "()Ljava/lang/Class;" } : Jvm.MethodName) ({ cls := "java/lang/Object", name := "getClass", desc := "()Ljava/lang/Class;" } : Jvm.MethodName)) ∈ lw_all := lw_g (lw_at lw_m1 224 rfl) rfl
theorem q378 : (Jvm.Cond.selects "java/lang/IllegalArgumentException" ({ cls := "java/lang/Object", name := "hashCode", desc := "()I" } : Jvm.MethodName) ({ cls := "java/lang/Object", name := "hashCode", desc := "()I" } : Jvm.MethodName)) ∈ lw_all := lw_g (lw_at lw_m2 90 rfl) rfl
theorem q443 : (Jvm.Cond.instantiable "java/lang/IllegalArgumentException" (6 : Nat)) ∈ lw_all := lw_g (lw_at lw_m2 155 rfl) rfl
theorem q444 : (Jvm.Cond.castable "java/lang/IllegalArgumentException" "java/lang/IllegalArgumentException") ∈ lw_tbl := lw_at lw_m2 156 rfl
theorem q451 : (Jvm.Cond.selects "java/lang/IllegalArgumentException" ({ cls := "java/lang/Throwable", name := "fillInStackTrace", desc := "(I)Ljava/lang/Throwable;" } : Jvm.MethodName) ({ cls := "java/lang/Throwable", name := "fillInStackTrace", desc := "(I)Ljava/lang/Throwable;" } : Jvm.MethodName)) ∈ lw_all := lw_g (lw_at lw_m2 163 rfl) rfl
theorem q452 : (Jvm.Cond.selects "java/lang/IllegalArgumentException" ({ cls := "java/lang/Throwable", name := "fillInStackTrace", desc := "()Ljava/lang/Throwable;" } : Jvm.MethodName) ({ cls := "java/lang/Throwable", name := "fillInStackTrace", desc := "()Ljava/lang/Throwable;" } : Jvm.MethodName)) ∈ lw_all := lw_g (lw_at lw_m2 164 rfl) rfl
theorem q453 : (Jvm.Cond.lays "java/lang/IllegalArgumentException" "java/lang/Throwable" "cause" "Ljava/lang/Throwable;") ∈ lw_all := lw_g (lw_at lw_m2 165 rfl) rfl
theorem q455 : (Jvm.Cond.lays "java/lang/IllegalArgumentException" "java/lang/Throwable" "stackTrace" "[Ljava/lang/StackTraceElement;") ∈ lw_all := lw_g (lw_at lw_m2 167 rfl) rfl
theorem q457 : (Jvm.Cond.lays "java/lang/IllegalArgumentException" "java/lang/Throwable" "suppressedExceptions" "Ljava/util/List;") ∈ lw_all := lw_g (lw_at lw_m2 169 rfl) rfl
theorem q459 : (Jvm.Cond.lays "java/lang/IllegalArgumentException" "java/lang/Throwable" "detailMessage" "Ljava/lang/String;") ∈ lw_all := lw_g (lw_at lw_m2 171 rfl) rfl
theorem q461 : (Jvm.Cond.lays "java/lang/IllegalArgumentException" "java/lang/Throwable" "backtrace" "Ljava/lang/Object;") ∈ lw_all := lw_g (lw_at lw_m2 173 rfl) rfl
theorem q681 : (Jvm.Cond.instanceMethod ({ cls := "java/lang/IllegalArgumentException", name := "<init>", desc := "(Ljava/lang/String;)V" } : Jvm.MethodName)) ∈ lw_all := lw_g (lw_at lw_m3 153 rfl) rfl
theorem q682 : (Jvm.Cond.code ({ cls := "java/lang/IllegalArgumentException", name := "<init>", desc := "(Ljava/lang/String;)V" } : Jvm.MethodName) prog_29_method_2_code (2 : Nat) (Option.none : Option Jvm.ClassFile.FieldType)) ∈ lw_all := lw_g (lw_at lw_m3 154 rfl) rfl
theorem q683 : (Jvm.Cond.methodLink "java/lang/IllegalArgumentException" (7 : Nat) ({ cls := "java/lang/RuntimeException", name := "<init>", desc := "(Ljava/lang/String;)V" } : Jvm.MethodName)) ∈ lw_all := lw_g (lw_at lw_m3 155 rfl) rfl
theorem q701 : (Jvm.Cond.lays "java/lang/IllegalArgumentException" "java/lang/Throwable" "depth" "I") ∈ lw_all := lw_g (lw_at lw_m3 173 rfl) rfl
theorem q704 : (Jvm.Cond.superclass "java/lang/IllegalArgumentException" "java/lang/RuntimeException") ∈ lw_all := lw_g (lw_at lw_m3 176 rfl) rfl
theorem q1102 : (Jvm.Cond.selects "java/lang/IllegalArgumentException" ({ cls := "java/lang/Object", name := "equals", desc := "(Ljava/lang/Object;)Z" } : Jvm.MethodName) ({ cls := "java/lang/Object", name := "equals", desc := "(Ljava/lang/Object;)Z" } : Jvm.MethodName)) ∈ lw_all := lw_g (lw_at lw_m5 94 rfl) rfl
theorem q1265 : (Jvm.Cond.instanceMethod ({ cls := "java/lang/IllegalArgumentException", name := "<init>", desc := "()V" } : Jvm.MethodName)) ∈ lw_all := lw_g (lw_at lw_m6 17 rfl) rfl
theorem q1266 : (Jvm.Cond.code ({ cls := "java/lang/IllegalArgumentException", name := "<init>", desc := "()V" } : Jvm.MethodName) prog_29_method_1_code (1 : Nat) (Option.none : Option Jvm.ClassFile.FieldType)) ∈ lw_all := lw_g (lw_at lw_m6 18 rfl) rfl
theorem q1267 : (Jvm.Cond.methodLink "java/lang/IllegalArgumentException" (1 : Nat) ({ cls := "java/lang/RuntimeException", name := "<init>", desc := "()V" } : Jvm.MethodName)) ∈ lw_all := lw_g (lw_at lw_m6 19 rfl) rfl
theorem q1590 : (Jvm.Cond.selects "java/lang/IllegalArgumentException" ({ cls := "java/lang/Throwable", name := "toString", desc := "()Ljava/lang/String;" } : Jvm.MethodName) ({ cls := "java/lang/Throwable", name := "toString", desc := "()Ljava/lang/String;" } : Jvm.MethodName)) ∈ lw_all := lw_g (lw_at lw_m7 102 rfl) rfl
theorem q1600 : (Jvm.Cond.selects "java/lang/IllegalArgumentException" ({ cls := "java/lang/Throwable", name := "getLocalizedMessage", desc := "()Ljava/lang/String;" } : Jvm.MethodName) ({ cls := "java/lang/Throwable", name := "getLocalizedMessage", desc := "()Ljava/lang/String;" } : Jvm.MethodName)) ∈ lw_all := lw_g (lw_at lw_m7 112 rfl) rfl
theorem q1609 : (Jvm.Cond.selects "java/lang/IllegalArgumentException" ({ cls := "java/lang/Throwable", name := "getMessage", desc := "()Ljava/lang/String;" } : Jvm.MethodName) ({ cls := "java/lang/Throwable", name := "getMessage", desc := "()Ljava/lang/String;" } : Jvm.MethodName)) ∈ lw_all := lw_g (lw_at lw_m7 121 rfl) rfl
theorem q2702 : (Jvm.Cond.castable "java/lang/IllegalArgumentException" "java/lang/Object") ∈ lw_tbl := lw_at lw_m12 14 rfl
theorem in_J17 : ∀ w ∈ wsJ170, w ∈ lw_all := lw_in wsJ170 [453, 455, 457, 459, 461, 701] (by decide +kernel) (by decide +kernel)

/-! java/util/HashMap$Node -/
set_option maxRecDepth 100000
def RJ22 : String := "java/util/HashMap$Node"
abbrev cJ22_init : ByteArray := prog_62_method_1_code
def yJ22_init : MethodName := ⟨RJ22, "<init>", "(ILjava/lang/Object;Ljava/lang/Object;Ljava/util/HashMap$Node;)V"⟩
def dkwJ22_init_1 : List UInt8 := [181, 0, 20, 177]
abbrev dktJ22_init_1 : List UInt8 := dkwJ22_init_1 ++ []
def dkwJ22_init_0 : List UInt8 := [42, 183, 0, 1, 42, 27, 181, 0, 7, 42, 44, 181, 0, 13, 42, 45, 181, 0, 17, 42, 25, 4]
abbrev dktJ22_init_0 : List UInt8 := dkwJ22_init_0 ++ dktJ22_init_1
theorem dksJ22_init_0 : cJ22_init.data.toList.drop 0 = dktJ22_init_0 := by decide +kernel
theorem dksJ22_init_1 : cJ22_init.data.toList.drop 22 = dktJ22_init_1 := dk_seg dksJ22_init_0 22 rfl rfl
theorem dJ22_init_0 : decode cJ22_init 0 = .ok (.aload_n 0, 1) := dk_42 (dk_at dksJ22_init_0 0 rfl rfl)
theorem dJ22_init_1 : decode cJ22_init 1 = .ok (.invokespecial 1, 3) := dk_183 0 1 (dk_at dksJ22_init_0 1 rfl rfl)
theorem dJ22_init_4 : decode cJ22_init 4 = .ok (.aload_n 0, 1) := dk_42 (dk_at dksJ22_init_0 4 rfl rfl)
theorem dJ22_init_5 : decode cJ22_init 5 = .ok (.iload_n 1, 1) := dk_27 (dk_at dksJ22_init_0 5 rfl rfl)
theorem dJ22_init_6 : decode cJ22_init 6 = .ok (.putfield 7, 3) := dk_181 0 7 (dk_at dksJ22_init_0 6 rfl rfl)
theorem dJ22_init_9 : decode cJ22_init 9 = .ok (.aload_n 0, 1) := dk_42 (dk_at dksJ22_init_0 9 rfl rfl)
theorem dJ22_init_10 : decode cJ22_init 10 = .ok (.aload_n 2, 1) := dk_44 (dk_at dksJ22_init_0 10 rfl rfl)
theorem dJ22_init_11 : decode cJ22_init 11 = .ok (.putfield 13, 3) := dk_181 0 13 (dk_at dksJ22_init_0 11 rfl rfl)
theorem dJ22_init_14 : decode cJ22_init 14 = .ok (.aload_n 0, 1) := dk_42 (dk_at dksJ22_init_0 14 rfl rfl)
theorem dJ22_init_15 : decode cJ22_init 15 = .ok (.aload_n 3, 1) := dk_45 (dk_at dksJ22_init_0 15 rfl rfl)
theorem dJ22_init_16 : decode cJ22_init 16 = .ok (.putfield 17, 3) := dk_181 0 17 (dk_at dksJ22_init_0 16 rfl rfl)
theorem dJ22_init_19 : decode cJ22_init 19 = .ok (.aload_n 0, 1) := dk_42 (dk_at dksJ22_init_0 19 rfl rfl)
theorem dJ22_init_20 : decode cJ22_init 20 = .ok (.aload 4, 2) := dk_25 4 (dk_at dksJ22_init_0 20 rfl rfl)
theorem dJ22_init_22 : decode cJ22_init 22 = .ok (.putfield 20, 3) := dk_181 0 20 (dk_at dksJ22_init_1 0 rfl rfl)
theorem dJ22_init_25 : decode cJ22_init 25 = .ok (.return_, 1) := dk_177 (dk_at dksJ22_init_1 3 rfl rfl)
theorem q76 : (Jvm.Cond.initialized "java/util/HashMap$Node") ∈ lw_all := lw_g (lw_at lw_m1 28 rfl) rfl
theorem q284 : (Jvm.Cond.selects "java/util/HashMap$Node" ({ cls := "java/lang/Object", name := "getClass", desc := "()Ljava/lang/Class;" } : Jvm.MethodName) ({ cls := "java/lang/Object", name := "getClass", desc := "()Ljava/lang/Class;" } : Jvm.MethodName)) ∈ lw_all := lw_g (lw_at lw_m1 236 rfl) rfl
theorem q775 : (Jvm.Cond.instanceMethod ({ cls := "java/util/HashMap$Node", name := "<init>", desc := "(ILjava/lang/Object;Ljava/lang/Object;Ljava/util/HashMap$Node;)V" } : Jvm.MethodName)) ∈ lw_all := lw_g (lw_at lw_m4 7 rfl) rfl
theorem q776 : (Jvm.Cond.code ({ cls := "java/util/HashMap$Node", name := "<init>", desc := "(ILjava/lang/Object;Ljava/lang/Object;Ljava/util/HashMap$Node;)V" } : Jvm.MethodName) prog_62_method_1_code (5 : Nat) (Option.none : Option Jvm.ClassFile.FieldType)) ∈ lw_all := lw_g (lw_at lw_m4 8 rfl) rfl
theorem q777 : (Jvm.Cond.methodLink "java/util/HashMap$Node" (1 : Nat) ({ cls := "java/lang/Object", name := "<init>", desc := "()V" } : Jvm.MethodName)) ∈ lw_all := lw_g (lw_at lw_m4 9 rfl) rfl
theorem q780 : (Jvm.Cond.fieldLink "java/util/HashMap$Node" (7 : Nat) "java/util/HashMap$Node" "hash" "I") ∈ lw_all := lw_g (lw_at lw_m4 12 rfl) rfl
theorem q786 : (Jvm.Cond.fieldLink "java/util/HashMap$Node" (13 : Nat) "java/util/HashMap$Node" "key" "Ljava/lang/Object;") ∈ lw_all := lw_g (lw_at lw_m4 18 rfl) rfl
theorem q792 : (Jvm.Cond.fieldLink "java/util/HashMap$Node" (17 : Nat) "java/util/HashMap$Node" "value" "Ljava/lang/Object;") ∈ lw_all := lw_g (lw_at lw_m4 24 rfl) rfl
theorem q797 : (Jvm.Cond.fieldLink "java/util/HashMap$Node" (20 : Nat) "java/util/HashMap$Node" "next" "Ljava/util/HashMap$Node;") ∈ lw_all := lw_g (lw_at lw_m4 29 rfl) rfl
theorem q808 : (Jvm.Cond.soleField "java/util/HashMap$Node" "hash") ∈ lw_all := lw_g (lw_at lw_m4 40 rfl) rfl
theorem q810 : (Jvm.Cond.soleField "java/util/HashMap$Node" "key") ∈ lw_all := lw_g (lw_at lw_m4 42 rfl) rfl
theorem q812 : (Jvm.Cond.soleField "java/util/HashMap$Node" "value") ∈ lw_all := lw_g (lw_at lw_m4 44 rfl) rfl
theorem q814 : (Jvm.Cond.soleField "java/util/HashMap$Node" "next") ∈ lw_all := lw_g (lw_at lw_m4 46 rfl) rfl
theorem q2693 : (Jvm.Cond.castable "java/util/HashMap$Node" "java/lang/Object") ∈ lw_tbl := lw_at lw_m12 5 rfl

/-! java/util/LinkedHashMap$Entry -/
set_option maxRecDepth 100000
def RJ23 : String := "java/util/LinkedHashMap$Entry"
def TJ23 : u_T := fun k => match k with
  | 0 => ("java/util/HashMap$Node", "hash", "I", true)
  | 1 => ("java/util/HashMap$Node", "key", "Ljava/lang/Object;", true)
  | 2 => ("java/util/HashMap$Node", "value", "Ljava/lang/Object;", false)
  | 3 => ("java/util/HashMap$Node", "next", "Ljava/util/HashMap$Node;", false)
  | 4 => ("java/util/LinkedHashMap$Entry", "before", "Ljava/util/LinkedHashMap$Entry;", false)
  | _ => ("java/util/LinkedHashMap$Entry", "after", "Ljava/util/LinkedHashMap$Entry;", false)
def tyJ23 : Nat → FieldType := fun k => match k with
  | 0 => .int
  | 1 => .object "java/lang/Object"
  | 2 => .object "java/lang/Object"
  | 3 => .object "java/util/HashMap$Node"
  | 4 => .object "java/util/LinkedHashMap$Entry"
  | _ => .object "java/util/LinkedHashMap$Entry"
abbrev wsJ230 : List Cond := u_ws RJ23 TJ23 6
theorem nmJ23 : ∀ a, a < 6 → ∀ b, b < 6 → a ≠ b → (TJ23 a).2.1 ≠ (TJ23 b).2.1 := by decide +kernel
theorem tyJ23_ok : ∀ k, k < 6 → parseFieldDescriptor (TJ23 k).2.2.1 = some (tyJ23 k) := by decide +kernel
abbrev cJ23_init : ByteArray := prog_66_method_1_code
def yJ23_init : MethodName := ⟨RJ23, "<init>", "(ILjava/lang/Object;Ljava/lang/Object;Ljava/util/HashMap$Node;)V"⟩
def dkwJ23_init_0 : List UInt8 := [42, 27, 44, 45, 25, 4, 183, 0, 1, 177]
abbrev dktJ23_init_0 : List UInt8 := dkwJ23_init_0 ++ []
theorem dksJ23_init_0 : cJ23_init.data.toList.drop 0 = dktJ23_init_0 := by decide +kernel
theorem dJ23_init_0 : decode cJ23_init 0 = .ok (.aload_n 0, 1) := dk_42 (dk_at dksJ23_init_0 0 rfl rfl)
theorem dJ23_init_1 : decode cJ23_init 1 = .ok (.iload_n 1, 1) := dk_27 (dk_at dksJ23_init_0 1 rfl rfl)
theorem dJ23_init_2 : decode cJ23_init 2 = .ok (.aload_n 2, 1) := dk_44 (dk_at dksJ23_init_0 2 rfl rfl)
theorem dJ23_init_3 : decode cJ23_init 3 = .ok (.aload_n 3, 1) := dk_45 (dk_at dksJ23_init_0 3 rfl rfl)
theorem dJ23_init_4 : decode cJ23_init 4 = .ok (.aload 4, 2) := dk_25 4 (dk_at dksJ23_init_0 4 rfl rfl)
theorem dJ23_init_6 : decode cJ23_init 6 = .ok (.invokespecial 1, 3) := dk_183 0 1 (dk_at dksJ23_init_0 6 rfl rfl)
theorem dJ23_init_9 : decode cJ23_init 9 = .ok (.return_, 1) := dk_177 (dk_at dksJ23_init_0 9 rfl rfl)
theorem q77 : (Jvm.Cond.initialized "java/util/LinkedHashMap$Entry") ∈ lw_all := lw_g (lw_at lw_m1 29 rfl) rfl
theorem q287 : (Jvm.Cond.selects "java/util/LinkedHashMap$Entry" ({ cls := "java/lang/Object", name := "getClass", desc := "()Ljava/lang/Class;" } : Jvm.MethodName) ({ cls := "java/lang/Object", name := "getClass", desc := "()Ljava/lang/Class;" } : Jvm.MethodName)) ∈ lw_all := lw_g (lw_at lw_m1 239 rfl) rfl
theorem q770 : (Jvm.Cond.instantiable "java/util/LinkedHashMap$Entry" (6 : Nat)) ∈ lw_all := lw_g (lw_at lw_m4 2 rfl) rfl
theorem q772 : (Jvm.Cond.instanceMethod ({ cls := "java/util/LinkedHashMap$Entry", name := "<init>", desc := "(ILjava/lang/Object;Ljava/lang/Object;Ljava/util/HashMap$Node;)V" } : Jvm.MethodName)) ∈ lw_all := lw_g (lw_at lw_m4 4 rfl) rfl
theorem q773 : (Jvm.Cond.code ({ cls := "java/util/LinkedHashMap$Entry", name := "<init>", desc := "(ILjava/lang/Object;Ljava/lang/Object;Ljava/util/HashMap$Node;)V" } : Jvm.MethodName) prog_66_method_1_code (5 : Nat) (Option.none : Option Jvm.ClassFile.FieldType)) ∈ lw_all := lw_g (lw_at lw_m4 5 rfl) rfl
theorem q774 : (Jvm.Cond.methodLink "java/util/LinkedHashMap$Entry" (1 : Nat) ({ cls := "java/util/HashMap$Node", name := "<init>", desc := "(ILjava/lang/Object;Ljava/lang/Object;Ljava/util/HashMap$Node;)V" } : Jvm.MethodName)) ∈ lw_all := lw_g (lw_at lw_m4 6 rfl) rfl
theorem q784 : (Jvm.Cond.sameField "java/util/LinkedHashMap$Entry" "java/util/HashMap$Node" "hash" "I") ∈ lw_all := lw_g (lw_at lw_m4 16 rfl) rfl
theorem q790 : (Jvm.Cond.sameField "java/util/LinkedHashMap$Entry" "java/util/HashMap$Node" "key" "Ljava/lang/Object;") ∈ lw_all := lw_g (lw_at lw_m4 22 rfl) rfl
theorem q794 : (Jvm.Cond.sameField "java/util/LinkedHashMap$Entry" "java/util/HashMap$Node" "value" "Ljava/lang/Object;") ∈ lw_all := lw_g (lw_at lw_m4 26 rfl) rfl
theorem q803 : (Jvm.Cond.lays "java/util/LinkedHashMap$Entry" "java/util/LinkedHashMap$Entry" "before" "Ljava/util/LinkedHashMap$Entry;") ∈ lw_all := lw_g (lw_at lw_m4 35 rfl) rfl
theorem q804 : (Jvm.Cond.soleField "java/util/LinkedHashMap$Entry" "before") ∈ lw_all := lw_g (lw_at lw_m4 36 rfl) rfl
theorem q805 : (Jvm.Cond.lays "java/util/LinkedHashMap$Entry" "java/util/LinkedHashMap$Entry" "after" "Ljava/util/LinkedHashMap$Entry;") ∈ lw_all := lw_g (lw_at lw_m4 37 rfl) rfl
theorem q806 : (Jvm.Cond.soleField "java/util/LinkedHashMap$Entry" "after") ∈ lw_all := lw_g (lw_at lw_m4 38 rfl) rfl
theorem q807 : (Jvm.Cond.laysFinal "java/util/LinkedHashMap$Entry" "java/util/HashMap$Node" "hash" "I") ∈ lw_all := lw_g (lw_at lw_m4 39 rfl) rfl
theorem q809 : (Jvm.Cond.laysFinal "java/util/LinkedHashMap$Entry" "java/util/HashMap$Node" "key" "Ljava/lang/Object;") ∈ lw_all := lw_g (lw_at lw_m4 41 rfl) rfl
theorem q811 : (Jvm.Cond.lays "java/util/LinkedHashMap$Entry" "java/util/HashMap$Node" "value" "Ljava/lang/Object;") ∈ lw_all := lw_g (lw_at lw_m4 43 rfl) rfl
theorem q813 : (Jvm.Cond.lays "java/util/LinkedHashMap$Entry" "java/util/HashMap$Node" "next" "Ljava/util/HashMap$Node;") ∈ lw_all := lw_g (lw_at lw_m4 45 rfl) rfl
theorem q815 : (Jvm.Cond.superclass "java/util/LinkedHashMap$Entry" "java/util/HashMap$Node") ∈ lw_all := lw_g (lw_at lw_m4 47 rfl) rfl
theorem q2699 : (Jvm.Cond.castable "java/util/LinkedHashMap$Entry" "java/lang/Object") ∈ lw_tbl := lw_at lw_m12 11 rfl
theorem q2732 : (Jvm.Cond.castable "java/util/LinkedHashMap$Entry" "java/util/HashMap$Node") ∈ lw_tbl := lw_at lw_m12 44 rfl
theorem in_J23 : ∀ w ∈ wsJ230, w ∈ lw_all := lw_in wsJ230 [807, 809, 811, 813, 803, 805] (by decide +kernel) (by decide +kernel)

/-! java/util/Objects -/
set_option maxRecDepth 100000
def RJ27 : String := "java/util/Objects"
abbrev cJ27_checkIndex : ByteArray := prog_75_method_17_code
def yJ27_checkIndex : MethodName := ⟨RJ27, "checkIndex", "(II)I"⟩
def dkwJ27_checkIndex_0 : List UInt8 := [26, 27, 1, 184, 0, 105, 172]
abbrev dktJ27_checkIndex_0 : List UInt8 := dkwJ27_checkIndex_0 ++ []
theorem dksJ27_checkIndex_0 : cJ27_checkIndex.data.toList.drop 0 = dktJ27_checkIndex_0 := by decide +kernel
theorem dJ27_checkIndex_0 : decode cJ27_checkIndex 0 = .ok (.iload_n 0, 1) := dk_26 (dk_at dksJ27_checkIndex_0 0 rfl rfl)
theorem dJ27_checkIndex_1 : decode cJ27_checkIndex 1 = .ok (.iload_n 1, 1) := dk_27 (dk_at dksJ27_checkIndex_0 1 rfl rfl)
theorem dJ27_checkIndex_2 : decode cJ27_checkIndex 2 = .ok (.aconst_null, 1) := dk_1 (dk_at dksJ27_checkIndex_0 2 rfl rfl)
theorem dJ27_checkIndex_3 : decode cJ27_checkIndex 3 = .ok (.invokestatic 105, 3) := dk_184 0 105 (dk_at dksJ27_checkIndex_0 3 rfl rfl)
theorem dJ27_checkIndex_6 : decode cJ27_checkIndex 6 = .ok (.ireturn, 1) := dk_172 (dk_at dksJ27_checkIndex_0 6 rfl rfl)
theorem q83 : (Jvm.Cond.initialized "java/util/Objects") ∈ lw_all := lw_g (lw_at lw_m1 35 rfl) rfl
theorem q1279 : (Jvm.Cond.static ({ cls := "java/util/Objects", name := "checkIndex", desc := "(II)I" } : Jvm.MethodName)) ∈ lw_all := lw_g (lw_at lw_m6 31 rfl) rfl
theorem q1280 : (Jvm.Cond.code ({ cls := "java/util/Objects", name := "checkIndex", desc := "(II)I" } : Jvm.MethodName) prog_75_method_17_code (2 : Nat) (Option.some Jvm.ClassFile.FieldType.int)) ∈ lw_all := lw_g (lw_at lw_m6 32 rfl) rfl
theorem q1281 : (Jvm.Cond.methodLink "java/util/Objects" (105 : Nat) ({ cls := "jdk/internal/util/Preconditions", name := "checkIndex", desc := "(IILjava/util/function/BiFunction;)I" } : Jvm.MethodName)) ∈ lw_all := lw_g (lw_at lw_m6 33 rfl) rfl

/-! java/lang/IllegalStateException -/
set_option maxRecDepth 100000
def RJ28 : String := "java/lang/IllegalStateException"
def TJ28 : u_T := fun k => match k with
  | 0 => ("java/lang/Throwable", "cause", "Ljava/lang/Throwable;", false)
  | 1 => ("java/lang/Throwable", "stackTrace", "[Ljava/lang/StackTraceElement;", false)
  | 2 => ("java/lang/Throwable", "suppressedExceptions", "Ljava/util/List;", false)
  | 3 => ("java/lang/Throwable", "detailMessage", "Ljava/lang/String;", false)
  | 4 => ("java/lang/Throwable", "backtrace", "Ljava/lang/Object;", false)
  | _ => ("java/lang/Throwable", "depth", "I", false)
def tyJ28 : Nat → FieldType := fun k => match k with
  | 0 => .object "java/lang/Throwable"
  | 1 => .array (.object "java/lang/StackTraceElement")
  | 2 => .object "java/util/List"
  | 3 => .object "java/lang/String"
  | 4 => .object "java/lang/Object"
  | _ => .int
abbrev wsJ280 : List Cond := u_ws RJ28 TJ28 6
theorem nmJ28 : ∀ a, a < 6 → ∀ b, b < 6 → a ≠ b → (TJ28 a).2.1 ≠ (TJ28 b).2.1 := by decide +kernel
theorem tyJ28_ok : ∀ k, k < 6 → parseFieldDescriptor (TJ28 k).2.2.1 = some (tyJ28 k) := by decide +kernel
abbrev cJ28_init : ByteArray := prog_30_method_1_code
def yJ28_init : MethodName := ⟨RJ28, "<init>", "()V"⟩
theorem dJ28_init_0 : decode cJ28_init 0 = .ok (.aload_n 0, 1) := by decide +kernel
theorem dJ28_init_1 : decode cJ28_init 1 = .ok (.invokespecial 1, 3) := by decide +kernel
theorem dJ28_init_4 : decode cJ28_init 4 = .ok (.return_, 1) := by decide +kernel
abbrev cJ28_init_2 : ByteArray := prog_30_method_2_code
def yJ28_init_2 : MethodName := ⟨RJ28, "<init>", "(Ljava/lang/String;)V"⟩
def dkwJ28_init_2_0 : List UInt8 := [42, 43, 183, 0, 7, 177]
abbrev dktJ28_init_2_0 : List UInt8 := dkwJ28_init_2_0 ++ []
theorem dksJ28_init_2_0 : cJ28_init_2.data.toList.drop 0 = dktJ28_init_2_0 := by decide +kernel
theorem dJ28_init_2_0 : decode cJ28_init_2 0 = .ok (.aload_n 0, 1) := dk_42 (dk_at dksJ28_init_2_0 0 rfl rfl)
theorem dJ28_init_2_1 : decode cJ28_init_2 1 = .ok (.aload_n 1, 1) := dk_43 (dk_at dksJ28_init_2_0 1 rfl rfl)
theorem dJ28_init_2_2 : decode cJ28_init_2 2 = .ok (.invokespecial 7, 3) := dk_183 0 7 (dk_at dksJ28_init_2_0 2 rfl rfl)
theorem dJ28_init_2_5 : decode cJ28_init_2 5 = .ok (.return_, 1) := dk_177 (dk_at dksJ28_init_2_0 5 rfl rfl)
theorem q84 : (Jvm.Cond.initialized "java/lang/IllegalStateException") ∈ lw_all := lw_g (lw_at lw_m1 36 rfl) rfl
theorem q273 : (Jvm.Cond.selects "java/lang/IllegalStateException" ({ cls := "java/lang/Object", name := "getClass", desc := "()Ljava/lang/Class;" } : Jvm.MethodName) ({ cls := "java/lang/Object", name := "getClass", desc := "()Ljava/lang/Class;" } : Jvm.MethodName)) ∈ lw_all := lw_g (lw_at lw_m1 225 rfl) rfl
theorem q379 : (Jvm.Cond.selects "java/lang/IllegalStateException" ({ cls := "java/lang/Object", name := "hashCode", desc := "()I" } : Jvm.MethodName) ({ cls := "java/lang/Object", name := "hashCode", desc := "()I" } : Jvm.MethodName)) ∈ lw_all := lw_g (lw_at lw_m2 91 rfl) rfl
theorem q476 : (Jvm.Cond.selects "java/lang/IllegalStateException" ({ cls := "java/lang/Throwable", name := "fillInStackTrace", desc := "()Ljava/lang/Throwable;" } : Jvm.MethodName) ({ cls := "java/lang/Throwable", name := "fillInStackTrace", desc := "()Ljava/lang/Throwable;" } : Jvm.MethodName)) ∈ lw_all := lw_g (lw_at lw_m2 188 rfl) rfl
theorem q1103 : (Jvm.Cond.selects "java/lang/IllegalStateException" ({ cls := "java/lang/Object", name := "equals", desc := "(Ljava/lang/Object;)Z" } : Jvm.MethodName) ({ cls := "java/lang/Object", name := "equals", desc := "(Ljava/lang/Object;)Z" } : Jvm.MethodName)) ∈ lw_all := lw_g (lw_at lw_m5 95 rfl) rfl
theorem q1296 : (Jvm.Cond.instantiable "java/lang/IllegalStateException" (6 : Nat)) ∈ lw_all := lw_g (lw_at lw_m6 48 rfl) rfl
theorem q1297 : (Jvm.Cond.castable "java/lang/IllegalStateException" "java/lang/IllegalStateException") ∈ lw_tbl := lw_at lw_m6 49 rfl
theorem q1298 : (Jvm.Cond.selects "java/lang/IllegalStateException" ({ cls := "java/lang/Throwable", name := "fillInStackTrace", desc := "(I)Ljava/lang/Throwable;" } : Jvm.MethodName) ({ cls := "java/lang/Throwable", name := "fillInStackTrace", desc := "(I)Ljava/lang/Throwable;" } : Jvm.MethodName)) ∈ lw_all := lw_g (lw_at lw_m6 50 rfl) rfl
theorem q1299 : (Jvm.Cond.lays "java/lang/IllegalStateException" "java/lang/Throwable" "cause" "Ljava/lang/Throwable;") ∈ lw_all := lw_g (lw_at lw_m6 51 rfl) rfl
theorem q1300 : (Jvm.Cond.lays "java/lang/IllegalStateException" "java/lang/Throwable" "stackTrace" "[Ljava/lang/StackTraceElement;") ∈ lw_all := lw_g (lw_at lw_m6 52 rfl) rfl
theorem q1301 : (Jvm.Cond.lays "java/lang/IllegalStateException" "java/lang/Throwable" "suppressedExceptions" "Ljava/util/List;") ∈ lw_all := lw_g (lw_at lw_m6 53 rfl) rfl
theorem q1302 : (Jvm.Cond.lays "java/lang/IllegalStateException" "java/lang/Throwable" "detailMessage" "Ljava/lang/String;") ∈ lw_all := lw_g (lw_at lw_m6 54 rfl) rfl
theorem q1303 : (Jvm.Cond.lays "java/lang/IllegalStateException" "java/lang/Throwable" "backtrace" "Ljava/lang/Object;") ∈ lw_all := lw_g (lw_at lw_m6 55 rfl) rfl
theorem q1305 : (Jvm.Cond.instanceMethod ({ cls := "java/lang/IllegalStateException", name := "<init>", desc := "()V" } : Jvm.MethodName)) ∈ lw_all := lw_g (lw_at lw_m6 57 rfl) rfl
theorem q1306 : (Jvm.Cond.code ({ cls := "java/lang/IllegalStateException", name := "<init>", desc := "()V" } : Jvm.MethodName) prog_30_method_1_code (1 : Nat) (Option.none : Option Jvm.ClassFile.FieldType)) ∈ lw_all := lw_g (lw_at lw_m6 58 rfl) rfl
theorem q1307 : (Jvm.Cond.methodLink "java/lang/IllegalStateException" (1 : Nat) ({ cls := "java/lang/RuntimeException", name := "<init>", desc := "()V" } : Jvm.MethodName)) ∈ lw_all := lw_g (lw_at lw_m6 59 rfl) rfl
theorem q1308 : (Jvm.Cond.lays "java/lang/IllegalStateException" "java/lang/Throwable" "depth" "I") ∈ lw_all := lw_g (lw_at lw_m6 60 rfl) rfl
theorem q1309 : (Jvm.Cond.superclass "java/lang/IllegalStateException" "java/lang/RuntimeException") ∈ lw_all := lw_g (lw_at lw_m6 61 rfl) rfl
theorem q1440 : (Jvm.Cond.instanceMethod ({ cls := "java/lang/IllegalStateException", name := "<init>", desc := "(Ljava/lang/String;)V" } : Jvm.MethodName)) ∈ lw_all := lw_g (lw_at lw_m6 192 rfl) rfl
theorem q1441 : (Jvm.Cond.code ({ cls := "java/lang/IllegalStateException", name := "<init>", desc := "(Ljava/lang/String;)V" } : Jvm.MethodName) prog_30_method_2_code (2 : Nat) (Option.none : Option Jvm.ClassFile.FieldType)) ∈ lw_all := lw_g (lw_at lw_m6 193 rfl) rfl
theorem q1442 : (Jvm.Cond.methodLink "java/lang/IllegalStateException" (7 : Nat) ({ cls := "java/lang/RuntimeException", name := "<init>", desc := "(Ljava/lang/String;)V" } : Jvm.MethodName)) ∈ lw_all := lw_g (lw_at lw_m6 194 rfl) rfl
theorem q1591 : (Jvm.Cond.selects "java/lang/IllegalStateException" ({ cls := "java/lang/Throwable", name := "toString", desc := "()Ljava/lang/String;" } : Jvm.MethodName) ({ cls := "java/lang/Throwable", name := "toString", desc := "()Ljava/lang/String;" } : Jvm.MethodName)) ∈ lw_all := lw_g (lw_at lw_m7 103 rfl) rfl
theorem q1601 : (Jvm.Cond.selects "java/lang/IllegalStateException" ({ cls := "java/lang/Throwable", name := "getLocalizedMessage", desc := "()Ljava/lang/String;" } : Jvm.MethodName) ({ cls := "java/lang/Throwable", name := "getLocalizedMessage", desc := "()Ljava/lang/String;" } : Jvm.MethodName)) ∈ lw_all := lw_g (lw_at lw_m7 113 rfl) rfl
theorem q1610 : (Jvm.Cond.selects "java/lang/IllegalStateException" ({ cls := "java/lang/Throwable", name := "getMessage", desc := "()Ljava/lang/String;" } : Jvm.MethodName) ({ cls := "java/lang/Throwable", name := "getMessage", desc := "()Ljava/lang/String;" } : Jvm.MethodName)) ∈ lw_all := lw_g (lw_at lw_m7 122 rfl) rfl
theorem q2703 : (Jvm.Cond.castable "java/lang/IllegalStateException" "java/lang/Object") ∈ lw_tbl := lw_at lw_m12 15 rfl
theorem in_J28 : ∀ w ∈ wsJ280, w ∈ lw_all := lw_in wsJ280 [1299, 1300, 1301, 1302, 1303, 1308] (by decide +kernel) (by decide +kernel)

/-! java/util/LinkedList$Node -/
set_option maxRecDepth 100000
def RJ29 : String := "java/util/LinkedList$Node"
def TJ29 : u_T := fun k => match k with
  | 0 => ("java/util/LinkedList$Node", "item", "Ljava/lang/Object;", false)
  | 1 => ("java/util/LinkedList$Node", "next", "Ljava/util/LinkedList$Node;", false)
  | _ => ("java/util/LinkedList$Node", "prev", "Ljava/util/LinkedList$Node;", false)
def tyJ29 : Nat → FieldType := fun k => match k with
  | 0 => .object "java/lang/Object"
  | 1 => .object "java/util/LinkedList$Node"
  | _ => .object "java/util/LinkedList$Node"
abbrev wsJ290 : List Cond := u_ws RJ29 TJ29 3
theorem nmJ29 : ∀ a, a < 3 → ∀ b, b < 3 → a ≠ b → (TJ29 a).2.1 ≠ (TJ29 b).2.1 := by decide +kernel
theorem tyJ29_ok : ∀ k, k < 3 → parseFieldDescriptor (TJ29 k).2.2.1 = some (tyJ29 k) := by decide +kernel
abbrev cJ29_init : ByteArray := prog_69_method_1_code
def yJ29_init : MethodName := ⟨RJ29, "<init>", "(Ljava/util/LinkedList$Node;Ljava/lang/Object;Ljava/util/LinkedList$Node;)V"⟩
def dkwJ29_init_0 : List UInt8 := [42, 183, 0, 1, 42, 44, 181, 0, 7, 42, 45, 181, 0, 13, 42, 43, 181, 0, 17, 177]
abbrev dktJ29_init_0 : List UInt8 := dkwJ29_init_0 ++ []
theorem dksJ29_init_0 : cJ29_init.data.toList.drop 0 = dktJ29_init_0 := by decide +kernel
theorem dJ29_init_0 : decode cJ29_init 0 = .ok (.aload_n 0, 1) := dk_42 (dk_at dksJ29_init_0 0 rfl rfl)
theorem dJ29_init_1 : decode cJ29_init 1 = .ok (.invokespecial 1, 3) := dk_183 0 1 (dk_at dksJ29_init_0 1 rfl rfl)
theorem dJ29_init_4 : decode cJ29_init 4 = .ok (.aload_n 0, 1) := dk_42 (dk_at dksJ29_init_0 4 rfl rfl)
theorem dJ29_init_5 : decode cJ29_init 5 = .ok (.aload_n 2, 1) := dk_44 (dk_at dksJ29_init_0 5 rfl rfl)
theorem dJ29_init_6 : decode cJ29_init 6 = .ok (.putfield 7, 3) := dk_181 0 7 (dk_at dksJ29_init_0 6 rfl rfl)
theorem dJ29_init_9 : decode cJ29_init 9 = .ok (.aload_n 0, 1) := dk_42 (dk_at dksJ29_init_0 9 rfl rfl)
theorem dJ29_init_10 : decode cJ29_init 10 = .ok (.aload_n 3, 1) := dk_45 (dk_at dksJ29_init_0 10 rfl rfl)
theorem dJ29_init_11 : decode cJ29_init 11 = .ok (.putfield 13, 3) := dk_181 0 13 (dk_at dksJ29_init_0 11 rfl rfl)
theorem dJ29_init_14 : decode cJ29_init 14 = .ok (.aload_n 0, 1) := dk_42 (dk_at dksJ29_init_0 14 rfl rfl)
theorem dJ29_init_15 : decode cJ29_init 15 = .ok (.aload_n 1, 1) := dk_43 (dk_at dksJ29_init_0 15 rfl rfl)
theorem dJ29_init_16 : decode cJ29_init 16 = .ok (.putfield 17, 3) := dk_181 0 17 (dk_at dksJ29_init_0 16 rfl rfl)
theorem dJ29_init_19 : decode cJ29_init 19 = .ok (.return_, 1) := dk_177 (dk_at dksJ29_init_0 19 rfl rfl)
theorem q86 : (Jvm.Cond.initialized "java/util/LinkedList$Node") ∈ lw_all := lw_g (lw_at lw_m1 38 rfl) rfl
theorem q290 : (Jvm.Cond.selects "java/util/LinkedList$Node" ({ cls := "java/lang/Object", name := "getClass", desc := "()Ljava/lang/Class;" } : Jvm.MethodName) ({ cls := "java/lang/Object", name := "getClass", desc := "()Ljava/lang/Class;" } : Jvm.MethodName)) ∈ lw_all := lw_g (lw_at lw_m2 2 rfl) rfl
theorem q1342 : (Jvm.Cond.instantiable "java/util/LinkedList$Node" (3 : Nat)) ∈ lw_all := lw_g (lw_at lw_m6 94 rfl) rfl
theorem q1344 : (Jvm.Cond.instanceMethod ({ cls := "java/util/LinkedList$Node", name := "<init>", desc := "(Ljava/util/LinkedList$Node;Ljava/lang/Object;Ljava/util/LinkedList$Node;)V" } : Jvm.MethodName)) ∈ lw_all := lw_g (lw_at lw_m6 96 rfl) rfl
theorem q1345 : (Jvm.Cond.code ({ cls := "java/util/LinkedList$Node", name := "<init>", desc := "(Ljava/util/LinkedList$Node;Ljava/lang/Object;Ljava/util/LinkedList$Node;)V" } : Jvm.MethodName) prog_69_method_1_code (4 : Nat) (Option.none : Option Jvm.ClassFile.FieldType)) ∈ lw_all := lw_g (lw_at lw_m6 97 rfl) rfl
theorem q1346 : (Jvm.Cond.methodLink "java/util/LinkedList$Node" (1 : Nat) ({ cls := "java/lang/Object", name := "<init>", desc := "()V" } : Jvm.MethodName)) ∈ lw_all := lw_g (lw_at lw_m6 98 rfl) rfl
theorem q1347 : (Jvm.Cond.fieldLink "java/util/LinkedList$Node" (7 : Nat) "java/util/LinkedList$Node" "item" "Ljava/lang/Object;") ∈ lw_all := lw_g (lw_at lw_m6 99 rfl) rfl
theorem q1350 : (Jvm.Cond.fieldLink "java/util/LinkedList$Node" (13 : Nat) "java/util/LinkedList$Node" "next" "Ljava/util/LinkedList$Node;") ∈ lw_all := lw_g (lw_at lw_m6 102 rfl) rfl
theorem q1353 : (Jvm.Cond.fieldLink "java/util/LinkedList$Node" (17 : Nat) "java/util/LinkedList$Node" "prev" "Ljava/util/LinkedList$Node;") ∈ lw_all := lw_g (lw_at lw_m6 105 rfl) rfl
theorem q1355 : (Jvm.Cond.lays "java/util/LinkedList$Node" "java/util/LinkedList$Node" "item" "Ljava/lang/Object;") ∈ lw_all := lw_g (lw_at lw_m6 107 rfl) rfl
theorem q1356 : (Jvm.Cond.soleField "java/util/LinkedList$Node" "item") ∈ lw_all := lw_g (lw_at lw_m6 108 rfl) rfl
theorem q1357 : (Jvm.Cond.lays "java/util/LinkedList$Node" "java/util/LinkedList$Node" "next" "Ljava/util/LinkedList$Node;") ∈ lw_all := lw_g (lw_at lw_m6 109 rfl) rfl
theorem q1358 : (Jvm.Cond.soleField "java/util/LinkedList$Node" "next") ∈ lw_all := lw_g (lw_at lw_m6 110 rfl) rfl
theorem q1359 : (Jvm.Cond.lays "java/util/LinkedList$Node" "java/util/LinkedList$Node" "prev" "Ljava/util/LinkedList$Node;") ∈ lw_all := lw_g (lw_at lw_m6 111 rfl) rfl
theorem q1360 : (Jvm.Cond.soleField "java/util/LinkedList$Node" "prev") ∈ lw_all := lw_g (lw_at lw_m6 112 rfl) rfl
theorem q1361 : (Jvm.Cond.superclass "java/util/LinkedList$Node" "java/lang/Object") ∈ lw_all := lw_g (lw_at lw_m6 113 rfl) rfl
theorem q2705 : (Jvm.Cond.castable "java/util/LinkedList$Node" "java/lang/Object") ∈ lw_tbl := lw_at lw_m12 17 rfl
theorem in_J29 : ∀ w ∈ wsJ290, w ∈ lw_all := lw_in wsJ290 [1355, 1357, 1359] (by decide +kernel) (by decide +kernel)

/-! java/util/ArrayDeque -/
set_option maxRecDepth 100000
def RJ30 : String := "java/util/ArrayDeque"
def TJ30 : u_T := fun k => match k with
  | 0 => ("java/util/ArrayDeque", "elements", "[Ljava/lang/Object;", false)
  | 1 => ("java/util/ArrayDeque", "head", "I", false)
  | _ => ("java/util/ArrayDeque", "tail", "I", false)
def tyJ30 : Nat → FieldType := fun k => match k with
  | 0 => .array (.object "java/lang/Object")
  | 1 => .int
  | _ => .int
abbrev wsJ300 : List Cond := u_ws RJ30 TJ30 3
theorem nmJ30 : ∀ a, a < 3 → ∀ b, b < 3 → a ≠ b → (TJ30 a).2.1 ≠ (TJ30 b).2.1 := by decide +kernel
theorem tyJ30_ok : ∀ k, k < 3 → parseFieldDescriptor (TJ30 k).2.2.1 = some (tyJ30 k) := by decide +kernel
abbrev cJ30_init : ByteArray := prog_53_method_3_code
def yJ30_init : MethodName := ⟨RJ30, "<init>", "()V"⟩
def dkwJ30_init_0 : List UInt8 := [42, 183, 0, 42, 42, 16, 17, 189, 0, 47, 181, 0, 3, 177]
abbrev dktJ30_init_0 : List UInt8 := dkwJ30_init_0 ++ []
theorem dksJ30_init_0 : cJ30_init.data.toList.drop 0 = dktJ30_init_0 := by decide +kernel
theorem dJ30_init_0 : decode cJ30_init 0 = .ok (.aload_n 0, 1) := dk_42 (dk_at dksJ30_init_0 0 rfl rfl)
theorem dJ30_init_1 : decode cJ30_init 1 = .ok (.invokespecial 42, 3) := dk_183 0 42 (dk_at dksJ30_init_0 1 rfl rfl)
theorem dJ30_init_4 : decode cJ30_init 4 = .ok (.aload_n 0, 1) := dk_42 (dk_at dksJ30_init_0 4 rfl rfl)
theorem dJ30_init_5 : decode cJ30_init 5 = .ok (.bipush 17, 2) := dk_16 17 (dk_at dksJ30_init_0 5 rfl rfl)
theorem dJ30_init_7 : decode cJ30_init 7 = .ok (.anewarray 47, 3) := dk_189 0 47 (dk_at dksJ30_init_0 7 rfl rfl)
theorem dJ30_init_10 : decode cJ30_init 10 = .ok (.putfield 3, 3) := dk_181 0 3 (dk_at dksJ30_init_0 10 rfl rfl)
theorem dJ30_init_13 : decode cJ30_init 13 = .ok (.return_, 1) := dk_177 (dk_at dksJ30_init_0 13 rfl rfl)
abbrev cJ30_size : ByteArray := prog_53_method_37_code
def yJ30_size : MethodName := ⟨RJ30, "size", "()I"⟩
def dkwJ30_size_0 : List UInt8 := [42, 180, 0, 20, 42, 180, 0, 24, 42, 180, 0, 3, 190, 184, 0, 127, 172]
abbrev dktJ30_size_0 : List UInt8 := dkwJ30_size_0 ++ []
theorem dksJ30_size_0 : cJ30_size.data.toList.drop 0 = dktJ30_size_0 := by decide +kernel
theorem dJ30_size_0 : decode cJ30_size 0 = .ok (.aload_n 0, 1) := dk_42 (dk_at dksJ30_size_0 0 rfl rfl)
theorem dJ30_size_1 : decode cJ30_size 1 = .ok (.getfield 20, 3) := dk_180 0 20 (dk_at dksJ30_size_0 1 rfl rfl)
theorem dJ30_size_4 : decode cJ30_size 4 = .ok (.aload_n 0, 1) := dk_42 (dk_at dksJ30_size_0 4 rfl rfl)
theorem dJ30_size_5 : decode cJ30_size 5 = .ok (.getfield 24, 3) := dk_180 0 24 (dk_at dksJ30_size_0 5 rfl rfl)
theorem dJ30_size_8 : decode cJ30_size 8 = .ok (.aload_n 0, 1) := dk_42 (dk_at dksJ30_size_0 8 rfl rfl)
theorem dJ30_size_9 : decode cJ30_size 9 = .ok (.getfield 3, 3) := dk_180 0 3 (dk_at dksJ30_size_0 9 rfl rfl)
theorem dJ30_size_12 : decode cJ30_size 12 = .ok (.arraylength, 1) := dk_190 (dk_at dksJ30_size_0 12 rfl rfl)
theorem dJ30_size_13 : decode cJ30_size 13 = .ok (.invokestatic 127, 3) := dk_184 0 127 (dk_at dksJ30_size_0 13 rfl rfl)
theorem dJ30_size_16 : decode cJ30_size 16 = .ok (.ireturn, 1) := dk_172 (dk_at dksJ30_size_0 16 rfl rfl)
abbrev cJ30_sub : ByteArray := prog_53_method_9_code
def yJ30_sub : MethodName := ⟨RJ30, "sub", "(III)I"⟩
def dkwJ30_sub_0 : List UInt8 := [26, 27, 100, 89, 59, 156, 0, 7, 26, 28, 96, 59, 26, 172]
abbrev dktJ30_sub_0 : List UInt8 := dkwJ30_sub_0 ++ []
theorem dksJ30_sub_0 : cJ30_sub.data.toList.drop 0 = dktJ30_sub_0 := by decide +kernel
theorem dJ30_sub_0 : decode cJ30_sub 0 = .ok (.iload_n 0, 1) := dk_26 (dk_at dksJ30_sub_0 0 rfl rfl)
theorem dJ30_sub_1 : decode cJ30_sub 1 = .ok (.iload_n 1, 1) := dk_27 (dk_at dksJ30_sub_0 1 rfl rfl)
theorem dJ30_sub_2 : decode cJ30_sub 2 = .ok (.isub, 1) := dk_100 (dk_at dksJ30_sub_0 2 rfl rfl)
theorem dJ30_sub_3 : decode cJ30_sub 3 = .ok (.dup, 1) := dk_89 (dk_at dksJ30_sub_0 3 rfl rfl)
theorem dJ30_sub_4 : decode cJ30_sub 4 = .ok (.istore_n 0, 1) := dk_59 (dk_at dksJ30_sub_0 4 rfl rfl)
theorem dJ30_sub_5 : decode cJ30_sub 5 = .ok (.ifCond .ge 7, 3) := dk_156 0 7 (dk_at dksJ30_sub_0 5 rfl rfl)
theorem dJ30_sub_8 : decode cJ30_sub 8 = .ok (.iload_n 0, 1) := dk_26 (dk_at dksJ30_sub_0 8 rfl rfl)
theorem dJ30_sub_9 : decode cJ30_sub 9 = .ok (.iload_n 2, 1) := dk_28 (dk_at dksJ30_sub_0 9 rfl rfl)
theorem dJ30_sub_10 : decode cJ30_sub 10 = .ok (.iadd, 1) := dk_96 (dk_at dksJ30_sub_0 10 rfl rfl)
theorem dJ30_sub_11 : decode cJ30_sub 11 = .ok (.istore_n 0, 1) := dk_59 (dk_at dksJ30_sub_0 11 rfl rfl)
theorem dJ30_sub_12 : decode cJ30_sub 12 = .ok (.iload_n 0, 1) := dk_26 (dk_at dksJ30_sub_0 12 rfl rfl)
theorem dJ30_sub_13 : decode cJ30_sub 13 = .ok (.ireturn, 1) := dk_172 (dk_at dksJ30_sub_0 13 rfl rfl)
abbrev cJ30_addFirst : ByteArray := prog_53_method_12_code
def yJ30_addFirst : MethodName := ⟨RJ30, "addFirst", "(Ljava/lang/Object;)V"⟩
def dkwJ30_addFirst_2 : List UInt8 := [182, 0, 71, 177]
abbrev dktJ30_addFirst_2 : List UInt8 := dkwJ30_addFirst_2 ++ []
def dkwJ30_addFirst_1 : List UInt8 := [190, 184, 0, 68, 90, 181, 0, 24, 43, 83, 42, 180, 0, 24, 42, 180, 0, 20, 160, 0, 8, 42, 4]
abbrev dktJ30_addFirst_1 : List UInt8 := dkwJ30_addFirst_1 ++ dktJ30_addFirst_2
def dkwJ30_addFirst_0 : List UInt8 := [43, 199, 0, 11, 187, 0, 65, 89, 183, 0, 67, 191, 42, 180, 0, 3, 77, 44, 42, 42, 180, 0, 24, 44]
abbrev dktJ30_addFirst_0 : List UInt8 := dkwJ30_addFirst_0 ++ dktJ30_addFirst_1
theorem dksJ30_addFirst_0 : cJ30_addFirst.data.toList.drop 0 = dktJ30_addFirst_0 := by decide +kernel
theorem dksJ30_addFirst_1 : cJ30_addFirst.data.toList.drop 24 = dktJ30_addFirst_1 := dk_seg dksJ30_addFirst_0 24 rfl rfl
theorem dksJ30_addFirst_2 : cJ30_addFirst.data.toList.drop 47 = dktJ30_addFirst_2 := dk_seg dksJ30_addFirst_1 23 rfl rfl
theorem dJ30_addFirst_0 : decode cJ30_addFirst 0 = .ok (.aload_n 1, 1) := dk_43 (dk_at dksJ30_addFirst_0 0 rfl rfl)
theorem dJ30_addFirst_1 : decode cJ30_addFirst 1 = .ok (.ifnonnull 11, 3) := dk_199 0 11 (dk_at dksJ30_addFirst_0 1 rfl rfl)
theorem dJ30_addFirst_4 : decode cJ30_addFirst 4 = .ok (.new 65, 3) := dk_187 0 65 (dk_at dksJ30_addFirst_0 4 rfl rfl)
theorem dJ30_addFirst_7 : decode cJ30_addFirst 7 = .ok (.dup, 1) := dk_89 (dk_at dksJ30_addFirst_0 7 rfl rfl)
theorem dJ30_addFirst_8 : decode cJ30_addFirst 8 = .ok (.invokespecial 67, 3) := dk_183 0 67 (dk_at dksJ30_addFirst_0 8 rfl rfl)
theorem dJ30_addFirst_11 : decode cJ30_addFirst 11 = .ok (.athrow, 1) := dk_191 (dk_at dksJ30_addFirst_0 11 rfl rfl)
theorem dJ30_addFirst_12 : decode cJ30_addFirst 12 = .ok (.aload_n 0, 1) := dk_42 (dk_at dksJ30_addFirst_0 12 rfl rfl)
theorem dJ30_addFirst_13 : decode cJ30_addFirst 13 = .ok (.getfield 3, 3) := dk_180 0 3 (dk_at dksJ30_addFirst_0 13 rfl rfl)
theorem dJ30_addFirst_16 : decode cJ30_addFirst 16 = .ok (.astore_n 2, 1) := dk_77 (dk_at dksJ30_addFirst_0 16 rfl rfl)
theorem dJ30_addFirst_17 : decode cJ30_addFirst 17 = .ok (.aload_n 2, 1) := dk_44 (dk_at dksJ30_addFirst_0 17 rfl rfl)
theorem dJ30_addFirst_18 : decode cJ30_addFirst 18 = .ok (.aload_n 0, 1) := dk_42 (dk_at dksJ30_addFirst_0 18 rfl rfl)
theorem dJ30_addFirst_19 : decode cJ30_addFirst 19 = .ok (.aload_n 0, 1) := dk_42 (dk_at dksJ30_addFirst_0 19 rfl rfl)
theorem dJ30_addFirst_20 : decode cJ30_addFirst 20 = .ok (.getfield 24, 3) := dk_180 0 24 (dk_at dksJ30_addFirst_0 20 rfl rfl)
theorem dJ30_addFirst_23 : decode cJ30_addFirst 23 = .ok (.aload_n 2, 1) := dk_44 (dk_at dksJ30_addFirst_0 23 rfl rfl)
theorem dJ30_addFirst_24 : decode cJ30_addFirst 24 = .ok (.arraylength, 1) := dk_190 (dk_at dksJ30_addFirst_1 0 rfl rfl)
theorem dJ30_addFirst_25 : decode cJ30_addFirst 25 = .ok (.invokestatic 68, 3) := dk_184 0 68 (dk_at dksJ30_addFirst_1 1 rfl rfl)
theorem dJ30_addFirst_28 : decode cJ30_addFirst 28 = .ok (.dup_x1, 1) := dk_90 (dk_at dksJ30_addFirst_1 4 rfl rfl)
theorem dJ30_addFirst_29 : decode cJ30_addFirst 29 = .ok (.putfield 24, 3) := dk_181 0 24 (dk_at dksJ30_addFirst_1 5 rfl rfl)
theorem dJ30_addFirst_32 : decode cJ30_addFirst 32 = .ok (.aload_n 1, 1) := dk_43 (dk_at dksJ30_addFirst_1 8 rfl rfl)
theorem dJ30_addFirst_33 : decode cJ30_addFirst 33 = .ok (.aastore, 1) := dk_83 (dk_at dksJ30_addFirst_1 9 rfl rfl)
theorem dJ30_addFirst_34 : decode cJ30_addFirst 34 = .ok (.aload_n 0, 1) := dk_42 (dk_at dksJ30_addFirst_1 10 rfl rfl)
theorem dJ30_addFirst_35 : decode cJ30_addFirst 35 = .ok (.getfield 24, 3) := dk_180 0 24 (dk_at dksJ30_addFirst_1 11 rfl rfl)
theorem dJ30_addFirst_38 : decode cJ30_addFirst 38 = .ok (.aload_n 0, 1) := dk_42 (dk_at dksJ30_addFirst_1 14 rfl rfl)
theorem dJ30_addFirst_39 : decode cJ30_addFirst 39 = .ok (.getfield 20, 3) := dk_180 0 20 (dk_at dksJ30_addFirst_1 15 rfl rfl)
theorem dJ30_addFirst_42 : decode cJ30_addFirst 42 = .ok (.if_icmp .ne 8, 3) := dk_160 0 8 (dk_at dksJ30_addFirst_1 18 rfl rfl)
theorem dJ30_addFirst_45 : decode cJ30_addFirst 45 = .ok (.aload_n 0, 1) := dk_42 (dk_at dksJ30_addFirst_1 21 rfl rfl)
theorem dJ30_addFirst_46 : decode cJ30_addFirst 46 = .ok (.iconst 1, 1) := dk_4 (dk_at dksJ30_addFirst_1 22 rfl rfl)
theorem dJ30_addFirst_47 : decode cJ30_addFirst 47 = .ok (.invokevirtual 71, 3) := dk_182 0 71 (dk_at dksJ30_addFirst_2 0 rfl rfl)
theorem dJ30_addFirst_50 : decode cJ30_addFirst 50 = .ok (.return_, 1) := dk_177 (dk_at dksJ30_addFirst_2 3 rfl rfl)
abbrev cJ30_dec : ByteArray := prog_53_method_7_code
def yJ30_dec : MethodName := ⟨RJ30, "dec", "(II)I"⟩
def dkwJ30_dec_0 : List UInt8 := [132, 0, 255, 26, 156, 0, 7, 27, 4, 100, 59, 26, 172]
abbrev dktJ30_dec_0 : List UInt8 := dkwJ30_dec_0 ++ []
theorem dksJ30_dec_0 : cJ30_dec.data.toList.drop 0 = dktJ30_dec_0 := by decide +kernel
theorem dJ30_dec_0 : decode cJ30_dec 0 = .ok (.iinc 0 (-1), 3) := dk_132 0 255 (dk_at dksJ30_dec_0 0 rfl rfl)
theorem dJ30_dec_3 : decode cJ30_dec 3 = .ok (.iload_n 0, 1) := dk_26 (dk_at dksJ30_dec_0 3 rfl rfl)
theorem dJ30_dec_4 : decode cJ30_dec 4 = .ok (.ifCond .ge 7, 3) := dk_156 0 7 (dk_at dksJ30_dec_0 4 rfl rfl)
theorem dJ30_dec_7 : decode cJ30_dec 7 = .ok (.iload_n 1, 1) := dk_27 (dk_at dksJ30_dec_0 7 rfl rfl)
theorem dJ30_dec_8 : decode cJ30_dec 8 = .ok (.iconst 1, 1) := dk_4 (dk_at dksJ30_dec_0 8 rfl rfl)
theorem dJ30_dec_9 : decode cJ30_dec 9 = .ok (.isub, 1) := dk_100 (dk_at dksJ30_dec_0 9 rfl rfl)
theorem dJ30_dec_10 : decode cJ30_dec 10 = .ok (.istore_n 0, 1) := dk_59 (dk_at dksJ30_dec_0 10 rfl rfl)
theorem dJ30_dec_11 : decode cJ30_dec 11 = .ok (.iload_n 0, 1) := dk_26 (dk_at dksJ30_dec_0 11 rfl rfl)
theorem dJ30_dec_12 : decode cJ30_dec 12 = .ok (.ireturn, 1) := dk_172 (dk_at dksJ30_dec_0 12 rfl rfl)
abbrev cJ30_grow : ByteArray := prog_53_method_1_code
def yJ30_grow : MethodName := ⟨RJ30, "grow", "(I)V"⟩
def dkwJ30_grow_7 : List UInt8 := [177]
abbrev dktJ30_grow_7 : List UInt8 := dkwJ30_grow_7 ++ []
def dkwJ30_grow_6 : List UInt8 := [181, 0, 24, 54, 8, 21, 7, 21, 8, 162, 0, 15, 25, 5, 21, 7, 1, 83, 132, 7, 1, 167, 255, 240]
abbrev dktJ30_grow_6 : List UInt8 := dkwJ30_grow_6 ++ dktJ30_grow_7
def dkwJ30_grow_5 : List UInt8 := [42, 180, 0, 24, 100, 184, 0, 27, 42, 180, 0, 24, 54, 7, 42, 89, 180, 0, 24, 21, 6, 96, 90]
abbrev dktJ30_grow_5 : List UInt8 := dkwJ30_grow_5 ++ dktJ30_grow_6
def dkwJ30_grow_4 : List UInt8 := [198, 0, 71, 29, 28, 100, 54, 6, 25, 5, 42, 180, 0, 24, 25, 5, 42, 180, 0, 24, 21, 6, 96, 28]
abbrev dktJ30_grow_4 : List UInt8 := dkwJ30_grow_4 ++ dktJ30_grow_5
def dkwJ30_grow_3 : List UInt8 := [180, 0, 24, 161, 0, 24, 42, 180, 0, 20, 42, 180, 0, 24, 160, 0, 81, 25, 5, 42, 180, 0, 24, 50]
abbrev dktJ30_grow_3 : List UInt8 := dkwJ30_grow_3 ++ dktJ30_grow_4
def dkwJ30_grow_2 : List UInt8 := [182, 0, 10, 62, 42, 42, 180, 0, 3, 29, 184, 0, 14, 90, 181, 0, 3, 58, 5, 42, 180, 0, 20, 42]
abbrev dktJ30_grow_2 : List UInt8 := dkwJ30_grow_2 ++ dktJ30_grow_3
def dkwJ30_grow_1 : List UInt8 := [21, 4, 27, 161, 0, 15, 28, 21, 4, 96, 89, 62, 18, 9, 100, 158, 0, 11, 42, 27, 21, 4]
abbrev dktJ30_grow_1 : List UInt8 := dkwJ30_grow_1 ++ dktJ30_grow_2
def dkwJ30_grow_0 : List UInt8 := [42, 180, 0, 3, 190, 61, 28, 16, 64, 162, 0, 9, 28, 5, 96, 167, 0, 6, 28, 4, 122, 54, 4]
abbrev dktJ30_grow_0 : List UInt8 := dkwJ30_grow_0 ++ dktJ30_grow_1
theorem dksJ30_grow_0 : cJ30_grow.data.toList.drop 0 = dktJ30_grow_0 := by decide +kernel
theorem dksJ30_grow_1 : cJ30_grow.data.toList.drop 23 = dktJ30_grow_1 := dk_seg dksJ30_grow_0 23 rfl rfl
theorem dksJ30_grow_2 : cJ30_grow.data.toList.drop 45 = dktJ30_grow_2 := dk_seg dksJ30_grow_1 22 rfl rfl
theorem dksJ30_grow_3 : cJ30_grow.data.toList.drop 69 = dktJ30_grow_3 := dk_seg dksJ30_grow_2 24 rfl rfl
theorem dksJ30_grow_4 : cJ30_grow.data.toList.drop 93 = dktJ30_grow_4 := dk_seg dksJ30_grow_3 24 rfl rfl
theorem dksJ30_grow_5 : cJ30_grow.data.toList.drop 117 = dktJ30_grow_5 := dk_seg dksJ30_grow_4 24 rfl rfl
theorem dksJ30_grow_6 : cJ30_grow.data.toList.drop 140 = dktJ30_grow_6 := dk_seg dksJ30_grow_5 23 rfl rfl
theorem dksJ30_grow_7 : cJ30_grow.data.toList.drop 164 = dktJ30_grow_7 := dk_seg dksJ30_grow_6 24 rfl rfl
theorem dJ30_grow_0 : decode cJ30_grow 0 = .ok (.aload_n 0, 1) := dk_42 (dk_at dksJ30_grow_0 0 rfl rfl)
theorem dJ30_grow_1 : decode cJ30_grow 1 = .ok (.getfield 3, 3) := dk_180 0 3 (dk_at dksJ30_grow_0 1 rfl rfl)
theorem dJ30_grow_4 : decode cJ30_grow 4 = .ok (.arraylength, 1) := dk_190 (dk_at dksJ30_grow_0 4 rfl rfl)
theorem dJ30_grow_5 : decode cJ30_grow 5 = .ok (.istore_n 2, 1) := dk_61 (dk_at dksJ30_grow_0 5 rfl rfl)
theorem dJ30_grow_6 : decode cJ30_grow 6 = .ok (.iload_n 2, 1) := dk_28 (dk_at dksJ30_grow_0 6 rfl rfl)
theorem dJ30_grow_7 : decode cJ30_grow 7 = .ok (.bipush 64, 2) := dk_16 64 (dk_at dksJ30_grow_0 7 rfl rfl)
theorem dJ30_grow_9 : decode cJ30_grow 9 = .ok (.if_icmp .ge 9, 3) := dk_162 0 9 (dk_at dksJ30_grow_0 9 rfl rfl)
theorem dJ30_grow_12 : decode cJ30_grow 12 = .ok (.iload_n 2, 1) := dk_28 (dk_at dksJ30_grow_0 12 rfl rfl)
theorem dJ30_grow_13 : decode cJ30_grow 13 = .ok (.iconst 2, 1) := dk_5 (dk_at dksJ30_grow_0 13 rfl rfl)
theorem dJ30_grow_14 : decode cJ30_grow 14 = .ok (.iadd, 1) := dk_96 (dk_at dksJ30_grow_0 14 rfl rfl)
theorem dJ30_grow_15 : decode cJ30_grow 15 = .ok (.goto 6, 3) := dk_167 0 6 (dk_at dksJ30_grow_0 15 rfl rfl)
theorem dJ30_grow_18 : decode cJ30_grow 18 = .ok (.iload_n 2, 1) := dk_28 (dk_at dksJ30_grow_0 18 rfl rfl)
theorem dJ30_grow_19 : decode cJ30_grow 19 = .ok (.iconst 1, 1) := dk_4 (dk_at dksJ30_grow_0 19 rfl rfl)
theorem dJ30_grow_20 : decode cJ30_grow 20 = .ok (.ishr, 1) := dk_122 (dk_at dksJ30_grow_0 20 rfl rfl)
theorem dJ30_grow_21 : decode cJ30_grow 21 = .ok (.istore 4, 2) := dk_54 4 (dk_at dksJ30_grow_0 21 rfl rfl)
theorem dJ30_grow_23 : decode cJ30_grow 23 = .ok (.iload 4, 2) := dk_21 4 (dk_at dksJ30_grow_1 0 rfl rfl)
theorem dJ30_grow_25 : decode cJ30_grow 25 = .ok (.iload_n 1, 1) := dk_27 (dk_at dksJ30_grow_1 2 rfl rfl)
theorem dJ30_grow_26 : decode cJ30_grow 26 = .ok (.if_icmp .lt 15, 3) := dk_161 0 15 (dk_at dksJ30_grow_1 3 rfl rfl)
theorem dJ30_grow_29 : decode cJ30_grow 29 = .ok (.iload_n 2, 1) := dk_28 (dk_at dksJ30_grow_1 6 rfl rfl)
theorem dJ30_grow_30 : decode cJ30_grow 30 = .ok (.iload 4, 2) := dk_21 4 (dk_at dksJ30_grow_1 7 rfl rfl)
theorem dJ30_grow_32 : decode cJ30_grow 32 = .ok (.iadd, 1) := dk_96 (dk_at dksJ30_grow_1 9 rfl rfl)
theorem dJ30_grow_33 : decode cJ30_grow 33 = .ok (.dup, 1) := dk_89 (dk_at dksJ30_grow_1 10 rfl rfl)
theorem dJ30_grow_34 : decode cJ30_grow 34 = .ok (.istore_n 3, 1) := dk_62 (dk_at dksJ30_grow_1 11 rfl rfl)
theorem dJ30_grow_35 : decode cJ30_grow 35 = .ok (.ldc 9, 2) := dk_18 9 (dk_at dksJ30_grow_1 12 rfl rfl)
theorem dJ30_grow_37 : decode cJ30_grow 37 = .ok (.isub, 1) := dk_100 (dk_at dksJ30_grow_1 14 rfl rfl)
theorem dJ30_grow_38 : decode cJ30_grow 38 = .ok (.ifCond .le 11, 3) := dk_158 0 11 (dk_at dksJ30_grow_1 15 rfl rfl)
theorem dJ30_grow_41 : decode cJ30_grow 41 = .ok (.aload_n 0, 1) := dk_42 (dk_at dksJ30_grow_1 18 rfl rfl)
theorem dJ30_grow_42 : decode cJ30_grow 42 = .ok (.iload_n 1, 1) := dk_27 (dk_at dksJ30_grow_1 19 rfl rfl)
theorem dJ30_grow_43 : decode cJ30_grow 43 = .ok (.iload 4, 2) := dk_21 4 (dk_at dksJ30_grow_1 20 rfl rfl)
theorem dJ30_grow_45 : decode cJ30_grow 45 = .ok (.invokevirtual 10, 3) := dk_182 0 10 (dk_at dksJ30_grow_2 0 rfl rfl)
theorem dJ30_grow_48 : decode cJ30_grow 48 = .ok (.istore_n 3, 1) := dk_62 (dk_at dksJ30_grow_2 3 rfl rfl)
theorem dJ30_grow_49 : decode cJ30_grow 49 = .ok (.aload_n 0, 1) := dk_42 (dk_at dksJ30_grow_2 4 rfl rfl)
theorem dJ30_grow_50 : decode cJ30_grow 50 = .ok (.aload_n 0, 1) := dk_42 (dk_at dksJ30_grow_2 5 rfl rfl)
theorem dJ30_grow_51 : decode cJ30_grow 51 = .ok (.getfield 3, 3) := dk_180 0 3 (dk_at dksJ30_grow_2 6 rfl rfl)
theorem dJ30_grow_54 : decode cJ30_grow 54 = .ok (.iload_n 3, 1) := dk_29 (dk_at dksJ30_grow_2 9 rfl rfl)
theorem dJ30_grow_55 : decode cJ30_grow 55 = .ok (.invokestatic 14, 3) := dk_184 0 14 (dk_at dksJ30_grow_2 10 rfl rfl)
theorem dJ30_grow_58 : decode cJ30_grow 58 = .ok (.dup_x1, 1) := dk_90 (dk_at dksJ30_grow_2 13 rfl rfl)
theorem dJ30_grow_59 : decode cJ30_grow 59 = .ok (.putfield 3, 3) := dk_181 0 3 (dk_at dksJ30_grow_2 14 rfl rfl)
theorem dJ30_grow_62 : decode cJ30_grow 62 = .ok (.astore 5, 2) := dk_58 5 (dk_at dksJ30_grow_2 17 rfl rfl)
theorem dJ30_grow_64 : decode cJ30_grow 64 = .ok (.aload_n 0, 1) := dk_42 (dk_at dksJ30_grow_2 19 rfl rfl)
theorem dJ30_grow_65 : decode cJ30_grow 65 = .ok (.getfield 20, 3) := dk_180 0 20 (dk_at dksJ30_grow_2 20 rfl rfl)
theorem dJ30_grow_68 : decode cJ30_grow 68 = .ok (.aload_n 0, 1) := dk_42 (dk_at dksJ30_grow_2 23 rfl rfl)
theorem dJ30_grow_69 : decode cJ30_grow 69 = .ok (.getfield 24, 3) := dk_180 0 24 (dk_at dksJ30_grow_3 0 rfl rfl)
theorem dJ30_grow_72 : decode cJ30_grow 72 = .ok (.if_icmp .lt 24, 3) := dk_161 0 24 (dk_at dksJ30_grow_3 3 rfl rfl)
theorem dJ30_grow_75 : decode cJ30_grow 75 = .ok (.aload_n 0, 1) := dk_42 (dk_at dksJ30_grow_3 6 rfl rfl)
theorem dJ30_grow_76 : decode cJ30_grow 76 = .ok (.getfield 20, 3) := dk_180 0 20 (dk_at dksJ30_grow_3 7 rfl rfl)
theorem dJ30_grow_79 : decode cJ30_grow 79 = .ok (.aload_n 0, 1) := dk_42 (dk_at dksJ30_grow_3 10 rfl rfl)
theorem dJ30_grow_80 : decode cJ30_grow 80 = .ok (.getfield 24, 3) := dk_180 0 24 (dk_at dksJ30_grow_3 11 rfl rfl)
theorem dJ30_grow_83 : decode cJ30_grow 83 = .ok (.if_icmp .ne 81, 3) := dk_160 0 81 (dk_at dksJ30_grow_3 14 rfl rfl)
theorem dJ30_grow_86 : decode cJ30_grow 86 = .ok (.aload 5, 2) := dk_25 5 (dk_at dksJ30_grow_3 17 rfl rfl)
theorem dJ30_grow_88 : decode cJ30_grow 88 = .ok (.aload_n 0, 1) := dk_42 (dk_at dksJ30_grow_3 19 rfl rfl)
theorem dJ30_grow_89 : decode cJ30_grow 89 = .ok (.getfield 24, 3) := dk_180 0 24 (dk_at dksJ30_grow_3 20 rfl rfl)
theorem dJ30_grow_92 : decode cJ30_grow 92 = .ok (.aaload, 1) := dk_50 (dk_at dksJ30_grow_3 23 rfl rfl)
theorem dJ30_grow_93 : decode cJ30_grow 93 = .ok (.ifnull 71, 3) := dk_198 0 71 (dk_at dksJ30_grow_4 0 rfl rfl)
theorem dJ30_grow_96 : decode cJ30_grow 96 = .ok (.iload_n 3, 1) := dk_29 (dk_at dksJ30_grow_4 3 rfl rfl)
theorem dJ30_grow_97 : decode cJ30_grow 97 = .ok (.iload_n 2, 1) := dk_28 (dk_at dksJ30_grow_4 4 rfl rfl)
theorem dJ30_grow_98 : decode cJ30_grow 98 = .ok (.isub, 1) := dk_100 (dk_at dksJ30_grow_4 5 rfl rfl)
theorem dJ30_grow_99 : decode cJ30_grow 99 = .ok (.istore 6, 2) := dk_54 6 (dk_at dksJ30_grow_4 6 rfl rfl)
theorem dJ30_grow_101 : decode cJ30_grow 101 = .ok (.aload 5, 2) := dk_25 5 (dk_at dksJ30_grow_4 8 rfl rfl)
theorem dJ30_grow_103 : decode cJ30_grow 103 = .ok (.aload_n 0, 1) := dk_42 (dk_at dksJ30_grow_4 10 rfl rfl)
theorem dJ30_grow_104 : decode cJ30_grow 104 = .ok (.getfield 24, 3) := dk_180 0 24 (dk_at dksJ30_grow_4 11 rfl rfl)
theorem dJ30_grow_107 : decode cJ30_grow 107 = .ok (.aload 5, 2) := dk_25 5 (dk_at dksJ30_grow_4 14 rfl rfl)
theorem dJ30_grow_109 : decode cJ30_grow 109 = .ok (.aload_n 0, 1) := dk_42 (dk_at dksJ30_grow_4 16 rfl rfl)
theorem dJ30_grow_110 : decode cJ30_grow 110 = .ok (.getfield 24, 3) := dk_180 0 24 (dk_at dksJ30_grow_4 17 rfl rfl)
theorem dJ30_grow_113 : decode cJ30_grow 113 = .ok (.iload 6, 2) := dk_21 6 (dk_at dksJ30_grow_4 20 rfl rfl)
theorem dJ30_grow_115 : decode cJ30_grow 115 = .ok (.iadd, 1) := dk_96 (dk_at dksJ30_grow_4 22 rfl rfl)
theorem dJ30_grow_116 : decode cJ30_grow 116 = .ok (.iload_n 2, 1) := dk_28 (dk_at dksJ30_grow_4 23 rfl rfl)
theorem dJ30_grow_117 : decode cJ30_grow 117 = .ok (.aload_n 0, 1) := dk_42 (dk_at dksJ30_grow_5 0 rfl rfl)
theorem dJ30_grow_118 : decode cJ30_grow 118 = .ok (.getfield 24, 3) := dk_180 0 24 (dk_at dksJ30_grow_5 1 rfl rfl)
theorem dJ30_grow_121 : decode cJ30_grow 121 = .ok (.isub, 1) := dk_100 (dk_at dksJ30_grow_5 4 rfl rfl)
theorem dJ30_grow_122 : decode cJ30_grow 122 = .ok (.invokestatic 27, 3) := dk_184 0 27 (dk_at dksJ30_grow_5 5 rfl rfl)
theorem dJ30_grow_125 : decode cJ30_grow 125 = .ok (.aload_n 0, 1) := dk_42 (dk_at dksJ30_grow_5 8 rfl rfl)
theorem dJ30_grow_126 : decode cJ30_grow 126 = .ok (.getfield 24, 3) := dk_180 0 24 (dk_at dksJ30_grow_5 9 rfl rfl)
theorem dJ30_grow_129 : decode cJ30_grow 129 = .ok (.istore 7, 2) := dk_54 7 (dk_at dksJ30_grow_5 12 rfl rfl)
theorem dJ30_grow_131 : decode cJ30_grow 131 = .ok (.aload_n 0, 1) := dk_42 (dk_at dksJ30_grow_5 14 rfl rfl)
theorem dJ30_grow_132 : decode cJ30_grow 132 = .ok (.dup, 1) := dk_89 (dk_at dksJ30_grow_5 15 rfl rfl)
theorem dJ30_grow_133 : decode cJ30_grow 133 = .ok (.getfield 24, 3) := dk_180 0 24 (dk_at dksJ30_grow_5 16 rfl rfl)
theorem dJ30_grow_136 : decode cJ30_grow 136 = .ok (.iload 6, 2) := dk_21 6 (dk_at dksJ30_grow_5 19 rfl rfl)
theorem dJ30_grow_138 : decode cJ30_grow 138 = .ok (.iadd, 1) := dk_96 (dk_at dksJ30_grow_5 21 rfl rfl)
theorem dJ30_grow_139 : decode cJ30_grow 139 = .ok (.dup_x1, 1) := dk_90 (dk_at dksJ30_grow_5 22 rfl rfl)
theorem dJ30_grow_140 : decode cJ30_grow 140 = .ok (.putfield 24, 3) := dk_181 0 24 (dk_at dksJ30_grow_6 0 rfl rfl)
theorem dJ30_grow_143 : decode cJ30_grow 143 = .ok (.istore 8, 2) := dk_54 8 (dk_at dksJ30_grow_6 3 rfl rfl)
theorem dJ30_grow_145 : decode cJ30_grow 145 = .ok (.iload 7, 2) := dk_21 7 (dk_at dksJ30_grow_6 5 rfl rfl)
theorem dJ30_grow_147 : decode cJ30_grow 147 = .ok (.iload 8, 2) := dk_21 8 (dk_at dksJ30_grow_6 7 rfl rfl)
theorem dJ30_grow_149 : decode cJ30_grow 149 = .ok (.if_icmp .ge 15, 3) := dk_162 0 15 (dk_at dksJ30_grow_6 9 rfl rfl)
theorem dJ30_grow_152 : decode cJ30_grow 152 = .ok (.aload 5, 2) := dk_25 5 (dk_at dksJ30_grow_6 12 rfl rfl)
theorem dJ30_grow_154 : decode cJ30_grow 154 = .ok (.iload 7, 2) := dk_21 7 (dk_at dksJ30_grow_6 14 rfl rfl)
theorem dJ30_grow_156 : decode cJ30_grow 156 = .ok (.aconst_null, 1) := dk_1 (dk_at dksJ30_grow_6 16 rfl rfl)
theorem dJ30_grow_157 : decode cJ30_grow 157 = .ok (.aastore, 1) := dk_83 (dk_at dksJ30_grow_6 17 rfl rfl)
theorem dJ30_grow_158 : decode cJ30_grow 158 = .ok (.iinc 7 1, 3) := dk_132 7 1 (dk_at dksJ30_grow_6 18 rfl rfl)
theorem dJ30_grow_161 : decode cJ30_grow 161 = .ok (.goto (-16), 3) := dk_167 255 240 (dk_at dksJ30_grow_6 21 rfl rfl)
theorem dJ30_grow_164 : decode cJ30_grow 164 = .ok (.return_, 1) := dk_177 (dk_at dksJ30_grow_7 0 rfl rfl)
abbrev cJ30_newCapacity : ByteArray := prog_53_method_2_code
def yJ30_newCapacity : MethodName := ⟨RJ30, "newCapacity", "(II)I"⟩
def dkwJ30_newCapacity_2 : List UInt8 := [18, 9, 100, 156, 0, 9, 29, 28, 96, 167, 0, 5, 18, 9, 172]
abbrev dktJ30_newCapacity_2 : List UInt8 := dkwJ30_newCapacity_2 ++ []
def dkwJ30_newCapacity_1 : List UInt8 := [187, 0, 33, 89, 18, 35, 183, 0, 37, 191, 18, 41, 172, 27, 28, 164, 0, 6, 21, 4, 172, 29, 28, 96]
abbrev dktJ30_newCapacity_1 : List UInt8 := dkwJ30_newCapacity_1 ++ dktJ30_newCapacity_2
def dkwJ30_newCapacity_0 : List UInt8 := [42, 180, 0, 3, 190, 62, 29, 27, 96, 89, 54, 4, 18, 9, 100, 158, 0, 21, 21, 4, 156, 0, 13]
abbrev dktJ30_newCapacity_0 : List UInt8 := dkwJ30_newCapacity_0 ++ dktJ30_newCapacity_1
theorem dksJ30_newCapacity_0 : cJ30_newCapacity.data.toList.drop 0 = dktJ30_newCapacity_0 := by decide +kernel
theorem dksJ30_newCapacity_1 : cJ30_newCapacity.data.toList.drop 23 = dktJ30_newCapacity_1 := dk_seg dksJ30_newCapacity_0 23 rfl rfl
theorem dksJ30_newCapacity_2 : cJ30_newCapacity.data.toList.drop 47 = dktJ30_newCapacity_2 := dk_seg dksJ30_newCapacity_1 24 rfl rfl
theorem dJ30_newCapacity_0 : decode cJ30_newCapacity 0 = .ok (.aload_n 0, 1) := dk_42 (dk_at dksJ30_newCapacity_0 0 rfl rfl)
theorem dJ30_newCapacity_1 : decode cJ30_newCapacity 1 = .ok (.getfield 3, 3) := dk_180 0 3 (dk_at dksJ30_newCapacity_0 1 rfl rfl)
theorem dJ30_newCapacity_4 : decode cJ30_newCapacity 4 = .ok (.arraylength, 1) := dk_190 (dk_at dksJ30_newCapacity_0 4 rfl rfl)
theorem dJ30_newCapacity_5 : decode cJ30_newCapacity 5 = .ok (.istore_n 3, 1) := dk_62 (dk_at dksJ30_newCapacity_0 5 rfl rfl)
theorem dJ30_newCapacity_6 : decode cJ30_newCapacity 6 = .ok (.iload_n 3, 1) := dk_29 (dk_at dksJ30_newCapacity_0 6 rfl rfl)
theorem dJ30_newCapacity_7 : decode cJ30_newCapacity 7 = .ok (.iload_n 1, 1) := dk_27 (dk_at dksJ30_newCapacity_0 7 rfl rfl)
theorem dJ30_newCapacity_8 : decode cJ30_newCapacity 8 = .ok (.iadd, 1) := dk_96 (dk_at dksJ30_newCapacity_0 8 rfl rfl)
theorem dJ30_newCapacity_9 : decode cJ30_newCapacity 9 = .ok (.dup, 1) := dk_89 (dk_at dksJ30_newCapacity_0 9 rfl rfl)
theorem dJ30_newCapacity_10 : decode cJ30_newCapacity 10 = .ok (.istore 4, 2) := dk_54 4 (dk_at dksJ30_newCapacity_0 10 rfl rfl)
theorem dJ30_newCapacity_12 : decode cJ30_newCapacity 12 = .ok (.ldc 9, 2) := dk_18 9 (dk_at dksJ30_newCapacity_0 12 rfl rfl)
theorem dJ30_newCapacity_14 : decode cJ30_newCapacity 14 = .ok (.isub, 1) := dk_100 (dk_at dksJ30_newCapacity_0 14 rfl rfl)
theorem dJ30_newCapacity_15 : decode cJ30_newCapacity 15 = .ok (.ifCond .le 21, 3) := dk_158 0 21 (dk_at dksJ30_newCapacity_0 15 rfl rfl)
theorem dJ30_newCapacity_18 : decode cJ30_newCapacity 18 = .ok (.iload 4, 2) := dk_21 4 (dk_at dksJ30_newCapacity_0 18 rfl rfl)
theorem dJ30_newCapacity_20 : decode cJ30_newCapacity 20 = .ok (.ifCond .ge 13, 3) := dk_156 0 13 (dk_at dksJ30_newCapacity_0 20 rfl rfl)
theorem dJ30_newCapacity_23 : decode cJ30_newCapacity 23 = .ok (.new 33, 3) := dk_187 0 33 (dk_at dksJ30_newCapacity_1 0 rfl rfl)
theorem dJ30_newCapacity_26 : decode cJ30_newCapacity 26 = .ok (.dup, 1) := dk_89 (dk_at dksJ30_newCapacity_1 3 rfl rfl)
theorem dJ30_newCapacity_27 : decode cJ30_newCapacity 27 = .ok (.ldc 35, 2) := dk_18 35 (dk_at dksJ30_newCapacity_1 4 rfl rfl)
theorem dJ30_newCapacity_29 : decode cJ30_newCapacity 29 = .ok (.invokespecial 37, 3) := dk_183 0 37 (dk_at dksJ30_newCapacity_1 6 rfl rfl)
theorem dJ30_newCapacity_32 : decode cJ30_newCapacity 32 = .ok (.athrow, 1) := dk_191 (dk_at dksJ30_newCapacity_1 9 rfl rfl)
theorem dJ30_newCapacity_33 : decode cJ30_newCapacity 33 = .ok (.ldc 41, 2) := dk_18 41 (dk_at dksJ30_newCapacity_1 10 rfl rfl)
theorem dJ30_newCapacity_35 : decode cJ30_newCapacity 35 = .ok (.ireturn, 1) := dk_172 (dk_at dksJ30_newCapacity_1 12 rfl rfl)
theorem dJ30_newCapacity_36 : decode cJ30_newCapacity 36 = .ok (.iload_n 1, 1) := dk_27 (dk_at dksJ30_newCapacity_1 13 rfl rfl)
theorem dJ30_newCapacity_37 : decode cJ30_newCapacity 37 = .ok (.iload_n 2, 1) := dk_28 (dk_at dksJ30_newCapacity_1 14 rfl rfl)
theorem dJ30_newCapacity_38 : decode cJ30_newCapacity 38 = .ok (.if_icmp .le 6, 3) := dk_164 0 6 (dk_at dksJ30_newCapacity_1 15 rfl rfl)
theorem dJ30_newCapacity_41 : decode cJ30_newCapacity 41 = .ok (.iload 4, 2) := dk_21 4 (dk_at dksJ30_newCapacity_1 18 rfl rfl)
theorem dJ30_newCapacity_43 : decode cJ30_newCapacity 43 = .ok (.ireturn, 1) := dk_172 (dk_at dksJ30_newCapacity_1 20 rfl rfl)
theorem dJ30_newCapacity_44 : decode cJ30_newCapacity 44 = .ok (.iload_n 3, 1) := dk_29 (dk_at dksJ30_newCapacity_1 21 rfl rfl)
theorem dJ30_newCapacity_45 : decode cJ30_newCapacity 45 = .ok (.iload_n 2, 1) := dk_28 (dk_at dksJ30_newCapacity_1 22 rfl rfl)
theorem dJ30_newCapacity_46 : decode cJ30_newCapacity 46 = .ok (.iadd, 1) := dk_96 (dk_at dksJ30_newCapacity_1 23 rfl rfl)
theorem dJ30_newCapacity_47 : decode cJ30_newCapacity 47 = .ok (.ldc 9, 2) := dk_18 9 (dk_at dksJ30_newCapacity_2 0 rfl rfl)
theorem dJ30_newCapacity_49 : decode cJ30_newCapacity 49 = .ok (.isub, 1) := dk_100 (dk_at dksJ30_newCapacity_2 2 rfl rfl)
theorem dJ30_newCapacity_50 : decode cJ30_newCapacity 50 = .ok (.ifCond .ge 9, 3) := dk_156 0 9 (dk_at dksJ30_newCapacity_2 3 rfl rfl)
theorem dJ30_newCapacity_53 : decode cJ30_newCapacity 53 = .ok (.iload_n 3, 1) := dk_29 (dk_at dksJ30_newCapacity_2 6 rfl rfl)
theorem dJ30_newCapacity_54 : decode cJ30_newCapacity 54 = .ok (.iload_n 2, 1) := dk_28 (dk_at dksJ30_newCapacity_2 7 rfl rfl)
theorem dJ30_newCapacity_55 : decode cJ30_newCapacity 55 = .ok (.iadd, 1) := dk_96 (dk_at dksJ30_newCapacity_2 8 rfl rfl)
theorem dJ30_newCapacity_56 : decode cJ30_newCapacity 56 = .ok (.goto 5, 3) := dk_167 0 5 (dk_at dksJ30_newCapacity_2 9 rfl rfl)
theorem dJ30_newCapacity_59 : decode cJ30_newCapacity 59 = .ok (.ldc 9, 2) := dk_18 9 (dk_at dksJ30_newCapacity_2 12 rfl rfl)
theorem dJ30_newCapacity_61 : decode cJ30_newCapacity 61 = .ok (.ireturn, 1) := dk_172 (dk_at dksJ30_newCapacity_2 14 rfl rfl)
abbrev cJ30_iterator : ByteArray := prog_53_method_39_code
def yJ30_iterator : MethodName := ⟨RJ30, "iterator", "()Ljava/util/Iterator;"⟩
def dkwJ30_iterator_0 : List UInt8 := [187, 0, 131, 89, 42, 183, 0, 133, 176]
abbrev dktJ30_iterator_0 : List UInt8 := dkwJ30_iterator_0 ++ []
theorem dksJ30_iterator_0 : cJ30_iterator.data.toList.drop 0 = dktJ30_iterator_0 := by decide +kernel
theorem dJ30_iterator_0 : decode cJ30_iterator 0 = .ok (.new 131, 3) := dk_187 0 131 (dk_at dksJ30_iterator_0 0 rfl rfl)
theorem dJ30_iterator_3 : decode cJ30_iterator 3 = .ok (.dup, 1) := dk_89 (dk_at dksJ30_iterator_0 3 rfl rfl)
theorem dJ30_iterator_4 : decode cJ30_iterator 4 = .ok (.aload_n 0, 1) := dk_42 (dk_at dksJ30_iterator_0 4 rfl rfl)
theorem dJ30_iterator_5 : decode cJ30_iterator 5 = .ok (.invokespecial 133, 3) := dk_183 0 133 (dk_at dksJ30_iterator_0 5 rfl rfl)
theorem dJ30_iterator_8 : decode cJ30_iterator 8 = .ok (.areturn, 1) := dk_176 (dk_at dksJ30_iterator_0 8 rfl rfl)
abbrev cJ30_nonNullElementAt : ByteArray := prog_53_method_11_code
def yJ30_nonNullElementAt : MethodName := ⟨RJ30, "nonNullElementAt", "([Ljava/lang/Object;I)Ljava/lang/Object;"⟩
def dkwJ30_nonNullElementAt_0 : List UInt8 := [42, 27, 50, 77, 44, 199, 0, 11, 187, 0, 62, 89, 183, 0, 64, 191, 44, 176]
abbrev dktJ30_nonNullElementAt_0 : List UInt8 := dkwJ30_nonNullElementAt_0 ++ []
theorem dksJ30_nonNullElementAt_0 : cJ30_nonNullElementAt.data.toList.drop 0 = dktJ30_nonNullElementAt_0 := by decide +kernel
theorem dJ30_nonNullElementAt_0 : decode cJ30_nonNullElementAt 0 = .ok (.aload_n 0, 1) := dk_42 (dk_at dksJ30_nonNullElementAt_0 0 rfl rfl)
theorem dJ30_nonNullElementAt_1 : decode cJ30_nonNullElementAt 1 = .ok (.iload_n 1, 1) := dk_27 (dk_at dksJ30_nonNullElementAt_0 1 rfl rfl)
theorem dJ30_nonNullElementAt_2 : decode cJ30_nonNullElementAt 2 = .ok (.aaload, 1) := dk_50 (dk_at dksJ30_nonNullElementAt_0 2 rfl rfl)
theorem dJ30_nonNullElementAt_3 : decode cJ30_nonNullElementAt 3 = .ok (.astore_n 2, 1) := dk_77 (dk_at dksJ30_nonNullElementAt_0 3 rfl rfl)
theorem dJ30_nonNullElementAt_4 : decode cJ30_nonNullElementAt 4 = .ok (.aload_n 2, 1) := dk_44 (dk_at dksJ30_nonNullElementAt_0 4 rfl rfl)
theorem dJ30_nonNullElementAt_5 : decode cJ30_nonNullElementAt 5 = .ok (.ifnonnull 11, 3) := dk_199 0 11 (dk_at dksJ30_nonNullElementAt_0 5 rfl rfl)
theorem dJ30_nonNullElementAt_8 : decode cJ30_nonNullElementAt 8 = .ok (.new 62, 3) := dk_187 0 62 (dk_at dksJ30_nonNullElementAt_0 8 rfl rfl)
theorem dJ30_nonNullElementAt_11 : decode cJ30_nonNullElementAt 11 = .ok (.dup, 1) := dk_89 (dk_at dksJ30_nonNullElementAt_0 11 rfl rfl)
theorem dJ30_nonNullElementAt_12 : decode cJ30_nonNullElementAt 12 = .ok (.invokespecial 64, 3) := dk_183 0 64 (dk_at dksJ30_nonNullElementAt_0 12 rfl rfl)
theorem dJ30_nonNullElementAt_15 : decode cJ30_nonNullElementAt 15 = .ok (.athrow, 1) := dk_191 (dk_at dksJ30_nonNullElementAt_0 15 rfl rfl)
theorem dJ30_nonNullElementAt_16 : decode cJ30_nonNullElementAt 16 = .ok (.aload_n 2, 1) := dk_44 (dk_at dksJ30_nonNullElementAt_0 16 rfl rfl)
theorem dJ30_nonNullElementAt_17 : decode cJ30_nonNullElementAt 17 = .ok (.areturn, 1) := dk_176 (dk_at dksJ30_nonNullElementAt_0 17 rfl rfl)
abbrev cJ30_inc : ByteArray := prog_53_method_6_code
def yJ30_inc : MethodName := ⟨RJ30, "inc", "(II)I"⟩
def dkwJ30_inc_0 : List UInt8 := [132, 0, 1, 26, 27, 161, 0, 5, 3, 59, 26, 172]
abbrev dktJ30_inc_0 : List UInt8 := dkwJ30_inc_0 ++ []
theorem dksJ30_inc_0 : cJ30_inc.data.toList.drop 0 = dktJ30_inc_0 := by decide +kernel
theorem dJ30_inc_0 : decode cJ30_inc 0 = .ok (.iinc 0 1, 3) := dk_132 0 1 (dk_at dksJ30_inc_0 0 rfl rfl)
theorem dJ30_inc_3 : decode cJ30_inc 3 = .ok (.iload_n 0, 1) := dk_26 (dk_at dksJ30_inc_0 3 rfl rfl)
theorem dJ30_inc_4 : decode cJ30_inc 4 = .ok (.iload_n 1, 1) := dk_27 (dk_at dksJ30_inc_0 4 rfl rfl)
theorem dJ30_inc_5 : decode cJ30_inc 5 = .ok (.if_icmp .lt 5, 3) := dk_161 0 5 (dk_at dksJ30_inc_0 5 rfl rfl)
theorem dJ30_inc_8 : decode cJ30_inc 8 = .ok (.iconst 0, 1) := dk_3 (dk_at dksJ30_inc_0 8 rfl rfl)
theorem dJ30_inc_9 : decode cJ30_inc 9 = .ok (.istore_n 0, 1) := dk_59 (dk_at dksJ30_inc_0 9 rfl rfl)
theorem dJ30_inc_10 : decode cJ30_inc 10 = .ok (.iload_n 0, 1) := dk_26 (dk_at dksJ30_inc_0 10 rfl rfl)
theorem dJ30_inc_11 : decode cJ30_inc 11 = .ok (.ireturn, 1) := dk_172 (dk_at dksJ30_inc_0 11 rfl rfl)
abbrev cJ30_toArray : ByteArray := prog_53_method_55_code
def yJ30_toArray : MethodName := ⟨RJ30, "toArray", "()[Ljava/lang/Object;"⟩
def dkwJ30_toArray_0 : List UInt8 := [42, 18, 188, 182, 0, 189, 176]
abbrev dktJ30_toArray_0 : List UInt8 := dkwJ30_toArray_0 ++ []
theorem dksJ30_toArray_0 : cJ30_toArray.data.toList.drop 0 = dktJ30_toArray_0 := by decide +kernel
theorem dJ30_toArray_0 : decode cJ30_toArray 0 = .ok (.aload_n 0, 1) := dk_42 (dk_at dksJ30_toArray_0 0 rfl rfl)
theorem dJ30_toArray_1 : decode cJ30_toArray 1 = .ok (.ldc 188, 2) := dk_18 188 (dk_at dksJ30_toArray_0 1 rfl rfl)
theorem dJ30_toArray_3 : decode cJ30_toArray 3 = .ok (.invokevirtual 189, 3) := dk_182 0 189 (dk_at dksJ30_toArray_0 3 rfl rfl)
theorem dJ30_toArray_6 : decode cJ30_toArray 6 = .ok (.areturn, 1) := dk_176 (dk_at dksJ30_toArray_0 6 rfl rfl)
abbrev cJ30_toArray_2 : ByteArray := prog_53_method_56_code
def yJ30_toArray_2 : MethodName := ⟨RJ30, "toArray", "(Ljava/lang/Class;)[Ljava/lang/Object;"⟩
def dkwJ30_toArray_2_4 : List UInt8 := [21, 5, 184, 0, 27, 45, 176]
abbrev dktJ30_toArray_2_4 : List UInt8 := dkwJ30_toArray_2_4 ++ []
def dkwJ30_toArray_2_3 : List UInt8 := [44, 190, 21, 4, 100, 184, 0, 27, 21, 6, 21, 5, 159, 0, 16, 44, 3, 45, 44, 190, 21, 4, 100]
abbrev dktJ30_toArray_2_3 : List UInt8 := dkwJ30_toArray_2_3 ++ dktJ30_toArray_2_4
def dkwJ30_toArray_2_2 : List UInt8 := [184, 0, 193, 78, 167, 0, 28, 44, 3, 21, 6, 21, 4, 100, 43, 184, 0, 193, 78, 44, 21, 4, 45, 3]
abbrev dktJ30_toArray_2_2 : List UInt8 := dkwJ30_toArray_2_2 ++ dktJ30_toArray_2_3
def dkwJ30_toArray_2_1 : List UInt8 := [163, 0, 7, 3, 167, 0, 5, 44, 190, 96, 89, 54, 6, 155, 0, 16, 44, 21, 4, 21, 6, 43]
abbrev dktJ30_toArray_2_1 : List UInt8 := dkwJ30_toArray_2_1 ++ dktJ30_toArray_2_2
def dkwJ30_toArray_2_0 : List UInt8 := [42, 180, 0, 3, 77, 42, 180, 0, 24, 54, 4, 42, 180, 0, 20, 54, 5, 21, 5, 21, 4, 21, 5]
abbrev dktJ30_toArray_2_0 : List UInt8 := dkwJ30_toArray_2_0 ++ dktJ30_toArray_2_1
theorem dksJ30_toArray_2_0 : cJ30_toArray_2.data.toList.drop 0 = dktJ30_toArray_2_0 := by decide +kernel
theorem dksJ30_toArray_2_1 : cJ30_toArray_2.data.toList.drop 23 = dktJ30_toArray_2_1 := dk_seg dksJ30_toArray_2_0 23 rfl rfl
theorem dksJ30_toArray_2_2 : cJ30_toArray_2.data.toList.drop 45 = dktJ30_toArray_2_2 := dk_seg dksJ30_toArray_2_1 22 rfl rfl
theorem dksJ30_toArray_2_3 : cJ30_toArray_2.data.toList.drop 69 = dktJ30_toArray_2_3 := dk_seg dksJ30_toArray_2_2 24 rfl rfl
theorem dksJ30_toArray_2_4 : cJ30_toArray_2.data.toList.drop 92 = dktJ30_toArray_2_4 := dk_seg dksJ30_toArray_2_3 23 rfl rfl
theorem dJ30_toArray_2_0 : decode cJ30_toArray_2 0 = .ok (.aload_n 0, 1) := dk_42 (dk_at dksJ30_toArray_2_0 0 rfl rfl)
theorem dJ30_toArray_2_1 : decode cJ30_toArray_2 1 = .ok (.getfield 3, 3) := dk_180 0 3 (dk_at dksJ30_toArray_2_0 1 rfl rfl)
theorem dJ30_toArray_2_4 : decode cJ30_toArray_2 4 = .ok (.astore_n 2, 1) := dk_77 (dk_at dksJ30_toArray_2_0 4 rfl rfl)
theorem dJ30_toArray_2_5 : decode cJ30_toArray_2 5 = .ok (.aload_n 0, 1) := dk_42 (dk_at dksJ30_toArray_2_0 5 rfl rfl)
theorem dJ30_toArray_2_6 : decode cJ30_toArray_2 6 = .ok (.getfield 24, 3) := dk_180 0 24 (dk_at dksJ30_toArray_2_0 6 rfl rfl)
theorem dJ30_toArray_2_9 : decode cJ30_toArray_2 9 = .ok (.istore 4, 2) := dk_54 4 (dk_at dksJ30_toArray_2_0 9 rfl rfl)
theorem dJ30_toArray_2_11 : decode cJ30_toArray_2 11 = .ok (.aload_n 0, 1) := dk_42 (dk_at dksJ30_toArray_2_0 11 rfl rfl)
theorem dJ30_toArray_2_12 : decode cJ30_toArray_2 12 = .ok (.getfield 20, 3) := dk_180 0 20 (dk_at dksJ30_toArray_2_0 12 rfl rfl)
theorem dJ30_toArray_2_15 : decode cJ30_toArray_2 15 = .ok (.istore 5, 2) := dk_54 5 (dk_at dksJ30_toArray_2_0 15 rfl rfl)
theorem dJ30_toArray_2_17 : decode cJ30_toArray_2 17 = .ok (.iload 5, 2) := dk_21 5 (dk_at dksJ30_toArray_2_0 17 rfl rfl)
theorem dJ30_toArray_2_19 : decode cJ30_toArray_2 19 = .ok (.iload 4, 2) := dk_21 4 (dk_at dksJ30_toArray_2_0 19 rfl rfl)
theorem dJ30_toArray_2_21 : decode cJ30_toArray_2 21 = .ok (.iload 5, 2) := dk_21 5 (dk_at dksJ30_toArray_2_0 21 rfl rfl)
theorem dJ30_toArray_2_23 : decode cJ30_toArray_2 23 = .ok (.if_icmp .gt 7, 3) := dk_163 0 7 (dk_at dksJ30_toArray_2_1 0 rfl rfl)
theorem dJ30_toArray_2_26 : decode cJ30_toArray_2 26 = .ok (.iconst 0, 1) := dk_3 (dk_at dksJ30_toArray_2_1 3 rfl rfl)
theorem dJ30_toArray_2_27 : decode cJ30_toArray_2 27 = .ok (.goto 5, 3) := dk_167 0 5 (dk_at dksJ30_toArray_2_1 4 rfl rfl)
theorem dJ30_toArray_2_30 : decode cJ30_toArray_2 30 = .ok (.aload_n 2, 1) := dk_44 (dk_at dksJ30_toArray_2_1 7 rfl rfl)
theorem dJ30_toArray_2_31 : decode cJ30_toArray_2 31 = .ok (.arraylength, 1) := dk_190 (dk_at dksJ30_toArray_2_1 8 rfl rfl)
theorem dJ30_toArray_2_32 : decode cJ30_toArray_2 32 = .ok (.iadd, 1) := dk_96 (dk_at dksJ30_toArray_2_1 9 rfl rfl)
theorem dJ30_toArray_2_33 : decode cJ30_toArray_2 33 = .ok (.dup, 1) := dk_89 (dk_at dksJ30_toArray_2_1 10 rfl rfl)
theorem dJ30_toArray_2_34 : decode cJ30_toArray_2 34 = .ok (.istore 6, 2) := dk_54 6 (dk_at dksJ30_toArray_2_1 11 rfl rfl)
theorem dJ30_toArray_2_36 : decode cJ30_toArray_2 36 = .ok (.ifCond .lt 16, 3) := dk_155 0 16 (dk_at dksJ30_toArray_2_1 13 rfl rfl)
theorem dJ30_toArray_2_39 : decode cJ30_toArray_2 39 = .ok (.aload_n 2, 1) := dk_44 (dk_at dksJ30_toArray_2_1 16 rfl rfl)
theorem dJ30_toArray_2_40 : decode cJ30_toArray_2 40 = .ok (.iload 4, 2) := dk_21 4 (dk_at dksJ30_toArray_2_1 17 rfl rfl)
theorem dJ30_toArray_2_42 : decode cJ30_toArray_2 42 = .ok (.iload 6, 2) := dk_21 6 (dk_at dksJ30_toArray_2_1 19 rfl rfl)
theorem dJ30_toArray_2_44 : decode cJ30_toArray_2 44 = .ok (.aload_n 1, 1) := dk_43 (dk_at dksJ30_toArray_2_1 21 rfl rfl)
theorem dJ30_toArray_2_45 : decode cJ30_toArray_2 45 = .ok (.invokestatic 193, 3) := dk_184 0 193 (dk_at dksJ30_toArray_2_2 0 rfl rfl)
theorem dJ30_toArray_2_48 : decode cJ30_toArray_2 48 = .ok (.astore_n 3, 1) := dk_78 (dk_at dksJ30_toArray_2_2 3 rfl rfl)
theorem dJ30_toArray_2_49 : decode cJ30_toArray_2 49 = .ok (.goto 28, 3) := dk_167 0 28 (dk_at dksJ30_toArray_2_2 4 rfl rfl)
theorem dJ30_toArray_2_52 : decode cJ30_toArray_2 52 = .ok (.aload_n 2, 1) := dk_44 (dk_at dksJ30_toArray_2_2 7 rfl rfl)
theorem dJ30_toArray_2_53 : decode cJ30_toArray_2 53 = .ok (.iconst 0, 1) := dk_3 (dk_at dksJ30_toArray_2_2 8 rfl rfl)
theorem dJ30_toArray_2_54 : decode cJ30_toArray_2 54 = .ok (.iload 6, 2) := dk_21 6 (dk_at dksJ30_toArray_2_2 9 rfl rfl)
theorem dJ30_toArray_2_56 : decode cJ30_toArray_2 56 = .ok (.iload 4, 2) := dk_21 4 (dk_at dksJ30_toArray_2_2 11 rfl rfl)
theorem dJ30_toArray_2_58 : decode cJ30_toArray_2 58 = .ok (.isub, 1) := dk_100 (dk_at dksJ30_toArray_2_2 13 rfl rfl)
theorem dJ30_toArray_2_59 : decode cJ30_toArray_2 59 = .ok (.aload_n 1, 1) := dk_43 (dk_at dksJ30_toArray_2_2 14 rfl rfl)
theorem dJ30_toArray_2_60 : decode cJ30_toArray_2 60 = .ok (.invokestatic 193, 3) := dk_184 0 193 (dk_at dksJ30_toArray_2_2 15 rfl rfl)
theorem dJ30_toArray_2_63 : decode cJ30_toArray_2 63 = .ok (.astore_n 3, 1) := dk_78 (dk_at dksJ30_toArray_2_2 18 rfl rfl)
theorem dJ30_toArray_2_64 : decode cJ30_toArray_2 64 = .ok (.aload_n 2, 1) := dk_44 (dk_at dksJ30_toArray_2_2 19 rfl rfl)
theorem dJ30_toArray_2_65 : decode cJ30_toArray_2 65 = .ok (.iload 4, 2) := dk_21 4 (dk_at dksJ30_toArray_2_2 20 rfl rfl)
theorem dJ30_toArray_2_67 : decode cJ30_toArray_2 67 = .ok (.aload_n 3, 1) := dk_45 (dk_at dksJ30_toArray_2_2 22 rfl rfl)
theorem dJ30_toArray_2_68 : decode cJ30_toArray_2 68 = .ok (.iconst 0, 1) := dk_3 (dk_at dksJ30_toArray_2_2 23 rfl rfl)
theorem dJ30_toArray_2_69 : decode cJ30_toArray_2 69 = .ok (.aload_n 2, 1) := dk_44 (dk_at dksJ30_toArray_2_3 0 rfl rfl)
theorem dJ30_toArray_2_70 : decode cJ30_toArray_2 70 = .ok (.arraylength, 1) := dk_190 (dk_at dksJ30_toArray_2_3 1 rfl rfl)
theorem dJ30_toArray_2_71 : decode cJ30_toArray_2 71 = .ok (.iload 4, 2) := dk_21 4 (dk_at dksJ30_toArray_2_3 2 rfl rfl)
theorem dJ30_toArray_2_73 : decode cJ30_toArray_2 73 = .ok (.isub, 1) := dk_100 (dk_at dksJ30_toArray_2_3 4 rfl rfl)
theorem dJ30_toArray_2_74 : decode cJ30_toArray_2 74 = .ok (.invokestatic 27, 3) := dk_184 0 27 (dk_at dksJ30_toArray_2_3 5 rfl rfl)
theorem dJ30_toArray_2_77 : decode cJ30_toArray_2 77 = .ok (.iload 6, 2) := dk_21 6 (dk_at dksJ30_toArray_2_3 8 rfl rfl)
theorem dJ30_toArray_2_79 : decode cJ30_toArray_2 79 = .ok (.iload 5, 2) := dk_21 5 (dk_at dksJ30_toArray_2_3 10 rfl rfl)
theorem dJ30_toArray_2_81 : decode cJ30_toArray_2 81 = .ok (.if_icmp .eq 16, 3) := dk_159 0 16 (dk_at dksJ30_toArray_2_3 12 rfl rfl)
theorem dJ30_toArray_2_84 : decode cJ30_toArray_2 84 = .ok (.aload_n 2, 1) := dk_44 (dk_at dksJ30_toArray_2_3 15 rfl rfl)
theorem dJ30_toArray_2_85 : decode cJ30_toArray_2 85 = .ok (.iconst 0, 1) := dk_3 (dk_at dksJ30_toArray_2_3 16 rfl rfl)
theorem dJ30_toArray_2_86 : decode cJ30_toArray_2 86 = .ok (.aload_n 3, 1) := dk_45 (dk_at dksJ30_toArray_2_3 17 rfl rfl)
theorem dJ30_toArray_2_87 : decode cJ30_toArray_2 87 = .ok (.aload_n 2, 1) := dk_44 (dk_at dksJ30_toArray_2_3 18 rfl rfl)
theorem dJ30_toArray_2_88 : decode cJ30_toArray_2 88 = .ok (.arraylength, 1) := dk_190 (dk_at dksJ30_toArray_2_3 19 rfl rfl)
theorem dJ30_toArray_2_89 : decode cJ30_toArray_2 89 = .ok (.iload 4, 2) := dk_21 4 (dk_at dksJ30_toArray_2_3 20 rfl rfl)
theorem dJ30_toArray_2_91 : decode cJ30_toArray_2 91 = .ok (.isub, 1) := dk_100 (dk_at dksJ30_toArray_2_3 22 rfl rfl)
theorem dJ30_toArray_2_92 : decode cJ30_toArray_2 92 = .ok (.iload 5, 2) := dk_21 5 (dk_at dksJ30_toArray_2_4 0 rfl rfl)
theorem dJ30_toArray_2_94 : decode cJ30_toArray_2 94 = .ok (.invokestatic 27, 3) := dk_184 0 27 (dk_at dksJ30_toArray_2_4 2 rfl rfl)
theorem dJ30_toArray_2_97 : decode cJ30_toArray_2 97 = .ok (.aload_n 3, 1) := dk_45 (dk_at dksJ30_toArray_2_4 5 rfl rfl)
theorem dJ30_toArray_2_98 : decode cJ30_toArray_2 98 = .ok (.areturn, 1) := dk_176 (dk_at dksJ30_toArray_2_4 6 rfl rfl)
theorem q88 : (Jvm.Cond.initialized "java/util/ArrayDeque") ∈ lw_all := lw_g (lw_at lw_m1 40 rfl) rfl
theorem q279 : (Jvm.Cond.selects "java/util/ArrayDeque" ({ cls := "java/lang/Object", name := "getClass", desc := "()Ljava/lang/Class;" } : Jvm.MethodName) ({ cls := "java/lang/Object", name := "getClass", desc := "()Ljava/lang/Class;" } : Jvm.MethodName)) ∈ lw_all := lw_g (lw_at lw_m1 231 rfl) rfl
theorem q1388 : (Jvm.Cond.instantiable "java/util/ArrayDeque" (3 : Nat)) ∈ lw_all := lw_g (lw_at lw_m6 140 rfl) rfl
theorem q1390 : (Jvm.Cond.instanceMethod ({ cls := "java/util/ArrayDeque", name := "<init>", desc := "()V" } : Jvm.MethodName)) ∈ lw_all := lw_g (lw_at lw_m6 142 rfl) rfl
theorem q1391 : (Jvm.Cond.code ({ cls := "java/util/ArrayDeque", name := "<init>", desc := "()V" } : Jvm.MethodName) prog_53_method_3_code (1 : Nat) (Option.none : Option Jvm.ClassFile.FieldType)) ∈ lw_all := lw_g (lw_at lw_m6 143 rfl) rfl
theorem q1392 : (Jvm.Cond.methodLink "java/util/ArrayDeque" (42 : Nat) ({ cls := "java/util/AbstractCollection", name := "<init>", desc := "()V" } : Jvm.MethodName)) ∈ lw_all := lw_g (lw_at lw_m6 144 rfl) rfl
theorem q1393 : (Jvm.Cond.classLink "java/util/ArrayDeque" (47 : Nat) "java/lang/Object") ∈ lw_all := lw_g (lw_at lw_m6 145 rfl) rfl
theorem q1394 : (Jvm.Cond.fieldLink "java/util/ArrayDeque" (3 : Nat) "java/util/ArrayDeque" "elements" "[Ljava/lang/Object;") ∈ lw_all := lw_g (lw_at lw_m6 146 rfl) rfl
theorem q1397 : (Jvm.Cond.fieldLink "java/util/ArrayDeque" (24 : Nat) "java/util/ArrayDeque" "head" "I") ∈ lw_all := lw_g (lw_at lw_m6 149 rfl) rfl
theorem q1398 : (Jvm.Cond.fieldLink "java/util/ArrayDeque" (20 : Nat) "java/util/ArrayDeque" "tail" "I") ∈ lw_all := lw_g (lw_at lw_m6 150 rfl) rfl
theorem q1399 : (Jvm.Cond.lays "java/util/ArrayDeque" "java/util/ArrayDeque" "elements" "[Ljava/lang/Object;") ∈ lw_all := lw_g (lw_at lw_m6 151 rfl) rfl
theorem q1400 : (Jvm.Cond.soleField "java/util/ArrayDeque" "elements") ∈ lw_all := lw_g (lw_at lw_m6 152 rfl) rfl
theorem q1401 : (Jvm.Cond.lays "java/util/ArrayDeque" "java/util/ArrayDeque" "head" "I") ∈ lw_all := lw_g (lw_at lw_m6 153 rfl) rfl
theorem q1402 : (Jvm.Cond.soleField "java/util/ArrayDeque" "head") ∈ lw_all := lw_g (lw_at lw_m6 154 rfl) rfl
theorem q1403 : (Jvm.Cond.lays "java/util/ArrayDeque" "java/util/ArrayDeque" "tail" "I") ∈ lw_all := lw_g (lw_at lw_m6 155 rfl) rfl
theorem q1404 : (Jvm.Cond.soleField "java/util/ArrayDeque" "tail") ∈ lw_all := lw_g (lw_at lw_m6 156 rfl) rfl
theorem q1405 : (Jvm.Cond.superclass "java/util/ArrayDeque" "java/util/AbstractCollection") ∈ lw_all := lw_g (lw_at lw_m6 157 rfl) rfl
theorem q1407 : (Jvm.Cond.instanceMethod ({ cls := "java/util/ArrayDeque", name := "size", desc := "()I" } : Jvm.MethodName)) ∈ lw_all := lw_g (lw_at lw_m6 159 rfl) rfl
theorem q1408 : (Jvm.Cond.selects "java/util/ArrayDeque" ({ cls := "java/util/ArrayDeque", name := "size", desc := "()I" } : Jvm.MethodName) ({ cls := "java/util/ArrayDeque", name := "size", desc := "()I" } : Jvm.MethodName)) ∈ lw_all := lw_g (lw_at lw_m6 160 rfl) rfl
theorem q1409 : (Jvm.Cond.code ({ cls := "java/util/ArrayDeque", name := "size", desc := "()I" } : Jvm.MethodName) prog_53_method_37_code (1 : Nat) (Option.some Jvm.ClassFile.FieldType.int)) ∈ lw_all := lw_g (lw_at lw_m6 161 rfl) rfl
theorem q1410 : (Jvm.Cond.methodLink "java/util/ArrayDeque" (127 : Nat) ({ cls := "java/util/ArrayDeque", name := "sub", desc := "(III)I" } : Jvm.MethodName)) ∈ lw_all := lw_g (lw_at lw_m6 162 rfl) rfl
theorem q1411 : (Jvm.Cond.static ({ cls := "java/util/ArrayDeque", name := "sub", desc := "(III)I" } : Jvm.MethodName)) ∈ lw_all := lw_g (lw_at lw_m6 163 rfl) rfl
theorem q1412 : (Jvm.Cond.code ({ cls := "java/util/ArrayDeque", name := "sub", desc := "(III)I" } : Jvm.MethodName) prog_53_method_9_code (3 : Nat) (Option.some Jvm.ClassFile.FieldType.int)) ∈ lw_all := lw_g (lw_at lw_m6 164 rfl) rfl
theorem q1422 : (Jvm.Cond.instanceMethod ({ cls := "java/util/ArrayDeque", name := "addFirst", desc := "(Ljava/lang/Object;)V" } : Jvm.MethodName)) ∈ lw_all := lw_g (lw_at lw_m6 174 rfl) rfl
theorem q1423 : (Jvm.Cond.selects "java/util/ArrayDeque" ({ cls := "java/util/ArrayDeque", name := "addFirst", desc := "(Ljava/lang/Object;)V" } : Jvm.MethodName) ({ cls := "java/util/ArrayDeque", name := "addFirst", desc := "(Ljava/lang/Object;)V" } : Jvm.MethodName)) ∈ lw_all := lw_g (lw_at lw_m6 175 rfl) rfl
theorem q1424 : (Jvm.Cond.code ({ cls := "java/util/ArrayDeque", name := "addFirst", desc := "(Ljava/lang/Object;)V" } : Jvm.MethodName) prog_53_method_12_code (3 : Nat) (Option.none : Option Jvm.ClassFile.FieldType)) ∈ lw_all := lw_g (lw_at lw_m6 176 rfl) rfl
theorem q1425 : (Jvm.Cond.methodLink "java/util/ArrayDeque" (68 : Nat) ({ cls := "java/util/ArrayDeque", name := "dec", desc := "(II)I" } : Jvm.MethodName)) ∈ lw_all := lw_g (lw_at lw_m6 177 rfl) rfl
theorem q1426 : (Jvm.Cond.static ({ cls := "java/util/ArrayDeque", name := "dec", desc := "(II)I" } : Jvm.MethodName)) ∈ lw_all := lw_g (lw_at lw_m6 178 rfl) rfl
theorem q1427 : (Jvm.Cond.code ({ cls := "java/util/ArrayDeque", name := "dec", desc := "(II)I" } : Jvm.MethodName) prog_53_method_7_code (2 : Nat) (Option.some Jvm.ClassFile.FieldType.int)) ∈ lw_all := lw_g (lw_at lw_m6 179 rfl) rfl
theorem q1428 : (Jvm.Cond.methodLink "java/util/ArrayDeque" (71 : Nat) ({ cls := "java/util/ArrayDeque", name := "grow", desc := "(I)V" } : Jvm.MethodName)) ∈ lw_all := lw_g (lw_at lw_m6 180 rfl) rfl
theorem q1429 : (Jvm.Cond.privateMethod ({ cls := "java/util/ArrayDeque", name := "grow", desc := "(I)V" } : Jvm.MethodName)) ∈ lw_tbl := lw_at lw_m6 181 rfl
theorem q1430 : (Jvm.Cond.instanceMethod ({ cls := "java/util/ArrayDeque", name := "grow", desc := "(I)V" } : Jvm.MethodName)) ∈ lw_all := lw_g (lw_at lw_m6 182 rfl) rfl
theorem q1431 : (Jvm.Cond.code ({ cls := "java/util/ArrayDeque", name := "grow", desc := "(I)V" } : Jvm.MethodName) prog_53_method_1_code (9 : Nat) (Option.none : Option Jvm.ClassFile.FieldType)) ∈ lw_all := lw_g (lw_at lw_m6 183 rfl) rfl
theorem q1432 : (Jvm.Cond.constant "java/util/ArrayDeque" (9 : Nat) (2147483639 : Int32)) ∈ lw_all := lw_g (lw_at lw_m6 184 rfl) rfl
theorem q1433 : (Jvm.Cond.methodLink "java/util/ArrayDeque" (10 : Nat) ({ cls := "java/util/ArrayDeque", name := "newCapacity", desc := "(II)I" } : Jvm.MethodName)) ∈ lw_all := lw_g (lw_at lw_m6 185 rfl) rfl
theorem q1434 : (Jvm.Cond.privateMethod ({ cls := "java/util/ArrayDeque", name := "newCapacity", desc := "(II)I" } : Jvm.MethodName)) ∈ lw_tbl := lw_at lw_m6 186 rfl
theorem q1435 : (Jvm.Cond.instanceMethod ({ cls := "java/util/ArrayDeque", name := "newCapacity", desc := "(II)I" } : Jvm.MethodName)) ∈ lw_all := lw_g (lw_at lw_m6 187 rfl) rfl
theorem q1436 : (Jvm.Cond.code ({ cls := "java/util/ArrayDeque", name := "newCapacity", desc := "(II)I" } : Jvm.MethodName) prog_53_method_2_code (5 : Nat) (Option.some Jvm.ClassFile.FieldType.int)) ∈ lw_all := lw_g (lw_at lw_m6 188 rfl) rfl
theorem q1437 : (Jvm.Cond.classLink "java/util/ArrayDeque" (33 : Nat) "java/lang/IllegalStateException") ∈ lw_all := lw_g (lw_at lw_m6 189 rfl) rfl
theorem q1438 : (Jvm.Cond.stringRef "java/util/ArrayDeque" (35 : Nat) "Sorry, deque too big") ∈ lw_tbl := lw_at lw_m6 190 rfl
theorem q1439 : (Jvm.Cond.methodLink "java/util/ArrayDeque" (37 : Nat) ({ cls := "java/lang/IllegalStateException", name := "<init>", desc := "(Ljava/lang/String;)V" } : Jvm.MethodName)) ∈ lw_all := lw_g (lw_at lw_m6 191 rfl) rfl
theorem q1443 : (Jvm.Cond.constant "java/util/ArrayDeque" (41 : Nat) (2147483647 : Int32)) ∈ lw_all := lw_g (lw_at lw_m6 195 rfl) rfl
theorem q1444 : (Jvm.Cond.methodLink "java/util/ArrayDeque" (14 : Nat) ({ cls := "java/util/Arrays", name := "copyOf", desc := "([Ljava/lang/Object;I)[Ljava/lang/Object;" } : Jvm.MethodName)) ∈ lw_all := lw_g (lw_at lw_m6 196 rfl) rfl
theorem q1445 : (Jvm.Cond.methodLink "java/util/ArrayDeque" (27 : Nat) ({ cls := "java/lang/System", name := "arraycopy", desc := "(Ljava/lang/Object;ILjava/lang/Object;II)V" } : Jvm.MethodName)) ∈ lw_all := lw_g (lw_at lw_m6 197 rfl) rfl
theorem q1447 : (Jvm.Cond.instanceMethod ({ cls := "java/util/ArrayDeque", name := "iterator", desc := "()Ljava/util/Iterator;" } : Jvm.MethodName)) ∈ lw_all := lw_g (lw_at lw_m6 199 rfl) rfl
theorem q1448 : (Jvm.Cond.selects "java/util/ArrayDeque" ({ cls := "java/util/ArrayDeque", name := "iterator", desc := "()Ljava/util/Iterator;" } : Jvm.MethodName) ({ cls := "java/util/ArrayDeque", name := "iterator", desc := "()Ljava/util/Iterator;" } : Jvm.MethodName)) ∈ lw_all := lw_g (lw_at lw_m6 200 rfl) rfl
theorem q1449 : (Jvm.Cond.code ({ cls := "java/util/ArrayDeque", name := "iterator", desc := "()Ljava/util/Iterator;" } : Jvm.MethodName) prog_53_method_39_code (1 : Nat) (Option.some (Jvm.ClassFile.FieldType.object "java/util/Iterator"))) ∈ lw_all := lw_g (lw_at lw_m6 201 rfl) rfl
theorem q1450 : (Jvm.Cond.classLink "java/util/ArrayDeque" (131 : Nat) "java/util/ArrayDeque$DeqIterator") ∈ lw_all := lw_g (lw_at lw_m6 202 rfl) rfl
theorem q1452 : (Jvm.Cond.methodLink "java/util/ArrayDeque" (133 : Nat) ({ cls := "java/util/ArrayDeque$DeqIterator", name := "<init>", desc := "(Ljava/util/ArrayDeque;)V" } : Jvm.MethodName)) ∈ lw_all := lw_g (lw_at lw_m6 204 rfl) rfl
theorem q1627 : (Jvm.Cond.static ({ cls := "java/util/ArrayDeque", name := "nonNullElementAt", desc := "([Ljava/lang/Object;I)Ljava/lang/Object;" } : Jvm.MethodName)) ∈ lw_all := lw_g (lw_at lw_m7 139 rfl) rfl
theorem q1628 : (Jvm.Cond.code ({ cls := "java/util/ArrayDeque", name := "nonNullElementAt", desc := "([Ljava/lang/Object;I)Ljava/lang/Object;" } : Jvm.MethodName) prog_53_method_11_code (3 : Nat) (Option.some (Jvm.ClassFile.FieldType.object "java/lang/Object"))) ∈ lw_all := lw_g (lw_at lw_m7 140 rfl) rfl
theorem q1630 : (Jvm.Cond.static ({ cls := "java/util/ArrayDeque", name := "inc", desc := "(II)I" } : Jvm.MethodName)) ∈ lw_all := lw_g (lw_at lw_m7 142 rfl) rfl
theorem q1631 : (Jvm.Cond.code ({ cls := "java/util/ArrayDeque", name := "inc", desc := "(II)I" } : Jvm.MethodName) prog_53_method_6_code (2 : Nat) (Option.some Jvm.ClassFile.FieldType.int)) ∈ lw_all := lw_g (lw_at lw_m7 143 rfl) rfl
theorem q2258 : (Jvm.Cond.castable "java/util/ArrayDeque" "java/util/Collection") ∈ lw_tbl := lw_at lw_m10 50 rfl
theorem q2259 : (Jvm.Cond.selects "java/util/ArrayDeque" ({ cls := "java/util/Collection", name := "toArray", desc := "()[Ljava/lang/Object;" } : Jvm.MethodName) ({ cls := "java/util/ArrayDeque", name := "toArray", desc := "()[Ljava/lang/Object;" } : Jvm.MethodName)) ∈ lw_all := lw_g (lw_at lw_m10 51 rfl) rfl
theorem q2260 : (Jvm.Cond.unhidden "java/util/ArrayDeque" "toArray" "()[Ljava/lang/Object;") ∈ lw_tbl := lw_at lw_m10 52 rfl
theorem q2261 : (Jvm.Cond.instanceMethod ({ cls := "java/util/ArrayDeque", name := "toArray", desc := "()[Ljava/lang/Object;" } : Jvm.MethodName)) ∈ lw_all := lw_g (lw_at lw_m10 53 rfl) rfl
theorem q2262 : (Jvm.Cond.publicMethod ({ cls := "java/util/ArrayDeque", name := "toArray", desc := "()[Ljava/lang/Object;" } : Jvm.MethodName)) ∈ lw_tbl := lw_at lw_m10 54 rfl
theorem q2263 : (Jvm.Cond.code ({ cls := "java/util/ArrayDeque", name := "toArray", desc := "()[Ljava/lang/Object;" } : Jvm.MethodName) prog_53_method_55_code (1 : Nat) (Option.some (Jvm.ClassFile.FieldType.array (Jvm.ClassFile.FieldType.object "java/lang/Object")))) ∈ lw_all := lw_g (lw_at lw_m10 55 rfl) rfl
theorem q2264 : (Jvm.Cond.classLink "java/util/ArrayDeque" (188 : Nat) "[Ljava/lang/Object;") ∈ lw_all := lw_g (lw_at lw_m10 56 rfl) rfl
theorem q2265 : (Jvm.Cond.methodLink "java/util/ArrayDeque" (189 : Nat) ({ cls := "java/util/ArrayDeque", name := "toArray", desc := "(Ljava/lang/Class;)[Ljava/lang/Object;" } : Jvm.MethodName)) ∈ lw_all := lw_g (lw_at lw_m10 57 rfl) rfl
theorem q2266 : (Jvm.Cond.privateMethod ({ cls := "java/util/ArrayDeque", name := "toArray", desc := "(Ljava/lang/Class;)[Ljava/lang/Object;" } : Jvm.MethodName)) ∈ lw_tbl := lw_at lw_m10 58 rfl
theorem q2267 : (Jvm.Cond.instanceMethod ({ cls := "java/util/ArrayDeque", name := "toArray", desc := "(Ljava/lang/Class;)[Ljava/lang/Object;" } : Jvm.MethodName)) ∈ lw_all := lw_g (lw_at lw_m10 59 rfl) rfl
theorem q2268 : (Jvm.Cond.code ({ cls := "java/util/ArrayDeque", name := "toArray", desc := "(Ljava/lang/Class;)[Ljava/lang/Object;" } : Jvm.MethodName) prog_53_method_56_code (7 : Nat) (Option.some (Jvm.ClassFile.FieldType.array (Jvm.ClassFile.FieldType.object "java/lang/Object")))) ∈ lw_all := lw_g (lw_at lw_m10 60 rfl) rfl
theorem q2269 : (Jvm.Cond.methodLink "java/util/ArrayDeque" (193 : Nat) ({ cls := "java/util/Arrays", name := "copyOfRange", desc := "([Ljava/lang/Object;IILjava/lang/Class;)[Ljava/lang/Object;" } : Jvm.MethodName)) ∈ lw_all := lw_g (lw_at lw_m10 61 rfl) rfl
theorem q2676 : (Jvm.Cond.selects "java/util/ArrayDeque" ({ cls := "java/util/AbstractCollection", name := "size", desc := "()I" } : Jvm.MethodName) ({ cls := "java/util/ArrayDeque", name := "size", desc := "()I" } : Jvm.MethodName)) ∈ lw_all := lw_g (lw_at lw_m11 228 rfl) rfl
theorem q2707 : (Jvm.Cond.castable "java/util/ArrayDeque" "java/lang/Object") ∈ lw_tbl := lw_at lw_m12 19 rfl
theorem in_J30 : ∀ w ∈ wsJ300, w ∈ lw_all := lw_in wsJ300 [1399, 1401, 1403] (by decide +kernel) (by decide +kernel)

/-! java/util/ArrayDeque$DeqIterator -/
set_option maxRecDepth 100000
def RJ31 : String := "java/util/ArrayDeque$DeqIterator"
def TJ31 : u_T := fun k => match k with
  | 0 => ("java/util/ArrayDeque$DeqIterator", "cursor", "I", false)
  | 1 => ("java/util/ArrayDeque$DeqIterator", "remaining", "I", false)
  | 2 => ("java/util/ArrayDeque$DeqIterator", "lastRet", "I", false)
  | _ => ("java/util/ArrayDeque$DeqIterator", "this$0", "Ljava/util/ArrayDeque;", true)
def tyJ31 : Nat → FieldType := fun k => match k with
  | 0 => .int
  | 1 => .int
  | 2 => .int
  | _ => .object "java/util/ArrayDeque"
abbrev wsJ310 : List Cond := u_ws RJ31 TJ31 4
theorem nmJ31 : ∀ a, a < 4 → ∀ b, b < 4 → a ≠ b → (TJ31 a).2.1 ≠ (TJ31 b).2.1 := by decide +kernel
theorem tyJ31_ok : ∀ k, k < 4 → parseFieldDescriptor (TJ31 k).2.2.1 = some (tyJ31 k) := by decide +kernel
abbrev cJ31_init : ByteArray := prog_54_method_1_code
def yJ31_init : MethodName := ⟨RJ31, "<init>", "(Ljava/util/ArrayDeque;)V"⟩
def dkwJ31_init_1 : List UInt8 := [181, 0, 23, 42, 43, 180, 0, 26, 181, 0, 29, 177]
abbrev dktJ31_init_1 : List UInt8 := dkwJ31_init_1 ++ []
def dkwJ31_init_0 : List UInt8 := [42, 43, 181, 0, 1, 42, 183, 0, 7, 42, 42, 180, 0, 1, 182, 0, 13, 181, 0, 19, 42, 2]
abbrev dktJ31_init_0 : List UInt8 := dkwJ31_init_0 ++ dktJ31_init_1
theorem dksJ31_init_0 : cJ31_init.data.toList.drop 0 = dktJ31_init_0 := by decide +kernel
theorem dksJ31_init_1 : cJ31_init.data.toList.drop 22 = dktJ31_init_1 := dk_seg dksJ31_init_0 22 rfl rfl
theorem dJ31_init_0 : decode cJ31_init 0 = .ok (.aload_n 0, 1) := dk_42 (dk_at dksJ31_init_0 0 rfl rfl)
theorem dJ31_init_1 : decode cJ31_init 1 = .ok (.aload_n 1, 1) := dk_43 (dk_at dksJ31_init_0 1 rfl rfl)
theorem dJ31_init_2 : decode cJ31_init 2 = .ok (.putfield 1, 3) := dk_181 0 1 (dk_at dksJ31_init_0 2 rfl rfl)
theorem dJ31_init_5 : decode cJ31_init 5 = .ok (.aload_n 0, 1) := dk_42 (dk_at dksJ31_init_0 5 rfl rfl)
theorem dJ31_init_6 : decode cJ31_init 6 = .ok (.invokespecial 7, 3) := dk_183 0 7 (dk_at dksJ31_init_0 6 rfl rfl)
theorem dJ31_init_9 : decode cJ31_init 9 = .ok (.aload_n 0, 1) := dk_42 (dk_at dksJ31_init_0 9 rfl rfl)
theorem dJ31_init_10 : decode cJ31_init 10 = .ok (.aload_n 0, 1) := dk_42 (dk_at dksJ31_init_0 10 rfl rfl)
theorem dJ31_init_11 : decode cJ31_init 11 = .ok (.getfield 1, 3) := dk_180 0 1 (dk_at dksJ31_init_0 11 rfl rfl)
theorem dJ31_init_14 : decode cJ31_init 14 = .ok (.invokevirtual 13, 3) := dk_182 0 13 (dk_at dksJ31_init_0 14 rfl rfl)
theorem dJ31_init_17 : decode cJ31_init 17 = .ok (.putfield 19, 3) := dk_181 0 19 (dk_at dksJ31_init_0 17 rfl rfl)
theorem dJ31_init_20 : decode cJ31_init 20 = .ok (.aload_n 0, 1) := dk_42 (dk_at dksJ31_init_0 20 rfl rfl)
theorem dJ31_init_21 : decode cJ31_init 21 = .ok (.iconst (-1), 1) := dk_2 (dk_at dksJ31_init_0 21 rfl rfl)
theorem dJ31_init_22 : decode cJ31_init 22 = .ok (.putfield 23, 3) := dk_181 0 23 (dk_at dksJ31_init_1 0 rfl rfl)
theorem dJ31_init_25 : decode cJ31_init 25 = .ok (.aload_n 0, 1) := dk_42 (dk_at dksJ31_init_1 3 rfl rfl)
theorem dJ31_init_26 : decode cJ31_init 26 = .ok (.aload_n 1, 1) := dk_43 (dk_at dksJ31_init_1 4 rfl rfl)
theorem dJ31_init_27 : decode cJ31_init 27 = .ok (.getfield 26, 3) := dk_180 0 26 (dk_at dksJ31_init_1 5 rfl rfl)
theorem dJ31_init_30 : decode cJ31_init 30 = .ok (.putfield 29, 3) := dk_181 0 29 (dk_at dksJ31_init_1 8 rfl rfl)
theorem dJ31_init_33 : decode cJ31_init 33 = .ok (.return_, 1) := dk_177 (dk_at dksJ31_init_1 11 rfl rfl)
abbrev cJ31_hasNext : ByteArray := prog_54_method_2_code
def yJ31_hasNext : MethodName := ⟨RJ31, "hasNext", "()Z"⟩
def dkwJ31_hasNext_0 : List UInt8 := [42, 180, 0, 19, 158, 0, 7, 4, 167, 0, 4, 3, 172]
abbrev dktJ31_hasNext_0 : List UInt8 := dkwJ31_hasNext_0 ++ []
theorem dksJ31_hasNext_0 : cJ31_hasNext.data.toList.drop 0 = dktJ31_hasNext_0 := by decide +kernel
theorem dJ31_hasNext_0 : decode cJ31_hasNext 0 = .ok (.aload_n 0, 1) := dk_42 (dk_at dksJ31_hasNext_0 0 rfl rfl)
theorem dJ31_hasNext_1 : decode cJ31_hasNext 1 = .ok (.getfield 19, 3) := dk_180 0 19 (dk_at dksJ31_hasNext_0 1 rfl rfl)
theorem dJ31_hasNext_4 : decode cJ31_hasNext 4 = .ok (.ifCond .le 7, 3) := dk_158 0 7 (dk_at dksJ31_hasNext_0 4 rfl rfl)
theorem dJ31_hasNext_7 : decode cJ31_hasNext 7 = .ok (.iconst 1, 1) := dk_4 (dk_at dksJ31_hasNext_0 7 rfl rfl)
theorem dJ31_hasNext_8 : decode cJ31_hasNext 8 = .ok (.goto 4, 3) := dk_167 0 4 (dk_at dksJ31_hasNext_0 8 rfl rfl)
theorem dJ31_hasNext_11 : decode cJ31_hasNext 11 = .ok (.iconst 0, 1) := dk_3 (dk_at dksJ31_hasNext_0 11 rfl rfl)
theorem dJ31_hasNext_12 : decode cJ31_hasNext 12 = .ok (.ireturn, 1) := dk_172 (dk_at dksJ31_hasNext_0 12 rfl rfl)
abbrev cJ31_next : ByteArray := prog_54_method_3_code
def yJ31_next : MethodName := ⟨RJ31, "next", "()Ljava/lang/Object;"⟩
def dkwJ31_next_2 : List UInt8 := [181, 0, 29, 42, 89, 180, 0, 19, 4, 100, 181, 0, 19, 44, 176]
abbrev dktJ31_next_2 : List UInt8 := dkwJ31_next_2 ++ []
def dkwJ31_next_1 : List UInt8 := [42, 180, 0, 29, 184, 0, 39, 77, 42, 42, 42, 180, 0, 29, 90, 181, 0, 23, 43, 190, 184, 0, 43]
abbrev dktJ31_next_1 : List UInt8 := dkwJ31_next_1 ++ dktJ31_next_2
def dkwJ31_next_0 : List UInt8 := [42, 180, 0, 19, 157, 0, 11, 187, 0, 32, 89, 183, 0, 34, 191, 42, 180, 0, 1, 180, 0, 35, 76, 43]
abbrev dktJ31_next_0 : List UInt8 := dkwJ31_next_0 ++ dktJ31_next_1
theorem dksJ31_next_0 : cJ31_next.data.toList.drop 0 = dktJ31_next_0 := by decide +kernel
theorem dksJ31_next_1 : cJ31_next.data.toList.drop 24 = dktJ31_next_1 := dk_seg dksJ31_next_0 24 rfl rfl
theorem dksJ31_next_2 : cJ31_next.data.toList.drop 47 = dktJ31_next_2 := dk_seg dksJ31_next_1 23 rfl rfl
theorem dJ31_next_0 : decode cJ31_next 0 = .ok (.aload_n 0, 1) := dk_42 (dk_at dksJ31_next_0 0 rfl rfl)
theorem dJ31_next_1 : decode cJ31_next 1 = .ok (.getfield 19, 3) := dk_180 0 19 (dk_at dksJ31_next_0 1 rfl rfl)
theorem dJ31_next_4 : decode cJ31_next 4 = .ok (.ifCond .gt 11, 3) := dk_157 0 11 (dk_at dksJ31_next_0 4 rfl rfl)
theorem dJ31_next_7 : decode cJ31_next 7 = .ok (.new 32, 3) := dk_187 0 32 (dk_at dksJ31_next_0 7 rfl rfl)
theorem dJ31_next_10 : decode cJ31_next 10 = .ok (.dup, 1) := dk_89 (dk_at dksJ31_next_0 10 rfl rfl)
theorem dJ31_next_11 : decode cJ31_next 11 = .ok (.invokespecial 34, 3) := dk_183 0 34 (dk_at dksJ31_next_0 11 rfl rfl)
theorem dJ31_next_14 : decode cJ31_next 14 = .ok (.athrow, 1) := dk_191 (dk_at dksJ31_next_0 14 rfl rfl)
theorem dJ31_next_15 : decode cJ31_next 15 = .ok (.aload_n 0, 1) := dk_42 (dk_at dksJ31_next_0 15 rfl rfl)
theorem dJ31_next_16 : decode cJ31_next 16 = .ok (.getfield 1, 3) := dk_180 0 1 (dk_at dksJ31_next_0 16 rfl rfl)
theorem dJ31_next_19 : decode cJ31_next 19 = .ok (.getfield 35, 3) := dk_180 0 35 (dk_at dksJ31_next_0 19 rfl rfl)
theorem dJ31_next_22 : decode cJ31_next 22 = .ok (.astore_n 1, 1) := dk_76 (dk_at dksJ31_next_0 22 rfl rfl)
theorem dJ31_next_23 : decode cJ31_next 23 = .ok (.aload_n 1, 1) := dk_43 (dk_at dksJ31_next_0 23 rfl rfl)
theorem dJ31_next_24 : decode cJ31_next 24 = .ok (.aload_n 0, 1) := dk_42 (dk_at dksJ31_next_1 0 rfl rfl)
theorem dJ31_next_25 : decode cJ31_next 25 = .ok (.getfield 29, 3) := dk_180 0 29 (dk_at dksJ31_next_1 1 rfl rfl)
theorem dJ31_next_28 : decode cJ31_next 28 = .ok (.invokestatic 39, 3) := dk_184 0 39 (dk_at dksJ31_next_1 4 rfl rfl)
theorem dJ31_next_31 : decode cJ31_next 31 = .ok (.astore_n 2, 1) := dk_77 (dk_at dksJ31_next_1 7 rfl rfl)
theorem dJ31_next_32 : decode cJ31_next 32 = .ok (.aload_n 0, 1) := dk_42 (dk_at dksJ31_next_1 8 rfl rfl)
theorem dJ31_next_33 : decode cJ31_next 33 = .ok (.aload_n 0, 1) := dk_42 (dk_at dksJ31_next_1 9 rfl rfl)
theorem dJ31_next_34 : decode cJ31_next 34 = .ok (.aload_n 0, 1) := dk_42 (dk_at dksJ31_next_1 10 rfl rfl)
theorem dJ31_next_35 : decode cJ31_next 35 = .ok (.getfield 29, 3) := dk_180 0 29 (dk_at dksJ31_next_1 11 rfl rfl)
theorem dJ31_next_38 : decode cJ31_next 38 = .ok (.dup_x1, 1) := dk_90 (dk_at dksJ31_next_1 14 rfl rfl)
theorem dJ31_next_39 : decode cJ31_next 39 = .ok (.putfield 23, 3) := dk_181 0 23 (dk_at dksJ31_next_1 15 rfl rfl)
theorem dJ31_next_42 : decode cJ31_next 42 = .ok (.aload_n 1, 1) := dk_43 (dk_at dksJ31_next_1 18 rfl rfl)
theorem dJ31_next_43 : decode cJ31_next 43 = .ok (.arraylength, 1) := dk_190 (dk_at dksJ31_next_1 19 rfl rfl)
theorem dJ31_next_44 : decode cJ31_next 44 = .ok (.invokestatic 43, 3) := dk_184 0 43 (dk_at dksJ31_next_1 20 rfl rfl)
theorem dJ31_next_47 : decode cJ31_next 47 = .ok (.putfield 29, 3) := dk_181 0 29 (dk_at dksJ31_next_2 0 rfl rfl)
theorem dJ31_next_50 : decode cJ31_next 50 = .ok (.aload_n 0, 1) := dk_42 (dk_at dksJ31_next_2 3 rfl rfl)
theorem dJ31_next_51 : decode cJ31_next 51 = .ok (.dup, 1) := dk_89 (dk_at dksJ31_next_2 4 rfl rfl)
theorem dJ31_next_52 : decode cJ31_next 52 = .ok (.getfield 19, 3) := dk_180 0 19 (dk_at dksJ31_next_2 5 rfl rfl)
theorem dJ31_next_55 : decode cJ31_next 55 = .ok (.iconst 1, 1) := dk_4 (dk_at dksJ31_next_2 8 rfl rfl)
theorem dJ31_next_56 : decode cJ31_next 56 = .ok (.isub, 1) := dk_100 (dk_at dksJ31_next_2 9 rfl rfl)
theorem dJ31_next_57 : decode cJ31_next 57 = .ok (.putfield 19, 3) := dk_181 0 19 (dk_at dksJ31_next_2 10 rfl rfl)
theorem dJ31_next_60 : decode cJ31_next 60 = .ok (.aload_n 2, 1) := dk_44 (dk_at dksJ31_next_2 13 rfl rfl)
theorem dJ31_next_61 : decode cJ31_next 61 = .ok (.areturn, 1) := dk_176 (dk_at dksJ31_next_2 14 rfl rfl)
theorem q89 : (Jvm.Cond.initialized "java/util/ArrayDeque$DeqIterator") ∈ lw_all := lw_g (lw_at lw_m1 41 rfl) rfl
theorem q280 : (Jvm.Cond.selects "java/util/ArrayDeque$DeqIterator" ({ cls := "java/lang/Object", name := "getClass", desc := "()Ljava/lang/Class;" } : Jvm.MethodName) ({ cls := "java/lang/Object", name := "getClass", desc := "()Ljava/lang/Class;" } : Jvm.MethodName)) ∈ lw_all := lw_g (lw_at lw_m1 232 rfl) rfl
theorem q1395 : (Jvm.Cond.fieldLink "java/util/ArrayDeque$DeqIterator" (35 : Nat) "java/util/ArrayDeque" "elements" "[Ljava/lang/Object;") ∈ lw_all := lw_g (lw_at lw_m6 147 rfl) rfl
theorem q1396 : (Jvm.Cond.fieldLink "java/util/ArrayDeque$DeqIterator" (26 : Nat) "java/util/ArrayDeque" "head" "I") ∈ lw_all := lw_g (lw_at lw_m6 148 rfl) rfl
theorem q1451 : (Jvm.Cond.instantiable "java/util/ArrayDeque$DeqIterator" (4 : Nat)) ∈ lw_all := lw_g (lw_at lw_m6 203 rfl) rfl
theorem q1453 : (Jvm.Cond.instanceMethod ({ cls := "java/util/ArrayDeque$DeqIterator", name := "<init>", desc := "(Ljava/util/ArrayDeque;)V" } : Jvm.MethodName)) ∈ lw_all := lw_g (lw_at lw_m6 205 rfl) rfl
theorem q1454 : (Jvm.Cond.code ({ cls := "java/util/ArrayDeque$DeqIterator", name := "<init>", desc := "(Ljava/util/ArrayDeque;)V" } : Jvm.MethodName) prog_54_method_1_code (2 : Nat) (Option.none : Option Jvm.ClassFile.FieldType)) ∈ lw_all := lw_g (lw_at lw_m6 206 rfl) rfl
theorem q1455 : (Jvm.Cond.methodLink "java/util/ArrayDeque$DeqIterator" (7 : Nat) ({ cls := "java/lang/Object", name := "<init>", desc := "()V" } : Jvm.MethodName)) ∈ lw_all := lw_g (lw_at lw_m6 207 rfl) rfl
theorem q1456 : (Jvm.Cond.methodLink "java/util/ArrayDeque$DeqIterator" (13 : Nat) ({ cls := "java/util/ArrayDeque", name := "size", desc := "()I" } : Jvm.MethodName)) ∈ lw_all := lw_g (lw_at lw_m6 208 rfl) rfl
theorem q1457 : (Jvm.Cond.fieldLink "java/util/ArrayDeque$DeqIterator" (29 : Nat) "java/util/ArrayDeque$DeqIterator" "cursor" "I") ∈ lw_all := lw_g (lw_at lw_m6 209 rfl) rfl
theorem q1458 : (Jvm.Cond.fieldLink "java/util/ArrayDeque$DeqIterator" (19 : Nat) "java/util/ArrayDeque$DeqIterator" "remaining" "I") ∈ lw_all := lw_g (lw_at lw_m6 210 rfl) rfl
theorem q1459 : (Jvm.Cond.fieldLink "java/util/ArrayDeque$DeqIterator" (23 : Nat) "java/util/ArrayDeque$DeqIterator" "lastRet" "I") ∈ lw_all := lw_g (lw_at lw_m6 211 rfl) rfl
theorem q1460 : (Jvm.Cond.fieldLink "java/util/ArrayDeque$DeqIterator" (1 : Nat) "java/util/ArrayDeque$DeqIterator" "this$0" "Ljava/util/ArrayDeque;") ∈ lw_all := lw_g (lw_at lw_m6 212 rfl) rfl
theorem q1461 : (Jvm.Cond.lays "java/util/ArrayDeque$DeqIterator" "java/util/ArrayDeque$DeqIterator" "cursor" "I") ∈ lw_all := lw_g (lw_at lw_m6 213 rfl) rfl
theorem q1462 : (Jvm.Cond.soleField "java/util/ArrayDeque$DeqIterator" "cursor") ∈ lw_all := lw_g (lw_at lw_m6 214 rfl) rfl
theorem q1463 : (Jvm.Cond.lays "java/util/ArrayDeque$DeqIterator" "java/util/ArrayDeque$DeqIterator" "remaining" "I") ∈ lw_all := lw_g (lw_at lw_m6 215 rfl) rfl
theorem q1464 : (Jvm.Cond.soleField "java/util/ArrayDeque$DeqIterator" "remaining") ∈ lw_all := lw_g (lw_at lw_m6 216 rfl) rfl
theorem q1465 : (Jvm.Cond.lays "java/util/ArrayDeque$DeqIterator" "java/util/ArrayDeque$DeqIterator" "lastRet" "I") ∈ lw_all := lw_g (lw_at lw_m6 217 rfl) rfl
theorem q1466 : (Jvm.Cond.soleField "java/util/ArrayDeque$DeqIterator" "lastRet") ∈ lw_all := lw_g (lw_at lw_m6 218 rfl) rfl
theorem q1467 : (Jvm.Cond.laysFinal "java/util/ArrayDeque$DeqIterator" "java/util/ArrayDeque$DeqIterator" "this$0" "Ljava/util/ArrayDeque;") ∈ lw_all := lw_g (lw_at lw_m6 219 rfl) rfl
theorem q1468 : (Jvm.Cond.soleField "java/util/ArrayDeque$DeqIterator" "this$0") ∈ lw_all := lw_g (lw_at lw_m6 220 rfl) rfl
theorem q1469 : (Jvm.Cond.superclass "java/util/ArrayDeque$DeqIterator" "java/lang/Object") ∈ lw_all := lw_g (lw_at lw_m6 221 rfl) rfl
theorem q1485 : (Jvm.Cond.castable "java/util/ArrayDeque$DeqIterator" "java/util/Iterator") ∈ lw_tbl := lw_at lw_m6 237 rfl
theorem q1486 : (Jvm.Cond.selects "java/util/ArrayDeque$DeqIterator" ({ cls := "java/util/Iterator", name := "hasNext", desc := "()Z" } : Jvm.MethodName) ({ cls := "java/util/ArrayDeque$DeqIterator", name := "hasNext", desc := "()Z" } : Jvm.MethodName)) ∈ lw_all := lw_g (lw_at lw_m6 238 rfl) rfl
theorem q1487 : (Jvm.Cond.unhidden "java/util/ArrayDeque$DeqIterator" "hasNext" "()Z") ∈ lw_tbl := lw_at lw_m6 239 rfl
theorem q1488 : (Jvm.Cond.instanceMethod ({ cls := "java/util/ArrayDeque$DeqIterator", name := "hasNext", desc := "()Z" } : Jvm.MethodName)) ∈ lw_all := lw_g (lw_at lw_m7 0 rfl) rfl
theorem q1489 : (Jvm.Cond.publicMethod ({ cls := "java/util/ArrayDeque$DeqIterator", name := "hasNext", desc := "()Z" } : Jvm.MethodName)) ∈ lw_tbl := lw_at lw_m7 1 rfl
theorem q1490 : (Jvm.Cond.code ({ cls := "java/util/ArrayDeque$DeqIterator", name := "hasNext", desc := "()Z" } : Jvm.MethodName) prog_54_method_2_code (1 : Nat) (Option.some Jvm.ClassFile.FieldType.boolean)) ∈ lw_all := lw_g (lw_at lw_m7 2 rfl) rfl
theorem q1621 : (Jvm.Cond.selects "java/util/ArrayDeque$DeqIterator" ({ cls := "java/util/Iterator", name := "next", desc := "()Ljava/lang/Object;" } : Jvm.MethodName) ({ cls := "java/util/ArrayDeque$DeqIterator", name := "next", desc := "()Ljava/lang/Object;" } : Jvm.MethodName)) ∈ lw_all := lw_g (lw_at lw_m7 133 rfl) rfl
theorem q1622 : (Jvm.Cond.unhidden "java/util/ArrayDeque$DeqIterator" "next" "()Ljava/lang/Object;") ∈ lw_tbl := lw_at lw_m7 134 rfl
theorem q1623 : (Jvm.Cond.instanceMethod ({ cls := "java/util/ArrayDeque$DeqIterator", name := "next", desc := "()Ljava/lang/Object;" } : Jvm.MethodName)) ∈ lw_all := lw_g (lw_at lw_m7 135 rfl) rfl
theorem q1624 : (Jvm.Cond.publicMethod ({ cls := "java/util/ArrayDeque$DeqIterator", name := "next", desc := "()Ljava/lang/Object;" } : Jvm.MethodName)) ∈ lw_tbl := lw_at lw_m7 136 rfl
theorem q1625 : (Jvm.Cond.code ({ cls := "java/util/ArrayDeque$DeqIterator", name := "next", desc := "()Ljava/lang/Object;" } : Jvm.MethodName) prog_54_method_3_code (3 : Nat) (Option.some (Jvm.ClassFile.FieldType.object "java/lang/Object"))) ∈ lw_all := lw_g (lw_at lw_m7 137 rfl) rfl
theorem q1626 : (Jvm.Cond.methodLink "java/util/ArrayDeque$DeqIterator" (39 : Nat) ({ cls := "java/util/ArrayDeque", name := "nonNullElementAt", desc := "([Ljava/lang/Object;I)Ljava/lang/Object;" } : Jvm.MethodName)) ∈ lw_all := lw_g (lw_at lw_m7 138 rfl) rfl
theorem q1629 : (Jvm.Cond.methodLink "java/util/ArrayDeque$DeqIterator" (43 : Nat) ({ cls := "java/util/ArrayDeque", name := "inc", desc := "(II)I" } : Jvm.MethodName)) ∈ lw_all := lw_g (lw_at lw_m7 141 rfl) rfl
theorem q2708 : (Jvm.Cond.castable "java/util/ArrayDeque$DeqIterator" "java/lang/Object") ∈ lw_tbl := lw_at lw_m12 20 rfl
theorem in_J31 : ∀ w ∈ wsJ310, w ∈ lw_all := lw_in wsJ310 [1461, 1463, 1465, 1467] (by decide +kernel) (by decide +kernel)

/-! java/lang/IndexOutOfBoundsException -/
set_option maxRecDepth 100000
def RJ32 : String := "java/lang/IndexOutOfBoundsException"
def TJ32 : u_T := fun k => match k with
  | 0 => ("java/lang/Throwable", "cause", "Ljava/lang/Throwable;", false)
  | 1 => ("java/lang/Throwable", "stackTrace", "[Ljava/lang/StackTraceElement;", false)
  | 2 => ("java/lang/Throwable", "suppressedExceptions", "Ljava/util/List;", false)
  | 3 => ("java/lang/Throwable", "detailMessage", "Ljava/lang/String;", false)
  | 4 => ("java/lang/Throwable", "backtrace", "Ljava/lang/Object;", false)
  | _ => ("java/lang/Throwable", "depth", "I", false)
def tyJ32 : Nat → FieldType := fun k => match k with
  | 0 => .object "java/lang/Throwable"
  | 1 => .array (.object "java/lang/StackTraceElement")
  | 2 => .object "java/util/List"
  | 3 => .object "java/lang/String"
  | 4 => .object "java/lang/Object"
  | _ => .int
abbrev wsJ320 : List Cond := u_ws RJ32 TJ32 6
theorem nmJ32 : ∀ a, a < 6 → ∀ b, b < 6 → a ≠ b → (TJ32 a).2.1 ≠ (TJ32 b).2.1 := by decide +kernel
theorem tyJ32_ok : ∀ k, k < 6 → parseFieldDescriptor (TJ32 k).2.2.1 = some (tyJ32 k) := by decide +kernel
abbrev cJ32_init : ByteArray := prog_31_method_2_code
def yJ32_init : MethodName := ⟨RJ32, "<init>", "(Ljava/lang/String;)V"⟩
def dkwJ32_init_0 : List UInt8 := [42, 43, 183, 0, 7, 177]
abbrev dktJ32_init_0 : List UInt8 := dkwJ32_init_0 ++ []
theorem dksJ32_init_0 : cJ32_init.data.toList.drop 0 = dktJ32_init_0 := by decide +kernel
theorem dJ32_init_0 : decode cJ32_init 0 = .ok (.aload_n 0, 1) := dk_42 (dk_at dksJ32_init_0 0 rfl rfl)
theorem dJ32_init_1 : decode cJ32_init 1 = .ok (.aload_n 1, 1) := dk_43 (dk_at dksJ32_init_0 1 rfl rfl)
theorem dJ32_init_2 : decode cJ32_init 2 = .ok (.invokespecial 7, 3) := dk_183 0 7 (dk_at dksJ32_init_0 2 rfl rfl)
theorem dJ32_init_5 : decode cJ32_init 5 = .ok (.return_, 1) := dk_177 (dk_at dksJ32_init_0 5 rfl rfl)
abbrev cJ32_init_2 : ByteArray := prog_31_method_1_code
def yJ32_init_2 : MethodName := ⟨RJ32, "<init>", "()V"⟩
theorem dJ32_init_2_0 : decode cJ32_init_2 0 = .ok (.aload_n 0, 1) := by decide +kernel
theorem dJ32_init_2_1 : decode cJ32_init_2 1 = .ok (.invokespecial 1, 3) := by decide +kernel
theorem dJ32_init_2_4 : decode cJ32_init_2 4 = .ok (.return_, 1) := by decide +kernel
theorem q90 : (Jvm.Cond.initialized "java/lang/IndexOutOfBoundsException") ∈ lw_all := lw_g (lw_at lw_m1 42 rfl) rfl
theorem q274 : (Jvm.Cond.selects "java/lang/IndexOutOfBoundsException" ({ cls := "java/lang/Object", name := "getClass", desc := "()Ljava/lang/Class;" } : Jvm.MethodName) ({ cls := "java/lang/Object", name := "getClass", desc := "()Ljava/lang/Class;" } : Jvm.MethodName)) ∈ lw_all := lw_g (lw_at lw_m1 226 rfl) rfl
theorem q380 : (Jvm.Cond.selects "java/lang/IndexOutOfBoundsException" ({ cls := "java/lang/Object", name := "hashCode", desc := "()I" } : Jvm.MethodName) ({ cls := "java/lang/Object", name := "hashCode", desc := "()I" } : Jvm.MethodName)) ∈ lw_all := lw_g (lw_at lw_m2 92 rfl) rfl
theorem q477 : (Jvm.Cond.selects "java/lang/IndexOutOfBoundsException" ({ cls := "java/lang/Throwable", name := "fillInStackTrace", desc := "()Ljava/lang/Throwable;" } : Jvm.MethodName) ({ cls := "java/lang/Throwable", name := "fillInStackTrace", desc := "()Ljava/lang/Throwable;" } : Jvm.MethodName)) ∈ lw_all := lw_g (lw_at lw_m2 189 rfl) rfl
theorem q1104 : (Jvm.Cond.selects "java/lang/IndexOutOfBoundsException" ({ cls := "java/lang/Object", name := "equals", desc := "(Ljava/lang/Object;)Z" } : Jvm.MethodName) ({ cls := "java/lang/Object", name := "equals", desc := "(Ljava/lang/Object;)Z" } : Jvm.MethodName)) ∈ lw_all := lw_g (lw_at lw_m5 96 rfl) rfl
theorem q1536 : (Jvm.Cond.instantiable "java/lang/IndexOutOfBoundsException" (6 : Nat)) ∈ lw_all := lw_g (lw_at lw_m7 48 rfl) rfl
theorem q1537 : (Jvm.Cond.castable "java/lang/IndexOutOfBoundsException" "java/lang/IndexOutOfBoundsException") ∈ lw_tbl := lw_at lw_m7 49 rfl
theorem q1538 : (Jvm.Cond.selects "java/lang/IndexOutOfBoundsException" ({ cls := "java/lang/Throwable", name := "fillInStackTrace", desc := "(I)Ljava/lang/Throwable;" } : Jvm.MethodName) ({ cls := "java/lang/Throwable", name := "fillInStackTrace", desc := "(I)Ljava/lang/Throwable;" } : Jvm.MethodName)) ∈ lw_all := lw_g (lw_at lw_m7 50 rfl) rfl
theorem q1539 : (Jvm.Cond.lays "java/lang/IndexOutOfBoundsException" "java/lang/Throwable" "cause" "Ljava/lang/Throwable;") ∈ lw_all := lw_g (lw_at lw_m7 51 rfl) rfl
theorem q1540 : (Jvm.Cond.lays "java/lang/IndexOutOfBoundsException" "java/lang/Throwable" "stackTrace" "[Ljava/lang/StackTraceElement;") ∈ lw_all := lw_g (lw_at lw_m7 52 rfl) rfl
theorem q1541 : (Jvm.Cond.lays "java/lang/IndexOutOfBoundsException" "java/lang/Throwable" "suppressedExceptions" "Ljava/util/List;") ∈ lw_all := lw_g (lw_at lw_m7 53 rfl) rfl
theorem q1542 : (Jvm.Cond.lays "java/lang/IndexOutOfBoundsException" "java/lang/Throwable" "detailMessage" "Ljava/lang/String;") ∈ lw_all := lw_g (lw_at lw_m7 54 rfl) rfl
theorem q1543 : (Jvm.Cond.lays "java/lang/IndexOutOfBoundsException" "java/lang/Throwable" "backtrace" "Ljava/lang/Object;") ∈ lw_all := lw_g (lw_at lw_m7 55 rfl) rfl
theorem q1556 : (Jvm.Cond.instanceMethod ({ cls := "java/lang/IndexOutOfBoundsException", name := "<init>", desc := "(Ljava/lang/String;)V" } : Jvm.MethodName)) ∈ lw_all := lw_g (lw_at lw_m7 68 rfl) rfl
theorem q1557 : (Jvm.Cond.code ({ cls := "java/lang/IndexOutOfBoundsException", name := "<init>", desc := "(Ljava/lang/String;)V" } : Jvm.MethodName) prog_31_method_2_code (2 : Nat) (Option.none : Option Jvm.ClassFile.FieldType)) ∈ lw_all := lw_g (lw_at lw_m7 69 rfl) rfl
theorem q1558 : (Jvm.Cond.methodLink "java/lang/IndexOutOfBoundsException" (7 : Nat) ({ cls := "java/lang/RuntimeException", name := "<init>", desc := "(Ljava/lang/String;)V" } : Jvm.MethodName)) ∈ lw_all := lw_g (lw_at lw_m7 70 rfl) rfl
theorem q1559 : (Jvm.Cond.lays "java/lang/IndexOutOfBoundsException" "java/lang/Throwable" "depth" "I") ∈ lw_all := lw_g (lw_at lw_m7 71 rfl) rfl
theorem q1560 : (Jvm.Cond.superclass "java/lang/IndexOutOfBoundsException" "java/lang/RuntimeException") ∈ lw_all := lw_g (lw_at lw_m7 72 rfl) rfl
theorem q1592 : (Jvm.Cond.selects "java/lang/IndexOutOfBoundsException" ({ cls := "java/lang/Throwable", name := "toString", desc := "()Ljava/lang/String;" } : Jvm.MethodName) ({ cls := "java/lang/Throwable", name := "toString", desc := "()Ljava/lang/String;" } : Jvm.MethodName)) ∈ lw_all := lw_g (lw_at lw_m7 104 rfl) rfl
theorem q1602 : (Jvm.Cond.selects "java/lang/IndexOutOfBoundsException" ({ cls := "java/lang/Throwable", name := "getLocalizedMessage", desc := "()Ljava/lang/String;" } : Jvm.MethodName) ({ cls := "java/lang/Throwable", name := "getLocalizedMessage", desc := "()Ljava/lang/String;" } : Jvm.MethodName)) ∈ lw_all := lw_g (lw_at lw_m7 114 rfl) rfl
theorem q1611 : (Jvm.Cond.selects "java/lang/IndexOutOfBoundsException" ({ cls := "java/lang/Throwable", name := "getMessage", desc := "()Ljava/lang/String;" } : Jvm.MethodName) ({ cls := "java/lang/Throwable", name := "getMessage", desc := "()Ljava/lang/String;" } : Jvm.MethodName)) ∈ lw_all := lw_g (lw_at lw_m7 123 rfl) rfl
theorem q1722 : (Jvm.Cond.declares ({ cls := "java/lang/IndexOutOfBoundsException", name := "<init>", desc := "()V" } : Jvm.MethodName)) ∈ lw_tbl := lw_at lw_m7 234 rfl
theorem q1723 : (Jvm.Cond.declares ({ cls := "java/lang/IndexOutOfBoundsException", name := "<init>", desc := "(Ljava/lang/String;)V" } : Jvm.MethodName)) ∈ lw_tbl := lw_at lw_m7 235 rfl
theorem q1734 : (Jvm.Cond.instanceMethod ({ cls := "java/lang/IndexOutOfBoundsException", name := "<init>", desc := "()V" } : Jvm.MethodName)) ∈ lw_all := lw_g (lw_at lw_m8 6 rfl) rfl
theorem q1735 : (Jvm.Cond.code ({ cls := "java/lang/IndexOutOfBoundsException", name := "<init>", desc := "()V" } : Jvm.MethodName) prog_31_method_1_code (1 : Nat) (Option.none : Option Jvm.ClassFile.FieldType)) ∈ lw_all := lw_g (lw_at lw_m8 7 rfl) rfl
theorem q1736 : (Jvm.Cond.methodLink "java/lang/IndexOutOfBoundsException" (1 : Nat) ({ cls := "java/lang/RuntimeException", name := "<init>", desc := "()V" } : Jvm.MethodName)) ∈ lw_all := lw_g (lw_at lw_m8 8 rfl) rfl
theorem q2711 : (Jvm.Cond.castable "java/lang/IndexOutOfBoundsException" "java/lang/Object") ∈ lw_tbl := lw_at lw_m12 23 rfl
theorem in_J32 : ∀ w ∈ wsJ320, w ∈ lw_all := lw_in wsJ320 [1539, 1540, 1541, 1542, 1543, 1559] (by decide +kernel) (by decide +kernel)

/-! java/util/ArrayList$Itr -/
set_option maxRecDepth 100000
def RJ35 : String := "java/util/ArrayList$Itr"
def TJ35 : u_T := fun k => match k with
  | 0 => ("java/util/ArrayList$Itr", "cursor", "I", false)
  | 1 => ("java/util/ArrayList$Itr", "lastRet", "I", false)
  | 2 => ("java/util/ArrayList$Itr", "expectedModCount", "I", false)
  | _ => ("java/util/ArrayList$Itr", "this$0", "Ljava/util/ArrayList;", true)
def tyJ35 : Nat → FieldType := fun k => match k with
  | 0 => .int
  | 1 => .int
  | 2 => .int
  | _ => .object "java/util/ArrayList"
abbrev wsJ350 : List Cond := u_ws RJ35 TJ35 4
theorem nmJ35 : ∀ a, a < 4 → ∀ b, b < 4 → a ≠ b → (TJ35 a).2.1 ≠ (TJ35 b).2.1 := by decide +kernel
theorem tyJ35_ok : ∀ k, k < 4 → parseFieldDescriptor (TJ35 k).2.2.1 = some (tyJ35 k) := by decide +kernel
abbrev cJ35_hasNext : ByteArray := prog_56_method_2_code
def yJ35_hasNext : MethodName := ⟨RJ35, "hasNext", "()Z"⟩
def dkwJ35_hasNext_0 : List UInt8 := [42, 180, 0, 25, 42, 180, 0, 1, 180, 0, 28, 159, 0, 7, 4, 167, 0, 4, 3, 172]
abbrev dktJ35_hasNext_0 : List UInt8 := dkwJ35_hasNext_0 ++ []
theorem dksJ35_hasNext_0 : cJ35_hasNext.data.toList.drop 0 = dktJ35_hasNext_0 := by decide +kernel
theorem dJ35_hasNext_0 : decode cJ35_hasNext 0 = .ok (.aload_n 0, 1) := dk_42 (dk_at dksJ35_hasNext_0 0 rfl rfl)
theorem dJ35_hasNext_1 : decode cJ35_hasNext 1 = .ok (.getfield 25, 3) := dk_180 0 25 (dk_at dksJ35_hasNext_0 1 rfl rfl)
theorem dJ35_hasNext_4 : decode cJ35_hasNext 4 = .ok (.aload_n 0, 1) := dk_42 (dk_at dksJ35_hasNext_0 4 rfl rfl)
theorem dJ35_hasNext_5 : decode cJ35_hasNext 5 = .ok (.getfield 1, 3) := dk_180 0 1 (dk_at dksJ35_hasNext_0 5 rfl rfl)
theorem dJ35_hasNext_8 : decode cJ35_hasNext 8 = .ok (.getfield 28, 3) := dk_180 0 28 (dk_at dksJ35_hasNext_0 8 rfl rfl)
theorem dJ35_hasNext_11 : decode cJ35_hasNext 11 = .ok (.if_icmp .eq 7, 3) := dk_159 0 7 (dk_at dksJ35_hasNext_0 11 rfl rfl)
theorem dJ35_hasNext_14 : decode cJ35_hasNext 14 = .ok (.iconst 1, 1) := dk_4 (dk_at dksJ35_hasNext_0 14 rfl rfl)
theorem dJ35_hasNext_15 : decode cJ35_hasNext 15 = .ok (.goto 4, 3) := dk_167 0 4 (dk_at dksJ35_hasNext_0 15 rfl rfl)
theorem dJ35_hasNext_18 : decode cJ35_hasNext 18 = .ok (.iconst 0, 1) := dk_3 (dk_at dksJ35_hasNext_0 18 rfl rfl)
theorem dJ35_hasNext_19 : decode cJ35_hasNext 19 = .ok (.ireturn, 1) := dk_172 (dk_at dksJ35_hasNext_0 19 rfl rfl)
abbrev cJ35_next : ByteArray := prog_56_method_3_code
def yJ35_next : MethodName := ⟨RJ35, "next", "()Ljava/lang/Object;"⟩
def dkwJ35_next_2 : List UInt8 := [183, 0, 43, 191, 42, 27, 4, 96, 181, 0, 25, 44, 42, 27, 90, 181, 0, 13, 50, 176]
abbrev dktJ35_next_2 : List UInt8 := dkwJ35_next_2 ++ []
def dkwJ35_next_1 : List UInt8 := [183, 0, 36, 191, 42, 180, 0, 1, 180, 0, 37, 77, 27, 44, 190, 161, 0, 11, 187, 0, 41, 89]
abbrev dktJ35_next_1 : List UInt8 := dkwJ35_next_1 ++ dktJ35_next_2
def dkwJ35_next_0 : List UInt8 := [42, 182, 0, 31, 42, 180, 0, 25, 60, 27, 42, 180, 0, 1, 180, 0, 28, 161, 0, 11, 187, 0, 34, 89]
abbrev dktJ35_next_0 : List UInt8 := dkwJ35_next_0 ++ dktJ35_next_1
theorem dksJ35_next_0 : cJ35_next.data.toList.drop 0 = dktJ35_next_0 := by decide +kernel
theorem dksJ35_next_1 : cJ35_next.data.toList.drop 24 = dktJ35_next_1 := dk_seg dksJ35_next_0 24 rfl rfl
theorem dksJ35_next_2 : cJ35_next.data.toList.drop 46 = dktJ35_next_2 := dk_seg dksJ35_next_1 22 rfl rfl
theorem dJ35_next_0 : decode cJ35_next 0 = .ok (.aload_n 0, 1) := dk_42 (dk_at dksJ35_next_0 0 rfl rfl)
theorem dJ35_next_1 : decode cJ35_next 1 = .ok (.invokevirtual 31, 3) := dk_182 0 31 (dk_at dksJ35_next_0 1 rfl rfl)
theorem dJ35_next_4 : decode cJ35_next 4 = .ok (.aload_n 0, 1) := dk_42 (dk_at dksJ35_next_0 4 rfl rfl)
theorem dJ35_next_5 : decode cJ35_next 5 = .ok (.getfield 25, 3) := dk_180 0 25 (dk_at dksJ35_next_0 5 rfl rfl)
theorem dJ35_next_8 : decode cJ35_next 8 = .ok (.istore_n 1, 1) := dk_60 (dk_at dksJ35_next_0 8 rfl rfl)
theorem dJ35_next_9 : decode cJ35_next 9 = .ok (.iload_n 1, 1) := dk_27 (dk_at dksJ35_next_0 9 rfl rfl)
theorem dJ35_next_10 : decode cJ35_next 10 = .ok (.aload_n 0, 1) := dk_42 (dk_at dksJ35_next_0 10 rfl rfl)
theorem dJ35_next_11 : decode cJ35_next 11 = .ok (.getfield 1, 3) := dk_180 0 1 (dk_at dksJ35_next_0 11 rfl rfl)
theorem dJ35_next_14 : decode cJ35_next 14 = .ok (.getfield 28, 3) := dk_180 0 28 (dk_at dksJ35_next_0 14 rfl rfl)
theorem dJ35_next_17 : decode cJ35_next 17 = .ok (.if_icmp .lt 11, 3) := dk_161 0 11 (dk_at dksJ35_next_0 17 rfl rfl)
theorem dJ35_next_20 : decode cJ35_next 20 = .ok (.new 34, 3) := dk_187 0 34 (dk_at dksJ35_next_0 20 rfl rfl)
theorem dJ35_next_23 : decode cJ35_next 23 = .ok (.dup, 1) := dk_89 (dk_at dksJ35_next_0 23 rfl rfl)
theorem dJ35_next_24 : decode cJ35_next 24 = .ok (.invokespecial 36, 3) := dk_183 0 36 (dk_at dksJ35_next_1 0 rfl rfl)
theorem dJ35_next_27 : decode cJ35_next 27 = .ok (.athrow, 1) := dk_191 (dk_at dksJ35_next_1 3 rfl rfl)
theorem dJ35_next_28 : decode cJ35_next 28 = .ok (.aload_n 0, 1) := dk_42 (dk_at dksJ35_next_1 4 rfl rfl)
theorem dJ35_next_29 : decode cJ35_next 29 = .ok (.getfield 1, 3) := dk_180 0 1 (dk_at dksJ35_next_1 5 rfl rfl)
theorem dJ35_next_32 : decode cJ35_next 32 = .ok (.getfield 37, 3) := dk_180 0 37 (dk_at dksJ35_next_1 8 rfl rfl)
theorem dJ35_next_35 : decode cJ35_next 35 = .ok (.astore_n 2, 1) := dk_77 (dk_at dksJ35_next_1 11 rfl rfl)
theorem dJ35_next_36 : decode cJ35_next 36 = .ok (.iload_n 1, 1) := dk_27 (dk_at dksJ35_next_1 12 rfl rfl)
theorem dJ35_next_37 : decode cJ35_next 37 = .ok (.aload_n 2, 1) := dk_44 (dk_at dksJ35_next_1 13 rfl rfl)
theorem dJ35_next_38 : decode cJ35_next 38 = .ok (.arraylength, 1) := dk_190 (dk_at dksJ35_next_1 14 rfl rfl)
theorem dJ35_next_39 : decode cJ35_next 39 = .ok (.if_icmp .lt 11, 3) := dk_161 0 11 (dk_at dksJ35_next_1 15 rfl rfl)
theorem dJ35_next_42 : decode cJ35_next 42 = .ok (.new 41, 3) := dk_187 0 41 (dk_at dksJ35_next_1 18 rfl rfl)
theorem dJ35_next_45 : decode cJ35_next 45 = .ok (.dup, 1) := dk_89 (dk_at dksJ35_next_1 21 rfl rfl)
theorem dJ35_next_46 : decode cJ35_next 46 = .ok (.invokespecial 43, 3) := dk_183 0 43 (dk_at dksJ35_next_2 0 rfl rfl)
theorem dJ35_next_49 : decode cJ35_next 49 = .ok (.athrow, 1) := dk_191 (dk_at dksJ35_next_2 3 rfl rfl)
theorem dJ35_next_50 : decode cJ35_next 50 = .ok (.aload_n 0, 1) := dk_42 (dk_at dksJ35_next_2 4 rfl rfl)
theorem dJ35_next_51 : decode cJ35_next 51 = .ok (.iload_n 1, 1) := dk_27 (dk_at dksJ35_next_2 5 rfl rfl)
theorem dJ35_next_52 : decode cJ35_next 52 = .ok (.iconst 1, 1) := dk_4 (dk_at dksJ35_next_2 6 rfl rfl)
theorem dJ35_next_53 : decode cJ35_next 53 = .ok (.iadd, 1) := dk_96 (dk_at dksJ35_next_2 7 rfl rfl)
theorem dJ35_next_54 : decode cJ35_next 54 = .ok (.putfield 25, 3) := dk_181 0 25 (dk_at dksJ35_next_2 8 rfl rfl)
theorem dJ35_next_57 : decode cJ35_next 57 = .ok (.aload_n 2, 1) := dk_44 (dk_at dksJ35_next_2 11 rfl rfl)
theorem dJ35_next_58 : decode cJ35_next 58 = .ok (.aload_n 0, 1) := dk_42 (dk_at dksJ35_next_2 12 rfl rfl)
theorem dJ35_next_59 : decode cJ35_next 59 = .ok (.iload_n 1, 1) := dk_27 (dk_at dksJ35_next_2 13 rfl rfl)
theorem dJ35_next_60 : decode cJ35_next 60 = .ok (.dup_x1, 1) := dk_90 (dk_at dksJ35_next_2 14 rfl rfl)
theorem dJ35_next_61 : decode cJ35_next 61 = .ok (.putfield 13, 3) := dk_181 0 13 (dk_at dksJ35_next_2 15 rfl rfl)
theorem dJ35_next_64 : decode cJ35_next 64 = .ok (.aaload, 1) := dk_50 (dk_at dksJ35_next_2 18 rfl rfl)
theorem dJ35_next_65 : decode cJ35_next 65 = .ok (.areturn, 1) := dk_176 (dk_at dksJ35_next_2 19 rfl rfl)
abbrev cJ35_checkForComodification : ByteArray := prog_56_method_6_code
def yJ35_checkForComodification : MethodName := ⟨RJ35, "checkForComodification", "()V"⟩
def dkwJ35_checkForComodification_0 : List UInt8 := [42, 180, 0, 1, 180, 0, 17, 42, 180, 0, 22, 159, 0, 11, 187, 0, 41, 89, 183, 0, 43, 191, 177]
abbrev dktJ35_checkForComodification_0 : List UInt8 := dkwJ35_checkForComodification_0 ++ []
theorem dksJ35_checkForComodification_0 : cJ35_checkForComodification.data.toList.drop 0 = dktJ35_checkForComodification_0 := by decide +kernel
theorem dJ35_checkForComodification_0 : decode cJ35_checkForComodification 0 = .ok (.aload_n 0, 1) := dk_42 (dk_at dksJ35_checkForComodification_0 0 rfl rfl)
theorem dJ35_checkForComodification_1 : decode cJ35_checkForComodification 1 = .ok (.getfield 1, 3) := dk_180 0 1 (dk_at dksJ35_checkForComodification_0 1 rfl rfl)
theorem dJ35_checkForComodification_4 : decode cJ35_checkForComodification 4 = .ok (.getfield 17, 3) := dk_180 0 17 (dk_at dksJ35_checkForComodification_0 4 rfl rfl)
theorem dJ35_checkForComodification_7 : decode cJ35_checkForComodification 7 = .ok (.aload_n 0, 1) := dk_42 (dk_at dksJ35_checkForComodification_0 7 rfl rfl)
theorem dJ35_checkForComodification_8 : decode cJ35_checkForComodification 8 = .ok (.getfield 22, 3) := dk_180 0 22 (dk_at dksJ35_checkForComodification_0 8 rfl rfl)
theorem dJ35_checkForComodification_11 : decode cJ35_checkForComodification 11 = .ok (.if_icmp .eq 11, 3) := dk_159 0 11 (dk_at dksJ35_checkForComodification_0 11 rfl rfl)
theorem dJ35_checkForComodification_14 : decode cJ35_checkForComodification 14 = .ok (.new 41, 3) := dk_187 0 41 (dk_at dksJ35_checkForComodification_0 14 rfl rfl)
theorem dJ35_checkForComodification_17 : decode cJ35_checkForComodification 17 = .ok (.dup, 1) := dk_89 (dk_at dksJ35_checkForComodification_0 17 rfl rfl)
theorem dJ35_checkForComodification_18 : decode cJ35_checkForComodification 18 = .ok (.invokespecial 43, 3) := dk_183 0 43 (dk_at dksJ35_checkForComodification_0 18 rfl rfl)
theorem dJ35_checkForComodification_21 : decode cJ35_checkForComodification 21 = .ok (.athrow, 1) := dk_191 (dk_at dksJ35_checkForComodification_0 21 rfl rfl)
theorem dJ35_checkForComodification_22 : decode cJ35_checkForComodification 22 = .ok (.return_, 1) := dk_177 (dk_at dksJ35_checkForComodification_0 22 rfl rfl)
abbrev cJ35_init : ByteArray := prog_56_method_1_code
def yJ35_init : MethodName := ⟨RJ35, "<init>", "(Ljava/util/ArrayList;)V"⟩
def dkwJ35_init_1 : List UInt8 := [181, 0, 22, 177]
abbrev dktJ35_init_1 : List UInt8 := dkwJ35_init_1 ++ []
def dkwJ35_init_0 : List UInt8 := [42, 43, 181, 0, 1, 42, 183, 0, 7, 42, 2, 181, 0, 13, 42, 42, 180, 0, 1, 180, 0, 17]
abbrev dktJ35_init_0 : List UInt8 := dkwJ35_init_0 ++ dktJ35_init_1
theorem dksJ35_init_0 : cJ35_init.data.toList.drop 0 = dktJ35_init_0 := by decide +kernel
theorem dksJ35_init_1 : cJ35_init.data.toList.drop 22 = dktJ35_init_1 := dk_seg dksJ35_init_0 22 rfl rfl
theorem dJ35_init_0 : decode cJ35_init 0 = .ok (.aload_n 0, 1) := dk_42 (dk_at dksJ35_init_0 0 rfl rfl)
theorem dJ35_init_1 : decode cJ35_init 1 = .ok (.aload_n 1, 1) := dk_43 (dk_at dksJ35_init_0 1 rfl rfl)
theorem dJ35_init_2 : decode cJ35_init 2 = .ok (.putfield 1, 3) := dk_181 0 1 (dk_at dksJ35_init_0 2 rfl rfl)
theorem dJ35_init_5 : decode cJ35_init 5 = .ok (.aload_n 0, 1) := dk_42 (dk_at dksJ35_init_0 5 rfl rfl)
theorem dJ35_init_6 : decode cJ35_init 6 = .ok (.invokespecial 7, 3) := dk_183 0 7 (dk_at dksJ35_init_0 6 rfl rfl)
theorem dJ35_init_9 : decode cJ35_init 9 = .ok (.aload_n 0, 1) := dk_42 (dk_at dksJ35_init_0 9 rfl rfl)
theorem dJ35_init_10 : decode cJ35_init 10 = .ok (.iconst (-1), 1) := dk_2 (dk_at dksJ35_init_0 10 rfl rfl)
theorem dJ35_init_11 : decode cJ35_init 11 = .ok (.putfield 13, 3) := dk_181 0 13 (dk_at dksJ35_init_0 11 rfl rfl)
theorem dJ35_init_14 : decode cJ35_init 14 = .ok (.aload_n 0, 1) := dk_42 (dk_at dksJ35_init_0 14 rfl rfl)
theorem dJ35_init_15 : decode cJ35_init 15 = .ok (.aload_n 0, 1) := dk_42 (dk_at dksJ35_init_0 15 rfl rfl)
theorem dJ35_init_16 : decode cJ35_init 16 = .ok (.getfield 1, 3) := dk_180 0 1 (dk_at dksJ35_init_0 16 rfl rfl)
theorem dJ35_init_19 : decode cJ35_init 19 = .ok (.getfield 17, 3) := dk_180 0 17 (dk_at dksJ35_init_0 19 rfl rfl)
theorem dJ35_init_22 : decode cJ35_init 22 = .ok (.putfield 22, 3) := dk_181 0 22 (dk_at dksJ35_init_1 0 rfl rfl)
theorem dJ35_init_25 : decode cJ35_init 25 = .ok (.return_, 1) := dk_177 (dk_at dksJ35_init_1 3 rfl rfl)
theorem q95 : (Jvm.Cond.initialized "java/util/ArrayList$Itr") ∈ lw_all := lw_g (lw_at lw_m1 47 rfl) rfl
theorem q130 : (Jvm.Cond.fieldLink "java/util/ArrayList$Itr" (37 : Nat) "java/util/ArrayList" "elementData" "[Ljava/lang/Object;") ∈ lw_all := lw_g (lw_at lw_m1 82 rfl) rfl
theorem q131 : (Jvm.Cond.fieldLinkNest "java/util/ArrayList$Itr" (28 : Nat) "java/util/ArrayList" "size" "I" "java/util/ArrayList") ∈ lw_tbl := lw_at lw_m1 83 rfl
theorem q136 : (Jvm.Cond.fieldLink "java/util/ArrayList$Itr" (17 : Nat) "java/util/ArrayList" "modCount" "I") ∈ lw_all := lw_g (lw_at lw_m1 88 rfl) rfl
theorem q282 : (Jvm.Cond.selects "java/util/ArrayList$Itr" ({ cls := "java/lang/Object", name := "getClass", desc := "()Ljava/lang/Class;" } : Jvm.MethodName) ({ cls := "java/lang/Object", name := "getClass", desc := "()Ljava/lang/Class;" } : Jvm.MethodName)) ∈ lw_all := lw_g (lw_at lw_m1 234 rfl) rfl
theorem q1491 : (Jvm.Cond.castable "java/util/ArrayList$Itr" "java/util/Iterator") ∈ lw_tbl := lw_at lw_m7 3 rfl
theorem q1492 : (Jvm.Cond.selects "java/util/ArrayList$Itr" ({ cls := "java/util/Iterator", name := "hasNext", desc := "()Z" } : Jvm.MethodName) ({ cls := "java/util/ArrayList$Itr", name := "hasNext", desc := "()Z" } : Jvm.MethodName)) ∈ lw_all := lw_g (lw_at lw_m7 4 rfl) rfl
theorem q1493 : (Jvm.Cond.unhidden "java/util/ArrayList$Itr" "hasNext" "()Z") ∈ lw_tbl := lw_at lw_m7 5 rfl
theorem q1494 : (Jvm.Cond.instanceMethod ({ cls := "java/util/ArrayList$Itr", name := "hasNext", desc := "()Z" } : Jvm.MethodName)) ∈ lw_all := lw_g (lw_at lw_m7 6 rfl) rfl
theorem q1495 : (Jvm.Cond.publicMethod ({ cls := "java/util/ArrayList$Itr", name := "hasNext", desc := "()Z" } : Jvm.MethodName)) ∈ lw_tbl := lw_at lw_m7 7 rfl
theorem q1496 : (Jvm.Cond.code ({ cls := "java/util/ArrayList$Itr", name := "hasNext", desc := "()Z" } : Jvm.MethodName) prog_56_method_2_code (1 : Nat) (Option.some Jvm.ClassFile.FieldType.boolean)) ∈ lw_all := lw_g (lw_at lw_m7 8 rfl) rfl
theorem q1632 : (Jvm.Cond.selects "java/util/ArrayList$Itr" ({ cls := "java/util/Iterator", name := "next", desc := "()Ljava/lang/Object;" } : Jvm.MethodName) ({ cls := "java/util/ArrayList$Itr", name := "next", desc := "()Ljava/lang/Object;" } : Jvm.MethodName)) ∈ lw_all := lw_g (lw_at lw_m7 144 rfl) rfl
theorem q1633 : (Jvm.Cond.unhidden "java/util/ArrayList$Itr" "next" "()Ljava/lang/Object;") ∈ lw_tbl := lw_at lw_m7 145 rfl
theorem q1634 : (Jvm.Cond.instanceMethod ({ cls := "java/util/ArrayList$Itr", name := "next", desc := "()Ljava/lang/Object;" } : Jvm.MethodName)) ∈ lw_all := lw_g (lw_at lw_m7 146 rfl) rfl
theorem q1635 : (Jvm.Cond.publicMethod ({ cls := "java/util/ArrayList$Itr", name := "next", desc := "()Ljava/lang/Object;" } : Jvm.MethodName)) ∈ lw_tbl := lw_at lw_m7 147 rfl
theorem q1636 : (Jvm.Cond.code ({ cls := "java/util/ArrayList$Itr", name := "next", desc := "()Ljava/lang/Object;" } : Jvm.MethodName) prog_56_method_3_code (3 : Nat) (Option.some (Jvm.ClassFile.FieldType.object "java/lang/Object"))) ∈ lw_all := lw_g (lw_at lw_m7 148 rfl) rfl
theorem q1637 : (Jvm.Cond.methodLink "java/util/ArrayList$Itr" (31 : Nat) ({ cls := "java/util/ArrayList$Itr", name := "checkForComodification", desc := "()V" } : Jvm.MethodName)) ∈ lw_all := lw_g (lw_at lw_m7 149 rfl) rfl
theorem q1638 : (Jvm.Cond.instanceMethod ({ cls := "java/util/ArrayList$Itr", name := "checkForComodification", desc := "()V" } : Jvm.MethodName)) ∈ lw_all := lw_g (lw_at lw_m7 150 rfl) rfl
theorem q1639 : (Jvm.Cond.selects "java/util/ArrayList$Itr" ({ cls := "java/util/ArrayList$Itr", name := "checkForComodification", desc := "()V" } : Jvm.MethodName) ({ cls := "java/util/ArrayList$Itr", name := "checkForComodification", desc := "()V" } : Jvm.MethodName)) ∈ lw_all := lw_g (lw_at lw_m7 151 rfl) rfl
theorem q1640 : (Jvm.Cond.sameMethod "java/util/ArrayList$Itr" "java/util/ArrayList$Itr" "checkForComodification" "()V") ∈ lw_all := lw_g (lw_at lw_m7 152 rfl) rfl
theorem q1642 : (Jvm.Cond.code ({ cls := "java/util/ArrayList$Itr", name := "checkForComodification", desc := "()V" } : Jvm.MethodName) prog_56_method_6_code (1 : Nat) (Option.none : Option Jvm.ClassFile.FieldType)) ∈ lw_all := lw_g (lw_at lw_m7 154 rfl) rfl
theorem q1825 : (Jvm.Cond.instantiable "java/util/ArrayList$Itr" (4 : Nat)) ∈ lw_all := lw_g (lw_at lw_m8 97 rfl) rfl
theorem q1827 : (Jvm.Cond.instanceMethod ({ cls := "java/util/ArrayList$Itr", name := "<init>", desc := "(Ljava/util/ArrayList;)V" } : Jvm.MethodName)) ∈ lw_all := lw_g (lw_at lw_m8 99 rfl) rfl
theorem q1828 : (Jvm.Cond.code ({ cls := "java/util/ArrayList$Itr", name := "<init>", desc := "(Ljava/util/ArrayList;)V" } : Jvm.MethodName) prog_56_method_1_code (2 : Nat) (Option.none : Option Jvm.ClassFile.FieldType)) ∈ lw_all := lw_g (lw_at lw_m8 100 rfl) rfl
theorem q1829 : (Jvm.Cond.methodLink "java/util/ArrayList$Itr" (7 : Nat) ({ cls := "java/lang/Object", name := "<init>", desc := "()V" } : Jvm.MethodName)) ∈ lw_all := lw_g (lw_at lw_m8 101 rfl) rfl
theorem q1832 : (Jvm.Cond.fieldLink "java/util/ArrayList$Itr" (25 : Nat) "java/util/ArrayList$Itr" "cursor" "I") ∈ lw_all := lw_g (lw_at lw_m8 104 rfl) rfl
theorem q1833 : (Jvm.Cond.fieldLink "java/util/ArrayList$Itr" (13 : Nat) "java/util/ArrayList$Itr" "lastRet" "I") ∈ lw_all := lw_g (lw_at lw_m8 105 rfl) rfl
theorem q1834 : (Jvm.Cond.fieldLink "java/util/ArrayList$Itr" (22 : Nat) "java/util/ArrayList$Itr" "expectedModCount" "I") ∈ lw_all := lw_g (lw_at lw_m8 106 rfl) rfl
theorem q1835 : (Jvm.Cond.fieldLink "java/util/ArrayList$Itr" (1 : Nat) "java/util/ArrayList$Itr" "this$0" "Ljava/util/ArrayList;") ∈ lw_all := lw_g (lw_at lw_m8 107 rfl) rfl
theorem q1836 : (Jvm.Cond.lays "java/util/ArrayList$Itr" "java/util/ArrayList$Itr" "cursor" "I") ∈ lw_all := lw_g (lw_at lw_m8 108 rfl) rfl
theorem q1837 : (Jvm.Cond.soleField "java/util/ArrayList$Itr" "cursor") ∈ lw_all := lw_g (lw_at lw_m8 109 rfl) rfl
theorem q1838 : (Jvm.Cond.lays "java/util/ArrayList$Itr" "java/util/ArrayList$Itr" "lastRet" "I") ∈ lw_all := lw_g (lw_at lw_m8 110 rfl) rfl
theorem q1839 : (Jvm.Cond.soleField "java/util/ArrayList$Itr" "lastRet") ∈ lw_all := lw_g (lw_at lw_m8 111 rfl) rfl
theorem q1840 : (Jvm.Cond.lays "java/util/ArrayList$Itr" "java/util/ArrayList$Itr" "expectedModCount" "I") ∈ lw_all := lw_g (lw_at lw_m8 112 rfl) rfl
theorem q1841 : (Jvm.Cond.soleField "java/util/ArrayList$Itr" "expectedModCount") ∈ lw_all := lw_g (lw_at lw_m8 113 rfl) rfl
theorem q1842 : (Jvm.Cond.laysFinal "java/util/ArrayList$Itr" "java/util/ArrayList$Itr" "this$0" "Ljava/util/ArrayList;") ∈ lw_all := lw_g (lw_at lw_m8 114 rfl) rfl
theorem q1843 : (Jvm.Cond.soleField "java/util/ArrayList$Itr" "this$0") ∈ lw_all := lw_g (lw_at lw_m8 115 rfl) rfl
theorem q1844 : (Jvm.Cond.superclass "java/util/ArrayList$Itr" "java/lang/Object") ∈ lw_all := lw_g (lw_at lw_m8 116 rfl) rfl
theorem q2715 : (Jvm.Cond.castable "java/util/ArrayList$Itr" "java/lang/Object") ∈ lw_tbl := lw_at lw_m12 27 rfl
theorem in_J35 : ∀ w ∈ wsJ350, w ∈ lw_all := lw_in wsJ350 [1836, 1838, 1840, 1842] (by decide +kernel) (by decide +kernel)

/-! java/lang/Enum -/
set_option maxRecDepth 100000
def RJ36 : String := "java/lang/Enum"
abbrev cJ36_hashCode : ByteArray := prog_27_method_6_code
def yJ36_hashCode : MethodName := ⟨RJ36, "hashCode", "()I"⟩
def dkwJ36_hashCode_0 : List UInt8 := [42, 180, 0, 17, 60, 27, 154, 0, 13, 42, 42, 184, 0, 20, 90, 181, 0, 17, 60, 27, 172]
abbrev dktJ36_hashCode_0 : List UInt8 := dkwJ36_hashCode_0 ++ []
theorem dksJ36_hashCode_0 : cJ36_hashCode.data.toList.drop 0 = dktJ36_hashCode_0 := by decide +kernel
theorem dJ36_hashCode_0 : decode cJ36_hashCode 0 = .ok (.aload_n 0, 1) := dk_42 (dk_at dksJ36_hashCode_0 0 rfl rfl)
theorem dJ36_hashCode_1 : decode cJ36_hashCode 1 = .ok (.getfield 17, 3) := dk_180 0 17 (dk_at dksJ36_hashCode_0 1 rfl rfl)
theorem dJ36_hashCode_4 : decode cJ36_hashCode 4 = .ok (.istore_n 1, 1) := dk_60 (dk_at dksJ36_hashCode_0 4 rfl rfl)
theorem dJ36_hashCode_5 : decode cJ36_hashCode 5 = .ok (.iload_n 1, 1) := dk_27 (dk_at dksJ36_hashCode_0 5 rfl rfl)
theorem dJ36_hashCode_6 : decode cJ36_hashCode 6 = .ok (.ifCond .ne 13, 3) := dk_154 0 13 (dk_at dksJ36_hashCode_0 6 rfl rfl)
theorem dJ36_hashCode_9 : decode cJ36_hashCode 9 = .ok (.aload_n 0, 1) := dk_42 (dk_at dksJ36_hashCode_0 9 rfl rfl)
theorem dJ36_hashCode_10 : decode cJ36_hashCode 10 = .ok (.aload_n 0, 1) := dk_42 (dk_at dksJ36_hashCode_0 10 rfl rfl)
theorem dJ36_hashCode_11 : decode cJ36_hashCode 11 = .ok (.invokestatic 20, 3) := dk_184 0 20 (dk_at dksJ36_hashCode_0 11 rfl rfl)
theorem dJ36_hashCode_14 : decode cJ36_hashCode 14 = .ok (.dup_x1, 1) := dk_90 (dk_at dksJ36_hashCode_0 14 rfl rfl)
theorem dJ36_hashCode_15 : decode cJ36_hashCode 15 = .ok (.putfield 17, 3) := dk_181 0 17 (dk_at dksJ36_hashCode_0 15 rfl rfl)
theorem dJ36_hashCode_18 : decode cJ36_hashCode 18 = .ok (.istore_n 1, 1) := dk_60 (dk_at dksJ36_hashCode_0 18 rfl rfl)
theorem dJ36_hashCode_19 : decode cJ36_hashCode 19 = .ok (.iload_n 1, 1) := dk_27 (dk_at dksJ36_hashCode_0 19 rfl rfl)
theorem dJ36_hashCode_20 : decode cJ36_hashCode 20 = .ok (.ireturn, 1) := dk_172 (dk_at dksJ36_hashCode_0 20 rfl rfl)
abbrev cJ36_compareTo : ByteArray := prog_27_method_15_code
def yJ36_compareTo : MethodName := ⟨RJ36, "compareTo", "(Ljava/lang/Object;)I"⟩
def dkwJ36_compareTo_0 : List UInt8 := [42, 43, 192, 0, 2, 182, 0, 101, 172]
abbrev dktJ36_compareTo_0 : List UInt8 := dkwJ36_compareTo_0 ++ []
theorem dksJ36_compareTo_0 : cJ36_compareTo.data.toList.drop 0 = dktJ36_compareTo_0 := by decide +kernel
theorem dJ36_compareTo_0 : decode cJ36_compareTo 0 = .ok (.aload_n 0, 1) := dk_42 (dk_at dksJ36_compareTo_0 0 rfl rfl)
theorem dJ36_compareTo_1 : decode cJ36_compareTo 1 = .ok (.aload_n 1, 1) := dk_43 (dk_at dksJ36_compareTo_0 1 rfl rfl)
theorem dJ36_compareTo_2 : decode cJ36_compareTo 2 = .ok (.checkcast 2, 3) := dk_192 0 2 (dk_at dksJ36_compareTo_0 2 rfl rfl)
theorem dJ36_compareTo_5 : decode cJ36_compareTo 5 = .ok (.invokevirtual 101, 3) := dk_182 0 101 (dk_at dksJ36_compareTo_0 5 rfl rfl)
theorem dJ36_compareTo_8 : decode cJ36_compareTo 8 = .ok (.ireturn, 1) := dk_172 (dk_at dksJ36_compareTo_0 8 rfl rfl)
abbrev cJ36_compareTo_2 : ByteArray := prog_27_method_8_code
def yJ36_compareTo_2 : MethodName := ⟨RJ36, "compareTo", "(Ljava/lang/Enum;)I"⟩
def dkwJ36_compareTo_2_1 : List UInt8 := [165, 0, 11, 187, 0, 36, 89, 183, 0, 38, 191, 45, 180, 0, 7, 44, 180, 0, 7, 100, 172]
abbrev dktJ36_compareTo_2_1 : List UInt8 := dkwJ36_compareTo_2_1 ++ []
def dkwJ36_compareTo_2_0 : List UInt8 := [43, 77, 42, 78, 45, 182, 0, 29, 44, 182, 0, 29, 165, 0, 22, 45, 182, 0, 33, 44, 182, 0, 33]
abbrev dktJ36_compareTo_2_0 : List UInt8 := dkwJ36_compareTo_2_0 ++ dktJ36_compareTo_2_1
theorem dksJ36_compareTo_2_0 : cJ36_compareTo_2.data.toList.drop 0 = dktJ36_compareTo_2_0 := by decide +kernel
theorem dksJ36_compareTo_2_1 : cJ36_compareTo_2.data.toList.drop 23 = dktJ36_compareTo_2_1 := dk_seg dksJ36_compareTo_2_0 23 rfl rfl
theorem dJ36_compareTo_2_0 : decode cJ36_compareTo_2 0 = .ok (.aload_n 1, 1) := dk_43 (dk_at dksJ36_compareTo_2_0 0 rfl rfl)
theorem dJ36_compareTo_2_1 : decode cJ36_compareTo_2 1 = .ok (.astore_n 2, 1) := dk_77 (dk_at dksJ36_compareTo_2_0 1 rfl rfl)
theorem dJ36_compareTo_2_2 : decode cJ36_compareTo_2 2 = .ok (.aload_n 0, 1) := dk_42 (dk_at dksJ36_compareTo_2_0 2 rfl rfl)
theorem dJ36_compareTo_2_3 : decode cJ36_compareTo_2 3 = .ok (.astore_n 3, 1) := dk_78 (dk_at dksJ36_compareTo_2_0 3 rfl rfl)
theorem dJ36_compareTo_2_4 : decode cJ36_compareTo_2 4 = .ok (.aload_n 3, 1) := dk_45 (dk_at dksJ36_compareTo_2_0 4 rfl rfl)
theorem dJ36_compareTo_2_5 : decode cJ36_compareTo_2 5 = .ok (.invokevirtual 29, 3) := dk_182 0 29 (dk_at dksJ36_compareTo_2_0 5 rfl rfl)
theorem dJ36_compareTo_2_8 : decode cJ36_compareTo_2 8 = .ok (.aload_n 2, 1) := dk_44 (dk_at dksJ36_compareTo_2_0 8 rfl rfl)
theorem dJ36_compareTo_2_9 : decode cJ36_compareTo_2 9 = .ok (.invokevirtual 29, 3) := dk_182 0 29 (dk_at dksJ36_compareTo_2_0 9 rfl rfl)
theorem dJ36_compareTo_2_12 : decode cJ36_compareTo_2 12 = .ok (.if_acmp .eq 22, 3) := dk_165 0 22 (dk_at dksJ36_compareTo_2_0 12 rfl rfl)
theorem dJ36_compareTo_2_15 : decode cJ36_compareTo_2 15 = .ok (.aload_n 3, 1) := dk_45 (dk_at dksJ36_compareTo_2_0 15 rfl rfl)
theorem dJ36_compareTo_2_16 : decode cJ36_compareTo_2 16 = .ok (.invokevirtual 33, 3) := dk_182 0 33 (dk_at dksJ36_compareTo_2_0 16 rfl rfl)
theorem dJ36_compareTo_2_19 : decode cJ36_compareTo_2 19 = .ok (.aload_n 2, 1) := dk_44 (dk_at dksJ36_compareTo_2_0 19 rfl rfl)
theorem dJ36_compareTo_2_20 : decode cJ36_compareTo_2 20 = .ok (.invokevirtual 33, 3) := dk_182 0 33 (dk_at dksJ36_compareTo_2_0 20 rfl rfl)
theorem dJ36_compareTo_2_23 : decode cJ36_compareTo_2 23 = .ok (.if_acmp .eq 11, 3) := dk_165 0 11 (dk_at dksJ36_compareTo_2_1 0 rfl rfl)
theorem dJ36_compareTo_2_26 : decode cJ36_compareTo_2 26 = .ok (.new 36, 3) := dk_187 0 36 (dk_at dksJ36_compareTo_2_1 3 rfl rfl)
theorem dJ36_compareTo_2_29 : decode cJ36_compareTo_2 29 = .ok (.dup, 1) := dk_89 (dk_at dksJ36_compareTo_2_1 6 rfl rfl)
theorem dJ36_compareTo_2_30 : decode cJ36_compareTo_2 30 = .ok (.invokespecial 38, 3) := dk_183 0 38 (dk_at dksJ36_compareTo_2_1 7 rfl rfl)
theorem dJ36_compareTo_2_33 : decode cJ36_compareTo_2 33 = .ok (.athrow, 1) := dk_191 (dk_at dksJ36_compareTo_2_1 10 rfl rfl)
theorem dJ36_compareTo_2_34 : decode cJ36_compareTo_2 34 = .ok (.aload_n 3, 1) := dk_45 (dk_at dksJ36_compareTo_2_1 11 rfl rfl)
theorem dJ36_compareTo_2_35 : decode cJ36_compareTo_2 35 = .ok (.getfield 7, 3) := dk_180 0 7 (dk_at dksJ36_compareTo_2_1 12 rfl rfl)
theorem dJ36_compareTo_2_38 : decode cJ36_compareTo_2 38 = .ok (.aload_n 2, 1) := dk_44 (dk_at dksJ36_compareTo_2_1 15 rfl rfl)
theorem dJ36_compareTo_2_39 : decode cJ36_compareTo_2 39 = .ok (.getfield 7, 3) := dk_180 0 7 (dk_at dksJ36_compareTo_2_1 16 rfl rfl)
theorem dJ36_compareTo_2_42 : decode cJ36_compareTo_2 42 = .ok (.isub, 1) := dk_100 (dk_at dksJ36_compareTo_2_1 19 rfl rfl)
theorem dJ36_compareTo_2_43 : decode cJ36_compareTo_2 43 = .ok (.ireturn, 1) := dk_172 (dk_at dksJ36_compareTo_2_1 20 rfl rfl)
abbrev cJ36_getDeclaringClass : ByteArray := prog_27_method_9_code
def yJ36_getDeclaringClass : MethodName := ⟨RJ36, "getDeclaringClass", "()Ljava/lang/Class;"⟩
def dkwJ36_getDeclaringClass_0 : List UInt8 := [42, 182, 0, 29, 76, 43, 182, 0, 39, 77, 44, 18, 2, 166, 0, 7, 43, 167, 0, 4, 44, 176]
abbrev dktJ36_getDeclaringClass_0 : List UInt8 := dkwJ36_getDeclaringClass_0 ++ []
theorem dksJ36_getDeclaringClass_0 : cJ36_getDeclaringClass.data.toList.drop 0 = dktJ36_getDeclaringClass_0 := by decide +kernel
theorem dJ36_getDeclaringClass_0 : decode cJ36_getDeclaringClass 0 = .ok (.aload_n 0, 1) := dk_42 (dk_at dksJ36_getDeclaringClass_0 0 rfl rfl)
theorem dJ36_getDeclaringClass_1 : decode cJ36_getDeclaringClass 1 = .ok (.invokevirtual 29, 3) := dk_182 0 29 (dk_at dksJ36_getDeclaringClass_0 1 rfl rfl)
theorem dJ36_getDeclaringClass_4 : decode cJ36_getDeclaringClass 4 = .ok (.astore_n 1, 1) := dk_76 (dk_at dksJ36_getDeclaringClass_0 4 rfl rfl)
theorem dJ36_getDeclaringClass_5 : decode cJ36_getDeclaringClass 5 = .ok (.aload_n 1, 1) := dk_43 (dk_at dksJ36_getDeclaringClass_0 5 rfl rfl)
theorem dJ36_getDeclaringClass_6 : decode cJ36_getDeclaringClass 6 = .ok (.invokevirtual 39, 3) := dk_182 0 39 (dk_at dksJ36_getDeclaringClass_0 6 rfl rfl)
theorem dJ36_getDeclaringClass_9 : decode cJ36_getDeclaringClass 9 = .ok (.astore_n 2, 1) := dk_77 (dk_at dksJ36_getDeclaringClass_0 9 rfl rfl)
theorem dJ36_getDeclaringClass_10 : decode cJ36_getDeclaringClass 10 = .ok (.aload_n 2, 1) := dk_44 (dk_at dksJ36_getDeclaringClass_0 10 rfl rfl)
theorem dJ36_getDeclaringClass_11 : decode cJ36_getDeclaringClass 11 = .ok (.ldc 2, 2) := dk_18 2 (dk_at dksJ36_getDeclaringClass_0 11 rfl rfl)
theorem dJ36_getDeclaringClass_13 : decode cJ36_getDeclaringClass 13 = .ok (.if_acmp .ne 7, 3) := dk_166 0 7 (dk_at dksJ36_getDeclaringClass_0 13 rfl rfl)
theorem dJ36_getDeclaringClass_16 : decode cJ36_getDeclaringClass 16 = .ok (.aload_n 1, 1) := dk_43 (dk_at dksJ36_getDeclaringClass_0 16 rfl rfl)
theorem dJ36_getDeclaringClass_17 : decode cJ36_getDeclaringClass 17 = .ok (.goto 4, 3) := dk_167 0 4 (dk_at dksJ36_getDeclaringClass_0 17 rfl rfl)
theorem dJ36_getDeclaringClass_20 : decode cJ36_getDeclaringClass 20 = .ok (.aload_n 2, 1) := dk_44 (dk_at dksJ36_getDeclaringClass_0 20 rfl rfl)
theorem dJ36_getDeclaringClass_21 : decode cJ36_getDeclaringClass 21 = .ok (.areturn, 1) := dk_176 (dk_at dksJ36_getDeclaringClass_0 21 rfl rfl)
abbrev cJ36_equals : ByteArray := prog_27_method_5_code
def yJ36_equals : MethodName := ⟨RJ36, "equals", "(Ljava/lang/Object;)Z"⟩
def dkwJ36_equals_0 : List UInt8 := [42, 43, 166, 0, 7, 4, 167, 0, 4, 3, 172]
abbrev dktJ36_equals_0 : List UInt8 := dkwJ36_equals_0 ++ []
theorem dksJ36_equals_0 : cJ36_equals.data.toList.drop 0 = dktJ36_equals_0 := by decide +kernel
theorem dJ36_equals_0 : decode cJ36_equals 0 = .ok (.aload_n 0, 1) := dk_42 (dk_at dksJ36_equals_0 0 rfl rfl)
theorem dJ36_equals_1 : decode cJ36_equals 1 = .ok (.aload_n 1, 1) := dk_43 (dk_at dksJ36_equals_0 1 rfl rfl)
theorem dJ36_equals_2 : decode cJ36_equals 2 = .ok (.if_acmp .ne 7, 3) := dk_166 0 7 (dk_at dksJ36_equals_0 2 rfl rfl)
theorem dJ36_equals_5 : decode cJ36_equals 5 = .ok (.iconst 1, 1) := dk_4 (dk_at dksJ36_equals_0 5 rfl rfl)
theorem dJ36_equals_6 : decode cJ36_equals 6 = .ok (.goto 4, 3) := dk_167 0 4 (dk_at dksJ36_equals_0 6 rfl rfl)
theorem dJ36_equals_9 : decode cJ36_equals 9 = .ok (.iconst 0, 1) := dk_3 (dk_at dksJ36_equals_0 9 rfl rfl)
theorem dJ36_equals_10 : decode cJ36_equals 10 = .ok (.ireturn, 1) := dk_172 (dk_at dksJ36_equals_0 10 rfl rfl)
abbrev cJ36_ordinal : ByteArray := prog_27_method_2_code
def yJ36_ordinal : MethodName := ⟨RJ36, "ordinal", "()I"⟩
theorem dJ36_ordinal_0 : decode cJ36_ordinal 0 = .ok (.aload_n 0, 1) := by decide +kernel
theorem dJ36_ordinal_1 : decode cJ36_ordinal 1 = .ok (.getfield 7, 3) := by decide +kernel
theorem dJ36_ordinal_4 : decode cJ36_ordinal 4 = .ok (.ireturn, 1) := by decide +kernel
theorem q98 : (Jvm.Cond.initialized "java/lang/Enum") ∈ lw_all := lw_g (lw_at lw_m1 50 rfl) rfl
theorem q365 : (Jvm.Cond.instanceMethod ({ cls := "java/lang/Enum", name := "hashCode", desc := "()I" } : Jvm.MethodName)) ∈ lw_all := lw_g (lw_at lw_m2 77 rfl) rfl
theorem q366 : (Jvm.Cond.code ({ cls := "java/lang/Enum", name := "hashCode", desc := "()I" } : Jvm.MethodName) prog_27_method_6_code (2 : Nat) (Option.some Jvm.ClassFile.FieldType.int)) ∈ lw_all := lw_g (lw_at lw_m2 78 rfl) rfl
theorem q367 : (Jvm.Cond.methodLink "java/lang/Enum" (20 : Nat) ({ cls := "java/lang/System", name := "identityHashCode", desc := "(Ljava/lang/Object;)I" } : Jvm.MethodName)) ∈ lw_all := lw_g (lw_at lw_m2 79 rfl) rfl
theorem q841 : (Jvm.Cond.instanceMethod ({ cls := "java/lang/Enum", name := "compareTo", desc := "(Ljava/lang/Object;)I" } : Jvm.MethodName)) ∈ lw_all := lw_g (lw_at lw_m4 73 rfl) rfl
theorem q842 : (Jvm.Cond.publicMethod ({ cls := "java/lang/Enum", name := "compareTo", desc := "(Ljava/lang/Object;)I" } : Jvm.MethodName)) ∈ lw_tbl := lw_at lw_m4 74 rfl
theorem q843 : (Jvm.Cond.code ({ cls := "java/lang/Enum", name := "compareTo", desc := "(Ljava/lang/Object;)I" } : Jvm.MethodName) prog_27_method_15_code (2 : Nat) (Option.some Jvm.ClassFile.FieldType.int)) ∈ lw_all := lw_g (lw_at lw_m4 75 rfl) rfl
theorem q844 : (Jvm.Cond.classLink "java/lang/Enum" (2 : Nat) "java/lang/Enum") ∈ lw_all := lw_g (lw_at lw_m4 76 rfl) rfl
theorem q845 : (Jvm.Cond.methodLink "java/lang/Enum" (101 : Nat) ({ cls := "java/lang/Enum", name := "compareTo", desc := "(Ljava/lang/Enum;)I" } : Jvm.MethodName)) ∈ lw_all := lw_g (lw_at lw_m4 77 rfl) rfl
theorem q846 : (Jvm.Cond.instanceMethod ({ cls := "java/lang/Enum", name := "compareTo", desc := "(Ljava/lang/Enum;)I" } : Jvm.MethodName)) ∈ lw_all := lw_g (lw_at lw_m4 78 rfl) rfl
theorem q847 : (Jvm.Cond.sameMethod "java/lang/Enum" "java/lang/Enum" "compareTo" "(Ljava/lang/Enum;)I") ∈ lw_all := lw_g (lw_at lw_m4 79 rfl) rfl
theorem q852 : (Jvm.Cond.code ({ cls := "java/lang/Enum", name := "compareTo", desc := "(Ljava/lang/Enum;)I" } : Jvm.MethodName) prog_27_method_8_code (4 : Nat) (Option.some Jvm.ClassFile.FieldType.int)) ∈ lw_all := lw_g (lw_at lw_m4 84 rfl) rfl
theorem q853 : (Jvm.Cond.methodLink "java/lang/Enum" (29 : Nat) ({ cls := "java/lang/Object", name := "getClass", desc := "()Ljava/lang/Class;" } : Jvm.MethodName)) ∈ lw_all := lw_g (lw_at lw_m4 85 rfl) rfl
theorem q854 : (Jvm.Cond.methodLink "java/lang/Enum" (33 : Nat) ({ cls := "java/lang/Enum", name := "getDeclaringClass", desc := "()Ljava/lang/Class;" } : Jvm.MethodName)) ∈ lw_all := lw_g (lw_at lw_m4 86 rfl) rfl
theorem q855 : (Jvm.Cond.instanceMethod ({ cls := "java/lang/Enum", name := "getDeclaringClass", desc := "()Ljava/lang/Class;" } : Jvm.MethodName)) ∈ lw_all := lw_g (lw_at lw_m4 87 rfl) rfl
theorem q856 : (Jvm.Cond.sameMethod "java/lang/Enum" "java/lang/Enum" "getDeclaringClass" "()Ljava/lang/Class;") ∈ lw_all := lw_g (lw_at lw_m4 88 rfl) rfl
theorem q861 : (Jvm.Cond.code ({ cls := "java/lang/Enum", name := "getDeclaringClass", desc := "()Ljava/lang/Class;" } : Jvm.MethodName) prog_27_method_9_code (3 : Nat) (Option.some (Jvm.ClassFile.FieldType.object "java/lang/Class"))) ∈ lw_all := lw_g (lw_at lw_m4 93 rfl) rfl
theorem q1092 : (Jvm.Cond.instanceMethod ({ cls := "java/lang/Enum", name := "equals", desc := "(Ljava/lang/Object;)Z" } : Jvm.MethodName)) ∈ lw_all := lw_g (lw_at lw_m5 84 rfl) rfl
theorem q1093 : (Jvm.Cond.code ({ cls := "java/lang/Enum", name := "equals", desc := "(Ljava/lang/Object;)Z" } : Jvm.MethodName) prog_27_method_5_code (2 : Nat) (Option.some Jvm.ClassFile.FieldType.boolean)) ∈ lw_all := lw_g (lw_at lw_m5 85 rfl) rfl
theorem q2106 : (Jvm.Cond.declares ({ cls := "java/lang/Enum", name := "ordinal", desc := "()I" } : Jvm.MethodName)) ∈ lw_tbl := lw_at lw_m9 138 rfl
theorem q2111 : (Jvm.Cond.instanceMethod ({ cls := "java/lang/Enum", name := "ordinal", desc := "()I" } : Jvm.MethodName)) ∈ lw_all := lw_g (lw_at lw_m9 143 rfl) rfl
theorem q2112 : (Jvm.Cond.code ({ cls := "java/lang/Enum", name := "ordinal", desc := "()I" } : Jvm.MethodName) prog_27_method_2_code (1 : Nat) (Option.some Jvm.ClassFile.FieldType.int)) ∈ lw_all := lw_g (lw_at lw_m9 144 rfl) rfl
theorem q2748 : (Jvm.Cond.fieldLink "java/lang/Enum" (17 : Nat) "java/lang/Enum" "hash" "I") ∈ lw_all := lw_g (lw_at lw_m12 60 rfl) rfl
theorem q2749 : (Jvm.Cond.fieldLink "java/lang/Enum" (7 : Nat) "java/lang/Enum" "ordinal" "I") ∈ lw_all := lw_g (lw_at lw_m12 61 rfl) rfl

/-! java/util/LinkedList$ListItr -/
set_option maxRecDepth 100000
def RJ39 : String := "java/util/LinkedList$ListItr"
def TJ39 : u_T := fun k => match k with
  | 0 => ("java/util/LinkedList$ListItr", "lastReturned", "Ljava/util/LinkedList$Node;", false)
  | 1 => ("java/util/LinkedList$ListItr", "next", "Ljava/util/LinkedList$Node;", false)
  | 2 => ("java/util/LinkedList$ListItr", "nextIndex", "I", false)
  | 3 => ("java/util/LinkedList$ListItr", "expectedModCount", "I", false)
  | _ => ("java/util/LinkedList$ListItr", "this$0", "Ljava/util/LinkedList;", true)
def tyJ39 : Nat → FieldType := fun k => match k with
  | 0 => .object "java/util/LinkedList$Node"
  | 1 => .object "java/util/LinkedList$Node"
  | 2 => .int
  | 3 => .int
  | _ => .object "java/util/LinkedList"
abbrev wsJ390 : List Cond := u_ws RJ39 TJ39 5
theorem nmJ39 : ∀ a, a < 5 → ∀ b, b < 5 → a ≠ b → (TJ39 a).2.1 ≠ (TJ39 b).2.1 := by decide +kernel
theorem tyJ39_ok : ∀ k, k < 5 → parseFieldDescriptor (TJ39 k).2.2.1 = some (tyJ39 k) := by decide +kernel
abbrev cJ39_hasNext : ByteArray := prog_68_method_2_code
def yJ39_hasNext : MethodName := ⟨RJ39, "hasNext", "()Z"⟩
def dkwJ39_hasNext_0 : List UInt8 := [42, 180, 0, 33, 42, 180, 0, 1, 180, 0, 22, 162, 0, 7, 4, 167, 0, 4, 3, 172]
abbrev dktJ39_hasNext_0 : List UInt8 := dkwJ39_hasNext_0 ++ []
theorem dksJ39_hasNext_0 : cJ39_hasNext.data.toList.drop 0 = dktJ39_hasNext_0 := by decide +kernel
theorem dJ39_hasNext_0 : decode cJ39_hasNext 0 = .ok (.aload_n 0, 1) := dk_42 (dk_at dksJ39_hasNext_0 0 rfl rfl)
theorem dJ39_hasNext_1 : decode cJ39_hasNext 1 = .ok (.getfield 33, 3) := dk_180 0 33 (dk_at dksJ39_hasNext_0 1 rfl rfl)
theorem dJ39_hasNext_4 : decode cJ39_hasNext 4 = .ok (.aload_n 0, 1) := dk_42 (dk_at dksJ39_hasNext_0 4 rfl rfl)
theorem dJ39_hasNext_5 : decode cJ39_hasNext 5 = .ok (.getfield 1, 3) := dk_180 0 1 (dk_at dksJ39_hasNext_0 5 rfl rfl)
theorem dJ39_hasNext_8 : decode cJ39_hasNext 8 = .ok (.getfield 22, 3) := dk_180 0 22 (dk_at dksJ39_hasNext_0 8 rfl rfl)
theorem dJ39_hasNext_11 : decode cJ39_hasNext 11 = .ok (.if_icmp .ge 7, 3) := dk_162 0 7 (dk_at dksJ39_hasNext_0 11 rfl rfl)
theorem dJ39_hasNext_14 : decode cJ39_hasNext 14 = .ok (.iconst 1, 1) := dk_4 (dk_at dksJ39_hasNext_0 14 rfl rfl)
theorem dJ39_hasNext_15 : decode cJ39_hasNext 15 = .ok (.goto 4, 3) := dk_167 0 4 (dk_at dksJ39_hasNext_0 15 rfl rfl)
theorem dJ39_hasNext_18 : decode cJ39_hasNext 18 = .ok (.iconst 0, 1) := dk_3 (dk_at dksJ39_hasNext_0 18 rfl rfl)
theorem dJ39_hasNext_19 : decode cJ39_hasNext 19 = .ok (.ireturn, 1) := dk_172 (dk_at dksJ39_hasNext_0 19 rfl rfl)
abbrev cJ39_next : ByteArray := prog_68_method_3_code
def yJ39_next : MethodName := ⟨RJ39, "next", "()Ljava/lang/Object;"⟩
def dkwJ39_next_2 : List UInt8 := [42, 180, 0, 46, 180, 0, 52, 176]
abbrev dktJ39_next_2 : List UInt8 := dkwJ39_next_2 ++ []
def dkwJ39_next_1 : List UInt8 := [181, 0, 46, 42, 42, 180, 0, 29, 180, 0, 49, 181, 0, 29, 42, 89, 180, 0, 33, 4, 96, 181, 0, 33]
abbrev dktJ39_next_1 : List UInt8 := dkwJ39_next_1 ++ dktJ39_next_2
def dkwJ39_next_0 : List UInt8 := [42, 182, 0, 36, 42, 182, 0, 39, 154, 0, 11, 187, 0, 43, 89, 183, 0, 45, 191, 42, 42, 180, 0, 29]
abbrev dktJ39_next_0 : List UInt8 := dkwJ39_next_0 ++ dktJ39_next_1
theorem dksJ39_next_0 : cJ39_next.data.toList.drop 0 = dktJ39_next_0 := by decide +kernel
theorem dksJ39_next_1 : cJ39_next.data.toList.drop 24 = dktJ39_next_1 := dk_seg dksJ39_next_0 24 rfl rfl
theorem dksJ39_next_2 : cJ39_next.data.toList.drop 48 = dktJ39_next_2 := dk_seg dksJ39_next_1 24 rfl rfl
theorem dJ39_next_0 : decode cJ39_next 0 = .ok (.aload_n 0, 1) := dk_42 (dk_at dksJ39_next_0 0 rfl rfl)
theorem dJ39_next_1 : decode cJ39_next 1 = .ok (.invokevirtual 36, 3) := dk_182 0 36 (dk_at dksJ39_next_0 1 rfl rfl)
theorem dJ39_next_4 : decode cJ39_next 4 = .ok (.aload_n 0, 1) := dk_42 (dk_at dksJ39_next_0 4 rfl rfl)
theorem dJ39_next_5 : decode cJ39_next 5 = .ok (.invokevirtual 39, 3) := dk_182 0 39 (dk_at dksJ39_next_0 5 rfl rfl)
theorem dJ39_next_8 : decode cJ39_next 8 = .ok (.ifCond .ne 11, 3) := dk_154 0 11 (dk_at dksJ39_next_0 8 rfl rfl)
theorem dJ39_next_11 : decode cJ39_next 11 = .ok (.new 43, 3) := dk_187 0 43 (dk_at dksJ39_next_0 11 rfl rfl)
theorem dJ39_next_14 : decode cJ39_next 14 = .ok (.dup, 1) := dk_89 (dk_at dksJ39_next_0 14 rfl rfl)
theorem dJ39_next_15 : decode cJ39_next 15 = .ok (.invokespecial 45, 3) := dk_183 0 45 (dk_at dksJ39_next_0 15 rfl rfl)
theorem dJ39_next_18 : decode cJ39_next 18 = .ok (.athrow, 1) := dk_191 (dk_at dksJ39_next_0 18 rfl rfl)
theorem dJ39_next_19 : decode cJ39_next 19 = .ok (.aload_n 0, 1) := dk_42 (dk_at dksJ39_next_0 19 rfl rfl)
theorem dJ39_next_20 : decode cJ39_next 20 = .ok (.aload_n 0, 1) := dk_42 (dk_at dksJ39_next_0 20 rfl rfl)
theorem dJ39_next_21 : decode cJ39_next 21 = .ok (.getfield 29, 3) := dk_180 0 29 (dk_at dksJ39_next_0 21 rfl rfl)
theorem dJ39_next_24 : decode cJ39_next 24 = .ok (.putfield 46, 3) := dk_181 0 46 (dk_at dksJ39_next_1 0 rfl rfl)
theorem dJ39_next_27 : decode cJ39_next 27 = .ok (.aload_n 0, 1) := dk_42 (dk_at dksJ39_next_1 3 rfl rfl)
theorem dJ39_next_28 : decode cJ39_next 28 = .ok (.aload_n 0, 1) := dk_42 (dk_at dksJ39_next_1 4 rfl rfl)
theorem dJ39_next_29 : decode cJ39_next 29 = .ok (.getfield 29, 3) := dk_180 0 29 (dk_at dksJ39_next_1 5 rfl rfl)
theorem dJ39_next_32 : decode cJ39_next 32 = .ok (.getfield 49, 3) := dk_180 0 49 (dk_at dksJ39_next_1 8 rfl rfl)
theorem dJ39_next_35 : decode cJ39_next 35 = .ok (.putfield 29, 3) := dk_181 0 29 (dk_at dksJ39_next_1 11 rfl rfl)
theorem dJ39_next_38 : decode cJ39_next 38 = .ok (.aload_n 0, 1) := dk_42 (dk_at dksJ39_next_1 14 rfl rfl)
theorem dJ39_next_39 : decode cJ39_next 39 = .ok (.dup, 1) := dk_89 (dk_at dksJ39_next_1 15 rfl rfl)
theorem dJ39_next_40 : decode cJ39_next 40 = .ok (.getfield 33, 3) := dk_180 0 33 (dk_at dksJ39_next_1 16 rfl rfl)
theorem dJ39_next_43 : decode cJ39_next 43 = .ok (.iconst 1, 1) := dk_4 (dk_at dksJ39_next_1 19 rfl rfl)
theorem dJ39_next_44 : decode cJ39_next 44 = .ok (.iadd, 1) := dk_96 (dk_at dksJ39_next_1 20 rfl rfl)
theorem dJ39_next_45 : decode cJ39_next 45 = .ok (.putfield 33, 3) := dk_181 0 33 (dk_at dksJ39_next_1 21 rfl rfl)
theorem dJ39_next_48 : decode cJ39_next 48 = .ok (.aload_n 0, 1) := dk_42 (dk_at dksJ39_next_2 0 rfl rfl)
theorem dJ39_next_49 : decode cJ39_next 49 = .ok (.getfield 46, 3) := dk_180 0 46 (dk_at dksJ39_next_2 1 rfl rfl)
theorem dJ39_next_52 : decode cJ39_next 52 = .ok (.getfield 52, 3) := dk_180 0 52 (dk_at dksJ39_next_2 4 rfl rfl)
theorem dJ39_next_55 : decode cJ39_next 55 = .ok (.areturn, 1) := dk_176 (dk_at dksJ39_next_2 7 rfl rfl)
abbrev cJ39_checkForComodification : ByteArray := prog_68_method_12_code
def yJ39_checkForComodification : MethodName := ⟨RJ39, "checkForComodification", "()V"⟩
def dkwJ39_checkForComodification_0 : List UInt8 := [42, 180, 0, 1, 180, 0, 13, 42, 180, 0, 19, 159, 0, 11, 187, 0, 91, 89, 183, 0, 93, 191, 177]
abbrev dktJ39_checkForComodification_0 : List UInt8 := dkwJ39_checkForComodification_0 ++ []
theorem dksJ39_checkForComodification_0 : cJ39_checkForComodification.data.toList.drop 0 = dktJ39_checkForComodification_0 := by decide +kernel
theorem dJ39_checkForComodification_0 : decode cJ39_checkForComodification 0 = .ok (.aload_n 0, 1) := dk_42 (dk_at dksJ39_checkForComodification_0 0 rfl rfl)
theorem dJ39_checkForComodification_1 : decode cJ39_checkForComodification 1 = .ok (.getfield 1, 3) := dk_180 0 1 (dk_at dksJ39_checkForComodification_0 1 rfl rfl)
theorem dJ39_checkForComodification_4 : decode cJ39_checkForComodification 4 = .ok (.getfield 13, 3) := dk_180 0 13 (dk_at dksJ39_checkForComodification_0 4 rfl rfl)
theorem dJ39_checkForComodification_7 : decode cJ39_checkForComodification 7 = .ok (.aload_n 0, 1) := dk_42 (dk_at dksJ39_checkForComodification_0 7 rfl rfl)
theorem dJ39_checkForComodification_8 : decode cJ39_checkForComodification 8 = .ok (.getfield 19, 3) := dk_180 0 19 (dk_at dksJ39_checkForComodification_0 8 rfl rfl)
theorem dJ39_checkForComodification_11 : decode cJ39_checkForComodification 11 = .ok (.if_icmp .eq 11, 3) := dk_159 0 11 (dk_at dksJ39_checkForComodification_0 11 rfl rfl)
theorem dJ39_checkForComodification_14 : decode cJ39_checkForComodification 14 = .ok (.new 91, 3) := dk_187 0 91 (dk_at dksJ39_checkForComodification_0 14 rfl rfl)
theorem dJ39_checkForComodification_17 : decode cJ39_checkForComodification 17 = .ok (.dup, 1) := dk_89 (dk_at dksJ39_checkForComodification_0 17 rfl rfl)
theorem dJ39_checkForComodification_18 : decode cJ39_checkForComodification 18 = .ok (.invokespecial 93, 3) := dk_183 0 93 (dk_at dksJ39_checkForComodification_0 18 rfl rfl)
theorem dJ39_checkForComodification_21 : decode cJ39_checkForComodification 21 = .ok (.athrow, 1) := dk_191 (dk_at dksJ39_checkForComodification_0 21 rfl rfl)
theorem dJ39_checkForComodification_22 : decode cJ39_checkForComodification 22 = .ok (.return_, 1) := dk_177 (dk_at dksJ39_checkForComodification_0 22 rfl rfl)
abbrev cJ39_init : ByteArray := prog_68_method_1_code
def yJ39_init : MethodName := ⟨RJ39, "<init>", "(Ljava/util/LinkedList;I)V"⟩
def dkwJ39_init_1 : List UInt8 := [180, 0, 22, 160, 0, 7, 1, 167, 0, 8, 43, 28, 182, 0, 25, 181, 0, 29, 42, 28, 181, 0, 33, 177]
abbrev dktJ39_init_1 : List UInt8 := dkwJ39_init_1 ++ []
def dkwJ39_init_0 : List UInt8 := [42, 43, 181, 0, 1, 42, 183, 0, 7, 42, 42, 180, 0, 1, 180, 0, 13, 181, 0, 19, 42, 28, 43]
abbrev dktJ39_init_0 : List UInt8 := dkwJ39_init_0 ++ dktJ39_init_1
theorem dksJ39_init_0 : cJ39_init.data.toList.drop 0 = dktJ39_init_0 := by decide +kernel
theorem dksJ39_init_1 : cJ39_init.data.toList.drop 23 = dktJ39_init_1 := dk_seg dksJ39_init_0 23 rfl rfl
theorem dJ39_init_0 : decode cJ39_init 0 = .ok (.aload_n 0, 1) := dk_42 (dk_at dksJ39_init_0 0 rfl rfl)
theorem dJ39_init_1 : decode cJ39_init 1 = .ok (.aload_n 1, 1) := dk_43 (dk_at dksJ39_init_0 1 rfl rfl)
theorem dJ39_init_2 : decode cJ39_init 2 = .ok (.putfield 1, 3) := dk_181 0 1 (dk_at dksJ39_init_0 2 rfl rfl)
theorem dJ39_init_5 : decode cJ39_init 5 = .ok (.aload_n 0, 1) := dk_42 (dk_at dksJ39_init_0 5 rfl rfl)
theorem dJ39_init_6 : decode cJ39_init 6 = .ok (.invokespecial 7, 3) := dk_183 0 7 (dk_at dksJ39_init_0 6 rfl rfl)
theorem dJ39_init_9 : decode cJ39_init 9 = .ok (.aload_n 0, 1) := dk_42 (dk_at dksJ39_init_0 9 rfl rfl)
theorem dJ39_init_10 : decode cJ39_init 10 = .ok (.aload_n 0, 1) := dk_42 (dk_at dksJ39_init_0 10 rfl rfl)
theorem dJ39_init_11 : decode cJ39_init 11 = .ok (.getfield 1, 3) := dk_180 0 1 (dk_at dksJ39_init_0 11 rfl rfl)
theorem dJ39_init_14 : decode cJ39_init 14 = .ok (.getfield 13, 3) := dk_180 0 13 (dk_at dksJ39_init_0 14 rfl rfl)
theorem dJ39_init_17 : decode cJ39_init 17 = .ok (.putfield 19, 3) := dk_181 0 19 (dk_at dksJ39_init_0 17 rfl rfl)
theorem dJ39_init_20 : decode cJ39_init 20 = .ok (.aload_n 0, 1) := dk_42 (dk_at dksJ39_init_0 20 rfl rfl)
theorem dJ39_init_21 : decode cJ39_init 21 = .ok (.iload_n 2, 1) := dk_28 (dk_at dksJ39_init_0 21 rfl rfl)
theorem dJ39_init_22 : decode cJ39_init 22 = .ok (.aload_n 1, 1) := dk_43 (dk_at dksJ39_init_0 22 rfl rfl)
theorem dJ39_init_23 : decode cJ39_init 23 = .ok (.getfield 22, 3) := dk_180 0 22 (dk_at dksJ39_init_1 0 rfl rfl)
theorem dJ39_init_26 : decode cJ39_init 26 = .ok (.if_icmp .ne 7, 3) := dk_160 0 7 (dk_at dksJ39_init_1 3 rfl rfl)
theorem dJ39_init_29 : decode cJ39_init 29 = .ok (.aconst_null, 1) := dk_1 (dk_at dksJ39_init_1 6 rfl rfl)
theorem dJ39_init_30 : decode cJ39_init 30 = .ok (.goto 8, 3) := dk_167 0 8 (dk_at dksJ39_init_1 7 rfl rfl)
theorem dJ39_init_33 : decode cJ39_init 33 = .ok (.aload_n 1, 1) := dk_43 (dk_at dksJ39_init_1 10 rfl rfl)
theorem dJ39_init_34 : decode cJ39_init 34 = .ok (.iload_n 2, 1) := dk_28 (dk_at dksJ39_init_1 11 rfl rfl)
theorem dJ39_init_35 : decode cJ39_init 35 = .ok (.invokevirtual 25, 3) := dk_182 0 25 (dk_at dksJ39_init_1 12 rfl rfl)
theorem dJ39_init_38 : decode cJ39_init 38 = .ok (.putfield 29, 3) := dk_181 0 29 (dk_at dksJ39_init_1 15 rfl rfl)
theorem dJ39_init_41 : decode cJ39_init 41 = .ok (.aload_n 0, 1) := dk_42 (dk_at dksJ39_init_1 18 rfl rfl)
theorem dJ39_init_42 : decode cJ39_init 42 = .ok (.iload_n 2, 1) := dk_28 (dk_at dksJ39_init_1 19 rfl rfl)
theorem dJ39_init_43 : decode cJ39_init 43 = .ok (.putfield 33, 3) := dk_181 0 33 (dk_at dksJ39_init_1 20 rfl rfl)
theorem dJ39_init_46 : decode cJ39_init 46 = .ok (.return_, 1) := dk_177 (dk_at dksJ39_init_1 23 rfl rfl)
theorem q103 : (Jvm.Cond.initialized "java/util/LinkedList$ListItr") ∈ lw_all := lw_g (lw_at lw_m1 55 rfl) rfl
theorem q134 : (Jvm.Cond.fieldLink "java/util/LinkedList$ListItr" (13 : Nat) "java/util/LinkedList" "modCount" "I") ∈ lw_all := lw_g (lw_at lw_m1 86 rfl) rfl
theorem q210 : (Jvm.Cond.fieldLink "java/util/LinkedList$ListItr" (22 : Nat) "java/util/LinkedList" "size" "I") ∈ lw_all := lw_g (lw_at lw_m1 162 rfl) rfl
theorem q289 : (Jvm.Cond.selects "java/util/LinkedList$ListItr" ({ cls := "java/lang/Object", name := "getClass", desc := "()Ljava/lang/Class;" } : Jvm.MethodName) ({ cls := "java/lang/Object", name := "getClass", desc := "()Ljava/lang/Class;" } : Jvm.MethodName)) ∈ lw_all := lw_g (lw_at lw_m2 1 rfl) rfl
theorem q1348 : (Jvm.Cond.fieldLink "java/util/LinkedList$ListItr" (52 : Nat) "java/util/LinkedList$Node" "item" "Ljava/lang/Object;") ∈ lw_all := lw_g (lw_at lw_m6 100 rfl) rfl
theorem q1351 : (Jvm.Cond.fieldLink "java/util/LinkedList$ListItr" (49 : Nat) "java/util/LinkedList$Node" "next" "Ljava/util/LinkedList$Node;") ∈ lw_all := lw_g (lw_at lw_m6 103 rfl) rfl
theorem q1500 : (Jvm.Cond.castable "java/util/LinkedList$ListItr" "java/util/Iterator") ∈ lw_tbl := lw_at lw_m7 12 rfl
theorem q1501 : (Jvm.Cond.selects "java/util/LinkedList$ListItr" ({ cls := "java/util/Iterator", name := "hasNext", desc := "()Z" } : Jvm.MethodName) ({ cls := "java/util/LinkedList$ListItr", name := "hasNext", desc := "()Z" } : Jvm.MethodName)) ∈ lw_all := lw_g (lw_at lw_m7 13 rfl) rfl
theorem q1502 : (Jvm.Cond.unhidden "java/util/LinkedList$ListItr" "hasNext" "()Z") ∈ lw_tbl := lw_at lw_m7 14 rfl
theorem q1503 : (Jvm.Cond.instanceMethod ({ cls := "java/util/LinkedList$ListItr", name := "hasNext", desc := "()Z" } : Jvm.MethodName)) ∈ lw_all := lw_g (lw_at lw_m7 15 rfl) rfl
theorem q1504 : (Jvm.Cond.publicMethod ({ cls := "java/util/LinkedList$ListItr", name := "hasNext", desc := "()Z" } : Jvm.MethodName)) ∈ lw_tbl := lw_at lw_m7 16 rfl
theorem q1505 : (Jvm.Cond.code ({ cls := "java/util/LinkedList$ListItr", name := "hasNext", desc := "()Z" } : Jvm.MethodName) prog_68_method_2_code (1 : Nat) (Option.some Jvm.ClassFile.FieldType.boolean)) ∈ lw_all := lw_g (lw_at lw_m7 17 rfl) rfl
theorem q1645 : (Jvm.Cond.selects "java/util/LinkedList$ListItr" ({ cls := "java/util/Iterator", name := "next", desc := "()Ljava/lang/Object;" } : Jvm.MethodName) ({ cls := "java/util/LinkedList$ListItr", name := "next", desc := "()Ljava/lang/Object;" } : Jvm.MethodName)) ∈ lw_all := lw_g (lw_at lw_m7 157 rfl) rfl
theorem q1646 : (Jvm.Cond.unhidden "java/util/LinkedList$ListItr" "next" "()Ljava/lang/Object;") ∈ lw_tbl := lw_at lw_m7 158 rfl
theorem q1647 : (Jvm.Cond.instanceMethod ({ cls := "java/util/LinkedList$ListItr", name := "next", desc := "()Ljava/lang/Object;" } : Jvm.MethodName)) ∈ lw_all := lw_g (lw_at lw_m7 159 rfl) rfl
theorem q1648 : (Jvm.Cond.publicMethod ({ cls := "java/util/LinkedList$ListItr", name := "next", desc := "()Ljava/lang/Object;" } : Jvm.MethodName)) ∈ lw_tbl := lw_at lw_m7 160 rfl
theorem q1649 : (Jvm.Cond.code ({ cls := "java/util/LinkedList$ListItr", name := "next", desc := "()Ljava/lang/Object;" } : Jvm.MethodName) prog_68_method_3_code (1 : Nat) (Option.some (Jvm.ClassFile.FieldType.object "java/lang/Object"))) ∈ lw_all := lw_g (lw_at lw_m7 161 rfl) rfl
theorem q1650 : (Jvm.Cond.methodLink "java/util/LinkedList$ListItr" (36 : Nat) ({ cls := "java/util/LinkedList$ListItr", name := "checkForComodification", desc := "()V" } : Jvm.MethodName)) ∈ lw_all := lw_g (lw_at lw_m7 162 rfl) rfl
theorem q1651 : (Jvm.Cond.instanceMethod ({ cls := "java/util/LinkedList$ListItr", name := "checkForComodification", desc := "()V" } : Jvm.MethodName)) ∈ lw_all := lw_g (lw_at lw_m7 163 rfl) rfl
theorem q1652 : (Jvm.Cond.selects "java/util/LinkedList$ListItr" ({ cls := "java/util/LinkedList$ListItr", name := "checkForComodification", desc := "()V" } : Jvm.MethodName) ({ cls := "java/util/LinkedList$ListItr", name := "checkForComodification", desc := "()V" } : Jvm.MethodName)) ∈ lw_all := lw_g (lw_at lw_m7 164 rfl) rfl
theorem q1653 : (Jvm.Cond.code ({ cls := "java/util/LinkedList$ListItr", name := "checkForComodification", desc := "()V" } : Jvm.MethodName) prog_68_method_12_code (1 : Nat) (Option.none : Option Jvm.ClassFile.FieldType)) ∈ lw_all := lw_g (lw_at lw_m7 165 rfl) rfl
theorem q1654 : (Jvm.Cond.methodLink "java/util/LinkedList$ListItr" (39 : Nat) ({ cls := "java/util/LinkedList$ListItr", name := "hasNext", desc := "()Z" } : Jvm.MethodName)) ∈ lw_all := lw_g (lw_at lw_m7 166 rfl) rfl
theorem q2202 : (Jvm.Cond.instantiable "java/util/LinkedList$ListItr" (5 : Nat)) ∈ lw_all := lw_g (lw_at lw_m9 234 rfl) rfl
theorem q2204 : (Jvm.Cond.instanceMethod ({ cls := "java/util/LinkedList$ListItr", name := "<init>", desc := "(Ljava/util/LinkedList;I)V" } : Jvm.MethodName)) ∈ lw_all := lw_g (lw_at lw_m9 236 rfl) rfl
theorem q2205 : (Jvm.Cond.code ({ cls := "java/util/LinkedList$ListItr", name := "<init>", desc := "(Ljava/util/LinkedList;I)V" } : Jvm.MethodName) prog_68_method_1_code (3 : Nat) (Option.none : Option Jvm.ClassFile.FieldType)) ∈ lw_all := lw_g (lw_at lw_m9 237 rfl) rfl
theorem q2206 : (Jvm.Cond.methodLink "java/util/LinkedList$ListItr" (7 : Nat) ({ cls := "java/lang/Object", name := "<init>", desc := "()V" } : Jvm.MethodName)) ∈ lw_all := lw_g (lw_at lw_m9 238 rfl) rfl
theorem q2207 : (Jvm.Cond.methodLink "java/util/LinkedList$ListItr" (25 : Nat) ({ cls := "java/util/LinkedList", name := "node", desc := "(I)Ljava/util/LinkedList$Node;" } : Jvm.MethodName)) ∈ lw_all := lw_g (lw_at lw_m9 239 rfl) rfl
theorem q2208 : (Jvm.Cond.fieldLink "java/util/LinkedList$ListItr" (46 : Nat) "java/util/LinkedList$ListItr" "lastReturned" "Ljava/util/LinkedList$Node;") ∈ lw_all := lw_g (lw_at lw_m10 0 rfl) rfl
theorem q2209 : (Jvm.Cond.fieldLink "java/util/LinkedList$ListItr" (29 : Nat) "java/util/LinkedList$ListItr" "next" "Ljava/util/LinkedList$Node;") ∈ lw_all := lw_g (lw_at lw_m10 1 rfl) rfl
theorem q2210 : (Jvm.Cond.fieldLink "java/util/LinkedList$ListItr" (33 : Nat) "java/util/LinkedList$ListItr" "nextIndex" "I") ∈ lw_all := lw_g (lw_at lw_m10 2 rfl) rfl
theorem q2211 : (Jvm.Cond.fieldLink "java/util/LinkedList$ListItr" (19 : Nat) "java/util/LinkedList$ListItr" "expectedModCount" "I") ∈ lw_all := lw_g (lw_at lw_m10 3 rfl) rfl
theorem q2212 : (Jvm.Cond.fieldLink "java/util/LinkedList$ListItr" (1 : Nat) "java/util/LinkedList$ListItr" "this$0" "Ljava/util/LinkedList;") ∈ lw_all := lw_g (lw_at lw_m10 4 rfl) rfl
theorem q2213 : (Jvm.Cond.lays "java/util/LinkedList$ListItr" "java/util/LinkedList$ListItr" "lastReturned" "Ljava/util/LinkedList$Node;") ∈ lw_all := lw_g (lw_at lw_m10 5 rfl) rfl
theorem q2214 : (Jvm.Cond.soleField "java/util/LinkedList$ListItr" "lastReturned") ∈ lw_all := lw_g (lw_at lw_m10 6 rfl) rfl
theorem q2215 : (Jvm.Cond.lays "java/util/LinkedList$ListItr" "java/util/LinkedList$ListItr" "next" "Ljava/util/LinkedList$Node;") ∈ lw_all := lw_g (lw_at lw_m10 7 rfl) rfl
theorem q2216 : (Jvm.Cond.soleField "java/util/LinkedList$ListItr" "next") ∈ lw_all := lw_g (lw_at lw_m10 8 rfl) rfl
theorem q2217 : (Jvm.Cond.lays "java/util/LinkedList$ListItr" "java/util/LinkedList$ListItr" "nextIndex" "I") ∈ lw_all := lw_g (lw_at lw_m10 9 rfl) rfl
theorem q2218 : (Jvm.Cond.soleField "java/util/LinkedList$ListItr" "nextIndex") ∈ lw_all := lw_g (lw_at lw_m10 10 rfl) rfl
theorem q2219 : (Jvm.Cond.lays "java/util/LinkedList$ListItr" "java/util/LinkedList$ListItr" "expectedModCount" "I") ∈ lw_all := lw_g (lw_at lw_m10 11 rfl) rfl
theorem q2220 : (Jvm.Cond.soleField "java/util/LinkedList$ListItr" "expectedModCount") ∈ lw_all := lw_g (lw_at lw_m10 12 rfl) rfl
theorem q2221 : (Jvm.Cond.laysFinal "java/util/LinkedList$ListItr" "java/util/LinkedList$ListItr" "this$0" "Ljava/util/LinkedList;") ∈ lw_all := lw_g (lw_at lw_m10 13 rfl) rfl
theorem q2222 : (Jvm.Cond.soleField "java/util/LinkedList$ListItr" "this$0") ∈ lw_all := lw_g (lw_at lw_m10 14 rfl) rfl
theorem q2223 : (Jvm.Cond.superclass "java/util/LinkedList$ListItr" "java/lang/Object") ∈ lw_all := lw_g (lw_at lw_m10 15 rfl) rfl
theorem q2674 : (Jvm.Cond.selects "java/util/LinkedList$ListItr" ({ cls := "java/util/LinkedList$ListItr", name := "hasNext", desc := "()Z" } : Jvm.MethodName) ({ cls := "java/util/LinkedList$ListItr", name := "hasNext", desc := "()Z" } : Jvm.MethodName)) ∈ lw_all := lw_g (lw_at lw_m11 226 rfl) rfl
theorem q2725 : (Jvm.Cond.castable "java/util/LinkedList$ListItr" "java/lang/Object") ∈ lw_tbl := lw_at lw_m12 37 rfl
theorem in_J39 : ∀ w ∈ wsJ390, w ∈ lw_all := lw_in wsJ390 [2213, 2215, 2217, 2219, 2221] (by decide +kernel) (by decide +kernel)

/-! java/lang/Object -/
set_option maxRecDepth 100000
def RJ40 : String := "java/lang/Object"
abbrev cJ40_init : ByteArray := object_method_1_code
def yJ40_init : MethodName := ⟨RJ40, "<init>", "()V"⟩
theorem dJ40_init_0 : decode cJ40_init 0 = .ok (.return_, 1) := by decide +kernel
abbrev cJ40_equals : ByteArray := object_method_4_code
def yJ40_equals : MethodName := ⟨RJ40, "equals", "(Ljava/lang/Object;)Z"⟩
def dkwJ40_equals_0 : List UInt8 := [42, 43, 166, 0, 7, 4, 167, 0, 4, 3, 172]
abbrev dktJ40_equals_0 : List UInt8 := dkwJ40_equals_0 ++ []
theorem dksJ40_equals_0 : cJ40_equals.data.toList.drop 0 = dktJ40_equals_0 := by decide +kernel
theorem dJ40_equals_0 : decode cJ40_equals 0 = .ok (.aload_n 0, 1) := dk_42 (dk_at dksJ40_equals_0 0 rfl rfl)
theorem dJ40_equals_1 : decode cJ40_equals 1 = .ok (.aload_n 1, 1) := dk_43 (dk_at dksJ40_equals_0 1 rfl rfl)
theorem dJ40_equals_2 : decode cJ40_equals 2 = .ok (.if_acmp .ne 7, 3) := dk_166 0 7 (dk_at dksJ40_equals_0 2 rfl rfl)
theorem dJ40_equals_5 : decode cJ40_equals 5 = .ok (.iconst 1, 1) := dk_4 (dk_at dksJ40_equals_0 5 rfl rfl)
theorem dJ40_equals_6 : decode cJ40_equals 6 = .ok (.goto 4, 3) := dk_167 0 4 (dk_at dksJ40_equals_0 6 rfl rfl)
theorem dJ40_equals_9 : decode cJ40_equals 9 = .ok (.iconst 0, 1) := dk_3 (dk_at dksJ40_equals_0 9 rfl rfl)
theorem dJ40_equals_10 : decode cJ40_equals 10 = .ok (.ireturn, 1) := dk_172 (dk_at dksJ40_equals_0 10 rfl rfl)
theorem q113 : (Jvm.Cond.instanceMethod ({ cls := "java/lang/Object", name := "<init>", desc := "()V" } : Jvm.MethodName)) ∈ lw_all := lw_g (lw_at lw_m1 65 rfl) rfl
theorem q114 : (Jvm.Cond.code ({ cls := "java/lang/Object", name := "<init>", desc := "()V" } : Jvm.MethodName) object_method_1_code (1 : Nat) (Option.none : Option Jvm.ClassFile.FieldType)) ∈ lw_all := lw_g (lw_at lw_m1 66 rfl) rfl
theorem q252 : (Jvm.Cond.instanceMethod ({ cls := "java/lang/Object", name := "getClass", desc := "()Ljava/lang/Class;" } : Jvm.MethodName)) ∈ lw_all := lw_g (lw_at lw_m1 204 rfl) rfl
theorem q253 : (Jvm.Cond.sameMethod "java/lang/Object" "java/lang/Object" "getClass" "()Ljava/lang/Class;") ∈ lw_all := lw_g (lw_at lw_m1 205 rfl) rfl
theorem q293 : (Jvm.Cond.native ({ cls := "java/lang/Object", name := "getClass", desc := "()Ljava/lang/Class;" } : Jvm.MethodName)) ∈ lw_all := lw_g (lw_at lw_m2 5 rfl) rfl
theorem q349 : (Jvm.Cond.declares ({ cls := "java/lang/Object", name := "hashCode", desc := "()I" } : Jvm.MethodName)) ∈ lw_tbl := lw_at lw_m2 61 rfl
theorem q351 : (Jvm.Cond.instanceMethod ({ cls := "java/lang/Object", name := "hashCode", desc := "()I" } : Jvm.MethodName)) ∈ lw_all := lw_g (lw_at lw_m2 63 rfl) rfl
theorem q352 : (Jvm.Cond.sameMethod "java/lang/Object" "java/lang/Object" "hashCode" "()I") ∈ lw_all := lw_g (lw_at lw_m2 64 rfl) rfl
theorem q543 : (Jvm.Cond.native ({ cls := "java/lang/Object", name := "clone", desc := "()Ljava/lang/Object;" } : Jvm.MethodName)) ∈ lw_all := lw_g (lw_at lw_m3 15 rfl) rfl
theorem q544 : (Jvm.Cond.instanceMethod ({ cls := "java/lang/Object", name := "clone", desc := "()Ljava/lang/Object;" } : Jvm.MethodName)) ∈ lw_all := lw_g (lw_at lw_m3 16 rfl) rfl
theorem q737 : (Jvm.Cond.native ({ cls := "java/lang/Object", name := "hashCode", desc := "()I" } : Jvm.MethodName)) ∈ lw_all := lw_g (lw_at lw_m3 209 rfl) rfl
theorem q1075 : (Jvm.Cond.declares ({ cls := "java/lang/Object", name := "equals", desc := "(Ljava/lang/Object;)Z" } : Jvm.MethodName)) ∈ lw_tbl := lw_at lw_m5 67 rfl
theorem q1077 : (Jvm.Cond.instanceMethod ({ cls := "java/lang/Object", name := "equals", desc := "(Ljava/lang/Object;)Z" } : Jvm.MethodName)) ∈ lw_all := lw_g (lw_at lw_m5 69 rfl) rfl
theorem q1078 : (Jvm.Cond.sameMethod "java/lang/Object" "java/lang/Object" "equals" "(Ljava/lang/Object;)Z") ∈ lw_all := lw_g (lw_at lw_m5 70 rfl) rfl
theorem q1114 : (Jvm.Cond.code ({ cls := "java/lang/Object", name := "equals", desc := "(Ljava/lang/Object;)Z" } : Jvm.MethodName) object_method_4_code (2 : Nat) (Option.some Jvm.ClassFile.FieldType.boolean)) ∈ lw_all := lw_g (lw_at lw_m5 106 rfl) rfl
theorem q2681 : (Jvm.Cond.initialized "java/lang/Object") ∈ lw_all := lw_g (lw_at lw_m11 233 rfl) rfl
theorem q2736 : (Jvm.Cond.declares ({ cls := "java/lang/Object", name := "getClass", desc := "()Ljava/lang/Class;" } : Jvm.MethodName)) ∈ lw_tbl := lw_at lw_m12 48 rfl

def tbJ0_init (pc : Nat) : Option (Instr × Nat) := (cond (Nat.ble pc 0) (cond (Nat.beq pc 0) (some (.aload_n 0, 1)) none) (cond (Nat.ble pc 1) (cond (Nat.beq pc 1) (some (.invokespecial 1, 3)) none) (cond (Nat.beq pc 4) (some (.return_, 1)) none)))
theorem tkJ0_init : tkAll cJ0_init tbJ0_init := fun pc => (tk_b (tk_l dJ0_init_0) (tk_b (tk_l dJ0_init_1) (tk_l dJ0_init_4)))
def tbJ0_isEmpty (pc : Nat) : Option (Instr × Nat) := (cond (Nat.ble pc 4) (cond (Nat.ble pc 0) (cond (Nat.beq pc 0) (some (.aload_n 0, 1)) none) (cond (Nat.ble pc 1) (cond (Nat.beq pc 1) (some (.invokevirtual 7, 3)) none) (cond (Nat.beq pc 4) (some (.ifCond .ne 7, 3)) none))) (cond (Nat.ble pc 8) (cond (Nat.ble pc 7) (cond (Nat.beq pc 7) (some (.iconst 1, 1)) none) (cond (Nat.beq pc 8) (some (.goto 4, 3)) none)) (cond (Nat.ble pc 11) (cond (Nat.beq pc 11) (some (.iconst 0, 1)) none) (cond (Nat.beq pc 12) (some (.ireturn, 1)) none))))
theorem tkJ0_isEmpty : tkAll cJ0_isEmpty tbJ0_isEmpty := fun pc => (tk_b (tk_b (tk_l dJ0_isEmpty_0) (tk_b (tk_l dJ0_isEmpty_1) (tk_l dJ0_isEmpty_4))) (tk_b (tk_b (tk_l dJ0_isEmpty_7) (tk_l dJ0_isEmpty_8)) (tk_b (tk_l dJ0_isEmpty_11) (tk_l dJ0_isEmpty_12))))
def tbJ1_init (pc : Nat) : Option (Instr × Nat) := (cond (Nat.ble pc 4) (cond (Nat.ble pc 0) (cond (Nat.beq pc 0) (some (.aload_n 0, 1)) none) (cond (Nat.ble pc 1) (cond (Nat.beq pc 1) (some (.invokespecial 1, 3)) none) (cond (Nat.beq pc 4) (some (.aload_n 0, 1)) none))) (cond (Nat.ble pc 5) (cond (Nat.beq pc 5) (some (.iconst 0, 1)) none) (cond (Nat.ble pc 6) (cond (Nat.beq pc 6) (some (.putfield 7, 3)) none) (cond (Nat.beq pc 9) (some (.return_, 1)) none))))
theorem tkJ1_init : tkAll cJ1_init tbJ1_init := fun pc => (tk_b (tk_b (tk_l dJ1_init_0) (tk_b (tk_l dJ1_init_1) (tk_l dJ1_init_4))) (tk_b (tk_l dJ1_init_5) (tk_b (tk_l dJ1_init_6) (tk_l dJ1_init_9))))
def tbJ1_listIterator (pc : Nat) : Option (Instr × Nat) := (cond (Nat.ble pc 1) (cond (Nat.ble pc 0) (cond (Nat.beq pc 0) (some (.aload_n 0, 1)) none) (cond (Nat.beq pc 1) (some (.iconst 0, 1)) none)) (cond (Nat.ble pc 2) (cond (Nat.beq pc 2) (some (.invokevirtual 47, 3)) none) (cond (Nat.beq pc 5) (some (.areturn, 1)) none)))
theorem tkJ1_listIterator : tkAll cJ1_listIterator tbJ1_listIterator := fun pc => (tk_b (tk_b (tk_l dJ1_listIterator_0) (tk_l dJ1_listIterator_1)) (tk_b (tk_l dJ1_listIterator_2) (tk_l dJ1_listIterator_5)))
def tbJ2_init (pc : Nat) : Option (Instr × Nat) := (cond (Nat.ble pc 4) (cond (Nat.ble pc 0) (cond (Nat.beq pc 0) (some (.aload_n 0, 1)) none) (cond (Nat.ble pc 1) (cond (Nat.beq pc 1) (some (.invokespecial 1, 3)) none) (cond (Nat.beq pc 4) (some (.aload_n 0, 1)) none))) (cond (Nat.ble pc 5) (cond (Nat.beq pc 5) (some (.getstatic 39, 3)) none) (cond (Nat.ble pc 8) (cond (Nat.beq pc 8) (some (.putfield 9, 3)) none) (cond (Nat.beq pc 11) (some (.return_, 1)) none))))
theorem tkJ2_init : tkAll cJ2_init tbJ2_init := fun pc => (tk_b (tk_b (tk_l dJ2_init_0) (tk_b (tk_l dJ2_init_1) (tk_l dJ2_init_4))) (tk_b (tk_l dJ2_init_5) (tk_b (tk_l dJ2_init_8) (tk_l dJ2_init_11))))
def tbJ2_add (pc : Nat) : Option (Instr × Nat) := (cond (Nat.ble pc 10) (cond (Nat.ble pc 2) (cond (Nat.ble pc 0) (cond (Nat.beq pc 0) (some (.aload_n 0, 1)) none) (cond (Nat.ble pc 1) (cond (Nat.beq pc 1) (some (.dup, 1)) none) (cond (Nat.beq pc 2) (some (.getfield 63, 3)) none))) (cond (Nat.ble pc 6) (cond (Nat.ble pc 5) (cond (Nat.beq pc 5) (some (.iconst 1, 1)) none) (cond (Nat.beq pc 6) (some (.iadd, 1)) none)) (cond (Nat.ble pc 7) (cond (Nat.beq pc 7) (some (.putfield 63, 3)) none) (cond (Nat.beq pc 10) (some (.aload_n 0, 1)) none)))) (cond (Nat.ble pc 16) (cond (Nat.ble pc 12) (cond (Nat.ble pc 11) (cond (Nat.beq pc 11) (some (.aload_n 1, 1)) none) (cond (Nat.beq pc 12) (some (.aload_n 0, 1)) none)) (cond (Nat.ble pc 13) (cond (Nat.beq pc 13) (some (.getfield 9, 3)) none) (cond (Nat.beq pc 16) (some (.aload_n 0, 1)) none))) (cond (Nat.ble pc 20) (cond (Nat.ble pc 17) (cond (Nat.beq pc 17) (some (.getfield 48, 3)) none) (cond (Nat.beq pc 20) (some (.invokevirtual 131, 3)) none)) (cond (Nat.ble pc 23) (cond (Nat.beq pc 23) (some (.iconst 1, 1)) none) (cond (Nat.beq pc 24) (some (.ireturn, 1)) none)))))
theorem tkJ2_add : tkAll cJ2_add tbJ2_add := fun pc => (tk_b (tk_b (tk_b (tk_l dJ2_add_0) (tk_b (tk_l dJ2_add_1) (tk_l dJ2_add_2))) (tk_b (tk_b (tk_l dJ2_add_5) (tk_l dJ2_add_6)) (tk_b (tk_l dJ2_add_7) (tk_l dJ2_add_10)))) (tk_b (tk_b (tk_b (tk_l dJ2_add_11) (tk_l dJ2_add_12)) (tk_b (tk_l dJ2_add_13) (tk_l dJ2_add_16))) (tk_b (tk_b (tk_l dJ2_add_17) (tk_l dJ2_add_20)) (tk_b (tk_l dJ2_add_23) (tk_l dJ2_add_24)))))
def tbJ2_add_2 (pc : Nat) : Option (Instr × Nat) := (cond (Nat.ble pc 11) (cond (Nat.ble pc 3) (cond (Nat.ble pc 1) (cond (Nat.ble pc 0) (cond (Nat.beq pc 0) (some (.iload_n 3, 1)) none) (cond (Nat.beq pc 1) (some (.aload_n 2, 1)) none)) (cond (Nat.ble pc 2) (cond (Nat.beq pc 2) (some (.arraylength, 1)) none) (cond (Nat.beq pc 3) (some (.if_icmp .ne 8, 3)) none))) (cond (Nat.ble pc 7) (cond (Nat.ble pc 6) (cond (Nat.beq pc 6) (some (.aload_n 0, 1)) none) (cond (Nat.beq pc 7) (some (.invokevirtual 129, 3)) none)) (cond (Nat.ble pc 10) (cond (Nat.beq pc 10) (some (.astore_n 2, 1)) none) (cond (Nat.beq pc 11) (some (.aload_n 2, 1)) none)))) (cond (Nat.ble pc 15) (cond (Nat.ble pc 13) (cond (Nat.ble pc 12) (cond (Nat.beq pc 12) (some (.iload_n 3, 1)) none) (cond (Nat.beq pc 13) (some (.aload_n 1, 1)) none)) (cond (Nat.ble pc 14) (cond (Nat.beq pc 14) (some (.aastore, 1)) none) (cond (Nat.beq pc 15) (some (.aload_n 0, 1)) none))) (cond (Nat.ble pc 17) (cond (Nat.ble pc 16) (cond (Nat.beq pc 16) (some (.iload_n 3, 1)) none) (cond (Nat.beq pc 17) (some (.iconst 1, 1)) none)) (cond (Nat.ble pc 18) (cond (Nat.beq pc 18) (some (.iadd, 1)) none) (cond (Nat.ble pc 19) (cond (Nat.beq pc 19) (some (.putfield 48, 3)) none) (cond (Nat.beq pc 22) (some (.return_, 1)) none))))))
theorem tkJ2_add_2 : tkAll cJ2_add_2 tbJ2_add_2 := fun pc => (tk_b (tk_b (tk_b (tk_b (tk_l dJ2_add_2_0) (tk_l dJ2_add_2_1)) (tk_b (tk_l dJ2_add_2_2) (tk_l dJ2_add_2_3))) (tk_b (tk_b (tk_l dJ2_add_2_6) (tk_l dJ2_add_2_7)) (tk_b (tk_l dJ2_add_2_10) (tk_l dJ2_add_2_11)))) (tk_b (tk_b (tk_b (tk_l dJ2_add_2_12) (tk_l dJ2_add_2_13)) (tk_b (tk_l dJ2_add_2_14) (tk_l dJ2_add_2_15))) (tk_b (tk_b (tk_l dJ2_add_2_16) (tk_l dJ2_add_2_17)) (tk_b (tk_l dJ2_add_2_18) (tk_b (tk_l dJ2_add_2_19) (tk_l dJ2_add_2_22))))))
def tbJ2_grow (pc : Nat) : Option (Instr × Nat) := (cond (Nat.ble pc 2) (cond (Nat.ble pc 0) (cond (Nat.beq pc 0) (some (.aload_n 0, 1)) none) (cond (Nat.ble pc 1) (cond (Nat.beq pc 1) (some (.aload_n 0, 1)) none) (cond (Nat.beq pc 2) (some (.getfield 48, 3)) none))) (cond (Nat.ble pc 6) (cond (Nat.ble pc 5) (cond (Nat.beq pc 5) (some (.iconst 1, 1)) none) (cond (Nat.beq pc 6) (some (.iadd, 1)) none)) (cond (Nat.ble pc 7) (cond (Nat.beq pc 7) (some (.invokevirtual 69, 3)) none) (cond (Nat.beq pc 10) (some (.areturn, 1)) none))))
theorem tkJ2_grow : tkAll cJ2_grow tbJ2_grow := fun pc => (tk_b (tk_b (tk_l dJ2_grow_0) (tk_b (tk_l dJ2_grow_1) (tk_l dJ2_grow_2))) (tk_b (tk_b (tk_l dJ2_grow_5) (tk_l dJ2_grow_6)) (tk_b (tk_l dJ2_grow_7) (tk_l dJ2_grow_10))))
def tbJ2_grow_2 (pc : Nat) : Option (Instr × Nat) := (cond (Nat.ble pc 26) (cond (Nat.ble pc 11) (cond (Nat.ble pc 5) (cond (Nat.ble pc 1) (cond (Nat.ble pc 0) (cond (Nat.beq pc 0) (some (.aload_n 0, 1)) none) (cond (Nat.beq pc 1) (some (.getfield 9, 3)) none)) (cond (Nat.ble pc 4) (cond (Nat.beq pc 4) (some (.arraylength, 1)) none) (cond (Nat.beq pc 5) (some (.istore_n 2, 1)) none))) (cond (Nat.ble pc 7) (cond (Nat.ble pc 6) (cond (Nat.beq pc 6) (some (.iload_n 2, 1)) none) (cond (Nat.beq pc 7) (some (.ifCond .gt 13, 3)) none)) (cond (Nat.ble pc 10) (cond (Nat.beq pc 10) (some (.aload_n 0, 1)) none) (cond (Nat.beq pc 11) (some (.getfield 9, 3)) none)))) (cond (Nat.ble pc 21) (cond (Nat.ble pc 17) (cond (Nat.ble pc 14) (cond (Nat.beq pc 14) (some (.getstatic 39, 3)) none) (cond (Nat.beq pc 17) (some (.if_acmp .eq 28, 3)) none)) (cond (Nat.ble pc 20) (cond (Nat.beq pc 20) (some (.iload_n 2, 1)) none) (cond (Nat.beq pc 21) (some (.iload_n 1, 1)) none))) (cond (Nat.ble pc 23) (cond (Nat.ble pc 22) (cond (Nat.beq pc 22) (some (.iload_n 2, 1)) none) (cond (Nat.beq pc 23) (some (.isub, 1)) none)) (cond (Nat.ble pc 24) (cond (Nat.beq pc 24) (some (.iload_n 2, 1)) none) (cond (Nat.ble pc 25) (cond (Nat.beq pc 25) (some (.iconst 1, 1)) none) (cond (Nat.beq pc 26) (some (.ishr, 1)) none)))))) (cond (Nat.ble pc 41) (cond (Nat.ble pc 32) (cond (Nat.ble pc 30) (cond (Nat.ble pc 27) (cond (Nat.beq pc 27) (some (.invokestatic 73, 3)) none) (cond (Nat.beq pc 30) (some (.istore_n 3, 1)) none)) (cond (Nat.ble pc 31) (cond (Nat.beq pc 31) (some (.aload_n 0, 1)) none) (cond (Nat.beq pc 32) (some (.aload_n 0, 1)) none))) (cond (Nat.ble pc 36) (cond (Nat.ble pc 33) (cond (Nat.beq pc 33) (some (.getfield 9, 3)) none) (cond (Nat.beq pc 36) (some (.iload_n 3, 1)) none)) (cond (Nat.ble pc 37) (cond (Nat.beq pc 37) (some (.invokestatic 66, 3)) none) (cond (Nat.ble pc 40) (cond (Nat.beq pc 40) (some (.dup_x1, 1)) none) (cond (Nat.beq pc 41) (some (.putfield 9, 3)) none))))) (cond (Nat.ble pc 48) (cond (Nat.ble pc 45) (cond (Nat.ble pc 44) (cond (Nat.beq pc 44) (some (.areturn, 1)) none) (cond (Nat.beq pc 45) (some (.aload_n 0, 1)) none)) (cond (Nat.ble pc 46) (cond (Nat.beq pc 46) (some (.bipush 10, 2)) none) (cond (Nat.beq pc 48) (some (.iload_n 1, 1)) none))) (cond (Nat.ble pc 52) (cond (Nat.ble pc 49) (cond (Nat.beq pc 49) (some (.invokestatic 79, 3)) none) (cond (Nat.beq pc 52) (some (.anewarray 7, 3)) none)) (cond (Nat.ble pc 55) (cond (Nat.beq pc 55) (some (.dup_x1, 1)) none) (cond (Nat.ble pc 56) (cond (Nat.beq pc 56) (some (.putfield 9, 3)) none) (cond (Nat.beq pc 59) (some (.areturn, 1)) none)))))))
theorem tkJ2_grow_2 : tkAll cJ2_grow_2 tbJ2_grow_2 := fun pc => (tk_b (tk_b (tk_b (tk_b (tk_b (tk_l dJ2_grow_2_0) (tk_l dJ2_grow_2_1)) (tk_b (tk_l dJ2_grow_2_4) (tk_l dJ2_grow_2_5))) (tk_b (tk_b (tk_l dJ2_grow_2_6) (tk_l dJ2_grow_2_7)) (tk_b (tk_l dJ2_grow_2_10) (tk_l dJ2_grow_2_11)))) (tk_b (tk_b (tk_b (tk_l dJ2_grow_2_14) (tk_l dJ2_grow_2_17)) (tk_b (tk_l dJ2_grow_2_20) (tk_l dJ2_grow_2_21))) (tk_b (tk_b (tk_l dJ2_grow_2_22) (tk_l dJ2_grow_2_23)) (tk_b (tk_l dJ2_grow_2_24) (tk_b (tk_l dJ2_grow_2_25) (tk_l dJ2_grow_2_26)))))) (tk_b (tk_b (tk_b (tk_b (tk_l dJ2_grow_2_27) (tk_l dJ2_grow_2_30)) (tk_b (tk_l dJ2_grow_2_31) (tk_l dJ2_grow_2_32))) (tk_b (tk_b (tk_l dJ2_grow_2_33) (tk_l dJ2_grow_2_36)) (tk_b (tk_l dJ2_grow_2_37) (tk_b (tk_l dJ2_grow_2_40) (tk_l dJ2_grow_2_41))))) (tk_b (tk_b (tk_b (tk_l dJ2_grow_2_44) (tk_l dJ2_grow_2_45)) (tk_b (tk_l dJ2_grow_2_46) (tk_l dJ2_grow_2_48))) (tk_b (tk_b (tk_l dJ2_grow_2_49) (tk_l dJ2_grow_2_52)) (tk_b (tk_l dJ2_grow_2_55) (tk_b (tk_l dJ2_grow_2_56) (tk_l dJ2_grow_2_59)))))))
def tbJ2_size (pc : Nat) : Option (Instr × Nat) := (cond (Nat.ble pc 0) (cond (Nat.beq pc 0) (some (.aload_n 0, 1)) none) (cond (Nat.ble pc 1) (cond (Nat.beq pc 1) (some (.getfield 48, 3)) none) (cond (Nat.beq pc 4) (some (.ireturn, 1)) none)))
theorem tkJ2_size : tkAll cJ2_size tbJ2_size := fun pc => (tk_b (tk_l dJ2_size_0) (tk_b (tk_l dJ2_size_1) (tk_l dJ2_size_4)))
def tbJ2_get (pc : Nat) : Option (Instr × Nat) := (cond (Nat.ble pc 5) (cond (Nat.ble pc 1) (cond (Nat.ble pc 0) (cond (Nat.beq pc 0) (some (.iload_n 1, 1)) none) (cond (Nat.beq pc 1) (some (.aload_n 0, 1)) none)) (cond (Nat.ble pc 2) (cond (Nat.beq pc 2) (some (.getfield 48, 3)) none) (cond (Nat.beq pc 5) (some (.invokestatic 118, 3)) none))) (cond (Nat.ble pc 9) (cond (Nat.ble pc 8) (cond (Nat.beq pc 8) (some (.pop, 1)) none) (cond (Nat.beq pc 9) (some (.aload_n 0, 1)) none)) (cond (Nat.ble pc 10) (cond (Nat.beq pc 10) (some (.iload_n 1, 1)) none) (cond (Nat.ble pc 11) (cond (Nat.beq pc 11) (some (.invokevirtual 123, 3)) none) (cond (Nat.beq pc 14) (some (.areturn, 1)) none)))))
theorem tkJ2_get : tkAll cJ2_get tbJ2_get := fun pc => (tk_b (tk_b (tk_b (tk_l dJ2_get_0) (tk_l dJ2_get_1)) (tk_b (tk_l dJ2_get_2) (tk_l dJ2_get_5))) (tk_b (tk_b (tk_l dJ2_get_8) (tk_l dJ2_get_9)) (tk_b (tk_l dJ2_get_10) (tk_b (tk_l dJ2_get_11) (tk_l dJ2_get_14)))))
def tbJ2_elementData (pc : Nat) : Option (Instr × Nat) := (cond (Nat.ble pc 1) (cond (Nat.ble pc 0) (cond (Nat.beq pc 0) (some (.aload_n 0, 1)) none) (cond (Nat.beq pc 1) (some (.getfield 9, 3)) none)) (cond (Nat.ble pc 4) (cond (Nat.beq pc 4) (some (.iload_n 1, 1)) none) (cond (Nat.ble pc 5) (cond (Nat.beq pc 5) (some (.aaload, 1)) none) (cond (Nat.beq pc 6) (some (.areturn, 1)) none))))
theorem tkJ2_elementData : tkAll cJ2_elementData tbJ2_elementData := fun pc => (tk_b (tk_b (tk_l dJ2_elementData_0) (tk_l dJ2_elementData_1)) (tk_b (tk_l dJ2_elementData_4) (tk_b (tk_l dJ2_elementData_5) (tk_l dJ2_elementData_6))))
def tbJ2_iterator (pc : Nat) : Option (Instr × Nat) := (cond (Nat.ble pc 3) (cond (Nat.ble pc 0) (cond (Nat.beq pc 0) (some (.new 267, 3)) none) (cond (Nat.beq pc 3) (some (.dup, 1)) none)) (cond (Nat.ble pc 4) (cond (Nat.beq pc 4) (some (.aload_n 0, 1)) none) (cond (Nat.ble pc 5) (cond (Nat.beq pc 5) (some (.invokespecial 269, 3)) none) (cond (Nat.beq pc 8) (some (.areturn, 1)) none))))
theorem tkJ2_iterator : tkAll cJ2_iterator tbJ2_iterator := fun pc => (tk_b (tk_b (tk_l dJ2_iterator_0) (tk_l dJ2_iterator_3)) (tk_b (tk_l dJ2_iterator_4) (tk_b (tk_l dJ2_iterator_5) (tk_l dJ2_iterator_8))))
def tbJ2_listIterator (pc : Nat) : Option (Instr × Nat) := (cond (Nat.ble pc 5) (cond (Nat.ble pc 1) (cond (Nat.ble pc 0) (cond (Nat.beq pc 0) (some (.aload_n 0, 1)) none) (cond (Nat.beq pc 1) (some (.iload_n 1, 1)) none)) (cond (Nat.ble pc 2) (cond (Nat.beq pc 2) (some (.invokevirtual 135, 3)) none) (cond (Nat.beq pc 5) (some (.new 262, 3)) none))) (cond (Nat.ble pc 9) (cond (Nat.ble pc 8) (cond (Nat.beq pc 8) (some (.dup, 1)) none) (cond (Nat.beq pc 9) (some (.aload_n 0, 1)) none)) (cond (Nat.ble pc 10) (cond (Nat.beq pc 10) (some (.iload_n 1, 1)) none) (cond (Nat.ble pc 11) (cond (Nat.beq pc 11) (some (.invokespecial 264, 3)) none) (cond (Nat.beq pc 14) (some (.areturn, 1)) none)))))
theorem tkJ2_listIterator : tkAll cJ2_listIterator tbJ2_listIterator := fun pc => (tk_b (tk_b (tk_b (tk_l dJ2_listIterator_0) (tk_l dJ2_listIterator_1)) (tk_b (tk_l dJ2_listIterator_2) (tk_l dJ2_listIterator_5))) (tk_b (tk_b (tk_l dJ2_listIterator_8) (tk_l dJ2_listIterator_9)) (tk_b (tk_l dJ2_listIterator_10) (tk_b (tk_l dJ2_listIterator_11) (tk_l dJ2_listIterator_14)))))
def tbJ2_rangeCheckForAdd (pc : Nat) : Option (Instr × Nat) := (cond (Nat.ble pc 12) (cond (Nat.ble pc 2) (cond (Nat.ble pc 0) (cond (Nat.beq pc 0) (some (.iload_n 1, 1)) none) (cond (Nat.ble pc 1) (cond (Nat.beq pc 1) (some (.aload_n 0, 1)) none) (cond (Nat.beq pc 2) (some (.getfield 48, 3)) none))) (cond (Nat.ble pc 8) (cond (Nat.ble pc 5) (cond (Nat.beq pc 5) (some (.if_icmp .gt 7, 3)) none) (cond (Nat.beq pc 8) (some (.iload_n 1, 1)) none)) (cond (Nat.ble pc 9) (cond (Nat.beq pc 9) (some (.ifCond .ge 16, 3)) none) (cond (Nat.beq pc 12) (some (.new 187, 3)) none)))) (cond (Nat.ble pc 17) (cond (Nat.ble pc 15) (cond (Nat.beq pc 15) (some (.dup, 1)) none) (cond (Nat.ble pc 16) (cond (Nat.beq pc 16) (some (.aload_n 0, 1)) none) (cond (Nat.beq pc 17) (some (.iload_n 1, 1)) none))) (cond (Nat.ble pc 21) (cond (Nat.ble pc 18) (cond (Nat.beq pc 18) (some (.invokevirtual 198, 3)) none) (cond (Nat.beq pc 21) (some (.invokespecial 193, 3)) none)) (cond (Nat.ble pc 24) (cond (Nat.beq pc 24) (some (.athrow, 1)) none) (cond (Nat.beq pc 25) (some (.return_, 1)) none)))))
theorem tkJ2_rangeCheckForAdd : tkAll cJ2_rangeCheckForAdd tbJ2_rangeCheckForAdd := fun pc => (tk_b (tk_b (tk_b (tk_l dJ2_rangeCheckForAdd_0) (tk_b (tk_l dJ2_rangeCheckForAdd_1) (tk_l dJ2_rangeCheckForAdd_2))) (tk_b (tk_b (tk_l dJ2_rangeCheckForAdd_5) (tk_l dJ2_rangeCheckForAdd_8)) (tk_b (tk_l dJ2_rangeCheckForAdd_9) (tk_l dJ2_rangeCheckForAdd_12)))) (tk_b (tk_b (tk_l dJ2_rangeCheckForAdd_15) (tk_b (tk_l dJ2_rangeCheckForAdd_16) (tk_l dJ2_rangeCheckForAdd_17))) (tk_b (tk_b (tk_l dJ2_rangeCheckForAdd_18) (tk_l dJ2_rangeCheckForAdd_21)) (tk_b (tk_l dJ2_rangeCheckForAdd_24) (tk_l dJ2_rangeCheckForAdd_25)))))
def tbJ2_outOfBoundsMsg (pc : Nat) : Option (Instr × Nat) := (cond (Nat.ble pc 13) (cond (Nat.ble pc 4) (cond (Nat.ble pc 0) (cond (Nat.beq pc 0) (some (.new 20, 3)) none) (cond (Nat.ble pc 3) (cond (Nat.beq pc 3) (some (.dup, 1)) none) (cond (Nat.beq pc 4) (some (.invokespecial 22, 3)) none))) (cond (Nat.ble pc 9) (cond (Nat.ble pc 7) (cond (Nat.beq pc 7) (some (.ldc 201, 2)) none) (cond (Nat.beq pc 9) (some (.invokevirtual 25, 3)) none)) (cond (Nat.ble pc 12) (cond (Nat.beq pc 12) (some (.iload_n 1, 1)) none) (cond (Nat.beq pc 13) (some (.invokevirtual 29, 3)) none)))) (cond (Nat.ble pc 21) (cond (Nat.ble pc 16) (cond (Nat.beq pc 16) (some (.ldc 203, 2)) none) (cond (Nat.ble pc 18) (cond (Nat.beq pc 18) (some (.invokevirtual 25, 3)) none) (cond (Nat.beq pc 21) (some (.aload_n 0, 1)) none))) (cond (Nat.ble pc 25) (cond (Nat.ble pc 22) (cond (Nat.beq pc 22) (some (.getfield 48, 3)) none) (cond (Nat.beq pc 25) (some (.invokevirtual 29, 3)) none)) (cond (Nat.ble pc 28) (cond (Nat.beq pc 28) (some (.invokevirtual 32, 3)) none) (cond (Nat.beq pc 31) (some (.areturn, 1)) none)))))
theorem tkJ2_outOfBoundsMsg : tkAll cJ2_outOfBoundsMsg tbJ2_outOfBoundsMsg := fun pc => (tk_b (tk_b (tk_b (tk_l dJ2_outOfBoundsMsg_0) (tk_b (tk_l dJ2_outOfBoundsMsg_3) (tk_l dJ2_outOfBoundsMsg_4))) (tk_b (tk_b (tk_l dJ2_outOfBoundsMsg_7) (tk_l dJ2_outOfBoundsMsg_9)) (tk_b (tk_l dJ2_outOfBoundsMsg_12) (tk_l dJ2_outOfBoundsMsg_13)))) (tk_b (tk_b (tk_l dJ2_outOfBoundsMsg_16) (tk_b (tk_l dJ2_outOfBoundsMsg_18) (tk_l dJ2_outOfBoundsMsg_21))) (tk_b (tk_b (tk_l dJ2_outOfBoundsMsg_22) (tk_l dJ2_outOfBoundsMsg_25)) (tk_b (tk_l dJ2_outOfBoundsMsg_28) (tk_l dJ2_outOfBoundsMsg_31)))))
def tbJ2_toArray (pc : Nat) : Option (Instr × Nat) := (cond (Nat.ble pc 4) (cond (Nat.ble pc 0) (cond (Nat.beq pc 0) (some (.aload_n 0, 1)) none) (cond (Nat.ble pc 1) (cond (Nat.beq pc 1) (some (.getfield 9, 3)) none) (cond (Nat.beq pc 4) (some (.aload_n 0, 1)) none))) (cond (Nat.ble pc 5) (cond (Nat.beq pc 5) (some (.getfield 48, 3)) none) (cond (Nat.ble pc 8) (cond (Nat.beq pc 8) (some (.invokestatic 66, 3)) none) (cond (Nat.beq pc 11) (some (.areturn, 1)) none))))
theorem tkJ2_toArray : tkAll cJ2_toArray tbJ2_toArray := fun pc => (tk_b (tk_b (tk_l dJ2_toArray_0) (tk_b (tk_l dJ2_toArray_1) (tk_l dJ2_toArray_4))) (tk_b (tk_l dJ2_toArray_5) (tk_b (tk_l dJ2_toArray_8) (tk_l dJ2_toArray_11))))
def tbJ3_init (pc : Nat) : Option (Instr × Nat) := (cond (Nat.ble pc 0) (cond (Nat.beq pc 0) (some (.aload_n 0, 1)) none) (cond (Nat.ble pc 1) (cond (Nat.beq pc 1) (some (.invokespecial 1, 3)) none) (cond (Nat.beq pc 4) (some (.return_, 1)) none)))
theorem tkJ3_init : tkAll cJ3_init tbJ3_init := fun pc => (tk_b (tk_l dJ3_init_0) (tk_b (tk_l dJ3_init_1) (tk_l dJ3_init_4)))
def tbJ4_init (pc : Nat) : Option (Instr × Nat) := (cond (Nat.ble pc 4) (cond (Nat.ble pc 0) (cond (Nat.beq pc 0) (some (.aload_n 0, 1)) none) (cond (Nat.ble pc 1) (cond (Nat.beq pc 1) (some (.invokespecial 43, 3)) none) (cond (Nat.beq pc 4) (some (.aload_n 0, 1)) none))) (cond (Nat.ble pc 5) (cond (Nat.beq pc 5) (some (.ldc 92, 2)) none) (cond (Nat.ble pc 7) (cond (Nat.beq pc 7) (some (.putfield 81, 3)) none) (cond (Nat.beq pc 10) (some (.return_, 1)) none))))
theorem tkJ4_init : tkAll cJ4_init tbJ4_init := fun pc => (tk_b (tk_b (tk_l dJ4_init_0) (tk_b (tk_l dJ4_init_1) (tk_l dJ4_init_4))) (tk_b (tk_l dJ4_init_5) (tk_b (tk_l dJ4_init_7) (tk_l dJ4_init_10))))
def tbJ4_put (pc : Nat) : Option (Instr × Nat) := (cond (Nat.ble pc 5) (cond (Nat.ble pc 1) (cond (Nat.ble pc 0) (cond (Nat.beq pc 0) (some (.aload_n 0, 1)) none) (cond (Nat.beq pc 1) (some (.aload_n 1, 1)) none)) (cond (Nat.ble pc 2) (cond (Nat.beq pc 2) (some (.invokestatic 149, 3)) none) (cond (Nat.beq pc 5) (some (.aload_n 1, 1)) none))) (cond (Nat.ble pc 7) (cond (Nat.ble pc 6) (cond (Nat.beq pc 6) (some (.aload_n 2, 1)) none) (cond (Nat.beq pc 7) (some (.iconst 0, 1)) none)) (cond (Nat.ble pc 8) (cond (Nat.beq pc 8) (some (.iconst 1, 1)) none) (cond (Nat.ble pc 9) (cond (Nat.beq pc 9) (some (.invokevirtual 152, 3)) none) (cond (Nat.beq pc 12) (some (.areturn, 1)) none)))))
theorem tkJ4_put : tkAll cJ4_put tbJ4_put := fun pc => (tk_b (tk_b (tk_b (tk_l dJ4_put_0) (tk_l dJ4_put_1)) (tk_b (tk_l dJ4_put_2) (tk_l dJ4_put_5))) (tk_b (tk_b (tk_l dJ4_put_6) (tk_l dJ4_put_7)) (tk_b (tk_l dJ4_put_8) (tk_b (tk_l dJ4_put_9) (tk_l dJ4_put_12)))))
def tbJ4_hash (pc : Nat) : Option (Instr × Nat) := (cond (Nat.ble pc 9) (cond (Nat.ble pc 4) (cond (Nat.ble pc 0) (cond (Nat.beq pc 0) (some (.aload_n 0, 1)) none) (cond (Nat.ble pc 1) (cond (Nat.beq pc 1) (some (.ifnonnull 7, 3)) none) (cond (Nat.beq pc 4) (some (.iconst 0, 1)) none))) (cond (Nat.ble pc 5) (cond (Nat.beq pc 5) (some (.goto 14, 3)) none) (cond (Nat.ble pc 8) (cond (Nat.beq pc 8) (some (.aload_n 0, 1)) none) (cond (Nat.beq pc 9) (some (.invokevirtual 1, 3)) none)))) (cond (Nat.ble pc 14) (cond (Nat.ble pc 12) (cond (Nat.beq pc 12) (some (.dup, 1)) none) (cond (Nat.ble pc 13) (cond (Nat.beq pc 13) (some (.istore_n 1, 1)) none) (cond (Nat.beq pc 14) (some (.iload_n 1, 1)) none))) (cond (Nat.ble pc 17) (cond (Nat.ble pc 15) (cond (Nat.beq pc 15) (some (.bipush 16, 2)) none) (cond (Nat.beq pc 17) (some (.iushr, 1)) none)) (cond (Nat.ble pc 18) (cond (Nat.beq pc 18) (some (.ixor, 1)) none) (cond (Nat.beq pc 19) (some (.ireturn, 1)) none)))))
theorem tkJ4_hash : tkAll cJ4_hash tbJ4_hash := fun pc => (tk_b (tk_b (tk_b (tk_l dJ4_hash_0) (tk_b (tk_l dJ4_hash_1) (tk_l dJ4_hash_4))) (tk_b (tk_l dJ4_hash_5) (tk_b (tk_l dJ4_hash_8) (tk_l dJ4_hash_9)))) (tk_b (tk_b (tk_l dJ4_hash_12) (tk_b (tk_l dJ4_hash_13) (tk_l dJ4_hash_14))) (tk_b (tk_b (tk_l dJ4_hash_15) (tk_l dJ4_hash_17)) (tk_b (tk_l dJ4_hash_18) (tk_l dJ4_hash_19)))))
def tbJ4_putVal (pc : Nat) : Option (Instr × Nat) := (cond (Nat.ble pc 142) (cond (Nat.ble pc 60) (cond (Nat.ble pc 33) (cond (Nat.ble pc 14) (cond (Nat.ble pc 5) (cond (Nat.ble pc 1) (cond (Nat.ble pc 0) (cond (Nat.beq pc 0) (some (.aload_n 0, 1)) none) (cond (Nat.beq pc 1) (some (.getfield 105, 3)) none)) (cond (Nat.ble pc 4) (cond (Nat.beq pc 4) (some (.dup, 1)) none) (cond (Nat.beq pc 5) (some (.astore 6, 2)) none))) (cond (Nat.ble pc 10) (cond (Nat.ble pc 7) (cond (Nat.beq pc 7) (some (.ifnull 12, 3)) none) (cond (Nat.beq pc 10) (some (.aload 6, 2)) none)) (cond (Nat.ble pc 12) (cond (Nat.beq pc 12) (some (.arraylength, 1)) none) (cond (Nat.ble pc 13) (cond (Nat.beq pc 13) (some (.dup, 1)) none) (cond (Nat.beq pc 14) (some (.istore 8, 2)) none))))) (cond (Nat.ble pc 24) (cond (Nat.ble pc 19) (cond (Nat.ble pc 16) (cond (Nat.beq pc 16) (some (.ifCond .ne 13, 3)) none) (cond (Nat.beq pc 19) (some (.aload_n 0, 1)) none)) (cond (Nat.ble pc 20) (cond (Nat.beq pc 20) (some (.invokevirtual 117, 3)) none) (cond (Nat.ble pc 23) (cond (Nat.beq pc 23) (some (.dup, 1)) none) (cond (Nat.beq pc 24) (some (.astore 6, 2)) none)))) (cond (Nat.ble pc 27) (cond (Nat.ble pc 26) (cond (Nat.beq pc 26) (some (.arraylength, 1)) none) (cond (Nat.beq pc 27) (some (.istore 8, 2)) none)) (cond (Nat.ble pc 29) (cond (Nat.beq pc 29) (some (.aload 6, 2)) none) (cond (Nat.ble pc 31) (cond (Nat.beq pc 31) (some (.iload 8, 2)) none) (cond (Nat.beq pc 33) (some (.iconst 1, 1)) none)))))) (cond (Nat.ble pc 44) (cond (Nat.ble pc 37) (cond (Nat.ble pc 35) (cond (Nat.ble pc 34) (cond (Nat.beq pc 34) (some (.isub, 1)) none) (cond (Nat.beq pc 35) (some (.iload_n 1, 1)) none)) (cond (Nat.ble pc 36) (cond (Nat.beq pc 36) (some (.iand, 1)) none) (cond (Nat.beq pc 37) (some (.dup, 1)) none))) (cond (Nat.ble pc 40) (cond (Nat.ble pc 38) (cond (Nat.beq pc 38) (some (.istore 9, 2)) none) (cond (Nat.beq pc 40) (some (.aaload, 1)) none)) (cond (Nat.ble pc 41) (cond (Nat.beq pc 41) (some (.dup, 1)) none) (cond (Nat.ble pc 42) (cond (Nat.beq pc 42) (some (.astore 7, 2)) none) (cond (Nat.beq pc 44) (some (.ifnonnull 19, 3)) none))))) (cond (Nat.ble pc 53) (cond (Nat.ble pc 49) (cond (Nat.ble pc 47) (cond (Nat.beq pc 47) (some (.aload 6, 2)) none) (cond (Nat.beq pc 49) (some (.iload 9, 2)) none)) (cond (Nat.ble pc 51) (cond (Nat.beq pc 51) (some (.aload_n 0, 1)) none) (cond (Nat.ble pc 52) (cond (Nat.beq pc 52) (some (.iload_n 1, 1)) none) (cond (Nat.beq pc 53) (some (.aload_n 2, 1)) none)))) (cond (Nat.ble pc 55) (cond (Nat.ble pc 54) (cond (Nat.beq pc 54) (some (.aload_n 3, 1)) none) (cond (Nat.beq pc 55) (some (.aconst_null, 1)) none)) (cond (Nat.ble pc 56) (cond (Nat.beq pc 56) (some (.invokevirtual 186, 3)) none) (cond (Nat.ble pc 59) (cond (Nat.beq pc 59) (some (.aastore, 1)) none) (cond (Nat.beq pc 60) (some (.goto 199, 3)) none))))))) (cond (Nat.ble pc 101) (cond (Nat.ble pc 80) (cond (Nat.ble pc 69) (cond (Nat.ble pc 65) (cond (Nat.ble pc 63) (cond (Nat.beq pc 63) (some (.aload 7, 2)) none) (cond (Nat.beq pc 65) (some (.getfield 168, 3)) none)) (cond (Nat.ble pc 68) (cond (Nat.beq pc 68) (some (.iload_n 1, 1)) none) (cond (Nat.beq pc 69) (some (.if_icmp .ne 35, 3)) none))) (cond (Nat.ble pc 74) (cond (Nat.ble pc 72) (cond (Nat.beq pc 72) (some (.aload 7, 2)) none) (cond (Nat.beq pc 74) (some (.getfield 170, 3)) none)) (cond (Nat.ble pc 77) (cond (Nat.beq pc 77) (some (.dup, 1)) none) (cond (Nat.ble pc 78) (cond (Nat.beq pc 78) (some (.astore 11, 2)) none) (cond (Nat.beq pc 80) (some (.aload_n 2, 1)) none))))) (cond (Nat.ble pc 89) (cond (Nat.ble pc 84) (cond (Nat.ble pc 81) (cond (Nat.beq pc 81) (some (.if_acmp .eq 16, 3)) none) (cond (Nat.beq pc 84) (some (.aload_n 2, 1)) none)) (cond (Nat.ble pc 85) (cond (Nat.beq pc 85) (some (.ifnull 19, 3)) none) (cond (Nat.ble pc 88) (cond (Nat.beq pc 88) (some (.aload_n 2, 1)) none) (cond (Nat.beq pc 89) (some (.aload 11, 2)) none)))) (cond (Nat.ble pc 94) (cond (Nat.ble pc 91) (cond (Nat.beq pc 91) (some (.invokevirtual 173, 3)) none) (cond (Nat.beq pc 94) (some (.ifCond .eq 10, 3)) none)) (cond (Nat.ble pc 97) (cond (Nat.beq pc 97) (some (.aload 7, 2)) none) (cond (Nat.ble pc 99) (cond (Nat.beq pc 99) (some (.astore 10, 2)) none) (cond (Nat.beq pc 101) (some (.goto 121, 3)) none)))))) (cond (Nat.ble pc 122) (cond (Nat.ble pc 114) (cond (Nat.ble pc 106) (cond (Nat.ble pc 104) (cond (Nat.beq pc 104) (some (.aload 7, 2)) none) (cond (Nat.beq pc 106) (some (.instanceof 180, 3)) none)) (cond (Nat.ble pc 109) (cond (Nat.beq pc 109) (some (.ifCond .eq 22, 3)) none) (cond (Nat.ble pc 112) (cond (Nat.beq pc 112) (some (.aload 7, 2)) none) (cond (Nat.beq pc 114) (some (.checkcast 180, 3)) none)))) (cond (Nat.ble pc 118) (cond (Nat.ble pc 117) (cond (Nat.beq pc 117) (some (.aload_n 0, 1)) none) (cond (Nat.beq pc 118) (some (.aload 6, 2)) none)) (cond (Nat.ble pc 120) (cond (Nat.beq pc 120) (some (.iload_n 1, 1)) none) (cond (Nat.ble pc 121) (cond (Nat.beq pc 121) (some (.aload_n 2, 1)) none) (cond (Nat.beq pc 122) (some (.aload_n 3, 1)) none))))) (cond (Nat.ble pc 132) (cond (Nat.ble pc 126) (cond (Nat.ble pc 123) (cond (Nat.beq pc 123) (some (.invokevirtual 190, 3)) none) (cond (Nat.beq pc 126) (some (.astore 10, 2)) none)) (cond (Nat.ble pc 128) (cond (Nat.beq pc 128) (some (.goto 94, 3)) none) (cond (Nat.ble pc 131) (cond (Nat.beq pc 131) (some (.iconst 0, 1)) none) (cond (Nat.beq pc 132) (some (.istore 12, 2)) none)))) (cond (Nat.ble pc 136) (cond (Nat.ble pc 134) (cond (Nat.beq pc 134) (some (.aload 7, 2)) none) (cond (Nat.beq pc 136) (some (.getfield 177, 3)) none)) (cond (Nat.ble pc 139) (cond (Nat.beq pc 139) (some (.dup, 1)) none) (cond (Nat.ble pc 140) (cond (Nat.beq pc 140) (some (.astore 10, 2)) none) (cond (Nat.beq pc 142) (some (.ifnonnull 33, 3)) none)))))))) (cond (Nat.ble pc 224) (cond (Nat.ble pc 180) (cond (Nat.ble pc 158) (cond (Nat.ble pc 149) (cond (Nat.ble pc 147) (cond (Nat.ble pc 145) (cond (Nat.beq pc 145) (some (.aload 7, 2)) none) (cond (Nat.beq pc 147) (some (.aload_n 0, 1)) none)) (cond (Nat.ble pc 148) (cond (Nat.beq pc 148) (some (.iload_n 1, 1)) none) (cond (Nat.beq pc 149) (some (.aload_n 2, 1)) none))) (cond (Nat.ble pc 151) (cond (Nat.ble pc 150) (cond (Nat.beq pc 150) (some (.aload_n 3, 1)) none) (cond (Nat.beq pc 151) (some (.aconst_null, 1)) none)) (cond (Nat.ble pc 152) (cond (Nat.beq pc 152) (some (.invokevirtual 186, 3)) none) (cond (Nat.ble pc 155) (cond (Nat.beq pc 155) (some (.putfield 177, 3)) none) (cond (Nat.beq pc 158) (some (.iload 12, 2)) none))))) (cond (Nat.ble pc 168) (cond (Nat.ble pc 162) (cond (Nat.ble pc 160) (cond (Nat.beq pc 160) (some (.bipush 7, 2)) none) (cond (Nat.beq pc 162) (some (.if_icmp .lt 60, 3)) none)) (cond (Nat.ble pc 165) (cond (Nat.beq pc 165) (some (.aload_n 0, 1)) none) (cond (Nat.ble pc 166) (cond (Nat.beq pc 166) (some (.aload 6, 2)) none) (cond (Nat.beq pc 168) (some (.iload_n 1, 1)) none)))) (cond (Nat.ble pc 172) (cond (Nat.ble pc 169) (cond (Nat.beq pc 169) (some (.invokevirtual 194, 3)) none) (cond (Nat.beq pc 172) (some (.goto 50, 3)) none)) (cond (Nat.ble pc 175) (cond (Nat.beq pc 175) (some (.aload 10, 2)) none) (cond (Nat.ble pc 177) (cond (Nat.beq pc 177) (some (.getfield 168, 3)) none) (cond (Nat.beq pc 180) (some (.iload_n 1, 1)) none)))))) (cond (Nat.ble pc 200) (cond (Nat.ble pc 190) (cond (Nat.ble pc 184) (cond (Nat.ble pc 181) (cond (Nat.beq pc 181) (some (.if_icmp .ne 31, 3)) none) (cond (Nat.beq pc 184) (some (.aload 10, 2)) none)) (cond (Nat.ble pc 186) (cond (Nat.beq pc 186) (some (.getfield 170, 3)) none) (cond (Nat.ble pc 189) (cond (Nat.beq pc 189) (some (.dup, 1)) none) (cond (Nat.beq pc 190) (some (.astore 11, 2)) none)))) (cond (Nat.ble pc 193) (cond (Nat.ble pc 192) (cond (Nat.beq pc 192) (some (.aload_n 2, 1)) none) (cond (Nat.beq pc 193) (some (.if_acmp .eq 29, 3)) none)) (cond (Nat.ble pc 196) (cond (Nat.beq pc 196) (some (.aload_n 2, 1)) none) (cond (Nat.ble pc 197) (cond (Nat.beq pc 197) (some (.ifnull 15, 3)) none) (cond (Nat.beq pc 200) (some (.aload_n 2, 1)) none))))) (cond (Nat.ble pc 212) (cond (Nat.ble pc 203) (cond (Nat.ble pc 201) (cond (Nat.beq pc 201) (some (.aload 11, 2)) none) (cond (Nat.beq pc 203) (some (.invokevirtual 173, 3)) none)) (cond (Nat.ble pc 206) (cond (Nat.beq pc 206) (some (.ifCond .eq 6, 3)) none) (cond (Nat.ble pc 209) (cond (Nat.beq pc 209) (some (.goto 13, 3)) none) (cond (Nat.beq pc 212) (some (.aload 10, 2)) none)))) (cond (Nat.ble pc 216) (cond (Nat.ble pc 214) (cond (Nat.beq pc 214) (some (.astore 7, 2)) none) (cond (Nat.beq pc 216) (some (.iinc 12 1, 3)) none)) (cond (Nat.ble pc 219) (cond (Nat.beq pc 219) (some (.goto (-85), 3)) none) (cond (Nat.ble pc 222) (cond (Nat.beq pc 222) (some (.aload 10, 2)) none) (cond (Nat.beq pc 224) (some (.ifnull 35, 3)) none))))))) (cond (Nat.ble pc 264) (cond (Nat.ble pc 246) (cond (Nat.ble pc 234) (cond (Nat.ble pc 229) (cond (Nat.ble pc 227) (cond (Nat.beq pc 227) (some (.aload 10, 2)) none) (cond (Nat.beq pc 229) (some (.getfield 162, 3)) none)) (cond (Nat.ble pc 232) (cond (Nat.beq pc 232) (some (.astore 12, 2)) none) (cond (Nat.beq pc 234) (some (.iload 4, 2)) none))) (cond (Nat.ble pc 239) (cond (Nat.ble pc 236) (cond (Nat.beq pc 236) (some (.ifCond .eq 8, 3)) none) (cond (Nat.beq pc 239) (some (.aload 12, 2)) none)) (cond (Nat.ble pc 241) (cond (Nat.beq pc 241) (some (.ifnonnull 9, 3)) none) (cond (Nat.ble pc 244) (cond (Nat.beq pc 244) (some (.aload 10, 2)) none) (cond (Nat.beq pc 246) (some (.aload_n 3, 1)) none))))) (cond (Nat.ble pc 256) (cond (Nat.ble pc 250) (cond (Nat.ble pc 247) (cond (Nat.beq pc 247) (some (.putfield 162, 3)) none) (cond (Nat.beq pc 250) (some (.aload_n 0, 1)) none)) (cond (Nat.ble pc 251) (cond (Nat.beq pc 251) (some (.aload 10, 2)) none) (cond (Nat.ble pc 253) (cond (Nat.beq pc 253) (some (.invokevirtual 198, 3)) none) (cond (Nat.beq pc 256) (some (.aload 12, 2)) none)))) (cond (Nat.ble pc 259) (cond (Nat.ble pc 258) (cond (Nat.beq pc 258) (some (.areturn, 1)) none) (cond (Nat.beq pc 259) (some (.aload_n 0, 1)) none)) (cond (Nat.ble pc 260) (cond (Nat.beq pc 260) (some (.dup, 1)) none) (cond (Nat.ble pc 261) (cond (Nat.beq pc 261) (some (.getfield 202, 3)) none) (cond (Nat.beq pc 264) (some (.iconst 1, 1)) none)))))) (cond (Nat.ble pc 280) (cond (Nat.ble pc 271) (cond (Nat.ble pc 266) (cond (Nat.ble pc 265) (cond (Nat.beq pc 265) (some (.iadd, 1)) none) (cond (Nat.beq pc 266) (some (.putfield 202, 3)) none)) (cond (Nat.ble pc 269) (cond (Nat.beq pc 269) (some (.aload_n 0, 1)) none) (cond (Nat.ble pc 270) (cond (Nat.beq pc 270) (some (.dup, 1)) none) (cond (Nat.beq pc 271) (some (.getfield 156, 3)) none)))) (cond (Nat.ble pc 275) (cond (Nat.ble pc 274) (cond (Nat.beq pc 274) (some (.iconst 1, 1)) none) (cond (Nat.beq pc 275) (some (.iadd, 1)) none)) (cond (Nat.ble pc 276) (cond (Nat.beq pc 276) (some (.dup_x1, 1)) none) (cond (Nat.ble pc 277) (cond (Nat.beq pc 277) (some (.putfield 156, 3)) none) (cond (Nat.beq pc 280) (some (.aload_n 0, 1)) none))))) (cond (Nat.ble pc 291) (cond (Nat.ble pc 284) (cond (Nat.ble pc 281) (cond (Nat.beq pc 281) (some (.getfield 88, 3)) none) (cond (Nat.beq pc 284) (some (.if_icmp .le 8, 3)) none)) (cond (Nat.ble pc 287) (cond (Nat.beq pc 287) (some (.aload_n 0, 1)) none) (cond (Nat.ble pc 288) (cond (Nat.beq pc 288) (some (.invokevirtual 117, 3)) none) (cond (Nat.beq pc 291) (some (.pop, 1)) none)))) (cond (Nat.ble pc 293) (cond (Nat.ble pc 292) (cond (Nat.beq pc 292) (some (.aload_n 0, 1)) none) (cond (Nat.beq pc 293) (some (.iload 5, 2)) none)) (cond (Nat.ble pc 295) (cond (Nat.beq pc 295) (some (.invokevirtual 205, 3)) none) (cond (Nat.ble pc 298) (cond (Nat.beq pc 298) (some (.aconst_null, 1)) none) (cond (Nat.beq pc 299) (some (.areturn, 1)) none)))))))))
theorem tkJ4_putVal : tkAll cJ4_putVal tbJ4_putVal := fun pc => (tk_b (tk_b (tk_b (tk_b (tk_b (tk_b (tk_b (tk_l dJ4_putVal_0) (tk_l dJ4_putVal_1)) (tk_b (tk_l dJ4_putVal_4) (tk_l dJ4_putVal_5))) (tk_b (tk_b (tk_l dJ4_putVal_7) (tk_l dJ4_putVal_10)) (tk_b (tk_l dJ4_putVal_12) (tk_b (tk_l dJ4_putVal_13) (tk_l dJ4_putVal_14))))) (tk_b (tk_b (tk_b (tk_l dJ4_putVal_16) (tk_l dJ4_putVal_19)) (tk_b (tk_l dJ4_putVal_20) (tk_b (tk_l dJ4_putVal_23) (tk_l dJ4_putVal_24)))) (tk_b (tk_b (tk_l dJ4_putVal_26) (tk_l dJ4_putVal_27)) (tk_b (tk_l dJ4_putVal_29) (tk_b (tk_l dJ4_putVal_31) (tk_l dJ4_putVal_33)))))) (tk_b (tk_b (tk_b (tk_b (tk_l dJ4_putVal_34) (tk_l dJ4_putVal_35)) (tk_b (tk_l dJ4_putVal_36) (tk_l dJ4_putVal_37))) (tk_b (tk_b (tk_l dJ4_putVal_38) (tk_l dJ4_putVal_40)) (tk_b (tk_l dJ4_putVal_41) (tk_b (tk_l dJ4_putVal_42) (tk_l dJ4_putVal_44))))) (tk_b (tk_b (tk_b (tk_l dJ4_putVal_47) (tk_l dJ4_putVal_49)) (tk_b (tk_l dJ4_putVal_51) (tk_b (tk_l dJ4_putVal_52) (tk_l dJ4_putVal_53)))) (tk_b (tk_b (tk_l dJ4_putVal_54) (tk_l dJ4_putVal_55)) (tk_b (tk_l dJ4_putVal_56) (tk_b (tk_l dJ4_putVal_59) (tk_l dJ4_putVal_60))))))) (tk_b (tk_b (tk_b (tk_b (tk_b (tk_l dJ4_putVal_63) (tk_l dJ4_putVal_65)) (tk_b (tk_l dJ4_putVal_68) (tk_l dJ4_putVal_69))) (tk_b (tk_b (tk_l dJ4_putVal_72) (tk_l dJ4_putVal_74)) (tk_b (tk_l dJ4_putVal_77) (tk_b (tk_l dJ4_putVal_78) (tk_l dJ4_putVal_80))))) (tk_b (tk_b (tk_b (tk_l dJ4_putVal_81) (tk_l dJ4_putVal_84)) (tk_b (tk_l dJ4_putVal_85) (tk_b (tk_l dJ4_putVal_88) (tk_l dJ4_putVal_89)))) (tk_b (tk_b (tk_l dJ4_putVal_91) (tk_l dJ4_putVal_94)) (tk_b (tk_l dJ4_putVal_97) (tk_b (tk_l dJ4_putVal_99) (tk_l dJ4_putVal_101)))))) (tk_b (tk_b (tk_b (tk_b (tk_l dJ4_putVal_104) (tk_l dJ4_putVal_106)) (tk_b (tk_l dJ4_putVal_109) (tk_b (tk_l dJ4_putVal_112) (tk_l dJ4_putVal_114)))) (tk_b (tk_b (tk_l dJ4_putVal_117) (tk_l dJ4_putVal_118)) (tk_b (tk_l dJ4_putVal_120) (tk_b (tk_l dJ4_putVal_121) (tk_l dJ4_putVal_122))))) (tk_b (tk_b (tk_b (tk_l dJ4_putVal_123) (tk_l dJ4_putVal_126)) (tk_b (tk_l dJ4_putVal_128) (tk_b (tk_l dJ4_putVal_131) (tk_l dJ4_putVal_132)))) (tk_b (tk_b (tk_l dJ4_putVal_134) (tk_l dJ4_putVal_136)) (tk_b (tk_l dJ4_putVal_139) (tk_b (tk_l dJ4_putVal_140) (tk_l dJ4_putVal_142)))))))) (tk_b (tk_b (tk_b (tk_b (tk_b (tk_b (tk_l dJ4_putVal_145) (tk_l dJ4_putVal_147)) (tk_b (tk_l dJ4_putVal_148) (tk_l dJ4_putVal_149))) (tk_b (tk_b (tk_l dJ4_putVal_150) (tk_l dJ4_putVal_151)) (tk_b (tk_l dJ4_putVal_152) (tk_b (tk_l dJ4_putVal_155) (tk_l dJ4_putVal_158))))) (tk_b (tk_b (tk_b (tk_l dJ4_putVal_160) (tk_l dJ4_putVal_162)) (tk_b (tk_l dJ4_putVal_165) (tk_b (tk_l dJ4_putVal_166) (tk_l dJ4_putVal_168)))) (tk_b (tk_b (tk_l dJ4_putVal_169) (tk_l dJ4_putVal_172)) (tk_b (tk_l dJ4_putVal_175) (tk_b (tk_l dJ4_putVal_177) (tk_l dJ4_putVal_180)))))) (tk_b (tk_b (tk_b (tk_b (tk_l dJ4_putVal_181) (tk_l dJ4_putVal_184)) (tk_b (tk_l dJ4_putVal_186) (tk_b (tk_l dJ4_putVal_189) (tk_l dJ4_putVal_190)))) (tk_b (tk_b (tk_l dJ4_putVal_192) (tk_l dJ4_putVal_193)) (tk_b (tk_l dJ4_putVal_196) (tk_b (tk_l dJ4_putVal_197) (tk_l dJ4_putVal_200))))) (tk_b (tk_b (tk_b (tk_l dJ4_putVal_201) (tk_l dJ4_putVal_203)) (tk_b (tk_l dJ4_putVal_206) (tk_b (tk_l dJ4_putVal_209) (tk_l dJ4_putVal_212)))) (tk_b (tk_b (tk_l dJ4_putVal_214) (tk_l dJ4_putVal_216)) (tk_b (tk_l dJ4_putVal_219) (tk_b (tk_l dJ4_putVal_222) (tk_l dJ4_putVal_224))))))) (tk_b (tk_b (tk_b (tk_b (tk_b (tk_l dJ4_putVal_227) (tk_l dJ4_putVal_229)) (tk_b (tk_l dJ4_putVal_232) (tk_l dJ4_putVal_234))) (tk_b (tk_b (tk_l dJ4_putVal_236) (tk_l dJ4_putVal_239)) (tk_b (tk_l dJ4_putVal_241) (tk_b (tk_l dJ4_putVal_244) (tk_l dJ4_putVal_246))))) (tk_b (tk_b (tk_b (tk_l dJ4_putVal_247) (tk_l dJ4_putVal_250)) (tk_b (tk_l dJ4_putVal_251) (tk_b (tk_l dJ4_putVal_253) (tk_l dJ4_putVal_256)))) (tk_b (tk_b (tk_l dJ4_putVal_258) (tk_l dJ4_putVal_259)) (tk_b (tk_l dJ4_putVal_260) (tk_b (tk_l dJ4_putVal_261) (tk_l dJ4_putVal_264)))))) (tk_b (tk_b (tk_b (tk_b (tk_l dJ4_putVal_265) (tk_l dJ4_putVal_266)) (tk_b (tk_l dJ4_putVal_269) (tk_b (tk_l dJ4_putVal_270) (tk_l dJ4_putVal_271)))) (tk_b (tk_b (tk_l dJ4_putVal_274) (tk_l dJ4_putVal_275)) (tk_b (tk_l dJ4_putVal_276) (tk_b (tk_l dJ4_putVal_277) (tk_l dJ4_putVal_280))))) (tk_b (tk_b (tk_b (tk_l dJ4_putVal_281) (tk_l dJ4_putVal_284)) (tk_b (tk_l dJ4_putVal_287) (tk_b (tk_l dJ4_putVal_288) (tk_l dJ4_putVal_291)))) (tk_b (tk_b (tk_l dJ4_putVal_292) (tk_l dJ4_putVal_293)) (tk_b (tk_l dJ4_putVal_295) (tk_b (tk_l dJ4_putVal_298) (tk_l dJ4_putVal_299)))))))))
def tbJ4_resize (pc : Nat) : Option (Instr × Nat) := (cond (Nat.ble pc 167) (cond (Nat.ble pc 77) (cond (Nat.ble pc 37) (cond (Nat.ble pc 16) (cond (Nat.ble pc 6) (cond (Nat.ble pc 1) (cond (Nat.ble pc 0) (cond (Nat.beq pc 0) (some (.aload_n 0, 1)) none) (cond (Nat.beq pc 1) (some (.getfield 105, 3)) none)) (cond (Nat.ble pc 4) (cond (Nat.beq pc 4) (some (.astore_n 1, 1)) none) (cond (Nat.ble pc 5) (cond (Nat.beq pc 5) (some (.aload_n 1, 1)) none) (cond (Nat.beq pc 6) (some (.ifnonnull 7, 3)) none)))) (cond (Nat.ble pc 13) (cond (Nat.ble pc 9) (cond (Nat.beq pc 9) (some (.iconst 0, 1)) none) (cond (Nat.ble pc 10) (cond (Nat.beq pc 10) (some (.goto 5, 3)) none) (cond (Nat.beq pc 13) (some (.aload_n 1, 1)) none))) (cond (Nat.ble pc 14) (cond (Nat.beq pc 14) (some (.arraylength, 1)) none) (cond (Nat.ble pc 15) (cond (Nat.beq pc 15) (some (.istore_n 2, 1)) none) (cond (Nat.beq pc 16) (some (.aload_n 0, 1)) none))))) (cond (Nat.ble pc 25) (cond (Nat.ble pc 21) (cond (Nat.ble pc 17) (cond (Nat.beq pc 17) (some (.getfield 88, 3)) none) (cond (Nat.ble pc 20) (cond (Nat.beq pc 20) (some (.istore_n 3, 1)) none) (cond (Nat.beq pc 21) (some (.iconst 0, 1)) none))) (cond (Nat.ble pc 22) (cond (Nat.beq pc 22) (some (.istore 5, 2)) none) (cond (Nat.ble pc 24) (cond (Nat.beq pc 24) (some (.iload_n 2, 1)) none) (cond (Nat.beq pc 25) (some (.ifCond .le 42, 3)) none)))) (cond (Nat.ble pc 31) (cond (Nat.ble pc 28) (cond (Nat.beq pc 28) (some (.iload_n 2, 1)) none) (cond (Nat.ble pc 29) (cond (Nat.beq pc 29) (some (.ldc 42, 2)) none) (cond (Nat.beq pc 31) (some (.if_icmp .lt 11, 3)) none))) (cond (Nat.ble pc 34) (cond (Nat.beq pc 34) (some (.aload_n 0, 1)) none) (cond (Nat.ble pc 35) (cond (Nat.beq pc 35) (some (.ldc 209, 2)) none) (cond (Nat.beq pc 37) (some (.putfield 88, 3)) none)))))) (cond (Nat.ble pc 54) (cond (Nat.ble pc 44) (cond (Nat.ble pc 41) (cond (Nat.ble pc 40) (cond (Nat.beq pc 40) (some (.aload_n 1, 1)) none) (cond (Nat.beq pc 41) (some (.areturn, 1)) none)) (cond (Nat.ble pc 42) (cond (Nat.beq pc 42) (some (.iload_n 2, 1)) none) (cond (Nat.ble pc 43) (cond (Nat.beq pc 43) (some (.iconst 1, 1)) none) (cond (Nat.beq pc 44) (some (.ishl, 1)) none)))) (cond (Nat.ble pc 48) (cond (Nat.ble pc 45) (cond (Nat.beq pc 45) (some (.dup, 1)) none) (cond (Nat.ble pc 46) (cond (Nat.beq pc 46) (some (.istore 4, 2)) none) (cond (Nat.beq pc 48) (some (.ldc 42, 2)) none))) (cond (Nat.ble pc 50) (cond (Nat.beq pc 50) (some (.if_icmp .ge 35, 3)) none) (cond (Nat.ble pc 53) (cond (Nat.beq pc 53) (some (.iload_n 2, 1)) none) (cond (Nat.beq pc 54) (some (.bipush 16, 2)) none))))) (cond (Nat.ble pc 64) (cond (Nat.ble pc 60) (cond (Nat.ble pc 56) (cond (Nat.beq pc 56) (some (.if_icmp .lt 29, 3)) none) (cond (Nat.ble pc 59) (cond (Nat.beq pc 59) (some (.iload_n 3, 1)) none) (cond (Nat.beq pc 60) (some (.iconst 1, 1)) none))) (cond (Nat.ble pc 61) (cond (Nat.beq pc 61) (some (.ishl, 1)) none) (cond (Nat.ble pc 62) (cond (Nat.beq pc 62) (some (.istore 5, 2)) none) (cond (Nat.beq pc 64) (some (.goto 21, 3)) none)))) (cond (Nat.ble pc 71) (cond (Nat.ble pc 67) (cond (Nat.beq pc 67) (some (.iload_n 3, 1)) none) (cond (Nat.ble pc 68) (cond (Nat.beq pc 68) (some (.ifCond .le 9, 3)) none) (cond (Nat.beq pc 71) (some (.iload_n 3, 1)) none))) (cond (Nat.ble pc 72) (cond (Nat.beq pc 72) (some (.istore 4, 2)) none) (cond (Nat.ble pc 74) (cond (Nat.beq pc 74) (some (.goto 11, 3)) none) (cond (Nat.beq pc 77) (some (.bipush 16, 2)) none))))))) (cond (Nat.ble pc 123) (cond (Nat.ble pc 98) (cond (Nat.ble pc 87) (cond (Nat.ble pc 81) (cond (Nat.ble pc 79) (cond (Nat.beq pc 79) (some (.istore 4, 2)) none) (cond (Nat.beq pc 81) (some (.bipush 12, 2)) none)) (cond (Nat.ble pc 83) (cond (Nat.beq pc 83) (some (.istore 5, 2)) none) (cond (Nat.ble pc 85) (cond (Nat.beq pc 85) (some (.iload 5, 2)) none) (cond (Nat.beq pc 87) (some (.ifCond .ne 38, 3)) none)))) (cond (Nat.ble pc 93) (cond (Nat.ble pc 90) (cond (Nat.beq pc 90) (some (.iload 4, 2)) none) (cond (Nat.ble pc 92) (cond (Nat.beq pc 92) (some (.i2f, 1)) none) (cond (Nat.beq pc 93) (some (.aload_n 0, 1)) none))) (cond (Nat.ble pc 94) (cond (Nat.beq pc 94) (some (.getfield 81, 3)) none) (cond (Nat.ble pc 97) (cond (Nat.beq pc 97) (some (.fmul, 1)) none) (cond (Nat.beq pc 98) (some (.fstore 6, 2)) none))))) (cond (Nat.ble pc 111) (cond (Nat.ble pc 104) (cond (Nat.ble pc 100) (cond (Nat.beq pc 100) (some (.iload 4, 2)) none) (cond (Nat.ble pc 102) (cond (Nat.beq pc 102) (some (.ldc 42, 2)) none) (cond (Nat.beq pc 104) (some (.if_icmp .ge 17, 3)) none))) (cond (Nat.ble pc 107) (cond (Nat.beq pc 107) (some (.fload 6, 2)) none) (cond (Nat.ble pc 109) (cond (Nat.beq pc 109) (some (.ldc 210, 2)) none) (cond (Nat.beq pc 111) (some (.fcmp .g, 1)) none)))) (cond (Nat.ble pc 117) (cond (Nat.ble pc 112) (cond (Nat.beq pc 112) (some (.ifCond .ge 9, 3)) none) (cond (Nat.ble pc 115) (cond (Nat.beq pc 115) (some (.fload 6, 2)) none) (cond (Nat.beq pc 117) (some (.f2i, 1)) none))) (cond (Nat.ble pc 118) (cond (Nat.beq pc 118) (some (.goto 5, 3)) none) (cond (Nat.ble pc 121) (cond (Nat.beq pc 121) (some (.ldc 209, 2)) none) (cond (Nat.beq pc 123) (some (.istore 5, 2)) none)))))) (cond (Nat.ble pc 145) (cond (Nat.ble pc 133) (cond (Nat.ble pc 126) (cond (Nat.ble pc 125) (cond (Nat.beq pc 125) (some (.aload_n 0, 1)) none) (cond (Nat.beq pc 126) (some (.iload 5, 2)) none)) (cond (Nat.ble pc 128) (cond (Nat.beq pc 128) (some (.putfield 88, 3)) none) (cond (Nat.ble pc 131) (cond (Nat.beq pc 131) (some (.iload 4, 2)) none) (cond (Nat.beq pc 133) (some (.anewarray 163, 3)) none)))) (cond (Nat.ble pc 139) (cond (Nat.ble pc 136) (cond (Nat.beq pc 136) (some (.astore 6, 2)) none) (cond (Nat.ble pc 138) (cond (Nat.beq pc 138) (some (.aload_n 0, 1)) none) (cond (Nat.beq pc 139) (some (.aload 6, 2)) none))) (cond (Nat.ble pc 141) (cond (Nat.beq pc 141) (some (.putfield 105, 3)) none) (cond (Nat.ble pc 144) (cond (Nat.beq pc 144) (some (.aload_n 1, 1)) none) (cond (Nat.beq pc 145) (some (.ifnull 208, 3)) none))))) (cond (Nat.ble pc 157) (cond (Nat.ble pc 151) (cond (Nat.ble pc 148) (cond (Nat.beq pc 148) (some (.iconst 0, 1)) none) (cond (Nat.ble pc 149) (cond (Nat.beq pc 149) (some (.istore 7, 2)) none) (cond (Nat.beq pc 151) (some (.iload 7, 2)) none))) (cond (Nat.ble pc 153) (cond (Nat.beq pc 153) (some (.iload_n 2, 1)) none) (cond (Nat.ble pc 154) (cond (Nat.beq pc 154) (some (.if_icmp .ge 199, 3)) none) (cond (Nat.beq pc 157) (some (.aload_n 1, 1)) none)))) (cond (Nat.ble pc 161) (cond (Nat.ble pc 158) (cond (Nat.beq pc 158) (some (.iload 7, 2)) none) (cond (Nat.ble pc 160) (cond (Nat.beq pc 160) (some (.aaload, 1)) none) (cond (Nat.beq pc 161) (some (.dup, 1)) none))) (cond (Nat.ble pc 162) (cond (Nat.beq pc 162) (some (.astore 8, 2)) none) (cond (Nat.ble pc 164) (cond (Nat.beq pc 164) (some (.ifnull 183, 3)) none) (cond (Nat.beq pc 167) (some (.aload_n 1, 1)) none)))))))) (cond (Nat.ble pc 257) (cond (Nat.ble pc 212) (cond (Nat.ble pc 189) (cond (Nat.ble pc 174) (cond (Nat.ble pc 170) (cond (Nat.ble pc 168) (cond (Nat.beq pc 168) (some (.iload 7, 2)) none) (cond (Nat.beq pc 170) (some (.aconst_null, 1)) none)) (cond (Nat.ble pc 171) (cond (Nat.beq pc 171) (some (.aastore, 1)) none) (cond (Nat.ble pc 172) (cond (Nat.beq pc 172) (some (.aload 8, 2)) none) (cond (Nat.beq pc 174) (some (.getfield 177, 3)) none)))) (cond (Nat.ble pc 182) (cond (Nat.ble pc 177) (cond (Nat.beq pc 177) (some (.ifnonnull 21, 3)) none) (cond (Nat.ble pc 180) (cond (Nat.beq pc 180) (some (.aload 6, 2)) none) (cond (Nat.beq pc 182) (some (.aload 8, 2)) none))) (cond (Nat.ble pc 184) (cond (Nat.beq pc 184) (some (.getfield 168, 3)) none) (cond (Nat.ble pc 187) (cond (Nat.beq pc 187) (some (.iload 4, 2)) none) (cond (Nat.beq pc 189) (some (.iconst 1, 1)) none))))) (cond (Nat.ble pc 198) (cond (Nat.ble pc 192) (cond (Nat.ble pc 190) (cond (Nat.beq pc 190) (some (.isub, 1)) none) (cond (Nat.ble pc 191) (cond (Nat.beq pc 191) (some (.iand, 1)) none) (cond (Nat.beq pc 192) (some (.aload 8, 2)) none))) (cond (Nat.ble pc 194) (cond (Nat.beq pc 194) (some (.aastore, 1)) none) (cond (Nat.ble pc 195) (cond (Nat.beq pc 195) (some (.goto 152, 3)) none) (cond (Nat.beq pc 198) (some (.aload 8, 2)) none)))) (cond (Nat.ble pc 206) (cond (Nat.ble pc 200) (cond (Nat.beq pc 200) (some (.instanceof 180, 3)) none) (cond (Nat.ble pc 203) (cond (Nat.beq pc 203) (some (.ifCond .eq 20, 3)) none) (cond (Nat.beq pc 206) (some (.aload 8, 2)) none))) (cond (Nat.ble pc 208) (cond (Nat.beq pc 208) (some (.checkcast 180, 3)) none) (cond (Nat.ble pc 211) (cond (Nat.beq pc 211) (some (.aload_n 0, 1)) none) (cond (Nat.beq pc 212) (some (.aload 6, 2)) none)))))) (cond (Nat.ble pc 232) (cond (Nat.ble pc 223) (cond (Nat.ble pc 216) (cond (Nat.ble pc 214) (cond (Nat.beq pc 214) (some (.iload 7, 2)) none) (cond (Nat.beq pc 216) (some (.iload_n 2, 1)) none)) (cond (Nat.ble pc 217) (cond (Nat.beq pc 217) (some (.invokevirtual 211, 3)) none) (cond (Nat.ble pc 220) (cond (Nat.beq pc 220) (some (.goto 127, 3)) none) (cond (Nat.beq pc 223) (some (.aconst_null, 1)) none)))) (cond (Nat.ble pc 227) (cond (Nat.ble pc 224) (cond (Nat.beq pc 224) (some (.astore 9, 2)) none) (cond (Nat.ble pc 226) (cond (Nat.beq pc 226) (some (.aconst_null, 1)) none) (cond (Nat.beq pc 227) (some (.astore 10, 2)) none))) (cond (Nat.ble pc 229) (cond (Nat.beq pc 229) (some (.aconst_null, 1)) none) (cond (Nat.ble pc 230) (cond (Nat.beq pc 230) (some (.astore 11, 2)) none) (cond (Nat.beq pc 232) (some (.aconst_null, 1)) none))))) (cond (Nat.ble pc 244) (cond (Nat.ble pc 237) (cond (Nat.ble pc 233) (cond (Nat.beq pc 233) (some (.astore 12, 2)) none) (cond (Nat.ble pc 235) (cond (Nat.beq pc 235) (some (.aload 8, 2)) none) (cond (Nat.beq pc 237) (some (.getfield 177, 3)) none))) (cond (Nat.ble pc 240) (cond (Nat.beq pc 240) (some (.astore 13, 2)) none) (cond (Nat.ble pc 242) (cond (Nat.beq pc 242) (some (.aload 8, 2)) none) (cond (Nat.beq pc 244) (some (.getfield 168, 3)) none)))) (cond (Nat.ble pc 249) (cond (Nat.ble pc 247) (cond (Nat.beq pc 247) (some (.iload_n 2, 1)) none) (cond (Nat.ble pc 248) (cond (Nat.beq pc 248) (some (.iand, 1)) none) (cond (Nat.beq pc 249) (some (.ifCond .ne 29, 3)) none))) (cond (Nat.ble pc 252) (cond (Nat.beq pc 252) (some (.aload 10, 2)) none) (cond (Nat.ble pc 254) (cond (Nat.beq pc 254) (some (.ifnonnull 10, 3)) none) (cond (Nat.beq pc 257) (some (.aload 8, 2)) none))))))) (cond (Nat.ble pc 309) (cond (Nat.ble pc 283) (cond (Nat.ble pc 268) (cond (Nat.ble pc 261) (cond (Nat.ble pc 259) (cond (Nat.beq pc 259) (some (.astore 9, 2)) none) (cond (Nat.beq pc 261) (some (.goto 10, 3)) none)) (cond (Nat.ble pc 264) (cond (Nat.beq pc 264) (some (.aload 10, 2)) none) (cond (Nat.ble pc 266) (cond (Nat.beq pc 266) (some (.aload 8, 2)) none) (cond (Nat.beq pc 268) (some (.putfield 177, 3)) none)))) (cond (Nat.ble pc 275) (cond (Nat.ble pc 271) (cond (Nat.beq pc 271) (some (.aload 8, 2)) none) (cond (Nat.ble pc 273) (cond (Nat.beq pc 273) (some (.astore 10, 2)) none) (cond (Nat.beq pc 275) (some (.goto 26, 3)) none))) (cond (Nat.ble pc 278) (cond (Nat.beq pc 278) (some (.aload 12, 2)) none) (cond (Nat.ble pc 280) (cond (Nat.beq pc 280) (some (.ifnonnull 10, 3)) none) (cond (Nat.beq pc 283) (some (.aload 8, 2)) none))))) (cond (Nat.ble pc 297) (cond (Nat.ble pc 290) (cond (Nat.ble pc 285) (cond (Nat.beq pc 285) (some (.astore 11, 2)) none) (cond (Nat.ble pc 287) (cond (Nat.beq pc 287) (some (.goto 10, 3)) none) (cond (Nat.beq pc 290) (some (.aload 12, 2)) none))) (cond (Nat.ble pc 292) (cond (Nat.beq pc 292) (some (.aload 8, 2)) none) (cond (Nat.ble pc 294) (cond (Nat.beq pc 294) (some (.putfield 177, 3)) none) (cond (Nat.beq pc 297) (some (.aload 8, 2)) none)))) (cond (Nat.ble pc 303) (cond (Nat.ble pc 299) (cond (Nat.beq pc 299) (some (.astore 12, 2)) none) (cond (Nat.ble pc 301) (cond (Nat.beq pc 301) (some (.aload 13, 2)) none) (cond (Nat.beq pc 303) (some (.dup, 1)) none))) (cond (Nat.ble pc 304) (cond (Nat.beq pc 304) (some (.astore 8, 2)) none) (cond (Nat.ble pc 306) (cond (Nat.beq pc 306) (some (.ifnonnull (-71), 3)) none) (cond (Nat.beq pc 309) (some (.aload 10, 2)) none)))))) (cond (Nat.ble pc 332) (cond (Nat.ble pc 320) (cond (Nat.ble pc 314) (cond (Nat.ble pc 311) (cond (Nat.beq pc 311) (some (.ifnull 16, 3)) none) (cond (Nat.beq pc 314) (some (.aload 10, 2)) none)) (cond (Nat.ble pc 316) (cond (Nat.beq pc 316) (some (.aconst_null, 1)) none) (cond (Nat.ble pc 317) (cond (Nat.beq pc 317) (some (.putfield 177, 3)) none) (cond (Nat.beq pc 320) (some (.aload 6, 2)) none)))) (cond (Nat.ble pc 326) (cond (Nat.ble pc 322) (cond (Nat.beq pc 322) (some (.iload 7, 2)) none) (cond (Nat.ble pc 324) (cond (Nat.beq pc 324) (some (.aload 9, 2)) none) (cond (Nat.beq pc 326) (some (.aastore, 1)) none))) (cond (Nat.ble pc 327) (cond (Nat.beq pc 327) (some (.aload 12, 2)) none) (cond (Nat.ble pc 329) (cond (Nat.beq pc 329) (some (.ifnull 18, 3)) none) (cond (Nat.beq pc 332) (some (.aload 12, 2)) none))))) (cond (Nat.ble pc 343) (cond (Nat.ble pc 338) (cond (Nat.ble pc 334) (cond (Nat.beq pc 334) (some (.aconst_null, 1)) none) (cond (Nat.ble pc 335) (cond (Nat.beq pc 335) (some (.putfield 177, 3)) none) (cond (Nat.beq pc 338) (some (.aload 6, 2)) none))) (cond (Nat.ble pc 340) (cond (Nat.beq pc 340) (some (.iload 7, 2)) none) (cond (Nat.ble pc 342) (cond (Nat.beq pc 342) (some (.iload_n 2, 1)) none) (cond (Nat.beq pc 343) (some (.iadd, 1)) none)))) (cond (Nat.ble pc 347) (cond (Nat.ble pc 344) (cond (Nat.beq pc 344) (some (.aload 11, 2)) none) (cond (Nat.ble pc 346) (cond (Nat.beq pc 346) (some (.aastore, 1)) none) (cond (Nat.beq pc 347) (some (.iinc 7 1, 3)) none))) (cond (Nat.ble pc 350) (cond (Nat.beq pc 350) (some (.goto (-199), 3)) none) (cond (Nat.ble pc 353) (cond (Nat.beq pc 353) (some (.aload 6, 2)) none) (cond (Nat.beq pc 355) (some (.areturn, 1)) none)))))))))
theorem tkJ4_resize : tkAll cJ4_resize tbJ4_resize := fun pc => (tk_b (tk_b (tk_b (tk_b (tk_b (tk_b (tk_b (tk_l dJ4_resize_0) (tk_l dJ4_resize_1)) (tk_b (tk_l dJ4_resize_4) (tk_b (tk_l dJ4_resize_5) (tk_l dJ4_resize_6)))) (tk_b (tk_b (tk_l dJ4_resize_9) (tk_b (tk_l dJ4_resize_10) (tk_l dJ4_resize_13))) (tk_b (tk_l dJ4_resize_14) (tk_b (tk_l dJ4_resize_15) (tk_l dJ4_resize_16))))) (tk_b (tk_b (tk_b (tk_l dJ4_resize_17) (tk_b (tk_l dJ4_resize_20) (tk_l dJ4_resize_21))) (tk_b (tk_l dJ4_resize_22) (tk_b (tk_l dJ4_resize_24) (tk_l dJ4_resize_25)))) (tk_b (tk_b (tk_l dJ4_resize_28) (tk_b (tk_l dJ4_resize_29) (tk_l dJ4_resize_31))) (tk_b (tk_l dJ4_resize_34) (tk_b (tk_l dJ4_resize_35) (tk_l dJ4_resize_37)))))) (tk_b (tk_b (tk_b (tk_b (tk_l dJ4_resize_40) (tk_l dJ4_resize_41)) (tk_b (tk_l dJ4_resize_42) (tk_b (tk_l dJ4_resize_43) (tk_l dJ4_resize_44)))) (tk_b (tk_b (tk_l dJ4_resize_45) (tk_b (tk_l dJ4_resize_46) (tk_l dJ4_resize_48))) (tk_b (tk_l dJ4_resize_50) (tk_b (tk_l dJ4_resize_53) (tk_l dJ4_resize_54))))) (tk_b (tk_b (tk_b (tk_l dJ4_resize_56) (tk_b (tk_l dJ4_resize_59) (tk_l dJ4_resize_60))) (tk_b (tk_l dJ4_resize_61) (tk_b (tk_l dJ4_resize_62) (tk_l dJ4_resize_64)))) (tk_b (tk_b (tk_l dJ4_resize_67) (tk_b (tk_l dJ4_resize_68) (tk_l dJ4_resize_71))) (tk_b (tk_l dJ4_resize_72) (tk_b (tk_l dJ4_resize_74) (tk_l dJ4_resize_77))))))) (tk_b (tk_b (tk_b (tk_b (tk_b (tk_l dJ4_resize_79) (tk_l dJ4_resize_81)) (tk_b (tk_l dJ4_resize_83) (tk_b (tk_l dJ4_resize_85) (tk_l dJ4_resize_87)))) (tk_b (tk_b (tk_l dJ4_resize_90) (tk_b (tk_l dJ4_resize_92) (tk_l dJ4_resize_93))) (tk_b (tk_l dJ4_resize_94) (tk_b (tk_l dJ4_resize_97) (tk_l dJ4_resize_98))))) (tk_b (tk_b (tk_b (tk_l dJ4_resize_100) (tk_b (tk_l dJ4_resize_102) (tk_l dJ4_resize_104))) (tk_b (tk_l dJ4_resize_107) (tk_b (tk_l dJ4_resize_109) (tk_l dJ4_resize_111)))) (tk_b (tk_b (tk_l dJ4_resize_112) (tk_b (tk_l dJ4_resize_115) (tk_l dJ4_resize_117))) (tk_b (tk_l dJ4_resize_118) (tk_b (tk_l dJ4_resize_121) (tk_l dJ4_resize_123)))))) (tk_b (tk_b (tk_b (tk_b (tk_l dJ4_resize_125) (tk_l dJ4_resize_126)) (tk_b (tk_l dJ4_resize_128) (tk_b (tk_l dJ4_resize_131) (tk_l dJ4_resize_133)))) (tk_b (tk_b (tk_l dJ4_resize_136) (tk_b (tk_l dJ4_resize_138) (tk_l dJ4_resize_139))) (tk_b (tk_l dJ4_resize_141) (tk_b (tk_l dJ4_resize_144) (tk_l dJ4_resize_145))))) (tk_b (tk_b (tk_b (tk_l dJ4_resize_148) (tk_b (tk_l dJ4_resize_149) (tk_l dJ4_resize_151))) (tk_b (tk_l dJ4_resize_153) (tk_b (tk_l dJ4_resize_154) (tk_l dJ4_resize_157)))) (tk_b (tk_b (tk_l dJ4_resize_158) (tk_b (tk_l dJ4_resize_160) (tk_l dJ4_resize_161))) (tk_b (tk_l dJ4_resize_162) (tk_b (tk_l dJ4_resize_164) (tk_l dJ4_resize_167)))))))) (tk_b (tk_b (tk_b (tk_b (tk_b (tk_b (tk_l dJ4_resize_168) (tk_l dJ4_resize_170)) (tk_b (tk_l dJ4_resize_171) (tk_b (tk_l dJ4_resize_172) (tk_l dJ4_resize_174)))) (tk_b (tk_b (tk_l dJ4_resize_177) (tk_b (tk_l dJ4_resize_180) (tk_l dJ4_resize_182))) (tk_b (tk_l dJ4_resize_184) (tk_b (tk_l dJ4_resize_187) (tk_l dJ4_resize_189))))) (tk_b (tk_b (tk_b (tk_l dJ4_resize_190) (tk_b (tk_l dJ4_resize_191) (tk_l dJ4_resize_192))) (tk_b (tk_l dJ4_resize_194) (tk_b (tk_l dJ4_resize_195) (tk_l dJ4_resize_198)))) (tk_b (tk_b (tk_l dJ4_resize_200) (tk_b (tk_l dJ4_resize_203) (tk_l dJ4_resize_206))) (tk_b (tk_l dJ4_resize_208) (tk_b (tk_l dJ4_resize_211) (tk_l dJ4_resize_212)))))) (tk_b (tk_b (tk_b (tk_b (tk_l dJ4_resize_214) (tk_l dJ4_resize_216)) (tk_b (tk_l dJ4_resize_217) (tk_b (tk_l dJ4_resize_220) (tk_l dJ4_resize_223)))) (tk_b (tk_b (tk_l dJ4_resize_224) (tk_b (tk_l dJ4_resize_226) (tk_l dJ4_resize_227))) (tk_b (tk_l dJ4_resize_229) (tk_b (tk_l dJ4_resize_230) (tk_l dJ4_resize_232))))) (tk_b (tk_b (tk_b (tk_l dJ4_resize_233) (tk_b (tk_l dJ4_resize_235) (tk_l dJ4_resize_237))) (tk_b (tk_l dJ4_resize_240) (tk_b (tk_l dJ4_resize_242) (tk_l dJ4_resize_244)))) (tk_b (tk_b (tk_l dJ4_resize_247) (tk_b (tk_l dJ4_resize_248) (tk_l dJ4_resize_249))) (tk_b (tk_l dJ4_resize_252) (tk_b (tk_l dJ4_resize_254) (tk_l dJ4_resize_257))))))) (tk_b (tk_b (tk_b (tk_b (tk_b (tk_l dJ4_resize_259) (tk_l dJ4_resize_261)) (tk_b (tk_l dJ4_resize_264) (tk_b (tk_l dJ4_resize_266) (tk_l dJ4_resize_268)))) (tk_b (tk_b (tk_l dJ4_resize_271) (tk_b (tk_l dJ4_resize_273) (tk_l dJ4_resize_275))) (tk_b (tk_l dJ4_resize_278) (tk_b (tk_l dJ4_resize_280) (tk_l dJ4_resize_283))))) (tk_b (tk_b (tk_b (tk_l dJ4_resize_285) (tk_b (tk_l dJ4_resize_287) (tk_l dJ4_resize_290))) (tk_b (tk_l dJ4_resize_292) (tk_b (tk_l dJ4_resize_294) (tk_l dJ4_resize_297)))) (tk_b (tk_b (tk_l dJ4_resize_299) (tk_b (tk_l dJ4_resize_301) (tk_l dJ4_resize_303))) (tk_b (tk_l dJ4_resize_304) (tk_b (tk_l dJ4_resize_306) (tk_l dJ4_resize_309)))))) (tk_b (tk_b (tk_b (tk_b (tk_l dJ4_resize_311) (tk_l dJ4_resize_314)) (tk_b (tk_l dJ4_resize_316) (tk_b (tk_l dJ4_resize_317) (tk_l dJ4_resize_320)))) (tk_b (tk_b (tk_l dJ4_resize_322) (tk_b (tk_l dJ4_resize_324) (tk_l dJ4_resize_326))) (tk_b (tk_l dJ4_resize_327) (tk_b (tk_l dJ4_resize_329) (tk_l dJ4_resize_332))))) (tk_b (tk_b (tk_b (tk_l dJ4_resize_334) (tk_b (tk_l dJ4_resize_335) (tk_l dJ4_resize_338))) (tk_b (tk_l dJ4_resize_340) (tk_b (tk_l dJ4_resize_342) (tk_l dJ4_resize_343)))) (tk_b (tk_b (tk_l dJ4_resize_344) (tk_b (tk_l dJ4_resize_346) (tk_l dJ4_resize_347))) (tk_b (tk_l dJ4_resize_350) (tk_b (tk_l dJ4_resize_353) (tk_l dJ4_resize_355)))))))))
def tbJ4_comparableClassFor (pc : Nat) : Option (Instr × Nat) := (cond (Nat.ble pc 52) (cond (Nat.ble pc 25) (cond (Nat.ble pc 12) (cond (Nat.ble pc 4) (cond (Nat.ble pc 0) (cond (Nat.beq pc 0) (some (.aload_n 0, 1)) none) (cond (Nat.ble pc 1) (cond (Nat.beq pc 1) (some (.instanceof 7, 3)) none) (cond (Nat.beq pc 4) (some (.ifCond .eq 109, 3)) none))) (cond (Nat.ble pc 8) (cond (Nat.ble pc 7) (cond (Nat.beq pc 7) (some (.aload_n 0, 1)) none) (cond (Nat.beq pc 8) (some (.invokevirtual 9, 3)) none)) (cond (Nat.ble pc 11) (cond (Nat.beq pc 11) (some (.dup, 1)) none) (cond (Nat.beq pc 12) (some (.astore_n 1, 1)) none)))) (cond (Nat.ble pc 19) (cond (Nat.ble pc 15) (cond (Nat.ble pc 13) (cond (Nat.beq pc 13) (some (.ldc 13, 2)) none) (cond (Nat.beq pc 15) (some (.if_acmp .ne 5, 3)) none)) (cond (Nat.ble pc 18) (cond (Nat.beq pc 18) (some (.aload_n 1, 1)) none) (cond (Nat.beq pc 19) (some (.areturn, 1)) none))) (cond (Nat.ble pc 21) (cond (Nat.ble pc 20) (cond (Nat.beq pc 20) (some (.aload_n 1, 1)) none) (cond (Nat.beq pc 21) (some (.invokevirtual 15, 3)) none)) (cond (Nat.ble pc 24) (cond (Nat.beq pc 24) (some (.dup, 1)) none) (cond (Nat.beq pc 25) (some (.astore_n 2, 1)) none))))) (cond (Nat.ble pc 37) (cond (Nat.ble pc 30) (cond (Nat.ble pc 26) (cond (Nat.beq pc 26) (some (.ifnull 87, 3)) none) (cond (Nat.ble pc 29) (cond (Nat.beq pc 29) (some (.aload_n 2, 1)) none) (cond (Nat.beq pc 30) (some (.astore 5, 2)) none))) (cond (Nat.ble pc 34) (cond (Nat.ble pc 32) (cond (Nat.beq pc 32) (some (.aload 5, 2)) none) (cond (Nat.beq pc 34) (some (.arraylength, 1)) none)) (cond (Nat.ble pc 35) (cond (Nat.beq pc 35) (some (.istore 6, 2)) none) (cond (Nat.beq pc 37) (some (.iconst 0, 1)) none)))) (cond (Nat.ble pc 44) (cond (Nat.ble pc 40) (cond (Nat.ble pc 38) (cond (Nat.beq pc 38) (some (.istore 7, 2)) none) (cond (Nat.beq pc 40) (some (.iload 7, 2)) none)) (cond (Nat.ble pc 42) (cond (Nat.beq pc 42) (some (.iload 6, 2)) none) (cond (Nat.beq pc 44) (some (.if_icmp .ge 69, 3)) none))) (cond (Nat.ble pc 49) (cond (Nat.ble pc 47) (cond (Nat.beq pc 47) (some (.aload 5, 2)) none) (cond (Nat.beq pc 49) (some (.iload 7, 2)) none)) (cond (Nat.ble pc 51) (cond (Nat.beq pc 51) (some (.aaload, 1)) none) (cond (Nat.beq pc 52) (some (.astore 8, 2)) none)))))) (cond (Nat.ble pc 89) (cond (Nat.ble pc 68) (cond (Nat.ble pc 59) (cond (Nat.ble pc 54) (cond (Nat.beq pc 54) (some (.aload 8, 2)) none) (cond (Nat.ble pc 56) (cond (Nat.beq pc 56) (some (.instanceof 21, 3)) none) (cond (Nat.beq pc 59) (some (.ifCond .eq 48, 3)) none))) (cond (Nat.ble pc 64) (cond (Nat.ble pc 62) (cond (Nat.beq pc 62) (some (.aload 8, 2)) none) (cond (Nat.beq pc 64) (some (.checkcast 21, 3)) none)) (cond (Nat.ble pc 67) (cond (Nat.beq pc 67) (some (.dup, 1)) none) (cond (Nat.beq pc 68) (some (.astore 4, 2)) none)))) (cond (Nat.ble pc 80) (cond (Nat.ble pc 75) (cond (Nat.ble pc 70) (cond (Nat.beq pc 70) (some (.invokeinterface 23 1, 5)) none) (cond (Nat.beq pc 75) (some (.ldc 7, 2)) none)) (cond (Nat.ble pc 77) (cond (Nat.beq pc 77) (some (.if_acmp .ne 30, 3)) none) (cond (Nat.beq pc 80) (some (.aload 4, 2)) none))) (cond (Nat.ble pc 87) (cond (Nat.ble pc 82) (cond (Nat.beq pc 82) (some (.invokeinterface 27 1, 5)) none) (cond (Nat.beq pc 87) (some (.dup, 1)) none)) (cond (Nat.ble pc 88) (cond (Nat.beq pc 88) (some (.astore_n 3, 1)) none) (cond (Nat.beq pc 89) (some (.ifnull 18, 3)) none))))) (cond (Nat.ble pc 100) (cond (Nat.ble pc 94) (cond (Nat.ble pc 92) (cond (Nat.beq pc 92) (some (.aload_n 3, 1)) none) (cond (Nat.ble pc 93) (cond (Nat.beq pc 93) (some (.arraylength, 1)) none) (cond (Nat.beq pc 94) (some (.iconst 1, 1)) none))) (cond (Nat.ble pc 98) (cond (Nat.ble pc 95) (cond (Nat.beq pc 95) (some (.if_icmp .ne 12, 3)) none) (cond (Nat.beq pc 98) (some (.aload_n 3, 1)) none)) (cond (Nat.ble pc 99) (cond (Nat.beq pc 99) (some (.iconst 0, 1)) none) (cond (Nat.beq pc 100) (some (.aaload, 1)) none)))) (cond (Nat.ble pc 106) (cond (Nat.ble pc 102) (cond (Nat.ble pc 101) (cond (Nat.beq pc 101) (some (.aload_n 1, 1)) none) (cond (Nat.beq pc 102) (some (.if_acmp .ne 5, 3)) none)) (cond (Nat.ble pc 105) (cond (Nat.beq pc 105) (some (.aload_n 1, 1)) none) (cond (Nat.beq pc 106) (some (.areturn, 1)) none))) (cond (Nat.ble pc 110) (cond (Nat.ble pc 107) (cond (Nat.beq pc 107) (some (.iinc 7 1, 3)) none) (cond (Nat.beq pc 110) (some (.goto (-70), 3)) none)) (cond (Nat.ble pc 113) (cond (Nat.beq pc 113) (some (.aconst_null, 1)) none) (cond (Nat.beq pc 114) (some (.areturn, 1)) none)))))))
theorem tkJ4_comparableClassFor : tkAll cJ4_comparableClassFor tbJ4_comparableClassFor := fun pc => (tk_b (tk_b (tk_b (tk_b (tk_b (tk_l dJ4_comparableClassFor_0) (tk_b (tk_l dJ4_comparableClassFor_1) (tk_l dJ4_comparableClassFor_4))) (tk_b (tk_b (tk_l dJ4_comparableClassFor_7) (tk_l dJ4_comparableClassFor_8)) (tk_b (tk_l dJ4_comparableClassFor_11) (tk_l dJ4_comparableClassFor_12)))) (tk_b (tk_b (tk_b (tk_l dJ4_comparableClassFor_13) (tk_l dJ4_comparableClassFor_15)) (tk_b (tk_l dJ4_comparableClassFor_18) (tk_l dJ4_comparableClassFor_19))) (tk_b (tk_b (tk_l dJ4_comparableClassFor_20) (tk_l dJ4_comparableClassFor_21)) (tk_b (tk_l dJ4_comparableClassFor_24) (tk_l dJ4_comparableClassFor_25))))) (tk_b (tk_b (tk_b (tk_l dJ4_comparableClassFor_26) (tk_b (tk_l dJ4_comparableClassFor_29) (tk_l dJ4_comparableClassFor_30))) (tk_b (tk_b (tk_l dJ4_comparableClassFor_32) (tk_l dJ4_comparableClassFor_34)) (tk_b (tk_l dJ4_comparableClassFor_35) (tk_l dJ4_comparableClassFor_37)))) (tk_b (tk_b (tk_b (tk_l dJ4_comparableClassFor_38) (tk_l dJ4_comparableClassFor_40)) (tk_b (tk_l dJ4_comparableClassFor_42) (tk_l dJ4_comparableClassFor_44))) (tk_b (tk_b (tk_l dJ4_comparableClassFor_47) (tk_l dJ4_comparableClassFor_49)) (tk_b (tk_l dJ4_comparableClassFor_51) (tk_l dJ4_comparableClassFor_52)))))) (tk_b (tk_b (tk_b (tk_b (tk_l dJ4_comparableClassFor_54) (tk_b (tk_l dJ4_comparableClassFor_56) (tk_l dJ4_comparableClassFor_59))) (tk_b (tk_b (tk_l dJ4_comparableClassFor_62) (tk_l dJ4_comparableClassFor_64)) (tk_b (tk_l dJ4_comparableClassFor_67) (tk_l dJ4_comparableClassFor_68)))) (tk_b (tk_b (tk_b (tk_l dJ4_comparableClassFor_70) (tk_l dJ4_comparableClassFor_75)) (tk_b (tk_l dJ4_comparableClassFor_77) (tk_l dJ4_comparableClassFor_80))) (tk_b (tk_b (tk_l dJ4_comparableClassFor_82) (tk_l dJ4_comparableClassFor_87)) (tk_b (tk_l dJ4_comparableClassFor_88) (tk_l dJ4_comparableClassFor_89))))) (tk_b (tk_b (tk_b (tk_l dJ4_comparableClassFor_92) (tk_b (tk_l dJ4_comparableClassFor_93) (tk_l dJ4_comparableClassFor_94))) (tk_b (tk_b (tk_l dJ4_comparableClassFor_95) (tk_l dJ4_comparableClassFor_98)) (tk_b (tk_l dJ4_comparableClassFor_99) (tk_l dJ4_comparableClassFor_100)))) (tk_b (tk_b (tk_b (tk_l dJ4_comparableClassFor_101) (tk_l dJ4_comparableClassFor_102)) (tk_b (tk_l dJ4_comparableClassFor_105) (tk_l dJ4_comparableClassFor_106))) (tk_b (tk_b (tk_l dJ4_comparableClassFor_107) (tk_l dJ4_comparableClassFor_110)) (tk_b (tk_l dJ4_comparableClassFor_113) (tk_l dJ4_comparableClassFor_114)))))))
def tbJ4_compareComparables (pc : Nat) : Option (Instr × Nat) := (cond (Nat.ble pc 9) (cond (Nat.ble pc 4) (cond (Nat.ble pc 0) (cond (Nat.beq pc 0) (some (.aload_n 2, 1)) none) (cond (Nat.ble pc 1) (cond (Nat.beq pc 1) (some (.ifnull 11, 3)) none) (cond (Nat.beq pc 4) (some (.aload_n 2, 1)) none))) (cond (Nat.ble pc 5) (cond (Nat.beq pc 5) (some (.invokevirtual 9, 3)) none) (cond (Nat.ble pc 8) (cond (Nat.beq pc 8) (some (.aload_n 0, 1)) none) (cond (Nat.beq pc 9) (some (.if_acmp .eq 7, 3)) none)))) (cond (Nat.ble pc 16) (cond (Nat.ble pc 12) (cond (Nat.beq pc 12) (some (.iconst 0, 1)) none) (cond (Nat.ble pc 13) (cond (Nat.beq pc 13) (some (.goto 13, 3)) none) (cond (Nat.beq pc 16) (some (.aload_n 1, 1)) none))) (cond (Nat.ble pc 20) (cond (Nat.ble pc 17) (cond (Nat.beq pc 17) (some (.checkcast 7, 3)) none) (cond (Nat.beq pc 20) (some (.aload_n 2, 1)) none)) (cond (Nat.ble pc 21) (cond (Nat.beq pc 21) (some (.invokeinterface 30 2, 5)) none) (cond (Nat.beq pc 26) (some (.ireturn, 1)) none)))))
theorem tkJ4_compareComparables : tkAll cJ4_compareComparables tbJ4_compareComparables := fun pc => (tk_b (tk_b (tk_b (tk_l dJ4_compareComparables_0) (tk_b (tk_l dJ4_compareComparables_1) (tk_l dJ4_compareComparables_4))) (tk_b (tk_l dJ4_compareComparables_5) (tk_b (tk_l dJ4_compareComparables_8) (tk_l dJ4_compareComparables_9)))) (tk_b (tk_b (tk_l dJ4_compareComparables_12) (tk_b (tk_l dJ4_compareComparables_13) (tk_l dJ4_compareComparables_16))) (tk_b (tk_b (tk_l dJ4_compareComparables_17) (tk_l dJ4_compareComparables_20)) (tk_b (tk_l dJ4_compareComparables_21) (tk_l dJ4_compareComparables_26)))))
def tbJ4_treeifyBin (pc : Nat) : Option (Instr × Nat) := (cond (Nat.ble pc 44) (cond (Nat.ble pc 23) (cond (Nat.ble pc 8) (cond (Nat.ble pc 4) (cond (Nat.ble pc 0) (cond (Nat.beq pc 0) (some (.aload_n 1, 1)) none) (cond (Nat.ble pc 1) (cond (Nat.beq pc 1) (some (.ifnull 12, 3)) none) (cond (Nat.beq pc 4) (some (.aload_n 1, 1)) none))) (cond (Nat.ble pc 6) (cond (Nat.ble pc 5) (cond (Nat.beq pc 5) (some (.arraylength, 1)) none) (cond (Nat.beq pc 6) (some (.dup, 1)) none)) (cond (Nat.ble pc 7) (cond (Nat.beq pc 7) (some (.istore_n 3, 1)) none) (cond (Nat.beq pc 8) (some (.bipush 64, 2)) none)))) (cond (Nat.ble pc 17) (cond (Nat.ble pc 13) (cond (Nat.ble pc 10) (cond (Nat.beq pc 10) (some (.if_icmp .ge 11, 3)) none) (cond (Nat.beq pc 13) (some (.aload_n 0, 1)) none)) (cond (Nat.ble pc 14) (cond (Nat.beq pc 14) (some (.invokevirtual 117, 3)) none) (cond (Nat.beq pc 17) (some (.pop, 1)) none))) (cond (Nat.ble pc 21) (cond (Nat.ble pc 18) (cond (Nat.beq pc 18) (some (.goto 91, 3)) none) (cond (Nat.beq pc 21) (some (.aload_n 1, 1)) none)) (cond (Nat.ble pc 22) (cond (Nat.beq pc 22) (some (.iload_n 3, 1)) none) (cond (Nat.beq pc 23) (some (.iconst 1, 1)) none))))) (cond (Nat.ble pc 31) (cond (Nat.ble pc 26) (cond (Nat.ble pc 24) (cond (Nat.beq pc 24) (some (.isub, 1)) none) (cond (Nat.ble pc 25) (cond (Nat.beq pc 25) (some (.iload_n 2, 1)) none) (cond (Nat.beq pc 26) (some (.iand, 1)) none))) (cond (Nat.ble pc 28) (cond (Nat.ble pc 27) (cond (Nat.beq pc 27) (some (.dup, 1)) none) (cond (Nat.beq pc 28) (some (.istore 4, 2)) none)) (cond (Nat.ble pc 30) (cond (Nat.beq pc 30) (some (.aaload, 1)) none) (cond (Nat.beq pc 31) (some (.dup, 1)) none)))) (cond (Nat.ble pc 38) (cond (Nat.ble pc 34) (cond (Nat.ble pc 32) (cond (Nat.beq pc 32) (some (.astore 5, 2)) none) (cond (Nat.beq pc 34) (some (.ifnull 75, 3)) none)) (cond (Nat.ble pc 37) (cond (Nat.beq pc 37) (some (.aconst_null, 1)) none) (cond (Nat.beq pc 38) (some (.astore 6, 2)) none))) (cond (Nat.ble pc 41) (cond (Nat.ble pc 40) (cond (Nat.beq pc 40) (some (.aconst_null, 1)) none) (cond (Nat.beq pc 41) (some (.astore 7, 2)) none)) (cond (Nat.ble pc 43) (cond (Nat.beq pc 43) (some (.aload_n 0, 1)) none) (cond (Nat.beq pc 44) (some (.aload 5, 2)) none)))))) (cond (Nat.ble pc 78) (cond (Nat.ble pc 59) (cond (Nat.ble pc 50) (cond (Nat.ble pc 46) (cond (Nat.beq pc 46) (some (.aconst_null, 1)) none) (cond (Nat.ble pc 47) (cond (Nat.beq pc 47) (some (.invokevirtual 215, 3)) none) (cond (Nat.beq pc 50) (some (.astore 8, 2)) none))) (cond (Nat.ble pc 54) (cond (Nat.ble pc 52) (cond (Nat.beq pc 52) (some (.aload 7, 2)) none) (cond (Nat.beq pc 54) (some (.ifnonnull 10, 3)) none)) (cond (Nat.ble pc 57) (cond (Nat.beq pc 57) (some (.aload 8, 2)) none) (cond (Nat.beq pc 59) (some (.astore 6, 2)) none)))) (cond (Nat.ble pc 68) (cond (Nat.ble pc 64) (cond (Nat.ble pc 61) (cond (Nat.beq pc 61) (some (.goto 17, 3)) none) (cond (Nat.beq pc 64) (some (.aload 8, 2)) none)) (cond (Nat.ble pc 66) (cond (Nat.beq pc 66) (some (.aload 7, 2)) none) (cond (Nat.beq pc 68) (some (.putfield 219, 3)) none))) (cond (Nat.ble pc 73) (cond (Nat.ble pc 71) (cond (Nat.beq pc 71) (some (.aload 7, 2)) none) (cond (Nat.beq pc 73) (some (.aload 8, 2)) none)) (cond (Nat.ble pc 75) (cond (Nat.beq pc 75) (some (.putfield 223, 3)) none) (cond (Nat.beq pc 78) (some (.aload 8, 2)) none))))) (cond (Nat.ble pc 94) (cond (Nat.ble pc 87) (cond (Nat.ble pc 82) (cond (Nat.ble pc 80) (cond (Nat.beq pc 80) (some (.astore 7, 2)) none) (cond (Nat.beq pc 82) (some (.aload 5, 2)) none)) (cond (Nat.ble pc 84) (cond (Nat.beq pc 84) (some (.getfield 177, 3)) none) (cond (Nat.beq pc 87) (some (.dup, 1)) none))) (cond (Nat.ble pc 90) (cond (Nat.ble pc 88) (cond (Nat.beq pc 88) (some (.astore 5, 2)) none) (cond (Nat.beq pc 90) (some (.ifnonnull (-47), 3)) none)) (cond (Nat.ble pc 93) (cond (Nat.beq pc 93) (some (.aload_n 1, 1)) none) (cond (Nat.beq pc 94) (some (.iload 4, 2)) none)))) (cond (Nat.ble pc 100) (cond (Nat.ble pc 98) (cond (Nat.ble pc 96) (cond (Nat.beq pc 96) (some (.aload 6, 2)) none) (cond (Nat.beq pc 98) (some (.dup_x2, 1)) none)) (cond (Nat.ble pc 99) (cond (Nat.beq pc 99) (some (.aastore, 1)) none) (cond (Nat.beq pc 100) (some (.ifnull 9, 3)) none))) (cond (Nat.ble pc 105) (cond (Nat.ble pc 103) (cond (Nat.beq pc 103) (some (.aload 6, 2)) none) (cond (Nat.beq pc 105) (some (.aload_n 1, 1)) none)) (cond (Nat.ble pc 106) (cond (Nat.beq pc 106) (some (.invokevirtual 224, 3)) none) (cond (Nat.beq pc 109) (some (.return_, 1)) none)))))))
theorem tkJ4_treeifyBin : tkAll cJ4_treeifyBin tbJ4_treeifyBin := fun pc => (tk_b (tk_b (tk_b (tk_b (tk_b (tk_l dJ4_treeifyBin_0) (tk_b (tk_l dJ4_treeifyBin_1) (tk_l dJ4_treeifyBin_4))) (tk_b (tk_b (tk_l dJ4_treeifyBin_5) (tk_l dJ4_treeifyBin_6)) (tk_b (tk_l dJ4_treeifyBin_7) (tk_l dJ4_treeifyBin_8)))) (tk_b (tk_b (tk_b (tk_l dJ4_treeifyBin_10) (tk_l dJ4_treeifyBin_13)) (tk_b (tk_l dJ4_treeifyBin_14) (tk_l dJ4_treeifyBin_17))) (tk_b (tk_b (tk_l dJ4_treeifyBin_18) (tk_l dJ4_treeifyBin_21)) (tk_b (tk_l dJ4_treeifyBin_22) (tk_l dJ4_treeifyBin_23))))) (tk_b (tk_b (tk_b (tk_l dJ4_treeifyBin_24) (tk_b (tk_l dJ4_treeifyBin_25) (tk_l dJ4_treeifyBin_26))) (tk_b (tk_b (tk_l dJ4_treeifyBin_27) (tk_l dJ4_treeifyBin_28)) (tk_b (tk_l dJ4_treeifyBin_30) (tk_l dJ4_treeifyBin_31)))) (tk_b (tk_b (tk_b (tk_l dJ4_treeifyBin_32) (tk_l dJ4_treeifyBin_34)) (tk_b (tk_l dJ4_treeifyBin_37) (tk_l dJ4_treeifyBin_38))) (tk_b (tk_b (tk_l dJ4_treeifyBin_40) (tk_l dJ4_treeifyBin_41)) (tk_b (tk_l dJ4_treeifyBin_43) (tk_l dJ4_treeifyBin_44)))))) (tk_b (tk_b (tk_b (tk_b (tk_l dJ4_treeifyBin_46) (tk_b (tk_l dJ4_treeifyBin_47) (tk_l dJ4_treeifyBin_50))) (tk_b (tk_b (tk_l dJ4_treeifyBin_52) (tk_l dJ4_treeifyBin_54)) (tk_b (tk_l dJ4_treeifyBin_57) (tk_l dJ4_treeifyBin_59)))) (tk_b (tk_b (tk_b (tk_l dJ4_treeifyBin_61) (tk_l dJ4_treeifyBin_64)) (tk_b (tk_l dJ4_treeifyBin_66) (tk_l dJ4_treeifyBin_68))) (tk_b (tk_b (tk_l dJ4_treeifyBin_71) (tk_l dJ4_treeifyBin_73)) (tk_b (tk_l dJ4_treeifyBin_75) (tk_l dJ4_treeifyBin_78))))) (tk_b (tk_b (tk_b (tk_b (tk_l dJ4_treeifyBin_80) (tk_l dJ4_treeifyBin_82)) (tk_b (tk_l dJ4_treeifyBin_84) (tk_l dJ4_treeifyBin_87))) (tk_b (tk_b (tk_l dJ4_treeifyBin_88) (tk_l dJ4_treeifyBin_90)) (tk_b (tk_l dJ4_treeifyBin_93) (tk_l dJ4_treeifyBin_94)))) (tk_b (tk_b (tk_b (tk_l dJ4_treeifyBin_96) (tk_l dJ4_treeifyBin_98)) (tk_b (tk_l dJ4_treeifyBin_99) (tk_l dJ4_treeifyBin_100))) (tk_b (tk_b (tk_l dJ4_treeifyBin_103) (tk_l dJ4_treeifyBin_105)) (tk_b (tk_l dJ4_treeifyBin_106) (tk_l dJ4_treeifyBin_109)))))))
def tbJ4_getNode (pc : Nat) : Option (Instr × Nat) := (cond (Nat.ble pc 69) (cond (Nat.ble pc 30) (cond (Nat.ble pc 14) (cond (Nat.ble pc 6) (cond (Nat.ble pc 1) (cond (Nat.ble pc 0) (cond (Nat.beq pc 0) (some (.aload_n 0, 1)) none) (cond (Nat.beq pc 1) (some (.getfield 105, 3)) none)) (cond (Nat.ble pc 4) (cond (Nat.beq pc 4) (some (.dup, 1)) none) (cond (Nat.ble pc 5) (cond (Nat.beq pc 5) (some (.astore_n 2, 1)) none) (cond (Nat.beq pc 6) (some (.ifnull 142, 3)) none)))) (cond (Nat.ble pc 10) (cond (Nat.ble pc 9) (cond (Nat.beq pc 9) (some (.aload_n 2, 1)) none) (cond (Nat.beq pc 10) (some (.arraylength, 1)) none)) (cond (Nat.ble pc 11) (cond (Nat.beq pc 11) (some (.dup, 1)) none) (cond (Nat.ble pc 12) (cond (Nat.beq pc 12) (some (.istore 5, 2)) none) (cond (Nat.beq pc 14) (some (.ifCond .le 134, 3)) none))))) (cond (Nat.ble pc 22) (cond (Nat.ble pc 18) (cond (Nat.ble pc 17) (cond (Nat.beq pc 17) (some (.aload_n 2, 1)) none) (cond (Nat.beq pc 18) (some (.iload 5, 2)) none)) (cond (Nat.ble pc 20) (cond (Nat.beq pc 20) (some (.iconst 1, 1)) none) (cond (Nat.ble pc 21) (cond (Nat.beq pc 21) (some (.isub, 1)) none) (cond (Nat.beq pc 22) (some (.aload_n 1, 1)) none)))) (cond (Nat.ble pc 26) (cond (Nat.ble pc 23) (cond (Nat.beq pc 23) (some (.invokestatic 149, 3)) none) (cond (Nat.beq pc 26) (some (.dup, 1)) none)) (cond (Nat.ble pc 27) (cond (Nat.beq pc 27) (some (.istore 6, 2)) none) (cond (Nat.ble pc 29) (cond (Nat.beq pc 29) (some (.iand, 1)) none) (cond (Nat.beq pc 30) (some (.aaload, 1)) none)))))) (cond (Nat.ble pc 49) (cond (Nat.ble pc 37) (cond (Nat.ble pc 32) (cond (Nat.ble pc 31) (cond (Nat.beq pc 31) (some (.dup, 1)) none) (cond (Nat.beq pc 32) (some (.astore_n 3, 1)) none)) (cond (Nat.ble pc 33) (cond (Nat.beq pc 33) (some (.ifnull 115, 3)) none) (cond (Nat.ble pc 36) (cond (Nat.beq pc 36) (some (.aload_n 3, 1)) none) (cond (Nat.beq pc 37) (some (.getfield 168, 3)) none)))) (cond (Nat.ble pc 42) (cond (Nat.ble pc 40) (cond (Nat.beq pc 40) (some (.iload 6, 2)) none) (cond (Nat.beq pc 42) (some (.if_icmp .ne 29, 3)) none)) (cond (Nat.ble pc 45) (cond (Nat.beq pc 45) (some (.aload_n 3, 1)) none) (cond (Nat.ble pc 46) (cond (Nat.beq pc 46) (some (.getfield 170, 3)) none) (cond (Nat.beq pc 49) (some (.dup, 1)) none))))) (cond (Nat.ble pc 57) (cond (Nat.ble pc 52) (cond (Nat.ble pc 50) (cond (Nat.beq pc 50) (some (.astore 7, 2)) none) (cond (Nat.beq pc 52) (some (.aload_n 1, 1)) none)) (cond (Nat.ble pc 53) (cond (Nat.beq pc 53) (some (.if_acmp .eq 16, 3)) none) (cond (Nat.ble pc 56) (cond (Nat.beq pc 56) (some (.aload_n 1, 1)) none) (cond (Nat.beq pc 57) (some (.ifnull 14, 3)) none)))) (cond (Nat.ble pc 61) (cond (Nat.ble pc 60) (cond (Nat.beq pc 60) (some (.aload_n 1, 1)) none) (cond (Nat.beq pc 61) (some (.aload 7, 2)) none)) (cond (Nat.ble pc 63) (cond (Nat.beq pc 63) (some (.invokevirtual 173, 3)) none) (cond (Nat.ble pc 66) (cond (Nat.beq pc 66) (some (.ifCond .eq 5, 3)) none) (cond (Nat.beq pc 69) (some (.aload_n 3, 1)) none))))))) (cond (Nat.ble pc 109) (cond (Nat.ble pc 88) (cond (Nat.ble pc 76) (cond (Nat.ble pc 71) (cond (Nat.ble pc 70) (cond (Nat.beq pc 70) (some (.areturn, 1)) none) (cond (Nat.beq pc 71) (some (.aload_n 3, 1)) none)) (cond (Nat.ble pc 72) (cond (Nat.beq pc 72) (some (.getfield 177, 3)) none) (cond (Nat.ble pc 75) (cond (Nat.beq pc 75) (some (.dup, 1)) none) (cond (Nat.beq pc 76) (some (.astore 4, 2)) none)))) (cond (Nat.ble pc 81) (cond (Nat.ble pc 78) (cond (Nat.beq pc 78) (some (.ifnull 70, 3)) none) (cond (Nat.beq pc 81) (some (.aload_n 3, 1)) none)) (cond (Nat.ble pc 82) (cond (Nat.beq pc 82) (some (.instanceof 180, 3)) none) (cond (Nat.ble pc 85) (cond (Nat.beq pc 85) (some (.ifCond .eq 14, 3)) none) (cond (Nat.beq pc 88) (some (.aload_n 3, 1)) none))))) (cond (Nat.ble pc 98) (cond (Nat.ble pc 92) (cond (Nat.ble pc 89) (cond (Nat.beq pc 89) (some (.checkcast 180, 3)) none) (cond (Nat.beq pc 92) (some (.iload 6, 2)) none)) (cond (Nat.ble pc 94) (cond (Nat.beq pc 94) (some (.aload_n 1, 1)) none) (cond (Nat.ble pc 95) (cond (Nat.beq pc 95) (some (.invokevirtual 182, 3)) none) (cond (Nat.beq pc 98) (some (.areturn, 1)) none)))) (cond (Nat.ble pc 101) (cond (Nat.ble pc 99) (cond (Nat.beq pc 99) (some (.aload 4, 2)) none) (cond (Nat.beq pc 101) (some (.getfield 168, 3)) none)) (cond (Nat.ble pc 104) (cond (Nat.beq pc 104) (some (.iload 6, 2)) none) (cond (Nat.ble pc 106) (cond (Nat.beq pc 106) (some (.if_icmp .ne 31, 3)) none) (cond (Nat.beq pc 109) (some (.aload 4, 2)) none)))))) (cond (Nat.ble pc 128) (cond (Nat.ble pc 118) (cond (Nat.ble pc 114) (cond (Nat.ble pc 111) (cond (Nat.beq pc 111) (some (.getfield 170, 3)) none) (cond (Nat.beq pc 114) (some (.dup, 1)) none)) (cond (Nat.ble pc 115) (cond (Nat.beq pc 115) (some (.astore 7, 2)) none) (cond (Nat.ble pc 117) (cond (Nat.beq pc 117) (some (.aload_n 1, 1)) none) (cond (Nat.beq pc 118) (some (.if_acmp .eq 16, 3)) none)))) (cond (Nat.ble pc 122) (cond (Nat.ble pc 121) (cond (Nat.beq pc 121) (some (.aload_n 1, 1)) none) (cond (Nat.beq pc 122) (some (.ifnull 15, 3)) none)) (cond (Nat.ble pc 125) (cond (Nat.beq pc 125) (some (.aload_n 1, 1)) none) (cond (Nat.ble pc 126) (cond (Nat.beq pc 126) (some (.aload 7, 2)) none) (cond (Nat.beq pc 128) (some (.invokevirtual 173, 3)) none))))) (cond (Nat.ble pc 139) (cond (Nat.ble pc 134) (cond (Nat.ble pc 131) (cond (Nat.beq pc 131) (some (.ifCond .eq 6, 3)) none) (cond (Nat.beq pc 134) (some (.aload 4, 2)) none)) (cond (Nat.ble pc 136) (cond (Nat.beq pc 136) (some (.areturn, 1)) none) (cond (Nat.ble pc 137) (cond (Nat.beq pc 137) (some (.aload 4, 2)) none) (cond (Nat.beq pc 139) (some (.getfield 177, 3)) none)))) (cond (Nat.ble pc 143) (cond (Nat.ble pc 142) (cond (Nat.beq pc 142) (some (.dup, 1)) none) (cond (Nat.beq pc 143) (some (.astore 4, 2)) none)) (cond (Nat.ble pc 145) (cond (Nat.beq pc 145) (some (.ifnonnull (-46), 3)) none) (cond (Nat.ble pc 148) (cond (Nat.beq pc 148) (some (.aconst_null, 1)) none) (cond (Nat.beq pc 149) (some (.areturn, 1)) none))))))))
theorem tkJ4_getNode : tkAll cJ4_getNode tbJ4_getNode := fun pc => (tk_b (tk_b (tk_b (tk_b (tk_b (tk_b (tk_l dJ4_getNode_0) (tk_l dJ4_getNode_1)) (tk_b (tk_l dJ4_getNode_4) (tk_b (tk_l dJ4_getNode_5) (tk_l dJ4_getNode_6)))) (tk_b (tk_b (tk_l dJ4_getNode_9) (tk_l dJ4_getNode_10)) (tk_b (tk_l dJ4_getNode_11) (tk_b (tk_l dJ4_getNode_12) (tk_l dJ4_getNode_14))))) (tk_b (tk_b (tk_b (tk_l dJ4_getNode_17) (tk_l dJ4_getNode_18)) (tk_b (tk_l dJ4_getNode_20) (tk_b (tk_l dJ4_getNode_21) (tk_l dJ4_getNode_22)))) (tk_b (tk_b (tk_l dJ4_getNode_23) (tk_l dJ4_getNode_26)) (tk_b (tk_l dJ4_getNode_27) (tk_b (tk_l dJ4_getNode_29) (tk_l dJ4_getNode_30)))))) (tk_b (tk_b (tk_b (tk_b (tk_l dJ4_getNode_31) (tk_l dJ4_getNode_32)) (tk_b (tk_l dJ4_getNode_33) (tk_b (tk_l dJ4_getNode_36) (tk_l dJ4_getNode_37)))) (tk_b (tk_b (tk_l dJ4_getNode_40) (tk_l dJ4_getNode_42)) (tk_b (tk_l dJ4_getNode_45) (tk_b (tk_l dJ4_getNode_46) (tk_l dJ4_getNode_49))))) (tk_b (tk_b (tk_b (tk_l dJ4_getNode_50) (tk_l dJ4_getNode_52)) (tk_b (tk_l dJ4_getNode_53) (tk_b (tk_l dJ4_getNode_56) (tk_l dJ4_getNode_57)))) (tk_b (tk_b (tk_l dJ4_getNode_60) (tk_l dJ4_getNode_61)) (tk_b (tk_l dJ4_getNode_63) (tk_b (tk_l dJ4_getNode_66) (tk_l dJ4_getNode_69))))))) (tk_b (tk_b (tk_b (tk_b (tk_b (tk_l dJ4_getNode_70) (tk_l dJ4_getNode_71)) (tk_b (tk_l dJ4_getNode_72) (tk_b (tk_l dJ4_getNode_75) (tk_l dJ4_getNode_76)))) (tk_b (tk_b (tk_l dJ4_getNode_78) (tk_l dJ4_getNode_81)) (tk_b (tk_l dJ4_getNode_82) (tk_b (tk_l dJ4_getNode_85) (tk_l dJ4_getNode_88))))) (tk_b (tk_b (tk_b (tk_l dJ4_getNode_89) (tk_l dJ4_getNode_92)) (tk_b (tk_l dJ4_getNode_94) (tk_b (tk_l dJ4_getNode_95) (tk_l dJ4_getNode_98)))) (tk_b (tk_b (tk_l dJ4_getNode_99) (tk_l dJ4_getNode_101)) (tk_b (tk_l dJ4_getNode_104) (tk_b (tk_l dJ4_getNode_106) (tk_l dJ4_getNode_109)))))) (tk_b (tk_b (tk_b (tk_b (tk_l dJ4_getNode_111) (tk_l dJ4_getNode_114)) (tk_b (tk_l dJ4_getNode_115) (tk_b (tk_l dJ4_getNode_117) (tk_l dJ4_getNode_118)))) (tk_b (tk_b (tk_l dJ4_getNode_121) (tk_l dJ4_getNode_122)) (tk_b (tk_l dJ4_getNode_125) (tk_b (tk_l dJ4_getNode_126) (tk_l dJ4_getNode_128))))) (tk_b (tk_b (tk_b (tk_l dJ4_getNode_131) (tk_l dJ4_getNode_134)) (tk_b (tk_l dJ4_getNode_136) (tk_b (tk_l dJ4_getNode_137) (tk_l dJ4_getNode_139)))) (tk_b (tk_b (tk_l dJ4_getNode_142) (tk_l dJ4_getNode_143)) (tk_b (tk_l dJ4_getNode_145) (tk_b (tk_l dJ4_getNode_148) (tk_l dJ4_getNode_149))))))))
def tbJ5_init (pc : Nat) : Option (Instr × Nat) := (cond (Nat.ble pc 5) (cond (Nat.ble pc 1) (cond (Nat.ble pc 0) (cond (Nat.beq pc 0) (some (.aload_n 0, 1)) none) (cond (Nat.beq pc 1) (some (.invokespecial 87, 3)) none)) (cond (Nat.ble pc 4) (cond (Nat.beq pc 4) (some (.aload_n 0, 1)) none) (cond (Nat.beq pc 5) (some (.iconst 0, 1)) none))) (cond (Nat.ble pc 9) (cond (Nat.ble pc 6) (cond (Nat.beq pc 6) (some (.putfield 1, 3)) none) (cond (Nat.beq pc 9) (some (.aload_n 0, 1)) none)) (cond (Nat.ble pc 10) (cond (Nat.beq pc 10) (some (.iconst 0, 1)) none) (cond (Nat.ble pc 11) (cond (Nat.beq pc 11) (some (.putfield 64, 3)) none) (cond (Nat.beq pc 14) (some (.return_, 1)) none)))))
theorem tkJ5_init : tkAll cJ5_init tbJ5_init := fun pc => (tk_b (tk_b (tk_b (tk_l dJ5_init_0) (tk_l dJ5_init_1)) (tk_b (tk_l dJ5_init_4) (tk_l dJ5_init_5))) (tk_b (tk_b (tk_l dJ5_init_6) (tk_l dJ5_init_9)) (tk_b (tk_l dJ5_init_10) (tk_b (tk_l dJ5_init_11) (tk_l dJ5_init_14)))))
def tbJ5_replacementNode (pc : Nat) : Option (Instr × Nat) := (cond (Nat.ble pc 17) (cond (Nat.ble pc 8) (cond (Nat.ble pc 1) (cond (Nat.ble pc 0) (cond (Nat.beq pc 0) (some (.aload_n 1, 1)) none) (cond (Nat.beq pc 1) (some (.checkcast 15, 3)) none)) (cond (Nat.ble pc 4) (cond (Nat.beq pc 4) (some (.astore_n 3, 1)) none) (cond (Nat.ble pc 5) (cond (Nat.beq pc 5) (some (.new 15, 3)) none) (cond (Nat.beq pc 8) (some (.dup, 1)) none)))) (cond (Nat.ble pc 10) (cond (Nat.ble pc 9) (cond (Nat.beq pc 9) (some (.aload_n 3, 1)) none) (cond (Nat.beq pc 10) (some (.getfield 36, 3)) none)) (cond (Nat.ble pc 13) (cond (Nat.beq pc 13) (some (.aload_n 3, 1)) none) (cond (Nat.ble pc 14) (cond (Nat.beq pc 14) (some (.getfield 39, 3)) none) (cond (Nat.beq pc 17) (some (.aload_n 3, 1)) none))))) (cond (Nat.ble pc 27) (cond (Nat.ble pc 21) (cond (Nat.ble pc 18) (cond (Nat.beq pc 18) (some (.getfield 43, 3)) none) (cond (Nat.beq pc 21) (some (.aload_n 2, 1)) none)) (cond (Nat.ble pc 22) (cond (Nat.beq pc 22) (some (.invokespecial 28, 3)) none) (cond (Nat.ble pc 25) (cond (Nat.beq pc 25) (some (.astore 4, 2)) none) (cond (Nat.beq pc 27) (some (.aload_n 0, 1)) none)))) (cond (Nat.ble pc 29) (cond (Nat.ble pc 28) (cond (Nat.beq pc 28) (some (.aload_n 3, 1)) none) (cond (Nat.beq pc 29) (some (.aload 4, 2)) none)) (cond (Nat.ble pc 31) (cond (Nat.beq pc 31) (some (.invokevirtual 46, 3)) none) (cond (Nat.ble pc 34) (cond (Nat.beq pc 34) (some (.aload 4, 2)) none) (cond (Nat.beq pc 36) (some (.areturn, 1)) none))))))
theorem tkJ5_replacementNode : tkAll cJ5_replacementNode tbJ5_replacementNode := fun pc => (tk_b (tk_b (tk_b (tk_b (tk_l dJ5_replacementNode_0) (tk_l dJ5_replacementNode_1)) (tk_b (tk_l dJ5_replacementNode_4) (tk_b (tk_l dJ5_replacementNode_5) (tk_l dJ5_replacementNode_8)))) (tk_b (tk_b (tk_l dJ5_replacementNode_9) (tk_l dJ5_replacementNode_10)) (tk_b (tk_l dJ5_replacementNode_13) (tk_b (tk_l dJ5_replacementNode_14) (tk_l dJ5_replacementNode_17))))) (tk_b (tk_b (tk_b (tk_l dJ5_replacementNode_18) (tk_l dJ5_replacementNode_21)) (tk_b (tk_l dJ5_replacementNode_22) (tk_b (tk_l dJ5_replacementNode_25) (tk_l dJ5_replacementNode_27)))) (tk_b (tk_b (tk_l dJ5_replacementNode_28) (tk_l dJ5_replacementNode_29)) (tk_b (tk_l dJ5_replacementNode_31) (tk_b (tk_l dJ5_replacementNode_34) (tk_l dJ5_replacementNode_36))))))
def tbJ5_transferLinks (pc : Nat) : Option (Instr × Nat) := (cond (Nat.ble pc 25) (cond (Nat.ble pc 10) (cond (Nat.ble pc 2) (cond (Nat.ble pc 0) (cond (Nat.beq pc 0) (some (.aload_n 2, 1)) none) (cond (Nat.ble pc 1) (cond (Nat.beq pc 1) (some (.aload_n 1, 1)) none) (cond (Nat.beq pc 2) (some (.getfield 19, 3)) none))) (cond (Nat.ble pc 6) (cond (Nat.ble pc 5) (cond (Nat.beq pc 5) (some (.dup_x1, 1)) none) (cond (Nat.beq pc 6) (some (.putfield 19, 3)) none)) (cond (Nat.ble pc 9) (cond (Nat.beq pc 9) (some (.astore_n 3, 1)) none) (cond (Nat.beq pc 10) (some (.aload_n 2, 1)) none)))) (cond (Nat.ble pc 16) (cond (Nat.ble pc 12) (cond (Nat.ble pc 11) (cond (Nat.beq pc 11) (some (.aload_n 1, 1)) none) (cond (Nat.beq pc 12) (some (.getfield 14, 3)) none)) (cond (Nat.ble pc 15) (cond (Nat.beq pc 15) (some (.dup_x1, 1)) none) (cond (Nat.beq pc 16) (some (.putfield 14, 3)) none))) (cond (Nat.ble pc 21) (cond (Nat.ble pc 19) (cond (Nat.beq pc 19) (some (.astore 4, 2)) none) (cond (Nat.beq pc 21) (some (.aload_n 3, 1)) none)) (cond (Nat.ble pc 22) (cond (Nat.beq pc 22) (some (.ifnonnull 11, 3)) none) (cond (Nat.beq pc 25) (some (.aload_n 0, 1)) none))))) (cond (Nat.ble pc 40) (cond (Nat.ble pc 33) (cond (Nat.ble pc 27) (cond (Nat.ble pc 26) (cond (Nat.beq pc 26) (some (.aload_n 2, 1)) none) (cond (Nat.beq pc 27) (some (.putfield 7, 3)) none)) (cond (Nat.ble pc 30) (cond (Nat.beq pc 30) (some (.goto 8, 3)) none) (cond (Nat.beq pc 33) (some (.aload_n 3, 1)) none))) (cond (Nat.ble pc 35) (cond (Nat.ble pc 34) (cond (Nat.beq pc 34) (some (.aload_n 2, 1)) none) (cond (Nat.beq pc 35) (some (.putfield 14, 3)) none)) (cond (Nat.ble pc 38) (cond (Nat.beq pc 38) (some (.aload 4, 2)) none) (cond (Nat.beq pc 40) (some (.ifnonnull 11, 3)) none)))) (cond (Nat.ble pc 48) (cond (Nat.ble pc 44) (cond (Nat.ble pc 43) (cond (Nat.beq pc 43) (some (.aload_n 0, 1)) none) (cond (Nat.beq pc 44) (some (.aload_n 2, 1)) none)) (cond (Nat.ble pc 45) (cond (Nat.beq pc 45) (some (.putfield 11, 3)) none) (cond (Nat.beq pc 48) (some (.goto 9, 3)) none))) (cond (Nat.ble pc 53) (cond (Nat.ble pc 51) (cond (Nat.beq pc 51) (some (.aload 4, 2)) none) (cond (Nat.beq pc 53) (some (.aload_n 2, 1)) none)) (cond (Nat.ble pc 54) (cond (Nat.beq pc 54) (some (.putfield 19, 3)) none) (cond (Nat.beq pc 57) (some (.return_, 1)) none))))))
theorem tkJ5_transferLinks : tkAll cJ5_transferLinks tbJ5_transferLinks := fun pc => (tk_b (tk_b (tk_b (tk_b (tk_l dJ5_transferLinks_0) (tk_b (tk_l dJ5_transferLinks_1) (tk_l dJ5_transferLinks_2))) (tk_b (tk_b (tk_l dJ5_transferLinks_5) (tk_l dJ5_transferLinks_6)) (tk_b (tk_l dJ5_transferLinks_9) (tk_l dJ5_transferLinks_10)))) (tk_b (tk_b (tk_b (tk_l dJ5_transferLinks_11) (tk_l dJ5_transferLinks_12)) (tk_b (tk_l dJ5_transferLinks_15) (tk_l dJ5_transferLinks_16))) (tk_b (tk_b (tk_l dJ5_transferLinks_19) (tk_l dJ5_transferLinks_21)) (tk_b (tk_l dJ5_transferLinks_22) (tk_l dJ5_transferLinks_25))))) (tk_b (tk_b (tk_b (tk_b (tk_l dJ5_transferLinks_26) (tk_l dJ5_transferLinks_27)) (tk_b (tk_l dJ5_transferLinks_30) (tk_l dJ5_transferLinks_33))) (tk_b (tk_b (tk_l dJ5_transferLinks_34) (tk_l dJ5_transferLinks_35)) (tk_b (tk_l dJ5_transferLinks_38) (tk_l dJ5_transferLinks_40)))) (tk_b (tk_b (tk_b (tk_l dJ5_transferLinks_43) (tk_l dJ5_transferLinks_44)) (tk_b (tk_l dJ5_transferLinks_45) (tk_l dJ5_transferLinks_48))) (tk_b (tk_b (tk_l dJ5_transferLinks_51) (tk_l dJ5_transferLinks_53)) (tk_b (tk_l dJ5_transferLinks_54) (tk_l dJ5_transferLinks_57))))))
def tbJ5_newNode (pc : Nat) : Option (Instr × Nat) := (cond (Nat.ble pc 7) (cond (Nat.ble pc 4) (cond (Nat.ble pc 0) (cond (Nat.beq pc 0) (some (.new 15, 3)) none) (cond (Nat.ble pc 3) (cond (Nat.beq pc 3) (some (.dup, 1)) none) (cond (Nat.beq pc 4) (some (.iload_n 1, 1)) none))) (cond (Nat.ble pc 5) (cond (Nat.beq pc 5) (some (.aload_n 2, 1)) none) (cond (Nat.ble pc 6) (cond (Nat.beq pc 6) (some (.aload_n 3, 1)) none) (cond (Nat.beq pc 7) (some (.aload 4, 2)) none)))) (cond (Nat.ble pc 14) (cond (Nat.ble pc 9) (cond (Nat.beq pc 9) (some (.invokespecial 28, 3)) none) (cond (Nat.ble pc 12) (cond (Nat.beq pc 12) (some (.astore 5, 2)) none) (cond (Nat.beq pc 14) (some (.aload_n 0, 1)) none))) (cond (Nat.ble pc 17) (cond (Nat.ble pc 15) (cond (Nat.beq pc 15) (some (.aload 5, 2)) none) (cond (Nat.beq pc 17) (some (.invokevirtual 32, 3)) none)) (cond (Nat.ble pc 20) (cond (Nat.beq pc 20) (some (.aload 5, 2)) none) (cond (Nat.beq pc 22) (some (.areturn, 1)) none)))))
theorem tkJ5_newNode : tkAll cJ5_newNode tbJ5_newNode := fun pc => (tk_b (tk_b (tk_b (tk_l dJ5_newNode_0) (tk_b (tk_l dJ5_newNode_3) (tk_l dJ5_newNode_4))) (tk_b (tk_l dJ5_newNode_5) (tk_b (tk_l dJ5_newNode_6) (tk_l dJ5_newNode_7)))) (tk_b (tk_b (tk_l dJ5_newNode_9) (tk_b (tk_l dJ5_newNode_12) (tk_l dJ5_newNode_14))) (tk_b (tk_b (tk_l dJ5_newNode_15) (tk_l dJ5_newNode_17)) (tk_b (tk_l dJ5_newNode_20) (tk_l dJ5_newNode_22)))))
def tbJ5_linkNodeAtEnd (pc : Nat) : Option (Instr × Nat) := (cond (Nat.ble pc 36) (cond (Nat.ble pc 15) (cond (Nat.ble pc 8) (cond (Nat.ble pc 1) (cond (Nat.ble pc 0) (cond (Nat.beq pc 0) (some (.aload_n 0, 1)) none) (cond (Nat.beq pc 1) (some (.getfield 1, 3)) none)) (cond (Nat.ble pc 4) (cond (Nat.beq pc 4) (some (.iconst 1, 1)) none) (cond (Nat.ble pc 5) (cond (Nat.beq pc 5) (some (.if_icmp .ne 38, 3)) none) (cond (Nat.beq pc 8) (some (.aload_n 0, 1)) none)))) (cond (Nat.ble pc 12) (cond (Nat.ble pc 9) (cond (Nat.beq pc 9) (some (.getfield 7, 3)) none) (cond (Nat.beq pc 12) (some (.astore_n 2, 1)) none)) (cond (Nat.ble pc 13) (cond (Nat.beq pc 13) (some (.aload_n 0, 1)) none) (cond (Nat.ble pc 14) (cond (Nat.beq pc 14) (some (.aload_n 1, 1)) none) (cond (Nat.beq pc 15) (some (.putfield 7, 3)) none))))) (cond (Nat.ble pc 24) (cond (Nat.ble pc 19) (cond (Nat.ble pc 18) (cond (Nat.beq pc 18) (some (.aload_n 2, 1)) none) (cond (Nat.beq pc 19) (some (.ifnonnull 11, 3)) none)) (cond (Nat.ble pc 22) (cond (Nat.beq pc 22) (some (.aload_n 0, 1)) none) (cond (Nat.ble pc 23) (cond (Nat.beq pc 23) (some (.aload_n 1, 1)) none) (cond (Nat.beq pc 24) (some (.putfield 11, 3)) none)))) (cond (Nat.ble pc 31) (cond (Nat.ble pc 27) (cond (Nat.beq pc 27) (some (.goto 13, 3)) none) (cond (Nat.ble pc 30) (cond (Nat.beq pc 30) (some (.aload_n 1, 1)) none) (cond (Nat.beq pc 31) (some (.aload_n 2, 1)) none))) (cond (Nat.ble pc 32) (cond (Nat.beq pc 32) (some (.putfield 14, 3)) none) (cond (Nat.ble pc 35) (cond (Nat.beq pc 35) (some (.aload_n 2, 1)) none) (cond (Nat.beq pc 36) (some (.aload_n 1, 1)) none)))))) (cond (Nat.ble pc 54) (cond (Nat.ble pc 47) (cond (Nat.ble pc 40) (cond (Nat.ble pc 37) (cond (Nat.beq pc 37) (some (.putfield 19, 3)) none) (cond (Nat.beq pc 40) (some (.goto 35, 3)) none)) (cond (Nat.ble pc 43) (cond (Nat.beq pc 43) (some (.aload_n 0, 1)) none) (cond (Nat.ble pc 44) (cond (Nat.beq pc 44) (some (.getfield 11, 3)) none) (cond (Nat.beq pc 47) (some (.astore_n 2, 1)) none)))) (cond (Nat.ble pc 49) (cond (Nat.ble pc 48) (cond (Nat.beq pc 48) (some (.aload_n 0, 1)) none) (cond (Nat.beq pc 49) (some (.aload_n 1, 1)) none)) (cond (Nat.ble pc 50) (cond (Nat.beq pc 50) (some (.putfield 11, 3)) none) (cond (Nat.ble pc 53) (cond (Nat.beq pc 53) (some (.aload_n 2, 1)) none) (cond (Nat.beq pc 54) (some (.ifnonnull 11, 3)) none))))) (cond (Nat.ble pc 65) (cond (Nat.ble pc 58) (cond (Nat.ble pc 57) (cond (Nat.beq pc 57) (some (.aload_n 0, 1)) none) (cond (Nat.beq pc 58) (some (.aload_n 1, 1)) none)) (cond (Nat.ble pc 59) (cond (Nat.beq pc 59) (some (.putfield 7, 3)) none) (cond (Nat.ble pc 62) (cond (Nat.beq pc 62) (some (.goto 13, 3)) none) (cond (Nat.beq pc 65) (some (.aload_n 1, 1)) none)))) (cond (Nat.ble pc 70) (cond (Nat.ble pc 66) (cond (Nat.beq pc 66) (some (.aload_n 2, 1)) none) (cond (Nat.ble pc 67) (cond (Nat.beq pc 67) (some (.putfield 19, 3)) none) (cond (Nat.beq pc 70) (some (.aload_n 2, 1)) none))) (cond (Nat.ble pc 71) (cond (Nat.beq pc 71) (some (.aload_n 1, 1)) none) (cond (Nat.ble pc 72) (cond (Nat.beq pc 72) (some (.putfield 14, 3)) none) (cond (Nat.beq pc 75) (some (.return_, 1)) none)))))))
theorem tkJ5_linkNodeAtEnd : tkAll cJ5_linkNodeAtEnd tbJ5_linkNodeAtEnd := fun pc => (tk_b (tk_b (tk_b (tk_b (tk_b (tk_l dJ5_linkNodeAtEnd_0) (tk_l dJ5_linkNodeAtEnd_1)) (tk_b (tk_l dJ5_linkNodeAtEnd_4) (tk_b (tk_l dJ5_linkNodeAtEnd_5) (tk_l dJ5_linkNodeAtEnd_8)))) (tk_b (tk_b (tk_l dJ5_linkNodeAtEnd_9) (tk_l dJ5_linkNodeAtEnd_12)) (tk_b (tk_l dJ5_linkNodeAtEnd_13) (tk_b (tk_l dJ5_linkNodeAtEnd_14) (tk_l dJ5_linkNodeAtEnd_15))))) (tk_b (tk_b (tk_b (tk_l dJ5_linkNodeAtEnd_18) (tk_l dJ5_linkNodeAtEnd_19)) (tk_b (tk_l dJ5_linkNodeAtEnd_22) (tk_b (tk_l dJ5_linkNodeAtEnd_23) (tk_l dJ5_linkNodeAtEnd_24)))) (tk_b (tk_b (tk_l dJ5_linkNodeAtEnd_27) (tk_b (tk_l dJ5_linkNodeAtEnd_30) (tk_l dJ5_linkNodeAtEnd_31))) (tk_b (tk_l dJ5_linkNodeAtEnd_32) (tk_b (tk_l dJ5_linkNodeAtEnd_35) (tk_l dJ5_linkNodeAtEnd_36)))))) (tk_b (tk_b (tk_b (tk_b (tk_l dJ5_linkNodeAtEnd_37) (tk_l dJ5_linkNodeAtEnd_40)) (tk_b (tk_l dJ5_linkNodeAtEnd_43) (tk_b (tk_l dJ5_linkNodeAtEnd_44) (tk_l dJ5_linkNodeAtEnd_47)))) (tk_b (tk_b (tk_l dJ5_linkNodeAtEnd_48) (tk_l dJ5_linkNodeAtEnd_49)) (tk_b (tk_l dJ5_linkNodeAtEnd_50) (tk_b (tk_l dJ5_linkNodeAtEnd_53) (tk_l dJ5_linkNodeAtEnd_54))))) (tk_b (tk_b (tk_b (tk_l dJ5_linkNodeAtEnd_57) (tk_l dJ5_linkNodeAtEnd_58)) (tk_b (tk_l dJ5_linkNodeAtEnd_59) (tk_b (tk_l dJ5_linkNodeAtEnd_62) (tk_l dJ5_linkNodeAtEnd_65)))) (tk_b (tk_b (tk_l dJ5_linkNodeAtEnd_66) (tk_b (tk_l dJ5_linkNodeAtEnd_67) (tk_l dJ5_linkNodeAtEnd_70))) (tk_b (tk_l dJ5_linkNodeAtEnd_71) (tk_b (tk_l dJ5_linkNodeAtEnd_72) (tk_l dJ5_linkNodeAtEnd_75)))))))
def tbJ5_newTreeNode (pc : Nat) : Option (Instr × Nat) := (cond (Nat.ble pc 7) (cond (Nat.ble pc 4) (cond (Nat.ble pc 0) (cond (Nat.beq pc 0) (some (.new 50, 3)) none) (cond (Nat.ble pc 3) (cond (Nat.beq pc 3) (some (.dup, 1)) none) (cond (Nat.beq pc 4) (some (.iload_n 1, 1)) none))) (cond (Nat.ble pc 5) (cond (Nat.beq pc 5) (some (.aload_n 2, 1)) none) (cond (Nat.ble pc 6) (cond (Nat.beq pc 6) (some (.aload_n 3, 1)) none) (cond (Nat.beq pc 7) (some (.aload 4, 2)) none)))) (cond (Nat.ble pc 14) (cond (Nat.ble pc 9) (cond (Nat.beq pc 9) (some (.invokespecial 52, 3)) none) (cond (Nat.ble pc 12) (cond (Nat.beq pc 12) (some (.astore 5, 2)) none) (cond (Nat.beq pc 14) (some (.aload_n 0, 1)) none))) (cond (Nat.ble pc 17) (cond (Nat.ble pc 15) (cond (Nat.beq pc 15) (some (.aload 5, 2)) none) (cond (Nat.beq pc 17) (some (.invokevirtual 32, 3)) none)) (cond (Nat.ble pc 20) (cond (Nat.beq pc 20) (some (.aload 5, 2)) none) (cond (Nat.beq pc 22) (some (.areturn, 1)) none)))))
theorem tkJ5_newTreeNode : tkAll cJ5_newTreeNode tbJ5_newTreeNode := fun pc => (tk_b (tk_b (tk_b (tk_l dJ5_newTreeNode_0) (tk_b (tk_l dJ5_newTreeNode_3) (tk_l dJ5_newTreeNode_4))) (tk_b (tk_l dJ5_newTreeNode_5) (tk_b (tk_l dJ5_newTreeNode_6) (tk_l dJ5_newTreeNode_7)))) (tk_b (tk_b (tk_l dJ5_newTreeNode_9) (tk_b (tk_l dJ5_newTreeNode_12) (tk_l dJ5_newTreeNode_14))) (tk_b (tk_b (tk_l dJ5_newTreeNode_15) (tk_l dJ5_newTreeNode_17)) (tk_b (tk_l dJ5_newTreeNode_20) (tk_l dJ5_newTreeNode_22)))))
def tbJ5_replacementTreeNode (pc : Nat) : Option (Instr × Nat) := (cond (Nat.ble pc 17) (cond (Nat.ble pc 8) (cond (Nat.ble pc 1) (cond (Nat.ble pc 0) (cond (Nat.beq pc 0) (some (.aload_n 1, 1)) none) (cond (Nat.beq pc 1) (some (.checkcast 15, 3)) none)) (cond (Nat.ble pc 4) (cond (Nat.beq pc 4) (some (.astore_n 3, 1)) none) (cond (Nat.ble pc 5) (cond (Nat.beq pc 5) (some (.new 50, 3)) none) (cond (Nat.beq pc 8) (some (.dup, 1)) none)))) (cond (Nat.ble pc 10) (cond (Nat.ble pc 9) (cond (Nat.beq pc 9) (some (.aload_n 3, 1)) none) (cond (Nat.beq pc 10) (some (.getfield 36, 3)) none)) (cond (Nat.ble pc 13) (cond (Nat.beq pc 13) (some (.aload_n 3, 1)) none) (cond (Nat.ble pc 14) (cond (Nat.beq pc 14) (some (.getfield 39, 3)) none) (cond (Nat.beq pc 17) (some (.aload_n 3, 1)) none))))) (cond (Nat.ble pc 27) (cond (Nat.ble pc 21) (cond (Nat.ble pc 18) (cond (Nat.beq pc 18) (some (.getfield 43, 3)) none) (cond (Nat.beq pc 21) (some (.aload_n 2, 1)) none)) (cond (Nat.ble pc 22) (cond (Nat.beq pc 22) (some (.invokespecial 52, 3)) none) (cond (Nat.ble pc 25) (cond (Nat.beq pc 25) (some (.astore 4, 2)) none) (cond (Nat.beq pc 27) (some (.aload_n 0, 1)) none)))) (cond (Nat.ble pc 29) (cond (Nat.ble pc 28) (cond (Nat.beq pc 28) (some (.aload_n 3, 1)) none) (cond (Nat.beq pc 29) (some (.aload 4, 2)) none)) (cond (Nat.ble pc 31) (cond (Nat.beq pc 31) (some (.invokevirtual 46, 3)) none) (cond (Nat.ble pc 34) (cond (Nat.beq pc 34) (some (.aload 4, 2)) none) (cond (Nat.beq pc 36) (some (.areturn, 1)) none))))))
theorem tkJ5_replacementTreeNode : tkAll cJ5_replacementTreeNode tbJ5_replacementTreeNode := fun pc => (tk_b (tk_b (tk_b (tk_b (tk_l dJ5_replacementTreeNode_0) (tk_l dJ5_replacementTreeNode_1)) (tk_b (tk_l dJ5_replacementTreeNode_4) (tk_b (tk_l dJ5_replacementTreeNode_5) (tk_l dJ5_replacementTreeNode_8)))) (tk_b (tk_b (tk_l dJ5_replacementTreeNode_9) (tk_l dJ5_replacementTreeNode_10)) (tk_b (tk_l dJ5_replacementTreeNode_13) (tk_b (tk_l dJ5_replacementTreeNode_14) (tk_l dJ5_replacementTreeNode_17))))) (tk_b (tk_b (tk_b (tk_l dJ5_replacementTreeNode_18) (tk_l dJ5_replacementTreeNode_21)) (tk_b (tk_l dJ5_replacementTreeNode_22) (tk_b (tk_l dJ5_replacementTreeNode_25) (tk_l dJ5_replacementTreeNode_27)))) (tk_b (tk_b (tk_l dJ5_replacementTreeNode_28) (tk_l dJ5_replacementTreeNode_29)) (tk_b (tk_l dJ5_replacementTreeNode_31) (tk_b (tk_l dJ5_replacementTreeNode_34) (tk_l dJ5_replacementTreeNode_36))))))
def tbJ5_afterNodeAccess (pc : Nat) : Option (Instr × Nat) := (cond (Nat.ble pc 133) (cond (Nat.ble pc 64) (cond (Nat.ble pc 29) (cond (Nat.ble pc 15) (cond (Nat.ble pc 5) (cond (Nat.ble pc 1) (cond (Nat.ble pc 0) (cond (Nat.beq pc 0) (some (.aload_n 0, 1)) none) (cond (Nat.beq pc 1) (some (.getfield 1, 3)) none)) (cond (Nat.ble pc 4) (cond (Nat.beq pc 4) (some (.iconst 2, 1)) none) (cond (Nat.beq pc 5) (some (.if_icmp .eq 17, 3)) none))) (cond (Nat.ble pc 9) (cond (Nat.ble pc 8) (cond (Nat.beq pc 8) (some (.aload_n 0, 1)) none) (cond (Nat.beq pc 9) (some (.getfield 1, 3)) none)) (cond (Nat.ble pc 12) (cond (Nat.beq pc 12) (some (.ifCond .ne 129, 3)) none) (cond (Nat.beq pc 15) (some (.aload_n 0, 1)) none)))) (cond (Nat.ble pc 23) (cond (Nat.ble pc 19) (cond (Nat.ble pc 16) (cond (Nat.beq pc 16) (some (.getfield 64, 3)) none) (cond (Nat.beq pc 19) (some (.ifCond .eq 122, 3)) none)) (cond (Nat.ble pc 22) (cond (Nat.beq pc 22) (some (.aload_n 0, 1)) none) (cond (Nat.beq pc 23) (some (.getfield 11, 3)) none))) (cond (Nat.ble pc 27) (cond (Nat.ble pc 26) (cond (Nat.beq pc 26) (some (.dup, 1)) none) (cond (Nat.beq pc 27) (some (.astore_n 2, 1)) none)) (cond (Nat.ble pc 28) (cond (Nat.beq pc 28) (some (.aload_n 1, 1)) none) (cond (Nat.beq pc 29) (some (.if_acmp .eq 112, 3)) none))))) (cond (Nat.ble pc 47) (cond (Nat.ble pc 38) (cond (Nat.ble pc 33) (cond (Nat.ble pc 32) (cond (Nat.beq pc 32) (some (.aload_n 1, 1)) none) (cond (Nat.beq pc 33) (some (.checkcast 15, 3)) none)) (cond (Nat.ble pc 36) (cond (Nat.beq pc 36) (some (.astore 4, 2)) none) (cond (Nat.beq pc 38) (some (.aload 4, 2)) none))) (cond (Nat.ble pc 43) (cond (Nat.ble pc 40) (cond (Nat.beq pc 40) (some (.getfield 19, 3)) none) (cond (Nat.beq pc 43) (some (.astore 5, 2)) none)) (cond (Nat.ble pc 45) (cond (Nat.beq pc 45) (some (.aload 4, 2)) none) (cond (Nat.beq pc 47) (some (.getfield 14, 3)) none)))) (cond (Nat.ble pc 55) (cond (Nat.ble pc 52) (cond (Nat.ble pc 50) (cond (Nat.beq pc 50) (some (.astore 6, 2)) none) (cond (Nat.beq pc 52) (some (.aload 4, 2)) none)) (cond (Nat.ble pc 54) (cond (Nat.beq pc 54) (some (.aconst_null, 1)) none) (cond (Nat.beq pc 55) (some (.putfield 14, 3)) none))) (cond (Nat.ble pc 60) (cond (Nat.ble pc 58) (cond (Nat.beq pc 58) (some (.aload 5, 2)) none) (cond (Nat.beq pc 60) (some (.ifnonnull 12, 3)) none)) (cond (Nat.ble pc 63) (cond (Nat.beq pc 63) (some (.aload_n 0, 1)) none) (cond (Nat.beq pc 64) (some (.aload 6, 2)) none)))))) (cond (Nat.ble pc 101) (cond (Nat.ble pc 84) (cond (Nat.ble pc 74) (cond (Nat.ble pc 69) (cond (Nat.ble pc 66) (cond (Nat.beq pc 66) (some (.putfield 7, 3)) none) (cond (Nat.beq pc 69) (some (.goto 10, 3)) none)) (cond (Nat.ble pc 72) (cond (Nat.beq pc 72) (some (.aload 5, 2)) none) (cond (Nat.beq pc 74) (some (.aload 6, 2)) none))) (cond (Nat.ble pc 79) (cond (Nat.ble pc 76) (cond (Nat.beq pc 76) (some (.putfield 14, 3)) none) (cond (Nat.beq pc 79) (some (.aload 6, 2)) none)) (cond (Nat.ble pc 81) (cond (Nat.beq pc 81) (some (.ifnull 13, 3)) none) (cond (Nat.beq pc 84) (some (.aload 6, 2)) none)))) (cond (Nat.ble pc 94) (cond (Nat.ble pc 88) (cond (Nat.ble pc 86) (cond (Nat.beq pc 86) (some (.aload 5, 2)) none) (cond (Nat.beq pc 88) (some (.putfield 19, 3)) none)) (cond (Nat.ble pc 91) (cond (Nat.beq pc 91) (some (.goto 6, 3)) none) (cond (Nat.beq pc 94) (some (.aload 5, 2)) none))) (cond (Nat.ble pc 97) (cond (Nat.ble pc 96) (cond (Nat.beq pc 96) (some (.astore_n 2, 1)) none) (cond (Nat.beq pc 97) (some (.aload_n 2, 1)) none)) (cond (Nat.ble pc 98) (cond (Nat.beq pc 98) (some (.ifnonnull 12, 3)) none) (cond (Nat.beq pc 101) (some (.aload_n 0, 1)) none))))) (cond (Nat.ble pc 117) (cond (Nat.ble pc 110) (cond (Nat.ble pc 104) (cond (Nat.ble pc 102) (cond (Nat.beq pc 102) (some (.aload 4, 2)) none) (cond (Nat.beq pc 104) (some (.putfield 7, 3)) none)) (cond (Nat.ble pc 107) (cond (Nat.beq pc 107) (some (.goto 15, 3)) none) (cond (Nat.beq pc 110) (some (.aload 4, 2)) none))) (cond (Nat.ble pc 113) (cond (Nat.ble pc 112) (cond (Nat.beq pc 112) (some (.aload_n 2, 1)) none) (cond (Nat.beq pc 113) (some (.putfield 19, 3)) none)) (cond (Nat.ble pc 116) (cond (Nat.beq pc 116) (some (.aload_n 2, 1)) none) (cond (Nat.beq pc 117) (some (.aload 4, 2)) none)))) (cond (Nat.ble pc 125) (cond (Nat.ble pc 122) (cond (Nat.ble pc 119) (cond (Nat.beq pc 119) (some (.putfield 14, 3)) none) (cond (Nat.beq pc 122) (some (.aload_n 0, 1)) none)) (cond (Nat.ble pc 123) (cond (Nat.beq pc 123) (some (.aload 4, 2)) none) (cond (Nat.beq pc 125) (some (.putfield 11, 3)) none))) (cond (Nat.ble pc 129) (cond (Nat.ble pc 128) (cond (Nat.beq pc 128) (some (.aload_n 0, 1)) none) (cond (Nat.beq pc 129) (some (.dup, 1)) none)) (cond (Nat.ble pc 130) (cond (Nat.beq pc 130) (some (.getfield 68, 3)) none) (cond (Nat.beq pc 133) (some (.iconst 1, 1)) none))))))) (cond (Nat.ble pc 199) (cond (Nat.ble pc 163) (cond (Nat.ble pc 149) (cond (Nat.ble pc 141) (cond (Nat.ble pc 135) (cond (Nat.ble pc 134) (cond (Nat.beq pc 134) (some (.iadd, 1)) none) (cond (Nat.beq pc 135) (some (.putfield 68, 3)) none)) (cond (Nat.ble pc 138) (cond (Nat.beq pc 138) (some (.goto 127, 3)) none) (cond (Nat.beq pc 141) (some (.aload_n 0, 1)) none))) (cond (Nat.ble pc 145) (cond (Nat.ble pc 142) (cond (Nat.beq pc 142) (some (.getfield 1, 3)) none) (cond (Nat.beq pc 145) (some (.iconst 1, 1)) none)) (cond (Nat.ble pc 146) (cond (Nat.beq pc 146) (some (.if_icmp .ne 119, 3)) none) (cond (Nat.beq pc 149) (some (.aload_n 0, 1)) none)))) (cond (Nat.ble pc 155) (cond (Nat.ble pc 153) (cond (Nat.ble pc 150) (cond (Nat.beq pc 150) (some (.getfield 7, 3)) none) (cond (Nat.beq pc 153) (some (.dup, 1)) none)) (cond (Nat.ble pc 154) (cond (Nat.beq pc 154) (some (.astore_n 3, 1)) none) (cond (Nat.beq pc 155) (some (.aload_n 1, 1)) none))) (cond (Nat.ble pc 159) (cond (Nat.ble pc 156) (cond (Nat.beq pc 156) (some (.if_acmp .eq 109, 3)) none) (cond (Nat.beq pc 159) (some (.aload_n 1, 1)) none)) (cond (Nat.ble pc 160) (cond (Nat.beq pc 160) (some (.checkcast 15, 3)) none) (cond (Nat.beq pc 163) (some (.astore 4, 2)) none))))) (cond (Nat.ble pc 181) (cond (Nat.ble pc 172) (cond (Nat.ble pc 167) (cond (Nat.ble pc 165) (cond (Nat.beq pc 165) (some (.aload 4, 2)) none) (cond (Nat.beq pc 167) (some (.getfield 19, 3)) none)) (cond (Nat.ble pc 170) (cond (Nat.beq pc 170) (some (.astore 5, 2)) none) (cond (Nat.beq pc 172) (some (.aload 4, 2)) none))) (cond (Nat.ble pc 177) (cond (Nat.ble pc 174) (cond (Nat.beq pc 174) (some (.getfield 14, 3)) none) (cond (Nat.beq pc 177) (some (.astore 6, 2)) none)) (cond (Nat.ble pc 179) (cond (Nat.beq pc 179) (some (.aload 4, 2)) none) (cond (Nat.beq pc 181) (some (.aconst_null, 1)) none)))) (cond (Nat.ble pc 190) (cond (Nat.ble pc 185) (cond (Nat.ble pc 182) (cond (Nat.beq pc 182) (some (.putfield 19, 3)) none) (cond (Nat.beq pc 185) (some (.aload 6, 2)) none)) (cond (Nat.ble pc 187) (cond (Nat.beq pc 187) (some (.ifnonnull 12, 3)) none) (cond (Nat.beq pc 190) (some (.aload_n 0, 1)) none))) (cond (Nat.ble pc 193) (cond (Nat.ble pc 191) (cond (Nat.beq pc 191) (some (.aload 5, 2)) none) (cond (Nat.beq pc 193) (some (.putfield 11, 3)) none)) (cond (Nat.ble pc 196) (cond (Nat.beq pc 196) (some (.goto 10, 3)) none) (cond (Nat.beq pc 199) (some (.aload 6, 2)) none)))))) (cond (Nat.ble pc 234) (cond (Nat.ble pc 218) (cond (Nat.ble pc 208) (cond (Nat.ble pc 203) (cond (Nat.ble pc 201) (cond (Nat.beq pc 201) (some (.aload 5, 2)) none) (cond (Nat.beq pc 203) (some (.putfield 19, 3)) none)) (cond (Nat.ble pc 206) (cond (Nat.beq pc 206) (some (.aload 5, 2)) none) (cond (Nat.beq pc 208) (some (.ifnull 13, 3)) none))) (cond (Nat.ble pc 213) (cond (Nat.ble pc 211) (cond (Nat.beq pc 211) (some (.aload 5, 2)) none) (cond (Nat.beq pc 213) (some (.aload 6, 2)) none)) (cond (Nat.ble pc 215) (cond (Nat.beq pc 215) (some (.putfield 14, 3)) none) (cond (Nat.beq pc 218) (some (.goto 6, 3)) none)))) (cond (Nat.ble pc 225) (cond (Nat.ble pc 223) (cond (Nat.ble pc 221) (cond (Nat.beq pc 221) (some (.aload 6, 2)) none) (cond (Nat.beq pc 223) (some (.astore_n 3, 1)) none)) (cond (Nat.ble pc 224) (cond (Nat.beq pc 224) (some (.aload_n 3, 1)) none) (cond (Nat.beq pc 225) (some (.ifnonnull 12, 3)) none))) (cond (Nat.ble pc 229) (cond (Nat.ble pc 228) (cond (Nat.beq pc 228) (some (.aload_n 0, 1)) none) (cond (Nat.beq pc 229) (some (.aload 4, 2)) none)) (cond (Nat.ble pc 231) (cond (Nat.beq pc 231) (some (.putfield 11, 3)) none) (cond (Nat.beq pc 234) (some (.goto 15, 3)) none))))) (cond (Nat.ble pc 250) (cond (Nat.ble pc 243) (cond (Nat.ble pc 239) (cond (Nat.ble pc 237) (cond (Nat.beq pc 237) (some (.aload 4, 2)) none) (cond (Nat.beq pc 239) (some (.aload_n 3, 1)) none)) (cond (Nat.ble pc 240) (cond (Nat.beq pc 240) (some (.putfield 14, 3)) none) (cond (Nat.beq pc 243) (some (.aload_n 3, 1)) none))) (cond (Nat.ble pc 246) (cond (Nat.ble pc 244) (cond (Nat.beq pc 244) (some (.aload 4, 2)) none) (cond (Nat.beq pc 246) (some (.putfield 19, 3)) none)) (cond (Nat.ble pc 249) (cond (Nat.beq pc 249) (some (.aload_n 0, 1)) none) (cond (Nat.beq pc 250) (some (.aload 4, 2)) none)))) (cond (Nat.ble pc 257) (cond (Nat.ble pc 255) (cond (Nat.ble pc 252) (cond (Nat.beq pc 252) (some (.putfield 7, 3)) none) (cond (Nat.beq pc 255) (some (.aload_n 0, 1)) none)) (cond (Nat.ble pc 256) (cond (Nat.beq pc 256) (some (.dup, 1)) none) (cond (Nat.beq pc 257) (some (.getfield 68, 3)) none))) (cond (Nat.ble pc 261) (cond (Nat.ble pc 260) (cond (Nat.beq pc 260) (some (.iconst 1, 1)) none) (cond (Nat.beq pc 261) (some (.iadd, 1)) none)) (cond (Nat.ble pc 262) (cond (Nat.beq pc 262) (some (.putfield 68, 3)) none) (cond (Nat.beq pc 265) (some (.return_, 1)) none))))))))
theorem tkJ5_afterNodeAccess : tkAll cJ5_afterNodeAccess tbJ5_afterNodeAccess := fun pc => (tk_b (tk_b (tk_b (tk_b (tk_b (tk_b (tk_b (tk_l dJ5_afterNodeAccess_0) (tk_l dJ5_afterNodeAccess_1)) (tk_b (tk_l dJ5_afterNodeAccess_4) (tk_l dJ5_afterNodeAccess_5))) (tk_b (tk_b (tk_l dJ5_afterNodeAccess_8) (tk_l dJ5_afterNodeAccess_9)) (tk_b (tk_l dJ5_afterNodeAccess_12) (tk_l dJ5_afterNodeAccess_15)))) (tk_b (tk_b (tk_b (tk_l dJ5_afterNodeAccess_16) (tk_l dJ5_afterNodeAccess_19)) (tk_b (tk_l dJ5_afterNodeAccess_22) (tk_l dJ5_afterNodeAccess_23))) (tk_b (tk_b (tk_l dJ5_afterNodeAccess_26) (tk_l dJ5_afterNodeAccess_27)) (tk_b (tk_l dJ5_afterNodeAccess_28) (tk_l dJ5_afterNodeAccess_29))))) (tk_b (tk_b (tk_b (tk_b (tk_l dJ5_afterNodeAccess_32) (tk_l dJ5_afterNodeAccess_33)) (tk_b (tk_l dJ5_afterNodeAccess_36) (tk_l dJ5_afterNodeAccess_38))) (tk_b (tk_b (tk_l dJ5_afterNodeAccess_40) (tk_l dJ5_afterNodeAccess_43)) (tk_b (tk_l dJ5_afterNodeAccess_45) (tk_l dJ5_afterNodeAccess_47)))) (tk_b (tk_b (tk_b (tk_l dJ5_afterNodeAccess_50) (tk_l dJ5_afterNodeAccess_52)) (tk_b (tk_l dJ5_afterNodeAccess_54) (tk_l dJ5_afterNodeAccess_55))) (tk_b (tk_b (tk_l dJ5_afterNodeAccess_58) (tk_l dJ5_afterNodeAccess_60)) (tk_b (tk_l dJ5_afterNodeAccess_63) (tk_l dJ5_afterNodeAccess_64)))))) (tk_b (tk_b (tk_b (tk_b (tk_b (tk_l dJ5_afterNodeAccess_66) (tk_l dJ5_afterNodeAccess_69)) (tk_b (tk_l dJ5_afterNodeAccess_72) (tk_l dJ5_afterNodeAccess_74))) (tk_b (tk_b (tk_l dJ5_afterNodeAccess_76) (tk_l dJ5_afterNodeAccess_79)) (tk_b (tk_l dJ5_afterNodeAccess_81) (tk_l dJ5_afterNodeAccess_84)))) (tk_b (tk_b (tk_b (tk_l dJ5_afterNodeAccess_86) (tk_l dJ5_afterNodeAccess_88)) (tk_b (tk_l dJ5_afterNodeAccess_91) (tk_l dJ5_afterNodeAccess_94))) (tk_b (tk_b (tk_l dJ5_afterNodeAccess_96) (tk_l dJ5_afterNodeAccess_97)) (tk_b (tk_l dJ5_afterNodeAccess_98) (tk_l dJ5_afterNodeAccess_101))))) (tk_b (tk_b (tk_b (tk_b (tk_l dJ5_afterNodeAccess_102) (tk_l dJ5_afterNodeAccess_104)) (tk_b (tk_l dJ5_afterNodeAccess_107) (tk_l dJ5_afterNodeAccess_110))) (tk_b (tk_b (tk_l dJ5_afterNodeAccess_112) (tk_l dJ5_afterNodeAccess_113)) (tk_b (tk_l dJ5_afterNodeAccess_116) (tk_l dJ5_afterNodeAccess_117)))) (tk_b (tk_b (tk_b (tk_l dJ5_afterNodeAccess_119) (tk_l dJ5_afterNodeAccess_122)) (tk_b (tk_l dJ5_afterNodeAccess_123) (tk_l dJ5_afterNodeAccess_125))) (tk_b (tk_b (tk_l dJ5_afterNodeAccess_128) (tk_l dJ5_afterNodeAccess_129)) (tk_b (tk_l dJ5_afterNodeAccess_130) (tk_l dJ5_afterNodeAccess_133))))))) (tk_b (tk_b (tk_b (tk_b (tk_b (tk_b (tk_l dJ5_afterNodeAccess_134) (tk_l dJ5_afterNodeAccess_135)) (tk_b (tk_l dJ5_afterNodeAccess_138) (tk_l dJ5_afterNodeAccess_141))) (tk_b (tk_b (tk_l dJ5_afterNodeAccess_142) (tk_l dJ5_afterNodeAccess_145)) (tk_b (tk_l dJ5_afterNodeAccess_146) (tk_l dJ5_afterNodeAccess_149)))) (tk_b (tk_b (tk_b (tk_l dJ5_afterNodeAccess_150) (tk_l dJ5_afterNodeAccess_153)) (tk_b (tk_l dJ5_afterNodeAccess_154) (tk_l dJ5_afterNodeAccess_155))) (tk_b (tk_b (tk_l dJ5_afterNodeAccess_156) (tk_l dJ5_afterNodeAccess_159)) (tk_b (tk_l dJ5_afterNodeAccess_160) (tk_l dJ5_afterNodeAccess_163))))) (tk_b (tk_b (tk_b (tk_b (tk_l dJ5_afterNodeAccess_165) (tk_l dJ5_afterNodeAccess_167)) (tk_b (tk_l dJ5_afterNodeAccess_170) (tk_l dJ5_afterNodeAccess_172))) (tk_b (tk_b (tk_l dJ5_afterNodeAccess_174) (tk_l dJ5_afterNodeAccess_177)) (tk_b (tk_l dJ5_afterNodeAccess_179) (tk_l dJ5_afterNodeAccess_181)))) (tk_b (tk_b (tk_b (tk_l dJ5_afterNodeAccess_182) (tk_l dJ5_afterNodeAccess_185)) (tk_b (tk_l dJ5_afterNodeAccess_187) (tk_l dJ5_afterNodeAccess_190))) (tk_b (tk_b (tk_l dJ5_afterNodeAccess_191) (tk_l dJ5_afterNodeAccess_193)) (tk_b (tk_l dJ5_afterNodeAccess_196) (tk_l dJ5_afterNodeAccess_199)))))) (tk_b (tk_b (tk_b (tk_b (tk_b (tk_l dJ5_afterNodeAccess_201) (tk_l dJ5_afterNodeAccess_203)) (tk_b (tk_l dJ5_afterNodeAccess_206) (tk_l dJ5_afterNodeAccess_208))) (tk_b (tk_b (tk_l dJ5_afterNodeAccess_211) (tk_l dJ5_afterNodeAccess_213)) (tk_b (tk_l dJ5_afterNodeAccess_215) (tk_l dJ5_afterNodeAccess_218)))) (tk_b (tk_b (tk_b (tk_l dJ5_afterNodeAccess_221) (tk_l dJ5_afterNodeAccess_223)) (tk_b (tk_l dJ5_afterNodeAccess_224) (tk_l dJ5_afterNodeAccess_225))) (tk_b (tk_b (tk_l dJ5_afterNodeAccess_228) (tk_l dJ5_afterNodeAccess_229)) (tk_b (tk_l dJ5_afterNodeAccess_231) (tk_l dJ5_afterNodeAccess_234))))) (tk_b (tk_b (tk_b (tk_b (tk_l dJ5_afterNodeAccess_237) (tk_l dJ5_afterNodeAccess_239)) (tk_b (tk_l dJ5_afterNodeAccess_240) (tk_l dJ5_afterNodeAccess_243))) (tk_b (tk_b (tk_l dJ5_afterNodeAccess_244) (tk_l dJ5_afterNodeAccess_246)) (tk_b (tk_l dJ5_afterNodeAccess_249) (tk_l dJ5_afterNodeAccess_250)))) (tk_b (tk_b (tk_b (tk_l dJ5_afterNodeAccess_252) (tk_l dJ5_afterNodeAccess_255)) (tk_b (tk_l dJ5_afterNodeAccess_256) (tk_l dJ5_afterNodeAccess_257))) (tk_b (tk_b (tk_l dJ5_afterNodeAccess_260) (tk_l dJ5_afterNodeAccess_261)) (tk_b (tk_l dJ5_afterNodeAccess_262) (tk_l dJ5_afterNodeAccess_265))))))))
def tbJ5_afterNodeInsertion (pc : Nat) : Option (Instr × Nat) := (cond (Nat.ble pc 21) (cond (Nat.ble pc 9) (cond (Nat.ble pc 4) (cond (Nat.ble pc 0) (cond (Nat.beq pc 0) (some (.iload_n 1, 1)) none) (cond (Nat.ble pc 1) (cond (Nat.beq pc 1) (some (.ifCond .eq 38, 3)) none) (cond (Nat.beq pc 4) (some (.aload_n 0, 1)) none))) (cond (Nat.ble pc 5) (cond (Nat.beq pc 5) (some (.getfield 7, 3)) none) (cond (Nat.ble pc 8) (cond (Nat.beq pc 8) (some (.dup, 1)) none) (cond (Nat.beq pc 9) (some (.astore_n 2, 1)) none)))) (cond (Nat.ble pc 14) (cond (Nat.ble pc 10) (cond (Nat.beq pc 10) (some (.ifnull 29, 3)) none) (cond (Nat.ble pc 13) (cond (Nat.beq pc 13) (some (.aload_n 0, 1)) none) (cond (Nat.beq pc 14) (some (.aload_n 2, 1)) none))) (cond (Nat.ble pc 15) (cond (Nat.beq pc 15) (some (.invokevirtual 53, 3)) none) (cond (Nat.ble pc 18) (cond (Nat.beq pc 18) (some (.ifCond .eq 21, 3)) none) (cond (Nat.beq pc 21) (some (.aload_n 2, 1)) none))))) (cond (Nat.ble pc 31) (cond (Nat.ble pc 26) (cond (Nat.ble pc 22) (cond (Nat.beq pc 22) (some (.getfield 39, 3)) none) (cond (Nat.ble pc 25) (cond (Nat.beq pc 25) (some (.astore_n 3, 1)) none) (cond (Nat.beq pc 26) (some (.aload_n 0, 1)) none))) (cond (Nat.ble pc 27) (cond (Nat.beq pc 27) (some (.aload_n 3, 1)) none) (cond (Nat.ble pc 28) (cond (Nat.beq pc 28) (some (.invokestatic 57, 3)) none) (cond (Nat.beq pc 31) (some (.aload_n 3, 1)) none)))) (cond (Nat.ble pc 34) (cond (Nat.ble pc 32) (cond (Nat.beq pc 32) (some (.aconst_null, 1)) none) (cond (Nat.ble pc 33) (cond (Nat.beq pc 33) (some (.iconst 0, 1)) none) (cond (Nat.beq pc 34) (some (.iconst 1, 1)) none))) (cond (Nat.ble pc 35) (cond (Nat.beq pc 35) (some (.invokevirtual 60, 3)) none) (cond (Nat.ble pc 38) (cond (Nat.beq pc 38) (some (.pop, 1)) none) (cond (Nat.beq pc 39) (some (.return_, 1)) none))))))
theorem tkJ5_afterNodeInsertion : tkAll cJ5_afterNodeInsertion tbJ5_afterNodeInsertion := fun pc => (tk_b (tk_b (tk_b (tk_b (tk_l dJ5_afterNodeInsertion_0) (tk_b (tk_l dJ5_afterNodeInsertion_1) (tk_l dJ5_afterNodeInsertion_4))) (tk_b (tk_l dJ5_afterNodeInsertion_5) (tk_b (tk_l dJ5_afterNodeInsertion_8) (tk_l dJ5_afterNodeInsertion_9)))) (tk_b (tk_b (tk_l dJ5_afterNodeInsertion_10) (tk_b (tk_l dJ5_afterNodeInsertion_13) (tk_l dJ5_afterNodeInsertion_14))) (tk_b (tk_l dJ5_afterNodeInsertion_15) (tk_b (tk_l dJ5_afterNodeInsertion_18) (tk_l dJ5_afterNodeInsertion_21))))) (tk_b (tk_b (tk_b (tk_l dJ5_afterNodeInsertion_22) (tk_b (tk_l dJ5_afterNodeInsertion_25) (tk_l dJ5_afterNodeInsertion_26))) (tk_b (tk_l dJ5_afterNodeInsertion_27) (tk_b (tk_l dJ5_afterNodeInsertion_28) (tk_l dJ5_afterNodeInsertion_31)))) (tk_b (tk_b (tk_l dJ5_afterNodeInsertion_32) (tk_b (tk_l dJ5_afterNodeInsertion_33) (tk_l dJ5_afterNodeInsertion_34))) (tk_b (tk_l dJ5_afterNodeInsertion_35) (tk_b (tk_l dJ5_afterNodeInsertion_38) (tk_l dJ5_afterNodeInsertion_39))))))
def tbJ5_removeEldestEntry (pc : Nat) : Option (Instr × Nat) := (cond (Nat.ble pc 0) (cond (Nat.beq pc 0) (some (.iconst 0, 1)) none) (cond (Nat.beq pc 1) (some (.ireturn, 1)) none))
theorem tkJ5_removeEldestEntry : tkAll cJ5_removeEldestEntry tbJ5_removeEldestEntry := fun pc => (tk_b (tk_l dJ5_removeEldestEntry_0) (tk_l dJ5_removeEldestEntry_1))
def tbJ5_get (pc : Nat) : Option (Instr × Nat) := (cond (Nat.ble pc 11) (cond (Nat.ble pc 5) (cond (Nat.ble pc 1) (cond (Nat.ble pc 0) (cond (Nat.beq pc 0) (some (.aload_n 0, 1)) none) (cond (Nat.beq pc 1) (some (.aload_n 1, 1)) none)) (cond (Nat.ble pc 2) (cond (Nat.beq pc 2) (some (.invokevirtual 99, 3)) none) (cond (Nat.beq pc 5) (some (.dup, 1)) none))) (cond (Nat.ble pc 7) (cond (Nat.ble pc 6) (cond (Nat.beq pc 6) (some (.astore_n 2, 1)) none) (cond (Nat.beq pc 7) (some (.ifnonnull 5, 3)) none)) (cond (Nat.ble pc 10) (cond (Nat.beq pc 10) (some (.aconst_null, 1)) none) (cond (Nat.beq pc 11) (some (.areturn, 1)) none)))) (cond (Nat.ble pc 19) (cond (Nat.ble pc 13) (cond (Nat.ble pc 12) (cond (Nat.beq pc 12) (some (.aload_n 0, 1)) none) (cond (Nat.beq pc 13) (some (.getfield 64, 3)) none)) (cond (Nat.ble pc 16) (cond (Nat.beq pc 16) (some (.ifCond .eq 8, 3)) none) (cond (Nat.beq pc 19) (some (.aload_n 0, 1)) none))) (cond (Nat.ble pc 21) (cond (Nat.ble pc 20) (cond (Nat.beq pc 20) (some (.aload_n 2, 1)) none) (cond (Nat.beq pc 21) (some (.invokevirtual 103, 3)) none)) (cond (Nat.ble pc 24) (cond (Nat.beq pc 24) (some (.aload_n 2, 1)) none) (cond (Nat.ble pc 25) (cond (Nat.beq pc 25) (some (.getfield 107, 3)) none) (cond (Nat.beq pc 28) (some (.areturn, 1)) none))))))
theorem tkJ5_get : tkAll cJ5_get tbJ5_get := fun pc => (tk_b (tk_b (tk_b (tk_b (tk_l dJ5_get_0) (tk_l dJ5_get_1)) (tk_b (tk_l dJ5_get_2) (tk_l dJ5_get_5))) (tk_b (tk_b (tk_l dJ5_get_6) (tk_l dJ5_get_7)) (tk_b (tk_l dJ5_get_10) (tk_l dJ5_get_11)))) (tk_b (tk_b (tk_b (tk_l dJ5_get_12) (tk_l dJ5_get_13)) (tk_b (tk_l dJ5_get_16) (tk_l dJ5_get_19))) (tk_b (tk_b (tk_l dJ5_get_20) (tk_l dJ5_get_21)) (tk_b (tk_l dJ5_get_24) (tk_b (tk_l dJ5_get_25) (tk_l dJ5_get_28))))))
def tbJ6_init (pc : Nat) : Option (Instr × Nat) := (cond (Nat.ble pc 0) (cond (Nat.beq pc 0) (some (.aload_n 0, 1)) none) (cond (Nat.ble pc 1) (cond (Nat.beq pc 1) (some (.invokespecial 1, 3)) none) (cond (Nat.beq pc 4) (some (.return_, 1)) none)))
theorem tkJ6_init : tkAll cJ6_init tbJ6_init := fun pc => (tk_b (tk_l dJ6_init_0) (tk_b (tk_l dJ6_init_1) (tk_l dJ6_init_4)))
def tbJ6_iterator (pc : Nat) : Option (Instr × Nat) := (cond (Nat.ble pc 0) (cond (Nat.beq pc 0) (some (.aload_n 0, 1)) none) (cond (Nat.ble pc 1) (cond (Nat.beq pc 1) (some (.invokevirtual 65, 3)) none) (cond (Nat.beq pc 4) (some (.areturn, 1)) none)))
theorem tkJ6_iterator : tkAll cJ6_iterator tbJ6_iterator := fun pc => (tk_b (tk_l dJ6_iterator_0) (tk_b (tk_l dJ6_iterator_1) (tk_l dJ6_iterator_4)))
def tbJ7_init (pc : Nat) : Option (Instr × Nat) := (cond (Nat.ble pc 4) (cond (Nat.ble pc 0) (cond (Nat.beq pc 0) (some (.aload_n 0, 1)) none) (cond (Nat.ble pc 1) (cond (Nat.beq pc 1) (some (.invokespecial 1, 3)) none) (cond (Nat.beq pc 4) (some (.aload_n 0, 1)) none))) (cond (Nat.ble pc 5) (cond (Nat.beq pc 5) (some (.iconst 0, 1)) none) (cond (Nat.ble pc 6) (cond (Nat.beq pc 6) (some (.putfield 7, 3)) none) (cond (Nat.beq pc 9) (some (.return_, 1)) none))))
theorem tkJ7_init : tkAll cJ7_init tbJ7_init := fun pc => (tk_b (tk_b (tk_l dJ7_init_0) (tk_b (tk_l dJ7_init_1) (tk_l dJ7_init_4))) (tk_b (tk_l dJ7_init_5) (tk_b (tk_l dJ7_init_6) (tk_l dJ7_init_9))))
def tbJ7_size (pc : Nat) : Option (Instr × Nat) := (cond (Nat.ble pc 0) (cond (Nat.beq pc 0) (some (.aload_n 0, 1)) none) (cond (Nat.ble pc 1) (cond (Nat.beq pc 1) (some (.getfield 7, 3)) none) (cond (Nat.beq pc 4) (some (.ireturn, 1)) none)))
theorem tkJ7_size : tkAll cJ7_size tbJ7_size := fun pc => (tk_b (tk_l dJ7_size_0) (tk_b (tk_l dJ7_size_1) (tk_l dJ7_size_4)))
def tbJ7_addLast (pc : Nat) : Option (Instr × Nat) := (cond (Nat.ble pc 1) (cond (Nat.ble pc 0) (cond (Nat.beq pc 0) (some (.aload_n 0, 1)) none) (cond (Nat.beq pc 1) (some (.aload_n 1, 1)) none)) (cond (Nat.ble pc 2) (cond (Nat.beq pc 2) (some (.invokevirtual 57, 3)) none) (cond (Nat.beq pc 5) (some (.return_, 1)) none)))
theorem tkJ7_addLast : tkAll cJ7_addLast tbJ7_addLast := fun pc => (tk_b (tk_b (tk_l dJ7_addLast_0) (tk_l dJ7_addLast_1)) (tk_b (tk_l dJ7_addLast_2) (tk_l dJ7_addLast_5)))
def tbJ7_linkLast (pc : Nat) : Option (Instr × Nat) := (cond (Nat.ble pc 26) (cond (Nat.ble pc 11) (cond (Nat.ble pc 5) (cond (Nat.ble pc 1) (cond (Nat.ble pc 0) (cond (Nat.beq pc 0) (some (.aload_n 0, 1)) none) (cond (Nat.beq pc 1) (some (.getfield 27, 3)) none)) (cond (Nat.ble pc 4) (cond (Nat.beq pc 4) (some (.astore_n 2, 1)) none) (cond (Nat.beq pc 5) (some (.new 22, 3)) none))) (cond (Nat.ble pc 9) (cond (Nat.ble pc 8) (cond (Nat.beq pc 8) (some (.dup, 1)) none) (cond (Nat.beq pc 9) (some (.aload_n 2, 1)) none)) (cond (Nat.ble pc 10) (cond (Nat.beq pc 10) (some (.aload_n 1, 1)) none) (cond (Nat.beq pc 11) (some (.aconst_null, 1)) none)))) (cond (Nat.ble pc 17) (cond (Nat.ble pc 15) (cond (Nat.ble pc 12) (cond (Nat.beq pc 12) (some (.invokespecial 24, 3)) none) (cond (Nat.beq pc 15) (some (.astore_n 3, 1)) none)) (cond (Nat.ble pc 16) (cond (Nat.beq pc 16) (some (.aload_n 0, 1)) none) (cond (Nat.beq pc 17) (some (.aload_n 3, 1)) none))) (cond (Nat.ble pc 21) (cond (Nat.ble pc 18) (cond (Nat.beq pc 18) (some (.putfield 27, 3)) none) (cond (Nat.beq pc 21) (some (.aload_n 2, 1)) none)) (cond (Nat.ble pc 22) (cond (Nat.beq pc 22) (some (.ifnonnull 11, 3)) none) (cond (Nat.ble pc 25) (cond (Nat.beq pc 25) (some (.aload_n 0, 1)) none) (cond (Nat.beq pc 26) (some (.aload_n 3, 1)) none)))))) (cond (Nat.ble pc 43) (cond (Nat.ble pc 34) (cond (Nat.ble pc 30) (cond (Nat.ble pc 27) (cond (Nat.beq pc 27) (some (.putfield 18, 3)) none) (cond (Nat.beq pc 30) (some (.goto 8, 3)) none)) (cond (Nat.ble pc 33) (cond (Nat.beq pc 33) (some (.aload_n 2, 1)) none) (cond (Nat.beq pc 34) (some (.aload_n 3, 1)) none))) (cond (Nat.ble pc 38) (cond (Nat.ble pc 35) (cond (Nat.beq pc 35) (some (.putfield 36, 3)) none) (cond (Nat.beq pc 38) (some (.aload_n 0, 1)) none)) (cond (Nat.ble pc 39) (cond (Nat.beq pc 39) (some (.dup, 1)) none) (cond (Nat.ble pc 40) (cond (Nat.beq pc 40) (some (.getfield 7, 3)) none) (cond (Nat.beq pc 43) (some (.iconst 1, 1)) none))))) (cond (Nat.ble pc 49) (cond (Nat.ble pc 45) (cond (Nat.ble pc 44) (cond (Nat.beq pc 44) (some (.iadd, 1)) none) (cond (Nat.beq pc 45) (some (.putfield 7, 3)) none)) (cond (Nat.ble pc 48) (cond (Nat.beq pc 48) (some (.aload_n 0, 1)) none) (cond (Nat.beq pc 49) (some (.dup, 1)) none))) (cond (Nat.ble pc 53) (cond (Nat.ble pc 50) (cond (Nat.beq pc 50) (some (.getfield 33, 3)) none) (cond (Nat.beq pc 53) (some (.iconst 1, 1)) none)) (cond (Nat.ble pc 54) (cond (Nat.beq pc 54) (some (.iadd, 1)) none) (cond (Nat.ble pc 55) (cond (Nat.beq pc 55) (some (.putfield 33, 3)) none) (cond (Nat.beq pc 58) (some (.return_, 1)) none)))))))
theorem tkJ7_linkLast : tkAll cJ7_linkLast tbJ7_linkLast := fun pc => (tk_b (tk_b (tk_b (tk_b (tk_b (tk_l dJ7_linkLast_0) (tk_l dJ7_linkLast_1)) (tk_b (tk_l dJ7_linkLast_4) (tk_l dJ7_linkLast_5))) (tk_b (tk_b (tk_l dJ7_linkLast_8) (tk_l dJ7_linkLast_9)) (tk_b (tk_l dJ7_linkLast_10) (tk_l dJ7_linkLast_11)))) (tk_b (tk_b (tk_b (tk_l dJ7_linkLast_12) (tk_l dJ7_linkLast_15)) (tk_b (tk_l dJ7_linkLast_16) (tk_l dJ7_linkLast_17))) (tk_b (tk_b (tk_l dJ7_linkLast_18) (tk_l dJ7_linkLast_21)) (tk_b (tk_l dJ7_linkLast_22) (tk_b (tk_l dJ7_linkLast_25) (tk_l dJ7_linkLast_26)))))) (tk_b (tk_b (tk_b (tk_b (tk_l dJ7_linkLast_27) (tk_l dJ7_linkLast_30)) (tk_b (tk_l dJ7_linkLast_33) (tk_l dJ7_linkLast_34))) (tk_b (tk_b (tk_l dJ7_linkLast_35) (tk_l dJ7_linkLast_38)) (tk_b (tk_l dJ7_linkLast_39) (tk_b (tk_l dJ7_linkLast_40) (tk_l dJ7_linkLast_43))))) (tk_b (tk_b (tk_b (tk_l dJ7_linkLast_44) (tk_l dJ7_linkLast_45)) (tk_b (tk_l dJ7_linkLast_48) (tk_l dJ7_linkLast_49))) (tk_b (tk_b (tk_l dJ7_linkLast_50) (tk_l dJ7_linkLast_53)) (tk_b (tk_l dJ7_linkLast_54) (tk_b (tk_l dJ7_linkLast_55) (tk_l dJ7_linkLast_58)))))))
def tbJ7_removeLast (pc : Nat) : Option (Instr × Nat) := (cond (Nat.ble pc 9) (cond (Nat.ble pc 4) (cond (Nat.ble pc 0) (cond (Nat.beq pc 0) (some (.aload_n 0, 1)) none) (cond (Nat.ble pc 1) (cond (Nat.beq pc 1) (some (.getfield 27, 3)) none) (cond (Nat.beq pc 4) (some (.astore_n 1, 1)) none))) (cond (Nat.ble pc 5) (cond (Nat.beq pc 5) (some (.aload_n 1, 1)) none) (cond (Nat.ble pc 6) (cond (Nat.beq pc 6) (some (.ifnonnull 11, 3)) none) (cond (Nat.beq pc 9) (some (.new 43, 3)) none)))) (cond (Nat.ble pc 16) (cond (Nat.ble pc 12) (cond (Nat.beq pc 12) (some (.dup, 1)) none) (cond (Nat.ble pc 13) (cond (Nat.beq pc 13) (some (.invokespecial 45, 3)) none) (cond (Nat.beq pc 16) (some (.athrow, 1)) none))) (cond (Nat.ble pc 18) (cond (Nat.ble pc 17) (cond (Nat.beq pc 17) (some (.aload_n 0, 1)) none) (cond (Nat.beq pc 18) (some (.aload_n 1, 1)) none)) (cond (Nat.ble pc 19) (cond (Nat.beq pc 19) (some (.invokevirtual 50, 3)) none) (cond (Nat.beq pc 22) (some (.areturn, 1)) none)))))
theorem tkJ7_removeLast : tkAll cJ7_removeLast tbJ7_removeLast := fun pc => (tk_b (tk_b (tk_b (tk_l dJ7_removeLast_0) (tk_b (tk_l dJ7_removeLast_1) (tk_l dJ7_removeLast_4))) (tk_b (tk_l dJ7_removeLast_5) (tk_b (tk_l dJ7_removeLast_6) (tk_l dJ7_removeLast_9)))) (tk_b (tk_b (tk_l dJ7_removeLast_12) (tk_b (tk_l dJ7_removeLast_13) (tk_l dJ7_removeLast_16))) (tk_b (tk_b (tk_l dJ7_removeLast_17) (tk_l dJ7_removeLast_18)) (tk_b (tk_l dJ7_removeLast_19) (tk_l dJ7_removeLast_22)))))
def tbJ7_unlinkLast (pc : Nat) : Option (Instr × Nat) := (cond (Nat.ble pc 30) (cond (Nat.ble pc 12) (cond (Nat.ble pc 5) (cond (Nat.ble pc 1) (cond (Nat.ble pc 0) (cond (Nat.beq pc 0) (some (.aload_n 1, 1)) none) (cond (Nat.beq pc 1) (some (.getfield 39, 3)) none)) (cond (Nat.ble pc 4) (cond (Nat.beq pc 4) (some (.astore_n 2, 1)) none) (cond (Nat.beq pc 5) (some (.aload_n 1, 1)) none))) (cond (Nat.ble pc 9) (cond (Nat.ble pc 6) (cond (Nat.beq pc 6) (some (.getfield 30, 3)) none) (cond (Nat.beq pc 9) (some (.astore_n 3, 1)) none)) (cond (Nat.ble pc 10) (cond (Nat.beq pc 10) (some (.aload_n 1, 1)) none) (cond (Nat.ble pc 11) (cond (Nat.beq pc 11) (some (.aconst_null, 1)) none) (cond (Nat.beq pc 12) (some (.putfield 39, 3)) none))))) (cond (Nat.ble pc 21) (cond (Nat.ble pc 16) (cond (Nat.ble pc 15) (cond (Nat.beq pc 15) (some (.aload_n 1, 1)) none) (cond (Nat.beq pc 16) (some (.aconst_null, 1)) none)) (cond (Nat.ble pc 17) (cond (Nat.beq pc 17) (some (.putfield 30, 3)) none) (cond (Nat.ble pc 20) (cond (Nat.beq pc 20) (some (.aload_n 0, 1)) none) (cond (Nat.beq pc 21) (some (.aload_n 3, 1)) none)))) (cond (Nat.ble pc 25) (cond (Nat.ble pc 22) (cond (Nat.beq pc 22) (some (.putfield 27, 3)) none) (cond (Nat.beq pc 25) (some (.aload_n 3, 1)) none)) (cond (Nat.ble pc 26) (cond (Nat.beq pc 26) (some (.ifnonnull 11, 3)) none) (cond (Nat.ble pc 29) (cond (Nat.beq pc 29) (some (.aload_n 0, 1)) none) (cond (Nat.beq pc 30) (some (.aconst_null, 1)) none)))))) (cond (Nat.ble pc 47) (cond (Nat.ble pc 38) (cond (Nat.ble pc 34) (cond (Nat.ble pc 31) (cond (Nat.beq pc 31) (some (.putfield 18, 3)) none) (cond (Nat.beq pc 34) (some (.goto 8, 3)) none)) (cond (Nat.ble pc 37) (cond (Nat.beq pc 37) (some (.aload_n 3, 1)) none) (cond (Nat.beq pc 38) (some (.aconst_null, 1)) none))) (cond (Nat.ble pc 42) (cond (Nat.ble pc 39) (cond (Nat.beq pc 39) (some (.putfield 36, 3)) none) (cond (Nat.beq pc 42) (some (.aload_n 0, 1)) none)) (cond (Nat.ble pc 43) (cond (Nat.beq pc 43) (some (.dup, 1)) none) (cond (Nat.ble pc 44) (cond (Nat.beq pc 44) (some (.getfield 7, 3)) none) (cond (Nat.beq pc 47) (some (.iconst 1, 1)) none))))) (cond (Nat.ble pc 54) (cond (Nat.ble pc 49) (cond (Nat.ble pc 48) (cond (Nat.beq pc 48) (some (.isub, 1)) none) (cond (Nat.beq pc 49) (some (.putfield 7, 3)) none)) (cond (Nat.ble pc 52) (cond (Nat.beq pc 52) (some (.aload_n 0, 1)) none) (cond (Nat.ble pc 53) (cond (Nat.beq pc 53) (some (.dup, 1)) none) (cond (Nat.beq pc 54) (some (.getfield 33, 3)) none)))) (cond (Nat.ble pc 58) (cond (Nat.ble pc 57) (cond (Nat.beq pc 57) (some (.iconst 1, 1)) none) (cond (Nat.beq pc 58) (some (.iadd, 1)) none)) (cond (Nat.ble pc 59) (cond (Nat.beq pc 59) (some (.putfield 33, 3)) none) (cond (Nat.ble pc 62) (cond (Nat.beq pc 62) (some (.aload_n 2, 1)) none) (cond (Nat.beq pc 63) (some (.areturn, 1)) none)))))))
theorem tkJ7_unlinkLast : tkAll cJ7_unlinkLast tbJ7_unlinkLast := fun pc => (tk_b (tk_b (tk_b (tk_b (tk_b (tk_l dJ7_unlinkLast_0) (tk_l dJ7_unlinkLast_1)) (tk_b (tk_l dJ7_unlinkLast_4) (tk_l dJ7_unlinkLast_5))) (tk_b (tk_b (tk_l dJ7_unlinkLast_6) (tk_l dJ7_unlinkLast_9)) (tk_b (tk_l dJ7_unlinkLast_10) (tk_b (tk_l dJ7_unlinkLast_11) (tk_l dJ7_unlinkLast_12))))) (tk_b (tk_b (tk_b (tk_l dJ7_unlinkLast_15) (tk_l dJ7_unlinkLast_16)) (tk_b (tk_l dJ7_unlinkLast_17) (tk_b (tk_l dJ7_unlinkLast_20) (tk_l dJ7_unlinkLast_21)))) (tk_b (tk_b (tk_l dJ7_unlinkLast_22) (tk_l dJ7_unlinkLast_25)) (tk_b (tk_l dJ7_unlinkLast_26) (tk_b (tk_l dJ7_unlinkLast_29) (tk_l dJ7_unlinkLast_30)))))) (tk_b (tk_b (tk_b (tk_b (tk_l dJ7_unlinkLast_31) (tk_l dJ7_unlinkLast_34)) (tk_b (tk_l dJ7_unlinkLast_37) (tk_l dJ7_unlinkLast_38))) (tk_b (tk_b (tk_l dJ7_unlinkLast_39) (tk_l dJ7_unlinkLast_42)) (tk_b (tk_l dJ7_unlinkLast_43) (tk_b (tk_l dJ7_unlinkLast_44) (tk_l dJ7_unlinkLast_47))))) (tk_b (tk_b (tk_b (tk_l dJ7_unlinkLast_48) (tk_l dJ7_unlinkLast_49)) (tk_b (tk_l dJ7_unlinkLast_52) (tk_b (tk_l dJ7_unlinkLast_53) (tk_l dJ7_unlinkLast_54)))) (tk_b (tk_b (tk_l dJ7_unlinkLast_57) (tk_l dJ7_unlinkLast_58)) (tk_b (tk_l dJ7_unlinkLast_59) (tk_b (tk_l dJ7_unlinkLast_62) (tk_l dJ7_unlinkLast_63)))))))
def tbJ7_get (pc : Nat) : Option (Instr × Nat) := (cond (Nat.ble pc 5) (cond (Nat.ble pc 1) (cond (Nat.ble pc 0) (cond (Nat.beq pc 0) (some (.aload_n 0, 1)) none) (cond (Nat.beq pc 1) (some (.iload_n 1, 1)) none)) (cond (Nat.ble pc 2) (cond (Nat.beq pc 2) (some (.invokevirtual 90, 3)) none) (cond (Nat.beq pc 5) (some (.aload_n 0, 1)) none))) (cond (Nat.ble pc 7) (cond (Nat.ble pc 6) (cond (Nat.beq pc 6) (some (.iload_n 1, 1)) none) (cond (Nat.beq pc 7) (some (.invokevirtual 86, 3)) none)) (cond (Nat.ble pc 10) (cond (Nat.beq pc 10) (some (.getfield 39, 3)) none) (cond (Nat.beq pc 13) (some (.areturn, 1)) none))))
theorem tkJ7_get : tkAll cJ7_get tbJ7_get := fun pc => (tk_b (tk_b (tk_b (tk_l dJ7_get_0) (tk_l dJ7_get_1)) (tk_b (tk_l dJ7_get_2) (tk_l dJ7_get_5))) (tk_b (tk_b (tk_l dJ7_get_6) (tk_l dJ7_get_7)) (tk_b (tk_l dJ7_get_10) (tk_l dJ7_get_13))))
def tbJ7_checkElementIndex (pc : Nat) : Option (Instr × Nat) := (cond (Nat.ble pc 11) (cond (Nat.ble pc 2) (cond (Nat.ble pc 0) (cond (Nat.beq pc 0) (some (.aload_n 0, 1)) none) (cond (Nat.ble pc 1) (cond (Nat.beq pc 1) (some (.iload_n 1, 1)) none) (cond (Nat.beq pc 2) (some (.invokevirtual 115, 3)) none))) (cond (Nat.ble pc 5) (cond (Nat.beq pc 5) (some (.ifCond .ne 16, 3)) none) (cond (Nat.ble pc 8) (cond (Nat.beq pc 8) (some (.new 119, 3)) none) (cond (Nat.beq pc 11) (some (.dup, 1)) none)))) (cond (Nat.ble pc 14) (cond (Nat.ble pc 12) (cond (Nat.beq pc 12) (some (.aload_n 0, 1)) none) (cond (Nat.ble pc 13) (cond (Nat.beq pc 13) (some (.iload_n 1, 1)) none) (cond (Nat.beq pc 14) (some (.invokevirtual 121, 3)) none))) (cond (Nat.ble pc 17) (cond (Nat.beq pc 17) (some (.invokespecial 125, 3)) none) (cond (Nat.ble pc 20) (cond (Nat.beq pc 20) (some (.athrow, 1)) none) (cond (Nat.beq pc 21) (some (.return_, 1)) none)))))
theorem tkJ7_checkElementIndex : tkAll cJ7_checkElementIndex tbJ7_checkElementIndex := fun pc => (tk_b (tk_b (tk_b (tk_l dJ7_checkElementIndex_0) (tk_b (tk_l dJ7_checkElementIndex_1) (tk_l dJ7_checkElementIndex_2))) (tk_b (tk_l dJ7_checkElementIndex_5) (tk_b (tk_l dJ7_checkElementIndex_8) (tk_l dJ7_checkElementIndex_11)))) (tk_b (tk_b (tk_l dJ7_checkElementIndex_12) (tk_b (tk_l dJ7_checkElementIndex_13) (tk_l dJ7_checkElementIndex_14))) (tk_b (tk_l dJ7_checkElementIndex_17) (tk_b (tk_l dJ7_checkElementIndex_20) (tk_l dJ7_checkElementIndex_21)))))
def tbJ7_isElementIndex (pc : Nat) : Option (Instr × Nat) := (cond (Nat.ble pc 6) (cond (Nat.ble pc 1) (cond (Nat.ble pc 0) (cond (Nat.beq pc 0) (some (.iload_n 1, 1)) none) (cond (Nat.beq pc 1) (some (.ifCond .lt 15, 3)) none)) (cond (Nat.ble pc 4) (cond (Nat.beq pc 4) (some (.iload_n 1, 1)) none) (cond (Nat.ble pc 5) (cond (Nat.beq pc 5) (some (.aload_n 0, 1)) none) (cond (Nat.beq pc 6) (some (.getfield 7, 3)) none)))) (cond (Nat.ble pc 12) (cond (Nat.ble pc 9) (cond (Nat.beq pc 9) (some (.if_icmp .ge 7, 3)) none) (cond (Nat.beq pc 12) (some (.iconst 1, 1)) none)) (cond (Nat.ble pc 13) (cond (Nat.beq pc 13) (some (.goto 4, 3)) none) (cond (Nat.ble pc 16) (cond (Nat.beq pc 16) (some (.iconst 0, 1)) none) (cond (Nat.beq pc 17) (some (.ireturn, 1)) none)))))
theorem tkJ7_isElementIndex : tkAll cJ7_isElementIndex tbJ7_isElementIndex := fun pc => (tk_b (tk_b (tk_b (tk_l dJ7_isElementIndex_0) (tk_l dJ7_isElementIndex_1)) (tk_b (tk_l dJ7_isElementIndex_4) (tk_b (tk_l dJ7_isElementIndex_5) (tk_l dJ7_isElementIndex_6)))) (tk_b (tk_b (tk_l dJ7_isElementIndex_9) (tk_l dJ7_isElementIndex_12)) (tk_b (tk_l dJ7_isElementIndex_13) (tk_b (tk_l dJ7_isElementIndex_16) (tk_l dJ7_isElementIndex_17)))))
def tbJ7_outOfBoundsMsg (pc : Nat) : Option (Instr × Nat) := (cond (Nat.ble pc 13) (cond (Nat.ble pc 4) (cond (Nat.ble pc 0) (cond (Nat.beq pc 0) (some (.new 97, 3)) none) (cond (Nat.ble pc 3) (cond (Nat.beq pc 3) (some (.dup, 1)) none) (cond (Nat.beq pc 4) (some (.invokespecial 99, 3)) none))) (cond (Nat.ble pc 9) (cond (Nat.ble pc 7) (cond (Nat.beq pc 7) (some (.ldc 100, 2)) none) (cond (Nat.beq pc 9) (some (.invokevirtual 102, 3)) none)) (cond (Nat.ble pc 12) (cond (Nat.beq pc 12) (some (.iload_n 1, 1)) none) (cond (Nat.beq pc 13) (some (.invokevirtual 106, 3)) none)))) (cond (Nat.ble pc 21) (cond (Nat.ble pc 16) (cond (Nat.beq pc 16) (some (.ldc 109, 2)) none) (cond (Nat.ble pc 18) (cond (Nat.beq pc 18) (some (.invokevirtual 102, 3)) none) (cond (Nat.beq pc 21) (some (.aload_n 0, 1)) none))) (cond (Nat.ble pc 25) (cond (Nat.ble pc 22) (cond (Nat.beq pc 22) (some (.getfield 7, 3)) none) (cond (Nat.beq pc 25) (some (.invokevirtual 106, 3)) none)) (cond (Nat.ble pc 28) (cond (Nat.beq pc 28) (some (.invokevirtual 111, 3)) none) (cond (Nat.beq pc 31) (some (.areturn, 1)) none)))))
theorem tkJ7_outOfBoundsMsg : tkAll cJ7_outOfBoundsMsg tbJ7_outOfBoundsMsg := fun pc => (tk_b (tk_b (tk_b (tk_l dJ7_outOfBoundsMsg_0) (tk_b (tk_l dJ7_outOfBoundsMsg_3) (tk_l dJ7_outOfBoundsMsg_4))) (tk_b (tk_b (tk_l dJ7_outOfBoundsMsg_7) (tk_l dJ7_outOfBoundsMsg_9)) (tk_b (tk_l dJ7_outOfBoundsMsg_12) (tk_l dJ7_outOfBoundsMsg_13)))) (tk_b (tk_b (tk_l dJ7_outOfBoundsMsg_16) (tk_b (tk_l dJ7_outOfBoundsMsg_18) (tk_l dJ7_outOfBoundsMsg_21))) (tk_b (tk_b (tk_l dJ7_outOfBoundsMsg_22) (tk_l dJ7_outOfBoundsMsg_25)) (tk_b (tk_l dJ7_outOfBoundsMsg_28) (tk_l dJ7_outOfBoundsMsg_31)))))
def tbJ7_node (pc : Nat) : Option (Instr × Nat) := (cond (Nat.ble pc 30) (cond (Nat.ble pc 14) (cond (Nat.ble pc 5) (cond (Nat.ble pc 1) (cond (Nat.ble pc 0) (cond (Nat.beq pc 0) (some (.iload_n 1, 1)) none) (cond (Nat.beq pc 1) (some (.aload_n 0, 1)) none)) (cond (Nat.ble pc 2) (cond (Nat.beq pc 2) (some (.getfield 7, 3)) none) (cond (Nat.beq pc 5) (some (.iconst 1, 1)) none))) (cond (Nat.ble pc 7) (cond (Nat.ble pc 6) (cond (Nat.beq pc 6) (some (.ishr, 1)) none) (cond (Nat.beq pc 7) (some (.if_icmp .ge 28, 3)) none)) (cond (Nat.ble pc 10) (cond (Nat.beq pc 10) (some (.aload_n 0, 1)) none) (cond (Nat.ble pc 11) (cond (Nat.beq pc 11) (some (.getfield 18, 3)) none) (cond (Nat.beq pc 14) (some (.astore_n 2, 1)) none))))) (cond (Nat.ble pc 19) (cond (Nat.ble pc 16) (cond (Nat.ble pc 15) (cond (Nat.beq pc 15) (some (.iconst 0, 1)) none) (cond (Nat.beq pc 16) (some (.istore_n 3, 1)) none)) (cond (Nat.ble pc 17) (cond (Nat.beq pc 17) (some (.iload_n 3, 1)) none) (cond (Nat.ble pc 18) (cond (Nat.beq pc 18) (some (.iload_n 1, 1)) none) (cond (Nat.beq pc 19) (some (.if_icmp .ge 14, 3)) none)))) (cond (Nat.ble pc 23) (cond (Nat.ble pc 22) (cond (Nat.beq pc 22) (some (.aload_n 2, 1)) none) (cond (Nat.beq pc 23) (some (.getfield 36, 3)) none)) (cond (Nat.ble pc 26) (cond (Nat.beq pc 26) (some (.astore_n 2, 1)) none) (cond (Nat.ble pc 27) (cond (Nat.beq pc 27) (some (.iinc 3 1, 3)) none) (cond (Nat.beq pc 30) (some (.goto (-13), 3)) none)))))) (cond (Nat.ble pc 46) (cond (Nat.ble pc 39) (cond (Nat.ble pc 34) (cond (Nat.ble pc 33) (cond (Nat.beq pc 33) (some (.aload_n 2, 1)) none) (cond (Nat.beq pc 34) (some (.areturn, 1)) none)) (cond (Nat.ble pc 35) (cond (Nat.beq pc 35) (some (.aload_n 0, 1)) none) (cond (Nat.ble pc 36) (cond (Nat.beq pc 36) (some (.getfield 27, 3)) none) (cond (Nat.beq pc 39) (some (.astore_n 2, 1)) none)))) (cond (Nat.ble pc 41) (cond (Nat.ble pc 40) (cond (Nat.beq pc 40) (some (.aload_n 0, 1)) none) (cond (Nat.beq pc 41) (some (.getfield 7, 3)) none)) (cond (Nat.ble pc 44) (cond (Nat.beq pc 44) (some (.iconst 1, 1)) none) (cond (Nat.ble pc 45) (cond (Nat.beq pc 45) (some (.isub, 1)) none) (cond (Nat.beq pc 46) (some (.istore_n 3, 1)) none))))) (cond (Nat.ble pc 53) (cond (Nat.ble pc 48) (cond (Nat.ble pc 47) (cond (Nat.beq pc 47) (some (.iload_n 3, 1)) none) (cond (Nat.beq pc 48) (some (.iload_n 1, 1)) none)) (cond (Nat.ble pc 49) (cond (Nat.beq pc 49) (some (.if_icmp .le 14, 3)) none) (cond (Nat.ble pc 52) (cond (Nat.beq pc 52) (some (.aload_n 2, 1)) none) (cond (Nat.beq pc 53) (some (.getfield 30, 3)) none)))) (cond (Nat.ble pc 57) (cond (Nat.ble pc 56) (cond (Nat.beq pc 56) (some (.astore_n 2, 1)) none) (cond (Nat.beq pc 57) (some (.iinc 3 (-1), 3)) none)) (cond (Nat.ble pc 60) (cond (Nat.beq pc 60) (some (.goto (-13), 3)) none) (cond (Nat.ble pc 63) (cond (Nat.beq pc 63) (some (.aload_n 2, 1)) none) (cond (Nat.beq pc 64) (some (.areturn, 1)) none)))))))
theorem tkJ7_node : tkAll cJ7_node tbJ7_node := fun pc => (tk_b (tk_b (tk_b (tk_b (tk_b (tk_l dJ7_node_0) (tk_l dJ7_node_1)) (tk_b (tk_l dJ7_node_2) (tk_l dJ7_node_5))) (tk_b (tk_b (tk_l dJ7_node_6) (tk_l dJ7_node_7)) (tk_b (tk_l dJ7_node_10) (tk_b (tk_l dJ7_node_11) (tk_l dJ7_node_14))))) (tk_b (tk_b (tk_b (tk_l dJ7_node_15) (tk_l dJ7_node_16)) (tk_b (tk_l dJ7_node_17) (tk_b (tk_l dJ7_node_18) (tk_l dJ7_node_19)))) (tk_b (tk_b (tk_l dJ7_node_22) (tk_l dJ7_node_23)) (tk_b (tk_l dJ7_node_26) (tk_b (tk_l dJ7_node_27) (tk_l dJ7_node_30)))))) (tk_b (tk_b (tk_b (tk_b (tk_l dJ7_node_33) (tk_l dJ7_node_34)) (tk_b (tk_l dJ7_node_35) (tk_b (tk_l dJ7_node_36) (tk_l dJ7_node_39)))) (tk_b (tk_b (tk_l dJ7_node_40) (tk_l dJ7_node_41)) (tk_b (tk_l dJ7_node_44) (tk_b (tk_l dJ7_node_45) (tk_l dJ7_node_46))))) (tk_b (tk_b (tk_b (tk_l dJ7_node_47) (tk_l dJ7_node_48)) (tk_b (tk_l dJ7_node_49) (tk_b (tk_l dJ7_node_52) (tk_l dJ7_node_53)))) (tk_b (tk_b (tk_l dJ7_node_56) (tk_l dJ7_node_57)) (tk_b (tk_l dJ7_node_60) (tk_b (tk_l dJ7_node_63) (tk_l dJ7_node_64)))))))
def tbJ7_getLast (pc : Nat) : Option (Instr × Nat) := (cond (Nat.ble pc 9) (cond (Nat.ble pc 4) (cond (Nat.ble pc 0) (cond (Nat.beq pc 0) (some (.aload_n 0, 1)) none) (cond (Nat.ble pc 1) (cond (Nat.beq pc 1) (some (.getfield 27, 3)) none) (cond (Nat.beq pc 4) (some (.astore_n 1, 1)) none))) (cond (Nat.ble pc 5) (cond (Nat.beq pc 5) (some (.aload_n 1, 1)) none) (cond (Nat.ble pc 6) (cond (Nat.beq pc 6) (some (.ifnonnull 11, 3)) none) (cond (Nat.beq pc 9) (some (.new 43, 3)) none)))) (cond (Nat.ble pc 16) (cond (Nat.ble pc 12) (cond (Nat.beq pc 12) (some (.dup, 1)) none) (cond (Nat.ble pc 13) (cond (Nat.beq pc 13) (some (.invokespecial 45, 3)) none) (cond (Nat.beq pc 16) (some (.athrow, 1)) none))) (cond (Nat.ble pc 17) (cond (Nat.beq pc 17) (some (.aload_n 1, 1)) none) (cond (Nat.ble pc 18) (cond (Nat.beq pc 18) (some (.getfield 39, 3)) none) (cond (Nat.beq pc 21) (some (.areturn, 1)) none)))))
theorem tkJ7_getLast : tkAll cJ7_getLast tbJ7_getLast := fun pc => (tk_b (tk_b (tk_b (tk_l dJ7_getLast_0) (tk_b (tk_l dJ7_getLast_1) (tk_l dJ7_getLast_4))) (tk_b (tk_l dJ7_getLast_5) (tk_b (tk_l dJ7_getLast_6) (tk_l dJ7_getLast_9)))) (tk_b (tk_b (tk_l dJ7_getLast_12) (tk_b (tk_l dJ7_getLast_13) (tk_l dJ7_getLast_16))) (tk_b (tk_l dJ7_getLast_17) (tk_b (tk_l dJ7_getLast_18) (tk_l dJ7_getLast_21)))))
def tbJ7_listIterator (pc : Nat) : Option (Instr × Nat) := (cond (Nat.ble pc 5) (cond (Nat.ble pc 1) (cond (Nat.ble pc 0) (cond (Nat.beq pc 0) (some (.aload_n 0, 1)) none) (cond (Nat.beq pc 1) (some (.iload_n 1, 1)) none)) (cond (Nat.ble pc 2) (cond (Nat.beq pc 2) (some (.invokevirtual 76, 3)) none) (cond (Nat.beq pc 5) (some (.new 150, 3)) none))) (cond (Nat.ble pc 9) (cond (Nat.ble pc 8) (cond (Nat.beq pc 8) (some (.dup, 1)) none) (cond (Nat.beq pc 9) (some (.aload_n 0, 1)) none)) (cond (Nat.ble pc 10) (cond (Nat.beq pc 10) (some (.iload_n 1, 1)) none) (cond (Nat.ble pc 11) (cond (Nat.beq pc 11) (some (.invokespecial 152, 3)) none) (cond (Nat.beq pc 14) (some (.areturn, 1)) none)))))
theorem tkJ7_listIterator : tkAll cJ7_listIterator tbJ7_listIterator := fun pc => (tk_b (tk_b (tk_b (tk_l dJ7_listIterator_0) (tk_l dJ7_listIterator_1)) (tk_b (tk_l dJ7_listIterator_2) (tk_l dJ7_listIterator_5))) (tk_b (tk_b (tk_l dJ7_listIterator_8) (tk_l dJ7_listIterator_9)) (tk_b (tk_l dJ7_listIterator_10) (tk_b (tk_l dJ7_listIterator_11) (tk_l dJ7_listIterator_14)))))
def tbJ7_checkPositionIndex (pc : Nat) : Option (Instr × Nat) := (cond (Nat.ble pc 11) (cond (Nat.ble pc 2) (cond (Nat.ble pc 0) (cond (Nat.beq pc 0) (some (.aload_n 0, 1)) none) (cond (Nat.ble pc 1) (cond (Nat.beq pc 1) (some (.iload_n 1, 1)) none) (cond (Nat.beq pc 2) (some (.invokevirtual 128, 3)) none))) (cond (Nat.ble pc 5) (cond (Nat.beq pc 5) (some (.ifCond .ne 16, 3)) none) (cond (Nat.ble pc 8) (cond (Nat.beq pc 8) (some (.new 119, 3)) none) (cond (Nat.beq pc 11) (some (.dup, 1)) none)))) (cond (Nat.ble pc 14) (cond (Nat.ble pc 12) (cond (Nat.beq pc 12) (some (.aload_n 0, 1)) none) (cond (Nat.ble pc 13) (cond (Nat.beq pc 13) (some (.iload_n 1, 1)) none) (cond (Nat.beq pc 14) (some (.invokevirtual 121, 3)) none))) (cond (Nat.ble pc 17) (cond (Nat.beq pc 17) (some (.invokespecial 125, 3)) none) (cond (Nat.ble pc 20) (cond (Nat.beq pc 20) (some (.athrow, 1)) none) (cond (Nat.beq pc 21) (some (.return_, 1)) none)))))
theorem tkJ7_checkPositionIndex : tkAll cJ7_checkPositionIndex tbJ7_checkPositionIndex := fun pc => (tk_b (tk_b (tk_b (tk_l dJ7_checkPositionIndex_0) (tk_b (tk_l dJ7_checkPositionIndex_1) (tk_l dJ7_checkPositionIndex_2))) (tk_b (tk_l dJ7_checkPositionIndex_5) (tk_b (tk_l dJ7_checkPositionIndex_8) (tk_l dJ7_checkPositionIndex_11)))) (tk_b (tk_b (tk_l dJ7_checkPositionIndex_12) (tk_b (tk_l dJ7_checkPositionIndex_13) (tk_l dJ7_checkPositionIndex_14))) (tk_b (tk_l dJ7_checkPositionIndex_17) (tk_b (tk_l dJ7_checkPositionIndex_20) (tk_l dJ7_checkPositionIndex_21)))))
def tbJ7_isPositionIndex (pc : Nat) : Option (Instr × Nat) := (cond (Nat.ble pc 6) (cond (Nat.ble pc 1) (cond (Nat.ble pc 0) (cond (Nat.beq pc 0) (some (.iload_n 1, 1)) none) (cond (Nat.beq pc 1) (some (.ifCond .lt 15, 3)) none)) (cond (Nat.ble pc 4) (cond (Nat.beq pc 4) (some (.iload_n 1, 1)) none) (cond (Nat.ble pc 5) (cond (Nat.beq pc 5) (some (.aload_n 0, 1)) none) (cond (Nat.beq pc 6) (some (.getfield 7, 3)) none)))) (cond (Nat.ble pc 12) (cond (Nat.ble pc 9) (cond (Nat.beq pc 9) (some (.if_icmp .gt 7, 3)) none) (cond (Nat.beq pc 12) (some (.iconst 1, 1)) none)) (cond (Nat.ble pc 13) (cond (Nat.beq pc 13) (some (.goto 4, 3)) none) (cond (Nat.ble pc 16) (cond (Nat.beq pc 16) (some (.iconst 0, 1)) none) (cond (Nat.beq pc 17) (some (.ireturn, 1)) none)))))
theorem tkJ7_isPositionIndex : tkAll cJ7_isPositionIndex tbJ7_isPositionIndex := fun pc => (tk_b (tk_b (tk_b (tk_l dJ7_isPositionIndex_0) (tk_l dJ7_isPositionIndex_1)) (tk_b (tk_l dJ7_isPositionIndex_4) (tk_b (tk_l dJ7_isPositionIndex_5) (tk_l dJ7_isPositionIndex_6)))) (tk_b (tk_b (tk_l dJ7_isPositionIndex_9) (tk_l dJ7_isPositionIndex_12)) (tk_b (tk_l dJ7_isPositionIndex_13) (tk_b (tk_l dJ7_isPositionIndex_16) (tk_l dJ7_isPositionIndex_17)))))
def tbJ7_init_2 (pc : Nat) : Option (Instr × Nat) := (cond (Nat.ble pc 4) (cond (Nat.ble pc 0) (cond (Nat.beq pc 0) (some (.aload_n 0, 1)) none) (cond (Nat.ble pc 1) (cond (Nat.beq pc 1) (some (.invokespecial 13, 3)) none) (cond (Nat.beq pc 4) (some (.aload_n 0, 1)) none))) (cond (Nat.ble pc 6) (cond (Nat.ble pc 5) (cond (Nat.beq pc 5) (some (.aload_n 1, 1)) none) (cond (Nat.beq pc 6) (some (.invokevirtual 14, 3)) none)) (cond (Nat.ble pc 9) (cond (Nat.beq pc 9) (some (.pop, 1)) none) (cond (Nat.beq pc 10) (some (.return_, 1)) none))))
theorem tkJ7_init_2 : tkAll cJ7_init_2 tbJ7_init_2 := fun pc => (tk_b (tk_b (tk_l dJ7_init_2_0) (tk_b (tk_l dJ7_init_2_1) (tk_l dJ7_init_2_4))) (tk_b (tk_b (tk_l dJ7_init_2_5) (tk_l dJ7_init_2_6)) (tk_b (tk_l dJ7_init_2_9) (tk_l dJ7_init_2_10))))
def tbJ7_addAll (pc : Nat) : Option (Instr × Nat) := (cond (Nat.ble pc 2) (cond (Nat.ble pc 0) (cond (Nat.beq pc 0) (some (.aload_n 0, 1)) none) (cond (Nat.ble pc 1) (cond (Nat.beq pc 1) (some (.aload_n 0, 1)) none) (cond (Nat.beq pc 2) (some (.getfield 7, 3)) none))) (cond (Nat.ble pc 5) (cond (Nat.beq pc 5) (some (.aload_n 1, 1)) none) (cond (Nat.ble pc 6) (cond (Nat.beq pc 6) (some (.invokevirtual 73, 3)) none) (cond (Nat.beq pc 9) (some (.ireturn, 1)) none))))
theorem tkJ7_addAll : tkAll cJ7_addAll tbJ7_addAll := fun pc => (tk_b (tk_b (tk_l dJ7_addAll_0) (tk_b (tk_l dJ7_addAll_1) (tk_l dJ7_addAll_2))) (tk_b (tk_l dJ7_addAll_5) (tk_b (tk_l dJ7_addAll_6) (tk_l dJ7_addAll_9))))
def tbJ7_addAll_2 (pc : Nat) : Option (Instr × Nat) := (cond (Nat.ble pc 84) (cond (Nat.ble pc 40) (cond (Nat.ble pc 18) (cond (Nat.ble pc 6) (cond (Nat.ble pc 1) (cond (Nat.ble pc 0) (cond (Nat.beq pc 0) (some (.aload_n 0, 1)) none) (cond (Nat.beq pc 1) (some (.iload_n 1, 1)) none)) (cond (Nat.ble pc 2) (cond (Nat.beq pc 2) (some (.invokevirtual 76, 3)) none) (cond (Nat.ble pc 5) (cond (Nat.beq pc 5) (some (.aload_n 2, 1)) none) (cond (Nat.beq pc 6) (some (.invokeinterface 80 1, 5)) none)))) (cond (Nat.ble pc 13) (cond (Nat.ble pc 11) (cond (Nat.beq pc 11) (some (.astore_n 3, 1)) none) (cond (Nat.ble pc 12) (cond (Nat.beq pc 12) (some (.aload_n 3, 1)) none) (cond (Nat.beq pc 13) (some (.arraylength, 1)) none))) (cond (Nat.ble pc 14) (cond (Nat.beq pc 14) (some (.istore 4, 2)) none) (cond (Nat.ble pc 16) (cond (Nat.beq pc 16) (some (.iload 4, 2)) none) (cond (Nat.beq pc 18) (some (.ifCond .ne 5, 3)) none))))) (cond (Nat.ble pc 28) (cond (Nat.ble pc 23) (cond (Nat.ble pc 21) (cond (Nat.beq pc 21) (some (.iconst 0, 1)) none) (cond (Nat.ble pc 22) (cond (Nat.beq pc 22) (some (.ireturn, 1)) none) (cond (Nat.beq pc 23) (some (.iload_n 1, 1)) none))) (cond (Nat.ble pc 24) (cond (Nat.beq pc 24) (some (.aload_n 0, 1)) none) (cond (Nat.ble pc 25) (cond (Nat.beq pc 25) (some (.getfield 7, 3)) none) (cond (Nat.beq pc 28) (some (.if_icmp .ne 15, 3)) none)))) (cond (Nat.ble pc 34) (cond (Nat.ble pc 31) (cond (Nat.beq pc 31) (some (.aconst_null, 1)) none) (cond (Nat.ble pc 32) (cond (Nat.beq pc 32) (some (.astore 6, 2)) none) (cond (Nat.beq pc 34) (some (.aload_n 0, 1)) none))) (cond (Nat.ble pc 35) (cond (Nat.beq pc 35) (some (.getfield 27, 3)) none) (cond (Nat.ble pc 38) (cond (Nat.beq pc 38) (some (.astore 5, 2)) none) (cond (Nat.beq pc 40) (some (.goto 17, 3)) none)))))) (cond (Nat.ble pc 62) (cond (Nat.ble pc 50) (cond (Nat.ble pc 44) (cond (Nat.ble pc 43) (cond (Nat.beq pc 43) (some (.aload_n 0, 1)) none) (cond (Nat.beq pc 44) (some (.iload_n 1, 1)) none)) (cond (Nat.ble pc 45) (cond (Nat.beq pc 45) (some (.invokevirtual 86, 3)) none) (cond (Nat.ble pc 48) (cond (Nat.beq pc 48) (some (.astore 6, 2)) none) (cond (Nat.beq pc 50) (some (.aload 6, 2)) none)))) (cond (Nat.ble pc 57) (cond (Nat.ble pc 52) (cond (Nat.beq pc 52) (some (.getfield 30, 3)) none) (cond (Nat.ble pc 55) (cond (Nat.beq pc 55) (some (.astore 5, 2)) none) (cond (Nat.beq pc 57) (some (.aload_n 3, 1)) none))) (cond (Nat.ble pc 58) (cond (Nat.beq pc 58) (some (.astore 7, 2)) none) (cond (Nat.ble pc 60) (cond (Nat.beq pc 60) (some (.aload 7, 2)) none) (cond (Nat.beq pc 62) (some (.arraylength, 1)) none))))) (cond (Nat.ble pc 72) (cond (Nat.ble pc 66) (cond (Nat.ble pc 63) (cond (Nat.beq pc 63) (some (.istore 8, 2)) none) (cond (Nat.ble pc 65) (cond (Nat.beq pc 65) (some (.iconst 0, 1)) none) (cond (Nat.beq pc 66) (some (.istore 9, 2)) none))) (cond (Nat.ble pc 68) (cond (Nat.beq pc 68) (some (.iload 9, 2)) none) (cond (Nat.ble pc 70) (cond (Nat.beq pc 70) (some (.iload 8, 2)) none) (cond (Nat.beq pc 72) (some (.if_icmp .ge 59, 3)) none)))) (cond (Nat.ble pc 79) (cond (Nat.ble pc 75) (cond (Nat.beq pc 75) (some (.aload 7, 2)) none) (cond (Nat.ble pc 77) (cond (Nat.beq pc 77) (some (.iload 9, 2)) none) (cond (Nat.beq pc 79) (some (.aaload, 1)) none))) (cond (Nat.ble pc 80) (cond (Nat.beq pc 80) (some (.astore 10, 2)) none) (cond (Nat.ble pc 82) (cond (Nat.beq pc 82) (some (.aload 10, 2)) none) (cond (Nat.beq pc 84) (some (.astore 11, 2)) none))))))) (cond (Nat.ble pc 136) (cond (Nat.ble pc 106) (cond (Nat.ble pc 94) (cond (Nat.ble pc 89) (cond (Nat.ble pc 86) (cond (Nat.beq pc 86) (some (.new 22, 3)) none) (cond (Nat.beq pc 89) (some (.dup, 1)) none)) (cond (Nat.ble pc 90) (cond (Nat.beq pc 90) (some (.aload 5, 2)) none) (cond (Nat.ble pc 92) (cond (Nat.beq pc 92) (some (.aload 11, 2)) none) (cond (Nat.beq pc 94) (some (.aconst_null, 1)) none)))) (cond (Nat.ble pc 100) (cond (Nat.ble pc 95) (cond (Nat.beq pc 95) (some (.invokespecial 24, 3)) none) (cond (Nat.ble pc 98) (cond (Nat.beq pc 98) (some (.astore 12, 2)) none) (cond (Nat.beq pc 100) (some (.aload 5, 2)) none))) (cond (Nat.ble pc 102) (cond (Nat.beq pc 102) (some (.ifnonnull 12, 3)) none) (cond (Nat.ble pc 105) (cond (Nat.beq pc 105) (some (.aload_n 0, 1)) none) (cond (Nat.beq pc 106) (some (.aload 12, 2)) none))))) (cond (Nat.ble pc 121) (cond (Nat.ble pc 114) (cond (Nat.ble pc 108) (cond (Nat.beq pc 108) (some (.putfield 18, 3)) none) (cond (Nat.ble pc 111) (cond (Nat.beq pc 111) (some (.goto 10, 3)) none) (cond (Nat.beq pc 114) (some (.aload 5, 2)) none))) (cond (Nat.ble pc 116) (cond (Nat.beq pc 116) (some (.aload 12, 2)) none) (cond (Nat.ble pc 118) (cond (Nat.beq pc 118) (some (.putfield 36, 3)) none) (cond (Nat.beq pc 121) (some (.aload 12, 2)) none)))) (cond (Nat.ble pc 128) (cond (Nat.ble pc 123) (cond (Nat.beq pc 123) (some (.astore 5, 2)) none) (cond (Nat.ble pc 125) (cond (Nat.beq pc 125) (some (.iinc 9 1, 3)) none) (cond (Nat.beq pc 128) (some (.goto (-60), 3)) none))) (cond (Nat.ble pc 131) (cond (Nat.beq pc 131) (some (.aload 6, 2)) none) (cond (Nat.ble pc 133) (cond (Nat.beq pc 133) (some (.ifnonnull 12, 3)) none) (cond (Nat.beq pc 136) (some (.aload_n 0, 1)) none)))))) (cond (Nat.ble pc 160) (cond (Nat.ble pc 147) (cond (Nat.ble pc 139) (cond (Nat.ble pc 137) (cond (Nat.beq pc 137) (some (.aload 5, 2)) none) (cond (Nat.beq pc 139) (some (.putfield 27, 3)) none)) (cond (Nat.ble pc 142) (cond (Nat.beq pc 142) (some (.goto 17, 3)) none) (cond (Nat.ble pc 145) (cond (Nat.beq pc 145) (some (.aload 5, 2)) none) (cond (Nat.beq pc 147) (some (.aload 6, 2)) none)))) (cond (Nat.ble pc 154) (cond (Nat.ble pc 149) (cond (Nat.beq pc 149) (some (.putfield 36, 3)) none) (cond (Nat.ble pc 152) (cond (Nat.beq pc 152) (some (.aload 6, 2)) none) (cond (Nat.beq pc 154) (some (.aload 5, 2)) none))) (cond (Nat.ble pc 156) (cond (Nat.beq pc 156) (some (.putfield 30, 3)) none) (cond (Nat.ble pc 159) (cond (Nat.beq pc 159) (some (.aload_n 0, 1)) none) (cond (Nat.beq pc 160) (some (.dup, 1)) none))))) (cond (Nat.ble pc 171) (cond (Nat.ble pc 166) (cond (Nat.ble pc 161) (cond (Nat.beq pc 161) (some (.getfield 7, 3)) none) (cond (Nat.ble pc 164) (cond (Nat.beq pc 164) (some (.iload 4, 2)) none) (cond (Nat.beq pc 166) (some (.iadd, 1)) none))) (cond (Nat.ble pc 167) (cond (Nat.beq pc 167) (some (.putfield 7, 3)) none) (cond (Nat.ble pc 170) (cond (Nat.beq pc 170) (some (.aload_n 0, 1)) none) (cond (Nat.beq pc 171) (some (.dup, 1)) none)))) (cond (Nat.ble pc 176) (cond (Nat.ble pc 172) (cond (Nat.beq pc 172) (some (.getfield 33, 3)) none) (cond (Nat.ble pc 175) (cond (Nat.beq pc 175) (some (.iconst 1, 1)) none) (cond (Nat.beq pc 176) (some (.iadd, 1)) none))) (cond (Nat.ble pc 177) (cond (Nat.beq pc 177) (some (.putfield 33, 3)) none) (cond (Nat.ble pc 180) (cond (Nat.beq pc 180) (some (.iconst 1, 1)) none) (cond (Nat.beq pc 181) (some (.ireturn, 1)) none))))))))
theorem tkJ7_addAll_2 : tkAll cJ7_addAll_2 tbJ7_addAll_2 := fun pc => (tk_b (tk_b (tk_b (tk_b (tk_b (tk_b (tk_l dJ7_addAll_2_0) (tk_l dJ7_addAll_2_1)) (tk_b (tk_l dJ7_addAll_2_2) (tk_b (tk_l dJ7_addAll_2_5) (tk_l dJ7_addAll_2_6)))) (tk_b (tk_b (tk_l dJ7_addAll_2_11) (tk_b (tk_l dJ7_addAll_2_12) (tk_l dJ7_addAll_2_13))) (tk_b (tk_l dJ7_addAll_2_14) (tk_b (tk_l dJ7_addAll_2_16) (tk_l dJ7_addAll_2_18))))) (tk_b (tk_b (tk_b (tk_l dJ7_addAll_2_21) (tk_b (tk_l dJ7_addAll_2_22) (tk_l dJ7_addAll_2_23))) (tk_b (tk_l dJ7_addAll_2_24) (tk_b (tk_l dJ7_addAll_2_25) (tk_l dJ7_addAll_2_28)))) (tk_b (tk_b (tk_l dJ7_addAll_2_31) (tk_b (tk_l dJ7_addAll_2_32) (tk_l dJ7_addAll_2_34))) (tk_b (tk_l dJ7_addAll_2_35) (tk_b (tk_l dJ7_addAll_2_38) (tk_l dJ7_addAll_2_40)))))) (tk_b (tk_b (tk_b (tk_b (tk_l dJ7_addAll_2_43) (tk_l dJ7_addAll_2_44)) (tk_b (tk_l dJ7_addAll_2_45) (tk_b (tk_l dJ7_addAll_2_48) (tk_l dJ7_addAll_2_50)))) (tk_b (tk_b (tk_l dJ7_addAll_2_52) (tk_b (tk_l dJ7_addAll_2_55) (tk_l dJ7_addAll_2_57))) (tk_b (tk_l dJ7_addAll_2_58) (tk_b (tk_l dJ7_addAll_2_60) (tk_l dJ7_addAll_2_62))))) (tk_b (tk_b (tk_b (tk_l dJ7_addAll_2_63) (tk_b (tk_l dJ7_addAll_2_65) (tk_l dJ7_addAll_2_66))) (tk_b (tk_l dJ7_addAll_2_68) (tk_b (tk_l dJ7_addAll_2_70) (tk_l dJ7_addAll_2_72)))) (tk_b (tk_b (tk_l dJ7_addAll_2_75) (tk_b (tk_l dJ7_addAll_2_77) (tk_l dJ7_addAll_2_79))) (tk_b (tk_l dJ7_addAll_2_80) (tk_b (tk_l dJ7_addAll_2_82) (tk_l dJ7_addAll_2_84))))))) (tk_b (tk_b (tk_b (tk_b (tk_b (tk_l dJ7_addAll_2_86) (tk_l dJ7_addAll_2_89)) (tk_b (tk_l dJ7_addAll_2_90) (tk_b (tk_l dJ7_addAll_2_92) (tk_l dJ7_addAll_2_94)))) (tk_b (tk_b (tk_l dJ7_addAll_2_95) (tk_b (tk_l dJ7_addAll_2_98) (tk_l dJ7_addAll_2_100))) (tk_b (tk_l dJ7_addAll_2_102) (tk_b (tk_l dJ7_addAll_2_105) (tk_l dJ7_addAll_2_106))))) (tk_b (tk_b (tk_b (tk_l dJ7_addAll_2_108) (tk_b (tk_l dJ7_addAll_2_111) (tk_l dJ7_addAll_2_114))) (tk_b (tk_l dJ7_addAll_2_116) (tk_b (tk_l dJ7_addAll_2_118) (tk_l dJ7_addAll_2_121)))) (tk_b (tk_b (tk_l dJ7_addAll_2_123) (tk_b (tk_l dJ7_addAll_2_125) (tk_l dJ7_addAll_2_128))) (tk_b (tk_l dJ7_addAll_2_131) (tk_b (tk_l dJ7_addAll_2_133) (tk_l dJ7_addAll_2_136)))))) (tk_b (tk_b (tk_b (tk_b (tk_l dJ7_addAll_2_137) (tk_l dJ7_addAll_2_139)) (tk_b (tk_l dJ7_addAll_2_142) (tk_b (tk_l dJ7_addAll_2_145) (tk_l dJ7_addAll_2_147)))) (tk_b (tk_b (tk_l dJ7_addAll_2_149) (tk_b (tk_l dJ7_addAll_2_152) (tk_l dJ7_addAll_2_154))) (tk_b (tk_l dJ7_addAll_2_156) (tk_b (tk_l dJ7_addAll_2_159) (tk_l dJ7_addAll_2_160))))) (tk_b (tk_b (tk_b (tk_l dJ7_addAll_2_161) (tk_b (tk_l dJ7_addAll_2_164) (tk_l dJ7_addAll_2_166))) (tk_b (tk_l dJ7_addAll_2_167) (tk_b (tk_l dJ7_addAll_2_170) (tk_l dJ7_addAll_2_171)))) (tk_b (tk_b (tk_l dJ7_addAll_2_172) (tk_b (tk_l dJ7_addAll_2_175) (tk_l dJ7_addAll_2_176))) (tk_b (tk_l dJ7_addAll_2_177) (tk_b (tk_l dJ7_addAll_2_180) (tk_l dJ7_addAll_2_181))))))))
def tbJ7_toArray (pc : Nat) : Option (Instr × Nat) := (cond (Nat.ble pc 16) (cond (Nat.ble pc 8) (cond (Nat.ble pc 1) (cond (Nat.ble pc 0) (cond (Nat.beq pc 0) (some (.aload_n 0, 1)) none) (cond (Nat.beq pc 1) (some (.getfield 7, 3)) none)) (cond (Nat.ble pc 4) (cond (Nat.beq pc 4) (some (.anewarray 68, 3)) none) (cond (Nat.ble pc 7) (cond (Nat.beq pc 7) (some (.astore_n 1, 1)) none) (cond (Nat.beq pc 8) (some (.iconst 0, 1)) none)))) (cond (Nat.ble pc 11) (cond (Nat.ble pc 9) (cond (Nat.beq pc 9) (some (.istore_n 2, 1)) none) (cond (Nat.ble pc 10) (cond (Nat.beq pc 10) (some (.aload_n 0, 1)) none) (cond (Nat.beq pc 11) (some (.getfield 18, 3)) none))) (cond (Nat.ble pc 14) (cond (Nat.beq pc 14) (some (.astore_n 3, 1)) none) (cond (Nat.ble pc 15) (cond (Nat.beq pc 15) (some (.aload_n 3, 1)) none) (cond (Nat.beq pc 16) (some (.ifnull 21, 3)) none))))) (cond (Nat.ble pc 28) (cond (Nat.ble pc 21) (cond (Nat.ble pc 19) (cond (Nat.beq pc 19) (some (.aload_n 1, 1)) none) (cond (Nat.ble pc 20) (cond (Nat.beq pc 20) (some (.iload_n 2, 1)) none) (cond (Nat.beq pc 21) (some (.iinc 2 1, 3)) none))) (cond (Nat.ble pc 24) (cond (Nat.beq pc 24) (some (.aload_n 3, 1)) none) (cond (Nat.ble pc 25) (cond (Nat.beq pc 25) (some (.getfield 39, 3)) none) (cond (Nat.beq pc 28) (some (.aastore, 1)) none)))) (cond (Nat.ble pc 33) (cond (Nat.ble pc 29) (cond (Nat.beq pc 29) (some (.aload_n 3, 1)) none) (cond (Nat.ble pc 30) (cond (Nat.beq pc 30) (some (.getfield 36, 3)) none) (cond (Nat.beq pc 33) (some (.astore_n 3, 1)) none))) (cond (Nat.ble pc 34) (cond (Nat.beq pc 34) (some (.goto (-19), 3)) none) (cond (Nat.ble pc 37) (cond (Nat.beq pc 37) (some (.aload_n 1, 1)) none) (cond (Nat.beq pc 38) (some (.areturn, 1)) none))))))
theorem tkJ7_toArray : tkAll cJ7_toArray tbJ7_toArray := fun pc => (tk_b (tk_b (tk_b (tk_b (tk_l dJ7_toArray_0) (tk_l dJ7_toArray_1)) (tk_b (tk_l dJ7_toArray_4) (tk_b (tk_l dJ7_toArray_7) (tk_l dJ7_toArray_8)))) (tk_b (tk_b (tk_l dJ7_toArray_9) (tk_b (tk_l dJ7_toArray_10) (tk_l dJ7_toArray_11))) (tk_b (tk_l dJ7_toArray_14) (tk_b (tk_l dJ7_toArray_15) (tk_l dJ7_toArray_16))))) (tk_b (tk_b (tk_b (tk_l dJ7_toArray_19) (tk_b (tk_l dJ7_toArray_20) (tk_l dJ7_toArray_21))) (tk_b (tk_l dJ7_toArray_24) (tk_b (tk_l dJ7_toArray_25) (tk_l dJ7_toArray_28)))) (tk_b (tk_b (tk_l dJ7_toArray_29) (tk_b (tk_l dJ7_toArray_30) (tk_l dJ7_toArray_33))) (tk_b (tk_l dJ7_toArray_34) (tk_b (tk_l dJ7_toArray_37) (tk_l dJ7_toArray_38))))))
def tbJ7_clear (pc : Nat) : Option (Instr × Nat) := (cond (Nat.ble pc 29) (cond (Nat.ble pc 14) (cond (Nat.ble pc 5) (cond (Nat.ble pc 1) (cond (Nat.ble pc 0) (cond (Nat.beq pc 0) (some (.aload_n 0, 1)) none) (cond (Nat.beq pc 1) (some (.getfield 18, 3)) none)) (cond (Nat.ble pc 4) (cond (Nat.beq pc 4) (some (.astore_n 1, 1)) none) (cond (Nat.beq pc 5) (some (.aload_n 1, 1)) none))) (cond (Nat.ble pc 9) (cond (Nat.ble pc 6) (cond (Nat.beq pc 6) (some (.ifnull 28, 3)) none) (cond (Nat.beq pc 9) (some (.aload_n 1, 1)) none)) (cond (Nat.ble pc 10) (cond (Nat.beq pc 10) (some (.getfield 36, 3)) none) (cond (Nat.ble pc 13) (cond (Nat.beq pc 13) (some (.astore_n 2, 1)) none) (cond (Nat.beq pc 14) (some (.aload_n 1, 1)) none))))) (cond (Nat.ble pc 20) (cond (Nat.ble pc 16) (cond (Nat.ble pc 15) (cond (Nat.beq pc 15) (some (.aconst_null, 1)) none) (cond (Nat.beq pc 16) (some (.putfield 39, 3)) none)) (cond (Nat.ble pc 19) (cond (Nat.beq pc 19) (some (.aload_n 1, 1)) none) (cond (Nat.beq pc 20) (some (.aconst_null, 1)) none))) (cond (Nat.ble pc 24) (cond (Nat.ble pc 21) (cond (Nat.beq pc 21) (some (.putfield 36, 3)) none) (cond (Nat.beq pc 24) (some (.aload_n 1, 1)) none)) (cond (Nat.ble pc 25) (cond (Nat.beq pc 25) (some (.aconst_null, 1)) none) (cond (Nat.ble pc 26) (cond (Nat.beq pc 26) (some (.putfield 30, 3)) none) (cond (Nat.beq pc 29) (some (.aload_n 2, 1)) none)))))) (cond (Nat.ble pc 44) (cond (Nat.ble pc 35) (cond (Nat.ble pc 31) (cond (Nat.ble pc 30) (cond (Nat.beq pc 30) (some (.astore_n 1, 1)) none) (cond (Nat.beq pc 31) (some (.goto (-26), 3)) none)) (cond (Nat.ble pc 34) (cond (Nat.beq pc 34) (some (.aload_n 0, 1)) none) (cond (Nat.beq pc 35) (some (.aload_n 0, 1)) none))) (cond (Nat.ble pc 37) (cond (Nat.ble pc 36) (cond (Nat.beq pc 36) (some (.aconst_null, 1)) none) (cond (Nat.beq pc 37) (some (.dup_x1, 1)) none)) (cond (Nat.ble pc 38) (cond (Nat.beq pc 38) (some (.putfield 27, 3)) none) (cond (Nat.ble pc 41) (cond (Nat.beq pc 41) (some (.putfield 18, 3)) none) (cond (Nat.beq pc 44) (some (.aload_n 0, 1)) none))))) (cond (Nat.ble pc 50) (cond (Nat.ble pc 46) (cond (Nat.ble pc 45) (cond (Nat.beq pc 45) (some (.iconst 0, 1)) none) (cond (Nat.beq pc 46) (some (.putfield 7, 3)) none)) (cond (Nat.ble pc 49) (cond (Nat.beq pc 49) (some (.aload_n 0, 1)) none) (cond (Nat.beq pc 50) (some (.dup, 1)) none))) (cond (Nat.ble pc 54) (cond (Nat.ble pc 51) (cond (Nat.beq pc 51) (some (.getfield 33, 3)) none) (cond (Nat.beq pc 54) (some (.iconst 1, 1)) none)) (cond (Nat.ble pc 55) (cond (Nat.beq pc 55) (some (.iadd, 1)) none) (cond (Nat.ble pc 56) (cond (Nat.beq pc 56) (some (.putfield 33, 3)) none) (cond (Nat.beq pc 59) (some (.return_, 1)) none)))))))
theorem tkJ7_clear : tkAll cJ7_clear tbJ7_clear := fun pc => (tk_b (tk_b (tk_b (tk_b (tk_b (tk_l dJ7_clear_0) (tk_l dJ7_clear_1)) (tk_b (tk_l dJ7_clear_4) (tk_l dJ7_clear_5))) (tk_b (tk_b (tk_l dJ7_clear_6) (tk_l dJ7_clear_9)) (tk_b (tk_l dJ7_clear_10) (tk_b (tk_l dJ7_clear_13) (tk_l dJ7_clear_14))))) (tk_b (tk_b (tk_b (tk_l dJ7_clear_15) (tk_l dJ7_clear_16)) (tk_b (tk_l dJ7_clear_19) (tk_l dJ7_clear_20))) (tk_b (tk_b (tk_l dJ7_clear_21) (tk_l dJ7_clear_24)) (tk_b (tk_l dJ7_clear_25) (tk_b (tk_l dJ7_clear_26) (tk_l dJ7_clear_29)))))) (tk_b (tk_b (tk_b (tk_b (tk_l dJ7_clear_30) (tk_l dJ7_clear_31)) (tk_b (tk_l dJ7_clear_34) (tk_l dJ7_clear_35))) (tk_b (tk_b (tk_l dJ7_clear_36) (tk_l dJ7_clear_37)) (tk_b (tk_l dJ7_clear_38) (tk_b (tk_l dJ7_clear_41) (tk_l dJ7_clear_44))))) (tk_b (tk_b (tk_b (tk_l dJ7_clear_45) (tk_l dJ7_clear_46)) (tk_b (tk_l dJ7_clear_49) (tk_l dJ7_clear_50))) (tk_b (tk_b (tk_l dJ7_clear_51) (tk_l dJ7_clear_54)) (tk_b (tk_l dJ7_clear_55) (tk_b (tk_l dJ7_clear_56) (tk_l dJ7_clear_59)))))))
def tbJ8_newLength (pc : Nat) : Option (Instr × Nat) := (cond (Nat.ble pc 10) (cond (Nat.ble pc 3) (cond (Nat.ble pc 1) (cond (Nat.ble pc 0) (cond (Nat.beq pc 0) (some (.iload_n 0, 1)) none) (cond (Nat.beq pc 1) (some (.iload_n 1, 1)) none)) (cond (Nat.ble pc 2) (cond (Nat.beq pc 2) (some (.iload_n 2, 1)) none) (cond (Nat.beq pc 3) (some (.invokestatic 194, 3)) none))) (cond (Nat.ble pc 7) (cond (Nat.ble pc 6) (cond (Nat.beq pc 6) (some (.iadd, 1)) none) (cond (Nat.beq pc 7) (some (.istore_n 3, 1)) none)) (cond (Nat.ble pc 8) (cond (Nat.beq pc 8) (some (.iconst 0, 1)) none) (cond (Nat.ble pc 9) (cond (Nat.beq pc 9) (some (.iload_n 3, 1)) none) (cond (Nat.beq pc 10) (some (.if_icmp .ge 11, 3)) none))))) (cond (Nat.ble pc 19) (cond (Nat.ble pc 14) (cond (Nat.ble pc 13) (cond (Nat.beq pc 13) (some (.iload_n 3, 1)) none) (cond (Nat.beq pc 14) (some (.ldc 200, 2)) none)) (cond (Nat.ble pc 16) (cond (Nat.beq pc 16) (some (.if_icmp .gt 5, 3)) none) (cond (Nat.beq pc 19) (some (.iload_n 3, 1)) none))) (cond (Nat.ble pc 21) (cond (Nat.ble pc 20) (cond (Nat.beq pc 20) (some (.ireturn, 1)) none) (cond (Nat.beq pc 21) (some (.iload_n 0, 1)) none)) (cond (Nat.ble pc 22) (cond (Nat.beq pc 22) (some (.iload_n 1, 1)) none) (cond (Nat.ble pc 23) (cond (Nat.beq pc 23) (some (.invokestatic 201, 3)) none) (cond (Nat.beq pc 26) (some (.ireturn, 1)) none))))))
theorem tkJ8_newLength : tkAll cJ8_newLength tbJ8_newLength := fun pc => (tk_b (tk_b (tk_b (tk_b (tk_l dJ8_newLength_0) (tk_l dJ8_newLength_1)) (tk_b (tk_l dJ8_newLength_2) (tk_l dJ8_newLength_3))) (tk_b (tk_b (tk_l dJ8_newLength_6) (tk_l dJ8_newLength_7)) (tk_b (tk_l dJ8_newLength_8) (tk_b (tk_l dJ8_newLength_9) (tk_l dJ8_newLength_10))))) (tk_b (tk_b (tk_b (tk_l dJ8_newLength_13) (tk_l dJ8_newLength_14)) (tk_b (tk_l dJ8_newLength_16) (tk_l dJ8_newLength_19))) (tk_b (tk_b (tk_l dJ8_newLength_20) (tk_l dJ8_newLength_21)) (tk_b (tk_l dJ8_newLength_22) (tk_b (tk_l dJ8_newLength_23) (tk_l dJ8_newLength_26))))))
def tbJ8_hugeLength (pc : Nat) : Option (Instr × Nat) := (cond (Nat.ble pc 25) (cond (Nat.ble pc 8) (cond (Nat.ble pc 2) (cond (Nat.ble pc 0) (cond (Nat.beq pc 0) (some (.iload_n 0, 1)) none) (cond (Nat.ble pc 1) (cond (Nat.beq pc 1) (some (.iload_n 1, 1)) none) (cond (Nat.beq pc 2) (some (.iadd, 1)) none))) (cond (Nat.ble pc 4) (cond (Nat.ble pc 3) (cond (Nat.beq pc 3) (some (.istore_n 2, 1)) none) (cond (Nat.beq pc 4) (some (.iload_n 2, 1)) none)) (cond (Nat.ble pc 5) (cond (Nat.beq pc 5) (some (.ifCond .ge 44, 3)) none) (cond (Nat.beq pc 8) (some (.new 204, 3)) none)))) (cond (Nat.ble pc 16) (cond (Nat.ble pc 12) (cond (Nat.ble pc 11) (cond (Nat.beq pc 11) (some (.dup, 1)) none) (cond (Nat.beq pc 12) (some (.new 89, 3)) none)) (cond (Nat.ble pc 15) (cond (Nat.beq pc 15) (some (.dup, 1)) none) (cond (Nat.beq pc 16) (some (.invokespecial 91, 3)) none))) (cond (Nat.ble pc 21) (cond (Nat.ble pc 19) (cond (Nat.beq pc 19) (some (.ldc 206, 2)) none) (cond (Nat.beq pc 21) (some (.invokevirtual 94, 3)) none)) (cond (Nat.ble pc 24) (cond (Nat.beq pc 24) (some (.iload_n 0, 1)) none) (cond (Nat.beq pc 25) (some (.invokevirtual 98, 3)) none))))) (cond (Nat.ble pc 45) (cond (Nat.ble pc 34) (cond (Nat.ble pc 30) (cond (Nat.ble pc 28) (cond (Nat.beq pc 28) (some (.ldc 208, 2)) none) (cond (Nat.beq pc 30) (some (.invokevirtual 94, 3)) none)) (cond (Nat.ble pc 33) (cond (Nat.beq pc 33) (some (.iload_n 1, 1)) none) (cond (Nat.beq pc 34) (some (.invokevirtual 98, 3)) none))) (cond (Nat.ble pc 39) (cond (Nat.ble pc 37) (cond (Nat.beq pc 37) (some (.ldc 210, 2)) none) (cond (Nat.beq pc 39) (some (.invokevirtual 94, 3)) none)) (cond (Nat.ble pc 42) (cond (Nat.beq pc 42) (some (.invokevirtual 101, 3)) none) (cond (Nat.beq pc 45) (some (.invokespecial 212, 3)) none)))) (cond (Nat.ble pc 52) (cond (Nat.ble pc 49) (cond (Nat.ble pc 48) (cond (Nat.beq pc 48) (some (.athrow, 1)) none) (cond (Nat.beq pc 49) (some (.iload_n 2, 1)) none)) (cond (Nat.ble pc 50) (cond (Nat.beq pc 50) (some (.ldc 200, 2)) none) (cond (Nat.beq pc 52) (some (.if_icmp .gt 6, 3)) none))) (cond (Nat.ble pc 57) (cond (Nat.ble pc 55) (cond (Nat.beq pc 55) (some (.ldc 200, 2)) none) (cond (Nat.beq pc 57) (some (.ireturn, 1)) none)) (cond (Nat.ble pc 58) (cond (Nat.beq pc 58) (some (.iload_n 2, 1)) none) (cond (Nat.beq pc 59) (some (.ireturn, 1)) none))))))
theorem tkJ8_hugeLength : tkAll cJ8_hugeLength tbJ8_hugeLength := fun pc => (tk_b (tk_b (tk_b (tk_b (tk_l dJ8_hugeLength_0) (tk_b (tk_l dJ8_hugeLength_1) (tk_l dJ8_hugeLength_2))) (tk_b (tk_b (tk_l dJ8_hugeLength_3) (tk_l dJ8_hugeLength_4)) (tk_b (tk_l dJ8_hugeLength_5) (tk_l dJ8_hugeLength_8)))) (tk_b (tk_b (tk_b (tk_l dJ8_hugeLength_11) (tk_l dJ8_hugeLength_12)) (tk_b (tk_l dJ8_hugeLength_15) (tk_l dJ8_hugeLength_16))) (tk_b (tk_b (tk_l dJ8_hugeLength_19) (tk_l dJ8_hugeLength_21)) (tk_b (tk_l dJ8_hugeLength_24) (tk_l dJ8_hugeLength_25))))) (tk_b (tk_b (tk_b (tk_b (tk_l dJ8_hugeLength_28) (tk_l dJ8_hugeLength_30)) (tk_b (tk_l dJ8_hugeLength_33) (tk_l dJ8_hugeLength_34))) (tk_b (tk_b (tk_l dJ8_hugeLength_37) (tk_l dJ8_hugeLength_39)) (tk_b (tk_l dJ8_hugeLength_42) (tk_l dJ8_hugeLength_45)))) (tk_b (tk_b (tk_b (tk_l dJ8_hugeLength_48) (tk_l dJ8_hugeLength_49)) (tk_b (tk_l dJ8_hugeLength_50) (tk_l dJ8_hugeLength_52))) (tk_b (tk_b (tk_l dJ8_hugeLength_55) (tk_l dJ8_hugeLength_57)) (tk_b (tk_l dJ8_hugeLength_58) (tk_l dJ8_hugeLength_59))))))
def tbJ8_vectorizedHashCode (pc : Nat) : Option (Instr × Nat) := (cond (Nat.ble pc 95) (cond (Nat.ble pc 66) (cond (Nat.ble pc 50) (cond (Nat.ble pc 44) (cond (Nat.ble pc 0) (cond (Nat.beq pc 0) (some (.iload 4, 2)) none) (cond (Nat.ble pc 2) (cond (Nat.beq pc 2) (some (.tableswitch 127 4 10 #[42, 55, 127, 127, 88, 101, 114], 42)) none) (cond (Nat.beq pc 44) (some (.iload_n 3, 1)) none))) (cond (Nat.ble pc 46) (cond (Nat.ble pc 45) (cond (Nat.beq pc 45) (some (.aload_n 0, 1)) none) (cond (Nat.beq pc 46) (some (.checkcast 60, 3)) none)) (cond (Nat.ble pc 49) (cond (Nat.beq pc 49) (some (.iload_n 1, 1)) none) (cond (Nat.beq pc 50) (some (.iload_n 2, 1)) none)))) (cond (Nat.ble pc 58) (cond (Nat.ble pc 54) (cond (Nat.ble pc 51) (cond (Nat.beq pc 51) (some (.invokestatic 62, 3)) none) (cond (Nat.beq pc 54) (some (.goto 103, 3)) none)) (cond (Nat.ble pc 57) (cond (Nat.beq pc 57) (some (.aload_n 0, 1)) none) (cond (Nat.beq pc 58) (some (.instanceof 60, 3)) none))) (cond (Nat.ble pc 64) (cond (Nat.ble pc 61) (cond (Nat.beq pc 61) (some (.ifCond .eq 16, 3)) none) (cond (Nat.beq pc 64) (some (.iload_n 3, 1)) none)) (cond (Nat.ble pc 65) (cond (Nat.beq pc 65) (some (.aload_n 0, 1)) none) (cond (Nat.beq pc 66) (some (.checkcast 60, 3)) none))))) (cond (Nat.ble pc 79) (cond (Nat.ble pc 71) (cond (Nat.ble pc 69) (cond (Nat.beq pc 69) (some (.iload_n 1, 1)) none) (cond (Nat.ble pc 70) (cond (Nat.beq pc 70) (some (.iload_n 2, 1)) none) (cond (Nat.beq pc 71) (some (.invokestatic 66, 3)) none))) (cond (Nat.ble pc 77) (cond (Nat.ble pc 74) (cond (Nat.beq pc 74) (some (.goto 83, 3)) none) (cond (Nat.beq pc 77) (some (.iload_n 3, 1)) none)) (cond (Nat.ble pc 78) (cond (Nat.beq pc 78) (some (.aload_n 0, 1)) none) (cond (Nat.beq pc 79) (some (.checkcast 69, 3)) none)))) (cond (Nat.ble pc 87) (cond (Nat.ble pc 83) (cond (Nat.ble pc 82) (cond (Nat.beq pc 82) (some (.iload_n 1, 1)) none) (cond (Nat.beq pc 83) (some (.iload_n 2, 1)) none)) (cond (Nat.ble pc 84) (cond (Nat.beq pc 84) (some (.invokestatic 71, 3)) none) (cond (Nat.beq pc 87) (some (.goto 70, 3)) none))) (cond (Nat.ble pc 91) (cond (Nat.ble pc 90) (cond (Nat.beq pc 90) (some (.iload_n 3, 1)) none) (cond (Nat.beq pc 91) (some (.aload_n 0, 1)) none)) (cond (Nat.ble pc 92) (cond (Nat.beq pc 92) (some (.checkcast 60, 3)) none) (cond (Nat.beq pc 95) (some (.iload_n 1, 1)) none)))))) (cond (Nat.ble pc 122) (cond (Nat.ble pc 108) (cond (Nat.ble pc 100) (cond (Nat.ble pc 96) (cond (Nat.beq pc 96) (some (.iload_n 2, 1)) none) (cond (Nat.ble pc 97) (cond (Nat.beq pc 97) (some (.invokestatic 75, 3)) none) (cond (Nat.beq pc 100) (some (.goto 57, 3)) none))) (cond (Nat.ble pc 104) (cond (Nat.ble pc 103) (cond (Nat.beq pc 103) (some (.iload_n 3, 1)) none) (cond (Nat.beq pc 104) (some (.aload_n 0, 1)) none)) (cond (Nat.ble pc 105) (cond (Nat.beq pc 105) (some (.checkcast 77, 3)) none) (cond (Nat.beq pc 108) (some (.iload_n 1, 1)) none)))) (cond (Nat.ble pc 116) (cond (Nat.ble pc 110) (cond (Nat.ble pc 109) (cond (Nat.beq pc 109) (some (.iload_n 2, 1)) none) (cond (Nat.beq pc 110) (some (.invokestatic 79, 3)) none)) (cond (Nat.ble pc 113) (cond (Nat.beq pc 113) (some (.goto 44, 3)) none) (cond (Nat.beq pc 116) (some (.iload_n 3, 1)) none))) (cond (Nat.ble pc 118) (cond (Nat.ble pc 117) (cond (Nat.beq pc 117) (some (.aload_n 0, 1)) none) (cond (Nat.beq pc 118) (some (.checkcast 82, 3)) none)) (cond (Nat.ble pc 121) (cond (Nat.beq pc 121) (some (.iload_n 1, 1)) none) (cond (Nat.beq pc 122) (some (.iload_n 2, 1)) none))))) (cond (Nat.ble pc 137) (cond (Nat.ble pc 129) (cond (Nat.ble pc 123) (cond (Nat.beq pc 123) (some (.invokestatic 84, 3)) none) (cond (Nat.ble pc 126) (cond (Nat.beq pc 126) (some (.goto 31, 3)) none) (cond (Nat.beq pc 129) (some (.new 87, 3)) none))) (cond (Nat.ble pc 133) (cond (Nat.ble pc 132) (cond (Nat.beq pc 132) (some (.dup, 1)) none) (cond (Nat.beq pc 133) (some (.new 89, 3)) none)) (cond (Nat.ble pc 136) (cond (Nat.beq pc 136) (some (.dup, 1)) none) (cond (Nat.beq pc 137) (some (.invokespecial 91, 3)) none)))) (cond (Nat.ble pc 147) (cond (Nat.ble pc 142) (cond (Nat.ble pc 140) (cond (Nat.beq pc 140) (some (.ldc 92, 2)) none) (cond (Nat.beq pc 142) (some (.invokevirtual 94, 3)) none)) (cond (Nat.ble pc 145) (cond (Nat.beq pc 145) (some (.iload 4, 2)) none) (cond (Nat.beq pc 147) (some (.invokevirtual 98, 3)) none))) (cond (Nat.ble pc 153) (cond (Nat.ble pc 150) (cond (Nat.beq pc 150) (some (.invokevirtual 101, 3)) none) (cond (Nat.beq pc 153) (some (.invokespecial 105, 3)) none)) (cond (Nat.ble pc 156) (cond (Nat.beq pc 156) (some (.athrow, 1)) none) (cond (Nat.beq pc 157) (some (.ireturn, 1)) none)))))))
theorem tkJ8_vectorizedHashCode : tkAll cJ8_vectorizedHashCode tbJ8_vectorizedHashCode := fun pc => (tk_b (tk_b (tk_b (tk_b (tk_b (tk_l dJ8_vectorizedHashCode_0) (tk_b (tk_l dJ8_vectorizedHashCode_2) (tk_l dJ8_vectorizedHashCode_44))) (tk_b (tk_b (tk_l dJ8_vectorizedHashCode_45) (tk_l dJ8_vectorizedHashCode_46)) (tk_b (tk_l dJ8_vectorizedHashCode_49) (tk_l dJ8_vectorizedHashCode_50)))) (tk_b (tk_b (tk_b (tk_l dJ8_vectorizedHashCode_51) (tk_l dJ8_vectorizedHashCode_54)) (tk_b (tk_l dJ8_vectorizedHashCode_57) (tk_l dJ8_vectorizedHashCode_58))) (tk_b (tk_b (tk_l dJ8_vectorizedHashCode_61) (tk_l dJ8_vectorizedHashCode_64)) (tk_b (tk_l dJ8_vectorizedHashCode_65) (tk_l dJ8_vectorizedHashCode_66))))) (tk_b (tk_b (tk_b (tk_l dJ8_vectorizedHashCode_69) (tk_b (tk_l dJ8_vectorizedHashCode_70) (tk_l dJ8_vectorizedHashCode_71))) (tk_b (tk_b (tk_l dJ8_vectorizedHashCode_74) (tk_l dJ8_vectorizedHashCode_77)) (tk_b (tk_l dJ8_vectorizedHashCode_78) (tk_l dJ8_vectorizedHashCode_79)))) (tk_b (tk_b (tk_b (tk_l dJ8_vectorizedHashCode_82) (tk_l dJ8_vectorizedHashCode_83)) (tk_b (tk_l dJ8_vectorizedHashCode_84) (tk_l dJ8_vectorizedHashCode_87))) (tk_b (tk_b (tk_l dJ8_vectorizedHashCode_90) (tk_l dJ8_vectorizedHashCode_91)) (tk_b (tk_l dJ8_vectorizedHashCode_92) (tk_l dJ8_vectorizedHashCode_95)))))) (tk_b (tk_b (tk_b (tk_b (tk_l dJ8_vectorizedHashCode_96) (tk_b (tk_l dJ8_vectorizedHashCode_97) (tk_l dJ8_vectorizedHashCode_100))) (tk_b (tk_b (tk_l dJ8_vectorizedHashCode_103) (tk_l dJ8_vectorizedHashCode_104)) (tk_b (tk_l dJ8_vectorizedHashCode_105) (tk_l dJ8_vectorizedHashCode_108)))) (tk_b (tk_b (tk_b (tk_l dJ8_vectorizedHashCode_109) (tk_l dJ8_vectorizedHashCode_110)) (tk_b (tk_l dJ8_vectorizedHashCode_113) (tk_l dJ8_vectorizedHashCode_116))) (tk_b (tk_b (tk_l dJ8_vectorizedHashCode_117) (tk_l dJ8_vectorizedHashCode_118)) (tk_b (tk_l dJ8_vectorizedHashCode_121) (tk_l dJ8_vectorizedHashCode_122))))) (tk_b (tk_b (tk_b (tk_l dJ8_vectorizedHashCode_123) (tk_b (tk_l dJ8_vectorizedHashCode_126) (tk_l dJ8_vectorizedHashCode_129))) (tk_b (tk_b (tk_l dJ8_vectorizedHashCode_132) (tk_l dJ8_vectorizedHashCode_133)) (tk_b (tk_l dJ8_vectorizedHashCode_136) (tk_l dJ8_vectorizedHashCode_137)))) (tk_b (tk_b (tk_b (tk_l dJ8_vectorizedHashCode_140) (tk_l dJ8_vectorizedHashCode_142)) (tk_b (tk_l dJ8_vectorizedHashCode_145) (tk_l dJ8_vectorizedHashCode_147))) (tk_b (tk_b (tk_l dJ8_vectorizedHashCode_150) (tk_l dJ8_vectorizedHashCode_153)) (tk_b (tk_l dJ8_vectorizedHashCode_156) (tk_l dJ8_vectorizedHashCode_157)))))))
def tbJ8_signedHashCode (pc : Nat) : Option (Instr × Nat) := (cond (Nat.ble pc 17) (cond (Nat.ble pc 5) (cond (Nat.ble pc 1) (cond (Nat.ble pc 0) (cond (Nat.beq pc 0) (some (.iload_n 2, 1)) none) (cond (Nat.beq pc 1) (some (.iload_n 3, 1)) none)) (cond (Nat.ble pc 2) (cond (Nat.beq pc 2) (some (.iadd, 1)) none) (cond (Nat.ble pc 3) (cond (Nat.beq pc 3) (some (.istore 4, 2)) none) (cond (Nat.beq pc 5) (some (.iload_n 2, 1)) none)))) (cond (Nat.ble pc 10) (cond (Nat.ble pc 6) (cond (Nat.beq pc 6) (some (.istore 5, 2)) none) (cond (Nat.ble pc 8) (cond (Nat.beq pc 8) (some (.iload 5, 2)) none) (cond (Nat.beq pc 10) (some (.iload 4, 2)) none))) (cond (Nat.ble pc 12) (cond (Nat.beq pc 12) (some (.if_icmp .ge 23, 3)) none) (cond (Nat.ble pc 15) (cond (Nat.beq pc 15) (some (.bipush 31, 2)) none) (cond (Nat.beq pc 17) (some (.iload_n 0, 1)) none))))) (cond (Nat.ble pc 26) (cond (Nat.ble pc 20) (cond (Nat.ble pc 18) (cond (Nat.beq pc 18) (some (.imul, 1)) none) (cond (Nat.ble pc 19) (cond (Nat.beq pc 19) (some (.aload_n 1, 1)) none) (cond (Nat.beq pc 20) (some (.iload 5, 2)) none))) (cond (Nat.ble pc 22) (cond (Nat.beq pc 22) (some (.baload, 1)) none) (cond (Nat.ble pc 23) (cond (Nat.beq pc 23) (some (.sipush 255, 3)) none) (cond (Nat.beq pc 26) (some (.iand, 1)) none)))) (cond (Nat.ble pc 29) (cond (Nat.ble pc 27) (cond (Nat.beq pc 27) (some (.iadd, 1)) none) (cond (Nat.ble pc 28) (cond (Nat.beq pc 28) (some (.istore_n 0, 1)) none) (cond (Nat.beq pc 29) (some (.iinc 5 1, 3)) none))) (cond (Nat.ble pc 32) (cond (Nat.beq pc 32) (some (.goto (-24), 3)) none) (cond (Nat.ble pc 35) (cond (Nat.beq pc 35) (some (.iload_n 0, 1)) none) (cond (Nat.beq pc 36) (some (.ireturn, 1)) none))))))
theorem tkJ8_signedHashCode : tkAll cJ8_signedHashCode tbJ8_signedHashCode := fun pc => (tk_b (tk_b (tk_b (tk_b (tk_l dJ8_signedHashCode_0) (tk_l dJ8_signedHashCode_1)) (tk_b (tk_l dJ8_signedHashCode_2) (tk_b (tk_l dJ8_signedHashCode_3) (tk_l dJ8_signedHashCode_5)))) (tk_b (tk_b (tk_l dJ8_signedHashCode_6) (tk_b (tk_l dJ8_signedHashCode_8) (tk_l dJ8_signedHashCode_10))) (tk_b (tk_l dJ8_signedHashCode_12) (tk_b (tk_l dJ8_signedHashCode_15) (tk_l dJ8_signedHashCode_17))))) (tk_b (tk_b (tk_b (tk_l dJ8_signedHashCode_18) (tk_b (tk_l dJ8_signedHashCode_19) (tk_l dJ8_signedHashCode_20))) (tk_b (tk_l dJ8_signedHashCode_22) (tk_b (tk_l dJ8_signedHashCode_23) (tk_l dJ8_signedHashCode_26)))) (tk_b (tk_b (tk_l dJ8_signedHashCode_27) (tk_b (tk_l dJ8_signedHashCode_28) (tk_l dJ8_signedHashCode_29))) (tk_b (tk_l dJ8_signedHashCode_32) (tk_b (tk_l dJ8_signedHashCode_35) (tk_l dJ8_signedHashCode_36))))))
def tbJ8_utf16hashCode (pc : Nat) : Option (Instr × Nat) := (cond (Nat.ble pc 17) (cond (Nat.ble pc 5) (cond (Nat.ble pc 1) (cond (Nat.ble pc 0) (cond (Nat.beq pc 0) (some (.iload_n 2, 1)) none) (cond (Nat.beq pc 1) (some (.iload_n 3, 1)) none)) (cond (Nat.ble pc 2) (cond (Nat.beq pc 2) (some (.iadd, 1)) none) (cond (Nat.ble pc 3) (cond (Nat.beq pc 3) (some (.istore 4, 2)) none) (cond (Nat.beq pc 5) (some (.iload_n 2, 1)) none)))) (cond (Nat.ble pc 10) (cond (Nat.ble pc 6) (cond (Nat.beq pc 6) (some (.istore 5, 2)) none) (cond (Nat.ble pc 8) (cond (Nat.beq pc 8) (some (.iload 5, 2)) none) (cond (Nat.beq pc 10) (some (.iload 4, 2)) none))) (cond (Nat.ble pc 12) (cond (Nat.beq pc 12) (some (.if_icmp .ge 26, 3)) none) (cond (Nat.ble pc 15) (cond (Nat.beq pc 15) (some (.bipush 31, 2)) none) (cond (Nat.beq pc 17) (some (.iload_n 0, 1)) none))))) (cond (Nat.ble pc 25) (cond (Nat.ble pc 19) (cond (Nat.ble pc 18) (cond (Nat.beq pc 18) (some (.imul, 1)) none) (cond (Nat.beq pc 19) (some (.getstatic 106, 3)) none)) (cond (Nat.ble pc 22) (cond (Nat.beq pc 22) (some (.aload_n 1, 1)) none) (cond (Nat.ble pc 23) (cond (Nat.beq pc 23) (some (.iload 5, 2)) none) (cond (Nat.beq pc 25) (some (.invokeinterface 110 3, 5)) none)))) (cond (Nat.ble pc 32) (cond (Nat.ble pc 30) (cond (Nat.beq pc 30) (some (.iadd, 1)) none) (cond (Nat.ble pc 31) (cond (Nat.beq pc 31) (some (.istore_n 0, 1)) none) (cond (Nat.beq pc 32) (some (.iinc 5 1, 3)) none))) (cond (Nat.ble pc 35) (cond (Nat.beq pc 35) (some (.goto (-27), 3)) none) (cond (Nat.ble pc 38) (cond (Nat.beq pc 38) (some (.iload_n 0, 1)) none) (cond (Nat.beq pc 39) (some (.ireturn, 1)) none))))))
theorem tkJ8_utf16hashCode : tkAll cJ8_utf16hashCode tbJ8_utf16hashCode := fun pc => (tk_b (tk_b (tk_b (tk_b (tk_l dJ8_utf16hashCode_0) (tk_l dJ8_utf16hashCode_1)) (tk_b (tk_l dJ8_utf16hashCode_2) (tk_b (tk_l dJ8_utf16hashCode_3) (tk_l dJ8_utf16hashCode_5)))) (tk_b (tk_b (tk_l dJ8_utf16hashCode_6) (tk_b (tk_l dJ8_utf16hashCode_8) (tk_l dJ8_utf16hashCode_10))) (tk_b (tk_l dJ8_utf16hashCode_12) (tk_b (tk_l dJ8_utf16hashCode_15) (tk_l dJ8_utf16hashCode_17))))) (tk_b (tk_b (tk_b (tk_l dJ8_utf16hashCode_18) (tk_l dJ8_utf16hashCode_19)) (tk_b (tk_l dJ8_utf16hashCode_22) (tk_b (tk_l dJ8_utf16hashCode_23) (tk_l dJ8_utf16hashCode_25)))) (tk_b (tk_b (tk_l dJ8_utf16hashCode_30) (tk_b (tk_l dJ8_utf16hashCode_31) (tk_l dJ8_utf16hashCode_32))) (tk_b (tk_l dJ8_utf16hashCode_35) (tk_b (tk_l dJ8_utf16hashCode_38) (tk_l dJ8_utf16hashCode_39))))))
def tbJ8_hashCode (pc : Nat) : Option (Instr × Nat) := (cond (Nat.ble pc 15) (cond (Nat.ble pc 5) (cond (Nat.ble pc 1) (cond (Nat.ble pc 0) (cond (Nat.beq pc 0) (some (.iload_n 2, 1)) none) (cond (Nat.beq pc 1) (some (.iload_n 3, 1)) none)) (cond (Nat.ble pc 2) (cond (Nat.beq pc 2) (some (.iadd, 1)) none) (cond (Nat.ble pc 3) (cond (Nat.beq pc 3) (some (.istore 4, 2)) none) (cond (Nat.beq pc 5) (some (.iload_n 2, 1)) none)))) (cond (Nat.ble pc 8) (cond (Nat.ble pc 6) (cond (Nat.beq pc 6) (some (.istore 5, 2)) none) (cond (Nat.beq pc 8) (some (.iload 5, 2)) none)) (cond (Nat.ble pc 10) (cond (Nat.beq pc 10) (some (.iload 4, 2)) none) (cond (Nat.ble pc 12) (cond (Nat.beq pc 12) (some (.if_icmp .ge 19, 3)) none) (cond (Nat.beq pc 15) (some (.bipush 31, 2)) none))))) (cond (Nat.ble pc 22) (cond (Nat.ble pc 18) (cond (Nat.ble pc 17) (cond (Nat.beq pc 17) (some (.iload_n 0, 1)) none) (cond (Nat.beq pc 18) (some (.imul, 1)) none)) (cond (Nat.ble pc 19) (cond (Nat.beq pc 19) (some (.aload_n 1, 1)) none) (cond (Nat.ble pc 20) (cond (Nat.beq pc 20) (some (.iload 5, 2)) none) (cond (Nat.beq pc 22) (some (.caload, 1)) none)))) (cond (Nat.ble pc 25) (cond (Nat.ble pc 23) (cond (Nat.beq pc 23) (some (.iadd, 1)) none) (cond (Nat.ble pc 24) (cond (Nat.beq pc 24) (some (.istore_n 0, 1)) none) (cond (Nat.beq pc 25) (some (.iinc 5 1, 3)) none))) (cond (Nat.ble pc 28) (cond (Nat.beq pc 28) (some (.goto (-20), 3)) none) (cond (Nat.ble pc 31) (cond (Nat.beq pc 31) (some (.iload_n 0, 1)) none) (cond (Nat.beq pc 32) (some (.ireturn, 1)) none))))))
theorem tkJ8_hashCode : tkAll cJ8_hashCode tbJ8_hashCode := fun pc => (tk_b (tk_b (tk_b (tk_b (tk_l dJ8_hashCode_0) (tk_l dJ8_hashCode_1)) (tk_b (tk_l dJ8_hashCode_2) (tk_b (tk_l dJ8_hashCode_3) (tk_l dJ8_hashCode_5)))) (tk_b (tk_b (tk_l dJ8_hashCode_6) (tk_l dJ8_hashCode_8)) (tk_b (tk_l dJ8_hashCode_10) (tk_b (tk_l dJ8_hashCode_12) (tk_l dJ8_hashCode_15))))) (tk_b (tk_b (tk_b (tk_l dJ8_hashCode_17) (tk_l dJ8_hashCode_18)) (tk_b (tk_l dJ8_hashCode_19) (tk_b (tk_l dJ8_hashCode_20) (tk_l dJ8_hashCode_22)))) (tk_b (tk_b (tk_l dJ8_hashCode_23) (tk_b (tk_l dJ8_hashCode_24) (tk_l dJ8_hashCode_25))) (tk_b (tk_l dJ8_hashCode_28) (tk_b (tk_l dJ8_hashCode_31) (tk_l dJ8_hashCode_32))))))
def tbJ8_hashCode_2 (pc : Nat) : Option (Instr × Nat) := (cond (Nat.ble pc 15) (cond (Nat.ble pc 5) (cond (Nat.ble pc 1) (cond (Nat.ble pc 0) (cond (Nat.beq pc 0) (some (.iload_n 2, 1)) none) (cond (Nat.beq pc 1) (some (.iload_n 3, 1)) none)) (cond (Nat.ble pc 2) (cond (Nat.beq pc 2) (some (.iadd, 1)) none) (cond (Nat.ble pc 3) (cond (Nat.beq pc 3) (some (.istore 4, 2)) none) (cond (Nat.beq pc 5) (some (.iload_n 2, 1)) none)))) (cond (Nat.ble pc 8) (cond (Nat.ble pc 6) (cond (Nat.beq pc 6) (some (.istore 5, 2)) none) (cond (Nat.beq pc 8) (some (.iload 5, 2)) none)) (cond (Nat.ble pc 10) (cond (Nat.beq pc 10) (some (.iload 4, 2)) none) (cond (Nat.ble pc 12) (cond (Nat.beq pc 12) (some (.if_icmp .ge 19, 3)) none) (cond (Nat.beq pc 15) (some (.bipush 31, 2)) none))))) (cond (Nat.ble pc 22) (cond (Nat.ble pc 18) (cond (Nat.ble pc 17) (cond (Nat.beq pc 17) (some (.iload_n 0, 1)) none) (cond (Nat.beq pc 18) (some (.imul, 1)) none)) (cond (Nat.ble pc 19) (cond (Nat.beq pc 19) (some (.aload_n 1, 1)) none) (cond (Nat.ble pc 20) (cond (Nat.beq pc 20) (some (.iload 5, 2)) none) (cond (Nat.beq pc 22) (some (.baload, 1)) none)))) (cond (Nat.ble pc 25) (cond (Nat.ble pc 23) (cond (Nat.beq pc 23) (some (.iadd, 1)) none) (cond (Nat.ble pc 24) (cond (Nat.beq pc 24) (some (.istore_n 0, 1)) none) (cond (Nat.beq pc 25) (some (.iinc 5 1, 3)) none))) (cond (Nat.ble pc 28) (cond (Nat.beq pc 28) (some (.goto (-20), 3)) none) (cond (Nat.ble pc 31) (cond (Nat.beq pc 31) (some (.iload_n 0, 1)) none) (cond (Nat.beq pc 32) (some (.ireturn, 1)) none))))))
theorem tkJ8_hashCode_2 : tkAll cJ8_hashCode_2 tbJ8_hashCode_2 := fun pc => (tk_b (tk_b (tk_b (tk_b (tk_l dJ8_hashCode_2_0) (tk_l dJ8_hashCode_2_1)) (tk_b (tk_l dJ8_hashCode_2_2) (tk_b (tk_l dJ8_hashCode_2_3) (tk_l dJ8_hashCode_2_5)))) (tk_b (tk_b (tk_l dJ8_hashCode_2_6) (tk_l dJ8_hashCode_2_8)) (tk_b (tk_l dJ8_hashCode_2_10) (tk_b (tk_l dJ8_hashCode_2_12) (tk_l dJ8_hashCode_2_15))))) (tk_b (tk_b (tk_b (tk_l dJ8_hashCode_2_17) (tk_l dJ8_hashCode_2_18)) (tk_b (tk_l dJ8_hashCode_2_19) (tk_b (tk_l dJ8_hashCode_2_20) (tk_l dJ8_hashCode_2_22)))) (tk_b (tk_b (tk_l dJ8_hashCode_2_23) (tk_b (tk_l dJ8_hashCode_2_24) (tk_l dJ8_hashCode_2_25))) (tk_b (tk_l dJ8_hashCode_2_28) (tk_b (tk_l dJ8_hashCode_2_31) (tk_l dJ8_hashCode_2_32))))))
def tbJ8_hashCode_3 (pc : Nat) : Option (Instr × Nat) := (cond (Nat.ble pc 15) (cond (Nat.ble pc 5) (cond (Nat.ble pc 1) (cond (Nat.ble pc 0) (cond (Nat.beq pc 0) (some (.iload_n 2, 1)) none) (cond (Nat.beq pc 1) (some (.iload_n 3, 1)) none)) (cond (Nat.ble pc 2) (cond (Nat.beq pc 2) (some (.iadd, 1)) none) (cond (Nat.ble pc 3) (cond (Nat.beq pc 3) (some (.istore 4, 2)) none) (cond (Nat.beq pc 5) (some (.iload_n 2, 1)) none)))) (cond (Nat.ble pc 8) (cond (Nat.ble pc 6) (cond (Nat.beq pc 6) (some (.istore 5, 2)) none) (cond (Nat.beq pc 8) (some (.iload 5, 2)) none)) (cond (Nat.ble pc 10) (cond (Nat.beq pc 10) (some (.iload 4, 2)) none) (cond (Nat.ble pc 12) (cond (Nat.beq pc 12) (some (.if_icmp .ge 19, 3)) none) (cond (Nat.beq pc 15) (some (.bipush 31, 2)) none))))) (cond (Nat.ble pc 22) (cond (Nat.ble pc 18) (cond (Nat.ble pc 17) (cond (Nat.beq pc 17) (some (.iload_n 0, 1)) none) (cond (Nat.beq pc 18) (some (.imul, 1)) none)) (cond (Nat.ble pc 19) (cond (Nat.beq pc 19) (some (.aload_n 1, 1)) none) (cond (Nat.ble pc 20) (cond (Nat.beq pc 20) (some (.iload 5, 2)) none) (cond (Nat.beq pc 22) (some (.saload, 1)) none)))) (cond (Nat.ble pc 25) (cond (Nat.ble pc 23) (cond (Nat.beq pc 23) (some (.iadd, 1)) none) (cond (Nat.ble pc 24) (cond (Nat.beq pc 24) (some (.istore_n 0, 1)) none) (cond (Nat.beq pc 25) (some (.iinc 5 1, 3)) none))) (cond (Nat.ble pc 28) (cond (Nat.beq pc 28) (some (.goto (-20), 3)) none) (cond (Nat.ble pc 31) (cond (Nat.beq pc 31) (some (.iload_n 0, 1)) none) (cond (Nat.beq pc 32) (some (.ireturn, 1)) none))))))
theorem tkJ8_hashCode_3 : tkAll cJ8_hashCode_3 tbJ8_hashCode_3 := fun pc => (tk_b (tk_b (tk_b (tk_b (tk_l dJ8_hashCode_3_0) (tk_l dJ8_hashCode_3_1)) (tk_b (tk_l dJ8_hashCode_3_2) (tk_b (tk_l dJ8_hashCode_3_3) (tk_l dJ8_hashCode_3_5)))) (tk_b (tk_b (tk_l dJ8_hashCode_3_6) (tk_l dJ8_hashCode_3_8)) (tk_b (tk_l dJ8_hashCode_3_10) (tk_b (tk_l dJ8_hashCode_3_12) (tk_l dJ8_hashCode_3_15))))) (tk_b (tk_b (tk_b (tk_l dJ8_hashCode_3_17) (tk_l dJ8_hashCode_3_18)) (tk_b (tk_l dJ8_hashCode_3_19) (tk_b (tk_l dJ8_hashCode_3_20) (tk_l dJ8_hashCode_3_22)))) (tk_b (tk_b (tk_l dJ8_hashCode_3_23) (tk_b (tk_l dJ8_hashCode_3_24) (tk_l dJ8_hashCode_3_25))) (tk_b (tk_l dJ8_hashCode_3_28) (tk_b (tk_l dJ8_hashCode_3_31) (tk_l dJ8_hashCode_3_32))))))
def tbJ8_hashCode_4 (pc : Nat) : Option (Instr × Nat) := (cond (Nat.ble pc 15) (cond (Nat.ble pc 5) (cond (Nat.ble pc 1) (cond (Nat.ble pc 0) (cond (Nat.beq pc 0) (some (.iload_n 2, 1)) none) (cond (Nat.beq pc 1) (some (.iload_n 3, 1)) none)) (cond (Nat.ble pc 2) (cond (Nat.beq pc 2) (some (.iadd, 1)) none) (cond (Nat.ble pc 3) (cond (Nat.beq pc 3) (some (.istore 4, 2)) none) (cond (Nat.beq pc 5) (some (.iload_n 2, 1)) none)))) (cond (Nat.ble pc 8) (cond (Nat.ble pc 6) (cond (Nat.beq pc 6) (some (.istore 5, 2)) none) (cond (Nat.beq pc 8) (some (.iload 5, 2)) none)) (cond (Nat.ble pc 10) (cond (Nat.beq pc 10) (some (.iload 4, 2)) none) (cond (Nat.ble pc 12) (cond (Nat.beq pc 12) (some (.if_icmp .ge 19, 3)) none) (cond (Nat.beq pc 15) (some (.bipush 31, 2)) none))))) (cond (Nat.ble pc 22) (cond (Nat.ble pc 18) (cond (Nat.ble pc 17) (cond (Nat.beq pc 17) (some (.iload_n 0, 1)) none) (cond (Nat.beq pc 18) (some (.imul, 1)) none)) (cond (Nat.ble pc 19) (cond (Nat.beq pc 19) (some (.aload_n 1, 1)) none) (cond (Nat.ble pc 20) (cond (Nat.beq pc 20) (some (.iload 5, 2)) none) (cond (Nat.beq pc 22) (some (.iaload, 1)) none)))) (cond (Nat.ble pc 25) (cond (Nat.ble pc 23) (cond (Nat.beq pc 23) (some (.iadd, 1)) none) (cond (Nat.ble pc 24) (cond (Nat.beq pc 24) (some (.istore_n 0, 1)) none) (cond (Nat.beq pc 25) (some (.iinc 5 1, 3)) none))) (cond (Nat.ble pc 28) (cond (Nat.beq pc 28) (some (.goto (-20), 3)) none) (cond (Nat.ble pc 31) (cond (Nat.beq pc 31) (some (.iload_n 0, 1)) none) (cond (Nat.beq pc 32) (some (.ireturn, 1)) none))))))
theorem tkJ8_hashCode_4 : tkAll cJ8_hashCode_4 tbJ8_hashCode_4 := fun pc => (tk_b (tk_b (tk_b (tk_b (tk_l dJ8_hashCode_4_0) (tk_l dJ8_hashCode_4_1)) (tk_b (tk_l dJ8_hashCode_4_2) (tk_b (tk_l dJ8_hashCode_4_3) (tk_l dJ8_hashCode_4_5)))) (tk_b (tk_b (tk_l dJ8_hashCode_4_6) (tk_l dJ8_hashCode_4_8)) (tk_b (tk_l dJ8_hashCode_4_10) (tk_b (tk_l dJ8_hashCode_4_12) (tk_l dJ8_hashCode_4_15))))) (tk_b (tk_b (tk_b (tk_l dJ8_hashCode_4_17) (tk_l dJ8_hashCode_4_18)) (tk_b (tk_l dJ8_hashCode_4_19) (tk_b (tk_l dJ8_hashCode_4_20) (tk_l dJ8_hashCode_4_22)))) (tk_b (tk_b (tk_l dJ8_hashCode_4_23) (tk_b (tk_l dJ8_hashCode_4_24) (tk_l dJ8_hashCode_4_25))) (tk_b (tk_l dJ8_hashCode_4_28) (tk_b (tk_l dJ8_hashCode_4_31) (tk_l dJ8_hashCode_4_32))))))
def tbJ8_mismatch (pc : Nat) : Option (Instr × Nat) := (cond (Nat.ble pc 37) (cond (Nat.ble pc 14) (cond (Nat.ble pc 8) (cond (Nat.ble pc 2) (cond (Nat.ble pc 0) (cond (Nat.beq pc 0) (some (.iconst 0, 1)) none) (cond (Nat.ble pc 1) (cond (Nat.beq pc 1) (some (.istore_n 3, 1)) none) (cond (Nat.beq pc 2) (some (.iload_n 2, 1)) none))) (cond (Nat.ble pc 3) (cond (Nat.beq pc 3) (some (.bipush 7, 2)) none) (cond (Nat.ble pc 5) (cond (Nat.beq pc 5) (some (.if_icmp .le 44, 3)) none) (cond (Nat.beq pc 8) (some (.aload_n 0, 1)) none)))) (cond (Nat.ble pc 11) (cond (Nat.ble pc 9) (cond (Nat.beq pc 9) (some (.iconst 0, 1)) none) (cond (Nat.ble pc 10) (cond (Nat.beq pc 10) (some (.baload, 1)) none) (cond (Nat.beq pc 11) (some (.aload_n 1, 1)) none))) (cond (Nat.ble pc 12) (cond (Nat.beq pc 12) (some (.iconst 0, 1)) none) (cond (Nat.ble pc 13) (cond (Nat.beq pc 13) (some (.baload, 1)) none) (cond (Nat.beq pc 14) (some (.if_icmp .eq 5, 3)) none))))) (cond (Nat.ble pc 24) (cond (Nat.ble pc 19) (cond (Nat.ble pc 17) (cond (Nat.beq pc 17) (some (.iconst 0, 1)) none) (cond (Nat.ble pc 18) (cond (Nat.beq pc 18) (some (.ireturn, 1)) none) (cond (Nat.beq pc 19) (some (.aload_n 0, 1)) none))) (cond (Nat.ble pc 20) (cond (Nat.beq pc 20) (some (.getstatic 126, 3)) none) (cond (Nat.ble pc 23) (cond (Nat.beq pc 23) (some (.i2l, 1)) none) (cond (Nat.beq pc 24) (some (.aload_n 1, 1)) none)))) (cond (Nat.ble pc 29) (cond (Nat.ble pc 25) (cond (Nat.beq pc 25) (some (.getstatic 126, 3)) none) (cond (Nat.ble pc 28) (cond (Nat.beq pc 28) (some (.i2l, 1)) none) (cond (Nat.beq pc 29) (some (.iload_n 2, 1)) none))) (cond (Nat.ble pc 33) (cond (Nat.ble pc 30) (cond (Nat.beq pc 30) (some (.getstatic 129, 3)) none) (cond (Nat.beq pc 33) (some (.invokestatic 122, 3)) none)) (cond (Nat.ble pc 36) (cond (Nat.beq pc 36) (some (.istore_n 3, 1)) none) (cond (Nat.beq pc 37) (some (.iload_n 3, 1)) none)))))) (cond (Nat.ble pc 51) (cond (Nat.ble pc 45) (cond (Nat.ble pc 42) (cond (Nat.ble pc 38) (cond (Nat.beq pc 38) (some (.ifCond .lt 5, 3)) none) (cond (Nat.ble pc 41) (cond (Nat.beq pc 41) (some (.iload_n 3, 1)) none) (cond (Nat.beq pc 42) (some (.ireturn, 1)) none))) (cond (Nat.ble pc 43) (cond (Nat.beq pc 43) (some (.iload_n 2, 1)) none) (cond (Nat.ble pc 44) (cond (Nat.beq pc 44) (some (.iload_n 3, 1)) none) (cond (Nat.beq pc 45) (some (.iconst (-1), 1)) none)))) (cond (Nat.ble pc 48) (cond (Nat.ble pc 46) (cond (Nat.beq pc 46) (some (.ixor, 1)) none) (cond (Nat.ble pc 47) (cond (Nat.beq pc 47) (some (.isub, 1)) none) (cond (Nat.beq pc 48) (some (.istore_n 3, 1)) none))) (cond (Nat.ble pc 49) (cond (Nat.beq pc 49) (some (.iload_n 3, 1)) none) (cond (Nat.ble pc 50) (cond (Nat.beq pc 50) (some (.iload_n 2, 1)) none) (cond (Nat.beq pc 51) (some (.if_icmp .ge 20, 3)) none))))) (cond (Nat.ble pc 59) (cond (Nat.ble pc 56) (cond (Nat.ble pc 54) (cond (Nat.beq pc 54) (some (.aload_n 0, 1)) none) (cond (Nat.ble pc 55) (cond (Nat.beq pc 55) (some (.iload_n 3, 1)) none) (cond (Nat.beq pc 56) (some (.baload, 1)) none))) (cond (Nat.ble pc 57) (cond (Nat.beq pc 57) (some (.aload_n 1, 1)) none) (cond (Nat.ble pc 58) (cond (Nat.beq pc 58) (some (.iload_n 3, 1)) none) (cond (Nat.beq pc 59) (some (.baload, 1)) none)))) (cond (Nat.ble pc 64) (cond (Nat.ble pc 60) (cond (Nat.beq pc 60) (some (.if_icmp .eq 5, 3)) none) (cond (Nat.ble pc 63) (cond (Nat.beq pc 63) (some (.iload_n 3, 1)) none) (cond (Nat.beq pc 64) (some (.ireturn, 1)) none))) (cond (Nat.ble pc 68) (cond (Nat.ble pc 65) (cond (Nat.beq pc 65) (some (.iinc 3 1, 3)) none) (cond (Nat.beq pc 68) (some (.goto (-19), 3)) none)) (cond (Nat.ble pc 71) (cond (Nat.beq pc 71) (some (.iconst (-1), 1)) none) (cond (Nat.beq pc 72) (some (.ireturn, 1)) none)))))))
theorem tkJ8_mismatch : tkAll cJ8_mismatch tbJ8_mismatch := fun pc => (tk_b (tk_b (tk_b (tk_b (tk_b (tk_l dJ8_mismatch_0) (tk_b (tk_l dJ8_mismatch_1) (tk_l dJ8_mismatch_2))) (tk_b (tk_l dJ8_mismatch_3) (tk_b (tk_l dJ8_mismatch_5) (tk_l dJ8_mismatch_8)))) (tk_b (tk_b (tk_l dJ8_mismatch_9) (tk_b (tk_l dJ8_mismatch_10) (tk_l dJ8_mismatch_11))) (tk_b (tk_l dJ8_mismatch_12) (tk_b (tk_l dJ8_mismatch_13) (tk_l dJ8_mismatch_14))))) (tk_b (tk_b (tk_b (tk_l dJ8_mismatch_17) (tk_b (tk_l dJ8_mismatch_18) (tk_l dJ8_mismatch_19))) (tk_b (tk_l dJ8_mismatch_20) (tk_b (tk_l dJ8_mismatch_23) (tk_l dJ8_mismatch_24)))) (tk_b (tk_b (tk_l dJ8_mismatch_25) (tk_b (tk_l dJ8_mismatch_28) (tk_l dJ8_mismatch_29))) (tk_b (tk_b (tk_l dJ8_mismatch_30) (tk_l dJ8_mismatch_33)) (tk_b (tk_l dJ8_mismatch_36) (tk_l dJ8_mismatch_37)))))) (tk_b (tk_b (tk_b (tk_b (tk_l dJ8_mismatch_38) (tk_b (tk_l dJ8_mismatch_41) (tk_l dJ8_mismatch_42))) (tk_b (tk_l dJ8_mismatch_43) (tk_b (tk_l dJ8_mismatch_44) (tk_l dJ8_mismatch_45)))) (tk_b (tk_b (tk_l dJ8_mismatch_46) (tk_b (tk_l dJ8_mismatch_47) (tk_l dJ8_mismatch_48))) (tk_b (tk_l dJ8_mismatch_49) (tk_b (tk_l dJ8_mismatch_50) (tk_l dJ8_mismatch_51))))) (tk_b (tk_b (tk_b (tk_l dJ8_mismatch_54) (tk_b (tk_l dJ8_mismatch_55) (tk_l dJ8_mismatch_56))) (tk_b (tk_l dJ8_mismatch_57) (tk_b (tk_l dJ8_mismatch_58) (tk_l dJ8_mismatch_59)))) (tk_b (tk_b (tk_l dJ8_mismatch_60) (tk_b (tk_l dJ8_mismatch_63) (tk_l dJ8_mismatch_64))) (tk_b (tk_b (tk_l dJ8_mismatch_65) (tk_l dJ8_mismatch_68)) (tk_b (tk_l dJ8_mismatch_71) (tk_l dJ8_mismatch_72)))))))
def tbJ8_vectorizedMismatch (pc : Nat) : Option (Instr × Nat) := (cond (Nat.ble pc 134) (cond (Nat.ble pc 65) (cond (Nat.ble pc 30) (cond (Nat.ble pc 13) (cond (Nat.ble pc 6) (cond (Nat.ble pc 3) (cond (Nat.ble pc 0) (cond (Nat.beq pc 0) (some (.getstatic 20, 3)) none) (cond (Nat.beq pc 3) (some (.iload 7, 2)) none)) (cond (Nat.ble pc 5) (cond (Nat.beq pc 5) (some (.isub, 1)) none) (cond (Nat.beq pc 6) (some (.istore 8, 2)) none))) (cond (Nat.ble pc 9) (cond (Nat.ble pc 8) (cond (Nat.beq pc 8) (some (.iconst 0, 1)) none) (cond (Nat.beq pc 9) (some (.istore 9, 2)) none)) (cond (Nat.ble pc 11) (cond (Nat.beq pc 11) (some (.iload 9, 2)) none) (cond (Nat.beq pc 13) (some (.iload 6, 2)) none)))) (cond (Nat.ble pc 21) (cond (Nat.ble pc 17) (cond (Nat.ble pc 15) (cond (Nat.beq pc 15) (some (.iload 8, 2)) none) (cond (Nat.beq pc 17) (some (.ishr, 1)) none)) (cond (Nat.ble pc 18) (cond (Nat.beq pc 18) (some (.if_icmp .ge 104, 3)) none) (cond (Nat.beq pc 21) (some (.iload 9, 2)) none))) (cond (Nat.ble pc 24) (cond (Nat.ble pc 23) (cond (Nat.beq pc 23) (some (.i2l, 1)) none) (cond (Nat.beq pc 24) (some (.getstatic 20, 3)) none)) (cond (Nat.ble pc 27) (cond (Nat.beq pc 27) (some (.lshl, 1)) none) (cond (Nat.ble pc 28) (cond (Nat.beq pc 28) (some (.lstore 10, 2)) none) (cond (Nat.beq pc 30) (some (.getstatic 26, 3)) none)))))) (cond (Nat.ble pc 47) (cond (Nat.ble pc 37) (cond (Nat.ble pc 34) (cond (Nat.ble pc 33) (cond (Nat.beq pc 33) (some (.aload_n 0, 1)) none) (cond (Nat.beq pc 34) (some (.lload_n 1, 1)) none)) (cond (Nat.ble pc 35) (cond (Nat.beq pc 35) (some (.lload 10, 2)) none) (cond (Nat.beq pc 37) (some (.ladd, 1)) none))) (cond (Nat.ble pc 41) (cond (Nat.ble pc 38) (cond (Nat.beq pc 38) (some (.invokevirtual 30, 3)) none) (cond (Nat.beq pc 41) (some (.lstore 12, 2)) none)) (cond (Nat.ble pc 43) (cond (Nat.beq pc 43) (some (.getstatic 26, 3)) none) (cond (Nat.ble pc 46) (cond (Nat.beq pc 46) (some (.aload_n 3, 1)) none) (cond (Nat.beq pc 47) (some (.lload 4, 2)) none))))) (cond (Nat.ble pc 55) (cond (Nat.ble pc 51) (cond (Nat.ble pc 49) (cond (Nat.beq pc 49) (some (.lload 10, 2)) none) (cond (Nat.beq pc 51) (some (.ladd, 1)) none)) (cond (Nat.ble pc 52) (cond (Nat.beq pc 52) (some (.invokevirtual 30, 3)) none) (cond (Nat.beq pc 55) (some (.lstore 14, 2)) none))) (cond (Nat.ble pc 59) (cond (Nat.ble pc 57) (cond (Nat.beq pc 57) (some (.lload 12, 2)) none) (cond (Nat.beq pc 59) (some (.lload 14, 2)) none)) (cond (Nat.ble pc 61) (cond (Nat.beq pc 61) (some (.lcmp, 1)) none) (cond (Nat.ble pc 62) (cond (Nat.beq pc 62) (some (.ifCond .eq 54, 3)) none) (cond (Nat.beq pc 65) (some (.lload 12, 2)) none))))))) (cond (Nat.ble pc 103) (cond (Nat.ble pc 83) (cond (Nat.ble pc 72) (cond (Nat.ble pc 69) (cond (Nat.ble pc 67) (cond (Nat.beq pc 67) (some (.lload 14, 2)) none) (cond (Nat.beq pc 69) (some (.lxor, 1)) none)) (cond (Nat.ble pc 70) (cond (Nat.beq pc 70) (some (.lstore 16, 2)) none) (cond (Nat.beq pc 72) (some (.getstatic 36, 3)) none))) (cond (Nat.ble pc 78) (cond (Nat.ble pc 75) (cond (Nat.beq pc 75) (some (.ifCond .eq 18, 3)) none) (cond (Nat.beq pc 78) (some (.lload 16, 2)) none)) (cond (Nat.ble pc 80) (cond (Nat.beq pc 80) (some (.invokestatic 40, 3)) none) (cond (Nat.beq pc 83) (some (.getstatic 46, 3)) none)))) (cond (Nat.ble pc 90) (cond (Nat.ble pc 88) (cond (Nat.ble pc 86) (cond (Nat.beq pc 86) (some (.iload 7, 2)) none) (cond (Nat.beq pc 88) (some (.iadd, 1)) none)) (cond (Nat.ble pc 89) (cond (Nat.beq pc 89) (some (.ishr, 1)) none) (cond (Nat.beq pc 90) (some (.goto 15, 3)) none))) (cond (Nat.ble pc 95) (cond (Nat.ble pc 93) (cond (Nat.beq pc 93) (some (.lload 16, 2)) none) (cond (Nat.beq pc 95) (some (.invokestatic 49, 3)) none)) (cond (Nat.ble pc 98) (cond (Nat.beq pc 98) (some (.getstatic 46, 3)) none) (cond (Nat.ble pc 101) (cond (Nat.beq pc 101) (some (.iload 7, 2)) none) (cond (Nat.beq pc 103) (some (.iadd, 1)) none)))))) (cond (Nat.ble pc 116) (cond (Nat.ble pc 109) (cond (Nat.ble pc 105) (cond (Nat.ble pc 104) (cond (Nat.beq pc 104) (some (.ishr, 1)) none) (cond (Nat.beq pc 105) (some (.istore 18, 2)) none)) (cond (Nat.ble pc 107) (cond (Nat.beq pc 107) (some (.iload 9, 2)) none) (cond (Nat.beq pc 109) (some (.iload 8, 2)) none))) (cond (Nat.ble pc 112) (cond (Nat.ble pc 111) (cond (Nat.beq pc 111) (some (.ishl, 1)) none) (cond (Nat.beq pc 112) (some (.iload 18, 2)) none)) (cond (Nat.ble pc 114) (cond (Nat.beq pc 114) (some (.iadd, 1)) none) (cond (Nat.ble pc 115) (cond (Nat.beq pc 115) (some (.ireturn, 1)) none) (cond (Nat.beq pc 116) (some (.iinc 9 1, 3)) none))))) (cond (Nat.ble pc 126) (cond (Nat.ble pc 122) (cond (Nat.ble pc 119) (cond (Nat.beq pc 119) (some (.goto (-108), 3)) none) (cond (Nat.beq pc 122) (some (.iload 6, 2)) none)) (cond (Nat.ble pc 124) (cond (Nat.beq pc 124) (some (.iload 9, 2)) none) (cond (Nat.beq pc 126) (some (.iload 8, 2)) none))) (cond (Nat.ble pc 129) (cond (Nat.ble pc 128) (cond (Nat.beq pc 128) (some (.ishl, 1)) none) (cond (Nat.beq pc 129) (some (.isub, 1)) none)) (cond (Nat.ble pc 130) (cond (Nat.beq pc 130) (some (.istore 10, 2)) none) (cond (Nat.ble pc 132) (cond (Nat.beq pc 132) (some (.iload 7, 2)) none) (cond (Nat.beq pc 134) (some (.getstatic 51, 3)) none)))))))) (cond (Nat.ble pc 204) (cond (Nat.ble pc 169) (cond (Nat.ble pc 150) (cond (Nat.ble pc 144) (cond (Nat.ble pc 140) (cond (Nat.ble pc 137) (cond (Nat.beq pc 137) (some (.if_icmp .ge 126, 3)) none) (cond (Nat.beq pc 140) (some (.iconst 1, 1)) none)) (cond (Nat.ble pc 141) (cond (Nat.beq pc 141) (some (.getstatic 51, 3)) none) (cond (Nat.beq pc 144) (some (.iload 7, 2)) none))) (cond (Nat.ble pc 147) (cond (Nat.ble pc 146) (cond (Nat.beq pc 146) (some (.isub, 1)) none) (cond (Nat.beq pc 147) (some (.ishl, 1)) none)) (cond (Nat.ble pc 148) (cond (Nat.beq pc 148) (some (.istore 11, 2)) none) (cond (Nat.beq pc 150) (some (.iload 10, 2)) none)))) (cond (Nat.ble pc 159) (cond (Nat.ble pc 154) (cond (Nat.ble pc 152) (cond (Nat.beq pc 152) (some (.iload 11, 2)) none) (cond (Nat.beq pc 154) (some (.if_icmp .lt 104, 3)) none)) (cond (Nat.ble pc 157) (cond (Nat.beq pc 157) (some (.iload 9, 2)) none) (cond (Nat.beq pc 159) (some (.i2l, 1)) none))) (cond (Nat.ble pc 163) (cond (Nat.ble pc 160) (cond (Nat.beq pc 160) (some (.getstatic 20, 3)) none) (cond (Nat.beq pc 163) (some (.lshl, 1)) none)) (cond (Nat.ble pc 164) (cond (Nat.beq pc 164) (some (.lstore 12, 2)) none) (cond (Nat.ble pc 166) (cond (Nat.beq pc 166) (some (.getstatic 26, 3)) none) (cond (Nat.beq pc 169) (some (.aload_n 0, 1)) none)))))) (cond (Nat.ble pc 185) (cond (Nat.ble pc 174) (cond (Nat.ble pc 171) (cond (Nat.ble pc 170) (cond (Nat.beq pc 170) (some (.lload_n 1, 1)) none) (cond (Nat.beq pc 171) (some (.lload 12, 2)) none)) (cond (Nat.ble pc 173) (cond (Nat.beq pc 173) (some (.ladd, 1)) none) (cond (Nat.beq pc 174) (some (.invokevirtual 54, 3)) none))) (cond (Nat.ble pc 179) (cond (Nat.ble pc 177) (cond (Nat.beq pc 177) (some (.istore 14, 2)) none) (cond (Nat.beq pc 179) (some (.getstatic 26, 3)) none)) (cond (Nat.ble pc 182) (cond (Nat.beq pc 182) (some (.aload_n 3, 1)) none) (cond (Nat.ble pc 183) (cond (Nat.beq pc 183) (some (.lload 4, 2)) none) (cond (Nat.beq pc 185) (some (.lload 12, 2)) none))))) (cond (Nat.ble pc 193) (cond (Nat.ble pc 188) (cond (Nat.ble pc 187) (cond (Nat.beq pc 187) (some (.ladd, 1)) none) (cond (Nat.beq pc 188) (some (.invokevirtual 54, 3)) none)) (cond (Nat.ble pc 191) (cond (Nat.beq pc 191) (some (.istore 15, 2)) none) (cond (Nat.beq pc 193) (some (.iload 14, 2)) none))) (cond (Nat.ble pc 197) (cond (Nat.ble pc 195) (cond (Nat.beq pc 195) (some (.iload 15, 2)) none) (cond (Nat.beq pc 197) (some (.if_icmp .eq 54, 3)) none)) (cond (Nat.ble pc 200) (cond (Nat.beq pc 200) (some (.iload 14, 2)) none) (cond (Nat.ble pc 202) (cond (Nat.beq pc 202) (some (.iload 15, 2)) none) (cond (Nat.beq pc 204) (some (.ixor, 1)) none))))))) (cond (Nat.ble pc 240) (cond (Nat.ble pc 223) (cond (Nat.ble pc 213) (cond (Nat.ble pc 207) (cond (Nat.ble pc 205) (cond (Nat.beq pc 205) (some (.istore 16, 2)) none) (cond (Nat.beq pc 207) (some (.getstatic 36, 3)) none)) (cond (Nat.ble pc 210) (cond (Nat.beq pc 210) (some (.ifCond .eq 18, 3)) none) (cond (Nat.beq pc 213) (some (.iload 16, 2)) none))) (cond (Nat.ble pc 218) (cond (Nat.ble pc 215) (cond (Nat.beq pc 215) (some (.invokestatic 58, 3)) none) (cond (Nat.beq pc 218) (some (.getstatic 46, 3)) none)) (cond (Nat.ble pc 221) (cond (Nat.beq pc 221) (some (.iload 7, 2)) none) (cond (Nat.beq pc 223) (some (.iadd, 1)) none)))) (cond (Nat.ble pc 230) (cond (Nat.ble pc 225) (cond (Nat.ble pc 224) (cond (Nat.beq pc 224) (some (.ishr, 1)) none) (cond (Nat.beq pc 225) (some (.goto 15, 3)) none)) (cond (Nat.ble pc 228) (cond (Nat.beq pc 228) (some (.iload 16, 2)) none) (cond (Nat.beq pc 230) (some (.invokestatic 11, 3)) none))) (cond (Nat.ble pc 236) (cond (Nat.ble pc 233) (cond (Nat.beq pc 233) (some (.getstatic 46, 3)) none) (cond (Nat.beq pc 236) (some (.iload 7, 2)) none)) (cond (Nat.ble pc 238) (cond (Nat.beq pc 238) (some (.iadd, 1)) none) (cond (Nat.ble pc 239) (cond (Nat.beq pc 239) (some (.ishr, 1)) none) (cond (Nat.beq pc 240) (some (.istore 17, 2)) none)))))) (cond (Nat.ble pc 255) (cond (Nat.ble pc 247) (cond (Nat.ble pc 244) (cond (Nat.ble pc 242) (cond (Nat.beq pc 242) (some (.iload 9, 2)) none) (cond (Nat.beq pc 244) (some (.iload 8, 2)) none)) (cond (Nat.ble pc 246) (cond (Nat.beq pc 246) (some (.ishl, 1)) none) (cond (Nat.beq pc 247) (some (.iload 17, 2)) none))) (cond (Nat.ble pc 250) (cond (Nat.ble pc 249) (cond (Nat.beq pc 249) (some (.iadd, 1)) none) (cond (Nat.beq pc 250) (some (.ireturn, 1)) none)) (cond (Nat.ble pc 251) (cond (Nat.beq pc 251) (some (.iload 10, 2)) none) (cond (Nat.ble pc 253) (cond (Nat.beq pc 253) (some (.iload 11, 2)) none) (cond (Nat.beq pc 255) (some (.isub, 1)) none))))) (cond (Nat.ble pc 261) (cond (Nat.ble pc 258) (cond (Nat.ble pc 256) (cond (Nat.beq pc 256) (some (.istore 10, 2)) none) (cond (Nat.beq pc 258) (some (.iload 10, 2)) none)) (cond (Nat.ble pc 260) (cond (Nat.beq pc 260) (some (.iconst (-1), 1)) none) (cond (Nat.beq pc 261) (some (.ixor, 1)) none))) (cond (Nat.ble pc 263) (cond (Nat.ble pc 262) (cond (Nat.beq pc 262) (some (.ireturn, 1)) none) (cond (Nat.beq pc 263) (some (.iload 10, 2)) none)) (cond (Nat.ble pc 265) (cond (Nat.beq pc 265) (some (.iconst (-1), 1)) none) (cond (Nat.ble pc 266) (cond (Nat.beq pc 266) (some (.ixor, 1)) none) (cond (Nat.beq pc 267) (some (.ireturn, 1)) none)))))))))
theorem tkJ8_vectorizedMismatch : tkAll cJ8_vectorizedMismatch tbJ8_vectorizedMismatch := fun pc => (tk_b (tk_b (tk_b (tk_b (tk_b (tk_b (tk_b (tk_l dJ8_vectorizedMismatch_0) (tk_l dJ8_vectorizedMismatch_3)) (tk_b (tk_l dJ8_vectorizedMismatch_5) (tk_l dJ8_vectorizedMismatch_6))) (tk_b (tk_b (tk_l dJ8_vectorizedMismatch_8) (tk_l dJ8_vectorizedMismatch_9)) (tk_b (tk_l dJ8_vectorizedMismatch_11) (tk_l dJ8_vectorizedMismatch_13)))) (tk_b (tk_b (tk_b (tk_l dJ8_vectorizedMismatch_15) (tk_l dJ8_vectorizedMismatch_17)) (tk_b (tk_l dJ8_vectorizedMismatch_18) (tk_l dJ8_vectorizedMismatch_21))) (tk_b (tk_b (tk_l dJ8_vectorizedMismatch_23) (tk_l dJ8_vectorizedMismatch_24)) (tk_b (tk_l dJ8_vectorizedMismatch_27) (tk_b (tk_l dJ8_vectorizedMismatch_28) (tk_l dJ8_vectorizedMismatch_30)))))) (tk_b (tk_b (tk_b (tk_b (tk_l dJ8_vectorizedMismatch_33) (tk_l dJ8_vectorizedMismatch_34)) (tk_b (tk_l dJ8_vectorizedMismatch_35) (tk_l dJ8_vectorizedMismatch_37))) (tk_b (tk_b (tk_l dJ8_vectorizedMismatch_38) (tk_l dJ8_vectorizedMismatch_41)) (tk_b (tk_l dJ8_vectorizedMismatch_43) (tk_b (tk_l dJ8_vectorizedMismatch_46) (tk_l dJ8_vectorizedMismatch_47))))) (tk_b (tk_b (tk_b (tk_l dJ8_vectorizedMismatch_49) (tk_l dJ8_vectorizedMismatch_51)) (tk_b (tk_l dJ8_vectorizedMismatch_52) (tk_l dJ8_vectorizedMismatch_55))) (tk_b (tk_b (tk_l dJ8_vectorizedMismatch_57) (tk_l dJ8_vectorizedMismatch_59)) (tk_b (tk_l dJ8_vectorizedMismatch_61) (tk_b (tk_l dJ8_vectorizedMismatch_62) (tk_l dJ8_vectorizedMismatch_65))))))) (tk_b (tk_b (tk_b (tk_b (tk_b (tk_l dJ8_vectorizedMismatch_67) (tk_l dJ8_vectorizedMismatch_69)) (tk_b (tk_l dJ8_vectorizedMismatch_70) (tk_l dJ8_vectorizedMismatch_72))) (tk_b (tk_b (tk_l dJ8_vectorizedMismatch_75) (tk_l dJ8_vectorizedMismatch_78)) (tk_b (tk_l dJ8_vectorizedMismatch_80) (tk_l dJ8_vectorizedMismatch_83)))) (tk_b (tk_b (tk_b (tk_l dJ8_vectorizedMismatch_86) (tk_l dJ8_vectorizedMismatch_88)) (tk_b (tk_l dJ8_vectorizedMismatch_89) (tk_l dJ8_vectorizedMismatch_90))) (tk_b (tk_b (tk_l dJ8_vectorizedMismatch_93) (tk_l dJ8_vectorizedMismatch_95)) (tk_b (tk_l dJ8_vectorizedMismatch_98) (tk_b (tk_l dJ8_vectorizedMismatch_101) (tk_l dJ8_vectorizedMismatch_103)))))) (tk_b (tk_b (tk_b (tk_b (tk_l dJ8_vectorizedMismatch_104) (tk_l dJ8_vectorizedMismatch_105)) (tk_b (tk_l dJ8_vectorizedMismatch_107) (tk_l dJ8_vectorizedMismatch_109))) (tk_b (tk_b (tk_l dJ8_vectorizedMismatch_111) (tk_l dJ8_vectorizedMismatch_112)) (tk_b (tk_l dJ8_vectorizedMismatch_114) (tk_b (tk_l dJ8_vectorizedMismatch_115) (tk_l dJ8_vectorizedMismatch_116))))) (tk_b (tk_b (tk_b (tk_l dJ8_vectorizedMismatch_119) (tk_l dJ8_vectorizedMismatch_122)) (tk_b (tk_l dJ8_vectorizedMismatch_124) (tk_l dJ8_vectorizedMismatch_126))) (tk_b (tk_b (tk_l dJ8_vectorizedMismatch_128) (tk_l dJ8_vectorizedMismatch_129)) (tk_b (tk_l dJ8_vectorizedMismatch_130) (tk_b (tk_l dJ8_vectorizedMismatch_132) (tk_l dJ8_vectorizedMismatch_134)))))))) (tk_b (tk_b (tk_b (tk_b (tk_b (tk_b (tk_l dJ8_vectorizedMismatch_137) (tk_l dJ8_vectorizedMismatch_140)) (tk_b (tk_l dJ8_vectorizedMismatch_141) (tk_l dJ8_vectorizedMismatch_144))) (tk_b (tk_b (tk_l dJ8_vectorizedMismatch_146) (tk_l dJ8_vectorizedMismatch_147)) (tk_b (tk_l dJ8_vectorizedMismatch_148) (tk_l dJ8_vectorizedMismatch_150)))) (tk_b (tk_b (tk_b (tk_l dJ8_vectorizedMismatch_152) (tk_l dJ8_vectorizedMismatch_154)) (tk_b (tk_l dJ8_vectorizedMismatch_157) (tk_l dJ8_vectorizedMismatch_159))) (tk_b (tk_b (tk_l dJ8_vectorizedMismatch_160) (tk_l dJ8_vectorizedMismatch_163)) (tk_b (tk_l dJ8_vectorizedMismatch_164) (tk_b (tk_l dJ8_vectorizedMismatch_166) (tk_l dJ8_vectorizedMismatch_169)))))) (tk_b (tk_b (tk_b (tk_b (tk_l dJ8_vectorizedMismatch_170) (tk_l dJ8_vectorizedMismatch_171)) (tk_b (tk_l dJ8_vectorizedMismatch_173) (tk_l dJ8_vectorizedMismatch_174))) (tk_b (tk_b (tk_l dJ8_vectorizedMismatch_177) (tk_l dJ8_vectorizedMismatch_179)) (tk_b (tk_l dJ8_vectorizedMismatch_182) (tk_b (tk_l dJ8_vectorizedMismatch_183) (tk_l dJ8_vectorizedMismatch_185))))) (tk_b (tk_b (tk_b (tk_l dJ8_vectorizedMismatch_187) (tk_l dJ8_vectorizedMismatch_188)) (tk_b (tk_l dJ8_vectorizedMismatch_191) (tk_l dJ8_vectorizedMismatch_193))) (tk_b (tk_b (tk_l dJ8_vectorizedMismatch_195) (tk_l dJ8_vectorizedMismatch_197)) (tk_b (tk_l dJ8_vectorizedMismatch_200) (tk_b (tk_l dJ8_vectorizedMismatch_202) (tk_l dJ8_vectorizedMismatch_204))))))) (tk_b (tk_b (tk_b (tk_b (tk_b (tk_l dJ8_vectorizedMismatch_205) (tk_l dJ8_vectorizedMismatch_207)) (tk_b (tk_l dJ8_vectorizedMismatch_210) (tk_l dJ8_vectorizedMismatch_213))) (tk_b (tk_b (tk_l dJ8_vectorizedMismatch_215) (tk_l dJ8_vectorizedMismatch_218)) (tk_b (tk_l dJ8_vectorizedMismatch_221) (tk_l dJ8_vectorizedMismatch_223)))) (tk_b (tk_b (tk_b (tk_l dJ8_vectorizedMismatch_224) (tk_l dJ8_vectorizedMismatch_225)) (tk_b (tk_l dJ8_vectorizedMismatch_228) (tk_l dJ8_vectorizedMismatch_230))) (tk_b (tk_b (tk_l dJ8_vectorizedMismatch_233) (tk_l dJ8_vectorizedMismatch_236)) (tk_b (tk_l dJ8_vectorizedMismatch_238) (tk_b (tk_l dJ8_vectorizedMismatch_239) (tk_l dJ8_vectorizedMismatch_240)))))) (tk_b (tk_b (tk_b (tk_b (tk_l dJ8_vectorizedMismatch_242) (tk_l dJ8_vectorizedMismatch_244)) (tk_b (tk_l dJ8_vectorizedMismatch_246) (tk_l dJ8_vectorizedMismatch_247))) (tk_b (tk_b (tk_l dJ8_vectorizedMismatch_249) (tk_l dJ8_vectorizedMismatch_250)) (tk_b (tk_l dJ8_vectorizedMismatch_251) (tk_b (tk_l dJ8_vectorizedMismatch_253) (tk_l dJ8_vectorizedMismatch_255))))) (tk_b (tk_b (tk_b (tk_l dJ8_vectorizedMismatch_256) (tk_l dJ8_vectorizedMismatch_258)) (tk_b (tk_l dJ8_vectorizedMismatch_260) (tk_l dJ8_vectorizedMismatch_261))) (tk_b (tk_b (tk_l dJ8_vectorizedMismatch_262) (tk_l dJ8_vectorizedMismatch_263)) (tk_b (tk_l dJ8_vectorizedMismatch_265) (tk_b (tk_l dJ8_vectorizedMismatch_266) (tk_l dJ8_vectorizedMismatch_267)))))))))
def tbJ9_max (pc : Nat) : Option (Instr × Nat) := (cond (Nat.ble pc 2) (cond (Nat.ble pc 0) (cond (Nat.beq pc 0) (some (.iload_n 0, 1)) none) (cond (Nat.ble pc 1) (cond (Nat.beq pc 1) (some (.iload_n 1, 1)) none) (cond (Nat.beq pc 2) (some (.if_icmp .lt 7, 3)) none))) (cond (Nat.ble pc 6) (cond (Nat.ble pc 5) (cond (Nat.beq pc 5) (some (.iload_n 0, 1)) none) (cond (Nat.beq pc 6) (some (.goto 4, 3)) none)) (cond (Nat.ble pc 9) (cond (Nat.beq pc 9) (some (.iload_n 1, 1)) none) (cond (Nat.beq pc 10) (some (.ireturn, 1)) none))))
theorem tkJ9_max : tkAll cJ9_max tbJ9_max := fun pc => (tk_b (tk_b (tk_l dJ9_max_0) (tk_b (tk_l dJ9_max_1) (tk_l dJ9_max_2))) (tk_b (tk_b (tk_l dJ9_max_5) (tk_l dJ9_max_6)) (tk_b (tk_l dJ9_max_9) (tk_l dJ9_max_10))))
def tbJ9_min (pc : Nat) : Option (Instr × Nat) := (cond (Nat.ble pc 2) (cond (Nat.ble pc 0) (cond (Nat.beq pc 0) (some (.iload_n 0, 1)) none) (cond (Nat.ble pc 1) (cond (Nat.beq pc 1) (some (.iload_n 1, 1)) none) (cond (Nat.beq pc 2) (some (.if_icmp .gt 7, 3)) none))) (cond (Nat.ble pc 6) (cond (Nat.ble pc 5) (cond (Nat.beq pc 5) (some (.iload_n 0, 1)) none) (cond (Nat.beq pc 6) (some (.goto 4, 3)) none)) (cond (Nat.ble pc 9) (cond (Nat.beq pc 9) (some (.iload_n 1, 1)) none) (cond (Nat.beq pc 10) (some (.ireturn, 1)) none))))
theorem tkJ9_min : tkAll cJ9_min tbJ9_min := fun pc => (tk_b (tk_b (tk_l dJ9_min_0) (tk_b (tk_l dJ9_min_1) (tk_l dJ9_min_2))) (tk_b (tk_b (tk_l dJ9_min_5) (tk_l dJ9_min_6)) (tk_b (tk_l dJ9_min_9) (tk_l dJ9_min_10))))
def tbJ10_copyOf (pc : Nat) : Option (Instr × Nat) := (cond (Nat.ble pc 2) (cond (Nat.ble pc 0) (cond (Nat.beq pc 0) (some (.aload_n 0, 1)) none) (cond (Nat.ble pc 1) (cond (Nat.beq pc 1) (some (.iload_n 1, 1)) none) (cond (Nat.beq pc 2) (some (.aload_n 0, 1)) none))) (cond (Nat.ble pc 3) (cond (Nat.beq pc 3) (some (.invokevirtual 86, 3)) none) (cond (Nat.ble pc 6) (cond (Nat.beq pc 6) (some (.invokestatic 300, 3)) none) (cond (Nat.beq pc 9) (some (.areturn, 1)) none))))
theorem tkJ10_copyOf : tkAll cJ10_copyOf tbJ10_copyOf := fun pc => (tk_b (tk_b (tk_l dJ10_copyOf_0) (tk_b (tk_l dJ10_copyOf_1) (tk_l dJ10_copyOf_2))) (tk_b (tk_l dJ10_copyOf_3) (tk_b (tk_l dJ10_copyOf_6) (tk_l dJ10_copyOf_9))))
def tbJ10_copyOf_2 (pc : Nat) : Option (Instr × Nat) := (cond (Nat.ble pc 21) (cond (Nat.ble pc 7) (cond (Nat.ble pc 1) (cond (Nat.ble pc 0) (cond (Nat.beq pc 0) (some (.aload_n 2, 1)) none) (cond (Nat.beq pc 1) (some (.ldc 110, 2)) none)) (cond (Nat.ble pc 3) (cond (Nat.beq pc 3) (some (.if_acmp .ne 10, 3)) none) (cond (Nat.ble pc 6) (cond (Nat.beq pc 6) (some (.iload_n 1, 1)) none) (cond (Nat.beq pc 7) (some (.anewarray 2, 3)) none)))) (cond (Nat.ble pc 14) (cond (Nat.ble pc 10) (cond (Nat.beq pc 10) (some (.goto 14, 3)) none) (cond (Nat.ble pc 13) (cond (Nat.beq pc 13) (some (.aload_n 2, 1)) none) (cond (Nat.beq pc 14) (some (.invokevirtual 90, 3)) none))) (cond (Nat.ble pc 17) (cond (Nat.beq pc 17) (some (.iload_n 1, 1)) none) (cond (Nat.ble pc 18) (cond (Nat.beq pc 18) (some (.invokestatic 95, 3)) none) (cond (Nat.beq pc 21) (some (.checkcast 110, 3)) none))))) (cond (Nat.ble pc 29) (cond (Nat.ble pc 26) (cond (Nat.ble pc 24) (cond (Nat.beq pc 24) (some (.astore_n 3, 1)) none) (cond (Nat.ble pc 25) (cond (Nat.beq pc 25) (some (.aload_n 0, 1)) none) (cond (Nat.beq pc 26) (some (.iconst 0, 1)) none))) (cond (Nat.ble pc 27) (cond (Nat.beq pc 27) (some (.aload_n 3, 1)) none) (cond (Nat.ble pc 28) (cond (Nat.beq pc 28) (some (.iconst 0, 1)) none) (cond (Nat.beq pc 29) (some (.aload_n 0, 1)) none)))) (cond (Nat.ble pc 32) (cond (Nat.ble pc 30) (cond (Nat.beq pc 30) (some (.arraylength, 1)) none) (cond (Nat.ble pc 31) (cond (Nat.beq pc 31) (some (.iload_n 1, 1)) none) (cond (Nat.beq pc 32) (some (.invokestatic 304, 3)) none))) (cond (Nat.ble pc 35) (cond (Nat.beq pc 35) (some (.invokestatic 150, 3)) none) (cond (Nat.ble pc 38) (cond (Nat.beq pc 38) (some (.aload_n 3, 1)) none) (cond (Nat.beq pc 39) (some (.areturn, 1)) none))))))
theorem tkJ10_copyOf_2 : tkAll cJ10_copyOf_2 tbJ10_copyOf_2 := fun pc => (tk_b (tk_b (tk_b (tk_b (tk_l dJ10_copyOf_2_0) (tk_l dJ10_copyOf_2_1)) (tk_b (tk_l dJ10_copyOf_2_3) (tk_b (tk_l dJ10_copyOf_2_6) (tk_l dJ10_copyOf_2_7)))) (tk_b (tk_b (tk_l dJ10_copyOf_2_10) (tk_b (tk_l dJ10_copyOf_2_13) (tk_l dJ10_copyOf_2_14))) (tk_b (tk_l dJ10_copyOf_2_17) (tk_b (tk_l dJ10_copyOf_2_18) (tk_l dJ10_copyOf_2_21))))) (tk_b (tk_b (tk_b (tk_l dJ10_copyOf_2_24) (tk_b (tk_l dJ10_copyOf_2_25) (tk_l dJ10_copyOf_2_26))) (tk_b (tk_l dJ10_copyOf_2_27) (tk_b (tk_l dJ10_copyOf_2_28) (tk_l dJ10_copyOf_2_29)))) (tk_b (tk_b (tk_l dJ10_copyOf_2_30) (tk_b (tk_l dJ10_copyOf_2_31) (tk_l dJ10_copyOf_2_32))) (tk_b (tk_l dJ10_copyOf_2_35) (tk_b (tk_l dJ10_copyOf_2_38) (tk_l dJ10_copyOf_2_39))))))
def tbJ10_copyOf_3 (pc : Nat) : Option (Instr × Nat) := (cond (Nat.ble pc 17) (cond (Nat.ble pc 6) (cond (Nat.ble pc 1) (cond (Nat.ble pc 0) (cond (Nat.beq pc 0) (some (.iload_n 1, 1)) none) (cond (Nat.beq pc 1) (some (.aload_n 0, 1)) none)) (cond (Nat.ble pc 2) (cond (Nat.beq pc 2) (some (.arraylength, 1)) none) (cond (Nat.ble pc 3) (cond (Nat.beq pc 3) (some (.if_icmp .ne 11, 3)) none) (cond (Nat.beq pc 6) (some (.aload_n 0, 1)) none)))) (cond (Nat.ble pc 13) (cond (Nat.ble pc 7) (cond (Nat.beq pc 7) (some (.invokevirtual 310, 3)) none) (cond (Nat.ble pc 10) (cond (Nat.beq pc 10) (some (.checkcast 311, 3)) none) (cond (Nat.beq pc 13) (some (.areturn, 1)) none))) (cond (Nat.ble pc 14) (cond (Nat.beq pc 14) (some (.iload_n 1, 1)) none) (cond (Nat.ble pc 15) (cond (Nat.beq pc 15) (some (.newarray .byte, 2)) none) (cond (Nat.beq pc 17) (some (.astore_n 2, 1)) none))))) (cond (Nat.ble pc 22) (cond (Nat.ble pc 19) (cond (Nat.ble pc 18) (cond (Nat.beq pc 18) (some (.aload_n 0, 1)) none) (cond (Nat.beq pc 19) (some (.iconst 0, 1)) none)) (cond (Nat.ble pc 20) (cond (Nat.beq pc 20) (some (.aload_n 2, 1)) none) (cond (Nat.ble pc 21) (cond (Nat.beq pc 21) (some (.iconst 0, 1)) none) (cond (Nat.beq pc 22) (some (.aload_n 0, 1)) none)))) (cond (Nat.ble pc 25) (cond (Nat.ble pc 23) (cond (Nat.beq pc 23) (some (.arraylength, 1)) none) (cond (Nat.ble pc 24) (cond (Nat.beq pc 24) (some (.iload_n 1, 1)) none) (cond (Nat.beq pc 25) (some (.invokestatic 304, 3)) none))) (cond (Nat.ble pc 28) (cond (Nat.beq pc 28) (some (.invokestatic 150, 3)) none) (cond (Nat.ble pc 31) (cond (Nat.beq pc 31) (some (.aload_n 2, 1)) none) (cond (Nat.beq pc 32) (some (.areturn, 1)) none))))))
theorem tkJ10_copyOf_3 : tkAll cJ10_copyOf_3 tbJ10_copyOf_3 := fun pc => (tk_b (tk_b (tk_b (tk_b (tk_l dJ10_copyOf_3_0) (tk_l dJ10_copyOf_3_1)) (tk_b (tk_l dJ10_copyOf_3_2) (tk_b (tk_l dJ10_copyOf_3_3) (tk_l dJ10_copyOf_3_6)))) (tk_b (tk_b (tk_l dJ10_copyOf_3_7) (tk_b (tk_l dJ10_copyOf_3_10) (tk_l dJ10_copyOf_3_13))) (tk_b (tk_l dJ10_copyOf_3_14) (tk_b (tk_l dJ10_copyOf_3_15) (tk_l dJ10_copyOf_3_17))))) (tk_b (tk_b (tk_b (tk_l dJ10_copyOf_3_18) (tk_l dJ10_copyOf_3_19)) (tk_b (tk_l dJ10_copyOf_3_20) (tk_b (tk_l dJ10_copyOf_3_21) (tk_l dJ10_copyOf_3_22)))) (tk_b (tk_b (tk_l dJ10_copyOf_3_23) (tk_b (tk_l dJ10_copyOf_3_24) (tk_l dJ10_copyOf_3_25))) (tk_b (tk_l dJ10_copyOf_3_28) (tk_b (tk_l dJ10_copyOf_3_31) (tk_l dJ10_copyOf_3_32))))))
def tbJ10_copyOfRange (pc : Nat) : Option (Instr × Nat) := (cond (Nat.ble pc 10) (cond (Nat.ble pc 4) (cond (Nat.ble pc 0) (cond (Nat.beq pc 0) (some (.iload_n 1, 1)) none) (cond (Nat.ble pc 1) (cond (Nat.beq pc 1) (some (.ifCond .ne 9, 3)) none) (cond (Nat.beq pc 4) (some (.iload_n 2, 1)) none))) (cond (Nat.ble pc 6) (cond (Nat.ble pc 5) (cond (Nat.beq pc 5) (some (.aload_n 0, 1)) none) (cond (Nat.beq pc 6) (some (.arraylength, 1)) none)) (cond (Nat.ble pc 7) (cond (Nat.beq pc 7) (some (.if_icmp .eq 10, 3)) none) (cond (Nat.beq pc 10) (some (.aload_n 0, 1)) none)))) (cond (Nat.ble pc 16) (cond (Nat.ble pc 12) (cond (Nat.ble pc 11) (cond (Nat.beq pc 11) (some (.iload_n 1, 1)) none) (cond (Nat.beq pc 12) (some (.iload_n 2, 1)) none)) (cond (Nat.ble pc 13) (cond (Nat.beq pc 13) (some (.invokestatic 339, 3)) none) (cond (Nat.beq pc 16) (some (.areturn, 1)) none))) (cond (Nat.ble pc 18) (cond (Nat.ble pc 17) (cond (Nat.beq pc 17) (some (.aload_n 0, 1)) none) (cond (Nat.beq pc 18) (some (.invokevirtual 310, 3)) none)) (cond (Nat.ble pc 21) (cond (Nat.beq pc 21) (some (.checkcast 311, 3)) none) (cond (Nat.beq pc 24) (some (.areturn, 1)) none)))))
theorem tkJ10_copyOfRange : tkAll cJ10_copyOfRange tbJ10_copyOfRange := fun pc => (tk_b (tk_b (tk_b (tk_l dJ10_copyOfRange_0) (tk_b (tk_l dJ10_copyOfRange_1) (tk_l dJ10_copyOfRange_4))) (tk_b (tk_b (tk_l dJ10_copyOfRange_5) (tk_l dJ10_copyOfRange_6)) (tk_b (tk_l dJ10_copyOfRange_7) (tk_l dJ10_copyOfRange_10)))) (tk_b (tk_b (tk_b (tk_l dJ10_copyOfRange_11) (tk_l dJ10_copyOfRange_12)) (tk_b (tk_l dJ10_copyOfRange_13) (tk_l dJ10_copyOfRange_16))) (tk_b (tk_b (tk_l dJ10_copyOfRange_17) (tk_l dJ10_copyOfRange_18)) (tk_b (tk_l dJ10_copyOfRange_21) (tk_l dJ10_copyOfRange_24)))))
def tbJ10_copyOfRangeByte (pc : Nat) : Option (Instr × Nat) := (cond (Nat.ble pc 14) (cond (Nat.ble pc 6) (cond (Nat.ble pc 1) (cond (Nat.ble pc 0) (cond (Nat.beq pc 0) (some (.iload_n 1, 1)) none) (cond (Nat.beq pc 1) (some (.iload_n 2, 1)) none)) (cond (Nat.ble pc 2) (cond (Nat.beq pc 2) (some (.invokestatic 343, 3)) none) (cond (Nat.ble pc 5) (cond (Nat.beq pc 5) (some (.iload_n 2, 1)) none) (cond (Nat.beq pc 6) (some (.iload_n 1, 1)) none)))) (cond (Nat.ble pc 9) (cond (Nat.ble pc 7) (cond (Nat.beq pc 7) (some (.isub, 1)) none) (cond (Nat.ble pc 8) (cond (Nat.beq pc 8) (some (.istore_n 3, 1)) none) (cond (Nat.beq pc 9) (some (.iload_n 3, 1)) none))) (cond (Nat.ble pc 10) (cond (Nat.beq pc 10) (some (.newarray .byte, 2)) none) (cond (Nat.ble pc 12) (cond (Nat.beq pc 12) (some (.astore 4, 2)) none) (cond (Nat.beq pc 14) (some (.aload_n 0, 1)) none))))) (cond (Nat.ble pc 21) (cond (Nat.ble pc 18) (cond (Nat.ble pc 15) (cond (Nat.beq pc 15) (some (.iload_n 1, 1)) none) (cond (Nat.ble pc 16) (cond (Nat.beq pc 16) (some (.aload 4, 2)) none) (cond (Nat.beq pc 18) (some (.iconst 0, 1)) none))) (cond (Nat.ble pc 19) (cond (Nat.beq pc 19) (some (.aload_n 0, 1)) none) (cond (Nat.ble pc 20) (cond (Nat.beq pc 20) (some (.arraylength, 1)) none) (cond (Nat.beq pc 21) (some (.iload_n 1, 1)) none)))) (cond (Nat.ble pc 24) (cond (Nat.ble pc 22) (cond (Nat.beq pc 22) (some (.isub, 1)) none) (cond (Nat.ble pc 23) (cond (Nat.beq pc 23) (some (.iload_n 3, 1)) none) (cond (Nat.beq pc 24) (some (.invokestatic 304, 3)) none))) (cond (Nat.ble pc 27) (cond (Nat.beq pc 27) (some (.invokestatic 150, 3)) none) (cond (Nat.ble pc 30) (cond (Nat.beq pc 30) (some (.aload 4, 2)) none) (cond (Nat.beq pc 32) (some (.areturn, 1)) none))))))
theorem tkJ10_copyOfRangeByte : tkAll cJ10_copyOfRangeByte tbJ10_copyOfRangeByte := fun pc => (tk_b (tk_b (tk_b (tk_b (tk_l dJ10_copyOfRangeByte_0) (tk_l dJ10_copyOfRangeByte_1)) (tk_b (tk_l dJ10_copyOfRangeByte_2) (tk_b (tk_l dJ10_copyOfRangeByte_5) (tk_l dJ10_copyOfRangeByte_6)))) (tk_b (tk_b (tk_l dJ10_copyOfRangeByte_7) (tk_b (tk_l dJ10_copyOfRangeByte_8) (tk_l dJ10_copyOfRangeByte_9))) (tk_b (tk_l dJ10_copyOfRangeByte_10) (tk_b (tk_l dJ10_copyOfRangeByte_12) (tk_l dJ10_copyOfRangeByte_14))))) (tk_b (tk_b (tk_b (tk_l dJ10_copyOfRangeByte_15) (tk_b (tk_l dJ10_copyOfRangeByte_16) (tk_l dJ10_copyOfRangeByte_18))) (tk_b (tk_l dJ10_copyOfRangeByte_19) (tk_b (tk_l dJ10_copyOfRangeByte_20) (tk_l dJ10_copyOfRangeByte_21)))) (tk_b (tk_b (tk_l dJ10_copyOfRangeByte_22) (tk_b (tk_l dJ10_copyOfRangeByte_23) (tk_l dJ10_copyOfRangeByte_24))) (tk_b (tk_l dJ10_copyOfRangeByte_27) (tk_b (tk_l dJ10_copyOfRangeByte_30) (tk_l dJ10_copyOfRangeByte_32))))))
def tbJ10_checkLength (pc : Nat) : Option (Instr × Nat) := (cond (Nat.ble pc 16) (cond (Nat.ble pc 5) (cond (Nat.ble pc 1) (cond (Nat.ble pc 0) (cond (Nat.beq pc 0) (some (.iload_n 1, 1)) none) (cond (Nat.beq pc 1) (some (.iload_n 0, 1)) none)) (cond (Nat.ble pc 2) (cond (Nat.beq pc 2) (some (.if_icmp .ge 35, 3)) none) (cond (Nat.beq pc 5) (some (.new 43, 3)) none))) (cond (Nat.ble pc 9) (cond (Nat.ble pc 8) (cond (Nat.beq pc 8) (some (.dup, 1)) none) (cond (Nat.beq pc 9) (some (.new 45, 3)) none)) (cond (Nat.ble pc 12) (cond (Nat.beq pc 12) (some (.dup, 1)) none) (cond (Nat.ble pc 13) (cond (Nat.beq pc 13) (some (.invokespecial 47, 3)) none) (cond (Nat.beq pc 16) (some (.iload_n 0, 1)) none))))) (cond (Nat.ble pc 26) (cond (Nat.ble pc 20) (cond (Nat.ble pc 17) (cond (Nat.beq pc 17) (some (.invokevirtual 54, 3)) none) (cond (Nat.beq pc 20) (some (.ldc_w 337, 3)) none)) (cond (Nat.ble pc 23) (cond (Nat.beq pc 23) (some (.invokevirtual 50, 3)) none) (cond (Nat.beq pc 26) (some (.iload_n 1, 1)) none))) (cond (Nat.ble pc 30) (cond (Nat.ble pc 27) (cond (Nat.beq pc 27) (some (.invokevirtual 54, 3)) none) (cond (Nat.beq pc 30) (some (.invokevirtual 61, 3)) none)) (cond (Nat.ble pc 33) (cond (Nat.beq pc 33) (some (.invokespecial 65, 3)) none) (cond (Nat.ble pc 36) (cond (Nat.beq pc 36) (some (.athrow, 1)) none) (cond (Nat.beq pc 37) (some (.return_, 1)) none))))))
theorem tkJ10_checkLength : tkAll cJ10_checkLength tbJ10_checkLength := fun pc => (tk_b (tk_b (tk_b (tk_b (tk_l dJ10_checkLength_0) (tk_l dJ10_checkLength_1)) (tk_b (tk_l dJ10_checkLength_2) (tk_l dJ10_checkLength_5))) (tk_b (tk_b (tk_l dJ10_checkLength_8) (tk_l dJ10_checkLength_9)) (tk_b (tk_l dJ10_checkLength_12) (tk_b (tk_l dJ10_checkLength_13) (tk_l dJ10_checkLength_16))))) (tk_b (tk_b (tk_b (tk_l dJ10_checkLength_17) (tk_l dJ10_checkLength_20)) (tk_b (tk_l dJ10_checkLength_23) (tk_l dJ10_checkLength_26))) (tk_b (tk_b (tk_l dJ10_checkLength_27) (tk_l dJ10_checkLength_30)) (tk_b (tk_l dJ10_checkLength_33) (tk_b (tk_l dJ10_checkLength_36) (tk_l dJ10_checkLength_37))))))
def tbJ10_copyOfRange_2 (pc : Nat) : Option (Instr × Nat) := (cond (Nat.ble pc 43) (cond (Nat.ble pc 18) (cond (Nat.ble pc 5) (cond (Nat.ble pc 1) (cond (Nat.ble pc 0) (cond (Nat.beq pc 0) (some (.iload_n 2, 1)) none) (cond (Nat.beq pc 1) (some (.iload_n 1, 1)) none)) (cond (Nat.ble pc 2) (cond (Nat.beq pc 2) (some (.isub, 1)) none) (cond (Nat.ble pc 3) (cond (Nat.beq pc 3) (some (.istore 4, 2)) none) (cond (Nat.beq pc 5) (some (.iload 4, 2)) none)))) (cond (Nat.ble pc 13) (cond (Nat.ble pc 7) (cond (Nat.beq pc 7) (some (.ifCond .ge 35, 3)) none) (cond (Nat.ble pc 10) (cond (Nat.beq pc 10) (some (.new 43, 3)) none) (cond (Nat.beq pc 13) (some (.dup, 1)) none))) (cond (Nat.ble pc 14) (cond (Nat.beq pc 14) (some (.new 45, 3)) none) (cond (Nat.ble pc 17) (cond (Nat.beq pc 17) (some (.dup, 1)) none) (cond (Nat.beq pc 18) (some (.invokespecial 47, 3)) none))))) (cond (Nat.ble pc 31) (cond (Nat.ble pc 22) (cond (Nat.ble pc 21) (cond (Nat.beq pc 21) (some (.iload_n 1, 1)) none) (cond (Nat.beq pc 22) (some (.invokevirtual 54, 3)) none)) (cond (Nat.ble pc 25) (cond (Nat.beq pc 25) (some (.ldc_w 337, 3)) none) (cond (Nat.ble pc 28) (cond (Nat.beq pc 28) (some (.invokevirtual 50, 3)) none) (cond (Nat.beq pc 31) (some (.iload_n 2, 1)) none)))) (cond (Nat.ble pc 38) (cond (Nat.ble pc 32) (cond (Nat.beq pc 32) (some (.invokevirtual 54, 3)) none) (cond (Nat.ble pc 35) (cond (Nat.beq pc 35) (some (.invokevirtual 61, 3)) none) (cond (Nat.beq pc 38) (some (.invokespecial 65, 3)) none))) (cond (Nat.ble pc 41) (cond (Nat.beq pc 41) (some (.athrow, 1)) none) (cond (Nat.ble pc 42) (cond (Nat.beq pc 42) (some (.aload_n 3, 1)) none) (cond (Nat.beq pc 43) (some (.ldc 110, 2)) none)))))) (cond (Nat.ble pc 70) (cond (Nat.ble pc 56) (cond (Nat.ble pc 48) (cond (Nat.ble pc 45) (cond (Nat.beq pc 45) (some (.if_acmp .ne 11, 3)) none) (cond (Nat.beq pc 48) (some (.iload 4, 2)) none)) (cond (Nat.ble pc 50) (cond (Nat.beq pc 50) (some (.anewarray 2, 3)) none) (cond (Nat.ble pc 53) (cond (Nat.beq pc 53) (some (.goto 15, 3)) none) (cond (Nat.beq pc 56) (some (.aload_n 3, 1)) none)))) (cond (Nat.ble pc 62) (cond (Nat.ble pc 57) (cond (Nat.beq pc 57) (some (.invokevirtual 90, 3)) none) (cond (Nat.ble pc 60) (cond (Nat.beq pc 60) (some (.iload 4, 2)) none) (cond (Nat.beq pc 62) (some (.invokestatic 95, 3)) none))) (cond (Nat.ble pc 65) (cond (Nat.beq pc 65) (some (.checkcast 110, 3)) none) (cond (Nat.ble pc 68) (cond (Nat.beq pc 68) (some (.astore 5, 2)) none) (cond (Nat.beq pc 70) (some (.aload_n 0, 1)) none))))) (cond (Nat.ble pc 77) (cond (Nat.ble pc 74) (cond (Nat.ble pc 71) (cond (Nat.beq pc 71) (some (.iload_n 1, 1)) none) (cond (Nat.ble pc 72) (cond (Nat.beq pc 72) (some (.aload 5, 2)) none) (cond (Nat.beq pc 74) (some (.iconst 0, 1)) none))) (cond (Nat.ble pc 75) (cond (Nat.beq pc 75) (some (.aload_n 0, 1)) none) (cond (Nat.ble pc 76) (cond (Nat.beq pc 76) (some (.arraylength, 1)) none) (cond (Nat.beq pc 77) (some (.iload_n 1, 1)) none)))) (cond (Nat.ble pc 81) (cond (Nat.ble pc 78) (cond (Nat.beq pc 78) (some (.isub, 1)) none) (cond (Nat.ble pc 79) (cond (Nat.beq pc 79) (some (.iload 4, 2)) none) (cond (Nat.beq pc 81) (some (.invokestatic 304, 3)) none))) (cond (Nat.ble pc 84) (cond (Nat.beq pc 84) (some (.invokestatic 150, 3)) none) (cond (Nat.ble pc 87) (cond (Nat.beq pc 87) (some (.aload 5, 2)) none) (cond (Nat.beq pc 89) (some (.areturn, 1)) none)))))))
theorem tkJ10_copyOfRange_2 : tkAll cJ10_copyOfRange_2 tbJ10_copyOfRange_2 := fun pc => (tk_b (tk_b (tk_b (tk_b (tk_b (tk_l dJ10_copyOfRange_2_0) (tk_l dJ10_copyOfRange_2_1)) (tk_b (tk_l dJ10_copyOfRange_2_2) (tk_b (tk_l dJ10_copyOfRange_2_3) (tk_l dJ10_copyOfRange_2_5)))) (tk_b (tk_b (tk_l dJ10_copyOfRange_2_7) (tk_b (tk_l dJ10_copyOfRange_2_10) (tk_l dJ10_copyOfRange_2_13))) (tk_b (tk_l dJ10_copyOfRange_2_14) (tk_b (tk_l dJ10_copyOfRange_2_17) (tk_l dJ10_copyOfRange_2_18))))) (tk_b (tk_b (tk_b (tk_l dJ10_copyOfRange_2_21) (tk_l dJ10_copyOfRange_2_22)) (tk_b (tk_l dJ10_copyOfRange_2_25) (tk_b (tk_l dJ10_copyOfRange_2_28) (tk_l dJ10_copyOfRange_2_31)))) (tk_b (tk_b (tk_l dJ10_copyOfRange_2_32) (tk_b (tk_l dJ10_copyOfRange_2_35) (tk_l dJ10_copyOfRange_2_38))) (tk_b (tk_l dJ10_copyOfRange_2_41) (tk_b (tk_l dJ10_copyOfRange_2_42) (tk_l dJ10_copyOfRange_2_43)))))) (tk_b (tk_b (tk_b (tk_b (tk_l dJ10_copyOfRange_2_45) (tk_l dJ10_copyOfRange_2_48)) (tk_b (tk_l dJ10_copyOfRange_2_50) (tk_b (tk_l dJ10_copyOfRange_2_53) (tk_l dJ10_copyOfRange_2_56)))) (tk_b (tk_b (tk_l dJ10_copyOfRange_2_57) (tk_b (tk_l dJ10_copyOfRange_2_60) (tk_l dJ10_copyOfRange_2_62))) (tk_b (tk_l dJ10_copyOfRange_2_65) (tk_b (tk_l dJ10_copyOfRange_2_68) (tk_l dJ10_copyOfRange_2_70))))) (tk_b (tk_b (tk_b (tk_l dJ10_copyOfRange_2_71) (tk_b (tk_l dJ10_copyOfRange_2_72) (tk_l dJ10_copyOfRange_2_74))) (tk_b (tk_l dJ10_copyOfRange_2_75) (tk_b (tk_l dJ10_copyOfRange_2_76) (tk_l dJ10_copyOfRange_2_77)))) (tk_b (tk_b (tk_l dJ10_copyOfRange_2_78) (tk_b (tk_l dJ10_copyOfRange_2_79) (tk_l dJ10_copyOfRange_2_81))) (tk_b (tk_l dJ10_copyOfRange_2_84) (tk_b (tk_l dJ10_copyOfRange_2_87) (tk_l dJ10_copyOfRange_2_89)))))))
def tbJ14_init (pc : Nat) : Option (Instr × Nat) := (cond (Nat.ble pc 10) (cond (Nat.ble pc 4) (cond (Nat.ble pc 0) (cond (Nat.beq pc 0) (some (.aload_n 0, 1)) none) (cond (Nat.ble pc 1) (cond (Nat.beq pc 1) (some (.invokespecial 1, 3)) none) (cond (Nat.beq pc 4) (some (.aload_n 0, 1)) none))) (cond (Nat.ble pc 6) (cond (Nat.ble pc 5) (cond (Nat.beq pc 5) (some (.aload_n 0, 1)) none) (cond (Nat.beq pc 6) (some (.putfield 7, 3)) none)) (cond (Nat.ble pc 9) (cond (Nat.beq pc 9) (some (.aload_n 0, 1)) none) (cond (Nat.beq pc 10) (some (.getstatic 13, 3)) none)))) (cond (Nat.ble pc 20) (cond (Nat.ble pc 16) (cond (Nat.ble pc 13) (cond (Nat.beq pc 13) (some (.putfield 17, 3)) none) (cond (Nat.beq pc 16) (some (.aload_n 0, 1)) none)) (cond (Nat.ble pc 17) (cond (Nat.beq pc 17) (some (.getstatic 20, 3)) none) (cond (Nat.beq pc 20) (some (.putfield 24, 3)) none))) (cond (Nat.ble pc 24) (cond (Nat.ble pc 23) (cond (Nat.beq pc 23) (some (.aload_n 0, 1)) none) (cond (Nat.beq pc 24) (some (.invokevirtual 27, 3)) none)) (cond (Nat.ble pc 27) (cond (Nat.beq pc 27) (some (.pop, 1)) none) (cond (Nat.beq pc 28) (some (.return_, 1)) none)))))
theorem tkJ14_init : tkAll cJ14_init tbJ14_init := fun pc => (tk_b (tk_b (tk_b (tk_l dJ14_init_0) (tk_b (tk_l dJ14_init_1) (tk_l dJ14_init_4))) (tk_b (tk_b (tk_l dJ14_init_5) (tk_l dJ14_init_6)) (tk_b (tk_l dJ14_init_9) (tk_l dJ14_init_10)))) (tk_b (tk_b (tk_b (tk_l dJ14_init_13) (tk_l dJ14_init_16)) (tk_b (tk_l dJ14_init_17) (tk_l dJ14_init_20))) (tk_b (tk_b (tk_l dJ14_init_23) (tk_l dJ14_init_24)) (tk_b (tk_l dJ14_init_27) (tk_l dJ14_init_28)))))
def tbJ14_init_2 (pc : Nat) : Option (Instr × Nat) := (cond (Nat.ble pc 16) (cond (Nat.ble pc 5) (cond (Nat.ble pc 1) (cond (Nat.ble pc 0) (cond (Nat.beq pc 0) (some (.aload_n 0, 1)) none) (cond (Nat.beq pc 1) (some (.invokespecial 1, 3)) none)) (cond (Nat.ble pc 4) (cond (Nat.beq pc 4) (some (.aload_n 0, 1)) none) (cond (Nat.beq pc 5) (some (.aload_n 0, 1)) none))) (cond (Nat.ble pc 9) (cond (Nat.ble pc 6) (cond (Nat.beq pc 6) (some (.putfield 7, 3)) none) (cond (Nat.beq pc 9) (some (.aload_n 0, 1)) none)) (cond (Nat.ble pc 10) (cond (Nat.beq pc 10) (some (.getstatic 13, 3)) none) (cond (Nat.ble pc 13) (cond (Nat.beq pc 13) (some (.putfield 17, 3)) none) (cond (Nat.beq pc 16) (some (.aload_n 0, 1)) none))))) (cond (Nat.ble pc 24) (cond (Nat.ble pc 20) (cond (Nat.ble pc 17) (cond (Nat.beq pc 17) (some (.getstatic 20, 3)) none) (cond (Nat.beq pc 20) (some (.putfield 24, 3)) none)) (cond (Nat.ble pc 23) (cond (Nat.beq pc 23) (some (.aload_n 0, 1)) none) (cond (Nat.beq pc 24) (some (.invokevirtual 27, 3)) none))) (cond (Nat.ble pc 28) (cond (Nat.ble pc 27) (cond (Nat.beq pc 27) (some (.pop, 1)) none) (cond (Nat.beq pc 28) (some (.aload_n 0, 1)) none)) (cond (Nat.ble pc 29) (cond (Nat.beq pc 29) (some (.aload_n 1, 1)) none) (cond (Nat.ble pc 30) (cond (Nat.beq pc 30) (some (.putfield 31, 3)) none) (cond (Nat.beq pc 33) (some (.return_, 1)) none))))))
theorem tkJ14_init_2 : tkAll cJ14_init_2 tbJ14_init_2 := fun pc => (tk_b (tk_b (tk_b (tk_b (tk_l dJ14_init_2_0) (tk_l dJ14_init_2_1)) (tk_b (tk_l dJ14_init_2_4) (tk_l dJ14_init_2_5))) (tk_b (tk_b (tk_l dJ14_init_2_6) (tk_l dJ14_init_2_9)) (tk_b (tk_l dJ14_init_2_10) (tk_b (tk_l dJ14_init_2_13) (tk_l dJ14_init_2_16))))) (tk_b (tk_b (tk_b (tk_l dJ14_init_2_17) (tk_l dJ14_init_2_20)) (tk_b (tk_l dJ14_init_2_23) (tk_l dJ14_init_2_24))) (tk_b (tk_b (tk_l dJ14_init_2_27) (tk_l dJ14_init_2_28)) (tk_b (tk_l dJ14_init_2_29) (tk_b (tk_l dJ14_init_2_30) (tk_l dJ14_init_2_33))))))
def tbJ14_init_3 (pc : Nat) : Option (Instr × Nat) := (cond (Nat.ble pc 24) (cond (Nat.ble pc 9) (cond (Nat.ble pc 4) (cond (Nat.ble pc 0) (cond (Nat.beq pc 0) (some (.aload_n 0, 1)) none) (cond (Nat.ble pc 1) (cond (Nat.beq pc 1) (some (.invokespecial 1, 3)) none) (cond (Nat.beq pc 4) (some (.aload_n 0, 1)) none))) (cond (Nat.ble pc 5) (cond (Nat.beq pc 5) (some (.aload_n 0, 1)) none) (cond (Nat.ble pc 6) (cond (Nat.beq pc 6) (some (.putfield 7, 3)) none) (cond (Nat.beq pc 9) (some (.aload_n 0, 1)) none)))) (cond (Nat.ble pc 16) (cond (Nat.ble pc 10) (cond (Nat.beq pc 10) (some (.getstatic 13, 3)) none) (cond (Nat.ble pc 13) (cond (Nat.beq pc 13) (some (.putfield 17, 3)) none) (cond (Nat.beq pc 16) (some (.aload_n 0, 1)) none))) (cond (Nat.ble pc 20) (cond (Nat.ble pc 17) (cond (Nat.beq pc 17) (some (.getstatic 20, 3)) none) (cond (Nat.beq pc 20) (some (.putfield 24, 3)) none)) (cond (Nat.ble pc 23) (cond (Nat.beq pc 23) (some (.aload_n 0, 1)) none) (cond (Nat.beq pc 24) (some (.invokevirtual 27, 3)) none))))) (cond (Nat.ble pc 34) (cond (Nat.ble pc 29) (cond (Nat.ble pc 27) (cond (Nat.beq pc 27) (some (.pop, 1)) none) (cond (Nat.ble pc 28) (cond (Nat.beq pc 28) (some (.aload_n 0, 1)) none) (cond (Nat.beq pc 29) (some (.aload_n 1, 1)) none))) (cond (Nat.ble pc 30) (cond (Nat.beq pc 30) (some (.ifnonnull 7, 3)) none) (cond (Nat.ble pc 33) (cond (Nat.beq pc 33) (some (.aconst_null, 1)) none) (cond (Nat.beq pc 34) (some (.goto 7, 3)) none)))) (cond (Nat.ble pc 41) (cond (Nat.ble pc 37) (cond (Nat.beq pc 37) (some (.aload_n 1, 1)) none) (cond (Nat.ble pc 38) (cond (Nat.beq pc 38) (some (.invokevirtual 35, 3)) none) (cond (Nat.beq pc 41) (some (.putfield 31, 3)) none))) (cond (Nat.ble pc 45) (cond (Nat.ble pc 44) (cond (Nat.beq pc 44) (some (.aload_n 0, 1)) none) (cond (Nat.beq pc 45) (some (.aload_n 1, 1)) none)) (cond (Nat.ble pc 46) (cond (Nat.beq pc 46) (some (.putfield 7, 3)) none) (cond (Nat.beq pc 49) (some (.return_, 1)) none))))))
theorem tkJ14_init_3 : tkAll cJ14_init_3 tbJ14_init_3 := fun pc => (tk_b (tk_b (tk_b (tk_b (tk_l dJ14_init_3_0) (tk_b (tk_l dJ14_init_3_1) (tk_l dJ14_init_3_4))) (tk_b (tk_l dJ14_init_3_5) (tk_b (tk_l dJ14_init_3_6) (tk_l dJ14_init_3_9)))) (tk_b (tk_b (tk_l dJ14_init_3_10) (tk_b (tk_l dJ14_init_3_13) (tk_l dJ14_init_3_16))) (tk_b (tk_b (tk_l dJ14_init_3_17) (tk_l dJ14_init_3_20)) (tk_b (tk_l dJ14_init_3_23) (tk_l dJ14_init_3_24))))) (tk_b (tk_b (tk_b (tk_l dJ14_init_3_27) (tk_b (tk_l dJ14_init_3_28) (tk_l dJ14_init_3_29))) (tk_b (tk_l dJ14_init_3_30) (tk_b (tk_l dJ14_init_3_33) (tk_l dJ14_init_3_34)))) (tk_b (tk_b (tk_l dJ14_init_3_37) (tk_b (tk_l dJ14_init_3_38) (tk_l dJ14_init_3_41))) (tk_b (tk_b (tk_l dJ14_init_3_44) (tk_l dJ14_init_3_45)) (tk_b (tk_l dJ14_init_3_46) (tk_l dJ14_init_3_49))))))
def tbJ14_toString (pc : Nat) : Option (Instr × Nat) := (cond (Nat.ble pc 20) (cond (Nat.ble pc 8) (cond (Nat.ble pc 1) (cond (Nat.ble pc 0) (cond (Nat.beq pc 0) (some (.aload_n 0, 1)) none) (cond (Nat.beq pc 1) (some (.invokevirtual 69, 3)) none)) (cond (Nat.ble pc 4) (cond (Nat.beq pc 4) (some (.invokevirtual 73, 3)) none) (cond (Nat.ble pc 7) (cond (Nat.beq pc 7) (some (.astore_n 1, 1)) none) (cond (Nat.beq pc 8) (some (.aload_n 0, 1)) none)))) (cond (Nat.ble pc 13) (cond (Nat.ble pc 9) (cond (Nat.beq pc 9) (some (.invokevirtual 78, 3)) none) (cond (Nat.ble pc 12) (cond (Nat.beq pc 12) (some (.astore_n 2, 1)) none) (cond (Nat.beq pc 13) (some (.aload_n 2, 1)) none))) (cond (Nat.ble pc 14) (cond (Nat.beq pc 14) (some (.ifnull 29, 3)) none) (cond (Nat.ble pc 17) (cond (Nat.beq pc 17) (some (.new 44, 3)) none) (cond (Nat.beq pc 20) (some (.dup, 1)) none))))) (cond (Nat.ble pc 30) (cond (Nat.ble pc 24) (cond (Nat.ble pc 21) (cond (Nat.beq pc 21) (some (.invokespecial 46, 3)) none) (cond (Nat.beq pc 24) (some (.aload_n 1, 1)) none)) (cond (Nat.ble pc 25) (cond (Nat.beq pc 25) (some (.invokevirtual 49, 3)) none) (cond (Nat.ble pc 28) (cond (Nat.beq pc 28) (some (.ldc 81, 2)) none) (cond (Nat.beq pc 30) (some (.invokevirtual 49, 3)) none)))) (cond (Nat.ble pc 37) (cond (Nat.ble pc 33) (cond (Nat.beq pc 33) (some (.aload_n 2, 1)) none) (cond (Nat.ble pc 34) (cond (Nat.beq pc 34) (some (.invokevirtual 49, 3)) none) (cond (Nat.beq pc 37) (some (.invokevirtual 60, 3)) none))) (cond (Nat.ble pc 40) (cond (Nat.beq pc 40) (some (.goto 4, 3)) none) (cond (Nat.ble pc 43) (cond (Nat.beq pc 43) (some (.aload_n 1, 1)) none) (cond (Nat.beq pc 44) (some (.areturn, 1)) none))))))
theorem tkJ14_toString : tkAll cJ14_toString tbJ14_toString := fun pc => (tk_b (tk_b (tk_b (tk_b (tk_l dJ14_toString_0) (tk_l dJ14_toString_1)) (tk_b (tk_l dJ14_toString_4) (tk_b (tk_l dJ14_toString_7) (tk_l dJ14_toString_8)))) (tk_b (tk_b (tk_l dJ14_toString_9) (tk_b (tk_l dJ14_toString_12) (tk_l dJ14_toString_13))) (tk_b (tk_l dJ14_toString_14) (tk_b (tk_l dJ14_toString_17) (tk_l dJ14_toString_20))))) (tk_b (tk_b (tk_b (tk_l dJ14_toString_21) (tk_l dJ14_toString_24)) (tk_b (tk_l dJ14_toString_25) (tk_b (tk_l dJ14_toString_28) (tk_l dJ14_toString_30)))) (tk_b (tk_b (tk_l dJ14_toString_33) (tk_b (tk_l dJ14_toString_34) (tk_l dJ14_toString_37))) (tk_b (tk_l dJ14_toString_40) (tk_b (tk_l dJ14_toString_43) (tk_l dJ14_toString_44))))))
def tbJ14_getLocalizedMessage (pc : Nat) : Option (Instr × Nat) := (cond (Nat.ble pc 0) (cond (Nat.beq pc 0) (some (.aload_n 0, 1)) none) (cond (Nat.ble pc 1) (cond (Nat.beq pc 1) (some (.invokevirtual 39, 3)) none) (cond (Nat.beq pc 4) (some (.areturn, 1)) none)))
theorem tkJ14_getLocalizedMessage : tkAll cJ14_getLocalizedMessage tbJ14_getLocalizedMessage := fun pc => (tk_b (tk_l dJ14_getLocalizedMessage_0) (tk_b (tk_l dJ14_getLocalizedMessage_1) (tk_l dJ14_getLocalizedMessage_4)))
def tbJ14_getMessage (pc : Nat) : Option (Instr × Nat) := (cond (Nat.ble pc 0) (cond (Nat.beq pc 0) (some (.aload_n 0, 1)) none) (cond (Nat.ble pc 1) (cond (Nat.beq pc 1) (some (.getfield 31, 3)) none) (cond (Nat.beq pc 4) (some (.areturn, 1)) none)))
theorem tkJ14_getMessage : tkAll cJ14_getMessage tbJ14_getMessage := fun pc => (tk_b (tk_l dJ14_getMessage_0) (tk_b (tk_l dJ14_getMessage_1) (tk_l dJ14_getMessage_4)))
def tbJ15_init (pc : Nat) : Option (Instr × Nat) := (cond (Nat.ble pc 1) (cond (Nat.ble pc 0) (cond (Nat.beq pc 0) (some (.aload_n 0, 1)) none) (cond (Nat.beq pc 1) (some (.aload_n 1, 1)) none)) (cond (Nat.ble pc 2) (cond (Nat.beq pc 2) (some (.invokespecial 7, 3)) none) (cond (Nat.beq pc 5) (some (.return_, 1)) none)))
theorem tkJ15_init : tkAll cJ15_init tbJ15_init := fun pc => (tk_b (tk_b (tk_l dJ15_init_0) (tk_l dJ15_init_1)) (tk_b (tk_l dJ15_init_2) (tk_l dJ15_init_5)))
def tbJ15_init_2 (pc : Nat) : Option (Instr × Nat) := (cond (Nat.ble pc 0) (cond (Nat.beq pc 0) (some (.aload_n 0, 1)) none) (cond (Nat.ble pc 1) (cond (Nat.beq pc 1) (some (.invokespecial 1, 3)) none) (cond (Nat.beq pc 4) (some (.return_, 1)) none)))
theorem tkJ15_init_2 : tkAll cJ15_init_2 tbJ15_init_2 := fun pc => (tk_b (tk_l dJ15_init_2_0) (tk_b (tk_l dJ15_init_2_1) (tk_l dJ15_init_2_4)))
def tbJ15_init_3 (pc : Nat) : Option (Instr × Nat) := (cond (Nat.ble pc 1) (cond (Nat.ble pc 0) (cond (Nat.beq pc 0) (some (.aload_n 0, 1)) none) (cond (Nat.beq pc 1) (some (.aload_n 1, 1)) none)) (cond (Nat.ble pc 2) (cond (Nat.beq pc 2) (some (.invokespecial 13, 3)) none) (cond (Nat.beq pc 5) (some (.return_, 1)) none)))
theorem tkJ15_init_3 : tkAll cJ15_init_3 tbJ15_init_3 := fun pc => (tk_b (tk_b (tk_l dJ15_init_3_0) (tk_l dJ15_init_3_1)) (tk_b (tk_l dJ15_init_3_2) (tk_l dJ15_init_3_5)))
def tbJ16_init (pc : Nat) : Option (Instr × Nat) := (cond (Nat.ble pc 1) (cond (Nat.ble pc 0) (cond (Nat.beq pc 0) (some (.aload_n 0, 1)) none) (cond (Nat.beq pc 1) (some (.aload_n 1, 1)) none)) (cond (Nat.ble pc 2) (cond (Nat.beq pc 2) (some (.invokespecial 7, 3)) none) (cond (Nat.beq pc 5) (some (.return_, 1)) none)))
theorem tkJ16_init : tkAll cJ16_init tbJ16_init := fun pc => (tk_b (tk_b (tk_l dJ16_init_0) (tk_l dJ16_init_1)) (tk_b (tk_l dJ16_init_2) (tk_l dJ16_init_5)))
def tbJ16_init_2 (pc : Nat) : Option (Instr × Nat) := (cond (Nat.ble pc 0) (cond (Nat.beq pc 0) (some (.aload_n 0, 1)) none) (cond (Nat.ble pc 1) (cond (Nat.beq pc 1) (some (.invokespecial 1, 3)) none) (cond (Nat.beq pc 4) (some (.return_, 1)) none)))
theorem tkJ16_init_2 : tkAll cJ16_init_2 tbJ16_init_2 := fun pc => (tk_b (tk_l dJ16_init_2_0) (tk_b (tk_l dJ16_init_2_1) (tk_l dJ16_init_2_4)))
def tbJ16_init_3 (pc : Nat) : Option (Instr × Nat) := (cond (Nat.ble pc 1) (cond (Nat.ble pc 0) (cond (Nat.beq pc 0) (some (.aload_n 0, 1)) none) (cond (Nat.beq pc 1) (some (.aload_n 1, 1)) none)) (cond (Nat.ble pc 2) (cond (Nat.beq pc 2) (some (.invokespecial 13, 3)) none) (cond (Nat.beq pc 5) (some (.return_, 1)) none)))
theorem tkJ16_init_3 : tkAll cJ16_init_3 tbJ16_init_3 := fun pc => (tk_b (tk_b (tk_l dJ16_init_3_0) (tk_l dJ16_init_3_1)) (tk_b (tk_l dJ16_init_3_2) (tk_l dJ16_init_3_5)))
def tbJ17_init (pc : Nat) : Option (Instr × Nat) := (cond (Nat.ble pc 1) (cond (Nat.ble pc 0) (cond (Nat.beq pc 0) (some (.aload_n 0, 1)) none) (cond (Nat.beq pc 1) (some (.aload_n 1, 1)) none)) (cond (Nat.ble pc 2) (cond (Nat.beq pc 2) (some (.invokespecial 7, 3)) none) (cond (Nat.beq pc 5) (some (.return_, 1)) none)))
theorem tkJ17_init : tkAll cJ17_init tbJ17_init := fun pc => (tk_b (tk_b (tk_l dJ17_init_0) (tk_l dJ17_init_1)) (tk_b (tk_l dJ17_init_2) (tk_l dJ17_init_5)))
def tbJ17_init_2 (pc : Nat) : Option (Instr × Nat) := (cond (Nat.ble pc 0) (cond (Nat.beq pc 0) (some (.aload_n 0, 1)) none) (cond (Nat.ble pc 1) (cond (Nat.beq pc 1) (some (.invokespecial 1, 3)) none) (cond (Nat.beq pc 4) (some (.return_, 1)) none)))
theorem tkJ17_init_2 : tkAll cJ17_init_2 tbJ17_init_2 := fun pc => (tk_b (tk_l dJ17_init_2_0) (tk_b (tk_l dJ17_init_2_1) (tk_l dJ17_init_2_4)))
def tbJ22_init (pc : Nat) : Option (Instr × Nat) := (cond (Nat.ble pc 10) (cond (Nat.ble pc 4) (cond (Nat.ble pc 0) (cond (Nat.beq pc 0) (some (.aload_n 0, 1)) none) (cond (Nat.ble pc 1) (cond (Nat.beq pc 1) (some (.invokespecial 1, 3)) none) (cond (Nat.beq pc 4) (some (.aload_n 0, 1)) none))) (cond (Nat.ble pc 6) (cond (Nat.ble pc 5) (cond (Nat.beq pc 5) (some (.iload_n 1, 1)) none) (cond (Nat.beq pc 6) (some (.putfield 7, 3)) none)) (cond (Nat.ble pc 9) (cond (Nat.beq pc 9) (some (.aload_n 0, 1)) none) (cond (Nat.beq pc 10) (some (.aload_n 2, 1)) none)))) (cond (Nat.ble pc 16) (cond (Nat.ble pc 14) (cond (Nat.ble pc 11) (cond (Nat.beq pc 11) (some (.putfield 13, 3)) none) (cond (Nat.beq pc 14) (some (.aload_n 0, 1)) none)) (cond (Nat.ble pc 15) (cond (Nat.beq pc 15) (some (.aload_n 3, 1)) none) (cond (Nat.beq pc 16) (some (.putfield 17, 3)) none))) (cond (Nat.ble pc 20) (cond (Nat.ble pc 19) (cond (Nat.beq pc 19) (some (.aload_n 0, 1)) none) (cond (Nat.beq pc 20) (some (.aload 4, 2)) none)) (cond (Nat.ble pc 22) (cond (Nat.beq pc 22) (some (.putfield 20, 3)) none) (cond (Nat.beq pc 25) (some (.return_, 1)) none)))))
theorem tkJ22_init : tkAll cJ22_init tbJ22_init := fun pc => (tk_b (tk_b (tk_b (tk_l dJ22_init_0) (tk_b (tk_l dJ22_init_1) (tk_l dJ22_init_4))) (tk_b (tk_b (tk_l dJ22_init_5) (tk_l dJ22_init_6)) (tk_b (tk_l dJ22_init_9) (tk_l dJ22_init_10)))) (tk_b (tk_b (tk_b (tk_l dJ22_init_11) (tk_l dJ22_init_14)) (tk_b (tk_l dJ22_init_15) (tk_l dJ22_init_16))) (tk_b (tk_b (tk_l dJ22_init_19) (tk_l dJ22_init_20)) (tk_b (tk_l dJ22_init_22) (tk_l dJ22_init_25)))))
def tbJ23_init (pc : Nat) : Option (Instr × Nat) := (cond (Nat.ble pc 2) (cond (Nat.ble pc 0) (cond (Nat.beq pc 0) (some (.aload_n 0, 1)) none) (cond (Nat.ble pc 1) (cond (Nat.beq pc 1) (some (.iload_n 1, 1)) none) (cond (Nat.beq pc 2) (some (.aload_n 2, 1)) none))) (cond (Nat.ble pc 4) (cond (Nat.ble pc 3) (cond (Nat.beq pc 3) (some (.aload_n 3, 1)) none) (cond (Nat.beq pc 4) (some (.aload 4, 2)) none)) (cond (Nat.ble pc 6) (cond (Nat.beq pc 6) (some (.invokespecial 1, 3)) none) (cond (Nat.beq pc 9) (some (.return_, 1)) none))))
theorem tkJ23_init : tkAll cJ23_init tbJ23_init := fun pc => (tk_b (tk_b (tk_l dJ23_init_0) (tk_b (tk_l dJ23_init_1) (tk_l dJ23_init_2))) (tk_b (tk_b (tk_l dJ23_init_3) (tk_l dJ23_init_4)) (tk_b (tk_l dJ23_init_6) (tk_l dJ23_init_9))))
def tbJ27_checkIndex (pc : Nat) : Option (Instr × Nat) := (cond (Nat.ble pc 1) (cond (Nat.ble pc 0) (cond (Nat.beq pc 0) (some (.iload_n 0, 1)) none) (cond (Nat.beq pc 1) (some (.iload_n 1, 1)) none)) (cond (Nat.ble pc 2) (cond (Nat.beq pc 2) (some (.aconst_null, 1)) none) (cond (Nat.ble pc 3) (cond (Nat.beq pc 3) (some (.invokestatic 105, 3)) none) (cond (Nat.beq pc 6) (some (.ireturn, 1)) none))))
theorem tkJ27_checkIndex : tkAll cJ27_checkIndex tbJ27_checkIndex := fun pc => (tk_b (tk_b (tk_l dJ27_checkIndex_0) (tk_l dJ27_checkIndex_1)) (tk_b (tk_l dJ27_checkIndex_2) (tk_b (tk_l dJ27_checkIndex_3) (tk_l dJ27_checkIndex_6))))
def tbJ28_init (pc : Nat) : Option (Instr × Nat) := (cond (Nat.ble pc 0) (cond (Nat.beq pc 0) (some (.aload_n 0, 1)) none) (cond (Nat.ble pc 1) (cond (Nat.beq pc 1) (some (.invokespecial 1, 3)) none) (cond (Nat.beq pc 4) (some (.return_, 1)) none)))
theorem tkJ28_init : tkAll cJ28_init tbJ28_init := fun pc => (tk_b (tk_l dJ28_init_0) (tk_b (tk_l dJ28_init_1) (tk_l dJ28_init_4)))
def tbJ28_init_2 (pc : Nat) : Option (Instr × Nat) := (cond (Nat.ble pc 1) (cond (Nat.ble pc 0) (cond (Nat.beq pc 0) (some (.aload_n 0, 1)) none) (cond (Nat.beq pc 1) (some (.aload_n 1, 1)) none)) (cond (Nat.ble pc 2) (cond (Nat.beq pc 2) (some (.invokespecial 7, 3)) none) (cond (Nat.beq pc 5) (some (.return_, 1)) none)))
theorem tkJ28_init_2 : tkAll cJ28_init_2 tbJ28_init_2 := fun pc => (tk_b (tk_b (tk_l dJ28_init_2_0) (tk_l dJ28_init_2_1)) (tk_b (tk_l dJ28_init_2_2) (tk_l dJ28_init_2_5)))
def tbJ29_init (pc : Nat) : Option (Instr × Nat) := (cond (Nat.ble pc 9) (cond (Nat.ble pc 4) (cond (Nat.ble pc 0) (cond (Nat.beq pc 0) (some (.aload_n 0, 1)) none) (cond (Nat.ble pc 1) (cond (Nat.beq pc 1) (some (.invokespecial 1, 3)) none) (cond (Nat.beq pc 4) (some (.aload_n 0, 1)) none))) (cond (Nat.ble pc 5) (cond (Nat.beq pc 5) (some (.aload_n 2, 1)) none) (cond (Nat.ble pc 6) (cond (Nat.beq pc 6) (some (.putfield 7, 3)) none) (cond (Nat.beq pc 9) (some (.aload_n 0, 1)) none)))) (cond (Nat.ble pc 14) (cond (Nat.ble pc 10) (cond (Nat.beq pc 10) (some (.aload_n 3, 1)) none) (cond (Nat.ble pc 11) (cond (Nat.beq pc 11) (some (.putfield 13, 3)) none) (cond (Nat.beq pc 14) (some (.aload_n 0, 1)) none))) (cond (Nat.ble pc 15) (cond (Nat.beq pc 15) (some (.aload_n 1, 1)) none) (cond (Nat.ble pc 16) (cond (Nat.beq pc 16) (some (.putfield 17, 3)) none) (cond (Nat.beq pc 19) (some (.return_, 1)) none)))))
theorem tkJ29_init : tkAll cJ29_init tbJ29_init := fun pc => (tk_b (tk_b (tk_b (tk_l dJ29_init_0) (tk_b (tk_l dJ29_init_1) (tk_l dJ29_init_4))) (tk_b (tk_l dJ29_init_5) (tk_b (tk_l dJ29_init_6) (tk_l dJ29_init_9)))) (tk_b (tk_b (tk_l dJ29_init_10) (tk_b (tk_l dJ29_init_11) (tk_l dJ29_init_14))) (tk_b (tk_l dJ29_init_15) (tk_b (tk_l dJ29_init_16) (tk_l dJ29_init_19)))))
def tbJ30_init (pc : Nat) : Option (Instr × Nat) := (cond (Nat.ble pc 4) (cond (Nat.ble pc 0) (cond (Nat.beq pc 0) (some (.aload_n 0, 1)) none) (cond (Nat.ble pc 1) (cond (Nat.beq pc 1) (some (.invokespecial 42, 3)) none) (cond (Nat.beq pc 4) (some (.aload_n 0, 1)) none))) (cond (Nat.ble pc 7) (cond (Nat.ble pc 5) (cond (Nat.beq pc 5) (some (.bipush 17, 2)) none) (cond (Nat.beq pc 7) (some (.anewarray 47, 3)) none)) (cond (Nat.ble pc 10) (cond (Nat.beq pc 10) (some (.putfield 3, 3)) none) (cond (Nat.beq pc 13) (some (.return_, 1)) none))))
theorem tkJ30_init : tkAll cJ30_init tbJ30_init := fun pc => (tk_b (tk_b (tk_l dJ30_init_0) (tk_b (tk_l dJ30_init_1) (tk_l dJ30_init_4))) (tk_b (tk_b (tk_l dJ30_init_5) (tk_l dJ30_init_7)) (tk_b (tk_l dJ30_init_10) (tk_l dJ30_init_13))))
def tbJ30_size (pc : Nat) : Option (Instr × Nat) := (cond (Nat.ble pc 5) (cond (Nat.ble pc 1) (cond (Nat.ble pc 0) (cond (Nat.beq pc 0) (some (.aload_n 0, 1)) none) (cond (Nat.beq pc 1) (some (.getfield 20, 3)) none)) (cond (Nat.ble pc 4) (cond (Nat.beq pc 4) (some (.aload_n 0, 1)) none) (cond (Nat.beq pc 5) (some (.getfield 24, 3)) none))) (cond (Nat.ble pc 9) (cond (Nat.ble pc 8) (cond (Nat.beq pc 8) (some (.aload_n 0, 1)) none) (cond (Nat.beq pc 9) (some (.getfield 3, 3)) none)) (cond (Nat.ble pc 12) (cond (Nat.beq pc 12) (some (.arraylength, 1)) none) (cond (Nat.ble pc 13) (cond (Nat.beq pc 13) (some (.invokestatic 127, 3)) none) (cond (Nat.beq pc 16) (some (.ireturn, 1)) none)))))
theorem tkJ30_size : tkAll cJ30_size tbJ30_size := fun pc => (tk_b (tk_b (tk_b (tk_l dJ30_size_0) (tk_l dJ30_size_1)) (tk_b (tk_l dJ30_size_4) (tk_l dJ30_size_5))) (tk_b (tk_b (tk_l dJ30_size_8) (tk_l dJ30_size_9)) (tk_b (tk_l dJ30_size_12) (tk_b (tk_l dJ30_size_13) (tk_l dJ30_size_16)))))
def tbJ30_sub (pc : Nat) : Option (Instr × Nat) := (cond (Nat.ble pc 5) (cond (Nat.ble pc 2) (cond (Nat.ble pc 0) (cond (Nat.beq pc 0) (some (.iload_n 0, 1)) none) (cond (Nat.ble pc 1) (cond (Nat.beq pc 1) (some (.iload_n 1, 1)) none) (cond (Nat.beq pc 2) (some (.isub, 1)) none))) (cond (Nat.ble pc 3) (cond (Nat.beq pc 3) (some (.dup, 1)) none) (cond (Nat.ble pc 4) (cond (Nat.beq pc 4) (some (.istore_n 0, 1)) none) (cond (Nat.beq pc 5) (some (.ifCond .ge 7, 3)) none)))) (cond (Nat.ble pc 10) (cond (Nat.ble pc 8) (cond (Nat.beq pc 8) (some (.iload_n 0, 1)) none) (cond (Nat.ble pc 9) (cond (Nat.beq pc 9) (some (.iload_n 2, 1)) none) (cond (Nat.beq pc 10) (some (.iadd, 1)) none))) (cond (Nat.ble pc 11) (cond (Nat.beq pc 11) (some (.istore_n 0, 1)) none) (cond (Nat.ble pc 12) (cond (Nat.beq pc 12) (some (.iload_n 0, 1)) none) (cond (Nat.beq pc 13) (some (.ireturn, 1)) none)))))
theorem tkJ30_sub : tkAll cJ30_sub tbJ30_sub := fun pc => (tk_b (tk_b (tk_b (tk_l dJ30_sub_0) (tk_b (tk_l dJ30_sub_1) (tk_l dJ30_sub_2))) (tk_b (tk_l dJ30_sub_3) (tk_b (tk_l dJ30_sub_4) (tk_l dJ30_sub_5)))) (tk_b (tk_b (tk_l dJ30_sub_8) (tk_b (tk_l dJ30_sub_9) (tk_l dJ30_sub_10))) (tk_b (tk_l dJ30_sub_11) (tk_b (tk_l dJ30_sub_12) (tk_l dJ30_sub_13)))))
def tbJ30_addFirst (pc : Nat) : Option (Instr × Nat) := (cond (Nat.ble pc 23) (cond (Nat.ble pc 12) (cond (Nat.ble pc 4) (cond (Nat.ble pc 0) (cond (Nat.beq pc 0) (some (.aload_n 1, 1)) none) (cond (Nat.ble pc 1) (cond (Nat.beq pc 1) (some (.ifnonnull 11, 3)) none) (cond (Nat.beq pc 4) (some (.new 65, 3)) none))) (cond (Nat.ble pc 8) (cond (Nat.ble pc 7) (cond (Nat.beq pc 7) (some (.dup, 1)) none) (cond (Nat.beq pc 8) (some (.invokespecial 67, 3)) none)) (cond (Nat.ble pc 11) (cond (Nat.beq pc 11) (some (.athrow, 1)) none) (cond (Nat.beq pc 12) (some (.aload_n 0, 1)) none)))) (cond (Nat.ble pc 17) (cond (Nat.ble pc 13) (cond (Nat.beq pc 13) (some (.getfield 3, 3)) none) (cond (Nat.ble pc 16) (cond (Nat.beq pc 16) (some (.astore_n 2, 1)) none) (cond (Nat.beq pc 17) (some (.aload_n 2, 1)) none))) (cond (Nat.ble pc 19) (cond (Nat.ble pc 18) (cond (Nat.beq pc 18) (some (.aload_n 0, 1)) none) (cond (Nat.beq pc 19) (some (.aload_n 0, 1)) none)) (cond (Nat.ble pc 20) (cond (Nat.beq pc 20) (some (.getfield 24, 3)) none) (cond (Nat.beq pc 23) (some (.aload_n 2, 1)) none))))) (cond (Nat.ble pc 34) (cond (Nat.ble pc 28) (cond (Nat.ble pc 24) (cond (Nat.beq pc 24) (some (.arraylength, 1)) none) (cond (Nat.ble pc 25) (cond (Nat.beq pc 25) (some (.invokestatic 68, 3)) none) (cond (Nat.beq pc 28) (some (.dup_x1, 1)) none))) (cond (Nat.ble pc 32) (cond (Nat.ble pc 29) (cond (Nat.beq pc 29) (some (.putfield 24, 3)) none) (cond (Nat.beq pc 32) (some (.aload_n 1, 1)) none)) (cond (Nat.ble pc 33) (cond (Nat.beq pc 33) (some (.aastore, 1)) none) (cond (Nat.beq pc 34) (some (.aload_n 0, 1)) none)))) (cond (Nat.ble pc 42) (cond (Nat.ble pc 38) (cond (Nat.ble pc 35) (cond (Nat.beq pc 35) (some (.getfield 24, 3)) none) (cond (Nat.beq pc 38) (some (.aload_n 0, 1)) none)) (cond (Nat.ble pc 39) (cond (Nat.beq pc 39) (some (.getfield 20, 3)) none) (cond (Nat.beq pc 42) (some (.if_icmp .ne 8, 3)) none))) (cond (Nat.ble pc 46) (cond (Nat.ble pc 45) (cond (Nat.beq pc 45) (some (.aload_n 0, 1)) none) (cond (Nat.beq pc 46) (some (.iconst 1, 1)) none)) (cond (Nat.ble pc 47) (cond (Nat.beq pc 47) (some (.invokevirtual 71, 3)) none) (cond (Nat.beq pc 50) (some (.return_, 1)) none))))))
theorem tkJ30_addFirst : tkAll cJ30_addFirst tbJ30_addFirst := fun pc => (tk_b (tk_b (tk_b (tk_b (tk_l dJ30_addFirst_0) (tk_b (tk_l dJ30_addFirst_1) (tk_l dJ30_addFirst_4))) (tk_b (tk_b (tk_l dJ30_addFirst_7) (tk_l dJ30_addFirst_8)) (tk_b (tk_l dJ30_addFirst_11) (tk_l dJ30_addFirst_12)))) (tk_b (tk_b (tk_l dJ30_addFirst_13) (tk_b (tk_l dJ30_addFirst_16) (tk_l dJ30_addFirst_17))) (tk_b (tk_b (tk_l dJ30_addFirst_18) (tk_l dJ30_addFirst_19)) (tk_b (tk_l dJ30_addFirst_20) (tk_l dJ30_addFirst_23))))) (tk_b (tk_b (tk_b (tk_l dJ30_addFirst_24) (tk_b (tk_l dJ30_addFirst_25) (tk_l dJ30_addFirst_28))) (tk_b (tk_b (tk_l dJ30_addFirst_29) (tk_l dJ30_addFirst_32)) (tk_b (tk_l dJ30_addFirst_33) (tk_l dJ30_addFirst_34)))) (tk_b (tk_b (tk_b (tk_l dJ30_addFirst_35) (tk_l dJ30_addFirst_38)) (tk_b (tk_l dJ30_addFirst_39) (tk_l dJ30_addFirst_42))) (tk_b (tk_b (tk_l dJ30_addFirst_45) (tk_l dJ30_addFirst_46)) (tk_b (tk_l dJ30_addFirst_47) (tk_l dJ30_addFirst_50))))))
def tbJ30_dec (pc : Nat) : Option (Instr × Nat) := (cond (Nat.ble pc 7) (cond (Nat.ble pc 3) (cond (Nat.ble pc 0) (cond (Nat.beq pc 0) (some (.iinc 0 (-1), 3)) none) (cond (Nat.beq pc 3) (some (.iload_n 0, 1)) none)) (cond (Nat.ble pc 4) (cond (Nat.beq pc 4) (some (.ifCond .ge 7, 3)) none) (cond (Nat.beq pc 7) (some (.iload_n 1, 1)) none))) (cond (Nat.ble pc 9) (cond (Nat.ble pc 8) (cond (Nat.beq pc 8) (some (.iconst 1, 1)) none) (cond (Nat.beq pc 9) (some (.isub, 1)) none)) (cond (Nat.ble pc 10) (cond (Nat.beq pc 10) (some (.istore_n 0, 1)) none) (cond (Nat.ble pc 11) (cond (Nat.beq pc 11) (some (.iload_n 0, 1)) none) (cond (Nat.beq pc 12) (some (.ireturn, 1)) none)))))
theorem tkJ30_dec : tkAll cJ30_dec tbJ30_dec := fun pc => (tk_b (tk_b (tk_b (tk_l dJ30_dec_0) (tk_l dJ30_dec_3)) (tk_b (tk_l dJ30_dec_4) (tk_l dJ30_dec_7))) (tk_b (tk_b (tk_l dJ30_dec_8) (tk_l dJ30_dec_9)) (tk_b (tk_l dJ30_dec_10) (tk_b (tk_l dJ30_dec_11) (tk_l dJ30_dec_12)))))
def tbJ30_grow (pc : Nat) : Option (Instr × Nat) := (cond (Nat.ble pc 76) (cond (Nat.ble pc 34) (cond (Nat.ble pc 15) (cond (Nat.ble pc 6) (cond (Nat.ble pc 1) (cond (Nat.ble pc 0) (cond (Nat.beq pc 0) (some (.aload_n 0, 1)) none) (cond (Nat.beq pc 1) (some (.getfield 3, 3)) none)) (cond (Nat.ble pc 4) (cond (Nat.beq pc 4) (some (.arraylength, 1)) none) (cond (Nat.ble pc 5) (cond (Nat.beq pc 5) (some (.istore_n 2, 1)) none) (cond (Nat.beq pc 6) (some (.iload_n 2, 1)) none)))) (cond (Nat.ble pc 12) (cond (Nat.ble pc 7) (cond (Nat.beq pc 7) (some (.bipush 64, 2)) none) (cond (Nat.ble pc 9) (cond (Nat.beq pc 9) (some (.if_icmp .ge 9, 3)) none) (cond (Nat.beq pc 12) (some (.iload_n 2, 1)) none))) (cond (Nat.ble pc 13) (cond (Nat.beq pc 13) (some (.iconst 2, 1)) none) (cond (Nat.ble pc 14) (cond (Nat.beq pc 14) (some (.iadd, 1)) none) (cond (Nat.beq pc 15) (some (.goto 6, 3)) none))))) (cond (Nat.ble pc 25) (cond (Nat.ble pc 20) (cond (Nat.ble pc 18) (cond (Nat.beq pc 18) (some (.iload_n 2, 1)) none) (cond (Nat.ble pc 19) (cond (Nat.beq pc 19) (some (.iconst 1, 1)) none) (cond (Nat.beq pc 20) (some (.ishr, 1)) none))) (cond (Nat.ble pc 21) (cond (Nat.beq pc 21) (some (.istore 4, 2)) none) (cond (Nat.ble pc 23) (cond (Nat.beq pc 23) (some (.iload 4, 2)) none) (cond (Nat.beq pc 25) (some (.iload_n 1, 1)) none)))) (cond (Nat.ble pc 30) (cond (Nat.ble pc 26) (cond (Nat.beq pc 26) (some (.if_icmp .lt 15, 3)) none) (cond (Nat.ble pc 29) (cond (Nat.beq pc 29) (some (.iload_n 2, 1)) none) (cond (Nat.beq pc 30) (some (.iload 4, 2)) none))) (cond (Nat.ble pc 32) (cond (Nat.beq pc 32) (some (.iadd, 1)) none) (cond (Nat.ble pc 33) (cond (Nat.beq pc 33) (some (.dup, 1)) none) (cond (Nat.beq pc 34) (some (.istore_n 3, 1)) none)))))) (cond (Nat.ble pc 51) (cond (Nat.ble pc 42) (cond (Nat.ble pc 37) (cond (Nat.ble pc 35) (cond (Nat.beq pc 35) (some (.ldc 9, 2)) none) (cond (Nat.beq pc 37) (some (.isub, 1)) none)) (cond (Nat.ble pc 38) (cond (Nat.beq pc 38) (some (.ifCond .le 11, 3)) none) (cond (Nat.ble pc 41) (cond (Nat.beq pc 41) (some (.aload_n 0, 1)) none) (cond (Nat.beq pc 42) (some (.iload_n 1, 1)) none)))) (cond (Nat.ble pc 48) (cond (Nat.ble pc 43) (cond (Nat.beq pc 43) (some (.iload 4, 2)) none) (cond (Nat.ble pc 45) (cond (Nat.beq pc 45) (some (.invokevirtual 10, 3)) none) (cond (Nat.beq pc 48) (some (.istore_n 3, 1)) none))) (cond (Nat.ble pc 49) (cond (Nat.beq pc 49) (some (.aload_n 0, 1)) none) (cond (Nat.ble pc 50) (cond (Nat.beq pc 50) (some (.aload_n 0, 1)) none) (cond (Nat.beq pc 51) (some (.getfield 3, 3)) none))))) (cond (Nat.ble pc 64) (cond (Nat.ble pc 58) (cond (Nat.ble pc 54) (cond (Nat.beq pc 54) (some (.iload_n 3, 1)) none) (cond (Nat.ble pc 55) (cond (Nat.beq pc 55) (some (.invokestatic 14, 3)) none) (cond (Nat.beq pc 58) (some (.dup_x1, 1)) none))) (cond (Nat.ble pc 59) (cond (Nat.beq pc 59) (some (.putfield 3, 3)) none) (cond (Nat.ble pc 62) (cond (Nat.beq pc 62) (some (.astore 5, 2)) none) (cond (Nat.beq pc 64) (some (.aload_n 0, 1)) none)))) (cond (Nat.ble pc 69) (cond (Nat.ble pc 65) (cond (Nat.beq pc 65) (some (.getfield 20, 3)) none) (cond (Nat.ble pc 68) (cond (Nat.beq pc 68) (some (.aload_n 0, 1)) none) (cond (Nat.beq pc 69) (some (.getfield 24, 3)) none))) (cond (Nat.ble pc 72) (cond (Nat.beq pc 72) (some (.if_icmp .lt 24, 3)) none) (cond (Nat.ble pc 75) (cond (Nat.beq pc 75) (some (.aload_n 0, 1)) none) (cond (Nat.beq pc 76) (some (.getfield 20, 3)) none))))))) (cond (Nat.ble pc 118) (cond (Nat.ble pc 98) (cond (Nat.ble pc 88) (cond (Nat.ble pc 80) (cond (Nat.ble pc 79) (cond (Nat.beq pc 79) (some (.aload_n 0, 1)) none) (cond (Nat.beq pc 80) (some (.getfield 24, 3)) none)) (cond (Nat.ble pc 83) (cond (Nat.beq pc 83) (some (.if_icmp .ne 81, 3)) none) (cond (Nat.ble pc 86) (cond (Nat.beq pc 86) (some (.aload 5, 2)) none) (cond (Nat.beq pc 88) (some (.aload_n 0, 1)) none)))) (cond (Nat.ble pc 93) (cond (Nat.ble pc 89) (cond (Nat.beq pc 89) (some (.getfield 24, 3)) none) (cond (Nat.ble pc 92) (cond (Nat.beq pc 92) (some (.aaload, 1)) none) (cond (Nat.beq pc 93) (some (.ifnull 71, 3)) none))) (cond (Nat.ble pc 96) (cond (Nat.beq pc 96) (some (.iload_n 3, 1)) none) (cond (Nat.ble pc 97) (cond (Nat.beq pc 97) (some (.iload_n 2, 1)) none) (cond (Nat.beq pc 98) (some (.isub, 1)) none))))) (cond (Nat.ble pc 109) (cond (Nat.ble pc 103) (cond (Nat.ble pc 99) (cond (Nat.beq pc 99) (some (.istore 6, 2)) none) (cond (Nat.ble pc 101) (cond (Nat.beq pc 101) (some (.aload 5, 2)) none) (cond (Nat.beq pc 103) (some (.aload_n 0, 1)) none))) (cond (Nat.ble pc 104) (cond (Nat.beq pc 104) (some (.getfield 24, 3)) none) (cond (Nat.ble pc 107) (cond (Nat.beq pc 107) (some (.aload 5, 2)) none) (cond (Nat.beq pc 109) (some (.aload_n 0, 1)) none)))) (cond (Nat.ble pc 115) (cond (Nat.ble pc 110) (cond (Nat.beq pc 110) (some (.getfield 24, 3)) none) (cond (Nat.ble pc 113) (cond (Nat.beq pc 113) (some (.iload 6, 2)) none) (cond (Nat.beq pc 115) (some (.iadd, 1)) none))) (cond (Nat.ble pc 116) (cond (Nat.beq pc 116) (some (.iload_n 2, 1)) none) (cond (Nat.ble pc 117) (cond (Nat.beq pc 117) (some (.aload_n 0, 1)) none) (cond (Nat.beq pc 118) (some (.getfield 24, 3)) none)))))) (cond (Nat.ble pc 139) (cond (Nat.ble pc 129) (cond (Nat.ble pc 122) (cond (Nat.ble pc 121) (cond (Nat.beq pc 121) (some (.isub, 1)) none) (cond (Nat.beq pc 122) (some (.invokestatic 27, 3)) none)) (cond (Nat.ble pc 125) (cond (Nat.beq pc 125) (some (.aload_n 0, 1)) none) (cond (Nat.ble pc 126) (cond (Nat.beq pc 126) (some (.getfield 24, 3)) none) (cond (Nat.beq pc 129) (some (.istore 7, 2)) none)))) (cond (Nat.ble pc 133) (cond (Nat.ble pc 131) (cond (Nat.beq pc 131) (some (.aload_n 0, 1)) none) (cond (Nat.ble pc 132) (cond (Nat.beq pc 132) (some (.dup, 1)) none) (cond (Nat.beq pc 133) (some (.getfield 24, 3)) none))) (cond (Nat.ble pc 136) (cond (Nat.beq pc 136) (some (.iload 6, 2)) none) (cond (Nat.ble pc 138) (cond (Nat.beq pc 138) (some (.iadd, 1)) none) (cond (Nat.beq pc 139) (some (.dup_x1, 1)) none))))) (cond (Nat.ble pc 152) (cond (Nat.ble pc 145) (cond (Nat.ble pc 140) (cond (Nat.beq pc 140) (some (.putfield 24, 3)) none) (cond (Nat.ble pc 143) (cond (Nat.beq pc 143) (some (.istore 8, 2)) none) (cond (Nat.beq pc 145) (some (.iload 7, 2)) none))) (cond (Nat.ble pc 147) (cond (Nat.beq pc 147) (some (.iload 8, 2)) none) (cond (Nat.ble pc 149) (cond (Nat.beq pc 149) (some (.if_icmp .ge 15, 3)) none) (cond (Nat.beq pc 152) (some (.aload 5, 2)) none)))) (cond (Nat.ble pc 157) (cond (Nat.ble pc 154) (cond (Nat.beq pc 154) (some (.iload 7, 2)) none) (cond (Nat.ble pc 156) (cond (Nat.beq pc 156) (some (.aconst_null, 1)) none) (cond (Nat.beq pc 157) (some (.aastore, 1)) none))) (cond (Nat.ble pc 158) (cond (Nat.beq pc 158) (some (.iinc 7 1, 3)) none) (cond (Nat.ble pc 161) (cond (Nat.beq pc 161) (some (.goto (-16), 3)) none) (cond (Nat.beq pc 164) (some (.return_, 1)) none))))))))
theorem tkJ30_grow : tkAll cJ30_grow tbJ30_grow := fun pc => (tk_b (tk_b (tk_b (tk_b (tk_b (tk_b (tk_l dJ30_grow_0) (tk_l dJ30_grow_1)) (tk_b (tk_l dJ30_grow_4) (tk_b (tk_l dJ30_grow_5) (tk_l dJ30_grow_6)))) (tk_b (tk_b (tk_l dJ30_grow_7) (tk_b (tk_l dJ30_grow_9) (tk_l dJ30_grow_12))) (tk_b (tk_l dJ30_grow_13) (tk_b (tk_l dJ30_grow_14) (tk_l dJ30_grow_15))))) (tk_b (tk_b (tk_b (tk_l dJ30_grow_18) (tk_b (tk_l dJ30_grow_19) (tk_l dJ30_grow_20))) (tk_b (tk_l dJ30_grow_21) (tk_b (tk_l dJ30_grow_23) (tk_l dJ30_grow_25)))) (tk_b (tk_b (tk_l dJ30_grow_26) (tk_b (tk_l dJ30_grow_29) (tk_l dJ30_grow_30))) (tk_b (tk_l dJ30_grow_32) (tk_b (tk_l dJ30_grow_33) (tk_l dJ30_grow_34)))))) (tk_b (tk_b (tk_b (tk_b (tk_l dJ30_grow_35) (tk_l dJ30_grow_37)) (tk_b (tk_l dJ30_grow_38) (tk_b (tk_l dJ30_grow_41) (tk_l dJ30_grow_42)))) (tk_b (tk_b (tk_l dJ30_grow_43) (tk_b (tk_l dJ30_grow_45) (tk_l dJ30_grow_48))) (tk_b (tk_l dJ30_grow_49) (tk_b (tk_l dJ30_grow_50) (tk_l dJ30_grow_51))))) (tk_b (tk_b (tk_b (tk_l dJ30_grow_54) (tk_b (tk_l dJ30_grow_55) (tk_l dJ30_grow_58))) (tk_b (tk_l dJ30_grow_59) (tk_b (tk_l dJ30_grow_62) (tk_l dJ30_grow_64)))) (tk_b (tk_b (tk_l dJ30_grow_65) (tk_b (tk_l dJ30_grow_68) (tk_l dJ30_grow_69))) (tk_b (tk_l dJ30_grow_72) (tk_b (tk_l dJ30_grow_75) (tk_l dJ30_grow_76))))))) (tk_b (tk_b (tk_b (tk_b (tk_b (tk_l dJ30_grow_79) (tk_l dJ30_grow_80)) (tk_b (tk_l dJ30_grow_83) (tk_b (tk_l dJ30_grow_86) (tk_l dJ30_grow_88)))) (tk_b (tk_b (tk_l dJ30_grow_89) (tk_b (tk_l dJ30_grow_92) (tk_l dJ30_grow_93))) (tk_b (tk_l dJ30_grow_96) (tk_b (tk_l dJ30_grow_97) (tk_l dJ30_grow_98))))) (tk_b (tk_b (tk_b (tk_l dJ30_grow_99) (tk_b (tk_l dJ30_grow_101) (tk_l dJ30_grow_103))) (tk_b (tk_l dJ30_grow_104) (tk_b (tk_l dJ30_grow_107) (tk_l dJ30_grow_109)))) (tk_b (tk_b (tk_l dJ30_grow_110) (tk_b (tk_l dJ30_grow_113) (tk_l dJ30_grow_115))) (tk_b (tk_l dJ30_grow_116) (tk_b (tk_l dJ30_grow_117) (tk_l dJ30_grow_118)))))) (tk_b (tk_b (tk_b (tk_b (tk_l dJ30_grow_121) (tk_l dJ30_grow_122)) (tk_b (tk_l dJ30_grow_125) (tk_b (tk_l dJ30_grow_126) (tk_l dJ30_grow_129)))) (tk_b (tk_b (tk_l dJ30_grow_131) (tk_b (tk_l dJ30_grow_132) (tk_l dJ30_grow_133))) (tk_b (tk_l dJ30_grow_136) (tk_b (tk_l dJ30_grow_138) (tk_l dJ30_grow_139))))) (tk_b (tk_b (tk_b (tk_l dJ30_grow_140) (tk_b (tk_l dJ30_grow_143) (tk_l dJ30_grow_145))) (tk_b (tk_l dJ30_grow_147) (tk_b (tk_l dJ30_grow_149) (tk_l dJ30_grow_152)))) (tk_b (tk_b (tk_l dJ30_grow_154) (tk_b (tk_l dJ30_grow_156) (tk_l dJ30_grow_157))) (tk_b (tk_l dJ30_grow_158) (tk_b (tk_l dJ30_grow_161) (tk_l dJ30_grow_164))))))))
def tbJ30_newCapacity (pc : Nat) : Option (Instr × Nat) := (cond (Nat.ble pc 32) (cond (Nat.ble pc 10) (cond (Nat.ble pc 5) (cond (Nat.ble pc 1) (cond (Nat.ble pc 0) (cond (Nat.beq pc 0) (some (.aload_n 0, 1)) none) (cond (Nat.beq pc 1) (some (.getfield 3, 3)) none)) (cond (Nat.ble pc 4) (cond (Nat.beq pc 4) (some (.arraylength, 1)) none) (cond (Nat.beq pc 5) (some (.istore_n 3, 1)) none))) (cond (Nat.ble pc 7) (cond (Nat.ble pc 6) (cond (Nat.beq pc 6) (some (.iload_n 3, 1)) none) (cond (Nat.beq pc 7) (some (.iload_n 1, 1)) none)) (cond (Nat.ble pc 8) (cond (Nat.beq pc 8) (some (.iadd, 1)) none) (cond (Nat.ble pc 9) (cond (Nat.beq pc 9) (some (.dup, 1)) none) (cond (Nat.beq pc 10) (some (.istore 4, 2)) none))))) (cond (Nat.ble pc 20) (cond (Nat.ble pc 14) (cond (Nat.ble pc 12) (cond (Nat.beq pc 12) (some (.ldc 9, 2)) none) (cond (Nat.beq pc 14) (some (.isub, 1)) none)) (cond (Nat.ble pc 15) (cond (Nat.beq pc 15) (some (.ifCond .le 21, 3)) none) (cond (Nat.ble pc 18) (cond (Nat.beq pc 18) (some (.iload 4, 2)) none) (cond (Nat.beq pc 20) (some (.ifCond .ge 13, 3)) none)))) (cond (Nat.ble pc 26) (cond (Nat.ble pc 23) (cond (Nat.beq pc 23) (some (.new 33, 3)) none) (cond (Nat.beq pc 26) (some (.dup, 1)) none)) (cond (Nat.ble pc 27) (cond (Nat.beq pc 27) (some (.ldc 35, 2)) none) (cond (Nat.ble pc 29) (cond (Nat.beq pc 29) (some (.invokespecial 37, 3)) none) (cond (Nat.beq pc 32) (some (.athrow, 1)) none)))))) (cond (Nat.ble pc 45) (cond (Nat.ble pc 37) (cond (Nat.ble pc 35) (cond (Nat.ble pc 33) (cond (Nat.beq pc 33) (some (.ldc 41, 2)) none) (cond (Nat.beq pc 35) (some (.ireturn, 1)) none)) (cond (Nat.ble pc 36) (cond (Nat.beq pc 36) (some (.iload_n 1, 1)) none) (cond (Nat.beq pc 37) (some (.iload_n 2, 1)) none))) (cond (Nat.ble pc 41) (cond (Nat.ble pc 38) (cond (Nat.beq pc 38) (some (.if_icmp .le 6, 3)) none) (cond (Nat.beq pc 41) (some (.iload 4, 2)) none)) (cond (Nat.ble pc 43) (cond (Nat.beq pc 43) (some (.ireturn, 1)) none) (cond (Nat.ble pc 44) (cond (Nat.beq pc 44) (some (.iload_n 3, 1)) none) (cond (Nat.beq pc 45) (some (.iload_n 2, 1)) none))))) (cond (Nat.ble pc 53) (cond (Nat.ble pc 47) (cond (Nat.ble pc 46) (cond (Nat.beq pc 46) (some (.iadd, 1)) none) (cond (Nat.beq pc 47) (some (.ldc 9, 2)) none)) (cond (Nat.ble pc 49) (cond (Nat.beq pc 49) (some (.isub, 1)) none) (cond (Nat.ble pc 50) (cond (Nat.beq pc 50) (some (.ifCond .ge 9, 3)) none) (cond (Nat.beq pc 53) (some (.iload_n 3, 1)) none)))) (cond (Nat.ble pc 55) (cond (Nat.ble pc 54) (cond (Nat.beq pc 54) (some (.iload_n 2, 1)) none) (cond (Nat.beq pc 55) (some (.iadd, 1)) none)) (cond (Nat.ble pc 56) (cond (Nat.beq pc 56) (some (.goto 5, 3)) none) (cond (Nat.ble pc 59) (cond (Nat.beq pc 59) (some (.ldc 9, 2)) none) (cond (Nat.beq pc 61) (some (.ireturn, 1)) none)))))))
theorem tkJ30_newCapacity : tkAll cJ30_newCapacity tbJ30_newCapacity := fun pc => (tk_b (tk_b (tk_b (tk_b (tk_b (tk_l dJ30_newCapacity_0) (tk_l dJ30_newCapacity_1)) (tk_b (tk_l dJ30_newCapacity_4) (tk_l dJ30_newCapacity_5))) (tk_b (tk_b (tk_l dJ30_newCapacity_6) (tk_l dJ30_newCapacity_7)) (tk_b (tk_l dJ30_newCapacity_8) (tk_b (tk_l dJ30_newCapacity_9) (tk_l dJ30_newCapacity_10))))) (tk_b (tk_b (tk_b (tk_l dJ30_newCapacity_12) (tk_l dJ30_newCapacity_14)) (tk_b (tk_l dJ30_newCapacity_15) (tk_b (tk_l dJ30_newCapacity_18) (tk_l dJ30_newCapacity_20)))) (tk_b (tk_b (tk_l dJ30_newCapacity_23) (tk_l dJ30_newCapacity_26)) (tk_b (tk_l dJ30_newCapacity_27) (tk_b (tk_l dJ30_newCapacity_29) (tk_l dJ30_newCapacity_32)))))) (tk_b (tk_b (tk_b (tk_b (tk_l dJ30_newCapacity_33) (tk_l dJ30_newCapacity_35)) (tk_b (tk_l dJ30_newCapacity_36) (tk_l dJ30_newCapacity_37))) (tk_b (tk_b (tk_l dJ30_newCapacity_38) (tk_l dJ30_newCapacity_41)) (tk_b (tk_l dJ30_newCapacity_43) (tk_b (tk_l dJ30_newCapacity_44) (tk_l dJ30_newCapacity_45))))) (tk_b (tk_b (tk_b (tk_l dJ30_newCapacity_46) (tk_l dJ30_newCapacity_47)) (tk_b (tk_l dJ30_newCapacity_49) (tk_b (tk_l dJ30_newCapacity_50) (tk_l dJ30_newCapacity_53)))) (tk_b (tk_b (tk_l dJ30_newCapacity_54) (tk_l dJ30_newCapacity_55)) (tk_b (tk_l dJ30_newCapacity_56) (tk_b (tk_l dJ30_newCapacity_59) (tk_l dJ30_newCapacity_61)))))))
def tbJ30_iterator (pc : Nat) : Option (Instr × Nat) := (cond (Nat.ble pc 3) (cond (Nat.ble pc 0) (cond (Nat.beq pc 0) (some (.new 131, 3)) none) (cond (Nat.beq pc 3) (some (.dup, 1)) none)) (cond (Nat.ble pc 4) (cond (Nat.beq pc 4) (some (.aload_n 0, 1)) none) (cond (Nat.ble pc 5) (cond (Nat.beq pc 5) (some (.invokespecial 133, 3)) none) (cond (Nat.beq pc 8) (some (.areturn, 1)) none))))
theorem tkJ30_iterator : tkAll cJ30_iterator tbJ30_iterator := fun pc => (tk_b (tk_b (tk_l dJ30_iterator_0) (tk_l dJ30_iterator_3)) (tk_b (tk_l dJ30_iterator_4) (tk_b (tk_l dJ30_iterator_5) (tk_l dJ30_iterator_8))))
def tbJ30_nonNullElementAt (pc : Nat) : Option (Instr × Nat) := (cond (Nat.ble pc 5) (cond (Nat.ble pc 2) (cond (Nat.ble pc 0) (cond (Nat.beq pc 0) (some (.aload_n 0, 1)) none) (cond (Nat.ble pc 1) (cond (Nat.beq pc 1) (some (.iload_n 1, 1)) none) (cond (Nat.beq pc 2) (some (.aaload, 1)) none))) (cond (Nat.ble pc 3) (cond (Nat.beq pc 3) (some (.astore_n 2, 1)) none) (cond (Nat.ble pc 4) (cond (Nat.beq pc 4) (some (.aload_n 2, 1)) none) (cond (Nat.beq pc 5) (some (.ifnonnull 11, 3)) none)))) (cond (Nat.ble pc 12) (cond (Nat.ble pc 8) (cond (Nat.beq pc 8) (some (.new 62, 3)) none) (cond (Nat.ble pc 11) (cond (Nat.beq pc 11) (some (.dup, 1)) none) (cond (Nat.beq pc 12) (some (.invokespecial 64, 3)) none))) (cond (Nat.ble pc 15) (cond (Nat.beq pc 15) (some (.athrow, 1)) none) (cond (Nat.ble pc 16) (cond (Nat.beq pc 16) (some (.aload_n 2, 1)) none) (cond (Nat.beq pc 17) (some (.areturn, 1)) none)))))
theorem tkJ30_nonNullElementAt : tkAll cJ30_nonNullElementAt tbJ30_nonNullElementAt := fun pc => (tk_b (tk_b (tk_b (tk_l dJ30_nonNullElementAt_0) (tk_b (tk_l dJ30_nonNullElementAt_1) (tk_l dJ30_nonNullElementAt_2))) (tk_b (tk_l dJ30_nonNullElementAt_3) (tk_b (tk_l dJ30_nonNullElementAt_4) (tk_l dJ30_nonNullElementAt_5)))) (tk_b (tk_b (tk_l dJ30_nonNullElementAt_8) (tk_b (tk_l dJ30_nonNullElementAt_11) (tk_l dJ30_nonNullElementAt_12))) (tk_b (tk_l dJ30_nonNullElementAt_15) (tk_b (tk_l dJ30_nonNullElementAt_16) (tk_l dJ30_nonNullElementAt_17)))))
def tbJ30_inc (pc : Nat) : Option (Instr × Nat) := (cond (Nat.ble pc 5) (cond (Nat.ble pc 3) (cond (Nat.ble pc 0) (cond (Nat.beq pc 0) (some (.iinc 0 1, 3)) none) (cond (Nat.beq pc 3) (some (.iload_n 0, 1)) none)) (cond (Nat.ble pc 4) (cond (Nat.beq pc 4) (some (.iload_n 1, 1)) none) (cond (Nat.beq pc 5) (some (.if_icmp .lt 5, 3)) none))) (cond (Nat.ble pc 9) (cond (Nat.ble pc 8) (cond (Nat.beq pc 8) (some (.iconst 0, 1)) none) (cond (Nat.beq pc 9) (some (.istore_n 0, 1)) none)) (cond (Nat.ble pc 10) (cond (Nat.beq pc 10) (some (.iload_n 0, 1)) none) (cond (Nat.beq pc 11) (some (.ireturn, 1)) none))))
theorem tkJ30_inc : tkAll cJ30_inc tbJ30_inc := fun pc => (tk_b (tk_b (tk_b (tk_l dJ30_inc_0) (tk_l dJ30_inc_3)) (tk_b (tk_l dJ30_inc_4) (tk_l dJ30_inc_5))) (tk_b (tk_b (tk_l dJ30_inc_8) (tk_l dJ30_inc_9)) (tk_b (tk_l dJ30_inc_10) (tk_l dJ30_inc_11))))
def tbJ30_toArray (pc : Nat) : Option (Instr × Nat) := (cond (Nat.ble pc 1) (cond (Nat.ble pc 0) (cond (Nat.beq pc 0) (some (.aload_n 0, 1)) none) (cond (Nat.beq pc 1) (some (.ldc 188, 2)) none)) (cond (Nat.ble pc 3) (cond (Nat.beq pc 3) (some (.invokevirtual 189, 3)) none) (cond (Nat.beq pc 6) (some (.areturn, 1)) none)))
theorem tkJ30_toArray : tkAll cJ30_toArray tbJ30_toArray := fun pc => (tk_b (tk_b (tk_l dJ30_toArray_0) (tk_l dJ30_toArray_1)) (tk_b (tk_l dJ30_toArray_3) (tk_l dJ30_toArray_6)))
def tbJ30_toArray_2 (pc : Nat) : Option (Instr × Nat) := (cond (Nat.ble pc 52) (cond (Nat.ble pc 26) (cond (Nat.ble pc 11) (cond (Nat.ble pc 4) (cond (Nat.ble pc 0) (cond (Nat.beq pc 0) (some (.aload_n 0, 1)) none) (cond (Nat.ble pc 1) (cond (Nat.beq pc 1) (some (.getfield 3, 3)) none) (cond (Nat.beq pc 4) (some (.astore_n 2, 1)) none))) (cond (Nat.ble pc 6) (cond (Nat.ble pc 5) (cond (Nat.beq pc 5) (some (.aload_n 0, 1)) none) (cond (Nat.beq pc 6) (some (.getfield 24, 3)) none)) (cond (Nat.ble pc 9) (cond (Nat.beq pc 9) (some (.istore 4, 2)) none) (cond (Nat.beq pc 11) (some (.aload_n 0, 1)) none)))) (cond (Nat.ble pc 17) (cond (Nat.ble pc 12) (cond (Nat.beq pc 12) (some (.getfield 20, 3)) none) (cond (Nat.ble pc 15) (cond (Nat.beq pc 15) (some (.istore 5, 2)) none) (cond (Nat.beq pc 17) (some (.iload 5, 2)) none))) (cond (Nat.ble pc 21) (cond (Nat.ble pc 19) (cond (Nat.beq pc 19) (some (.iload 4, 2)) none) (cond (Nat.beq pc 21) (some (.iload 5, 2)) none)) (cond (Nat.ble pc 23) (cond (Nat.beq pc 23) (some (.if_icmp .gt 7, 3)) none) (cond (Nat.beq pc 26) (some (.iconst 0, 1)) none))))) (cond (Nat.ble pc 36) (cond (Nat.ble pc 31) (cond (Nat.ble pc 27) (cond (Nat.beq pc 27) (some (.goto 5, 3)) none) (cond (Nat.ble pc 30) (cond (Nat.beq pc 30) (some (.aload_n 2, 1)) none) (cond (Nat.beq pc 31) (some (.arraylength, 1)) none))) (cond (Nat.ble pc 33) (cond (Nat.ble pc 32) (cond (Nat.beq pc 32) (some (.iadd, 1)) none) (cond (Nat.beq pc 33) (some (.dup, 1)) none)) (cond (Nat.ble pc 34) (cond (Nat.beq pc 34) (some (.istore 6, 2)) none) (cond (Nat.beq pc 36) (some (.ifCond .lt 16, 3)) none)))) (cond (Nat.ble pc 44) (cond (Nat.ble pc 40) (cond (Nat.ble pc 39) (cond (Nat.beq pc 39) (some (.aload_n 2, 1)) none) (cond (Nat.beq pc 40) (some (.iload 4, 2)) none)) (cond (Nat.ble pc 42) (cond (Nat.beq pc 42) (some (.iload 6, 2)) none) (cond (Nat.beq pc 44) (some (.aload_n 1, 1)) none))) (cond (Nat.ble pc 48) (cond (Nat.ble pc 45) (cond (Nat.beq pc 45) (some (.invokestatic 193, 3)) none) (cond (Nat.beq pc 48) (some (.astore_n 3, 1)) none)) (cond (Nat.ble pc 49) (cond (Nat.beq pc 49) (some (.goto 28, 3)) none) (cond (Nat.beq pc 52) (some (.aload_n 2, 1)) none)))))) (cond (Nat.ble pc 73) (cond (Nat.ble pc 63) (cond (Nat.ble pc 56) (cond (Nat.ble pc 53) (cond (Nat.beq pc 53) (some (.iconst 0, 1)) none) (cond (Nat.ble pc 54) (cond (Nat.beq pc 54) (some (.iload 6, 2)) none) (cond (Nat.beq pc 56) (some (.iload 4, 2)) none))) (cond (Nat.ble pc 59) (cond (Nat.ble pc 58) (cond (Nat.beq pc 58) (some (.isub, 1)) none) (cond (Nat.beq pc 59) (some (.aload_n 1, 1)) none)) (cond (Nat.ble pc 60) (cond (Nat.beq pc 60) (some (.invokestatic 193, 3)) none) (cond (Nat.beq pc 63) (some (.astore_n 3, 1)) none)))) (cond (Nat.ble pc 68) (cond (Nat.ble pc 65) (cond (Nat.ble pc 64) (cond (Nat.beq pc 64) (some (.aload_n 2, 1)) none) (cond (Nat.beq pc 65) (some (.iload 4, 2)) none)) (cond (Nat.ble pc 67) (cond (Nat.beq pc 67) (some (.aload_n 3, 1)) none) (cond (Nat.beq pc 68) (some (.iconst 0, 1)) none))) (cond (Nat.ble pc 70) (cond (Nat.ble pc 69) (cond (Nat.beq pc 69) (some (.aload_n 2, 1)) none) (cond (Nat.beq pc 70) (some (.arraylength, 1)) none)) (cond (Nat.ble pc 71) (cond (Nat.beq pc 71) (some (.iload 4, 2)) none) (cond (Nat.beq pc 73) (some (.isub, 1)) none))))) (cond (Nat.ble pc 86) (cond (Nat.ble pc 79) (cond (Nat.ble pc 74) (cond (Nat.beq pc 74) (some (.invokestatic 27, 3)) none) (cond (Nat.ble pc 77) (cond (Nat.beq pc 77) (some (.iload 6, 2)) none) (cond (Nat.beq pc 79) (some (.iload 5, 2)) none))) (cond (Nat.ble pc 84) (cond (Nat.ble pc 81) (cond (Nat.beq pc 81) (some (.if_icmp .eq 16, 3)) none) (cond (Nat.beq pc 84) (some (.aload_n 2, 1)) none)) (cond (Nat.ble pc 85) (cond (Nat.beq pc 85) (some (.iconst 0, 1)) none) (cond (Nat.beq pc 86) (some (.aload_n 3, 1)) none)))) (cond (Nat.ble pc 91) (cond (Nat.ble pc 88) (cond (Nat.ble pc 87) (cond (Nat.beq pc 87) (some (.aload_n 2, 1)) none) (cond (Nat.beq pc 88) (some (.arraylength, 1)) none)) (cond (Nat.ble pc 89) (cond (Nat.beq pc 89) (some (.iload 4, 2)) none) (cond (Nat.beq pc 91) (some (.isub, 1)) none))) (cond (Nat.ble pc 94) (cond (Nat.ble pc 92) (cond (Nat.beq pc 92) (some (.iload 5, 2)) none) (cond (Nat.beq pc 94) (some (.invokestatic 27, 3)) none)) (cond (Nat.ble pc 97) (cond (Nat.beq pc 97) (some (.aload_n 3, 1)) none) (cond (Nat.beq pc 98) (some (.areturn, 1)) none)))))))
theorem tkJ30_toArray_2 : tkAll cJ30_toArray_2 tbJ30_toArray_2 := fun pc => (tk_b (tk_b (tk_b (tk_b (tk_b (tk_l dJ30_toArray_2_0) (tk_b (tk_l dJ30_toArray_2_1) (tk_l dJ30_toArray_2_4))) (tk_b (tk_b (tk_l dJ30_toArray_2_5) (tk_l dJ30_toArray_2_6)) (tk_b (tk_l dJ30_toArray_2_9) (tk_l dJ30_toArray_2_11)))) (tk_b (tk_b (tk_l dJ30_toArray_2_12) (tk_b (tk_l dJ30_toArray_2_15) (tk_l dJ30_toArray_2_17))) (tk_b (tk_b (tk_l dJ30_toArray_2_19) (tk_l dJ30_toArray_2_21)) (tk_b (tk_l dJ30_toArray_2_23) (tk_l dJ30_toArray_2_26))))) (tk_b (tk_b (tk_b (tk_l dJ30_toArray_2_27) (tk_b (tk_l dJ30_toArray_2_30) (tk_l dJ30_toArray_2_31))) (tk_b (tk_b (tk_l dJ30_toArray_2_32) (tk_l dJ30_toArray_2_33)) (tk_b (tk_l dJ30_toArray_2_34) (tk_l dJ30_toArray_2_36)))) (tk_b (tk_b (tk_b (tk_l dJ30_toArray_2_39) (tk_l dJ30_toArray_2_40)) (tk_b (tk_l dJ30_toArray_2_42) (tk_l dJ30_toArray_2_44))) (tk_b (tk_b (tk_l dJ30_toArray_2_45) (tk_l dJ30_toArray_2_48)) (tk_b (tk_l dJ30_toArray_2_49) (tk_l dJ30_toArray_2_52)))))) (tk_b (tk_b (tk_b (tk_b (tk_l dJ30_toArray_2_53) (tk_b (tk_l dJ30_toArray_2_54) (tk_l dJ30_toArray_2_56))) (tk_b (tk_b (tk_l dJ30_toArray_2_58) (tk_l dJ30_toArray_2_59)) (tk_b (tk_l dJ30_toArray_2_60) (tk_l dJ30_toArray_2_63)))) (tk_b (tk_b (tk_b (tk_l dJ30_toArray_2_64) (tk_l dJ30_toArray_2_65)) (tk_b (tk_l dJ30_toArray_2_67) (tk_l dJ30_toArray_2_68))) (tk_b (tk_b (tk_l dJ30_toArray_2_69) (tk_l dJ30_toArray_2_70)) (tk_b (tk_l dJ30_toArray_2_71) (tk_l dJ30_toArray_2_73))))) (tk_b (tk_b (tk_b (tk_l dJ30_toArray_2_74) (tk_b (tk_l dJ30_toArray_2_77) (tk_l dJ30_toArray_2_79))) (tk_b (tk_b (tk_l dJ30_toArray_2_81) (tk_l dJ30_toArray_2_84)) (tk_b (tk_l dJ30_toArray_2_85) (tk_l dJ30_toArray_2_86)))) (tk_b (tk_b (tk_b (tk_l dJ30_toArray_2_87) (tk_l dJ30_toArray_2_88)) (tk_b (tk_l dJ30_toArray_2_89) (tk_l dJ30_toArray_2_91))) (tk_b (tk_b (tk_l dJ30_toArray_2_92) (tk_l dJ30_toArray_2_94)) (tk_b (tk_l dJ30_toArray_2_97) (tk_l dJ30_toArray_2_98)))))))
def tbJ31_init (pc : Nat) : Option (Instr × Nat) := (cond (Nat.ble pc 14) (cond (Nat.ble pc 5) (cond (Nat.ble pc 1) (cond (Nat.ble pc 0) (cond (Nat.beq pc 0) (some (.aload_n 0, 1)) none) (cond (Nat.beq pc 1) (some (.aload_n 1, 1)) none)) (cond (Nat.ble pc 2) (cond (Nat.beq pc 2) (some (.putfield 1, 3)) none) (cond (Nat.beq pc 5) (some (.aload_n 0, 1)) none))) (cond (Nat.ble pc 9) (cond (Nat.ble pc 6) (cond (Nat.beq pc 6) (some (.invokespecial 7, 3)) none) (cond (Nat.beq pc 9) (some (.aload_n 0, 1)) none)) (cond (Nat.ble pc 10) (cond (Nat.beq pc 10) (some (.aload_n 0, 1)) none) (cond (Nat.ble pc 11) (cond (Nat.beq pc 11) (some (.getfield 1, 3)) none) (cond (Nat.beq pc 14) (some (.invokevirtual 13, 3)) none))))) (cond (Nat.ble pc 22) (cond (Nat.ble pc 20) (cond (Nat.ble pc 17) (cond (Nat.beq pc 17) (some (.putfield 19, 3)) none) (cond (Nat.beq pc 20) (some (.aload_n 0, 1)) none)) (cond (Nat.ble pc 21) (cond (Nat.beq pc 21) (some (.iconst (-1), 1)) none) (cond (Nat.beq pc 22) (some (.putfield 23, 3)) none))) (cond (Nat.ble pc 26) (cond (Nat.ble pc 25) (cond (Nat.beq pc 25) (some (.aload_n 0, 1)) none) (cond (Nat.beq pc 26) (some (.aload_n 1, 1)) none)) (cond (Nat.ble pc 27) (cond (Nat.beq pc 27) (some (.getfield 26, 3)) none) (cond (Nat.ble pc 30) (cond (Nat.beq pc 30) (some (.putfield 29, 3)) none) (cond (Nat.beq pc 33) (some (.return_, 1)) none))))))
theorem tkJ31_init : tkAll cJ31_init tbJ31_init := fun pc => (tk_b (tk_b (tk_b (tk_b (tk_l dJ31_init_0) (tk_l dJ31_init_1)) (tk_b (tk_l dJ31_init_2) (tk_l dJ31_init_5))) (tk_b (tk_b (tk_l dJ31_init_6) (tk_l dJ31_init_9)) (tk_b (tk_l dJ31_init_10) (tk_b (tk_l dJ31_init_11) (tk_l dJ31_init_14))))) (tk_b (tk_b (tk_b (tk_l dJ31_init_17) (tk_l dJ31_init_20)) (tk_b (tk_l dJ31_init_21) (tk_l dJ31_init_22))) (tk_b (tk_b (tk_l dJ31_init_25) (tk_l dJ31_init_26)) (tk_b (tk_l dJ31_init_27) (tk_b (tk_l dJ31_init_30) (tk_l dJ31_init_33))))))
def tbJ31_hasNext (pc : Nat) : Option (Instr × Nat) := (cond (Nat.ble pc 4) (cond (Nat.ble pc 0) (cond (Nat.beq pc 0) (some (.aload_n 0, 1)) none) (cond (Nat.ble pc 1) (cond (Nat.beq pc 1) (some (.getfield 19, 3)) none) (cond (Nat.beq pc 4) (some (.ifCond .le 7, 3)) none))) (cond (Nat.ble pc 8) (cond (Nat.ble pc 7) (cond (Nat.beq pc 7) (some (.iconst 1, 1)) none) (cond (Nat.beq pc 8) (some (.goto 4, 3)) none)) (cond (Nat.ble pc 11) (cond (Nat.beq pc 11) (some (.iconst 0, 1)) none) (cond (Nat.beq pc 12) (some (.ireturn, 1)) none))))
theorem tkJ31_hasNext : tkAll cJ31_hasNext tbJ31_hasNext := fun pc => (tk_b (tk_b (tk_l dJ31_hasNext_0) (tk_b (tk_l dJ31_hasNext_1) (tk_l dJ31_hasNext_4))) (tk_b (tk_b (tk_l dJ31_hasNext_7) (tk_l dJ31_hasNext_8)) (tk_b (tk_l dJ31_hasNext_11) (tk_l dJ31_hasNext_12))))
def tbJ31_next (pc : Nat) : Option (Instr × Nat) := (cond (Nat.ble pc 32) (cond (Nat.ble pc 15) (cond (Nat.ble pc 7) (cond (Nat.ble pc 1) (cond (Nat.ble pc 0) (cond (Nat.beq pc 0) (some (.aload_n 0, 1)) none) (cond (Nat.beq pc 1) (some (.getfield 19, 3)) none)) (cond (Nat.ble pc 4) (cond (Nat.beq pc 4) (some (.ifCond .gt 11, 3)) none) (cond (Nat.beq pc 7) (some (.new 32, 3)) none))) (cond (Nat.ble pc 11) (cond (Nat.ble pc 10) (cond (Nat.beq pc 10) (some (.dup, 1)) none) (cond (Nat.beq pc 11) (some (.invokespecial 34, 3)) none)) (cond (Nat.ble pc 14) (cond (Nat.beq pc 14) (some (.athrow, 1)) none) (cond (Nat.beq pc 15) (some (.aload_n 0, 1)) none)))) (cond (Nat.ble pc 23) (cond (Nat.ble pc 19) (cond (Nat.ble pc 16) (cond (Nat.beq pc 16) (some (.getfield 1, 3)) none) (cond (Nat.beq pc 19) (some (.getfield 35, 3)) none)) (cond (Nat.ble pc 22) (cond (Nat.beq pc 22) (some (.astore_n 1, 1)) none) (cond (Nat.beq pc 23) (some (.aload_n 1, 1)) none))) (cond (Nat.ble pc 25) (cond (Nat.ble pc 24) (cond (Nat.beq pc 24) (some (.aload_n 0, 1)) none) (cond (Nat.beq pc 25) (some (.getfield 29, 3)) none)) (cond (Nat.ble pc 28) (cond (Nat.beq pc 28) (some (.invokestatic 39, 3)) none) (cond (Nat.ble pc 31) (cond (Nat.beq pc 31) (some (.astore_n 2, 1)) none) (cond (Nat.beq pc 32) (some (.aload_n 0, 1)) none)))))) (cond (Nat.ble pc 44) (cond (Nat.ble pc 38) (cond (Nat.ble pc 34) (cond (Nat.ble pc 33) (cond (Nat.beq pc 33) (some (.aload_n 0, 1)) none) (cond (Nat.beq pc 34) (some (.aload_n 0, 1)) none)) (cond (Nat.ble pc 35) (cond (Nat.beq pc 35) (some (.getfield 29, 3)) none) (cond (Nat.beq pc 38) (some (.dup_x1, 1)) none))) (cond (Nat.ble pc 42) (cond (Nat.ble pc 39) (cond (Nat.beq pc 39) (some (.putfield 23, 3)) none) (cond (Nat.beq pc 42) (some (.aload_n 1, 1)) none)) (cond (Nat.ble pc 43) (cond (Nat.beq pc 43) (some (.arraylength, 1)) none) (cond (Nat.beq pc 44) (some (.invokestatic 43, 3)) none)))) (cond (Nat.ble pc 52) (cond (Nat.ble pc 50) (cond (Nat.ble pc 47) (cond (Nat.beq pc 47) (some (.putfield 29, 3)) none) (cond (Nat.beq pc 50) (some (.aload_n 0, 1)) none)) (cond (Nat.ble pc 51) (cond (Nat.beq pc 51) (some (.dup, 1)) none) (cond (Nat.beq pc 52) (some (.getfield 19, 3)) none))) (cond (Nat.ble pc 56) (cond (Nat.ble pc 55) (cond (Nat.beq pc 55) (some (.iconst 1, 1)) none) (cond (Nat.beq pc 56) (some (.isub, 1)) none)) (cond (Nat.ble pc 57) (cond (Nat.beq pc 57) (some (.putfield 19, 3)) none) (cond (Nat.ble pc 60) (cond (Nat.beq pc 60) (some (.aload_n 2, 1)) none) (cond (Nat.beq pc 61) (some (.areturn, 1)) none)))))))
theorem tkJ31_next : tkAll cJ31_next tbJ31_next := fun pc => (tk_b (tk_b (tk_b (tk_b (tk_b (tk_l dJ31_next_0) (tk_l dJ31_next_1)) (tk_b (tk_l dJ31_next_4) (tk_l dJ31_next_7))) (tk_b (tk_b (tk_l dJ31_next_10) (tk_l dJ31_next_11)) (tk_b (tk_l dJ31_next_14) (tk_l dJ31_next_15)))) (tk_b (tk_b (tk_b (tk_l dJ31_next_16) (tk_l dJ31_next_19)) (tk_b (tk_l dJ31_next_22) (tk_l dJ31_next_23))) (tk_b (tk_b (tk_l dJ31_next_24) (tk_l dJ31_next_25)) (tk_b (tk_l dJ31_next_28) (tk_b (tk_l dJ31_next_31) (tk_l dJ31_next_32)))))) (tk_b (tk_b (tk_b (tk_b (tk_l dJ31_next_33) (tk_l dJ31_next_34)) (tk_b (tk_l dJ31_next_35) (tk_l dJ31_next_38))) (tk_b (tk_b (tk_l dJ31_next_39) (tk_l dJ31_next_42)) (tk_b (tk_l dJ31_next_43) (tk_l dJ31_next_44)))) (tk_b (tk_b (tk_b (tk_l dJ31_next_47) (tk_l dJ31_next_50)) (tk_b (tk_l dJ31_next_51) (tk_l dJ31_next_52))) (tk_b (tk_b (tk_l dJ31_next_55) (tk_l dJ31_next_56)) (tk_b (tk_l dJ31_next_57) (tk_b (tk_l dJ31_next_60) (tk_l dJ31_next_61)))))))
def tbJ32_init (pc : Nat) : Option (Instr × Nat) := (cond (Nat.ble pc 1) (cond (Nat.ble pc 0) (cond (Nat.beq pc 0) (some (.aload_n 0, 1)) none) (cond (Nat.beq pc 1) (some (.aload_n 1, 1)) none)) (cond (Nat.ble pc 2) (cond (Nat.beq pc 2) (some (.invokespecial 7, 3)) none) (cond (Nat.beq pc 5) (some (.return_, 1)) none)))
theorem tkJ32_init : tkAll cJ32_init tbJ32_init := fun pc => (tk_b (tk_b (tk_l dJ32_init_0) (tk_l dJ32_init_1)) (tk_b (tk_l dJ32_init_2) (tk_l dJ32_init_5)))
def tbJ32_init_2 (pc : Nat) : Option (Instr × Nat) := (cond (Nat.ble pc 0) (cond (Nat.beq pc 0) (some (.aload_n 0, 1)) none) (cond (Nat.ble pc 1) (cond (Nat.beq pc 1) (some (.invokespecial 1, 3)) none) (cond (Nat.beq pc 4) (some (.return_, 1)) none)))
theorem tkJ32_init_2 : tkAll cJ32_init_2 tbJ32_init_2 := fun pc => (tk_b (tk_l dJ32_init_2_0) (tk_b (tk_l dJ32_init_2_1) (tk_l dJ32_init_2_4)))
def tbJ35_hasNext (pc : Nat) : Option (Instr × Nat) := (cond (Nat.ble pc 8) (cond (Nat.ble pc 1) (cond (Nat.ble pc 0) (cond (Nat.beq pc 0) (some (.aload_n 0, 1)) none) (cond (Nat.beq pc 1) (some (.getfield 25, 3)) none)) (cond (Nat.ble pc 4) (cond (Nat.beq pc 4) (some (.aload_n 0, 1)) none) (cond (Nat.ble pc 5) (cond (Nat.beq pc 5) (some (.getfield 1, 3)) none) (cond (Nat.beq pc 8) (some (.getfield 28, 3)) none)))) (cond (Nat.ble pc 14) (cond (Nat.ble pc 11) (cond (Nat.beq pc 11) (some (.if_icmp .eq 7, 3)) none) (cond (Nat.beq pc 14) (some (.iconst 1, 1)) none)) (cond (Nat.ble pc 15) (cond (Nat.beq pc 15) (some (.goto 4, 3)) none) (cond (Nat.ble pc 18) (cond (Nat.beq pc 18) (some (.iconst 0, 1)) none) (cond (Nat.beq pc 19) (some (.ireturn, 1)) none)))))
theorem tkJ35_hasNext : tkAll cJ35_hasNext tbJ35_hasNext := fun pc => (tk_b (tk_b (tk_b (tk_l dJ35_hasNext_0) (tk_l dJ35_hasNext_1)) (tk_b (tk_l dJ35_hasNext_4) (tk_b (tk_l dJ35_hasNext_5) (tk_l dJ35_hasNext_8)))) (tk_b (tk_b (tk_l dJ35_hasNext_11) (tk_l dJ35_hasNext_14)) (tk_b (tk_l dJ35_hasNext_15) (tk_b (tk_l dJ35_hasNext_18) (tk_l dJ35_hasNext_19)))))
def tbJ35_next (pc : Nat) : Option (Instr × Nat) := (cond (Nat.ble pc 36) (cond (Nat.ble pc 14) (cond (Nat.ble pc 5) (cond (Nat.ble pc 1) (cond (Nat.ble pc 0) (cond (Nat.beq pc 0) (some (.aload_n 0, 1)) none) (cond (Nat.beq pc 1) (some (.invokevirtual 31, 3)) none)) (cond (Nat.ble pc 4) (cond (Nat.beq pc 4) (some (.aload_n 0, 1)) none) (cond (Nat.beq pc 5) (some (.getfield 25, 3)) none))) (cond (Nat.ble pc 9) (cond (Nat.ble pc 8) (cond (Nat.beq pc 8) (some (.istore_n 1, 1)) none) (cond (Nat.beq pc 9) (some (.iload_n 1, 1)) none)) (cond (Nat.ble pc 10) (cond (Nat.beq pc 10) (some (.aload_n 0, 1)) none) (cond (Nat.ble pc 11) (cond (Nat.beq pc 11) (some (.getfield 1, 3)) none) (cond (Nat.beq pc 14) (some (.getfield 28, 3)) none))))) (cond (Nat.ble pc 27) (cond (Nat.ble pc 20) (cond (Nat.ble pc 17) (cond (Nat.beq pc 17) (some (.if_icmp .lt 11, 3)) none) (cond (Nat.beq pc 20) (some (.new 34, 3)) none)) (cond (Nat.ble pc 23) (cond (Nat.beq pc 23) (some (.dup, 1)) none) (cond (Nat.ble pc 24) (cond (Nat.beq pc 24) (some (.invokespecial 36, 3)) none) (cond (Nat.beq pc 27) (some (.athrow, 1)) none)))) (cond (Nat.ble pc 29) (cond (Nat.ble pc 28) (cond (Nat.beq pc 28) (some (.aload_n 0, 1)) none) (cond (Nat.beq pc 29) (some (.getfield 1, 3)) none)) (cond (Nat.ble pc 32) (cond (Nat.beq pc 32) (some (.getfield 37, 3)) none) (cond (Nat.ble pc 35) (cond (Nat.beq pc 35) (some (.astore_n 2, 1)) none) (cond (Nat.beq pc 36) (some (.iload_n 1, 1)) none)))))) (cond (Nat.ble pc 51) (cond (Nat.ble pc 42) (cond (Nat.ble pc 38) (cond (Nat.ble pc 37) (cond (Nat.beq pc 37) (some (.aload_n 2, 1)) none) (cond (Nat.beq pc 38) (some (.arraylength, 1)) none)) (cond (Nat.ble pc 39) (cond (Nat.beq pc 39) (some (.if_icmp .lt 11, 3)) none) (cond (Nat.beq pc 42) (some (.new 41, 3)) none))) (cond (Nat.ble pc 46) (cond (Nat.ble pc 45) (cond (Nat.beq pc 45) (some (.dup, 1)) none) (cond (Nat.beq pc 46) (some (.invokespecial 43, 3)) none)) (cond (Nat.ble pc 49) (cond (Nat.beq pc 49) (some (.athrow, 1)) none) (cond (Nat.ble pc 50) (cond (Nat.beq pc 50) (some (.aload_n 0, 1)) none) (cond (Nat.beq pc 51) (some (.iload_n 1, 1)) none))))) (cond (Nat.ble pc 58) (cond (Nat.ble pc 53) (cond (Nat.ble pc 52) (cond (Nat.beq pc 52) (some (.iconst 1, 1)) none) (cond (Nat.beq pc 53) (some (.iadd, 1)) none)) (cond (Nat.ble pc 54) (cond (Nat.beq pc 54) (some (.putfield 25, 3)) none) (cond (Nat.ble pc 57) (cond (Nat.beq pc 57) (some (.aload_n 2, 1)) none) (cond (Nat.beq pc 58) (some (.aload_n 0, 1)) none)))) (cond (Nat.ble pc 60) (cond (Nat.ble pc 59) (cond (Nat.beq pc 59) (some (.iload_n 1, 1)) none) (cond (Nat.beq pc 60) (some (.dup_x1, 1)) none)) (cond (Nat.ble pc 61) (cond (Nat.beq pc 61) (some (.putfield 13, 3)) none) (cond (Nat.ble pc 64) (cond (Nat.beq pc 64) (some (.aaload, 1)) none) (cond (Nat.beq pc 65) (some (.areturn, 1)) none)))))))
theorem tkJ35_next : tkAll cJ35_next tbJ35_next := fun pc => (tk_b (tk_b (tk_b (tk_b (tk_b (tk_l dJ35_next_0) (tk_l dJ35_next_1)) (tk_b (tk_l dJ35_next_4) (tk_l dJ35_next_5))) (tk_b (tk_b (tk_l dJ35_next_8) (tk_l dJ35_next_9)) (tk_b (tk_l dJ35_next_10) (tk_b (tk_l dJ35_next_11) (tk_l dJ35_next_14))))) (tk_b (tk_b (tk_b (tk_l dJ35_next_17) (tk_l dJ35_next_20)) (tk_b (tk_l dJ35_next_23) (tk_b (tk_l dJ35_next_24) (tk_l dJ35_next_27)))) (tk_b (tk_b (tk_l dJ35_next_28) (tk_l dJ35_next_29)) (tk_b (tk_l dJ35_next_32) (tk_b (tk_l dJ35_next_35) (tk_l dJ35_next_36)))))) (tk_b (tk_b (tk_b (tk_b (tk_l dJ35_next_37) (tk_l dJ35_next_38)) (tk_b (tk_l dJ35_next_39) (tk_l dJ35_next_42))) (tk_b (tk_b (tk_l dJ35_next_45) (tk_l dJ35_next_46)) (tk_b (tk_l dJ35_next_49) (tk_b (tk_l dJ35_next_50) (tk_l dJ35_next_51))))) (tk_b (tk_b (tk_b (tk_l dJ35_next_52) (tk_l dJ35_next_53)) (tk_b (tk_l dJ35_next_54) (tk_b (tk_l dJ35_next_57) (tk_l dJ35_next_58)))) (tk_b (tk_b (tk_l dJ35_next_59) (tk_l dJ35_next_60)) (tk_b (tk_l dJ35_next_61) (tk_b (tk_l dJ35_next_64) (tk_l dJ35_next_65)))))))
def tbJ35_checkForComodification (pc : Nat) : Option (Instr × Nat) := (cond (Nat.ble pc 8) (cond (Nat.ble pc 1) (cond (Nat.ble pc 0) (cond (Nat.beq pc 0) (some (.aload_n 0, 1)) none) (cond (Nat.beq pc 1) (some (.getfield 1, 3)) none)) (cond (Nat.ble pc 4) (cond (Nat.beq pc 4) (some (.getfield 17, 3)) none) (cond (Nat.ble pc 7) (cond (Nat.beq pc 7) (some (.aload_n 0, 1)) none) (cond (Nat.beq pc 8) (some (.getfield 22, 3)) none)))) (cond (Nat.ble pc 17) (cond (Nat.ble pc 11) (cond (Nat.beq pc 11) (some (.if_icmp .eq 11, 3)) none) (cond (Nat.ble pc 14) (cond (Nat.beq pc 14) (some (.new 41, 3)) none) (cond (Nat.beq pc 17) (some (.dup, 1)) none))) (cond (Nat.ble pc 18) (cond (Nat.beq pc 18) (some (.invokespecial 43, 3)) none) (cond (Nat.ble pc 21) (cond (Nat.beq pc 21) (some (.athrow, 1)) none) (cond (Nat.beq pc 22) (some (.return_, 1)) none)))))
theorem tkJ35_checkForComodification : tkAll cJ35_checkForComodification tbJ35_checkForComodification := fun pc => (tk_b (tk_b (tk_b (tk_l dJ35_checkForComodification_0) (tk_l dJ35_checkForComodification_1)) (tk_b (tk_l dJ35_checkForComodification_4) (tk_b (tk_l dJ35_checkForComodification_7) (tk_l dJ35_checkForComodification_8)))) (tk_b (tk_b (tk_l dJ35_checkForComodification_11) (tk_b (tk_l dJ35_checkForComodification_14) (tk_l dJ35_checkForComodification_17))) (tk_b (tk_l dJ35_checkForComodification_18) (tk_b (tk_l dJ35_checkForComodification_21) (tk_l dJ35_checkForComodification_22)))))
def tbJ35_init (pc : Nat) : Option (Instr × Nat) := (cond (Nat.ble pc 10) (cond (Nat.ble pc 2) (cond (Nat.ble pc 0) (cond (Nat.beq pc 0) (some (.aload_n 0, 1)) none) (cond (Nat.ble pc 1) (cond (Nat.beq pc 1) (some (.aload_n 1, 1)) none) (cond (Nat.beq pc 2) (some (.putfield 1, 3)) none))) (cond (Nat.ble pc 6) (cond (Nat.ble pc 5) (cond (Nat.beq pc 5) (some (.aload_n 0, 1)) none) (cond (Nat.beq pc 6) (some (.invokespecial 7, 3)) none)) (cond (Nat.ble pc 9) (cond (Nat.beq pc 9) (some (.aload_n 0, 1)) none) (cond (Nat.beq pc 10) (some (.iconst (-1), 1)) none)))) (cond (Nat.ble pc 15) (cond (Nat.ble pc 11) (cond (Nat.beq pc 11) (some (.putfield 13, 3)) none) (cond (Nat.ble pc 14) (cond (Nat.beq pc 14) (some (.aload_n 0, 1)) none) (cond (Nat.beq pc 15) (some (.aload_n 0, 1)) none))) (cond (Nat.ble pc 19) (cond (Nat.ble pc 16) (cond (Nat.beq pc 16) (some (.getfield 1, 3)) none) (cond (Nat.beq pc 19) (some (.getfield 17, 3)) none)) (cond (Nat.ble pc 22) (cond (Nat.beq pc 22) (some (.putfield 22, 3)) none) (cond (Nat.beq pc 25) (some (.return_, 1)) none)))))
theorem tkJ35_init : tkAll cJ35_init tbJ35_init := fun pc => (tk_b (tk_b (tk_b (tk_l dJ35_init_0) (tk_b (tk_l dJ35_init_1) (tk_l dJ35_init_2))) (tk_b (tk_b (tk_l dJ35_init_5) (tk_l dJ35_init_6)) (tk_b (tk_l dJ35_init_9) (tk_l dJ35_init_10)))) (tk_b (tk_b (tk_l dJ35_init_11) (tk_b (tk_l dJ35_init_14) (tk_l dJ35_init_15))) (tk_b (tk_b (tk_l dJ35_init_16) (tk_l dJ35_init_19)) (tk_b (tk_l dJ35_init_22) (tk_l dJ35_init_25)))))
def tbJ36_hashCode (pc : Nat) : Option (Instr × Nat) := (cond (Nat.ble pc 9) (cond (Nat.ble pc 4) (cond (Nat.ble pc 0) (cond (Nat.beq pc 0) (some (.aload_n 0, 1)) none) (cond (Nat.ble pc 1) (cond (Nat.beq pc 1) (some (.getfield 17, 3)) none) (cond (Nat.beq pc 4) (some (.istore_n 1, 1)) none))) (cond (Nat.ble pc 5) (cond (Nat.beq pc 5) (some (.iload_n 1, 1)) none) (cond (Nat.ble pc 6) (cond (Nat.beq pc 6) (some (.ifCond .ne 13, 3)) none) (cond (Nat.beq pc 9) (some (.aload_n 0, 1)) none)))) (cond (Nat.ble pc 14) (cond (Nat.ble pc 10) (cond (Nat.beq pc 10) (some (.aload_n 0, 1)) none) (cond (Nat.ble pc 11) (cond (Nat.beq pc 11) (some (.invokestatic 20, 3)) none) (cond (Nat.beq pc 14) (some (.dup_x1, 1)) none))) (cond (Nat.ble pc 18) (cond (Nat.ble pc 15) (cond (Nat.beq pc 15) (some (.putfield 17, 3)) none) (cond (Nat.beq pc 18) (some (.istore_n 1, 1)) none)) (cond (Nat.ble pc 19) (cond (Nat.beq pc 19) (some (.iload_n 1, 1)) none) (cond (Nat.beq pc 20) (some (.ireturn, 1)) none)))))
theorem tkJ36_hashCode : tkAll cJ36_hashCode tbJ36_hashCode := fun pc => (tk_b (tk_b (tk_b (tk_l dJ36_hashCode_0) (tk_b (tk_l dJ36_hashCode_1) (tk_l dJ36_hashCode_4))) (tk_b (tk_l dJ36_hashCode_5) (tk_b (tk_l dJ36_hashCode_6) (tk_l dJ36_hashCode_9)))) (tk_b (tk_b (tk_l dJ36_hashCode_10) (tk_b (tk_l dJ36_hashCode_11) (tk_l dJ36_hashCode_14))) (tk_b (tk_b (tk_l dJ36_hashCode_15) (tk_l dJ36_hashCode_18)) (tk_b (tk_l dJ36_hashCode_19) (tk_l dJ36_hashCode_20)))))
def tbJ36_compareTo (pc : Nat) : Option (Instr × Nat) := (cond (Nat.ble pc 1) (cond (Nat.ble pc 0) (cond (Nat.beq pc 0) (some (.aload_n 0, 1)) none) (cond (Nat.beq pc 1) (some (.aload_n 1, 1)) none)) (cond (Nat.ble pc 2) (cond (Nat.beq pc 2) (some (.checkcast 2, 3)) none) (cond (Nat.ble pc 5) (cond (Nat.beq pc 5) (some (.invokevirtual 101, 3)) none) (cond (Nat.beq pc 8) (some (.ireturn, 1)) none))))
theorem tkJ36_compareTo : tkAll cJ36_compareTo tbJ36_compareTo := fun pc => (tk_b (tk_b (tk_l dJ36_compareTo_0) (tk_l dJ36_compareTo_1)) (tk_b (tk_l dJ36_compareTo_2) (tk_b (tk_l dJ36_compareTo_5) (tk_l dJ36_compareTo_8))))
def tbJ36_compareTo_2 (pc : Nat) : Option (Instr × Nat) := (cond (Nat.ble pc 19) (cond (Nat.ble pc 5) (cond (Nat.ble pc 2) (cond (Nat.ble pc 0) (cond (Nat.beq pc 0) (some (.aload_n 1, 1)) none) (cond (Nat.ble pc 1) (cond (Nat.beq pc 1) (some (.astore_n 2, 1)) none) (cond (Nat.beq pc 2) (some (.aload_n 0, 1)) none))) (cond (Nat.ble pc 3) (cond (Nat.beq pc 3) (some (.astore_n 3, 1)) none) (cond (Nat.ble pc 4) (cond (Nat.beq pc 4) (some (.aload_n 3, 1)) none) (cond (Nat.beq pc 5) (some (.invokevirtual 29, 3)) none)))) (cond (Nat.ble pc 12) (cond (Nat.ble pc 8) (cond (Nat.beq pc 8) (some (.aload_n 2, 1)) none) (cond (Nat.ble pc 9) (cond (Nat.beq pc 9) (some (.invokevirtual 29, 3)) none) (cond (Nat.beq pc 12) (some (.if_acmp .eq 22, 3)) none))) (cond (Nat.ble pc 15) (cond (Nat.beq pc 15) (some (.aload_n 3, 1)) none) (cond (Nat.ble pc 16) (cond (Nat.beq pc 16) (some (.invokevirtual 33, 3)) none) (cond (Nat.beq pc 19) (some (.aload_n 2, 1)) none))))) (cond (Nat.ble pc 33) (cond (Nat.ble pc 26) (cond (Nat.ble pc 20) (cond (Nat.beq pc 20) (some (.invokevirtual 33, 3)) none) (cond (Nat.ble pc 23) (cond (Nat.beq pc 23) (some (.if_acmp .eq 11, 3)) none) (cond (Nat.beq pc 26) (some (.new 36, 3)) none))) (cond (Nat.ble pc 29) (cond (Nat.beq pc 29) (some (.dup, 1)) none) (cond (Nat.ble pc 30) (cond (Nat.beq pc 30) (some (.invokespecial 38, 3)) none) (cond (Nat.beq pc 33) (some (.athrow, 1)) none)))) (cond (Nat.ble pc 38) (cond (Nat.ble pc 34) (cond (Nat.beq pc 34) (some (.aload_n 3, 1)) none) (cond (Nat.ble pc 35) (cond (Nat.beq pc 35) (some (.getfield 7, 3)) none) (cond (Nat.beq pc 38) (some (.aload_n 2, 1)) none))) (cond (Nat.ble pc 39) (cond (Nat.beq pc 39) (some (.getfield 7, 3)) none) (cond (Nat.ble pc 42) (cond (Nat.beq pc 42) (some (.isub, 1)) none) (cond (Nat.beq pc 43) (some (.ireturn, 1)) none))))))
theorem tkJ36_compareTo_2 : tkAll cJ36_compareTo_2 tbJ36_compareTo_2 := fun pc => (tk_b (tk_b (tk_b (tk_b (tk_l dJ36_compareTo_2_0) (tk_b (tk_l dJ36_compareTo_2_1) (tk_l dJ36_compareTo_2_2))) (tk_b (tk_l dJ36_compareTo_2_3) (tk_b (tk_l dJ36_compareTo_2_4) (tk_l dJ36_compareTo_2_5)))) (tk_b (tk_b (tk_l dJ36_compareTo_2_8) (tk_b (tk_l dJ36_compareTo_2_9) (tk_l dJ36_compareTo_2_12))) (tk_b (tk_l dJ36_compareTo_2_15) (tk_b (tk_l dJ36_compareTo_2_16) (tk_l dJ36_compareTo_2_19))))) (tk_b (tk_b (tk_b (tk_l dJ36_compareTo_2_20) (tk_b (tk_l dJ36_compareTo_2_23) (tk_l dJ36_compareTo_2_26))) (tk_b (tk_l dJ36_compareTo_2_29) (tk_b (tk_l dJ36_compareTo_2_30) (tk_l dJ36_compareTo_2_33)))) (tk_b (tk_b (tk_l dJ36_compareTo_2_34) (tk_b (tk_l dJ36_compareTo_2_35) (tk_l dJ36_compareTo_2_38))) (tk_b (tk_l dJ36_compareTo_2_39) (tk_b (tk_l dJ36_compareTo_2_42) (tk_l dJ36_compareTo_2_43))))))
def tbJ36_getDeclaringClass (pc : Nat) : Option (Instr × Nat) := (cond (Nat.ble pc 9) (cond (Nat.ble pc 4) (cond (Nat.ble pc 0) (cond (Nat.beq pc 0) (some (.aload_n 0, 1)) none) (cond (Nat.ble pc 1) (cond (Nat.beq pc 1) (some (.invokevirtual 29, 3)) none) (cond (Nat.beq pc 4) (some (.astore_n 1, 1)) none))) (cond (Nat.ble pc 5) (cond (Nat.beq pc 5) (some (.aload_n 1, 1)) none) (cond (Nat.ble pc 6) (cond (Nat.beq pc 6) (some (.invokevirtual 39, 3)) none) (cond (Nat.beq pc 9) (some (.astore_n 2, 1)) none)))) (cond (Nat.ble pc 13) (cond (Nat.ble pc 10) (cond (Nat.beq pc 10) (some (.aload_n 2, 1)) none) (cond (Nat.ble pc 11) (cond (Nat.beq pc 11) (some (.ldc 2, 2)) none) (cond (Nat.beq pc 13) (some (.if_acmp .ne 7, 3)) none))) (cond (Nat.ble pc 17) (cond (Nat.ble pc 16) (cond (Nat.beq pc 16) (some (.aload_n 1, 1)) none) (cond (Nat.beq pc 17) (some (.goto 4, 3)) none)) (cond (Nat.ble pc 20) (cond (Nat.beq pc 20) (some (.aload_n 2, 1)) none) (cond (Nat.beq pc 21) (some (.areturn, 1)) none)))))
theorem tkJ36_getDeclaringClass : tkAll cJ36_getDeclaringClass tbJ36_getDeclaringClass := fun pc => (tk_b (tk_b (tk_b (tk_l dJ36_getDeclaringClass_0) (tk_b (tk_l dJ36_getDeclaringClass_1) (tk_l dJ36_getDeclaringClass_4))) (tk_b (tk_l dJ36_getDeclaringClass_5) (tk_b (tk_l dJ36_getDeclaringClass_6) (tk_l dJ36_getDeclaringClass_9)))) (tk_b (tk_b (tk_l dJ36_getDeclaringClass_10) (tk_b (tk_l dJ36_getDeclaringClass_11) (tk_l dJ36_getDeclaringClass_13))) (tk_b (tk_b (tk_l dJ36_getDeclaringClass_16) (tk_l dJ36_getDeclaringClass_17)) (tk_b (tk_l dJ36_getDeclaringClass_20) (tk_l dJ36_getDeclaringClass_21)))))
def tbJ36_equals (pc : Nat) : Option (Instr × Nat) := (cond (Nat.ble pc 2) (cond (Nat.ble pc 0) (cond (Nat.beq pc 0) (some (.aload_n 0, 1)) none) (cond (Nat.ble pc 1) (cond (Nat.beq pc 1) (some (.aload_n 1, 1)) none) (cond (Nat.beq pc 2) (some (.if_acmp .ne 7, 3)) none))) (cond (Nat.ble pc 6) (cond (Nat.ble pc 5) (cond (Nat.beq pc 5) (some (.iconst 1, 1)) none) (cond (Nat.beq pc 6) (some (.goto 4, 3)) none)) (cond (Nat.ble pc 9) (cond (Nat.beq pc 9) (some (.iconst 0, 1)) none) (cond (Nat.beq pc 10) (some (.ireturn, 1)) none))))
theorem tkJ36_equals : tkAll cJ36_equals tbJ36_equals := fun pc => (tk_b (tk_b (tk_l dJ36_equals_0) (tk_b (tk_l dJ36_equals_1) (tk_l dJ36_equals_2))) (tk_b (tk_b (tk_l dJ36_equals_5) (tk_l dJ36_equals_6)) (tk_b (tk_l dJ36_equals_9) (tk_l dJ36_equals_10))))
def tbJ36_ordinal (pc : Nat) : Option (Instr × Nat) := (cond (Nat.ble pc 0) (cond (Nat.beq pc 0) (some (.aload_n 0, 1)) none) (cond (Nat.ble pc 1) (cond (Nat.beq pc 1) (some (.getfield 7, 3)) none) (cond (Nat.beq pc 4) (some (.ireturn, 1)) none)))
theorem tkJ36_ordinal : tkAll cJ36_ordinal tbJ36_ordinal := fun pc => (tk_b (tk_l dJ36_ordinal_0) (tk_b (tk_l dJ36_ordinal_1) (tk_l dJ36_ordinal_4)))
def tbJ39_hasNext (pc : Nat) : Option (Instr × Nat) := (cond (Nat.ble pc 8) (cond (Nat.ble pc 1) (cond (Nat.ble pc 0) (cond (Nat.beq pc 0) (some (.aload_n 0, 1)) none) (cond (Nat.beq pc 1) (some (.getfield 33, 3)) none)) (cond (Nat.ble pc 4) (cond (Nat.beq pc 4) (some (.aload_n 0, 1)) none) (cond (Nat.ble pc 5) (cond (Nat.beq pc 5) (some (.getfield 1, 3)) none) (cond (Nat.beq pc 8) (some (.getfield 22, 3)) none)))) (cond (Nat.ble pc 14) (cond (Nat.ble pc 11) (cond (Nat.beq pc 11) (some (.if_icmp .ge 7, 3)) none) (cond (Nat.beq pc 14) (some (.iconst 1, 1)) none)) (cond (Nat.ble pc 15) (cond (Nat.beq pc 15) (some (.goto 4, 3)) none) (cond (Nat.ble pc 18) (cond (Nat.beq pc 18) (some (.iconst 0, 1)) none) (cond (Nat.beq pc 19) (some (.ireturn, 1)) none)))))
theorem tkJ39_hasNext : tkAll cJ39_hasNext tbJ39_hasNext := fun pc => (tk_b (tk_b (tk_b (tk_l dJ39_hasNext_0) (tk_l dJ39_hasNext_1)) (tk_b (tk_l dJ39_hasNext_4) (tk_b (tk_l dJ39_hasNext_5) (tk_l dJ39_hasNext_8)))) (tk_b (tk_b (tk_l dJ39_hasNext_11) (tk_l dJ39_hasNext_14)) (tk_b (tk_l dJ39_hasNext_15) (tk_b (tk_l dJ39_hasNext_18) (tk_l dJ39_hasNext_19)))))
def tbJ39_next (pc : Nat) : Option (Instr × Nat) := (cond (Nat.ble pc 27) (cond (Nat.ble pc 14) (cond (Nat.ble pc 4) (cond (Nat.ble pc 0) (cond (Nat.beq pc 0) (some (.aload_n 0, 1)) none) (cond (Nat.ble pc 1) (cond (Nat.beq pc 1) (some (.invokevirtual 36, 3)) none) (cond (Nat.beq pc 4) (some (.aload_n 0, 1)) none))) (cond (Nat.ble pc 8) (cond (Nat.ble pc 5) (cond (Nat.beq pc 5) (some (.invokevirtual 39, 3)) none) (cond (Nat.beq pc 8) (some (.ifCond .ne 11, 3)) none)) (cond (Nat.ble pc 11) (cond (Nat.beq pc 11) (some (.new 43, 3)) none) (cond (Nat.beq pc 14) (some (.dup, 1)) none)))) (cond (Nat.ble pc 19) (cond (Nat.ble pc 15) (cond (Nat.beq pc 15) (some (.invokespecial 45, 3)) none) (cond (Nat.ble pc 18) (cond (Nat.beq pc 18) (some (.athrow, 1)) none) (cond (Nat.beq pc 19) (some (.aload_n 0, 1)) none))) (cond (Nat.ble pc 21) (cond (Nat.ble pc 20) (cond (Nat.beq pc 20) (some (.aload_n 0, 1)) none) (cond (Nat.beq pc 21) (some (.getfield 29, 3)) none)) (cond (Nat.ble pc 24) (cond (Nat.beq pc 24) (some (.putfield 46, 3)) none) (cond (Nat.beq pc 27) (some (.aload_n 0, 1)) none))))) (cond (Nat.ble pc 40) (cond (Nat.ble pc 32) (cond (Nat.ble pc 28) (cond (Nat.beq pc 28) (some (.aload_n 0, 1)) none) (cond (Nat.ble pc 29) (cond (Nat.beq pc 29) (some (.getfield 29, 3)) none) (cond (Nat.beq pc 32) (some (.getfield 49, 3)) none))) (cond (Nat.ble pc 38) (cond (Nat.ble pc 35) (cond (Nat.beq pc 35) (some (.putfield 29, 3)) none) (cond (Nat.beq pc 38) (some (.aload_n 0, 1)) none)) (cond (Nat.ble pc 39) (cond (Nat.beq pc 39) (some (.dup, 1)) none) (cond (Nat.beq pc 40) (some (.getfield 33, 3)) none)))) (cond (Nat.ble pc 45) (cond (Nat.ble pc 43) (cond (Nat.beq pc 43) (some (.iconst 1, 1)) none) (cond (Nat.ble pc 44) (cond (Nat.beq pc 44) (some (.iadd, 1)) none) (cond (Nat.beq pc 45) (some (.putfield 33, 3)) none))) (cond (Nat.ble pc 49) (cond (Nat.ble pc 48) (cond (Nat.beq pc 48) (some (.aload_n 0, 1)) none) (cond (Nat.beq pc 49) (some (.getfield 46, 3)) none)) (cond (Nat.ble pc 52) (cond (Nat.beq pc 52) (some (.getfield 52, 3)) none) (cond (Nat.beq pc 55) (some (.areturn, 1)) none))))))
theorem tkJ39_next : tkAll cJ39_next tbJ39_next := fun pc => (tk_b (tk_b (tk_b (tk_b (tk_l dJ39_next_0) (tk_b (tk_l dJ39_next_1) (tk_l dJ39_next_4))) (tk_b (tk_b (tk_l dJ39_next_5) (tk_l dJ39_next_8)) (tk_b (tk_l dJ39_next_11) (tk_l dJ39_next_14)))) (tk_b (tk_b (tk_l dJ39_next_15) (tk_b (tk_l dJ39_next_18) (tk_l dJ39_next_19))) (tk_b (tk_b (tk_l dJ39_next_20) (tk_l dJ39_next_21)) (tk_b (tk_l dJ39_next_24) (tk_l dJ39_next_27))))) (tk_b (tk_b (tk_b (tk_l dJ39_next_28) (tk_b (tk_l dJ39_next_29) (tk_l dJ39_next_32))) (tk_b (tk_b (tk_l dJ39_next_35) (tk_l dJ39_next_38)) (tk_b (tk_l dJ39_next_39) (tk_l dJ39_next_40)))) (tk_b (tk_b (tk_l dJ39_next_43) (tk_b (tk_l dJ39_next_44) (tk_l dJ39_next_45))) (tk_b (tk_b (tk_l dJ39_next_48) (tk_l dJ39_next_49)) (tk_b (tk_l dJ39_next_52) (tk_l dJ39_next_55))))))
def tbJ39_checkForComodification (pc : Nat) : Option (Instr × Nat) := (cond (Nat.ble pc 8) (cond (Nat.ble pc 1) (cond (Nat.ble pc 0) (cond (Nat.beq pc 0) (some (.aload_n 0, 1)) none) (cond (Nat.beq pc 1) (some (.getfield 1, 3)) none)) (cond (Nat.ble pc 4) (cond (Nat.beq pc 4) (some (.getfield 13, 3)) none) (cond (Nat.ble pc 7) (cond (Nat.beq pc 7) (some (.aload_n 0, 1)) none) (cond (Nat.beq pc 8) (some (.getfield 19, 3)) none)))) (cond (Nat.ble pc 17) (cond (Nat.ble pc 11) (cond (Nat.beq pc 11) (some (.if_icmp .eq 11, 3)) none) (cond (Nat.ble pc 14) (cond (Nat.beq pc 14) (some (.new 91, 3)) none) (cond (Nat.beq pc 17) (some (.dup, 1)) none))) (cond (Nat.ble pc 18) (cond (Nat.beq pc 18) (some (.invokespecial 93, 3)) none) (cond (Nat.ble pc 21) (cond (Nat.beq pc 21) (some (.athrow, 1)) none) (cond (Nat.beq pc 22) (some (.return_, 1)) none)))))
theorem tkJ39_checkForComodification : tkAll cJ39_checkForComodification tbJ39_checkForComodification := fun pc => (tk_b (tk_b (tk_b (tk_l dJ39_checkForComodification_0) (tk_l dJ39_checkForComodification_1)) (tk_b (tk_l dJ39_checkForComodification_4) (tk_b (tk_l dJ39_checkForComodification_7) (tk_l dJ39_checkForComodification_8)))) (tk_b (tk_b (tk_l dJ39_checkForComodification_11) (tk_b (tk_l dJ39_checkForComodification_14) (tk_l dJ39_checkForComodification_17))) (tk_b (tk_l dJ39_checkForComodification_18) (tk_b (tk_l dJ39_checkForComodification_21) (tk_l dJ39_checkForComodification_22)))))
def tbJ39_init (pc : Nat) : Option (Instr × Nat) := (cond (Nat.ble pc 21) (cond (Nat.ble pc 9) (cond (Nat.ble pc 2) (cond (Nat.ble pc 0) (cond (Nat.beq pc 0) (some (.aload_n 0, 1)) none) (cond (Nat.ble pc 1) (cond (Nat.beq pc 1) (some (.aload_n 1, 1)) none) (cond (Nat.beq pc 2) (some (.putfield 1, 3)) none))) (cond (Nat.ble pc 5) (cond (Nat.beq pc 5) (some (.aload_n 0, 1)) none) (cond (Nat.ble pc 6) (cond (Nat.beq pc 6) (some (.invokespecial 7, 3)) none) (cond (Nat.beq pc 9) (some (.aload_n 0, 1)) none)))) (cond (Nat.ble pc 14) (cond (Nat.ble pc 10) (cond (Nat.beq pc 10) (some (.aload_n 0, 1)) none) (cond (Nat.ble pc 11) (cond (Nat.beq pc 11) (some (.getfield 1, 3)) none) (cond (Nat.beq pc 14) (some (.getfield 13, 3)) none))) (cond (Nat.ble pc 17) (cond (Nat.beq pc 17) (some (.putfield 19, 3)) none) (cond (Nat.ble pc 20) (cond (Nat.beq pc 20) (some (.aload_n 0, 1)) none) (cond (Nat.beq pc 21) (some (.iload_n 2, 1)) none))))) (cond (Nat.ble pc 33) (cond (Nat.ble pc 26) (cond (Nat.ble pc 22) (cond (Nat.beq pc 22) (some (.aload_n 1, 1)) none) (cond (Nat.ble pc 23) (cond (Nat.beq pc 23) (some (.getfield 22, 3)) none) (cond (Nat.beq pc 26) (some (.if_icmp .ne 7, 3)) none))) (cond (Nat.ble pc 29) (cond (Nat.beq pc 29) (some (.aconst_null, 1)) none) (cond (Nat.ble pc 30) (cond (Nat.beq pc 30) (some (.goto 8, 3)) none) (cond (Nat.beq pc 33) (some (.aload_n 1, 1)) none)))) (cond (Nat.ble pc 38) (cond (Nat.ble pc 34) (cond (Nat.beq pc 34) (some (.iload_n 2, 1)) none) (cond (Nat.ble pc 35) (cond (Nat.beq pc 35) (some (.invokevirtual 25, 3)) none) (cond (Nat.beq pc 38) (some (.putfield 29, 3)) none))) (cond (Nat.ble pc 42) (cond (Nat.ble pc 41) (cond (Nat.beq pc 41) (some (.aload_n 0, 1)) none) (cond (Nat.beq pc 42) (some (.iload_n 2, 1)) none)) (cond (Nat.ble pc 43) (cond (Nat.beq pc 43) (some (.putfield 33, 3)) none) (cond (Nat.beq pc 46) (some (.return_, 1)) none))))))
theorem tkJ39_init : tkAll cJ39_init tbJ39_init := fun pc => (tk_b (tk_b (tk_b (tk_b (tk_l dJ39_init_0) (tk_b (tk_l dJ39_init_1) (tk_l dJ39_init_2))) (tk_b (tk_l dJ39_init_5) (tk_b (tk_l dJ39_init_6) (tk_l dJ39_init_9)))) (tk_b (tk_b (tk_l dJ39_init_10) (tk_b (tk_l dJ39_init_11) (tk_l dJ39_init_14))) (tk_b (tk_l dJ39_init_17) (tk_b (tk_l dJ39_init_20) (tk_l dJ39_init_21))))) (tk_b (tk_b (tk_b (tk_l dJ39_init_22) (tk_b (tk_l dJ39_init_23) (tk_l dJ39_init_26))) (tk_b (tk_l dJ39_init_29) (tk_b (tk_l dJ39_init_30) (tk_l dJ39_init_33)))) (tk_b (tk_b (tk_l dJ39_init_34) (tk_b (tk_l dJ39_init_35) (tk_l dJ39_init_38))) (tk_b (tk_b (tk_l dJ39_init_41) (tk_l dJ39_init_42)) (tk_b (tk_l dJ39_init_43) (tk_l dJ39_init_46))))))
def tbJ40_init (pc : Nat) : Option (Instr × Nat) := (cond (Nat.beq pc 0) (some (.return_, 1)) none)
theorem tkJ40_init : tkAll cJ40_init tbJ40_init := fun pc => (tk_l dJ40_init_0)
def tbJ40_equals (pc : Nat) : Option (Instr × Nat) := (cond (Nat.ble pc 2) (cond (Nat.ble pc 0) (cond (Nat.beq pc 0) (some (.aload_n 0, 1)) none) (cond (Nat.ble pc 1) (cond (Nat.beq pc 1) (some (.aload_n 1, 1)) none) (cond (Nat.beq pc 2) (some (.if_acmp .ne 7, 3)) none))) (cond (Nat.ble pc 6) (cond (Nat.ble pc 5) (cond (Nat.beq pc 5) (some (.iconst 1, 1)) none) (cond (Nat.beq pc 6) (some (.goto 4, 3)) none)) (cond (Nat.ble pc 9) (cond (Nat.beq pc 9) (some (.iconst 0, 1)) none) (cond (Nat.beq pc 10) (some (.ireturn, 1)) none))))
theorem tkJ40_equals : tkAll cJ40_equals tbJ40_equals := fun pc => (tk_b (tk_b (tk_l dJ40_equals_0) (tk_b (tk_l dJ40_equals_1) (tk_l dJ40_equals_2))) (tk_b (tk_b (tk_l dJ40_equals_5) (tk_l dJ40_equals_6)) (tk_b (tk_l dJ40_equals_9) (tk_l dJ40_equals_10))))
