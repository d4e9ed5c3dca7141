/-! DECODE ROWS BY BYTES: one lemma an opcode; a method's code is cut into short pieces once, and a row reads its own piece alone. -/
set_option maxRecDepth 100000
/-- the code has just these bytes from pc on -/
def DkAt (code : ByteArray) (pc : Nat) (bs : List UInt8) : Prop := ∀ (j : Nat) (b : UInt8), bs[j]? = some b → code.data.toList[pc + j]? = some b
/-- the piece W has the bytes bs from its place j on -/
def dkIn (W : List UInt8) (j : Nat) (bs : List UInt8) : Bool := decide ((W.drop j).take bs.length = bs)
theorem dk_seg {l W T : List UInt8} {o o2 : Nat} (h : l.drop o = W ++ T) (n : Nat) (hn : W.length = n) (ho : o + n = o2) : l.drop o2 = T := by
  subst ho
  rw [← List.drop_drop, h, List.drop_left' hn]
theorem dk_at {code : ByteArray} {W T bs : List UInt8} {o pc : Nat} (h : code.data.toList.drop o = W ++ T) (j : Nat) (hp : o + j = pc) (hw : dkIn W j bs = true) : DkAt code pc bs := by
  subst hp
  intro i b e
  have h1 := of_decide_eq_true hw
  have h2 : i < bs.length := (List.getElem?_eq_some_iff.mp e).1
  have h3 : W[j + i]? = some b := by
    rw [← h1, List.getElem?_take, if_pos h2, List.getElem?_drop] at e
    exact e
  have h4 : j + i < W.length := (List.getElem?_eq_some_iff.mp h3).1
  have h5 : (code.data.toList.drop o)[j + i]? = some b := by
    rw [h, List.getElem?_append_left h4]
    exact h3
  rw [List.getElem?_drop, ← Nat.add_assoc] at h5
  exact h5
theorem dk_u1 {A : ByteArray} {p : Nat} {b : UInt8} (h : A.data.toList[p]? = some b) : (Reader.u1 : Reader DecodeError Nat) A p = .ok (b.toNat, p + 1) := by
  obtain ⟨h1, h2⟩ := List.getElem?_eq_some_iff.mp h
  have h3 : p < A.size := by simpa using h1
  have h4 : A[p]'h3 = b := h2
  have e : (Reader.u1 : Reader DecodeError Nat) A p = (if h : p < A.size then .ok (A[p].toNat, p + 1) else .error (HasTruncated.truncated p)) := by
    show (do if h : p < A.size then do set (p + 1); Pure.pure A[p].toNat else MonadExcept.throw (HasTruncated.truncated p) : Reader DecodeError Nat) A p = _
    by_cases hi : p < A.size
    · rw [dif_pos hi, dif_pos hi]; rfl
    · rw [dif_neg hi, dif_neg hi]; rfl
  rw [e, dif_pos h3, h4]
theorem dk_bind {α β : Type} {r : Reader DecodeError α} {f : α → Reader DecodeError β} {A : ByteArray} {p s : Nat} {a : α} (h : r A p = .ok (a, s)) : (r >>= f) A p = f a A s := by
  show (do let (a, s) ← r A p; f a A s : Except DecodeError (β × Nat)) = _
  rw [h]
  rfl
theorem dk_map {α β : Type} {r : Reader DecodeError α} {g : α → β} {A : ByteArray} {p s : Nat} {a : α} (h : r A p = .ok (a, s)) : (g <$> r) A p = .ok (g a, s) := by
  show (do let (a, s) ← r A p; .ok (g a, s) : Except DecodeError (β × Nat)) = _
  rw [h]
  rfl
theorem dk_u2 {A : ByteArray} {p : Nat} {a b : UInt8} (h : A.data.toList[p]? = some a) (h2 : A.data.toList[p + 1]? = some b) : (Reader.u2 : Reader DecodeError Nat) A p = .ok (a.toNat * 256 + b.toNat, p + 2) := by
  show (Reader.u1 >>= fun hi => Reader.u1 >>= fun lo => Pure.pure (hi * 256 + lo) : Reader DecodeError Nat) A p = _
  rw [dk_bind (dk_u1 h), dk_bind (dk_u1 h2)]
  rfl
theorem dk_of {code : ByteArray} {pc n : Nat} {i : Instr} (h : Decoder.instr pc code pc = .ok (i, pc + n)) : decode code pc = .ok (i, n) := by
  have e : decode code pc = (match Decoder.instr pc code pc with | .error x => .error x | .ok (j, s) => .ok (j, s - pc)) := by
    show (do let (j, s) ← Decoder.instr pc code pc; Pure.pure (j, s - pc) : Except DecodeError (Instr × Nat)) = _
    cases Decoder.instr pc code pc <;> rfl
  rw [e, h]
  show Except.ok (i, pc + n - pc) = _
  rw [Nat.add_sub_cancel_left]
theorem dk_1 {code : ByteArray} {pc : Nat} (h : DkAt code pc [1]) : decode code pc = .ok (.aconst_null, 1) := dk_of ((dk_bind (dk_u1 (h 0 _ rfl))).trans rfl)
theorem dk_2 {code : ByteArray} {pc : Nat} (h : DkAt code pc [2]) : decode code pc = .ok (.iconst (-1), 1) := dk_of ((dk_bind (dk_u1 (h 0 _ rfl))).trans rfl)
theorem dk_3 {code : ByteArray} {pc : Nat} (h : DkAt code pc [3]) : decode code pc = .ok (.iconst 0, 1) := dk_of ((dk_bind (dk_u1 (h 0 _ rfl))).trans rfl)
theorem dk_4 {code : ByteArray} {pc : Nat} (h : DkAt code pc [4]) : decode code pc = .ok (.iconst 1, 1) := dk_of ((dk_bind (dk_u1 (h 0 _ rfl))).trans rfl)
theorem dk_5 {code : ByteArray} {pc : Nat} (h : DkAt code pc [5]) : decode code pc = .ok (.iconst 2, 1) := dk_of ((dk_bind (dk_u1 (h 0 _ rfl))).trans rfl)
theorem dk_6 {code : ByteArray} {pc : Nat} (h : DkAt code pc [6]) : decode code pc = .ok (.iconst 3, 1) := dk_of ((dk_bind (dk_u1 (h 0 _ rfl))).trans rfl)
theorem dk_7 {code : ByteArray} {pc : Nat} (h : DkAt code pc [7]) : decode code pc = .ok (.iconst 4, 1) := dk_of ((dk_bind (dk_u1 (h 0 _ rfl))).trans rfl)
theorem dk_8 {code : ByteArray} {pc : Nat} (h : DkAt code pc [8]) : decode code pc = .ok (.iconst 5, 1) := dk_of ((dk_bind (dk_u1 (h 0 _ rfl))).trans rfl)
theorem dk_9 {code : ByteArray} {pc : Nat} (h : DkAt code pc [9]) : decode code pc = .ok (.lconst 0, 1) := dk_of ((dk_bind (dk_u1 (h 0 _ rfl))).trans rfl)
theorem dk_10 {code : ByteArray} {pc : Nat} (h : DkAt code pc [10]) : decode code pc = .ok (.lconst 1, 1) := dk_of ((dk_bind (dk_u1 (h 0 _ rfl))).trans rfl)
theorem dk_16 {code : ByteArray} {pc : Nat} (a : UInt8) (h : DkAt code pc [16, a]) : decode code pc = .ok (.bipush (Reader.signed 8 a.toNat), 2) := dk_of ((dk_bind (dk_u1 (h 0 _ rfl))).trans ((dk_bind (dk_map (dk_u1 (h 1 _ rfl)))).trans rfl))
theorem dk_17 {code : ByteArray} {pc : Nat} (a b : UInt8) (h : DkAt code pc [17, a, b]) : decode code pc = .ok (.sipush (Reader.signed 16 (a.toNat * 256 + b.toNat)), 3) := dk_of ((dk_bind (dk_u1 (h 0 _ rfl))).trans ((dk_bind (dk_map (dk_u2 (h 1 _ rfl) (h 2 _ rfl)))).trans rfl))
theorem dk_18 {code : ByteArray} {pc : Nat} (a : UInt8) (h : DkAt code pc [18, a]) : decode code pc = .ok (.ldc a.toNat, 2) := dk_of ((dk_bind (dk_u1 (h 0 _ rfl))).trans ((dk_bind (dk_u1 (h 1 _ rfl))).trans rfl))
theorem dk_19 {code : ByteArray} {pc : Nat} (a b : UInt8) (h : DkAt code pc [19, a, b]) : decode code pc = .ok (.ldc_w (a.toNat * 256 + b.toNat), 3) := dk_of ((dk_bind (dk_u1 (h 0 _ rfl))).trans ((dk_bind (dk_u2 (h 1 _ rfl) (h 2 _ rfl))).trans rfl))
theorem dk_20 {code : ByteArray} {pc : Nat} (a b : UInt8) (h : DkAt code pc [20, a, b]) : decode code pc = .ok (.ldc2_w (a.toNat * 256 + b.toNat), 3) := dk_of ((dk_bind (dk_u1 (h 0 _ rfl))).trans ((dk_bind (dk_u2 (h 1 _ rfl) (h 2 _ rfl))).trans rfl))
theorem dk_21 {code : ByteArray} {pc : Nat} (a : UInt8) (h : DkAt code pc [21, a]) : decode code pc = .ok (.iload a.toNat, 2) := dk_of ((dk_bind (dk_u1 (h 0 _ rfl))).trans ((dk_bind (dk_u1 (h 1 _ rfl))).trans rfl))
theorem dk_22 {code : ByteArray} {pc : Nat} (a : UInt8) (h : DkAt code pc [22, a]) : decode code pc = .ok (.lload a.toNat, 2) := dk_of ((dk_bind (dk_u1 (h 0 _ rfl))).trans ((dk_bind (dk_u1 (h 1 _ rfl))).trans rfl))
theorem dk_25 {code : ByteArray} {pc : Nat} (a : UInt8) (h : DkAt code pc [25, a]) : decode code pc = .ok (.aload a.toNat, 2) := dk_of ((dk_bind (dk_u1 (h 0 _ rfl))).trans ((dk_bind (dk_u1 (h 1 _ rfl))).trans rfl))
theorem dk_26 {code : ByteArray} {pc : Nat} (h : DkAt code pc [26]) : decode code pc = .ok (.iload_n 0, 1) := dk_of ((dk_bind (dk_u1 (h 0 _ rfl))).trans rfl)
theorem dk_27 {code : ByteArray} {pc : Nat} (h : DkAt code pc [27]) : decode code pc = .ok (.iload_n 1, 1) := dk_of ((dk_bind (dk_u1 (h 0 _ rfl))).trans rfl)
theorem dk_28 {code : ByteArray} {pc : Nat} (h : DkAt code pc [28]) : decode code pc = .ok (.iload_n 2, 1) := dk_of ((dk_bind (dk_u1 (h 0 _ rfl))).trans rfl)
theorem dk_29 {code : ByteArray} {pc : Nat} (h : DkAt code pc [29]) : decode code pc = .ok (.iload_n 3, 1) := dk_of ((dk_bind (dk_u1 (h 0 _ rfl))).trans rfl)
theorem dk_30 {code : ByteArray} {pc : Nat} (h : DkAt code pc [30]) : decode code pc = .ok (.lload_n 0, 1) := dk_of ((dk_bind (dk_u1 (h 0 _ rfl))).trans rfl)
theorem dk_31 {code : ByteArray} {pc : Nat} (h : DkAt code pc [31]) : decode code pc = .ok (.lload_n 1, 1) := dk_of ((dk_bind (dk_u1 (h 0 _ rfl))).trans rfl)
theorem dk_32 {code : ByteArray} {pc : Nat} (h : DkAt code pc [32]) : decode code pc = .ok (.lload_n 2, 1) := dk_of ((dk_bind (dk_u1 (h 0 _ rfl))).trans rfl)
theorem dk_33 {code : ByteArray} {pc : Nat} (h : DkAt code pc [33]) : decode code pc = .ok (.lload_n 3, 1) := dk_of ((dk_bind (dk_u1 (h 0 _ rfl))).trans rfl)
theorem dk_42 {code : ByteArray} {pc : Nat} (h : DkAt code pc [42]) : decode code pc = .ok (.aload_n 0, 1) := dk_of ((dk_bind (dk_u1 (h 0 _ rfl))).trans rfl)
theorem dk_43 {code : ByteArray} {pc : Nat} (h : DkAt code pc [43]) : decode code pc = .ok (.aload_n 1, 1) := dk_of ((dk_bind (dk_u1 (h 0 _ rfl))).trans rfl)
theorem dk_44 {code : ByteArray} {pc : Nat} (h : DkAt code pc [44]) : decode code pc = .ok (.aload_n 2, 1) := dk_of ((dk_bind (dk_u1 (h 0 _ rfl))).trans rfl)
theorem dk_45 {code : ByteArray} {pc : Nat} (h : DkAt code pc [45]) : decode code pc = .ok (.aload_n 3, 1) := dk_of ((dk_bind (dk_u1 (h 0 _ rfl))).trans rfl)
theorem dk_46 {code : ByteArray} {pc : Nat} (h : DkAt code pc [46]) : decode code pc = .ok (.iaload, 1) := dk_of ((dk_bind (dk_u1 (h 0 _ rfl))).trans rfl)
theorem dk_47 {code : ByteArray} {pc : Nat} (h : DkAt code pc [47]) : decode code pc = .ok (.laload, 1) := dk_of ((dk_bind (dk_u1 (h 0 _ rfl))).trans rfl)
theorem dk_50 {code : ByteArray} {pc : Nat} (h : DkAt code pc [50]) : decode code pc = .ok (.aaload, 1) := dk_of ((dk_bind (dk_u1 (h 0 _ rfl))).trans rfl)
theorem dk_51 {code : ByteArray} {pc : Nat} (h : DkAt code pc [51]) : decode code pc = .ok (.baload, 1) := dk_of ((dk_bind (dk_u1 (h 0 _ rfl))).trans rfl)
theorem dk_52 {code : ByteArray} {pc : Nat} (h : DkAt code pc [52]) : decode code pc = .ok (.caload, 1) := dk_of ((dk_bind (dk_u1 (h 0 _ rfl))).trans rfl)
theorem dk_53 {code : ByteArray} {pc : Nat} (h : DkAt code pc [53]) : decode code pc = .ok (.saload, 1) := dk_of ((dk_bind (dk_u1 (h 0 _ rfl))).trans rfl)
theorem dk_54 {code : ByteArray} {pc : Nat} (a : UInt8) (h : DkAt code pc [54, a]) : decode code pc = .ok (.istore a.toNat, 2) := dk_of ((dk_bind (dk_u1 (h 0 _ rfl))).trans ((dk_bind (dk_u1 (h 1 _ rfl))).trans rfl))
theorem dk_55 {code : ByteArray} {pc : Nat} (a : UInt8) (h : DkAt code pc [55, a]) : decode code pc = .ok (.lstore a.toNat, 2) := dk_of ((dk_bind (dk_u1 (h 0 _ rfl))).trans ((dk_bind (dk_u1 (h 1 _ rfl))).trans rfl))
theorem dk_58 {code : ByteArray} {pc : Nat} (a : UInt8) (h : DkAt code pc [58, a]) : decode code pc = .ok (.astore a.toNat, 2) := dk_of ((dk_bind (dk_u1 (h 0 _ rfl))).trans ((dk_bind (dk_u1 (h 1 _ rfl))).trans rfl))
theorem dk_59 {code : ByteArray} {pc : Nat} (h : DkAt code pc [59]) : decode code pc = .ok (.istore_n 0, 1) := dk_of ((dk_bind (dk_u1 (h 0 _ rfl))).trans rfl)
theorem dk_60 {code : ByteArray} {pc : Nat} (h : DkAt code pc [60]) : decode code pc = .ok (.istore_n 1, 1) := dk_of ((dk_bind (dk_u1 (h 0 _ rfl))).trans rfl)
theorem dk_61 {code : ByteArray} {pc : Nat} (h : DkAt code pc [61]) : decode code pc = .ok (.istore_n 2, 1) := dk_of ((dk_bind (dk_u1 (h 0 _ rfl))).trans rfl)
theorem dk_62 {code : ByteArray} {pc : Nat} (h : DkAt code pc [62]) : decode code pc = .ok (.istore_n 3, 1) := dk_of ((dk_bind (dk_u1 (h 0 _ rfl))).trans rfl)
theorem dk_63 {code : ByteArray} {pc : Nat} (h : DkAt code pc [63]) : decode code pc = .ok (.lstore_n 0, 1) := dk_of ((dk_bind (dk_u1 (h 0 _ rfl))).trans rfl)
theorem dk_66 {code : ByteArray} {pc : Nat} (h : DkAt code pc [66]) : decode code pc = .ok (.lstore_n 3, 1) := dk_of ((dk_bind (dk_u1 (h 0 _ rfl))).trans rfl)
theorem dk_76 {code : ByteArray} {pc : Nat} (h : DkAt code pc [76]) : decode code pc = .ok (.astore_n 1, 1) := dk_of ((dk_bind (dk_u1 (h 0 _ rfl))).trans rfl)
theorem dk_77 {code : ByteArray} {pc : Nat} (h : DkAt code pc [77]) : decode code pc = .ok (.astore_n 2, 1) := dk_of ((dk_bind (dk_u1 (h 0 _ rfl))).trans rfl)
theorem dk_78 {code : ByteArray} {pc : Nat} (h : DkAt code pc [78]) : decode code pc = .ok (.astore_n 3, 1) := dk_of ((dk_bind (dk_u1 (h 0 _ rfl))).trans rfl)
theorem dk_79 {code : ByteArray} {pc : Nat} (h : DkAt code pc [79]) : decode code pc = .ok (.iastore, 1) := dk_of ((dk_bind (dk_u1 (h 0 _ rfl))).trans rfl)
theorem dk_80 {code : ByteArray} {pc : Nat} (h : DkAt code pc [80]) : decode code pc = .ok (.lastore, 1) := dk_of ((dk_bind (dk_u1 (h 0 _ rfl))).trans rfl)
theorem dk_83 {code : ByteArray} {pc : Nat} (h : DkAt code pc [83]) : decode code pc = .ok (.aastore, 1) := dk_of ((dk_bind (dk_u1 (h 0 _ rfl))).trans rfl)
theorem dk_84 {code : ByteArray} {pc : Nat} (h : DkAt code pc [84]) : decode code pc = .ok (.bastore, 1) := dk_of ((dk_bind (dk_u1 (h 0 _ rfl))).trans rfl)
theorem dk_85 {code : ByteArray} {pc : Nat} (h : DkAt code pc [85]) : decode code pc = .ok (.castore, 1) := dk_of ((dk_bind (dk_u1 (h 0 _ rfl))).trans rfl)
theorem dk_86 {code : ByteArray} {pc : Nat} (h : DkAt code pc [86]) : decode code pc = .ok (.sastore, 1) := dk_of ((dk_bind (dk_u1 (h 0 _ rfl))).trans rfl)
theorem dk_87 {code : ByteArray} {pc : Nat} (h : DkAt code pc [87]) : decode code pc = .ok (.pop, 1) := dk_of ((dk_bind (dk_u1 (h 0 _ rfl))).trans rfl)
theorem dk_89 {code : ByteArray} {pc : Nat} (h : DkAt code pc [89]) : decode code pc = .ok (.dup, 1) := dk_of ((dk_bind (dk_u1 (h 0 _ rfl))).trans rfl)
theorem dk_90 {code : ByteArray} {pc : Nat} (h : DkAt code pc [90]) : decode code pc = .ok (.dup_x1, 1) := dk_of ((dk_bind (dk_u1 (h 0 _ rfl))).trans rfl)
theorem dk_92 {code : ByteArray} {pc : Nat} (h : DkAt code pc [92]) : decode code pc = .ok (.dup2, 1) := dk_of ((dk_bind (dk_u1 (h 0 _ rfl))).trans rfl)
theorem dk_96 {code : ByteArray} {pc : Nat} (h : DkAt code pc [96]) : decode code pc = .ok (.iadd, 1) := dk_of ((dk_bind (dk_u1 (h 0 _ rfl))).trans rfl)
theorem dk_97 {code : ByteArray} {pc : Nat} (h : DkAt code pc [97]) : decode code pc = .ok (.ladd, 1) := dk_of ((dk_bind (dk_u1 (h 0 _ rfl))).trans rfl)
theorem dk_100 {code : ByteArray} {pc : Nat} (h : DkAt code pc [100]) : decode code pc = .ok (.isub, 1) := dk_of ((dk_bind (dk_u1 (h 0 _ rfl))).trans rfl)
theorem dk_101 {code : ByteArray} {pc : Nat} (h : DkAt code pc [101]) : decode code pc = .ok (.lsub, 1) := dk_of ((dk_bind (dk_u1 (h 0 _ rfl))).trans rfl)
theorem dk_104 {code : ByteArray} {pc : Nat} (h : DkAt code pc [104]) : decode code pc = .ok (.imul, 1) := dk_of ((dk_bind (dk_u1 (h 0 _ rfl))).trans rfl)
theorem dk_108 {code : ByteArray} {pc : Nat} (h : DkAt code pc [108]) : decode code pc = .ok (.idiv, 1) := dk_of ((dk_bind (dk_u1 (h 0 _ rfl))).trans rfl)
theorem dk_112 {code : ByteArray} {pc : Nat} (h : DkAt code pc [112]) : decode code pc = .ok (.irem, 1) := dk_of ((dk_bind (dk_u1 (h 0 _ rfl))).trans rfl)
theorem dk_116 {code : ByteArray} {pc : Nat} (h : DkAt code pc [116]) : decode code pc = .ok (.ineg, 1) := dk_of ((dk_bind (dk_u1 (h 0 _ rfl))).trans rfl)
theorem dk_120 {code : ByteArray} {pc : Nat} (h : DkAt code pc [120]) : decode code pc = .ok (.ishl, 1) := dk_of ((dk_bind (dk_u1 (h 0 _ rfl))).trans rfl)
theorem dk_121 {code : ByteArray} {pc : Nat} (h : DkAt code pc [121]) : decode code pc = .ok (.lshl, 1) := dk_of ((dk_bind (dk_u1 (h 0 _ rfl))).trans rfl)
theorem dk_122 {code : ByteArray} {pc : Nat} (h : DkAt code pc [122]) : decode code pc = .ok (.ishr, 1) := dk_of ((dk_bind (dk_u1 (h 0 _ rfl))).trans rfl)
theorem dk_124 {code : ByteArray} {pc : Nat} (h : DkAt code pc [124]) : decode code pc = .ok (.iushr, 1) := dk_of ((dk_bind (dk_u1 (h 0 _ rfl))).trans rfl)
theorem dk_125 {code : ByteArray} {pc : Nat} (h : DkAt code pc [125]) : decode code pc = .ok (.lushr, 1) := dk_of ((dk_bind (dk_u1 (h 0 _ rfl))).trans rfl)
theorem dk_126 {code : ByteArray} {pc : Nat} (h : DkAt code pc [126]) : decode code pc = .ok (.iand, 1) := dk_of ((dk_bind (dk_u1 (h 0 _ rfl))).trans rfl)
theorem dk_127 {code : ByteArray} {pc : Nat} (h : DkAt code pc [127]) : decode code pc = .ok (.land, 1) := dk_of ((dk_bind (dk_u1 (h 0 _ rfl))).trans rfl)
theorem dk_128 {code : ByteArray} {pc : Nat} (h : DkAt code pc [128]) : decode code pc = .ok (.ior, 1) := dk_of ((dk_bind (dk_u1 (h 0 _ rfl))).trans rfl)
theorem dk_129 {code : ByteArray} {pc : Nat} (h : DkAt code pc [129]) : decode code pc = .ok (.lor, 1) := dk_of ((dk_bind (dk_u1 (h 0 _ rfl))).trans rfl)
theorem dk_130 {code : ByteArray} {pc : Nat} (h : DkAt code pc [130]) : decode code pc = .ok (.ixor, 1) := dk_of ((dk_bind (dk_u1 (h 0 _ rfl))).trans rfl)
theorem dk_131 {code : ByteArray} {pc : Nat} (h : DkAt code pc [131]) : decode code pc = .ok (.lxor, 1) := dk_of ((dk_bind (dk_u1 (h 0 _ rfl))).trans rfl)
theorem dk_132 {code : ByteArray} {pc : Nat} (a b : UInt8) (h : DkAt code pc [132, a, b]) : decode code pc = .ok (.iinc a.toNat (Reader.signed 8 b.toNat), 3) := dk_of ((dk_bind (dk_u1 (h 0 _ rfl))).trans ((dk_bind (dk_u1 (h 1 _ rfl))).trans ((dk_bind (dk_map (dk_u1 (h 2 _ rfl)))).trans rfl)))
theorem dk_133 {code : ByteArray} {pc : Nat} (h : DkAt code pc [133]) : decode code pc = .ok (.i2l, 1) := dk_of ((dk_bind (dk_u1 (h 0 _ rfl))).trans rfl)
theorem dk_136 {code : ByteArray} {pc : Nat} (h : DkAt code pc [136]) : decode code pc = .ok (.l2i, 1) := dk_of ((dk_bind (dk_u1 (h 0 _ rfl))).trans rfl)
theorem dk_145 {code : ByteArray} {pc : Nat} (h : DkAt code pc [145]) : decode code pc = .ok (.i2b, 1) := dk_of ((dk_bind (dk_u1 (h 0 _ rfl))).trans rfl)
theorem dk_146 {code : ByteArray} {pc : Nat} (h : DkAt code pc [146]) : decode code pc = .ok (.i2c, 1) := dk_of ((dk_bind (dk_u1 (h 0 _ rfl))).trans rfl)
theorem dk_147 {code : ByteArray} {pc : Nat} (h : DkAt code pc [147]) : decode code pc = .ok (.i2s, 1) := dk_of ((dk_bind (dk_u1 (h 0 _ rfl))).trans rfl)
theorem dk_148 {code : ByteArray} {pc : Nat} (h : DkAt code pc [148]) : decode code pc = .ok (.lcmp, 1) := dk_of ((dk_bind (dk_u1 (h 0 _ rfl))).trans rfl)
theorem dk_153 {code : ByteArray} {pc : Nat} (a b : UInt8) (h : DkAt code pc [153, a, b]) : decode code pc = .ok (.ifCond .eq (Reader.signed 16 (a.toNat * 256 + b.toNat)), 3) := dk_of ((dk_bind (dk_u1 (h 0 _ rfl))).trans ((dk_bind (dk_map (dk_u2 (h 1 _ rfl) (h 2 _ rfl)))).trans rfl))
theorem dk_154 {code : ByteArray} {pc : Nat} (a b : UInt8) (h : DkAt code pc [154, a, b]) : decode code pc = .ok (.ifCond .ne (Reader.signed 16 (a.toNat * 256 + b.toNat)), 3) := dk_of ((dk_bind (dk_u1 (h 0 _ rfl))).trans ((dk_bind (dk_map (dk_u2 (h 1 _ rfl) (h 2 _ rfl)))).trans rfl))
theorem dk_155 {code : ByteArray} {pc : Nat} (a b : UInt8) (h : DkAt code pc [155, a, b]) : decode code pc = .ok (.ifCond .lt (Reader.signed 16 (a.toNat * 256 + b.toNat)), 3) := dk_of ((dk_bind (dk_u1 (h 0 _ rfl))).trans ((dk_bind (dk_map (dk_u2 (h 1 _ rfl) (h 2 _ rfl)))).trans rfl))
theorem dk_156 {code : ByteArray} {pc : Nat} (a b : UInt8) (h : DkAt code pc [156, a, b]) : decode code pc = .ok (.ifCond .ge (Reader.signed 16 (a.toNat * 256 + b.toNat)), 3) := dk_of ((dk_bind (dk_u1 (h 0 _ rfl))).trans ((dk_bind (dk_map (dk_u2 (h 1 _ rfl) (h 2 _ rfl)))).trans rfl))
theorem dk_157 {code : ByteArray} {pc : Nat} (a b : UInt8) (h : DkAt code pc [157, a, b]) : decode code pc = .ok (.ifCond .gt (Reader.signed 16 (a.toNat * 256 + b.toNat)), 3) := dk_of ((dk_bind (dk_u1 (h 0 _ rfl))).trans ((dk_bind (dk_map (dk_u2 (h 1 _ rfl) (h 2 _ rfl)))).trans rfl))
theorem dk_158 {code : ByteArray} {pc : Nat} (a b : UInt8) (h : DkAt code pc [158, a, b]) : decode code pc = .ok (.ifCond .le (Reader.signed 16 (a.toNat * 256 + b.toNat)), 3) := dk_of ((dk_bind (dk_u1 (h 0 _ rfl))).trans ((dk_bind (dk_map (dk_u2 (h 1 _ rfl) (h 2 _ rfl)))).trans rfl))
theorem dk_159 {code : ByteArray} {pc : Nat} (a b : UInt8) (h : DkAt code pc [159, a, b]) : decode code pc = .ok (.if_icmp .eq (Reader.signed 16 (a.toNat * 256 + b.toNat)), 3) := dk_of ((dk_bind (dk_u1 (h 0 _ rfl))).trans ((dk_bind (dk_map (dk_u2 (h 1 _ rfl) (h 2 _ rfl)))).trans rfl))
theorem dk_160 {code : ByteArray} {pc : Nat} (a b : UInt8) (h : DkAt code pc [160, a, b]) : decode code pc = .ok (.if_icmp .ne (Reader.signed 16 (a.toNat * 256 + b.toNat)), 3) := dk_of ((dk_bind (dk_u1 (h 0 _ rfl))).trans ((dk_bind (dk_map (dk_u2 (h 1 _ rfl) (h 2 _ rfl)))).trans rfl))
theorem dk_161 {code : ByteArray} {pc : Nat} (a b : UInt8) (h : DkAt code pc [161, a, b]) : decode code pc = .ok (.if_icmp .lt (Reader.signed 16 (a.toNat * 256 + b.toNat)), 3) := dk_of ((dk_bind (dk_u1 (h 0 _ rfl))).trans ((dk_bind (dk_map (dk_u2 (h 1 _ rfl) (h 2 _ rfl)))).trans rfl))
theorem dk_162 {code : ByteArray} {pc : Nat} (a b : UInt8) (h : DkAt code pc [162, a, b]) : decode code pc = .ok (.if_icmp .ge (Reader.signed 16 (a.toNat * 256 + b.toNat)), 3) := dk_of ((dk_bind (dk_u1 (h 0 _ rfl))).trans ((dk_bind (dk_map (dk_u2 (h 1 _ rfl) (h 2 _ rfl)))).trans rfl))
theorem dk_163 {code : ByteArray} {pc : Nat} (a b : UInt8) (h : DkAt code pc [163, a, b]) : decode code pc = .ok (.if_icmp .gt (Reader.signed 16 (a.toNat * 256 + b.toNat)), 3) := dk_of ((dk_bind (dk_u1 (h 0 _ rfl))).trans ((dk_bind (dk_map (dk_u2 (h 1 _ rfl) (h 2 _ rfl)))).trans rfl))
theorem dk_164 {code : ByteArray} {pc : Nat} (a b : UInt8) (h : DkAt code pc [164, a, b]) : decode code pc = .ok (.if_icmp .le (Reader.signed 16 (a.toNat * 256 + b.toNat)), 3) := dk_of ((dk_bind (dk_u1 (h 0 _ rfl))).trans ((dk_bind (dk_map (dk_u2 (h 1 _ rfl) (h 2 _ rfl)))).trans rfl))
theorem dk_165 {code : ByteArray} {pc : Nat} (a b : UInt8) (h : DkAt code pc [165, a, b]) : decode code pc = .ok (.if_acmp .eq (Reader.signed 16 (a.toNat * 256 + b.toNat)), 3) := dk_of ((dk_bind (dk_u1 (h 0 _ rfl))).trans ((dk_bind (dk_map (dk_u2 (h 1 _ rfl) (h 2 _ rfl)))).trans rfl))
theorem dk_166 {code : ByteArray} {pc : Nat} (a b : UInt8) (h : DkAt code pc [166, a, b]) : decode code pc = .ok (.if_acmp .ne (Reader.signed 16 (a.toNat * 256 + b.toNat)), 3) := dk_of ((dk_bind (dk_u1 (h 0 _ rfl))).trans ((dk_bind (dk_map (dk_u2 (h 1 _ rfl) (h 2 _ rfl)))).trans rfl))
theorem dk_167 {code : ByteArray} {pc : Nat} (a b : UInt8) (h : DkAt code pc [167, a, b]) : decode code pc = .ok (.goto (Reader.signed 16 (a.toNat * 256 + b.toNat)), 3) := dk_of ((dk_bind (dk_u1 (h 0 _ rfl))).trans ((dk_bind (dk_map (dk_u2 (h 1 _ rfl) (h 2 _ rfl)))).trans rfl))
theorem dk_172 {code : ByteArray} {pc : Nat} (h : DkAt code pc [172]) : decode code pc = .ok (.ireturn, 1) := dk_of ((dk_bind (dk_u1 (h 0 _ rfl))).trans rfl)
theorem dk_173 {code : ByteArray} {pc : Nat} (h : DkAt code pc [173]) : decode code pc = .ok (.lreturn, 1) := dk_of ((dk_bind (dk_u1 (h 0 _ rfl))).trans rfl)
theorem dk_176 {code : ByteArray} {pc : Nat} (h : DkAt code pc [176]) : decode code pc = .ok (.areturn, 1) := dk_of ((dk_bind (dk_u1 (h 0 _ rfl))).trans rfl)
theorem dk_177 {code : ByteArray} {pc : Nat} (h : DkAt code pc [177]) : decode code pc = .ok (.return_, 1) := dk_of ((dk_bind (dk_u1 (h 0 _ rfl))).trans rfl)
theorem dk_178 {code : ByteArray} {pc : Nat} (a b : UInt8) (h : DkAt code pc [178, a, b]) : decode code pc = .ok (.getstatic (a.toNat * 256 + b.toNat), 3) := dk_of ((dk_bind (dk_u1 (h 0 _ rfl))).trans ((dk_bind (dk_u2 (h 1 _ rfl) (h 2 _ rfl))).trans rfl))
theorem dk_180 {code : ByteArray} {pc : Nat} (a b : UInt8) (h : DkAt code pc [180, a, b]) : decode code pc = .ok (.getfield (a.toNat * 256 + b.toNat), 3) := dk_of ((dk_bind (dk_u1 (h 0 _ rfl))).trans ((dk_bind (dk_u2 (h 1 _ rfl) (h 2 _ rfl))).trans rfl))
theorem dk_181 {code : ByteArray} {pc : Nat} (a b : UInt8) (h : DkAt code pc [181, a, b]) : decode code pc = .ok (.putfield (a.toNat * 256 + b.toNat), 3) := dk_of ((dk_bind (dk_u1 (h 0 _ rfl))).trans ((dk_bind (dk_u2 (h 1 _ rfl) (h 2 _ rfl))).trans rfl))
theorem dk_182 {code : ByteArray} {pc : Nat} (a b : UInt8) (h : DkAt code pc [182, a, b]) : decode code pc = .ok (.invokevirtual (a.toNat * 256 + b.toNat), 3) := dk_of ((dk_bind (dk_u1 (h 0 _ rfl))).trans ((dk_bind (dk_u2 (h 1 _ rfl) (h 2 _ rfl))).trans rfl))
theorem dk_183 {code : ByteArray} {pc : Nat} (a b : UInt8) (h : DkAt code pc [183, a, b]) : decode code pc = .ok (.invokespecial (a.toNat * 256 + b.toNat), 3) := dk_of ((dk_bind (dk_u1 (h 0 _ rfl))).trans ((dk_bind (dk_u2 (h 1 _ rfl) (h 2 _ rfl))).trans rfl))
theorem dk_184 {code : ByteArray} {pc : Nat} (a b : UInt8) (h : DkAt code pc [184, a, b]) : decode code pc = .ok (.invokestatic (a.toNat * 256 + b.toNat), 3) := dk_of ((dk_bind (dk_u1 (h 0 _ rfl))).trans ((dk_bind (dk_u2 (h 1 _ rfl) (h 2 _ rfl))).trans rfl))
theorem dk_187 {code : ByteArray} {pc : Nat} (a b : UInt8) (h : DkAt code pc [187, a, b]) : decode code pc = .ok (.new (a.toNat * 256 + b.toNat), 3) := dk_of ((dk_bind (dk_u1 (h 0 _ rfl))).trans ((dk_bind (dk_u2 (h 1 _ rfl) (h 2 _ rfl))).trans rfl))
theorem dk_188_4 {code : ByteArray} {pc : Nat} (h : DkAt code pc [188, 4]) : decode code pc = .ok (.newarray .boolean, 2) := dk_of ((dk_bind (dk_u1 (h 0 _ rfl))).trans ((dk_bind (dk_u1 (h 1 _ rfl))).trans rfl))
theorem dk_188_5 {code : ByteArray} {pc : Nat} (h : DkAt code pc [188, 5]) : decode code pc = .ok (.newarray .char, 2) := dk_of ((dk_bind (dk_u1 (h 0 _ rfl))).trans ((dk_bind (dk_u1 (h 1 _ rfl))).trans rfl))
theorem dk_188_8 {code : ByteArray} {pc : Nat} (h : DkAt code pc [188, 8]) : decode code pc = .ok (.newarray .byte, 2) := dk_of ((dk_bind (dk_u1 (h 0 _ rfl))).trans ((dk_bind (dk_u1 (h 1 _ rfl))).trans rfl))
theorem dk_188_9 {code : ByteArray} {pc : Nat} (h : DkAt code pc [188, 9]) : decode code pc = .ok (.newarray .short, 2) := dk_of ((dk_bind (dk_u1 (h 0 _ rfl))).trans ((dk_bind (dk_u1 (h 1 _ rfl))).trans rfl))
theorem dk_188_10 {code : ByteArray} {pc : Nat} (h : DkAt code pc [188, 10]) : decode code pc = .ok (.newarray .int, 2) := dk_of ((dk_bind (dk_u1 (h 0 _ rfl))).trans ((dk_bind (dk_u1 (h 1 _ rfl))).trans rfl))
theorem dk_188_11 {code : ByteArray} {pc : Nat} (h : DkAt code pc [188, 11]) : decode code pc = .ok (.newarray .long, 2) := dk_of ((dk_bind (dk_u1 (h 0 _ rfl))).trans ((dk_bind (dk_u1 (h 1 _ rfl))).trans rfl))
theorem dk_189 {code : ByteArray} {pc : Nat} (a b : UInt8) (h : DkAt code pc [189, a, b]) : decode code pc = .ok (.anewarray (a.toNat * 256 + b.toNat), 3) := dk_of ((dk_bind (dk_u1 (h 0 _ rfl))).trans ((dk_bind (dk_u2 (h 1 _ rfl) (h 2 _ rfl))).trans rfl))
theorem dk_190 {code : ByteArray} {pc : Nat} (h : DkAt code pc [190]) : decode code pc = .ok (.arraylength, 1) := dk_of ((dk_bind (dk_u1 (h 0 _ rfl))).trans rfl)
theorem dk_191 {code : ByteArray} {pc : Nat} (h : DkAt code pc [191]) : decode code pc = .ok (.athrow, 1) := dk_of ((dk_bind (dk_u1 (h 0 _ rfl))).trans rfl)
theorem dk_192 {code : ByteArray} {pc : Nat} (a b : UInt8) (h : DkAt code pc [192, a, b]) : decode code pc = .ok (.checkcast (a.toNat * 256 + b.toNat), 3) := dk_of ((dk_bind (dk_u1 (h 0 _ rfl))).trans ((dk_bind (dk_u2 (h 1 _ rfl) (h 2 _ rfl))).trans rfl))
theorem dk_193 {code : ByteArray} {pc : Nat} (a b : UInt8) (h : DkAt code pc [193, a, b]) : decode code pc = .ok (.instanceof (a.toNat * 256 + b.toNat), 3) := dk_of ((dk_bind (dk_u1 (h 0 _ rfl))).trans ((dk_bind (dk_u2 (h 1 _ rfl) (h 2 _ rfl))).trans rfl))
theorem dk_198 {code : ByteArray} {pc : Nat} (a b : UInt8) (h : DkAt code pc [198, a, b]) : decode code pc = .ok (.ifnull (Reader.signed 16 (a.toNat * 256 + b.toNat)), 3) := dk_of ((dk_bind (dk_u1 (h 0 _ rfl))).trans ((dk_bind (dk_map (dk_u2 (h 1 _ rfl) (h 2 _ rfl)))).trans rfl))
theorem dk_199 {code : ByteArray} {pc : Nat} (a b : UInt8) (h : DkAt code pc [199, a, b]) : decode code pc = .ok (.ifnonnull (Reader.signed 16 (a.toNat * 256 + b.toNat)), 3) := dk_of ((dk_bind (dk_u1 (h 0 _ rfl))).trans ((dk_bind (dk_map (dk_u2 (h 1 _ rfl) (h 2 _ rfl)))).trans rfl))
/-! LineRemarks$Trace -/
set_option maxRecDepth 100000
def RX1 : String := "LineRemarks$Trace"
def TX1 : u_T := fun k => match k with
  | 0 => ("LineRemarks$Trace", "bodies", "[I", true)
  | _ => ("LineRemarks$Trace", "many", "I", false)
def tyX1 : Nat → FieldType := fun k => match k with
  | 0 => .array .int
  | _ => .int
abbrev wsX10 : List Cond := u_ws RX1 TX1 2
theorem nmX1 : ∀ a, a < 2 → ∀ b, b < 2 → a ≠ b → (TX1 a).2.1 ≠ (TX1 b).2.1 := by decide +kernel
theorem tyX1_ok : ∀ k, k < 2 → parseFieldDescriptor (TX1 k).2.2.1 = some (tyX1 k) := by decide +kernel
abbrev cX1_init : ByteArray := prog_23_method_1_code
def yX1_init : MethodName := ⟨RX1, "<init>", "()V"⟩
def dkwX1_init_0 : List UInt8 := [42, 183, 0, 3, 42, 16, 20, 188, 10, 181, 0, 9, 177]
abbrev dktX1_init_0 : List UInt8 := dkwX1_init_0 ++ []
theorem dksX1_init_0 : cX1_init.data.toList.drop 0 = dktX1_init_0 := by decide +kernel
theorem dX1_init_0 : decode cX1_init 0 = .ok (.aload_n 0, 1) := dk_42 (dk_at dksX1_init_0 0 rfl rfl)
theorem dX1_init_1 : decode cX1_init 1 = .ok (.invokespecial 3, 3) := dk_183 0 3 (dk_at dksX1_init_0 1 rfl rfl)
theorem dX1_init_4 : decode cX1_init 4 = .ok (.aload_n 0, 1) := dk_42 (dk_at dksX1_init_0 4 rfl rfl)
theorem dX1_init_5 : decode cX1_init 5 = .ok (.bipush 20, 2) := dk_16 20 (dk_at dksX1_init_0 5 rfl rfl)
theorem dX1_init_7 : decode cX1_init 7 = .ok (.newarray .int, 2) := dk_188_10 (dk_at dksX1_init_0 7 rfl rfl)
theorem dX1_init_9 : decode cX1_init 9 = .ok (.putfield 9, 3) := dk_181 0 9 (dk_at dksX1_init_0 9 rfl rfl)
theorem dX1_init_12 : decode cX1_init 12 = .ok (.return_, 1) := dk_177 (dk_at dksX1_init_0 12 rfl rfl)
abbrev cX1_runs : ByteArray := prog_23_method_2_code
def yX1_runs : MethodName := ⟨RX1, "runs", "(I)V"⟩
def dkwX1_runs_1 : List UInt8 := [4, 96, 181, 0, 15, 177]
abbrev dktX1_runs_1 : List UInt8 := dkwX1_runs_1 ++ []
def dkwX1_runs_0 : List UInt8 := [42, 180, 0, 15, 16, 20, 162, 0, 13, 42, 180, 0, 9, 42, 180, 0, 15, 27, 79, 42, 89, 180, 0, 15]
abbrev dktX1_runs_0 : List UInt8 := dkwX1_runs_0 ++ dktX1_runs_1
theorem dksX1_runs_0 : cX1_runs.data.toList.drop 0 = dktX1_runs_0 := by decide +kernel
theorem dksX1_runs_1 : cX1_runs.data.toList.drop 24 = dktX1_runs_1 := dk_seg dksX1_runs_0 24 rfl rfl
theorem dX1_runs_0 : decode cX1_runs 0 = .ok (.aload_n 0, 1) := dk_42 (dk_at dksX1_runs_0 0 rfl rfl)
theorem dX1_runs_1 : decode cX1_runs 1 = .ok (.getfield 15, 3) := dk_180 0 15 (dk_at dksX1_runs_0 1 rfl rfl)
theorem dX1_runs_4 : decode cX1_runs 4 = .ok (.bipush 20, 2) := dk_16 20 (dk_at dksX1_runs_0 4 rfl rfl)
theorem dX1_runs_6 : decode cX1_runs 6 = .ok (.if_icmp .ge 13, 3) := dk_162 0 13 (dk_at dksX1_runs_0 6 rfl rfl)
theorem dX1_runs_9 : decode cX1_runs 9 = .ok (.aload_n 0, 1) := dk_42 (dk_at dksX1_runs_0 9 rfl rfl)
theorem dX1_runs_10 : decode cX1_runs 10 = .ok (.getfield 9, 3) := dk_180 0 9 (dk_at dksX1_runs_0 10 rfl rfl)
theorem dX1_runs_13 : decode cX1_runs 13 = .ok (.aload_n 0, 1) := dk_42 (dk_at dksX1_runs_0 13 rfl rfl)
theorem dX1_runs_14 : decode cX1_runs 14 = .ok (.getfield 15, 3) := dk_180 0 15 (dk_at dksX1_runs_0 14 rfl rfl)
theorem dX1_runs_17 : decode cX1_runs 17 = .ok (.iload_n 1, 1) := dk_27 (dk_at dksX1_runs_0 17 rfl rfl)
theorem dX1_runs_18 : decode cX1_runs 18 = .ok (.iastore, 1) := dk_79 (dk_at dksX1_runs_0 18 rfl rfl)
theorem dX1_runs_19 : decode cX1_runs 19 = .ok (.aload_n 0, 1) := dk_42 (dk_at dksX1_runs_0 19 rfl rfl)
theorem dX1_runs_20 : decode cX1_runs 20 = .ok (.dup, 1) := dk_89 (dk_at dksX1_runs_0 20 rfl rfl)
theorem dX1_runs_21 : decode cX1_runs 21 = .ok (.getfield 15, 3) := dk_180 0 15 (dk_at dksX1_runs_0 21 rfl rfl)
theorem dX1_runs_24 : decode cX1_runs 24 = .ok (.iconst 1, 1) := dk_4 (dk_at dksX1_runs_1 0 rfl rfl)
theorem dX1_runs_25 : decode cX1_runs 25 = .ok (.iadd, 1) := dk_96 (dk_at dksX1_runs_1 1 rfl rfl)
theorem dX1_runs_26 : decode cX1_runs 26 = .ok (.putfield 15, 3) := dk_181 0 15 (dk_at dksX1_runs_1 2 rfl rfl)
theorem dX1_runs_29 : decode cX1_runs 29 = .ok (.return_, 1) := dk_177 (dk_at dksX1_runs_1 5 rfl rfl)
theorem q88 : (Jvm.Cond.initialized "LineRemarks$Trace") ∈ lw_all := lw_g (lw_at lw_m1 2 rfl) rfl
theorem q175 : (Jvm.Cond.instantiable "LineRemarks$Trace" (2 : Nat)) ∈ lw_all := lw_g (lw_at lw_m1 89 rfl) rfl
theorem q177 : (Jvm.Cond.instanceMethod ({ cls := "LineRemarks$Trace", name := "<init>", desc := "()V" } : Jvm.MethodName)) ∈ lw_all := lw_g (lw_at lw_m1 91 rfl) rfl
theorem q178 : (Jvm.Cond.code ({ cls := "LineRemarks$Trace", name := "<init>", desc := "()V" } : Jvm.MethodName) prog_23_method_1_code (1 : Nat) (Option.none : Option Jvm.ClassFile.FieldType)) ∈ lw_all := lw_g (lw_at lw_m1 92 rfl) rfl
theorem q179 : (Jvm.Cond.methodLink "LineRemarks$Trace" (3 : Nat) ({ cls := "java/lang/Object", name := "<init>", desc := "()V" } : Jvm.MethodName)) ∈ lw_all := lw_g (lw_at lw_m1 93 rfl) rfl
theorem q180 : (Jvm.Cond.fieldLink "LineRemarks$Trace" (9 : Nat) "LineRemarks$Trace" "bodies" "[I") ∈ lw_all := lw_g (lw_at lw_m1 94 rfl) rfl
theorem q182 : (Jvm.Cond.fieldLink "LineRemarks$Trace" (15 : Nat) "LineRemarks$Trace" "many" "I") ∈ lw_all := lw_g (lw_at lw_m1 96 rfl) rfl
theorem q184 : (Jvm.Cond.laysFinal "LineRemarks$Trace" "LineRemarks$Trace" "bodies" "[I") ∈ lw_all := lw_g (lw_at lw_m1 98 rfl) rfl
theorem q185 : (Jvm.Cond.soleField "LineRemarks$Trace" "bodies") ∈ lw_all := lw_g (lw_at lw_m1 99 rfl) rfl
theorem q186 : (Jvm.Cond.lays "LineRemarks$Trace" "LineRemarks$Trace" "many" "I") ∈ lw_all := lw_g (lw_at lw_m1 100 rfl) rfl
theorem q187 : (Jvm.Cond.soleField "LineRemarks$Trace" "many") ∈ lw_all := lw_g (lw_at lw_m1 101 rfl) rfl
theorem q188 : (Jvm.Cond.superclass "LineRemarks$Trace" "java/lang/Object") ∈ lw_all := lw_g (lw_at lw_m1 102 rfl) rfl
theorem q244 : (Jvm.Cond.selects "LineRemarks$Trace" ({ cls := "java/lang/Object", name := "getClass", desc := "()Ljava/lang/Class;" } : Jvm.MethodName) ({ cls := "java/lang/Object", name := "getClass", desc := "()Ljava/lang/Class;" } : Jvm.MethodName)) ∈ lw_all := lw_g (lw_at lw_m1 158 rfl) rfl
theorem q3034 : (Jvm.Cond.selects "LineRemarks$Trace" ({ cls := "java/lang/Object", name := "equals", desc := "(Ljava/lang/Object;)Z" } : Jvm.MethodName) ({ cls := "java/lang/Object", name := "equals", desc := "(Ljava/lang/Object;)Z" } : Jvm.MethodName)) ∈ lw_all := lw_g (lw_at lw_m13 68 rfl) rfl
theorem q3191 : (Jvm.Cond.instanceMethod ({ cls := "LineRemarks$Trace", name := "runs", desc := "(I)V" } : Jvm.MethodName)) ∈ lw_all := lw_g (lw_at lw_m13 225 rfl) rfl
theorem q3192 : (Jvm.Cond.selects "LineRemarks$Trace" ({ cls := "LineRemarks$Trace", name := "runs", desc := "(I)V" } : Jvm.MethodName) ({ cls := "LineRemarks$Trace", name := "runs", desc := "(I)V" } : Jvm.MethodName)) ∈ lw_all := lw_g (lw_at lw_m13 226 rfl) rfl
theorem q3193 : (Jvm.Cond.code ({ cls := "LineRemarks$Trace", name := "runs", desc := "(I)V" } : Jvm.MethodName) prog_23_method_2_code (2 : Nat) (Option.none : Option Jvm.ClassFile.FieldType)) ∈ lw_all := lw_g (lw_at lw_m13 227 rfl) rfl
theorem q3801 : (Jvm.Cond.castable "LineRemarks$Trace" "java/lang/Object") ∈ lw_tbl := lw_at lw_m16 115 rfl
theorem in_X1 : ∀ w ∈ wsX10, w ∈ lw_all := lw_in wsX10 [184, 186] (by decide +kernel) (by decide +kernel)
/-! LineRemarks$World -/
set_option maxRecDepth 100000
def RX2 : String := "LineRemarks$World"
def TX2 : u_T := fun k => match k with
  | 0 => ("LineRemarks$World", "many", "I", false)
  | 1 => ("LineRemarks$World", "made", "I", false)
  | 2 => ("LineRemarks$World", "run", "I", false)
  | 3 => ("LineRemarks$World", "need", "I", false)
  | 4 => ("LineRemarks$World", "margin", "I", false)
  | 5 => ("LineRemarks$World", "seed", "I", false)
  | 6 => ("LineRemarks$World", "revisions", "[LLineRemarks$Revision;", true)
  | 7 => ("LineRemarks$World", "remarks", "[LLineRemarks$Remark;", true)
  | _ => ("LineRemarks$World", "settled", "[Z", true)
def tyX2 : Nat → FieldType := fun k => match k with
  | 0 => .int
  | 1 => .int
  | 2 => .int
  | 3 => .int
  | 4 => .int
  | 5 => .int
  | 6 => .array (.object "LineRemarks$Revision")
  | 7 => .array (.object "LineRemarks$Remark")
  | _ => .array .boolean
abbrev wsX20 : List Cond := u_ws RX2 TX2 9
theorem nmX2 : ∀ a, a < 9 → ∀ b, b < 9 → a ≠ b → (TX2 a).2.1 ≠ (TX2 b).2.1 := by decide +kernel
theorem tyX2_ok : ∀ k, k < 9 → parseFieldDescriptor (TX2 k).2.2.1 = some (tyX2 k) := by decide +kernel
abbrev cX2_init : ByteArray := prog_26_method_1_code
def yX2_init : MethodName := ⟨RX2, "<init>", "()V"⟩
def dkwX2_init_2 : List UInt8 := [188, 4, 181, 0, 36, 177]
abbrev dktX2_init_2 : List UInt8 := dkwX2_init_2 ++ []
def dkwX2_init_1 : List UInt8 := [181, 0, 21, 42, 16, 16, 189, 0, 24, 181, 0, 26, 42, 16, 16, 189, 0, 30, 181, 0, 32, 42, 16, 16]
abbrev dktX2_init_1 : List UInt8 := dkwX2_init_1 ++ dktX2_init_2
def dkwX2_init_0 : List UInt8 := [42, 183, 0, 3, 42, 5, 181, 0, 9, 42, 16, 6, 181, 0, 15, 42, 4, 181, 0, 18, 42, 4]
abbrev dktX2_init_0 : List UInt8 := dkwX2_init_0 ++ dktX2_init_1
theorem dksX2_init_0 : cX2_init.data.toList.drop 0 = dktX2_init_0 := by decide +kernel
theorem dksX2_init_1 : cX2_init.data.toList.drop 22 = dktX2_init_1 := dk_seg dksX2_init_0 22 rfl rfl
theorem dksX2_init_2 : cX2_init.data.toList.drop 46 = dktX2_init_2 := dk_seg dksX2_init_1 24 rfl rfl
theorem dX2_init_0 : decode cX2_init 0 = .ok (.aload_n 0, 1) := dk_42 (dk_at dksX2_init_0 0 rfl rfl)
theorem dX2_init_1 : decode cX2_init 1 = .ok (.invokespecial 3, 3) := dk_183 0 3 (dk_at dksX2_init_0 1 rfl rfl)
theorem dX2_init_4 : decode cX2_init 4 = .ok (.aload_n 0, 1) := dk_42 (dk_at dksX2_init_0 4 rfl rfl)
theorem dX2_init_5 : decode cX2_init 5 = .ok (.iconst 2, 1) := dk_5 (dk_at dksX2_init_0 5 rfl rfl)
theorem dX2_init_6 : decode cX2_init 6 = .ok (.putfield 9, 3) := dk_181 0 9 (dk_at dksX2_init_0 6 rfl rfl)
theorem dX2_init_9 : decode cX2_init 9 = .ok (.aload_n 0, 1) := dk_42 (dk_at dksX2_init_0 9 rfl rfl)
theorem dX2_init_10 : decode cX2_init 10 = .ok (.bipush 6, 2) := dk_16 6 (dk_at dksX2_init_0 10 rfl rfl)
theorem dX2_init_12 : decode cX2_init 12 = .ok (.putfield 15, 3) := dk_181 0 15 (dk_at dksX2_init_0 12 rfl rfl)
theorem dX2_init_15 : decode cX2_init 15 = .ok (.aload_n 0, 1) := dk_42 (dk_at dksX2_init_0 15 rfl rfl)
theorem dX2_init_16 : decode cX2_init 16 = .ok (.iconst 1, 1) := dk_4 (dk_at dksX2_init_0 16 rfl rfl)
theorem dX2_init_17 : decode cX2_init 17 = .ok (.putfield 18, 3) := dk_181 0 18 (dk_at dksX2_init_0 17 rfl rfl)
theorem dX2_init_20 : decode cX2_init 20 = .ok (.aload_n 0, 1) := dk_42 (dk_at dksX2_init_0 20 rfl rfl)
theorem dX2_init_21 : decode cX2_init 21 = .ok (.iconst 1, 1) := dk_4 (dk_at dksX2_init_0 21 rfl rfl)
theorem dX2_init_22 : decode cX2_init 22 = .ok (.putfield 21, 3) := dk_181 0 21 (dk_at dksX2_init_1 0 rfl rfl)
theorem dX2_init_25 : decode cX2_init 25 = .ok (.aload_n 0, 1) := dk_42 (dk_at dksX2_init_1 3 rfl rfl)
theorem dX2_init_26 : decode cX2_init 26 = .ok (.bipush 16, 2) := dk_16 16 (dk_at dksX2_init_1 4 rfl rfl)
theorem dX2_init_28 : decode cX2_init 28 = .ok (.anewarray 24, 3) := dk_189 0 24 (dk_at dksX2_init_1 6 rfl rfl)
theorem dX2_init_31 : decode cX2_init 31 = .ok (.putfield 26, 3) := dk_181 0 26 (dk_at dksX2_init_1 9 rfl rfl)
theorem dX2_init_34 : decode cX2_init 34 = .ok (.aload_n 0, 1) := dk_42 (dk_at dksX2_init_1 12 rfl rfl)
theorem dX2_init_35 : decode cX2_init 35 = .ok (.bipush 16, 2) := dk_16 16 (dk_at dksX2_init_1 13 rfl rfl)
theorem dX2_init_37 : decode cX2_init 37 = .ok (.anewarray 30, 3) := dk_189 0 30 (dk_at dksX2_init_1 15 rfl rfl)
theorem dX2_init_40 : decode cX2_init 40 = .ok (.putfield 32, 3) := dk_181 0 32 (dk_at dksX2_init_1 18 rfl rfl)
theorem dX2_init_43 : decode cX2_init 43 = .ok (.aload_n 0, 1) := dk_42 (dk_at dksX2_init_1 21 rfl rfl)
theorem dX2_init_44 : decode cX2_init 44 = .ok (.bipush 16, 2) := dk_16 16 (dk_at dksX2_init_1 22 rfl rfl)
theorem dX2_init_46 : decode cX2_init 46 = .ok (.newarray .boolean, 2) := dk_188_4 (dk_at dksX2_init_2 0 rfl rfl)
theorem dX2_init_48 : decode cX2_init 48 = .ok (.putfield 36, 3) := dk_181 0 36 (dk_at dksX2_init_2 2 rfl rfl)
theorem dX2_init_51 : decode cX2_init 51 = .ok (.return_, 1) := dk_177 (dk_at dksX2_init_2 5 rfl rfl)
abbrev cX2_isRemark : ByteArray := prog_26_method_4_code
def yX2_isRemark : MethodName := ⟨RX2, "isRemark", "(I)Z"⟩
def dkwX2_isRemark_0 : List UInt8 := [27, 155, 0, 15, 27, 42, 180, 0, 43, 162, 0, 7, 4, 167, 0, 4, 3, 172]
abbrev dktX2_isRemark_0 : List UInt8 := dkwX2_isRemark_0 ++ []
theorem dksX2_isRemark_0 : cX2_isRemark.data.toList.drop 0 = dktX2_isRemark_0 := by decide +kernel
theorem dX2_isRemark_0 : decode cX2_isRemark 0 = .ok (.iload_n 1, 1) := dk_27 (dk_at dksX2_isRemark_0 0 rfl rfl)
theorem dX2_isRemark_1 : decode cX2_isRemark 1 = .ok (.ifCond .lt 15, 3) := dk_155 0 15 (dk_at dksX2_isRemark_0 1 rfl rfl)
theorem dX2_isRemark_4 : decode cX2_isRemark 4 = .ok (.iload_n 1, 1) := dk_27 (dk_at dksX2_isRemark_0 4 rfl rfl)
theorem dX2_isRemark_5 : decode cX2_isRemark 5 = .ok (.aload_n 0, 1) := dk_42 (dk_at dksX2_isRemark_0 5 rfl rfl)
theorem dX2_isRemark_6 : decode cX2_isRemark 6 = .ok (.getfield 43, 3) := dk_180 0 43 (dk_at dksX2_isRemark_0 6 rfl rfl)
theorem dX2_isRemark_9 : decode cX2_isRemark 9 = .ok (.if_icmp .ge 7, 3) := dk_162 0 7 (dk_at dksX2_isRemark_0 9 rfl rfl)
theorem dX2_isRemark_12 : decode cX2_isRemark 12 = .ok (.iconst 1, 1) := dk_4 (dk_at dksX2_isRemark_0 12 rfl rfl)
theorem dX2_isRemark_13 : decode cX2_isRemark 13 = .ok (.goto 4, 3) := dk_167 0 4 (dk_at dksX2_isRemark_0 13 rfl rfl)
theorem dX2_isRemark_16 : decode cX2_isRemark 16 = .ok (.iconst 0, 1) := dk_3 (dk_at dksX2_isRemark_0 16 rfl rfl)
theorem dX2_isRemark_17 : decode cX2_isRemark 17 = .ok (.ireturn, 1) := dk_172 (dk_at dksX2_isRemark_0 17 rfl rfl)
abbrev cX2_isRevision : ByteArray := prog_26_method_3_code
def yX2_isRevision : MethodName := ⟨RX2, "isRevision", "(I)Z"⟩
def dkwX2_isRevision_0 : List UInt8 := [27, 155, 0, 15, 27, 42, 180, 0, 40, 162, 0, 7, 4, 167, 0, 4, 3, 172]
abbrev dktX2_isRevision_0 : List UInt8 := dkwX2_isRevision_0 ++ []
theorem dksX2_isRevision_0 : cX2_isRevision.data.toList.drop 0 = dktX2_isRevision_0 := by decide +kernel
theorem dX2_isRevision_0 : decode cX2_isRevision 0 = .ok (.iload_n 1, 1) := dk_27 (dk_at dksX2_isRevision_0 0 rfl rfl)
theorem dX2_isRevision_1 : decode cX2_isRevision 1 = .ok (.ifCond .lt 15, 3) := dk_155 0 15 (dk_at dksX2_isRevision_0 1 rfl rfl)
theorem dX2_isRevision_4 : decode cX2_isRevision 4 = .ok (.iload_n 1, 1) := dk_27 (dk_at dksX2_isRevision_0 4 rfl rfl)
theorem dX2_isRevision_5 : decode cX2_isRevision 5 = .ok (.aload_n 0, 1) := dk_42 (dk_at dksX2_isRevision_0 5 rfl rfl)
theorem dX2_isRevision_6 : decode cX2_isRevision 6 = .ok (.getfield 40, 3) := dk_180 0 40 (dk_at dksX2_isRevision_0 6 rfl rfl)
theorem dX2_isRevision_9 : decode cX2_isRevision 9 = .ok (.if_icmp .ge 7, 3) := dk_162 0 7 (dk_at dksX2_isRevision_0 9 rfl rfl)
theorem dX2_isRevision_12 : decode cX2_isRevision 12 = .ok (.iconst 1, 1) := dk_4 (dk_at dksX2_isRevision_0 12 rfl rfl)
theorem dX2_isRevision_13 : decode cX2_isRevision 13 = .ok (.goto 4, 3) := dk_167 0 4 (dk_at dksX2_isRevision_0 13 rfl rfl)
theorem dX2_isRevision_16 : decode cX2_isRevision 16 = .ok (.iconst 0, 1) := dk_3 (dk_at dksX2_isRevision_0 16 rfl rfl)
theorem dX2_isRevision_17 : decode cX2_isRevision 17 = .ok (.ireturn, 1) := dk_172 (dk_at dksX2_isRevision_0 17 rfl rfl)
abbrev cX2_add : ByteArray := prog_26_method_5_code
def yX2_add : MethodName := ⟨RX2, "add", "(LLineRemarks$Revision;[LLineRemarks$Line;)I"⟩
def dkwX2_add_1 : List UInt8 := [180, 0, 40, 90, 4, 96, 181, 0, 40, 172]
abbrev dktX2_add_1 : List UInt8 := dkwX2_add_1 ++ []
def dkwX2_add_0 : List UInt8 := [42, 180, 0, 26, 42, 180, 0, 40, 187, 0, 24, 89, 42, 180, 0, 40, 43, 44, 183, 0, 52, 83, 42, 89]
abbrev dktX2_add_0 : List UInt8 := dkwX2_add_0 ++ dktX2_add_1
theorem dksX2_add_0 : cX2_add.data.toList.drop 0 = dktX2_add_0 := by decide +kernel
theorem dksX2_add_1 : cX2_add.data.toList.drop 24 = dktX2_add_1 := dk_seg dksX2_add_0 24 rfl rfl
theorem dX2_add_0 : decode cX2_add 0 = .ok (.aload_n 0, 1) := dk_42 (dk_at dksX2_add_0 0 rfl rfl)
theorem dX2_add_1 : decode cX2_add 1 = .ok (.getfield 26, 3) := dk_180 0 26 (dk_at dksX2_add_0 1 rfl rfl)
theorem dX2_add_4 : decode cX2_add 4 = .ok (.aload_n 0, 1) := dk_42 (dk_at dksX2_add_0 4 rfl rfl)
theorem dX2_add_5 : decode cX2_add 5 = .ok (.getfield 40, 3) := dk_180 0 40 (dk_at dksX2_add_0 5 rfl rfl)
theorem dX2_add_8 : decode cX2_add 8 = .ok (.new 24, 3) := dk_187 0 24 (dk_at dksX2_add_0 8 rfl rfl)
theorem dX2_add_11 : decode cX2_add 11 = .ok (.dup, 1) := dk_89 (dk_at dksX2_add_0 11 rfl rfl)
theorem dX2_add_12 : decode cX2_add 12 = .ok (.aload_n 0, 1) := dk_42 (dk_at dksX2_add_0 12 rfl rfl)
theorem dX2_add_13 : decode cX2_add 13 = .ok (.getfield 40, 3) := dk_180 0 40 (dk_at dksX2_add_0 13 rfl rfl)
theorem dX2_add_16 : decode cX2_add 16 = .ok (.aload_n 1, 1) := dk_43 (dk_at dksX2_add_0 16 rfl rfl)
theorem dX2_add_17 : decode cX2_add 17 = .ok (.aload_n 2, 1) := dk_44 (dk_at dksX2_add_0 17 rfl rfl)
theorem dX2_add_18 : decode cX2_add 18 = .ok (.invokespecial 52, 3) := dk_183 0 52 (dk_at dksX2_add_0 18 rfl rfl)
theorem dX2_add_21 : decode cX2_add 21 = .ok (.aastore, 1) := dk_83 (dk_at dksX2_add_0 21 rfl rfl)
theorem dX2_add_22 : decode cX2_add 22 = .ok (.aload_n 0, 1) := dk_42 (dk_at dksX2_add_0 22 rfl rfl)
theorem dX2_add_23 : decode cX2_add 23 = .ok (.dup, 1) := dk_89 (dk_at dksX2_add_0 23 rfl rfl)
theorem dX2_add_24 : decode cX2_add 24 = .ok (.getfield 40, 3) := dk_180 0 40 (dk_at dksX2_add_1 0 rfl rfl)
theorem dX2_add_27 : decode cX2_add 27 = .ok (.dup_x1, 1) := dk_90 (dk_at dksX2_add_1 3 rfl rfl)
theorem dX2_add_28 : decode cX2_add 28 = .ok (.iconst 1, 1) := dk_4 (dk_at dksX2_add_1 4 rfl rfl)
theorem dX2_add_29 : decode cX2_add 29 = .ok (.iadd, 1) := dk_96 (dk_at dksX2_add_1 5 rfl rfl)
theorem dX2_add_30 : decode cX2_add 30 = .ok (.putfield 40, 3) := dk_181 0 40 (dk_at dksX2_add_1 6 rfl rfl)
theorem dX2_add_33 : decode cX2_add 33 = .ok (.ireturn, 1) := dk_172 (dk_at dksX2_add_1 9 rfl rfl)
abbrev cX2_make : ByteArray := prog_26_method_6_code
def yX2_make : MethodName := ⟨RX2, "make", "(IILLineRemarks$Revision;III)I"⟩
def dkwX2_make_1 : List UInt8 := [83, 42, 180, 0, 36, 42, 180, 0, 43, 3, 84, 42, 89, 180, 0, 43, 90, 4, 96, 181, 0, 43, 172]
abbrev dktX2_make_1 : List UInt8 := dkwX2_make_1 ++ []
def dkwX2_make_0 : List UInt8 := [42, 180, 0, 32, 42, 180, 0, 43, 27, 42, 180, 0, 43, 28, 45, 21, 4, 21, 5, 21, 6, 184, 0, 55]
abbrev dktX2_make_0 : List UInt8 := dkwX2_make_0 ++ dktX2_make_1
theorem dksX2_make_0 : cX2_make.data.toList.drop 0 = dktX2_make_0 := by decide +kernel
theorem dksX2_make_1 : cX2_make.data.toList.drop 24 = dktX2_make_1 := dk_seg dksX2_make_0 24 rfl rfl
theorem dX2_make_0 : decode cX2_make 0 = .ok (.aload_n 0, 1) := dk_42 (dk_at dksX2_make_0 0 rfl rfl)
theorem dX2_make_1 : decode cX2_make 1 = .ok (.getfield 32, 3) := dk_180 0 32 (dk_at dksX2_make_0 1 rfl rfl)
theorem dX2_make_4 : decode cX2_make 4 = .ok (.aload_n 0, 1) := dk_42 (dk_at dksX2_make_0 4 rfl rfl)
theorem dX2_make_5 : decode cX2_make 5 = .ok (.getfield 43, 3) := dk_180 0 43 (dk_at dksX2_make_0 5 rfl rfl)
theorem dX2_make_8 : decode cX2_make 8 = .ok (.iload_n 1, 1) := dk_27 (dk_at dksX2_make_0 8 rfl rfl)
theorem dX2_make_9 : decode cX2_make 9 = .ok (.aload_n 0, 1) := dk_42 (dk_at dksX2_make_0 9 rfl rfl)
theorem dX2_make_10 : decode cX2_make 10 = .ok (.getfield 43, 3) := dk_180 0 43 (dk_at dksX2_make_0 10 rfl rfl)
theorem dX2_make_13 : decode cX2_make 13 = .ok (.iload_n 2, 1) := dk_28 (dk_at dksX2_make_0 13 rfl rfl)
theorem dX2_make_14 : decode cX2_make 14 = .ok (.aload_n 3, 1) := dk_45 (dk_at dksX2_make_0 14 rfl rfl)
theorem dX2_make_15 : decode cX2_make 15 = .ok (.iload 4, 2) := dk_21 4 (dk_at dksX2_make_0 15 rfl rfl)
theorem dX2_make_17 : decode cX2_make 17 = .ok (.iload 5, 2) := dk_21 5 (dk_at dksX2_make_0 17 rfl rfl)
theorem dX2_make_19 : decode cX2_make 19 = .ok (.iload 6, 2) := dk_21 6 (dk_at dksX2_make_0 19 rfl rfl)
theorem dX2_make_21 : decode cX2_make 21 = .ok (.invokestatic 55, 3) := dk_184 0 55 (dk_at dksX2_make_0 21 rfl rfl)
theorem dX2_make_24 : decode cX2_make 24 = .ok (.aastore, 1) := dk_83 (dk_at dksX2_make_1 0 rfl rfl)
theorem dX2_make_25 : decode cX2_make 25 = .ok (.aload_n 0, 1) := dk_42 (dk_at dksX2_make_1 1 rfl rfl)
theorem dX2_make_26 : decode cX2_make 26 = .ok (.getfield 36, 3) := dk_180 0 36 (dk_at dksX2_make_1 2 rfl rfl)
theorem dX2_make_29 : decode cX2_make 29 = .ok (.aload_n 0, 1) := dk_42 (dk_at dksX2_make_1 5 rfl rfl)
theorem dX2_make_30 : decode cX2_make 30 = .ok (.getfield 43, 3) := dk_180 0 43 (dk_at dksX2_make_1 6 rfl rfl)
theorem dX2_make_33 : decode cX2_make 33 = .ok (.iconst 0, 1) := dk_3 (dk_at dksX2_make_1 9 rfl rfl)
theorem dX2_make_34 : decode cX2_make 34 = .ok (.bastore, 1) := dk_84 (dk_at dksX2_make_1 10 rfl rfl)
theorem dX2_make_35 : decode cX2_make 35 = .ok (.aload_n 0, 1) := dk_42 (dk_at dksX2_make_1 11 rfl rfl)
theorem dX2_make_36 : decode cX2_make 36 = .ok (.dup, 1) := dk_89 (dk_at dksX2_make_1 12 rfl rfl)
theorem dX2_make_37 : decode cX2_make 37 = .ok (.getfield 43, 3) := dk_180 0 43 (dk_at dksX2_make_1 13 rfl rfl)
theorem dX2_make_40 : decode cX2_make 40 = .ok (.dup_x1, 1) := dk_90 (dk_at dksX2_make_1 16 rfl rfl)
theorem dX2_make_41 : decode cX2_make 41 = .ok (.iconst 1, 1) := dk_4 (dk_at dksX2_make_1 17 rfl rfl)
theorem dX2_make_42 : decode cX2_make 42 = .ok (.iadd, 1) := dk_96 (dk_at dksX2_make_1 18 rfl rfl)
theorem dX2_make_43 : decode cX2_make 43 = .ok (.putfield 43, 3) := dk_181 0 43 (dk_at dksX2_make_1 19 rfl rfl)
theorem dX2_make_46 : decode cX2_make 46 = .ok (.ireturn, 1) := dk_172 (dk_at dksX2_make_1 22 rfl rfl)
abbrev cX2_depth : ByteArray := prog_26_method_7_code
def yX2_depth : MethodName := ⟨RX2, "depth", "(I)I"⟩
def dkwX2_depth_1 : List UInt8 := [182, 0, 62, 96, 172]
abbrev dktX2_depth_1 : List UInt8 := dkwX2_depth_1 ++ []
def dkwX2_depth_0 : List UInt8 := [42, 180, 0, 32, 27, 50, 180, 0, 59, 61, 28, 2, 160, 0, 7, 3, 167, 0, 10, 4, 42, 28]
abbrev dktX2_depth_0 : List UInt8 := dkwX2_depth_0 ++ dktX2_depth_1
theorem dksX2_depth_0 : cX2_depth.data.toList.drop 0 = dktX2_depth_0 := by decide +kernel
theorem dksX2_depth_1 : cX2_depth.data.toList.drop 22 = dktX2_depth_1 := dk_seg dksX2_depth_0 22 rfl rfl
theorem dX2_depth_0 : decode cX2_depth 0 = .ok (.aload_n 0, 1) := dk_42 (dk_at dksX2_depth_0 0 rfl rfl)
theorem dX2_depth_1 : decode cX2_depth 1 = .ok (.getfield 32, 3) := dk_180 0 32 (dk_at dksX2_depth_0 1 rfl rfl)
theorem dX2_depth_4 : decode cX2_depth 4 = .ok (.iload_n 1, 1) := dk_27 (dk_at dksX2_depth_0 4 rfl rfl)
theorem dX2_depth_5 : decode cX2_depth 5 = .ok (.aaload, 1) := dk_50 (dk_at dksX2_depth_0 5 rfl rfl)
theorem dX2_depth_6 : decode cX2_depth 6 = .ok (.getfield 59, 3) := dk_180 0 59 (dk_at dksX2_depth_0 6 rfl rfl)
theorem dX2_depth_9 : decode cX2_depth 9 = .ok (.istore_n 2, 1) := dk_61 (dk_at dksX2_depth_0 9 rfl rfl)
theorem dX2_depth_10 : decode cX2_depth 10 = .ok (.iload_n 2, 1) := dk_28 (dk_at dksX2_depth_0 10 rfl rfl)
theorem dX2_depth_11 : decode cX2_depth 11 = .ok (.iconst (-1), 1) := dk_2 (dk_at dksX2_depth_0 11 rfl rfl)
theorem dX2_depth_12 : decode cX2_depth 12 = .ok (.if_icmp .ne 7, 3) := dk_160 0 7 (dk_at dksX2_depth_0 12 rfl rfl)
theorem dX2_depth_15 : decode cX2_depth 15 = .ok (.iconst 0, 1) := dk_3 (dk_at dksX2_depth_0 15 rfl rfl)
theorem dX2_depth_16 : decode cX2_depth 16 = .ok (.goto 10, 3) := dk_167 0 10 (dk_at dksX2_depth_0 16 rfl rfl)
theorem dX2_depth_19 : decode cX2_depth 19 = .ok (.iconst 1, 1) := dk_4 (dk_at dksX2_depth_0 19 rfl rfl)
theorem dX2_depth_20 : decode cX2_depth 20 = .ok (.aload_n 0, 1) := dk_42 (dk_at dksX2_depth_0 20 rfl rfl)
theorem dX2_depth_21 : decode cX2_depth 21 = .ok (.iload_n 2, 1) := dk_28 (dk_at dksX2_depth_0 21 rfl rfl)
theorem dX2_depth_22 : decode cX2_depth 22 = .ok (.invokevirtual 62, 3) := dk_182 0 62 (dk_at dksX2_depth_1 0 rfl rfl)
theorem dX2_depth_25 : decode cX2_depth 25 = .ok (.iadd, 1) := dk_96 (dk_at dksX2_depth_1 3 rfl rfl)
theorem dX2_depth_26 : decode cX2_depth 26 = .ok (.ireturn, 1) := dk_172 (dk_at dksX2_depth_1 4 rfl rfl)
abbrev cX2_answering : ByteArray := prog_26_method_9_code
def yX2_answering : MethodName := ⟨RX2, "answering", "(I)I"⟩
def dkwX2_answering_0 : List UInt8 := [42, 27, 182, 0, 98, 182, 0, 102, 4, 100, 172]
abbrev dktX2_answering_0 : List UInt8 := dkwX2_answering_0 ++ []
theorem dksX2_answering_0 : cX2_answering.data.toList.drop 0 = dktX2_answering_0 := by decide +kernel
theorem dX2_answering_0 : decode cX2_answering 0 = .ok (.aload_n 0, 1) := dk_42 (dk_at dksX2_answering_0 0 rfl rfl)
theorem dX2_answering_1 : decode cX2_answering 1 = .ok (.iload_n 1, 1) := dk_27 (dk_at dksX2_answering_0 1 rfl rfl)
theorem dX2_answering_2 : decode cX2_answering 2 = .ok (.invokevirtual 98, 3) := dk_182 0 98 (dk_at dksX2_answering_0 2 rfl rfl)
theorem dX2_answering_5 : decode cX2_answering 5 = .ok (.invokevirtual 102, 3) := dk_182 0 102 (dk_at dksX2_answering_0 5 rfl rfl)
theorem dX2_answering_8 : decode cX2_answering 8 = .ok (.iconst 1, 1) := dk_4 (dk_at dksX2_answering_0 8 rfl rfl)
theorem dX2_answering_9 : decode cX2_answering 9 = .ok (.isub, 1) := dk_100 (dk_at dksX2_answering_0 9 rfl rfl)
theorem dX2_answering_10 : decode cX2_answering 10 = .ok (.ireturn, 1) := dk_172 (dk_at dksX2_answering_0 10 rfl rfl)
abbrev cX2_thread : ByteArray := prog_26_method_8_code
def yX2_thread : MethodName := ⟨RX2, "thread", "(I)Ljava/util/BitSet;"⟩
def dkwX2_thread_4 : List UInt8 := [167, 255, 186, 44, 176]
abbrev dktX2_thread_4 : List UInt8 := dkwX2_thread_4 ++ []
def dkwX2_thread_3 : List UInt8 := [50, 180, 0, 59, 21, 4, 160, 0, 12, 45, 21, 5, 184, 0, 72, 182, 0, 78, 132, 5, 1, 167, 255, 220]
abbrev dktX2_thread_3 : List UInt8 := dkwX2_thread_3 ++ dktX2_thread_4
def dkwX2_thread_2 : List UInt8 := [182, 0, 94, 21, 4, 4, 96, 54, 5, 21, 5, 42, 180, 0, 43, 162, 0, 33, 42, 180, 0, 32, 21, 5]
abbrev dktX2_thread_2 : List UInt8 := dkwX2_thread_2 ++ dktX2_thread_3
def dkwX2_thread_1 : List UInt8 := [45, 182, 0, 82, 154, 0, 69, 45, 182, 0, 86, 192, 0, 73, 182, 0, 90, 54, 4, 44, 21, 4]
abbrev dktX2_thread_1 : List UInt8 := dkwX2_thread_1 ++ dktX2_thread_2
def dkwX2_thread_0 : List UInt8 := [187, 0, 66, 89, 183, 0, 68, 77, 187, 0, 69, 89, 183, 0, 71, 78, 45, 27, 184, 0, 72, 182, 0, 78]
abbrev dktX2_thread_0 : List UInt8 := dkwX2_thread_0 ++ dktX2_thread_1
theorem dksX2_thread_0 : cX2_thread.data.toList.drop 0 = dktX2_thread_0 := by decide +kernel
theorem dksX2_thread_1 : cX2_thread.data.toList.drop 24 = dktX2_thread_1 := dk_seg dksX2_thread_0 24 rfl rfl
theorem dksX2_thread_2 : cX2_thread.data.toList.drop 46 = dktX2_thread_2 := dk_seg dksX2_thread_1 22 rfl rfl
theorem dksX2_thread_3 : cX2_thread.data.toList.drop 70 = dktX2_thread_3 := dk_seg dksX2_thread_2 24 rfl rfl
theorem dksX2_thread_4 : cX2_thread.data.toList.drop 94 = dktX2_thread_4 := dk_seg dksX2_thread_3 24 rfl rfl
theorem dX2_thread_0 : decode cX2_thread 0 = .ok (.new 66, 3) := dk_187 0 66 (dk_at dksX2_thread_0 0 rfl rfl)
theorem dX2_thread_3 : decode cX2_thread 3 = .ok (.dup, 1) := dk_89 (dk_at dksX2_thread_0 3 rfl rfl)
theorem dX2_thread_4 : decode cX2_thread 4 = .ok (.invokespecial 68, 3) := dk_183 0 68 (dk_at dksX2_thread_0 4 rfl rfl)
theorem dX2_thread_7 : decode cX2_thread 7 = .ok (.astore_n 2, 1) := dk_77 (dk_at dksX2_thread_0 7 rfl rfl)
theorem dX2_thread_8 : decode cX2_thread 8 = .ok (.new 69, 3) := dk_187 0 69 (dk_at dksX2_thread_0 8 rfl rfl)
theorem dX2_thread_11 : decode cX2_thread 11 = .ok (.dup, 1) := dk_89 (dk_at dksX2_thread_0 11 rfl rfl)
theorem dX2_thread_12 : decode cX2_thread 12 = .ok (.invokespecial 71, 3) := dk_183 0 71 (dk_at dksX2_thread_0 12 rfl rfl)
theorem dX2_thread_15 : decode cX2_thread 15 = .ok (.astore_n 3, 1) := dk_78 (dk_at dksX2_thread_0 15 rfl rfl)
theorem dX2_thread_16 : decode cX2_thread 16 = .ok (.aload_n 3, 1) := dk_45 (dk_at dksX2_thread_0 16 rfl rfl)
theorem dX2_thread_17 : decode cX2_thread 17 = .ok (.iload_n 1, 1) := dk_27 (dk_at dksX2_thread_0 17 rfl rfl)
theorem dX2_thread_18 : decode cX2_thread 18 = .ok (.invokestatic 72, 3) := dk_184 0 72 (dk_at dksX2_thread_0 18 rfl rfl)
theorem dX2_thread_21 : decode cX2_thread 21 = .ok (.invokevirtual 78, 3) := dk_182 0 78 (dk_at dksX2_thread_0 21 rfl rfl)
theorem dX2_thread_24 : decode cX2_thread 24 = .ok (.aload_n 3, 1) := dk_45 (dk_at dksX2_thread_1 0 rfl rfl)
theorem dX2_thread_25 : decode cX2_thread 25 = .ok (.invokevirtual 82, 3) := dk_182 0 82 (dk_at dksX2_thread_1 1 rfl rfl)
theorem dX2_thread_28 : decode cX2_thread 28 = .ok (.ifCond .ne 69, 3) := dk_154 0 69 (dk_at dksX2_thread_1 4 rfl rfl)
theorem dX2_thread_31 : decode cX2_thread 31 = .ok (.aload_n 3, 1) := dk_45 (dk_at dksX2_thread_1 7 rfl rfl)
theorem dX2_thread_32 : decode cX2_thread 32 = .ok (.invokevirtual 86, 3) := dk_182 0 86 (dk_at dksX2_thread_1 8 rfl rfl)
theorem dX2_thread_35 : decode cX2_thread 35 = .ok (.checkcast 73, 3) := dk_192 0 73 (dk_at dksX2_thread_1 11 rfl rfl)
theorem dX2_thread_38 : decode cX2_thread 38 = .ok (.invokevirtual 90, 3) := dk_182 0 90 (dk_at dksX2_thread_1 14 rfl rfl)
theorem dX2_thread_41 : decode cX2_thread 41 = .ok (.istore 4, 2) := dk_54 4 (dk_at dksX2_thread_1 17 rfl rfl)
theorem dX2_thread_43 : decode cX2_thread 43 = .ok (.aload_n 2, 1) := dk_44 (dk_at dksX2_thread_1 19 rfl rfl)
theorem dX2_thread_44 : decode cX2_thread 44 = .ok (.iload 4, 2) := dk_21 4 (dk_at dksX2_thread_1 20 rfl rfl)
theorem dX2_thread_46 : decode cX2_thread 46 = .ok (.invokevirtual 94, 3) := dk_182 0 94 (dk_at dksX2_thread_2 0 rfl rfl)
theorem dX2_thread_49 : decode cX2_thread 49 = .ok (.iload 4, 2) := dk_21 4 (dk_at dksX2_thread_2 3 rfl rfl)
theorem dX2_thread_51 : decode cX2_thread 51 = .ok (.iconst 1, 1) := dk_4 (dk_at dksX2_thread_2 5 rfl rfl)
theorem dX2_thread_52 : decode cX2_thread 52 = .ok (.iadd, 1) := dk_96 (dk_at dksX2_thread_2 6 rfl rfl)
theorem dX2_thread_53 : decode cX2_thread 53 = .ok (.istore 5, 2) := dk_54 5 (dk_at dksX2_thread_2 7 rfl rfl)
theorem dX2_thread_55 : decode cX2_thread 55 = .ok (.iload 5, 2) := dk_21 5 (dk_at dksX2_thread_2 9 rfl rfl)
theorem dX2_thread_57 : decode cX2_thread 57 = .ok (.aload_n 0, 1) := dk_42 (dk_at dksX2_thread_2 11 rfl rfl)
theorem dX2_thread_58 : decode cX2_thread 58 = .ok (.getfield 43, 3) := dk_180 0 43 (dk_at dksX2_thread_2 12 rfl rfl)
theorem dX2_thread_61 : decode cX2_thread 61 = .ok (.if_icmp .ge 33, 3) := dk_162 0 33 (dk_at dksX2_thread_2 15 rfl rfl)
theorem dX2_thread_64 : decode cX2_thread 64 = .ok (.aload_n 0, 1) := dk_42 (dk_at dksX2_thread_2 18 rfl rfl)
theorem dX2_thread_65 : decode cX2_thread 65 = .ok (.getfield 32, 3) := dk_180 0 32 (dk_at dksX2_thread_2 19 rfl rfl)
theorem dX2_thread_68 : decode cX2_thread 68 = .ok (.iload 5, 2) := dk_21 5 (dk_at dksX2_thread_2 22 rfl rfl)
theorem dX2_thread_70 : decode cX2_thread 70 = .ok (.aaload, 1) := dk_50 (dk_at dksX2_thread_3 0 rfl rfl)
theorem dX2_thread_71 : decode cX2_thread 71 = .ok (.getfield 59, 3) := dk_180 0 59 (dk_at dksX2_thread_3 1 rfl rfl)
theorem dX2_thread_74 : decode cX2_thread 74 = .ok (.iload 4, 2) := dk_21 4 (dk_at dksX2_thread_3 4 rfl rfl)
theorem dX2_thread_76 : decode cX2_thread 76 = .ok (.if_icmp .ne 12, 3) := dk_160 0 12 (dk_at dksX2_thread_3 6 rfl rfl)
theorem dX2_thread_79 : decode cX2_thread 79 = .ok (.aload_n 3, 1) := dk_45 (dk_at dksX2_thread_3 9 rfl rfl)
theorem dX2_thread_80 : decode cX2_thread 80 = .ok (.iload 5, 2) := dk_21 5 (dk_at dksX2_thread_3 10 rfl rfl)
theorem dX2_thread_82 : decode cX2_thread 82 = .ok (.invokestatic 72, 3) := dk_184 0 72 (dk_at dksX2_thread_3 12 rfl rfl)
theorem dX2_thread_85 : decode cX2_thread 85 = .ok (.invokevirtual 78, 3) := dk_182 0 78 (dk_at dksX2_thread_3 15 rfl rfl)
theorem dX2_thread_88 : decode cX2_thread 88 = .ok (.iinc 5 1, 3) := dk_132 5 1 (dk_at dksX2_thread_3 18 rfl rfl)
theorem dX2_thread_91 : decode cX2_thread 91 = .ok (.goto (-36), 3) := dk_167 255 220 (dk_at dksX2_thread_3 21 rfl rfl)
theorem dX2_thread_94 : decode cX2_thread 94 = .ok (.goto (-70), 3) := dk_167 255 186 (dk_at dksX2_thread_4 0 rfl rfl)
theorem dX2_thread_97 : decode cX2_thread 97 = .ok (.aload_n 2, 1) := dk_44 (dk_at dksX2_thread_4 3 rfl rfl)
theorem dX2_thread_98 : decode cX2_thread 98 = .ok (.areturn, 1) := dk_176 (dk_at dksX2_thread_4 4 rfl rfl)
abbrev cX2_isOpen : ByteArray := prog_26_method_10_code
def yX2_isOpen : MethodName := ⟨RX2, "isOpen", "(I)Z"⟩
def dkwX2_isOpen_1 : List UInt8 := [154, 0, 5, 4, 172, 44, 29, 4, 96, 182, 0, 105, 62, 167, 255, 233, 3, 172]
abbrev dktX2_isOpen_1 : List UInt8 := dkwX2_isOpen_1 ++ []
def dkwX2_isOpen_0 : List UInt8 := [42, 27, 182, 0, 98, 77, 44, 3, 182, 0, 105, 62, 29, 155, 0, 25, 42, 180, 0, 36, 29, 51]
abbrev dktX2_isOpen_0 : List UInt8 := dkwX2_isOpen_0 ++ dktX2_isOpen_1
theorem dksX2_isOpen_0 : cX2_isOpen.data.toList.drop 0 = dktX2_isOpen_0 := by decide +kernel
theorem dksX2_isOpen_1 : cX2_isOpen.data.toList.drop 22 = dktX2_isOpen_1 := dk_seg dksX2_isOpen_0 22 rfl rfl
theorem dX2_isOpen_0 : decode cX2_isOpen 0 = .ok (.aload_n 0, 1) := dk_42 (dk_at dksX2_isOpen_0 0 rfl rfl)
theorem dX2_isOpen_1 : decode cX2_isOpen 1 = .ok (.iload_n 1, 1) := dk_27 (dk_at dksX2_isOpen_0 1 rfl rfl)
theorem dX2_isOpen_2 : decode cX2_isOpen 2 = .ok (.invokevirtual 98, 3) := dk_182 0 98 (dk_at dksX2_isOpen_0 2 rfl rfl)
theorem dX2_isOpen_5 : decode cX2_isOpen 5 = .ok (.astore_n 2, 1) := dk_77 (dk_at dksX2_isOpen_0 5 rfl rfl)
theorem dX2_isOpen_6 : decode cX2_isOpen 6 = .ok (.aload_n 2, 1) := dk_44 (dk_at dksX2_isOpen_0 6 rfl rfl)
theorem dX2_isOpen_7 : decode cX2_isOpen 7 = .ok (.iconst 0, 1) := dk_3 (dk_at dksX2_isOpen_0 7 rfl rfl)
theorem dX2_isOpen_8 : decode cX2_isOpen 8 = .ok (.invokevirtual 105, 3) := dk_182 0 105 (dk_at dksX2_isOpen_0 8 rfl rfl)
theorem dX2_isOpen_11 : decode cX2_isOpen 11 = .ok (.istore_n 3, 1) := dk_62 (dk_at dksX2_isOpen_0 11 rfl rfl)
theorem dX2_isOpen_12 : decode cX2_isOpen 12 = .ok (.iload_n 3, 1) := dk_29 (dk_at dksX2_isOpen_0 12 rfl rfl)
theorem dX2_isOpen_13 : decode cX2_isOpen 13 = .ok (.ifCond .lt 25, 3) := dk_155 0 25 (dk_at dksX2_isOpen_0 13 rfl rfl)
theorem dX2_isOpen_16 : decode cX2_isOpen 16 = .ok (.aload_n 0, 1) := dk_42 (dk_at dksX2_isOpen_0 16 rfl rfl)
theorem dX2_isOpen_17 : decode cX2_isOpen 17 = .ok (.getfield 36, 3) := dk_180 0 36 (dk_at dksX2_isOpen_0 17 rfl rfl)
theorem dX2_isOpen_20 : decode cX2_isOpen 20 = .ok (.iload_n 3, 1) := dk_29 (dk_at dksX2_isOpen_0 20 rfl rfl)
theorem dX2_isOpen_21 : decode cX2_isOpen 21 = .ok (.baload, 1) := dk_51 (dk_at dksX2_isOpen_0 21 rfl rfl)
theorem dX2_isOpen_22 : decode cX2_isOpen 22 = .ok (.ifCond .ne 5, 3) := dk_154 0 5 (dk_at dksX2_isOpen_1 0 rfl rfl)
theorem dX2_isOpen_25 : decode cX2_isOpen 25 = .ok (.iconst 1, 1) := dk_4 (dk_at dksX2_isOpen_1 3 rfl rfl)
theorem dX2_isOpen_26 : decode cX2_isOpen 26 = .ok (.ireturn, 1) := dk_172 (dk_at dksX2_isOpen_1 4 rfl rfl)
theorem dX2_isOpen_27 : decode cX2_isOpen 27 = .ok (.aload_n 2, 1) := dk_44 (dk_at dksX2_isOpen_1 5 rfl rfl)
theorem dX2_isOpen_28 : decode cX2_isOpen 28 = .ok (.iload_n 3, 1) := dk_29 (dk_at dksX2_isOpen_1 6 rfl rfl)
theorem dX2_isOpen_29 : decode cX2_isOpen 29 = .ok (.iconst 1, 1) := dk_4 (dk_at dksX2_isOpen_1 7 rfl rfl)
theorem dX2_isOpen_30 : decode cX2_isOpen 30 = .ok (.iadd, 1) := dk_96 (dk_at dksX2_isOpen_1 8 rfl rfl)
theorem dX2_isOpen_31 : decode cX2_isOpen 31 = .ok (.invokevirtual 105, 3) := dk_182 0 105 (dk_at dksX2_isOpen_1 9 rfl rfl)
theorem dX2_isOpen_34 : decode cX2_isOpen 34 = .ok (.istore_n 3, 1) := dk_62 (dk_at dksX2_isOpen_1 12 rfl rfl)
theorem dX2_isOpen_35 : decode cX2_isOpen 35 = .ok (.goto (-23), 3) := dk_167 255 233 (dk_at dksX2_isOpen_1 13 rfl rfl)
theorem dX2_isOpen_38 : decode cX2_isOpen 38 = .ok (.iconst 0, 1) := dk_3 (dk_at dksX2_isOpen_1 16 rfl rfl)
theorem dX2_isOpen_39 : decode cX2_isOpen 39 = .ok (.ireturn, 1) := dk_172 (dk_at dksX2_isOpen_1 17 rfl rfl)
abbrev cX2_drift : ByteArray := prog_26_method_13_code
def yX2_drift : MethodName := ⟨RX2, "drift", "()V"⟩
def dkwX2_drift_8 : List UInt8 := [182, 0, 144, 87, 42, 43, 44, 184, 0, 147, 182, 0, 151, 87, 177]
abbrev dktX2_drift_8 : List UInt8 := dkwX2_drift_8 ++ []
def dkwX2_drift_7 : List UInt8 := [167, 0, 27, 29, 6, 160, 0, 22, 44, 182, 0, 125, 154, 0, 15, 44, 21, 4, 16, 122, 184, 0, 129]
abbrev dktX2_drift_7 : List UInt8 := dkwX2_drift_7 ++ dktX2_drift_8
def dkwX2_drift_6 : List UInt8 := [160, 0, 26, 44, 182, 0, 125, 154, 0, 19, 44, 44, 21, 4, 182, 0, 137, 192, 0, 109, 182, 0, 141]
abbrev dktX2_drift_6 : List UInt8 := dkwX2_drift_6 ++ dktX2_drift_7
def dkwX2_drift_5 : List UInt8 := [29, 4, 160, 0, 20, 44, 182, 0, 125, 154, 0, 13, 44, 21, 4, 182, 0, 137, 87, 167, 0, 55, 29, 5]
abbrev dktX2_drift_5 : List UInt8 := dkwX2_drift_5 ++ dktX2_drift_6
def dkwX2_drift_4 : List UInt8 := [162, 0, 24, 44, 21, 4, 16, 97, 42, 16, 26, 182, 0, 122, 96, 184, 0, 129, 182, 0, 133, 167, 0, 77]
abbrev dktX2_drift_4 : List UInt8 := dkwX2_drift_4 ++ dktX2_drift_5
def dkwX2_drift_3 : List UInt8 := [167, 0, 11, 42, 44, 182, 0, 126, 182, 0, 122, 54, 4, 29, 154, 0, 33, 44, 182, 0, 126, 16, 24]
abbrev dktX2_drift_3 : List UInt8 := dkwX2_drift_3 ++ dktX2_drift_4
def dkwX2_drift_2 : List UInt8 := [182, 0, 121, 132, 5, 1, 167, 255, 234, 42, 7, 182, 0, 122, 62, 44, 182, 0, 125, 153, 0, 7, 3]
abbrev dktX2_drift_2 : List UInt8 := dkwX2_drift_2 ++ dktX2_drift_3
def dkwX2_drift_1 : List UInt8 := [78, 45, 190, 54, 4, 3, 54, 5, 21, 5, 21, 4, 162, 0, 21, 45, 21, 5, 50, 58, 6, 44, 25, 6]
abbrev dktX2_drift_1 : List UInt8 := dkwX2_drift_1 ++ dktX2_drift_2
def dkwX2_drift_0 : List UInt8 := [42, 180, 0, 26, 42, 180, 0, 40, 4, 100, 50, 76, 187, 0, 114, 89, 183, 0, 116, 77, 43, 180, 0, 117]
abbrev dktX2_drift_0 : List UInt8 := dkwX2_drift_0 ++ dktX2_drift_1
theorem dksX2_drift_0 : cX2_drift.data.toList.drop 0 = dktX2_drift_0 := by decide +kernel
theorem dksX2_drift_1 : cX2_drift.data.toList.drop 24 = dktX2_drift_1 := dk_seg dksX2_drift_0 24 rfl rfl
theorem dksX2_drift_2 : cX2_drift.data.toList.drop 48 = dktX2_drift_2 := dk_seg dksX2_drift_1 24 rfl rfl
theorem dksX2_drift_3 : cX2_drift.data.toList.drop 71 = dktX2_drift_3 := dk_seg dksX2_drift_2 23 rfl rfl
theorem dksX2_drift_4 : cX2_drift.data.toList.drop 94 = dktX2_drift_4 := dk_seg dksX2_drift_3 23 rfl rfl
theorem dksX2_drift_5 : cX2_drift.data.toList.drop 118 = dktX2_drift_5 := dk_seg dksX2_drift_4 24 rfl rfl
theorem dksX2_drift_6 : cX2_drift.data.toList.drop 142 = dktX2_drift_6 := dk_seg dksX2_drift_5 24 rfl rfl
theorem dksX2_drift_7 : cX2_drift.data.toList.drop 165 = dktX2_drift_7 := dk_seg dksX2_drift_6 23 rfl rfl
theorem dksX2_drift_8 : cX2_drift.data.toList.drop 188 = dktX2_drift_8 := dk_seg dksX2_drift_7 23 rfl rfl
theorem dX2_drift_0 : decode cX2_drift 0 = .ok (.aload_n 0, 1) := dk_42 (dk_at dksX2_drift_0 0 rfl rfl)
theorem dX2_drift_1 : decode cX2_drift 1 = .ok (.getfield 26, 3) := dk_180 0 26 (dk_at dksX2_drift_0 1 rfl rfl)
theorem dX2_drift_4 : decode cX2_drift 4 = .ok (.aload_n 0, 1) := dk_42 (dk_at dksX2_drift_0 4 rfl rfl)
theorem dX2_drift_5 : decode cX2_drift 5 = .ok (.getfield 40, 3) := dk_180 0 40 (dk_at dksX2_drift_0 5 rfl rfl)
theorem dX2_drift_8 : decode cX2_drift 8 = .ok (.iconst 1, 1) := dk_4 (dk_at dksX2_drift_0 8 rfl rfl)
theorem dX2_drift_9 : decode cX2_drift 9 = .ok (.isub, 1) := dk_100 (dk_at dksX2_drift_0 9 rfl rfl)
theorem dX2_drift_10 : decode cX2_drift 10 = .ok (.aaload, 1) := dk_50 (dk_at dksX2_drift_0 10 rfl rfl)
theorem dX2_drift_11 : decode cX2_drift 11 = .ok (.astore_n 1, 1) := dk_76 (dk_at dksX2_drift_0 11 rfl rfl)
theorem dX2_drift_12 : decode cX2_drift 12 = .ok (.new 114, 3) := dk_187 0 114 (dk_at dksX2_drift_0 12 rfl rfl)
theorem dX2_drift_15 : decode cX2_drift 15 = .ok (.dup, 1) := dk_89 (dk_at dksX2_drift_0 15 rfl rfl)
theorem dX2_drift_16 : decode cX2_drift 16 = .ok (.invokespecial 116, 3) := dk_183 0 116 (dk_at dksX2_drift_0 16 rfl rfl)
theorem dX2_drift_19 : decode cX2_drift 19 = .ok (.astore_n 2, 1) := dk_77 (dk_at dksX2_drift_0 19 rfl rfl)
theorem dX2_drift_20 : decode cX2_drift 20 = .ok (.aload_n 1, 1) := dk_43 (dk_at dksX2_drift_0 20 rfl rfl)
theorem dX2_drift_21 : decode cX2_drift 21 = .ok (.getfield 117, 3) := dk_180 0 117 (dk_at dksX2_drift_0 21 rfl rfl)
theorem dX2_drift_24 : decode cX2_drift 24 = .ok (.astore_n 3, 1) := dk_78 (dk_at dksX2_drift_1 0 rfl rfl)
theorem dX2_drift_25 : decode cX2_drift 25 = .ok (.aload_n 3, 1) := dk_45 (dk_at dksX2_drift_1 1 rfl rfl)
theorem dX2_drift_26 : decode cX2_drift 26 = .ok (.arraylength, 1) := dk_190 (dk_at dksX2_drift_1 2 rfl rfl)
theorem dX2_drift_27 : decode cX2_drift 27 = .ok (.istore 4, 2) := dk_54 4 (dk_at dksX2_drift_1 3 rfl rfl)
theorem dX2_drift_29 : decode cX2_drift 29 = .ok (.iconst 0, 1) := dk_3 (dk_at dksX2_drift_1 5 rfl rfl)
theorem dX2_drift_30 : decode cX2_drift 30 = .ok (.istore 5, 2) := dk_54 5 (dk_at dksX2_drift_1 6 rfl rfl)
theorem dX2_drift_32 : decode cX2_drift 32 = .ok (.iload 5, 2) := dk_21 5 (dk_at dksX2_drift_1 8 rfl rfl)
theorem dX2_drift_34 : decode cX2_drift 34 = .ok (.iload 4, 2) := dk_21 4 (dk_at dksX2_drift_1 10 rfl rfl)
theorem dX2_drift_36 : decode cX2_drift 36 = .ok (.if_icmp .ge 21, 3) := dk_162 0 21 (dk_at dksX2_drift_1 12 rfl rfl)
theorem dX2_drift_39 : decode cX2_drift 39 = .ok (.aload_n 3, 1) := dk_45 (dk_at dksX2_drift_1 15 rfl rfl)
theorem dX2_drift_40 : decode cX2_drift 40 = .ok (.iload 5, 2) := dk_21 5 (dk_at dksX2_drift_1 16 rfl rfl)
theorem dX2_drift_42 : decode cX2_drift 42 = .ok (.aaload, 1) := dk_50 (dk_at dksX2_drift_1 18 rfl rfl)
theorem dX2_drift_43 : decode cX2_drift 43 = .ok (.astore 6, 2) := dk_58 6 (dk_at dksX2_drift_1 19 rfl rfl)
theorem dX2_drift_45 : decode cX2_drift 45 = .ok (.aload_n 2, 1) := dk_44 (dk_at dksX2_drift_1 21 rfl rfl)
theorem dX2_drift_46 : decode cX2_drift 46 = .ok (.aload 6, 2) := dk_25 6 (dk_at dksX2_drift_1 22 rfl rfl)
theorem dX2_drift_48 : decode cX2_drift 48 = .ok (.invokevirtual 121, 3) := dk_182 0 121 (dk_at dksX2_drift_2 0 rfl rfl)
theorem dX2_drift_51 : decode cX2_drift 51 = .ok (.iinc 5 1, 3) := dk_132 5 1 (dk_at dksX2_drift_2 3 rfl rfl)
theorem dX2_drift_54 : decode cX2_drift 54 = .ok (.goto (-22), 3) := dk_167 255 234 (dk_at dksX2_drift_2 6 rfl rfl)
theorem dX2_drift_57 : decode cX2_drift 57 = .ok (.aload_n 0, 1) := dk_42 (dk_at dksX2_drift_2 9 rfl rfl)
theorem dX2_drift_58 : decode cX2_drift 58 = .ok (.iconst 4, 1) := dk_7 (dk_at dksX2_drift_2 10 rfl rfl)
theorem dX2_drift_59 : decode cX2_drift 59 = .ok (.invokevirtual 122, 3) := dk_182 0 122 (dk_at dksX2_drift_2 11 rfl rfl)
theorem dX2_drift_62 : decode cX2_drift 62 = .ok (.istore_n 3, 1) := dk_62 (dk_at dksX2_drift_2 14 rfl rfl)
theorem dX2_drift_63 : decode cX2_drift 63 = .ok (.aload_n 2, 1) := dk_44 (dk_at dksX2_drift_2 15 rfl rfl)
theorem dX2_drift_64 : decode cX2_drift 64 = .ok (.invokevirtual 125, 3) := dk_182 0 125 (dk_at dksX2_drift_2 16 rfl rfl)
theorem dX2_drift_67 : decode cX2_drift 67 = .ok (.ifCond .eq 7, 3) := dk_153 0 7 (dk_at dksX2_drift_2 19 rfl rfl)
theorem dX2_drift_70 : decode cX2_drift 70 = .ok (.iconst 0, 1) := dk_3 (dk_at dksX2_drift_2 22 rfl rfl)
theorem dX2_drift_71 : decode cX2_drift 71 = .ok (.goto 11, 3) := dk_167 0 11 (dk_at dksX2_drift_3 0 rfl rfl)
theorem dX2_drift_74 : decode cX2_drift 74 = .ok (.aload_n 0, 1) := dk_42 (dk_at dksX2_drift_3 3 rfl rfl)
theorem dX2_drift_75 : decode cX2_drift 75 = .ok (.aload_n 2, 1) := dk_44 (dk_at dksX2_drift_3 4 rfl rfl)
theorem dX2_drift_76 : decode cX2_drift 76 = .ok (.invokevirtual 126, 3) := dk_182 0 126 (dk_at dksX2_drift_3 5 rfl rfl)
theorem dX2_drift_79 : decode cX2_drift 79 = .ok (.invokevirtual 122, 3) := dk_182 0 122 (dk_at dksX2_drift_3 8 rfl rfl)
theorem dX2_drift_82 : decode cX2_drift 82 = .ok (.istore 4, 2) := dk_54 4 (dk_at dksX2_drift_3 11 rfl rfl)
theorem dX2_drift_84 : decode cX2_drift 84 = .ok (.iload_n 3, 1) := dk_29 (dk_at dksX2_drift_3 13 rfl rfl)
theorem dX2_drift_85 : decode cX2_drift 85 = .ok (.ifCond .ne 33, 3) := dk_154 0 33 (dk_at dksX2_drift_3 14 rfl rfl)
theorem dX2_drift_88 : decode cX2_drift 88 = .ok (.aload_n 2, 1) := dk_44 (dk_at dksX2_drift_3 17 rfl rfl)
theorem dX2_drift_89 : decode cX2_drift 89 = .ok (.invokevirtual 126, 3) := dk_182 0 126 (dk_at dksX2_drift_3 18 rfl rfl)
theorem dX2_drift_92 : decode cX2_drift 92 = .ok (.bipush 24, 2) := dk_16 24 (dk_at dksX2_drift_3 21 rfl rfl)
theorem dX2_drift_94 : decode cX2_drift 94 = .ok (.if_icmp .ge 24, 3) := dk_162 0 24 (dk_at dksX2_drift_4 0 rfl rfl)
theorem dX2_drift_97 : decode cX2_drift 97 = .ok (.aload_n 2, 1) := dk_44 (dk_at dksX2_drift_4 3 rfl rfl)
theorem dX2_drift_98 : decode cX2_drift 98 = .ok (.iload 4, 2) := dk_21 4 (dk_at dksX2_drift_4 4 rfl rfl)
theorem dX2_drift_100 : decode cX2_drift 100 = .ok (.bipush 97, 2) := dk_16 97 (dk_at dksX2_drift_4 6 rfl rfl)
theorem dX2_drift_102 : decode cX2_drift 102 = .ok (.aload_n 0, 1) := dk_42 (dk_at dksX2_drift_4 8 rfl rfl)
theorem dX2_drift_103 : decode cX2_drift 103 = .ok (.bipush 26, 2) := dk_16 26 (dk_at dksX2_drift_4 9 rfl rfl)
theorem dX2_drift_105 : decode cX2_drift 105 = .ok (.invokevirtual 122, 3) := dk_182 0 122 (dk_at dksX2_drift_4 11 rfl rfl)
theorem dX2_drift_108 : decode cX2_drift 108 = .ok (.iadd, 1) := dk_96 (dk_at dksX2_drift_4 14 rfl rfl)
theorem dX2_drift_109 : decode cX2_drift 109 = .ok (.invokestatic 129, 3) := dk_184 0 129 (dk_at dksX2_drift_4 15 rfl rfl)
theorem dX2_drift_112 : decode cX2_drift 112 = .ok (.invokevirtual 133, 3) := dk_182 0 133 (dk_at dksX2_drift_4 18 rfl rfl)
theorem dX2_drift_115 : decode cX2_drift 115 = .ok (.goto 77, 3) := dk_167 0 77 (dk_at dksX2_drift_4 21 rfl rfl)
theorem dX2_drift_118 : decode cX2_drift 118 = .ok (.iload_n 3, 1) := dk_29 (dk_at dksX2_drift_5 0 rfl rfl)
theorem dX2_drift_119 : decode cX2_drift 119 = .ok (.iconst 1, 1) := dk_4 (dk_at dksX2_drift_5 1 rfl rfl)
theorem dX2_drift_120 : decode cX2_drift 120 = .ok (.if_icmp .ne 20, 3) := dk_160 0 20 (dk_at dksX2_drift_5 2 rfl rfl)
theorem dX2_drift_123 : decode cX2_drift 123 = .ok (.aload_n 2, 1) := dk_44 (dk_at dksX2_drift_5 5 rfl rfl)
theorem dX2_drift_124 : decode cX2_drift 124 = .ok (.invokevirtual 125, 3) := dk_182 0 125 (dk_at dksX2_drift_5 6 rfl rfl)
theorem dX2_drift_127 : decode cX2_drift 127 = .ok (.ifCond .ne 13, 3) := dk_154 0 13 (dk_at dksX2_drift_5 9 rfl rfl)
theorem dX2_drift_130 : decode cX2_drift 130 = .ok (.aload_n 2, 1) := dk_44 (dk_at dksX2_drift_5 12 rfl rfl)
theorem dX2_drift_131 : decode cX2_drift 131 = .ok (.iload 4, 2) := dk_21 4 (dk_at dksX2_drift_5 13 rfl rfl)
theorem dX2_drift_133 : decode cX2_drift 133 = .ok (.invokevirtual 137, 3) := dk_182 0 137 (dk_at dksX2_drift_5 15 rfl rfl)
theorem dX2_drift_136 : decode cX2_drift 136 = .ok (.pop, 1) := dk_87 (dk_at dksX2_drift_5 18 rfl rfl)
theorem dX2_drift_137 : decode cX2_drift 137 = .ok (.goto 55, 3) := dk_167 0 55 (dk_at dksX2_drift_5 19 rfl rfl)
theorem dX2_drift_140 : decode cX2_drift 140 = .ok (.iload_n 3, 1) := dk_29 (dk_at dksX2_drift_5 22 rfl rfl)
theorem dX2_drift_141 : decode cX2_drift 141 = .ok (.iconst 2, 1) := dk_5 (dk_at dksX2_drift_5 23 rfl rfl)
theorem dX2_drift_142 : decode cX2_drift 142 = .ok (.if_icmp .ne 26, 3) := dk_160 0 26 (dk_at dksX2_drift_6 0 rfl rfl)
theorem dX2_drift_145 : decode cX2_drift 145 = .ok (.aload_n 2, 1) := dk_44 (dk_at dksX2_drift_6 3 rfl rfl)
theorem dX2_drift_146 : decode cX2_drift 146 = .ok (.invokevirtual 125, 3) := dk_182 0 125 (dk_at dksX2_drift_6 4 rfl rfl)
theorem dX2_drift_149 : decode cX2_drift 149 = .ok (.ifCond .ne 19, 3) := dk_154 0 19 (dk_at dksX2_drift_6 7 rfl rfl)
theorem dX2_drift_152 : decode cX2_drift 152 = .ok (.aload_n 2, 1) := dk_44 (dk_at dksX2_drift_6 10 rfl rfl)
theorem dX2_drift_153 : decode cX2_drift 153 = .ok (.aload_n 2, 1) := dk_44 (dk_at dksX2_drift_6 11 rfl rfl)
theorem dX2_drift_154 : decode cX2_drift 154 = .ok (.iload 4, 2) := dk_21 4 (dk_at dksX2_drift_6 12 rfl rfl)
theorem dX2_drift_156 : decode cX2_drift 156 = .ok (.invokevirtual 137, 3) := dk_182 0 137 (dk_at dksX2_drift_6 14 rfl rfl)
theorem dX2_drift_159 : decode cX2_drift 159 = .ok (.checkcast 109, 3) := dk_192 0 109 (dk_at dksX2_drift_6 17 rfl rfl)
theorem dX2_drift_162 : decode cX2_drift 162 = .ok (.invokevirtual 141, 3) := dk_182 0 141 (dk_at dksX2_drift_6 20 rfl rfl)
theorem dX2_drift_165 : decode cX2_drift 165 = .ok (.goto 27, 3) := dk_167 0 27 (dk_at dksX2_drift_7 0 rfl rfl)
theorem dX2_drift_168 : decode cX2_drift 168 = .ok (.iload_n 3, 1) := dk_29 (dk_at dksX2_drift_7 3 rfl rfl)
theorem dX2_drift_169 : decode cX2_drift 169 = .ok (.iconst 3, 1) := dk_6 (dk_at dksX2_drift_7 4 rfl rfl)
theorem dX2_drift_170 : decode cX2_drift 170 = .ok (.if_icmp .ne 22, 3) := dk_160 0 22 (dk_at dksX2_drift_7 5 rfl rfl)
theorem dX2_drift_173 : decode cX2_drift 173 = .ok (.aload_n 2, 1) := dk_44 (dk_at dksX2_drift_7 8 rfl rfl)
theorem dX2_drift_174 : decode cX2_drift 174 = .ok (.invokevirtual 125, 3) := dk_182 0 125 (dk_at dksX2_drift_7 9 rfl rfl)
theorem dX2_drift_177 : decode cX2_drift 177 = .ok (.ifCond .ne 15, 3) := dk_154 0 15 (dk_at dksX2_drift_7 12 rfl rfl)
theorem dX2_drift_180 : decode cX2_drift 180 = .ok (.aload_n 2, 1) := dk_44 (dk_at dksX2_drift_7 15 rfl rfl)
theorem dX2_drift_181 : decode cX2_drift 181 = .ok (.iload 4, 2) := dk_21 4 (dk_at dksX2_drift_7 16 rfl rfl)
theorem dX2_drift_183 : decode cX2_drift 183 = .ok (.bipush 122, 2) := dk_16 122 (dk_at dksX2_drift_7 18 rfl rfl)
theorem dX2_drift_185 : decode cX2_drift 185 = .ok (.invokestatic 129, 3) := dk_184 0 129 (dk_at dksX2_drift_7 20 rfl rfl)
theorem dX2_drift_188 : decode cX2_drift 188 = .ok (.invokevirtual 144, 3) := dk_182 0 144 (dk_at dksX2_drift_8 0 rfl rfl)
theorem dX2_drift_191 : decode cX2_drift 191 = .ok (.pop, 1) := dk_87 (dk_at dksX2_drift_8 3 rfl rfl)
theorem dX2_drift_192 : decode cX2_drift 192 = .ok (.aload_n 0, 1) := dk_42 (dk_at dksX2_drift_8 4 rfl rfl)
theorem dX2_drift_193 : decode cX2_drift 193 = .ok (.aload_n 1, 1) := dk_43 (dk_at dksX2_drift_8 5 rfl rfl)
theorem dX2_drift_194 : decode cX2_drift 194 = .ok (.aload_n 2, 1) := dk_44 (dk_at dksX2_drift_8 6 rfl rfl)
theorem dX2_drift_195 : decode cX2_drift 195 = .ok (.invokestatic 147, 3) := dk_184 0 147 (dk_at dksX2_drift_8 7 rfl rfl)
theorem dX2_drift_198 : decode cX2_drift 198 = .ok (.invokevirtual 151, 3) := dk_182 0 151 (dk_at dksX2_drift_8 10 rfl rfl)
theorem dX2_drift_201 : decode cX2_drift 201 = .ok (.pop, 1) := dk_87 (dk_at dksX2_drift_8 13 rfl rfl)
theorem dX2_drift_202 : decode cX2_drift 202 = .ok (.return_, 1) := dk_177 (dk_at dksX2_drift_8 14 rfl rfl)
abbrev cX2_draw : ByteArray := prog_26_method_11_code
def yX2_draw : MethodName := ⟨RX2, "draw", "(I)I"⟩
def dkwX2_draw_1 : List UInt8 := [172]
abbrev dktX2_draw_1 : List UInt8 := dkwX2_draw_1 ++ []
def dkwX2_draw_0 : List UInt8 := [42, 42, 180, 0, 21, 18, 108, 104, 17, 48, 57, 96, 181, 0, 21, 42, 180, 0, 21, 16, 16, 124, 27, 112]
abbrev dktX2_draw_0 : List UInt8 := dkwX2_draw_0 ++ dktX2_draw_1
theorem dksX2_draw_0 : cX2_draw.data.toList.drop 0 = dktX2_draw_0 := by decide +kernel
theorem dksX2_draw_1 : cX2_draw.data.toList.drop 24 = dktX2_draw_1 := dk_seg dksX2_draw_0 24 rfl rfl
theorem dX2_draw_0 : decode cX2_draw 0 = .ok (.aload_n 0, 1) := dk_42 (dk_at dksX2_draw_0 0 rfl rfl)
theorem dX2_draw_1 : decode cX2_draw 1 = .ok (.aload_n 0, 1) := dk_42 (dk_at dksX2_draw_0 1 rfl rfl)
theorem dX2_draw_2 : decode cX2_draw 2 = .ok (.getfield 21, 3) := dk_180 0 21 (dk_at dksX2_draw_0 2 rfl rfl)
theorem dX2_draw_5 : decode cX2_draw 5 = .ok (.ldc 108, 2) := dk_18 108 (dk_at dksX2_draw_0 5 rfl rfl)
theorem dX2_draw_7 : decode cX2_draw 7 = .ok (.imul, 1) := dk_104 (dk_at dksX2_draw_0 7 rfl rfl)
theorem dX2_draw_8 : decode cX2_draw 8 = .ok (.sipush 12345, 3) := dk_17 48 57 (dk_at dksX2_draw_0 8 rfl rfl)
theorem dX2_draw_11 : decode cX2_draw 11 = .ok (.iadd, 1) := dk_96 (dk_at dksX2_draw_0 11 rfl rfl)
theorem dX2_draw_12 : decode cX2_draw 12 = .ok (.putfield 21, 3) := dk_181 0 21 (dk_at dksX2_draw_0 12 rfl rfl)
theorem dX2_draw_15 : decode cX2_draw 15 = .ok (.aload_n 0, 1) := dk_42 (dk_at dksX2_draw_0 15 rfl rfl)
theorem dX2_draw_16 : decode cX2_draw 16 = .ok (.getfield 21, 3) := dk_180 0 21 (dk_at dksX2_draw_0 16 rfl rfl)
theorem dX2_draw_19 : decode cX2_draw 19 = .ok (.bipush 16, 2) := dk_16 16 (dk_at dksX2_draw_0 19 rfl rfl)
theorem dX2_draw_21 : decode cX2_draw 21 = .ok (.iushr, 1) := dk_124 (dk_at dksX2_draw_0 21 rfl rfl)
theorem dX2_draw_22 : decode cX2_draw 22 = .ok (.iload_n 1, 1) := dk_27 (dk_at dksX2_draw_0 22 rfl rfl)
theorem dX2_draw_23 : decode cX2_draw 23 = .ok (.irem, 1) := dk_112 (dk_at dksX2_draw_0 23 rfl rfl)
theorem dX2_draw_24 : decode cX2_draw 24 = .ok (.ireturn, 1) := dk_172 (dk_at dksX2_draw_1 0 rfl rfl)
abbrev cX2_ofLetter : ByteArray := prog_26_method_12_code
def yX2_ofLetter : MethodName := ⟨RX2, "ofLetter", "(I)LLineRemarks$Line;"⟩
def dkwX2_ofLetter_0 : List UInt8 := [4, 188, 5, 76, 43, 3, 26, 146, 85, 187, 0, 109, 89, 43, 4, 183, 0, 111, 176]
abbrev dktX2_ofLetter_0 : List UInt8 := dkwX2_ofLetter_0 ++ []
theorem dksX2_ofLetter_0 : cX2_ofLetter.data.toList.drop 0 = dktX2_ofLetter_0 := by decide +kernel
theorem dX2_ofLetter_0 : decode cX2_ofLetter 0 = .ok (.iconst 1, 1) := dk_4 (dk_at dksX2_ofLetter_0 0 rfl rfl)
theorem dX2_ofLetter_1 : decode cX2_ofLetter 1 = .ok (.newarray .char, 2) := dk_188_5 (dk_at dksX2_ofLetter_0 1 rfl rfl)
theorem dX2_ofLetter_3 : decode cX2_ofLetter 3 = .ok (.astore_n 1, 1) := dk_76 (dk_at dksX2_ofLetter_0 3 rfl rfl)
theorem dX2_ofLetter_4 : decode cX2_ofLetter 4 = .ok (.aload_n 1, 1) := dk_43 (dk_at dksX2_ofLetter_0 4 rfl rfl)
theorem dX2_ofLetter_5 : decode cX2_ofLetter 5 = .ok (.iconst 0, 1) := dk_3 (dk_at dksX2_ofLetter_0 5 rfl rfl)
theorem dX2_ofLetter_6 : decode cX2_ofLetter 6 = .ok (.iload_n 0, 1) := dk_26 (dk_at dksX2_ofLetter_0 6 rfl rfl)
theorem dX2_ofLetter_7 : decode cX2_ofLetter 7 = .ok (.i2c, 1) := dk_146 (dk_at dksX2_ofLetter_0 7 rfl rfl)
theorem dX2_ofLetter_8 : decode cX2_ofLetter 8 = .ok (.castore, 1) := dk_85 (dk_at dksX2_ofLetter_0 8 rfl rfl)
theorem dX2_ofLetter_9 : decode cX2_ofLetter 9 = .ok (.new 109, 3) := dk_187 0 109 (dk_at dksX2_ofLetter_0 9 rfl rfl)
theorem dX2_ofLetter_12 : decode cX2_ofLetter 12 = .ok (.dup, 1) := dk_89 (dk_at dksX2_ofLetter_0 12 rfl rfl)
theorem dX2_ofLetter_13 : decode cX2_ofLetter 13 = .ok (.aload_n 1, 1) := dk_43 (dk_at dksX2_ofLetter_0 13 rfl rfl)
theorem dX2_ofLetter_14 : decode cX2_ofLetter 14 = .ok (.iconst 1, 1) := dk_4 (dk_at dksX2_ofLetter_0 14 rfl rfl)
theorem dX2_ofLetter_15 : decode cX2_ofLetter 15 = .ok (.invokespecial 111, 3) := dk_183 0 111 (dk_at dksX2_ofLetter_0 15 rfl rfl)
theorem dX2_ofLetter_18 : decode cX2_ofLetter 18 = .ok (.areturn, 1) := dk_176 (dk_at dksX2_ofLetter_0 18 rfl rfl)
abbrev cX2_take : ByteArray := prog_26_method_2_code
def yX2_take : MethodName := ⟨RX2, "take", "(LLineRemarks$World;)LLineRemarks$World;"⟩
def dkwX2_take_4 : List UInt8 := [180, 0, 43, 184, 0, 46, 42, 176]
abbrev dktX2_take_4 : List UInt8 := dkwX2_take_4 ++ []
def dkwX2_take_3 : List UInt8 := [180, 0, 32, 3, 42, 180, 0, 43, 184, 0, 46, 43, 180, 0, 36, 3, 42, 180, 0, 36, 3, 42]
abbrev dktX2_take_3 : List UInt8 := dkwX2_take_3 ++ dktX2_take_4
def dkwX2_take_2 : List UInt8 := [43, 180, 0, 26, 3, 42, 180, 0, 26, 3, 42, 180, 0, 40, 184, 0, 46, 43, 180, 0, 32, 3, 42]
abbrev dktX2_take_2 : List UInt8 := dkwX2_take_2 ++ dktX2_take_3
def dkwX2_take_1 : List UInt8 := [42, 43, 180, 0, 15, 181, 0, 15, 42, 43, 180, 0, 18, 181, 0, 18, 42, 43, 180, 0, 21, 181, 0, 21]
abbrev dktX2_take_1 : List UInt8 := dkwX2_take_1 ++ dktX2_take_2
def dkwX2_take_0 : List UInt8 := [42, 43, 180, 0, 40, 181, 0, 40, 42, 43, 180, 0, 43, 181, 0, 43, 42, 43, 180, 0, 9, 181, 0, 9]
abbrev dktX2_take_0 : List UInt8 := dkwX2_take_0 ++ dktX2_take_1
theorem dksX2_take_0 : cX2_take.data.toList.drop 0 = dktX2_take_0 := by decide +kernel
theorem dksX2_take_1 : cX2_take.data.toList.drop 24 = dktX2_take_1 := dk_seg dksX2_take_0 24 rfl rfl
theorem dksX2_take_2 : cX2_take.data.toList.drop 48 = dktX2_take_2 := dk_seg dksX2_take_1 24 rfl rfl
theorem dksX2_take_3 : cX2_take.data.toList.drop 71 = dktX2_take_3 := dk_seg dksX2_take_2 23 rfl rfl
theorem dksX2_take_4 : cX2_take.data.toList.drop 93 = dktX2_take_4 := dk_seg dksX2_take_3 22 rfl rfl
theorem dX2_take_0 : decode cX2_take 0 = .ok (.aload_n 0, 1) := dk_42 (dk_at dksX2_take_0 0 rfl rfl)
theorem dX2_take_1 : decode cX2_take 1 = .ok (.aload_n 1, 1) := dk_43 (dk_at dksX2_take_0 1 rfl rfl)
theorem dX2_take_2 : decode cX2_take 2 = .ok (.getfield 40, 3) := dk_180 0 40 (dk_at dksX2_take_0 2 rfl rfl)
theorem dX2_take_5 : decode cX2_take 5 = .ok (.putfield 40, 3) := dk_181 0 40 (dk_at dksX2_take_0 5 rfl rfl)
theorem dX2_take_8 : decode cX2_take 8 = .ok (.aload_n 0, 1) := dk_42 (dk_at dksX2_take_0 8 rfl rfl)
theorem dX2_take_9 : decode cX2_take 9 = .ok (.aload_n 1, 1) := dk_43 (dk_at dksX2_take_0 9 rfl rfl)
theorem dX2_take_10 : decode cX2_take 10 = .ok (.getfield 43, 3) := dk_180 0 43 (dk_at dksX2_take_0 10 rfl rfl)
theorem dX2_take_13 : decode cX2_take 13 = .ok (.putfield 43, 3) := dk_181 0 43 (dk_at dksX2_take_0 13 rfl rfl)
theorem dX2_take_16 : decode cX2_take 16 = .ok (.aload_n 0, 1) := dk_42 (dk_at dksX2_take_0 16 rfl rfl)
theorem dX2_take_17 : decode cX2_take 17 = .ok (.aload_n 1, 1) := dk_43 (dk_at dksX2_take_0 17 rfl rfl)
theorem dX2_take_18 : decode cX2_take 18 = .ok (.getfield 9, 3) := dk_180 0 9 (dk_at dksX2_take_0 18 rfl rfl)
theorem dX2_take_21 : decode cX2_take 21 = .ok (.putfield 9, 3) := dk_181 0 9 (dk_at dksX2_take_0 21 rfl rfl)
theorem dX2_take_24 : decode cX2_take 24 = .ok (.aload_n 0, 1) := dk_42 (dk_at dksX2_take_1 0 rfl rfl)
theorem dX2_take_25 : decode cX2_take 25 = .ok (.aload_n 1, 1) := dk_43 (dk_at dksX2_take_1 1 rfl rfl)
theorem dX2_take_26 : decode cX2_take 26 = .ok (.getfield 15, 3) := dk_180 0 15 (dk_at dksX2_take_1 2 rfl rfl)
theorem dX2_take_29 : decode cX2_take 29 = .ok (.putfield 15, 3) := dk_181 0 15 (dk_at dksX2_take_1 5 rfl rfl)
theorem dX2_take_32 : decode cX2_take 32 = .ok (.aload_n 0, 1) := dk_42 (dk_at dksX2_take_1 8 rfl rfl)
theorem dX2_take_33 : decode cX2_take 33 = .ok (.aload_n 1, 1) := dk_43 (dk_at dksX2_take_1 9 rfl rfl)
theorem dX2_take_34 : decode cX2_take 34 = .ok (.getfield 18, 3) := dk_180 0 18 (dk_at dksX2_take_1 10 rfl rfl)
theorem dX2_take_37 : decode cX2_take 37 = .ok (.putfield 18, 3) := dk_181 0 18 (dk_at dksX2_take_1 13 rfl rfl)
theorem dX2_take_40 : decode cX2_take 40 = .ok (.aload_n 0, 1) := dk_42 (dk_at dksX2_take_1 16 rfl rfl)
theorem dX2_take_41 : decode cX2_take 41 = .ok (.aload_n 1, 1) := dk_43 (dk_at dksX2_take_1 17 rfl rfl)
theorem dX2_take_42 : decode cX2_take 42 = .ok (.getfield 21, 3) := dk_180 0 21 (dk_at dksX2_take_1 18 rfl rfl)
theorem dX2_take_45 : decode cX2_take 45 = .ok (.putfield 21, 3) := dk_181 0 21 (dk_at dksX2_take_1 21 rfl rfl)
theorem dX2_take_48 : decode cX2_take 48 = .ok (.aload_n 1, 1) := dk_43 (dk_at dksX2_take_2 0 rfl rfl)
theorem dX2_take_49 : decode cX2_take 49 = .ok (.getfield 26, 3) := dk_180 0 26 (dk_at dksX2_take_2 1 rfl rfl)
theorem dX2_take_52 : decode cX2_take 52 = .ok (.iconst 0, 1) := dk_3 (dk_at dksX2_take_2 4 rfl rfl)
theorem dX2_take_53 : decode cX2_take 53 = .ok (.aload_n 0, 1) := dk_42 (dk_at dksX2_take_2 5 rfl rfl)
theorem dX2_take_54 : decode cX2_take 54 = .ok (.getfield 26, 3) := dk_180 0 26 (dk_at dksX2_take_2 6 rfl rfl)
theorem dX2_take_57 : decode cX2_take 57 = .ok (.iconst 0, 1) := dk_3 (dk_at dksX2_take_2 9 rfl rfl)
theorem dX2_take_58 : decode cX2_take 58 = .ok (.aload_n 0, 1) := dk_42 (dk_at dksX2_take_2 10 rfl rfl)
theorem dX2_take_59 : decode cX2_take 59 = .ok (.getfield 40, 3) := dk_180 0 40 (dk_at dksX2_take_2 11 rfl rfl)
theorem dX2_take_62 : decode cX2_take 62 = .ok (.invokestatic 46, 3) := dk_184 0 46 (dk_at dksX2_take_2 14 rfl rfl)
theorem dX2_take_65 : decode cX2_take 65 = .ok (.aload_n 1, 1) := dk_43 (dk_at dksX2_take_2 17 rfl rfl)
theorem dX2_take_66 : decode cX2_take 66 = .ok (.getfield 32, 3) := dk_180 0 32 (dk_at dksX2_take_2 18 rfl rfl)
theorem dX2_take_69 : decode cX2_take 69 = .ok (.iconst 0, 1) := dk_3 (dk_at dksX2_take_2 21 rfl rfl)
theorem dX2_take_70 : decode cX2_take 70 = .ok (.aload_n 0, 1) := dk_42 (dk_at dksX2_take_2 22 rfl rfl)
theorem dX2_take_71 : decode cX2_take 71 = .ok (.getfield 32, 3) := dk_180 0 32 (dk_at dksX2_take_3 0 rfl rfl)
theorem dX2_take_74 : decode cX2_take 74 = .ok (.iconst 0, 1) := dk_3 (dk_at dksX2_take_3 3 rfl rfl)
theorem dX2_take_75 : decode cX2_take 75 = .ok (.aload_n 0, 1) := dk_42 (dk_at dksX2_take_3 4 rfl rfl)
theorem dX2_take_76 : decode cX2_take 76 = .ok (.getfield 43, 3) := dk_180 0 43 (dk_at dksX2_take_3 5 rfl rfl)
theorem dX2_take_79 : decode cX2_take 79 = .ok (.invokestatic 46, 3) := dk_184 0 46 (dk_at dksX2_take_3 8 rfl rfl)
theorem dX2_take_82 : decode cX2_take 82 = .ok (.aload_n 1, 1) := dk_43 (dk_at dksX2_take_3 11 rfl rfl)
theorem dX2_take_83 : decode cX2_take 83 = .ok (.getfield 36, 3) := dk_180 0 36 (dk_at dksX2_take_3 12 rfl rfl)
theorem dX2_take_86 : decode cX2_take 86 = .ok (.iconst 0, 1) := dk_3 (dk_at dksX2_take_3 15 rfl rfl)
theorem dX2_take_87 : decode cX2_take 87 = .ok (.aload_n 0, 1) := dk_42 (dk_at dksX2_take_3 16 rfl rfl)
theorem dX2_take_88 : decode cX2_take 88 = .ok (.getfield 36, 3) := dk_180 0 36 (dk_at dksX2_take_3 17 rfl rfl)
theorem dX2_take_91 : decode cX2_take 91 = .ok (.iconst 0, 1) := dk_3 (dk_at dksX2_take_3 20 rfl rfl)
theorem dX2_take_92 : decode cX2_take 92 = .ok (.aload_n 0, 1) := dk_42 (dk_at dksX2_take_3 21 rfl rfl)
theorem dX2_take_93 : decode cX2_take 93 = .ok (.getfield 43, 3) := dk_180 0 43 (dk_at dksX2_take_4 0 rfl rfl)
theorem dX2_take_96 : decode cX2_take 96 = .ok (.invokestatic 46, 3) := dk_184 0 46 (dk_at dksX2_take_4 3 rfl rfl)
theorem dX2_take_99 : decode cX2_take 99 = .ok (.aload_n 0, 1) := dk_42 (dk_at dksX2_take_4 6 rfl rfl)
theorem dX2_take_100 : decode cX2_take 100 = .ok (.areturn, 1) := dk_176 (dk_at dksX2_take_4 7 rfl rfl)
theorem q100 : (Jvm.Cond.initialized "LineRemarks$World") ∈ lw_all := lw_g (lw_at lw_m1 14 rfl) rfl
theorem q247 : (Jvm.Cond.selects "LineRemarks$World" ({ cls := "java/lang/Object", name := "getClass", desc := "()Ljava/lang/Class;" } : Jvm.MethodName) ({ cls := "java/lang/Object", name := "getClass", desc := "()Ljava/lang/Class;" } : Jvm.MethodName)) ∈ lw_all := lw_g (lw_at lw_m1 161 rfl) rfl
theorem q324 : (Jvm.Cond.instantiable "LineRemarks$World" (9 : Nat)) ∈ lw_all := lw_g (lw_at lw_m1 238 rfl) rfl
theorem q326 : (Jvm.Cond.instanceMethod ({ cls := "LineRemarks$World", name := "<init>", desc := "()V" } : Jvm.MethodName)) ∈ lw_all := lw_g (lw_at lw_m2 0 rfl) rfl
theorem q327 : (Jvm.Cond.code ({ cls := "LineRemarks$World", name := "<init>", desc := "()V" } : Jvm.MethodName) prog_26_method_1_code (1 : Nat) (Option.none : Option Jvm.ClassFile.FieldType)) ∈ lw_all := lw_g (lw_at lw_m2 1 rfl) rfl
theorem q328 : (Jvm.Cond.methodLink "LineRemarks$World" (3 : Nat) ({ cls := "java/lang/Object", name := "<init>", desc := "()V" } : Jvm.MethodName)) ∈ lw_all := lw_g (lw_at lw_m2 2 rfl) rfl
theorem q329 : (Jvm.Cond.classLink "LineRemarks$World" (24 : Nat) "LineRemarks$Revision") ∈ lw_all := lw_g (lw_at lw_m2 3 rfl) rfl
theorem q331 : (Jvm.Cond.classLink "LineRemarks$World" (30 : Nat) "LineRemarks$Remark") ∈ lw_all := lw_g (lw_at lw_m2 5 rfl) rfl
theorem q333 : (Jvm.Cond.fieldLink "LineRemarks$World" (40 : Nat) "LineRemarks$World" "many" "I") ∈ lw_all := lw_g (lw_at lw_m2 7 rfl) rfl
theorem q335 : (Jvm.Cond.fieldLink "LineRemarks$World" (43 : Nat) "LineRemarks$World" "made" "I") ∈ lw_all := lw_g (lw_at lw_m2 9 rfl) rfl
theorem q337 : (Jvm.Cond.fieldLink "LineRemarks$World" (9 : Nat) "LineRemarks$World" "run" "I") ∈ lw_all := lw_g (lw_at lw_m2 11 rfl) rfl
theorem q340 : (Jvm.Cond.fieldLink "LineRemarks$World" (15 : Nat) "LineRemarks$World" "need" "I") ∈ lw_all := lw_g (lw_at lw_m2 14 rfl) rfl
theorem q343 : (Jvm.Cond.fieldLink "LineRemarks$World" (18 : Nat) "LineRemarks$World" "margin" "I") ∈ lw_all := lw_g (lw_at lw_m2 17 rfl) rfl
theorem q346 : (Jvm.Cond.fieldLink "LineRemarks$World" (21 : Nat) "LineRemarks$World" "seed" "I") ∈ lw_all := lw_g (lw_at lw_m2 20 rfl) rfl
theorem q348 : (Jvm.Cond.fieldLink "LineRemarks$World" (26 : Nat) "LineRemarks$World" "revisions" "[LLineRemarks$Revision;") ∈ lw_all := lw_g (lw_at lw_m2 22 rfl) rfl
theorem q350 : (Jvm.Cond.fieldLink "LineRemarks$World" (32 : Nat) "LineRemarks$World" "remarks" "[LLineRemarks$Remark;") ∈ lw_all := lw_g (lw_at lw_m2 24 rfl) rfl
theorem q352 : (Jvm.Cond.fieldLink "LineRemarks$World" (36 : Nat) "LineRemarks$World" "settled" "[Z") ∈ lw_all := lw_g (lw_at lw_m2 26 rfl) rfl
theorem q354 : (Jvm.Cond.lays "LineRemarks$World" "LineRemarks$World" "many" "I") ∈ lw_all := lw_g (lw_at lw_m2 28 rfl) rfl
theorem q355 : (Jvm.Cond.soleField "LineRemarks$World" "many") ∈ lw_all := lw_g (lw_at lw_m2 29 rfl) rfl
theorem q356 : (Jvm.Cond.lays "LineRemarks$World" "LineRemarks$World" "made" "I") ∈ lw_all := lw_g (lw_at lw_m2 30 rfl) rfl
theorem q357 : (Jvm.Cond.soleField "LineRemarks$World" "made") ∈ lw_all := lw_g (lw_at lw_m2 31 rfl) rfl
theorem q358 : (Jvm.Cond.lays "LineRemarks$World" "LineRemarks$World" "run" "I") ∈ lw_all := lw_g (lw_at lw_m2 32 rfl) rfl
theorem q359 : (Jvm.Cond.soleField "LineRemarks$World" "run") ∈ lw_all := lw_g (lw_at lw_m2 33 rfl) rfl
theorem q360 : (Jvm.Cond.lays "LineRemarks$World" "LineRemarks$World" "need" "I") ∈ lw_all := lw_g (lw_at lw_m2 34 rfl) rfl
theorem q361 : (Jvm.Cond.soleField "LineRemarks$World" "need") ∈ lw_all := lw_g (lw_at lw_m2 35 rfl) rfl
theorem q362 : (Jvm.Cond.lays "LineRemarks$World" "LineRemarks$World" "margin" "I") ∈ lw_all := lw_g (lw_at lw_m2 36 rfl) rfl
theorem q363 : (Jvm.Cond.soleField "LineRemarks$World" "margin") ∈ lw_all := lw_g (lw_at lw_m2 37 rfl) rfl
theorem q364 : (Jvm.Cond.lays "LineRemarks$World" "LineRemarks$World" "seed" "I") ∈ lw_all := lw_g (lw_at lw_m2 38 rfl) rfl
theorem q365 : (Jvm.Cond.soleField "LineRemarks$World" "seed") ∈ lw_all := lw_g (lw_at lw_m2 39 rfl) rfl
theorem q366 : (Jvm.Cond.laysFinal "LineRemarks$World" "LineRemarks$World" "revisions" "[LLineRemarks$Revision;") ∈ lw_all := lw_g (lw_at lw_m2 40 rfl) rfl
theorem q367 : (Jvm.Cond.soleField "LineRemarks$World" "revisions") ∈ lw_all := lw_g (lw_at lw_m2 41 rfl) rfl
theorem q368 : (Jvm.Cond.laysFinal "LineRemarks$World" "LineRemarks$World" "remarks" "[LLineRemarks$Remark;") ∈ lw_all := lw_g (lw_at lw_m2 42 rfl) rfl
theorem q369 : (Jvm.Cond.soleField "LineRemarks$World" "remarks") ∈ lw_all := lw_g (lw_at lw_m2 43 rfl) rfl
theorem q370 : (Jvm.Cond.laysFinal "LineRemarks$World" "LineRemarks$World" "settled" "[Z") ∈ lw_all := lw_g (lw_at lw_m2 44 rfl) rfl
theorem q371 : (Jvm.Cond.soleField "LineRemarks$World" "settled") ∈ lw_all := lw_g (lw_at lw_m2 45 rfl) rfl
theorem q372 : (Jvm.Cond.superclass "LineRemarks$World" "java/lang/Object") ∈ lw_all := lw_g (lw_at lw_m2 46 rfl) rfl
theorem q705 : (Jvm.Cond.instanceMethod ({ cls := "LineRemarks$World", name := "isRemark", desc := "(I)Z" } : Jvm.MethodName)) ∈ lw_all := lw_g (lw_at lw_m3 139 rfl) rfl
theorem q706 : (Jvm.Cond.selects "LineRemarks$World" ({ cls := "LineRemarks$World", name := "isRemark", desc := "(I)Z" } : Jvm.MethodName) ({ cls := "LineRemarks$World", name := "isRemark", desc := "(I)Z" } : Jvm.MethodName)) ∈ lw_all := lw_g (lw_at lw_m3 140 rfl) rfl
theorem q707 : (Jvm.Cond.code ({ cls := "LineRemarks$World", name := "isRemark", desc := "(I)Z" } : Jvm.MethodName) prog_26_method_4_code (2 : Nat) (Option.some Jvm.ClassFile.FieldType.boolean)) ∈ lw_all := lw_g (lw_at lw_m3 141 rfl) rfl
theorem q742 : (Jvm.Cond.instanceMethod ({ cls := "LineRemarks$World", name := "isRevision", desc := "(I)Z" } : Jvm.MethodName)) ∈ lw_all := lw_g (lw_at lw_m3 176 rfl) rfl
theorem q743 : (Jvm.Cond.selects "LineRemarks$World" ({ cls := "LineRemarks$World", name := "isRevision", desc := "(I)Z" } : Jvm.MethodName) ({ cls := "LineRemarks$World", name := "isRevision", desc := "(I)Z" } : Jvm.MethodName)) ∈ lw_all := lw_g (lw_at lw_m3 177 rfl) rfl
theorem q744 : (Jvm.Cond.code ({ cls := "LineRemarks$World", name := "isRevision", desc := "(I)Z" } : Jvm.MethodName) prog_26_method_3_code (2 : Nat) (Option.some Jvm.ClassFile.FieldType.boolean)) ∈ lw_all := lw_g (lw_at lw_m3 178 rfl) rfl
theorem q1711 : (Jvm.Cond.instanceMethod ({ cls := "LineRemarks$World", name := "add", desc := "(LLineRemarks$Revision;[LLineRemarks$Line;)I" } : Jvm.MethodName)) ∈ lw_all := lw_g (lw_at lw_m7 185 rfl) rfl
theorem q1712 : (Jvm.Cond.selects "LineRemarks$World" ({ cls := "LineRemarks$World", name := "add", desc := "(LLineRemarks$Revision;[LLineRemarks$Line;)I" } : Jvm.MethodName) ({ cls := "LineRemarks$World", name := "add", desc := "(LLineRemarks$Revision;[LLineRemarks$Line;)I" } : Jvm.MethodName)) ∈ lw_all := lw_g (lw_at lw_m7 186 rfl) rfl
theorem q1713 : (Jvm.Cond.code ({ cls := "LineRemarks$World", name := "add", desc := "(LLineRemarks$Revision;[LLineRemarks$Line;)I" } : Jvm.MethodName) prog_26_method_5_code (3 : Nat) (Option.some Jvm.ClassFile.FieldType.int)) ∈ lw_all := lw_g (lw_at lw_m7 187 rfl) rfl
theorem q1715 : (Jvm.Cond.methodLink "LineRemarks$World" (52 : Nat) ({ cls := "LineRemarks$Revision", name := "<init>", desc := "(ILLineRemarks$Revision;[LLineRemarks$Line;)V" } : Jvm.MethodName)) ∈ lw_all := lw_g (lw_at lw_m7 189 rfl) rfl
theorem q1727 : (Jvm.Cond.fieldLink "LineRemarks$World" (117 : Nat) "LineRemarks$Revision" "lines" "[LLineRemarks$Line;") ∈ lw_all := lw_g (lw_at lw_m7 201 rfl) rfl
theorem q2048 : (Jvm.Cond.instanceMethod ({ cls := "LineRemarks$World", name := "make", desc := "(IILLineRemarks$Revision;III)I" } : Jvm.MethodName)) ∈ lw_all := lw_g (lw_at lw_m9 42 rfl) rfl
theorem q2049 : (Jvm.Cond.selects "LineRemarks$World" ({ cls := "LineRemarks$World", name := "make", desc := "(IILLineRemarks$Revision;III)I" } : Jvm.MethodName) ({ cls := "LineRemarks$World", name := "make", desc := "(IILLineRemarks$Revision;III)I" } : Jvm.MethodName)) ∈ lw_all := lw_g (lw_at lw_m9 43 rfl) rfl
theorem q2050 : (Jvm.Cond.code ({ cls := "LineRemarks$World", name := "make", desc := "(IILLineRemarks$Revision;III)I" } : Jvm.MethodName) prog_26_method_6_code (7 : Nat) (Option.some Jvm.ClassFile.FieldType.int)) ∈ lw_all := lw_g (lw_at lw_m9 44 rfl) rfl
theorem q2051 : (Jvm.Cond.methodLink "LineRemarks$World" (55 : Nat) ({ cls := "LineRemarks", name := "ofKind", desc := "(IIILLineRemarks$Revision;III)LLineRemarks$Remark;" } : Jvm.MethodName)) ∈ lw_all := lw_g (lw_at lw_m9 45 rfl) rfl
theorem q2099 : (Jvm.Cond.fieldLink "LineRemarks$World" (59 : Nat) "LineRemarks$Remark" "answers" "I") ∈ lw_all := lw_g (lw_at lw_m9 93 rfl) rfl
theorem q2220 : (Jvm.Cond.instanceMethod ({ cls := "LineRemarks$World", name := "depth", desc := "(I)I" } : Jvm.MethodName)) ∈ lw_all := lw_g (lw_at lw_m9 214 rfl) rfl
theorem q2221 : (Jvm.Cond.selects "LineRemarks$World" ({ cls := "LineRemarks$World", name := "depth", desc := "(I)I" } : Jvm.MethodName) ({ cls := "LineRemarks$World", name := "depth", desc := "(I)I" } : Jvm.MethodName)) ∈ lw_all := lw_g (lw_at lw_m9 215 rfl) rfl
theorem q2222 : (Jvm.Cond.code ({ cls := "LineRemarks$World", name := "depth", desc := "(I)I" } : Jvm.MethodName) prog_26_method_7_code (3 : Nat) (Option.some Jvm.ClassFile.FieldType.int)) ∈ lw_all := lw_g (lw_at lw_m9 216 rfl) rfl
theorem q2223 : (Jvm.Cond.methodLink "LineRemarks$World" (62 : Nat) ({ cls := "LineRemarks$World", name := "depth", desc := "(I)I" } : Jvm.MethodName)) ∈ lw_all := lw_g (lw_at lw_m9 217 rfl) rfl
theorem q2225 : (Jvm.Cond.instanceMethod ({ cls := "LineRemarks$World", name := "answering", desc := "(I)I" } : Jvm.MethodName)) ∈ lw_all := lw_g (lw_at lw_m9 219 rfl) rfl
theorem q2226 : (Jvm.Cond.selects "LineRemarks$World" ({ cls := "LineRemarks$World", name := "answering", desc := "(I)I" } : Jvm.MethodName) ({ cls := "LineRemarks$World", name := "answering", desc := "(I)I" } : Jvm.MethodName)) ∈ lw_all := lw_g (lw_at lw_m9 220 rfl) rfl
theorem q2227 : (Jvm.Cond.code ({ cls := "LineRemarks$World", name := "answering", desc := "(I)I" } : Jvm.MethodName) prog_26_method_9_code (2 : Nat) (Option.some Jvm.ClassFile.FieldType.int)) ∈ lw_all := lw_g (lw_at lw_m9 221 rfl) rfl
theorem q2228 : (Jvm.Cond.methodLink "LineRemarks$World" (98 : Nat) ({ cls := "LineRemarks$World", name := "thread", desc := "(I)Ljava/util/BitSet;" } : Jvm.MethodName)) ∈ lw_all := lw_g (lw_at lw_m9 222 rfl) rfl
theorem q2229 : (Jvm.Cond.privateMethod ({ cls := "LineRemarks$World", name := "thread", desc := "(I)Ljava/util/BitSet;" } : Jvm.MethodName)) ∈ lw_tbl := lw_at lw_m9 223 rfl
theorem q2230 : (Jvm.Cond.instanceMethod ({ cls := "LineRemarks$World", name := "thread", desc := "(I)Ljava/util/BitSet;" } : Jvm.MethodName)) ∈ lw_all := lw_g (lw_at lw_m9 224 rfl) rfl
theorem q2231 : (Jvm.Cond.code ({ cls := "LineRemarks$World", name := "thread", desc := "(I)Ljava/util/BitSet;" } : Jvm.MethodName) prog_26_method_8_code (6 : Nat) (Option.some (Jvm.ClassFile.FieldType.object "java/util/BitSet"))) ∈ lw_all := lw_g (lw_at lw_m9 225 rfl) rfl
theorem q2232 : (Jvm.Cond.classLink "LineRemarks$World" (66 : Nat) "java/util/BitSet") ∈ lw_all := lw_g (lw_at lw_m9 226 rfl) rfl
theorem q2233 : (Jvm.Cond.methodLink "LineRemarks$World" (68 : Nat) ({ cls := "java/util/BitSet", name := "<init>", desc := "()V" } : Jvm.MethodName)) ∈ lw_all := lw_g (lw_at lw_m9 227 rfl) rfl
theorem q2234 : (Jvm.Cond.classLink "LineRemarks$World" (69 : Nat) "java/util/ArrayDeque") ∈ lw_all := lw_g (lw_at lw_m9 228 rfl) rfl
theorem q2235 : (Jvm.Cond.methodLink "LineRemarks$World" (71 : Nat) ({ cls := "java/util/ArrayDeque", name := "<init>", desc := "()V" } : Jvm.MethodName)) ∈ lw_all := lw_g (lw_at lw_m9 229 rfl) rfl
theorem q2236 : (Jvm.Cond.methodLink "LineRemarks$World" (72 : Nat) ({ cls := "java/lang/Integer", name := "valueOf", desc := "(I)Ljava/lang/Integer;" } : Jvm.MethodName)) ∈ lw_all := lw_g (lw_at lw_m9 230 rfl) rfl
theorem q2237 : (Jvm.Cond.methodLink "LineRemarks$World" (78 : Nat) ({ cls := "java/util/ArrayDeque", name := "addLast", desc := "(Ljava/lang/Object;)V" } : Jvm.MethodName)) ∈ lw_all := lw_g (lw_at lw_m9 231 rfl) rfl
theorem q2242 : (Jvm.Cond.methodLink "LineRemarks$World" (82 : Nat) ({ cls := "java/util/ArrayDeque", name := "isEmpty", desc := "()Z" } : Jvm.MethodName)) ∈ lw_all := lw_g (lw_at lw_m9 236 rfl) rfl
theorem q2246 : (Jvm.Cond.methodLink "LineRemarks$World" (86 : Nat) ({ cls := "java/util/ArrayDeque", name := "removeFirst", desc := "()Ljava/lang/Object;" } : Jvm.MethodName)) ∈ lw_all := lw_g (lw_at lw_m10 0 rfl) rfl
theorem q2257 : (Jvm.Cond.classLink "LineRemarks$World" (73 : Nat) "java/lang/Integer") ∈ lw_all := lw_g (lw_at lw_m10 11 rfl) rfl
theorem q2258 : (Jvm.Cond.methodLink "LineRemarks$World" (90 : Nat) ({ cls := "java/lang/Integer", name := "intValue", desc := "()I" } : Jvm.MethodName)) ∈ lw_all := lw_g (lw_at lw_m10 12 rfl) rfl
theorem q2262 : (Jvm.Cond.methodLink "LineRemarks$World" (94 : Nat) ({ cls := "java/util/BitSet", name := "set", desc := "(I)V" } : Jvm.MethodName)) ∈ lw_all := lw_g (lw_at lw_m10 16 rfl) rfl
theorem q2263 : (Jvm.Cond.methodLink "LineRemarks$World" (102 : Nat) ({ cls := "java/util/BitSet", name := "cardinality", desc := "()I" } : Jvm.MethodName)) ∈ lw_all := lw_g (lw_at lw_m10 17 rfl) rfl
theorem q2265 : (Jvm.Cond.instanceMethod ({ cls := "LineRemarks$World", name := "isOpen", desc := "(I)Z" } : Jvm.MethodName)) ∈ lw_all := lw_g (lw_at lw_m10 19 rfl) rfl
theorem q2266 : (Jvm.Cond.selects "LineRemarks$World" ({ cls := "LineRemarks$World", name := "isOpen", desc := "(I)Z" } : Jvm.MethodName) ({ cls := "LineRemarks$World", name := "isOpen", desc := "(I)Z" } : Jvm.MethodName)) ∈ lw_all := lw_g (lw_at lw_m10 20 rfl) rfl
theorem q2267 : (Jvm.Cond.code ({ cls := "LineRemarks$World", name := "isOpen", desc := "(I)Z" } : Jvm.MethodName) prog_26_method_10_code (4 : Nat) (Option.some Jvm.ClassFile.FieldType.boolean)) ∈ lw_all := lw_g (lw_at lw_m10 21 rfl) rfl
theorem q2268 : (Jvm.Cond.methodLink "LineRemarks$World" (105 : Nat) ({ cls := "java/util/BitSet", name := "nextSetBit", desc := "(I)I" } : Jvm.MethodName)) ∈ lw_all := lw_g (lw_at lw_m10 22 rfl) rfl
theorem q3037 : (Jvm.Cond.selects "LineRemarks$World" ({ cls := "java/lang/Object", name := "equals", desc := "(Ljava/lang/Object;)Z" } : Jvm.MethodName) ({ cls := "java/lang/Object", name := "equals", desc := "(Ljava/lang/Object;)Z" } : Jvm.MethodName)) ∈ lw_all := lw_g (lw_at lw_m13 71 rfl) rfl
theorem q3137 : (Jvm.Cond.instanceMethod ({ cls := "LineRemarks$World", name := "drift", desc := "()V" } : Jvm.MethodName)) ∈ lw_all := lw_g (lw_at lw_m13 171 rfl) rfl
theorem q3138 : (Jvm.Cond.selects "LineRemarks$World" ({ cls := "LineRemarks$World", name := "drift", desc := "()V" } : Jvm.MethodName) ({ cls := "LineRemarks$World", name := "drift", desc := "()V" } : Jvm.MethodName)) ∈ lw_all := lw_g (lw_at lw_m13 172 rfl) rfl
theorem q3139 : (Jvm.Cond.code ({ cls := "LineRemarks$World", name := "drift", desc := "()V" } : Jvm.MethodName) prog_26_method_13_code (7 : Nat) (Option.none : Option Jvm.ClassFile.FieldType)) ∈ lw_all := lw_g (lw_at lw_m13 173 rfl) rfl
theorem q3140 : (Jvm.Cond.classLink "LineRemarks$World" (114 : Nat) "java/util/LinkedList") ∈ lw_all := lw_g (lw_at lw_m13 174 rfl) rfl
theorem q3141 : (Jvm.Cond.methodLink "LineRemarks$World" (116 : Nat) ({ cls := "java/util/LinkedList", name := "<init>", desc := "()V" } : Jvm.MethodName)) ∈ lw_all := lw_g (lw_at lw_m13 175 rfl) rfl
theorem q3142 : (Jvm.Cond.methodLink "LineRemarks$World" (121 : Nat) ({ cls := "java/util/LinkedList", name := "addLast", desc := "(Ljava/lang/Object;)V" } : Jvm.MethodName)) ∈ lw_all := lw_g (lw_at lw_m13 176 rfl) rfl
theorem q3143 : (Jvm.Cond.methodLink "LineRemarks$World" (122 : Nat) ({ cls := "LineRemarks$World", name := "draw", desc := "(I)I" } : Jvm.MethodName)) ∈ lw_all := lw_g (lw_at lw_m13 177 rfl) rfl
theorem q3144 : (Jvm.Cond.instanceMethod ({ cls := "LineRemarks$World", name := "draw", desc := "(I)I" } : Jvm.MethodName)) ∈ lw_all := lw_g (lw_at lw_m13 178 rfl) rfl
theorem q3145 : (Jvm.Cond.selects "LineRemarks$World" ({ cls := "LineRemarks$World", name := "draw", desc := "(I)I" } : Jvm.MethodName) ({ cls := "LineRemarks$World", name := "draw", desc := "(I)I" } : Jvm.MethodName)) ∈ lw_all := lw_g (lw_at lw_m13 179 rfl) rfl
theorem q3146 : (Jvm.Cond.code ({ cls := "LineRemarks$World", name := "draw", desc := "(I)I" } : Jvm.MethodName) prog_26_method_11_code (2 : Nat) (Option.some Jvm.ClassFile.FieldType.int)) ∈ lw_all := lw_g (lw_at lw_m13 180 rfl) rfl
theorem q3147 : (Jvm.Cond.constant "LineRemarks$World" (108 : Nat) (1103515245 : Int32)) ∈ lw_all := lw_g (lw_at lw_m13 181 rfl) rfl
theorem q3148 : (Jvm.Cond.methodLink "LineRemarks$World" (125 : Nat) ({ cls := "java/util/LinkedList", name := "isEmpty", desc := "()Z" } : Jvm.MethodName)) ∈ lw_all := lw_g (lw_at lw_m13 182 rfl) rfl
theorem q3155 : (Jvm.Cond.methodLink "LineRemarks$World" (126 : Nat) ({ cls := "java/util/LinkedList", name := "size", desc := "()I" } : Jvm.MethodName)) ∈ lw_all := lw_g (lw_at lw_m13 189 rfl) rfl
theorem q3156 : (Jvm.Cond.methodLink "LineRemarks$World" (129 : Nat) ({ cls := "LineRemarks$World", name := "ofLetter", desc := "(I)LLineRemarks$Line;" } : Jvm.MethodName)) ∈ lw_all := lw_g (lw_at lw_m13 190 rfl) rfl
theorem q3157 : (Jvm.Cond.static ({ cls := "LineRemarks$World", name := "ofLetter", desc := "(I)LLineRemarks$Line;" } : Jvm.MethodName)) ∈ lw_all := lw_g (lw_at lw_m13 191 rfl) rfl
theorem q3158 : (Jvm.Cond.code ({ cls := "LineRemarks$World", name := "ofLetter", desc := "(I)LLineRemarks$Line;" } : Jvm.MethodName) prog_26_method_12_code (2 : Nat) (Option.some (Jvm.ClassFile.FieldType.object "LineRemarks$Line"))) ∈ lw_all := lw_g (lw_at lw_m13 192 rfl) rfl
theorem q3159 : (Jvm.Cond.classLink "LineRemarks$World" (109 : Nat) "LineRemarks$Line") ∈ lw_all := lw_g (lw_at lw_m13 193 rfl) rfl
theorem q3160 : (Jvm.Cond.methodLink "LineRemarks$World" (111 : Nat) ({ cls := "LineRemarks$Line", name := "<init>", desc := "([CI)V" } : Jvm.MethodName)) ∈ lw_all := lw_g (lw_at lw_m13 194 rfl) rfl
theorem q3161 : (Jvm.Cond.methodLink "LineRemarks$World" (133 : Nat) ({ cls := "java/util/LinkedList", name := "add", desc := "(ILjava/lang/Object;)V" } : Jvm.MethodName)) ∈ lw_all := lw_g (lw_at lw_m13 195 rfl) rfl
theorem q3162 : (Jvm.Cond.methodLink "LineRemarks$World" (137 : Nat) ({ cls := "java/util/LinkedList", name := "remove", desc := "(I)Ljava/lang/Object;" } : Jvm.MethodName)) ∈ lw_all := lw_g (lw_at lw_m13 196 rfl) rfl
theorem q3163 : (Jvm.Cond.methodLink "LineRemarks$World" (141 : Nat) ({ cls := "java/util/LinkedList", name := "addFirst", desc := "(Ljava/lang/Object;)V" } : Jvm.MethodName)) ∈ lw_all := lw_g (lw_at lw_m13 197 rfl) rfl
theorem q3171 : (Jvm.Cond.methodLink "LineRemarks$World" (144 : Nat) ({ cls := "java/util/LinkedList", name := "set", desc := "(ILjava/lang/Object;)Ljava/lang/Object;" } : Jvm.MethodName)) ∈ lw_all := lw_g (lw_at lw_m13 205 rfl) rfl
theorem q3172 : (Jvm.Cond.methodLink "LineRemarks$World" (147 : Nat) ({ cls := "LineRemarks", name := "rowOf", desc := "(Ljava/util/List;)[LLineRemarks$Line;" } : Jvm.MethodName)) ∈ lw_all := lw_g (lw_at lw_m13 206 rfl) rfl
theorem q3173 : (Jvm.Cond.methodLink "LineRemarks$World" (151 : Nat) ({ cls := "LineRemarks$World", name := "add", desc := "(LLineRemarks$Revision;[LLineRemarks$Line;)I" } : Jvm.MethodName)) ∈ lw_all := lw_g (lw_at lw_m13 207 rfl) rfl
theorem q3264 : (Jvm.Cond.instanceMethod ({ cls := "LineRemarks$World", name := "take", desc := "(LLineRemarks$World;)LLineRemarks$World;" } : Jvm.MethodName)) ∈ lw_all := lw_g (lw_at lw_m14 58 rfl) rfl
theorem q3265 : (Jvm.Cond.selects "LineRemarks$World" ({ cls := "LineRemarks$World", name := "take", desc := "(LLineRemarks$World;)LLineRemarks$World;" } : Jvm.MethodName) ({ cls := "LineRemarks$World", name := "take", desc := "(LLineRemarks$World;)LLineRemarks$World;" } : Jvm.MethodName)) ∈ lw_all := lw_g (lw_at lw_m14 59 rfl) rfl
theorem q3266 : (Jvm.Cond.code ({ cls := "LineRemarks$World", name := "take", desc := "(LLineRemarks$World;)LLineRemarks$World;" } : Jvm.MethodName) prog_26_method_2_code (2 : Nat) (Option.some (Jvm.ClassFile.FieldType.object "LineRemarks$World"))) ∈ lw_all := lw_g (lw_at lw_m14 60 rfl) rfl
theorem q3267 : (Jvm.Cond.methodLink "LineRemarks$World" (46 : Nat) ({ cls := "java/lang/System", name := "arraycopy", desc := "(Ljava/lang/Object;ILjava/lang/Object;II)V" } : Jvm.MethodName)) ∈ lw_all := lw_g (lw_at lw_m14 61 rfl) rfl
theorem q3805 : (Jvm.Cond.castable "LineRemarks$World" "java/lang/Object") ∈ lw_tbl := lw_at lw_m16 119 rfl
theorem in_X2 : ∀ w ∈ wsX20, w ∈ lw_all := lw_in wsX20 [354, 356, 358, 360, 362, 364, 366, 368, 370] (by decide +kernel) (by decide +kernel)
/-! LineRemarks$Shelf -/
set_option maxRecDepth 100000
def RX3 : String := "LineRemarks$Shelf"
def TX3 : u_T := fun k => match k with
  | _ => ("LineRemarks$Shelf", "held", "Ljava/lang/Object;", false)
def tyX3 : Nat → FieldType := fun k => match k with
  | _ => .object "java/lang/Object"
abbrev wsX30 : List Cond := u_ws RX3 TX3 1
theorem nmX3 : ∀ a, a < 1 → ∀ b, b < 1 → a ≠ b → (TX3 a).2.1 ≠ (TX3 b).2.1 := by decide +kernel
theorem tyX3_ok : ∀ k, k < 1 → parseFieldDescriptor (TX3 k).2.2.1 = some (tyX3 k) := by decide +kernel
abbrev cX3_init : ByteArray := prog_19_method_1_code
def yX3_init : MethodName := ⟨RX3, "<init>", "()V"⟩
theorem dX3_init_0 : decode cX3_init 0 = .ok (.aload_n 0, 1) := by decide +kernel
theorem dX3_init_1 : decode cX3_init 1 = .ok (.invokespecial 3, 3) := by decide +kernel
theorem dX3_init_4 : decode cX3_init 4 = .ok (.return_, 1) := by decide +kernel
abbrev cX3_row : ByteArray := prog_19_method_2_code
def yX3_row : MethodName := ⟨RX3, "row", "()LLineRemarks$Row;"⟩
def dkwX3_row_1 : List UInt8 := [76, 187, 0, 23, 89, 16, 254, 183, 0, 25, 191]
abbrev dktX3_row_1 : List UInt8 := dkwX3_row_1 ++ []
def dkwX3_row_0 : List UInt8 := [42, 180, 0, 9, 192, 0, 15, 76, 43, 198, 0, 7, 4, 167, 0, 4, 3, 16, 253, 184, 0, 17, 43, 176]
abbrev dktX3_row_0 : List UInt8 := dkwX3_row_0 ++ dktX3_row_1
theorem dksX3_row_0 : cX3_row.data.toList.drop 0 = dktX3_row_0 := by decide +kernel
theorem dksX3_row_1 : cX3_row.data.toList.drop 24 = dktX3_row_1 := dk_seg dksX3_row_0 24 rfl rfl
theorem dX3_row_0 : decode cX3_row 0 = .ok (.aload_n 0, 1) := dk_42 (dk_at dksX3_row_0 0 rfl rfl)
theorem dX3_row_1 : decode cX3_row 1 = .ok (.getfield 9, 3) := dk_180 0 9 (dk_at dksX3_row_0 1 rfl rfl)
theorem dX3_row_4 : decode cX3_row 4 = .ok (.checkcast 15, 3) := dk_192 0 15 (dk_at dksX3_row_0 4 rfl rfl)
theorem dX3_row_7 : decode cX3_row 7 = .ok (.astore_n 1, 1) := dk_76 (dk_at dksX3_row_0 7 rfl rfl)
theorem dX3_row_8 : decode cX3_row 8 = .ok (.aload_n 1, 1) := dk_43 (dk_at dksX3_row_0 8 rfl rfl)
theorem dX3_row_9 : decode cX3_row 9 = .ok (.ifnull 7, 3) := dk_198 0 7 (dk_at dksX3_row_0 9 rfl rfl)
theorem dX3_row_12 : decode cX3_row 12 = .ok (.iconst 1, 1) := dk_4 (dk_at dksX3_row_0 12 rfl rfl)
theorem dX3_row_13 : decode cX3_row 13 = .ok (.goto 4, 3) := dk_167 0 4 (dk_at dksX3_row_0 13 rfl rfl)
theorem dX3_row_16 : decode cX3_row 16 = .ok (.iconst 0, 1) := dk_3 (dk_at dksX3_row_0 16 rfl rfl)
theorem dX3_row_17 : decode cX3_row 17 = .ok (.bipush (-3), 2) := dk_16 253 (dk_at dksX3_row_0 17 rfl rfl)
theorem dX3_row_19 : decode cX3_row 19 = .ok (.invokestatic 17, 3) := dk_184 0 17 (dk_at dksX3_row_0 19 rfl rfl)
theorem dX3_row_22 : decode cX3_row 22 = .ok (.aload_n 1, 1) := dk_43 (dk_at dksX3_row_0 22 rfl rfl)
theorem dX3_row_23 : decode cX3_row 23 = .ok (.areturn, 1) := dk_176 (dk_at dksX3_row_0 23 rfl rfl)
theorem dX3_row_24 : decode cX3_row 24 = .ok (.astore_n 1, 1) := dk_76 (dk_at dksX3_row_1 0 rfl rfl)
theorem dX3_row_25 : decode cX3_row 25 = .ok (.new 23, 3) := dk_187 0 23 (dk_at dksX3_row_1 1 rfl rfl)
theorem dX3_row_28 : decode cX3_row 28 = .ok (.dup, 1) := dk_89 (dk_at dksX3_row_1 4 rfl rfl)
theorem dX3_row_29 : decode cX3_row 29 = .ok (.bipush (-2), 2) := dk_16 254 (dk_at dksX3_row_1 5 rfl rfl)
theorem dX3_row_31 : decode cX3_row 31 = .ok (.invokespecial 25, 3) := dk_183 0 25 (dk_at dksX3_row_1 7 rfl rfl)
theorem dX3_row_34 : decode cX3_row 34 = .ok (.athrow, 1) := dk_191 (dk_at dksX3_row_1 10 rfl rfl)
abbrev cX3_holdsRemark : ByteArray := prog_19_method_3_code
def yX3_holdsRemark : MethodName := ⟨RX3, "holdsRemark", "()Z"⟩
def dkwX3_holdsRemark_0 : List UInt8 := [42, 180, 0, 9, 193, 0, 28, 172]
abbrev dktX3_holdsRemark_0 : List UInt8 := dkwX3_holdsRemark_0 ++ []
theorem dksX3_holdsRemark_0 : cX3_holdsRemark.data.toList.drop 0 = dktX3_holdsRemark_0 := by decide +kernel
theorem dX3_holdsRemark_0 : decode cX3_holdsRemark 0 = .ok (.aload_n 0, 1) := dk_42 (dk_at dksX3_holdsRemark_0 0 rfl rfl)
theorem dX3_holdsRemark_1 : decode cX3_holdsRemark 1 = .ok (.getfield 9, 3) := dk_180 0 9 (dk_at dksX3_holdsRemark_0 1 rfl rfl)
theorem dX3_holdsRemark_4 : decode cX3_holdsRemark 4 = .ok (.instanceof 28, 3) := dk_193 0 28 (dk_at dksX3_holdsRemark_0 4 rfl rfl)
theorem dX3_holdsRemark_7 : decode cX3_holdsRemark 7 = .ok (.ireturn, 1) := dk_172 (dk_at dksX3_holdsRemark_0 7 rfl rfl)
abbrev cX3_says : ByteArray := prog_19_method_5_code
def yX3_says : MethodName := ⟨RX3, "says", "(I)I"⟩
def dkwX3_says_10 : List UInt8 := [167, 0, 4, 3, 16, 253, 184, 0, 17, 28, 172, 77, 187, 0, 23, 89, 16, 254, 183, 0, 25, 191]
abbrev dktX3_says_10 : List UInt8 := dkwX3_says_10 ++ []
def dkwX3_says_9 : List UInt8 := [2, 167, 0, 13, 42, 180, 0, 9, 192, 0, 28, 180, 0, 67, 61, 42, 180, 0, 9, 198, 0, 7, 4]
abbrev dktX3_says_9 : List UInt8 := dkwX3_says_9 ++ dktX3_says_10
def dkwX3_says_8 : List UInt8 := [42, 180, 0, 9, 192, 0, 56, 180, 0, 58, 180, 0, 62, 61, 167, 0, 25, 42, 180, 0, 9, 199, 0, 7]
abbrev dktX3_says_8 : List UInt8 := dkwX3_says_8 ++ dktX3_says_9
def dkwX3_says_7 : List UInt8 := [180, 0, 9, 192, 0, 54, 184, 0, 44, 61, 167, 0, 53, 42, 180, 0, 9, 199, 0, 7, 2, 167, 0, 16]
abbrev dktX3_says_7 : List UInt8 := dkwX3_says_7 ++ dktX3_says_8
def dkwX3_says_6 : List UInt8 := [192, 0, 51, 180, 0, 53, 61, 167, 0, 78, 42, 180, 0, 9, 199, 0, 7, 2, 167, 0, 13, 42]
abbrev dktX3_says_6 : List UInt8 := dkwX3_says_6 ++ dktX3_says_7
def dkwX3_says_5 : List UInt8 := [180, 0, 50, 61, 167, 0, 103, 42, 180, 0, 9, 199, 0, 7, 2, 167, 0, 13, 42, 180, 0, 9]
abbrev dktX3_says_5 : List UInt8 := dkwX3_says_5 ++ dktX3_says_6
def dkwX3_says_4 : List UInt8 := [61, 167, 0, 128, 42, 180, 0, 9, 199, 0, 7, 2, 167, 0, 13, 42, 180, 0, 9, 192, 0, 48]
abbrev dktX3_says_4 : List UInt8 := dkwX3_says_4 ++ dktX3_says_5
def dkwX3_says_3 : List UInt8 := [167, 0, 153, 42, 180, 0, 9, 199, 0, 7, 2, 167, 0, 13, 42, 180, 0, 9, 192, 0, 31, 184, 0, 44]
abbrev dktX3_says_3 : List UInt8 := dkwX3_says_3 ++ dktX3_says_4
def dkwX3_says_2 : List UInt8 := [42, 180, 0, 9, 199, 0, 7, 2, 167, 0, 13, 42, 180, 0, 9, 192, 0, 39, 180, 0, 41, 61]
abbrev dktX3_says_2 : List UInt8 := dkwX3_says_2 ++ dktX3_says_3
def dkwX3_says_1 : List UInt8 := [170, 0, 0, 0, 0, 0, 192, 0, 0, 0, 1, 0, 0, 0, 6, 0, 0, 0, 39, 0, 0, 0, 64, 0, 0, 0, 89, 0, 0, 0, 114, 0, 0, 0, 139, 0, 0, 0, 164]
abbrev dktX3_says_1 : List UInt8 := dkwX3_says_1 ++ dktX3_says_2
def dkwX3_says_0 : List UInt8 := [27]
abbrev dktX3_says_0 : List UInt8 := dkwX3_says_0 ++ dktX3_says_1
theorem dksX3_says_0 : cX3_says.data.toList.drop 0 = dktX3_says_0 := by decide +kernel
theorem dksX3_says_1 : cX3_says.data.toList.drop 1 = dktX3_says_1 := dk_seg dksX3_says_0 1 rfl rfl
theorem dksX3_says_2 : cX3_says.data.toList.drop 40 = dktX3_says_2 := dk_seg dksX3_says_1 39 rfl rfl
theorem dksX3_says_3 : cX3_says.data.toList.drop 62 = dktX3_says_3 := dk_seg dksX3_says_2 22 rfl rfl
theorem dksX3_says_4 : cX3_says.data.toList.drop 86 = dktX3_says_4 := dk_seg dksX3_says_3 24 rfl rfl
theorem dksX3_says_5 : cX3_says.data.toList.drop 108 = dktX3_says_5 := dk_seg dksX3_says_4 22 rfl rfl
theorem dksX3_says_6 : cX3_says.data.toList.drop 130 = dktX3_says_6 := dk_seg dksX3_says_5 22 rfl rfl
theorem dksX3_says_7 : cX3_says.data.toList.drop 152 = dktX3_says_7 := dk_seg dksX3_says_6 22 rfl rfl
theorem dksX3_says_8 : cX3_says.data.toList.drop 176 = dktX3_says_8 := dk_seg dksX3_says_7 24 rfl rfl
theorem dksX3_says_9 : cX3_says.data.toList.drop 200 = dktX3_says_9 := dk_seg dksX3_says_8 24 rfl rfl
theorem dksX3_says_10 : cX3_says.data.toList.drop 223 = dktX3_says_10 := dk_seg dksX3_says_9 23 rfl rfl
theorem dX3_says_0 : decode cX3_says 0 = .ok (.iload_n 1, 1) := dk_27 (dk_at dksX3_says_0 0 rfl rfl)
theorem dX3_says_1 : decode cX3_says 1 = .ok (.tableswitch 192 1 6 #[39, 64, 89, 114, 139, 164], 39) := by decide +kernel
theorem dX3_says_40 : decode cX3_says 40 = .ok (.aload_n 0, 1) := dk_42 (dk_at dksX3_says_2 0 rfl rfl)
theorem dX3_says_41 : decode cX3_says 41 = .ok (.getfield 9, 3) := dk_180 0 9 (dk_at dksX3_says_2 1 rfl rfl)
theorem dX3_says_44 : decode cX3_says 44 = .ok (.ifnonnull 7, 3) := dk_199 0 7 (dk_at dksX3_says_2 4 rfl rfl)
theorem dX3_says_47 : decode cX3_says 47 = .ok (.iconst (-1), 1) := dk_2 (dk_at dksX3_says_2 7 rfl rfl)
theorem dX3_says_48 : decode cX3_says 48 = .ok (.goto 13, 3) := dk_167 0 13 (dk_at dksX3_says_2 8 rfl rfl)
theorem dX3_says_51 : decode cX3_says 51 = .ok (.aload_n 0, 1) := dk_42 (dk_at dksX3_says_2 11 rfl rfl)
theorem dX3_says_52 : decode cX3_says 52 = .ok (.getfield 9, 3) := dk_180 0 9 (dk_at dksX3_says_2 12 rfl rfl)
theorem dX3_says_55 : decode cX3_says 55 = .ok (.checkcast 39, 3) := dk_192 0 39 (dk_at dksX3_says_2 15 rfl rfl)
theorem dX3_says_58 : decode cX3_says 58 = .ok (.getfield 41, 3) := dk_180 0 41 (dk_at dksX3_says_2 18 rfl rfl)
theorem dX3_says_61 : decode cX3_says 61 = .ok (.istore_n 2, 1) := dk_61 (dk_at dksX3_says_2 21 rfl rfl)
theorem dX3_says_62 : decode cX3_says 62 = .ok (.goto 153, 3) := dk_167 0 153 (dk_at dksX3_says_3 0 rfl rfl)
theorem dX3_says_65 : decode cX3_says 65 = .ok (.aload_n 0, 1) := dk_42 (dk_at dksX3_says_3 3 rfl rfl)
theorem dX3_says_66 : decode cX3_says 66 = .ok (.getfield 9, 3) := dk_180 0 9 (dk_at dksX3_says_3 4 rfl rfl)
theorem dX3_says_69 : decode cX3_says 69 = .ok (.ifnonnull 7, 3) := dk_199 0 7 (dk_at dksX3_says_3 7 rfl rfl)
theorem dX3_says_72 : decode cX3_says 72 = .ok (.iconst (-1), 1) := dk_2 (dk_at dksX3_says_3 10 rfl rfl)
theorem dX3_says_73 : decode cX3_says 73 = .ok (.goto 13, 3) := dk_167 0 13 (dk_at dksX3_says_3 11 rfl rfl)
theorem dX3_says_76 : decode cX3_says 76 = .ok (.aload_n 0, 1) := dk_42 (dk_at dksX3_says_3 14 rfl rfl)
theorem dX3_says_77 : decode cX3_says 77 = .ok (.getfield 9, 3) := dk_180 0 9 (dk_at dksX3_says_3 15 rfl rfl)
theorem dX3_says_80 : decode cX3_says 80 = .ok (.checkcast 31, 3) := dk_192 0 31 (dk_at dksX3_says_3 18 rfl rfl)
theorem dX3_says_83 : decode cX3_says 83 = .ok (.invokestatic 44, 3) := dk_184 0 44 (dk_at dksX3_says_3 21 rfl rfl)
theorem dX3_says_86 : decode cX3_says 86 = .ok (.istore_n 2, 1) := dk_61 (dk_at dksX3_says_4 0 rfl rfl)
theorem dX3_says_87 : decode cX3_says 87 = .ok (.goto 128, 3) := dk_167 0 128 (dk_at dksX3_says_4 1 rfl rfl)
theorem dX3_says_90 : decode cX3_says 90 = .ok (.aload_n 0, 1) := dk_42 (dk_at dksX3_says_4 4 rfl rfl)
theorem dX3_says_91 : decode cX3_says 91 = .ok (.getfield 9, 3) := dk_180 0 9 (dk_at dksX3_says_4 5 rfl rfl)
theorem dX3_says_94 : decode cX3_says 94 = .ok (.ifnonnull 7, 3) := dk_199 0 7 (dk_at dksX3_says_4 8 rfl rfl)
theorem dX3_says_97 : decode cX3_says 97 = .ok (.iconst (-1), 1) := dk_2 (dk_at dksX3_says_4 11 rfl rfl)
theorem dX3_says_98 : decode cX3_says 98 = .ok (.goto 13, 3) := dk_167 0 13 (dk_at dksX3_says_4 12 rfl rfl)
theorem dX3_says_101 : decode cX3_says 101 = .ok (.aload_n 0, 1) := dk_42 (dk_at dksX3_says_4 15 rfl rfl)
theorem dX3_says_102 : decode cX3_says 102 = .ok (.getfield 9, 3) := dk_180 0 9 (dk_at dksX3_says_4 16 rfl rfl)
theorem dX3_says_105 : decode cX3_says 105 = .ok (.checkcast 48, 3) := dk_192 0 48 (dk_at dksX3_says_4 19 rfl rfl)
theorem dX3_says_108 : decode cX3_says 108 = .ok (.getfield 50, 3) := dk_180 0 50 (dk_at dksX3_says_5 0 rfl rfl)
theorem dX3_says_111 : decode cX3_says 111 = .ok (.istore_n 2, 1) := dk_61 (dk_at dksX3_says_5 3 rfl rfl)
theorem dX3_says_112 : decode cX3_says 112 = .ok (.goto 103, 3) := dk_167 0 103 (dk_at dksX3_says_5 4 rfl rfl)
theorem dX3_says_115 : decode cX3_says 115 = .ok (.aload_n 0, 1) := dk_42 (dk_at dksX3_says_5 7 rfl rfl)
theorem dX3_says_116 : decode cX3_says 116 = .ok (.getfield 9, 3) := dk_180 0 9 (dk_at dksX3_says_5 8 rfl rfl)
theorem dX3_says_119 : decode cX3_says 119 = .ok (.ifnonnull 7, 3) := dk_199 0 7 (dk_at dksX3_says_5 11 rfl rfl)
theorem dX3_says_122 : decode cX3_says 122 = .ok (.iconst (-1), 1) := dk_2 (dk_at dksX3_says_5 14 rfl rfl)
theorem dX3_says_123 : decode cX3_says 123 = .ok (.goto 13, 3) := dk_167 0 13 (dk_at dksX3_says_5 15 rfl rfl)
theorem dX3_says_126 : decode cX3_says 126 = .ok (.aload_n 0, 1) := dk_42 (dk_at dksX3_says_5 18 rfl rfl)
theorem dX3_says_127 : decode cX3_says 127 = .ok (.getfield 9, 3) := dk_180 0 9 (dk_at dksX3_says_5 19 rfl rfl)
theorem dX3_says_130 : decode cX3_says 130 = .ok (.checkcast 51, 3) := dk_192 0 51 (dk_at dksX3_says_6 0 rfl rfl)
theorem dX3_says_133 : decode cX3_says 133 = .ok (.getfield 53, 3) := dk_180 0 53 (dk_at dksX3_says_6 3 rfl rfl)
theorem dX3_says_136 : decode cX3_says 136 = .ok (.istore_n 2, 1) := dk_61 (dk_at dksX3_says_6 6 rfl rfl)
theorem dX3_says_137 : decode cX3_says 137 = .ok (.goto 78, 3) := dk_167 0 78 (dk_at dksX3_says_6 7 rfl rfl)
theorem dX3_says_140 : decode cX3_says 140 = .ok (.aload_n 0, 1) := dk_42 (dk_at dksX3_says_6 10 rfl rfl)
theorem dX3_says_141 : decode cX3_says 141 = .ok (.getfield 9, 3) := dk_180 0 9 (dk_at dksX3_says_6 11 rfl rfl)
theorem dX3_says_144 : decode cX3_says 144 = .ok (.ifnonnull 7, 3) := dk_199 0 7 (dk_at dksX3_says_6 14 rfl rfl)
theorem dX3_says_147 : decode cX3_says 147 = .ok (.iconst (-1), 1) := dk_2 (dk_at dksX3_says_6 17 rfl rfl)
theorem dX3_says_148 : decode cX3_says 148 = .ok (.goto 13, 3) := dk_167 0 13 (dk_at dksX3_says_6 18 rfl rfl)
theorem dX3_says_151 : decode cX3_says 151 = .ok (.aload_n 0, 1) := dk_42 (dk_at dksX3_says_6 21 rfl rfl)
theorem dX3_says_152 : decode cX3_says 152 = .ok (.getfield 9, 3) := dk_180 0 9 (dk_at dksX3_says_7 0 rfl rfl)
theorem dX3_says_155 : decode cX3_says 155 = .ok (.checkcast 54, 3) := dk_192 0 54 (dk_at dksX3_says_7 3 rfl rfl)
theorem dX3_says_158 : decode cX3_says 158 = .ok (.invokestatic 44, 3) := dk_184 0 44 (dk_at dksX3_says_7 6 rfl rfl)
theorem dX3_says_161 : decode cX3_says 161 = .ok (.istore_n 2, 1) := dk_61 (dk_at dksX3_says_7 9 rfl rfl)
theorem dX3_says_162 : decode cX3_says 162 = .ok (.goto 53, 3) := dk_167 0 53 (dk_at dksX3_says_7 10 rfl rfl)
theorem dX3_says_165 : decode cX3_says 165 = .ok (.aload_n 0, 1) := dk_42 (dk_at dksX3_says_7 13 rfl rfl)
theorem dX3_says_166 : decode cX3_says 166 = .ok (.getfield 9, 3) := dk_180 0 9 (dk_at dksX3_says_7 14 rfl rfl)
theorem dX3_says_169 : decode cX3_says 169 = .ok (.ifnonnull 7, 3) := dk_199 0 7 (dk_at dksX3_says_7 17 rfl rfl)
theorem dX3_says_172 : decode cX3_says 172 = .ok (.iconst (-1), 1) := dk_2 (dk_at dksX3_says_7 20 rfl rfl)
theorem dX3_says_173 : decode cX3_says 173 = .ok (.goto 16, 3) := dk_167 0 16 (dk_at dksX3_says_7 21 rfl rfl)
theorem dX3_says_176 : decode cX3_says 176 = .ok (.aload_n 0, 1) := dk_42 (dk_at dksX3_says_8 0 rfl rfl)
theorem dX3_says_177 : decode cX3_says 177 = .ok (.getfield 9, 3) := dk_180 0 9 (dk_at dksX3_says_8 1 rfl rfl)
theorem dX3_says_180 : decode cX3_says 180 = .ok (.checkcast 56, 3) := dk_192 0 56 (dk_at dksX3_says_8 4 rfl rfl)
theorem dX3_says_183 : decode cX3_says 183 = .ok (.getfield 58, 3) := dk_180 0 58 (dk_at dksX3_says_8 7 rfl rfl)
theorem dX3_says_186 : decode cX3_says 186 = .ok (.getfield 62, 3) := dk_180 0 62 (dk_at dksX3_says_8 10 rfl rfl)
theorem dX3_says_189 : decode cX3_says 189 = .ok (.istore_n 2, 1) := dk_61 (dk_at dksX3_says_8 13 rfl rfl)
theorem dX3_says_190 : decode cX3_says 190 = .ok (.goto 25, 3) := dk_167 0 25 (dk_at dksX3_says_8 14 rfl rfl)
theorem dX3_says_193 : decode cX3_says 193 = .ok (.aload_n 0, 1) := dk_42 (dk_at dksX3_says_8 17 rfl rfl)
theorem dX3_says_194 : decode cX3_says 194 = .ok (.getfield 9, 3) := dk_180 0 9 (dk_at dksX3_says_8 18 rfl rfl)
theorem dX3_says_197 : decode cX3_says 197 = .ok (.ifnonnull 7, 3) := dk_199 0 7 (dk_at dksX3_says_8 21 rfl rfl)
theorem dX3_says_200 : decode cX3_says 200 = .ok (.iconst (-1), 1) := dk_2 (dk_at dksX3_says_9 0 rfl rfl)
theorem dX3_says_201 : decode cX3_says 201 = .ok (.goto 13, 3) := dk_167 0 13 (dk_at dksX3_says_9 1 rfl rfl)
theorem dX3_says_204 : decode cX3_says 204 = .ok (.aload_n 0, 1) := dk_42 (dk_at dksX3_says_9 4 rfl rfl)
theorem dX3_says_205 : decode cX3_says 205 = .ok (.getfield 9, 3) := dk_180 0 9 (dk_at dksX3_says_9 5 rfl rfl)
theorem dX3_says_208 : decode cX3_says 208 = .ok (.checkcast 28, 3) := dk_192 0 28 (dk_at dksX3_says_9 8 rfl rfl)
theorem dX3_says_211 : decode cX3_says 211 = .ok (.getfield 67, 3) := dk_180 0 67 (dk_at dksX3_says_9 11 rfl rfl)
theorem dX3_says_214 : decode cX3_says 214 = .ok (.istore_n 2, 1) := dk_61 (dk_at dksX3_says_9 14 rfl rfl)
theorem dX3_says_215 : decode cX3_says 215 = .ok (.aload_n 0, 1) := dk_42 (dk_at dksX3_says_9 15 rfl rfl)
theorem dX3_says_216 : decode cX3_says 216 = .ok (.getfield 9, 3) := dk_180 0 9 (dk_at dksX3_says_9 16 rfl rfl)
theorem dX3_says_219 : decode cX3_says 219 = .ok (.ifnull 7, 3) := dk_198 0 7 (dk_at dksX3_says_9 19 rfl rfl)
theorem dX3_says_222 : decode cX3_says 222 = .ok (.iconst 1, 1) := dk_4 (dk_at dksX3_says_9 22 rfl rfl)
theorem dX3_says_223 : decode cX3_says 223 = .ok (.goto 4, 3) := dk_167 0 4 (dk_at dksX3_says_10 0 rfl rfl)
theorem dX3_says_226 : decode cX3_says 226 = .ok (.iconst 0, 1) := dk_3 (dk_at dksX3_says_10 3 rfl rfl)
theorem dX3_says_227 : decode cX3_says 227 = .ok (.bipush (-3), 2) := dk_16 253 (dk_at dksX3_says_10 4 rfl rfl)
theorem dX3_says_229 : decode cX3_says 229 = .ok (.invokestatic 17, 3) := dk_184 0 17 (dk_at dksX3_says_10 6 rfl rfl)
theorem dX3_says_232 : decode cX3_says 232 = .ok (.iload_n 2, 1) := dk_28 (dk_at dksX3_says_10 9 rfl rfl)
theorem dX3_says_233 : decode cX3_says 233 = .ok (.ireturn, 1) := dk_172 (dk_at dksX3_says_10 10 rfl rfl)
theorem dX3_says_234 : decode cX3_says 234 = .ok (.astore_n 2, 1) := dk_77 (dk_at dksX3_says_10 11 rfl rfl)
theorem dX3_says_235 : decode cX3_says 235 = .ok (.new 23, 3) := dk_187 0 23 (dk_at dksX3_says_10 12 rfl rfl)
theorem dX3_says_238 : decode cX3_says 238 = .ok (.dup, 1) := dk_89 (dk_at dksX3_says_10 15 rfl rfl)
theorem dX3_says_239 : decode cX3_says 239 = .ok (.bipush (-2), 2) := dk_16 254 (dk_at dksX3_says_10 16 rfl rfl)
theorem dX3_says_241 : decode cX3_says 241 = .ok (.invokespecial 25, 3) := dk_183 0 25 (dk_at dksX3_says_10 18 rfl rfl)
theorem dX3_says_244 : decode cX3_says 244 = .ok (.athrow, 1) := dk_191 (dk_at dksX3_says_10 21 rfl rfl)
abbrev cX3_length : ByteArray := prog_19_method_4_code
def yX3_length : MethodName := ⟨RX3, "length", "(LLineRemarks$Block;)I"⟩
def dkwX3_length_0 : List UInt8 := [42, 180, 0, 30, 42, 180, 0, 36, 100, 4, 96, 172]
abbrev dktX3_length_0 : List UInt8 := dkwX3_length_0 ++ []
theorem dksX3_length_0 : cX3_length.data.toList.drop 0 = dktX3_length_0 := by decide +kernel
theorem dX3_length_0 : decode cX3_length 0 = .ok (.aload_n 0, 1) := dk_42 (dk_at dksX3_length_0 0 rfl rfl)
theorem dX3_length_1 : decode cX3_length 1 = .ok (.getfield 30, 3) := dk_180 0 30 (dk_at dksX3_length_0 1 rfl rfl)
theorem dX3_length_4 : decode cX3_length 4 = .ok (.aload_n 0, 1) := dk_42 (dk_at dksX3_length_0 4 rfl rfl)
theorem dX3_length_5 : decode cX3_length 5 = .ok (.getfield 36, 3) := dk_180 0 36 (dk_at dksX3_length_0 5 rfl rfl)
theorem dX3_length_8 : decode cX3_length 8 = .ok (.isub, 1) := dk_100 (dk_at dksX3_length_0 8 rfl rfl)
theorem dX3_length_9 : decode cX3_length 9 = .ok (.iconst 1, 1) := dk_4 (dk_at dksX3_length_0 9 rfl rfl)
theorem dX3_length_10 : decode cX3_length 10 = .ok (.iadd, 1) := dk_96 (dk_at dksX3_length_0 10 rfl rfl)
theorem dX3_length_11 : decode cX3_length 11 = .ok (.ireturn, 1) := dk_172 (dk_at dksX3_length_0 11 rfl rfl)
theorem q101 : (Jvm.Cond.initialized "LineRemarks$Shelf") ∈ lw_all := lw_g (lw_at lw_m1 15 rfl) rfl
theorem q240 : (Jvm.Cond.selects "LineRemarks$Shelf" ({ cls := "java/lang/Object", name := "getClass", desc := "()Ljava/lang/Class;" } : Jvm.MethodName) ({ cls := "java/lang/Object", name := "getClass", desc := "()Ljava/lang/Class;" } : Jvm.MethodName)) ∈ lw_all := lw_g (lw_at lw_m1 154 rfl) rfl
theorem q374 : (Jvm.Cond.instantiable "LineRemarks$Shelf" (1 : Nat)) ∈ lw_all := lw_g (lw_at lw_m2 48 rfl) rfl
theorem q376 : (Jvm.Cond.instanceMethod ({ cls := "LineRemarks$Shelf", name := "<init>", desc := "()V" } : Jvm.MethodName)) ∈ lw_all := lw_g (lw_at lw_m2 50 rfl) rfl
theorem q377 : (Jvm.Cond.code ({ cls := "LineRemarks$Shelf", name := "<init>", desc := "()V" } : Jvm.MethodName) prog_19_method_1_code (1 : Nat) (Option.none : Option Jvm.ClassFile.FieldType)) ∈ lw_all := lw_g (lw_at lw_m2 51 rfl) rfl
theorem q378 : (Jvm.Cond.methodLink "LineRemarks$Shelf" (3 : Nat) ({ cls := "java/lang/Object", name := "<init>", desc := "()V" } : Jvm.MethodName)) ∈ lw_all := lw_g (lw_at lw_m2 52 rfl) rfl
theorem q379 : (Jvm.Cond.fieldLink "LineRemarks$Shelf" (9 : Nat) "LineRemarks$Shelf" "held" "Ljava/lang/Object;") ∈ lw_all := lw_g (lw_at lw_m2 53 rfl) rfl
theorem q381 : (Jvm.Cond.lays "LineRemarks$Shelf" "LineRemarks$Shelf" "held" "Ljava/lang/Object;") ∈ lw_all := lw_g (lw_at lw_m2 55 rfl) rfl
theorem q382 : (Jvm.Cond.soleField "LineRemarks$Shelf" "held") ∈ lw_all := lw_g (lw_at lw_m2 56 rfl) rfl
theorem q383 : (Jvm.Cond.superclass "LineRemarks$Shelf" "java/lang/Object") ∈ lw_all := lw_g (lw_at lw_m2 57 rfl) rfl
theorem q598 : (Jvm.Cond.instanceMethod ({ cls := "LineRemarks$Shelf", name := "row", desc := "()LLineRemarks$Row;" } : Jvm.MethodName)) ∈ lw_all := lw_g (lw_at lw_m3 32 rfl) rfl
theorem q599 : (Jvm.Cond.selects "LineRemarks$Shelf" ({ cls := "LineRemarks$Shelf", name := "row", desc := "()LLineRemarks$Row;" } : Jvm.MethodName) ({ cls := "LineRemarks$Shelf", name := "row", desc := "()LLineRemarks$Row;" } : Jvm.MethodName)) ∈ lw_all := lw_g (lw_at lw_m3 33 rfl) rfl
theorem q600 : (Jvm.Cond.codeWith ({ cls := "LineRemarks$Shelf", name := "row", desc := "()LLineRemarks$Row;" } : Jvm.MethodName) prog_19_method_2_code (2 : Nat) (Option.some (Jvm.ClassFile.FieldType.object "LineRemarks$Row")) [((0 : Nat), (23 : Nat), (24 : Nat), (21 : Nat))]) ∈ lw_all := lw_g (lw_at lw_m3 34 rfl) rfl
theorem q601 : (Jvm.Cond.classLink "LineRemarks$Shelf" (21 : Nat) "java/lang/ClassCastException") ∈ lw_all := lw_g (lw_at lw_m3 35 rfl) rfl
theorem q615 : (Jvm.Cond.classLink "LineRemarks$Shelf" (15 : Nat) "LineRemarks$Row") ∈ lw_all := lw_g (lw_at lw_m3 49 rfl) rfl
theorem q616 : (Jvm.Cond.methodLink "LineRemarks$Shelf" (17 : Nat) ({ cls := "LineRemarks", name := "need", desc := "(ZI)V" } : Jvm.MethodName)) ∈ lw_all := lw_g (lw_at lw_m3 50 rfl) rfl
theorem q617 : (Jvm.Cond.classLink "LineRemarks$Shelf" (23 : Nat) "LineRemarks$Refused") ∈ lw_all := lw_g (lw_at lw_m3 51 rfl) rfl
theorem q618 : (Jvm.Cond.methodLink "LineRemarks$Shelf" (25 : Nat) ({ cls := "LineRemarks$Refused", name := "<init>", desc := "(I)V" } : Jvm.MethodName)) ∈ lw_all := lw_g (lw_at lw_m3 52 rfl) rfl
theorem q640 : (Jvm.Cond.instanceMethod ({ cls := "LineRemarks$Shelf", name := "holdsRemark", desc := "()Z" } : Jvm.MethodName)) ∈ lw_all := lw_g (lw_at lw_m3 74 rfl) rfl
theorem q641 : (Jvm.Cond.selects "LineRemarks$Shelf" ({ cls := "LineRemarks$Shelf", name := "holdsRemark", desc := "()Z" } : Jvm.MethodName) ({ cls := "LineRemarks$Shelf", name := "holdsRemark", desc := "()Z" } : Jvm.MethodName)) ∈ lw_all := lw_g (lw_at lw_m3 75 rfl) rfl
theorem q642 : (Jvm.Cond.code ({ cls := "LineRemarks$Shelf", name := "holdsRemark", desc := "()Z" } : Jvm.MethodName) prog_19_method_3_code (1 : Nat) (Option.some Jvm.ClassFile.FieldType.boolean)) ∈ lw_all := lw_g (lw_at lw_m3 76 rfl) rfl
theorem q643 : (Jvm.Cond.classLink "LineRemarks$Shelf" (28 : Nat) "LineRemarks$Remark") ∈ lw_all := lw_g (lw_at lw_m3 77 rfl) rfl
theorem q720 : (Jvm.Cond.instanceMethod ({ cls := "LineRemarks$Shelf", name := "says", desc := "(I)I" } : Jvm.MethodName)) ∈ lw_all := lw_g (lw_at lw_m3 154 rfl) rfl
theorem q721 : (Jvm.Cond.selects "LineRemarks$Shelf" ({ cls := "LineRemarks$Shelf", name := "says", desc := "(I)I" } : Jvm.MethodName) ({ cls := "LineRemarks$Shelf", name := "says", desc := "(I)I" } : Jvm.MethodName)) ∈ lw_all := lw_g (lw_at lw_m3 155 rfl) rfl
theorem q722 : (Jvm.Cond.codeWith ({ cls := "LineRemarks$Shelf", name := "says", desc := "(I)I" } : Jvm.MethodName) prog_19_method_5_code (3 : Nat) (Option.some Jvm.ClassFile.FieldType.int) [((0 : Nat), (233 : Nat), (234 : Nat), (21 : Nat))]) ∈ lw_all := lw_g (lw_at lw_m3 156 rfl) rfl
theorem q723 : (Jvm.Cond.classLink "LineRemarks$Shelf" (39 : Nat) "LineRemarks$Point") ∈ lw_all := lw_g (lw_at lw_m3 157 rfl) rfl
theorem q724 : (Jvm.Cond.classLink "LineRemarks$Shelf" (31 : Nat) "LineRemarks$Block") ∈ lw_all := lw_g (lw_at lw_m3 158 rfl) rfl
theorem q725 : (Jvm.Cond.methodLink "LineRemarks$Shelf" (44 : Nat) ({ cls := "LineRemarks$Shelf", name := "length", desc := "(LLineRemarks$Block;)I" } : Jvm.MethodName)) ∈ lw_all := lw_g (lw_at lw_m3 159 rfl) rfl
theorem q726 : (Jvm.Cond.static ({ cls := "LineRemarks$Shelf", name := "length", desc := "(LLineRemarks$Block;)I" } : Jvm.MethodName)) ∈ lw_all := lw_g (lw_at lw_m3 160 rfl) rfl
theorem q727 : (Jvm.Cond.code ({ cls := "LineRemarks$Shelf", name := "length", desc := "(LLineRemarks$Block;)I" } : Jvm.MethodName) prog_19_method_4_code (1 : Nat) (Option.some Jvm.ClassFile.FieldType.int)) ∈ lw_all := lw_g (lw_at lw_m3 161 rfl) rfl
theorem q728 : (Jvm.Cond.classLink "LineRemarks$Shelf" (48 : Nat) "LineRemarks$Caret") ∈ lw_all := lw_g (lw_at lw_m3 162 rfl) rfl
theorem q729 : (Jvm.Cond.classLink "LineRemarks$Shelf" (51 : Nat) "LineRemarks$Loose") ∈ lw_all := lw_g (lw_at lw_m3 163 rfl) rfl
theorem q730 : (Jvm.Cond.classLink "LineRemarks$Shelf" (54 : Nat) "LineRemarks$Wall") ∈ lw_all := lw_g (lw_at lw_m3 164 rfl) rfl
theorem q731 : (Jvm.Cond.classLink "LineRemarks$Shelf" (56 : Nat) "LineRemarks$Tail") ∈ lw_all := lw_g (lw_at lw_m3 165 rfl) rfl
theorem q1720 : (Jvm.Cond.fieldLink "LineRemarks$Shelf" (62 : Nat) "LineRemarks$Revision" "number" "I") ∈ lw_all := lw_g (lw_at lw_m7 194 rfl) rfl
theorem q2076 : (Jvm.Cond.fieldLink "LineRemarks$Shelf" (41 : Nat) "LineRemarks$Point" "by" "I") ∈ lw_all := lw_g (lw_at lw_m9 70 rfl) rfl
theorem q2077 : (Jvm.Cond.fieldLink "LineRemarks$Shelf" (50 : Nat) "LineRemarks$Caret" "by" "I") ∈ lw_all := lw_g (lw_at lw_m9 71 rfl) rfl
theorem q2082 : (Jvm.Cond.fieldLink "LineRemarks$Shelf" (58 : Nat) "LineRemarks$Tail" "on" "LLineRemarks$Revision;") ∈ lw_all := lw_g (lw_at lw_m9 76 rfl) rfl
theorem q2087 : (Jvm.Cond.fieldLink "LineRemarks$Shelf" (36 : Nat) "LineRemarks$Block" "p" "I") ∈ lw_all := lw_g (lw_at lw_m9 81 rfl) rfl
theorem q2089 : (Jvm.Cond.fieldLink "LineRemarks$Shelf" (67 : Nat) "LineRemarks$Remark" "p" "I") ∈ lw_all := lw_g (lw_at lw_m9 83 rfl) rfl
theorem q2093 : (Jvm.Cond.fieldLink "LineRemarks$Shelf" (30 : Nat) "LineRemarks$Block" "q" "I") ∈ lw_all := lw_g (lw_at lw_m9 87 rfl) rfl
theorem q2095 : (Jvm.Cond.fieldLink "LineRemarks$Shelf" (53 : Nat) "LineRemarks$Loose" "q" "I") ∈ lw_all := lw_g (lw_at lw_m9 89 rfl) rfl
theorem q3030 : (Jvm.Cond.selects "LineRemarks$Shelf" ({ cls := "java/lang/Object", name := "equals", desc := "(Ljava/lang/Object;)Z" } : Jvm.MethodName) ({ cls := "java/lang/Object", name := "equals", desc := "(Ljava/lang/Object;)Z" } : Jvm.MethodName)) ∈ lw_all := lw_g (lw_at lw_m13 64 rfl) rfl
theorem q3796 : (Jvm.Cond.castable "LineRemarks$Shelf" "java/lang/Object") ∈ lw_tbl := lw_at lw_m16 110 rfl
theorem in_X3 : ∀ w ∈ wsX30, w ∈ lw_all := lw_in wsX30 [381] (by decide +kernel) (by decide +kernel)
/-! LineRemarks$Refused -/
set_option maxRecDepth 100000
def RX5 : String := "LineRemarks$Refused"
def TX5 : u_T := fun k => match k with
  | 0 => ("java/lang/Throwable", "cause", "Ljava/lang/Throwable;", false)
  | 1 => ("java/lang/Throwable", "stackTrace", "[Ljava/lang/StackTraceElement;", false)
  | 2 => ("java/lang/Throwable", "suppressedExceptions", "Ljava/util/List;", false)
  | 3 => ("java/lang/Throwable", "detailMessage", "Ljava/lang/String;", false)
  | 4 => ("java/lang/Throwable", "backtrace", "Ljava/lang/Object;", false)
  | 5 => ("java/lang/Throwable", "depth", "I", false)
  | _ => ("LineRemarks$Refused", "why", "I", true)
def tyX5 : Nat → FieldType := fun k => match k with
  | 0 => .object "java/lang/Throwable"
  | 1 => .array (.object "java/lang/StackTraceElement")
  | 2 => .object "java/util/List"
  | 3 => .object "java/lang/String"
  | 4 => .object "java/lang/Object"
  | 5 => .int
  | _ => .int
abbrev wsX50 : List Cond := u_ws RX5 TX5 7
theorem nmX5 : ∀ a, a < 7 → ∀ b, b < 7 → a ≠ b → (TX5 a).2.1 ≠ (TX5 b).2.1 := by decide +kernel
theorem tyX5_ok : ∀ k, k < 7 → parseFieldDescriptor (TX5 k).2.2.1 = some (tyX5 k) := by decide +kernel
abbrev cX5_init : ByteArray := prog_15_method_1_code
def yX5_init : MethodName := ⟨RX5, "<init>", "(I)V"⟩
def dkwX5_init_0 : List UInt8 := [42, 1, 1, 3, 3, 183, 0, 1, 42, 27, 181, 0, 7, 177]
abbrev dktX5_init_0 : List UInt8 := dkwX5_init_0 ++ []
theorem dksX5_init_0 : cX5_init.data.toList.drop 0 = dktX5_init_0 := by decide +kernel
theorem dX5_init_0 : decode cX5_init 0 = .ok (.aload_n 0, 1) := dk_42 (dk_at dksX5_init_0 0 rfl rfl)
theorem dX5_init_1 : decode cX5_init 1 = .ok (.aconst_null, 1) := dk_1 (dk_at dksX5_init_0 1 rfl rfl)
theorem dX5_init_2 : decode cX5_init 2 = .ok (.aconst_null, 1) := dk_1 (dk_at dksX5_init_0 2 rfl rfl)
theorem dX5_init_3 : decode cX5_init 3 = .ok (.iconst 0, 1) := dk_3 (dk_at dksX5_init_0 3 rfl rfl)
theorem dX5_init_4 : decode cX5_init 4 = .ok (.iconst 0, 1) := dk_3 (dk_at dksX5_init_0 4 rfl rfl)
theorem dX5_init_5 : decode cX5_init 5 = .ok (.invokespecial 1, 3) := dk_183 0 1 (dk_at dksX5_init_0 5 rfl rfl)
theorem dX5_init_8 : decode cX5_init 8 = .ok (.aload_n 0, 1) := dk_42 (dk_at dksX5_init_0 8 rfl rfl)
theorem dX5_init_9 : decode cX5_init 9 = .ok (.iload_n 1, 1) := dk_27 (dk_at dksX5_init_0 9 rfl rfl)
theorem dX5_init_10 : decode cX5_init 10 = .ok (.putfield 7, 3) := dk_181 0 7 (dk_at dksX5_init_0 10 rfl rfl)
theorem dX5_init_13 : decode cX5_init 13 = .ok (.return_, 1) := dk_177 (dk_at dksX5_init_0 13 rfl rfl)
theorem q109 : (Jvm.Cond.initialized "LineRemarks$Refused") ∈ lw_all := lw_g (lw_at lw_m1 23 rfl) rfl
theorem q237 : (Jvm.Cond.selects "LineRemarks$Refused" ({ cls := "java/lang/Object", name := "getClass", desc := "()Ljava/lang/Class;" } : Jvm.MethodName) ({ cls := "java/lang/Object", name := "getClass", desc := "()Ljava/lang/Class;" } : Jvm.MethodName)) ∈ lw_all := lw_g (lw_at lw_m1 151 rfl) rfl
theorem q440 : (Jvm.Cond.selects "LineRemarks$Refused" ({ cls := "java/lang/Throwable", name := "fillInStackTrace", desc := "()Ljava/lang/Throwable;" } : Jvm.MethodName) ({ cls := "java/lang/Throwable", name := "fillInStackTrace", desc := "()Ljava/lang/Throwable;" } : Jvm.MethodName)) ∈ lw_all := lw_g (lw_at lw_m2 114 rfl) rfl
theorem q497 : (Jvm.Cond.instantiable "LineRemarks$Refused" (7 : Nat)) ∈ lw_all := lw_g (lw_at lw_m2 171 rfl) rfl
theorem q498 : (Jvm.Cond.castable "LineRemarks$Refused" "LineRemarks$Refused") ∈ lw_tbl := lw_at lw_m2 172 rfl
theorem q499 : (Jvm.Cond.selects "LineRemarks$Refused" ({ cls := "java/lang/Throwable", name := "fillInStackTrace", desc := "(I)Ljava/lang/Throwable;" } : Jvm.MethodName) ({ cls := "java/lang/Throwable", name := "fillInStackTrace", desc := "(I)Ljava/lang/Throwable;" } : Jvm.MethodName)) ∈ lw_all := lw_g (lw_at lw_m2 173 rfl) rfl
theorem q500 : (Jvm.Cond.lays "LineRemarks$Refused" "java/lang/Throwable" "cause" "Ljava/lang/Throwable;") ∈ lw_all := lw_g (lw_at lw_m2 174 rfl) rfl
theorem q501 : (Jvm.Cond.lays "LineRemarks$Refused" "java/lang/Throwable" "stackTrace" "[Ljava/lang/StackTraceElement;") ∈ lw_all := lw_g (lw_at lw_m2 175 rfl) rfl
theorem q502 : (Jvm.Cond.lays "LineRemarks$Refused" "java/lang/Throwable" "suppressedExceptions" "Ljava/util/List;") ∈ lw_all := lw_g (lw_at lw_m2 176 rfl) rfl
theorem q503 : (Jvm.Cond.lays "LineRemarks$Refused" "java/lang/Throwable" "detailMessage" "Ljava/lang/String;") ∈ lw_all := lw_g (lw_at lw_m2 177 rfl) rfl
theorem q504 : (Jvm.Cond.lays "LineRemarks$Refused" "java/lang/Throwable" "backtrace" "Ljava/lang/Object;") ∈ lw_all := lw_g (lw_at lw_m2 178 rfl) rfl
theorem q506 : (Jvm.Cond.instanceMethod ({ cls := "LineRemarks$Refused", name := "<init>", desc := "(I)V" } : Jvm.MethodName)) ∈ lw_all := lw_g (lw_at lw_m2 180 rfl) rfl
theorem q507 : (Jvm.Cond.code ({ cls := "LineRemarks$Refused", name := "<init>", desc := "(I)V" } : Jvm.MethodName) prog_15_method_1_code (2 : Nat) (Option.none : Option Jvm.ClassFile.FieldType)) ∈ lw_all := lw_g (lw_at lw_m2 181 rfl) rfl
theorem q508 : (Jvm.Cond.methodLink "LineRemarks$Refused" (1 : Nat) ({ cls := "java/lang/Exception", name := "<init>", desc := "(Ljava/lang/String;Ljava/lang/Throwable;ZZ)V" } : Jvm.MethodName)) ∈ lw_all := lw_g (lw_at lw_m2 182 rfl) rfl
theorem q514 : (Jvm.Cond.fieldLink "LineRemarks$Refused" (7 : Nat) "LineRemarks$Refused" "why" "I") ∈ lw_all := lw_g (lw_at lw_m2 188 rfl) rfl
theorem q516 : (Jvm.Cond.laysFinal "LineRemarks$Refused" "LineRemarks$Refused" "why" "I") ∈ lw_all := lw_g (lw_at lw_m2 190 rfl) rfl
theorem q517 : (Jvm.Cond.soleField "LineRemarks$Refused" "why") ∈ lw_all := lw_g (lw_at lw_m2 191 rfl) rfl
theorem q518 : (Jvm.Cond.lays "LineRemarks$Refused" "java/lang/Throwable" "depth" "I") ∈ lw_all := lw_g (lw_at lw_m2 192 rfl) rfl
theorem q519 : (Jvm.Cond.superclass "LineRemarks$Refused" "java/lang/Exception") ∈ lw_all := lw_g (lw_at lw_m2 193 rfl) rfl
theorem q1583 : (Jvm.Cond.selects "LineRemarks$Refused" ({ cls := "java/lang/Throwable", name := "toString", desc := "()Ljava/lang/String;" } : Jvm.MethodName) ({ cls := "java/lang/Throwable", name := "toString", desc := "()Ljava/lang/String;" } : Jvm.MethodName)) ∈ lw_all := lw_g (lw_at lw_m7 57 rfl) rfl
theorem q1597 : (Jvm.Cond.selects "LineRemarks$Refused" ({ cls := "java/lang/Throwable", name := "getLocalizedMessage", desc := "()Ljava/lang/String;" } : Jvm.MethodName) ({ cls := "java/lang/Throwable", name := "getLocalizedMessage", desc := "()Ljava/lang/String;" } : Jvm.MethodName)) ∈ lw_all := lw_g (lw_at lw_m7 71 rfl) rfl
theorem q1610 : (Jvm.Cond.selects "LineRemarks$Refused" ({ cls := "java/lang/Throwable", name := "getMessage", desc := "()Ljava/lang/String;" } : Jvm.MethodName) ({ cls := "java/lang/Throwable", name := "getMessage", desc := "()Ljava/lang/String;" } : Jvm.MethodName)) ∈ lw_all := lw_g (lw_at lw_m7 84 rfl) rfl
theorem q3027 : (Jvm.Cond.selects "LineRemarks$Refused" ({ cls := "java/lang/Object", name := "equals", desc := "(Ljava/lang/Object;)Z" } : Jvm.MethodName) ({ cls := "java/lang/Object", name := "equals", desc := "(Ljava/lang/Object;)Z" } : Jvm.MethodName)) ∈ lw_all := lw_g (lw_at lw_m13 61 rfl) rfl
theorem q3808 : (Jvm.Cond.castable "LineRemarks$Refused" "java/lang/Object") ∈ lw_tbl := lw_at lw_m16 122 rfl
theorem in_X5 : ∀ w ∈ wsX50, w ∈ lw_all := lw_in wsX50 [500, 501, 502, 503, 504, 518, 516] (by decide +kernel) (by decide +kernel)
/-! LineRemarks$Row -/
set_option maxRecDepth 100000
def RX6 : String := "LineRemarks$Row"
abbrev cX6_init : ByteArray := prog_18_method_1_code
def yX6_init : MethodName := ⟨RX6, "<init>", "()V"⟩
theorem dX6_init_0 : decode cX6_init 0 = .ok (.aload_n 0, 1) := by decide +kernel
theorem dX6_init_1 : decode cX6_init 1 = .ok (.invokespecial 1, 3) := by decide +kernel
theorem dX6_init_4 : decode cX6_init 4 = .ok (.return_, 1) := by decide +kernel
abbrev cX6_asInt : ByteArray := prog_18_method_9_code
def yX6_asInt : MethodName := ⟨RX6, "asInt", "(I)I"⟩
def dkwX6_asInt_0 : List UInt8 := [42, 27, 182, 0, 7, 136, 172]
abbrev dktX6_asInt_0 : List UInt8 := dkwX6_asInt_0 ++ []
theorem dksX6_asInt_0 : cX6_asInt.data.toList.drop 0 = dktX6_asInt_0 := by decide +kernel
theorem dX6_asInt_0 : decode cX6_asInt 0 = .ok (.aload_n 0, 1) := dk_42 (dk_at dksX6_asInt_0 0 rfl rfl)
theorem dX6_asInt_1 : decode cX6_asInt 1 = .ok (.iload_n 1, 1) := dk_27 (dk_at dksX6_asInt_0 1 rfl rfl)
theorem dX6_asInt_2 : decode cX6_asInt 2 = .ok (.invokevirtual 7, 3) := dk_182 0 7 (dk_at dksX6_asInt_0 2 rfl rfl)
theorem dX6_asInt_5 : decode cX6_asInt 5 = .ok (.l2i, 1) := dk_136 (dk_at dksX6_asInt_0 5 rfl rfl)
theorem dX6_asInt_6 : decode cX6_asInt 6 = .ok (.ireturn, 1) := dk_172 (dk_at dksX6_asInt_0 6 rfl rfl)
theorem q111 : (Jvm.Cond.initialized "LineRemarks$Row") ∈ lw_all := lw_g (lw_at lw_m1 25 rfl) rfl
theorem q550 : (Jvm.Cond.instanceMethod ({ cls := "LineRemarks$Row", name := "<init>", desc := "()V" } : Jvm.MethodName)) ∈ lw_all := lw_g (lw_at lw_m2 224 rfl) rfl
theorem q551 : (Jvm.Cond.code ({ cls := "LineRemarks$Row", name := "<init>", desc := "()V" } : Jvm.MethodName) prog_18_method_1_code (1 : Nat) (Option.none : Option Jvm.ClassFile.FieldType)) ∈ lw_all := lw_g (lw_at lw_m2 225 rfl) rfl
theorem q552 : (Jvm.Cond.methodLink "LineRemarks$Row" (1 : Nat) ({ cls := "java/lang/Object", name := "<init>", desc := "()V" } : Jvm.MethodName)) ∈ lw_all := lw_g (lw_at lw_m2 226 rfl) rfl
theorem q620 : (Jvm.Cond.declares ({ cls := "LineRemarks$Row", name := "put", desc := "(IJ)V" } : Jvm.MethodName)) ∈ lw_tbl := lw_at lw_m3 54 rfl
theorem q621 : (Jvm.Cond.sameMethod "LineRemarks$Row" "LineRemarks$Row" "put" "(IJ)V") ∈ lw_all := lw_g (lw_at lw_m3 55 rfl) rfl
theorem q645 : (Jvm.Cond.declares ({ cls := "LineRemarks$Row", name := "sort", desc := "()I" } : Jvm.MethodName)) ∈ lw_tbl := lw_at lw_m3 79 rfl
theorem q646 : (Jvm.Cond.sameMethod "LineRemarks$Row" "LineRemarks$Row" "sort" "()I") ∈ lw_all := lw_g (lw_at lw_m3 80 rfl) rfl
theorem q660 : (Jvm.Cond.declares ({ cls := "LineRemarks$Row", name := "held", desc := "()Ljava/lang/Object;" } : Jvm.MethodName)) ∈ lw_tbl := lw_at lw_m3 94 rfl
theorem q661 : (Jvm.Cond.sameMethod "LineRemarks$Row" "LineRemarks$Row" "held" "()Ljava/lang/Object;") ∈ lw_all := lw_g (lw_at lw_m3 95 rfl) rfl
theorem q682 : (Jvm.Cond.declares ({ cls := "LineRemarks$Row", name := "get", desc := "(I)J" } : Jvm.MethodName)) ∈ lw_tbl := lw_at lw_m3 116 rfl
theorem q683 : (Jvm.Cond.sameMethod "LineRemarks$Row" "LineRemarks$Row" "get" "(I)J") ∈ lw_all := lw_g (lw_at lw_m3 117 rfl) rfl
theorem q804 : (Jvm.Cond.declares ({ cls := "LineRemarks$Row", name := "length", desc := "()I" } : Jvm.MethodName)) ∈ lw_tbl := lw_at lw_m3 238 rfl
theorem q805 : (Jvm.Cond.sameMethod "LineRemarks$Row" "LineRemarks$Row" "length" "()I") ∈ lw_all := lw_g (lw_at lw_m3 239 rfl) rfl
theorem q827 : (Jvm.Cond.instanceMethod ({ cls := "LineRemarks$Row", name := "asInt", desc := "(I)I" } : Jvm.MethodName)) ∈ lw_all := lw_g (lw_at lw_m4 21 rfl) rfl
theorem q828 : (Jvm.Cond.sameMethod "LineRemarks$Row" "LineRemarks$Row" "asInt" "(I)I") ∈ lw_all := lw_g (lw_at lw_m4 22 rfl) rfl
theorem q833 : (Jvm.Cond.code ({ cls := "LineRemarks$Row", name := "asInt", desc := "(I)I" } : Jvm.MethodName) prog_18_method_9_code (2 : Nat) (Option.some Jvm.ClassFile.FieldType.int)) ∈ lw_all := lw_g (lw_at lw_m4 27 rfl) rfl
theorem q834 : (Jvm.Cond.methodLink "LineRemarks$Row" (7 : Nat) ({ cls := "LineRemarks$Row", name := "get", desc := "(I)J" } : Jvm.MethodName)) ∈ lw_all := lw_g (lw_at lw_m4 28 rfl) rfl
/-! LineRemarks$Bytes -/
set_option maxRecDepth 100000
def RX7 : String := "LineRemarks$Bytes"
def TX7 : u_T := fun k => match k with
  | _ => ("LineRemarks$Bytes", "e", "[B", true)
def tyX7 : Nat → FieldType := fun k => match k with
  | _ => .array .byte
abbrev wsX70 : List Cond := u_ws RX7 TX7 1
theorem nmX7 : ∀ a, a < 1 → ∀ b, b < 1 → a ≠ b → (TX7 a).2.1 ≠ (TX7 b).2.1 := by decide +kernel
theorem tyX7_ok : ∀ k, k < 1 → parseFieldDescriptor (TX7 k).2.2.1 = some (tyX7 k) := by decide +kernel
abbrev cX7_init : ByteArray := prog_3_method_1_code
def yX7_init : MethodName := ⟨RX7, "<init>", "(I)V"⟩
def dkwX7_init_0 : List UInt8 := [42, 183, 0, 1, 42, 27, 188, 8, 181, 0, 7, 177]
abbrev dktX7_init_0 : List UInt8 := dkwX7_init_0 ++ []
theorem dksX7_init_0 : cX7_init.data.toList.drop 0 = dktX7_init_0 := by decide +kernel
theorem dX7_init_0 : decode cX7_init 0 = .ok (.aload_n 0, 1) := dk_42 (dk_at dksX7_init_0 0 rfl rfl)
theorem dX7_init_1 : decode cX7_init 1 = .ok (.invokespecial 1, 3) := dk_183 0 1 (dk_at dksX7_init_0 1 rfl rfl)
theorem dX7_init_4 : decode cX7_init 4 = .ok (.aload_n 0, 1) := dk_42 (dk_at dksX7_init_0 4 rfl rfl)
theorem dX7_init_5 : decode cX7_init 5 = .ok (.iload_n 1, 1) := dk_27 (dk_at dksX7_init_0 5 rfl rfl)
theorem dX7_init_6 : decode cX7_init 6 = .ok (.newarray .byte, 2) := dk_188_8 (dk_at dksX7_init_0 6 rfl rfl)
theorem dX7_init_8 : decode cX7_init 8 = .ok (.putfield 7, 3) := dk_181 0 7 (dk_at dksX7_init_0 8 rfl rfl)
theorem dX7_init_11 : decode cX7_init 11 = .ok (.return_, 1) := dk_177 (dk_at dksX7_init_0 11 rfl rfl)
abbrev cX7_put : ByteArray := prog_3_method_4_code
def yX7_put : MethodName := ⟨RX7, "put", "(IJ)V"⟩
def dkwX7_put_0 : List UInt8 := [42, 180, 0, 7, 27, 32, 136, 145, 84, 177]
abbrev dktX7_put_0 : List UInt8 := dkwX7_put_0 ++ []
theorem dksX7_put_0 : cX7_put.data.toList.drop 0 = dktX7_put_0 := by decide +kernel
theorem dX7_put_0 : decode cX7_put 0 = .ok (.aload_n 0, 1) := dk_42 (dk_at dksX7_put_0 0 rfl rfl)
theorem dX7_put_1 : decode cX7_put 1 = .ok (.getfield 7, 3) := dk_180 0 7 (dk_at dksX7_put_0 1 rfl rfl)
theorem dX7_put_4 : decode cX7_put 4 = .ok (.iload_n 1, 1) := dk_27 (dk_at dksX7_put_0 4 rfl rfl)
theorem dX7_put_5 : decode cX7_put 5 = .ok (.lload_n 2, 1) := dk_32 (dk_at dksX7_put_0 5 rfl rfl)
theorem dX7_put_6 : decode cX7_put 6 = .ok (.l2i, 1) := dk_136 (dk_at dksX7_put_0 6 rfl rfl)
theorem dX7_put_7 : decode cX7_put 7 = .ok (.i2b, 1) := dk_145 (dk_at dksX7_put_0 7 rfl rfl)
theorem dX7_put_8 : decode cX7_put 8 = .ok (.bastore, 1) := dk_84 (dk_at dksX7_put_0 8 rfl rfl)
theorem dX7_put_9 : decode cX7_put 9 = .ok (.return_, 1) := dk_177 (dk_at dksX7_put_0 9 rfl rfl)
abbrev cX7_sort : ByteArray := prog_3_method_2_code
def yX7_sort : MethodName := ⟨RX7, "sort", "()I"⟩
theorem dX7_sort_0 : decode cX7_sort 0 = .ok (.iconst 0, 1) := by decide +kernel
theorem dX7_sort_1 : decode cX7_sort 1 = .ok (.ireturn, 1) := by decide +kernel
abbrev cX7_held : ByteArray := prog_3_method_8_code
def yX7_held : MethodName := ⟨RX7, "held", "()Ljava/lang/Object;"⟩
theorem dX7_held_0 : decode cX7_held 0 = .ok (.aload_n 0, 1) := by decide +kernel
theorem dX7_held_1 : decode cX7_held 1 = .ok (.getfield 7, 3) := by decide +kernel
theorem dX7_held_4 : decode cX7_held 4 = .ok (.areturn, 1) := by decide +kernel
abbrev cX7_get : ByteArray := prog_3_method_5_code
def yX7_get : MethodName := ⟨RX7, "get", "(I)J"⟩
def dkwX7_get_0 : List UInt8 := [42, 180, 0, 7, 27, 51, 133, 173]
abbrev dktX7_get_0 : List UInt8 := dkwX7_get_0 ++ []
theorem dksX7_get_0 : cX7_get.data.toList.drop 0 = dktX7_get_0 := by decide +kernel
theorem dX7_get_0 : decode cX7_get 0 = .ok (.aload_n 0, 1) := dk_42 (dk_at dksX7_get_0 0 rfl rfl)
theorem dX7_get_1 : decode cX7_get 1 = .ok (.getfield 7, 3) := dk_180 0 7 (dk_at dksX7_get_0 1 rfl rfl)
theorem dX7_get_4 : decode cX7_get 4 = .ok (.iload_n 1, 1) := dk_27 (dk_at dksX7_get_0 4 rfl rfl)
theorem dX7_get_5 : decode cX7_get 5 = .ok (.baload, 1) := dk_51 (dk_at dksX7_get_0 5 rfl rfl)
theorem dX7_get_6 : decode cX7_get 6 = .ok (.i2l, 1) := dk_133 (dk_at dksX7_get_0 6 rfl rfl)
theorem dX7_get_7 : decode cX7_get 7 = .ok (.lreturn, 1) := dk_173 (dk_at dksX7_get_0 7 rfl rfl)
abbrev cX7_length : ByteArray := prog_3_method_3_code
def yX7_length : MethodName := ⟨RX7, "length", "()I"⟩
def dkwX7_length_0 : List UInt8 := [42, 180, 0, 7, 190, 172]
abbrev dktX7_length_0 : List UInt8 := dkwX7_length_0 ++ []
theorem dksX7_length_0 : cX7_length.data.toList.drop 0 = dktX7_length_0 := by decide +kernel
theorem dX7_length_0 : decode cX7_length 0 = .ok (.aload_n 0, 1) := dk_42 (dk_at dksX7_length_0 0 rfl rfl)
theorem dX7_length_1 : decode cX7_length 1 = .ok (.getfield 7, 3) := dk_180 0 7 (dk_at dksX7_length_0 1 rfl rfl)
theorem dX7_length_4 : decode cX7_length 4 = .ok (.arraylength, 1) := dk_190 (dk_at dksX7_length_0 4 rfl rfl)
theorem dX7_length_5 : decode cX7_length 5 = .ok (.ireturn, 1) := dk_172 (dk_at dksX7_length_0 5 rfl rfl)
theorem q112 : (Jvm.Cond.initialized "LineRemarks$Bytes") ∈ lw_all := lw_g (lw_at lw_m1 26 rfl) rfl
theorem q225 : (Jvm.Cond.selects "LineRemarks$Bytes" ({ cls := "java/lang/Object", name := "getClass", desc := "()Ljava/lang/Class;" } : Jvm.MethodName) ({ cls := "java/lang/Object", name := "getClass", desc := "()Ljava/lang/Class;" } : Jvm.MethodName)) ∈ lw_all := lw_g (lw_at lw_m1 139 rfl) rfl
theorem q545 : (Jvm.Cond.instantiable "LineRemarks$Bytes" (1 : Nat)) ∈ lw_all := lw_g (lw_at lw_m2 219 rfl) rfl
theorem q547 : (Jvm.Cond.instanceMethod ({ cls := "LineRemarks$Bytes", name := "<init>", desc := "(I)V" } : Jvm.MethodName)) ∈ lw_all := lw_g (lw_at lw_m2 221 rfl) rfl
theorem q548 : (Jvm.Cond.code ({ cls := "LineRemarks$Bytes", name := "<init>", desc := "(I)V" } : Jvm.MethodName) prog_3_method_1_code (2 : Nat) (Option.none : Option Jvm.ClassFile.FieldType)) ∈ lw_all := lw_g (lw_at lw_m2 222 rfl) rfl
theorem q549 : (Jvm.Cond.methodLink "LineRemarks$Bytes" (1 : Nat) ({ cls := "LineRemarks$Row", name := "<init>", desc := "()V" } : Jvm.MethodName)) ∈ lw_all := lw_g (lw_at lw_m2 223 rfl) rfl
theorem q553 : (Jvm.Cond.fieldLink "LineRemarks$Bytes" (7 : Nat) "LineRemarks$Bytes" "e" "[B") ∈ lw_all := lw_g (lw_at lw_m2 227 rfl) rfl
theorem q554 : (Jvm.Cond.laysFinal "LineRemarks$Bytes" "LineRemarks$Bytes" "e" "[B") ∈ lw_all := lw_g (lw_at lw_m2 228 rfl) rfl
theorem q555 : (Jvm.Cond.soleField "LineRemarks$Bytes" "e") ∈ lw_all := lw_g (lw_at lw_m2 229 rfl) rfl
theorem q556 : (Jvm.Cond.superclass "LineRemarks$Bytes" "LineRemarks$Row") ∈ lw_all := lw_g (lw_at lw_m2 230 rfl) rfl
theorem q622 : (Jvm.Cond.selects "LineRemarks$Bytes" ({ cls := "LineRemarks$Row", name := "put", desc := "(IJ)V" } : Jvm.MethodName) ({ cls := "LineRemarks$Bytes", name := "put", desc := "(IJ)V" } : Jvm.MethodName)) ∈ lw_all := lw_g (lw_at lw_m3 56 rfl) rfl
theorem q623 : (Jvm.Cond.instanceMethod ({ cls := "LineRemarks$Bytes", name := "put", desc := "(IJ)V" } : Jvm.MethodName)) ∈ lw_all := lw_g (lw_at lw_m3 57 rfl) rfl
theorem q624 : (Jvm.Cond.code ({ cls := "LineRemarks$Bytes", name := "put", desc := "(IJ)V" } : Jvm.MethodName) prog_3_method_4_code (4 : Nat) (Option.none : Option Jvm.ClassFile.FieldType)) ∈ lw_all := lw_g (lw_at lw_m3 58 rfl) rfl
theorem q647 : (Jvm.Cond.selects "LineRemarks$Bytes" ({ cls := "LineRemarks$Row", name := "sort", desc := "()I" } : Jvm.MethodName) ({ cls := "LineRemarks$Bytes", name := "sort", desc := "()I" } : Jvm.MethodName)) ∈ lw_all := lw_g (lw_at lw_m3 81 rfl) rfl
theorem q648 : (Jvm.Cond.instanceMethod ({ cls := "LineRemarks$Bytes", name := "sort", desc := "()I" } : Jvm.MethodName)) ∈ lw_all := lw_g (lw_at lw_m3 82 rfl) rfl
theorem q649 : (Jvm.Cond.code ({ cls := "LineRemarks$Bytes", name := "sort", desc := "()I" } : Jvm.MethodName) prog_3_method_2_code (1 : Nat) (Option.some Jvm.ClassFile.FieldType.int)) ∈ lw_all := lw_g (lw_at lw_m3 83 rfl) rfl
theorem q662 : (Jvm.Cond.selects "LineRemarks$Bytes" ({ cls := "LineRemarks$Row", name := "held", desc := "()Ljava/lang/Object;" } : Jvm.MethodName) ({ cls := "LineRemarks$Bytes", name := "held", desc := "()Ljava/lang/Object;" } : Jvm.MethodName)) ∈ lw_all := lw_g (lw_at lw_m3 96 rfl) rfl
theorem q663 : (Jvm.Cond.instanceMethod ({ cls := "LineRemarks$Bytes", name := "held", desc := "()Ljava/lang/Object;" } : Jvm.MethodName)) ∈ lw_all := lw_g (lw_at lw_m3 97 rfl) rfl
theorem q664 : (Jvm.Cond.code ({ cls := "LineRemarks$Bytes", name := "held", desc := "()Ljava/lang/Object;" } : Jvm.MethodName) prog_3_method_8_code (1 : Nat) (Option.some (Jvm.ClassFile.FieldType.object "java/lang/Object"))) ∈ lw_all := lw_g (lw_at lw_m3 98 rfl) rfl
theorem q684 : (Jvm.Cond.selects "LineRemarks$Bytes" ({ cls := "LineRemarks$Row", name := "get", desc := "(I)J" } : Jvm.MethodName) ({ cls := "LineRemarks$Bytes", name := "get", desc := "(I)J" } : Jvm.MethodName)) ∈ lw_all := lw_g (lw_at lw_m3 118 rfl) rfl
theorem q685 : (Jvm.Cond.instanceMethod ({ cls := "LineRemarks$Bytes", name := "get", desc := "(I)J" } : Jvm.MethodName)) ∈ lw_all := lw_g (lw_at lw_m3 119 rfl) rfl
theorem q686 : (Jvm.Cond.code ({ cls := "LineRemarks$Bytes", name := "get", desc := "(I)J" } : Jvm.MethodName) prog_3_method_5_code (2 : Nat) (Option.some Jvm.ClassFile.FieldType.long)) ∈ lw_all := lw_g (lw_at lw_m3 120 rfl) rfl
theorem q806 : (Jvm.Cond.selects "LineRemarks$Bytes" ({ cls := "LineRemarks$Row", name := "length", desc := "()I" } : Jvm.MethodName) ({ cls := "LineRemarks$Bytes", name := "length", desc := "()I" } : Jvm.MethodName)) ∈ lw_all := lw_g (lw_at lw_m4 0 rfl) rfl
theorem q807 : (Jvm.Cond.instanceMethod ({ cls := "LineRemarks$Bytes", name := "length", desc := "()I" } : Jvm.MethodName)) ∈ lw_all := lw_g (lw_at lw_m4 1 rfl) rfl
theorem q808 : (Jvm.Cond.code ({ cls := "LineRemarks$Bytes", name := "length", desc := "()I" } : Jvm.MethodName) prog_3_method_3_code (1 : Nat) (Option.some Jvm.ClassFile.FieldType.int)) ∈ lw_all := lw_g (lw_at lw_m4 2 rfl) rfl
theorem q829 : (Jvm.Cond.selects "LineRemarks$Bytes" ({ cls := "LineRemarks$Row", name := "asInt", desc := "(I)I" } : Jvm.MethodName) ({ cls := "LineRemarks$Row", name := "asInt", desc := "(I)I" } : Jvm.MethodName)) ∈ lw_all := lw_g (lw_at lw_m4 23 rfl) rfl
theorem q3015 : (Jvm.Cond.selects "LineRemarks$Bytes" ({ cls := "java/lang/Object", name := "equals", desc := "(Ljava/lang/Object;)Z" } : Jvm.MethodName) ({ cls := "java/lang/Object", name := "equals", desc := "(Ljava/lang/Object;)Z" } : Jvm.MethodName)) ∈ lw_all := lw_g (lw_at lw_m13 49 rfl) rfl
theorem q3782 : (Jvm.Cond.castable "LineRemarks$Bytes" "LineRemarks$Row") ∈ lw_tbl := lw_at lw_m16 96 rfl
theorem q3810 : (Jvm.Cond.castable "LineRemarks$Bytes" "java/lang/Object") ∈ lw_tbl := lw_at lw_m16 124 rfl
theorem in_X7 : ∀ w ∈ wsX70, w ∈ lw_all := lw_in wsX70 [554] (by decide +kernel) (by decide +kernel)
/-! LineRemarks$Shorts -/
set_option maxRecDepth 100000
def RX8 : String := "LineRemarks$Shorts"
def TX8 : u_T := fun k => match k with
  | _ => ("LineRemarks$Shorts", "e", "[S", true)
def tyX8 : Nat → FieldType := fun k => match k with
  | _ => .array .short
abbrev wsX80 : List Cond := u_ws RX8 TX8 1
theorem nmX8 : ∀ a, a < 1 → ∀ b, b < 1 → a ≠ b → (TX8 a).2.1 ≠ (TX8 b).2.1 := by decide +kernel
theorem tyX8_ok : ∀ k, k < 1 → parseFieldDescriptor (TX8 k).2.2.1 = some (tyX8 k) := by decide +kernel
abbrev cX8_init : ByteArray := prog_20_method_1_code
def yX8_init : MethodName := ⟨RX8, "<init>", "(I)V"⟩
def dkwX8_init_0 : List UInt8 := [42, 183, 0, 1, 42, 27, 188, 9, 181, 0, 7, 177]
abbrev dktX8_init_0 : List UInt8 := dkwX8_init_0 ++ []
theorem dksX8_init_0 : cX8_init.data.toList.drop 0 = dktX8_init_0 := by decide +kernel
theorem dX8_init_0 : decode cX8_init 0 = .ok (.aload_n 0, 1) := dk_42 (dk_at dksX8_init_0 0 rfl rfl)
theorem dX8_init_1 : decode cX8_init 1 = .ok (.invokespecial 1, 3) := dk_183 0 1 (dk_at dksX8_init_0 1 rfl rfl)
theorem dX8_init_4 : decode cX8_init 4 = .ok (.aload_n 0, 1) := dk_42 (dk_at dksX8_init_0 4 rfl rfl)
theorem dX8_init_5 : decode cX8_init 5 = .ok (.iload_n 1, 1) := dk_27 (dk_at dksX8_init_0 5 rfl rfl)
theorem dX8_init_6 : decode cX8_init 6 = .ok (.newarray .short, 2) := dk_188_9 (dk_at dksX8_init_0 6 rfl rfl)
theorem dX8_init_8 : decode cX8_init 8 = .ok (.putfield 7, 3) := dk_181 0 7 (dk_at dksX8_init_0 8 rfl rfl)
theorem dX8_init_11 : decode cX8_init 11 = .ok (.return_, 1) := dk_177 (dk_at dksX8_init_0 11 rfl rfl)
abbrev cX8_put : ByteArray := prog_20_method_4_code
def yX8_put : MethodName := ⟨RX8, "put", "(IJ)V"⟩
def dkwX8_put_0 : List UInt8 := [42, 180, 0, 7, 27, 32, 136, 147, 86, 177]
abbrev dktX8_put_0 : List UInt8 := dkwX8_put_0 ++ []
theorem dksX8_put_0 : cX8_put.data.toList.drop 0 = dktX8_put_0 := by decide +kernel
theorem dX8_put_0 : decode cX8_put 0 = .ok (.aload_n 0, 1) := dk_42 (dk_at dksX8_put_0 0 rfl rfl)
theorem dX8_put_1 : decode cX8_put 1 = .ok (.getfield 7, 3) := dk_180 0 7 (dk_at dksX8_put_0 1 rfl rfl)
theorem dX8_put_4 : decode cX8_put 4 = .ok (.iload_n 1, 1) := dk_27 (dk_at dksX8_put_0 4 rfl rfl)
theorem dX8_put_5 : decode cX8_put 5 = .ok (.lload_n 2, 1) := dk_32 (dk_at dksX8_put_0 5 rfl rfl)
theorem dX8_put_6 : decode cX8_put 6 = .ok (.l2i, 1) := dk_136 (dk_at dksX8_put_0 6 rfl rfl)
theorem dX8_put_7 : decode cX8_put 7 = .ok (.i2s, 1) := dk_147 (dk_at dksX8_put_0 7 rfl rfl)
theorem dX8_put_8 : decode cX8_put 8 = .ok (.sastore, 1) := dk_86 (dk_at dksX8_put_0 8 rfl rfl)
theorem dX8_put_9 : decode cX8_put 9 = .ok (.return_, 1) := dk_177 (dk_at dksX8_put_0 9 rfl rfl)
abbrev cX8_sort : ByteArray := prog_20_method_2_code
def yX8_sort : MethodName := ⟨RX8, "sort", "()I"⟩
theorem dX8_sort_0 : decode cX8_sort 0 = .ok (.iconst 1, 1) := by decide +kernel
theorem dX8_sort_1 : decode cX8_sort 1 = .ok (.ireturn, 1) := by decide +kernel
abbrev cX8_held : ByteArray := prog_20_method_8_code
def yX8_held : MethodName := ⟨RX8, "held", "()Ljava/lang/Object;"⟩
theorem dX8_held_0 : decode cX8_held 0 = .ok (.aload_n 0, 1) := by decide +kernel
theorem dX8_held_1 : decode cX8_held 1 = .ok (.getfield 7, 3) := by decide +kernel
theorem dX8_held_4 : decode cX8_held 4 = .ok (.areturn, 1) := by decide +kernel
abbrev cX8_get : ByteArray := prog_20_method_5_code
def yX8_get : MethodName := ⟨RX8, "get", "(I)J"⟩
def dkwX8_get_0 : List UInt8 := [42, 180, 0, 7, 27, 53, 133, 173]
abbrev dktX8_get_0 : List UInt8 := dkwX8_get_0 ++ []
theorem dksX8_get_0 : cX8_get.data.toList.drop 0 = dktX8_get_0 := by decide +kernel
theorem dX8_get_0 : decode cX8_get 0 = .ok (.aload_n 0, 1) := dk_42 (dk_at dksX8_get_0 0 rfl rfl)
theorem dX8_get_1 : decode cX8_get 1 = .ok (.getfield 7, 3) := dk_180 0 7 (dk_at dksX8_get_0 1 rfl rfl)
theorem dX8_get_4 : decode cX8_get 4 = .ok (.iload_n 1, 1) := dk_27 (dk_at dksX8_get_0 4 rfl rfl)
theorem dX8_get_5 : decode cX8_get 5 = .ok (.saload, 1) := dk_53 (dk_at dksX8_get_0 5 rfl rfl)
theorem dX8_get_6 : decode cX8_get 6 = .ok (.i2l, 1) := dk_133 (dk_at dksX8_get_0 6 rfl rfl)
theorem dX8_get_7 : decode cX8_get 7 = .ok (.lreturn, 1) := dk_173 (dk_at dksX8_get_0 7 rfl rfl)
abbrev cX8_length : ByteArray := prog_20_method_3_code
def yX8_length : MethodName := ⟨RX8, "length", "()I"⟩
def dkwX8_length_0 : List UInt8 := [42, 180, 0, 7, 190, 172]
abbrev dktX8_length_0 : List UInt8 := dkwX8_length_0 ++ []
theorem dksX8_length_0 : cX8_length.data.toList.drop 0 = dktX8_length_0 := by decide +kernel
theorem dX8_length_0 : decode cX8_length 0 = .ok (.aload_n 0, 1) := dk_42 (dk_at dksX8_length_0 0 rfl rfl)
theorem dX8_length_1 : decode cX8_length 1 = .ok (.getfield 7, 3) := dk_180 0 7 (dk_at dksX8_length_0 1 rfl rfl)
theorem dX8_length_4 : decode cX8_length 4 = .ok (.arraylength, 1) := dk_190 (dk_at dksX8_length_0 4 rfl rfl)
theorem dX8_length_5 : decode cX8_length 5 = .ok (.ireturn, 1) := dk_172 (dk_at dksX8_length_0 5 rfl rfl)
theorem q113 : (Jvm.Cond.initialized "LineRemarks$Shorts") ∈ lw_all := lw_g (lw_at lw_m1 27 rfl) rfl
theorem q241 : (Jvm.Cond.selects "LineRemarks$Shorts" ({ cls := "java/lang/Object", name := "getClass", desc := "()Ljava/lang/Class;" } : Jvm.MethodName) ({ cls := "java/lang/Object", name := "getClass", desc := "()Ljava/lang/Class;" } : Jvm.MethodName)) ∈ lw_all := lw_g (lw_at lw_m1 155 rfl) rfl
theorem q558 : (Jvm.Cond.instantiable "LineRemarks$Shorts" (1 : Nat)) ∈ lw_all := lw_g (lw_at lw_m2 232 rfl) rfl
theorem q560 : (Jvm.Cond.instanceMethod ({ cls := "LineRemarks$Shorts", name := "<init>", desc := "(I)V" } : Jvm.MethodName)) ∈ lw_all := lw_g (lw_at lw_m2 234 rfl) rfl
theorem q561 : (Jvm.Cond.code ({ cls := "LineRemarks$Shorts", name := "<init>", desc := "(I)V" } : Jvm.MethodName) prog_20_method_1_code (2 : Nat) (Option.none : Option Jvm.ClassFile.FieldType)) ∈ lw_all := lw_g (lw_at lw_m2 235 rfl) rfl
theorem q562 : (Jvm.Cond.methodLink "LineRemarks$Shorts" (1 : Nat) ({ cls := "LineRemarks$Row", name := "<init>", desc := "()V" } : Jvm.MethodName)) ∈ lw_all := lw_g (lw_at lw_m2 236 rfl) rfl
theorem q563 : (Jvm.Cond.fieldLink "LineRemarks$Shorts" (7 : Nat) "LineRemarks$Shorts" "e" "[S") ∈ lw_all := lw_g (lw_at lw_m2 237 rfl) rfl
theorem q564 : (Jvm.Cond.laysFinal "LineRemarks$Shorts" "LineRemarks$Shorts" "e" "[S") ∈ lw_all := lw_g (lw_at lw_m2 238 rfl) rfl
theorem q565 : (Jvm.Cond.soleField "LineRemarks$Shorts" "e") ∈ lw_all := lw_g (lw_at lw_m2 239 rfl) rfl
theorem q566 : (Jvm.Cond.superclass "LineRemarks$Shorts" "LineRemarks$Row") ∈ lw_all := lw_g (lw_at lw_m3 0 rfl) rfl
theorem q631 : (Jvm.Cond.selects "LineRemarks$Shorts" ({ cls := "LineRemarks$Row", name := "put", desc := "(IJ)V" } : Jvm.MethodName) ({ cls := "LineRemarks$Shorts", name := "put", desc := "(IJ)V" } : Jvm.MethodName)) ∈ lw_all := lw_g (lw_at lw_m3 65 rfl) rfl
theorem q632 : (Jvm.Cond.instanceMethod ({ cls := "LineRemarks$Shorts", name := "put", desc := "(IJ)V" } : Jvm.MethodName)) ∈ lw_all := lw_g (lw_at lw_m3 66 rfl) rfl
theorem q633 : (Jvm.Cond.code ({ cls := "LineRemarks$Shorts", name := "put", desc := "(IJ)V" } : Jvm.MethodName) prog_20_method_4_code (4 : Nat) (Option.none : Option Jvm.ClassFile.FieldType)) ∈ lw_all := lw_g (lw_at lw_m3 67 rfl) rfl
theorem q656 : (Jvm.Cond.selects "LineRemarks$Shorts" ({ cls := "LineRemarks$Row", name := "sort", desc := "()I" } : Jvm.MethodName) ({ cls := "LineRemarks$Shorts", name := "sort", desc := "()I" } : Jvm.MethodName)) ∈ lw_all := lw_g (lw_at lw_m3 90 rfl) rfl
theorem q657 : (Jvm.Cond.instanceMethod ({ cls := "LineRemarks$Shorts", name := "sort", desc := "()I" } : Jvm.MethodName)) ∈ lw_all := lw_g (lw_at lw_m3 91 rfl) rfl
theorem q658 : (Jvm.Cond.code ({ cls := "LineRemarks$Shorts", name := "sort", desc := "()I" } : Jvm.MethodName) prog_20_method_2_code (1 : Nat) (Option.some Jvm.ClassFile.FieldType.int)) ∈ lw_all := lw_g (lw_at lw_m3 92 rfl) rfl
theorem q671 : (Jvm.Cond.selects "LineRemarks$Shorts" ({ cls := "LineRemarks$Row", name := "held", desc := "()Ljava/lang/Object;" } : Jvm.MethodName) ({ cls := "LineRemarks$Shorts", name := "held", desc := "()Ljava/lang/Object;" } : Jvm.MethodName)) ∈ lw_all := lw_g (lw_at lw_m3 105 rfl) rfl
theorem q672 : (Jvm.Cond.instanceMethod ({ cls := "LineRemarks$Shorts", name := "held", desc := "()Ljava/lang/Object;" } : Jvm.MethodName)) ∈ lw_all := lw_g (lw_at lw_m3 106 rfl) rfl
theorem q673 : (Jvm.Cond.code ({ cls := "LineRemarks$Shorts", name := "held", desc := "()Ljava/lang/Object;" } : Jvm.MethodName) prog_20_method_8_code (1 : Nat) (Option.some (Jvm.ClassFile.FieldType.object "java/lang/Object"))) ∈ lw_all := lw_g (lw_at lw_m3 107 rfl) rfl
theorem q693 : (Jvm.Cond.selects "LineRemarks$Shorts" ({ cls := "LineRemarks$Row", name := "get", desc := "(I)J" } : Jvm.MethodName) ({ cls := "LineRemarks$Shorts", name := "get", desc := "(I)J" } : Jvm.MethodName)) ∈ lw_all := lw_g (lw_at lw_m3 127 rfl) rfl
theorem q694 : (Jvm.Cond.instanceMethod ({ cls := "LineRemarks$Shorts", name := "get", desc := "(I)J" } : Jvm.MethodName)) ∈ lw_all := lw_g (lw_at lw_m3 128 rfl) rfl
theorem q695 : (Jvm.Cond.code ({ cls := "LineRemarks$Shorts", name := "get", desc := "(I)J" } : Jvm.MethodName) prog_20_method_5_code (2 : Nat) (Option.some Jvm.ClassFile.FieldType.long)) ∈ lw_all := lw_g (lw_at lw_m3 129 rfl) rfl
theorem q815 : (Jvm.Cond.selects "LineRemarks$Shorts" ({ cls := "LineRemarks$Row", name := "length", desc := "()I" } : Jvm.MethodName) ({ cls := "LineRemarks$Shorts", name := "length", desc := "()I" } : Jvm.MethodName)) ∈ lw_all := lw_g (lw_at lw_m4 9 rfl) rfl
theorem q816 : (Jvm.Cond.instanceMethod ({ cls := "LineRemarks$Shorts", name := "length", desc := "()I" } : Jvm.MethodName)) ∈ lw_all := lw_g (lw_at lw_m4 10 rfl) rfl
theorem q817 : (Jvm.Cond.code ({ cls := "LineRemarks$Shorts", name := "length", desc := "()I" } : Jvm.MethodName) prog_20_method_3_code (1 : Nat) (Option.some Jvm.ClassFile.FieldType.int)) ∈ lw_all := lw_g (lw_at lw_m4 11 rfl) rfl
theorem q832 : (Jvm.Cond.selects "LineRemarks$Shorts" ({ cls := "LineRemarks$Row", name := "asInt", desc := "(I)I" } : Jvm.MethodName) ({ cls := "LineRemarks$Row", name := "asInt", desc := "(I)I" } : Jvm.MethodName)) ∈ lw_all := lw_g (lw_at lw_m4 26 rfl) rfl
theorem q3031 : (Jvm.Cond.selects "LineRemarks$Shorts" ({ cls := "java/lang/Object", name := "equals", desc := "(Ljava/lang/Object;)Z" } : Jvm.MethodName) ({ cls := "java/lang/Object", name := "equals", desc := "(Ljava/lang/Object;)Z" } : Jvm.MethodName)) ∈ lw_all := lw_g (lw_at lw_m13 65 rfl) rfl
theorem q3785 : (Jvm.Cond.castable "LineRemarks$Shorts" "LineRemarks$Row") ∈ lw_tbl := lw_at lw_m16 99 rfl
theorem q3811 : (Jvm.Cond.castable "LineRemarks$Shorts" "java/lang/Object") ∈ lw_tbl := lw_at lw_m16 125 rfl
theorem in_X8 : ∀ w ∈ wsX80, w ∈ lw_all := lw_in wsX80 [564] (by decide +kernel) (by decide +kernel)
/-! LineRemarks$Ints -/
set_option maxRecDepth 100000
def RX9 : String := "LineRemarks$Ints"
def TX9 : u_T := fun k => match k with
  | _ => ("LineRemarks$Ints", "e", "[I", true)
def tyX9 : Nat → FieldType := fun k => match k with
  | _ => .array .int
abbrev wsX90 : List Cond := u_ws RX9 TX9 1
theorem nmX9 : ∀ a, a < 1 → ∀ b, b < 1 → a ≠ b → (TX9 a).2.1 ≠ (TX9 b).2.1 := by decide +kernel
theorem tyX9_ok : ∀ k, k < 1 → parseFieldDescriptor (TX9 k).2.2.1 = some (tyX9 k) := by decide +kernel
abbrev cX9_init : ByteArray := prog_7_method_1_code
def yX9_init : MethodName := ⟨RX9, "<init>", "(I)V"⟩
def dkwX9_init_0 : List UInt8 := [42, 183, 0, 1, 42, 27, 188, 10, 181, 0, 7, 177]
abbrev dktX9_init_0 : List UInt8 := dkwX9_init_0 ++ []
theorem dksX9_init_0 : cX9_init.data.toList.drop 0 = dktX9_init_0 := by decide +kernel
theorem dX9_init_0 : decode cX9_init 0 = .ok (.aload_n 0, 1) := dk_42 (dk_at dksX9_init_0 0 rfl rfl)
theorem dX9_init_1 : decode cX9_init 1 = .ok (.invokespecial 1, 3) := dk_183 0 1 (dk_at dksX9_init_0 1 rfl rfl)
theorem dX9_init_4 : decode cX9_init 4 = .ok (.aload_n 0, 1) := dk_42 (dk_at dksX9_init_0 4 rfl rfl)
theorem dX9_init_5 : decode cX9_init 5 = .ok (.iload_n 1, 1) := dk_27 (dk_at dksX9_init_0 5 rfl rfl)
theorem dX9_init_6 : decode cX9_init 6 = .ok (.newarray .int, 2) := dk_188_10 (dk_at dksX9_init_0 6 rfl rfl)
theorem dX9_init_8 : decode cX9_init 8 = .ok (.putfield 7, 3) := dk_181 0 7 (dk_at dksX9_init_0 8 rfl rfl)
theorem dX9_init_11 : decode cX9_init 11 = .ok (.return_, 1) := dk_177 (dk_at dksX9_init_0 11 rfl rfl)
abbrev cX9_put : ByteArray := prog_7_method_4_code
def yX9_put : MethodName := ⟨RX9, "put", "(IJ)V"⟩
def dkwX9_put_0 : List UInt8 := [42, 180, 0, 7, 27, 32, 136, 79, 177]
abbrev dktX9_put_0 : List UInt8 := dkwX9_put_0 ++ []
theorem dksX9_put_0 : cX9_put.data.toList.drop 0 = dktX9_put_0 := by decide +kernel
theorem dX9_put_0 : decode cX9_put 0 = .ok (.aload_n 0, 1) := dk_42 (dk_at dksX9_put_0 0 rfl rfl)
theorem dX9_put_1 : decode cX9_put 1 = .ok (.getfield 7, 3) := dk_180 0 7 (dk_at dksX9_put_0 1 rfl rfl)
theorem dX9_put_4 : decode cX9_put 4 = .ok (.iload_n 1, 1) := dk_27 (dk_at dksX9_put_0 4 rfl rfl)
theorem dX9_put_5 : decode cX9_put 5 = .ok (.lload_n 2, 1) := dk_32 (dk_at dksX9_put_0 5 rfl rfl)
theorem dX9_put_6 : decode cX9_put 6 = .ok (.l2i, 1) := dk_136 (dk_at dksX9_put_0 6 rfl rfl)
theorem dX9_put_7 : decode cX9_put 7 = .ok (.iastore, 1) := dk_79 (dk_at dksX9_put_0 7 rfl rfl)
theorem dX9_put_8 : decode cX9_put 8 = .ok (.return_, 1) := dk_177 (dk_at dksX9_put_0 8 rfl rfl)
abbrev cX9_sort : ByteArray := prog_7_method_2_code
def yX9_sort : MethodName := ⟨RX9, "sort", "()I"⟩
theorem dX9_sort_0 : decode cX9_sort 0 = .ok (.iconst 2, 1) := by decide +kernel
theorem dX9_sort_1 : decode cX9_sort 1 = .ok (.ireturn, 1) := by decide +kernel
abbrev cX9_held : ByteArray := prog_7_method_8_code
def yX9_held : MethodName := ⟨RX9, "held", "()Ljava/lang/Object;"⟩
theorem dX9_held_0 : decode cX9_held 0 = .ok (.aload_n 0, 1) := by decide +kernel
theorem dX9_held_1 : decode cX9_held 1 = .ok (.getfield 7, 3) := by decide +kernel
theorem dX9_held_4 : decode cX9_held 4 = .ok (.areturn, 1) := by decide +kernel
abbrev cX9_get : ByteArray := prog_7_method_5_code
def yX9_get : MethodName := ⟨RX9, "get", "(I)J"⟩
def dkwX9_get_0 : List UInt8 := [42, 180, 0, 7, 27, 46, 133, 173]
abbrev dktX9_get_0 : List UInt8 := dkwX9_get_0 ++ []
theorem dksX9_get_0 : cX9_get.data.toList.drop 0 = dktX9_get_0 := by decide +kernel
theorem dX9_get_0 : decode cX9_get 0 = .ok (.aload_n 0, 1) := dk_42 (dk_at dksX9_get_0 0 rfl rfl)
theorem dX9_get_1 : decode cX9_get 1 = .ok (.getfield 7, 3) := dk_180 0 7 (dk_at dksX9_get_0 1 rfl rfl)
theorem dX9_get_4 : decode cX9_get 4 = .ok (.iload_n 1, 1) := dk_27 (dk_at dksX9_get_0 4 rfl rfl)
theorem dX9_get_5 : decode cX9_get 5 = .ok (.iaload, 1) := dk_46 (dk_at dksX9_get_0 5 rfl rfl)
theorem dX9_get_6 : decode cX9_get 6 = .ok (.i2l, 1) := dk_133 (dk_at dksX9_get_0 6 rfl rfl)
theorem dX9_get_7 : decode cX9_get 7 = .ok (.lreturn, 1) := dk_173 (dk_at dksX9_get_0 7 rfl rfl)
abbrev cX9_length : ByteArray := prog_7_method_3_code
def yX9_length : MethodName := ⟨RX9, "length", "()I"⟩
def dkwX9_length_0 : List UInt8 := [42, 180, 0, 7, 190, 172]
abbrev dktX9_length_0 : List UInt8 := dkwX9_length_0 ++ []
theorem dksX9_length_0 : cX9_length.data.toList.drop 0 = dktX9_length_0 := by decide +kernel
theorem dX9_length_0 : decode cX9_length 0 = .ok (.aload_n 0, 1) := dk_42 (dk_at dksX9_length_0 0 rfl rfl)
theorem dX9_length_1 : decode cX9_length 1 = .ok (.getfield 7, 3) := dk_180 0 7 (dk_at dksX9_length_0 1 rfl rfl)
theorem dX9_length_4 : decode cX9_length 4 = .ok (.arraylength, 1) := dk_190 (dk_at dksX9_length_0 4 rfl rfl)
theorem dX9_length_5 : decode cX9_length 5 = .ok (.ireturn, 1) := dk_172 (dk_at dksX9_length_0 5 rfl rfl)
theorem q114 : (Jvm.Cond.initialized "LineRemarks$Ints") ∈ lw_all := lw_g (lw_at lw_m1 28 rfl) rfl
theorem q229 : (Jvm.Cond.selects "LineRemarks$Ints" ({ cls := "java/lang/Object", name := "getClass", desc := "()Ljava/lang/Class;" } : Jvm.MethodName) ({ cls := "java/lang/Object", name := "getClass", desc := "()Ljava/lang/Class;" } : Jvm.MethodName)) ∈ lw_all := lw_g (lw_at lw_m1 143 rfl) rfl
theorem q569 : (Jvm.Cond.instantiable "LineRemarks$Ints" (1 : Nat)) ∈ lw_all := lw_g (lw_at lw_m3 3 rfl) rfl
theorem q571 : (Jvm.Cond.instanceMethod ({ cls := "LineRemarks$Ints", name := "<init>", desc := "(I)V" } : Jvm.MethodName)) ∈ lw_all := lw_g (lw_at lw_m3 5 rfl) rfl
theorem q572 : (Jvm.Cond.code ({ cls := "LineRemarks$Ints", name := "<init>", desc := "(I)V" } : Jvm.MethodName) prog_7_method_1_code (2 : Nat) (Option.none : Option Jvm.ClassFile.FieldType)) ∈ lw_all := lw_g (lw_at lw_m3 6 rfl) rfl
theorem q573 : (Jvm.Cond.methodLink "LineRemarks$Ints" (1 : Nat) ({ cls := "LineRemarks$Row", name := "<init>", desc := "()V" } : Jvm.MethodName)) ∈ lw_all := lw_g (lw_at lw_m3 7 rfl) rfl
theorem q574 : (Jvm.Cond.fieldLink "LineRemarks$Ints" (7 : Nat) "LineRemarks$Ints" "e" "[I") ∈ lw_all := lw_g (lw_at lw_m3 8 rfl) rfl
theorem q575 : (Jvm.Cond.laysFinal "LineRemarks$Ints" "LineRemarks$Ints" "e" "[I") ∈ lw_all := lw_g (lw_at lw_m3 9 rfl) rfl
theorem q576 : (Jvm.Cond.soleField "LineRemarks$Ints" "e") ∈ lw_all := lw_g (lw_at lw_m3 10 rfl) rfl
theorem q577 : (Jvm.Cond.superclass "LineRemarks$Ints" "LineRemarks$Row") ∈ lw_all := lw_g (lw_at lw_m3 11 rfl) rfl
theorem q625 : (Jvm.Cond.selects "LineRemarks$Ints" ({ cls := "LineRemarks$Row", name := "put", desc := "(IJ)V" } : Jvm.MethodName) ({ cls := "LineRemarks$Ints", name := "put", desc := "(IJ)V" } : Jvm.MethodName)) ∈ lw_all := lw_g (lw_at lw_m3 59 rfl) rfl
theorem q626 : (Jvm.Cond.instanceMethod ({ cls := "LineRemarks$Ints", name := "put", desc := "(IJ)V" } : Jvm.MethodName)) ∈ lw_all := lw_g (lw_at lw_m3 60 rfl) rfl
theorem q627 : (Jvm.Cond.code ({ cls := "LineRemarks$Ints", name := "put", desc := "(IJ)V" } : Jvm.MethodName) prog_7_method_4_code (4 : Nat) (Option.none : Option Jvm.ClassFile.FieldType)) ∈ lw_all := lw_g (lw_at lw_m3 61 rfl) rfl
theorem q650 : (Jvm.Cond.selects "LineRemarks$Ints" ({ cls := "LineRemarks$Row", name := "sort", desc := "()I" } : Jvm.MethodName) ({ cls := "LineRemarks$Ints", name := "sort", desc := "()I" } : Jvm.MethodName)) ∈ lw_all := lw_g (lw_at lw_m3 84 rfl) rfl
theorem q651 : (Jvm.Cond.instanceMethod ({ cls := "LineRemarks$Ints", name := "sort", desc := "()I" } : Jvm.MethodName)) ∈ lw_all := lw_g (lw_at lw_m3 85 rfl) rfl
theorem q652 : (Jvm.Cond.code ({ cls := "LineRemarks$Ints", name := "sort", desc := "()I" } : Jvm.MethodName) prog_7_method_2_code (1 : Nat) (Option.some Jvm.ClassFile.FieldType.int)) ∈ lw_all := lw_g (lw_at lw_m3 86 rfl) rfl
theorem q665 : (Jvm.Cond.selects "LineRemarks$Ints" ({ cls := "LineRemarks$Row", name := "held", desc := "()Ljava/lang/Object;" } : Jvm.MethodName) ({ cls := "LineRemarks$Ints", name := "held", desc := "()Ljava/lang/Object;" } : Jvm.MethodName)) ∈ lw_all := lw_g (lw_at lw_m3 99 rfl) rfl
theorem q666 : (Jvm.Cond.instanceMethod ({ cls := "LineRemarks$Ints", name := "held", desc := "()Ljava/lang/Object;" } : Jvm.MethodName)) ∈ lw_all := lw_g (lw_at lw_m3 100 rfl) rfl
theorem q667 : (Jvm.Cond.code ({ cls := "LineRemarks$Ints", name := "held", desc := "()Ljava/lang/Object;" } : Jvm.MethodName) prog_7_method_8_code (1 : Nat) (Option.some (Jvm.ClassFile.FieldType.object "java/lang/Object"))) ∈ lw_all := lw_g (lw_at lw_m3 101 rfl) rfl
theorem q687 : (Jvm.Cond.selects "LineRemarks$Ints" ({ cls := "LineRemarks$Row", name := "get", desc := "(I)J" } : Jvm.MethodName) ({ cls := "LineRemarks$Ints", name := "get", desc := "(I)J" } : Jvm.MethodName)) ∈ lw_all := lw_g (lw_at lw_m3 121 rfl) rfl
theorem q688 : (Jvm.Cond.instanceMethod ({ cls := "LineRemarks$Ints", name := "get", desc := "(I)J" } : Jvm.MethodName)) ∈ lw_all := lw_g (lw_at lw_m3 122 rfl) rfl
theorem q689 : (Jvm.Cond.code ({ cls := "LineRemarks$Ints", name := "get", desc := "(I)J" } : Jvm.MethodName) prog_7_method_5_code (2 : Nat) (Option.some Jvm.ClassFile.FieldType.long)) ∈ lw_all := lw_g (lw_at lw_m3 123 rfl) rfl
theorem q809 : (Jvm.Cond.selects "LineRemarks$Ints" ({ cls := "LineRemarks$Row", name := "length", desc := "()I" } : Jvm.MethodName) ({ cls := "LineRemarks$Ints", name := "length", desc := "()I" } : Jvm.MethodName)) ∈ lw_all := lw_g (lw_at lw_m4 3 rfl) rfl
theorem q810 : (Jvm.Cond.instanceMethod ({ cls := "LineRemarks$Ints", name := "length", desc := "()I" } : Jvm.MethodName)) ∈ lw_all := lw_g (lw_at lw_m4 4 rfl) rfl
theorem q811 : (Jvm.Cond.code ({ cls := "LineRemarks$Ints", name := "length", desc := "()I" } : Jvm.MethodName) prog_7_method_3_code (1 : Nat) (Option.some Jvm.ClassFile.FieldType.int)) ∈ lw_all := lw_g (lw_at lw_m4 5 rfl) rfl
theorem q830 : (Jvm.Cond.selects "LineRemarks$Ints" ({ cls := "LineRemarks$Row", name := "asInt", desc := "(I)I" } : Jvm.MethodName) ({ cls := "LineRemarks$Row", name := "asInt", desc := "(I)I" } : Jvm.MethodName)) ∈ lw_all := lw_g (lw_at lw_m4 24 rfl) rfl
theorem q3019 : (Jvm.Cond.selects "LineRemarks$Ints" ({ cls := "java/lang/Object", name := "equals", desc := "(Ljava/lang/Object;)Z" } : Jvm.MethodName) ({ cls := "java/lang/Object", name := "equals", desc := "(Ljava/lang/Object;)Z" } : Jvm.MethodName)) ∈ lw_all := lw_g (lw_at lw_m13 53 rfl) rfl
theorem q3783 : (Jvm.Cond.castable "LineRemarks$Ints" "LineRemarks$Row") ∈ lw_tbl := lw_at lw_m16 97 rfl
theorem q3812 : (Jvm.Cond.castable "LineRemarks$Ints" "java/lang/Object") ∈ lw_tbl := lw_at lw_m16 126 rfl
theorem in_X9 : ∀ w ∈ wsX90, w ∈ lw_all := lw_in wsX90 [575] (by decide +kernel) (by decide +kernel)
/-! LineRemarks$Longs -/
set_option maxRecDepth 100000
def RX10 : String := "LineRemarks$Longs"
def TX10 : u_T := fun k => match k with
  | _ => ("LineRemarks$Longs", "e", "[J", true)
def tyX10 : Nat → FieldType := fun k => match k with
  | _ => .array .long
abbrev wsX100 : List Cond := u_ws RX10 TX10 1
theorem nmX10 : ∀ a, a < 1 → ∀ b, b < 1 → a ≠ b → (TX10 a).2.1 ≠ (TX10 b).2.1 := by decide +kernel
theorem tyX10_ok : ∀ k, k < 1 → parseFieldDescriptor (TX10 k).2.2.1 = some (tyX10 k) := by decide +kernel
abbrev cX10_init : ByteArray := prog_9_method_1_code
def yX10_init : MethodName := ⟨RX10, "<init>", "(I)V"⟩
def dkwX10_init_0 : List UInt8 := [42, 183, 0, 1, 42, 27, 188, 11, 181, 0, 7, 177]
abbrev dktX10_init_0 : List UInt8 := dkwX10_init_0 ++ []
theorem dksX10_init_0 : cX10_init.data.toList.drop 0 = dktX10_init_0 := by decide +kernel
theorem dX10_init_0 : decode cX10_init 0 = .ok (.aload_n 0, 1) := dk_42 (dk_at dksX10_init_0 0 rfl rfl)
theorem dX10_init_1 : decode cX10_init 1 = .ok (.invokespecial 1, 3) := dk_183 0 1 (dk_at dksX10_init_0 1 rfl rfl)
theorem dX10_init_4 : decode cX10_init 4 = .ok (.aload_n 0, 1) := dk_42 (dk_at dksX10_init_0 4 rfl rfl)
theorem dX10_init_5 : decode cX10_init 5 = .ok (.iload_n 1, 1) := dk_27 (dk_at dksX10_init_0 5 rfl rfl)
theorem dX10_init_6 : decode cX10_init 6 = .ok (.newarray .long, 2) := dk_188_11 (dk_at dksX10_init_0 6 rfl rfl)
theorem dX10_init_8 : decode cX10_init 8 = .ok (.putfield 7, 3) := dk_181 0 7 (dk_at dksX10_init_0 8 rfl rfl)
theorem dX10_init_11 : decode cX10_init 11 = .ok (.return_, 1) := dk_177 (dk_at dksX10_init_0 11 rfl rfl)
abbrev cX10_put : ByteArray := prog_9_method_4_code
def yX10_put : MethodName := ⟨RX10, "put", "(IJ)V"⟩
def dkwX10_put_0 : List UInt8 := [42, 180, 0, 7, 27, 32, 80, 177]
abbrev dktX10_put_0 : List UInt8 := dkwX10_put_0 ++ []
theorem dksX10_put_0 : cX10_put.data.toList.drop 0 = dktX10_put_0 := by decide +kernel
theorem dX10_put_0 : decode cX10_put 0 = .ok (.aload_n 0, 1) := dk_42 (dk_at dksX10_put_0 0 rfl rfl)
theorem dX10_put_1 : decode cX10_put 1 = .ok (.getfield 7, 3) := dk_180 0 7 (dk_at dksX10_put_0 1 rfl rfl)
theorem dX10_put_4 : decode cX10_put 4 = .ok (.iload_n 1, 1) := dk_27 (dk_at dksX10_put_0 4 rfl rfl)
theorem dX10_put_5 : decode cX10_put 5 = .ok (.lload_n 2, 1) := dk_32 (dk_at dksX10_put_0 5 rfl rfl)
theorem dX10_put_6 : decode cX10_put 6 = .ok (.lastore, 1) := dk_80 (dk_at dksX10_put_0 6 rfl rfl)
theorem dX10_put_7 : decode cX10_put 7 = .ok (.return_, 1) := dk_177 (dk_at dksX10_put_0 7 rfl rfl)
abbrev cX10_sort : ByteArray := prog_9_method_2_code
def yX10_sort : MethodName := ⟨RX10, "sort", "()I"⟩
theorem dX10_sort_0 : decode cX10_sort 0 = .ok (.iconst 3, 1) := by decide +kernel
theorem dX10_sort_1 : decode cX10_sort 1 = .ok (.ireturn, 1) := by decide +kernel
abbrev cX10_held : ByteArray := prog_9_method_8_code
def yX10_held : MethodName := ⟨RX10, "held", "()Ljava/lang/Object;"⟩
theorem dX10_held_0 : decode cX10_held 0 = .ok (.aload_n 0, 1) := by decide +kernel
theorem dX10_held_1 : decode cX10_held 1 = .ok (.getfield 7, 3) := by decide +kernel
theorem dX10_held_4 : decode cX10_held 4 = .ok (.areturn, 1) := by decide +kernel
abbrev cX10_get : ByteArray := prog_9_method_5_code
def yX10_get : MethodName := ⟨RX10, "get", "(I)J"⟩
def dkwX10_get_0 : List UInt8 := [42, 180, 0, 7, 27, 47, 173]
abbrev dktX10_get_0 : List UInt8 := dkwX10_get_0 ++ []
theorem dksX10_get_0 : cX10_get.data.toList.drop 0 = dktX10_get_0 := by decide +kernel
theorem dX10_get_0 : decode cX10_get 0 = .ok (.aload_n 0, 1) := dk_42 (dk_at dksX10_get_0 0 rfl rfl)
theorem dX10_get_1 : decode cX10_get 1 = .ok (.getfield 7, 3) := dk_180 0 7 (dk_at dksX10_get_0 1 rfl rfl)
theorem dX10_get_4 : decode cX10_get 4 = .ok (.iload_n 1, 1) := dk_27 (dk_at dksX10_get_0 4 rfl rfl)
theorem dX10_get_5 : decode cX10_get 5 = .ok (.laload, 1) := dk_47 (dk_at dksX10_get_0 5 rfl rfl)
theorem dX10_get_6 : decode cX10_get 6 = .ok (.lreturn, 1) := dk_173 (dk_at dksX10_get_0 6 rfl rfl)
abbrev cX10_length : ByteArray := prog_9_method_3_code
def yX10_length : MethodName := ⟨RX10, "length", "()I"⟩
def dkwX10_length_0 : List UInt8 := [42, 180, 0, 7, 190, 172]
abbrev dktX10_length_0 : List UInt8 := dkwX10_length_0 ++ []
theorem dksX10_length_0 : cX10_length.data.toList.drop 0 = dktX10_length_0 := by decide +kernel
theorem dX10_length_0 : decode cX10_length 0 = .ok (.aload_n 0, 1) := dk_42 (dk_at dksX10_length_0 0 rfl rfl)
theorem dX10_length_1 : decode cX10_length 1 = .ok (.getfield 7, 3) := dk_180 0 7 (dk_at dksX10_length_0 1 rfl rfl)
theorem dX10_length_4 : decode cX10_length 4 = .ok (.arraylength, 1) := dk_190 (dk_at dksX10_length_0 4 rfl rfl)
theorem dX10_length_5 : decode cX10_length 5 = .ok (.ireturn, 1) := dk_172 (dk_at dksX10_length_0 5 rfl rfl)
theorem q115 : (Jvm.Cond.initialized "LineRemarks$Longs") ∈ lw_all := lw_g (lw_at lw_m1 29 rfl) rfl
theorem q231 : (Jvm.Cond.selects "LineRemarks$Longs" ({ cls := "java/lang/Object", name := "getClass", desc := "()Ljava/lang/Class;" } : Jvm.MethodName) ({ cls := "java/lang/Object", name := "getClass", desc := "()Ljava/lang/Class;" } : Jvm.MethodName)) ∈ lw_all := lw_g (lw_at lw_m1 145 rfl) rfl
theorem q579 : (Jvm.Cond.instantiable "LineRemarks$Longs" (1 : Nat)) ∈ lw_all := lw_g (lw_at lw_m3 13 rfl) rfl
theorem q581 : (Jvm.Cond.instanceMethod ({ cls := "LineRemarks$Longs", name := "<init>", desc := "(I)V" } : Jvm.MethodName)) ∈ lw_all := lw_g (lw_at lw_m3 15 rfl) rfl
theorem q582 : (Jvm.Cond.code ({ cls := "LineRemarks$Longs", name := "<init>", desc := "(I)V" } : Jvm.MethodName) prog_9_method_1_code (2 : Nat) (Option.none : Option Jvm.ClassFile.FieldType)) ∈ lw_all := lw_g (lw_at lw_m3 16 rfl) rfl
theorem q583 : (Jvm.Cond.methodLink "LineRemarks$Longs" (1 : Nat) ({ cls := "LineRemarks$Row", name := "<init>", desc := "()V" } : Jvm.MethodName)) ∈ lw_all := lw_g (lw_at lw_m3 17 rfl) rfl
theorem q584 : (Jvm.Cond.fieldLink "LineRemarks$Longs" (7 : Nat) "LineRemarks$Longs" "e" "[J") ∈ lw_all := lw_g (lw_at lw_m3 18 rfl) rfl
theorem q585 : (Jvm.Cond.laysFinal "LineRemarks$Longs" "LineRemarks$Longs" "e" "[J") ∈ lw_all := lw_g (lw_at lw_m3 19 rfl) rfl
theorem q586 : (Jvm.Cond.soleField "LineRemarks$Longs" "e") ∈ lw_all := lw_g (lw_at lw_m3 20 rfl) rfl
theorem q587 : (Jvm.Cond.superclass "LineRemarks$Longs" "LineRemarks$Row") ∈ lw_all := lw_g (lw_at lw_m3 21 rfl) rfl
theorem q628 : (Jvm.Cond.selects "LineRemarks$Longs" ({ cls := "LineRemarks$Row", name := "put", desc := "(IJ)V" } : Jvm.MethodName) ({ cls := "LineRemarks$Longs", name := "put", desc := "(IJ)V" } : Jvm.MethodName)) ∈ lw_all := lw_g (lw_at lw_m3 62 rfl) rfl
theorem q629 : (Jvm.Cond.instanceMethod ({ cls := "LineRemarks$Longs", name := "put", desc := "(IJ)V" } : Jvm.MethodName)) ∈ lw_all := lw_g (lw_at lw_m3 63 rfl) rfl
theorem q630 : (Jvm.Cond.code ({ cls := "LineRemarks$Longs", name := "put", desc := "(IJ)V" } : Jvm.MethodName) prog_9_method_4_code (4 : Nat) (Option.none : Option Jvm.ClassFile.FieldType)) ∈ lw_all := lw_g (lw_at lw_m3 64 rfl) rfl
theorem q653 : (Jvm.Cond.selects "LineRemarks$Longs" ({ cls := "LineRemarks$Row", name := "sort", desc := "()I" } : Jvm.MethodName) ({ cls := "LineRemarks$Longs", name := "sort", desc := "()I" } : Jvm.MethodName)) ∈ lw_all := lw_g (lw_at lw_m3 87 rfl) rfl
theorem q654 : (Jvm.Cond.instanceMethod ({ cls := "LineRemarks$Longs", name := "sort", desc := "()I" } : Jvm.MethodName)) ∈ lw_all := lw_g (lw_at lw_m3 88 rfl) rfl
theorem q655 : (Jvm.Cond.code ({ cls := "LineRemarks$Longs", name := "sort", desc := "()I" } : Jvm.MethodName) prog_9_method_2_code (1 : Nat) (Option.some Jvm.ClassFile.FieldType.int)) ∈ lw_all := lw_g (lw_at lw_m3 89 rfl) rfl
theorem q668 : (Jvm.Cond.selects "LineRemarks$Longs" ({ cls := "LineRemarks$Row", name := "held", desc := "()Ljava/lang/Object;" } : Jvm.MethodName) ({ cls := "LineRemarks$Longs", name := "held", desc := "()Ljava/lang/Object;" } : Jvm.MethodName)) ∈ lw_all := lw_g (lw_at lw_m3 102 rfl) rfl
theorem q669 : (Jvm.Cond.instanceMethod ({ cls := "LineRemarks$Longs", name := "held", desc := "()Ljava/lang/Object;" } : Jvm.MethodName)) ∈ lw_all := lw_g (lw_at lw_m3 103 rfl) rfl
theorem q670 : (Jvm.Cond.code ({ cls := "LineRemarks$Longs", name := "held", desc := "()Ljava/lang/Object;" } : Jvm.MethodName) prog_9_method_8_code (1 : Nat) (Option.some (Jvm.ClassFile.FieldType.object "java/lang/Object"))) ∈ lw_all := lw_g (lw_at lw_m3 104 rfl) rfl
theorem q690 : (Jvm.Cond.selects "LineRemarks$Longs" ({ cls := "LineRemarks$Row", name := "get", desc := "(I)J" } : Jvm.MethodName) ({ cls := "LineRemarks$Longs", name := "get", desc := "(I)J" } : Jvm.MethodName)) ∈ lw_all := lw_g (lw_at lw_m3 124 rfl) rfl
theorem q691 : (Jvm.Cond.instanceMethod ({ cls := "LineRemarks$Longs", name := "get", desc := "(I)J" } : Jvm.MethodName)) ∈ lw_all := lw_g (lw_at lw_m3 125 rfl) rfl
theorem q692 : (Jvm.Cond.code ({ cls := "LineRemarks$Longs", name := "get", desc := "(I)J" } : Jvm.MethodName) prog_9_method_5_code (2 : Nat) (Option.some Jvm.ClassFile.FieldType.long)) ∈ lw_all := lw_g (lw_at lw_m3 126 rfl) rfl
theorem q812 : (Jvm.Cond.selects "LineRemarks$Longs" ({ cls := "LineRemarks$Row", name := "length", desc := "()I" } : Jvm.MethodName) ({ cls := "LineRemarks$Longs", name := "length", desc := "()I" } : Jvm.MethodName)) ∈ lw_all := lw_g (lw_at lw_m4 6 rfl) rfl
theorem q813 : (Jvm.Cond.instanceMethod ({ cls := "LineRemarks$Longs", name := "length", desc := "()I" } : Jvm.MethodName)) ∈ lw_all := lw_g (lw_at lw_m4 7 rfl) rfl
theorem q814 : (Jvm.Cond.code ({ cls := "LineRemarks$Longs", name := "length", desc := "()I" } : Jvm.MethodName) prog_9_method_3_code (1 : Nat) (Option.some Jvm.ClassFile.FieldType.int)) ∈ lw_all := lw_g (lw_at lw_m4 8 rfl) rfl
theorem q831 : (Jvm.Cond.selects "LineRemarks$Longs" ({ cls := "LineRemarks$Row", name := "asInt", desc := "(I)I" } : Jvm.MethodName) ({ cls := "LineRemarks$Row", name := "asInt", desc := "(I)I" } : Jvm.MethodName)) ∈ lw_all := lw_g (lw_at lw_m4 25 rfl) rfl
theorem q3021 : (Jvm.Cond.selects "LineRemarks$Longs" ({ cls := "java/lang/Object", name := "equals", desc := "(Ljava/lang/Object;)Z" } : Jvm.MethodName) ({ cls := "java/lang/Object", name := "equals", desc := "(Ljava/lang/Object;)Z" } : Jvm.MethodName)) ∈ lw_all := lw_g (lw_at lw_m13 55 rfl) rfl
theorem q3784 : (Jvm.Cond.castable "LineRemarks$Longs" "LineRemarks$Row") ∈ lw_tbl := lw_at lw_m16 98 rfl
theorem q3813 : (Jvm.Cond.castable "LineRemarks$Longs" "java/lang/Object") ∈ lw_tbl := lw_at lw_m16 127 rfl
theorem in_X10 : ∀ w ∈ wsX100, w ∈ lw_all := lw_in wsX100 [585] (by decide +kernel) (by decide +kernel)
/-! LineRemarks$Reader -/
set_option maxRecDepth 100000
def RX11 : String := "LineRemarks$Reader"
def TX11 : u_T := fun k => match k with
  | 0 => ("LineRemarks$Reader", "text", "LLineRemarks$Row;", true)
  | 1 => ("LineRemarks$Reader", "letters", "[C", true)
  | 2 => ("LineRemarks$Reader", "lines", "Ljava/util/List;", true)
  | _ => ("LineRemarks$Reader", "at", "I", false)
def tyX11 : Nat → FieldType := fun k => match k with
  | 0 => .object "LineRemarks$Row"
  | 1 => .array .char
  | 2 => .object "java/util/List"
  | _ => .int
abbrev wsX110 : List Cond := u_ws RX11 TX11 4
theorem nmX11 : ∀ a, a < 4 → ∀ b, b < 4 → a ≠ b → (TX11 a).2.1 ≠ (TX11 b).2.1 := by decide +kernel
theorem tyX11_ok : ∀ k, k < 4 → parseFieldDescriptor (TX11 k).2.2.1 = some (tyX11 k) := by decide +kernel
abbrev cX11_init : ByteArray := prog_14_method_1_code
def yX11_init : MethodName := ⟨RX11, "<init>", "(LLineRemarks$Row;)V"⟩
def dkwX11_init_1 : List UInt8 := [43, 181, 0, 22, 177]
abbrev dktX11_init_1 : List UInt8 := dkwX11_init_1 ++ []
def dkwX11_init_0 : List UInt8 := [42, 183, 0, 3, 42, 16, 8, 188, 5, 181, 0, 9, 42, 187, 0, 15, 89, 183, 0, 17, 181, 0, 18, 42]
abbrev dktX11_init_0 : List UInt8 := dkwX11_init_0 ++ dktX11_init_1
theorem dksX11_init_0 : cX11_init.data.toList.drop 0 = dktX11_init_0 := by decide +kernel
theorem dksX11_init_1 : cX11_init.data.toList.drop 24 = dktX11_init_1 := dk_seg dksX11_init_0 24 rfl rfl
theorem dX11_init_0 : decode cX11_init 0 = .ok (.aload_n 0, 1) := dk_42 (dk_at dksX11_init_0 0 rfl rfl)
theorem dX11_init_1 : decode cX11_init 1 = .ok (.invokespecial 3, 3) := dk_183 0 3 (dk_at dksX11_init_0 1 rfl rfl)
theorem dX11_init_4 : decode cX11_init 4 = .ok (.aload_n 0, 1) := dk_42 (dk_at dksX11_init_0 4 rfl rfl)
theorem dX11_init_5 : decode cX11_init 5 = .ok (.bipush 8, 2) := dk_16 8 (dk_at dksX11_init_0 5 rfl rfl)
theorem dX11_init_7 : decode cX11_init 7 = .ok (.newarray .char, 2) := dk_188_5 (dk_at dksX11_init_0 7 rfl rfl)
theorem dX11_init_9 : decode cX11_init 9 = .ok (.putfield 9, 3) := dk_181 0 9 (dk_at dksX11_init_0 9 rfl rfl)
theorem dX11_init_12 : decode cX11_init 12 = .ok (.aload_n 0, 1) := dk_42 (dk_at dksX11_init_0 12 rfl rfl)
theorem dX11_init_13 : decode cX11_init 13 = .ok (.new 15, 3) := dk_187 0 15 (dk_at dksX11_init_0 13 rfl rfl)
theorem dX11_init_16 : decode cX11_init 16 = .ok (.dup, 1) := dk_89 (dk_at dksX11_init_0 16 rfl rfl)
theorem dX11_init_17 : decode cX11_init 17 = .ok (.invokespecial 17, 3) := dk_183 0 17 (dk_at dksX11_init_0 17 rfl rfl)
theorem dX11_init_20 : decode cX11_init 20 = .ok (.putfield 18, 3) := dk_181 0 18 (dk_at dksX11_init_0 20 rfl rfl)
theorem dX11_init_23 : decode cX11_init 23 = .ok (.aload_n 0, 1) := dk_42 (dk_at dksX11_init_0 23 rfl rfl)
theorem dX11_init_24 : decode cX11_init 24 = .ok (.aload_n 1, 1) := dk_43 (dk_at dksX11_init_1 0 rfl rfl)
theorem dX11_init_25 : decode cX11_init 25 = .ok (.putfield 22, 3) := dk_181 0 22 (dk_at dksX11_init_1 1 rfl rfl)
theorem dX11_init_28 : decode cX11_init 28 = .ok (.return_, 1) := dk_177 (dk_at dksX11_init_1 4 rfl rfl)
abbrev cX11_whole : ByteArray := prog_14_method_6_code
def yX11_whole : MethodName := ⟨RX11, "whole", "()[LLineRemarks$Line;"⟩
def dkwX11_whole_3 : List UInt8 := [182, 0, 67, 167, 255, 196, 42, 180, 0, 18, 184, 0, 73, 176]
abbrev dktX11_whole_3 : List UInt8 := dkwX11_whole_3 ++ []
def dkwX11_whole_2 : List UInt8 := [162, 0, 7, 4, 167, 0, 4, 3, 182, 0, 52, 42, 89, 180, 0, 26, 4, 96, 181, 0, 26, 42]
abbrev dktX11_whole_2 : List UInt8 := dkwX11_whole_2 ++ dktX11_whole_3
def dkwX11_whole_1 : List UInt8 := [180, 0, 26, 182, 0, 40, 16, 47, 160, 0, 21, 42, 180, 0, 18, 185, 0, 70, 1, 0, 16, 24]
abbrev dktX11_whole_1 : List UInt8 := dkwX11_whole_1 ++ dktX11_whole_2
def dkwX11_whole_0 : List UInt8 := [42, 182, 0, 36, 154, 0, 7, 42, 182, 0, 67, 42, 182, 0, 36, 154, 0, 59, 42, 42, 180, 0, 22, 42]
abbrev dktX11_whole_0 : List UInt8 := dkwX11_whole_0 ++ dktX11_whole_1
theorem dksX11_whole_0 : cX11_whole.data.toList.drop 0 = dktX11_whole_0 := by decide +kernel
theorem dksX11_whole_1 : cX11_whole.data.toList.drop 24 = dktX11_whole_1 := dk_seg dksX11_whole_0 24 rfl rfl
theorem dksX11_whole_2 : cX11_whole.data.toList.drop 46 = dktX11_whole_2 := dk_seg dksX11_whole_1 22 rfl rfl
theorem dksX11_whole_3 : cX11_whole.data.toList.drop 68 = dktX11_whole_3 := dk_seg dksX11_whole_2 22 rfl rfl
theorem dX11_whole_0 : decode cX11_whole 0 = .ok (.aload_n 0, 1) := dk_42 (dk_at dksX11_whole_0 0 rfl rfl)
theorem dX11_whole_1 : decode cX11_whole 1 = .ok (.invokevirtual 36, 3) := dk_182 0 36 (dk_at dksX11_whole_0 1 rfl rfl)
theorem dX11_whole_4 : decode cX11_whole 4 = .ok (.ifCond .ne 7, 3) := dk_154 0 7 (dk_at dksX11_whole_0 4 rfl rfl)
theorem dX11_whole_7 : decode cX11_whole 7 = .ok (.aload_n 0, 1) := dk_42 (dk_at dksX11_whole_0 7 rfl rfl)
theorem dX11_whole_8 : decode cX11_whole 8 = .ok (.invokevirtual 67, 3) := dk_182 0 67 (dk_at dksX11_whole_0 8 rfl rfl)
theorem dX11_whole_11 : decode cX11_whole 11 = .ok (.aload_n 0, 1) := dk_42 (dk_at dksX11_whole_0 11 rfl rfl)
theorem dX11_whole_12 : decode cX11_whole 12 = .ok (.invokevirtual 36, 3) := dk_182 0 36 (dk_at dksX11_whole_0 12 rfl rfl)
theorem dX11_whole_15 : decode cX11_whole 15 = .ok (.ifCond .ne 59, 3) := dk_154 0 59 (dk_at dksX11_whole_0 15 rfl rfl)
theorem dX11_whole_18 : decode cX11_whole 18 = .ok (.aload_n 0, 1) := dk_42 (dk_at dksX11_whole_0 18 rfl rfl)
theorem dX11_whole_19 : decode cX11_whole 19 = .ok (.aload_n 0, 1) := dk_42 (dk_at dksX11_whole_0 19 rfl rfl)
theorem dX11_whole_20 : decode cX11_whole 20 = .ok (.getfield 22, 3) := dk_180 0 22 (dk_at dksX11_whole_0 20 rfl rfl)
theorem dX11_whole_23 : decode cX11_whole 23 = .ok (.aload_n 0, 1) := dk_42 (dk_at dksX11_whole_0 23 rfl rfl)
theorem dX11_whole_24 : decode cX11_whole 24 = .ok (.getfield 26, 3) := dk_180 0 26 (dk_at dksX11_whole_1 0 rfl rfl)
theorem dX11_whole_27 : decode cX11_whole 27 = .ok (.invokevirtual 40, 3) := dk_182 0 40 (dk_at dksX11_whole_1 3 rfl rfl)
theorem dX11_whole_30 : decode cX11_whole 30 = .ok (.bipush 47, 2) := dk_16 47 (dk_at dksX11_whole_1 6 rfl rfl)
theorem dX11_whole_32 : decode cX11_whole 32 = .ok (.if_icmp .ne 21, 3) := dk_160 0 21 (dk_at dksX11_whole_1 8 rfl rfl)
theorem dX11_whole_35 : decode cX11_whole 35 = .ok (.aload_n 0, 1) := dk_42 (dk_at dksX11_whole_1 11 rfl rfl)
theorem dX11_whole_36 : decode cX11_whole 36 = .ok (.getfield 18, 3) := dk_180 0 18 (dk_at dksX11_whole_1 12 rfl rfl)
theorem dX11_whole_39 : decode cX11_whole 39 = .ok (.invokeinterface 70 1, 5) := by decide +kernel
theorem dX11_whole_44 : decode cX11_whole 44 = .ok (.bipush 24, 2) := dk_16 24 (dk_at dksX11_whole_1 20 rfl rfl)
theorem dX11_whole_46 : decode cX11_whole 46 = .ok (.if_icmp .ge 7, 3) := dk_162 0 7 (dk_at dksX11_whole_2 0 rfl rfl)
theorem dX11_whole_49 : decode cX11_whole 49 = .ok (.iconst 1, 1) := dk_4 (dk_at dksX11_whole_2 3 rfl rfl)
theorem dX11_whole_50 : decode cX11_whole 50 = .ok (.goto 4, 3) := dk_167 0 4 (dk_at dksX11_whole_2 4 rfl rfl)
theorem dX11_whole_53 : decode cX11_whole 53 = .ok (.iconst 0, 1) := dk_3 (dk_at dksX11_whole_2 7 rfl rfl)
theorem dX11_whole_54 : decode cX11_whole 54 = .ok (.invokevirtual 52, 3) := dk_182 0 52 (dk_at dksX11_whole_2 8 rfl rfl)
theorem dX11_whole_57 : decode cX11_whole 57 = .ok (.aload_n 0, 1) := dk_42 (dk_at dksX11_whole_2 11 rfl rfl)
theorem dX11_whole_58 : decode cX11_whole 58 = .ok (.dup, 1) := dk_89 (dk_at dksX11_whole_2 12 rfl rfl)
theorem dX11_whole_59 : decode cX11_whole 59 = .ok (.getfield 26, 3) := dk_180 0 26 (dk_at dksX11_whole_2 13 rfl rfl)
theorem dX11_whole_62 : decode cX11_whole 62 = .ok (.iconst 1, 1) := dk_4 (dk_at dksX11_whole_2 16 rfl rfl)
theorem dX11_whole_63 : decode cX11_whole 63 = .ok (.iadd, 1) := dk_96 (dk_at dksX11_whole_2 17 rfl rfl)
theorem dX11_whole_64 : decode cX11_whole 64 = .ok (.putfield 26, 3) := dk_181 0 26 (dk_at dksX11_whole_2 18 rfl rfl)
theorem dX11_whole_67 : decode cX11_whole 67 = .ok (.aload_n 0, 1) := dk_42 (dk_at dksX11_whole_2 21 rfl rfl)
theorem dX11_whole_68 : decode cX11_whole 68 = .ok (.invokevirtual 67, 3) := dk_182 0 67 (dk_at dksX11_whole_3 0 rfl rfl)
theorem dX11_whole_71 : decode cX11_whole 71 = .ok (.goto (-60), 3) := dk_167 255 196 (dk_at dksX11_whole_3 3 rfl rfl)
theorem dX11_whole_74 : decode cX11_whole 74 = .ok (.aload_n 0, 1) := dk_42 (dk_at dksX11_whole_3 6 rfl rfl)
theorem dX11_whole_75 : decode cX11_whole 75 = .ok (.getfield 18, 3) := dk_180 0 18 (dk_at dksX11_whole_3 7 rfl rfl)
theorem dX11_whole_78 : decode cX11_whole 78 = .ok (.invokestatic 73, 3) := dk_184 0 73 (dk_at dksX11_whole_3 10 rfl rfl)
theorem dX11_whole_81 : decode cX11_whole 81 = .ok (.areturn, 1) := dk_176 (dk_at dksX11_whole_3 13 rfl rfl)
abbrev cX11_ends : ByteArray := prog_14_method_2_code
def yX11_ends : MethodName := ⟨RX11, "ends", "()Z"⟩
def dkwX11_ends_0 : List UInt8 := [42, 180, 0, 26, 42, 180, 0, 22, 182, 0, 30, 160, 0, 7, 4, 167, 0, 4, 3, 172]
abbrev dktX11_ends_0 : List UInt8 := dkwX11_ends_0 ++ []
theorem dksX11_ends_0 : cX11_ends.data.toList.drop 0 = dktX11_ends_0 := by decide +kernel
theorem dX11_ends_0 : decode cX11_ends 0 = .ok (.aload_n 0, 1) := dk_42 (dk_at dksX11_ends_0 0 rfl rfl)
theorem dX11_ends_1 : decode cX11_ends 1 = .ok (.getfield 26, 3) := dk_180 0 26 (dk_at dksX11_ends_0 1 rfl rfl)
theorem dX11_ends_4 : decode cX11_ends 4 = .ok (.aload_n 0, 1) := dk_42 (dk_at dksX11_ends_0 4 rfl rfl)
theorem dX11_ends_5 : decode cX11_ends 5 = .ok (.getfield 22, 3) := dk_180 0 22 (dk_at dksX11_ends_0 5 rfl rfl)
theorem dX11_ends_8 : decode cX11_ends 8 = .ok (.invokevirtual 30, 3) := dk_182 0 30 (dk_at dksX11_ends_0 8 rfl rfl)
theorem dX11_ends_11 : decode cX11_ends 11 = .ok (.if_icmp .ne 7, 3) := dk_160 0 7 (dk_at dksX11_ends_0 11 rfl rfl)
theorem dX11_ends_14 : decode cX11_ends 14 = .ok (.iconst 1, 1) := dk_4 (dk_at dksX11_ends_0 14 rfl rfl)
theorem dX11_ends_15 : decode cX11_ends 15 = .ok (.goto 4, 3) := dk_167 0 4 (dk_at dksX11_ends_0 15 rfl rfl)
theorem dX11_ends_18 : decode cX11_ends 18 = .ok (.iconst 0, 1) := dk_3 (dk_at dksX11_ends_0 18 rfl rfl)
theorem dX11_ends_19 : decode cX11_ends 19 = .ok (.ireturn, 1) := dk_172 (dk_at dksX11_ends_0 19 rfl rfl)
abbrev cX11_line : ByteArray := prog_14_method_5_code
def yX11_line : MethodName := ⟨RX11, "line", "()V"⟩
def dkwX11_line_3 : List UInt8 := [185, 0, 61, 2, 0, 87, 177]
abbrev dktX11_line_3 : List UInt8 := dkwX11_line_3 ++ []
def dkwX11_line_2 : List UInt8 := [182, 0, 40, 146, 85, 167, 255, 215, 42, 180, 0, 18, 187, 0, 56, 89, 42, 180, 0, 9, 27, 183, 0, 58]
abbrev dktX11_line_2 : List UInt8 := dkwX11_line_2 ++ dktX11_line_3
def dkwX11_line_1 : List UInt8 := [180, 0, 9, 27, 132, 1, 1, 42, 180, 0, 22, 42, 89, 180, 0, 26, 90, 4, 96, 181, 0, 26]
abbrev dktX11_line_1 : List UInt8 := dkwX11_line_1 ++ dktX11_line_2
def dkwX11_line_0 : List UInt8 := [42, 42, 182, 0, 49, 182, 0, 52, 3, 60, 27, 16, 8, 162, 0, 41, 42, 182, 0, 49, 153, 0, 34, 42]
abbrev dktX11_line_0 : List UInt8 := dkwX11_line_0 ++ dktX11_line_1
theorem dksX11_line_0 : cX11_line.data.toList.drop 0 = dktX11_line_0 := by decide +kernel
theorem dksX11_line_1 : cX11_line.data.toList.drop 24 = dktX11_line_1 := dk_seg dksX11_line_0 24 rfl rfl
theorem dksX11_line_2 : cX11_line.data.toList.drop 46 = dktX11_line_2 := dk_seg dksX11_line_1 22 rfl rfl
theorem dksX11_line_3 : cX11_line.data.toList.drop 70 = dktX11_line_3 := dk_seg dksX11_line_2 24 rfl rfl
theorem dX11_line_0 : decode cX11_line 0 = .ok (.aload_n 0, 1) := dk_42 (dk_at dksX11_line_0 0 rfl rfl)
theorem dX11_line_1 : decode cX11_line 1 = .ok (.aload_n 0, 1) := dk_42 (dk_at dksX11_line_0 1 rfl rfl)
theorem dX11_line_2 : decode cX11_line 2 = .ok (.invokevirtual 49, 3) := dk_182 0 49 (dk_at dksX11_line_0 2 rfl rfl)
theorem dX11_line_5 : decode cX11_line 5 = .ok (.invokevirtual 52, 3) := dk_182 0 52 (dk_at dksX11_line_0 5 rfl rfl)
theorem dX11_line_8 : decode cX11_line 8 = .ok (.iconst 0, 1) := dk_3 (dk_at dksX11_line_0 8 rfl rfl)
theorem dX11_line_9 : decode cX11_line 9 = .ok (.istore_n 1, 1) := dk_60 (dk_at dksX11_line_0 9 rfl rfl)
theorem dX11_line_10 : decode cX11_line 10 = .ok (.iload_n 1, 1) := dk_27 (dk_at dksX11_line_0 10 rfl rfl)
theorem dX11_line_11 : decode cX11_line 11 = .ok (.bipush 8, 2) := dk_16 8 (dk_at dksX11_line_0 11 rfl rfl)
theorem dX11_line_13 : decode cX11_line 13 = .ok (.if_icmp .ge 41, 3) := dk_162 0 41 (dk_at dksX11_line_0 13 rfl rfl)
theorem dX11_line_16 : decode cX11_line 16 = .ok (.aload_n 0, 1) := dk_42 (dk_at dksX11_line_0 16 rfl rfl)
theorem dX11_line_17 : decode cX11_line 17 = .ok (.invokevirtual 49, 3) := dk_182 0 49 (dk_at dksX11_line_0 17 rfl rfl)
theorem dX11_line_20 : decode cX11_line 20 = .ok (.ifCond .eq 34, 3) := dk_153 0 34 (dk_at dksX11_line_0 20 rfl rfl)
theorem dX11_line_23 : decode cX11_line 23 = .ok (.aload_n 0, 1) := dk_42 (dk_at dksX11_line_0 23 rfl rfl)
theorem dX11_line_24 : decode cX11_line 24 = .ok (.getfield 9, 3) := dk_180 0 9 (dk_at dksX11_line_1 0 rfl rfl)
theorem dX11_line_27 : decode cX11_line 27 = .ok (.iload_n 1, 1) := dk_27 (dk_at dksX11_line_1 3 rfl rfl)
theorem dX11_line_28 : decode cX11_line 28 = .ok (.iinc 1 1, 3) := dk_132 1 1 (dk_at dksX11_line_1 4 rfl rfl)
theorem dX11_line_31 : decode cX11_line 31 = .ok (.aload_n 0, 1) := dk_42 (dk_at dksX11_line_1 7 rfl rfl)
theorem dX11_line_32 : decode cX11_line 32 = .ok (.getfield 22, 3) := dk_180 0 22 (dk_at dksX11_line_1 8 rfl rfl)
theorem dX11_line_35 : decode cX11_line 35 = .ok (.aload_n 0, 1) := dk_42 (dk_at dksX11_line_1 11 rfl rfl)
theorem dX11_line_36 : decode cX11_line 36 = .ok (.dup, 1) := dk_89 (dk_at dksX11_line_1 12 rfl rfl)
theorem dX11_line_37 : decode cX11_line 37 = .ok (.getfield 26, 3) := dk_180 0 26 (dk_at dksX11_line_1 13 rfl rfl)
theorem dX11_line_40 : decode cX11_line 40 = .ok (.dup_x1, 1) := dk_90 (dk_at dksX11_line_1 16 rfl rfl)
theorem dX11_line_41 : decode cX11_line 41 = .ok (.iconst 1, 1) := dk_4 (dk_at dksX11_line_1 17 rfl rfl)
theorem dX11_line_42 : decode cX11_line 42 = .ok (.iadd, 1) := dk_96 (dk_at dksX11_line_1 18 rfl rfl)
theorem dX11_line_43 : decode cX11_line 43 = .ok (.putfield 26, 3) := dk_181 0 26 (dk_at dksX11_line_1 19 rfl rfl)
theorem dX11_line_46 : decode cX11_line 46 = .ok (.invokevirtual 40, 3) := dk_182 0 40 (dk_at dksX11_line_2 0 rfl rfl)
theorem dX11_line_49 : decode cX11_line 49 = .ok (.i2c, 1) := dk_146 (dk_at dksX11_line_2 3 rfl rfl)
theorem dX11_line_50 : decode cX11_line 50 = .ok (.castore, 1) := dk_85 (dk_at dksX11_line_2 4 rfl rfl)
theorem dX11_line_51 : decode cX11_line 51 = .ok (.goto (-41), 3) := dk_167 255 215 (dk_at dksX11_line_2 5 rfl rfl)
theorem dX11_line_54 : decode cX11_line 54 = .ok (.aload_n 0, 1) := dk_42 (dk_at dksX11_line_2 8 rfl rfl)
theorem dX11_line_55 : decode cX11_line 55 = .ok (.getfield 18, 3) := dk_180 0 18 (dk_at dksX11_line_2 9 rfl rfl)
theorem dX11_line_58 : decode cX11_line 58 = .ok (.new 56, 3) := dk_187 0 56 (dk_at dksX11_line_2 12 rfl rfl)
theorem dX11_line_61 : decode cX11_line 61 = .ok (.dup, 1) := dk_89 (dk_at dksX11_line_2 15 rfl rfl)
theorem dX11_line_62 : decode cX11_line 62 = .ok (.aload_n 0, 1) := dk_42 (dk_at dksX11_line_2 16 rfl rfl)
theorem dX11_line_63 : decode cX11_line 63 = .ok (.getfield 9, 3) := dk_180 0 9 (dk_at dksX11_line_2 17 rfl rfl)
theorem dX11_line_66 : decode cX11_line 66 = .ok (.iload_n 1, 1) := dk_27 (dk_at dksX11_line_2 20 rfl rfl)
theorem dX11_line_67 : decode cX11_line 67 = .ok (.invokespecial 58, 3) := dk_183 0 58 (dk_at dksX11_line_2 21 rfl rfl)
theorem dX11_line_70 : decode cX11_line 70 = .ok (.invokeinterface 61 2, 5) := by decide +kernel
theorem dX11_line_75 : decode cX11_line 75 = .ok (.pop, 1) := dk_87 (dk_at dksX11_line_3 5 rfl rfl)
theorem dX11_line_76 : decode cX11_line 76 = .ok (.return_, 1) := dk_177 (dk_at dksX11_line_3 6 rfl rfl)
abbrev cX11_letter : ByteArray := prog_14_method_3_code
def yX11_letter : MethodName := ⟨RX11, "letter", "()Z"⟩
def dkwX11_letter_1 : List UInt8 := [180, 0, 22, 42, 180, 0, 26, 182, 0, 40, 16, 122, 163, 0, 7, 4, 167, 0, 4, 3, 172]
abbrev dktX11_letter_1 : List UInt8 := dkwX11_letter_1 ++ []
def dkwX11_letter_0 : List UInt8 := [42, 182, 0, 36, 154, 0, 39, 42, 180, 0, 22, 42, 180, 0, 26, 182, 0, 40, 16, 97, 161, 0, 23, 42]
abbrev dktX11_letter_0 : List UInt8 := dkwX11_letter_0 ++ dktX11_letter_1
theorem dksX11_letter_0 : cX11_letter.data.toList.drop 0 = dktX11_letter_0 := by decide +kernel
theorem dksX11_letter_1 : cX11_letter.data.toList.drop 24 = dktX11_letter_1 := dk_seg dksX11_letter_0 24 rfl rfl
theorem dX11_letter_0 : decode cX11_letter 0 = .ok (.aload_n 0, 1) := dk_42 (dk_at dksX11_letter_0 0 rfl rfl)
theorem dX11_letter_1 : decode cX11_letter 1 = .ok (.invokevirtual 36, 3) := dk_182 0 36 (dk_at dksX11_letter_0 1 rfl rfl)
theorem dX11_letter_4 : decode cX11_letter 4 = .ok (.ifCond .ne 39, 3) := dk_154 0 39 (dk_at dksX11_letter_0 4 rfl rfl)
theorem dX11_letter_7 : decode cX11_letter 7 = .ok (.aload_n 0, 1) := dk_42 (dk_at dksX11_letter_0 7 rfl rfl)
theorem dX11_letter_8 : decode cX11_letter 8 = .ok (.getfield 22, 3) := dk_180 0 22 (dk_at dksX11_letter_0 8 rfl rfl)
theorem dX11_letter_11 : decode cX11_letter 11 = .ok (.aload_n 0, 1) := dk_42 (dk_at dksX11_letter_0 11 rfl rfl)
theorem dX11_letter_12 : decode cX11_letter 12 = .ok (.getfield 26, 3) := dk_180 0 26 (dk_at dksX11_letter_0 12 rfl rfl)
theorem dX11_letter_15 : decode cX11_letter 15 = .ok (.invokevirtual 40, 3) := dk_182 0 40 (dk_at dksX11_letter_0 15 rfl rfl)
theorem dX11_letter_18 : decode cX11_letter 18 = .ok (.bipush 97, 2) := dk_16 97 (dk_at dksX11_letter_0 18 rfl rfl)
theorem dX11_letter_20 : decode cX11_letter 20 = .ok (.if_icmp .lt 23, 3) := dk_161 0 23 (dk_at dksX11_letter_0 20 rfl rfl)
theorem dX11_letter_23 : decode cX11_letter 23 = .ok (.aload_n 0, 1) := dk_42 (dk_at dksX11_letter_0 23 rfl rfl)
theorem dX11_letter_24 : decode cX11_letter 24 = .ok (.getfield 22, 3) := dk_180 0 22 (dk_at dksX11_letter_1 0 rfl rfl)
theorem dX11_letter_27 : decode cX11_letter 27 = .ok (.aload_n 0, 1) := dk_42 (dk_at dksX11_letter_1 3 rfl rfl)
theorem dX11_letter_28 : decode cX11_letter 28 = .ok (.getfield 26, 3) := dk_180 0 26 (dk_at dksX11_letter_1 4 rfl rfl)
theorem dX11_letter_31 : decode cX11_letter 31 = .ok (.invokevirtual 40, 3) := dk_182 0 40 (dk_at dksX11_letter_1 7 rfl rfl)
theorem dX11_letter_34 : decode cX11_letter 34 = .ok (.bipush 122, 2) := dk_16 122 (dk_at dksX11_letter_1 10 rfl rfl)
theorem dX11_letter_36 : decode cX11_letter 36 = .ok (.if_icmp .gt 7, 3) := dk_163 0 7 (dk_at dksX11_letter_1 12 rfl rfl)
theorem dX11_letter_39 : decode cX11_letter 39 = .ok (.iconst 1, 1) := dk_4 (dk_at dksX11_letter_1 15 rfl rfl)
theorem dX11_letter_40 : decode cX11_letter 40 = .ok (.goto 4, 3) := dk_167 0 4 (dk_at dksX11_letter_1 16 rfl rfl)
theorem dX11_letter_43 : decode cX11_letter 43 = .ok (.iconst 0, 1) := dk_3 (dk_at dksX11_letter_1 19 rfl rfl)
theorem dX11_letter_44 : decode cX11_letter 44 = .ok (.ireturn, 1) := dk_172 (dk_at dksX11_letter_1 20 rfl rfl)
abbrev cX11_holds : ByteArray := prog_14_method_4_code
def yX11_holds : MethodName := ⟨RX11, "holds", "(Z)V"⟩
def dkwX11_holds_0 : List UInt8 := [27, 154, 0, 15, 187, 0, 44, 89, 42, 180, 0, 26, 183, 0, 46, 191, 177]
abbrev dktX11_holds_0 : List UInt8 := dkwX11_holds_0 ++ []
theorem dksX11_holds_0 : cX11_holds.data.toList.drop 0 = dktX11_holds_0 := by decide +kernel
theorem dX11_holds_0 : decode cX11_holds 0 = .ok (.iload_n 1, 1) := dk_27 (dk_at dksX11_holds_0 0 rfl rfl)
theorem dX11_holds_1 : decode cX11_holds 1 = .ok (.ifCond .ne 15, 3) := dk_154 0 15 (dk_at dksX11_holds_0 1 rfl rfl)
theorem dX11_holds_4 : decode cX11_holds 4 = .ok (.new 44, 3) := dk_187 0 44 (dk_at dksX11_holds_0 4 rfl rfl)
theorem dX11_holds_7 : decode cX11_holds 7 = .ok (.dup, 1) := dk_89 (dk_at dksX11_holds_0 7 rfl rfl)
theorem dX11_holds_8 : decode cX11_holds 8 = .ok (.aload_n 0, 1) := dk_42 (dk_at dksX11_holds_0 8 rfl rfl)
theorem dX11_holds_9 : decode cX11_holds 9 = .ok (.getfield 26, 3) := dk_180 0 26 (dk_at dksX11_holds_0 9 rfl rfl)
theorem dX11_holds_12 : decode cX11_holds 12 = .ok (.invokespecial 46, 3) := dk_183 0 46 (dk_at dksX11_holds_0 12 rfl rfl)
theorem dX11_holds_15 : decode cX11_holds 15 = .ok (.athrow, 1) := dk_191 (dk_at dksX11_holds_0 15 rfl rfl)
theorem dX11_holds_16 : decode cX11_holds 16 = .ok (.return_, 1) := dk_177 (dk_at dksX11_holds_0 16 rfl rfl)
theorem q118 : (Jvm.Cond.initialized "LineRemarks$Reader") ∈ lw_all := lw_g (lw_at lw_m1 32 rfl) rfl
theorem q236 : (Jvm.Cond.selects "LineRemarks$Reader" ({ cls := "java/lang/Object", name := "getClass", desc := "()Ljava/lang/Class;" } : Jvm.MethodName) ({ cls := "java/lang/Object", name := "getClass", desc := "()Ljava/lang/Class;" } : Jvm.MethodName)) ∈ lw_all := lw_g (lw_at lw_m1 150 rfl) rfl
theorem q746 : (Jvm.Cond.instantiable "LineRemarks$Reader" (4 : Nat)) ∈ lw_all := lw_g (lw_at lw_m3 180 rfl) rfl
theorem q748 : (Jvm.Cond.instanceMethod ({ cls := "LineRemarks$Reader", name := "<init>", desc := "(LLineRemarks$Row;)V" } : Jvm.MethodName)) ∈ lw_all := lw_g (lw_at lw_m3 182 rfl) rfl
theorem q749 : (Jvm.Cond.code ({ cls := "LineRemarks$Reader", name := "<init>", desc := "(LLineRemarks$Row;)V" } : Jvm.MethodName) prog_14_method_1_code (2 : Nat) (Option.none : Option Jvm.ClassFile.FieldType)) ∈ lw_all := lw_g (lw_at lw_m3 183 rfl) rfl
theorem q750 : (Jvm.Cond.methodLink "LineRemarks$Reader" (3 : Nat) ({ cls := "java/lang/Object", name := "<init>", desc := "()V" } : Jvm.MethodName)) ∈ lw_all := lw_g (lw_at lw_m3 184 rfl) rfl
theorem q751 : (Jvm.Cond.classLink "LineRemarks$Reader" (15 : Nat) "java/util/ArrayList") ∈ lw_all := lw_g (lw_at lw_m3 185 rfl) rfl
theorem q753 : (Jvm.Cond.methodLink "LineRemarks$Reader" (17 : Nat) ({ cls := "java/util/ArrayList", name := "<init>", desc := "()V" } : Jvm.MethodName)) ∈ lw_all := lw_g (lw_at lw_m3 187 rfl) rfl
theorem q782 : (Jvm.Cond.fieldLink "LineRemarks$Reader" (22 : Nat) "LineRemarks$Reader" "text" "LLineRemarks$Row;") ∈ lw_all := lw_g (lw_at lw_m3 216 rfl) rfl
theorem q783 : (Jvm.Cond.fieldLink "LineRemarks$Reader" (9 : Nat) "LineRemarks$Reader" "letters" "[C") ∈ lw_all := lw_g (lw_at lw_m3 217 rfl) rfl
theorem q784 : (Jvm.Cond.fieldLink "LineRemarks$Reader" (18 : Nat) "LineRemarks$Reader" "lines" "Ljava/util/List;") ∈ lw_all := lw_g (lw_at lw_m3 218 rfl) rfl
theorem q785 : (Jvm.Cond.fieldLink "LineRemarks$Reader" (26 : Nat) "LineRemarks$Reader" "at" "I") ∈ lw_all := lw_g (lw_at lw_m3 219 rfl) rfl
theorem q786 : (Jvm.Cond.laysFinal "LineRemarks$Reader" "LineRemarks$Reader" "text" "LLineRemarks$Row;") ∈ lw_all := lw_g (lw_at lw_m3 220 rfl) rfl
theorem q787 : (Jvm.Cond.soleField "LineRemarks$Reader" "text") ∈ lw_all := lw_g (lw_at lw_m3 221 rfl) rfl
theorem q788 : (Jvm.Cond.laysFinal "LineRemarks$Reader" "LineRemarks$Reader" "letters" "[C") ∈ lw_all := lw_g (lw_at lw_m3 222 rfl) rfl
theorem q789 : (Jvm.Cond.soleField "LineRemarks$Reader" "letters") ∈ lw_all := lw_g (lw_at lw_m3 223 rfl) rfl
theorem q790 : (Jvm.Cond.laysFinal "LineRemarks$Reader" "LineRemarks$Reader" "lines" "Ljava/util/List;") ∈ lw_all := lw_g (lw_at lw_m3 224 rfl) rfl
theorem q791 : (Jvm.Cond.soleField "LineRemarks$Reader" "lines") ∈ lw_all := lw_g (lw_at lw_m3 225 rfl) rfl
theorem q792 : (Jvm.Cond.lays "LineRemarks$Reader" "LineRemarks$Reader" "at" "I") ∈ lw_all := lw_g (lw_at lw_m3 226 rfl) rfl
theorem q793 : (Jvm.Cond.soleField "LineRemarks$Reader" "at") ∈ lw_all := lw_g (lw_at lw_m3 227 rfl) rfl
theorem q794 : (Jvm.Cond.superclass "LineRemarks$Reader" "java/lang/Object") ∈ lw_all := lw_g (lw_at lw_m3 228 rfl) rfl
theorem q796 : (Jvm.Cond.instanceMethod ({ cls := "LineRemarks$Reader", name := "whole", desc := "()[LLineRemarks$Line;" } : Jvm.MethodName)) ∈ lw_all := lw_g (lw_at lw_m3 230 rfl) rfl
theorem q797 : (Jvm.Cond.selects "LineRemarks$Reader" ({ cls := "LineRemarks$Reader", name := "whole", desc := "()[LLineRemarks$Line;" } : Jvm.MethodName) ({ cls := "LineRemarks$Reader", name := "whole", desc := "()[LLineRemarks$Line;" } : Jvm.MethodName)) ∈ lw_all := lw_g (lw_at lw_m3 231 rfl) rfl
theorem q798 : (Jvm.Cond.code ({ cls := "LineRemarks$Reader", name := "whole", desc := "()[LLineRemarks$Line;" } : Jvm.MethodName) prog_14_method_6_code (1 : Nat) (Option.some (Jvm.ClassFile.FieldType.array (Jvm.ClassFile.FieldType.object "LineRemarks$Line")))) ∈ lw_all := lw_g (lw_at lw_m3 232 rfl) rfl
theorem q799 : (Jvm.Cond.methodLink "LineRemarks$Reader" (36 : Nat) ({ cls := "LineRemarks$Reader", name := "ends", desc := "()Z" } : Jvm.MethodName)) ∈ lw_all := lw_g (lw_at lw_m3 233 rfl) rfl
theorem q800 : (Jvm.Cond.privateMethod ({ cls := "LineRemarks$Reader", name := "ends", desc := "()Z" } : Jvm.MethodName)) ∈ lw_tbl := lw_at lw_m3 234 rfl
theorem q801 : (Jvm.Cond.instanceMethod ({ cls := "LineRemarks$Reader", name := "ends", desc := "()Z" } : Jvm.MethodName)) ∈ lw_all := lw_g (lw_at lw_m3 235 rfl) rfl
theorem q802 : (Jvm.Cond.code ({ cls := "LineRemarks$Reader", name := "ends", desc := "()Z" } : Jvm.MethodName) prog_14_method_2_code (1 : Nat) (Option.some Jvm.ClassFile.FieldType.boolean)) ∈ lw_all := lw_g (lw_at lw_m3 236 rfl) rfl
theorem q803 : (Jvm.Cond.methodLink "LineRemarks$Reader" (30 : Nat) ({ cls := "LineRemarks$Row", name := "length", desc := "()I" } : Jvm.MethodName)) ∈ lw_all := lw_g (lw_at lw_m3 237 rfl) rfl
theorem q818 : (Jvm.Cond.methodLink "LineRemarks$Reader" (67 : Nat) ({ cls := "LineRemarks$Reader", name := "line", desc := "()V" } : Jvm.MethodName)) ∈ lw_all := lw_g (lw_at lw_m4 12 rfl) rfl
theorem q819 : (Jvm.Cond.privateMethod ({ cls := "LineRemarks$Reader", name := "line", desc := "()V" } : Jvm.MethodName)) ∈ lw_tbl := lw_at lw_m4 13 rfl
theorem q820 : (Jvm.Cond.instanceMethod ({ cls := "LineRemarks$Reader", name := "line", desc := "()V" } : Jvm.MethodName)) ∈ lw_all := lw_g (lw_at lw_m4 14 rfl) rfl
theorem q821 : (Jvm.Cond.code ({ cls := "LineRemarks$Reader", name := "line", desc := "()V" } : Jvm.MethodName) prog_14_method_5_code (2 : Nat) (Option.none : Option Jvm.ClassFile.FieldType)) ∈ lw_all := lw_g (lw_at lw_m4 15 rfl) rfl
theorem q822 : (Jvm.Cond.methodLink "LineRemarks$Reader" (49 : Nat) ({ cls := "LineRemarks$Reader", name := "letter", desc := "()Z" } : Jvm.MethodName)) ∈ lw_all := lw_g (lw_at lw_m4 16 rfl) rfl
theorem q823 : (Jvm.Cond.privateMethod ({ cls := "LineRemarks$Reader", name := "letter", desc := "()Z" } : Jvm.MethodName)) ∈ lw_tbl := lw_at lw_m4 17 rfl
theorem q824 : (Jvm.Cond.instanceMethod ({ cls := "LineRemarks$Reader", name := "letter", desc := "()Z" } : Jvm.MethodName)) ∈ lw_all := lw_g (lw_at lw_m4 18 rfl) rfl
theorem q825 : (Jvm.Cond.code ({ cls := "LineRemarks$Reader", name := "letter", desc := "()Z" } : Jvm.MethodName) prog_14_method_3_code (1 : Nat) (Option.some Jvm.ClassFile.FieldType.boolean)) ∈ lw_all := lw_g (lw_at lw_m4 19 rfl) rfl
theorem q826 : (Jvm.Cond.methodLink "LineRemarks$Reader" (40 : Nat) ({ cls := "LineRemarks$Row", name := "asInt", desc := "(I)I" } : Jvm.MethodName)) ∈ lw_all := lw_g (lw_at lw_m4 20 rfl) rfl
theorem q835 : (Jvm.Cond.methodLink "LineRemarks$Reader" (52 : Nat) ({ cls := "LineRemarks$Reader", name := "holds", desc := "(Z)V" } : Jvm.MethodName)) ∈ lw_all := lw_g (lw_at lw_m4 29 rfl) rfl
theorem q836 : (Jvm.Cond.privateMethod ({ cls := "LineRemarks$Reader", name := "holds", desc := "(Z)V" } : Jvm.MethodName)) ∈ lw_tbl := lw_at lw_m4 30 rfl
theorem q837 : (Jvm.Cond.instanceMethod ({ cls := "LineRemarks$Reader", name := "holds", desc := "(Z)V" } : Jvm.MethodName)) ∈ lw_all := lw_g (lw_at lw_m4 31 rfl) rfl
theorem q838 : (Jvm.Cond.code ({ cls := "LineRemarks$Reader", name := "holds", desc := "(Z)V" } : Jvm.MethodName) prog_14_method_4_code (2 : Nat) (Option.none : Option Jvm.ClassFile.FieldType)) ∈ lw_all := lw_g (lw_at lw_m4 32 rfl) rfl
theorem q839 : (Jvm.Cond.classLink "LineRemarks$Reader" (44 : Nat) "LineRemarks$Faulty") ∈ lw_all := lw_g (lw_at lw_m4 33 rfl) rfl
theorem q848 : (Jvm.Cond.methodLink "LineRemarks$Reader" (46 : Nat) ({ cls := "LineRemarks$Faulty", name := "<init>", desc := "(I)V" } : Jvm.MethodName)) ∈ lw_all := lw_g (lw_at lw_m4 42 rfl) rfl
theorem q858 : (Jvm.Cond.classLink "LineRemarks$Reader" (56 : Nat) "LineRemarks$Line") ∈ lw_all := lw_g (lw_at lw_m4 52 rfl) rfl
theorem q860 : (Jvm.Cond.methodLink "LineRemarks$Reader" (58 : Nat) ({ cls := "LineRemarks$Line", name := "<init>", desc := "([CI)V" } : Jvm.MethodName)) ∈ lw_all := lw_g (lw_at lw_m4 54 rfl) rfl
theorem q869 : (Jvm.Cond.interfaceEntry "LineRemarks$Reader" (61 : Nat)) ∈ lw_tbl := lw_at lw_m4 63 rfl
theorem q870 : (Jvm.Cond.methodLink "LineRemarks$Reader" (61 : Nat) ({ cls := "java/util/List", name := "add", desc := "(Ljava/lang/Object;)Z" } : Jvm.MethodName)) ∈ lw_all := lw_g (lw_at lw_m4 64 rfl) rfl
theorem q1265 : (Jvm.Cond.interfaceEntry "LineRemarks$Reader" (70 : Nat)) ∈ lw_tbl := lw_at lw_m5 219 rfl
theorem q1266 : (Jvm.Cond.methodLink "LineRemarks$Reader" (70 : Nat) ({ cls := "java/util/List", name := "size", desc := "()I" } : Jvm.MethodName)) ∈ lw_all := lw_g (lw_at lw_m5 220 rfl) rfl
theorem q1288 : (Jvm.Cond.methodLink "LineRemarks$Reader" (73 : Nat) ({ cls := "LineRemarks", name := "rowOf", desc := "(Ljava/util/List;)[LLineRemarks$Line;" } : Jvm.MethodName)) ∈ lw_all := lw_g (lw_at lw_m6 2 rfl) rfl
theorem q3026 : (Jvm.Cond.selects "LineRemarks$Reader" ({ cls := "java/lang/Object", name := "equals", desc := "(Ljava/lang/Object;)Z" } : Jvm.MethodName) ({ cls := "java/lang/Object", name := "equals", desc := "(Ljava/lang/Object;)Z" } : Jvm.MethodName)) ∈ lw_all := lw_g (lw_at lw_m13 60 rfl) rfl
theorem q3815 : (Jvm.Cond.castable "LineRemarks$Reader" "java/lang/Object") ∈ lw_tbl := lw_at lw_m16 129 rfl
theorem in_X11 : ∀ w ∈ wsX110, w ∈ lw_all := lw_in wsX110 [786, 788, 790, 792] (by decide +kernel) (by decide +kernel)
/-! LineRemarks$Faulty -/
set_option maxRecDepth 100000
def RX12 : String := "LineRemarks$Faulty"
def TX12 : u_T := fun k => match k with
  | 0 => ("java/lang/Throwable", "cause", "Ljava/lang/Throwable;", false)
  | 1 => ("java/lang/Throwable", "stackTrace", "[Ljava/lang/StackTraceElement;", false)
  | 2 => ("java/lang/Throwable", "suppressedExceptions", "Ljava/util/List;", false)
  | 3 => ("java/lang/Throwable", "detailMessage", "Ljava/lang/String;", false)
  | 4 => ("java/lang/Throwable", "backtrace", "Ljava/lang/Object;", false)
  | 5 => ("java/lang/Throwable", "depth", "I", false)
  | _ => ("LineRemarks$Faulty", "place", "I", true)
def tyX12 : Nat → FieldType := fun k => match k with
  | 0 => .object "java/lang/Throwable"
  | 1 => .array (.object "java/lang/StackTraceElement")
  | 2 => .object "java/util/List"
  | 3 => .object "java/lang/String"
  | 4 => .object "java/lang/Object"
  | 5 => .int
  | _ => .int
abbrev wsX120 : List Cond := u_ws RX12 TX12 7
theorem nmX12 : ∀ a, a < 7 → ∀ b, b < 7 → a ≠ b → (TX12 a).2.1 ≠ (TX12 b).2.1 := by decide +kernel
theorem tyX12_ok : ∀ k, k < 7 → parseFieldDescriptor (TX12 k).2.2.1 = some (tyX12 k) := by decide +kernel
abbrev cX12_init : ByteArray := prog_6_method_1_code
def yX12_init : MethodName := ⟨RX12, "<init>", "(I)V"⟩
def dkwX12_init_0 : List UInt8 := [42, 1, 1, 3, 3, 183, 0, 1, 42, 27, 181, 0, 7, 177]
abbrev dktX12_init_0 : List UInt8 := dkwX12_init_0 ++ []
theorem dksX12_init_0 : cX12_init.data.toList.drop 0 = dktX12_init_0 := by decide +kernel
theorem dX12_init_0 : decode cX12_init 0 = .ok (.aload_n 0, 1) := dk_42 (dk_at dksX12_init_0 0 rfl rfl)
theorem dX12_init_1 : decode cX12_init 1 = .ok (.aconst_null, 1) := dk_1 (dk_at dksX12_init_0 1 rfl rfl)
theorem dX12_init_2 : decode cX12_init 2 = .ok (.aconst_null, 1) := dk_1 (dk_at dksX12_init_0 2 rfl rfl)
theorem dX12_init_3 : decode cX12_init 3 = .ok (.iconst 0, 1) := dk_3 (dk_at dksX12_init_0 3 rfl rfl)
theorem dX12_init_4 : decode cX12_init 4 = .ok (.iconst 0, 1) := dk_3 (dk_at dksX12_init_0 4 rfl rfl)
theorem dX12_init_5 : decode cX12_init 5 = .ok (.invokespecial 1, 3) := dk_183 0 1 (dk_at dksX12_init_0 5 rfl rfl)
theorem dX12_init_8 : decode cX12_init 8 = .ok (.aload_n 0, 1) := dk_42 (dk_at dksX12_init_0 8 rfl rfl)
theorem dX12_init_9 : decode cX12_init 9 = .ok (.iload_n 1, 1) := dk_27 (dk_at dksX12_init_0 9 rfl rfl)
theorem dX12_init_10 : decode cX12_init 10 = .ok (.putfield 7, 3) := dk_181 0 7 (dk_at dksX12_init_0 10 rfl rfl)
theorem dX12_init_13 : decode cX12_init 13 = .ok (.return_, 1) := dk_177 (dk_at dksX12_init_0 13 rfl rfl)
theorem q121 : (Jvm.Cond.initialized "LineRemarks$Faulty") ∈ lw_all := lw_g (lw_at lw_m1 35 rfl) rfl
theorem q228 : (Jvm.Cond.selects "LineRemarks$Faulty" ({ cls := "java/lang/Object", name := "getClass", desc := "()Ljava/lang/Class;" } : Jvm.MethodName) ({ cls := "java/lang/Object", name := "getClass", desc := "()Ljava/lang/Class;" } : Jvm.MethodName)) ∈ lw_all := lw_g (lw_at lw_m1 142 rfl) rfl
theorem q439 : (Jvm.Cond.selects "LineRemarks$Faulty" ({ cls := "java/lang/Throwable", name := "fillInStackTrace", desc := "()Ljava/lang/Throwable;" } : Jvm.MethodName) ({ cls := "java/lang/Throwable", name := "fillInStackTrace", desc := "()Ljava/lang/Throwable;" } : Jvm.MethodName)) ∈ lw_all := lw_g (lw_at lw_m2 113 rfl) rfl
theorem q840 : (Jvm.Cond.instantiable "LineRemarks$Faulty" (7 : Nat)) ∈ lw_all := lw_g (lw_at lw_m4 34 rfl) rfl
theorem q841 : (Jvm.Cond.castable "LineRemarks$Faulty" "LineRemarks$Faulty") ∈ lw_tbl := lw_at lw_m4 35 rfl
theorem q842 : (Jvm.Cond.selects "LineRemarks$Faulty" ({ cls := "java/lang/Throwable", name := "fillInStackTrace", desc := "(I)Ljava/lang/Throwable;" } : Jvm.MethodName) ({ cls := "java/lang/Throwable", name := "fillInStackTrace", desc := "(I)Ljava/lang/Throwable;" } : Jvm.MethodName)) ∈ lw_all := lw_g (lw_at lw_m4 36 rfl) rfl
theorem q843 : (Jvm.Cond.lays "LineRemarks$Faulty" "java/lang/Throwable" "cause" "Ljava/lang/Throwable;") ∈ lw_all := lw_g (lw_at lw_m4 37 rfl) rfl
theorem q844 : (Jvm.Cond.lays "LineRemarks$Faulty" "java/lang/Throwable" "stackTrace" "[Ljava/lang/StackTraceElement;") ∈ lw_all := lw_g (lw_at lw_m4 38 rfl) rfl
theorem q845 : (Jvm.Cond.lays "LineRemarks$Faulty" "java/lang/Throwable" "suppressedExceptions" "Ljava/util/List;") ∈ lw_all := lw_g (lw_at lw_m4 39 rfl) rfl
theorem q846 : (Jvm.Cond.lays "LineRemarks$Faulty" "java/lang/Throwable" "detailMessage" "Ljava/lang/String;") ∈ lw_all := lw_g (lw_at lw_m4 40 rfl) rfl
theorem q847 : (Jvm.Cond.lays "LineRemarks$Faulty" "java/lang/Throwable" "backtrace" "Ljava/lang/Object;") ∈ lw_all := lw_g (lw_at lw_m4 41 rfl) rfl
theorem q849 : (Jvm.Cond.instanceMethod ({ cls := "LineRemarks$Faulty", name := "<init>", desc := "(I)V" } : Jvm.MethodName)) ∈ lw_all := lw_g (lw_at lw_m4 43 rfl) rfl
theorem q850 : (Jvm.Cond.code ({ cls := "LineRemarks$Faulty", name := "<init>", desc := "(I)V" } : Jvm.MethodName) prog_6_method_1_code (2 : Nat) (Option.none : Option Jvm.ClassFile.FieldType)) ∈ lw_all := lw_g (lw_at lw_m4 44 rfl) rfl
theorem q851 : (Jvm.Cond.methodLink "LineRemarks$Faulty" (1 : Nat) ({ cls := "java/lang/Exception", name := "<init>", desc := "(Ljava/lang/String;Ljava/lang/Throwable;ZZ)V" } : Jvm.MethodName)) ∈ lw_all := lw_g (lw_at lw_m4 45 rfl) rfl
theorem q852 : (Jvm.Cond.fieldLink "LineRemarks$Faulty" (7 : Nat) "LineRemarks$Faulty" "place" "I") ∈ lw_all := lw_g (lw_at lw_m4 46 rfl) rfl
theorem q854 : (Jvm.Cond.laysFinal "LineRemarks$Faulty" "LineRemarks$Faulty" "place" "I") ∈ lw_all := lw_g (lw_at lw_m4 48 rfl) rfl
theorem q855 : (Jvm.Cond.soleField "LineRemarks$Faulty" "place") ∈ lw_all := lw_g (lw_at lw_m4 49 rfl) rfl
theorem q856 : (Jvm.Cond.lays "LineRemarks$Faulty" "java/lang/Throwable" "depth" "I") ∈ lw_all := lw_g (lw_at lw_m4 50 rfl) rfl
theorem q857 : (Jvm.Cond.superclass "LineRemarks$Faulty" "java/lang/Exception") ∈ lw_all := lw_g (lw_at lw_m4 51 rfl) rfl
theorem q1582 : (Jvm.Cond.selects "LineRemarks$Faulty" ({ cls := "java/lang/Throwable", name := "toString", desc := "()Ljava/lang/String;" } : Jvm.MethodName) ({ cls := "java/lang/Throwable", name := "toString", desc := "()Ljava/lang/String;" } : Jvm.MethodName)) ∈ lw_all := lw_g (lw_at lw_m7 56 rfl) rfl
theorem q1596 : (Jvm.Cond.selects "LineRemarks$Faulty" ({ cls := "java/lang/Throwable", name := "getLocalizedMessage", desc := "()Ljava/lang/String;" } : Jvm.MethodName) ({ cls := "java/lang/Throwable", name := "getLocalizedMessage", desc := "()Ljava/lang/String;" } : Jvm.MethodName)) ∈ lw_all := lw_g (lw_at lw_m7 70 rfl) rfl
theorem q1609 : (Jvm.Cond.selects "LineRemarks$Faulty" ({ cls := "java/lang/Throwable", name := "getMessage", desc := "()Ljava/lang/String;" } : Jvm.MethodName) ({ cls := "java/lang/Throwable", name := "getMessage", desc := "()Ljava/lang/String;" } : Jvm.MethodName)) ∈ lw_all := lw_g (lw_at lw_m7 83 rfl) rfl
theorem q3018 : (Jvm.Cond.selects "LineRemarks$Faulty" ({ cls := "java/lang/Object", name := "equals", desc := "(Ljava/lang/Object;)Z" } : Jvm.MethodName) ({ cls := "java/lang/Object", name := "equals", desc := "(Ljava/lang/Object;)Z" } : Jvm.MethodName)) ∈ lw_all := lw_g (lw_at lw_m13 52 rfl) rfl
theorem q3817 : (Jvm.Cond.castable "LineRemarks$Faulty" "java/lang/Object") ∈ lw_tbl := lw_at lw_m16 131 rfl
theorem in_X12 : ∀ w ∈ wsX120, w ∈ lw_all := lw_in wsX120 [843, 844, 845, 846, 847, 856, 854] (by decide +kernel) (by decide +kernel)
/-! LineRemarks$Line -/
set_option maxRecDepth 100000
def RX13 : String := "LineRemarks$Line"
def TX13 : u_T := fun k => match k with
  | _ => ("LineRemarks$Line", "letters", "[C", true)
def tyX13 : Nat → FieldType := fun k => match k with
  | _ => .array .char
abbrev wsX130 : List Cond := u_ws RX13 TX13 1
theorem nmX13 : ∀ a, a < 1 → ∀ b, b < 1 → a ≠ b → (TX13 a).2.1 ≠ (TX13 b).2.1 := by decide +kernel
theorem tyX13_ok : ∀ k, k < 1 → parseFieldDescriptor (TX13 k).2.2.1 = some (tyX13 k) := by decide +kernel
abbrev cX13_init : ByteArray := prog_8_method_1_code
def yX13_init : MethodName := ⟨RX13, "<init>", "([CI)V"⟩
def dkwX13_init_0 : List UInt8 := [42, 183, 0, 1, 42, 28, 188, 5, 181, 0, 7, 43, 3, 42, 180, 0, 7, 3, 28, 184, 0, 13, 177]
abbrev dktX13_init_0 : List UInt8 := dkwX13_init_0 ++ []
theorem dksX13_init_0 : cX13_init.data.toList.drop 0 = dktX13_init_0 := by decide +kernel
theorem dX13_init_0 : decode cX13_init 0 = .ok (.aload_n 0, 1) := dk_42 (dk_at dksX13_init_0 0 rfl rfl)
theorem dX13_init_1 : decode cX13_init 1 = .ok (.invokespecial 1, 3) := dk_183 0 1 (dk_at dksX13_init_0 1 rfl rfl)
theorem dX13_init_4 : decode cX13_init 4 = .ok (.aload_n 0, 1) := dk_42 (dk_at dksX13_init_0 4 rfl rfl)
theorem dX13_init_5 : decode cX13_init 5 = .ok (.iload_n 2, 1) := dk_28 (dk_at dksX13_init_0 5 rfl rfl)
theorem dX13_init_6 : decode cX13_init 6 = .ok (.newarray .char, 2) := dk_188_5 (dk_at dksX13_init_0 6 rfl rfl)
theorem dX13_init_8 : decode cX13_init 8 = .ok (.putfield 7, 3) := dk_181 0 7 (dk_at dksX13_init_0 8 rfl rfl)
theorem dX13_init_11 : decode cX13_init 11 = .ok (.aload_n 1, 1) := dk_43 (dk_at dksX13_init_0 11 rfl rfl)
theorem dX13_init_12 : decode cX13_init 12 = .ok (.iconst 0, 1) := dk_3 (dk_at dksX13_init_0 12 rfl rfl)
theorem dX13_init_13 : decode cX13_init 13 = .ok (.aload_n 0, 1) := dk_42 (dk_at dksX13_init_0 13 rfl rfl)
theorem dX13_init_14 : decode cX13_init 14 = .ok (.getfield 7, 3) := dk_180 0 7 (dk_at dksX13_init_0 14 rfl rfl)
theorem dX13_init_17 : decode cX13_init 17 = .ok (.iconst 0, 1) := dk_3 (dk_at dksX13_init_0 17 rfl rfl)
theorem dX13_init_18 : decode cX13_init 18 = .ok (.iload_n 2, 1) := dk_28 (dk_at dksX13_init_0 18 rfl rfl)
theorem dX13_init_19 : decode cX13_init 19 = .ok (.invokestatic 13, 3) := dk_184 0 13 (dk_at dksX13_init_0 19 rfl rfl)
theorem dX13_init_22 : decode cX13_init 22 = .ok (.return_, 1) := dk_177 (dk_at dksX13_init_0 22 rfl rfl)
abbrev cX13_letter : ByteArray := prog_8_method_2_code
def yX13_letter : MethodName := ⟨RX13, "letter", "(I)I"⟩
def dkwX13_letter_0 : List UInt8 := [42, 180, 0, 7, 27, 52, 172, 77, 3, 172]
abbrev dktX13_letter_0 : List UInt8 := dkwX13_letter_0 ++ []
theorem dksX13_letter_0 : cX13_letter.data.toList.drop 0 = dktX13_letter_0 := by decide +kernel
theorem dX13_letter_0 : decode cX13_letter 0 = .ok (.aload_n 0, 1) := dk_42 (dk_at dksX13_letter_0 0 rfl rfl)
theorem dX13_letter_1 : decode cX13_letter 1 = .ok (.getfield 7, 3) := dk_180 0 7 (dk_at dksX13_letter_0 1 rfl rfl)
theorem dX13_letter_4 : decode cX13_letter 4 = .ok (.iload_n 1, 1) := dk_27 (dk_at dksX13_letter_0 4 rfl rfl)
theorem dX13_letter_5 : decode cX13_letter 5 = .ok (.caload, 1) := dk_52 (dk_at dksX13_letter_0 5 rfl rfl)
theorem dX13_letter_6 : decode cX13_letter 6 = .ok (.ireturn, 1) := dk_172 (dk_at dksX13_letter_0 6 rfl rfl)
theorem dX13_letter_7 : decode cX13_letter 7 = .ok (.astore_n 2, 1) := dk_77 (dk_at dksX13_letter_0 7 rfl rfl)
theorem dX13_letter_8 : decode cX13_letter 8 = .ok (.iconst 0, 1) := dk_3 (dk_at dksX13_letter_0 8 rfl rfl)
theorem dX13_letter_9 : decode cX13_letter 9 = .ok (.ireturn, 1) := dk_172 (dk_at dksX13_letter_0 9 rfl rfl)
abbrev cX13_isAlike : ByteArray := prog_8_method_3_code
def yX13_isAlike : MethodName := ⟨RX13, "isAlike", "(LLineRemarks$Line;)Z"⟩
def dkwX13_isAlike_2 : List UInt8 := [167, 255, 227, 4, 172]
abbrev dktX13_isAlike_2 : List UInt8 := dkwX13_isAlike_2 ++ []
def dkwX13_isAlike_1 : List UInt8 := [162, 0, 26, 42, 180, 0, 7, 28, 52, 43, 180, 0, 7, 28, 52, 159, 0, 5, 3, 172, 132, 2, 1]
abbrev dktX13_isAlike_1 : List UInt8 := dkwX13_isAlike_1 ++ dktX13_isAlike_2
def dkwX13_isAlike_0 : List UInt8 := [42, 180, 0, 7, 190, 43, 180, 0, 7, 190, 159, 0, 5, 3, 172, 3, 61, 28, 42, 180, 0, 7, 190]
abbrev dktX13_isAlike_0 : List UInt8 := dkwX13_isAlike_0 ++ dktX13_isAlike_1
theorem dksX13_isAlike_0 : cX13_isAlike.data.toList.drop 0 = dktX13_isAlike_0 := by decide +kernel
theorem dksX13_isAlike_1 : cX13_isAlike.data.toList.drop 23 = dktX13_isAlike_1 := dk_seg dksX13_isAlike_0 23 rfl rfl
theorem dksX13_isAlike_2 : cX13_isAlike.data.toList.drop 46 = dktX13_isAlike_2 := dk_seg dksX13_isAlike_1 23 rfl rfl
theorem dX13_isAlike_0 : decode cX13_isAlike 0 = .ok (.aload_n 0, 1) := dk_42 (dk_at dksX13_isAlike_0 0 rfl rfl)
theorem dX13_isAlike_1 : decode cX13_isAlike 1 = .ok (.getfield 7, 3) := dk_180 0 7 (dk_at dksX13_isAlike_0 1 rfl rfl)
theorem dX13_isAlike_4 : decode cX13_isAlike 4 = .ok (.arraylength, 1) := dk_190 (dk_at dksX13_isAlike_0 4 rfl rfl)
theorem dX13_isAlike_5 : decode cX13_isAlike 5 = .ok (.aload_n 1, 1) := dk_43 (dk_at dksX13_isAlike_0 5 rfl rfl)
theorem dX13_isAlike_6 : decode cX13_isAlike 6 = .ok (.getfield 7, 3) := dk_180 0 7 (dk_at dksX13_isAlike_0 6 rfl rfl)
theorem dX13_isAlike_9 : decode cX13_isAlike 9 = .ok (.arraylength, 1) := dk_190 (dk_at dksX13_isAlike_0 9 rfl rfl)
theorem dX13_isAlike_10 : decode cX13_isAlike 10 = .ok (.if_icmp .eq 5, 3) := dk_159 0 5 (dk_at dksX13_isAlike_0 10 rfl rfl)
theorem dX13_isAlike_13 : decode cX13_isAlike 13 = .ok (.iconst 0, 1) := dk_3 (dk_at dksX13_isAlike_0 13 rfl rfl)
theorem dX13_isAlike_14 : decode cX13_isAlike 14 = .ok (.ireturn, 1) := dk_172 (dk_at dksX13_isAlike_0 14 rfl rfl)
theorem dX13_isAlike_15 : decode cX13_isAlike 15 = .ok (.iconst 0, 1) := dk_3 (dk_at dksX13_isAlike_0 15 rfl rfl)
theorem dX13_isAlike_16 : decode cX13_isAlike 16 = .ok (.istore_n 2, 1) := dk_61 (dk_at dksX13_isAlike_0 16 rfl rfl)
theorem dX13_isAlike_17 : decode cX13_isAlike 17 = .ok (.iload_n 2, 1) := dk_28 (dk_at dksX13_isAlike_0 17 rfl rfl)
theorem dX13_isAlike_18 : decode cX13_isAlike 18 = .ok (.aload_n 0, 1) := dk_42 (dk_at dksX13_isAlike_0 18 rfl rfl)
theorem dX13_isAlike_19 : decode cX13_isAlike 19 = .ok (.getfield 7, 3) := dk_180 0 7 (dk_at dksX13_isAlike_0 19 rfl rfl)
theorem dX13_isAlike_22 : decode cX13_isAlike 22 = .ok (.arraylength, 1) := dk_190 (dk_at dksX13_isAlike_0 22 rfl rfl)
theorem dX13_isAlike_23 : decode cX13_isAlike 23 = .ok (.if_icmp .ge 26, 3) := dk_162 0 26 (dk_at dksX13_isAlike_1 0 rfl rfl)
theorem dX13_isAlike_26 : decode cX13_isAlike 26 = .ok (.aload_n 0, 1) := dk_42 (dk_at dksX13_isAlike_1 3 rfl rfl)
theorem dX13_isAlike_27 : decode cX13_isAlike 27 = .ok (.getfield 7, 3) := dk_180 0 7 (dk_at dksX13_isAlike_1 4 rfl rfl)
theorem dX13_isAlike_30 : decode cX13_isAlike 30 = .ok (.iload_n 2, 1) := dk_28 (dk_at dksX13_isAlike_1 7 rfl rfl)
theorem dX13_isAlike_31 : decode cX13_isAlike 31 = .ok (.caload, 1) := dk_52 (dk_at dksX13_isAlike_1 8 rfl rfl)
theorem dX13_isAlike_32 : decode cX13_isAlike 32 = .ok (.aload_n 1, 1) := dk_43 (dk_at dksX13_isAlike_1 9 rfl rfl)
theorem dX13_isAlike_33 : decode cX13_isAlike 33 = .ok (.getfield 7, 3) := dk_180 0 7 (dk_at dksX13_isAlike_1 10 rfl rfl)
theorem dX13_isAlike_36 : decode cX13_isAlike 36 = .ok (.iload_n 2, 1) := dk_28 (dk_at dksX13_isAlike_1 13 rfl rfl)
theorem dX13_isAlike_37 : decode cX13_isAlike 37 = .ok (.caload, 1) := dk_52 (dk_at dksX13_isAlike_1 14 rfl rfl)
theorem dX13_isAlike_38 : decode cX13_isAlike 38 = .ok (.if_icmp .eq 5, 3) := dk_159 0 5 (dk_at dksX13_isAlike_1 15 rfl rfl)
theorem dX13_isAlike_41 : decode cX13_isAlike 41 = .ok (.iconst 0, 1) := dk_3 (dk_at dksX13_isAlike_1 18 rfl rfl)
theorem dX13_isAlike_42 : decode cX13_isAlike 42 = .ok (.ireturn, 1) := dk_172 (dk_at dksX13_isAlike_1 19 rfl rfl)
theorem dX13_isAlike_43 : decode cX13_isAlike 43 = .ok (.iinc 2 1, 3) := dk_132 2 1 (dk_at dksX13_isAlike_1 20 rfl rfl)
theorem dX13_isAlike_46 : decode cX13_isAlike 46 = .ok (.goto (-29), 3) := dk_167 255 227 (dk_at dksX13_isAlike_2 0 rfl rfl)
theorem dX13_isAlike_49 : decode cX13_isAlike 49 = .ok (.iconst 1, 1) := dk_4 (dk_at dksX13_isAlike_2 3 rfl rfl)
theorem dX13_isAlike_50 : decode cX13_isAlike 50 = .ok (.ireturn, 1) := dk_172 (dk_at dksX13_isAlike_2 4 rfl rfl)
theorem q122 : (Jvm.Cond.initialized "LineRemarks$Line") ∈ lw_all := lw_g (lw_at lw_m1 36 rfl) rfl
theorem q230 : (Jvm.Cond.selects "LineRemarks$Line" ({ cls := "java/lang/Object", name := "getClass", desc := "()Ljava/lang/Class;" } : Jvm.MethodName) ({ cls := "java/lang/Object", name := "getClass", desc := "()Ljava/lang/Class;" } : Jvm.MethodName)) ∈ lw_all := lw_g (lw_at lw_m1 144 rfl) rfl
theorem q859 : (Jvm.Cond.instantiable "LineRemarks$Line" (1 : Nat)) ∈ lw_all := lw_g (lw_at lw_m4 53 rfl) rfl
theorem q861 : (Jvm.Cond.instanceMethod ({ cls := "LineRemarks$Line", name := "<init>", desc := "([CI)V" } : Jvm.MethodName)) ∈ lw_all := lw_g (lw_at lw_m4 55 rfl) rfl
theorem q862 : (Jvm.Cond.code ({ cls := "LineRemarks$Line", name := "<init>", desc := "([CI)V" } : Jvm.MethodName) prog_8_method_1_code (3 : Nat) (Option.none : Option Jvm.ClassFile.FieldType)) ∈ lw_all := lw_g (lw_at lw_m4 56 rfl) rfl
theorem q863 : (Jvm.Cond.methodLink "LineRemarks$Line" (1 : Nat) ({ cls := "java/lang/Object", name := "<init>", desc := "()V" } : Jvm.MethodName)) ∈ lw_all := lw_g (lw_at lw_m4 57 rfl) rfl
theorem q864 : (Jvm.Cond.methodLink "LineRemarks$Line" (13 : Nat) ({ cls := "java/lang/System", name := "arraycopy", desc := "(Ljava/lang/Object;ILjava/lang/Object;II)V" } : Jvm.MethodName)) ∈ lw_all := lw_g (lw_at lw_m4 58 rfl) rfl
theorem q865 : (Jvm.Cond.fieldLink "LineRemarks$Line" (7 : Nat) "LineRemarks$Line" "letters" "[C") ∈ lw_all := lw_g (lw_at lw_m4 59 rfl) rfl
theorem q866 : (Jvm.Cond.laysFinal "LineRemarks$Line" "LineRemarks$Line" "letters" "[C") ∈ lw_all := lw_g (lw_at lw_m4 60 rfl) rfl
theorem q867 : (Jvm.Cond.soleField "LineRemarks$Line" "letters") ∈ lw_all := lw_g (lw_at lw_m4 61 rfl) rfl
theorem q868 : (Jvm.Cond.superclass "LineRemarks$Line" "java/lang/Object") ∈ lw_all := lw_g (lw_at lw_m4 62 rfl) rfl
theorem q1760 : (Jvm.Cond.instanceMethod ({ cls := "LineRemarks$Line", name := "letter", desc := "(I)I" } : Jvm.MethodName)) ∈ lw_all := lw_g (lw_at lw_m7 234 rfl) rfl
theorem q1761 : (Jvm.Cond.selects "LineRemarks$Line" ({ cls := "LineRemarks$Line", name := "letter", desc := "(I)I" } : Jvm.MethodName) ({ cls := "LineRemarks$Line", name := "letter", desc := "(I)I" } : Jvm.MethodName)) ∈ lw_all := lw_g (lw_at lw_m7 235 rfl) rfl
theorem q1762 : (Jvm.Cond.codeWith ({ cls := "LineRemarks$Line", name := "letter", desc := "(I)I" } : Jvm.MethodName) prog_8_method_2_code (3 : Nat) (Option.some Jvm.ClassFile.FieldType.int) [((0 : Nat), (6 : Nat), (7 : Nat), (19 : Nat))]) ∈ lw_all := lw_g (lw_at lw_m7 236 rfl) rfl
theorem q1763 : (Jvm.Cond.classLink "LineRemarks$Line" (19 : Nat) "java/lang/ArrayIndexOutOfBoundsException") ∈ lw_all := lw_g (lw_at lw_m7 237 rfl) rfl
theorem q1823 : (Jvm.Cond.instanceMethod ({ cls := "LineRemarks$Line", name := "isAlike", desc := "(LLineRemarks$Line;)Z" } : Jvm.MethodName)) ∈ lw_all := lw_g (lw_at lw_m8 57 rfl) rfl
theorem q1824 : (Jvm.Cond.selects "LineRemarks$Line" ({ cls := "LineRemarks$Line", name := "isAlike", desc := "(LLineRemarks$Line;)Z" } : Jvm.MethodName) ({ cls := "LineRemarks$Line", name := "isAlike", desc := "(LLineRemarks$Line;)Z" } : Jvm.MethodName)) ∈ lw_all := lw_g (lw_at lw_m8 58 rfl) rfl
theorem q1825 : (Jvm.Cond.code ({ cls := "LineRemarks$Line", name := "isAlike", desc := "(LLineRemarks$Line;)Z" } : Jvm.MethodName) prog_8_method_3_code (3 : Nat) (Option.some Jvm.ClassFile.FieldType.boolean)) ∈ lw_all := lw_g (lw_at lw_m8 59 rfl) rfl
theorem q3020 : (Jvm.Cond.selects "LineRemarks$Line" ({ cls := "java/lang/Object", name := "equals", desc := "(Ljava/lang/Object;)Z" } : Jvm.MethodName) ({ cls := "java/lang/Object", name := "equals", desc := "(Ljava/lang/Object;)Z" } : Jvm.MethodName)) ∈ lw_all := lw_g (lw_at lw_m13 54 rfl) rfl
theorem q3799 : (Jvm.Cond.castable "LineRemarks$Line" "java/lang/Object") ∈ lw_tbl := lw_at lw_m16 113 rfl
theorem in_X13 : ∀ w ∈ wsX130, w ∈ lw_all := lw_in wsX130 [866] (by decide +kernel) (by decide +kernel)
/-! LineRemarks$Revision -/
set_option maxRecDepth 100000
def RX14 : String := "LineRemarks$Revision"
def TX14 : u_T := fun k => match k with
  | 0 => ("LineRemarks$Revision", "number", "I", true)
  | 1 => ("LineRemarks$Revision", "former", "LLineRemarks$Revision;", true)
  | 2 => ("LineRemarks$Revision", "lines", "[LLineRemarks$Line;", true)
  | _ => ("LineRemarks$Revision", "fromFormer", "LLineRemarks$Match;", false)
def tyX14 : Nat → FieldType := fun k => match k with
  | 0 => .int
  | 1 => .object "LineRemarks$Revision"
  | 2 => .array (.object "LineRemarks$Line")
  | _ => .object "LineRemarks$Match"
abbrev wsX140 : List Cond := u_ws RX14 TX14 4
theorem nmX14 : ∀ a, a < 4 → ∀ b, b < 4 → a ≠ b → (TX14 a).2.1 ≠ (TX14 b).2.1 := by decide +kernel
theorem tyX14_ok : ∀ k, k < 4 → parseFieldDescriptor (TX14 k).2.2.1 = some (tyX14 k) := by decide +kernel
abbrev cX14_init : ByteArray := prog_17_method_1_code
def yX14_init : MethodName := ⟨RX14, "<init>", "(ILLineRemarks$Revision;[LLineRemarks$Line;)V"⟩
def dkwX14_init_0 : List UInt8 := [42, 183, 0, 1, 42, 27, 181, 0, 7, 42, 44, 181, 0, 13, 42, 45, 181, 0, 17, 177]
abbrev dktX14_init_0 : List UInt8 := dkwX14_init_0 ++ []
theorem dksX14_init_0 : cX14_init.data.toList.drop 0 = dktX14_init_0 := by decide +kernel
theorem dX14_init_0 : decode cX14_init 0 = .ok (.aload_n 0, 1) := dk_42 (dk_at dksX14_init_0 0 rfl rfl)
theorem dX14_init_1 : decode cX14_init 1 = .ok (.invokespecial 1, 3) := dk_183 0 1 (dk_at dksX14_init_0 1 rfl rfl)
theorem dX14_init_4 : decode cX14_init 4 = .ok (.aload_n 0, 1) := dk_42 (dk_at dksX14_init_0 4 rfl rfl)
theorem dX14_init_5 : decode cX14_init 5 = .ok (.iload_n 1, 1) := dk_27 (dk_at dksX14_init_0 5 rfl rfl)
theorem dX14_init_6 : decode cX14_init 6 = .ok (.putfield 7, 3) := dk_181 0 7 (dk_at dksX14_init_0 6 rfl rfl)
theorem dX14_init_9 : decode cX14_init 9 = .ok (.aload_n 0, 1) := dk_42 (dk_at dksX14_init_0 9 rfl rfl)
theorem dX14_init_10 : decode cX14_init 10 = .ok (.aload_n 2, 1) := dk_44 (dk_at dksX14_init_0 10 rfl rfl)
theorem dX14_init_11 : decode cX14_init 11 = .ok (.putfield 13, 3) := dk_181 0 13 (dk_at dksX14_init_0 11 rfl rfl)
theorem dX14_init_14 : decode cX14_init 14 = .ok (.aload_n 0, 1) := dk_42 (dk_at dksX14_init_0 14 rfl rfl)
theorem dX14_init_15 : decode cX14_init 15 = .ok (.aload_n 3, 1) := dk_45 (dk_at dksX14_init_0 15 rfl rfl)
theorem dX14_init_16 : decode cX14_init 16 = .ok (.putfield 17, 3) := dk_181 0 17 (dk_at dksX14_init_0 16 rfl rfl)
theorem dX14_init_19 : decode cX14_init 19 = .ok (.return_, 1) := dk_177 (dk_at dksX14_init_0 19 rfl rfl)
abbrev cX14_at : ByteArray := prog_17_method_2_code
def yX14_at : MethodName := ⟨RX14, "at", "(I)LLineRemarks$Line;"⟩
def dkwX14_at_0 : List UInt8 := [27, 155, 0, 21, 27, 42, 180, 0, 17, 190, 162, 0, 12, 42, 180, 0, 17, 27, 50, 167, 0, 4, 1, 176]
abbrev dktX14_at_0 : List UInt8 := dkwX14_at_0 ++ []
theorem dksX14_at_0 : cX14_at.data.toList.drop 0 = dktX14_at_0 := by decide +kernel
theorem dX14_at_0 : decode cX14_at 0 = .ok (.iload_n 1, 1) := dk_27 (dk_at dksX14_at_0 0 rfl rfl)
theorem dX14_at_1 : decode cX14_at 1 = .ok (.ifCond .lt 21, 3) := dk_155 0 21 (dk_at dksX14_at_0 1 rfl rfl)
theorem dX14_at_4 : decode cX14_at 4 = .ok (.iload_n 1, 1) := dk_27 (dk_at dksX14_at_0 4 rfl rfl)
theorem dX14_at_5 : decode cX14_at 5 = .ok (.aload_n 0, 1) := dk_42 (dk_at dksX14_at_0 5 rfl rfl)
theorem dX14_at_6 : decode cX14_at 6 = .ok (.getfield 17, 3) := dk_180 0 17 (dk_at dksX14_at_0 6 rfl rfl)
theorem dX14_at_9 : decode cX14_at 9 = .ok (.arraylength, 1) := dk_190 (dk_at dksX14_at_0 9 rfl rfl)
theorem dX14_at_10 : decode cX14_at 10 = .ok (.if_icmp .ge 12, 3) := dk_162 0 12 (dk_at dksX14_at_0 10 rfl rfl)
theorem dX14_at_13 : decode cX14_at 13 = .ok (.aload_n 0, 1) := dk_42 (dk_at dksX14_at_0 13 rfl rfl)
theorem dX14_at_14 : decode cX14_at 14 = .ok (.getfield 17, 3) := dk_180 0 17 (dk_at dksX14_at_0 14 rfl rfl)
theorem dX14_at_17 : decode cX14_at 17 = .ok (.iload_n 1, 1) := dk_27 (dk_at dksX14_at_0 17 rfl rfl)
theorem dX14_at_18 : decode cX14_at 18 = .ok (.aaload, 1) := dk_50 (dk_at dksX14_at_0 18 rfl rfl)
theorem dX14_at_19 : decode cX14_at 19 = .ok (.goto 4, 3) := dk_167 0 4 (dk_at dksX14_at_0 19 rfl rfl)
theorem dX14_at_22 : decode cX14_at 22 = .ok (.aconst_null, 1) := dk_1 (dk_at dksX14_at_0 22 rfl rfl)
theorem dX14_at_23 : decode cX14_at 23 = .ok (.areturn, 1) := dk_176 (dk_at dksX14_at_0 23 rfl rfl)
abbrev cX14_isBehind : ByteArray := prog_17_method_3_code
def yX14_isBehind : MethodName := ⟨RX14, "isBehind", "(LLineRemarks$Revision;)Z"⟩
def dkwX14_isBehind_1 : List UInt8 := [4, 167, 0, 4, 3, 172]
abbrev dktX14_isBehind_1 : List UInt8 := dkwX14_isBehind_1 ++ []
def dkwX14_isBehind_0 : List UInt8 := [42, 77, 44, 198, 0, 16, 44, 43, 165, 0, 11, 44, 180, 0, 13, 77, 167, 255, 242, 44, 43, 166, 0, 7]
abbrev dktX14_isBehind_0 : List UInt8 := dkwX14_isBehind_0 ++ dktX14_isBehind_1
theorem dksX14_isBehind_0 : cX14_isBehind.data.toList.drop 0 = dktX14_isBehind_0 := by decide +kernel
theorem dksX14_isBehind_1 : cX14_isBehind.data.toList.drop 24 = dktX14_isBehind_1 := dk_seg dksX14_isBehind_0 24 rfl rfl
theorem dX14_isBehind_0 : decode cX14_isBehind 0 = .ok (.aload_n 0, 1) := dk_42 (dk_at dksX14_isBehind_0 0 rfl rfl)
theorem dX14_isBehind_1 : decode cX14_isBehind 1 = .ok (.astore_n 2, 1) := dk_77 (dk_at dksX14_isBehind_0 1 rfl rfl)
theorem dX14_isBehind_2 : decode cX14_isBehind 2 = .ok (.aload_n 2, 1) := dk_44 (dk_at dksX14_isBehind_0 2 rfl rfl)
theorem dX14_isBehind_3 : decode cX14_isBehind 3 = .ok (.ifnull 16, 3) := dk_198 0 16 (dk_at dksX14_isBehind_0 3 rfl rfl)
theorem dX14_isBehind_6 : decode cX14_isBehind 6 = .ok (.aload_n 2, 1) := dk_44 (dk_at dksX14_isBehind_0 6 rfl rfl)
theorem dX14_isBehind_7 : decode cX14_isBehind 7 = .ok (.aload_n 1, 1) := dk_43 (dk_at dksX14_isBehind_0 7 rfl rfl)
theorem dX14_isBehind_8 : decode cX14_isBehind 8 = .ok (.if_acmp .eq 11, 3) := dk_165 0 11 (dk_at dksX14_isBehind_0 8 rfl rfl)
theorem dX14_isBehind_11 : decode cX14_isBehind 11 = .ok (.aload_n 2, 1) := dk_44 (dk_at dksX14_isBehind_0 11 rfl rfl)
theorem dX14_isBehind_12 : decode cX14_isBehind 12 = .ok (.getfield 13, 3) := dk_180 0 13 (dk_at dksX14_isBehind_0 12 rfl rfl)
theorem dX14_isBehind_15 : decode cX14_isBehind 15 = .ok (.astore_n 2, 1) := dk_77 (dk_at dksX14_isBehind_0 15 rfl rfl)
theorem dX14_isBehind_16 : decode cX14_isBehind 16 = .ok (.goto (-14), 3) := dk_167 255 242 (dk_at dksX14_isBehind_0 16 rfl rfl)
theorem dX14_isBehind_19 : decode cX14_isBehind 19 = .ok (.aload_n 2, 1) := dk_44 (dk_at dksX14_isBehind_0 19 rfl rfl)
theorem dX14_isBehind_20 : decode cX14_isBehind 20 = .ok (.aload_n 1, 1) := dk_43 (dk_at dksX14_isBehind_0 20 rfl rfl)
theorem dX14_isBehind_21 : decode cX14_isBehind 21 = .ok (.if_acmp .ne 7, 3) := dk_166 0 7 (dk_at dksX14_isBehind_0 21 rfl rfl)
theorem dX14_isBehind_24 : decode cX14_isBehind 24 = .ok (.iconst 1, 1) := dk_4 (dk_at dksX14_isBehind_1 0 rfl rfl)
theorem dX14_isBehind_25 : decode cX14_isBehind 25 = .ok (.goto 4, 3) := dk_167 0 4 (dk_at dksX14_isBehind_1 1 rfl rfl)
theorem dX14_isBehind_28 : decode cX14_isBehind 28 = .ok (.iconst 0, 1) := dk_3 (dk_at dksX14_isBehind_1 4 rfl rfl)
theorem dX14_isBehind_29 : decode cX14_isBehind 29 = .ok (.ireturn, 1) := dk_172 (dk_at dksX14_isBehind_1 5 rfl rfl)
abbrev cX14_since : ByteArray := prog_17_method_5_code
def yX14_since : MethodName := ⟨RX14, "since", "(LLineRemarks$Revision;)Ljava/util/ArrayDeque;"⟩
def dkwX14_since_1 : List UInt8 := [78, 167, 255, 241, 44, 43, 182, 0, 36, 44, 176]
abbrev dktX14_since_1 : List UInt8 := dkwX14_since_1 ++ []
def dkwX14_since_0 : List UInt8 := [187, 0, 33, 89, 183, 0, 35, 77, 42, 78, 45, 43, 165, 0, 16, 44, 45, 182, 0, 36, 45, 180, 0, 13]
abbrev dktX14_since_0 : List UInt8 := dkwX14_since_0 ++ dktX14_since_1
theorem dksX14_since_0 : cX14_since.data.toList.drop 0 = dktX14_since_0 := by decide +kernel
theorem dksX14_since_1 : cX14_since.data.toList.drop 24 = dktX14_since_1 := dk_seg dksX14_since_0 24 rfl rfl
theorem dX14_since_0 : decode cX14_since 0 = .ok (.new 33, 3) := dk_187 0 33 (dk_at dksX14_since_0 0 rfl rfl)
theorem dX14_since_3 : decode cX14_since 3 = .ok (.dup, 1) := dk_89 (dk_at dksX14_since_0 3 rfl rfl)
theorem dX14_since_4 : decode cX14_since 4 = .ok (.invokespecial 35, 3) := dk_183 0 35 (dk_at dksX14_since_0 4 rfl rfl)
theorem dX14_since_7 : decode cX14_since 7 = .ok (.astore_n 2, 1) := dk_77 (dk_at dksX14_since_0 7 rfl rfl)
theorem dX14_since_8 : decode cX14_since 8 = .ok (.aload_n 0, 1) := dk_42 (dk_at dksX14_since_0 8 rfl rfl)
theorem dX14_since_9 : decode cX14_since 9 = .ok (.astore_n 3, 1) := dk_78 (dk_at dksX14_since_0 9 rfl rfl)
theorem dX14_since_10 : decode cX14_since 10 = .ok (.aload_n 3, 1) := dk_45 (dk_at dksX14_since_0 10 rfl rfl)
theorem dX14_since_11 : decode cX14_since 11 = .ok (.aload_n 1, 1) := dk_43 (dk_at dksX14_since_0 11 rfl rfl)
theorem dX14_since_12 : decode cX14_since 12 = .ok (.if_acmp .eq 16, 3) := dk_165 0 16 (dk_at dksX14_since_0 12 rfl rfl)
theorem dX14_since_15 : decode cX14_since 15 = .ok (.aload_n 2, 1) := dk_44 (dk_at dksX14_since_0 15 rfl rfl)
theorem dX14_since_16 : decode cX14_since 16 = .ok (.aload_n 3, 1) := dk_45 (dk_at dksX14_since_0 16 rfl rfl)
theorem dX14_since_17 : decode cX14_since 17 = .ok (.invokevirtual 36, 3) := dk_182 0 36 (dk_at dksX14_since_0 17 rfl rfl)
theorem dX14_since_20 : decode cX14_since 20 = .ok (.aload_n 3, 1) := dk_45 (dk_at dksX14_since_0 20 rfl rfl)
theorem dX14_since_21 : decode cX14_since 21 = .ok (.getfield 13, 3) := dk_180 0 13 (dk_at dksX14_since_0 21 rfl rfl)
theorem dX14_since_24 : decode cX14_since 24 = .ok (.astore_n 3, 1) := dk_78 (dk_at dksX14_since_1 0 rfl rfl)
theorem dX14_since_25 : decode cX14_since 25 = .ok (.goto (-15), 3) := dk_167 255 241 (dk_at dksX14_since_1 1 rfl rfl)
theorem dX14_since_28 : decode cX14_since 28 = .ok (.aload_n 2, 1) := dk_44 (dk_at dksX14_since_1 4 rfl rfl)
theorem dX14_since_29 : decode cX14_since 29 = .ok (.aload_n 1, 1) := dk_43 (dk_at dksX14_since_1 5 rfl rfl)
theorem dX14_since_30 : decode cX14_since 30 = .ok (.invokevirtual 36, 3) := dk_182 0 36 (dk_at dksX14_since_1 6 rfl rfl)
theorem dX14_since_33 : decode cX14_since 33 = .ok (.aload_n 2, 1) := dk_44 (dk_at dksX14_since_1 9 rfl rfl)
theorem dX14_since_34 : decode cX14_since 34 = .ok (.areturn, 1) := dk_176 (dk_at dksX14_since_1 10 rfl rfl)
abbrev cX14_fromFormer : ByteArray := prog_17_method_4_code
def yX14_fromFormer : MethodName := ⟨RX14, "fromFormer", "(I)LLineRemarks$Match;"⟩
def dkwX14_fromFormer_1 : List UInt8 := [180, 0, 13, 180, 0, 17, 42, 180, 0, 17, 27, 183, 0, 30, 181, 0, 21, 42, 180, 0, 21, 176]
abbrev dktX14_fromFormer_1 : List UInt8 := dkwX14_fromFormer_1 ++ []
def dkwX14_fromFormer_0 : List UInt8 := [42, 180, 0, 21, 198, 0, 14, 42, 180, 0, 21, 180, 0, 25, 27, 159, 0, 26, 42, 187, 0, 26, 89, 42]
abbrev dktX14_fromFormer_0 : List UInt8 := dkwX14_fromFormer_0 ++ dktX14_fromFormer_1
theorem dksX14_fromFormer_0 : cX14_fromFormer.data.toList.drop 0 = dktX14_fromFormer_0 := by decide +kernel
theorem dksX14_fromFormer_1 : cX14_fromFormer.data.toList.drop 24 = dktX14_fromFormer_1 := dk_seg dksX14_fromFormer_0 24 rfl rfl
theorem dX14_fromFormer_0 : decode cX14_fromFormer 0 = .ok (.aload_n 0, 1) := dk_42 (dk_at dksX14_fromFormer_0 0 rfl rfl)
theorem dX14_fromFormer_1 : decode cX14_fromFormer 1 = .ok (.getfield 21, 3) := dk_180 0 21 (dk_at dksX14_fromFormer_0 1 rfl rfl)
theorem dX14_fromFormer_4 : decode cX14_fromFormer 4 = .ok (.ifnull 14, 3) := dk_198 0 14 (dk_at dksX14_fromFormer_0 4 rfl rfl)
theorem dX14_fromFormer_7 : decode cX14_fromFormer 7 = .ok (.aload_n 0, 1) := dk_42 (dk_at dksX14_fromFormer_0 7 rfl rfl)
theorem dX14_fromFormer_8 : decode cX14_fromFormer 8 = .ok (.getfield 21, 3) := dk_180 0 21 (dk_at dksX14_fromFormer_0 8 rfl rfl)
theorem dX14_fromFormer_11 : decode cX14_fromFormer 11 = .ok (.getfield 25, 3) := dk_180 0 25 (dk_at dksX14_fromFormer_0 11 rfl rfl)
theorem dX14_fromFormer_14 : decode cX14_fromFormer 14 = .ok (.iload_n 1, 1) := dk_27 (dk_at dksX14_fromFormer_0 14 rfl rfl)
theorem dX14_fromFormer_15 : decode cX14_fromFormer 15 = .ok (.if_icmp .eq 26, 3) := dk_159 0 26 (dk_at dksX14_fromFormer_0 15 rfl rfl)
theorem dX14_fromFormer_18 : decode cX14_fromFormer 18 = .ok (.aload_n 0, 1) := dk_42 (dk_at dksX14_fromFormer_0 18 rfl rfl)
theorem dX14_fromFormer_19 : decode cX14_fromFormer 19 = .ok (.new 26, 3) := dk_187 0 26 (dk_at dksX14_fromFormer_0 19 rfl rfl)
theorem dX14_fromFormer_22 : decode cX14_fromFormer 22 = .ok (.dup, 1) := dk_89 (dk_at dksX14_fromFormer_0 22 rfl rfl)
theorem dX14_fromFormer_23 : decode cX14_fromFormer 23 = .ok (.aload_n 0, 1) := dk_42 (dk_at dksX14_fromFormer_0 23 rfl rfl)
theorem dX14_fromFormer_24 : decode cX14_fromFormer 24 = .ok (.getfield 13, 3) := dk_180 0 13 (dk_at dksX14_fromFormer_1 0 rfl rfl)
theorem dX14_fromFormer_27 : decode cX14_fromFormer 27 = .ok (.getfield 17, 3) := dk_180 0 17 (dk_at dksX14_fromFormer_1 3 rfl rfl)
theorem dX14_fromFormer_30 : decode cX14_fromFormer 30 = .ok (.aload_n 0, 1) := dk_42 (dk_at dksX14_fromFormer_1 6 rfl rfl)
theorem dX14_fromFormer_31 : decode cX14_fromFormer 31 = .ok (.getfield 17, 3) := dk_180 0 17 (dk_at dksX14_fromFormer_1 7 rfl rfl)
theorem dX14_fromFormer_34 : decode cX14_fromFormer 34 = .ok (.iload_n 1, 1) := dk_27 (dk_at dksX14_fromFormer_1 10 rfl rfl)
theorem dX14_fromFormer_35 : decode cX14_fromFormer 35 = .ok (.invokespecial 30, 3) := dk_183 0 30 (dk_at dksX14_fromFormer_1 11 rfl rfl)
theorem dX14_fromFormer_38 : decode cX14_fromFormer 38 = .ok (.putfield 21, 3) := dk_181 0 21 (dk_at dksX14_fromFormer_1 14 rfl rfl)
theorem dX14_fromFormer_41 : decode cX14_fromFormer 41 = .ok (.aload_n 0, 1) := dk_42 (dk_at dksX14_fromFormer_1 17 rfl rfl)
theorem dX14_fromFormer_42 : decode cX14_fromFormer 42 = .ok (.getfield 21, 3) := dk_180 0 21 (dk_at dksX14_fromFormer_1 18 rfl rfl)
theorem dX14_fromFormer_45 : decode cX14_fromFormer 45 = .ok (.areturn, 1) := dk_176 (dk_at dksX14_fromFormer_1 21 rfl rfl)
theorem q140 : (Jvm.Cond.initialized "LineRemarks$Revision") ∈ lw_all := lw_g (lw_at lw_m1 54 rfl) rfl
theorem q239 : (Jvm.Cond.selects "LineRemarks$Revision" ({ cls := "java/lang/Object", name := "getClass", desc := "()Ljava/lang/Class;" } : Jvm.MethodName) ({ cls := "java/lang/Object", name := "getClass", desc := "()Ljava/lang/Class;" } : Jvm.MethodName)) ∈ lw_all := lw_g (lw_at lw_m1 153 rfl) rfl
theorem q1714 : (Jvm.Cond.instantiable "LineRemarks$Revision" (4 : Nat)) ∈ lw_all := lw_g (lw_at lw_m7 188 rfl) rfl
theorem q1716 : (Jvm.Cond.instanceMethod ({ cls := "LineRemarks$Revision", name := "<init>", desc := "(ILLineRemarks$Revision;[LLineRemarks$Line;)V" } : Jvm.MethodName)) ∈ lw_all := lw_g (lw_at lw_m7 190 rfl) rfl
theorem q1717 : (Jvm.Cond.code ({ cls := "LineRemarks$Revision", name := "<init>", desc := "(ILLineRemarks$Revision;[LLineRemarks$Line;)V" } : Jvm.MethodName) prog_17_method_1_code (4 : Nat) (Option.none : Option Jvm.ClassFile.FieldType)) ∈ lw_all := lw_g (lw_at lw_m7 191 rfl) rfl
theorem q1718 : (Jvm.Cond.methodLink "LineRemarks$Revision" (1 : Nat) ({ cls := "java/lang/Object", name := "<init>", desc := "()V" } : Jvm.MethodName)) ∈ lw_all := lw_g (lw_at lw_m7 192 rfl) rfl
theorem q1719 : (Jvm.Cond.fieldLink "LineRemarks$Revision" (7 : Nat) "LineRemarks$Revision" "number" "I") ∈ lw_all := lw_g (lw_at lw_m7 193 rfl) rfl
theorem q1722 : (Jvm.Cond.fieldLink "LineRemarks$Revision" (13 : Nat) "LineRemarks$Revision" "former" "LLineRemarks$Revision;") ∈ lw_all := lw_g (lw_at lw_m7 196 rfl) rfl
theorem q1725 : (Jvm.Cond.fieldLink "LineRemarks$Revision" (17 : Nat) "LineRemarks$Revision" "lines" "[LLineRemarks$Line;") ∈ lw_all := lw_g (lw_at lw_m7 199 rfl) rfl
theorem q1729 : (Jvm.Cond.fieldLink "LineRemarks$Revision" (21 : Nat) "LineRemarks$Revision" "fromFormer" "LLineRemarks$Match;") ∈ lw_all := lw_g (lw_at lw_m7 203 rfl) rfl
theorem q1730 : (Jvm.Cond.laysFinal "LineRemarks$Revision" "LineRemarks$Revision" "number" "I") ∈ lw_all := lw_g (lw_at lw_m7 204 rfl) rfl
theorem q1731 : (Jvm.Cond.soleField "LineRemarks$Revision" "number") ∈ lw_all := lw_g (lw_at lw_m7 205 rfl) rfl
theorem q1732 : (Jvm.Cond.laysFinal "LineRemarks$Revision" "LineRemarks$Revision" "former" "LLineRemarks$Revision;") ∈ lw_all := lw_g (lw_at lw_m7 206 rfl) rfl
theorem q1733 : (Jvm.Cond.soleField "LineRemarks$Revision" "former") ∈ lw_all := lw_g (lw_at lw_m7 207 rfl) rfl
theorem q1734 : (Jvm.Cond.laysFinal "LineRemarks$Revision" "LineRemarks$Revision" "lines" "[LLineRemarks$Line;") ∈ lw_all := lw_g (lw_at lw_m7 208 rfl) rfl
theorem q1735 : (Jvm.Cond.soleField "LineRemarks$Revision" "lines") ∈ lw_all := lw_g (lw_at lw_m7 209 rfl) rfl
theorem q1736 : (Jvm.Cond.lays "LineRemarks$Revision" "LineRemarks$Revision" "fromFormer" "LLineRemarks$Match;") ∈ lw_all := lw_g (lw_at lw_m7 210 rfl) rfl
theorem q1737 : (Jvm.Cond.soleField "LineRemarks$Revision" "fromFormer") ∈ lw_all := lw_g (lw_at lw_m7 211 rfl) rfl
theorem q1738 : (Jvm.Cond.superclass "LineRemarks$Revision" "java/lang/Object") ∈ lw_all := lw_g (lw_at lw_m7 212 rfl) rfl
theorem q1755 : (Jvm.Cond.instanceMethod ({ cls := "LineRemarks$Revision", name := "at", desc := "(I)LLineRemarks$Line;" } : Jvm.MethodName)) ∈ lw_all := lw_g (lw_at lw_m7 229 rfl) rfl
theorem q1756 : (Jvm.Cond.selects "LineRemarks$Revision" ({ cls := "LineRemarks$Revision", name := "at", desc := "(I)LLineRemarks$Line;" } : Jvm.MethodName) ({ cls := "LineRemarks$Revision", name := "at", desc := "(I)LLineRemarks$Line;" } : Jvm.MethodName)) ∈ lw_all := lw_g (lw_at lw_m7 230 rfl) rfl
theorem q1757 : (Jvm.Cond.code ({ cls := "LineRemarks$Revision", name := "at", desc := "(I)LLineRemarks$Line;" } : Jvm.MethodName) prog_17_method_2_code (2 : Nat) (Option.some (Jvm.ClassFile.FieldType.object "LineRemarks$Line"))) ∈ lw_all := lw_g (lw_at lw_m7 231 rfl) rfl
theorem q1906 : (Jvm.Cond.fieldLink "LineRemarks$Revision" (25 : Nat) "LineRemarks$Match" "run" "I") ∈ lw_all := lw_g (lw_at lw_m8 140 rfl) rfl
theorem q1953 : (Jvm.Cond.instanceMethod ({ cls := "LineRemarks$Revision", name := "isBehind", desc := "(LLineRemarks$Revision;)Z" } : Jvm.MethodName)) ∈ lw_all := lw_g (lw_at lw_m8 187 rfl) rfl
theorem q1954 : (Jvm.Cond.selects "LineRemarks$Revision" ({ cls := "LineRemarks$Revision", name := "isBehind", desc := "(LLineRemarks$Revision;)Z" } : Jvm.MethodName) ({ cls := "LineRemarks$Revision", name := "isBehind", desc := "(LLineRemarks$Revision;)Z" } : Jvm.MethodName)) ∈ lw_all := lw_g (lw_at lw_m8 188 rfl) rfl
theorem q1955 : (Jvm.Cond.code ({ cls := "LineRemarks$Revision", name := "isBehind", desc := "(LLineRemarks$Revision;)Z" } : Jvm.MethodName) prog_17_method_3_code (3 : Nat) (Option.some Jvm.ClassFile.FieldType.boolean)) ∈ lw_all := lw_g (lw_at lw_m8 189 rfl) rfl
theorem q1957 : (Jvm.Cond.instanceMethod ({ cls := "LineRemarks$Revision", name := "since", desc := "(LLineRemarks$Revision;)Ljava/util/ArrayDeque;" } : Jvm.MethodName)) ∈ lw_all := lw_g (lw_at lw_m8 191 rfl) rfl
theorem q1958 : (Jvm.Cond.selects "LineRemarks$Revision" ({ cls := "LineRemarks$Revision", name := "since", desc := "(LLineRemarks$Revision;)Ljava/util/ArrayDeque;" } : Jvm.MethodName) ({ cls := "LineRemarks$Revision", name := "since", desc := "(LLineRemarks$Revision;)Ljava/util/ArrayDeque;" } : Jvm.MethodName)) ∈ lw_all := lw_g (lw_at lw_m8 192 rfl) rfl
theorem q1959 : (Jvm.Cond.code ({ cls := "LineRemarks$Revision", name := "since", desc := "(LLineRemarks$Revision;)Ljava/util/ArrayDeque;" } : Jvm.MethodName) prog_17_method_5_code (4 : Nat) (Option.some (Jvm.ClassFile.FieldType.object "java/util/ArrayDeque"))) ∈ lw_all := lw_g (lw_at lw_m8 193 rfl) rfl
theorem q1960 : (Jvm.Cond.classLink "LineRemarks$Revision" (33 : Nat) "java/util/ArrayDeque") ∈ lw_all := lw_g (lw_at lw_m8 194 rfl) rfl
theorem q1962 : (Jvm.Cond.methodLink "LineRemarks$Revision" (35 : Nat) ({ cls := "java/util/ArrayDeque", name := "<init>", desc := "()V" } : Jvm.MethodName)) ∈ lw_all := lw_g (lw_at lw_m8 196 rfl) rfl
theorem q1979 : (Jvm.Cond.methodLink "LineRemarks$Revision" (36 : Nat) ({ cls := "java/util/ArrayDeque", name := "addFirst", desc := "(Ljava/lang/Object;)V" } : Jvm.MethodName)) ∈ lw_all := lw_g (lw_at lw_m8 213 rfl) rfl
theorem q2030 : (Jvm.Cond.instanceMethod ({ cls := "LineRemarks$Revision", name := "fromFormer", desc := "(I)LLineRemarks$Match;" } : Jvm.MethodName)) ∈ lw_all := lw_g (lw_at lw_m9 24 rfl) rfl
theorem q2031 : (Jvm.Cond.selects "LineRemarks$Revision" ({ cls := "LineRemarks$Revision", name := "fromFormer", desc := "(I)LLineRemarks$Match;" } : Jvm.MethodName) ({ cls := "LineRemarks$Revision", name := "fromFormer", desc := "(I)LLineRemarks$Match;" } : Jvm.MethodName)) ∈ lw_all := lw_g (lw_at lw_m9 25 rfl) rfl
theorem q2032 : (Jvm.Cond.code ({ cls := "LineRemarks$Revision", name := "fromFormer", desc := "(I)LLineRemarks$Match;" } : Jvm.MethodName) prog_17_method_4_code (2 : Nat) (Option.some (Jvm.ClassFile.FieldType.object "LineRemarks$Match"))) ∈ lw_all := lw_g (lw_at lw_m9 26 rfl) rfl
theorem q2033 : (Jvm.Cond.classLink "LineRemarks$Revision" (26 : Nat) "LineRemarks$Match") ∈ lw_all := lw_g (lw_at lw_m9 27 rfl) rfl
theorem q2034 : (Jvm.Cond.methodLink "LineRemarks$Revision" (30 : Nat) ({ cls := "LineRemarks$Match", name := "<init>", desc := "([LLineRemarks$Line;[LLineRemarks$Line;I)V" } : Jvm.MethodName)) ∈ lw_all := lw_g (lw_at lw_m9 28 rfl) rfl
theorem q3029 : (Jvm.Cond.selects "LineRemarks$Revision" ({ cls := "java/lang/Object", name := "equals", desc := "(Ljava/lang/Object;)Z" } : Jvm.MethodName) ({ cls := "java/lang/Object", name := "equals", desc := "(Ljava/lang/Object;)Z" } : Jvm.MethodName)) ∈ lw_all := lw_g (lw_at lw_m13 63 rfl) rfl
theorem q3797 : (Jvm.Cond.castable "LineRemarks$Revision" "java/lang/Object") ∈ lw_tbl := lw_at lw_m16 111 rfl
theorem in_X14 : ∀ w ∈ wsX140, w ∈ lw_all := lw_in wsX140 [1730, 1732, 1734, 1736] (by decide +kernel) (by decide +kernel)
/-! LineRemarks$Match -/
set_option maxRecDepth 100000
def RX15 : String := "LineRemarks$Match"
def TX15 : u_T := fun k => match k with
  | 0 => ("LineRemarks$Match", "run", "I", true)
  | 1 => ("LineRemarks$Match", "many", "I", true)
  | 2 => ("LineRemarks$Match", "place", "[I", true)
  | 3 => ("LineRemarks$Match", "pairs", "I", false)
  | 4 => ("LineRemarks$Match", "moved", "I", false)
  | 5 => ("LineRemarks$Match", "a", "[LLineRemarks$Line;", true)
  | 6 => ("LineRemarks$Match", "b", "[LLineRemarks$Line;", true)
  | 7 => ("LineRemarks$Match", "usedA", "Ljava/util/BitSet;", true)
  | _ => ("LineRemarks$Match", "usedB", "Ljava/util/BitSet;", true)
def tyX15 : Nat → FieldType := fun k => match k with
  | 0 => .int
  | 1 => .int
  | 2 => .array .int
  | 3 => .int
  | 4 => .int
  | 5 => .array (.object "LineRemarks$Line")
  | 6 => .array (.object "LineRemarks$Line")
  | 7 => .object "java/util/BitSet"
  | _ => .object "java/util/BitSet"
abbrev wsX150 : List Cond := u_ws RX15 TX15 9
theorem nmX15 : ∀ a, a < 9 → ∀ b, b < 9 → a ≠ b → (TX15 a).2.1 ≠ (TX15 b).2.1 := by decide +kernel
theorem tyX15_ok : ∀ k, k < 9 → parseFieldDescriptor (TX15 k).2.2.1 = some (tyX15 k) := by decide +kernel
abbrev cX15_init : ByteArray := prog_11_method_1_code
def yX15_init : MethodName := ⟨RX15, "<init>", "([LLineRemarks$Line;[LLineRemarks$Line;I)V"⟩
def dkwX15_init_4 : List UInt8 := [182, 0, 53, 42, 180, 0, 57, 100, 181, 0, 64, 167, 255, 233, 177]
abbrev dktX15_init_4 : List UInt8 := dkwX15_init_4 ++ []
def dkwX15_init_3 : List UInt8 := [42, 42, 180, 0, 12, 182, 0, 53, 181, 0, 57, 42, 182, 0, 60, 153, 0, 22, 42, 42, 180, 0, 12]
abbrev dktX15_init_3 : List UInt8 := dkwX15_init_3 ++ dktX15_init_4
def dkwX15_init_2 : List UInt8 := [42, 43, 190, 188, 10, 181, 0, 35, 42, 180, 0, 35, 2, 184, 0, 39, 42, 42, 182, 0, 45, 182, 0, 49]
abbrev dktX15_init_2 : List UInt8 := dkwX15_init_2 ++ dktX15_init_3
def dkwX15_init_1 : List UInt8 := [181, 0, 18, 42, 43, 181, 0, 21, 42, 44, 181, 0, 25, 42, 29, 181, 0, 28, 42, 44, 190, 181, 0, 32]
abbrev dktX15_init_1 : List UInt8 := dkwX15_init_1 ++ dktX15_init_2
def dkwX15_init_0 : List UInt8 := [42, 183, 0, 3, 42, 187, 0, 9, 89, 183, 0, 11, 181, 0, 12, 42, 187, 0, 9, 89, 183, 0, 11]
abbrev dktX15_init_0 : List UInt8 := dkwX15_init_0 ++ dktX15_init_1
theorem dksX15_init_0 : cX15_init.data.toList.drop 0 = dktX15_init_0 := by decide +kernel
theorem dksX15_init_1 : cX15_init.data.toList.drop 23 = dktX15_init_1 := dk_seg dksX15_init_0 23 rfl rfl
theorem dksX15_init_2 : cX15_init.data.toList.drop 47 = dktX15_init_2 := dk_seg dksX15_init_1 24 rfl rfl
theorem dksX15_init_3 : cX15_init.data.toList.drop 71 = dktX15_init_3 := dk_seg dksX15_init_2 24 rfl rfl
theorem dksX15_init_4 : cX15_init.data.toList.drop 94 = dktX15_init_4 := dk_seg dksX15_init_3 23 rfl rfl
theorem dX15_init_0 : decode cX15_init 0 = .ok (.aload_n 0, 1) := dk_42 (dk_at dksX15_init_0 0 rfl rfl)
theorem dX15_init_1 : decode cX15_init 1 = .ok (.invokespecial 3, 3) := dk_183 0 3 (dk_at dksX15_init_0 1 rfl rfl)
theorem dX15_init_4 : decode cX15_init 4 = .ok (.aload_n 0, 1) := dk_42 (dk_at dksX15_init_0 4 rfl rfl)
theorem dX15_init_5 : decode cX15_init 5 = .ok (.new 9, 3) := dk_187 0 9 (dk_at dksX15_init_0 5 rfl rfl)
theorem dX15_init_8 : decode cX15_init 8 = .ok (.dup, 1) := dk_89 (dk_at dksX15_init_0 8 rfl rfl)
theorem dX15_init_9 : decode cX15_init 9 = .ok (.invokespecial 11, 3) := dk_183 0 11 (dk_at dksX15_init_0 9 rfl rfl)
theorem dX15_init_12 : decode cX15_init 12 = .ok (.putfield 12, 3) := dk_181 0 12 (dk_at dksX15_init_0 12 rfl rfl)
theorem dX15_init_15 : decode cX15_init 15 = .ok (.aload_n 0, 1) := dk_42 (dk_at dksX15_init_0 15 rfl rfl)
theorem dX15_init_16 : decode cX15_init 16 = .ok (.new 9, 3) := dk_187 0 9 (dk_at dksX15_init_0 16 rfl rfl)
theorem dX15_init_19 : decode cX15_init 19 = .ok (.dup, 1) := dk_89 (dk_at dksX15_init_0 19 rfl rfl)
theorem dX15_init_20 : decode cX15_init 20 = .ok (.invokespecial 11, 3) := dk_183 0 11 (dk_at dksX15_init_0 20 rfl rfl)
theorem dX15_init_23 : decode cX15_init 23 = .ok (.putfield 18, 3) := dk_181 0 18 (dk_at dksX15_init_1 0 rfl rfl)
theorem dX15_init_26 : decode cX15_init 26 = .ok (.aload_n 0, 1) := dk_42 (dk_at dksX15_init_1 3 rfl rfl)
theorem dX15_init_27 : decode cX15_init 27 = .ok (.aload_n 1, 1) := dk_43 (dk_at dksX15_init_1 4 rfl rfl)
theorem dX15_init_28 : decode cX15_init 28 = .ok (.putfield 21, 3) := dk_181 0 21 (dk_at dksX15_init_1 5 rfl rfl)
theorem dX15_init_31 : decode cX15_init 31 = .ok (.aload_n 0, 1) := dk_42 (dk_at dksX15_init_1 8 rfl rfl)
theorem dX15_init_32 : decode cX15_init 32 = .ok (.aload_n 2, 1) := dk_44 (dk_at dksX15_init_1 9 rfl rfl)
theorem dX15_init_33 : decode cX15_init 33 = .ok (.putfield 25, 3) := dk_181 0 25 (dk_at dksX15_init_1 10 rfl rfl)
theorem dX15_init_36 : decode cX15_init 36 = .ok (.aload_n 0, 1) := dk_42 (dk_at dksX15_init_1 13 rfl rfl)
theorem dX15_init_37 : decode cX15_init 37 = .ok (.iload_n 3, 1) := dk_29 (dk_at dksX15_init_1 14 rfl rfl)
theorem dX15_init_38 : decode cX15_init 38 = .ok (.putfield 28, 3) := dk_181 0 28 (dk_at dksX15_init_1 15 rfl rfl)
theorem dX15_init_41 : decode cX15_init 41 = .ok (.aload_n 0, 1) := dk_42 (dk_at dksX15_init_1 18 rfl rfl)
theorem dX15_init_42 : decode cX15_init 42 = .ok (.aload_n 2, 1) := dk_44 (dk_at dksX15_init_1 19 rfl rfl)
theorem dX15_init_43 : decode cX15_init 43 = .ok (.arraylength, 1) := dk_190 (dk_at dksX15_init_1 20 rfl rfl)
theorem dX15_init_44 : decode cX15_init 44 = .ok (.putfield 32, 3) := dk_181 0 32 (dk_at dksX15_init_1 21 rfl rfl)
theorem dX15_init_47 : decode cX15_init 47 = .ok (.aload_n 0, 1) := dk_42 (dk_at dksX15_init_2 0 rfl rfl)
theorem dX15_init_48 : decode cX15_init 48 = .ok (.aload_n 1, 1) := dk_43 (dk_at dksX15_init_2 1 rfl rfl)
theorem dX15_init_49 : decode cX15_init 49 = .ok (.arraylength, 1) := dk_190 (dk_at dksX15_init_2 2 rfl rfl)
theorem dX15_init_50 : decode cX15_init 50 = .ok (.newarray .int, 2) := dk_188_10 (dk_at dksX15_init_2 3 rfl rfl)
theorem dX15_init_52 : decode cX15_init 52 = .ok (.putfield 35, 3) := dk_181 0 35 (dk_at dksX15_init_2 5 rfl rfl)
theorem dX15_init_55 : decode cX15_init 55 = .ok (.aload_n 0, 1) := dk_42 (dk_at dksX15_init_2 8 rfl rfl)
theorem dX15_init_56 : decode cX15_init 56 = .ok (.getfield 35, 3) := dk_180 0 35 (dk_at dksX15_init_2 9 rfl rfl)
theorem dX15_init_59 : decode cX15_init 59 = .ok (.iconst (-1), 1) := dk_2 (dk_at dksX15_init_2 12 rfl rfl)
theorem dX15_init_60 : decode cX15_init 60 = .ok (.invokestatic 39, 3) := dk_184 0 39 (dk_at dksX15_init_2 13 rfl rfl)
theorem dX15_init_63 : decode cX15_init 63 = .ok (.aload_n 0, 1) := dk_42 (dk_at dksX15_init_2 16 rfl rfl)
theorem dX15_init_64 : decode cX15_init 64 = .ok (.aload_n 0, 1) := dk_42 (dk_at dksX15_init_2 17 rfl rfl)
theorem dX15_init_65 : decode cX15_init 65 = .ok (.invokevirtual 45, 3) := dk_182 0 45 (dk_at dksX15_init_2 18 rfl rfl)
theorem dX15_init_68 : decode cX15_init 68 = .ok (.invokevirtual 49, 3) := dk_182 0 49 (dk_at dksX15_init_2 21 rfl rfl)
theorem dX15_init_71 : decode cX15_init 71 = .ok (.aload_n 0, 1) := dk_42 (dk_at dksX15_init_3 0 rfl rfl)
theorem dX15_init_72 : decode cX15_init 72 = .ok (.aload_n 0, 1) := dk_42 (dk_at dksX15_init_3 1 rfl rfl)
theorem dX15_init_73 : decode cX15_init 73 = .ok (.getfield 12, 3) := dk_180 0 12 (dk_at dksX15_init_3 2 rfl rfl)
theorem dX15_init_76 : decode cX15_init 76 = .ok (.invokevirtual 53, 3) := dk_182 0 53 (dk_at dksX15_init_3 5 rfl rfl)
theorem dX15_init_79 : decode cX15_init 79 = .ok (.putfield 57, 3) := dk_181 0 57 (dk_at dksX15_init_3 8 rfl rfl)
theorem dX15_init_82 : decode cX15_init 82 = .ok (.aload_n 0, 1) := dk_42 (dk_at dksX15_init_3 11 rfl rfl)
theorem dX15_init_83 : decode cX15_init 83 = .ok (.invokevirtual 60, 3) := dk_182 0 60 (dk_at dksX15_init_3 12 rfl rfl)
theorem dX15_init_86 : decode cX15_init 86 = .ok (.ifCond .eq 22, 3) := dk_153 0 22 (dk_at dksX15_init_3 15 rfl rfl)
theorem dX15_init_89 : decode cX15_init 89 = .ok (.aload_n 0, 1) := dk_42 (dk_at dksX15_init_3 18 rfl rfl)
theorem dX15_init_90 : decode cX15_init 90 = .ok (.aload_n 0, 1) := dk_42 (dk_at dksX15_init_3 19 rfl rfl)
theorem dX15_init_91 : decode cX15_init 91 = .ok (.getfield 12, 3) := dk_180 0 12 (dk_at dksX15_init_3 20 rfl rfl)
theorem dX15_init_94 : decode cX15_init 94 = .ok (.invokevirtual 53, 3) := dk_182 0 53 (dk_at dksX15_init_4 0 rfl rfl)
theorem dX15_init_97 : decode cX15_init 97 = .ok (.aload_n 0, 1) := dk_42 (dk_at dksX15_init_4 3 rfl rfl)
theorem dX15_init_98 : decode cX15_init 98 = .ok (.getfield 57, 3) := dk_180 0 57 (dk_at dksX15_init_4 4 rfl rfl)
theorem dX15_init_101 : decode cX15_init 101 = .ok (.isub, 1) := dk_100 (dk_at dksX15_init_4 7 rfl rfl)
theorem dX15_init_102 : decode cX15_init 102 = .ok (.putfield 64, 3) := dk_181 0 64 (dk_at dksX15_init_4 8 rfl rfl)
theorem dX15_init_105 : decode cX15_init 105 = .ok (.goto (-23), 3) := dk_167 255 233 (dk_at dksX15_init_4 11 rfl rfl)
theorem dX15_init_108 : decode cX15_init 108 = .ok (.return_, 1) := dk_177 (dk_at dksX15_init_4 14 rfl rfl)
abbrev cX15_lengths : ByteArray := prog_11_method_2_code
def yX15_lengths : MethodName := ⟨RX15, "lengths", "()[[I"⟩
def dkwX15_lengths_4 : List UInt8 := [79, 132, 3, 255, 167, 255, 195, 132, 2, 255, 167, 255, 177, 43, 176]
abbrev dktX15_lengths_4 : List UInt8 := dkwX15_lengths_4 ++ []
def dkwX15_lengths_3 : List UInt8 := [4, 96, 46, 96, 167, 0, 20, 43, 28, 4, 96, 50, 29, 46, 43, 28, 50, 29, 4, 96, 46, 184, 0, 75]
abbrev dktX15_lengths_3 : List UInt8 := dkwX15_lengths_3 ++ dktX15_lengths_4
def dkwX15_lengths_2 : List UInt8 := [180, 0, 21, 28, 50, 42, 180, 0, 25, 29, 50, 182, 0, 69, 153, 0, 17, 4, 43, 28, 4, 96, 50, 29]
abbrev dktX15_lengths_2 : List UInt8 := dkwX15_lengths_2 ++ dktX15_lengths_3
def dkwX15_lengths_1 : List UInt8 := [4, 100, 61, 28, 155, 0, 81, 42, 180, 0, 25, 190, 4, 100, 62, 29, 155, 0, 63, 43, 28, 50, 29, 42]
abbrev dktX15_lengths_1 : List UInt8 := dkwX15_lengths_1 ++ dktX15_lengths_2
def dkwX15_lengths_0 : List UInt8 := [42, 180, 0, 21, 190, 4, 96, 42, 180, 0, 25, 190, 4, 96, 197, 0, 67, 2, 76, 42, 180, 0, 21, 190]
abbrev dktX15_lengths_0 : List UInt8 := dkwX15_lengths_0 ++ dktX15_lengths_1
theorem dksX15_lengths_0 : cX15_lengths.data.toList.drop 0 = dktX15_lengths_0 := by decide +kernel
theorem dksX15_lengths_1 : cX15_lengths.data.toList.drop 24 = dktX15_lengths_1 := dk_seg dksX15_lengths_0 24 rfl rfl
theorem dksX15_lengths_2 : cX15_lengths.data.toList.drop 48 = dktX15_lengths_2 := dk_seg dksX15_lengths_1 24 rfl rfl
theorem dksX15_lengths_3 : cX15_lengths.data.toList.drop 72 = dktX15_lengths_3 := dk_seg dksX15_lengths_2 24 rfl rfl
theorem dksX15_lengths_4 : cX15_lengths.data.toList.drop 96 = dktX15_lengths_4 := dk_seg dksX15_lengths_3 24 rfl rfl
theorem dX15_lengths_0 : decode cX15_lengths 0 = .ok (.aload_n 0, 1) := dk_42 (dk_at dksX15_lengths_0 0 rfl rfl)
theorem dX15_lengths_1 : decode cX15_lengths 1 = .ok (.getfield 21, 3) := dk_180 0 21 (dk_at dksX15_lengths_0 1 rfl rfl)
theorem dX15_lengths_4 : decode cX15_lengths 4 = .ok (.arraylength, 1) := dk_190 (dk_at dksX15_lengths_0 4 rfl rfl)
theorem dX15_lengths_5 : decode cX15_lengths 5 = .ok (.iconst 1, 1) := dk_4 (dk_at dksX15_lengths_0 5 rfl rfl)
theorem dX15_lengths_6 : decode cX15_lengths 6 = .ok (.iadd, 1) := dk_96 (dk_at dksX15_lengths_0 6 rfl rfl)
theorem dX15_lengths_7 : decode cX15_lengths 7 = .ok (.aload_n 0, 1) := dk_42 (dk_at dksX15_lengths_0 7 rfl rfl)
theorem dX15_lengths_8 : decode cX15_lengths 8 = .ok (.getfield 25, 3) := dk_180 0 25 (dk_at dksX15_lengths_0 8 rfl rfl)
theorem dX15_lengths_11 : decode cX15_lengths 11 = .ok (.arraylength, 1) := dk_190 (dk_at dksX15_lengths_0 11 rfl rfl)
theorem dX15_lengths_12 : decode cX15_lengths 12 = .ok (.iconst 1, 1) := dk_4 (dk_at dksX15_lengths_0 12 rfl rfl)
theorem dX15_lengths_13 : decode cX15_lengths 13 = .ok (.iadd, 1) := dk_96 (dk_at dksX15_lengths_0 13 rfl rfl)
theorem dX15_lengths_14 : decode cX15_lengths 14 = .ok (.multianewarray 67 2, 4) := by decide +kernel
theorem dX15_lengths_18 : decode cX15_lengths 18 = .ok (.astore_n 1, 1) := dk_76 (dk_at dksX15_lengths_0 18 rfl rfl)
theorem dX15_lengths_19 : decode cX15_lengths 19 = .ok (.aload_n 0, 1) := dk_42 (dk_at dksX15_lengths_0 19 rfl rfl)
theorem dX15_lengths_20 : decode cX15_lengths 20 = .ok (.getfield 21, 3) := dk_180 0 21 (dk_at dksX15_lengths_0 20 rfl rfl)
theorem dX15_lengths_23 : decode cX15_lengths 23 = .ok (.arraylength, 1) := dk_190 (dk_at dksX15_lengths_0 23 rfl rfl)
theorem dX15_lengths_24 : decode cX15_lengths 24 = .ok (.iconst 1, 1) := dk_4 (dk_at dksX15_lengths_1 0 rfl rfl)
theorem dX15_lengths_25 : decode cX15_lengths 25 = .ok (.isub, 1) := dk_100 (dk_at dksX15_lengths_1 1 rfl rfl)
theorem dX15_lengths_26 : decode cX15_lengths 26 = .ok (.istore_n 2, 1) := dk_61 (dk_at dksX15_lengths_1 2 rfl rfl)
theorem dX15_lengths_27 : decode cX15_lengths 27 = .ok (.iload_n 2, 1) := dk_28 (dk_at dksX15_lengths_1 3 rfl rfl)
theorem dX15_lengths_28 : decode cX15_lengths 28 = .ok (.ifCond .lt 81, 3) := dk_155 0 81 (dk_at dksX15_lengths_1 4 rfl rfl)
theorem dX15_lengths_31 : decode cX15_lengths 31 = .ok (.aload_n 0, 1) := dk_42 (dk_at dksX15_lengths_1 7 rfl rfl)
theorem dX15_lengths_32 : decode cX15_lengths 32 = .ok (.getfield 25, 3) := dk_180 0 25 (dk_at dksX15_lengths_1 8 rfl rfl)
theorem dX15_lengths_35 : decode cX15_lengths 35 = .ok (.arraylength, 1) := dk_190 (dk_at dksX15_lengths_1 11 rfl rfl)
theorem dX15_lengths_36 : decode cX15_lengths 36 = .ok (.iconst 1, 1) := dk_4 (dk_at dksX15_lengths_1 12 rfl rfl)
theorem dX15_lengths_37 : decode cX15_lengths 37 = .ok (.isub, 1) := dk_100 (dk_at dksX15_lengths_1 13 rfl rfl)
theorem dX15_lengths_38 : decode cX15_lengths 38 = .ok (.istore_n 3, 1) := dk_62 (dk_at dksX15_lengths_1 14 rfl rfl)
theorem dX15_lengths_39 : decode cX15_lengths 39 = .ok (.iload_n 3, 1) := dk_29 (dk_at dksX15_lengths_1 15 rfl rfl)
theorem dX15_lengths_40 : decode cX15_lengths 40 = .ok (.ifCond .lt 63, 3) := dk_155 0 63 (dk_at dksX15_lengths_1 16 rfl rfl)
theorem dX15_lengths_43 : decode cX15_lengths 43 = .ok (.aload_n 1, 1) := dk_43 (dk_at dksX15_lengths_1 19 rfl rfl)
theorem dX15_lengths_44 : decode cX15_lengths 44 = .ok (.iload_n 2, 1) := dk_28 (dk_at dksX15_lengths_1 20 rfl rfl)
theorem dX15_lengths_45 : decode cX15_lengths 45 = .ok (.aaload, 1) := dk_50 (dk_at dksX15_lengths_1 21 rfl rfl)
theorem dX15_lengths_46 : decode cX15_lengths 46 = .ok (.iload_n 3, 1) := dk_29 (dk_at dksX15_lengths_1 22 rfl rfl)
theorem dX15_lengths_47 : decode cX15_lengths 47 = .ok (.aload_n 0, 1) := dk_42 (dk_at dksX15_lengths_1 23 rfl rfl)
theorem dX15_lengths_48 : decode cX15_lengths 48 = .ok (.getfield 21, 3) := dk_180 0 21 (dk_at dksX15_lengths_2 0 rfl rfl)
theorem dX15_lengths_51 : decode cX15_lengths 51 = .ok (.iload_n 2, 1) := dk_28 (dk_at dksX15_lengths_2 3 rfl rfl)
theorem dX15_lengths_52 : decode cX15_lengths 52 = .ok (.aaload, 1) := dk_50 (dk_at dksX15_lengths_2 4 rfl rfl)
theorem dX15_lengths_53 : decode cX15_lengths 53 = .ok (.aload_n 0, 1) := dk_42 (dk_at dksX15_lengths_2 5 rfl rfl)
theorem dX15_lengths_54 : decode cX15_lengths 54 = .ok (.getfield 25, 3) := dk_180 0 25 (dk_at dksX15_lengths_2 6 rfl rfl)
theorem dX15_lengths_57 : decode cX15_lengths 57 = .ok (.iload_n 3, 1) := dk_29 (dk_at dksX15_lengths_2 9 rfl rfl)
theorem dX15_lengths_58 : decode cX15_lengths 58 = .ok (.aaload, 1) := dk_50 (dk_at dksX15_lengths_2 10 rfl rfl)
theorem dX15_lengths_59 : decode cX15_lengths 59 = .ok (.invokevirtual 69, 3) := dk_182 0 69 (dk_at dksX15_lengths_2 11 rfl rfl)
theorem dX15_lengths_62 : decode cX15_lengths 62 = .ok (.ifCond .eq 17, 3) := dk_153 0 17 (dk_at dksX15_lengths_2 14 rfl rfl)
theorem dX15_lengths_65 : decode cX15_lengths 65 = .ok (.iconst 1, 1) := dk_4 (dk_at dksX15_lengths_2 17 rfl rfl)
theorem dX15_lengths_66 : decode cX15_lengths 66 = .ok (.aload_n 1, 1) := dk_43 (dk_at dksX15_lengths_2 18 rfl rfl)
theorem dX15_lengths_67 : decode cX15_lengths 67 = .ok (.iload_n 2, 1) := dk_28 (dk_at dksX15_lengths_2 19 rfl rfl)
theorem dX15_lengths_68 : decode cX15_lengths 68 = .ok (.iconst 1, 1) := dk_4 (dk_at dksX15_lengths_2 20 rfl rfl)
theorem dX15_lengths_69 : decode cX15_lengths 69 = .ok (.iadd, 1) := dk_96 (dk_at dksX15_lengths_2 21 rfl rfl)
theorem dX15_lengths_70 : decode cX15_lengths 70 = .ok (.aaload, 1) := dk_50 (dk_at dksX15_lengths_2 22 rfl rfl)
theorem dX15_lengths_71 : decode cX15_lengths 71 = .ok (.iload_n 3, 1) := dk_29 (dk_at dksX15_lengths_2 23 rfl rfl)
theorem dX15_lengths_72 : decode cX15_lengths 72 = .ok (.iconst 1, 1) := dk_4 (dk_at dksX15_lengths_3 0 rfl rfl)
theorem dX15_lengths_73 : decode cX15_lengths 73 = .ok (.iadd, 1) := dk_96 (dk_at dksX15_lengths_3 1 rfl rfl)
theorem dX15_lengths_74 : decode cX15_lengths 74 = .ok (.iaload, 1) := dk_46 (dk_at dksX15_lengths_3 2 rfl rfl)
theorem dX15_lengths_75 : decode cX15_lengths 75 = .ok (.iadd, 1) := dk_96 (dk_at dksX15_lengths_3 3 rfl rfl)
theorem dX15_lengths_76 : decode cX15_lengths 76 = .ok (.goto 20, 3) := dk_167 0 20 (dk_at dksX15_lengths_3 4 rfl rfl)
theorem dX15_lengths_79 : decode cX15_lengths 79 = .ok (.aload_n 1, 1) := dk_43 (dk_at dksX15_lengths_3 7 rfl rfl)
theorem dX15_lengths_80 : decode cX15_lengths 80 = .ok (.iload_n 2, 1) := dk_28 (dk_at dksX15_lengths_3 8 rfl rfl)
theorem dX15_lengths_81 : decode cX15_lengths 81 = .ok (.iconst 1, 1) := dk_4 (dk_at dksX15_lengths_3 9 rfl rfl)
theorem dX15_lengths_82 : decode cX15_lengths 82 = .ok (.iadd, 1) := dk_96 (dk_at dksX15_lengths_3 10 rfl rfl)
theorem dX15_lengths_83 : decode cX15_lengths 83 = .ok (.aaload, 1) := dk_50 (dk_at dksX15_lengths_3 11 rfl rfl)
theorem dX15_lengths_84 : decode cX15_lengths 84 = .ok (.iload_n 3, 1) := dk_29 (dk_at dksX15_lengths_3 12 rfl rfl)
theorem dX15_lengths_85 : decode cX15_lengths 85 = .ok (.iaload, 1) := dk_46 (dk_at dksX15_lengths_3 13 rfl rfl)
theorem dX15_lengths_86 : decode cX15_lengths 86 = .ok (.aload_n 1, 1) := dk_43 (dk_at dksX15_lengths_3 14 rfl rfl)
theorem dX15_lengths_87 : decode cX15_lengths 87 = .ok (.iload_n 2, 1) := dk_28 (dk_at dksX15_lengths_3 15 rfl rfl)
theorem dX15_lengths_88 : decode cX15_lengths 88 = .ok (.aaload, 1) := dk_50 (dk_at dksX15_lengths_3 16 rfl rfl)
theorem dX15_lengths_89 : decode cX15_lengths 89 = .ok (.iload_n 3, 1) := dk_29 (dk_at dksX15_lengths_3 17 rfl rfl)
theorem dX15_lengths_90 : decode cX15_lengths 90 = .ok (.iconst 1, 1) := dk_4 (dk_at dksX15_lengths_3 18 rfl rfl)
theorem dX15_lengths_91 : decode cX15_lengths 91 = .ok (.iadd, 1) := dk_96 (dk_at dksX15_lengths_3 19 rfl rfl)
theorem dX15_lengths_92 : decode cX15_lengths 92 = .ok (.iaload, 1) := dk_46 (dk_at dksX15_lengths_3 20 rfl rfl)
theorem dX15_lengths_93 : decode cX15_lengths 93 = .ok (.invokestatic 75, 3) := dk_184 0 75 (dk_at dksX15_lengths_3 21 rfl rfl)
theorem dX15_lengths_96 : decode cX15_lengths 96 = .ok (.iastore, 1) := dk_79 (dk_at dksX15_lengths_4 0 rfl rfl)
theorem dX15_lengths_97 : decode cX15_lengths 97 = .ok (.iinc 3 (-1), 3) := dk_132 3 255 (dk_at dksX15_lengths_4 1 rfl rfl)
theorem dX15_lengths_100 : decode cX15_lengths 100 = .ok (.goto (-61), 3) := dk_167 255 195 (dk_at dksX15_lengths_4 4 rfl rfl)
theorem dX15_lengths_103 : decode cX15_lengths 103 = .ok (.iinc 2 (-1), 3) := dk_132 2 255 (dk_at dksX15_lengths_4 7 rfl rfl)
theorem dX15_lengths_106 : decode cX15_lengths 106 = .ok (.goto (-79), 3) := dk_167 255 177 (dk_at dksX15_lengths_4 10 rfl rfl)
theorem dX15_lengths_109 : decode cX15_lengths 109 = .ok (.aload_n 1, 1) := dk_43 (dk_at dksX15_lengths_4 13 rfl rfl)
theorem dX15_lengths_110 : decode cX15_lengths 110 = .ok (.areturn, 1) := dk_176 (dk_at dksX15_lengths_4 14 rfl rfl)
abbrev cX15_pair : ByteArray := prog_11_method_4_code
def yX15_pair : MethodName := ⟨RX15, "pair", "([[I)V"⟩
def dkwX15_pair_3 : List UInt8 := [161, 0, 9, 132, 2, 1, 167, 255, 185, 132, 3, 1, 167, 255, 179, 177]
abbrev dktX15_pair_3 : List UInt8 := dkwX15_pair_3 ++ []
def dkwX15_pair_2 : List UInt8 := [132, 3, 1, 182, 0, 85, 167, 255, 208, 43, 28, 4, 96, 50, 29, 46, 43, 28, 50, 29, 4, 96, 46]
abbrev dktX15_pair_2 : List UInt8 := dkwX15_pair_2 ++ dktX15_pair_3
def dkwX15_pair_1 : List UInt8 := [180, 0, 21, 28, 50, 42, 180, 0, 25, 29, 50, 182, 0, 69, 153, 0, 18, 42, 28, 132, 2, 1, 29]
abbrev dktX15_pair_1 : List UInt8 := dkwX15_pair_1 ++ dktX15_pair_2
def dkwX15_pair_0 : List UInt8 := [3, 61, 3, 62, 28, 42, 180, 0, 21, 190, 162, 0, 74, 29, 42, 180, 0, 25, 190, 162, 0, 65, 42]
abbrev dktX15_pair_0 : List UInt8 := dkwX15_pair_0 ++ dktX15_pair_1
theorem dksX15_pair_0 : cX15_pair.data.toList.drop 0 = dktX15_pair_0 := by decide +kernel
theorem dksX15_pair_1 : cX15_pair.data.toList.drop 23 = dktX15_pair_1 := dk_seg dksX15_pair_0 23 rfl rfl
theorem dksX15_pair_2 : cX15_pair.data.toList.drop 46 = dktX15_pair_2 := dk_seg dksX15_pair_1 23 rfl rfl
theorem dksX15_pair_3 : cX15_pair.data.toList.drop 69 = dktX15_pair_3 := dk_seg dksX15_pair_2 23 rfl rfl
theorem dX15_pair_0 : decode cX15_pair 0 = .ok (.iconst 0, 1) := dk_3 (dk_at dksX15_pair_0 0 rfl rfl)
theorem dX15_pair_1 : decode cX15_pair 1 = .ok (.istore_n 2, 1) := dk_61 (dk_at dksX15_pair_0 1 rfl rfl)
theorem dX15_pair_2 : decode cX15_pair 2 = .ok (.iconst 0, 1) := dk_3 (dk_at dksX15_pair_0 2 rfl rfl)
theorem dX15_pair_3 : decode cX15_pair 3 = .ok (.istore_n 3, 1) := dk_62 (dk_at dksX15_pair_0 3 rfl rfl)
theorem dX15_pair_4 : decode cX15_pair 4 = .ok (.iload_n 2, 1) := dk_28 (dk_at dksX15_pair_0 4 rfl rfl)
theorem dX15_pair_5 : decode cX15_pair 5 = .ok (.aload_n 0, 1) := dk_42 (dk_at dksX15_pair_0 5 rfl rfl)
theorem dX15_pair_6 : decode cX15_pair 6 = .ok (.getfield 21, 3) := dk_180 0 21 (dk_at dksX15_pair_0 6 rfl rfl)
theorem dX15_pair_9 : decode cX15_pair 9 = .ok (.arraylength, 1) := dk_190 (dk_at dksX15_pair_0 9 rfl rfl)
theorem dX15_pair_10 : decode cX15_pair 10 = .ok (.if_icmp .ge 74, 3) := dk_162 0 74 (dk_at dksX15_pair_0 10 rfl rfl)
theorem dX15_pair_13 : decode cX15_pair 13 = .ok (.iload_n 3, 1) := dk_29 (dk_at dksX15_pair_0 13 rfl rfl)
theorem dX15_pair_14 : decode cX15_pair 14 = .ok (.aload_n 0, 1) := dk_42 (dk_at dksX15_pair_0 14 rfl rfl)
theorem dX15_pair_15 : decode cX15_pair 15 = .ok (.getfield 25, 3) := dk_180 0 25 (dk_at dksX15_pair_0 15 rfl rfl)
theorem dX15_pair_18 : decode cX15_pair 18 = .ok (.arraylength, 1) := dk_190 (dk_at dksX15_pair_0 18 rfl rfl)
theorem dX15_pair_19 : decode cX15_pair 19 = .ok (.if_icmp .ge 65, 3) := dk_162 0 65 (dk_at dksX15_pair_0 19 rfl rfl)
theorem dX15_pair_22 : decode cX15_pair 22 = .ok (.aload_n 0, 1) := dk_42 (dk_at dksX15_pair_0 22 rfl rfl)
theorem dX15_pair_23 : decode cX15_pair 23 = .ok (.getfield 21, 3) := dk_180 0 21 (dk_at dksX15_pair_1 0 rfl rfl)
theorem dX15_pair_26 : decode cX15_pair 26 = .ok (.iload_n 2, 1) := dk_28 (dk_at dksX15_pair_1 3 rfl rfl)
theorem dX15_pair_27 : decode cX15_pair 27 = .ok (.aaload, 1) := dk_50 (dk_at dksX15_pair_1 4 rfl rfl)
theorem dX15_pair_28 : decode cX15_pair 28 = .ok (.aload_n 0, 1) := dk_42 (dk_at dksX15_pair_1 5 rfl rfl)
theorem dX15_pair_29 : decode cX15_pair 29 = .ok (.getfield 25, 3) := dk_180 0 25 (dk_at dksX15_pair_1 6 rfl rfl)
theorem dX15_pair_32 : decode cX15_pair 32 = .ok (.iload_n 3, 1) := dk_29 (dk_at dksX15_pair_1 9 rfl rfl)
theorem dX15_pair_33 : decode cX15_pair 33 = .ok (.aaload, 1) := dk_50 (dk_at dksX15_pair_1 10 rfl rfl)
theorem dX15_pair_34 : decode cX15_pair 34 = .ok (.invokevirtual 69, 3) := dk_182 0 69 (dk_at dksX15_pair_1 11 rfl rfl)
theorem dX15_pair_37 : decode cX15_pair 37 = .ok (.ifCond .eq 18, 3) := dk_153 0 18 (dk_at dksX15_pair_1 14 rfl rfl)
theorem dX15_pair_40 : decode cX15_pair 40 = .ok (.aload_n 0, 1) := dk_42 (dk_at dksX15_pair_1 17 rfl rfl)
theorem dX15_pair_41 : decode cX15_pair 41 = .ok (.iload_n 2, 1) := dk_28 (dk_at dksX15_pair_1 18 rfl rfl)
theorem dX15_pair_42 : decode cX15_pair 42 = .ok (.iinc 2 1, 3) := dk_132 2 1 (dk_at dksX15_pair_1 19 rfl rfl)
theorem dX15_pair_45 : decode cX15_pair 45 = .ok (.iload_n 3, 1) := dk_29 (dk_at dksX15_pair_1 22 rfl rfl)
theorem dX15_pair_46 : decode cX15_pair 46 = .ok (.iinc 3 1, 3) := dk_132 3 1 (dk_at dksX15_pair_2 0 rfl rfl)
theorem dX15_pair_49 : decode cX15_pair 49 = .ok (.invokevirtual 85, 3) := dk_182 0 85 (dk_at dksX15_pair_2 3 rfl rfl)
theorem dX15_pair_52 : decode cX15_pair 52 = .ok (.goto (-48), 3) := dk_167 255 208 (dk_at dksX15_pair_2 6 rfl rfl)
theorem dX15_pair_55 : decode cX15_pair 55 = .ok (.aload_n 1, 1) := dk_43 (dk_at dksX15_pair_2 9 rfl rfl)
theorem dX15_pair_56 : decode cX15_pair 56 = .ok (.iload_n 2, 1) := dk_28 (dk_at dksX15_pair_2 10 rfl rfl)
theorem dX15_pair_57 : decode cX15_pair 57 = .ok (.iconst 1, 1) := dk_4 (dk_at dksX15_pair_2 11 rfl rfl)
theorem dX15_pair_58 : decode cX15_pair 58 = .ok (.iadd, 1) := dk_96 (dk_at dksX15_pair_2 12 rfl rfl)
theorem dX15_pair_59 : decode cX15_pair 59 = .ok (.aaload, 1) := dk_50 (dk_at dksX15_pair_2 13 rfl rfl)
theorem dX15_pair_60 : decode cX15_pair 60 = .ok (.iload_n 3, 1) := dk_29 (dk_at dksX15_pair_2 14 rfl rfl)
theorem dX15_pair_61 : decode cX15_pair 61 = .ok (.iaload, 1) := dk_46 (dk_at dksX15_pair_2 15 rfl rfl)
theorem dX15_pair_62 : decode cX15_pair 62 = .ok (.aload_n 1, 1) := dk_43 (dk_at dksX15_pair_2 16 rfl rfl)
theorem dX15_pair_63 : decode cX15_pair 63 = .ok (.iload_n 2, 1) := dk_28 (dk_at dksX15_pair_2 17 rfl rfl)
theorem dX15_pair_64 : decode cX15_pair 64 = .ok (.aaload, 1) := dk_50 (dk_at dksX15_pair_2 18 rfl rfl)
theorem dX15_pair_65 : decode cX15_pair 65 = .ok (.iload_n 3, 1) := dk_29 (dk_at dksX15_pair_2 19 rfl rfl)
theorem dX15_pair_66 : decode cX15_pair 66 = .ok (.iconst 1, 1) := dk_4 (dk_at dksX15_pair_2 20 rfl rfl)
theorem dX15_pair_67 : decode cX15_pair 67 = .ok (.iadd, 1) := dk_96 (dk_at dksX15_pair_2 21 rfl rfl)
theorem dX15_pair_68 : decode cX15_pair 68 = .ok (.iaload, 1) := dk_46 (dk_at dksX15_pair_2 22 rfl rfl)
theorem dX15_pair_69 : decode cX15_pair 69 = .ok (.if_icmp .lt 9, 3) := dk_161 0 9 (dk_at dksX15_pair_3 0 rfl rfl)
theorem dX15_pair_72 : decode cX15_pair 72 = .ok (.iinc 2 1, 3) := dk_132 2 1 (dk_at dksX15_pair_3 3 rfl rfl)
theorem dX15_pair_75 : decode cX15_pair 75 = .ok (.goto (-71), 3) := dk_167 255 185 (dk_at dksX15_pair_3 6 rfl rfl)
theorem dX15_pair_78 : decode cX15_pair 78 = .ok (.iinc 3 1, 3) := dk_132 3 1 (dk_at dksX15_pair_3 9 rfl rfl)
theorem dX15_pair_81 : decode cX15_pair 81 = .ok (.goto (-77), 3) := dk_167 255 179 (dk_at dksX15_pair_3 12 rfl rfl)
theorem dX15_pair_84 : decode cX15_pair 84 = .ok (.return_, 1) := dk_177 (dk_at dksX15_pair_3 15 rfl rfl)
abbrev cX15_use : ByteArray := prog_11_method_3_code
def yX15_use : MethodName := ⟨RX15, "use", "(II)V"⟩
def dkwX15_use_0 : List UInt8 := [42, 180, 0, 35, 27, 28, 79, 42, 180, 0, 12, 27, 182, 0, 81, 42, 180, 0, 18, 28, 182, 0, 81, 177]
abbrev dktX15_use_0 : List UInt8 := dkwX15_use_0 ++ []
theorem dksX15_use_0 : cX15_use.data.toList.drop 0 = dktX15_use_0 := by decide +kernel
theorem dX15_use_0 : decode cX15_use 0 = .ok (.aload_n 0, 1) := dk_42 (dk_at dksX15_use_0 0 rfl rfl)
theorem dX15_use_1 : decode cX15_use 1 = .ok (.getfield 35, 3) := dk_180 0 35 (dk_at dksX15_use_0 1 rfl rfl)
theorem dX15_use_4 : decode cX15_use 4 = .ok (.iload_n 1, 1) := dk_27 (dk_at dksX15_use_0 4 rfl rfl)
theorem dX15_use_5 : decode cX15_use 5 = .ok (.iload_n 2, 1) := dk_28 (dk_at dksX15_use_0 5 rfl rfl)
theorem dX15_use_6 : decode cX15_use 6 = .ok (.iastore, 1) := dk_79 (dk_at dksX15_use_0 6 rfl rfl)
theorem dX15_use_7 : decode cX15_use 7 = .ok (.aload_n 0, 1) := dk_42 (dk_at dksX15_use_0 7 rfl rfl)
theorem dX15_use_8 : decode cX15_use 8 = .ok (.getfield 12, 3) := dk_180 0 12 (dk_at dksX15_use_0 8 rfl rfl)
theorem dX15_use_11 : decode cX15_use 11 = .ok (.iload_n 1, 1) := dk_27 (dk_at dksX15_use_0 11 rfl rfl)
theorem dX15_use_12 : decode cX15_use 12 = .ok (.invokevirtual 81, 3) := dk_182 0 81 (dk_at dksX15_use_0 12 rfl rfl)
theorem dX15_use_15 : decode cX15_use 15 = .ok (.aload_n 0, 1) := dk_42 (dk_at dksX15_use_0 15 rfl rfl)
theorem dX15_use_16 : decode cX15_use 16 = .ok (.getfield 18, 3) := dk_180 0 18 (dk_at dksX15_use_0 16 rfl rfl)
theorem dX15_use_19 : decode cX15_use 19 = .ok (.iload_n 2, 1) := dk_28 (dk_at dksX15_use_0 19 rfl rfl)
theorem dX15_use_20 : decode cX15_use 20 = .ok (.invokevirtual 81, 3) := dk_182 0 81 (dk_at dksX15_use_0 20 rfl rfl)
theorem dX15_use_23 : decode cX15_use 23 = .ok (.return_, 1) := dk_177 (dk_at dksX15_use_0 23 rfl rfl)
abbrev cX15_moves : ByteArray := prog_11_method_6_code
def yX15_moves : MethodName := ⟨RX15, "moves", "()Z"⟩
def dkwX15_moves_6 : List UInt8 := [159, 0, 7, 4, 167, 0, 4, 3, 172]
abbrev dktX15_moves_6 : List UInt8 := dkwX15_moves_6 ++ []
def dkwX15_moves_5 : List UInt8 := [162, 0, 21, 42, 28, 21, 4, 96, 29, 21, 4, 96, 182, 0, 85, 132, 4, 1, 167, 255, 230, 28, 2]
abbrev dktX15_moves_5 : List UInt8 := dkwX15_moves_5 ++ dktX15_moves_6
def dkwX15_moves_4 : List UInt8 := [21, 4, 4, 96, 182, 0, 93, 54, 4, 167, 255, 172, 3, 54, 4, 28, 2, 159, 0, 27, 21, 4, 27]
abbrev dktX15_moves_4 : List UInt8 := dkwX15_moves_4 ++ dktX15_moves_5
def dkwX15_moves_3 : List UInt8 := [61, 21, 5, 62, 42, 180, 0, 18, 21, 5, 4, 96, 182, 0, 93, 54, 5, 167, 255, 208, 42, 180, 0, 12]
abbrev dktX15_moves_3 : List UInt8 := dkwX15_moves_3 ++ dktX15_moves_4
def dkwX15_moves_2 : List UInt8 := [162, 0, 44, 42, 21, 4, 21, 5, 182, 0, 97, 54, 6, 21, 6, 27, 164, 0, 12, 21, 6, 60, 21, 4]
abbrev dktX15_moves_2 : List UInt8 := dkwX15_moves_2 ++ dktX15_moves_3
def dkwX15_moves_1 : List UInt8 := [180, 0, 21, 190, 162, 0, 80, 42, 180, 0, 18, 3, 182, 0, 93, 54, 5, 21, 5, 42, 180, 0, 25, 190]
abbrev dktX15_moves_1 : List UInt8 := dkwX15_moves_1 ++ dktX15_moves_2
def dkwX15_moves_0 : List UInt8 := [42, 180, 0, 28, 4, 100, 60, 2, 61, 2, 62, 42, 180, 0, 12, 3, 182, 0, 93, 54, 4, 21, 4, 42]
abbrev dktX15_moves_0 : List UInt8 := dkwX15_moves_0 ++ dktX15_moves_1
theorem dksX15_moves_0 : cX15_moves.data.toList.drop 0 = dktX15_moves_0 := by decide +kernel
theorem dksX15_moves_1 : cX15_moves.data.toList.drop 24 = dktX15_moves_1 := dk_seg dksX15_moves_0 24 rfl rfl
theorem dksX15_moves_2 : cX15_moves.data.toList.drop 48 = dktX15_moves_2 := dk_seg dksX15_moves_1 24 rfl rfl
theorem dksX15_moves_3 : cX15_moves.data.toList.drop 72 = dktX15_moves_3 := dk_seg dksX15_moves_2 24 rfl rfl
theorem dksX15_moves_4 : cX15_moves.data.toList.drop 96 = dktX15_moves_4 := dk_seg dksX15_moves_3 24 rfl rfl
theorem dksX15_moves_5 : cX15_moves.data.toList.drop 119 = dktX15_moves_5 := dk_seg dksX15_moves_4 23 rfl rfl
theorem dksX15_moves_6 : cX15_moves.data.toList.drop 142 = dktX15_moves_6 := dk_seg dksX15_moves_5 23 rfl rfl
theorem dX15_moves_0 : decode cX15_moves 0 = .ok (.aload_n 0, 1) := dk_42 (dk_at dksX15_moves_0 0 rfl rfl)
theorem dX15_moves_1 : decode cX15_moves 1 = .ok (.getfield 28, 3) := dk_180 0 28 (dk_at dksX15_moves_0 1 rfl rfl)
theorem dX15_moves_4 : decode cX15_moves 4 = .ok (.iconst 1, 1) := dk_4 (dk_at dksX15_moves_0 4 rfl rfl)
theorem dX15_moves_5 : decode cX15_moves 5 = .ok (.isub, 1) := dk_100 (dk_at dksX15_moves_0 5 rfl rfl)
theorem dX15_moves_6 : decode cX15_moves 6 = .ok (.istore_n 1, 1) := dk_60 (dk_at dksX15_moves_0 6 rfl rfl)
theorem dX15_moves_7 : decode cX15_moves 7 = .ok (.iconst (-1), 1) := dk_2 (dk_at dksX15_moves_0 7 rfl rfl)
theorem dX15_moves_8 : decode cX15_moves 8 = .ok (.istore_n 2, 1) := dk_61 (dk_at dksX15_moves_0 8 rfl rfl)
theorem dX15_moves_9 : decode cX15_moves 9 = .ok (.iconst (-1), 1) := dk_2 (dk_at dksX15_moves_0 9 rfl rfl)
theorem dX15_moves_10 : decode cX15_moves 10 = .ok (.istore_n 3, 1) := dk_62 (dk_at dksX15_moves_0 10 rfl rfl)
theorem dX15_moves_11 : decode cX15_moves 11 = .ok (.aload_n 0, 1) := dk_42 (dk_at dksX15_moves_0 11 rfl rfl)
theorem dX15_moves_12 : decode cX15_moves 12 = .ok (.getfield 12, 3) := dk_180 0 12 (dk_at dksX15_moves_0 12 rfl rfl)
theorem dX15_moves_15 : decode cX15_moves 15 = .ok (.iconst 0, 1) := dk_3 (dk_at dksX15_moves_0 15 rfl rfl)
theorem dX15_moves_16 : decode cX15_moves 16 = .ok (.invokevirtual 93, 3) := dk_182 0 93 (dk_at dksX15_moves_0 16 rfl rfl)
theorem dX15_moves_19 : decode cX15_moves 19 = .ok (.istore 4, 2) := dk_54 4 (dk_at dksX15_moves_0 19 rfl rfl)
theorem dX15_moves_21 : decode cX15_moves 21 = .ok (.iload 4, 2) := dk_21 4 (dk_at dksX15_moves_0 21 rfl rfl)
theorem dX15_moves_23 : decode cX15_moves 23 = .ok (.aload_n 0, 1) := dk_42 (dk_at dksX15_moves_0 23 rfl rfl)
theorem dX15_moves_24 : decode cX15_moves 24 = .ok (.getfield 21, 3) := dk_180 0 21 (dk_at dksX15_moves_1 0 rfl rfl)
theorem dX15_moves_27 : decode cX15_moves 27 = .ok (.arraylength, 1) := dk_190 (dk_at dksX15_moves_1 3 rfl rfl)
theorem dX15_moves_28 : decode cX15_moves 28 = .ok (.if_icmp .ge 80, 3) := dk_162 0 80 (dk_at dksX15_moves_1 4 rfl rfl)
theorem dX15_moves_31 : decode cX15_moves 31 = .ok (.aload_n 0, 1) := dk_42 (dk_at dksX15_moves_1 7 rfl rfl)
theorem dX15_moves_32 : decode cX15_moves 32 = .ok (.getfield 18, 3) := dk_180 0 18 (dk_at dksX15_moves_1 8 rfl rfl)
theorem dX15_moves_35 : decode cX15_moves 35 = .ok (.iconst 0, 1) := dk_3 (dk_at dksX15_moves_1 11 rfl rfl)
theorem dX15_moves_36 : decode cX15_moves 36 = .ok (.invokevirtual 93, 3) := dk_182 0 93 (dk_at dksX15_moves_1 12 rfl rfl)
theorem dX15_moves_39 : decode cX15_moves 39 = .ok (.istore 5, 2) := dk_54 5 (dk_at dksX15_moves_1 15 rfl rfl)
theorem dX15_moves_41 : decode cX15_moves 41 = .ok (.iload 5, 2) := dk_21 5 (dk_at dksX15_moves_1 17 rfl rfl)
theorem dX15_moves_43 : decode cX15_moves 43 = .ok (.aload_n 0, 1) := dk_42 (dk_at dksX15_moves_1 19 rfl rfl)
theorem dX15_moves_44 : decode cX15_moves 44 = .ok (.getfield 25, 3) := dk_180 0 25 (dk_at dksX15_moves_1 20 rfl rfl)
theorem dX15_moves_47 : decode cX15_moves 47 = .ok (.arraylength, 1) := dk_190 (dk_at dksX15_moves_1 23 rfl rfl)
theorem dX15_moves_48 : decode cX15_moves 48 = .ok (.if_icmp .ge 44, 3) := dk_162 0 44 (dk_at dksX15_moves_2 0 rfl rfl)
theorem dX15_moves_51 : decode cX15_moves 51 = .ok (.aload_n 0, 1) := dk_42 (dk_at dksX15_moves_2 3 rfl rfl)
theorem dX15_moves_52 : decode cX15_moves 52 = .ok (.iload 4, 2) := dk_21 4 (dk_at dksX15_moves_2 4 rfl rfl)
theorem dX15_moves_54 : decode cX15_moves 54 = .ok (.iload 5, 2) := dk_21 5 (dk_at dksX15_moves_2 6 rfl rfl)
theorem dX15_moves_56 : decode cX15_moves 56 = .ok (.invokevirtual 97, 3) := dk_182 0 97 (dk_at dksX15_moves_2 8 rfl rfl)
theorem dX15_moves_59 : decode cX15_moves 59 = .ok (.istore 6, 2) := dk_54 6 (dk_at dksX15_moves_2 11 rfl rfl)
theorem dX15_moves_61 : decode cX15_moves 61 = .ok (.iload 6, 2) := dk_21 6 (dk_at dksX15_moves_2 13 rfl rfl)
theorem dX15_moves_63 : decode cX15_moves 63 = .ok (.iload_n 1, 1) := dk_27 (dk_at dksX15_moves_2 15 rfl rfl)
theorem dX15_moves_64 : decode cX15_moves 64 = .ok (.if_icmp .le 12, 3) := dk_164 0 12 (dk_at dksX15_moves_2 16 rfl rfl)
theorem dX15_moves_67 : decode cX15_moves 67 = .ok (.iload 6, 2) := dk_21 6 (dk_at dksX15_moves_2 19 rfl rfl)
theorem dX15_moves_69 : decode cX15_moves 69 = .ok (.istore_n 1, 1) := dk_60 (dk_at dksX15_moves_2 21 rfl rfl)
theorem dX15_moves_70 : decode cX15_moves 70 = .ok (.iload 4, 2) := dk_21 4 (dk_at dksX15_moves_2 22 rfl rfl)
theorem dX15_moves_72 : decode cX15_moves 72 = .ok (.istore_n 2, 1) := dk_61 (dk_at dksX15_moves_3 0 rfl rfl)
theorem dX15_moves_73 : decode cX15_moves 73 = .ok (.iload 5, 2) := dk_21 5 (dk_at dksX15_moves_3 1 rfl rfl)
theorem dX15_moves_75 : decode cX15_moves 75 = .ok (.istore_n 3, 1) := dk_62 (dk_at dksX15_moves_3 3 rfl rfl)
theorem dX15_moves_76 : decode cX15_moves 76 = .ok (.aload_n 0, 1) := dk_42 (dk_at dksX15_moves_3 4 rfl rfl)
theorem dX15_moves_77 : decode cX15_moves 77 = .ok (.getfield 18, 3) := dk_180 0 18 (dk_at dksX15_moves_3 5 rfl rfl)
theorem dX15_moves_80 : decode cX15_moves 80 = .ok (.iload 5, 2) := dk_21 5 (dk_at dksX15_moves_3 8 rfl rfl)
theorem dX15_moves_82 : decode cX15_moves 82 = .ok (.iconst 1, 1) := dk_4 (dk_at dksX15_moves_3 10 rfl rfl)
theorem dX15_moves_83 : decode cX15_moves 83 = .ok (.iadd, 1) := dk_96 (dk_at dksX15_moves_3 11 rfl rfl)
theorem dX15_moves_84 : decode cX15_moves 84 = .ok (.invokevirtual 93, 3) := dk_182 0 93 (dk_at dksX15_moves_3 12 rfl rfl)
theorem dX15_moves_87 : decode cX15_moves 87 = .ok (.istore 5, 2) := dk_54 5 (dk_at dksX15_moves_3 15 rfl rfl)
theorem dX15_moves_89 : decode cX15_moves 89 = .ok (.goto (-48), 3) := dk_167 255 208 (dk_at dksX15_moves_3 17 rfl rfl)
theorem dX15_moves_92 : decode cX15_moves 92 = .ok (.aload_n 0, 1) := dk_42 (dk_at dksX15_moves_3 20 rfl rfl)
theorem dX15_moves_93 : decode cX15_moves 93 = .ok (.getfield 12, 3) := dk_180 0 12 (dk_at dksX15_moves_3 21 rfl rfl)
theorem dX15_moves_96 : decode cX15_moves 96 = .ok (.iload 4, 2) := dk_21 4 (dk_at dksX15_moves_4 0 rfl rfl)
theorem dX15_moves_98 : decode cX15_moves 98 = .ok (.iconst 1, 1) := dk_4 (dk_at dksX15_moves_4 2 rfl rfl)
theorem dX15_moves_99 : decode cX15_moves 99 = .ok (.iadd, 1) := dk_96 (dk_at dksX15_moves_4 3 rfl rfl)
theorem dX15_moves_100 : decode cX15_moves 100 = .ok (.invokevirtual 93, 3) := dk_182 0 93 (dk_at dksX15_moves_4 4 rfl rfl)
theorem dX15_moves_103 : decode cX15_moves 103 = .ok (.istore 4, 2) := dk_54 4 (dk_at dksX15_moves_4 7 rfl rfl)
theorem dX15_moves_105 : decode cX15_moves 105 = .ok (.goto (-84), 3) := dk_167 255 172 (dk_at dksX15_moves_4 9 rfl rfl)
theorem dX15_moves_108 : decode cX15_moves 108 = .ok (.iconst 0, 1) := dk_3 (dk_at dksX15_moves_4 12 rfl rfl)
theorem dX15_moves_109 : decode cX15_moves 109 = .ok (.istore 4, 2) := dk_54 4 (dk_at dksX15_moves_4 13 rfl rfl)
theorem dX15_moves_111 : decode cX15_moves 111 = .ok (.iload_n 2, 1) := dk_28 (dk_at dksX15_moves_4 15 rfl rfl)
theorem dX15_moves_112 : decode cX15_moves 112 = .ok (.iconst (-1), 1) := dk_2 (dk_at dksX15_moves_4 16 rfl rfl)
theorem dX15_moves_113 : decode cX15_moves 113 = .ok (.if_icmp .eq 27, 3) := dk_159 0 27 (dk_at dksX15_moves_4 17 rfl rfl)
theorem dX15_moves_116 : decode cX15_moves 116 = .ok (.iload 4, 2) := dk_21 4 (dk_at dksX15_moves_4 20 rfl rfl)
theorem dX15_moves_118 : decode cX15_moves 118 = .ok (.iload_n 1, 1) := dk_27 (dk_at dksX15_moves_4 22 rfl rfl)
theorem dX15_moves_119 : decode cX15_moves 119 = .ok (.if_icmp .ge 21, 3) := dk_162 0 21 (dk_at dksX15_moves_5 0 rfl rfl)
theorem dX15_moves_122 : decode cX15_moves 122 = .ok (.aload_n 0, 1) := dk_42 (dk_at dksX15_moves_5 3 rfl rfl)
theorem dX15_moves_123 : decode cX15_moves 123 = .ok (.iload_n 2, 1) := dk_28 (dk_at dksX15_moves_5 4 rfl rfl)
theorem dX15_moves_124 : decode cX15_moves 124 = .ok (.iload 4, 2) := dk_21 4 (dk_at dksX15_moves_5 5 rfl rfl)
theorem dX15_moves_126 : decode cX15_moves 126 = .ok (.iadd, 1) := dk_96 (dk_at dksX15_moves_5 7 rfl rfl)
theorem dX15_moves_127 : decode cX15_moves 127 = .ok (.iload_n 3, 1) := dk_29 (dk_at dksX15_moves_5 8 rfl rfl)
theorem dX15_moves_128 : decode cX15_moves 128 = .ok (.iload 4, 2) := dk_21 4 (dk_at dksX15_moves_5 9 rfl rfl)
theorem dX15_moves_130 : decode cX15_moves 130 = .ok (.iadd, 1) := dk_96 (dk_at dksX15_moves_5 11 rfl rfl)
theorem dX15_moves_131 : decode cX15_moves 131 = .ok (.invokevirtual 85, 3) := dk_182 0 85 (dk_at dksX15_moves_5 12 rfl rfl)
theorem dX15_moves_134 : decode cX15_moves 134 = .ok (.iinc 4 1, 3) := dk_132 4 1 (dk_at dksX15_moves_5 15 rfl rfl)
theorem dX15_moves_137 : decode cX15_moves 137 = .ok (.goto (-26), 3) := dk_167 255 230 (dk_at dksX15_moves_5 18 rfl rfl)
theorem dX15_moves_140 : decode cX15_moves 140 = .ok (.iload_n 2, 1) := dk_28 (dk_at dksX15_moves_5 21 rfl rfl)
theorem dX15_moves_141 : decode cX15_moves 141 = .ok (.iconst (-1), 1) := dk_2 (dk_at dksX15_moves_5 22 rfl rfl)
theorem dX15_moves_142 : decode cX15_moves 142 = .ok (.if_icmp .eq 7, 3) := dk_159 0 7 (dk_at dksX15_moves_6 0 rfl rfl)
theorem dX15_moves_145 : decode cX15_moves 145 = .ok (.iconst 1, 1) := dk_4 (dk_at dksX15_moves_6 3 rfl rfl)
theorem dX15_moves_146 : decode cX15_moves 146 = .ok (.goto 4, 3) := dk_167 0 4 (dk_at dksX15_moves_6 4 rfl rfl)
theorem dX15_moves_149 : decode cX15_moves 149 = .ok (.iconst 0, 1) := dk_3 (dk_at dksX15_moves_6 7 rfl rfl)
theorem dX15_moves_150 : decode cX15_moves 150 = .ok (.ireturn, 1) := dk_172 (dk_at dksX15_moves_6 8 rfl rfl)
abbrev cX15_runAt : ByteArray := prog_11_method_5_code
def yX15_runAt : MethodName := ⟨RX15, "runAt", "(II)I"⟩
def dkwX15_runAt_3 : List UInt8 := [153, 0, 9, 132, 3, 1, 167, 255, 183, 29, 172]
abbrev dktX15_runAt_3 : List UInt8 := dkwX15_runAt_3 ++ []
def dkwX15_runAt_2 : List UInt8 := [154, 0, 31, 42, 180, 0, 21, 27, 29, 96, 50, 42, 180, 0, 25, 28, 29, 96, 50, 182, 0, 69]
abbrev dktX15_runAt_2 : List UInt8 := dkwX15_runAt_2 ++ dktX15_runAt_3
def dkwX15_runAt_1 : List UInt8 := [42, 180, 0, 12, 27, 29, 96, 182, 0, 89, 154, 0, 44, 42, 180, 0, 18, 28, 29, 96, 182, 0, 89]
abbrev dktX15_runAt_1 : List UInt8 := dkwX15_runAt_1 ++ dktX15_runAt_2
def dkwX15_runAt_0 : List UInt8 := [3, 62, 27, 29, 96, 42, 180, 0, 21, 190, 162, 0, 68, 28, 29, 96, 42, 180, 0, 25, 190, 162, 0, 57]
abbrev dktX15_runAt_0 : List UInt8 := dkwX15_runAt_0 ++ dktX15_runAt_1
theorem dksX15_runAt_0 : cX15_runAt.data.toList.drop 0 = dktX15_runAt_0 := by decide +kernel
theorem dksX15_runAt_1 : cX15_runAt.data.toList.drop 24 = dktX15_runAt_1 := dk_seg dksX15_runAt_0 24 rfl rfl
theorem dksX15_runAt_2 : cX15_runAt.data.toList.drop 47 = dktX15_runAt_2 := dk_seg dksX15_runAt_1 23 rfl rfl
theorem dksX15_runAt_3 : cX15_runAt.data.toList.drop 69 = dktX15_runAt_3 := dk_seg dksX15_runAt_2 22 rfl rfl
theorem dX15_runAt_0 : decode cX15_runAt 0 = .ok (.iconst 0, 1) := dk_3 (dk_at dksX15_runAt_0 0 rfl rfl)
theorem dX15_runAt_1 : decode cX15_runAt 1 = .ok (.istore_n 3, 1) := dk_62 (dk_at dksX15_runAt_0 1 rfl rfl)
theorem dX15_runAt_2 : decode cX15_runAt 2 = .ok (.iload_n 1, 1) := dk_27 (dk_at dksX15_runAt_0 2 rfl rfl)
theorem dX15_runAt_3 : decode cX15_runAt 3 = .ok (.iload_n 3, 1) := dk_29 (dk_at dksX15_runAt_0 3 rfl rfl)
theorem dX15_runAt_4 : decode cX15_runAt 4 = .ok (.iadd, 1) := dk_96 (dk_at dksX15_runAt_0 4 rfl rfl)
theorem dX15_runAt_5 : decode cX15_runAt 5 = .ok (.aload_n 0, 1) := dk_42 (dk_at dksX15_runAt_0 5 rfl rfl)
theorem dX15_runAt_6 : decode cX15_runAt 6 = .ok (.getfield 21, 3) := dk_180 0 21 (dk_at dksX15_runAt_0 6 rfl rfl)
theorem dX15_runAt_9 : decode cX15_runAt 9 = .ok (.arraylength, 1) := dk_190 (dk_at dksX15_runAt_0 9 rfl rfl)
theorem dX15_runAt_10 : decode cX15_runAt 10 = .ok (.if_icmp .ge 68, 3) := dk_162 0 68 (dk_at dksX15_runAt_0 10 rfl rfl)
theorem dX15_runAt_13 : decode cX15_runAt 13 = .ok (.iload_n 2, 1) := dk_28 (dk_at dksX15_runAt_0 13 rfl rfl)
theorem dX15_runAt_14 : decode cX15_runAt 14 = .ok (.iload_n 3, 1) := dk_29 (dk_at dksX15_runAt_0 14 rfl rfl)
theorem dX15_runAt_15 : decode cX15_runAt 15 = .ok (.iadd, 1) := dk_96 (dk_at dksX15_runAt_0 15 rfl rfl)
theorem dX15_runAt_16 : decode cX15_runAt 16 = .ok (.aload_n 0, 1) := dk_42 (dk_at dksX15_runAt_0 16 rfl rfl)
theorem dX15_runAt_17 : decode cX15_runAt 17 = .ok (.getfield 25, 3) := dk_180 0 25 (dk_at dksX15_runAt_0 17 rfl rfl)
theorem dX15_runAt_20 : decode cX15_runAt 20 = .ok (.arraylength, 1) := dk_190 (dk_at dksX15_runAt_0 20 rfl rfl)
theorem dX15_runAt_21 : decode cX15_runAt 21 = .ok (.if_icmp .ge 57, 3) := dk_162 0 57 (dk_at dksX15_runAt_0 21 rfl rfl)
theorem dX15_runAt_24 : decode cX15_runAt 24 = .ok (.aload_n 0, 1) := dk_42 (dk_at dksX15_runAt_1 0 rfl rfl)
theorem dX15_runAt_25 : decode cX15_runAt 25 = .ok (.getfield 12, 3) := dk_180 0 12 (dk_at dksX15_runAt_1 1 rfl rfl)
theorem dX15_runAt_28 : decode cX15_runAt 28 = .ok (.iload_n 1, 1) := dk_27 (dk_at dksX15_runAt_1 4 rfl rfl)
theorem dX15_runAt_29 : decode cX15_runAt 29 = .ok (.iload_n 3, 1) := dk_29 (dk_at dksX15_runAt_1 5 rfl rfl)
theorem dX15_runAt_30 : decode cX15_runAt 30 = .ok (.iadd, 1) := dk_96 (dk_at dksX15_runAt_1 6 rfl rfl)
theorem dX15_runAt_31 : decode cX15_runAt 31 = .ok (.invokevirtual 89, 3) := dk_182 0 89 (dk_at dksX15_runAt_1 7 rfl rfl)
theorem dX15_runAt_34 : decode cX15_runAt 34 = .ok (.ifCond .ne 44, 3) := dk_154 0 44 (dk_at dksX15_runAt_1 10 rfl rfl)
theorem dX15_runAt_37 : decode cX15_runAt 37 = .ok (.aload_n 0, 1) := dk_42 (dk_at dksX15_runAt_1 13 rfl rfl)
theorem dX15_runAt_38 : decode cX15_runAt 38 = .ok (.getfield 18, 3) := dk_180 0 18 (dk_at dksX15_runAt_1 14 rfl rfl)
theorem dX15_runAt_41 : decode cX15_runAt 41 = .ok (.iload_n 2, 1) := dk_28 (dk_at dksX15_runAt_1 17 rfl rfl)
theorem dX15_runAt_42 : decode cX15_runAt 42 = .ok (.iload_n 3, 1) := dk_29 (dk_at dksX15_runAt_1 18 rfl rfl)
theorem dX15_runAt_43 : decode cX15_runAt 43 = .ok (.iadd, 1) := dk_96 (dk_at dksX15_runAt_1 19 rfl rfl)
theorem dX15_runAt_44 : decode cX15_runAt 44 = .ok (.invokevirtual 89, 3) := dk_182 0 89 (dk_at dksX15_runAt_1 20 rfl rfl)
theorem dX15_runAt_47 : decode cX15_runAt 47 = .ok (.ifCond .ne 31, 3) := dk_154 0 31 (dk_at dksX15_runAt_2 0 rfl rfl)
theorem dX15_runAt_50 : decode cX15_runAt 50 = .ok (.aload_n 0, 1) := dk_42 (dk_at dksX15_runAt_2 3 rfl rfl)
theorem dX15_runAt_51 : decode cX15_runAt 51 = .ok (.getfield 21, 3) := dk_180 0 21 (dk_at dksX15_runAt_2 4 rfl rfl)
theorem dX15_runAt_54 : decode cX15_runAt 54 = .ok (.iload_n 1, 1) := dk_27 (dk_at dksX15_runAt_2 7 rfl rfl)
theorem dX15_runAt_55 : decode cX15_runAt 55 = .ok (.iload_n 3, 1) := dk_29 (dk_at dksX15_runAt_2 8 rfl rfl)
theorem dX15_runAt_56 : decode cX15_runAt 56 = .ok (.iadd, 1) := dk_96 (dk_at dksX15_runAt_2 9 rfl rfl)
theorem dX15_runAt_57 : decode cX15_runAt 57 = .ok (.aaload, 1) := dk_50 (dk_at dksX15_runAt_2 10 rfl rfl)
theorem dX15_runAt_58 : decode cX15_runAt 58 = .ok (.aload_n 0, 1) := dk_42 (dk_at dksX15_runAt_2 11 rfl rfl)
theorem dX15_runAt_59 : decode cX15_runAt 59 = .ok (.getfield 25, 3) := dk_180 0 25 (dk_at dksX15_runAt_2 12 rfl rfl)
theorem dX15_runAt_62 : decode cX15_runAt 62 = .ok (.iload_n 2, 1) := dk_28 (dk_at dksX15_runAt_2 15 rfl rfl)
theorem dX15_runAt_63 : decode cX15_runAt 63 = .ok (.iload_n 3, 1) := dk_29 (dk_at dksX15_runAt_2 16 rfl rfl)
theorem dX15_runAt_64 : decode cX15_runAt 64 = .ok (.iadd, 1) := dk_96 (dk_at dksX15_runAt_2 17 rfl rfl)
theorem dX15_runAt_65 : decode cX15_runAt 65 = .ok (.aaload, 1) := dk_50 (dk_at dksX15_runAt_2 18 rfl rfl)
theorem dX15_runAt_66 : decode cX15_runAt 66 = .ok (.invokevirtual 69, 3) := dk_182 0 69 (dk_at dksX15_runAt_2 19 rfl rfl)
theorem dX15_runAt_69 : decode cX15_runAt 69 = .ok (.ifCond .eq 9, 3) := dk_153 0 9 (dk_at dksX15_runAt_3 0 rfl rfl)
theorem dX15_runAt_72 : decode cX15_runAt 72 = .ok (.iinc 3 1, 3) := dk_132 3 1 (dk_at dksX15_runAt_3 3 rfl rfl)
theorem dX15_runAt_75 : decode cX15_runAt 75 = .ok (.goto (-73), 3) := dk_167 255 183 (dk_at dksX15_runAt_3 6 rfl rfl)
theorem dX15_runAt_78 : decode cX15_runAt 78 = .ok (.iload_n 3, 1) := dk_29 (dk_at dksX15_runAt_3 9 rfl rfl)
theorem dX15_runAt_79 : decode cX15_runAt 79 = .ok (.ireturn, 1) := dk_172 (dk_at dksX15_runAt_3 10 rfl rfl)
abbrev cX15_lineOf : ByteArray := prog_11_method_7_code
def yX15_lineOf : MethodName := ⟨RX15, "lineOf", "(I)I"⟩
def dkwX15_lineOf_1 : List UInt8 := [132, 2, 1, 167, 255, 232, 2, 172]
abbrev dktX15_lineOf_1 : List UInt8 := dkwX15_lineOf_1 ++ []
def dkwX15_lineOf_0 : List UInt8 := [3, 61, 28, 42, 180, 0, 35, 190, 162, 0, 21, 42, 180, 0, 35, 28, 46, 27, 160, 0, 5, 28, 172]
abbrev dktX15_lineOf_0 : List UInt8 := dkwX15_lineOf_0 ++ dktX15_lineOf_1
theorem dksX15_lineOf_0 : cX15_lineOf.data.toList.drop 0 = dktX15_lineOf_0 := by decide +kernel
theorem dksX15_lineOf_1 : cX15_lineOf.data.toList.drop 23 = dktX15_lineOf_1 := dk_seg dksX15_lineOf_0 23 rfl rfl
theorem dX15_lineOf_0 : decode cX15_lineOf 0 = .ok (.iconst 0, 1) := dk_3 (dk_at dksX15_lineOf_0 0 rfl rfl)
theorem dX15_lineOf_1 : decode cX15_lineOf 1 = .ok (.istore_n 2, 1) := dk_61 (dk_at dksX15_lineOf_0 1 rfl rfl)
theorem dX15_lineOf_2 : decode cX15_lineOf 2 = .ok (.iload_n 2, 1) := dk_28 (dk_at dksX15_lineOf_0 2 rfl rfl)
theorem dX15_lineOf_3 : decode cX15_lineOf 3 = .ok (.aload_n 0, 1) := dk_42 (dk_at dksX15_lineOf_0 3 rfl rfl)
theorem dX15_lineOf_4 : decode cX15_lineOf 4 = .ok (.getfield 35, 3) := dk_180 0 35 (dk_at dksX15_lineOf_0 4 rfl rfl)
theorem dX15_lineOf_7 : decode cX15_lineOf 7 = .ok (.arraylength, 1) := dk_190 (dk_at dksX15_lineOf_0 7 rfl rfl)
theorem dX15_lineOf_8 : decode cX15_lineOf 8 = .ok (.if_icmp .ge 21, 3) := dk_162 0 21 (dk_at dksX15_lineOf_0 8 rfl rfl)
theorem dX15_lineOf_11 : decode cX15_lineOf 11 = .ok (.aload_n 0, 1) := dk_42 (dk_at dksX15_lineOf_0 11 rfl rfl)
theorem dX15_lineOf_12 : decode cX15_lineOf 12 = .ok (.getfield 35, 3) := dk_180 0 35 (dk_at dksX15_lineOf_0 12 rfl rfl)
theorem dX15_lineOf_15 : decode cX15_lineOf 15 = .ok (.iload_n 2, 1) := dk_28 (dk_at dksX15_lineOf_0 15 rfl rfl)
theorem dX15_lineOf_16 : decode cX15_lineOf 16 = .ok (.iaload, 1) := dk_46 (dk_at dksX15_lineOf_0 16 rfl rfl)
theorem dX15_lineOf_17 : decode cX15_lineOf 17 = .ok (.iload_n 1, 1) := dk_27 (dk_at dksX15_lineOf_0 17 rfl rfl)
theorem dX15_lineOf_18 : decode cX15_lineOf 18 = .ok (.if_icmp .ne 5, 3) := dk_160 0 5 (dk_at dksX15_lineOf_0 18 rfl rfl)
theorem dX15_lineOf_21 : decode cX15_lineOf 21 = .ok (.iload_n 2, 1) := dk_28 (dk_at dksX15_lineOf_0 21 rfl rfl)
theorem dX15_lineOf_22 : decode cX15_lineOf 22 = .ok (.ireturn, 1) := dk_172 (dk_at dksX15_lineOf_0 22 rfl rfl)
theorem dX15_lineOf_23 : decode cX15_lineOf 23 = .ok (.iinc 2 1, 3) := dk_132 2 1 (dk_at dksX15_lineOf_1 0 rfl rfl)
theorem dX15_lineOf_26 : decode cX15_lineOf 26 = .ok (.goto (-24), 3) := dk_167 255 232 (dk_at dksX15_lineOf_1 3 rfl rfl)
theorem dX15_lineOf_29 : decode cX15_lineOf 29 = .ok (.iconst (-1), 1) := dk_2 (dk_at dksX15_lineOf_1 6 rfl rfl)
theorem dX15_lineOf_30 : decode cX15_lineOf 30 = .ok (.ireturn, 1) := dk_172 (dk_at dksX15_lineOf_1 7 rfl rfl)
abbrev cX15_placed : ByteArray := prog_11_method_8_code
def yX15_placed : MethodName := ⟨RX15, "placed", "(II)I"⟩
def dkwX15_placed_1 : List UInt8 := [167, 0, 4, 3, 96, 62, 132, 4, 1, 167, 255, 228, 29, 172]
abbrev dktX15_placed_1 : List UInt8 := dkwX15_placed_1 ++ []
def dkwX15_placed_0 : List UInt8 := [3, 62, 27, 54, 4, 21, 4, 28, 163, 0, 28, 29, 42, 180, 0, 35, 21, 4, 46, 2, 159, 0, 7, 4]
abbrev dktX15_placed_0 : List UInt8 := dkwX15_placed_0 ++ dktX15_placed_1
theorem dksX15_placed_0 : cX15_placed.data.toList.drop 0 = dktX15_placed_0 := by decide +kernel
theorem dksX15_placed_1 : cX15_placed.data.toList.drop 24 = dktX15_placed_1 := dk_seg dksX15_placed_0 24 rfl rfl
theorem dX15_placed_0 : decode cX15_placed 0 = .ok (.iconst 0, 1) := dk_3 (dk_at dksX15_placed_0 0 rfl rfl)
theorem dX15_placed_1 : decode cX15_placed 1 = .ok (.istore_n 3, 1) := dk_62 (dk_at dksX15_placed_0 1 rfl rfl)
theorem dX15_placed_2 : decode cX15_placed 2 = .ok (.iload_n 1, 1) := dk_27 (dk_at dksX15_placed_0 2 rfl rfl)
theorem dX15_placed_3 : decode cX15_placed 3 = .ok (.istore 4, 2) := dk_54 4 (dk_at dksX15_placed_0 3 rfl rfl)
theorem dX15_placed_5 : decode cX15_placed 5 = .ok (.iload 4, 2) := dk_21 4 (dk_at dksX15_placed_0 5 rfl rfl)
theorem dX15_placed_7 : decode cX15_placed 7 = .ok (.iload_n 2, 1) := dk_28 (dk_at dksX15_placed_0 7 rfl rfl)
theorem dX15_placed_8 : decode cX15_placed 8 = .ok (.if_icmp .gt 28, 3) := dk_163 0 28 (dk_at dksX15_placed_0 8 rfl rfl)
theorem dX15_placed_11 : decode cX15_placed 11 = .ok (.iload_n 3, 1) := dk_29 (dk_at dksX15_placed_0 11 rfl rfl)
theorem dX15_placed_12 : decode cX15_placed 12 = .ok (.aload_n 0, 1) := dk_42 (dk_at dksX15_placed_0 12 rfl rfl)
theorem dX15_placed_13 : decode cX15_placed 13 = .ok (.getfield 35, 3) := dk_180 0 35 (dk_at dksX15_placed_0 13 rfl rfl)
theorem dX15_placed_16 : decode cX15_placed 16 = .ok (.iload 4, 2) := dk_21 4 (dk_at dksX15_placed_0 16 rfl rfl)
theorem dX15_placed_18 : decode cX15_placed 18 = .ok (.iaload, 1) := dk_46 (dk_at dksX15_placed_0 18 rfl rfl)
theorem dX15_placed_19 : decode cX15_placed 19 = .ok (.iconst (-1), 1) := dk_2 (dk_at dksX15_placed_0 19 rfl rfl)
theorem dX15_placed_20 : decode cX15_placed 20 = .ok (.if_icmp .eq 7, 3) := dk_159 0 7 (dk_at dksX15_placed_0 20 rfl rfl)
theorem dX15_placed_23 : decode cX15_placed 23 = .ok (.iconst 1, 1) := dk_4 (dk_at dksX15_placed_0 23 rfl rfl)
theorem dX15_placed_24 : decode cX15_placed 24 = .ok (.goto 4, 3) := dk_167 0 4 (dk_at dksX15_placed_1 0 rfl rfl)
theorem dX15_placed_27 : decode cX15_placed 27 = .ok (.iconst 0, 1) := dk_3 (dk_at dksX15_placed_1 3 rfl rfl)
theorem dX15_placed_28 : decode cX15_placed 28 = .ok (.iadd, 1) := dk_96 (dk_at dksX15_placed_1 4 rfl rfl)
theorem dX15_placed_29 : decode cX15_placed 29 = .ok (.istore_n 3, 1) := dk_62 (dk_at dksX15_placed_1 5 rfl rfl)
theorem dX15_placed_30 : decode cX15_placed 30 = .ok (.iinc 4 1, 3) := dk_132 4 1 (dk_at dksX15_placed_1 6 rfl rfl)
theorem dX15_placed_33 : decode cX15_placed 33 = .ok (.goto (-28), 3) := dk_167 255 228 (dk_at dksX15_placed_1 9 rfl rfl)
theorem dX15_placed_36 : decode cX15_placed 36 = .ok (.iload_n 3, 1) := dk_29 (dk_at dksX15_placed_1 12 rfl rfl)
theorem dX15_placed_37 : decode cX15_placed 37 = .ok (.ireturn, 1) := dk_172 (dk_at dksX15_placed_1 13 rfl rfl)
theorem q141 : (Jvm.Cond.initialized "LineRemarks$Match") ∈ lw_all := lw_g (lw_at lw_m1 55 rfl) rfl
theorem q233 : (Jvm.Cond.selects "LineRemarks$Match" ({ cls := "java/lang/Object", name := "getClass", desc := "()Ljava/lang/Class;" } : Jvm.MethodName) ({ cls := "java/lang/Object", name := "getClass", desc := "()Ljava/lang/Class;" } : Jvm.MethodName)) ∈ lw_all := lw_g (lw_at lw_m1 147 rfl) rfl
theorem q1785 : (Jvm.Cond.instantiable "LineRemarks$Match" (9 : Nat)) ∈ lw_all := lw_g (lw_at lw_m8 19 rfl) rfl
theorem q1787 : (Jvm.Cond.instanceMethod ({ cls := "LineRemarks$Match", name := "<init>", desc := "([LLineRemarks$Line;[LLineRemarks$Line;I)V" } : Jvm.MethodName)) ∈ lw_all := lw_g (lw_at lw_m8 21 rfl) rfl
theorem q1788 : (Jvm.Cond.code ({ cls := "LineRemarks$Match", name := "<init>", desc := "([LLineRemarks$Line;[LLineRemarks$Line;I)V" } : Jvm.MethodName) prog_11_method_1_code (4 : Nat) (Option.none : Option Jvm.ClassFile.FieldType)) ∈ lw_all := lw_g (lw_at lw_m8 22 rfl) rfl
theorem q1789 : (Jvm.Cond.methodLink "LineRemarks$Match" (3 : Nat) ({ cls := "java/lang/Object", name := "<init>", desc := "()V" } : Jvm.MethodName)) ∈ lw_all := lw_g (lw_at lw_m8 23 rfl) rfl
theorem q1790 : (Jvm.Cond.classLink "LineRemarks$Match" (9 : Nat) "java/util/BitSet") ∈ lw_all := lw_g (lw_at lw_m8 24 rfl) rfl
theorem q1792 : (Jvm.Cond.methodLink "LineRemarks$Match" (11 : Nat) ({ cls := "java/util/BitSet", name := "<init>", desc := "()V" } : Jvm.MethodName)) ∈ lw_all := lw_g (lw_at lw_m8 26 rfl) rfl
theorem q1813 : (Jvm.Cond.methodLink "LineRemarks$Match" (39 : Nat) ({ cls := "java/util/Arrays", name := "fill", desc := "([II)V" } : Jvm.MethodName)) ∈ lw_all := lw_g (lw_at lw_m8 47 rfl) rfl
theorem q1816 : (Jvm.Cond.methodLink "LineRemarks$Match" (45 : Nat) ({ cls := "LineRemarks$Match", name := "lengths", desc := "()[[I" } : Jvm.MethodName)) ∈ lw_all := lw_g (lw_at lw_m8 50 rfl) rfl
theorem q1817 : (Jvm.Cond.privateMethod ({ cls := "LineRemarks$Match", name := "lengths", desc := "()[[I" } : Jvm.MethodName)) ∈ lw_tbl := lw_at lw_m8 51 rfl
theorem q1818 : (Jvm.Cond.instanceMethod ({ cls := "LineRemarks$Match", name := "lengths", desc := "()[[I" } : Jvm.MethodName)) ∈ lw_all := lw_g (lw_at lw_m8 52 rfl) rfl
theorem q1819 : (Jvm.Cond.code ({ cls := "LineRemarks$Match", name := "lengths", desc := "()[[I" } : Jvm.MethodName) prog_11_method_2_code (4 : Nat) (Option.some (Jvm.ClassFile.FieldType.array (Jvm.ClassFile.FieldType.array Jvm.ClassFile.FieldType.int)))) ∈ lw_all := lw_g (lw_at lw_m8 53 rfl) rfl
theorem q1820 : (Jvm.Cond.classLink "LineRemarks$Match" (67 : Nat) "[[I") ∈ lw_all := lw_g (lw_at lw_m8 54 rfl) rfl
theorem q1822 : (Jvm.Cond.methodLink "LineRemarks$Match" (69 : Nat) ({ cls := "LineRemarks$Line", name := "isAlike", desc := "(LLineRemarks$Line;)Z" } : Jvm.MethodName)) ∈ lw_all := lw_g (lw_at lw_m8 56 rfl) rfl
theorem q1826 : (Jvm.Cond.methodLink "LineRemarks$Match" (75 : Nat) ({ cls := "java/lang/Math", name := "max", desc := "(II)I" } : Jvm.MethodName)) ∈ lw_all := lw_g (lw_at lw_m8 60 rfl) rfl
theorem q1827 : (Jvm.Cond.methodLink "LineRemarks$Match" (49 : Nat) ({ cls := "LineRemarks$Match", name := "pair", desc := "([[I)V" } : Jvm.MethodName)) ∈ lw_all := lw_g (lw_at lw_m8 61 rfl) rfl
theorem q1828 : (Jvm.Cond.privateMethod ({ cls := "LineRemarks$Match", name := "pair", desc := "([[I)V" } : Jvm.MethodName)) ∈ lw_tbl := lw_at lw_m8 62 rfl
theorem q1829 : (Jvm.Cond.instanceMethod ({ cls := "LineRemarks$Match", name := "pair", desc := "([[I)V" } : Jvm.MethodName)) ∈ lw_all := lw_g (lw_at lw_m8 63 rfl) rfl
theorem q1830 : (Jvm.Cond.code ({ cls := "LineRemarks$Match", name := "pair", desc := "([[I)V" } : Jvm.MethodName) prog_11_method_4_code (4 : Nat) (Option.none : Option Jvm.ClassFile.FieldType)) ∈ lw_all := lw_g (lw_at lw_m8 64 rfl) rfl
theorem q1831 : (Jvm.Cond.methodLink "LineRemarks$Match" (85 : Nat) ({ cls := "LineRemarks$Match", name := "use", desc := "(II)V" } : Jvm.MethodName)) ∈ lw_all := lw_g (lw_at lw_m8 65 rfl) rfl
theorem q1832 : (Jvm.Cond.privateMethod ({ cls := "LineRemarks$Match", name := "use", desc := "(II)V" } : Jvm.MethodName)) ∈ lw_tbl := lw_at lw_m8 66 rfl
theorem q1833 : (Jvm.Cond.instanceMethod ({ cls := "LineRemarks$Match", name := "use", desc := "(II)V" } : Jvm.MethodName)) ∈ lw_all := lw_g (lw_at lw_m8 67 rfl) rfl
theorem q1834 : (Jvm.Cond.code ({ cls := "LineRemarks$Match", name := "use", desc := "(II)V" } : Jvm.MethodName) prog_11_method_3_code (3 : Nat) (Option.none : Option Jvm.ClassFile.FieldType)) ∈ lw_all := lw_g (lw_at lw_m8 68 rfl) rfl
theorem q1835 : (Jvm.Cond.methodLink "LineRemarks$Match" (81 : Nat) ({ cls := "java/util/BitSet", name := "set", desc := "(I)V" } : Jvm.MethodName)) ∈ lw_all := lw_g (lw_at lw_m8 69 rfl) rfl
theorem q1870 : (Jvm.Cond.methodLink "LineRemarks$Match" (53 : Nat) ({ cls := "java/util/BitSet", name := "cardinality", desc := "()I" } : Jvm.MethodName)) ∈ lw_all := lw_g (lw_at lw_m8 104 rfl) rfl
theorem q1880 : (Jvm.Cond.methodLink "LineRemarks$Match" (60 : Nat) ({ cls := "LineRemarks$Match", name := "moves", desc := "()Z" } : Jvm.MethodName)) ∈ lw_all := lw_g (lw_at lw_m8 114 rfl) rfl
theorem q1881 : (Jvm.Cond.privateMethod ({ cls := "LineRemarks$Match", name := "moves", desc := "()Z" } : Jvm.MethodName)) ∈ lw_tbl := lw_at lw_m8 115 rfl
theorem q1882 : (Jvm.Cond.instanceMethod ({ cls := "LineRemarks$Match", name := "moves", desc := "()Z" } : Jvm.MethodName)) ∈ lw_all := lw_g (lw_at lw_m8 116 rfl) rfl
theorem q1883 : (Jvm.Cond.code ({ cls := "LineRemarks$Match", name := "moves", desc := "()Z" } : Jvm.MethodName) prog_11_method_6_code (7 : Nat) (Option.some Jvm.ClassFile.FieldType.boolean)) ∈ lw_all := lw_g (lw_at lw_m8 117 rfl) rfl
theorem q1884 : (Jvm.Cond.methodLink "LineRemarks$Match" (93 : Nat) ({ cls := "java/util/BitSet", name := "nextClearBit", desc := "(I)I" } : Jvm.MethodName)) ∈ lw_all := lw_g (lw_at lw_m8 118 rfl) rfl
theorem q1897 : (Jvm.Cond.methodLink "LineRemarks$Match" (97 : Nat) ({ cls := "LineRemarks$Match", name := "runAt", desc := "(II)I" } : Jvm.MethodName)) ∈ lw_all := lw_g (lw_at lw_m8 131 rfl) rfl
theorem q1898 : (Jvm.Cond.privateMethod ({ cls := "LineRemarks$Match", name := "runAt", desc := "(II)I" } : Jvm.MethodName)) ∈ lw_tbl := lw_at lw_m8 132 rfl
theorem q1899 : (Jvm.Cond.instanceMethod ({ cls := "LineRemarks$Match", name := "runAt", desc := "(II)I" } : Jvm.MethodName)) ∈ lw_all := lw_g (lw_at lw_m8 133 rfl) rfl
theorem q1900 : (Jvm.Cond.code ({ cls := "LineRemarks$Match", name := "runAt", desc := "(II)I" } : Jvm.MethodName) prog_11_method_5_code (4 : Nat) (Option.some Jvm.ClassFile.FieldType.int)) ∈ lw_all := lw_g (lw_at lw_m8 134 rfl) rfl
theorem q1901 : (Jvm.Cond.methodLink "LineRemarks$Match" (89 : Nat) ({ cls := "java/util/BitSet", name := "get", desc := "(I)Z" } : Jvm.MethodName)) ∈ lw_all := lw_g (lw_at lw_m8 135 rfl) rfl
theorem q1905 : (Jvm.Cond.fieldLink "LineRemarks$Match" (28 : Nat) "LineRemarks$Match" "run" "I") ∈ lw_all := lw_g (lw_at lw_m8 139 rfl) rfl
theorem q1907 : (Jvm.Cond.fieldLink "LineRemarks$Match" (32 : Nat) "LineRemarks$Match" "many" "I") ∈ lw_all := lw_g (lw_at lw_m8 141 rfl) rfl
theorem q1910 : (Jvm.Cond.fieldLink "LineRemarks$Match" (35 : Nat) "LineRemarks$Match" "place" "[I") ∈ lw_all := lw_g (lw_at lw_m8 144 rfl) rfl
theorem q1914 : (Jvm.Cond.fieldLink "LineRemarks$Match" (57 : Nat) "LineRemarks$Match" "pairs" "I") ∈ lw_all := lw_g (lw_at lw_m8 148 rfl) rfl
theorem q1916 : (Jvm.Cond.fieldLink "LineRemarks$Match" (64 : Nat) "LineRemarks$Match" "moved" "I") ∈ lw_all := lw_g (lw_at lw_m8 150 rfl) rfl
theorem q1918 : (Jvm.Cond.fieldLink "LineRemarks$Match" (21 : Nat) "LineRemarks$Match" "a" "[LLineRemarks$Line;") ∈ lw_all := lw_g (lw_at lw_m8 152 rfl) rfl
theorem q1919 : (Jvm.Cond.fieldLink "LineRemarks$Match" (25 : Nat) "LineRemarks$Match" "b" "[LLineRemarks$Line;") ∈ lw_all := lw_g (lw_at lw_m8 153 rfl) rfl
theorem q1920 : (Jvm.Cond.fieldLink "LineRemarks$Match" (12 : Nat) "LineRemarks$Match" "usedA" "Ljava/util/BitSet;") ∈ lw_all := lw_g (lw_at lw_m8 154 rfl) rfl
theorem q1921 : (Jvm.Cond.fieldLink "LineRemarks$Match" (18 : Nat) "LineRemarks$Match" "usedB" "Ljava/util/BitSet;") ∈ lw_all := lw_g (lw_at lw_m8 155 rfl) rfl
theorem q1922 : (Jvm.Cond.laysFinal "LineRemarks$Match" "LineRemarks$Match" "run" "I") ∈ lw_all := lw_g (lw_at lw_m8 156 rfl) rfl
theorem q1923 : (Jvm.Cond.soleField "LineRemarks$Match" "run") ∈ lw_all := lw_g (lw_at lw_m8 157 rfl) rfl
theorem q1924 : (Jvm.Cond.laysFinal "LineRemarks$Match" "LineRemarks$Match" "many" "I") ∈ lw_all := lw_g (lw_at lw_m8 158 rfl) rfl
theorem q1925 : (Jvm.Cond.soleField "LineRemarks$Match" "many") ∈ lw_all := lw_g (lw_at lw_m8 159 rfl) rfl
theorem q1926 : (Jvm.Cond.laysFinal "LineRemarks$Match" "LineRemarks$Match" "place" "[I") ∈ lw_all := lw_g (lw_at lw_m8 160 rfl) rfl
theorem q1927 : (Jvm.Cond.soleField "LineRemarks$Match" "place") ∈ lw_all := lw_g (lw_at lw_m8 161 rfl) rfl
theorem q1928 : (Jvm.Cond.lays "LineRemarks$Match" "LineRemarks$Match" "pairs" "I") ∈ lw_all := lw_g (lw_at lw_m8 162 rfl) rfl
theorem q1929 : (Jvm.Cond.soleField "LineRemarks$Match" "pairs") ∈ lw_all := lw_g (lw_at lw_m8 163 rfl) rfl
theorem q1930 : (Jvm.Cond.lays "LineRemarks$Match" "LineRemarks$Match" "moved" "I") ∈ lw_all := lw_g (lw_at lw_m8 164 rfl) rfl
theorem q1931 : (Jvm.Cond.soleField "LineRemarks$Match" "moved") ∈ lw_all := lw_g (lw_at lw_m8 165 rfl) rfl
theorem q1932 : (Jvm.Cond.laysFinal "LineRemarks$Match" "LineRemarks$Match" "a" "[LLineRemarks$Line;") ∈ lw_all := lw_g (lw_at lw_m8 166 rfl) rfl
theorem q1933 : (Jvm.Cond.soleField "LineRemarks$Match" "a") ∈ lw_all := lw_g (lw_at lw_m8 167 rfl) rfl
theorem q1934 : (Jvm.Cond.laysFinal "LineRemarks$Match" "LineRemarks$Match" "b" "[LLineRemarks$Line;") ∈ lw_all := lw_g (lw_at lw_m8 168 rfl) rfl
theorem q1935 : (Jvm.Cond.soleField "LineRemarks$Match" "b") ∈ lw_all := lw_g (lw_at lw_m8 169 rfl) rfl
theorem q1936 : (Jvm.Cond.laysFinal "LineRemarks$Match" "LineRemarks$Match" "usedA" "Ljava/util/BitSet;") ∈ lw_all := lw_g (lw_at lw_m8 170 rfl) rfl
theorem q1937 : (Jvm.Cond.soleField "LineRemarks$Match" "usedA") ∈ lw_all := lw_g (lw_at lw_m8 171 rfl) rfl
theorem q1938 : (Jvm.Cond.laysFinal "LineRemarks$Match" "LineRemarks$Match" "usedB" "Ljava/util/BitSet;") ∈ lw_all := lw_g (lw_at lw_m8 172 rfl) rfl
theorem q1939 : (Jvm.Cond.soleField "LineRemarks$Match" "usedB") ∈ lw_all := lw_g (lw_at lw_m8 173 rfl) rfl
theorem q1940 : (Jvm.Cond.superclass "LineRemarks$Match" "java/lang/Object") ∈ lw_all := lw_g (lw_at lw_m8 174 rfl) rfl
theorem q2040 : (Jvm.Cond.instanceMethod ({ cls := "LineRemarks$Match", name := "lineOf", desc := "(I)I" } : Jvm.MethodName)) ∈ lw_all := lw_g (lw_at lw_m9 34 rfl) rfl
theorem q2041 : (Jvm.Cond.selects "LineRemarks$Match" ({ cls := "LineRemarks$Match", name := "lineOf", desc := "(I)I" } : Jvm.MethodName) ({ cls := "LineRemarks$Match", name := "lineOf", desc := "(I)I" } : Jvm.MethodName)) ∈ lw_all := lw_g (lw_at lw_m9 35 rfl) rfl
theorem q2042 : (Jvm.Cond.code ({ cls := "LineRemarks$Match", name := "lineOf", desc := "(I)I" } : Jvm.MethodName) prog_11_method_7_code (3 : Nat) (Option.some Jvm.ClassFile.FieldType.int)) ∈ lw_all := lw_g (lw_at lw_m9 36 rfl) rfl
theorem q2402 : (Jvm.Cond.instanceMethod ({ cls := "LineRemarks$Match", name := "placed", desc := "(II)I" } : Jvm.MethodName)) ∈ lw_all := lw_g (lw_at lw_m10 156 rfl) rfl
theorem q2403 : (Jvm.Cond.selects "LineRemarks$Match" ({ cls := "LineRemarks$Match", name := "placed", desc := "(II)I" } : Jvm.MethodName) ({ cls := "LineRemarks$Match", name := "placed", desc := "(II)I" } : Jvm.MethodName)) ∈ lw_all := lw_g (lw_at lw_m10 157 rfl) rfl
theorem q2404 : (Jvm.Cond.code ({ cls := "LineRemarks$Match", name := "placed", desc := "(II)I" } : Jvm.MethodName) prog_11_method_8_code (5 : Nat) (Option.some Jvm.ClassFile.FieldType.int)) ∈ lw_all := lw_g (lw_at lw_m10 158 rfl) rfl
theorem q3023 : (Jvm.Cond.selects "LineRemarks$Match" ({ cls := "java/lang/Object", name := "equals", desc := "(Ljava/lang/Object;)Z" } : Jvm.MethodName) ({ cls := "java/lang/Object", name := "equals", desc := "(Ljava/lang/Object;)Z" } : Jvm.MethodName)) ∈ lw_all := lw_g (lw_at lw_m13 57 rfl) rfl
theorem q3824 : (Jvm.Cond.castable "LineRemarks$Match" "java/lang/Object") ∈ lw_tbl := lw_at lw_m16 138 rfl
theorem in_X15 : ∀ w ∈ wsX150, w ∈ lw_all := lw_in wsX150 [1922, 1924, 1926, 1928, 1930, 1932, 1934, 1936, 1938] (by decide +kernel) (by decide +kernel)
/-! LineRemarks$Remark -/
set_option maxRecDepth 100000
def RX16 : String := "LineRemarks$Remark"
def TX16 : u_T := fun k => match k with
  | 0 => ("LineRemarks$Remark", "index", "I", true)
  | 1 => ("LineRemarks$Remark", "by", "I", true)
  | 2 => ("LineRemarks$Remark", "on", "LLineRemarks$Revision;", true)
  | 3 => ("LineRemarks$Remark", "p", "I", true)
  | 4 => ("LineRemarks$Remark", "q", "I", true)
  | _ => ("LineRemarks$Remark", "answers", "I", true)
def tyX16 : Nat → FieldType := fun k => match k with
  | 0 => .int
  | 1 => .int
  | 2 => .object "LineRemarks$Revision"
  | 3 => .int
  | 4 => .int
  | _ => .int
abbrev wsX160 : List Cond := u_ws RX16 TX16 6
theorem nmX16 : ∀ a, a < 6 → ∀ b, b < 6 → a ≠ b → (TX16 a).2.1 ≠ (TX16 b).2.1 := by decide +kernel
theorem tyX16_ok : ∀ k, k < 6 → parseFieldDescriptor (TX16 k).2.2.1 = some (tyX16 k) := by decide +kernel
abbrev cX16_init : ByteArray := prog_16_method_1_code
def yX16_init : MethodName := ⟨RX16, "<init>", "(IILLineRemarks$Revision;III)V"⟩
def dkwX16_init_1 : List UInt8 := [181, 0, 22, 42, 21, 5, 181, 0, 25, 42, 21, 6, 181, 0, 28, 177]
abbrev dktX16_init_1 : List UInt8 := dkwX16_init_1 ++ []
def dkwX16_init_0 : List UInt8 := [42, 183, 0, 3, 42, 27, 181, 0, 9, 42, 28, 181, 0, 15, 42, 45, 181, 0, 18, 42, 21, 4]
abbrev dktX16_init_0 : List UInt8 := dkwX16_init_0 ++ dktX16_init_1
theorem dksX16_init_0 : cX16_init.data.toList.drop 0 = dktX16_init_0 := by decide +kernel
theorem dksX16_init_1 : cX16_init.data.toList.drop 22 = dktX16_init_1 := dk_seg dksX16_init_0 22 rfl rfl
theorem dX16_init_0 : decode cX16_init 0 = .ok (.aload_n 0, 1) := dk_42 (dk_at dksX16_init_0 0 rfl rfl)
theorem dX16_init_1 : decode cX16_init 1 = .ok (.invokespecial 3, 3) := dk_183 0 3 (dk_at dksX16_init_0 1 rfl rfl)
theorem dX16_init_4 : decode cX16_init 4 = .ok (.aload_n 0, 1) := dk_42 (dk_at dksX16_init_0 4 rfl rfl)
theorem dX16_init_5 : decode cX16_init 5 = .ok (.iload_n 1, 1) := dk_27 (dk_at dksX16_init_0 5 rfl rfl)
theorem dX16_init_6 : decode cX16_init 6 = .ok (.putfield 9, 3) := dk_181 0 9 (dk_at dksX16_init_0 6 rfl rfl)
theorem dX16_init_9 : decode cX16_init 9 = .ok (.aload_n 0, 1) := dk_42 (dk_at dksX16_init_0 9 rfl rfl)
theorem dX16_init_10 : decode cX16_init 10 = .ok (.iload_n 2, 1) := dk_28 (dk_at dksX16_init_0 10 rfl rfl)
theorem dX16_init_11 : decode cX16_init 11 = .ok (.putfield 15, 3) := dk_181 0 15 (dk_at dksX16_init_0 11 rfl rfl)
theorem dX16_init_14 : decode cX16_init 14 = .ok (.aload_n 0, 1) := dk_42 (dk_at dksX16_init_0 14 rfl rfl)
theorem dX16_init_15 : decode cX16_init 15 = .ok (.aload_n 3, 1) := dk_45 (dk_at dksX16_init_0 15 rfl rfl)
theorem dX16_init_16 : decode cX16_init 16 = .ok (.putfield 18, 3) := dk_181 0 18 (dk_at dksX16_init_0 16 rfl rfl)
theorem dX16_init_19 : decode cX16_init 19 = .ok (.aload_n 0, 1) := dk_42 (dk_at dksX16_init_0 19 rfl rfl)
theorem dX16_init_20 : decode cX16_init 20 = .ok (.iload 4, 2) := dk_21 4 (dk_at dksX16_init_0 20 rfl rfl)
theorem dX16_init_22 : decode cX16_init 22 = .ok (.putfield 22, 3) := dk_181 0 22 (dk_at dksX16_init_1 0 rfl rfl)
theorem dX16_init_25 : decode cX16_init 25 = .ok (.aload_n 0, 1) := dk_42 (dk_at dksX16_init_1 3 rfl rfl)
theorem dX16_init_26 : decode cX16_init 26 = .ok (.iload 5, 2) := dk_21 5 (dk_at dksX16_init_1 4 rfl rfl)
theorem dX16_init_28 : decode cX16_init 28 = .ok (.putfield 25, 3) := dk_181 0 25 (dk_at dksX16_init_1 6 rfl rfl)
theorem dX16_init_31 : decode cX16_init 31 = .ok (.aload_n 0, 1) := dk_42 (dk_at dksX16_init_1 9 rfl rfl)
theorem dX16_init_32 : decode cX16_init 32 = .ok (.iload 6, 2) := dk_21 6 (dk_at dksX16_init_1 10 rfl rfl)
theorem dX16_init_34 : decode cX16_init 34 = .ok (.putfield 28, 3) := dk_181 0 28 (dk_at dksX16_init_1 12 rfl rfl)
theorem dX16_init_37 : decode cX16_init 37 = .ok (.return_, 1) := dk_177 (dk_at dksX16_init_1 15 rfl rfl)
abbrev cX16_kind : ByteArray := prog_16_method_2_code
def yX16_kind : MethodName := ⟨RX16, "kind", "()I"⟩
theorem dX16_kind_0 : decode cX16_kind 0 = .ok (.iconst 0, 1) := by decide +kernel
theorem dX16_kind_1 : decode cX16_kind 1 = .ok (.ireturn, 1) := by decide +kernel
abbrev cX16_follows : ByteArray := prog_16_method_3_code
def yX16_follows : MethodName := ⟨RX16, "follows", "(LLineRemarks$Span;LLineRemarks$Match;)Z"⟩
def dkwX16_follows_4 : List UInt8 := [172]
abbrev dktX16_follows_4 : List UInt8 := dkwX16_follows_4 ++ []
def dkwX16_follows_3 : List UInt8 := [21, 4, 2, 159, 0, 10, 43, 29, 21, 4, 182, 0, 53, 21, 4, 2, 159, 0, 7, 4, 167, 0, 4, 3]
abbrev dktX16_follows_3 : List UInt8 := dkwX16_follows_3 ++ dktX16_follows_4
def dkwX16_follows_2 : List UInt8 := [184, 0, 44, 62, 21, 4, 44, 180, 0, 40, 21, 5, 46, 184, 0, 50, 54, 4, 132, 5, 1, 167, 255, 203]
abbrev dktX16_follows_2 : List UInt8 := dkwX16_follows_2 ++ dktX16_follows_3
def dkwX16_follows_1 : List UInt8 := [180, 0, 40, 21, 5, 46, 2, 160, 0, 7, 29, 167, 0, 14, 29, 44, 180, 0, 40, 21, 5, 46]
abbrev dktX16_follows_1 : List UInt8 := dkwX16_follows_1 ++ dktX16_follows_2
def dkwX16_follows_0 : List UInt8 := [44, 180, 0, 31, 62, 2, 54, 4, 43, 180, 0, 36, 54, 5, 21, 5, 43, 180, 0, 39, 163, 0, 50, 44]
abbrev dktX16_follows_0 : List UInt8 := dkwX16_follows_0 ++ dktX16_follows_1
theorem dksX16_follows_0 : cX16_follows.data.toList.drop 0 = dktX16_follows_0 := by decide +kernel
theorem dksX16_follows_1 : cX16_follows.data.toList.drop 24 = dktX16_follows_1 := dk_seg dksX16_follows_0 24 rfl rfl
theorem dksX16_follows_2 : cX16_follows.data.toList.drop 46 = dktX16_follows_2 := dk_seg dksX16_follows_1 22 rfl rfl
theorem dksX16_follows_3 : cX16_follows.data.toList.drop 70 = dktX16_follows_3 := dk_seg dksX16_follows_2 24 rfl rfl
theorem dksX16_follows_4 : cX16_follows.data.toList.drop 94 = dktX16_follows_4 := dk_seg dksX16_follows_3 24 rfl rfl
theorem dX16_follows_0 : decode cX16_follows 0 = .ok (.aload_n 2, 1) := dk_44 (dk_at dksX16_follows_0 0 rfl rfl)
theorem dX16_follows_1 : decode cX16_follows 1 = .ok (.getfield 31, 3) := dk_180 0 31 (dk_at dksX16_follows_0 1 rfl rfl)
theorem dX16_follows_4 : decode cX16_follows 4 = .ok (.istore_n 3, 1) := dk_62 (dk_at dksX16_follows_0 4 rfl rfl)
theorem dX16_follows_5 : decode cX16_follows 5 = .ok (.iconst (-1), 1) := dk_2 (dk_at dksX16_follows_0 5 rfl rfl)
theorem dX16_follows_6 : decode cX16_follows 6 = .ok (.istore 4, 2) := dk_54 4 (dk_at dksX16_follows_0 6 rfl rfl)
theorem dX16_follows_8 : decode cX16_follows 8 = .ok (.aload_n 1, 1) := dk_43 (dk_at dksX16_follows_0 8 rfl rfl)
theorem dX16_follows_9 : decode cX16_follows 9 = .ok (.getfield 36, 3) := dk_180 0 36 (dk_at dksX16_follows_0 9 rfl rfl)
theorem dX16_follows_12 : decode cX16_follows 12 = .ok (.istore 5, 2) := dk_54 5 (dk_at dksX16_follows_0 12 rfl rfl)
theorem dX16_follows_14 : decode cX16_follows 14 = .ok (.iload 5, 2) := dk_21 5 (dk_at dksX16_follows_0 14 rfl rfl)
theorem dX16_follows_16 : decode cX16_follows 16 = .ok (.aload_n 1, 1) := dk_43 (dk_at dksX16_follows_0 16 rfl rfl)
theorem dX16_follows_17 : decode cX16_follows 17 = .ok (.getfield 39, 3) := dk_180 0 39 (dk_at dksX16_follows_0 17 rfl rfl)
theorem dX16_follows_20 : decode cX16_follows 20 = .ok (.if_icmp .gt 50, 3) := dk_163 0 50 (dk_at dksX16_follows_0 20 rfl rfl)
theorem dX16_follows_23 : decode cX16_follows 23 = .ok (.aload_n 2, 1) := dk_44 (dk_at dksX16_follows_0 23 rfl rfl)
theorem dX16_follows_24 : decode cX16_follows 24 = .ok (.getfield 40, 3) := dk_180 0 40 (dk_at dksX16_follows_1 0 rfl rfl)
theorem dX16_follows_27 : decode cX16_follows 27 = .ok (.iload 5, 2) := dk_21 5 (dk_at dksX16_follows_1 3 rfl rfl)
theorem dX16_follows_29 : decode cX16_follows 29 = .ok (.iaload, 1) := dk_46 (dk_at dksX16_follows_1 5 rfl rfl)
theorem dX16_follows_30 : decode cX16_follows 30 = .ok (.iconst (-1), 1) := dk_2 (dk_at dksX16_follows_1 6 rfl rfl)
theorem dX16_follows_31 : decode cX16_follows 31 = .ok (.if_icmp .ne 7, 3) := dk_160 0 7 (dk_at dksX16_follows_1 7 rfl rfl)
theorem dX16_follows_34 : decode cX16_follows 34 = .ok (.iload_n 3, 1) := dk_29 (dk_at dksX16_follows_1 10 rfl rfl)
theorem dX16_follows_35 : decode cX16_follows 35 = .ok (.goto 14, 3) := dk_167 0 14 (dk_at dksX16_follows_1 11 rfl rfl)
theorem dX16_follows_38 : decode cX16_follows 38 = .ok (.iload_n 3, 1) := dk_29 (dk_at dksX16_follows_1 14 rfl rfl)
theorem dX16_follows_39 : decode cX16_follows 39 = .ok (.aload_n 2, 1) := dk_44 (dk_at dksX16_follows_1 15 rfl rfl)
theorem dX16_follows_40 : decode cX16_follows 40 = .ok (.getfield 40, 3) := dk_180 0 40 (dk_at dksX16_follows_1 16 rfl rfl)
theorem dX16_follows_43 : decode cX16_follows 43 = .ok (.iload 5, 2) := dk_21 5 (dk_at dksX16_follows_1 19 rfl rfl)
theorem dX16_follows_45 : decode cX16_follows 45 = .ok (.iaload, 1) := dk_46 (dk_at dksX16_follows_1 21 rfl rfl)
theorem dX16_follows_46 : decode cX16_follows 46 = .ok (.invokestatic 44, 3) := dk_184 0 44 (dk_at dksX16_follows_2 0 rfl rfl)
theorem dX16_follows_49 : decode cX16_follows 49 = .ok (.istore_n 3, 1) := dk_62 (dk_at dksX16_follows_2 3 rfl rfl)
theorem dX16_follows_50 : decode cX16_follows 50 = .ok (.iload 4, 2) := dk_21 4 (dk_at dksX16_follows_2 4 rfl rfl)
theorem dX16_follows_52 : decode cX16_follows 52 = .ok (.aload_n 2, 1) := dk_44 (dk_at dksX16_follows_2 6 rfl rfl)
theorem dX16_follows_53 : decode cX16_follows 53 = .ok (.getfield 40, 3) := dk_180 0 40 (dk_at dksX16_follows_2 7 rfl rfl)
theorem dX16_follows_56 : decode cX16_follows 56 = .ok (.iload 5, 2) := dk_21 5 (dk_at dksX16_follows_2 10 rfl rfl)
theorem dX16_follows_58 : decode cX16_follows 58 = .ok (.iaload, 1) := dk_46 (dk_at dksX16_follows_2 12 rfl rfl)
theorem dX16_follows_59 : decode cX16_follows 59 = .ok (.invokestatic 50, 3) := dk_184 0 50 (dk_at dksX16_follows_2 13 rfl rfl)
theorem dX16_follows_62 : decode cX16_follows 62 = .ok (.istore 4, 2) := dk_54 4 (dk_at dksX16_follows_2 16 rfl rfl)
theorem dX16_follows_64 : decode cX16_follows 64 = .ok (.iinc 5 1, 3) := dk_132 5 1 (dk_at dksX16_follows_2 18 rfl rfl)
theorem dX16_follows_67 : decode cX16_follows 67 = .ok (.goto (-53), 3) := dk_167 255 203 (dk_at dksX16_follows_2 21 rfl rfl)
theorem dX16_follows_70 : decode cX16_follows 70 = .ok (.iload 4, 2) := dk_21 4 (dk_at dksX16_follows_3 0 rfl rfl)
theorem dX16_follows_72 : decode cX16_follows 72 = .ok (.iconst (-1), 1) := dk_2 (dk_at dksX16_follows_3 2 rfl rfl)
theorem dX16_follows_73 : decode cX16_follows 73 = .ok (.if_icmp .eq 10, 3) := dk_159 0 10 (dk_at dksX16_follows_3 3 rfl rfl)
theorem dX16_follows_76 : decode cX16_follows 76 = .ok (.aload_n 1, 1) := dk_43 (dk_at dksX16_follows_3 6 rfl rfl)
theorem dX16_follows_77 : decode cX16_follows 77 = .ok (.iload_n 3, 1) := dk_29 (dk_at dksX16_follows_3 7 rfl rfl)
theorem dX16_follows_78 : decode cX16_follows 78 = .ok (.iload 4, 2) := dk_21 4 (dk_at dksX16_follows_3 8 rfl rfl)
theorem dX16_follows_80 : decode cX16_follows 80 = .ok (.invokevirtual 53, 3) := dk_182 0 53 (dk_at dksX16_follows_3 10 rfl rfl)
theorem dX16_follows_83 : decode cX16_follows 83 = .ok (.iload 4, 2) := dk_21 4 (dk_at dksX16_follows_3 13 rfl rfl)
theorem dX16_follows_85 : decode cX16_follows 85 = .ok (.iconst (-1), 1) := dk_2 (dk_at dksX16_follows_3 15 rfl rfl)
theorem dX16_follows_86 : decode cX16_follows 86 = .ok (.if_icmp .eq 7, 3) := dk_159 0 7 (dk_at dksX16_follows_3 16 rfl rfl)
theorem dX16_follows_89 : decode cX16_follows 89 = .ok (.iconst 1, 1) := dk_4 (dk_at dksX16_follows_3 19 rfl rfl)
theorem dX16_follows_90 : decode cX16_follows 90 = .ok (.goto 4, 3) := dk_167 0 4 (dk_at dksX16_follows_3 20 rfl rfl)
theorem dX16_follows_93 : decode cX16_follows 93 = .ok (.iconst 0, 1) := dk_3 (dk_at dksX16_follows_3 23 rfl rfl)
theorem dX16_follows_94 : decode cX16_follows 94 = .ok (.ireturn, 1) := dk_172 (dk_at dksX16_follows_4 0 rfl rfl)
abbrev cX16_pointing : ByteArray := prog_16_method_4_code
def yX16_pointing : MethodName := ⟨RX16, "pointing", "(ILLineRemarks$Trace;)I"⟩
def dkwX16_pointing_0 : List UInt8 := [44, 16, 10, 182, 0, 57, 27, 42, 180, 0, 9, 96, 172]
abbrev dktX16_pointing_0 : List UInt8 := dkwX16_pointing_0 ++ []
theorem dksX16_pointing_0 : cX16_pointing.data.toList.drop 0 = dktX16_pointing_0 := by decide +kernel
theorem dX16_pointing_0 : decode cX16_pointing 0 = .ok (.aload_n 2, 1) := dk_44 (dk_at dksX16_pointing_0 0 rfl rfl)
theorem dX16_pointing_1 : decode cX16_pointing 1 = .ok (.bipush 10, 2) := dk_16 10 (dk_at dksX16_pointing_0 1 rfl rfl)
theorem dX16_pointing_3 : decode cX16_pointing 3 = .ok (.invokevirtual 57, 3) := dk_182 0 57 (dk_at dksX16_pointing_0 3 rfl rfl)
theorem dX16_pointing_6 : decode cX16_pointing 6 = .ok (.iload_n 1, 1) := dk_27 (dk_at dksX16_pointing_0 6 rfl rfl)
theorem dX16_pointing_7 : decode cX16_pointing 7 = .ok (.aload_n 0, 1) := dk_42 (dk_at dksX16_pointing_0 7 rfl rfl)
theorem dX16_pointing_8 : decode cX16_pointing 8 = .ok (.getfield 9, 3) := dk_180 0 9 (dk_at dksX16_pointing_0 8 rfl rfl)
theorem dX16_pointing_11 : decode cX16_pointing 11 = .ok (.iadd, 1) := dk_96 (dk_at dksX16_pointing_0 11 rfl rfl)
theorem dX16_pointing_12 : decode cX16_pointing 12 = .ok (.ireturn, 1) := dk_172 (dk_at dksX16_pointing_0 12 rfl rfl)
abbrev cX16_weighing : ByteArray := prog_16_method_5_code
def yX16_weighing : MethodName := ⟨RX16, "weighing", "(ILLineRemarks$Trace;)I"⟩
def dkwX16_weighing_0 : List UInt8 := [44, 16, 11, 182, 0, 57, 42, 27, 44, 182, 0, 63, 5, 104, 172]
abbrev dktX16_weighing_0 : List UInt8 := dkwX16_weighing_0 ++ []
theorem dksX16_weighing_0 : cX16_weighing.data.toList.drop 0 = dktX16_weighing_0 := by decide +kernel
theorem dX16_weighing_0 : decode cX16_weighing 0 = .ok (.aload_n 2, 1) := dk_44 (dk_at dksX16_weighing_0 0 rfl rfl)
theorem dX16_weighing_1 : decode cX16_weighing 1 = .ok (.bipush 11, 2) := dk_16 11 (dk_at dksX16_weighing_0 1 rfl rfl)
theorem dX16_weighing_3 : decode cX16_weighing 3 = .ok (.invokevirtual 57, 3) := dk_182 0 57 (dk_at dksX16_weighing_0 3 rfl rfl)
theorem dX16_weighing_6 : decode cX16_weighing 6 = .ok (.aload_n 0, 1) := dk_42 (dk_at dksX16_weighing_0 6 rfl rfl)
theorem dX16_weighing_7 : decode cX16_weighing 7 = .ok (.iload_n 1, 1) := dk_27 (dk_at dksX16_weighing_0 7 rfl rfl)
theorem dX16_weighing_8 : decode cX16_weighing 8 = .ok (.aload_n 2, 1) := dk_44 (dk_at dksX16_weighing_0 8 rfl rfl)
theorem dX16_weighing_9 : decode cX16_weighing 9 = .ok (.invokevirtual 63, 3) := dk_182 0 63 (dk_at dksX16_weighing_0 9 rfl rfl)
theorem dX16_weighing_12 : decode cX16_weighing 12 = .ok (.iconst 2, 1) := dk_5 (dk_at dksX16_weighing_0 12 rfl rfl)
theorem dX16_weighing_13 : decode cX16_weighing 13 = .ok (.imul, 1) := dk_104 (dk_at dksX16_weighing_0 13 rfl rfl)
theorem dX16_weighing_14 : decode cX16_weighing 14 = .ok (.ireturn, 1) := dk_172 (dk_at dksX16_weighing_0 14 rfl rfl)
abbrev cX16_clinging : ByteArray := prog_16_method_6_code
def yX16_clinging : MethodName := ⟨RX16, "clinging", "(ILLineRemarks$Trace;)I"⟩
def dkwX16_clinging_1 : List UInt8 := [182, 0, 63, 130, 172]
abbrev dktX16_clinging_1 : List UInt8 := dkwX16_clinging_1 ++ []
def dkwX16_clinging_0 : List UInt8 := [44, 16, 12, 182, 0, 57, 42, 27, 44, 182, 0, 67, 62, 29, 42, 27, 42, 180, 0, 15, 100, 44]
abbrev dktX16_clinging_0 : List UInt8 := dkwX16_clinging_0 ++ dktX16_clinging_1
theorem dksX16_clinging_0 : cX16_clinging.data.toList.drop 0 = dktX16_clinging_0 := by decide +kernel
theorem dksX16_clinging_1 : cX16_clinging.data.toList.drop 22 = dktX16_clinging_1 := dk_seg dksX16_clinging_0 22 rfl rfl
theorem dX16_clinging_0 : decode cX16_clinging 0 = .ok (.aload_n 2, 1) := dk_44 (dk_at dksX16_clinging_0 0 rfl rfl)
theorem dX16_clinging_1 : decode cX16_clinging 1 = .ok (.bipush 12, 2) := dk_16 12 (dk_at dksX16_clinging_0 1 rfl rfl)
theorem dX16_clinging_3 : decode cX16_clinging 3 = .ok (.invokevirtual 57, 3) := dk_182 0 57 (dk_at dksX16_clinging_0 3 rfl rfl)
theorem dX16_clinging_6 : decode cX16_clinging 6 = .ok (.aload_n 0, 1) := dk_42 (dk_at dksX16_clinging_0 6 rfl rfl)
theorem dX16_clinging_7 : decode cX16_clinging 7 = .ok (.iload_n 1, 1) := dk_27 (dk_at dksX16_clinging_0 7 rfl rfl)
theorem dX16_clinging_8 : decode cX16_clinging 8 = .ok (.aload_n 2, 1) := dk_44 (dk_at dksX16_clinging_0 8 rfl rfl)
theorem dX16_clinging_9 : decode cX16_clinging 9 = .ok (.invokevirtual 67, 3) := dk_182 0 67 (dk_at dksX16_clinging_0 9 rfl rfl)
theorem dX16_clinging_12 : decode cX16_clinging 12 = .ok (.istore_n 3, 1) := dk_62 (dk_at dksX16_clinging_0 12 rfl rfl)
theorem dX16_clinging_13 : decode cX16_clinging 13 = .ok (.iload_n 3, 1) := dk_29 (dk_at dksX16_clinging_0 13 rfl rfl)
theorem dX16_clinging_14 : decode cX16_clinging 14 = .ok (.aload_n 0, 1) := dk_42 (dk_at dksX16_clinging_0 14 rfl rfl)
theorem dX16_clinging_15 : decode cX16_clinging 15 = .ok (.iload_n 1, 1) := dk_27 (dk_at dksX16_clinging_0 15 rfl rfl)
theorem dX16_clinging_16 : decode cX16_clinging 16 = .ok (.aload_n 0, 1) := dk_42 (dk_at dksX16_clinging_0 16 rfl rfl)
theorem dX16_clinging_17 : decode cX16_clinging 17 = .ok (.getfield 15, 3) := dk_180 0 15 (dk_at dksX16_clinging_0 17 rfl rfl)
theorem dX16_clinging_20 : decode cX16_clinging 20 = .ok (.isub, 1) := dk_100 (dk_at dksX16_clinging_0 20 rfl rfl)
theorem dX16_clinging_21 : decode cX16_clinging 21 = .ok (.aload_n 2, 1) := dk_44 (dk_at dksX16_clinging_0 21 rfl rfl)
theorem dX16_clinging_22 : decode cX16_clinging 22 = .ok (.invokevirtual 63, 3) := dk_182 0 63 (dk_at dksX16_clinging_1 0 rfl rfl)
theorem dX16_clinging_25 : decode cX16_clinging 25 = .ok (.ixor, 1) := dk_130 (dk_at dksX16_clinging_1 3 rfl rfl)
theorem dX16_clinging_26 : decode cX16_clinging 26 = .ok (.ireturn, 1) := dk_172 (dk_at dksX16_clinging_1 4 rfl rfl)
theorem q145 : (Jvm.Cond.initialized "LineRemarks$Remark") ∈ lw_all := lw_g (lw_at lw_m1 59 rfl) rfl
theorem q238 : (Jvm.Cond.selects "LineRemarks$Remark" ({ cls := "java/lang/Object", name := "getClass", desc := "()Ljava/lang/Class;" } : Jvm.MethodName) ({ cls := "java/lang/Object", name := "getClass", desc := "()Ljava/lang/Class;" } : Jvm.MethodName)) ∈ lw_all := lw_g (lw_at lw_m1 152 rfl) rfl
theorem q1908 : (Jvm.Cond.fieldLink "LineRemarks$Remark" (31 : Nat) "LineRemarks$Match" "many" "I") ∈ lw_all := lw_g (lw_at lw_m8 142 rfl) rfl
theorem q1912 : (Jvm.Cond.fieldLink "LineRemarks$Remark" (40 : Nat) "LineRemarks$Match" "place" "[I") ∈ lw_all := lw_g (lw_at lw_m8 146 rfl) rfl
theorem q2060 : (Jvm.Cond.instanceMethod ({ cls := "LineRemarks$Remark", name := "<init>", desc := "(IILLineRemarks$Revision;III)V" } : Jvm.MethodName)) ∈ lw_all := lw_g (lw_at lw_m9 54 rfl) rfl
theorem q2061 : (Jvm.Cond.code ({ cls := "LineRemarks$Remark", name := "<init>", desc := "(IILLineRemarks$Revision;III)V" } : Jvm.MethodName) prog_16_method_1_code (7 : Nat) (Option.none : Option Jvm.ClassFile.FieldType)) ∈ lw_all := lw_g (lw_at lw_m9 55 rfl) rfl
theorem q2062 : (Jvm.Cond.methodLink "LineRemarks$Remark" (3 : Nat) ({ cls := "java/lang/Object", name := "<init>", desc := "()V" } : Jvm.MethodName)) ∈ lw_all := lw_g (lw_at lw_m9 56 rfl) rfl
theorem q2063 : (Jvm.Cond.fieldLink "LineRemarks$Remark" (9 : Nat) "LineRemarks$Remark" "index" "I") ∈ lw_all := lw_g (lw_at lw_m9 57 rfl) rfl
theorem q2067 : (Jvm.Cond.fieldLink "LineRemarks$Remark" (15 : Nat) "LineRemarks$Remark" "by" "I") ∈ lw_all := lw_g (lw_at lw_m9 61 rfl) rfl
theorem q2080 : (Jvm.Cond.fieldLink "LineRemarks$Remark" (18 : Nat) "LineRemarks$Remark" "on" "LLineRemarks$Revision;") ∈ lw_all := lw_g (lw_at lw_m9 74 rfl) rfl
theorem q2085 : (Jvm.Cond.fieldLink "LineRemarks$Remark" (22 : Nat) "LineRemarks$Remark" "p" "I") ∈ lw_all := lw_g (lw_at lw_m9 79 rfl) rfl
theorem q2091 : (Jvm.Cond.fieldLink "LineRemarks$Remark" (25 : Nat) "LineRemarks$Remark" "q" "I") ∈ lw_all := lw_g (lw_at lw_m9 85 rfl) rfl
theorem q2098 : (Jvm.Cond.fieldLink "LineRemarks$Remark" (28 : Nat) "LineRemarks$Remark" "answers" "I") ∈ lw_all := lw_g (lw_at lw_m9 92 rfl) rfl
theorem q2102 : (Jvm.Cond.soleField "LineRemarks$Remark" "index") ∈ lw_all := lw_g (lw_at lw_m9 96 rfl) rfl
theorem q2104 : (Jvm.Cond.soleField "LineRemarks$Remark" "by") ∈ lw_all := lw_g (lw_at lw_m9 98 rfl) rfl
theorem q2106 : (Jvm.Cond.soleField "LineRemarks$Remark" "on") ∈ lw_all := lw_g (lw_at lw_m9 100 rfl) rfl
theorem q2108 : (Jvm.Cond.soleField "LineRemarks$Remark" "p") ∈ lw_all := lw_g (lw_at lw_m9 102 rfl) rfl
theorem q2110 : (Jvm.Cond.soleField "LineRemarks$Remark" "q") ∈ lw_all := lw_g (lw_at lw_m9 104 rfl) rfl
theorem q2112 : (Jvm.Cond.soleField "LineRemarks$Remark" "answers") ∈ lw_all := lw_g (lw_at lw_m9 106 rfl) rfl
theorem q2179 : (Jvm.Cond.instantiable "LineRemarks$Remark" (6 : Nat)) ∈ lw_all := lw_g (lw_at lw_m9 173 rfl) rfl
theorem q2181 : (Jvm.Cond.laysFinal "LineRemarks$Remark" "LineRemarks$Remark" "index" "I") ∈ lw_all := lw_g (lw_at lw_m9 175 rfl) rfl
theorem q2182 : (Jvm.Cond.laysFinal "LineRemarks$Remark" "LineRemarks$Remark" "by" "I") ∈ lw_all := lw_g (lw_at lw_m9 176 rfl) rfl
theorem q2183 : (Jvm.Cond.laysFinal "LineRemarks$Remark" "LineRemarks$Remark" "on" "LLineRemarks$Revision;") ∈ lw_all := lw_g (lw_at lw_m9 177 rfl) rfl
theorem q2184 : (Jvm.Cond.laysFinal "LineRemarks$Remark" "LineRemarks$Remark" "p" "I") ∈ lw_all := lw_g (lw_at lw_m9 178 rfl) rfl
theorem q2185 : (Jvm.Cond.laysFinal "LineRemarks$Remark" "LineRemarks$Remark" "q" "I") ∈ lw_all := lw_g (lw_at lw_m9 179 rfl) rfl
theorem q2186 : (Jvm.Cond.laysFinal "LineRemarks$Remark" "LineRemarks$Remark" "answers" "I") ∈ lw_all := lw_g (lw_at lw_m9 180 rfl) rfl
theorem q2187 : (Jvm.Cond.superclass "LineRemarks$Remark" "java/lang/Object") ∈ lw_all := lw_g (lw_at lw_m9 181 rfl) rfl
theorem q2197 : (Jvm.Cond.instanceMethod ({ cls := "LineRemarks$Remark", name := "kind", desc := "()I" } : Jvm.MethodName)) ∈ lw_all := lw_g (lw_at lw_m9 191 rfl) rfl
theorem q2198 : (Jvm.Cond.selects "LineRemarks$Remark" ({ cls := "LineRemarks$Remark", name := "kind", desc := "()I" } : Jvm.MethodName) ({ cls := "LineRemarks$Remark", name := "kind", desc := "()I" } : Jvm.MethodName)) ∈ lw_all := lw_g (lw_at lw_m9 192 rfl) rfl
theorem q2199 : (Jvm.Cond.sameMethod "LineRemarks$Remark" "LineRemarks$Remark" "kind" "()I") ∈ lw_all := lw_g (lw_at lw_m9 193 rfl) rfl
theorem q2218 : (Jvm.Cond.code ({ cls := "LineRemarks$Remark", name := "kind", desc := "()I" } : Jvm.MethodName) prog_16_method_2_code (1 : Nat) (Option.some Jvm.ClassFile.FieldType.int)) ∈ lw_all := lw_g (lw_at lw_m9 212 rfl) rfl
theorem q2296 : (Jvm.Cond.fieldLink "LineRemarks$Remark" (36 : Nat) "LineRemarks$Span" "p" "I") ∈ lw_all := lw_g (lw_at lw_m10 50 rfl) rfl
theorem q2304 : (Jvm.Cond.fieldLink "LineRemarks$Remark" (39 : Nat) "LineRemarks$Span" "q" "I") ∈ lw_all := lw_g (lw_at lw_m10 58 rfl) rfl
theorem q2394 : (Jvm.Cond.instanceMethod ({ cls := "LineRemarks$Remark", name := "follows", desc := "(LLineRemarks$Span;LLineRemarks$Match;)Z" } : Jvm.MethodName)) ∈ lw_all := lw_g (lw_at lw_m10 148 rfl) rfl
theorem q2395 : (Jvm.Cond.selects "LineRemarks$Remark" ({ cls := "LineRemarks$Remark", name := "follows", desc := "(LLineRemarks$Span;LLineRemarks$Match;)Z" } : Jvm.MethodName) ({ cls := "LineRemarks$Remark", name := "follows", desc := "(LLineRemarks$Span;LLineRemarks$Match;)Z" } : Jvm.MethodName)) ∈ lw_all := lw_g (lw_at lw_m10 149 rfl) rfl
theorem q2396 : (Jvm.Cond.sameMethod "LineRemarks$Remark" "LineRemarks$Remark" "follows" "(LLineRemarks$Span;LLineRemarks$Match;)Z") ∈ lw_all := lw_g (lw_at lw_m10 150 rfl) rfl
theorem q2406 : (Jvm.Cond.code ({ cls := "LineRemarks$Remark", name := "follows", desc := "(LLineRemarks$Span;LLineRemarks$Match;)Z" } : Jvm.MethodName) prog_16_method_3_code (6 : Nat) (Option.some Jvm.ClassFile.FieldType.boolean)) ∈ lw_all := lw_g (lw_at lw_m10 160 rfl) rfl
theorem q2407 : (Jvm.Cond.methodLink "LineRemarks$Remark" (44 : Nat) ({ cls := "java/lang/Math", name := "min", desc := "(II)I" } : Jvm.MethodName)) ∈ lw_all := lw_g (lw_at lw_m10 161 rfl) rfl
theorem q2408 : (Jvm.Cond.methodLink "LineRemarks$Remark" (50 : Nat) ({ cls := "java/lang/Math", name := "max", desc := "(II)I" } : Jvm.MethodName)) ∈ lw_all := lw_g (lw_at lw_m10 162 rfl) rfl
theorem q2409 : (Jvm.Cond.methodLink "LineRemarks$Remark" (53 : Nat) ({ cls := "LineRemarks$Span", name := "is", desc := "(II)V" } : Jvm.MethodName)) ∈ lw_all := lw_g (lw_at lw_m10 163 rfl) rfl
theorem q3028 : (Jvm.Cond.selects "LineRemarks$Remark" ({ cls := "java/lang/Object", name := "equals", desc := "(Ljava/lang/Object;)Z" } : Jvm.MethodName) ({ cls := "java/lang/Object", name := "equals", desc := "(Ljava/lang/Object;)Z" } : Jvm.MethodName)) ∈ lw_all := lw_g (lw_at lw_m13 62 rfl) rfl
theorem q3183 : (Jvm.Cond.instanceMethod ({ cls := "LineRemarks$Remark", name := "pointing", desc := "(ILLineRemarks$Trace;)I" } : Jvm.MethodName)) ∈ lw_all := lw_g (lw_at lw_m13 217 rfl) rfl
theorem q3184 : (Jvm.Cond.selects "LineRemarks$Remark" ({ cls := "LineRemarks$Remark", name := "pointing", desc := "(ILLineRemarks$Trace;)I" } : Jvm.MethodName) ({ cls := "LineRemarks$Remark", name := "pointing", desc := "(ILLineRemarks$Trace;)I" } : Jvm.MethodName)) ∈ lw_all := lw_g (lw_at lw_m13 218 rfl) rfl
theorem q3185 : (Jvm.Cond.sameMethod "LineRemarks$Remark" "LineRemarks$Remark" "pointing" "(ILLineRemarks$Trace;)I") ∈ lw_all := lw_g (lw_at lw_m13 219 rfl) rfl
theorem q3199 : (Jvm.Cond.code ({ cls := "LineRemarks$Remark", name := "pointing", desc := "(ILLineRemarks$Trace;)I" } : Jvm.MethodName) prog_16_method_4_code (3 : Nat) (Option.some Jvm.ClassFile.FieldType.int)) ∈ lw_all := lw_g (lw_at lw_m13 233 rfl) rfl
theorem q3200 : (Jvm.Cond.methodLink "LineRemarks$Remark" (57 : Nat) ({ cls := "LineRemarks$Trace", name := "runs", desc := "(I)V" } : Jvm.MethodName)) ∈ lw_all := lw_g (lw_at lw_m13 234 rfl) rfl
theorem q3214 : (Jvm.Cond.instanceMethod ({ cls := "LineRemarks$Remark", name := "weighing", desc := "(ILLineRemarks$Trace;)I" } : Jvm.MethodName)) ∈ lw_all := lw_g (lw_at lw_m14 8 rfl) rfl
theorem q3215 : (Jvm.Cond.selects "LineRemarks$Remark" ({ cls := "LineRemarks$Remark", name := "weighing", desc := "(ILLineRemarks$Trace;)I" } : Jvm.MethodName) ({ cls := "LineRemarks$Remark", name := "weighing", desc := "(ILLineRemarks$Trace;)I" } : Jvm.MethodName)) ∈ lw_all := lw_g (lw_at lw_m14 9 rfl) rfl
theorem q3216 : (Jvm.Cond.sameMethod "LineRemarks$Remark" "LineRemarks$Remark" "weighing" "(ILLineRemarks$Trace;)I") ∈ lw_all := lw_g (lw_at lw_m14 10 rfl) rfl
theorem q3222 : (Jvm.Cond.code ({ cls := "LineRemarks$Remark", name := "weighing", desc := "(ILLineRemarks$Trace;)I" } : Jvm.MethodName) prog_16_method_5_code (3 : Nat) (Option.some Jvm.ClassFile.FieldType.int)) ∈ lw_all := lw_g (lw_at lw_m14 16 rfl) rfl
theorem q3223 : (Jvm.Cond.methodLink "LineRemarks$Remark" (63 : Nat) ({ cls := "LineRemarks$Remark", name := "pointing", desc := "(ILLineRemarks$Trace;)I" } : Jvm.MethodName)) ∈ lw_all := lw_g (lw_at lw_m14 17 rfl) rfl
theorem q3232 : (Jvm.Cond.declares ({ cls := "LineRemarks$Remark", name := "weighing", desc := "(ILLineRemarks$Trace;)I" } : Jvm.MethodName)) ∈ lw_tbl := lw_at lw_m14 26 rfl
theorem q3235 : (Jvm.Cond.instanceMethod ({ cls := "LineRemarks$Remark", name := "clinging", desc := "(ILLineRemarks$Trace;)I" } : Jvm.MethodName)) ∈ lw_all := lw_g (lw_at lw_m14 29 rfl) rfl
theorem q3236 : (Jvm.Cond.selects "LineRemarks$Remark" ({ cls := "LineRemarks$Remark", name := "clinging", desc := "(ILLineRemarks$Trace;)I" } : Jvm.MethodName) ({ cls := "LineRemarks$Remark", name := "clinging", desc := "(ILLineRemarks$Trace;)I" } : Jvm.MethodName)) ∈ lw_all := lw_g (lw_at lw_m14 30 rfl) rfl
theorem q3237 : (Jvm.Cond.sameMethod "LineRemarks$Remark" "LineRemarks$Remark" "clinging" "(ILLineRemarks$Trace;)I") ∈ lw_all := lw_g (lw_at lw_m14 31 rfl) rfl
theorem q3244 : (Jvm.Cond.code ({ cls := "LineRemarks$Remark", name := "clinging", desc := "(ILLineRemarks$Trace;)I" } : Jvm.MethodName) prog_16_method_6_code (4 : Nat) (Option.some Jvm.ClassFile.FieldType.int)) ∈ lw_all := lw_g (lw_at lw_m14 38 rfl) rfl
theorem q3245 : (Jvm.Cond.methodLink "LineRemarks$Remark" (67 : Nat) ({ cls := "LineRemarks$Remark", name := "weighing", desc := "(ILLineRemarks$Trace;)I" } : Jvm.MethodName)) ∈ lw_all := lw_g (lw_at lw_m14 39 rfl) rfl
theorem q3254 : (Jvm.Cond.declares ({ cls := "LineRemarks$Remark", name := "clinging", desc := "(ILLineRemarks$Trace;)I" } : Jvm.MethodName)) ∈ lw_tbl := lw_at lw_m14 48 rfl
theorem q3798 : (Jvm.Cond.castable "LineRemarks$Remark" "java/lang/Object") ∈ lw_tbl := lw_at lw_m16 112 rfl
theorem in_X16 : ∀ w ∈ wsX160, w ∈ lw_all := lw_in wsX160 [2181, 2182, 2183, 2184, 2185, 2186] (by decide +kernel) (by decide +kernel)
/-! LineRemarks$Point -/
set_option maxRecDepth 100000
def RX17 : String := "LineRemarks$Point"
def TX17 : u_T := fun k => match k with
  | 0 => ("LineRemarks$Remark", "index", "I", true)
  | 1 => ("LineRemarks$Remark", "by", "I", true)
  | 2 => ("LineRemarks$Remark", "on", "LLineRemarks$Revision;", true)
  | 3 => ("LineRemarks$Remark", "p", "I", true)
  | 4 => ("LineRemarks$Remark", "q", "I", true)
  | _ => ("LineRemarks$Remark", "answers", "I", true)
def tyX17 : Nat → FieldType := fun k => match k with
  | 0 => .int
  | 1 => .int
  | 2 => .object "LineRemarks$Revision"
  | 3 => .int
  | 4 => .int
  | _ => .int
abbrev wsX170 : List Cond := u_ws RX17 TX17 6
theorem nmX17 : ∀ a, a < 6 → ∀ b, b < 6 → a ≠ b → (TX17 a).2.1 ≠ (TX17 b).2.1 := by decide +kernel
theorem tyX17_ok : ∀ k, k < 6 → parseFieldDescriptor (TX17 k).2.2.1 = some (tyX17 k) := by decide +kernel
abbrev cX17_init : ByteArray := prog_12_method_1_code
def yX17_init : MethodName := ⟨RX17, "<init>", "(IILLineRemarks$Revision;III)V"⟩
def dkwX17_init_0 : List UInt8 := [42, 27, 28, 45, 21, 4, 21, 5, 21, 6, 183, 0, 3, 177]
abbrev dktX17_init_0 : List UInt8 := dkwX17_init_0 ++ []
theorem dksX17_init_0 : cX17_init.data.toList.drop 0 = dktX17_init_0 := by decide +kernel
theorem dX17_init_0 : decode cX17_init 0 = .ok (.aload_n 0, 1) := dk_42 (dk_at dksX17_init_0 0 rfl rfl)
theorem dX17_init_1 : decode cX17_init 1 = .ok (.iload_n 1, 1) := dk_27 (dk_at dksX17_init_0 1 rfl rfl)
theorem dX17_init_2 : decode cX17_init 2 = .ok (.iload_n 2, 1) := dk_28 (dk_at dksX17_init_0 2 rfl rfl)
theorem dX17_init_3 : decode cX17_init 3 = .ok (.aload_n 3, 1) := dk_45 (dk_at dksX17_init_0 3 rfl rfl)
theorem dX17_init_4 : decode cX17_init 4 = .ok (.iload 4, 2) := dk_21 4 (dk_at dksX17_init_0 4 rfl rfl)
theorem dX17_init_6 : decode cX17_init 6 = .ok (.iload 5, 2) := dk_21 5 (dk_at dksX17_init_0 6 rfl rfl)
theorem dX17_init_8 : decode cX17_init 8 = .ok (.iload 6, 2) := dk_21 6 (dk_at dksX17_init_0 8 rfl rfl)
theorem dX17_init_10 : decode cX17_init 10 = .ok (.invokespecial 3, 3) := dk_183 0 3 (dk_at dksX17_init_0 10 rfl rfl)
theorem dX17_init_13 : decode cX17_init 13 = .ok (.return_, 1) := dk_177 (dk_at dksX17_init_0 13 rfl rfl)
abbrev cX17_kind : ByteArray := prog_12_method_2_code
def yX17_kind : MethodName := ⟨RX17, "kind", "()I"⟩
theorem dX17_kind_0 : decode cX17_kind 0 = .ok (.iconst 1, 1) := by decide +kernel
theorem dX17_kind_1 : decode cX17_kind 1 = .ok (.ireturn, 1) := by decide +kernel
abbrev cX17_follows : ByteArray := prog_12_method_3_code
def yX17_follows : MethodName := ⟨RX17, "follows", "(LLineRemarks$Span;LLineRemarks$Match;)Z"⟩
def dkwX17_follows_0 : List UInt8 := [43, 43, 180, 0, 9, 43, 180, 0, 9, 182, 0, 15, 42, 43, 44, 183, 0, 19, 172]
abbrev dktX17_follows_0 : List UInt8 := dkwX17_follows_0 ++ []
theorem dksX17_follows_0 : cX17_follows.data.toList.drop 0 = dktX17_follows_0 := by decide +kernel
theorem dX17_follows_0 : decode cX17_follows 0 = .ok (.aload_n 1, 1) := dk_43 (dk_at dksX17_follows_0 0 rfl rfl)
theorem dX17_follows_1 : decode cX17_follows 1 = .ok (.aload_n 1, 1) := dk_43 (dk_at dksX17_follows_0 1 rfl rfl)
theorem dX17_follows_2 : decode cX17_follows 2 = .ok (.getfield 9, 3) := dk_180 0 9 (dk_at dksX17_follows_0 2 rfl rfl)
theorem dX17_follows_5 : decode cX17_follows 5 = .ok (.aload_n 1, 1) := dk_43 (dk_at dksX17_follows_0 5 rfl rfl)
theorem dX17_follows_6 : decode cX17_follows 6 = .ok (.getfield 9, 3) := dk_180 0 9 (dk_at dksX17_follows_0 6 rfl rfl)
theorem dX17_follows_9 : decode cX17_follows 9 = .ok (.invokevirtual 15, 3) := dk_182 0 15 (dk_at dksX17_follows_0 9 rfl rfl)
theorem dX17_follows_12 : decode cX17_follows 12 = .ok (.aload_n 0, 1) := dk_42 (dk_at dksX17_follows_0 12 rfl rfl)
theorem dX17_follows_13 : decode cX17_follows 13 = .ok (.aload_n 1, 1) := dk_43 (dk_at dksX17_follows_0 13 rfl rfl)
theorem dX17_follows_14 : decode cX17_follows 14 = .ok (.aload_n 2, 1) := dk_44 (dk_at dksX17_follows_0 14 rfl rfl)
theorem dX17_follows_15 : decode cX17_follows 15 = .ok (.invokespecial 19, 3) := dk_183 0 19 (dk_at dksX17_follows_0 15 rfl rfl)
theorem dX17_follows_18 : decode cX17_follows 18 = .ok (.ireturn, 1) := dk_172 (dk_at dksX17_follows_0 18 rfl rfl)
abbrev cX17_pointing : ByteArray := prog_12_method_4_code
def yX17_pointing : MethodName := ⟨RX17, "pointing", "(ILLineRemarks$Trace;)I"⟩
def dkwX17_pointing_0 : List UInt8 := [44, 16, 20, 182, 0, 23, 42, 27, 44, 183, 0, 29, 42, 180, 0, 33, 96, 172]
abbrev dktX17_pointing_0 : List UInt8 := dkwX17_pointing_0 ++ []
theorem dksX17_pointing_0 : cX17_pointing.data.toList.drop 0 = dktX17_pointing_0 := by decide +kernel
theorem dX17_pointing_0 : decode cX17_pointing 0 = .ok (.aload_n 2, 1) := dk_44 (dk_at dksX17_pointing_0 0 rfl rfl)
theorem dX17_pointing_1 : decode cX17_pointing 1 = .ok (.bipush 20, 2) := dk_16 20 (dk_at dksX17_pointing_0 1 rfl rfl)
theorem dX17_pointing_3 : decode cX17_pointing 3 = .ok (.invokevirtual 23, 3) := dk_182 0 23 (dk_at dksX17_pointing_0 3 rfl rfl)
theorem dX17_pointing_6 : decode cX17_pointing 6 = .ok (.aload_n 0, 1) := dk_42 (dk_at dksX17_pointing_0 6 rfl rfl)
theorem dX17_pointing_7 : decode cX17_pointing 7 = .ok (.iload_n 1, 1) := dk_27 (dk_at dksX17_pointing_0 7 rfl rfl)
theorem dX17_pointing_8 : decode cX17_pointing 8 = .ok (.aload_n 2, 1) := dk_44 (dk_at dksX17_pointing_0 8 rfl rfl)
theorem dX17_pointing_9 : decode cX17_pointing 9 = .ok (.invokespecial 29, 3) := dk_183 0 29 (dk_at dksX17_pointing_0 9 rfl rfl)
theorem dX17_pointing_12 : decode cX17_pointing 12 = .ok (.aload_n 0, 1) := dk_42 (dk_at dksX17_pointing_0 12 rfl rfl)
theorem dX17_pointing_13 : decode cX17_pointing 13 = .ok (.getfield 33, 3) := dk_180 0 33 (dk_at dksX17_pointing_0 13 rfl rfl)
theorem dX17_pointing_16 : decode cX17_pointing 16 = .ok (.iadd, 1) := dk_96 (dk_at dksX17_pointing_0 16 rfl rfl)
theorem dX17_pointing_17 : decode cX17_pointing 17 = .ok (.ireturn, 1) := dk_172 (dk_at dksX17_pointing_0 17 rfl rfl)
theorem q146 : (Jvm.Cond.initialized "LineRemarks$Point") ∈ lw_all := lw_g (lw_at lw_m1 60 rfl) rfl
theorem q234 : (Jvm.Cond.selects "LineRemarks$Point" ({ cls := "java/lang/Object", name := "getClass", desc := "()Ljava/lang/Class;" } : Jvm.MethodName) ({ cls := "java/lang/Object", name := "getClass", desc := "()Ljava/lang/Class;" } : Jvm.MethodName)) ∈ lw_all := lw_g (lw_at lw_m1 148 rfl) rfl
theorem q2055 : (Jvm.Cond.instantiable "LineRemarks$Point" (6 : Nat)) ∈ lw_all := lw_g (lw_at lw_m9 49 rfl) rfl
theorem q2057 : (Jvm.Cond.instanceMethod ({ cls := "LineRemarks$Point", name := "<init>", desc := "(IILLineRemarks$Revision;III)V" } : Jvm.MethodName)) ∈ lw_all := lw_g (lw_at lw_m9 51 rfl) rfl
theorem q2058 : (Jvm.Cond.code ({ cls := "LineRemarks$Point", name := "<init>", desc := "(IILLineRemarks$Revision;III)V" } : Jvm.MethodName) prog_12_method_1_code (7 : Nat) (Option.none : Option Jvm.ClassFile.FieldType)) ∈ lw_all := lw_g (lw_at lw_m9 52 rfl) rfl
theorem q2059 : (Jvm.Cond.methodLink "LineRemarks$Point" (3 : Nat) ({ cls := "LineRemarks$Remark", name := "<init>", desc := "(IILLineRemarks$Revision;III)V" } : Jvm.MethodName)) ∈ lw_all := lw_g (lw_at lw_m9 53 rfl) rfl
theorem q2072 : (Jvm.Cond.fieldLink "LineRemarks$Point" (33 : Nat) "LineRemarks$Point" "by" "I") ∈ lw_all := lw_g (lw_at lw_m9 66 rfl) rfl
theorem q2073 : (Jvm.Cond.sameField "LineRemarks$Point" "LineRemarks$Remark" "by" "I") ∈ lw_all := lw_g (lw_at lw_m9 67 rfl) rfl
theorem q2101 : (Jvm.Cond.laysFinal "LineRemarks$Point" "LineRemarks$Remark" "index" "I") ∈ lw_all := lw_g (lw_at lw_m9 95 rfl) rfl
theorem q2103 : (Jvm.Cond.laysFinal "LineRemarks$Point" "LineRemarks$Remark" "by" "I") ∈ lw_all := lw_g (lw_at lw_m9 97 rfl) rfl
theorem q2105 : (Jvm.Cond.laysFinal "LineRemarks$Point" "LineRemarks$Remark" "on" "LLineRemarks$Revision;") ∈ lw_all := lw_g (lw_at lw_m9 99 rfl) rfl
theorem q2107 : (Jvm.Cond.laysFinal "LineRemarks$Point" "LineRemarks$Remark" "p" "I") ∈ lw_all := lw_g (lw_at lw_m9 101 rfl) rfl
theorem q2109 : (Jvm.Cond.laysFinal "LineRemarks$Point" "LineRemarks$Remark" "q" "I") ∈ lw_all := lw_g (lw_at lw_m9 103 rfl) rfl
theorem q2111 : (Jvm.Cond.laysFinal "LineRemarks$Point" "LineRemarks$Remark" "answers" "I") ∈ lw_all := lw_g (lw_at lw_m9 105 rfl) rfl
theorem q2113 : (Jvm.Cond.superclass "LineRemarks$Point" "LineRemarks$Remark") ∈ lw_all := lw_g (lw_at lw_m9 107 rfl) rfl
theorem q2209 : (Jvm.Cond.selects "LineRemarks$Point" ({ cls := "LineRemarks$Remark", name := "kind", desc := "()I" } : Jvm.MethodName) ({ cls := "LineRemarks$Point", name := "kind", desc := "()I" } : Jvm.MethodName)) ∈ lw_all := lw_g (lw_at lw_m9 203 rfl) rfl
theorem q2210 : (Jvm.Cond.instanceMethod ({ cls := "LineRemarks$Point", name := "kind", desc := "()I" } : Jvm.MethodName)) ∈ lw_all := lw_g (lw_at lw_m9 204 rfl) rfl
theorem q2211 : (Jvm.Cond.code ({ cls := "LineRemarks$Point", name := "kind", desc := "()I" } : Jvm.MethodName) prog_12_method_2_code (1 : Nat) (Option.some Jvm.ClassFile.FieldType.int)) ∈ lw_all := lw_g (lw_at lw_m9 205 rfl) rfl
theorem q2294 : (Jvm.Cond.fieldLink "LineRemarks$Point" (9 : Nat) "LineRemarks$Span" "p" "I") ∈ lw_all := lw_g (lw_at lw_m10 48 rfl) rfl
theorem q2423 : (Jvm.Cond.instanceMethod ({ cls := "LineRemarks$Point", name := "follows", desc := "(LLineRemarks$Span;LLineRemarks$Match;)Z" } : Jvm.MethodName)) ∈ lw_all := lw_g (lw_at lw_m10 177 rfl) rfl
theorem q2424 : (Jvm.Cond.code ({ cls := "LineRemarks$Point", name := "follows", desc := "(LLineRemarks$Span;LLineRemarks$Match;)Z" } : Jvm.MethodName) prog_12_method_3_code (3 : Nat) (Option.some Jvm.ClassFile.FieldType.boolean)) ∈ lw_all := lw_g (lw_at lw_m10 178 rfl) rfl
theorem q2425 : (Jvm.Cond.methodLink "LineRemarks$Point" (15 : Nat) ({ cls := "LineRemarks$Span", name := "is", desc := "(II)V" } : Jvm.MethodName)) ∈ lw_all := lw_g (lw_at lw_m10 179 rfl) rfl
theorem q2426 : (Jvm.Cond.methodLink "LineRemarks$Point" (19 : Nat) ({ cls := "LineRemarks$Remark", name := "follows", desc := "(LLineRemarks$Span;LLineRemarks$Match;)Z" } : Jvm.MethodName)) ∈ lw_all := lw_g (lw_at lw_m10 180 rfl) rfl
theorem q2434 : (Jvm.Cond.selects "LineRemarks$Point" ({ cls := "LineRemarks$Remark", name := "follows", desc := "(LLineRemarks$Span;LLineRemarks$Match;)Z" } : Jvm.MethodName) ({ cls := "LineRemarks$Point", name := "follows", desc := "(LLineRemarks$Span;LLineRemarks$Match;)Z" } : Jvm.MethodName)) ∈ lw_all := lw_g (lw_at lw_m10 188 rfl) rfl
theorem q3024 : (Jvm.Cond.selects "LineRemarks$Point" ({ cls := "java/lang/Object", name := "equals", desc := "(Ljava/lang/Object;)Z" } : Jvm.MethodName) ({ cls := "java/lang/Object", name := "equals", desc := "(Ljava/lang/Object;)Z" } : Jvm.MethodName)) ∈ lw_all := lw_g (lw_at lw_m13 58 rfl) rfl
theorem q3195 : (Jvm.Cond.instanceMethod ({ cls := "LineRemarks$Point", name := "pointing", desc := "(ILLineRemarks$Trace;)I" } : Jvm.MethodName)) ∈ lw_all := lw_g (lw_at lw_m13 229 rfl) rfl
theorem q3196 : (Jvm.Cond.code ({ cls := "LineRemarks$Point", name := "pointing", desc := "(ILLineRemarks$Trace;)I" } : Jvm.MethodName) prog_12_method_4_code (3 : Nat) (Option.some Jvm.ClassFile.FieldType.int)) ∈ lw_all := lw_g (lw_at lw_m13 230 rfl) rfl
theorem q3197 : (Jvm.Cond.methodLink "LineRemarks$Point" (23 : Nat) ({ cls := "LineRemarks$Trace", name := "runs", desc := "(I)V" } : Jvm.MethodName)) ∈ lw_all := lw_g (lw_at lw_m13 231 rfl) rfl
theorem q3198 : (Jvm.Cond.methodLink "LineRemarks$Point" (29 : Nat) ({ cls := "LineRemarks$Remark", name := "pointing", desc := "(ILLineRemarks$Trace;)I" } : Jvm.MethodName)) ∈ lw_all := lw_g (lw_at lw_m13 232 rfl) rfl
theorem q3206 : (Jvm.Cond.selects "LineRemarks$Point" ({ cls := "LineRemarks$Remark", name := "pointing", desc := "(ILLineRemarks$Trace;)I" } : Jvm.MethodName) ({ cls := "LineRemarks$Point", name := "pointing", desc := "(ILLineRemarks$Trace;)I" } : Jvm.MethodName)) ∈ lw_all := lw_g (lw_at lw_m14 0 rfl) rfl
theorem q3226 : (Jvm.Cond.selects "LineRemarks$Point" ({ cls := "LineRemarks$Remark", name := "weighing", desc := "(ILLineRemarks$Trace;)I" } : Jvm.MethodName) ({ cls := "LineRemarks$Remark", name := "weighing", desc := "(ILLineRemarks$Trace;)I" } : Jvm.MethodName)) ∈ lw_all := lw_g (lw_at lw_m14 20 rfl) rfl
theorem q3246 : (Jvm.Cond.selects "LineRemarks$Point" ({ cls := "LineRemarks$Remark", name := "clinging", desc := "(ILLineRemarks$Trace;)I" } : Jvm.MethodName) ({ cls := "LineRemarks$Remark", name := "clinging", desc := "(ILLineRemarks$Trace;)I" } : Jvm.MethodName)) ∈ lw_all := lw_g (lw_at lw_m14 40 rfl) rfl
theorem q3763 : (Jvm.Cond.sameMethod "LineRemarks$Point" "LineRemarks$Point" "follows" "(LLineRemarks$Span;LLineRemarks$Match;)Z") ∈ lw_all := lw_g (lw_at lw_m16 77 rfl) rfl
theorem q3778 : (Jvm.Cond.sameMethod "LineRemarks$Point" "LineRemarks$Point" "pointing" "(ILLineRemarks$Trace;)I") ∈ lw_all := lw_g (lw_at lw_m16 92 rfl) rfl
theorem q3789 : (Jvm.Cond.castable "LineRemarks$Point" "LineRemarks$Remark") ∈ lw_tbl := lw_at lw_m16 103 rfl
theorem q3828 : (Jvm.Cond.castable "LineRemarks$Point" "java/lang/Object") ∈ lw_tbl := lw_at lw_m16 142 rfl
theorem in_X17 : ∀ w ∈ wsX170, w ∈ lw_all := lw_in wsX170 [2101, 2103, 2105, 2107, 2109, 2111] (by decide +kernel) (by decide +kernel)
/-! LineRemarks$Block -/
set_option maxRecDepth 100000
def RX18 : String := "LineRemarks$Block"
def TX18 : u_T := fun k => match k with
  | 0 => ("LineRemarks$Remark", "index", "I", true)
  | 1 => ("LineRemarks$Remark", "by", "I", true)
  | 2 => ("LineRemarks$Remark", "on", "LLineRemarks$Revision;", true)
  | 3 => ("LineRemarks$Remark", "p", "I", true)
  | 4 => ("LineRemarks$Remark", "q", "I", true)
  | _ => ("LineRemarks$Remark", "answers", "I", true)
def tyX18 : Nat → FieldType := fun k => match k with
  | 0 => .int
  | 1 => .int
  | 2 => .object "LineRemarks$Revision"
  | 3 => .int
  | 4 => .int
  | _ => .int
abbrev wsX180 : List Cond := u_ws RX18 TX18 6
theorem nmX18 : ∀ a, a < 6 → ∀ b, b < 6 → a ≠ b → (TX18 a).2.1 ≠ (TX18 b).2.1 := by decide +kernel
theorem tyX18_ok : ∀ k, k < 6 → parseFieldDescriptor (TX18 k).2.2.1 = some (tyX18 k) := by decide +kernel
abbrev cX18_init : ByteArray := prog_2_method_1_code
def yX18_init : MethodName := ⟨RX18, "<init>", "(IILLineRemarks$Revision;III)V"⟩
def dkwX18_init_0 : List UInt8 := [42, 27, 28, 45, 21, 4, 21, 5, 21, 6, 183, 0, 3, 177]
abbrev dktX18_init_0 : List UInt8 := dkwX18_init_0 ++ []
theorem dksX18_init_0 : cX18_init.data.toList.drop 0 = dktX18_init_0 := by decide +kernel
theorem dX18_init_0 : decode cX18_init 0 = .ok (.aload_n 0, 1) := dk_42 (dk_at dksX18_init_0 0 rfl rfl)
theorem dX18_init_1 : decode cX18_init 1 = .ok (.iload_n 1, 1) := dk_27 (dk_at dksX18_init_0 1 rfl rfl)
theorem dX18_init_2 : decode cX18_init 2 = .ok (.iload_n 2, 1) := dk_28 (dk_at dksX18_init_0 2 rfl rfl)
theorem dX18_init_3 : decode cX18_init 3 = .ok (.aload_n 3, 1) := dk_45 (dk_at dksX18_init_0 3 rfl rfl)
theorem dX18_init_4 : decode cX18_init 4 = .ok (.iload 4, 2) := dk_21 4 (dk_at dksX18_init_0 4 rfl rfl)
theorem dX18_init_6 : decode cX18_init 6 = .ok (.iload 5, 2) := dk_21 5 (dk_at dksX18_init_0 6 rfl rfl)
theorem dX18_init_8 : decode cX18_init 8 = .ok (.iload 6, 2) := dk_21 6 (dk_at dksX18_init_0 8 rfl rfl)
theorem dX18_init_10 : decode cX18_init 10 = .ok (.invokespecial 3, 3) := dk_183 0 3 (dk_at dksX18_init_0 10 rfl rfl)
theorem dX18_init_13 : decode cX18_init 13 = .ok (.return_, 1) := dk_177 (dk_at dksX18_init_0 13 rfl rfl)
abbrev cX18_kind : ByteArray := prog_2_method_2_code
def yX18_kind : MethodName := ⟨RX18, "kind", "()I"⟩
theorem dX18_kind_0 : decode cX18_kind 0 = .ok (.iconst 2, 1) := by decide +kernel
theorem dX18_kind_1 : decode cX18_kind 1 = .ok (.ireturn, 1) := by decide +kernel
abbrev cX18_follows : ByteArray := prog_2_method_4_code
def yX18_follows : MethodName := ⟨RX18, "follows", "(LLineRemarks$Span;LLineRemarks$Match;)Z"⟩
def dkwX18_follows_2 : List UInt8 := [29, 42, 182, 0, 32, 96, 163, 0, 7, 4, 167, 0, 4, 3, 172]
abbrev dktX18_follows_2 : List UInt8 := dkwX18_follows_2 ++ []
def dkwX18_follows_1 : List UInt8 := [167, 0, 4, 3, 54, 4, 21, 4, 153, 0, 29, 42, 43, 44, 183, 0, 28, 153, 0, 20, 43, 182, 0, 9]
abbrev dktX18_follows_1 : List UInt8 := dkwX18_follows_1 ++ dktX18_follows_2
def dkwX18_follows_0 : List UInt8 := [43, 182, 0, 9, 62, 44, 43, 180, 0, 15, 43, 180, 0, 19, 182, 0, 22, 29, 160, 0, 7, 4]
abbrev dktX18_follows_0 : List UInt8 := dkwX18_follows_0 ++ dktX18_follows_1
theorem dksX18_follows_0 : cX18_follows.data.toList.drop 0 = dktX18_follows_0 := by decide +kernel
theorem dksX18_follows_1 : cX18_follows.data.toList.drop 22 = dktX18_follows_1 := dk_seg dksX18_follows_0 22 rfl rfl
theorem dksX18_follows_2 : cX18_follows.data.toList.drop 46 = dktX18_follows_2 := dk_seg dksX18_follows_1 24 rfl rfl
theorem dX18_follows_0 : decode cX18_follows 0 = .ok (.aload_n 1, 1) := dk_43 (dk_at dksX18_follows_0 0 rfl rfl)
theorem dX18_follows_1 : decode cX18_follows 1 = .ok (.invokevirtual 9, 3) := dk_182 0 9 (dk_at dksX18_follows_0 1 rfl rfl)
theorem dX18_follows_4 : decode cX18_follows 4 = .ok (.istore_n 3, 1) := dk_62 (dk_at dksX18_follows_0 4 rfl rfl)
theorem dX18_follows_5 : decode cX18_follows 5 = .ok (.aload_n 2, 1) := dk_44 (dk_at dksX18_follows_0 5 rfl rfl)
theorem dX18_follows_6 : decode cX18_follows 6 = .ok (.aload_n 1, 1) := dk_43 (dk_at dksX18_follows_0 6 rfl rfl)
theorem dX18_follows_7 : decode cX18_follows 7 = .ok (.getfield 15, 3) := dk_180 0 15 (dk_at dksX18_follows_0 7 rfl rfl)
theorem dX18_follows_10 : decode cX18_follows 10 = .ok (.aload_n 1, 1) := dk_43 (dk_at dksX18_follows_0 10 rfl rfl)
theorem dX18_follows_11 : decode cX18_follows 11 = .ok (.getfield 19, 3) := dk_180 0 19 (dk_at dksX18_follows_0 11 rfl rfl)
theorem dX18_follows_14 : decode cX18_follows 14 = .ok (.invokevirtual 22, 3) := dk_182 0 22 (dk_at dksX18_follows_0 14 rfl rfl)
theorem dX18_follows_17 : decode cX18_follows 17 = .ok (.iload_n 3, 1) := dk_29 (dk_at dksX18_follows_0 17 rfl rfl)
theorem dX18_follows_18 : decode cX18_follows 18 = .ok (.if_icmp .ne 7, 3) := dk_160 0 7 (dk_at dksX18_follows_0 18 rfl rfl)
theorem dX18_follows_21 : decode cX18_follows 21 = .ok (.iconst 1, 1) := dk_4 (dk_at dksX18_follows_0 21 rfl rfl)
theorem dX18_follows_22 : decode cX18_follows 22 = .ok (.goto 4, 3) := dk_167 0 4 (dk_at dksX18_follows_1 0 rfl rfl)
theorem dX18_follows_25 : decode cX18_follows 25 = .ok (.iconst 0, 1) := dk_3 (dk_at dksX18_follows_1 3 rfl rfl)
theorem dX18_follows_26 : decode cX18_follows 26 = .ok (.istore 4, 2) := dk_54 4 (dk_at dksX18_follows_1 4 rfl rfl)
theorem dX18_follows_28 : decode cX18_follows 28 = .ok (.iload 4, 2) := dk_21 4 (dk_at dksX18_follows_1 6 rfl rfl)
theorem dX18_follows_30 : decode cX18_follows 30 = .ok (.ifCond .eq 29, 3) := dk_153 0 29 (dk_at dksX18_follows_1 8 rfl rfl)
theorem dX18_follows_33 : decode cX18_follows 33 = .ok (.aload_n 0, 1) := dk_42 (dk_at dksX18_follows_1 11 rfl rfl)
theorem dX18_follows_34 : decode cX18_follows 34 = .ok (.aload_n 1, 1) := dk_43 (dk_at dksX18_follows_1 12 rfl rfl)
theorem dX18_follows_35 : decode cX18_follows 35 = .ok (.aload_n 2, 1) := dk_44 (dk_at dksX18_follows_1 13 rfl rfl)
theorem dX18_follows_36 : decode cX18_follows 36 = .ok (.invokespecial 28, 3) := dk_183 0 28 (dk_at dksX18_follows_1 14 rfl rfl)
theorem dX18_follows_39 : decode cX18_follows 39 = .ok (.ifCond .eq 20, 3) := dk_153 0 20 (dk_at dksX18_follows_1 17 rfl rfl)
theorem dX18_follows_42 : decode cX18_follows 42 = .ok (.aload_n 1, 1) := dk_43 (dk_at dksX18_follows_1 20 rfl rfl)
theorem dX18_follows_43 : decode cX18_follows 43 = .ok (.invokevirtual 9, 3) := dk_182 0 9 (dk_at dksX18_follows_1 21 rfl rfl)
theorem dX18_follows_46 : decode cX18_follows 46 = .ok (.iload_n 3, 1) := dk_29 (dk_at dksX18_follows_2 0 rfl rfl)
theorem dX18_follows_47 : decode cX18_follows 47 = .ok (.aload_n 0, 1) := dk_42 (dk_at dksX18_follows_2 1 rfl rfl)
theorem dX18_follows_48 : decode cX18_follows 48 = .ok (.invokevirtual 32, 3) := dk_182 0 32 (dk_at dksX18_follows_2 2 rfl rfl)
theorem dX18_follows_51 : decode cX18_follows 51 = .ok (.iadd, 1) := dk_96 (dk_at dksX18_follows_2 5 rfl rfl)
theorem dX18_follows_52 : decode cX18_follows 52 = .ok (.if_icmp .gt 7, 3) := dk_163 0 7 (dk_at dksX18_follows_2 6 rfl rfl)
theorem dX18_follows_55 : decode cX18_follows 55 = .ok (.iconst 1, 1) := dk_4 (dk_at dksX18_follows_2 9 rfl rfl)
theorem dX18_follows_56 : decode cX18_follows 56 = .ok (.goto 4, 3) := dk_167 0 4 (dk_at dksX18_follows_2 10 rfl rfl)
theorem dX18_follows_59 : decode cX18_follows 59 = .ok (.iconst 0, 1) := dk_3 (dk_at dksX18_follows_2 13 rfl rfl)
theorem dX18_follows_60 : decode cX18_follows 60 = .ok (.ireturn, 1) := dk_172 (dk_at dksX18_follows_2 14 rfl rfl)
abbrev cX18_slack : ByteArray := prog_2_method_3_code
def yX18_slack : MethodName := ⟨RX18, "slack", "()I"⟩
theorem dX18_slack_0 : decode cX18_slack 0 = .ok (.iconst 0, 1) := by decide +kernel
theorem dX18_slack_1 : decode cX18_slack 1 = .ok (.ireturn, 1) := by decide +kernel
abbrev cX18_weighing : ByteArray := prog_2_method_5_code
def yX18_weighing : MethodName := ⟨RX18, "weighing", "(ILLineRemarks$Trace;)I"⟩
def dkwX18_weighing_0 : List UInt8 := [44, 16, 30, 182, 0, 37, 42, 27, 44, 183, 0, 43, 6, 104, 172]
abbrev dktX18_weighing_0 : List UInt8 := dkwX18_weighing_0 ++ []
theorem dksX18_weighing_0 : cX18_weighing.data.toList.drop 0 = dktX18_weighing_0 := by decide +kernel
theorem dX18_weighing_0 : decode cX18_weighing 0 = .ok (.aload_n 2, 1) := dk_44 (dk_at dksX18_weighing_0 0 rfl rfl)
theorem dX18_weighing_1 : decode cX18_weighing 1 = .ok (.bipush 30, 2) := dk_16 30 (dk_at dksX18_weighing_0 1 rfl rfl)
theorem dX18_weighing_3 : decode cX18_weighing 3 = .ok (.invokevirtual 37, 3) := dk_182 0 37 (dk_at dksX18_weighing_0 3 rfl rfl)
theorem dX18_weighing_6 : decode cX18_weighing 6 = .ok (.aload_n 0, 1) := dk_42 (dk_at dksX18_weighing_0 6 rfl rfl)
theorem dX18_weighing_7 : decode cX18_weighing 7 = .ok (.iload_n 1, 1) := dk_27 (dk_at dksX18_weighing_0 7 rfl rfl)
theorem dX18_weighing_8 : decode cX18_weighing 8 = .ok (.aload_n 2, 1) := dk_44 (dk_at dksX18_weighing_0 8 rfl rfl)
theorem dX18_weighing_9 : decode cX18_weighing 9 = .ok (.invokespecial 43, 3) := dk_183 0 43 (dk_at dksX18_weighing_0 9 rfl rfl)
theorem dX18_weighing_12 : decode cX18_weighing 12 = .ok (.iconst 3, 1) := dk_6 (dk_at dksX18_weighing_0 12 rfl rfl)
theorem dX18_weighing_13 : decode cX18_weighing 13 = .ok (.imul, 1) := dk_104 (dk_at dksX18_weighing_0 13 rfl rfl)
theorem dX18_weighing_14 : decode cX18_weighing 14 = .ok (.ireturn, 1) := dk_172 (dk_at dksX18_weighing_0 14 rfl rfl)
theorem q147 : (Jvm.Cond.initialized "LineRemarks$Block") ∈ lw_all := lw_g (lw_at lw_m1 61 rfl) rfl
theorem q224 : (Jvm.Cond.selects "LineRemarks$Block" ({ cls := "java/lang/Object", name := "getClass", desc := "()Ljava/lang/Class;" } : Jvm.MethodName) ({ cls := "java/lang/Object", name := "getClass", desc := "()Ljava/lang/Class;" } : Jvm.MethodName)) ∈ lw_all := lw_g (lw_at lw_m1 138 rfl) rfl
theorem q2088 : (Jvm.Cond.sameField "LineRemarks$Block" "LineRemarks$Remark" "p" "I") ∈ lw_all := lw_g (lw_at lw_m9 82 rfl) rfl
theorem q2094 : (Jvm.Cond.sameField "LineRemarks$Block" "LineRemarks$Remark" "q" "I") ∈ lw_all := lw_g (lw_at lw_m9 88 rfl) rfl
theorem q2115 : (Jvm.Cond.instantiable "LineRemarks$Block" (6 : Nat)) ∈ lw_all := lw_g (lw_at lw_m9 109 rfl) rfl
theorem q2117 : (Jvm.Cond.instanceMethod ({ cls := "LineRemarks$Block", name := "<init>", desc := "(IILLineRemarks$Revision;III)V" } : Jvm.MethodName)) ∈ lw_all := lw_g (lw_at lw_m9 111 rfl) rfl
theorem q2118 : (Jvm.Cond.code ({ cls := "LineRemarks$Block", name := "<init>", desc := "(IILLineRemarks$Revision;III)V" } : Jvm.MethodName) prog_2_method_1_code (7 : Nat) (Option.none : Option Jvm.ClassFile.FieldType)) ∈ lw_all := lw_g (lw_at lw_m9 112 rfl) rfl
theorem q2119 : (Jvm.Cond.methodLink "LineRemarks$Block" (3 : Nat) ({ cls := "LineRemarks$Remark", name := "<init>", desc := "(IILLineRemarks$Revision;III)V" } : Jvm.MethodName)) ∈ lw_all := lw_g (lw_at lw_m9 113 rfl) rfl
theorem q2120 : (Jvm.Cond.laysFinal "LineRemarks$Block" "LineRemarks$Remark" "index" "I") ∈ lw_all := lw_g (lw_at lw_m9 114 rfl) rfl
theorem q2121 : (Jvm.Cond.laysFinal "LineRemarks$Block" "LineRemarks$Remark" "by" "I") ∈ lw_all := lw_g (lw_at lw_m9 115 rfl) rfl
theorem q2122 : (Jvm.Cond.laysFinal "LineRemarks$Block" "LineRemarks$Remark" "on" "LLineRemarks$Revision;") ∈ lw_all := lw_g (lw_at lw_m9 116 rfl) rfl
theorem q2123 : (Jvm.Cond.laysFinal "LineRemarks$Block" "LineRemarks$Remark" "p" "I") ∈ lw_all := lw_g (lw_at lw_m9 117 rfl) rfl
theorem q2124 : (Jvm.Cond.laysFinal "LineRemarks$Block" "LineRemarks$Remark" "q" "I") ∈ lw_all := lw_g (lw_at lw_m9 118 rfl) rfl
theorem q2125 : (Jvm.Cond.laysFinal "LineRemarks$Block" "LineRemarks$Remark" "answers" "I") ∈ lw_all := lw_g (lw_at lw_m9 119 rfl) rfl
theorem q2126 : (Jvm.Cond.superclass "LineRemarks$Block" "LineRemarks$Remark") ∈ lw_all := lw_g (lw_at lw_m9 120 rfl) rfl
theorem q2200 : (Jvm.Cond.selects "LineRemarks$Block" ({ cls := "LineRemarks$Remark", name := "kind", desc := "()I" } : Jvm.MethodName) ({ cls := "LineRemarks$Block", name := "kind", desc := "()I" } : Jvm.MethodName)) ∈ lw_all := lw_g (lw_at lw_m9 194 rfl) rfl
theorem q2201 : (Jvm.Cond.instanceMethod ({ cls := "LineRemarks$Block", name := "kind", desc := "()I" } : Jvm.MethodName)) ∈ lw_all := lw_g (lw_at lw_m9 195 rfl) rfl
theorem q2202 : (Jvm.Cond.code ({ cls := "LineRemarks$Block", name := "kind", desc := "()I" } : Jvm.MethodName) prog_2_method_2_code (1 : Nat) (Option.some Jvm.ClassFile.FieldType.int)) ∈ lw_all := lw_g (lw_at lw_m9 196 rfl) rfl
theorem q2299 : (Jvm.Cond.fieldLink "LineRemarks$Block" (15 : Nat) "LineRemarks$Span" "p" "I") ∈ lw_all := lw_g (lw_at lw_m10 53 rfl) rfl
theorem q2305 : (Jvm.Cond.fieldLink "LineRemarks$Block" (19 : Nat) "LineRemarks$Span" "q" "I") ∈ lw_all := lw_g (lw_at lw_m10 59 rfl) rfl
theorem q2397 : (Jvm.Cond.selects "LineRemarks$Block" ({ cls := "LineRemarks$Remark", name := "follows", desc := "(LLineRemarks$Span;LLineRemarks$Match;)Z" } : Jvm.MethodName) ({ cls := "LineRemarks$Block", name := "follows", desc := "(LLineRemarks$Span;LLineRemarks$Match;)Z" } : Jvm.MethodName)) ∈ lw_all := lw_g (lw_at lw_m10 151 rfl) rfl
theorem q2398 : (Jvm.Cond.instanceMethod ({ cls := "LineRemarks$Block", name := "follows", desc := "(LLineRemarks$Span;LLineRemarks$Match;)Z" } : Jvm.MethodName)) ∈ lw_all := lw_g (lw_at lw_m10 152 rfl) rfl
theorem q2399 : (Jvm.Cond.code ({ cls := "LineRemarks$Block", name := "follows", desc := "(LLineRemarks$Span;LLineRemarks$Match;)Z" } : Jvm.MethodName) prog_2_method_4_code (5 : Nat) (Option.some Jvm.ClassFile.FieldType.boolean)) ∈ lw_all := lw_g (lw_at lw_m10 153 rfl) rfl
theorem q2400 : (Jvm.Cond.methodLink "LineRemarks$Block" (9 : Nat) ({ cls := "LineRemarks$Span", name := "length", desc := "()I" } : Jvm.MethodName)) ∈ lw_all := lw_g (lw_at lw_m10 154 rfl) rfl
theorem q2401 : (Jvm.Cond.methodLink "LineRemarks$Block" (22 : Nat) ({ cls := "LineRemarks$Match", name := "placed", desc := "(II)I" } : Jvm.MethodName)) ∈ lw_all := lw_g (lw_at lw_m10 155 rfl) rfl
theorem q2405 : (Jvm.Cond.methodLink "LineRemarks$Block" (28 : Nat) ({ cls := "LineRemarks$Remark", name := "follows", desc := "(LLineRemarks$Span;LLineRemarks$Match;)Z" } : Jvm.MethodName)) ∈ lw_all := lw_g (lw_at lw_m10 159 rfl) rfl
theorem q2410 : (Jvm.Cond.methodLink "LineRemarks$Block" (32 : Nat) ({ cls := "LineRemarks$Block", name := "slack", desc := "()I" } : Jvm.MethodName)) ∈ lw_all := lw_g (lw_at lw_m10 164 rfl) rfl
theorem q2411 : (Jvm.Cond.instanceMethod ({ cls := "LineRemarks$Block", name := "slack", desc := "()I" } : Jvm.MethodName)) ∈ lw_all := lw_g (lw_at lw_m10 165 rfl) rfl
theorem q2412 : (Jvm.Cond.selects "LineRemarks$Block" ({ cls := "LineRemarks$Block", name := "slack", desc := "()I" } : Jvm.MethodName) ({ cls := "LineRemarks$Block", name := "slack", desc := "()I" } : Jvm.MethodName)) ∈ lw_all := lw_g (lw_at lw_m10 166 rfl) rfl
theorem q2413 : (Jvm.Cond.sameMethod "LineRemarks$Block" "LineRemarks$Block" "slack" "()I") ∈ lw_all := lw_g (lw_at lw_m10 167 rfl) rfl
theorem q2418 : (Jvm.Cond.code ({ cls := "LineRemarks$Block", name := "slack", desc := "()I" } : Jvm.MethodName) prog_2_method_3_code (1 : Nat) (Option.some Jvm.ClassFile.FieldType.int)) ∈ lw_all := lw_g (lw_at lw_m10 172 rfl) rfl
theorem q3014 : (Jvm.Cond.selects "LineRemarks$Block" ({ cls := "java/lang/Object", name := "equals", desc := "(Ljava/lang/Object;)Z" } : Jvm.MethodName) ({ cls := "java/lang/Object", name := "equals", desc := "(Ljava/lang/Object;)Z" } : Jvm.MethodName)) ∈ lw_all := lw_g (lw_at lw_m13 48 rfl) rfl
theorem q3186 : (Jvm.Cond.selects "LineRemarks$Block" ({ cls := "LineRemarks$Remark", name := "pointing", desc := "(ILLineRemarks$Trace;)I" } : Jvm.MethodName) ({ cls := "LineRemarks$Remark", name := "pointing", desc := "(ILLineRemarks$Trace;)I" } : Jvm.MethodName)) ∈ lw_all := lw_g (lw_at lw_m13 220 rfl) rfl
theorem q3217 : (Jvm.Cond.selects "LineRemarks$Block" ({ cls := "LineRemarks$Remark", name := "weighing", desc := "(ILLineRemarks$Trace;)I" } : Jvm.MethodName) ({ cls := "LineRemarks$Block", name := "weighing", desc := "(ILLineRemarks$Trace;)I" } : Jvm.MethodName)) ∈ lw_all := lw_g (lw_at lw_m14 11 rfl) rfl
theorem q3218 : (Jvm.Cond.instanceMethod ({ cls := "LineRemarks$Block", name := "weighing", desc := "(ILLineRemarks$Trace;)I" } : Jvm.MethodName)) ∈ lw_all := lw_g (lw_at lw_m14 12 rfl) rfl
theorem q3219 : (Jvm.Cond.code ({ cls := "LineRemarks$Block", name := "weighing", desc := "(ILLineRemarks$Trace;)I" } : Jvm.MethodName) prog_2_method_5_code (3 : Nat) (Option.some Jvm.ClassFile.FieldType.int)) ∈ lw_all := lw_g (lw_at lw_m14 13 rfl) rfl
theorem q3220 : (Jvm.Cond.methodLink "LineRemarks$Block" (37 : Nat) ({ cls := "LineRemarks$Trace", name := "runs", desc := "(I)V" } : Jvm.MethodName)) ∈ lw_all := lw_g (lw_at lw_m14 14 rfl) rfl
theorem q3221 : (Jvm.Cond.methodLink "LineRemarks$Block" (43 : Nat) ({ cls := "LineRemarks$Remark", name := "weighing", desc := "(ILLineRemarks$Trace;)I" } : Jvm.MethodName)) ∈ lw_all := lw_g (lw_at lw_m14 15 rfl) rfl
theorem q3238 : (Jvm.Cond.selects "LineRemarks$Block" ({ cls := "LineRemarks$Remark", name := "clinging", desc := "(ILLineRemarks$Trace;)I" } : Jvm.MethodName) ({ cls := "LineRemarks$Remark", name := "clinging", desc := "(ILLineRemarks$Trace;)I" } : Jvm.MethodName)) ∈ lw_all := lw_g (lw_at lw_m14 32 rfl) rfl
theorem q3253 : (Jvm.Cond.sameMethod "LineRemarks$Block" "LineRemarks$Remark" "clinging" "(ILLineRemarks$Trace;)I") ∈ lw_all := lw_g (lw_at lw_m14 47 rfl) rfl
theorem q3786 : (Jvm.Cond.castable "LineRemarks$Block" "LineRemarks$Remark") ∈ lw_tbl := lw_at lw_m16 100 rfl
theorem q3829 : (Jvm.Cond.castable "LineRemarks$Block" "java/lang/Object") ∈ lw_tbl := lw_at lw_m16 143 rfl
theorem in_X18 : ∀ w ∈ wsX180, w ∈ lw_all := lw_in wsX180 [2120, 2121, 2122, 2123, 2124, 2125] (by decide +kernel) (by decide +kernel)
/-! LineRemarks$Caret -/
set_option maxRecDepth 100000
def RX19 : String := "LineRemarks$Caret"
def TX19 : u_T := fun k => match k with
  | 0 => ("LineRemarks$Remark", "index", "I", true)
  | 1 => ("LineRemarks$Remark", "by", "I", true)
  | 2 => ("LineRemarks$Remark", "on", "LLineRemarks$Revision;", true)
  | 3 => ("LineRemarks$Remark", "p", "I", true)
  | 4 => ("LineRemarks$Remark", "q", "I", true)
  | _ => ("LineRemarks$Remark", "answers", "I", true)
def tyX19 : Nat → FieldType := fun k => match k with
  | 0 => .int
  | 1 => .int
  | 2 => .object "LineRemarks$Revision"
  | 3 => .int
  | 4 => .int
  | _ => .int
abbrev wsX190 : List Cond := u_ws RX19 TX19 6
theorem nmX19 : ∀ a, a < 6 → ∀ b, b < 6 → a ≠ b → (TX19 a).2.1 ≠ (TX19 b).2.1 := by decide +kernel
theorem tyX19_ok : ∀ k, k < 6 → parseFieldDescriptor (TX19 k).2.2.1 = some (tyX19 k) := by decide +kernel
abbrev cX19_init : ByteArray := prog_4_method_1_code
def yX19_init : MethodName := ⟨RX19, "<init>", "(IILLineRemarks$Revision;III)V"⟩
def dkwX19_init_0 : List UInt8 := [42, 27, 28, 45, 21, 4, 21, 5, 21, 6, 183, 0, 3, 177]
abbrev dktX19_init_0 : List UInt8 := dkwX19_init_0 ++ []
theorem dksX19_init_0 : cX19_init.data.toList.drop 0 = dktX19_init_0 := by decide +kernel
theorem dX19_init_0 : decode cX19_init 0 = .ok (.aload_n 0, 1) := dk_42 (dk_at dksX19_init_0 0 rfl rfl)
theorem dX19_init_1 : decode cX19_init 1 = .ok (.iload_n 1, 1) := dk_27 (dk_at dksX19_init_0 1 rfl rfl)
theorem dX19_init_2 : decode cX19_init 2 = .ok (.iload_n 2, 1) := dk_28 (dk_at dksX19_init_0 2 rfl rfl)
theorem dX19_init_3 : decode cX19_init 3 = .ok (.aload_n 3, 1) := dk_45 (dk_at dksX19_init_0 3 rfl rfl)
theorem dX19_init_4 : decode cX19_init 4 = .ok (.iload 4, 2) := dk_21 4 (dk_at dksX19_init_0 4 rfl rfl)
theorem dX19_init_6 : decode cX19_init 6 = .ok (.iload 5, 2) := dk_21 5 (dk_at dksX19_init_0 6 rfl rfl)
theorem dX19_init_8 : decode cX19_init 8 = .ok (.iload 6, 2) := dk_21 6 (dk_at dksX19_init_0 8 rfl rfl)
theorem dX19_init_10 : decode cX19_init 10 = .ok (.invokespecial 3, 3) := dk_183 0 3 (dk_at dksX19_init_0 10 rfl rfl)
theorem dX19_init_13 : decode cX19_init 13 = .ok (.return_, 1) := dk_177 (dk_at dksX19_init_0 13 rfl rfl)
abbrev cX19_kind : ByteArray := prog_4_method_2_code
def yX19_kind : MethodName := ⟨RX19, "kind", "()I"⟩
theorem dX19_kind_0 : decode cX19_kind 0 = .ok (.iconst 3, 1) := by decide +kernel
theorem dX19_kind_1 : decode cX19_kind 1 = .ok (.ireturn, 1) := by decide +kernel
abbrev cX19_follows : ByteArray := prog_4_method_3_code
def yX19_follows : MethodName := ⟨RX19, "follows", "(LLineRemarks$Span;LLineRemarks$Match;)Z"⟩
def dkwX19_follows_2 : List UInt8 := [29, 46, 44, 180, 0, 19, 29, 46, 182, 0, 25, 29, 155, 0, 7, 4, 167, 0, 4, 3, 172]
abbrev dktX19_follows_2 : List UInt8 := dkwX19_follows_2 ++ []
def dkwX19_follows_1 : List UInt8 := [180, 0, 19, 29, 46, 2, 160, 0, 9, 132, 3, 255, 167, 255, 239, 29, 155, 0, 19, 43, 44, 180, 0, 19]
abbrev dktX19_follows_1 : List UInt8 := dkwX19_follows_1 ++ dktX19_follows_2
def dkwX19_follows_0 : List UInt8 := [42, 43, 44, 183, 0, 9, 153, 0, 5, 4, 172, 43, 180, 0, 13, 4, 100, 62, 29, 155, 0, 19, 44]
abbrev dktX19_follows_0 : List UInt8 := dkwX19_follows_0 ++ dktX19_follows_1
theorem dksX19_follows_0 : cX19_follows.data.toList.drop 0 = dktX19_follows_0 := by decide +kernel
theorem dksX19_follows_1 : cX19_follows.data.toList.drop 23 = dktX19_follows_1 := dk_seg dksX19_follows_0 23 rfl rfl
theorem dksX19_follows_2 : cX19_follows.data.toList.drop 47 = dktX19_follows_2 := dk_seg dksX19_follows_1 24 rfl rfl
theorem dX19_follows_0 : decode cX19_follows 0 = .ok (.aload_n 0, 1) := dk_42 (dk_at dksX19_follows_0 0 rfl rfl)
theorem dX19_follows_1 : decode cX19_follows 1 = .ok (.aload_n 1, 1) := dk_43 (dk_at dksX19_follows_0 1 rfl rfl)
theorem dX19_follows_2 : decode cX19_follows 2 = .ok (.aload_n 2, 1) := dk_44 (dk_at dksX19_follows_0 2 rfl rfl)
theorem dX19_follows_3 : decode cX19_follows 3 = .ok (.invokespecial 9, 3) := dk_183 0 9 (dk_at dksX19_follows_0 3 rfl rfl)
theorem dX19_follows_6 : decode cX19_follows 6 = .ok (.ifCond .eq 5, 3) := dk_153 0 5 (dk_at dksX19_follows_0 6 rfl rfl)
theorem dX19_follows_9 : decode cX19_follows 9 = .ok (.iconst 1, 1) := dk_4 (dk_at dksX19_follows_0 9 rfl rfl)
theorem dX19_follows_10 : decode cX19_follows 10 = .ok (.ireturn, 1) := dk_172 (dk_at dksX19_follows_0 10 rfl rfl)
theorem dX19_follows_11 : decode cX19_follows 11 = .ok (.aload_n 1, 1) := dk_43 (dk_at dksX19_follows_0 11 rfl rfl)
theorem dX19_follows_12 : decode cX19_follows 12 = .ok (.getfield 13, 3) := dk_180 0 13 (dk_at dksX19_follows_0 12 rfl rfl)
theorem dX19_follows_15 : decode cX19_follows 15 = .ok (.iconst 1, 1) := dk_4 (dk_at dksX19_follows_0 15 rfl rfl)
theorem dX19_follows_16 : decode cX19_follows 16 = .ok (.isub, 1) := dk_100 (dk_at dksX19_follows_0 16 rfl rfl)
theorem dX19_follows_17 : decode cX19_follows 17 = .ok (.istore_n 3, 1) := dk_62 (dk_at dksX19_follows_0 17 rfl rfl)
theorem dX19_follows_18 : decode cX19_follows 18 = .ok (.iload_n 3, 1) := dk_29 (dk_at dksX19_follows_0 18 rfl rfl)
theorem dX19_follows_19 : decode cX19_follows 19 = .ok (.ifCond .lt 19, 3) := dk_155 0 19 (dk_at dksX19_follows_0 19 rfl rfl)
theorem dX19_follows_22 : decode cX19_follows 22 = .ok (.aload_n 2, 1) := dk_44 (dk_at dksX19_follows_0 22 rfl rfl)
theorem dX19_follows_23 : decode cX19_follows 23 = .ok (.getfield 19, 3) := dk_180 0 19 (dk_at dksX19_follows_1 0 rfl rfl)
theorem dX19_follows_26 : decode cX19_follows 26 = .ok (.iload_n 3, 1) := dk_29 (dk_at dksX19_follows_1 3 rfl rfl)
theorem dX19_follows_27 : decode cX19_follows 27 = .ok (.iaload, 1) := dk_46 (dk_at dksX19_follows_1 4 rfl rfl)
theorem dX19_follows_28 : decode cX19_follows 28 = .ok (.iconst (-1), 1) := dk_2 (dk_at dksX19_follows_1 5 rfl rfl)
theorem dX19_follows_29 : decode cX19_follows 29 = .ok (.if_icmp .ne 9, 3) := dk_160 0 9 (dk_at dksX19_follows_1 6 rfl rfl)
theorem dX19_follows_32 : decode cX19_follows 32 = .ok (.iinc 3 (-1), 3) := dk_132 3 255 (dk_at dksX19_follows_1 9 rfl rfl)
theorem dX19_follows_35 : decode cX19_follows 35 = .ok (.goto (-17), 3) := dk_167 255 239 (dk_at dksX19_follows_1 12 rfl rfl)
theorem dX19_follows_38 : decode cX19_follows 38 = .ok (.iload_n 3, 1) := dk_29 (dk_at dksX19_follows_1 15 rfl rfl)
theorem dX19_follows_39 : decode cX19_follows 39 = .ok (.ifCond .lt 19, 3) := dk_155 0 19 (dk_at dksX19_follows_1 16 rfl rfl)
theorem dX19_follows_42 : decode cX19_follows 42 = .ok (.aload_n 1, 1) := dk_43 (dk_at dksX19_follows_1 19 rfl rfl)
theorem dX19_follows_43 : decode cX19_follows 43 = .ok (.aload_n 2, 1) := dk_44 (dk_at dksX19_follows_1 20 rfl rfl)
theorem dX19_follows_44 : decode cX19_follows 44 = .ok (.getfield 19, 3) := dk_180 0 19 (dk_at dksX19_follows_1 21 rfl rfl)
theorem dX19_follows_47 : decode cX19_follows 47 = .ok (.iload_n 3, 1) := dk_29 (dk_at dksX19_follows_2 0 rfl rfl)
theorem dX19_follows_48 : decode cX19_follows 48 = .ok (.iaload, 1) := dk_46 (dk_at dksX19_follows_2 1 rfl rfl)
theorem dX19_follows_49 : decode cX19_follows 49 = .ok (.aload_n 2, 1) := dk_44 (dk_at dksX19_follows_2 2 rfl rfl)
theorem dX19_follows_50 : decode cX19_follows 50 = .ok (.getfield 19, 3) := dk_180 0 19 (dk_at dksX19_follows_2 3 rfl rfl)
theorem dX19_follows_53 : decode cX19_follows 53 = .ok (.iload_n 3, 1) := dk_29 (dk_at dksX19_follows_2 6 rfl rfl)
theorem dX19_follows_54 : decode cX19_follows 54 = .ok (.iaload, 1) := dk_46 (dk_at dksX19_follows_2 7 rfl rfl)
theorem dX19_follows_55 : decode cX19_follows 55 = .ok (.invokevirtual 25, 3) := dk_182 0 25 (dk_at dksX19_follows_2 8 rfl rfl)
theorem dX19_follows_58 : decode cX19_follows 58 = .ok (.iload_n 3, 1) := dk_29 (dk_at dksX19_follows_2 11 rfl rfl)
theorem dX19_follows_59 : decode cX19_follows 59 = .ok (.ifCond .lt 7, 3) := dk_155 0 7 (dk_at dksX19_follows_2 12 rfl rfl)
theorem dX19_follows_62 : decode cX19_follows 62 = .ok (.iconst 1, 1) := dk_4 (dk_at dksX19_follows_2 15 rfl rfl)
theorem dX19_follows_63 : decode cX19_follows 63 = .ok (.goto 4, 3) := dk_167 0 4 (dk_at dksX19_follows_2 16 rfl rfl)
theorem dX19_follows_66 : decode cX19_follows 66 = .ok (.iconst 0, 1) := dk_3 (dk_at dksX19_follows_2 19 rfl rfl)
theorem dX19_follows_67 : decode cX19_follows 67 = .ok (.ireturn, 1) := dk_172 (dk_at dksX19_follows_2 20 rfl rfl)
abbrev cX19_pointing : ByteArray := prog_4_method_4_code
def yX19_pointing : MethodName := ⟨RX19, "pointing", "(ILLineRemarks$Trace;)I"⟩
def dkwX19_pointing_0 : List UInt8 := [44, 16, 40, 182, 0, 29, 42, 27, 4, 96, 44, 183, 0, 35, 172]
abbrev dktX19_pointing_0 : List UInt8 := dkwX19_pointing_0 ++ []
theorem dksX19_pointing_0 : cX19_pointing.data.toList.drop 0 = dktX19_pointing_0 := by decide +kernel
theorem dX19_pointing_0 : decode cX19_pointing 0 = .ok (.aload_n 2, 1) := dk_44 (dk_at dksX19_pointing_0 0 rfl rfl)
theorem dX19_pointing_1 : decode cX19_pointing 1 = .ok (.bipush 40, 2) := dk_16 40 (dk_at dksX19_pointing_0 1 rfl rfl)
theorem dX19_pointing_3 : decode cX19_pointing 3 = .ok (.invokevirtual 29, 3) := dk_182 0 29 (dk_at dksX19_pointing_0 3 rfl rfl)
theorem dX19_pointing_6 : decode cX19_pointing 6 = .ok (.aload_n 0, 1) := dk_42 (dk_at dksX19_pointing_0 6 rfl rfl)
theorem dX19_pointing_7 : decode cX19_pointing 7 = .ok (.iload_n 1, 1) := dk_27 (dk_at dksX19_pointing_0 7 rfl rfl)
theorem dX19_pointing_8 : decode cX19_pointing 8 = .ok (.iconst 1, 1) := dk_4 (dk_at dksX19_pointing_0 8 rfl rfl)
theorem dX19_pointing_9 : decode cX19_pointing 9 = .ok (.iadd, 1) := dk_96 (dk_at dksX19_pointing_0 9 rfl rfl)
theorem dX19_pointing_10 : decode cX19_pointing 10 = .ok (.aload_n 2, 1) := dk_44 (dk_at dksX19_pointing_0 10 rfl rfl)
theorem dX19_pointing_11 : decode cX19_pointing 11 = .ok (.invokespecial 35, 3) := dk_183 0 35 (dk_at dksX19_pointing_0 11 rfl rfl)
theorem dX19_pointing_14 : decode cX19_pointing 14 = .ok (.ireturn, 1) := dk_172 (dk_at dksX19_pointing_0 14 rfl rfl)
theorem q148 : (Jvm.Cond.initialized "LineRemarks$Caret") ∈ lw_all := lw_g (lw_at lw_m1 62 rfl) rfl
theorem q226 : (Jvm.Cond.selects "LineRemarks$Caret" ({ cls := "java/lang/Object", name := "getClass", desc := "()Ljava/lang/Class;" } : Jvm.MethodName) ({ cls := "java/lang/Object", name := "getClass", desc := "()Ljava/lang/Class;" } : Jvm.MethodName)) ∈ lw_all := lw_g (lw_at lw_m1 140 rfl) rfl
theorem q1911 : (Jvm.Cond.fieldLink "LineRemarks$Caret" (19 : Nat) "LineRemarks$Match" "place" "[I") ∈ lw_all := lw_g (lw_at lw_m8 145 rfl) rfl
theorem q2078 : (Jvm.Cond.sameField "LineRemarks$Caret" "LineRemarks$Remark" "by" "I") ∈ lw_all := lw_g (lw_at lw_m9 72 rfl) rfl
theorem q2128 : (Jvm.Cond.instantiable "LineRemarks$Caret" (6 : Nat)) ∈ lw_all := lw_g (lw_at lw_m9 122 rfl) rfl
theorem q2130 : (Jvm.Cond.instanceMethod ({ cls := "LineRemarks$Caret", name := "<init>", desc := "(IILLineRemarks$Revision;III)V" } : Jvm.MethodName)) ∈ lw_all := lw_g (lw_at lw_m9 124 rfl) rfl
theorem q2131 : (Jvm.Cond.code ({ cls := "LineRemarks$Caret", name := "<init>", desc := "(IILLineRemarks$Revision;III)V" } : Jvm.MethodName) prog_4_method_1_code (7 : Nat) (Option.none : Option Jvm.ClassFile.FieldType)) ∈ lw_all := lw_g (lw_at lw_m9 125 rfl) rfl
theorem q2132 : (Jvm.Cond.methodLink "LineRemarks$Caret" (3 : Nat) ({ cls := "LineRemarks$Point", name := "<init>", desc := "(IILLineRemarks$Revision;III)V" } : Jvm.MethodName)) ∈ lw_all := lw_g (lw_at lw_m9 126 rfl) rfl
theorem q2133 : (Jvm.Cond.laysFinal "LineRemarks$Caret" "LineRemarks$Remark" "index" "I") ∈ lw_all := lw_g (lw_at lw_m9 127 rfl) rfl
theorem q2134 : (Jvm.Cond.laysFinal "LineRemarks$Caret" "LineRemarks$Remark" "by" "I") ∈ lw_all := lw_g (lw_at lw_m9 128 rfl) rfl
theorem q2135 : (Jvm.Cond.laysFinal "LineRemarks$Caret" "LineRemarks$Remark" "on" "LLineRemarks$Revision;") ∈ lw_all := lw_g (lw_at lw_m9 129 rfl) rfl
theorem q2136 : (Jvm.Cond.laysFinal "LineRemarks$Caret" "LineRemarks$Remark" "p" "I") ∈ lw_all := lw_g (lw_at lw_m9 130 rfl) rfl
theorem q2137 : (Jvm.Cond.laysFinal "LineRemarks$Caret" "LineRemarks$Remark" "q" "I") ∈ lw_all := lw_g (lw_at lw_m9 131 rfl) rfl
theorem q2138 : (Jvm.Cond.laysFinal "LineRemarks$Caret" "LineRemarks$Remark" "answers" "I") ∈ lw_all := lw_g (lw_at lw_m9 132 rfl) rfl
theorem q2139 : (Jvm.Cond.superclass "LineRemarks$Caret" "LineRemarks$Point") ∈ lw_all := lw_g (lw_at lw_m9 133 rfl) rfl
theorem q2203 : (Jvm.Cond.selects "LineRemarks$Caret" ({ cls := "LineRemarks$Remark", name := "kind", desc := "()I" } : Jvm.MethodName) ({ cls := "LineRemarks$Caret", name := "kind", desc := "()I" } : Jvm.MethodName)) ∈ lw_all := lw_g (lw_at lw_m9 197 rfl) rfl
theorem q2204 : (Jvm.Cond.instanceMethod ({ cls := "LineRemarks$Caret", name := "kind", desc := "()I" } : Jvm.MethodName)) ∈ lw_all := lw_g (lw_at lw_m9 198 rfl) rfl
theorem q2205 : (Jvm.Cond.code ({ cls := "LineRemarks$Caret", name := "kind", desc := "()I" } : Jvm.MethodName) prog_4_method_2_code (1 : Nat) (Option.some Jvm.ClassFile.FieldType.int)) ∈ lw_all := lw_g (lw_at lw_m9 199 rfl) rfl
theorem q2297 : (Jvm.Cond.fieldLink "LineRemarks$Caret" (13 : Nat) "LineRemarks$Span" "p" "I") ∈ lw_all := lw_g (lw_at lw_m10 51 rfl) rfl
theorem q2419 : (Jvm.Cond.selects "LineRemarks$Caret" ({ cls := "LineRemarks$Remark", name := "follows", desc := "(LLineRemarks$Span;LLineRemarks$Match;)Z" } : Jvm.MethodName) ({ cls := "LineRemarks$Caret", name := "follows", desc := "(LLineRemarks$Span;LLineRemarks$Match;)Z" } : Jvm.MethodName)) ∈ lw_all := lw_g (lw_at lw_m10 173 rfl) rfl
theorem q2420 : (Jvm.Cond.instanceMethod ({ cls := "LineRemarks$Caret", name := "follows", desc := "(LLineRemarks$Span;LLineRemarks$Match;)Z" } : Jvm.MethodName)) ∈ lw_all := lw_g (lw_at lw_m10 174 rfl) rfl
theorem q2421 : (Jvm.Cond.code ({ cls := "LineRemarks$Caret", name := "follows", desc := "(LLineRemarks$Span;LLineRemarks$Match;)Z" } : Jvm.MethodName) prog_4_method_3_code (4 : Nat) (Option.some Jvm.ClassFile.FieldType.boolean)) ∈ lw_all := lw_g (lw_at lw_m10 175 rfl) rfl
theorem q2422 : (Jvm.Cond.methodLink "LineRemarks$Caret" (9 : Nat) ({ cls := "LineRemarks$Point", name := "follows", desc := "(LLineRemarks$Span;LLineRemarks$Match;)Z" } : Jvm.MethodName)) ∈ lw_all := lw_g (lw_at lw_m10 176 rfl) rfl
theorem q2427 : (Jvm.Cond.methodLink "LineRemarks$Caret" (25 : Nat) ({ cls := "LineRemarks$Span", name := "is", desc := "(II)V" } : Jvm.MethodName)) ∈ lw_all := lw_g (lw_at lw_m10 181 rfl) rfl
theorem q3016 : (Jvm.Cond.selects "LineRemarks$Caret" ({ cls := "java/lang/Object", name := "equals", desc := "(Ljava/lang/Object;)Z" } : Jvm.MethodName) ({ cls := "java/lang/Object", name := "equals", desc := "(Ljava/lang/Object;)Z" } : Jvm.MethodName)) ∈ lw_all := lw_g (lw_at lw_m13 50 rfl) rfl
theorem q3187 : (Jvm.Cond.selects "LineRemarks$Caret" ({ cls := "LineRemarks$Remark", name := "pointing", desc := "(ILLineRemarks$Trace;)I" } : Jvm.MethodName) ({ cls := "LineRemarks$Caret", name := "pointing", desc := "(ILLineRemarks$Trace;)I" } : Jvm.MethodName)) ∈ lw_all := lw_g (lw_at lw_m13 221 rfl) rfl
theorem q3188 : (Jvm.Cond.instanceMethod ({ cls := "LineRemarks$Caret", name := "pointing", desc := "(ILLineRemarks$Trace;)I" } : Jvm.MethodName)) ∈ lw_all := lw_g (lw_at lw_m13 222 rfl) rfl
theorem q3189 : (Jvm.Cond.code ({ cls := "LineRemarks$Caret", name := "pointing", desc := "(ILLineRemarks$Trace;)I" } : Jvm.MethodName) prog_4_method_4_code (3 : Nat) (Option.some Jvm.ClassFile.FieldType.int)) ∈ lw_all := lw_g (lw_at lw_m13 223 rfl) rfl
theorem q3190 : (Jvm.Cond.methodLink "LineRemarks$Caret" (29 : Nat) ({ cls := "LineRemarks$Trace", name := "runs", desc := "(I)V" } : Jvm.MethodName)) ∈ lw_all := lw_g (lw_at lw_m13 224 rfl) rfl
theorem q3194 : (Jvm.Cond.methodLink "LineRemarks$Caret" (35 : Nat) ({ cls := "LineRemarks$Point", name := "pointing", desc := "(ILLineRemarks$Trace;)I" } : Jvm.MethodName)) ∈ lw_all := lw_g (lw_at lw_m13 228 rfl) rfl
theorem q3224 : (Jvm.Cond.selects "LineRemarks$Caret" ({ cls := "LineRemarks$Remark", name := "weighing", desc := "(ILLineRemarks$Trace;)I" } : Jvm.MethodName) ({ cls := "LineRemarks$Remark", name := "weighing", desc := "(ILLineRemarks$Trace;)I" } : Jvm.MethodName)) ∈ lw_all := lw_g (lw_at lw_m14 18 rfl) rfl
theorem q3231 : (Jvm.Cond.sameMethod "LineRemarks$Caret" "LineRemarks$Remark" "weighing" "(ILLineRemarks$Trace;)I") ∈ lw_all := lw_g (lw_at lw_m14 25 rfl) rfl
theorem q3239 : (Jvm.Cond.selects "LineRemarks$Caret" ({ cls := "LineRemarks$Remark", name := "clinging", desc := "(ILLineRemarks$Trace;)I" } : Jvm.MethodName) ({ cls := "LineRemarks$Remark", name := "clinging", desc := "(ILLineRemarks$Trace;)I" } : Jvm.MethodName)) ∈ lw_all := lw_g (lw_at lw_m14 33 rfl) rfl
theorem q3764 : (Jvm.Cond.sameMethod "LineRemarks$Caret" "LineRemarks$Caret" "follows" "(LLineRemarks$Span;LLineRemarks$Match;)Z") ∈ lw_all := lw_g (lw_at lw_m16 78 rfl) rfl
theorem q3779 : (Jvm.Cond.sameMethod "LineRemarks$Caret" "LineRemarks$Caret" "pointing" "(ILLineRemarks$Trace;)I") ∈ lw_all := lw_g (lw_at lw_m16 93 rfl) rfl
theorem q3787 : (Jvm.Cond.castable "LineRemarks$Caret" "LineRemarks$Remark") ∈ lw_tbl := lw_at lw_m16 101 rfl
theorem q3792 : (Jvm.Cond.castable "LineRemarks$Caret" "LineRemarks$Point") ∈ lw_tbl := lw_at lw_m16 106 rfl
theorem q3830 : (Jvm.Cond.castable "LineRemarks$Caret" "java/lang/Object") ∈ lw_tbl := lw_at lw_m16 144 rfl
theorem in_X19 : ∀ w ∈ wsX190, w ∈ lw_all := lw_in wsX190 [2133, 2134, 2135, 2136, 2137, 2138] (by decide +kernel) (by decide +kernel)
/-! LineRemarks$Loose -/
set_option maxRecDepth 100000
def RX20 : String := "LineRemarks$Loose"
def TX20 : u_T := fun k => match k with
  | 0 => ("LineRemarks$Remark", "index", "I", true)
  | 1 => ("LineRemarks$Remark", "by", "I", true)
  | 2 => ("LineRemarks$Remark", "on", "LLineRemarks$Revision;", true)
  | 3 => ("LineRemarks$Remark", "p", "I", true)
  | 4 => ("LineRemarks$Remark", "q", "I", true)
  | _ => ("LineRemarks$Remark", "answers", "I", true)
def tyX20 : Nat → FieldType := fun k => match k with
  | 0 => .int
  | 1 => .int
  | 2 => .object "LineRemarks$Revision"
  | 3 => .int
  | 4 => .int
  | _ => .int
abbrev wsX200 : List Cond := u_ws RX20 TX20 6
theorem nmX20 : ∀ a, a < 6 → ∀ b, b < 6 → a ≠ b → (TX20 a).2.1 ≠ (TX20 b).2.1 := by decide +kernel
theorem tyX20_ok : ∀ k, k < 6 → parseFieldDescriptor (TX20 k).2.2.1 = some (tyX20 k) := by decide +kernel
abbrev cX20_init : ByteArray := prog_10_method_1_code
def yX20_init : MethodName := ⟨RX20, "<init>", "(IILLineRemarks$Revision;III)V"⟩
def dkwX20_init_0 : List UInt8 := [42, 27, 28, 45, 21, 4, 21, 5, 21, 6, 183, 0, 3, 177]
abbrev dktX20_init_0 : List UInt8 := dkwX20_init_0 ++ []
theorem dksX20_init_0 : cX20_init.data.toList.drop 0 = dktX20_init_0 := by decide +kernel
theorem dX20_init_0 : decode cX20_init 0 = .ok (.aload_n 0, 1) := dk_42 (dk_at dksX20_init_0 0 rfl rfl)
theorem dX20_init_1 : decode cX20_init 1 = .ok (.iload_n 1, 1) := dk_27 (dk_at dksX20_init_0 1 rfl rfl)
theorem dX20_init_2 : decode cX20_init 2 = .ok (.iload_n 2, 1) := dk_28 (dk_at dksX20_init_0 2 rfl rfl)
theorem dX20_init_3 : decode cX20_init 3 = .ok (.aload_n 3, 1) := dk_45 (dk_at dksX20_init_0 3 rfl rfl)
theorem dX20_init_4 : decode cX20_init 4 = .ok (.iload 4, 2) := dk_21 4 (dk_at dksX20_init_0 4 rfl rfl)
theorem dX20_init_6 : decode cX20_init 6 = .ok (.iload 5, 2) := dk_21 5 (dk_at dksX20_init_0 6 rfl rfl)
theorem dX20_init_8 : decode cX20_init 8 = .ok (.iload 6, 2) := dk_21 6 (dk_at dksX20_init_0 8 rfl rfl)
theorem dX20_init_10 : decode cX20_init 10 = .ok (.invokespecial 3, 3) := dk_183 0 3 (dk_at dksX20_init_0 10 rfl rfl)
theorem dX20_init_13 : decode cX20_init 13 = .ok (.return_, 1) := dk_177 (dk_at dksX20_init_0 13 rfl rfl)
abbrev cX20_kind : ByteArray := prog_10_method_2_code
def yX20_kind : MethodName := ⟨RX20, "kind", "()I"⟩
theorem dX20_kind_0 : decode cX20_kind 0 = .ok (.iconst 4, 1) := by decide +kernel
theorem dX20_kind_1 : decode cX20_kind 1 = .ok (.ireturn, 1) := by decide +kernel
abbrev cX20_follows : ByteArray := prog_10_method_3_code
def yX20_follows : MethodName := ⟨RX20, "follows", "(LLineRemarks$Span;LLineRemarks$Match;)Z"⟩
def dkwX20_follows_1 : List UInt8 := [161, 0, 16, 42, 43, 44, 183, 0, 33, 153, 0, 7, 4, 167, 0, 4, 3, 172]
abbrev dktX20_follows_1 : List UInt8 := dkwX20_follows_1 ++ []
def dkwX20_follows_0 : List UInt8 := [16, 10, 44, 43, 180, 0, 9, 43, 180, 0, 15, 182, 0, 18, 104, 42, 180, 0, 24, 43, 182, 0, 29, 104]
abbrev dktX20_follows_0 : List UInt8 := dkwX20_follows_0 ++ dktX20_follows_1
theorem dksX20_follows_0 : cX20_follows.data.toList.drop 0 = dktX20_follows_0 := by decide +kernel
theorem dksX20_follows_1 : cX20_follows.data.toList.drop 24 = dktX20_follows_1 := dk_seg dksX20_follows_0 24 rfl rfl
theorem dX20_follows_0 : decode cX20_follows 0 = .ok (.bipush 10, 2) := dk_16 10 (dk_at dksX20_follows_0 0 rfl rfl)
theorem dX20_follows_2 : decode cX20_follows 2 = .ok (.aload_n 2, 1) := dk_44 (dk_at dksX20_follows_0 2 rfl rfl)
theorem dX20_follows_3 : decode cX20_follows 3 = .ok (.aload_n 1, 1) := dk_43 (dk_at dksX20_follows_0 3 rfl rfl)
theorem dX20_follows_4 : decode cX20_follows 4 = .ok (.getfield 9, 3) := dk_180 0 9 (dk_at dksX20_follows_0 4 rfl rfl)
theorem dX20_follows_7 : decode cX20_follows 7 = .ok (.aload_n 1, 1) := dk_43 (dk_at dksX20_follows_0 7 rfl rfl)
theorem dX20_follows_8 : decode cX20_follows 8 = .ok (.getfield 15, 3) := dk_180 0 15 (dk_at dksX20_follows_0 8 rfl rfl)
theorem dX20_follows_11 : decode cX20_follows 11 = .ok (.invokevirtual 18, 3) := dk_182 0 18 (dk_at dksX20_follows_0 11 rfl rfl)
theorem dX20_follows_14 : decode cX20_follows 14 = .ok (.imul, 1) := dk_104 (dk_at dksX20_follows_0 14 rfl rfl)
theorem dX20_follows_15 : decode cX20_follows 15 = .ok (.aload_n 0, 1) := dk_42 (dk_at dksX20_follows_0 15 rfl rfl)
theorem dX20_follows_16 : decode cX20_follows 16 = .ok (.getfield 24, 3) := dk_180 0 24 (dk_at dksX20_follows_0 16 rfl rfl)
theorem dX20_follows_19 : decode cX20_follows 19 = .ok (.aload_n 1, 1) := dk_43 (dk_at dksX20_follows_0 19 rfl rfl)
theorem dX20_follows_20 : decode cX20_follows 20 = .ok (.invokevirtual 29, 3) := dk_182 0 29 (dk_at dksX20_follows_0 20 rfl rfl)
theorem dX20_follows_23 : decode cX20_follows 23 = .ok (.imul, 1) := dk_104 (dk_at dksX20_follows_0 23 rfl rfl)
theorem dX20_follows_24 : decode cX20_follows 24 = .ok (.if_icmp .lt 16, 3) := dk_161 0 16 (dk_at dksX20_follows_1 0 rfl rfl)
theorem dX20_follows_27 : decode cX20_follows 27 = .ok (.aload_n 0, 1) := dk_42 (dk_at dksX20_follows_1 3 rfl rfl)
theorem dX20_follows_28 : decode cX20_follows 28 = .ok (.aload_n 1, 1) := dk_43 (dk_at dksX20_follows_1 4 rfl rfl)
theorem dX20_follows_29 : decode cX20_follows 29 = .ok (.aload_n 2, 1) := dk_44 (dk_at dksX20_follows_1 5 rfl rfl)
theorem dX20_follows_30 : decode cX20_follows 30 = .ok (.invokespecial 33, 3) := dk_183 0 33 (dk_at dksX20_follows_1 6 rfl rfl)
theorem dX20_follows_33 : decode cX20_follows 33 = .ok (.ifCond .eq 7, 3) := dk_153 0 7 (dk_at dksX20_follows_1 9 rfl rfl)
theorem dX20_follows_36 : decode cX20_follows 36 = .ok (.iconst 1, 1) := dk_4 (dk_at dksX20_follows_1 12 rfl rfl)
theorem dX20_follows_37 : decode cX20_follows 37 = .ok (.goto 4, 3) := dk_167 0 4 (dk_at dksX20_follows_1 13 rfl rfl)
theorem dX20_follows_40 : decode cX20_follows 40 = .ok (.iconst 0, 1) := dk_3 (dk_at dksX20_follows_1 16 rfl rfl)
theorem dX20_follows_41 : decode cX20_follows 41 = .ok (.ireturn, 1) := dk_172 (dk_at dksX20_follows_1 17 rfl rfl)
abbrev cX20_pointing : ByteArray := prog_10_method_5_code
def yX20_pointing : MethodName := ⟨RX20, "pointing", "(ILLineRemarks$Trace;)I"⟩
def dkwX20_pointing_0 : List UInt8 := [44, 16, 51, 182, 0, 37, 42, 27, 44, 183, 0, 47, 42, 180, 0, 50, 100, 172]
abbrev dktX20_pointing_0 : List UInt8 := dkwX20_pointing_0 ++ []
theorem dksX20_pointing_0 : cX20_pointing.data.toList.drop 0 = dktX20_pointing_0 := by decide +kernel
theorem dX20_pointing_0 : decode cX20_pointing 0 = .ok (.aload_n 2, 1) := dk_44 (dk_at dksX20_pointing_0 0 rfl rfl)
theorem dX20_pointing_1 : decode cX20_pointing 1 = .ok (.bipush 51, 2) := dk_16 51 (dk_at dksX20_pointing_0 1 rfl rfl)
theorem dX20_pointing_3 : decode cX20_pointing 3 = .ok (.invokevirtual 37, 3) := dk_182 0 37 (dk_at dksX20_pointing_0 3 rfl rfl)
theorem dX20_pointing_6 : decode cX20_pointing 6 = .ok (.aload_n 0, 1) := dk_42 (dk_at dksX20_pointing_0 6 rfl rfl)
theorem dX20_pointing_7 : decode cX20_pointing 7 = .ok (.iload_n 1, 1) := dk_27 (dk_at dksX20_pointing_0 7 rfl rfl)
theorem dX20_pointing_8 : decode cX20_pointing 8 = .ok (.aload_n 2, 1) := dk_44 (dk_at dksX20_pointing_0 8 rfl rfl)
theorem dX20_pointing_9 : decode cX20_pointing 9 = .ok (.invokespecial 47, 3) := dk_183 0 47 (dk_at dksX20_pointing_0 9 rfl rfl)
theorem dX20_pointing_12 : decode cX20_pointing 12 = .ok (.aload_n 0, 1) := dk_42 (dk_at dksX20_pointing_0 12 rfl rfl)
theorem dX20_pointing_13 : decode cX20_pointing 13 = .ok (.getfield 50, 3) := dk_180 0 50 (dk_at dksX20_pointing_0 13 rfl rfl)
theorem dX20_pointing_16 : decode cX20_pointing 16 = .ok (.isub, 1) := dk_100 (dk_at dksX20_pointing_0 16 rfl rfl)
theorem dX20_pointing_17 : decode cX20_pointing 17 = .ok (.ireturn, 1) := dk_172 (dk_at dksX20_pointing_0 17 rfl rfl)
abbrev cX20_clinging : ByteArray := prog_10_method_4_code
def yX20_clinging : MethodName := ⟨RX20, "clinging", "(ILLineRemarks$Trace;)I"⟩
def dkwX20_clinging_0 : List UInt8 := [44, 16, 50, 182, 0, 37, 42, 27, 44, 183, 0, 43, 116, 172]
abbrev dktX20_clinging_0 : List UInt8 := dkwX20_clinging_0 ++ []
theorem dksX20_clinging_0 : cX20_clinging.data.toList.drop 0 = dktX20_clinging_0 := by decide +kernel
theorem dX20_clinging_0 : decode cX20_clinging 0 = .ok (.aload_n 2, 1) := dk_44 (dk_at dksX20_clinging_0 0 rfl rfl)
theorem dX20_clinging_1 : decode cX20_clinging 1 = .ok (.bipush 50, 2) := dk_16 50 (dk_at dksX20_clinging_0 1 rfl rfl)
theorem dX20_clinging_3 : decode cX20_clinging 3 = .ok (.invokevirtual 37, 3) := dk_182 0 37 (dk_at dksX20_clinging_0 3 rfl rfl)
theorem dX20_clinging_6 : decode cX20_clinging 6 = .ok (.aload_n 0, 1) := dk_42 (dk_at dksX20_clinging_0 6 rfl rfl)
theorem dX20_clinging_7 : decode cX20_clinging 7 = .ok (.iload_n 1, 1) := dk_27 (dk_at dksX20_clinging_0 7 rfl rfl)
theorem dX20_clinging_8 : decode cX20_clinging 8 = .ok (.aload_n 2, 1) := dk_44 (dk_at dksX20_clinging_0 8 rfl rfl)
theorem dX20_clinging_9 : decode cX20_clinging 9 = .ok (.invokespecial 43, 3) := dk_183 0 43 (dk_at dksX20_clinging_0 9 rfl rfl)
theorem dX20_clinging_12 : decode cX20_clinging 12 = .ok (.ineg, 1) := dk_116 (dk_at dksX20_clinging_0 12 rfl rfl)
theorem dX20_clinging_13 : decode cX20_clinging 13 = .ok (.ireturn, 1) := dk_172 (dk_at dksX20_clinging_0 13 rfl rfl)
theorem q149 : (Jvm.Cond.initialized "LineRemarks$Loose") ∈ lw_all := lw_g (lw_at lw_m1 63 rfl) rfl
theorem q232 : (Jvm.Cond.selects "LineRemarks$Loose" ({ cls := "java/lang/Object", name := "getClass", desc := "()Ljava/lang/Class;" } : Jvm.MethodName) ({ cls := "java/lang/Object", name := "getClass", desc := "()Ljava/lang/Class;" } : Jvm.MethodName)) ∈ lw_all := lw_g (lw_at lw_m1 146 rfl) rfl
theorem q2064 : (Jvm.Cond.fieldLink "LineRemarks$Loose" (50 : Nat) "LineRemarks$Loose" "index" "I") ∈ lw_all := lw_g (lw_at lw_m9 58 rfl) rfl
theorem q2065 : (Jvm.Cond.sameField "LineRemarks$Loose" "LineRemarks$Remark" "index" "I") ∈ lw_all := lw_g (lw_at lw_m9 59 rfl) rfl
theorem q2070 : (Jvm.Cond.fieldLink "LineRemarks$Loose" (24 : Nat) "LineRemarks$Loose" "by" "I") ∈ lw_all := lw_g (lw_at lw_m9 64 rfl) rfl
theorem q2071 : (Jvm.Cond.sameField "LineRemarks$Loose" "LineRemarks$Remark" "by" "I") ∈ lw_all := lw_g (lw_at lw_m9 65 rfl) rfl
theorem q2096 : (Jvm.Cond.sameField "LineRemarks$Loose" "LineRemarks$Remark" "q" "I") ∈ lw_all := lw_g (lw_at lw_m9 90 rfl) rfl
theorem q2141 : (Jvm.Cond.instantiable "LineRemarks$Loose" (6 : Nat)) ∈ lw_all := lw_g (lw_at lw_m9 135 rfl) rfl
theorem q2143 : (Jvm.Cond.instanceMethod ({ cls := "LineRemarks$Loose", name := "<init>", desc := "(IILLineRemarks$Revision;III)V" } : Jvm.MethodName)) ∈ lw_all := lw_g (lw_at lw_m9 137 rfl) rfl
theorem q2144 : (Jvm.Cond.code ({ cls := "LineRemarks$Loose", name := "<init>", desc := "(IILLineRemarks$Revision;III)V" } : Jvm.MethodName) prog_10_method_1_code (7 : Nat) (Option.none : Option Jvm.ClassFile.FieldType)) ∈ lw_all := lw_g (lw_at lw_m9 138 rfl) rfl
theorem q2145 : (Jvm.Cond.methodLink "LineRemarks$Loose" (3 : Nat) ({ cls := "LineRemarks$Remark", name := "<init>", desc := "(IILLineRemarks$Revision;III)V" } : Jvm.MethodName)) ∈ lw_all := lw_g (lw_at lw_m9 139 rfl) rfl
theorem q2146 : (Jvm.Cond.laysFinal "LineRemarks$Loose" "LineRemarks$Remark" "index" "I") ∈ lw_all := lw_g (lw_at lw_m9 140 rfl) rfl
theorem q2147 : (Jvm.Cond.laysFinal "LineRemarks$Loose" "LineRemarks$Remark" "by" "I") ∈ lw_all := lw_g (lw_at lw_m9 141 rfl) rfl
theorem q2148 : (Jvm.Cond.laysFinal "LineRemarks$Loose" "LineRemarks$Remark" "on" "LLineRemarks$Revision;") ∈ lw_all := lw_g (lw_at lw_m9 142 rfl) rfl
theorem q2149 : (Jvm.Cond.laysFinal "LineRemarks$Loose" "LineRemarks$Remark" "p" "I") ∈ lw_all := lw_g (lw_at lw_m9 143 rfl) rfl
theorem q2150 : (Jvm.Cond.laysFinal "LineRemarks$Loose" "LineRemarks$Remark" "q" "I") ∈ lw_all := lw_g (lw_at lw_m9 144 rfl) rfl
theorem q2151 : (Jvm.Cond.laysFinal "LineRemarks$Loose" "LineRemarks$Remark" "answers" "I") ∈ lw_all := lw_g (lw_at lw_m9 145 rfl) rfl
theorem q2152 : (Jvm.Cond.superclass "LineRemarks$Loose" "LineRemarks$Remark") ∈ lw_all := lw_g (lw_at lw_m9 146 rfl) rfl
theorem q2206 : (Jvm.Cond.selects "LineRemarks$Loose" ({ cls := "LineRemarks$Remark", name := "kind", desc := "()I" } : Jvm.MethodName) ({ cls := "LineRemarks$Loose", name := "kind", desc := "()I" } : Jvm.MethodName)) ∈ lw_all := lw_g (lw_at lw_m9 200 rfl) rfl
theorem q2207 : (Jvm.Cond.instanceMethod ({ cls := "LineRemarks$Loose", name := "kind", desc := "()I" } : Jvm.MethodName)) ∈ lw_all := lw_g (lw_at lw_m9 201 rfl) rfl
theorem q2208 : (Jvm.Cond.code ({ cls := "LineRemarks$Loose", name := "kind", desc := "()I" } : Jvm.MethodName) prog_10_method_2_code (1 : Nat) (Option.some Jvm.ClassFile.FieldType.int)) ∈ lw_all := lw_g (lw_at lw_m9 202 rfl) rfl
theorem q2295 : (Jvm.Cond.fieldLink "LineRemarks$Loose" (9 : Nat) "LineRemarks$Span" "p" "I") ∈ lw_all := lw_g (lw_at lw_m10 49 rfl) rfl
theorem q2303 : (Jvm.Cond.fieldLink "LineRemarks$Loose" (15 : Nat) "LineRemarks$Span" "q" "I") ∈ lw_all := lw_g (lw_at lw_m10 57 rfl) rfl
theorem q2428 : (Jvm.Cond.selects "LineRemarks$Loose" ({ cls := "LineRemarks$Remark", name := "follows", desc := "(LLineRemarks$Span;LLineRemarks$Match;)Z" } : Jvm.MethodName) ({ cls := "LineRemarks$Loose", name := "follows", desc := "(LLineRemarks$Span;LLineRemarks$Match;)Z" } : Jvm.MethodName)) ∈ lw_all := lw_g (lw_at lw_m10 182 rfl) rfl
theorem q2429 : (Jvm.Cond.instanceMethod ({ cls := "LineRemarks$Loose", name := "follows", desc := "(LLineRemarks$Span;LLineRemarks$Match;)Z" } : Jvm.MethodName)) ∈ lw_all := lw_g (lw_at lw_m10 183 rfl) rfl
theorem q2430 : (Jvm.Cond.code ({ cls := "LineRemarks$Loose", name := "follows", desc := "(LLineRemarks$Span;LLineRemarks$Match;)Z" } : Jvm.MethodName) prog_10_method_3_code (3 : Nat) (Option.some Jvm.ClassFile.FieldType.boolean)) ∈ lw_all := lw_g (lw_at lw_m10 184 rfl) rfl
theorem q2431 : (Jvm.Cond.methodLink "LineRemarks$Loose" (18 : Nat) ({ cls := "LineRemarks$Match", name := "placed", desc := "(II)I" } : Jvm.MethodName)) ∈ lw_all := lw_g (lw_at lw_m10 185 rfl) rfl
theorem q2432 : (Jvm.Cond.methodLink "LineRemarks$Loose" (29 : Nat) ({ cls := "LineRemarks$Span", name := "length", desc := "()I" } : Jvm.MethodName)) ∈ lw_all := lw_g (lw_at lw_m10 186 rfl) rfl
theorem q2433 : (Jvm.Cond.methodLink "LineRemarks$Loose" (33 : Nat) ({ cls := "LineRemarks$Remark", name := "follows", desc := "(LLineRemarks$Span;LLineRemarks$Match;)Z" } : Jvm.MethodName)) ∈ lw_all := lw_g (lw_at lw_m10 187 rfl) rfl
theorem q3022 : (Jvm.Cond.selects "LineRemarks$Loose" ({ cls := "java/lang/Object", name := "equals", desc := "(Ljava/lang/Object;)Z" } : Jvm.MethodName) ({ cls := "java/lang/Object", name := "equals", desc := "(Ljava/lang/Object;)Z" } : Jvm.MethodName)) ∈ lw_all := lw_g (lw_at lw_m13 56 rfl) rfl
theorem q3201 : (Jvm.Cond.selects "LineRemarks$Loose" ({ cls := "LineRemarks$Remark", name := "pointing", desc := "(ILLineRemarks$Trace;)I" } : Jvm.MethodName) ({ cls := "LineRemarks$Loose", name := "pointing", desc := "(ILLineRemarks$Trace;)I" } : Jvm.MethodName)) ∈ lw_all := lw_g (lw_at lw_m13 235 rfl) rfl
theorem q3202 : (Jvm.Cond.instanceMethod ({ cls := "LineRemarks$Loose", name := "pointing", desc := "(ILLineRemarks$Trace;)I" } : Jvm.MethodName)) ∈ lw_all := lw_g (lw_at lw_m13 236 rfl) rfl
theorem q3203 : (Jvm.Cond.code ({ cls := "LineRemarks$Loose", name := "pointing", desc := "(ILLineRemarks$Trace;)I" } : Jvm.MethodName) prog_10_method_5_code (3 : Nat) (Option.some Jvm.ClassFile.FieldType.int)) ∈ lw_all := lw_g (lw_at lw_m13 237 rfl) rfl
theorem q3204 : (Jvm.Cond.methodLink "LineRemarks$Loose" (37 : Nat) ({ cls := "LineRemarks$Trace", name := "runs", desc := "(I)V" } : Jvm.MethodName)) ∈ lw_all := lw_g (lw_at lw_m13 238 rfl) rfl
theorem q3205 : (Jvm.Cond.methodLink "LineRemarks$Loose" (47 : Nat) ({ cls := "LineRemarks$Remark", name := "pointing", desc := "(ILLineRemarks$Trace;)I" } : Jvm.MethodName)) ∈ lw_all := lw_g (lw_at lw_m13 239 rfl) rfl
theorem q3225 : (Jvm.Cond.selects "LineRemarks$Loose" ({ cls := "LineRemarks$Remark", name := "weighing", desc := "(ILLineRemarks$Trace;)I" } : Jvm.MethodName) ({ cls := "LineRemarks$Remark", name := "weighing", desc := "(ILLineRemarks$Trace;)I" } : Jvm.MethodName)) ∈ lw_all := lw_g (lw_at lw_m14 19 rfl) rfl
theorem q3240 : (Jvm.Cond.selects "LineRemarks$Loose" ({ cls := "LineRemarks$Remark", name := "clinging", desc := "(ILLineRemarks$Trace;)I" } : Jvm.MethodName) ({ cls := "LineRemarks$Loose", name := "clinging", desc := "(ILLineRemarks$Trace;)I" } : Jvm.MethodName)) ∈ lw_all := lw_g (lw_at lw_m14 34 rfl) rfl
theorem q3241 : (Jvm.Cond.instanceMethod ({ cls := "LineRemarks$Loose", name := "clinging", desc := "(ILLineRemarks$Trace;)I" } : Jvm.MethodName)) ∈ lw_all := lw_g (lw_at lw_m14 35 rfl) rfl
theorem q3242 : (Jvm.Cond.code ({ cls := "LineRemarks$Loose", name := "clinging", desc := "(ILLineRemarks$Trace;)I" } : Jvm.MethodName) prog_10_method_4_code (3 : Nat) (Option.some Jvm.ClassFile.FieldType.int)) ∈ lw_all := lw_g (lw_at lw_m14 36 rfl) rfl
theorem q3243 : (Jvm.Cond.methodLink "LineRemarks$Loose" (43 : Nat) ({ cls := "LineRemarks$Remark", name := "clinging", desc := "(ILLineRemarks$Trace;)I" } : Jvm.MethodName)) ∈ lw_all := lw_g (lw_at lw_m14 37 rfl) rfl
theorem q3788 : (Jvm.Cond.castable "LineRemarks$Loose" "LineRemarks$Remark") ∈ lw_tbl := lw_at lw_m16 102 rfl
theorem q3831 : (Jvm.Cond.castable "LineRemarks$Loose" "java/lang/Object") ∈ lw_tbl := lw_at lw_m16 145 rfl
theorem in_X20 : ∀ w ∈ wsX200, w ∈ lw_all := lw_in wsX200 [2146, 2147, 2148, 2149, 2150, 2151] (by decide +kernel) (by decide +kernel)
/-! LineRemarks$Wall -/
set_option maxRecDepth 100000
def RX21 : String := "LineRemarks$Wall"
def TX21 : u_T := fun k => match k with
  | 0 => ("LineRemarks$Remark", "index", "I", true)
  | 1 => ("LineRemarks$Remark", "by", "I", true)
  | 2 => ("LineRemarks$Remark", "on", "LLineRemarks$Revision;", true)
  | 3 => ("LineRemarks$Remark", "p", "I", true)
  | 4 => ("LineRemarks$Remark", "q", "I", true)
  | _ => ("LineRemarks$Remark", "answers", "I", true)
def tyX21 : Nat → FieldType := fun k => match k with
  | 0 => .int
  | 1 => .int
  | 2 => .object "LineRemarks$Revision"
  | 3 => .int
  | 4 => .int
  | _ => .int
abbrev wsX210 : List Cond := u_ws RX21 TX21 6
theorem nmX21 : ∀ a, a < 6 → ∀ b, b < 6 → a ≠ b → (TX21 a).2.1 ≠ (TX21 b).2.1 := by decide +kernel
theorem tyX21_ok : ∀ k, k < 6 → parseFieldDescriptor (TX21 k).2.2.1 = some (tyX21 k) := by decide +kernel
abbrev cX21_init : ByteArray := prog_25_method_1_code
def yX21_init : MethodName := ⟨RX21, "<init>", "(IILLineRemarks$Revision;III)V"⟩
def dkwX21_init_0 : List UInt8 := [42, 27, 28, 45, 21, 4, 21, 5, 21, 6, 183, 0, 3, 177]
abbrev dktX21_init_0 : List UInt8 := dkwX21_init_0 ++ []
theorem dksX21_init_0 : cX21_init.data.toList.drop 0 = dktX21_init_0 := by decide +kernel
theorem dX21_init_0 : decode cX21_init 0 = .ok (.aload_n 0, 1) := dk_42 (dk_at dksX21_init_0 0 rfl rfl)
theorem dX21_init_1 : decode cX21_init 1 = .ok (.iload_n 1, 1) := dk_27 (dk_at dksX21_init_0 1 rfl rfl)
theorem dX21_init_2 : decode cX21_init 2 = .ok (.iload_n 2, 1) := dk_28 (dk_at dksX21_init_0 2 rfl rfl)
theorem dX21_init_3 : decode cX21_init 3 = .ok (.aload_n 3, 1) := dk_45 (dk_at dksX21_init_0 3 rfl rfl)
theorem dX21_init_4 : decode cX21_init 4 = .ok (.iload 4, 2) := dk_21 4 (dk_at dksX21_init_0 4 rfl rfl)
theorem dX21_init_6 : decode cX21_init 6 = .ok (.iload 5, 2) := dk_21 5 (dk_at dksX21_init_0 6 rfl rfl)
theorem dX21_init_8 : decode cX21_init 8 = .ok (.iload 6, 2) := dk_21 6 (dk_at dksX21_init_0 8 rfl rfl)
theorem dX21_init_10 : decode cX21_init 10 = .ok (.invokespecial 3, 3) := dk_183 0 3 (dk_at dksX21_init_0 10 rfl rfl)
theorem dX21_init_13 : decode cX21_init 13 = .ok (.return_, 1) := dk_177 (dk_at dksX21_init_0 13 rfl rfl)
abbrev cX21_kind : ByteArray := prog_25_method_2_code
def yX21_kind : MethodName := ⟨RX21, "kind", "()I"⟩
theorem dX21_kind_0 : decode cX21_kind 0 = .ok (.iconst 5, 1) := by decide +kernel
theorem dX21_kind_1 : decode cX21_kind 1 = .ok (.ireturn, 1) := by decide +kernel
abbrev cX21_slack : ByteArray := prog_25_method_3_code
def yX21_slack : MethodName := ⟨RX21, "slack", "()I"⟩
def dkwX21_slack_0 : List UInt8 := [42, 183, 0, 9, 42, 180, 0, 13, 96, 172]
abbrev dktX21_slack_0 : List UInt8 := dkwX21_slack_0 ++ []
theorem dksX21_slack_0 : cX21_slack.data.toList.drop 0 = dktX21_slack_0 := by decide +kernel
theorem dX21_slack_0 : decode cX21_slack 0 = .ok (.aload_n 0, 1) := dk_42 (dk_at dksX21_slack_0 0 rfl rfl)
theorem dX21_slack_1 : decode cX21_slack 1 = .ok (.invokespecial 9, 3) := dk_183 0 9 (dk_at dksX21_slack_0 1 rfl rfl)
theorem dX21_slack_4 : decode cX21_slack 4 = .ok (.aload_n 0, 1) := dk_42 (dk_at dksX21_slack_0 4 rfl rfl)
theorem dX21_slack_5 : decode cX21_slack 5 = .ok (.getfield 13, 3) := dk_180 0 13 (dk_at dksX21_slack_0 5 rfl rfl)
theorem dX21_slack_8 : decode cX21_slack 8 = .ok (.iadd, 1) := dk_96 (dk_at dksX21_slack_0 8 rfl rfl)
theorem dX21_slack_9 : decode cX21_slack 9 = .ok (.ireturn, 1) := dk_172 (dk_at dksX21_slack_0 9 rfl rfl)
abbrev cX21_clinging : ByteArray := prog_25_method_4_code
def yX21_clinging : MethodName := ⟨RX21, "clinging", "(ILLineRemarks$Trace;)I"⟩
def dkwX21_clinging_0 : List UInt8 := [44, 16, 60, 182, 0, 19, 42, 27, 44, 183, 0, 25, 8, 130, 172]
abbrev dktX21_clinging_0 : List UInt8 := dkwX21_clinging_0 ++ []
theorem dksX21_clinging_0 : cX21_clinging.data.toList.drop 0 = dktX21_clinging_0 := by decide +kernel
theorem dX21_clinging_0 : decode cX21_clinging 0 = .ok (.aload_n 2, 1) := dk_44 (dk_at dksX21_clinging_0 0 rfl rfl)
theorem dX21_clinging_1 : decode cX21_clinging 1 = .ok (.bipush 60, 2) := dk_16 60 (dk_at dksX21_clinging_0 1 rfl rfl)
theorem dX21_clinging_3 : decode cX21_clinging 3 = .ok (.invokevirtual 19, 3) := dk_182 0 19 (dk_at dksX21_clinging_0 3 rfl rfl)
theorem dX21_clinging_6 : decode cX21_clinging 6 = .ok (.aload_n 0, 1) := dk_42 (dk_at dksX21_clinging_0 6 rfl rfl)
theorem dX21_clinging_7 : decode cX21_clinging 7 = .ok (.iload_n 1, 1) := dk_27 (dk_at dksX21_clinging_0 7 rfl rfl)
theorem dX21_clinging_8 : decode cX21_clinging 8 = .ok (.aload_n 2, 1) := dk_44 (dk_at dksX21_clinging_0 8 rfl rfl)
theorem dX21_clinging_9 : decode cX21_clinging 9 = .ok (.invokespecial 25, 3) := dk_183 0 25 (dk_at dksX21_clinging_0 9 rfl rfl)
theorem dX21_clinging_12 : decode cX21_clinging 12 = .ok (.iconst 5, 1) := dk_8 (dk_at dksX21_clinging_0 12 rfl rfl)
theorem dX21_clinging_13 : decode cX21_clinging 13 = .ok (.ixor, 1) := dk_130 (dk_at dksX21_clinging_0 13 rfl rfl)
theorem dX21_clinging_14 : decode cX21_clinging 14 = .ok (.ireturn, 1) := dk_172 (dk_at dksX21_clinging_0 14 rfl rfl)
theorem q150 : (Jvm.Cond.initialized "LineRemarks$Wall") ∈ lw_all := lw_g (lw_at lw_m1 64 rfl) rfl
theorem q246 : (Jvm.Cond.selects "LineRemarks$Wall" ({ cls := "java/lang/Object", name := "getClass", desc := "()Ljava/lang/Class;" } : Jvm.MethodName) ({ cls := "java/lang/Object", name := "getClass", desc := "()Ljava/lang/Class;" } : Jvm.MethodName)) ∈ lw_all := lw_g (lw_at lw_m1 160 rfl) rfl
theorem q2068 : (Jvm.Cond.fieldLink "LineRemarks$Wall" (13 : Nat) "LineRemarks$Wall" "by" "I") ∈ lw_all := lw_g (lw_at lw_m9 62 rfl) rfl
theorem q2069 : (Jvm.Cond.sameField "LineRemarks$Wall" "LineRemarks$Remark" "by" "I") ∈ lw_all := lw_g (lw_at lw_m9 63 rfl) rfl
theorem q2154 : (Jvm.Cond.instantiable "LineRemarks$Wall" (6 : Nat)) ∈ lw_all := lw_g (lw_at lw_m9 148 rfl) rfl
theorem q2156 : (Jvm.Cond.instanceMethod ({ cls := "LineRemarks$Wall", name := "<init>", desc := "(IILLineRemarks$Revision;III)V" } : Jvm.MethodName)) ∈ lw_all := lw_g (lw_at lw_m9 150 rfl) rfl
theorem q2157 : (Jvm.Cond.code ({ cls := "LineRemarks$Wall", name := "<init>", desc := "(IILLineRemarks$Revision;III)V" } : Jvm.MethodName) prog_25_method_1_code (7 : Nat) (Option.none : Option Jvm.ClassFile.FieldType)) ∈ lw_all := lw_g (lw_at lw_m9 151 rfl) rfl
theorem q2158 : (Jvm.Cond.methodLink "LineRemarks$Wall" (3 : Nat) ({ cls := "LineRemarks$Block", name := "<init>", desc := "(IILLineRemarks$Revision;III)V" } : Jvm.MethodName)) ∈ lw_all := lw_g (lw_at lw_m9 152 rfl) rfl
theorem q2159 : (Jvm.Cond.laysFinal "LineRemarks$Wall" "LineRemarks$Remark" "index" "I") ∈ lw_all := lw_g (lw_at lw_m9 153 rfl) rfl
theorem q2160 : (Jvm.Cond.laysFinal "LineRemarks$Wall" "LineRemarks$Remark" "by" "I") ∈ lw_all := lw_g (lw_at lw_m9 154 rfl) rfl
theorem q2161 : (Jvm.Cond.laysFinal "LineRemarks$Wall" "LineRemarks$Remark" "on" "LLineRemarks$Revision;") ∈ lw_all := lw_g (lw_at lw_m9 155 rfl) rfl
theorem q2162 : (Jvm.Cond.laysFinal "LineRemarks$Wall" "LineRemarks$Remark" "p" "I") ∈ lw_all := lw_g (lw_at lw_m9 156 rfl) rfl
theorem q2163 : (Jvm.Cond.laysFinal "LineRemarks$Wall" "LineRemarks$Remark" "q" "I") ∈ lw_all := lw_g (lw_at lw_m9 157 rfl) rfl
theorem q2164 : (Jvm.Cond.laysFinal "LineRemarks$Wall" "LineRemarks$Remark" "answers" "I") ∈ lw_all := lw_g (lw_at lw_m9 158 rfl) rfl
theorem q2165 : (Jvm.Cond.superclass "LineRemarks$Wall" "LineRemarks$Block") ∈ lw_all := lw_g (lw_at lw_m9 159 rfl) rfl
theorem q2215 : (Jvm.Cond.selects "LineRemarks$Wall" ({ cls := "LineRemarks$Remark", name := "kind", desc := "()I" } : Jvm.MethodName) ({ cls := "LineRemarks$Wall", name := "kind", desc := "()I" } : Jvm.MethodName)) ∈ lw_all := lw_g (lw_at lw_m9 209 rfl) rfl
theorem q2216 : (Jvm.Cond.instanceMethod ({ cls := "LineRemarks$Wall", name := "kind", desc := "()I" } : Jvm.MethodName)) ∈ lw_all := lw_g (lw_at lw_m9 210 rfl) rfl
theorem q2217 : (Jvm.Cond.code ({ cls := "LineRemarks$Wall", name := "kind", desc := "()I" } : Jvm.MethodName) prog_25_method_2_code (1 : Nat) (Option.some Jvm.ClassFile.FieldType.int)) ∈ lw_all := lw_g (lw_at lw_m9 211 rfl) rfl
theorem q2414 : (Jvm.Cond.selects "LineRemarks$Wall" ({ cls := "LineRemarks$Block", name := "slack", desc := "()I" } : Jvm.MethodName) ({ cls := "LineRemarks$Wall", name := "slack", desc := "()I" } : Jvm.MethodName)) ∈ lw_all := lw_g (lw_at lw_m10 168 rfl) rfl
theorem q2415 : (Jvm.Cond.instanceMethod ({ cls := "LineRemarks$Wall", name := "slack", desc := "()I" } : Jvm.MethodName)) ∈ lw_all := lw_g (lw_at lw_m10 169 rfl) rfl
theorem q2416 : (Jvm.Cond.code ({ cls := "LineRemarks$Wall", name := "slack", desc := "()I" } : Jvm.MethodName) prog_25_method_3_code (1 : Nat) (Option.some Jvm.ClassFile.FieldType.int)) ∈ lw_all := lw_g (lw_at lw_m10 170 rfl) rfl
theorem q2417 : (Jvm.Cond.methodLink "LineRemarks$Wall" (9 : Nat) ({ cls := "LineRemarks$Block", name := "slack", desc := "()I" } : Jvm.MethodName)) ∈ lw_all := lw_g (lw_at lw_m10 171 rfl) rfl
theorem q2440 : (Jvm.Cond.selects "LineRemarks$Wall" ({ cls := "LineRemarks$Remark", name := "follows", desc := "(LLineRemarks$Span;LLineRemarks$Match;)Z" } : Jvm.MethodName) ({ cls := "LineRemarks$Block", name := "follows", desc := "(LLineRemarks$Span;LLineRemarks$Match;)Z" } : Jvm.MethodName)) ∈ lw_all := lw_g (lw_at lw_m10 194 rfl) rfl
theorem q3036 : (Jvm.Cond.selects "LineRemarks$Wall" ({ cls := "java/lang/Object", name := "equals", desc := "(Ljava/lang/Object;)Z" } : Jvm.MethodName) ({ cls := "java/lang/Object", name := "equals", desc := "(Ljava/lang/Object;)Z" } : Jvm.MethodName)) ∈ lw_all := lw_g (lw_at lw_m13 70 rfl) rfl
theorem q3212 : (Jvm.Cond.selects "LineRemarks$Wall" ({ cls := "LineRemarks$Remark", name := "pointing", desc := "(ILLineRemarks$Trace;)I" } : Jvm.MethodName) ({ cls := "LineRemarks$Remark", name := "pointing", desc := "(ILLineRemarks$Trace;)I" } : Jvm.MethodName)) ∈ lw_all := lw_g (lw_at lw_m14 6 rfl) rfl
theorem q3233 : (Jvm.Cond.selects "LineRemarks$Wall" ({ cls := "LineRemarks$Remark", name := "weighing", desc := "(ILLineRemarks$Trace;)I" } : Jvm.MethodName) ({ cls := "LineRemarks$Block", name := "weighing", desc := "(ILLineRemarks$Trace;)I" } : Jvm.MethodName)) ∈ lw_all := lw_g (lw_at lw_m14 27 rfl) rfl
theorem q3248 : (Jvm.Cond.selects "LineRemarks$Wall" ({ cls := "LineRemarks$Remark", name := "clinging", desc := "(ILLineRemarks$Trace;)I" } : Jvm.MethodName) ({ cls := "LineRemarks$Wall", name := "clinging", desc := "(ILLineRemarks$Trace;)I" } : Jvm.MethodName)) ∈ lw_all := lw_g (lw_at lw_m14 42 rfl) rfl
theorem q3249 : (Jvm.Cond.instanceMethod ({ cls := "LineRemarks$Wall", name := "clinging", desc := "(ILLineRemarks$Trace;)I" } : Jvm.MethodName)) ∈ lw_all := lw_g (lw_at lw_m14 43 rfl) rfl
theorem q3250 : (Jvm.Cond.code ({ cls := "LineRemarks$Wall", name := "clinging", desc := "(ILLineRemarks$Trace;)I" } : Jvm.MethodName) prog_25_method_4_code (3 : Nat) (Option.some Jvm.ClassFile.FieldType.int)) ∈ lw_all := lw_g (lw_at lw_m14 44 rfl) rfl
theorem q3251 : (Jvm.Cond.methodLink "LineRemarks$Wall" (19 : Nat) ({ cls := "LineRemarks$Trace", name := "runs", desc := "(I)V" } : Jvm.MethodName)) ∈ lw_all := lw_g (lw_at lw_m14 45 rfl) rfl
theorem q3252 : (Jvm.Cond.methodLink "LineRemarks$Wall" (25 : Nat) ({ cls := "LineRemarks$Block", name := "clinging", desc := "(ILLineRemarks$Trace;)I" } : Jvm.MethodName)) ∈ lw_all := lw_g (lw_at lw_m14 46 rfl) rfl
theorem q3791 : (Jvm.Cond.castable "LineRemarks$Wall" "LineRemarks$Remark") ∈ lw_tbl := lw_at lw_m16 105 rfl
theorem q3794 : (Jvm.Cond.castable "LineRemarks$Wall" "LineRemarks$Block") ∈ lw_tbl := lw_at lw_m16 108 rfl
theorem q3832 : (Jvm.Cond.castable "LineRemarks$Wall" "java/lang/Object") ∈ lw_tbl := lw_at lw_m16 146 rfl
theorem in_X21 : ∀ w ∈ wsX210, w ∈ lw_all := lw_in wsX210 [2159, 2160, 2161, 2162, 2163, 2164] (by decide +kernel) (by decide +kernel)
/-! LineRemarks$Tail -/
set_option maxRecDepth 100000
def RX22 : String := "LineRemarks$Tail"
def TX22 : u_T := fun k => match k with
  | 0 => ("LineRemarks$Remark", "index", "I", true)
  | 1 => ("LineRemarks$Remark", "by", "I", true)
  | 2 => ("LineRemarks$Remark", "on", "LLineRemarks$Revision;", true)
  | 3 => ("LineRemarks$Remark", "p", "I", true)
  | 4 => ("LineRemarks$Remark", "q", "I", true)
  | _ => ("LineRemarks$Remark", "answers", "I", true)
def tyX22 : Nat → FieldType := fun k => match k with
  | 0 => .int
  | 1 => .int
  | 2 => .object "LineRemarks$Revision"
  | 3 => .int
  | 4 => .int
  | _ => .int
abbrev wsX220 : List Cond := u_ws RX22 TX22 6
theorem nmX22 : ∀ a, a < 6 → ∀ b, b < 6 → a ≠ b → (TX22 a).2.1 ≠ (TX22 b).2.1 := by decide +kernel
theorem tyX22_ok : ∀ k, k < 6 → parseFieldDescriptor (TX22 k).2.2.1 = some (tyX22 k) := by decide +kernel
abbrev cX22_init : ByteArray := prog_22_method_1_code
def yX22_init : MethodName := ⟨RX22, "<init>", "(IILLineRemarks$Revision;III)V"⟩
def dkwX22_init_0 : List UInt8 := [42, 27, 28, 45, 21, 4, 21, 5, 21, 6, 183, 0, 3, 177]
abbrev dktX22_init_0 : List UInt8 := dkwX22_init_0 ++ []
theorem dksX22_init_0 : cX22_init.data.toList.drop 0 = dktX22_init_0 := by decide +kernel
theorem dX22_init_0 : decode cX22_init 0 = .ok (.aload_n 0, 1) := dk_42 (dk_at dksX22_init_0 0 rfl rfl)
theorem dX22_init_1 : decode cX22_init 1 = .ok (.iload_n 1, 1) := dk_27 (dk_at dksX22_init_0 1 rfl rfl)
theorem dX22_init_2 : decode cX22_init 2 = .ok (.iload_n 2, 1) := dk_28 (dk_at dksX22_init_0 2 rfl rfl)
theorem dX22_init_3 : decode cX22_init 3 = .ok (.aload_n 3, 1) := dk_45 (dk_at dksX22_init_0 3 rfl rfl)
theorem dX22_init_4 : decode cX22_init 4 = .ok (.iload 4, 2) := dk_21 4 (dk_at dksX22_init_0 4 rfl rfl)
theorem dX22_init_6 : decode cX22_init 6 = .ok (.iload 5, 2) := dk_21 5 (dk_at dksX22_init_0 6 rfl rfl)
theorem dX22_init_8 : decode cX22_init 8 = .ok (.iload 6, 2) := dk_21 6 (dk_at dksX22_init_0 8 rfl rfl)
theorem dX22_init_10 : decode cX22_init 10 = .ok (.invokespecial 3, 3) := dk_183 0 3 (dk_at dksX22_init_0 10 rfl rfl)
theorem dX22_init_13 : decode cX22_init 13 = .ok (.return_, 1) := dk_177 (dk_at dksX22_init_0 13 rfl rfl)
abbrev cX22_kind : ByteArray := prog_22_method_2_code
def yX22_kind : MethodName := ⟨RX22, "kind", "()I"⟩
theorem dX22_kind_0 : decode cX22_kind 0 = .ok (.bipush 6, 2) := by decide +kernel
theorem dX22_kind_2 : decode cX22_kind 2 = .ok (.ireturn, 1) := by decide +kernel
abbrev cX22_follows : ByteArray := prog_22_method_3_code
def yX22_follows : MethodName := ⟨RX22, "follows", "(LLineRemarks$Span;LLineRemarks$Match;)Z"⟩
def dkwX22_follows_1 : List UInt8 := [182, 0, 24, 29, 172]
abbrev dktX22_follows_1 : List UInt8 := dkwX22_follows_1 ++ []
def dkwX22_follows_0 : List UInt8 := [42, 43, 44, 183, 0, 9, 62, 29, 153, 0, 17, 43, 43, 180, 0, 13, 44, 180, 0, 19, 4, 100]
abbrev dktX22_follows_0 : List UInt8 := dkwX22_follows_0 ++ dktX22_follows_1
theorem dksX22_follows_0 : cX22_follows.data.toList.drop 0 = dktX22_follows_0 := by decide +kernel
theorem dksX22_follows_1 : cX22_follows.data.toList.drop 22 = dktX22_follows_1 := dk_seg dksX22_follows_0 22 rfl rfl
theorem dX22_follows_0 : decode cX22_follows 0 = .ok (.aload_n 0, 1) := dk_42 (dk_at dksX22_follows_0 0 rfl rfl)
theorem dX22_follows_1 : decode cX22_follows 1 = .ok (.aload_n 1, 1) := dk_43 (dk_at dksX22_follows_0 1 rfl rfl)
theorem dX22_follows_2 : decode cX22_follows 2 = .ok (.aload_n 2, 1) := dk_44 (dk_at dksX22_follows_0 2 rfl rfl)
theorem dX22_follows_3 : decode cX22_follows 3 = .ok (.invokespecial 9, 3) := dk_183 0 9 (dk_at dksX22_follows_0 3 rfl rfl)
theorem dX22_follows_6 : decode cX22_follows 6 = .ok (.istore_n 3, 1) := dk_62 (dk_at dksX22_follows_0 6 rfl rfl)
theorem dX22_follows_7 : decode cX22_follows 7 = .ok (.iload_n 3, 1) := dk_29 (dk_at dksX22_follows_0 7 rfl rfl)
theorem dX22_follows_8 : decode cX22_follows 8 = .ok (.ifCond .eq 17, 3) := dk_153 0 17 (dk_at dksX22_follows_0 8 rfl rfl)
theorem dX22_follows_11 : decode cX22_follows 11 = .ok (.aload_n 1, 1) := dk_43 (dk_at dksX22_follows_0 11 rfl rfl)
theorem dX22_follows_12 : decode cX22_follows 12 = .ok (.aload_n 1, 1) := dk_43 (dk_at dksX22_follows_0 12 rfl rfl)
theorem dX22_follows_13 : decode cX22_follows 13 = .ok (.getfield 13, 3) := dk_180 0 13 (dk_at dksX22_follows_0 13 rfl rfl)
theorem dX22_follows_16 : decode cX22_follows 16 = .ok (.aload_n 2, 1) := dk_44 (dk_at dksX22_follows_0 16 rfl rfl)
theorem dX22_follows_17 : decode cX22_follows 17 = .ok (.getfield 19, 3) := dk_180 0 19 (dk_at dksX22_follows_0 17 rfl rfl)
theorem dX22_follows_20 : decode cX22_follows 20 = .ok (.iconst 1, 1) := dk_4 (dk_at dksX22_follows_0 20 rfl rfl)
theorem dX22_follows_21 : decode cX22_follows 21 = .ok (.isub, 1) := dk_100 (dk_at dksX22_follows_0 21 rfl rfl)
theorem dX22_follows_22 : decode cX22_follows 22 = .ok (.invokevirtual 24, 3) := dk_182 0 24 (dk_at dksX22_follows_1 0 rfl rfl)
theorem dX22_follows_25 : decode cX22_follows 25 = .ok (.iload_n 3, 1) := dk_29 (dk_at dksX22_follows_1 3 rfl rfl)
theorem dX22_follows_26 : decode cX22_follows 26 = .ok (.ireturn, 1) := dk_172 (dk_at dksX22_follows_1 4 rfl rfl)
abbrev cX22_pointing : ByteArray := prog_22_method_4_code
def yX22_pointing : MethodName := ⟨RX22, "pointing", "(ILLineRemarks$Trace;)I"⟩
def dkwX22_pointing_0 : List UInt8 := [44, 16, 70, 182, 0, 28, 42, 27, 44, 183, 0, 34, 5, 104, 172]
abbrev dktX22_pointing_0 : List UInt8 := dkwX22_pointing_0 ++ []
theorem dksX22_pointing_0 : cX22_pointing.data.toList.drop 0 = dktX22_pointing_0 := by decide +kernel
theorem dX22_pointing_0 : decode cX22_pointing 0 = .ok (.aload_n 2, 1) := dk_44 (dk_at dksX22_pointing_0 0 rfl rfl)
theorem dX22_pointing_1 : decode cX22_pointing 1 = .ok (.bipush 70, 2) := dk_16 70 (dk_at dksX22_pointing_0 1 rfl rfl)
theorem dX22_pointing_3 : decode cX22_pointing 3 = .ok (.invokevirtual 28, 3) := dk_182 0 28 (dk_at dksX22_pointing_0 3 rfl rfl)
theorem dX22_pointing_6 : decode cX22_pointing 6 = .ok (.aload_n 0, 1) := dk_42 (dk_at dksX22_pointing_0 6 rfl rfl)
theorem dX22_pointing_7 : decode cX22_pointing 7 = .ok (.iload_n 1, 1) := dk_27 (dk_at dksX22_pointing_0 7 rfl rfl)
theorem dX22_pointing_8 : decode cX22_pointing 8 = .ok (.aload_n 2, 1) := dk_44 (dk_at dksX22_pointing_0 8 rfl rfl)
theorem dX22_pointing_9 : decode cX22_pointing 9 = .ok (.invokespecial 34, 3) := dk_183 0 34 (dk_at dksX22_pointing_0 9 rfl rfl)
theorem dX22_pointing_12 : decode cX22_pointing 12 = .ok (.iconst 2, 1) := dk_5 (dk_at dksX22_pointing_0 12 rfl rfl)
theorem dX22_pointing_13 : decode cX22_pointing 13 = .ok (.imul, 1) := dk_104 (dk_at dksX22_pointing_0 13 rfl rfl)
theorem dX22_pointing_14 : decode cX22_pointing 14 = .ok (.ireturn, 1) := dk_172 (dk_at dksX22_pointing_0 14 rfl rfl)
abbrev cX22_weighing : ByteArray := prog_22_method_5_code
def yX22_weighing : MethodName := ⟨RX22, "weighing", "(ILLineRemarks$Trace;)I"⟩
def dkwX22_weighing_0 : List UInt8 := [44, 16, 71, 182, 0, 28, 42, 27, 42, 180, 0, 38, 100, 44, 183, 0, 43, 172]
abbrev dktX22_weighing_0 : List UInt8 := dkwX22_weighing_0 ++ []
theorem dksX22_weighing_0 : cX22_weighing.data.toList.drop 0 = dktX22_weighing_0 := by decide +kernel
theorem dX22_weighing_0 : decode cX22_weighing 0 = .ok (.aload_n 2, 1) := dk_44 (dk_at dksX22_weighing_0 0 rfl rfl)
theorem dX22_weighing_1 : decode cX22_weighing 1 = .ok (.bipush 71, 2) := dk_16 71 (dk_at dksX22_weighing_0 1 rfl rfl)
theorem dX22_weighing_3 : decode cX22_weighing 3 = .ok (.invokevirtual 28, 3) := dk_182 0 28 (dk_at dksX22_weighing_0 3 rfl rfl)
theorem dX22_weighing_6 : decode cX22_weighing 6 = .ok (.aload_n 0, 1) := dk_42 (dk_at dksX22_weighing_0 6 rfl rfl)
theorem dX22_weighing_7 : decode cX22_weighing 7 = .ok (.iload_n 1, 1) := dk_27 (dk_at dksX22_weighing_0 7 rfl rfl)
theorem dX22_weighing_8 : decode cX22_weighing 8 = .ok (.aload_n 0, 1) := dk_42 (dk_at dksX22_weighing_0 8 rfl rfl)
theorem dX22_weighing_9 : decode cX22_weighing 9 = .ok (.getfield 38, 3) := dk_180 0 38 (dk_at dksX22_weighing_0 9 rfl rfl)
theorem dX22_weighing_12 : decode cX22_weighing 12 = .ok (.isub, 1) := dk_100 (dk_at dksX22_weighing_0 12 rfl rfl)
theorem dX22_weighing_13 : decode cX22_weighing 13 = .ok (.aload_n 2, 1) := dk_44 (dk_at dksX22_weighing_0 13 rfl rfl)
theorem dX22_weighing_14 : decode cX22_weighing 14 = .ok (.invokespecial 43, 3) := dk_183 0 43 (dk_at dksX22_weighing_0 14 rfl rfl)
theorem dX22_weighing_17 : decode cX22_weighing 17 = .ok (.ireturn, 1) := dk_172 (dk_at dksX22_weighing_0 17 rfl rfl)
theorem q151 : (Jvm.Cond.initialized "LineRemarks$Tail") ∈ lw_all := lw_g (lw_at lw_m1 65 rfl) rfl
theorem q243 : (Jvm.Cond.selects "LineRemarks$Tail" ({ cls := "java/lang/Object", name := "getClass", desc := "()Ljava/lang/Class;" } : Jvm.MethodName) ({ cls := "java/lang/Object", name := "getClass", desc := "()Ljava/lang/Class;" } : Jvm.MethodName)) ∈ lw_all := lw_g (lw_at lw_m1 157 rfl) rfl
theorem q1909 : (Jvm.Cond.fieldLink "LineRemarks$Tail" (19 : Nat) "LineRemarks$Match" "many" "I") ∈ lw_all := lw_g (lw_at lw_m8 143 rfl) rfl
theorem q2074 : (Jvm.Cond.fieldLink "LineRemarks$Tail" (38 : Nat) "LineRemarks$Tail" "by" "I") ∈ lw_all := lw_g (lw_at lw_m9 68 rfl) rfl
theorem q2075 : (Jvm.Cond.sameField "LineRemarks$Tail" "LineRemarks$Remark" "by" "I") ∈ lw_all := lw_g (lw_at lw_m9 69 rfl) rfl
theorem q2083 : (Jvm.Cond.sameField "LineRemarks$Tail" "LineRemarks$Remark" "on" "LLineRemarks$Revision;") ∈ lw_all := lw_g (lw_at lw_m9 77 rfl) rfl
theorem q2167 : (Jvm.Cond.instantiable "LineRemarks$Tail" (6 : Nat)) ∈ lw_all := lw_g (lw_at lw_m9 161 rfl) rfl
theorem q2169 : (Jvm.Cond.instanceMethod ({ cls := "LineRemarks$Tail", name := "<init>", desc := "(IILLineRemarks$Revision;III)V" } : Jvm.MethodName)) ∈ lw_all := lw_g (lw_at lw_m9 163 rfl) rfl
theorem q2170 : (Jvm.Cond.code ({ cls := "LineRemarks$Tail", name := "<init>", desc := "(IILLineRemarks$Revision;III)V" } : Jvm.MethodName) prog_22_method_1_code (7 : Nat) (Option.none : Option Jvm.ClassFile.FieldType)) ∈ lw_all := lw_g (lw_at lw_m9 164 rfl) rfl
theorem q2171 : (Jvm.Cond.methodLink "LineRemarks$Tail" (3 : Nat) ({ cls := "LineRemarks$Caret", name := "<init>", desc := "(IILLineRemarks$Revision;III)V" } : Jvm.MethodName)) ∈ lw_all := lw_g (lw_at lw_m9 165 rfl) rfl
theorem q2172 : (Jvm.Cond.laysFinal "LineRemarks$Tail" "LineRemarks$Remark" "index" "I") ∈ lw_all := lw_g (lw_at lw_m9 166 rfl) rfl
theorem q2173 : (Jvm.Cond.laysFinal "LineRemarks$Tail" "LineRemarks$Remark" "by" "I") ∈ lw_all := lw_g (lw_at lw_m9 167 rfl) rfl
theorem q2174 : (Jvm.Cond.laysFinal "LineRemarks$Tail" "LineRemarks$Remark" "on" "LLineRemarks$Revision;") ∈ lw_all := lw_g (lw_at lw_m9 168 rfl) rfl
theorem q2175 : (Jvm.Cond.laysFinal "LineRemarks$Tail" "LineRemarks$Remark" "p" "I") ∈ lw_all := lw_g (lw_at lw_m9 169 rfl) rfl
theorem q2176 : (Jvm.Cond.laysFinal "LineRemarks$Tail" "LineRemarks$Remark" "q" "I") ∈ lw_all := lw_g (lw_at lw_m9 170 rfl) rfl
theorem q2177 : (Jvm.Cond.laysFinal "LineRemarks$Tail" "LineRemarks$Remark" "answers" "I") ∈ lw_all := lw_g (lw_at lw_m9 171 rfl) rfl
theorem q2178 : (Jvm.Cond.superclass "LineRemarks$Tail" "LineRemarks$Caret") ∈ lw_all := lw_g (lw_at lw_m9 172 rfl) rfl
theorem q2212 : (Jvm.Cond.selects "LineRemarks$Tail" ({ cls := "LineRemarks$Remark", name := "kind", desc := "()I" } : Jvm.MethodName) ({ cls := "LineRemarks$Tail", name := "kind", desc := "()I" } : Jvm.MethodName)) ∈ lw_all := lw_g (lw_at lw_m9 206 rfl) rfl
theorem q2213 : (Jvm.Cond.instanceMethod ({ cls := "LineRemarks$Tail", name := "kind", desc := "()I" } : Jvm.MethodName)) ∈ lw_all := lw_g (lw_at lw_m9 207 rfl) rfl
theorem q2214 : (Jvm.Cond.code ({ cls := "LineRemarks$Tail", name := "kind", desc := "()I" } : Jvm.MethodName) prog_22_method_2_code (1 : Nat) (Option.some Jvm.ClassFile.FieldType.int)) ∈ lw_all := lw_g (lw_at lw_m9 208 rfl) rfl
theorem q2298 : (Jvm.Cond.fieldLink "LineRemarks$Tail" (13 : Nat) "LineRemarks$Span" "p" "I") ∈ lw_all := lw_g (lw_at lw_m10 52 rfl) rfl
theorem q2435 : (Jvm.Cond.selects "LineRemarks$Tail" ({ cls := "LineRemarks$Remark", name := "follows", desc := "(LLineRemarks$Span;LLineRemarks$Match;)Z" } : Jvm.MethodName) ({ cls := "LineRemarks$Tail", name := "follows", desc := "(LLineRemarks$Span;LLineRemarks$Match;)Z" } : Jvm.MethodName)) ∈ lw_all := lw_g (lw_at lw_m10 189 rfl) rfl
theorem q2436 : (Jvm.Cond.instanceMethod ({ cls := "LineRemarks$Tail", name := "follows", desc := "(LLineRemarks$Span;LLineRemarks$Match;)Z" } : Jvm.MethodName)) ∈ lw_all := lw_g (lw_at lw_m10 190 rfl) rfl
theorem q2437 : (Jvm.Cond.code ({ cls := "LineRemarks$Tail", name := "follows", desc := "(LLineRemarks$Span;LLineRemarks$Match;)Z" } : Jvm.MethodName) prog_22_method_3_code (4 : Nat) (Option.some Jvm.ClassFile.FieldType.boolean)) ∈ lw_all := lw_g (lw_at lw_m10 191 rfl) rfl
theorem q2438 : (Jvm.Cond.methodLink "LineRemarks$Tail" (9 : Nat) ({ cls := "LineRemarks$Caret", name := "follows", desc := "(LLineRemarks$Span;LLineRemarks$Match;)Z" } : Jvm.MethodName)) ∈ lw_all := lw_g (lw_at lw_m10 192 rfl) rfl
theorem q2439 : (Jvm.Cond.methodLink "LineRemarks$Tail" (24 : Nat) ({ cls := "LineRemarks$Span", name := "is", desc := "(II)V" } : Jvm.MethodName)) ∈ lw_all := lw_g (lw_at lw_m10 193 rfl) rfl
theorem q3033 : (Jvm.Cond.selects "LineRemarks$Tail" ({ cls := "java/lang/Object", name := "equals", desc := "(Ljava/lang/Object;)Z" } : Jvm.MethodName) ({ cls := "java/lang/Object", name := "equals", desc := "(Ljava/lang/Object;)Z" } : Jvm.MethodName)) ∈ lw_all := lw_g (lw_at lw_m13 67 rfl) rfl
theorem q3207 : (Jvm.Cond.selects "LineRemarks$Tail" ({ cls := "LineRemarks$Remark", name := "pointing", desc := "(ILLineRemarks$Trace;)I" } : Jvm.MethodName) ({ cls := "LineRemarks$Tail", name := "pointing", desc := "(ILLineRemarks$Trace;)I" } : Jvm.MethodName)) ∈ lw_all := lw_g (lw_at lw_m14 1 rfl) rfl
theorem q3208 : (Jvm.Cond.instanceMethod ({ cls := "LineRemarks$Tail", name := "pointing", desc := "(ILLineRemarks$Trace;)I" } : Jvm.MethodName)) ∈ lw_all := lw_g (lw_at lw_m14 2 rfl) rfl
theorem q3209 : (Jvm.Cond.code ({ cls := "LineRemarks$Tail", name := "pointing", desc := "(ILLineRemarks$Trace;)I" } : Jvm.MethodName) prog_22_method_4_code (3 : Nat) (Option.some Jvm.ClassFile.FieldType.int)) ∈ lw_all := lw_g (lw_at lw_m14 3 rfl) rfl
theorem q3210 : (Jvm.Cond.methodLink "LineRemarks$Tail" (28 : Nat) ({ cls := "LineRemarks$Trace", name := "runs", desc := "(I)V" } : Jvm.MethodName)) ∈ lw_all := lw_g (lw_at lw_m14 4 rfl) rfl
theorem q3211 : (Jvm.Cond.methodLink "LineRemarks$Tail" (34 : Nat) ({ cls := "LineRemarks$Caret", name := "pointing", desc := "(ILLineRemarks$Trace;)I" } : Jvm.MethodName)) ∈ lw_all := lw_g (lw_at lw_m14 5 rfl) rfl
theorem q3227 : (Jvm.Cond.selects "LineRemarks$Tail" ({ cls := "LineRemarks$Remark", name := "weighing", desc := "(ILLineRemarks$Trace;)I" } : Jvm.MethodName) ({ cls := "LineRemarks$Tail", name := "weighing", desc := "(ILLineRemarks$Trace;)I" } : Jvm.MethodName)) ∈ lw_all := lw_g (lw_at lw_m14 21 rfl) rfl
theorem q3228 : (Jvm.Cond.instanceMethod ({ cls := "LineRemarks$Tail", name := "weighing", desc := "(ILLineRemarks$Trace;)I" } : Jvm.MethodName)) ∈ lw_all := lw_g (lw_at lw_m14 22 rfl) rfl
theorem q3229 : (Jvm.Cond.code ({ cls := "LineRemarks$Tail", name := "weighing", desc := "(ILLineRemarks$Trace;)I" } : Jvm.MethodName) prog_22_method_5_code (3 : Nat) (Option.some Jvm.ClassFile.FieldType.int)) ∈ lw_all := lw_g (lw_at lw_m14 23 rfl) rfl
theorem q3230 : (Jvm.Cond.methodLink "LineRemarks$Tail" (43 : Nat) ({ cls := "LineRemarks$Caret", name := "weighing", desc := "(ILLineRemarks$Trace;)I" } : Jvm.MethodName)) ∈ lw_all := lw_g (lw_at lw_m14 24 rfl) rfl
theorem q3247 : (Jvm.Cond.selects "LineRemarks$Tail" ({ cls := "LineRemarks$Remark", name := "clinging", desc := "(ILLineRemarks$Trace;)I" } : Jvm.MethodName) ({ cls := "LineRemarks$Remark", name := "clinging", desc := "(ILLineRemarks$Trace;)I" } : Jvm.MethodName)) ∈ lw_all := lw_g (lw_at lw_m14 41 rfl) rfl
theorem q3790 : (Jvm.Cond.castable "LineRemarks$Tail" "LineRemarks$Remark") ∈ lw_tbl := lw_at lw_m16 104 rfl
theorem q3793 : (Jvm.Cond.castable "LineRemarks$Tail" "LineRemarks$Point") ∈ lw_tbl := lw_at lw_m16 107 rfl
theorem q3795 : (Jvm.Cond.castable "LineRemarks$Tail" "LineRemarks$Caret") ∈ lw_tbl := lw_at lw_m16 109 rfl
theorem q3833 : (Jvm.Cond.castable "LineRemarks$Tail" "java/lang/Object") ∈ lw_tbl := lw_at lw_m16 147 rfl
theorem in_X22 : ∀ w ∈ wsX220, w ∈ lw_all := lw_in wsX220 [2172, 2173, 2174, 2175, 2176, 2177] (by decide +kernel) (by decide +kernel)
/-! LineRemarks$Walk -/
set_option maxRecDepth 100000
def RX23 : String := "LineRemarks$Walk"
def TX23 : u_T := fun k => match k with
  | 0 => ("LineRemarks$Walk", "span", "LLineRemarks$Span;", true)
  | 1 => ("LineRemarks$Walk", "context", "LLineRemarks$Context;", true)
  | 2 => ("LineRemarks$Walk", "w", "LLineRemarks$World;", true)
  | 3 => ("LineRemarks$Walk", "by", "LLineRemarks$Remark;", false)
  | 4 => ("LineRemarks$Walk", "at", "LLineRemarks$Revision;", false)
  | _ => ("LineRemarks$Walk", "how", "I", false)
def tyX23 : Nat → FieldType := fun k => match k with
  | 0 => .object "LineRemarks$Span"
  | 1 => .object "LineRemarks$Context"
  | 2 => .object "LineRemarks$World"
  | 3 => .object "LineRemarks$Remark"
  | 4 => .object "LineRemarks$Revision"
  | _ => .int
abbrev wsX230 : List Cond := u_ws RX23 TX23 6
theorem nmX23 : ∀ a, a < 6 → ∀ b, b < 6 → a ≠ b → (TX23 a).2.1 ≠ (TX23 b).2.1 := by decide +kernel
theorem tyX23_ok : ∀ k, k < 6 → parseFieldDescriptor (TX23 k).2.2.1 = some (tyX23 k) := by decide +kernel
abbrev cX23_init : ByteArray := prog_24_method_1_code
def yX23_init : MethodName := ⟨RX23, "<init>", "(LLineRemarks$World;)V"⟩
def dkwX23_init_1 : List UInt8 := [181, 0, 21, 42, 43, 181, 0, 25, 177]
abbrev dktX23_init_1 : List UInt8 := dkwX23_init_1 ++ []
def dkwX23_init_0 : List UInt8 := [42, 183, 0, 3, 42, 187, 0, 9, 89, 183, 0, 11, 181, 0, 12, 42, 187, 0, 18, 89, 183, 0, 20]
abbrev dktX23_init_0 : List UInt8 := dkwX23_init_0 ++ dktX23_init_1
theorem dksX23_init_0 : cX23_init.data.toList.drop 0 = dktX23_init_0 := by decide +kernel
theorem dksX23_init_1 : cX23_init.data.toList.drop 23 = dktX23_init_1 := dk_seg dksX23_init_0 23 rfl rfl
theorem dX23_init_0 : decode cX23_init 0 = .ok (.aload_n 0, 1) := dk_42 (dk_at dksX23_init_0 0 rfl rfl)
theorem dX23_init_1 : decode cX23_init 1 = .ok (.invokespecial 3, 3) := dk_183 0 3 (dk_at dksX23_init_0 1 rfl rfl)
theorem dX23_init_4 : decode cX23_init 4 = .ok (.aload_n 0, 1) := dk_42 (dk_at dksX23_init_0 4 rfl rfl)
theorem dX23_init_5 : decode cX23_init 5 = .ok (.new 9, 3) := dk_187 0 9 (dk_at dksX23_init_0 5 rfl rfl)
theorem dX23_init_8 : decode cX23_init 8 = .ok (.dup, 1) := dk_89 (dk_at dksX23_init_0 8 rfl rfl)
theorem dX23_init_9 : decode cX23_init 9 = .ok (.invokespecial 11, 3) := dk_183 0 11 (dk_at dksX23_init_0 9 rfl rfl)
theorem dX23_init_12 : decode cX23_init 12 = .ok (.putfield 12, 3) := dk_181 0 12 (dk_at dksX23_init_0 12 rfl rfl)
theorem dX23_init_15 : decode cX23_init 15 = .ok (.aload_n 0, 1) := dk_42 (dk_at dksX23_init_0 15 rfl rfl)
theorem dX23_init_16 : decode cX23_init 16 = .ok (.new 18, 3) := dk_187 0 18 (dk_at dksX23_init_0 16 rfl rfl)
theorem dX23_init_19 : decode cX23_init 19 = .ok (.dup, 1) := dk_89 (dk_at dksX23_init_0 19 rfl rfl)
theorem dX23_init_20 : decode cX23_init 20 = .ok (.invokespecial 20, 3) := dk_183 0 20 (dk_at dksX23_init_0 20 rfl rfl)
theorem dX23_init_23 : decode cX23_init 23 = .ok (.putfield 21, 3) := dk_181 0 21 (dk_at dksX23_init_1 0 rfl rfl)
theorem dX23_init_26 : decode cX23_init 26 = .ok (.aload_n 0, 1) := dk_42 (dk_at dksX23_init_1 3 rfl rfl)
theorem dX23_init_27 : decode cX23_init 27 = .ok (.aload_n 1, 1) := dk_43 (dk_at dksX23_init_1 4 rfl rfl)
theorem dX23_init_28 : decode cX23_init 28 = .ok (.putfield 25, 3) := dk_181 0 25 (dk_at dksX23_init_1 5 rfl rfl)
theorem dX23_init_31 : decode cX23_init 31 = .ok (.return_, 1) := dk_177 (dk_at dksX23_init_1 8 rfl rfl)
abbrev cX23_to : ByteArray := prog_24_method_7_code
def yX23_to : MethodName := ⟨RX23, "to", "(LLineRemarks$Remark;LLineRemarks$Revision;)LLineRemarks$Walk;"⟩
def dkwX23_to_2 : List UInt8 := [25, 4, 182, 0, 125, 167, 255, 221, 42, 176]
abbrev dktX23_to_2 : List UInt8 := dkwX23_to_2 ++ []
def dkwX23_to_1 : List UInt8 := [153, 0, 32, 45, 185, 0, 121, 1, 0, 192, 0, 89, 58, 4, 25, 4, 43, 180, 0, 33, 165, 0, 9, 42]
abbrev dktX23_to_1 : List UInt8 := dkwX23_to_1 ++ dktX23_to_2
def dkwX23_to_0 : List UInt8 := [42, 43, 182, 0, 102, 44, 43, 180, 0, 33, 182, 0, 106, 182, 0, 110, 78, 45, 185, 0, 116, 1, 0]
abbrev dktX23_to_0 : List UInt8 := dkwX23_to_0 ++ dktX23_to_1
theorem dksX23_to_0 : cX23_to.data.toList.drop 0 = dktX23_to_0 := by decide +kernel
theorem dksX23_to_1 : cX23_to.data.toList.drop 23 = dktX23_to_1 := dk_seg dksX23_to_0 23 rfl rfl
theorem dksX23_to_2 : cX23_to.data.toList.drop 47 = dktX23_to_2 := dk_seg dksX23_to_1 24 rfl rfl
theorem dX23_to_0 : decode cX23_to 0 = .ok (.aload_n 0, 1) := dk_42 (dk_at dksX23_to_0 0 rfl rfl)
theorem dX23_to_1 : decode cX23_to 1 = .ok (.aload_n 1, 1) := dk_43 (dk_at dksX23_to_0 1 rfl rfl)
theorem dX23_to_2 : decode cX23_to 2 = .ok (.invokevirtual 102, 3) := dk_182 0 102 (dk_at dksX23_to_0 2 rfl rfl)
theorem dX23_to_5 : decode cX23_to 5 = .ok (.aload_n 2, 1) := dk_44 (dk_at dksX23_to_0 5 rfl rfl)
theorem dX23_to_6 : decode cX23_to 6 = .ok (.aload_n 1, 1) := dk_43 (dk_at dksX23_to_0 6 rfl rfl)
theorem dX23_to_7 : decode cX23_to 7 = .ok (.getfield 33, 3) := dk_180 0 33 (dk_at dksX23_to_0 7 rfl rfl)
theorem dX23_to_10 : decode cX23_to 10 = .ok (.invokevirtual 106, 3) := dk_182 0 106 (dk_at dksX23_to_0 10 rfl rfl)
theorem dX23_to_13 : decode cX23_to 13 = .ok (.invokevirtual 110, 3) := dk_182 0 110 (dk_at dksX23_to_0 13 rfl rfl)
theorem dX23_to_16 : decode cX23_to 16 = .ok (.astore_n 3, 1) := dk_78 (dk_at dksX23_to_0 16 rfl rfl)
theorem dX23_to_17 : decode cX23_to 17 = .ok (.aload_n 3, 1) := dk_45 (dk_at dksX23_to_0 17 rfl rfl)
theorem dX23_to_18 : decode cX23_to 18 = .ok (.invokeinterface 116 1, 5) := by decide +kernel
theorem dX23_to_23 : decode cX23_to 23 = .ok (.ifCond .eq 32, 3) := dk_153 0 32 (dk_at dksX23_to_1 0 rfl rfl)
theorem dX23_to_26 : decode cX23_to 26 = .ok (.aload_n 3, 1) := dk_45 (dk_at dksX23_to_1 3 rfl rfl)
theorem dX23_to_27 : decode cX23_to 27 = .ok (.invokeinterface 121 1, 5) := by decide +kernel
theorem dX23_to_32 : decode cX23_to 32 = .ok (.checkcast 89, 3) := dk_192 0 89 (dk_at dksX23_to_1 9 rfl rfl)
theorem dX23_to_35 : decode cX23_to 35 = .ok (.astore 4, 2) := dk_58 4 (dk_at dksX23_to_1 12 rfl rfl)
theorem dX23_to_37 : decode cX23_to 37 = .ok (.aload 4, 2) := dk_25 4 (dk_at dksX23_to_1 14 rfl rfl)
theorem dX23_to_39 : decode cX23_to 39 = .ok (.aload_n 1, 1) := dk_43 (dk_at dksX23_to_1 16 rfl rfl)
theorem dX23_to_40 : decode cX23_to 40 = .ok (.getfield 33, 3) := dk_180 0 33 (dk_at dksX23_to_1 17 rfl rfl)
theorem dX23_to_43 : decode cX23_to 43 = .ok (.if_acmp .eq 9, 3) := dk_165 0 9 (dk_at dksX23_to_1 20 rfl rfl)
theorem dX23_to_46 : decode cX23_to 46 = .ok (.aload_n 0, 1) := dk_42 (dk_at dksX23_to_1 23 rfl rfl)
theorem dX23_to_47 : decode cX23_to 47 = .ok (.aload 4, 2) := dk_25 4 (dk_at dksX23_to_2 0 rfl rfl)
theorem dX23_to_49 : decode cX23_to 49 = .ok (.invokevirtual 125, 3) := dk_182 0 125 (dk_at dksX23_to_2 2 rfl rfl)
theorem dX23_to_52 : decode cX23_to 52 = .ok (.goto (-35), 3) := dk_167 255 221 (dk_at dksX23_to_2 5 rfl rfl)
theorem dX23_to_55 : decode cX23_to 55 = .ok (.aload_n 0, 1) := dk_42 (dk_at dksX23_to_2 8 rfl rfl)
theorem dX23_to_56 : decode cX23_to 56 = .ok (.areturn, 1) := dk_176 (dk_at dksX23_to_2 9 rfl rfl)
abbrev cX23_begin : ByteArray := prog_24_method_2_code
def yX23_begin : MethodName := ⟨RX23, "begin", "(LLineRemarks$Remark;)V"⟩
def dkwX23_begin_1 : List UInt8 := [180, 0, 46, 182, 0, 49, 42, 3, 181, 0, 53, 177]
abbrev dktX23_begin_1 : List UInt8 := dkwX23_begin_1 ++ []
def dkwX23_begin_0 : List UInt8 := [42, 43, 181, 0, 29, 42, 43, 180, 0, 33, 181, 0, 39, 42, 180, 0, 12, 43, 180, 0, 42, 43]
abbrev dktX23_begin_0 : List UInt8 := dkwX23_begin_0 ++ dktX23_begin_1
theorem dksX23_begin_0 : cX23_begin.data.toList.drop 0 = dktX23_begin_0 := by decide +kernel
theorem dksX23_begin_1 : cX23_begin.data.toList.drop 22 = dktX23_begin_1 := dk_seg dksX23_begin_0 22 rfl rfl
theorem dX23_begin_0 : decode cX23_begin 0 = .ok (.aload_n 0, 1) := dk_42 (dk_at dksX23_begin_0 0 rfl rfl)
theorem dX23_begin_1 : decode cX23_begin 1 = .ok (.aload_n 1, 1) := dk_43 (dk_at dksX23_begin_0 1 rfl rfl)
theorem dX23_begin_2 : decode cX23_begin 2 = .ok (.putfield 29, 3) := dk_181 0 29 (dk_at dksX23_begin_0 2 rfl rfl)
theorem dX23_begin_5 : decode cX23_begin 5 = .ok (.aload_n 0, 1) := dk_42 (dk_at dksX23_begin_0 5 rfl rfl)
theorem dX23_begin_6 : decode cX23_begin 6 = .ok (.aload_n 1, 1) := dk_43 (dk_at dksX23_begin_0 6 rfl rfl)
theorem dX23_begin_7 : decode cX23_begin 7 = .ok (.getfield 33, 3) := dk_180 0 33 (dk_at dksX23_begin_0 7 rfl rfl)
theorem dX23_begin_10 : decode cX23_begin 10 = .ok (.putfield 39, 3) := dk_181 0 39 (dk_at dksX23_begin_0 10 rfl rfl)
theorem dX23_begin_13 : decode cX23_begin 13 = .ok (.aload_n 0, 1) := dk_42 (dk_at dksX23_begin_0 13 rfl rfl)
theorem dX23_begin_14 : decode cX23_begin 14 = .ok (.getfield 12, 3) := dk_180 0 12 (dk_at dksX23_begin_0 14 rfl rfl)
theorem dX23_begin_17 : decode cX23_begin 17 = .ok (.aload_n 1, 1) := dk_43 (dk_at dksX23_begin_0 17 rfl rfl)
theorem dX23_begin_18 : decode cX23_begin 18 = .ok (.getfield 42, 3) := dk_180 0 42 (dk_at dksX23_begin_0 18 rfl rfl)
theorem dX23_begin_21 : decode cX23_begin 21 = .ok (.aload_n 1, 1) := dk_43 (dk_at dksX23_begin_0 21 rfl rfl)
theorem dX23_begin_22 : decode cX23_begin 22 = .ok (.getfield 46, 3) := dk_180 0 46 (dk_at dksX23_begin_1 0 rfl rfl)
theorem dX23_begin_25 : decode cX23_begin 25 = .ok (.invokevirtual 49, 3) := dk_182 0 49 (dk_at dksX23_begin_1 3 rfl rfl)
theorem dX23_begin_28 : decode cX23_begin 28 = .ok (.aload_n 0, 1) := dk_42 (dk_at dksX23_begin_1 6 rfl rfl)
theorem dX23_begin_29 : decode cX23_begin 29 = .ok (.iconst 0, 1) := dk_3 (dk_at dksX23_begin_1 7 rfl rfl)
theorem dX23_begin_30 : decode cX23_begin 30 = .ok (.putfield 53, 3) := dk_181 0 53 (dk_at dksX23_begin_1 8 rfl rfl)
theorem dX23_begin_33 : decode cX23_begin 33 = .ok (.return_, 1) := dk_177 (dk_at dksX23_begin_1 11 rfl rfl)
abbrev cX23_step : ByteArray := prog_24_method_6_code
def yX23_step : MethodName := ⟨RX23, "step", "(LLineRemarks$Revision;)V"⟩
def dkwX23_step_2 : List UInt8 := [182, 0, 98, 42, 43, 181, 0, 39, 177]
abbrev dktX23_step_2 : List UInt8 := dkwX23_step_2 ++ []
def dkwX23_step_1 : List UInt8 := [180, 0, 85, 182, 0, 88, 182, 0, 94, 153, 0, 11, 42, 4, 181, 0, 53, 167, 0, 8, 42, 43]
abbrev dktX23_step_1 : List UInt8 := dkwX23_step_1 ++ dktX23_step_2
def dkwX23_step_0 : List UInt8 := [42, 182, 0, 83, 42, 182, 0, 56, 154, 0, 36, 42, 180, 0, 29, 42, 180, 0, 12, 43, 42, 180, 0, 25]
abbrev dktX23_step_0 : List UInt8 := dkwX23_step_0 ++ dktX23_step_1
theorem dksX23_step_0 : cX23_step.data.toList.drop 0 = dktX23_step_0 := by decide +kernel
theorem dksX23_step_1 : cX23_step.data.toList.drop 24 = dktX23_step_1 := dk_seg dksX23_step_0 24 rfl rfl
theorem dksX23_step_2 : cX23_step.data.toList.drop 46 = dktX23_step_2 := dk_seg dksX23_step_1 22 rfl rfl
theorem dX23_step_0 : decode cX23_step 0 = .ok (.aload_n 0, 1) := dk_42 (dk_at dksX23_step_0 0 rfl rfl)
theorem dX23_step_1 : decode cX23_step 1 = .ok (.invokevirtual 83, 3) := dk_182 0 83 (dk_at dksX23_step_0 1 rfl rfl)
theorem dX23_step_4 : decode cX23_step 4 = .ok (.aload_n 0, 1) := dk_42 (dk_at dksX23_step_0 4 rfl rfl)
theorem dX23_step_5 : decode cX23_step 5 = .ok (.invokevirtual 56, 3) := dk_182 0 56 (dk_at dksX23_step_0 5 rfl rfl)
theorem dX23_step_8 : decode cX23_step 8 = .ok (.ifCond .ne 36, 3) := dk_154 0 36 (dk_at dksX23_step_0 8 rfl rfl)
theorem dX23_step_11 : decode cX23_step 11 = .ok (.aload_n 0, 1) := dk_42 (dk_at dksX23_step_0 11 rfl rfl)
theorem dX23_step_12 : decode cX23_step 12 = .ok (.getfield 29, 3) := dk_180 0 29 (dk_at dksX23_step_0 12 rfl rfl)
theorem dX23_step_15 : decode cX23_step 15 = .ok (.aload_n 0, 1) := dk_42 (dk_at dksX23_step_0 15 rfl rfl)
theorem dX23_step_16 : decode cX23_step 16 = .ok (.getfield 12, 3) := dk_180 0 12 (dk_at dksX23_step_0 16 rfl rfl)
theorem dX23_step_19 : decode cX23_step 19 = .ok (.aload_n 1, 1) := dk_43 (dk_at dksX23_step_0 19 rfl rfl)
theorem dX23_step_20 : decode cX23_step 20 = .ok (.aload_n 0, 1) := dk_42 (dk_at dksX23_step_0 20 rfl rfl)
theorem dX23_step_21 : decode cX23_step 21 = .ok (.getfield 25, 3) := dk_180 0 25 (dk_at dksX23_step_0 21 rfl rfl)
theorem dX23_step_24 : decode cX23_step 24 = .ok (.getfield 85, 3) := dk_180 0 85 (dk_at dksX23_step_1 0 rfl rfl)
theorem dX23_step_27 : decode cX23_step 27 = .ok (.invokevirtual 88, 3) := dk_182 0 88 (dk_at dksX23_step_1 3 rfl rfl)
theorem dX23_step_30 : decode cX23_step 30 = .ok (.invokevirtual 94, 3) := dk_182 0 94 (dk_at dksX23_step_1 6 rfl rfl)
theorem dX23_step_33 : decode cX23_step 33 = .ok (.ifCond .eq 11, 3) := dk_153 0 11 (dk_at dksX23_step_1 9 rfl rfl)
theorem dX23_step_36 : decode cX23_step 36 = .ok (.aload_n 0, 1) := dk_42 (dk_at dksX23_step_1 12 rfl rfl)
theorem dX23_step_37 : decode cX23_step 37 = .ok (.iconst 1, 1) := dk_4 (dk_at dksX23_step_1 13 rfl rfl)
theorem dX23_step_38 : decode cX23_step 38 = .ok (.putfield 53, 3) := dk_181 0 53 (dk_at dksX23_step_1 14 rfl rfl)
theorem dX23_step_41 : decode cX23_step 41 = .ok (.goto 8, 3) := dk_167 0 8 (dk_at dksX23_step_1 17 rfl rfl)
theorem dX23_step_44 : decode cX23_step 44 = .ok (.aload_n 0, 1) := dk_42 (dk_at dksX23_step_1 20 rfl rfl)
theorem dX23_step_45 : decode cX23_step 45 = .ok (.aload_n 1, 1) := dk_43 (dk_at dksX23_step_1 21 rfl rfl)
theorem dX23_step_46 : decode cX23_step 46 = .ok (.invokevirtual 98, 3) := dk_182 0 98 (dk_at dksX23_step_2 0 rfl rfl)
theorem dX23_step_49 : decode cX23_step 49 = .ok (.aload_n 0, 1) := dk_42 (dk_at dksX23_step_2 3 rfl rfl)
theorem dX23_step_50 : decode cX23_step 50 = .ok (.aload_n 1, 1) := dk_43 (dk_at dksX23_step_2 4 rfl rfl)
theorem dX23_step_51 : decode cX23_step 51 = .ok (.putfield 39, 3) := dk_181 0 39 (dk_at dksX23_step_2 5 rfl rfl)
theorem dX23_step_54 : decode cX23_step 54 = .ok (.return_, 1) := dk_177 (dk_at dksX23_step_2 8 rfl rfl)
abbrev cX23_keep : ByteArray := prog_24_method_4_code
def yX23_keep : MethodName := ⟨RX23, "keep", "()V"⟩
def dkwX23_keep_0 : List UInt8 := [42, 182, 0, 56, 154, 0, 18, 42, 180, 0, 21, 42, 180, 0, 39, 42, 180, 0, 12, 182, 0, 60, 177]
abbrev dktX23_keep_0 : List UInt8 := dkwX23_keep_0 ++ []
theorem dksX23_keep_0 : cX23_keep.data.toList.drop 0 = dktX23_keep_0 := by decide +kernel
theorem dX23_keep_0 : decode cX23_keep 0 = .ok (.aload_n 0, 1) := dk_42 (dk_at dksX23_keep_0 0 rfl rfl)
theorem dX23_keep_1 : decode cX23_keep 1 = .ok (.invokevirtual 56, 3) := dk_182 0 56 (dk_at dksX23_keep_0 1 rfl rfl)
theorem dX23_keep_4 : decode cX23_keep 4 = .ok (.ifCond .ne 18, 3) := dk_154 0 18 (dk_at dksX23_keep_0 4 rfl rfl)
theorem dX23_keep_7 : decode cX23_keep 7 = .ok (.aload_n 0, 1) := dk_42 (dk_at dksX23_keep_0 7 rfl rfl)
theorem dX23_keep_8 : decode cX23_keep 8 = .ok (.getfield 21, 3) := dk_180 0 21 (dk_at dksX23_keep_0 8 rfl rfl)
theorem dX23_keep_11 : decode cX23_keep 11 = .ok (.aload_n 0, 1) := dk_42 (dk_at dksX23_keep_0 11 rfl rfl)
theorem dX23_keep_12 : decode cX23_keep 12 = .ok (.getfield 39, 3) := dk_180 0 39 (dk_at dksX23_keep_0 12 rfl rfl)
theorem dX23_keep_15 : decode cX23_keep 15 = .ok (.aload_n 0, 1) := dk_42 (dk_at dksX23_keep_0 15 rfl rfl)
theorem dX23_keep_16 : decode cX23_keep 16 = .ok (.getfield 12, 3) := dk_180 0 12 (dk_at dksX23_keep_0 16 rfl rfl)
theorem dX23_keep_19 : decode cX23_keep 19 = .ok (.invokevirtual 60, 3) := dk_182 0 60 (dk_at dksX23_keep_0 19 rfl rfl)
theorem dX23_keep_22 : decode cX23_keep 22 = .ok (.return_, 1) := dk_177 (dk_at dksX23_keep_0 22 rfl rfl)
abbrev cX23_isLost : ByteArray := prog_24_method_3_code
def yX23_isLost : MethodName := ⟨RX23, "isLost", "()Z"⟩
def dkwX23_isLost_0 : List UInt8 := [42, 180, 0, 53, 6, 160, 0, 7, 4, 167, 0, 4, 3, 172]
abbrev dktX23_isLost_0 : List UInt8 := dkwX23_isLost_0 ++ []
theorem dksX23_isLost_0 : cX23_isLost.data.toList.drop 0 = dktX23_isLost_0 := by decide +kernel
theorem dX23_isLost_0 : decode cX23_isLost 0 = .ok (.aload_n 0, 1) := dk_42 (dk_at dksX23_isLost_0 0 rfl rfl)
theorem dX23_isLost_1 : decode cX23_isLost 1 = .ok (.getfield 53, 3) := dk_180 0 53 (dk_at dksX23_isLost_0 1 rfl rfl)
theorem dX23_isLost_4 : decode cX23_isLost 4 = .ok (.iconst 3, 1) := dk_6 (dk_at dksX23_isLost_0 4 rfl rfl)
theorem dX23_isLost_5 : decode cX23_isLost 5 = .ok (.if_icmp .ne 7, 3) := dk_160 0 7 (dk_at dksX23_isLost_0 5 rfl rfl)
theorem dX23_isLost_8 : decode cX23_isLost 8 = .ok (.iconst 1, 1) := dk_4 (dk_at dksX23_isLost_0 8 rfl rfl)
theorem dX23_isLost_9 : decode cX23_isLost 9 = .ok (.goto 4, 3) := dk_167 0 4 (dk_at dksX23_isLost_0 9 rfl rfl)
theorem dX23_isLost_12 : decode cX23_isLost 12 = .ok (.iconst 0, 1) := dk_3 (dk_at dksX23_isLost_0 12 rfl rfl)
theorem dX23_isLost_13 : decode cX23_isLost 13 = .ok (.ireturn, 1) := dk_172 (dk_at dksX23_isLost_0 13 rfl rfl)
abbrev cX23_comesBack : ByteArray := prog_24_method_5_code
def yX23_comesBack : MethodName := ⟨RX23, "comesBack", "(LLineRemarks$Revision;)V"⟩
def dkwX23_comesBack_2 : List UInt8 := [181, 0, 53, 42, 180, 0, 12, 28, 28, 42, 180, 0, 21, 180, 0, 79, 190, 96, 4, 100, 182, 0, 49, 177]
abbrev dktX23_comesBack_2 : List UInt8 := dkwX23_comesBack_2 ++ []
def dkwX23_comesBack_1 : List UInt8 := [159, 0, 47, 42, 180, 0, 21, 43, 28, 182, 0, 73, 42, 180, 0, 25, 180, 0, 76, 161, 0, 28, 42, 5]
abbrev dktX23_comesBack_1 : List UInt8 := dkwX23_comesBack_1 ++ dktX23_comesBack_2
def dkwX23_comesBack_0 : List UInt8 := [42, 180, 0, 21, 43, 42, 180, 0, 25, 180, 0, 64, 182, 0, 69, 61, 42, 6, 181, 0, 53, 28, 2]
abbrev dktX23_comesBack_0 : List UInt8 := dkwX23_comesBack_0 ++ dktX23_comesBack_1
theorem dksX23_comesBack_0 : cX23_comesBack.data.toList.drop 0 = dktX23_comesBack_0 := by decide +kernel
theorem dksX23_comesBack_1 : cX23_comesBack.data.toList.drop 23 = dktX23_comesBack_1 := dk_seg dksX23_comesBack_0 23 rfl rfl
theorem dksX23_comesBack_2 : cX23_comesBack.data.toList.drop 47 = dktX23_comesBack_2 := dk_seg dksX23_comesBack_1 24 rfl rfl
theorem dX23_comesBack_0 : decode cX23_comesBack 0 = .ok (.aload_n 0, 1) := dk_42 (dk_at dksX23_comesBack_0 0 rfl rfl)
theorem dX23_comesBack_1 : decode cX23_comesBack 1 = .ok (.getfield 21, 3) := dk_180 0 21 (dk_at dksX23_comesBack_0 1 rfl rfl)
theorem dX23_comesBack_4 : decode cX23_comesBack 4 = .ok (.aload_n 1, 1) := dk_43 (dk_at dksX23_comesBack_0 4 rfl rfl)
theorem dX23_comesBack_5 : decode cX23_comesBack 5 = .ok (.aload_n 0, 1) := dk_42 (dk_at dksX23_comesBack_0 5 rfl rfl)
theorem dX23_comesBack_6 : decode cX23_comesBack 6 = .ok (.getfield 25, 3) := dk_180 0 25 (dk_at dksX23_comesBack_0 6 rfl rfl)
theorem dX23_comesBack_9 : decode cX23_comesBack 9 = .ok (.getfield 64, 3) := dk_180 0 64 (dk_at dksX23_comesBack_0 9 rfl rfl)
theorem dX23_comesBack_12 : decode cX23_comesBack 12 = .ok (.invokevirtual 69, 3) := dk_182 0 69 (dk_at dksX23_comesBack_0 12 rfl rfl)
theorem dX23_comesBack_15 : decode cX23_comesBack 15 = .ok (.istore_n 2, 1) := dk_61 (dk_at dksX23_comesBack_0 15 rfl rfl)
theorem dX23_comesBack_16 : decode cX23_comesBack 16 = .ok (.aload_n 0, 1) := dk_42 (dk_at dksX23_comesBack_0 16 rfl rfl)
theorem dX23_comesBack_17 : decode cX23_comesBack 17 = .ok (.iconst 3, 1) := dk_6 (dk_at dksX23_comesBack_0 17 rfl rfl)
theorem dX23_comesBack_18 : decode cX23_comesBack 18 = .ok (.putfield 53, 3) := dk_181 0 53 (dk_at dksX23_comesBack_0 18 rfl rfl)
theorem dX23_comesBack_21 : decode cX23_comesBack 21 = .ok (.iload_n 2, 1) := dk_28 (dk_at dksX23_comesBack_0 21 rfl rfl)
theorem dX23_comesBack_22 : decode cX23_comesBack 22 = .ok (.iconst (-1), 1) := dk_2 (dk_at dksX23_comesBack_0 22 rfl rfl)
theorem dX23_comesBack_23 : decode cX23_comesBack 23 = .ok (.if_icmp .eq 47, 3) := dk_159 0 47 (dk_at dksX23_comesBack_1 0 rfl rfl)
theorem dX23_comesBack_26 : decode cX23_comesBack 26 = .ok (.aload_n 0, 1) := dk_42 (dk_at dksX23_comesBack_1 3 rfl rfl)
theorem dX23_comesBack_27 : decode cX23_comesBack 27 = .ok (.getfield 21, 3) := dk_180 0 21 (dk_at dksX23_comesBack_1 4 rfl rfl)
theorem dX23_comesBack_30 : decode cX23_comesBack 30 = .ok (.aload_n 1, 1) := dk_43 (dk_at dksX23_comesBack_1 7 rfl rfl)
theorem dX23_comesBack_31 : decode cX23_comesBack 31 = .ok (.iload_n 2, 1) := dk_28 (dk_at dksX23_comesBack_1 8 rfl rfl)
theorem dX23_comesBack_32 : decode cX23_comesBack 32 = .ok (.invokevirtual 73, 3) := dk_182 0 73 (dk_at dksX23_comesBack_1 9 rfl rfl)
theorem dX23_comesBack_35 : decode cX23_comesBack 35 = .ok (.aload_n 0, 1) := dk_42 (dk_at dksX23_comesBack_1 12 rfl rfl)
theorem dX23_comesBack_36 : decode cX23_comesBack 36 = .ok (.getfield 25, 3) := dk_180 0 25 (dk_at dksX23_comesBack_1 13 rfl rfl)
theorem dX23_comesBack_39 : decode cX23_comesBack 39 = .ok (.getfield 76, 3) := dk_180 0 76 (dk_at dksX23_comesBack_1 16 rfl rfl)
theorem dX23_comesBack_42 : decode cX23_comesBack 42 = .ok (.if_icmp .lt 28, 3) := dk_161 0 28 (dk_at dksX23_comesBack_1 19 rfl rfl)
theorem dX23_comesBack_45 : decode cX23_comesBack 45 = .ok (.aload_n 0, 1) := dk_42 (dk_at dksX23_comesBack_1 22 rfl rfl)
theorem dX23_comesBack_46 : decode cX23_comesBack 46 = .ok (.iconst 2, 1) := dk_5 (dk_at dksX23_comesBack_1 23 rfl rfl)
theorem dX23_comesBack_47 : decode cX23_comesBack 47 = .ok (.putfield 53, 3) := dk_181 0 53 (dk_at dksX23_comesBack_2 0 rfl rfl)
theorem dX23_comesBack_50 : decode cX23_comesBack 50 = .ok (.aload_n 0, 1) := dk_42 (dk_at dksX23_comesBack_2 3 rfl rfl)
theorem dX23_comesBack_51 : decode cX23_comesBack 51 = .ok (.getfield 12, 3) := dk_180 0 12 (dk_at dksX23_comesBack_2 4 rfl rfl)
theorem dX23_comesBack_54 : decode cX23_comesBack 54 = .ok (.iload_n 2, 1) := dk_28 (dk_at dksX23_comesBack_2 7 rfl rfl)
theorem dX23_comesBack_55 : decode cX23_comesBack 55 = .ok (.iload_n 2, 1) := dk_28 (dk_at dksX23_comesBack_2 8 rfl rfl)
theorem dX23_comesBack_56 : decode cX23_comesBack 56 = .ok (.aload_n 0, 1) := dk_42 (dk_at dksX23_comesBack_2 9 rfl rfl)
theorem dX23_comesBack_57 : decode cX23_comesBack 57 = .ok (.getfield 21, 3) := dk_180 0 21 (dk_at dksX23_comesBack_2 10 rfl rfl)
theorem dX23_comesBack_60 : decode cX23_comesBack 60 = .ok (.getfield 79, 3) := dk_180 0 79 (dk_at dksX23_comesBack_2 13 rfl rfl)
theorem dX23_comesBack_63 : decode cX23_comesBack 63 = .ok (.arraylength, 1) := dk_190 (dk_at dksX23_comesBack_2 16 rfl rfl)
theorem dX23_comesBack_64 : decode cX23_comesBack 64 = .ok (.iadd, 1) := dk_96 (dk_at dksX23_comesBack_2 17 rfl rfl)
theorem dX23_comesBack_65 : decode cX23_comesBack 65 = .ok (.iconst 1, 1) := dk_4 (dk_at dksX23_comesBack_2 18 rfl rfl)
theorem dX23_comesBack_66 : decode cX23_comesBack 66 = .ok (.isub, 1) := dk_100 (dk_at dksX23_comesBack_2 19 rfl rfl)
theorem dX23_comesBack_67 : decode cX23_comesBack 67 = .ok (.invokevirtual 49, 3) := dk_182 0 49 (dk_at dksX23_comesBack_2 20 rfl rfl)
theorem dX23_comesBack_70 : decode cX23_comesBack 70 = .ok (.return_, 1) := dk_177 (dk_at dksX23_comesBack_2 23 rfl rfl)
abbrev cX23_aheadOf : ByteArray := prog_24_method_8_code
def yX23_aheadOf : MethodName := ⟨RX23, "aheadOf", "(LLineRemarks$Remark;LLineRemarks$Revision;)LLineRemarks$Context;"⟩
def dkwX23_aheadOf_0 : List UInt8 := [42, 43, 44, 180, 0, 128, 182, 0, 131, 87, 42, 182, 0, 83, 42, 180, 0, 21, 176]
abbrev dktX23_aheadOf_0 : List UInt8 := dkwX23_aheadOf_0 ++ []
theorem dksX23_aheadOf_0 : cX23_aheadOf.data.toList.drop 0 = dktX23_aheadOf_0 := by decide +kernel
theorem dX23_aheadOf_0 : decode cX23_aheadOf 0 = .ok (.aload_n 0, 1) := dk_42 (dk_at dksX23_aheadOf_0 0 rfl rfl)
theorem dX23_aheadOf_1 : decode cX23_aheadOf 1 = .ok (.aload_n 1, 1) := dk_43 (dk_at dksX23_aheadOf_0 1 rfl rfl)
theorem dX23_aheadOf_2 : decode cX23_aheadOf 2 = .ok (.aload_n 2, 1) := dk_44 (dk_at dksX23_aheadOf_0 2 rfl rfl)
theorem dX23_aheadOf_3 : decode cX23_aheadOf 3 = .ok (.getfield 128, 3) := dk_180 0 128 (dk_at dksX23_aheadOf_0 3 rfl rfl)
theorem dX23_aheadOf_6 : decode cX23_aheadOf 6 = .ok (.invokevirtual 131, 3) := dk_182 0 131 (dk_at dksX23_aheadOf_0 6 rfl rfl)
theorem dX23_aheadOf_9 : decode cX23_aheadOf 9 = .ok (.pop, 1) := dk_87 (dk_at dksX23_aheadOf_0 9 rfl rfl)
theorem dX23_aheadOf_10 : decode cX23_aheadOf 10 = .ok (.aload_n 0, 1) := dk_42 (dk_at dksX23_aheadOf_0 10 rfl rfl)
theorem dX23_aheadOf_11 : decode cX23_aheadOf 11 = .ok (.invokevirtual 83, 3) := dk_182 0 83 (dk_at dksX23_aheadOf_0 11 rfl rfl)
theorem dX23_aheadOf_14 : decode cX23_aheadOf 14 = .ok (.aload_n 0, 1) := dk_42 (dk_at dksX23_aheadOf_0 14 rfl rfl)
theorem dX23_aheadOf_15 : decode cX23_aheadOf 15 = .ok (.getfield 21, 3) := dk_180 0 21 (dk_at dksX23_aheadOf_0 15 rfl rfl)
theorem dX23_aheadOf_18 : decode cX23_aheadOf 18 = .ok (.areturn, 1) := dk_176 (dk_at dksX23_aheadOf_0 18 rfl rfl)
theorem q152 : (Jvm.Cond.initialized "LineRemarks$Walk") ∈ lw_all := lw_g (lw_at lw_m1 66 rfl) rfl
theorem q245 : (Jvm.Cond.selects "LineRemarks$Walk" ({ cls := "java/lang/Object", name := "getClass", desc := "()Ljava/lang/Class;" } : Jvm.MethodName) ({ cls := "java/lang/Object", name := "getClass", desc := "()Ljava/lang/Class;" } : Jvm.MethodName)) ∈ lw_all := lw_g (lw_at lw_m1 159 rfl) rfl
theorem q338 : (Jvm.Cond.fieldLink "LineRemarks$Walk" (85 : Nat) "LineRemarks$World" "run" "I") ∈ lw_all := lw_g (lw_at lw_m2 12 rfl) rfl
theorem q341 : (Jvm.Cond.fieldLink "LineRemarks$Walk" (76 : Nat) "LineRemarks$World" "need" "I") ∈ lw_all := lw_g (lw_at lw_m2 15 rfl) rfl
theorem q344 : (Jvm.Cond.fieldLink "LineRemarks$Walk" (64 : Nat) "LineRemarks$World" "margin" "I") ∈ lw_all := lw_g (lw_at lw_m2 18 rfl) rfl
theorem q1723 : (Jvm.Cond.fieldLink "LineRemarks$Walk" (128 : Nat) "LineRemarks$Revision" "former" "LLineRemarks$Revision;") ∈ lw_all := lw_g (lw_at lw_m7 197 rfl) rfl
theorem q2081 : (Jvm.Cond.fieldLink "LineRemarks$Walk" (33 : Nat) "LineRemarks$Remark" "on" "LLineRemarks$Revision;") ∈ lw_all := lw_g (lw_at lw_m9 75 rfl) rfl
theorem q2086 : (Jvm.Cond.fieldLink "LineRemarks$Walk" (42 : Nat) "LineRemarks$Remark" "p" "I") ∈ lw_all := lw_g (lw_at lw_m9 80 rfl) rfl
theorem q2092 : (Jvm.Cond.fieldLink "LineRemarks$Walk" (46 : Nat) "LineRemarks$Remark" "q" "I") ∈ lw_all := lw_g (lw_at lw_m9 86 rfl) rfl
theorem q2281 : (Jvm.Cond.instantiable "LineRemarks$Walk" (6 : Nat)) ∈ lw_all := lw_g (lw_at lw_m10 35 rfl) rfl
theorem q2283 : (Jvm.Cond.instanceMethod ({ cls := "LineRemarks$Walk", name := "<init>", desc := "(LLineRemarks$World;)V" } : Jvm.MethodName)) ∈ lw_all := lw_g (lw_at lw_m10 37 rfl) rfl
theorem q2284 : (Jvm.Cond.code ({ cls := "LineRemarks$Walk", name := "<init>", desc := "(LLineRemarks$World;)V" } : Jvm.MethodName) prog_24_method_1_code (2 : Nat) (Option.none : Option Jvm.ClassFile.FieldType)) ∈ lw_all := lw_g (lw_at lw_m10 38 rfl) rfl
theorem q2285 : (Jvm.Cond.methodLink "LineRemarks$Walk" (3 : Nat) ({ cls := "java/lang/Object", name := "<init>", desc := "()V" } : Jvm.MethodName)) ∈ lw_all := lw_g (lw_at lw_m10 39 rfl) rfl
theorem q2286 : (Jvm.Cond.classLink "LineRemarks$Walk" (9 : Nat) "LineRemarks$Span") ∈ lw_all := lw_g (lw_at lw_m10 40 rfl) rfl
theorem q2288 : (Jvm.Cond.methodLink "LineRemarks$Walk" (11 : Nat) ({ cls := "LineRemarks$Span", name := "<init>", desc := "()V" } : Jvm.MethodName)) ∈ lw_all := lw_g (lw_at lw_m10 42 rfl) rfl
theorem q2312 : (Jvm.Cond.classLink "LineRemarks$Walk" (18 : Nat) "LineRemarks$Context") ∈ lw_all := lw_g (lw_at lw_m10 66 rfl) rfl
theorem q2314 : (Jvm.Cond.methodLink "LineRemarks$Walk" (20 : Nat) ({ cls := "LineRemarks$Context", name := "<init>", desc := "()V" } : Jvm.MethodName)) ∈ lw_all := lw_g (lw_at lw_m10 68 rfl) rfl
theorem q2320 : (Jvm.Cond.fieldLinkNest "LineRemarks$Walk" (79 : Nat) "LineRemarks$Context" "lines" "[LLineRemarks$Line;" "LineRemarks") ∈ lw_tbl := lw_at lw_m10 74 rfl
theorem q2330 : (Jvm.Cond.fieldLink "LineRemarks$Walk" (12 : Nat) "LineRemarks$Walk" "span" "LLineRemarks$Span;") ∈ lw_all := lw_g (lw_at lw_m10 84 rfl) rfl
theorem q2332 : (Jvm.Cond.fieldLink "LineRemarks$Walk" (21 : Nat) "LineRemarks$Walk" "context" "LLineRemarks$Context;") ∈ lw_all := lw_g (lw_at lw_m10 86 rfl) rfl
theorem q2333 : (Jvm.Cond.fieldLink "LineRemarks$Walk" (25 : Nat) "LineRemarks$Walk" "w" "LLineRemarks$World;") ∈ lw_all := lw_g (lw_at lw_m10 87 rfl) rfl
theorem q2334 : (Jvm.Cond.fieldLink "LineRemarks$Walk" (29 : Nat) "LineRemarks$Walk" "by" "LLineRemarks$Remark;") ∈ lw_all := lw_g (lw_at lw_m10 88 rfl) rfl
theorem q2335 : (Jvm.Cond.fieldLink "LineRemarks$Walk" (39 : Nat) "LineRemarks$Walk" "at" "LLineRemarks$Revision;") ∈ lw_all := lw_g (lw_at lw_m10 89 rfl) rfl
theorem q2336 : (Jvm.Cond.fieldLink "LineRemarks$Walk" (53 : Nat) "LineRemarks$Walk" "how" "I") ∈ lw_all := lw_g (lw_at lw_m10 90 rfl) rfl
theorem q2338 : (Jvm.Cond.laysFinal "LineRemarks$Walk" "LineRemarks$Walk" "span" "LLineRemarks$Span;") ∈ lw_all := lw_g (lw_at lw_m10 92 rfl) rfl
theorem q2339 : (Jvm.Cond.soleField "LineRemarks$Walk" "span") ∈ lw_all := lw_g (lw_at lw_m10 93 rfl) rfl
theorem q2340 : (Jvm.Cond.laysFinal "LineRemarks$Walk" "LineRemarks$Walk" "context" "LLineRemarks$Context;") ∈ lw_all := lw_g (lw_at lw_m10 94 rfl) rfl
theorem q2341 : (Jvm.Cond.soleField "LineRemarks$Walk" "context") ∈ lw_all := lw_g (lw_at lw_m10 95 rfl) rfl
theorem q2342 : (Jvm.Cond.laysFinal "LineRemarks$Walk" "LineRemarks$Walk" "w" "LLineRemarks$World;") ∈ lw_all := lw_g (lw_at lw_m10 96 rfl) rfl
theorem q2343 : (Jvm.Cond.soleField "LineRemarks$Walk" "w") ∈ lw_all := lw_g (lw_at lw_m10 97 rfl) rfl
theorem q2344 : (Jvm.Cond.lays "LineRemarks$Walk" "LineRemarks$Walk" "by" "LLineRemarks$Remark;") ∈ lw_all := lw_g (lw_at lw_m10 98 rfl) rfl
theorem q2345 : (Jvm.Cond.soleField "LineRemarks$Walk" "by") ∈ lw_all := lw_g (lw_at lw_m10 99 rfl) rfl
theorem q2346 : (Jvm.Cond.lays "LineRemarks$Walk" "LineRemarks$Walk" "at" "LLineRemarks$Revision;") ∈ lw_all := lw_g (lw_at lw_m10 100 rfl) rfl
theorem q2347 : (Jvm.Cond.soleField "LineRemarks$Walk" "at") ∈ lw_all := lw_g (lw_at lw_m10 101 rfl) rfl
theorem q2348 : (Jvm.Cond.lays "LineRemarks$Walk" "LineRemarks$Walk" "how" "I") ∈ lw_all := lw_g (lw_at lw_m10 102 rfl) rfl
theorem q2349 : (Jvm.Cond.soleField "LineRemarks$Walk" "how") ∈ lw_all := lw_g (lw_at lw_m10 103 rfl) rfl
theorem q2350 : (Jvm.Cond.superclass "LineRemarks$Walk" "java/lang/Object") ∈ lw_all := lw_g (lw_at lw_m10 104 rfl) rfl
theorem q2352 : (Jvm.Cond.instanceMethod ({ cls := "LineRemarks$Walk", name := "to", desc := "(LLineRemarks$Remark;LLineRemarks$Revision;)LLineRemarks$Walk;" } : Jvm.MethodName)) ∈ lw_all := lw_g (lw_at lw_m10 106 rfl) rfl
theorem q2353 : (Jvm.Cond.selects "LineRemarks$Walk" ({ cls := "LineRemarks$Walk", name := "to", desc := "(LLineRemarks$Remark;LLineRemarks$Revision;)LLineRemarks$Walk;" } : Jvm.MethodName) ({ cls := "LineRemarks$Walk", name := "to", desc := "(LLineRemarks$Remark;LLineRemarks$Revision;)LLineRemarks$Walk;" } : Jvm.MethodName)) ∈ lw_all := lw_g (lw_at lw_m10 107 rfl) rfl
theorem q2354 : (Jvm.Cond.code ({ cls := "LineRemarks$Walk", name := "to", desc := "(LLineRemarks$Remark;LLineRemarks$Revision;)LLineRemarks$Walk;" } : Jvm.MethodName) prog_24_method_7_code (5 : Nat) (Option.some (Jvm.ClassFile.FieldType.object "LineRemarks$Walk"))) ∈ lw_all := lw_g (lw_at lw_m10 108 rfl) rfl
theorem q2355 : (Jvm.Cond.methodLink "LineRemarks$Walk" (102 : Nat) ({ cls := "LineRemarks$Walk", name := "begin", desc := "(LLineRemarks$Remark;)V" } : Jvm.MethodName)) ∈ lw_all := lw_g (lw_at lw_m10 109 rfl) rfl
theorem q2356 : (Jvm.Cond.instanceMethod ({ cls := "LineRemarks$Walk", name := "begin", desc := "(LLineRemarks$Remark;)V" } : Jvm.MethodName)) ∈ lw_all := lw_g (lw_at lw_m10 110 rfl) rfl
theorem q2357 : (Jvm.Cond.selects "LineRemarks$Walk" ({ cls := "LineRemarks$Walk", name := "begin", desc := "(LLineRemarks$Remark;)V" } : Jvm.MethodName) ({ cls := "LineRemarks$Walk", name := "begin", desc := "(LLineRemarks$Remark;)V" } : Jvm.MethodName)) ∈ lw_all := lw_g (lw_at lw_m10 111 rfl) rfl
theorem q2358 : (Jvm.Cond.code ({ cls := "LineRemarks$Walk", name := "begin", desc := "(LLineRemarks$Remark;)V" } : Jvm.MethodName) prog_24_method_2_code (2 : Nat) (Option.none : Option Jvm.ClassFile.FieldType)) ∈ lw_all := lw_g (lw_at lw_m10 112 rfl) rfl
theorem q2359 : (Jvm.Cond.methodLink "LineRemarks$Walk" (49 : Nat) ({ cls := "LineRemarks$Span", name := "is", desc := "(II)V" } : Jvm.MethodName)) ∈ lw_all := lw_g (lw_at lw_m10 113 rfl) rfl
theorem q2363 : (Jvm.Cond.methodLink "LineRemarks$Walk" (106 : Nat) ({ cls := "LineRemarks$Revision", name := "since", desc := "(LLineRemarks$Revision;)Ljava/util/ArrayDeque;" } : Jvm.MethodName)) ∈ lw_all := lw_g (lw_at lw_m10 117 rfl) rfl
theorem q2364 : (Jvm.Cond.methodLink "LineRemarks$Walk" (110 : Nat) ({ cls := "java/util/ArrayDeque", name := "iterator", desc := "()Ljava/util/Iterator;" } : Jvm.MethodName)) ∈ lw_all := lw_g (lw_at lw_m10 118 rfl) rfl
theorem q2365 : (Jvm.Cond.interfaceEntry "LineRemarks$Walk" (116 : Nat)) ∈ lw_tbl := lw_at lw_m10 119 rfl
theorem q2366 : (Jvm.Cond.methodLink "LineRemarks$Walk" (116 : Nat) ({ cls := "java/util/Iterator", name := "hasNext", desc := "()Z" } : Jvm.MethodName)) ∈ lw_all := lw_g (lw_at lw_m10 120 rfl) rfl
theorem q2367 : (Jvm.Cond.interfaceEntry "LineRemarks$Walk" (121 : Nat)) ∈ lw_tbl := lw_at lw_m10 121 rfl
theorem q2368 : (Jvm.Cond.methodLink "LineRemarks$Walk" (121 : Nat) ({ cls := "java/util/Iterator", name := "next", desc := "()Ljava/lang/Object;" } : Jvm.MethodName)) ∈ lw_all := lw_g (lw_at lw_m10 122 rfl) rfl
theorem q2369 : (Jvm.Cond.classLink "LineRemarks$Walk" (89 : Nat) "LineRemarks$Revision") ∈ lw_all := lw_g (lw_at lw_m10 123 rfl) rfl
theorem q2370 : (Jvm.Cond.methodLink "LineRemarks$Walk" (125 : Nat) ({ cls := "LineRemarks$Walk", name := "step", desc := "(LLineRemarks$Revision;)V" } : Jvm.MethodName)) ∈ lw_all := lw_g (lw_at lw_m10 124 rfl) rfl
theorem q2371 : (Jvm.Cond.instanceMethod ({ cls := "LineRemarks$Walk", name := "step", desc := "(LLineRemarks$Revision;)V" } : Jvm.MethodName)) ∈ lw_all := lw_g (lw_at lw_m10 125 rfl) rfl
theorem q2372 : (Jvm.Cond.selects "LineRemarks$Walk" ({ cls := "LineRemarks$Walk", name := "step", desc := "(LLineRemarks$Revision;)V" } : Jvm.MethodName) ({ cls := "LineRemarks$Walk", name := "step", desc := "(LLineRemarks$Revision;)V" } : Jvm.MethodName)) ∈ lw_all := lw_g (lw_at lw_m10 126 rfl) rfl
theorem q2373 : (Jvm.Cond.code ({ cls := "LineRemarks$Walk", name := "step", desc := "(LLineRemarks$Revision;)V" } : Jvm.MethodName) prog_24_method_6_code (2 : Nat) (Option.none : Option Jvm.ClassFile.FieldType)) ∈ lw_all := lw_g (lw_at lw_m10 127 rfl) rfl
theorem q2374 : (Jvm.Cond.methodLink "LineRemarks$Walk" (83 : Nat) ({ cls := "LineRemarks$Walk", name := "keep", desc := "()V" } : Jvm.MethodName)) ∈ lw_all := lw_g (lw_at lw_m10 128 rfl) rfl
theorem q2375 : (Jvm.Cond.instanceMethod ({ cls := "LineRemarks$Walk", name := "keep", desc := "()V" } : Jvm.MethodName)) ∈ lw_all := lw_g (lw_at lw_m10 129 rfl) rfl
theorem q2376 : (Jvm.Cond.selects "LineRemarks$Walk" ({ cls := "LineRemarks$Walk", name := "keep", desc := "()V" } : Jvm.MethodName) ({ cls := "LineRemarks$Walk", name := "keep", desc := "()V" } : Jvm.MethodName)) ∈ lw_all := lw_g (lw_at lw_m10 130 rfl) rfl
theorem q2377 : (Jvm.Cond.code ({ cls := "LineRemarks$Walk", name := "keep", desc := "()V" } : Jvm.MethodName) prog_24_method_4_code (1 : Nat) (Option.none : Option Jvm.ClassFile.FieldType)) ∈ lw_all := lw_g (lw_at lw_m10 131 rfl) rfl
theorem q2378 : (Jvm.Cond.methodLink "LineRemarks$Walk" (56 : Nat) ({ cls := "LineRemarks$Walk", name := "isLost", desc := "()Z" } : Jvm.MethodName)) ∈ lw_all := lw_g (lw_at lw_m10 132 rfl) rfl
theorem q2379 : (Jvm.Cond.instanceMethod ({ cls := "LineRemarks$Walk", name := "isLost", desc := "()Z" } : Jvm.MethodName)) ∈ lw_all := lw_g (lw_at lw_m10 133 rfl) rfl
theorem q2380 : (Jvm.Cond.selects "LineRemarks$Walk" ({ cls := "LineRemarks$Walk", name := "isLost", desc := "()Z" } : Jvm.MethodName) ({ cls := "LineRemarks$Walk", name := "isLost", desc := "()Z" } : Jvm.MethodName)) ∈ lw_all := lw_g (lw_at lw_m10 134 rfl) rfl
theorem q2381 : (Jvm.Cond.code ({ cls := "LineRemarks$Walk", name := "isLost", desc := "()Z" } : Jvm.MethodName) prog_24_method_3_code (1 : Nat) (Option.some Jvm.ClassFile.FieldType.boolean)) ∈ lw_all := lw_g (lw_at lw_m10 135 rfl) rfl
theorem q2382 : (Jvm.Cond.methodLink "LineRemarks$Walk" (60 : Nat) ({ cls := "LineRemarks$Context", name := "keep", desc := "(LLineRemarks$Revision;LLineRemarks$Span;)V" } : Jvm.MethodName)) ∈ lw_all := lw_g (lw_at lw_m10 136 rfl) rfl
theorem q2392 : (Jvm.Cond.methodLink "LineRemarks$Walk" (88 : Nat) ({ cls := "LineRemarks$Revision", name := "fromFormer", desc := "(I)LLineRemarks$Match;" } : Jvm.MethodName)) ∈ lw_all := lw_g (lw_at lw_m10 146 rfl) rfl
theorem q2393 : (Jvm.Cond.methodLink "LineRemarks$Walk" (94 : Nat) ({ cls := "LineRemarks$Remark", name := "follows", desc := "(LLineRemarks$Span;LLineRemarks$Match;)Z" } : Jvm.MethodName)) ∈ lw_all := lw_g (lw_at lw_m10 147 rfl) rfl
theorem q2441 : (Jvm.Cond.methodLink "LineRemarks$Walk" (98 : Nat) ({ cls := "LineRemarks$Walk", name := "comesBack", desc := "(LLineRemarks$Revision;)V" } : Jvm.MethodName)) ∈ lw_all := lw_g (lw_at lw_m10 195 rfl) rfl
theorem q2442 : (Jvm.Cond.privateMethod ({ cls := "LineRemarks$Walk", name := "comesBack", desc := "(LLineRemarks$Revision;)V" } : Jvm.MethodName)) ∈ lw_tbl := lw_at lw_m10 196 rfl
theorem q2443 : (Jvm.Cond.instanceMethod ({ cls := "LineRemarks$Walk", name := "comesBack", desc := "(LLineRemarks$Revision;)V" } : Jvm.MethodName)) ∈ lw_all := lw_g (lw_at lw_m10 197 rfl) rfl
theorem q2444 : (Jvm.Cond.code ({ cls := "LineRemarks$Walk", name := "comesBack", desc := "(LLineRemarks$Revision;)V" } : Jvm.MethodName) prog_24_method_5_code (3 : Nat) (Option.none : Option Jvm.ClassFile.FieldType)) ∈ lw_all := lw_g (lw_at lw_m10 198 rfl) rfl
theorem q2445 : (Jvm.Cond.methodLink "LineRemarks$Walk" (69 : Nat) ({ cls := "LineRemarks$Context", name := "best", desc := "(LLineRemarks$Revision;I)I" } : Jvm.MethodName)) ∈ lw_all := lw_g (lw_at lw_m10 199 rfl) rfl
theorem q2462 : (Jvm.Cond.methodLink "LineRemarks$Walk" (73 : Nat) ({ cls := "LineRemarks$Context", name := "score", desc := "(LLineRemarks$Revision;I)I" } : Jvm.MethodName)) ∈ lw_all := lw_g (lw_at lw_m10 216 rfl) rfl
theorem q2473 : (Jvm.Cond.instanceMethod ({ cls := "LineRemarks$Walk", name := "aheadOf", desc := "(LLineRemarks$Remark;LLineRemarks$Revision;)LLineRemarks$Context;" } : Jvm.MethodName)) ∈ lw_all := lw_g (lw_at lw_m10 227 rfl) rfl
theorem q2474 : (Jvm.Cond.selects "LineRemarks$Walk" ({ cls := "LineRemarks$Walk", name := "aheadOf", desc := "(LLineRemarks$Remark;LLineRemarks$Revision;)LLineRemarks$Context;" } : Jvm.MethodName) ({ cls := "LineRemarks$Walk", name := "aheadOf", desc := "(LLineRemarks$Remark;LLineRemarks$Revision;)LLineRemarks$Context;" } : Jvm.MethodName)) ∈ lw_all := lw_g (lw_at lw_m10 228 rfl) rfl
theorem q2475 : (Jvm.Cond.code ({ cls := "LineRemarks$Walk", name := "aheadOf", desc := "(LLineRemarks$Remark;LLineRemarks$Revision;)LLineRemarks$Context;" } : Jvm.MethodName) prog_24_method_8_code (3 : Nat) (Option.some (Jvm.ClassFile.FieldType.object "LineRemarks$Context"))) ∈ lw_all := lw_g (lw_at lw_m10 229 rfl) rfl
theorem q2476 : (Jvm.Cond.methodLink "LineRemarks$Walk" (131 : Nat) ({ cls := "LineRemarks$Walk", name := "to", desc := "(LLineRemarks$Remark;LLineRemarks$Revision;)LLineRemarks$Walk;" } : Jvm.MethodName)) ∈ lw_all := lw_g (lw_at lw_m10 230 rfl) rfl
theorem q3035 : (Jvm.Cond.selects "LineRemarks$Walk" ({ cls := "java/lang/Object", name := "equals", desc := "(Ljava/lang/Object;)Z" } : Jvm.MethodName) ({ cls := "java/lang/Object", name := "equals", desc := "(Ljava/lang/Object;)Z" } : Jvm.MethodName)) ∈ lw_all := lw_g (lw_at lw_m13 69 rfl) rfl
theorem q3834 : (Jvm.Cond.castable "LineRemarks$Walk" "java/lang/Object") ∈ lw_tbl := lw_at lw_m16 148 rfl
theorem in_X23 : ∀ w ∈ wsX230, w ∈ lw_all := lw_in wsX230 [2338, 2340, 2342, 2344, 2346, 2348] (by decide +kernel) (by decide +kernel)
/-! LineRemarks$Span -/
set_option maxRecDepth 100000
def RX24 : String := "LineRemarks$Span"
def TX24 : u_T := fun k => match k with
  | 0 => ("LineRemarks$Span", "p", "I", false)
  | _ => ("LineRemarks$Span", "q", "I", false)
def tyX24 : Nat → FieldType := fun k => match k with
  | 0 => .int
  | _ => .int
abbrev wsX240 : List Cond := u_ws RX24 TX24 2
theorem nmX24 : ∀ a, a < 2 → ∀ b, b < 2 → a ≠ b → (TX24 a).2.1 ≠ (TX24 b).2.1 := by decide +kernel
theorem tyX24_ok : ∀ k, k < 2 → parseFieldDescriptor (TX24 k).2.2.1 = some (tyX24 k) := by decide +kernel
abbrev cX24_init : ByteArray := prog_21_method_1_code
def yX24_init : MethodName := ⟨RX24, "<init>", "()V"⟩
theorem dX24_init_0 : decode cX24_init 0 = .ok (.aload_n 0, 1) := by decide +kernel
theorem dX24_init_1 : decode cX24_init 1 = .ok (.invokespecial 1, 3) := by decide +kernel
theorem dX24_init_4 : decode cX24_init 4 = .ok (.return_, 1) := by decide +kernel
abbrev cX24_is : ByteArray := prog_21_method_3_code
def yX24_is : MethodName := ⟨RX24, "is", "(II)V"⟩
def dkwX24_is_0 : List UInt8 := [42, 27, 181, 0, 13, 42, 28, 181, 0, 7, 177]
abbrev dktX24_is_0 : List UInt8 := dkwX24_is_0 ++ []
theorem dksX24_is_0 : cX24_is.data.toList.drop 0 = dktX24_is_0 := by decide +kernel
theorem dX24_is_0 : decode cX24_is 0 = .ok (.aload_n 0, 1) := dk_42 (dk_at dksX24_is_0 0 rfl rfl)
theorem dX24_is_1 : decode cX24_is 1 = .ok (.iload_n 1, 1) := dk_27 (dk_at dksX24_is_0 1 rfl rfl)
theorem dX24_is_2 : decode cX24_is 2 = .ok (.putfield 13, 3) := dk_181 0 13 (dk_at dksX24_is_0 2 rfl rfl)
theorem dX24_is_5 : decode cX24_is 5 = .ok (.aload_n 0, 1) := dk_42 (dk_at dksX24_is_0 5 rfl rfl)
theorem dX24_is_6 : decode cX24_is 6 = .ok (.iload_n 2, 1) := dk_28 (dk_at dksX24_is_0 6 rfl rfl)
theorem dX24_is_7 : decode cX24_is 7 = .ok (.putfield 7, 3) := dk_181 0 7 (dk_at dksX24_is_0 7 rfl rfl)
theorem dX24_is_10 : decode cX24_is 10 = .ok (.return_, 1) := dk_177 (dk_at dksX24_is_0 10 rfl rfl)
abbrev cX24_length : ByteArray := prog_21_method_2_code
def yX24_length : MethodName := ⟨RX24, "length", "()I"⟩
def dkwX24_length_0 : List UInt8 := [42, 180, 0, 7, 42, 180, 0, 13, 100, 4, 96, 172]
abbrev dktX24_length_0 : List UInt8 := dkwX24_length_0 ++ []
theorem dksX24_length_0 : cX24_length.data.toList.drop 0 = dktX24_length_0 := by decide +kernel
theorem dX24_length_0 : decode cX24_length 0 = .ok (.aload_n 0, 1) := dk_42 (dk_at dksX24_length_0 0 rfl rfl)
theorem dX24_length_1 : decode cX24_length 1 = .ok (.getfield 7, 3) := dk_180 0 7 (dk_at dksX24_length_0 1 rfl rfl)
theorem dX24_length_4 : decode cX24_length 4 = .ok (.aload_n 0, 1) := dk_42 (dk_at dksX24_length_0 4 rfl rfl)
theorem dX24_length_5 : decode cX24_length 5 = .ok (.getfield 13, 3) := dk_180 0 13 (dk_at dksX24_length_0 5 rfl rfl)
theorem dX24_length_8 : decode cX24_length 8 = .ok (.isub, 1) := dk_100 (dk_at dksX24_length_0 8 rfl rfl)
theorem dX24_length_9 : decode cX24_length 9 = .ok (.iconst 1, 1) := dk_4 (dk_at dksX24_length_0 9 rfl rfl)
theorem dX24_length_10 : decode cX24_length 10 = .ok (.iadd, 1) := dk_96 (dk_at dksX24_length_0 10 rfl rfl)
theorem dX24_length_11 : decode cX24_length 11 = .ok (.ireturn, 1) := dk_172 (dk_at dksX24_length_0 11 rfl rfl)
theorem q153 : (Jvm.Cond.initialized "LineRemarks$Span") ∈ lw_all := lw_g (lw_at lw_m1 67 rfl) rfl
theorem q242 : (Jvm.Cond.selects "LineRemarks$Span" ({ cls := "java/lang/Object", name := "getClass", desc := "()Ljava/lang/Class;" } : Jvm.MethodName) ({ cls := "java/lang/Object", name := "getClass", desc := "()Ljava/lang/Class;" } : Jvm.MethodName)) ∈ lw_all := lw_g (lw_at lw_m1 156 rfl) rfl
theorem q2287 : (Jvm.Cond.instantiable "LineRemarks$Span" (2 : Nat)) ∈ lw_all := lw_g (lw_at lw_m10 41 rfl) rfl
theorem q2289 : (Jvm.Cond.instanceMethod ({ cls := "LineRemarks$Span", name := "<init>", desc := "()V" } : Jvm.MethodName)) ∈ lw_all := lw_g (lw_at lw_m10 43 rfl) rfl
theorem q2290 : (Jvm.Cond.code ({ cls := "LineRemarks$Span", name := "<init>", desc := "()V" } : Jvm.MethodName) prog_21_method_1_code (1 : Nat) (Option.none : Option Jvm.ClassFile.FieldType)) ∈ lw_all := lw_g (lw_at lw_m10 44 rfl) rfl
theorem q2291 : (Jvm.Cond.methodLink "LineRemarks$Span" (1 : Nat) ({ cls := "java/lang/Object", name := "<init>", desc := "()V" } : Jvm.MethodName)) ∈ lw_all := lw_g (lw_at lw_m10 45 rfl) rfl
theorem q2292 : (Jvm.Cond.fieldLink "LineRemarks$Span" (13 : Nat) "LineRemarks$Span" "p" "I") ∈ lw_all := lw_g (lw_at lw_m10 46 rfl) rfl
theorem q2301 : (Jvm.Cond.fieldLink "LineRemarks$Span" (7 : Nat) "LineRemarks$Span" "q" "I") ∈ lw_all := lw_g (lw_at lw_m10 55 rfl) rfl
theorem q2307 : (Jvm.Cond.lays "LineRemarks$Span" "LineRemarks$Span" "p" "I") ∈ lw_all := lw_g (lw_at lw_m10 61 rfl) rfl
theorem q2308 : (Jvm.Cond.soleField "LineRemarks$Span" "p") ∈ lw_all := lw_g (lw_at lw_m10 62 rfl) rfl
theorem q2309 : (Jvm.Cond.lays "LineRemarks$Span" "LineRemarks$Span" "q" "I") ∈ lw_all := lw_g (lw_at lw_m10 63 rfl) rfl
theorem q2310 : (Jvm.Cond.soleField "LineRemarks$Span" "q") ∈ lw_all := lw_g (lw_at lw_m10 64 rfl) rfl
theorem q2311 : (Jvm.Cond.superclass "LineRemarks$Span" "java/lang/Object") ∈ lw_all := lw_g (lw_at lw_m10 65 rfl) rfl
theorem q2360 : (Jvm.Cond.instanceMethod ({ cls := "LineRemarks$Span", name := "is", desc := "(II)V" } : Jvm.MethodName)) ∈ lw_all := lw_g (lw_at lw_m10 114 rfl) rfl
theorem q2361 : (Jvm.Cond.selects "LineRemarks$Span" ({ cls := "LineRemarks$Span", name := "is", desc := "(II)V" } : Jvm.MethodName) ({ cls := "LineRemarks$Span", name := "is", desc := "(II)V" } : Jvm.MethodName)) ∈ lw_all := lw_g (lw_at lw_m10 115 rfl) rfl
theorem q2362 : (Jvm.Cond.code ({ cls := "LineRemarks$Span", name := "is", desc := "(II)V" } : Jvm.MethodName) prog_21_method_3_code (3 : Nat) (Option.none : Option Jvm.ClassFile.FieldType)) ∈ lw_all := lw_g (lw_at lw_m10 116 rfl) rfl
theorem q2387 : (Jvm.Cond.instanceMethod ({ cls := "LineRemarks$Span", name := "length", desc := "()I" } : Jvm.MethodName)) ∈ lw_all := lw_g (lw_at lw_m10 141 rfl) rfl
theorem q2388 : (Jvm.Cond.selects "LineRemarks$Span" ({ cls := "LineRemarks$Span", name := "length", desc := "()I" } : Jvm.MethodName) ({ cls := "LineRemarks$Span", name := "length", desc := "()I" } : Jvm.MethodName)) ∈ lw_all := lw_g (lw_at lw_m10 142 rfl) rfl
theorem q2389 : (Jvm.Cond.code ({ cls := "LineRemarks$Span", name := "length", desc := "()I" } : Jvm.MethodName) prog_21_method_2_code (1 : Nat) (Option.some Jvm.ClassFile.FieldType.int)) ∈ lw_all := lw_g (lw_at lw_m10 143 rfl) rfl
theorem q3032 : (Jvm.Cond.selects "LineRemarks$Span" ({ cls := "java/lang/Object", name := "equals", desc := "(Ljava/lang/Object;)Z" } : Jvm.MethodName) ({ cls := "java/lang/Object", name := "equals", desc := "(Ljava/lang/Object;)Z" } : Jvm.MethodName)) ∈ lw_all := lw_g (lw_at lw_m13 66 rfl) rfl
theorem q3835 : (Jvm.Cond.castable "LineRemarks$Span" "java/lang/Object") ∈ lw_tbl := lw_at lw_m16 149 rfl
theorem in_X24 : ∀ w ∈ wsX240, w ∈ lw_all := lw_in wsX240 [2307, 2309] (by decide +kernel) (by decide +kernel)
/-! LineRemarks$Context -/
set_option maxRecDepth 100000
def RX25 : String := "LineRemarks$Context"
def TX25 : u_T := fun k => match k with
  | 0 => ("LineRemarks$Context", "lines", "[LLineRemarks$Line;", false)
  | 1 => ("LineRemarks$Context", "ahead", "LLineRemarks$Line;", false)
  | _ => ("LineRemarks$Context", "behind", "LLineRemarks$Line;", false)
def tyX25 : Nat → FieldType := fun k => match k with
  | 0 => .array (.object "LineRemarks$Line")
  | 1 => .object "LineRemarks$Line"
  | _ => .object "LineRemarks$Line"
abbrev wsX250 : List Cond := u_ws RX25 TX25 3
theorem nmX25 : ∀ a, a < 3 → ∀ b, b < 3 → a ≠ b → (TX25 a).2.1 ≠ (TX25 b).2.1 := by decide +kernel
theorem tyX25_ok : ∀ k, k < 3 → parseFieldDescriptor (TX25 k).2.2.1 = some (tyX25 k) := by decide +kernel
abbrev cX25_init : ByteArray := prog_5_method_1_code
def yX25_init : MethodName := ⟨RX25, "<init>", "()V"⟩
def dkwX25_init_0 : List UInt8 := [42, 183, 0, 3, 42, 3, 189, 0, 9, 181, 0, 11, 177]
abbrev dktX25_init_0 : List UInt8 := dkwX25_init_0 ++ []
theorem dksX25_init_0 : cX25_init.data.toList.drop 0 = dktX25_init_0 := by decide +kernel
theorem dX25_init_0 : decode cX25_init 0 = .ok (.aload_n 0, 1) := dk_42 (dk_at dksX25_init_0 0 rfl rfl)
theorem dX25_init_1 : decode cX25_init 1 = .ok (.invokespecial 3, 3) := dk_183 0 3 (dk_at dksX25_init_0 1 rfl rfl)
theorem dX25_init_4 : decode cX25_init 4 = .ok (.aload_n 0, 1) := dk_42 (dk_at dksX25_init_0 4 rfl rfl)
theorem dX25_init_5 : decode cX25_init 5 = .ok (.iconst 0, 1) := dk_3 (dk_at dksX25_init_0 5 rfl rfl)
theorem dX25_init_6 : decode cX25_init 6 = .ok (.anewarray 9, 3) := dk_189 0 9 (dk_at dksX25_init_0 6 rfl rfl)
theorem dX25_init_9 : decode cX25_init 9 = .ok (.putfield 11, 3) := dk_181 0 11 (dk_at dksX25_init_0 9 rfl rfl)
theorem dX25_init_12 : decode cX25_init 12 = .ok (.return_, 1) := dk_177 (dk_at dksX25_init_0 12 rfl rfl)
abbrev cX25_keep : ByteArray := prog_5_method_2_code
def yX25_keep : MethodName := ⟨RX25, "keep", "(LLineRemarks$Revision;LLineRemarks$Span;)V"⟩
def dkwX25_keep_2 : List UInt8 := [44, 180, 0, 44, 4, 96, 182, 0, 36, 181, 0, 47, 177]
abbrev dktX25_keep_2 : List UInt8 := dkwX25_keep_2 ++ []
def dkwX25_keep_1 : List UInt8 := [42, 180, 0, 11, 190, 184, 0, 30, 42, 43, 44, 180, 0, 26, 4, 100, 182, 0, 36, 181, 0, 40, 42, 43]
abbrev dktX25_keep_1 : List UInt8 := dkwX25_keep_1 ++ dktX25_keep_2
def dkwX25_keep_0 : List UInt8 := [42, 44, 182, 0, 17, 189, 0, 9, 181, 0, 11, 43, 180, 0, 23, 44, 180, 0, 26, 42, 180, 0, 11, 3]
abbrev dktX25_keep_0 : List UInt8 := dkwX25_keep_0 ++ dktX25_keep_1
theorem dksX25_keep_0 : cX25_keep.data.toList.drop 0 = dktX25_keep_0 := by decide +kernel
theorem dksX25_keep_1 : cX25_keep.data.toList.drop 24 = dktX25_keep_1 := dk_seg dksX25_keep_0 24 rfl rfl
theorem dksX25_keep_2 : cX25_keep.data.toList.drop 48 = dktX25_keep_2 := dk_seg dksX25_keep_1 24 rfl rfl
theorem dX25_keep_0 : decode cX25_keep 0 = .ok (.aload_n 0, 1) := dk_42 (dk_at dksX25_keep_0 0 rfl rfl)
theorem dX25_keep_1 : decode cX25_keep 1 = .ok (.aload_n 2, 1) := dk_44 (dk_at dksX25_keep_0 1 rfl rfl)
theorem dX25_keep_2 : decode cX25_keep 2 = .ok (.invokevirtual 17, 3) := dk_182 0 17 (dk_at dksX25_keep_0 2 rfl rfl)
theorem dX25_keep_5 : decode cX25_keep 5 = .ok (.anewarray 9, 3) := dk_189 0 9 (dk_at dksX25_keep_0 5 rfl rfl)
theorem dX25_keep_8 : decode cX25_keep 8 = .ok (.putfield 11, 3) := dk_181 0 11 (dk_at dksX25_keep_0 8 rfl rfl)
theorem dX25_keep_11 : decode cX25_keep 11 = .ok (.aload_n 1, 1) := dk_43 (dk_at dksX25_keep_0 11 rfl rfl)
theorem dX25_keep_12 : decode cX25_keep 12 = .ok (.getfield 23, 3) := dk_180 0 23 (dk_at dksX25_keep_0 12 rfl rfl)
theorem dX25_keep_15 : decode cX25_keep 15 = .ok (.aload_n 2, 1) := dk_44 (dk_at dksX25_keep_0 15 rfl rfl)
theorem dX25_keep_16 : decode cX25_keep 16 = .ok (.getfield 26, 3) := dk_180 0 26 (dk_at dksX25_keep_0 16 rfl rfl)
theorem dX25_keep_19 : decode cX25_keep 19 = .ok (.aload_n 0, 1) := dk_42 (dk_at dksX25_keep_0 19 rfl rfl)
theorem dX25_keep_20 : decode cX25_keep 20 = .ok (.getfield 11, 3) := dk_180 0 11 (dk_at dksX25_keep_0 20 rfl rfl)
theorem dX25_keep_23 : decode cX25_keep 23 = .ok (.iconst 0, 1) := dk_3 (dk_at dksX25_keep_0 23 rfl rfl)
theorem dX25_keep_24 : decode cX25_keep 24 = .ok (.aload_n 0, 1) := dk_42 (dk_at dksX25_keep_1 0 rfl rfl)
theorem dX25_keep_25 : decode cX25_keep 25 = .ok (.getfield 11, 3) := dk_180 0 11 (dk_at dksX25_keep_1 1 rfl rfl)
theorem dX25_keep_28 : decode cX25_keep 28 = .ok (.arraylength, 1) := dk_190 (dk_at dksX25_keep_1 4 rfl rfl)
theorem dX25_keep_29 : decode cX25_keep 29 = .ok (.invokestatic 30, 3) := dk_184 0 30 (dk_at dksX25_keep_1 5 rfl rfl)
theorem dX25_keep_32 : decode cX25_keep 32 = .ok (.aload_n 0, 1) := dk_42 (dk_at dksX25_keep_1 8 rfl rfl)
theorem dX25_keep_33 : decode cX25_keep 33 = .ok (.aload_n 1, 1) := dk_43 (dk_at dksX25_keep_1 9 rfl rfl)
theorem dX25_keep_34 : decode cX25_keep 34 = .ok (.aload_n 2, 1) := dk_44 (dk_at dksX25_keep_1 10 rfl rfl)
theorem dX25_keep_35 : decode cX25_keep 35 = .ok (.getfield 26, 3) := dk_180 0 26 (dk_at dksX25_keep_1 11 rfl rfl)
theorem dX25_keep_38 : decode cX25_keep 38 = .ok (.iconst 1, 1) := dk_4 (dk_at dksX25_keep_1 14 rfl rfl)
theorem dX25_keep_39 : decode cX25_keep 39 = .ok (.isub, 1) := dk_100 (dk_at dksX25_keep_1 15 rfl rfl)
theorem dX25_keep_40 : decode cX25_keep 40 = .ok (.invokevirtual 36, 3) := dk_182 0 36 (dk_at dksX25_keep_1 16 rfl rfl)
theorem dX25_keep_43 : decode cX25_keep 43 = .ok (.putfield 40, 3) := dk_181 0 40 (dk_at dksX25_keep_1 19 rfl rfl)
theorem dX25_keep_46 : decode cX25_keep 46 = .ok (.aload_n 0, 1) := dk_42 (dk_at dksX25_keep_1 22 rfl rfl)
theorem dX25_keep_47 : decode cX25_keep 47 = .ok (.aload_n 1, 1) := dk_43 (dk_at dksX25_keep_1 23 rfl rfl)
theorem dX25_keep_48 : decode cX25_keep 48 = .ok (.aload_n 2, 1) := dk_44 (dk_at dksX25_keep_2 0 rfl rfl)
theorem dX25_keep_49 : decode cX25_keep 49 = .ok (.getfield 44, 3) := dk_180 0 44 (dk_at dksX25_keep_2 1 rfl rfl)
theorem dX25_keep_52 : decode cX25_keep 52 = .ok (.iconst 1, 1) := dk_4 (dk_at dksX25_keep_2 4 rfl rfl)
theorem dX25_keep_53 : decode cX25_keep 53 = .ok (.iadd, 1) := dk_96 (dk_at dksX25_keep_2 5 rfl rfl)
theorem dX25_keep_54 : decode cX25_keep 54 = .ok (.invokevirtual 36, 3) := dk_182 0 36 (dk_at dksX25_keep_2 6 rfl rfl)
theorem dX25_keep_57 : decode cX25_keep 57 = .ok (.putfield 47, 3) := dk_181 0 47 (dk_at dksX25_keep_2 9 rfl rfl)
theorem dX25_keep_60 : decode cX25_keep 60 = .ok (.return_, 1) := dk_177 (dk_at dksX25_keep_2 12 rfl rfl)
abbrev cX25_best : ByteArray := prog_5_method_6_code
def yX25_best : MethodName := ⟨RX25, "best", "(LLineRemarks$Revision;I)I"⟩
def dkwX25_best_4 : List UInt8 := [62, 167, 0, 9, 132, 5, 1, 167, 255, 215, 29, 172]
abbrev dktX25_best_4 : List UInt8 := dkwX25_best_4 ++ []
def dkwX25_best_3 : List UInt8 := [21, 5, 29, 160, 0, 6, 167, 0, 22, 21, 4, 42, 43, 21, 5, 182, 0, 68, 100, 28, 162, 0, 8, 2]
abbrev dktX25_best_3 : List UInt8 := dkwX25_best_3 ++ dktX25_best_4
def dkwX25_best_2 : List UInt8 := [184, 0, 54, 54, 4, 132, 5, 1, 167, 255, 211, 3, 54, 5, 21, 5, 42, 43, 182, 0, 64, 162, 0, 37]
abbrev dktX25_best_2 : List UInt8 := dkwX25_best_2 ++ dktX25_best_3
def dkwX25_best_1 : List UInt8 := [182, 0, 68, 54, 6, 21, 6, 21, 4, 164, 0, 8, 21, 5, 167, 0, 4, 29, 62, 21, 4, 21, 6]
abbrev dktX25_best_1 : List UInt8 := dkwX25_best_1 ++ dktX25_best_2
def dkwX25_best_0 : List UInt8 := [2, 62, 2, 54, 4, 3, 54, 5, 21, 5, 42, 43, 182, 0, 64, 162, 0, 41, 42, 43, 21, 5]
abbrev dktX25_best_0 : List UInt8 := dkwX25_best_0 ++ dktX25_best_1
theorem dksX25_best_0 : cX25_best.data.toList.drop 0 = dktX25_best_0 := by decide +kernel
theorem dksX25_best_1 : cX25_best.data.toList.drop 22 = dktX25_best_1 := dk_seg dksX25_best_0 22 rfl rfl
theorem dksX25_best_2 : cX25_best.data.toList.drop 45 = dktX25_best_2 := dk_seg dksX25_best_1 23 rfl rfl
theorem dksX25_best_3 : cX25_best.data.toList.drop 69 = dktX25_best_3 := dk_seg dksX25_best_2 24 rfl rfl
theorem dksX25_best_4 : cX25_best.data.toList.drop 93 = dktX25_best_4 := dk_seg dksX25_best_3 24 rfl rfl
theorem dX25_best_0 : decode cX25_best 0 = .ok (.iconst (-1), 1) := dk_2 (dk_at dksX25_best_0 0 rfl rfl)
theorem dX25_best_1 : decode cX25_best 1 = .ok (.istore_n 3, 1) := dk_62 (dk_at dksX25_best_0 1 rfl rfl)
theorem dX25_best_2 : decode cX25_best 2 = .ok (.iconst (-1), 1) := dk_2 (dk_at dksX25_best_0 2 rfl rfl)
theorem dX25_best_3 : decode cX25_best 3 = .ok (.istore 4, 2) := dk_54 4 (dk_at dksX25_best_0 3 rfl rfl)
theorem dX25_best_5 : decode cX25_best 5 = .ok (.iconst 0, 1) := dk_3 (dk_at dksX25_best_0 5 rfl rfl)
theorem dX25_best_6 : decode cX25_best 6 = .ok (.istore 5, 2) := dk_54 5 (dk_at dksX25_best_0 6 rfl rfl)
theorem dX25_best_8 : decode cX25_best 8 = .ok (.iload 5, 2) := dk_21 5 (dk_at dksX25_best_0 8 rfl rfl)
theorem dX25_best_10 : decode cX25_best 10 = .ok (.aload_n 0, 1) := dk_42 (dk_at dksX25_best_0 10 rfl rfl)
theorem dX25_best_11 : decode cX25_best 11 = .ok (.aload_n 1, 1) := dk_43 (dk_at dksX25_best_0 11 rfl rfl)
theorem dX25_best_12 : decode cX25_best 12 = .ok (.invokevirtual 64, 3) := dk_182 0 64 (dk_at dksX25_best_0 12 rfl rfl)
theorem dX25_best_15 : decode cX25_best 15 = .ok (.if_icmp .ge 41, 3) := dk_162 0 41 (dk_at dksX25_best_0 15 rfl rfl)
theorem dX25_best_18 : decode cX25_best 18 = .ok (.aload_n 0, 1) := dk_42 (dk_at dksX25_best_0 18 rfl rfl)
theorem dX25_best_19 : decode cX25_best 19 = .ok (.aload_n 1, 1) := dk_43 (dk_at dksX25_best_0 19 rfl rfl)
theorem dX25_best_20 : decode cX25_best 20 = .ok (.iload 5, 2) := dk_21 5 (dk_at dksX25_best_0 20 rfl rfl)
theorem dX25_best_22 : decode cX25_best 22 = .ok (.invokevirtual 68, 3) := dk_182 0 68 (dk_at dksX25_best_1 0 rfl rfl)
theorem dX25_best_25 : decode cX25_best 25 = .ok (.istore 6, 2) := dk_54 6 (dk_at dksX25_best_1 3 rfl rfl)
theorem dX25_best_27 : decode cX25_best 27 = .ok (.iload 6, 2) := dk_21 6 (dk_at dksX25_best_1 5 rfl rfl)
theorem dX25_best_29 : decode cX25_best 29 = .ok (.iload 4, 2) := dk_21 4 (dk_at dksX25_best_1 7 rfl rfl)
theorem dX25_best_31 : decode cX25_best 31 = .ok (.if_icmp .le 8, 3) := dk_164 0 8 (dk_at dksX25_best_1 9 rfl rfl)
theorem dX25_best_34 : decode cX25_best 34 = .ok (.iload 5, 2) := dk_21 5 (dk_at dksX25_best_1 12 rfl rfl)
theorem dX25_best_36 : decode cX25_best 36 = .ok (.goto 4, 3) := dk_167 0 4 (dk_at dksX25_best_1 14 rfl rfl)
theorem dX25_best_39 : decode cX25_best 39 = .ok (.iload_n 3, 1) := dk_29 (dk_at dksX25_best_1 17 rfl rfl)
theorem dX25_best_40 : decode cX25_best 40 = .ok (.istore_n 3, 1) := dk_62 (dk_at dksX25_best_1 18 rfl rfl)
theorem dX25_best_41 : decode cX25_best 41 = .ok (.iload 4, 2) := dk_21 4 (dk_at dksX25_best_1 19 rfl rfl)
theorem dX25_best_43 : decode cX25_best 43 = .ok (.iload 6, 2) := dk_21 6 (dk_at dksX25_best_1 21 rfl rfl)
theorem dX25_best_45 : decode cX25_best 45 = .ok (.invokestatic 54, 3) := dk_184 0 54 (dk_at dksX25_best_2 0 rfl rfl)
theorem dX25_best_48 : decode cX25_best 48 = .ok (.istore 4, 2) := dk_54 4 (dk_at dksX25_best_2 3 rfl rfl)
theorem dX25_best_50 : decode cX25_best 50 = .ok (.iinc 5 1, 3) := dk_132 5 1 (dk_at dksX25_best_2 5 rfl rfl)
theorem dX25_best_53 : decode cX25_best 53 = .ok (.goto (-45), 3) := dk_167 255 211 (dk_at dksX25_best_2 8 rfl rfl)
theorem dX25_best_56 : decode cX25_best 56 = .ok (.iconst 0, 1) := dk_3 (dk_at dksX25_best_2 11 rfl rfl)
theorem dX25_best_57 : decode cX25_best 57 = .ok (.istore 5, 2) := dk_54 5 (dk_at dksX25_best_2 12 rfl rfl)
theorem dX25_best_59 : decode cX25_best 59 = .ok (.iload 5, 2) := dk_21 5 (dk_at dksX25_best_2 14 rfl rfl)
theorem dX25_best_61 : decode cX25_best 61 = .ok (.aload_n 0, 1) := dk_42 (dk_at dksX25_best_2 16 rfl rfl)
theorem dX25_best_62 : decode cX25_best 62 = .ok (.aload_n 1, 1) := dk_43 (dk_at dksX25_best_2 17 rfl rfl)
theorem dX25_best_63 : decode cX25_best 63 = .ok (.invokevirtual 64, 3) := dk_182 0 64 (dk_at dksX25_best_2 18 rfl rfl)
theorem dX25_best_66 : decode cX25_best 66 = .ok (.if_icmp .ge 37, 3) := dk_162 0 37 (dk_at dksX25_best_2 21 rfl rfl)
theorem dX25_best_69 : decode cX25_best 69 = .ok (.iload 5, 2) := dk_21 5 (dk_at dksX25_best_3 0 rfl rfl)
theorem dX25_best_71 : decode cX25_best 71 = .ok (.iload_n 3, 1) := dk_29 (dk_at dksX25_best_3 2 rfl rfl)
theorem dX25_best_72 : decode cX25_best 72 = .ok (.if_icmp .ne 6, 3) := dk_160 0 6 (dk_at dksX25_best_3 3 rfl rfl)
theorem dX25_best_75 : decode cX25_best 75 = .ok (.goto 22, 3) := dk_167 0 22 (dk_at dksX25_best_3 6 rfl rfl)
theorem dX25_best_78 : decode cX25_best 78 = .ok (.iload 4, 2) := dk_21 4 (dk_at dksX25_best_3 9 rfl rfl)
theorem dX25_best_80 : decode cX25_best 80 = .ok (.aload_n 0, 1) := dk_42 (dk_at dksX25_best_3 11 rfl rfl)
theorem dX25_best_81 : decode cX25_best 81 = .ok (.aload_n 1, 1) := dk_43 (dk_at dksX25_best_3 12 rfl rfl)
theorem dX25_best_82 : decode cX25_best 82 = .ok (.iload 5, 2) := dk_21 5 (dk_at dksX25_best_3 13 rfl rfl)
theorem dX25_best_84 : decode cX25_best 84 = .ok (.invokevirtual 68, 3) := dk_182 0 68 (dk_at dksX25_best_3 15 rfl rfl)
theorem dX25_best_87 : decode cX25_best 87 = .ok (.isub, 1) := dk_100 (dk_at dksX25_best_3 18 rfl rfl)
theorem dX25_best_88 : decode cX25_best 88 = .ok (.iload_n 2, 1) := dk_28 (dk_at dksX25_best_3 19 rfl rfl)
theorem dX25_best_89 : decode cX25_best 89 = .ok (.if_icmp .ge 8, 3) := dk_162 0 8 (dk_at dksX25_best_3 20 rfl rfl)
theorem dX25_best_92 : decode cX25_best 92 = .ok (.iconst (-1), 1) := dk_2 (dk_at dksX25_best_3 23 rfl rfl)
theorem dX25_best_93 : decode cX25_best 93 = .ok (.istore_n 3, 1) := dk_62 (dk_at dksX25_best_4 0 rfl rfl)
theorem dX25_best_94 : decode cX25_best 94 = .ok (.goto 9, 3) := dk_167 0 9 (dk_at dksX25_best_4 1 rfl rfl)
theorem dX25_best_97 : decode cX25_best 97 = .ok (.iinc 5 1, 3) := dk_132 5 1 (dk_at dksX25_best_4 4 rfl rfl)
theorem dX25_best_100 : decode cX25_best 100 = .ok (.goto (-41), 3) := dk_167 255 215 (dk_at dksX25_best_4 7 rfl rfl)
theorem dX25_best_103 : decode cX25_best 103 = .ok (.iload_n 3, 1) := dk_29 (dk_at dksX25_best_4 10 rfl rfl)
theorem dX25_best_104 : decode cX25_best 104 = .ok (.ireturn, 1) := dk_172 (dk_at dksX25_best_4 11 rfl rfl)
abbrev cX25_places : ByteArray := prog_5_method_4_code
def yX25_places : MethodName := ⟨RX25, "places", "(LLineRemarks$Revision;)I"⟩
def dkwX25_places_0 : List UInt8 := [3, 43, 180, 0, 23, 190, 42, 180, 0, 11, 190, 100, 4, 96, 184, 0, 54, 172]
abbrev dktX25_places_0 : List UInt8 := dkwX25_places_0 ++ []
theorem dksX25_places_0 : cX25_places.data.toList.drop 0 = dktX25_places_0 := by decide +kernel
theorem dX25_places_0 : decode cX25_places 0 = .ok (.iconst 0, 1) := dk_3 (dk_at dksX25_places_0 0 rfl rfl)
theorem dX25_places_1 : decode cX25_places 1 = .ok (.aload_n 1, 1) := dk_43 (dk_at dksX25_places_0 1 rfl rfl)
theorem dX25_places_2 : decode cX25_places 2 = .ok (.getfield 23, 3) := dk_180 0 23 (dk_at dksX25_places_0 2 rfl rfl)
theorem dX25_places_5 : decode cX25_places 5 = .ok (.arraylength, 1) := dk_190 (dk_at dksX25_places_0 5 rfl rfl)
theorem dX25_places_6 : decode cX25_places 6 = .ok (.aload_n 0, 1) := dk_42 (dk_at dksX25_places_0 6 rfl rfl)
theorem dX25_places_7 : decode cX25_places 7 = .ok (.getfield 11, 3) := dk_180 0 11 (dk_at dksX25_places_0 7 rfl rfl)
theorem dX25_places_10 : decode cX25_places 10 = .ok (.arraylength, 1) := dk_190 (dk_at dksX25_places_0 10 rfl rfl)
theorem dX25_places_11 : decode cX25_places 11 = .ok (.isub, 1) := dk_100 (dk_at dksX25_places_0 11 rfl rfl)
theorem dX25_places_12 : decode cX25_places 12 = .ok (.iconst 1, 1) := dk_4 (dk_at dksX25_places_0 12 rfl rfl)
theorem dX25_places_13 : decode cX25_places 13 = .ok (.iadd, 1) := dk_96 (dk_at dksX25_places_0 13 rfl rfl)
theorem dX25_places_14 : decode cX25_places 14 = .ok (.invokestatic 54, 3) := dk_184 0 54 (dk_at dksX25_places_0 14 rfl rfl)
theorem dX25_places_17 : decode cX25_places 17 = .ok (.ireturn, 1) := dk_172 (dk_at dksX25_places_0 17 rfl rfl)
abbrev cX25_score : ByteArray := prog_5_method_5_code
def yX25_score : MethodName := ⟨RX25, "score", "(LLineRemarks$Revision;I)I"⟩
def dkwX25_score_3 : List UInt8 := [167, 0, 4, 3, 96, 62, 132, 4, 1, 167, 255, 213, 29, 172]
abbrev dktX25_score_3 : List UInt8 := dkwX25_score_3 ++ []
def dkwX25_score_2 : List UInt8 := [42, 180, 0, 11, 21, 4, 50, 43, 180, 0, 23, 28, 21, 4, 96, 50, 182, 0, 50, 153, 0, 7, 6]
abbrev dktX25_score_2 : List UInt8 := dkwX25_score_2 ++ dktX25_score_3
def dkwX25_score_1 : List UInt8 := [190, 96, 182, 0, 36, 184, 0, 60, 96, 62, 3, 54, 4, 21, 4, 42, 180, 0, 11, 190, 162, 0, 39, 29]
abbrev dktX25_score_1 : List UInt8 := dkwX25_score_1 ++ dktX25_score_2
def dkwX25_score_0 : List UInt8 := [42, 180, 0, 40, 43, 28, 4, 100, 182, 0, 36, 184, 0, 60, 42, 180, 0, 47, 43, 28, 42, 180, 0, 11]
abbrev dktX25_score_0 : List UInt8 := dkwX25_score_0 ++ dktX25_score_1
theorem dksX25_score_0 : cX25_score.data.toList.drop 0 = dktX25_score_0 := by decide +kernel
theorem dksX25_score_1 : cX25_score.data.toList.drop 24 = dktX25_score_1 := dk_seg dksX25_score_0 24 rfl rfl
theorem dksX25_score_2 : cX25_score.data.toList.drop 48 = dktX25_score_2 := dk_seg dksX25_score_1 24 rfl rfl
theorem dksX25_score_3 : cX25_score.data.toList.drop 71 = dktX25_score_3 := dk_seg dksX25_score_2 23 rfl rfl
theorem dX25_score_0 : decode cX25_score 0 = .ok (.aload_n 0, 1) := dk_42 (dk_at dksX25_score_0 0 rfl rfl)
theorem dX25_score_1 : decode cX25_score 1 = .ok (.getfield 40, 3) := dk_180 0 40 (dk_at dksX25_score_0 1 rfl rfl)
theorem dX25_score_4 : decode cX25_score 4 = .ok (.aload_n 1, 1) := dk_43 (dk_at dksX25_score_0 4 rfl rfl)
theorem dX25_score_5 : decode cX25_score 5 = .ok (.iload_n 2, 1) := dk_28 (dk_at dksX25_score_0 5 rfl rfl)
theorem dX25_score_6 : decode cX25_score 6 = .ok (.iconst 1, 1) := dk_4 (dk_at dksX25_score_0 6 rfl rfl)
theorem dX25_score_7 : decode cX25_score 7 = .ok (.isub, 1) := dk_100 (dk_at dksX25_score_0 7 rfl rfl)
theorem dX25_score_8 : decode cX25_score 8 = .ok (.invokevirtual 36, 3) := dk_182 0 36 (dk_at dksX25_score_0 8 rfl rfl)
theorem dX25_score_11 : decode cX25_score 11 = .ok (.invokestatic 60, 3) := dk_184 0 60 (dk_at dksX25_score_0 11 rfl rfl)
theorem dX25_score_14 : decode cX25_score 14 = .ok (.aload_n 0, 1) := dk_42 (dk_at dksX25_score_0 14 rfl rfl)
theorem dX25_score_15 : decode cX25_score 15 = .ok (.getfield 47, 3) := dk_180 0 47 (dk_at dksX25_score_0 15 rfl rfl)
theorem dX25_score_18 : decode cX25_score 18 = .ok (.aload_n 1, 1) := dk_43 (dk_at dksX25_score_0 18 rfl rfl)
theorem dX25_score_19 : decode cX25_score 19 = .ok (.iload_n 2, 1) := dk_28 (dk_at dksX25_score_0 19 rfl rfl)
theorem dX25_score_20 : decode cX25_score 20 = .ok (.aload_n 0, 1) := dk_42 (dk_at dksX25_score_0 20 rfl rfl)
theorem dX25_score_21 : decode cX25_score 21 = .ok (.getfield 11, 3) := dk_180 0 11 (dk_at dksX25_score_0 21 rfl rfl)
theorem dX25_score_24 : decode cX25_score 24 = .ok (.arraylength, 1) := dk_190 (dk_at dksX25_score_1 0 rfl rfl)
theorem dX25_score_25 : decode cX25_score 25 = .ok (.iadd, 1) := dk_96 (dk_at dksX25_score_1 1 rfl rfl)
theorem dX25_score_26 : decode cX25_score 26 = .ok (.invokevirtual 36, 3) := dk_182 0 36 (dk_at dksX25_score_1 2 rfl rfl)
theorem dX25_score_29 : decode cX25_score 29 = .ok (.invokestatic 60, 3) := dk_184 0 60 (dk_at dksX25_score_1 5 rfl rfl)
theorem dX25_score_32 : decode cX25_score 32 = .ok (.iadd, 1) := dk_96 (dk_at dksX25_score_1 8 rfl rfl)
theorem dX25_score_33 : decode cX25_score 33 = .ok (.istore_n 3, 1) := dk_62 (dk_at dksX25_score_1 9 rfl rfl)
theorem dX25_score_34 : decode cX25_score 34 = .ok (.iconst 0, 1) := dk_3 (dk_at dksX25_score_1 10 rfl rfl)
theorem dX25_score_35 : decode cX25_score 35 = .ok (.istore 4, 2) := dk_54 4 (dk_at dksX25_score_1 11 rfl rfl)
theorem dX25_score_37 : decode cX25_score 37 = .ok (.iload 4, 2) := dk_21 4 (dk_at dksX25_score_1 13 rfl rfl)
theorem dX25_score_39 : decode cX25_score 39 = .ok (.aload_n 0, 1) := dk_42 (dk_at dksX25_score_1 15 rfl rfl)
theorem dX25_score_40 : decode cX25_score 40 = .ok (.getfield 11, 3) := dk_180 0 11 (dk_at dksX25_score_1 16 rfl rfl)
theorem dX25_score_43 : decode cX25_score 43 = .ok (.arraylength, 1) := dk_190 (dk_at dksX25_score_1 19 rfl rfl)
theorem dX25_score_44 : decode cX25_score 44 = .ok (.if_icmp .ge 39, 3) := dk_162 0 39 (dk_at dksX25_score_1 20 rfl rfl)
theorem dX25_score_47 : decode cX25_score 47 = .ok (.iload_n 3, 1) := dk_29 (dk_at dksX25_score_1 23 rfl rfl)
theorem dX25_score_48 : decode cX25_score 48 = .ok (.aload_n 0, 1) := dk_42 (dk_at dksX25_score_2 0 rfl rfl)
theorem dX25_score_49 : decode cX25_score 49 = .ok (.getfield 11, 3) := dk_180 0 11 (dk_at dksX25_score_2 1 rfl rfl)
theorem dX25_score_52 : decode cX25_score 52 = .ok (.iload 4, 2) := dk_21 4 (dk_at dksX25_score_2 4 rfl rfl)
theorem dX25_score_54 : decode cX25_score 54 = .ok (.aaload, 1) := dk_50 (dk_at dksX25_score_2 6 rfl rfl)
theorem dX25_score_55 : decode cX25_score 55 = .ok (.aload_n 1, 1) := dk_43 (dk_at dksX25_score_2 7 rfl rfl)
theorem dX25_score_56 : decode cX25_score 56 = .ok (.getfield 23, 3) := dk_180 0 23 (dk_at dksX25_score_2 8 rfl rfl)
theorem dX25_score_59 : decode cX25_score 59 = .ok (.iload_n 2, 1) := dk_28 (dk_at dksX25_score_2 11 rfl rfl)
theorem dX25_score_60 : decode cX25_score 60 = .ok (.iload 4, 2) := dk_21 4 (dk_at dksX25_score_2 12 rfl rfl)
theorem dX25_score_62 : decode cX25_score 62 = .ok (.iadd, 1) := dk_96 (dk_at dksX25_score_2 14 rfl rfl)
theorem dX25_score_63 : decode cX25_score 63 = .ok (.aaload, 1) := dk_50 (dk_at dksX25_score_2 15 rfl rfl)
theorem dX25_score_64 : decode cX25_score 64 = .ok (.invokevirtual 50, 3) := dk_182 0 50 (dk_at dksX25_score_2 16 rfl rfl)
theorem dX25_score_67 : decode cX25_score 67 = .ok (.ifCond .eq 7, 3) := dk_153 0 7 (dk_at dksX25_score_2 19 rfl rfl)
theorem dX25_score_70 : decode cX25_score 70 = .ok (.iconst 3, 1) := dk_6 (dk_at dksX25_score_2 22 rfl rfl)
theorem dX25_score_71 : decode cX25_score 71 = .ok (.goto 4, 3) := dk_167 0 4 (dk_at dksX25_score_3 0 rfl rfl)
theorem dX25_score_74 : decode cX25_score 74 = .ok (.iconst 0, 1) := dk_3 (dk_at dksX25_score_3 3 rfl rfl)
theorem dX25_score_75 : decode cX25_score 75 = .ok (.iadd, 1) := dk_96 (dk_at dksX25_score_3 4 rfl rfl)
theorem dX25_score_76 : decode cX25_score 76 = .ok (.istore_n 3, 1) := dk_62 (dk_at dksX25_score_3 5 rfl rfl)
theorem dX25_score_77 : decode cX25_score 77 = .ok (.iinc 4 1, 3) := dk_132 4 1 (dk_at dksX25_score_3 6 rfl rfl)
theorem dX25_score_80 : decode cX25_score 80 = .ok (.goto (-43), 3) := dk_167 255 213 (dk_at dksX25_score_3 9 rfl rfl)
theorem dX25_score_83 : decode cX25_score 83 = .ok (.iload_n 3, 1) := dk_29 (dk_at dksX25_score_3 12 rfl rfl)
theorem dX25_score_84 : decode cX25_score 84 = .ok (.ireturn, 1) := dk_172 (dk_at dksX25_score_3 13 rfl rfl)
abbrev cX25_neighbour : ByteArray := prog_5_method_3_code
def yX25_neighbour : MethodName := ⟨RX25, "neighbour", "(LLineRemarks$Line;LLineRemarks$Line;)I"⟩
def dkwX25_neighbour_1 : List UInt8 := [182, 0, 50, 61, 28, 153, 0, 7, 5, 167, 0, 4, 3, 172]
abbrev dktX25_neighbour_1 : List UInt8 := dkwX25_neighbour_1 ++ []
def dkwX25_neighbour_0 : List UInt8 := [42, 198, 0, 7, 43, 199, 0, 16, 42, 43, 166, 0, 7, 4, 167, 0, 12, 3, 167, 0, 8, 42, 43]
abbrev dktX25_neighbour_0 : List UInt8 := dkwX25_neighbour_0 ++ dktX25_neighbour_1
theorem dksX25_neighbour_0 : cX25_neighbour.data.toList.drop 0 = dktX25_neighbour_0 := by decide +kernel
theorem dksX25_neighbour_1 : cX25_neighbour.data.toList.drop 23 = dktX25_neighbour_1 := dk_seg dksX25_neighbour_0 23 rfl rfl
theorem dX25_neighbour_0 : decode cX25_neighbour 0 = .ok (.aload_n 0, 1) := dk_42 (dk_at dksX25_neighbour_0 0 rfl rfl)
theorem dX25_neighbour_1 : decode cX25_neighbour 1 = .ok (.ifnull 7, 3) := dk_198 0 7 (dk_at dksX25_neighbour_0 1 rfl rfl)
theorem dX25_neighbour_4 : decode cX25_neighbour 4 = .ok (.aload_n 1, 1) := dk_43 (dk_at dksX25_neighbour_0 4 rfl rfl)
theorem dX25_neighbour_5 : decode cX25_neighbour 5 = .ok (.ifnonnull 16, 3) := dk_199 0 16 (dk_at dksX25_neighbour_0 5 rfl rfl)
theorem dX25_neighbour_8 : decode cX25_neighbour 8 = .ok (.aload_n 0, 1) := dk_42 (dk_at dksX25_neighbour_0 8 rfl rfl)
theorem dX25_neighbour_9 : decode cX25_neighbour 9 = .ok (.aload_n 1, 1) := dk_43 (dk_at dksX25_neighbour_0 9 rfl rfl)
theorem dX25_neighbour_10 : decode cX25_neighbour 10 = .ok (.if_acmp .ne 7, 3) := dk_166 0 7 (dk_at dksX25_neighbour_0 10 rfl rfl)
theorem dX25_neighbour_13 : decode cX25_neighbour 13 = .ok (.iconst 1, 1) := dk_4 (dk_at dksX25_neighbour_0 13 rfl rfl)
theorem dX25_neighbour_14 : decode cX25_neighbour 14 = .ok (.goto 12, 3) := dk_167 0 12 (dk_at dksX25_neighbour_0 14 rfl rfl)
theorem dX25_neighbour_17 : decode cX25_neighbour 17 = .ok (.iconst 0, 1) := dk_3 (dk_at dksX25_neighbour_0 17 rfl rfl)
theorem dX25_neighbour_18 : decode cX25_neighbour 18 = .ok (.goto 8, 3) := dk_167 0 8 (dk_at dksX25_neighbour_0 18 rfl rfl)
theorem dX25_neighbour_21 : decode cX25_neighbour 21 = .ok (.aload_n 0, 1) := dk_42 (dk_at dksX25_neighbour_0 21 rfl rfl)
theorem dX25_neighbour_22 : decode cX25_neighbour 22 = .ok (.aload_n 1, 1) := dk_43 (dk_at dksX25_neighbour_0 22 rfl rfl)
theorem dX25_neighbour_23 : decode cX25_neighbour 23 = .ok (.invokevirtual 50, 3) := dk_182 0 50 (dk_at dksX25_neighbour_1 0 rfl rfl)
theorem dX25_neighbour_26 : decode cX25_neighbour 26 = .ok (.istore_n 2, 1) := dk_61 (dk_at dksX25_neighbour_1 3 rfl rfl)
theorem dX25_neighbour_27 : decode cX25_neighbour 27 = .ok (.iload_n 2, 1) := dk_28 (dk_at dksX25_neighbour_1 4 rfl rfl)
theorem dX25_neighbour_28 : decode cX25_neighbour 28 = .ok (.ifCond .eq 7, 3) := dk_153 0 7 (dk_at dksX25_neighbour_1 5 rfl rfl)
theorem dX25_neighbour_31 : decode cX25_neighbour 31 = .ok (.iconst 2, 1) := dk_5 (dk_at dksX25_neighbour_1 8 rfl rfl)
theorem dX25_neighbour_32 : decode cX25_neighbour 32 = .ok (.goto 4, 3) := dk_167 0 4 (dk_at dksX25_neighbour_1 9 rfl rfl)
theorem dX25_neighbour_35 : decode cX25_neighbour 35 = .ok (.iconst 0, 1) := dk_3 (dk_at dksX25_neighbour_1 12 rfl rfl)
theorem dX25_neighbour_36 : decode cX25_neighbour 36 = .ok (.ireturn, 1) := dk_172 (dk_at dksX25_neighbour_1 13 rfl rfl)
theorem q154 : (Jvm.Cond.initialized "LineRemarks$Context") ∈ lw_all := lw_g (lw_at lw_m1 68 rfl) rfl
theorem q227 : (Jvm.Cond.selects "LineRemarks$Context" ({ cls := "java/lang/Object", name := "getClass", desc := "()Ljava/lang/Class;" } : Jvm.MethodName) ({ cls := "java/lang/Object", name := "getClass", desc := "()Ljava/lang/Class;" } : Jvm.MethodName)) ∈ lw_all := lw_g (lw_at lw_m1 141 rfl) rfl
theorem q1726 : (Jvm.Cond.fieldLink "LineRemarks$Context" (23 : Nat) "LineRemarks$Revision" "lines" "[LLineRemarks$Line;") ∈ lw_all := lw_g (lw_at lw_m7 200 rfl) rfl
theorem q2293 : (Jvm.Cond.fieldLink "LineRemarks$Context" (26 : Nat) "LineRemarks$Span" "p" "I") ∈ lw_all := lw_g (lw_at lw_m10 47 rfl) rfl
theorem q2302 : (Jvm.Cond.fieldLink "LineRemarks$Context" (44 : Nat) "LineRemarks$Span" "q" "I") ∈ lw_all := lw_g (lw_at lw_m10 56 rfl) rfl
theorem q2313 : (Jvm.Cond.instantiable "LineRemarks$Context" (3 : Nat)) ∈ lw_all := lw_g (lw_at lw_m10 67 rfl) rfl
theorem q2315 : (Jvm.Cond.instanceMethod ({ cls := "LineRemarks$Context", name := "<init>", desc := "()V" } : Jvm.MethodName)) ∈ lw_all := lw_g (lw_at lw_m10 69 rfl) rfl
theorem q2316 : (Jvm.Cond.code ({ cls := "LineRemarks$Context", name := "<init>", desc := "()V" } : Jvm.MethodName) prog_5_method_1_code (1 : Nat) (Option.none : Option Jvm.ClassFile.FieldType)) ∈ lw_all := lw_g (lw_at lw_m10 70 rfl) rfl
theorem q2317 : (Jvm.Cond.methodLink "LineRemarks$Context" (3 : Nat) ({ cls := "java/lang/Object", name := "<init>", desc := "()V" } : Jvm.MethodName)) ∈ lw_all := lw_g (lw_at lw_m10 71 rfl) rfl
theorem q2318 : (Jvm.Cond.classLink "LineRemarks$Context" (9 : Nat) "LineRemarks$Line") ∈ lw_all := lw_g (lw_at lw_m10 72 rfl) rfl
theorem q2319 : (Jvm.Cond.fieldLink "LineRemarks$Context" (11 : Nat) "LineRemarks$Context" "lines" "[LLineRemarks$Line;") ∈ lw_all := lw_g (lw_at lw_m10 73 rfl) rfl
theorem q2321 : (Jvm.Cond.fieldLink "LineRemarks$Context" (40 : Nat) "LineRemarks$Context" "ahead" "LLineRemarks$Line;") ∈ lw_all := lw_g (lw_at lw_m10 75 rfl) rfl
theorem q2322 : (Jvm.Cond.fieldLink "LineRemarks$Context" (47 : Nat) "LineRemarks$Context" "behind" "LLineRemarks$Line;") ∈ lw_all := lw_g (lw_at lw_m10 76 rfl) rfl
theorem q2323 : (Jvm.Cond.lays "LineRemarks$Context" "LineRemarks$Context" "lines" "[LLineRemarks$Line;") ∈ lw_all := lw_g (lw_at lw_m10 77 rfl) rfl
theorem q2324 : (Jvm.Cond.soleField "LineRemarks$Context" "lines") ∈ lw_all := lw_g (lw_at lw_m10 78 rfl) rfl
theorem q2325 : (Jvm.Cond.lays "LineRemarks$Context" "LineRemarks$Context" "ahead" "LLineRemarks$Line;") ∈ lw_all := lw_g (lw_at lw_m10 79 rfl) rfl
theorem q2326 : (Jvm.Cond.soleField "LineRemarks$Context" "ahead") ∈ lw_all := lw_g (lw_at lw_m10 80 rfl) rfl
theorem q2327 : (Jvm.Cond.lays "LineRemarks$Context" "LineRemarks$Context" "behind" "LLineRemarks$Line;") ∈ lw_all := lw_g (lw_at lw_m10 81 rfl) rfl
theorem q2328 : (Jvm.Cond.soleField "LineRemarks$Context" "behind") ∈ lw_all := lw_g (lw_at lw_m10 82 rfl) rfl
theorem q2329 : (Jvm.Cond.superclass "LineRemarks$Context" "java/lang/Object") ∈ lw_all := lw_g (lw_at lw_m10 83 rfl) rfl
theorem q2383 : (Jvm.Cond.instanceMethod ({ cls := "LineRemarks$Context", name := "keep", desc := "(LLineRemarks$Revision;LLineRemarks$Span;)V" } : Jvm.MethodName)) ∈ lw_all := lw_g (lw_at lw_m10 137 rfl) rfl
theorem q2384 : (Jvm.Cond.selects "LineRemarks$Context" ({ cls := "LineRemarks$Context", name := "keep", desc := "(LLineRemarks$Revision;LLineRemarks$Span;)V" } : Jvm.MethodName) ({ cls := "LineRemarks$Context", name := "keep", desc := "(LLineRemarks$Revision;LLineRemarks$Span;)V" } : Jvm.MethodName)) ∈ lw_all := lw_g (lw_at lw_m10 138 rfl) rfl
theorem q2385 : (Jvm.Cond.code ({ cls := "LineRemarks$Context", name := "keep", desc := "(LLineRemarks$Revision;LLineRemarks$Span;)V" } : Jvm.MethodName) prog_5_method_2_code (3 : Nat) (Option.none : Option Jvm.ClassFile.FieldType)) ∈ lw_all := lw_g (lw_at lw_m10 139 rfl) rfl
theorem q2386 : (Jvm.Cond.methodLink "LineRemarks$Context" (17 : Nat) ({ cls := "LineRemarks$Span", name := "length", desc := "()I" } : Jvm.MethodName)) ∈ lw_all := lw_g (lw_at lw_m10 140 rfl) rfl
theorem q2390 : (Jvm.Cond.methodLink "LineRemarks$Context" (30 : Nat) ({ cls := "java/lang/System", name := "arraycopy", desc := "(Ljava/lang/Object;ILjava/lang/Object;II)V" } : Jvm.MethodName)) ∈ lw_all := lw_g (lw_at lw_m10 144 rfl) rfl
theorem q2391 : (Jvm.Cond.methodLink "LineRemarks$Context" (36 : Nat) ({ cls := "LineRemarks$Revision", name := "at", desc := "(I)LLineRemarks$Line;" } : Jvm.MethodName)) ∈ lw_all := lw_g (lw_at lw_m10 145 rfl) rfl
theorem q2446 : (Jvm.Cond.instanceMethod ({ cls := "LineRemarks$Context", name := "best", desc := "(LLineRemarks$Revision;I)I" } : Jvm.MethodName)) ∈ lw_all := lw_g (lw_at lw_m10 200 rfl) rfl
theorem q2447 : (Jvm.Cond.selects "LineRemarks$Context" ({ cls := "LineRemarks$Context", name := "best", desc := "(LLineRemarks$Revision;I)I" } : Jvm.MethodName) ({ cls := "LineRemarks$Context", name := "best", desc := "(LLineRemarks$Revision;I)I" } : Jvm.MethodName)) ∈ lw_all := lw_g (lw_at lw_m10 201 rfl) rfl
theorem q2448 : (Jvm.Cond.code ({ cls := "LineRemarks$Context", name := "best", desc := "(LLineRemarks$Revision;I)I" } : Jvm.MethodName) prog_5_method_6_code (7 : Nat) (Option.some Jvm.ClassFile.FieldType.int)) ∈ lw_all := lw_g (lw_at lw_m10 202 rfl) rfl
theorem q2449 : (Jvm.Cond.methodLink "LineRemarks$Context" (64 : Nat) ({ cls := "LineRemarks$Context", name := "places", desc := "(LLineRemarks$Revision;)I" } : Jvm.MethodName)) ∈ lw_all := lw_g (lw_at lw_m10 203 rfl) rfl
theorem q2450 : (Jvm.Cond.instanceMethod ({ cls := "LineRemarks$Context", name := "places", desc := "(LLineRemarks$Revision;)I" } : Jvm.MethodName)) ∈ lw_all := lw_g (lw_at lw_m10 204 rfl) rfl
theorem q2451 : (Jvm.Cond.selects "LineRemarks$Context" ({ cls := "LineRemarks$Context", name := "places", desc := "(LLineRemarks$Revision;)I" } : Jvm.MethodName) ({ cls := "LineRemarks$Context", name := "places", desc := "(LLineRemarks$Revision;)I" } : Jvm.MethodName)) ∈ lw_all := lw_g (lw_at lw_m10 205 rfl) rfl
theorem q2452 : (Jvm.Cond.code ({ cls := "LineRemarks$Context", name := "places", desc := "(LLineRemarks$Revision;)I" } : Jvm.MethodName) prog_5_method_4_code (2 : Nat) (Option.some Jvm.ClassFile.FieldType.int)) ∈ lw_all := lw_g (lw_at lw_m10 206 rfl) rfl
theorem q2453 : (Jvm.Cond.methodLink "LineRemarks$Context" (54 : Nat) ({ cls := "java/lang/Math", name := "max", desc := "(II)I" } : Jvm.MethodName)) ∈ lw_all := lw_g (lw_at lw_m10 207 rfl) rfl
theorem q2454 : (Jvm.Cond.methodLink "LineRemarks$Context" (68 : Nat) ({ cls := "LineRemarks$Context", name := "score", desc := "(LLineRemarks$Revision;I)I" } : Jvm.MethodName)) ∈ lw_all := lw_g (lw_at lw_m10 208 rfl) rfl
theorem q2455 : (Jvm.Cond.instanceMethod ({ cls := "LineRemarks$Context", name := "score", desc := "(LLineRemarks$Revision;I)I" } : Jvm.MethodName)) ∈ lw_all := lw_g (lw_at lw_m10 209 rfl) rfl
theorem q2456 : (Jvm.Cond.selects "LineRemarks$Context" ({ cls := "LineRemarks$Context", name := "score", desc := "(LLineRemarks$Revision;I)I" } : Jvm.MethodName) ({ cls := "LineRemarks$Context", name := "score", desc := "(LLineRemarks$Revision;I)I" } : Jvm.MethodName)) ∈ lw_all := lw_g (lw_at lw_m10 210 rfl) rfl
theorem q2457 : (Jvm.Cond.code ({ cls := "LineRemarks$Context", name := "score", desc := "(LLineRemarks$Revision;I)I" } : Jvm.MethodName) prog_5_method_5_code (5 : Nat) (Option.some Jvm.ClassFile.FieldType.int)) ∈ lw_all := lw_g (lw_at lw_m10 211 rfl) rfl
theorem q2458 : (Jvm.Cond.methodLink "LineRemarks$Context" (60 : Nat) ({ cls := "LineRemarks$Context", name := "neighbour", desc := "(LLineRemarks$Line;LLineRemarks$Line;)I" } : Jvm.MethodName)) ∈ lw_all := lw_g (lw_at lw_m10 212 rfl) rfl
theorem q2459 : (Jvm.Cond.static ({ cls := "LineRemarks$Context", name := "neighbour", desc := "(LLineRemarks$Line;LLineRemarks$Line;)I" } : Jvm.MethodName)) ∈ lw_all := lw_g (lw_at lw_m10 213 rfl) rfl
theorem q2460 : (Jvm.Cond.code ({ cls := "LineRemarks$Context", name := "neighbour", desc := "(LLineRemarks$Line;LLineRemarks$Line;)I" } : Jvm.MethodName) prog_5_method_3_code (3 : Nat) (Option.some Jvm.ClassFile.FieldType.int)) ∈ lw_all := lw_g (lw_at lw_m10 214 rfl) rfl
theorem q2461 : (Jvm.Cond.methodLink "LineRemarks$Context" (50 : Nat) ({ cls := "LineRemarks$Line", name := "isAlike", desc := "(LLineRemarks$Line;)Z" } : Jvm.MethodName)) ∈ lw_all := lw_g (lw_at lw_m10 215 rfl) rfl
theorem q3017 : (Jvm.Cond.selects "LineRemarks$Context" ({ cls := "java/lang/Object", name := "equals", desc := "(Ljava/lang/Object;)Z" } : Jvm.MethodName) ({ cls := "java/lang/Object", name := "equals", desc := "(Ljava/lang/Object;)Z" } : Jvm.MethodName)) ∈ lw_all := lw_g (lw_at lw_m13 51 rfl) rfl
theorem q3836 : (Jvm.Cond.castable "LineRemarks$Context" "java/lang/Object") ∈ lw_tbl := lw_at lw_m16 150 rfl
theorem in_X25 : ∀ w ∈ wsX250, w ∈ lw_all := lw_in wsX250 [2323, 2325, 2327] (by decide +kernel) (by decide +kernel)
/-! LineRemarks$Put -/
set_option maxRecDepth 100000
def RX26 : String := "LineRemarks$Put"
def TX26 : u_T := fun k => match k with
  | 0 => ("LineRemarks$Put", "m", "I", true)
  | _ => ("LineRemarks$Put", "span", "LLineRemarks$Span;", true)
def tyX26 : Nat → FieldType := fun k => match k with
  | 0 => .int
  | _ => .object "LineRemarks$Span"
abbrev wsX260 : List Cond := u_ws RX26 TX26 2
theorem nmX26 : ∀ a, a < 2 → ∀ b, b < 2 → a ≠ b → (TX26 a).2.1 ≠ (TX26 b).2.1 := by decide +kernel
theorem tyX26_ok : ∀ k, k < 2 → parseFieldDescriptor (TX26 k).2.2.1 = some (tyX26 k) := by decide +kernel
abbrev cX26_init : ByteArray := prog_13_method_1_code
def yX26_init : MethodName := ⟨RX26, "<init>", "(ILLineRemarks$Span;)V"⟩
def dkwX26_init_0 : List UInt8 := [42, 183, 0, 1, 42, 27, 181, 0, 7, 42, 44, 181, 0, 13, 177]
abbrev dktX26_init_0 : List UInt8 := dkwX26_init_0 ++ []
theorem dksX26_init_0 : cX26_init.data.toList.drop 0 = dktX26_init_0 := by decide +kernel
theorem dX26_init_0 : decode cX26_init 0 = .ok (.aload_n 0, 1) := dk_42 (dk_at dksX26_init_0 0 rfl rfl)
theorem dX26_init_1 : decode cX26_init 1 = .ok (.invokespecial 1, 3) := dk_183 0 1 (dk_at dksX26_init_0 1 rfl rfl)
theorem dX26_init_4 : decode cX26_init 4 = .ok (.aload_n 0, 1) := dk_42 (dk_at dksX26_init_0 4 rfl rfl)
theorem dX26_init_5 : decode cX26_init 5 = .ok (.iload_n 1, 1) := dk_27 (dk_at dksX26_init_0 5 rfl rfl)
theorem dX26_init_6 : decode cX26_init 6 = .ok (.putfield 7, 3) := dk_181 0 7 (dk_at dksX26_init_0 6 rfl rfl)
theorem dX26_init_9 : decode cX26_init 9 = .ok (.aload_n 0, 1) := dk_42 (dk_at dksX26_init_0 9 rfl rfl)
theorem dX26_init_10 : decode cX26_init 10 = .ok (.aload_n 2, 1) := dk_44 (dk_at dksX26_init_0 10 rfl rfl)
theorem dX26_init_11 : decode cX26_init 11 = .ok (.putfield 13, 3) := dk_181 0 13 (dk_at dksX26_init_0 11 rfl rfl)
theorem dX26_init_14 : decode cX26_init 14 = .ok (.return_, 1) := dk_177 (dk_at dksX26_init_0 14 rfl rfl)
theorem q157 : (Jvm.Cond.initialized "LineRemarks$Put") ∈ lw_all := lw_g (lw_at lw_m1 71 rfl) rfl
theorem q235 : (Jvm.Cond.selects "LineRemarks$Put" ({ cls := "java/lang/Object", name := "getClass", desc := "()Ljava/lang/Class;" } : Jvm.MethodName) ({ cls := "java/lang/Object", name := "getClass", desc := "()Ljava/lang/Class;" } : Jvm.MethodName)) ∈ lw_all := lw_g (lw_at lw_m1 149 rfl) rfl
theorem q2520 : (Jvm.Cond.instantiable "LineRemarks$Put" (2 : Nat)) ∈ lw_all := lw_g (lw_at lw_m11 34 rfl) rfl
theorem q2522 : (Jvm.Cond.instanceMethod ({ cls := "LineRemarks$Put", name := "<init>", desc := "(ILLineRemarks$Span;)V" } : Jvm.MethodName)) ∈ lw_all := lw_g (lw_at lw_m11 36 rfl) rfl
theorem q2523 : (Jvm.Cond.code ({ cls := "LineRemarks$Put", name := "<init>", desc := "(ILLineRemarks$Span;)V" } : Jvm.MethodName) prog_13_method_1_code (3 : Nat) (Option.none : Option Jvm.ClassFile.FieldType)) ∈ lw_all := lw_g (lw_at lw_m11 37 rfl) rfl
theorem q2524 : (Jvm.Cond.methodLink "LineRemarks$Put" (1 : Nat) ({ cls := "java/lang/Object", name := "<init>", desc := "()V" } : Jvm.MethodName)) ∈ lw_all := lw_g (lw_at lw_m11 38 rfl) rfl
theorem q2525 : (Jvm.Cond.fieldLink "LineRemarks$Put" (7 : Nat) "LineRemarks$Put" "m" "I") ∈ lw_all := lw_g (lw_at lw_m11 39 rfl) rfl
theorem q2527 : (Jvm.Cond.fieldLink "LineRemarks$Put" (13 : Nat) "LineRemarks$Put" "span" "LLineRemarks$Span;") ∈ lw_all := lw_g (lw_at lw_m11 41 rfl) rfl
theorem q2529 : (Jvm.Cond.laysFinal "LineRemarks$Put" "LineRemarks$Put" "m" "I") ∈ lw_all := lw_g (lw_at lw_m11 43 rfl) rfl
theorem q2530 : (Jvm.Cond.soleField "LineRemarks$Put" "m") ∈ lw_all := lw_g (lw_at lw_m11 44 rfl) rfl
theorem q2531 : (Jvm.Cond.laysFinal "LineRemarks$Put" "LineRemarks$Put" "span" "LLineRemarks$Span;") ∈ lw_all := lw_g (lw_at lw_m11 45 rfl) rfl
theorem q2532 : (Jvm.Cond.soleField "LineRemarks$Put" "span") ∈ lw_all := lw_g (lw_at lw_m11 46 rfl) rfl
theorem q2533 : (Jvm.Cond.superclass "LineRemarks$Put" "java/lang/Object") ∈ lw_all := lw_g (lw_at lw_m11 47 rfl) rfl
theorem q3025 : (Jvm.Cond.selects "LineRemarks$Put" ({ cls := "java/lang/Object", name := "equals", desc := "(Ljava/lang/Object;)Z" } : Jvm.MethodName) ({ cls := "java/lang/Object", name := "equals", desc := "(Ljava/lang/Object;)Z" } : Jvm.MethodName)) ∈ lw_all := lw_g (lw_at lw_m13 59 rfl) rfl
theorem q3838 : (Jvm.Cond.castable "LineRemarks$Put" "java/lang/Object") ∈ lw_tbl := lw_at lw_m16 152 rfl
theorem in_X26 : ∀ w ∈ wsX260, w ∈ lw_all := lw_in wsX260 [2529, 2531] (by decide +kernel) (by decide +kernel)
theorem q86 : (Jvm.Cond.initialized "LineRemarksLaw") ∈ lw_all := lw_g (lw_at lw_m1 0 rfl) rfl
set_option maxRecDepth 100000
theorem q164 : (Jvm.Cond.classLink "LineRemarksLaw" (7 : Nat) "LineRemarks") ∈ lw_all := lw_g (lw_at lw_m1 78 rfl) rfl
theorem q166 : (Jvm.Cond.methodLink "LineRemarksLaw" (9 : Nat) ({ cls := "LineRemarks", name := "<init>", desc := "()V" } : Jvm.MethodName)) ∈ lw_all := lw_g (lw_at lw_m1 80 rfl) rfl
theorem q406 : (Jvm.Cond.methodLink "LineRemarksLaw" (13 : Nat) ({ cls := "LineRemarks", name := "row", desc := "(III)I" } : Jvm.MethodName)) ∈ lw_all := lw_g (lw_at lw_m2 80 rfl) rfl
theorem q593 : (Jvm.Cond.methodLink "LineRemarksLaw" (20 : Nat) ({ cls := "LineRemarks", name := "set", desc := "(IIJ)I" } : Jvm.MethodName)) ∈ lw_all := lw_g (lw_at lw_m3 27 rfl) rfl
theorem q634 : (Jvm.Cond.methodLink "LineRemarksLaw" (25 : Nat) ({ cls := "LineRemarks", name := "copy", desc := "(IIIII)I" } : Jvm.MethodName)) ∈ lw_all := lw_g (lw_at lw_m3 68 rfl) rfl
theorem q677 : (Jvm.Cond.methodLink "LineRemarksLaw" (30 : Nat) ({ cls := "LineRemarks", name := "element", desc := "(II)J" } : Jvm.MethodName)) ∈ lw_all := lw_g (lw_at lw_m3 111 rfl) rfl
theorem q696 : (Jvm.Cond.methodLink "LineRemarksLaw" (35 : Nat) ({ cls := "LineRemarks", name := "show", desc := "(II)I" } : Jvm.MethodName)) ∈ lw_all := lw_g (lw_at lw_m3 130 rfl) rfl
theorem q708 : (Jvm.Cond.methodLink "LineRemarksLaw" (40 : Nat) ({ cls := "LineRemarks", name := "holds", desc := "(I)I" } : Jvm.MethodName)) ∈ lw_all := lw_g (lw_at lw_m3 142 rfl) rfl
theorem q714 : (Jvm.Cond.methodLink "LineRemarksLaw" (45 : Nat) ({ cls := "LineRemarks", name := "says", desc := "(II)I" } : Jvm.MethodName)) ∈ lw_all := lw_g (lw_at lw_m3 148 rfl) rfl
theorem q732 : (Jvm.Cond.methodLink "LineRemarksLaw" (49 : Nat) ({ cls := "LineRemarks", name := "revise", desc := "(II)I" } : Jvm.MethodName)) ∈ lw_all := lw_g (lw_at lw_m3 166 rfl) rfl
theorem q1739 : (Jvm.Cond.methodLink "LineRemarksLaw" (53 : Nat) ({ cls := "LineRemarks", name := "fault", desc := "()I" } : Jvm.MethodName)) ∈ lw_all := lw_g (lw_at lw_m7 213 rfl) rfl
theorem q1743 : (Jvm.Cond.methodLink "LineRemarksLaw" (58 : Nat) ({ cls := "LineRemarks", name := "lines", desc := "(I)I" } : Jvm.MethodName)) ∈ lw_all := lw_g (lw_at lw_m7 217 rfl) rfl
theorem q1747 : (Jvm.Cond.methodLink "LineRemarksLaw" (62 : Nat) ({ cls := "LineRemarks", name := "letter", desc := "(III)I" } : Jvm.MethodName)) ∈ lw_all := lw_g (lw_at lw_m7 221 rfl) rfl
theorem q1764 : (Jvm.Cond.methodLink "LineRemarksLaw" (66 : Nat) ({ cls := "LineRemarks", name := "former", desc := "(I)I" } : Jvm.MethodName)) ∈ lw_all := lw_g (lw_at lw_m7 238 rfl) rfl
theorem q1768 : (Jvm.Cond.methodLink "LineRemarksLaw" (70 : Nat) ({ cls := "LineRemarks", name := "rule", desc := "(II)I" } : Jvm.MethodName)) ∈ lw_all := lw_g (lw_at lw_m8 2 rfl) rfl
theorem q1776 : (Jvm.Cond.methodLink "LineRemarksLaw" (74 : Nat) ({ cls := "LineRemarks", name := "place", desc := "(III)I" } : Jvm.MethodName)) ∈ lw_all := lw_g (lw_at lw_m8 10 rfl) rfl
theorem q1941 : (Jvm.Cond.methodLink "LineRemarksLaw" (78 : Nat) ({ cls := "LineRemarks", name := "matched", desc := "(III)I" } : Jvm.MethodName)) ∈ lw_all := lw_g (lw_at lw_m8 175 rfl) rfl
theorem q1945 : (Jvm.Cond.methodLink "LineRemarksLaw" (82 : Nat) ({ cls := "LineRemarks", name := "through", desc := "(III)I" } : Jvm.MethodName)) ∈ lw_all := lw_g (lw_at lw_m8 179 rfl) rfl
theorem q2035 : (Jvm.Cond.methodLink "LineRemarksLaw" (86 : Nat) ({ cls := "LineRemarks", name := "origin", desc := "(III)I" } : Jvm.MethodName)) ∈ lw_all := lw_g (lw_at lw_m9 29 rfl) rfl
theorem q2043 : (Jvm.Cond.methodLink "LineRemarksLaw" (90 : Nat) ({ cls := "LineRemarks", name := "remark", desc := "(IIIIII)I" } : Jvm.MethodName)) ∈ lw_all := lw_g (lw_at lw_m9 37 rfl) rfl
theorem q2188 : (Jvm.Cond.methodLink "LineRemarksLaw" (95 : Nat) ({ cls := "LineRemarks", name := "remarkOf", desc := "(II)I" } : Jvm.MethodName)) ∈ lw_all := lw_g (lw_at lw_m9 182 rfl) rfl
theorem q2272 : (Jvm.Cond.methodLink "LineRemarksLaw" (99 : Nat) ({ cls := "LineRemarks", name := "settle", desc := "(IZ)I" } : Jvm.MethodName)) ∈ lw_all := lw_g (lw_at lw_m10 26 rfl) rfl
theorem q2276 : (Jvm.Cond.methodLink "LineRemarksLaw" (104 : Nat) ({ cls := "LineRemarks", name := "put", desc := "(III)I" } : Jvm.MethodName)) ∈ lw_all := lw_g (lw_at lw_m10 30 rfl) rfl
theorem q2464 : (Jvm.Cond.methodLink "LineRemarksLaw" (108 : Nat) ({ cls := "LineRemarks", name := "score", desc := "(III)I" } : Jvm.MethodName)) ∈ lw_all := lw_g (lw_at lw_m10 218 rfl) rfl
theorem q2479 : (Jvm.Cond.methodLink "LineRemarksLaw" (112 : Nat) ({ cls := "LineRemarks", name := "leastNeed", desc := "(II)I" } : Jvm.MethodName)) ∈ lw_all := lw_g (lw_at lw_m10 233 rfl) rfl
theorem q2484 : (Jvm.Cond.methodLink "LineRemarksLaw" (116 : Nat) ({ cls := "LineRemarks", name := "fitting", desc := "(II)I" } : Jvm.MethodName)) ∈ lw_all := lw_g (lw_at lw_m10 238 rfl) rfl
theorem q2491 : (Jvm.Cond.methodLink "LineRemarksLaw" (120 : Nat) ({ cls := "LineRemarks", name := "inOrder", desc := "(II)I" } : Jvm.MethodName)) ∈ lw_all := lw_g (lw_at lw_m11 5 rfl) rfl
theorem q2644 : (Jvm.Cond.methodLink "LineRemarksLaw" (124 : Nat) ({ cls := "LineRemarks", name := "who", desc := "(II)I" } : Jvm.MethodName)) ∈ lw_all := lw_g (lw_at lw_m11 158 rfl) rfl
theorem q3094 : (Jvm.Cond.methodLink "LineRemarksLaw" (128 : Nat) ({ cls := "LineRemarks", name := "covered", desc := "(I)I" } : Jvm.MethodName)) ∈ lw_all := lw_g (lw_at lw_m13 128 rfl) rfl
theorem q3111 : (Jvm.Cond.methodLink "LineRemarksLaw" (132 : Nat) ({ cls := "LineRemarks", name := "judge", desc := "(III)I" } : Jvm.MethodName)) ∈ lw_all := lw_g (lw_at lw_m13 145 rfl) rfl
theorem q3123 : (Jvm.Cond.methodLink "LineRemarksLaw" (136 : Nat) ({ cls := "LineRemarks", name := "again", desc := "(II)I" } : Jvm.MethodName)) ∈ lw_all := lw_g (lw_at lw_m13 157 rfl) rfl
theorem q3131 : (Jvm.Cond.methodLink "LineRemarksLaw" (140 : Nat) ({ cls := "LineRemarks", name := "drift", desc := "(I)I" } : Jvm.MethodName)) ∈ lw_all := lw_g (lw_at lw_m13 165 rfl) rfl
theorem q3174 : (Jvm.Cond.methodLink "LineRemarksLaw" (144 : Nat) ({ cls := "LineRemarks", name := "seed", desc := "(I)I" } : Jvm.MethodName)) ∈ lw_all := lw_g (lw_at lw_m13 208 rfl) rfl
theorem q3178 : (Jvm.Cond.methodLink "LineRemarksLaw" (148 : Nat) ({ cls := "LineRemarks", name := "act", desc := "(III)I" } : Jvm.MethodName)) ∈ lw_all := lw_g (lw_at lw_m13 212 rfl) rfl
theorem q3255 : (Jvm.Cond.methodLink "LineRemarksLaw" (152 : Nat) ({ cls := "LineRemarks", name := "trace", desc := "(I)I" } : Jvm.MethodName)) ∈ lw_all := lw_g (lw_at lw_m14 49 rfl) rfl
theorem q3259 : (Jvm.Cond.methodLink "LineRemarksLaw" (156 : Nat) ({ cls := "LineRemarks", name := "image", desc := "()I" } : Jvm.MethodName)) ∈ lw_all := lw_g (lw_at lw_m14 53 rfl) rfl
theorem q3268 : (Jvm.Cond.methodLink "LineRemarksLaw" (160 : Nat) ({ cls := "LineRemarks", name := "restore", desc := "()I" } : Jvm.MethodName)) ∈ lw_all := lw_g (lw_at lw_m14 62 rfl) rfl
theorem q3276 : (Jvm.Cond.methodLink "LineRemarksLaw" (164 : Nat) ({ cls := "LineRemarks", name := "status", desc := "(I)I" } : Jvm.MethodName)) ∈ lw_all := lw_g (lw_at lw_m14 70 rfl) rfl
theorem q3290 : (Jvm.Cond.classLink "LineRemarksLaw" (10 : Nat) "LineRemarksModel") ∈ lw_all := lw_g (lw_at lw_m14 84 rfl) rfl
theorem q3292 : (Jvm.Cond.methodLink "LineRemarksLaw" (12 : Nat) ({ cls := "LineRemarksModel", name := "<init>", desc := "()V" } : Jvm.MethodName)) ∈ lw_all := lw_g (lw_at lw_m14 86 rfl) rfl
theorem q3420 : (Jvm.Cond.methodLink "LineRemarksLaw" (17 : Nat) ({ cls := "LineRemarksModel", name := "row", desc := "(III)I" } : Jvm.MethodName)) ∈ lw_all := lw_g (lw_at lw_m14 214 rfl) rfl
theorem q3431 : (Jvm.Cond.methodLink "LineRemarksLaw" (24 : Nat) ({ cls := "LineRemarksModel", name := "set", desc := "(IIJ)I" } : Jvm.MethodName)) ∈ lw_all := lw_g (lw_at lw_m14 225 rfl) rfl
theorem q3443 : (Jvm.Cond.methodLink "LineRemarksLaw" (29 : Nat) ({ cls := "LineRemarksModel", name := "copy", desc := "(IIIII)I" } : Jvm.MethodName)) ∈ lw_all := lw_g (lw_at lw_m14 237 rfl) rfl
theorem q3447 : (Jvm.Cond.methodLink "LineRemarksLaw" (34 : Nat) ({ cls := "LineRemarksModel", name := "element", desc := "(II)J" } : Jvm.MethodName)) ∈ lw_all := lw_g (lw_at lw_m15 1 rfl) rfl
theorem q3451 : (Jvm.Cond.methodLink "LineRemarksLaw" (39 : Nat) ({ cls := "LineRemarksModel", name := "show", desc := "(II)I" } : Jvm.MethodName)) ∈ lw_all := lw_g (lw_at lw_m15 5 rfl) rfl
theorem q3459 : (Jvm.Cond.methodLink "LineRemarksLaw" (44 : Nat) ({ cls := "LineRemarksModel", name := "holds", desc := "(I)I" } : Jvm.MethodName)) ∈ lw_all := lw_g (lw_at lw_m15 13 rfl) rfl
theorem q3463 : (Jvm.Cond.methodLink "LineRemarksLaw" (48 : Nat) ({ cls := "LineRemarksModel", name := "says", desc := "(II)I" } : Jvm.MethodName)) ∈ lw_all := lw_g (lw_at lw_m15 17 rfl) rfl
theorem q3477 : (Jvm.Cond.methodLink "LineRemarksLaw" (52 : Nat) ({ cls := "LineRemarksModel", name := "revise", desc := "(II)I" } : Jvm.MethodName)) ∈ lw_all := lw_g (lw_at lw_m15 31 rfl) rfl
theorem q3522 : (Jvm.Cond.methodLink "LineRemarksLaw" (57 : Nat) ({ cls := "LineRemarksModel", name := "fault", desc := "()I" } : Jvm.MethodName)) ∈ lw_all := lw_g (lw_at lw_m15 76 rfl) rfl
theorem q3526 : (Jvm.Cond.methodLink "LineRemarksLaw" (61 : Nat) ({ cls := "LineRemarksModel", name := "lines", desc := "(I)I" } : Jvm.MethodName)) ∈ lw_all := lw_g (lw_at lw_m15 80 rfl) rfl
theorem q3530 : (Jvm.Cond.methodLink "LineRemarksLaw" (65 : Nat) ({ cls := "LineRemarksModel", name := "letter", desc := "(III)I" } : Jvm.MethodName)) ∈ lw_all := lw_g (lw_at lw_m15 84 rfl) rfl
theorem q3539 : (Jvm.Cond.methodLink "LineRemarksLaw" (69 : Nat) ({ cls := "LineRemarksModel", name := "former", desc := "(I)I" } : Jvm.MethodName)) ∈ lw_all := lw_g (lw_at lw_m15 93 rfl) rfl
theorem q3547 : (Jvm.Cond.methodLink "LineRemarksLaw" (73 : Nat) ({ cls := "LineRemarksModel", name := "rule", desc := "(II)I" } : Jvm.MethodName)) ∈ lw_all := lw_g (lw_at lw_m15 101 rfl) rfl
theorem q3551 : (Jvm.Cond.methodLink "LineRemarksLaw" (77 : Nat) ({ cls := "LineRemarksModel", name := "place", desc := "(III)I" } : Jvm.MethodName)) ∈ lw_all := lw_g (lw_at lw_m15 105 rfl) rfl
theorem q3555 : (Jvm.Cond.methodLink "LineRemarksLaw" (81 : Nat) ({ cls := "LineRemarksModel", name := "matched", desc := "(III)I" } : Jvm.MethodName)) ∈ lw_all := lw_g (lw_at lw_m15 109 rfl) rfl
theorem q3559 : (Jvm.Cond.methodLink "LineRemarksLaw" (85 : Nat) ({ cls := "LineRemarksModel", name := "through", desc := "(III)I" } : Jvm.MethodName)) ∈ lw_all := lw_g (lw_at lw_m15 113 rfl) rfl
theorem q3567 : (Jvm.Cond.methodLink "LineRemarksLaw" (89 : Nat) ({ cls := "LineRemarksModel", name := "origin", desc := "(III)I" } : Jvm.MethodName)) ∈ lw_all := lw_g (lw_at lw_m15 121 rfl) rfl
theorem q3575 : (Jvm.Cond.methodLink "LineRemarksLaw" (94 : Nat) ({ cls := "LineRemarksModel", name := "remark", desc := "(IIIIII)I" } : Jvm.MethodName)) ∈ lw_all := lw_g (lw_at lw_m15 129 rfl) rfl
theorem q3583 : (Jvm.Cond.methodLink "LineRemarksLaw" (98 : Nat) ({ cls := "LineRemarksModel", name := "remarkOf", desc := "(II)I" } : Jvm.MethodName)) ∈ lw_all := lw_g (lw_at lw_m15 137 rfl) rfl
theorem q3603 : (Jvm.Cond.methodLink "LineRemarksLaw" (103 : Nat) ({ cls := "LineRemarksModel", name := "settle", desc := "(IZ)I" } : Jvm.MethodName)) ∈ lw_all := lw_g (lw_at lw_m15 157 rfl) rfl
theorem q3607 : (Jvm.Cond.methodLink "LineRemarksLaw" (107 : Nat) ({ cls := "LineRemarksModel", name := "put", desc := "(III)I" } : Jvm.MethodName)) ∈ lw_all := lw_g (lw_at lw_m15 161 rfl) rfl
theorem q3644 : (Jvm.Cond.methodLink "LineRemarksLaw" (111 : Nat) ({ cls := "LineRemarksModel", name := "score", desc := "(III)I" } : Jvm.MethodName)) ∈ lw_all := lw_g (lw_at lw_m15 198 rfl) rfl
theorem q3648 : (Jvm.Cond.methodLink "LineRemarksLaw" (115 : Nat) ({ cls := "LineRemarksModel", name := "leastNeed", desc := "(II)I" } : Jvm.MethodName)) ∈ lw_all := lw_g (lw_at lw_m15 202 rfl) rfl
theorem q3652 : (Jvm.Cond.methodLink "LineRemarksLaw" (119 : Nat) ({ cls := "LineRemarksModel", name := "fitting", desc := "(II)I" } : Jvm.MethodName)) ∈ lw_all := lw_g (lw_at lw_m15 206 rfl) rfl
theorem q3656 : (Jvm.Cond.methodLink "LineRemarksLaw" (123 : Nat) ({ cls := "LineRemarksModel", name := "inOrder", desc := "(II)I" } : Jvm.MethodName)) ∈ lw_all := lw_g (lw_at lw_m15 210 rfl) rfl
theorem q3664 : (Jvm.Cond.methodLink "LineRemarksLaw" (127 : Nat) ({ cls := "LineRemarksModel", name := "who", desc := "(II)I" } : Jvm.MethodName)) ∈ lw_all := lw_g (lw_at lw_m15 218 rfl) rfl
theorem q3672 : (Jvm.Cond.methodLink "LineRemarksLaw" (131 : Nat) ({ cls := "LineRemarksModel", name := "covered", desc := "(I)I" } : Jvm.MethodName)) ∈ lw_all := lw_g (lw_at lw_m15 226 rfl) rfl
theorem q3676 : (Jvm.Cond.methodLink "LineRemarksLaw" (135 : Nat) ({ cls := "LineRemarksModel", name := "judge", desc := "(III)I" } : Jvm.MethodName)) ∈ lw_all := lw_g (lw_at lw_m15 230 rfl) rfl
theorem q3680 : (Jvm.Cond.methodLink "LineRemarksLaw" (139 : Nat) ({ cls := "LineRemarksModel", name := "again", desc := "(II)I" } : Jvm.MethodName)) ∈ lw_all := lw_g (lw_at lw_m15 234 rfl) rfl
theorem q3688 : (Jvm.Cond.methodLink "LineRemarksLaw" (143 : Nat) ({ cls := "LineRemarksModel", name := "drift", desc := "(I)I" } : Jvm.MethodName)) ∈ lw_all := lw_g (lw_at lw_m16 2 rfl) rfl
theorem q3702 : (Jvm.Cond.methodLink "LineRemarksLaw" (147 : Nat) ({ cls := "LineRemarksModel", name := "seed", desc := "(I)I" } : Jvm.MethodName)) ∈ lw_all := lw_g (lw_at lw_m16 16 rfl) rfl
theorem q3706 : (Jvm.Cond.methodLink "LineRemarksLaw" (151 : Nat) ({ cls := "LineRemarksModel", name := "act", desc := "(III)I" } : Jvm.MethodName)) ∈ lw_all := lw_g (lw_at lw_m16 20 rfl) rfl
theorem q3726 : (Jvm.Cond.methodLink "LineRemarksLaw" (155 : Nat) ({ cls := "LineRemarksModel", name := "trace", desc := "(I)I" } : Jvm.MethodName)) ∈ lw_all := lw_g (lw_at lw_m16 40 rfl) rfl
theorem q3730 : (Jvm.Cond.methodLink "LineRemarksLaw" (159 : Nat) ({ cls := "LineRemarksModel", name := "image", desc := "()I" } : Jvm.MethodName)) ∈ lw_all := lw_g (lw_at lw_m16 44 rfl) rfl
theorem q3734 : (Jvm.Cond.methodLink "LineRemarksLaw" (163 : Nat) ({ cls := "LineRemarksModel", name := "restore", desc := "()I" } : Jvm.MethodName)) ∈ lw_all := lw_g (lw_at lw_m16 48 rfl) rfl
theorem q3738 : (Jvm.Cond.methodLink "LineRemarksLaw" (167 : Nat) ({ cls := "LineRemarksModel", name := "status", desc := "(I)I" } : Jvm.MethodName)) ∈ lw_all := lw_g (lw_at lw_m16 52 rfl) rfl
theorem q3750 : (Jvm.Cond.constantLong "LineRemarksLaw" (18 : Nat) (4294967295 : Int64)) ∈ lw_all := lw_g (lw_at lw_m16 64 rfl) rfl
theorem q1025 : (Jvm.Cond.sameMethod "[B" "java/lang/Object" "clone" "()Ljava/lang/Object;") ∈ lw_all := lw_g (lw_at lw_m4 219 rfl) rfl
set_option maxRecDepth 100000
theorem q1028 : (Jvm.Cond.selects "[B" ({ cls := "[B", name := "clone", desc := "()Ljava/lang/Object;" } : Jvm.MethodName) ({ cls := "java/lang/Object", name := "clone", desc := "()Ljava/lang/Object;" } : Jvm.MethodName)) ∈ lw_all := lw_g (lw_at lw_m4 222 rfl) rfl
theorem q1029 : (Jvm.Cond.castable "[B" "java/lang/Cloneable") ∈ lw_tbl := lw_at lw_m4 223 rfl
theorem q3857 : (Jvm.Cond.castable "[B" "java/lang/Object") ∈ lw_tbl := lw_at lw_m16 171 rfl
theorem q3860 : (Jvm.Cond.castable "[C" "java/lang/Object") ∈ lw_tbl := lw_at lw_m16 174 rfl
set_option maxRecDepth 100000
theorem q3852 : (Jvm.Cond.castable "[I" "java/lang/Object") ∈ lw_tbl := lw_at lw_m16 166 rfl
set_option maxRecDepth 100000
theorem q1860 : (Jvm.Cond.sameMethod "[J" "java/lang/Object" "clone" "()Ljava/lang/Object;") ∈ lw_all := lw_g (lw_at lw_m8 94 rfl) rfl
set_option maxRecDepth 100000
theorem q1861 : (Jvm.Cond.selects "[J" ({ cls := "[J", name := "clone", desc := "()Ljava/lang/Object;" } : Jvm.MethodName) ({ cls := "java/lang/Object", name := "clone", desc := "()Ljava/lang/Object;" } : Jvm.MethodName)) ∈ lw_all := lw_g (lw_at lw_m8 95 rfl) rfl
theorem q1862 : (Jvm.Cond.castable "[J" "java/lang/Cloneable") ∈ lw_tbl := lw_at lw_m8 96 rfl
theorem q3859 : (Jvm.Cond.castable "[J" "java/lang/Object") ∈ lw_tbl := lw_at lw_m16 173 rfl
theorem q3861 : (Jvm.Cond.castable "[LLineRemarks$Line;" "java/lang/Object") ∈ lw_tbl := lw_at lw_m16 175 rfl
set_option maxRecDepth 100000
theorem q3855 : (Jvm.Cond.castable "[LLineRemarks$Remark;" "java/lang/Object") ∈ lw_tbl := lw_at lw_m16 169 rfl
set_option maxRecDepth 100000
theorem q3854 : (Jvm.Cond.castable "[LLineRemarks$Revision;" "java/lang/Object") ∈ lw_tbl := lw_at lw_m16 168 rfl
set_option maxRecDepth 100000
theorem q3851 : (Jvm.Cond.castable "[LLineRemarks$Shelf;" "java/lang/Object") ∈ lw_tbl := lw_at lw_m16 165 rfl
set_option maxRecDepth 100000
theorem q3849 : (Jvm.Cond.sameMethod "[Ljava/lang/Object;" "java/lang/Object" "getClass" "()Ljava/lang/Class;") ∈ lw_all := lw_g (lw_at lw_m16 163 rfl) rfl
set_option maxRecDepth 100000
theorem q3850 : (Jvm.Cond.selects "[Ljava/lang/Object;" ({ cls := "java/lang/Object", name := "getClass", desc := "()Ljava/lang/Class;" } : Jvm.MethodName) ({ cls := "java/lang/Object", name := "getClass", desc := "()Ljava/lang/Class;" } : Jvm.MethodName)) ∈ lw_all := lw_g (lw_at lw_m16 164 rfl) rfl
theorem q3853 : (Jvm.Cond.castable "[Ljava/lang/Object;" "java/lang/Object") ∈ lw_tbl := lw_at lw_m16 167 rfl
theorem q3858 : (Jvm.Cond.castable "[S" "java/lang/Object") ∈ lw_tbl := lw_at lw_m16 172 rfl
set_option maxRecDepth 100000
theorem q3856 : (Jvm.Cond.castable "[Z" "java/lang/Object") ∈ lw_tbl := lw_at lw_m16 170 rfl
set_option maxRecDepth 100000
theorem q3862 : (Jvm.Cond.castable "[[I" "java/lang/Object") ∈ lw_tbl := lw_at lw_m16 176 rfl
set_option maxRecDepth 100000
theorem q2808 : (Jvm.Cond.interfaceMethod "java/lang/Comparable" "java/lang/Comparable" "compareTo" "(Ljava/lang/Object;)I") ∈ lw_tbl := lw_at lw_m12 82 rfl
set_option maxRecDepth 100000
theorem q2809 : (Jvm.Cond.declares ({ cls := "java/lang/Comparable", name := "compareTo", desc := "(Ljava/lang/Object;)I" } : Jvm.MethodName)) ∈ lw_tbl := lw_at lw_m12 83 rfl
theorem q91 : (Jvm.Cond.initialized "java/lang/Integer$IntegerCache") ∈ lw_all := lw_g (lw_at lw_m1 5 rfl) rfl
set_option maxRecDepth 100000
theorem q194 : (Jvm.Cond.laysStatic "java/lang/Integer$IntegerCache" "high" "I") ∈ lw_tbl := lw_at lw_m1 108 rfl
theorem q196 : (Jvm.Cond.laysStatic "java/lang/Integer$IntegerCache" "cache" "[Ljava/lang/Integer;") ∈ lw_tbl := lw_at lw_m1 110 rfl
theorem q117 : (Jvm.Cond.initialized "java/lang/System") ∈ lw_all := lw_g (lw_at lw_m1 31 rfl) rfl
set_option maxRecDepth 100000
theorem q675 : (Jvm.Cond.static ({ cls := "java/lang/System", name := "arraycopy", desc := "(Ljava/lang/Object;ILjava/lang/Object;II)V" } : Jvm.MethodName)) ∈ lw_all := lw_g (lw_at lw_m3 109 rfl) rfl
theorem q676 : (Jvm.Cond.native ({ cls := "java/lang/System", name := "arraycopy", desc := "(Ljava/lang/Object;ILjava/lang/Object;II)V" } : Jvm.MethodName)) ∈ lw_all := lw_g (lw_at lw_m3 110 rfl) rfl
theorem q2676 : (Jvm.Cond.interfaceMethod "java/util/Collection" "java/util/Collection" "toArray" "()[Ljava/lang/Object;") ∈ lw_tbl := lw_at lw_m11 190 rfl
set_option maxRecDepth 100000
theorem q2677 : (Jvm.Cond.declares ({ cls := "java/util/Collection", name := "toArray", desc := "()[Ljava/lang/Object;" } : Jvm.MethodName)) ∈ lw_tbl := lw_at lw_m11 191 rfl
theorem q2744 : (Jvm.Cond.interfaceMethod "java/util/Collection" "java/lang/Object" "getClass" "()Ljava/lang/Class;") ∈ lw_tbl := lw_at lw_m12 18 rfl
theorem q2791 : (Jvm.Cond.interfaceMethod "java/util/Collection" "java/util/Collection" "iterator" "()Ljava/util/Iterator;") ∈ lw_tbl := lw_at lw_m12 65 rfl
theorem q2792 : (Jvm.Cond.declares ({ cls := "java/util/Collection", name := "iterator", desc := "()Ljava/util/Iterator;" } : Jvm.MethodName)) ∈ lw_tbl := lw_at lw_m12 66 rfl
theorem q1473 : (Jvm.Cond.interfaceMethod "java/util/Iterator" "java/util/Iterator" "hasNext" "()Z") ∈ lw_tbl := lw_at lw_m6 187 rfl
set_option maxRecDepth 100000
theorem q1474 : (Jvm.Cond.declares ({ cls := "java/util/Iterator", name := "hasNext", desc := "()Z" } : Jvm.MethodName)) ∈ lw_tbl := lw_at lw_m6 188 rfl
theorem q1514 : (Jvm.Cond.interfaceMethod "java/util/Iterator" "java/util/Iterator" "next" "()Ljava/lang/Object;") ∈ lw_tbl := lw_at lw_m6 228 rfl
theorem q1515 : (Jvm.Cond.declares ({ cls := "java/util/Iterator", name := "next", desc := "()Ljava/lang/Object;" } : Jvm.MethodName)) ∈ lw_tbl := lw_at lw_m6 229 rfl
theorem q2549 : (Jvm.Cond.interfaceMethod "java/util/Iterator" "java/util/Iterator" "remove" "()V") ∈ lw_tbl := lw_at lw_m11 63 rfl
theorem q2550 : (Jvm.Cond.declares ({ cls := "java/util/Iterator", name := "remove", desc := "()V" } : Jvm.MethodName)) ∈ lw_tbl := lw_at lw_m11 64 rfl
theorem q163 : (Jvm.Cond.initialized "jdk/internal/misc/UnsafeConstants") ∈ lw_all := lw_g (lw_at lw_m1 77 rfl) rfl
set_option maxRecDepth 100000
theorem q2881 : (Jvm.Cond.laysStatic "jdk/internal/misc/UnsafeConstants" "BIG_ENDIAN" "Z") ∈ lw_tbl := lw_at lw_m12 155 rfl
theorem q173 : (Jvm.Cond.arrayOver (Jvm.ClassFile.FieldType.object "LineRemarks$Shelf")) ∈ lw_tbl := lw_at lw_m1 87 rfl
set_option maxRecDepth 100000
theorem q189 : (Jvm.Cond.arrayClass Jvm.ClassFile.FieldType.int) ∈ lw_all := lw_g (lw_at lw_m1 103 rfl) rfl
theorem q214 : (Jvm.Cond.arrayOver (Jvm.ClassFile.FieldType.object "java/lang/Object")) ∈ lw_tbl := lw_at lw_m1 128 rfl
theorem q330 : (Jvm.Cond.arrayOver (Jvm.ClassFile.FieldType.object "LineRemarks$Revision")) ∈ lw_tbl := lw_at lw_m2 4 rfl
theorem q332 : (Jvm.Cond.arrayOver (Jvm.ClassFile.FieldType.object "LineRemarks$Remark")) ∈ lw_tbl := lw_at lw_m2 6 rfl
theorem q373 : (Jvm.Cond.arrayClass Jvm.ClassFile.FieldType.boolean) ∈ lw_all := lw_g (lw_at lw_m2 47 rfl) rfl
theorem q492 : (Jvm.Cond.arrayClass Jvm.ClassFile.FieldType.byte) ∈ lw_all := lw_g (lw_at lw_m2 166 rfl) rfl
theorem q567 : (Jvm.Cond.arrayClass Jvm.ClassFile.FieldType.short) ∈ lw_all := lw_g (lw_at lw_m3 1 rfl) rfl
theorem q588 : (Jvm.Cond.arrayClass Jvm.ClassFile.FieldType.long) ∈ lw_all := lw_g (lw_at lw_m3 22 rfl) rfl
theorem q781 : (Jvm.Cond.arrayClass Jvm.ClassFile.FieldType.char) ∈ lw_all := lw_g (lw_at lw_m3 215 rfl) rfl
theorem q1294 : (Jvm.Cond.arrayOver (Jvm.ClassFile.FieldType.object "LineRemarks$Line")) ∈ lw_tbl := lw_at lw_m6 8 rfl
theorem q1821 : (Jvm.Cond.arrayOver (Jvm.ClassFile.FieldType.array Jvm.ClassFile.FieldType.int)) ∈ lw_tbl := lw_at lw_m8 55 rfl
