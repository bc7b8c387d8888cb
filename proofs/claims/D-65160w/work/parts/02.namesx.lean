/-! DECODE ROWS BY BYTES: one lemma an opcode; a method's code is cut into short pieces once, and a row reads its own piece alone. -/
set_option maxRecDepth 100000
/-- the code has just these bytes from pc on -/
def DkAt (code : ByteArray) (pc : Nat) (bs : List UInt8) : Prop := ∀ (j : Nat) (b : UInt8), bs[j]? = some b → code.data.toList[pc + j]? = some b
/-- the piece W has the bytes bs from its place j on -/
def dkIn (W : List UInt8) (j : Nat) (bs : List UInt8) : Bool := decide ((W.drop j).take bs.length = bs)
theorem dk_seg {l W T : List UInt8} {o o2 : Nat} (h : l.drop o = W ++ T) (n : Nat) (hn : W.length = n) (ho : o + n = o2) : l.drop o2 = T := by
  subst ho
  rw [← List.drop_drop, h, List.drop_left' hn]
theorem dk_at {code : ByteArray} {W T bs : List UInt8} {o pc : Nat} (h : code.data.toList.drop o = W ++ T) (j : Nat) (hp : o + j = pc) (hw : dkIn W j bs = true) : DkAt code pc bs := by
  subst hp
  intro i b e
  have h1 := of_decide_eq_true hw
  have h2 : i < bs.length := (List.getElem?_eq_some_iff.mp e).1
  have h3 : W[j + i]? = some b := by
    rw [← h1, List.getElem?_take, if_pos h2, List.getElem?_drop] at e
    exact e
  have h4 : j + i < W.length := (List.getElem?_eq_some_iff.mp h3).1
  have h5 : (code.data.toList.drop o)[j + i]? = some b := by
    rw [h, List.getElem?_append_left h4]
    exact h3
  rw [List.getElem?_drop, ← Nat.add_assoc] at h5
  exact h5
theorem dk_u1 {A : ByteArray} {p : Nat} {b : UInt8} (h : A.data.toList[p]? = some b) : (Reader.u1 : Reader DecodeError Nat) A p = .ok (b.toNat, p + 1) := by
  obtain ⟨h1, h2⟩ := List.getElem?_eq_some_iff.mp h
  have h3 : p < A.size := by simpa using h1
  have h4 : A[p]'h3 = b := h2
  have e : (Reader.u1 : Reader DecodeError Nat) A p = (if h : p < A.size then .ok (A[p].toNat, p + 1) else .error (HasTruncated.truncated p)) := by
    show (do if h : p < A.size then do set (p + 1); Pure.pure A[p].toNat else MonadExcept.throw (HasTruncated.truncated p) : Reader DecodeError Nat) A p = _
    by_cases hi : p < A.size
    · rw [dif_pos hi, dif_pos hi]; rfl
    · rw [dif_neg hi, dif_neg hi]; rfl
  rw [e, dif_pos h3, h4]
theorem dk_bind {α β : Type} {r : Reader DecodeError α} {f : α → Reader DecodeError β} {A : ByteArray} {p s : Nat} {a : α} (h : r A p = .ok (a, s)) : (r >>= f) A p = f a A s := by
  show (do let (a, s) ← r A p; f a A s : Except DecodeError (β × Nat)) = _
  rw [h]
  rfl
theorem dk_map {α β : Type} {r : Reader DecodeError α} {g : α → β} {A : ByteArray} {p s : Nat} {a : α} (h : r A p = .ok (a, s)) : (g <$> r) A p = .ok (g a, s) := by
  show (do let (a, s) ← r A p; .ok (g a, s) : Except DecodeError (β × Nat)) = _
  rw [h]
  rfl
theorem dk_u2 {A : ByteArray} {p : Nat} {a b : UInt8} (h : A.data.toList[p]? = some a) (h2 : A.data.toList[p + 1]? = some b) : (Reader.u2 : Reader DecodeError Nat) A p = .ok (a.toNat * 256 + b.toNat, p + 2) := by
  show (Reader.u1 >>= fun hi => Reader.u1 >>= fun lo => Pure.pure (hi * 256 + lo) : Reader DecodeError Nat) A p = _
  rw [dk_bind (dk_u1 h), dk_bind (dk_u1 h2)]
  rfl
theorem dk_of {code : ByteArray} {pc n : Nat} {i : Instr} (h : Decoder.instr pc code pc = .ok (i, pc + n)) : decode code pc = .ok (i, n) := by
  have e : decode code pc = (match Decoder.instr pc code pc with | .error x => .error x | .ok (j, s) => .ok (j, s - pc)) := by
    show (do let (j, s) ← Decoder.instr pc code pc; Pure.pure (j, s - pc) : Except DecodeError (Instr × Nat)) = _
    cases Decoder.instr pc code pc <;> rfl
  rw [e, h]
  show Except.ok (i, pc + n - pc) = _
  rw [Nat.add_sub_cancel_left]
theorem dk_1 {code : ByteArray} {pc : Nat} (h : DkAt code pc [1]) : decode code pc = .ok (.aconst_null, 1) := dk_of ((dk_bind (dk_u1 (h 0 _ rfl))).trans rfl)
theorem dk_2 {code : ByteArray} {pc : Nat} (h : DkAt code pc [2]) : decode code pc = .ok (.iconst (-1), 1) := dk_of ((dk_bind (dk_u1 (h 0 _ rfl))).trans rfl)
theorem dk_3 {code : ByteArray} {pc : Nat} (h : DkAt code pc [3]) : decode code pc = .ok (.iconst 0, 1) := dk_of ((dk_bind (dk_u1 (h 0 _ rfl))).trans rfl)
theorem dk_4 {code : ByteArray} {pc : Nat} (h : DkAt code pc [4]) : decode code pc = .ok (.iconst 1, 1) := dk_of ((dk_bind (dk_u1 (h 0 _ rfl))).trans rfl)
theorem dk_5 {code : ByteArray} {pc : Nat} (h : DkAt code pc [5]) : decode code pc = .ok (.iconst 2, 1) := dk_of ((dk_bind (dk_u1 (h 0 _ rfl))).trans rfl)
theorem dk_6 {code : ByteArray} {pc : Nat} (h : DkAt code pc [6]) : decode code pc = .ok (.iconst 3, 1) := dk_of ((dk_bind (dk_u1 (h 0 _ rfl))).trans rfl)
theorem dk_7 {code : ByteArray} {pc : Nat} (h : DkAt code pc [7]) : decode code pc = .ok (.iconst 4, 1) := dk_of ((dk_bind (dk_u1 (h 0 _ rfl))).trans rfl)
theorem dk_8 {code : ByteArray} {pc : Nat} (h : DkAt code pc [8]) : decode code pc = .ok (.iconst 5, 1) := dk_of ((dk_bind (dk_u1 (h 0 _ rfl))).trans rfl)
theorem dk_9 {code : ByteArray} {pc : Nat} (h : DkAt code pc [9]) : decode code pc = .ok (.lconst 0, 1) := dk_of ((dk_bind (dk_u1 (h 0 _ rfl))).trans rfl)
theorem dk_10 {code : ByteArray} {pc : Nat} (h : DkAt code pc [10]) : decode code pc = .ok (.lconst 1, 1) := dk_of ((dk_bind (dk_u1 (h 0 _ rfl))).trans rfl)
theorem dk_16 {code : ByteArray} {pc : Nat} (a : UInt8) (h : DkAt code pc [16, a]) : decode code pc = .ok (.bipush (Reader.signed 8 a.toNat), 2) := dk_of ((dk_bind (dk_u1 (h 0 _ rfl))).trans ((dk_bind (dk_map (dk_u1 (h 1 _ rfl)))).trans rfl))
theorem dk_17 {code : ByteArray} {pc : Nat} (a b : UInt8) (h : DkAt code pc [17, a, b]) : decode code pc = .ok (.sipush (Reader.signed 16 (a.toNat * 256 + b.toNat)), 3) := dk_of ((dk_bind (dk_u1 (h 0 _ rfl))).trans ((dk_bind (dk_map (dk_u2 (h 1 _ rfl) (h 2 _ rfl)))).trans rfl))
theorem dk_18 {code : ByteArray} {pc : Nat} (a : UInt8) (h : DkAt code pc [18, a]) : decode code pc = .ok (.ldc a.toNat, 2) := dk_of ((dk_bind (dk_u1 (h 0 _ rfl))).trans ((dk_bind (dk_u1 (h 1 _ rfl))).trans rfl))
theorem dk_21 {code : ByteArray} {pc : Nat} (a : UInt8) (h : DkAt code pc [21, a]) : decode code pc = .ok (.iload a.toNat, 2) := dk_of ((dk_bind (dk_u1 (h 0 _ rfl))).trans ((dk_bind (dk_u1 (h 1 _ rfl))).trans rfl))
theorem dk_23 {code : ByteArray} {pc : Nat} (a : UInt8) (h : DkAt code pc [23, a]) : decode code pc = .ok (.fload a.toNat, 2) := dk_of ((dk_bind (dk_u1 (h 0 _ rfl))).trans ((dk_bind (dk_u1 (h 1 _ rfl))).trans rfl))
theorem dk_25 {code : ByteArray} {pc : Nat} (a : UInt8) (h : DkAt code pc [25, a]) : decode code pc = .ok (.aload a.toNat, 2) := dk_of ((dk_bind (dk_u1 (h 0 _ rfl))).trans ((dk_bind (dk_u1 (h 1 _ rfl))).trans rfl))
theorem dk_26 {code : ByteArray} {pc : Nat} (h : DkAt code pc [26]) : decode code pc = .ok (.iload_n 0, 1) := dk_of ((dk_bind (dk_u1 (h 0 _ rfl))).trans rfl)
theorem dk_27 {code : ByteArray} {pc : Nat} (h : DkAt code pc [27]) : decode code pc = .ok (.iload_n 1, 1) := dk_of ((dk_bind (dk_u1 (h 0 _ rfl))).trans rfl)
theorem dk_28 {code : ByteArray} {pc : Nat} (h : DkAt code pc [28]) : decode code pc = .ok (.iload_n 2, 1) := dk_of ((dk_bind (dk_u1 (h 0 _ rfl))).trans rfl)
theorem dk_29 {code : ByteArray} {pc : Nat} (h : DkAt code pc [29]) : decode code pc = .ok (.iload_n 3, 1) := dk_of ((dk_bind (dk_u1 (h 0 _ rfl))).trans rfl)
theorem dk_42 {code : ByteArray} {pc : Nat} (h : DkAt code pc [42]) : decode code pc = .ok (.aload_n 0, 1) := dk_of ((dk_bind (dk_u1 (h 0 _ rfl))).trans rfl)
theorem dk_43 {code : ByteArray} {pc : Nat} (h : DkAt code pc [43]) : decode code pc = .ok (.aload_n 1, 1) := dk_of ((dk_bind (dk_u1 (h 0 _ rfl))).trans rfl)
theorem dk_44 {code : ByteArray} {pc : Nat} (h : DkAt code pc [44]) : decode code pc = .ok (.aload_n 2, 1) := dk_of ((dk_bind (dk_u1 (h 0 _ rfl))).trans rfl)
theorem dk_45 {code : ByteArray} {pc : Nat} (h : DkAt code pc [45]) : decode code pc = .ok (.aload_n 3, 1) := dk_of ((dk_bind (dk_u1 (h 0 _ rfl))).trans rfl)
theorem dk_46 {code : ByteArray} {pc : Nat} (h : DkAt code pc [46]) : decode code pc = .ok (.iaload, 1) := dk_of ((dk_bind (dk_u1 (h 0 _ rfl))).trans rfl)
theorem dk_47 {code : ByteArray} {pc : Nat} (h : DkAt code pc [47]) : decode code pc = .ok (.laload, 1) := dk_of ((dk_bind (dk_u1 (h 0 _ rfl))).trans rfl)
theorem dk_50 {code : ByteArray} {pc : Nat} (h : DkAt code pc [50]) : decode code pc = .ok (.aaload, 1) := dk_of ((dk_bind (dk_u1 (h 0 _ rfl))).trans rfl)
theorem dk_51 {code : ByteArray} {pc : Nat} (h : DkAt code pc [51]) : decode code pc = .ok (.baload, 1) := dk_of ((dk_bind (dk_u1 (h 0 _ rfl))).trans rfl)
theorem dk_54 {code : ByteArray} {pc : Nat} (a : UInt8) (h : DkAt code pc [54, a]) : decode code pc = .ok (.istore a.toNat, 2) := dk_of ((dk_bind (dk_u1 (h 0 _ rfl))).trans ((dk_bind (dk_u1 (h 1 _ rfl))).trans rfl))
theorem dk_56 {code : ByteArray} {pc : Nat} (a : UInt8) (h : DkAt code pc [56, a]) : decode code pc = .ok (.fstore a.toNat, 2) := dk_of ((dk_bind (dk_u1 (h 0 _ rfl))).trans ((dk_bind (dk_u1 (h 1 _ rfl))).trans rfl))
theorem dk_58 {code : ByteArray} {pc : Nat} (a : UInt8) (h : DkAt code pc [58, a]) : decode code pc = .ok (.astore a.toNat, 2) := dk_of ((dk_bind (dk_u1 (h 0 _ rfl))).trans ((dk_bind (dk_u1 (h 1 _ rfl))).trans rfl))
theorem dk_59 {code : ByteArray} {pc : Nat} (h : DkAt code pc [59]) : decode code pc = .ok (.istore_n 0, 1) := dk_of ((dk_bind (dk_u1 (h 0 _ rfl))).trans rfl)
theorem dk_60 {code : ByteArray} {pc : Nat} (h : DkAt code pc [60]) : decode code pc = .ok (.istore_n 1, 1) := dk_of ((dk_bind (dk_u1 (h 0 _ rfl))).trans rfl)
theorem dk_61 {code : ByteArray} {pc : Nat} (h : DkAt code pc [61]) : decode code pc = .ok (.istore_n 2, 1) := dk_of ((dk_bind (dk_u1 (h 0 _ rfl))).trans rfl)
theorem dk_62 {code : ByteArray} {pc : Nat} (h : DkAt code pc [62]) : decode code pc = .ok (.istore_n 3, 1) := dk_of ((dk_bind (dk_u1 (h 0 _ rfl))).trans rfl)
theorem dk_75 {code : ByteArray} {pc : Nat} (h : DkAt code pc [75]) : decode code pc = .ok (.astore_n 0, 1) := dk_of ((dk_bind (dk_u1 (h 0 _ rfl))).trans rfl)
theorem dk_76 {code : ByteArray} {pc : Nat} (h : DkAt code pc [76]) : decode code pc = .ok (.astore_n 1, 1) := dk_of ((dk_bind (dk_u1 (h 0 _ rfl))).trans rfl)
theorem dk_77 {code : ByteArray} {pc : Nat} (h : DkAt code pc [77]) : decode code pc = .ok (.astore_n 2, 1) := dk_of ((dk_bind (dk_u1 (h 0 _ rfl))).trans rfl)
theorem dk_78 {code : ByteArray} {pc : Nat} (h : DkAt code pc [78]) : decode code pc = .ok (.astore_n 3, 1) := dk_of ((dk_bind (dk_u1 (h 0 _ rfl))).trans rfl)
theorem dk_79 {code : ByteArray} {pc : Nat} (h : DkAt code pc [79]) : decode code pc = .ok (.iastore, 1) := dk_of ((dk_bind (dk_u1 (h 0 _ rfl))).trans rfl)
theorem dk_80 {code : ByteArray} {pc : Nat} (h : DkAt code pc [80]) : decode code pc = .ok (.lastore, 1) := dk_of ((dk_bind (dk_u1 (h 0 _ rfl))).trans rfl)
theorem dk_83 {code : ByteArray} {pc : Nat} (h : DkAt code pc [83]) : decode code pc = .ok (.aastore, 1) := dk_of ((dk_bind (dk_u1 (h 0 _ rfl))).trans rfl)
theorem dk_84 {code : ByteArray} {pc : Nat} (h : DkAt code pc [84]) : decode code pc = .ok (.bastore, 1) := dk_of ((dk_bind (dk_u1 (h 0 _ rfl))).trans rfl)
theorem dk_87 {code : ByteArray} {pc : Nat} (h : DkAt code pc [87]) : decode code pc = .ok (.pop, 1) := dk_of ((dk_bind (dk_u1 (h 0 _ rfl))).trans rfl)
theorem dk_89 {code : ByteArray} {pc : Nat} (h : DkAt code pc [89]) : decode code pc = .ok (.dup, 1) := dk_of ((dk_bind (dk_u1 (h 0 _ rfl))).trans rfl)
theorem dk_90 {code : ByteArray} {pc : Nat} (h : DkAt code pc [90]) : decode code pc = .ok (.dup_x1, 1) := dk_of ((dk_bind (dk_u1 (h 0 _ rfl))).trans rfl)
theorem dk_91 {code : ByteArray} {pc : Nat} (h : DkAt code pc [91]) : decode code pc = .ok (.dup_x2, 1) := dk_of ((dk_bind (dk_u1 (h 0 _ rfl))).trans rfl)
theorem dk_92 {code : ByteArray} {pc : Nat} (h : DkAt code pc [92]) : decode code pc = .ok (.dup2, 1) := dk_of ((dk_bind (dk_u1 (h 0 _ rfl))).trans rfl)
theorem dk_96 {code : ByteArray} {pc : Nat} (h : DkAt code pc [96]) : decode code pc = .ok (.iadd, 1) := dk_of ((dk_bind (dk_u1 (h 0 _ rfl))).trans rfl)
theorem dk_100 {code : ByteArray} {pc : Nat} (h : DkAt code pc [100]) : decode code pc = .ok (.isub, 1) := dk_of ((dk_bind (dk_u1 (h 0 _ rfl))).trans rfl)
theorem dk_104 {code : ByteArray} {pc : Nat} (h : DkAt code pc [104]) : decode code pc = .ok (.imul, 1) := dk_of ((dk_bind (dk_u1 (h 0 _ rfl))).trans rfl)
theorem dk_106 {code : ByteArray} {pc : Nat} (h : DkAt code pc [106]) : decode code pc = .ok (.fmul, 1) := dk_of ((dk_bind (dk_u1 (h 0 _ rfl))).trans rfl)
theorem dk_108 {code : ByteArray} {pc : Nat} (h : DkAt code pc [108]) : decode code pc = .ok (.idiv, 1) := dk_of ((dk_bind (dk_u1 (h 0 _ rfl))).trans rfl)
theorem dk_112 {code : ByteArray} {pc : Nat} (h : DkAt code pc [112]) : decode code pc = .ok (.irem, 1) := dk_of ((dk_bind (dk_u1 (h 0 _ rfl))).trans rfl)
theorem dk_120 {code : ByteArray} {pc : Nat} (h : DkAt code pc [120]) : decode code pc = .ok (.ishl, 1) := dk_of ((dk_bind (dk_u1 (h 0 _ rfl))).trans rfl)
theorem dk_121 {code : ByteArray} {pc : Nat} (h : DkAt code pc [121]) : decode code pc = .ok (.lshl, 1) := dk_of ((dk_bind (dk_u1 (h 0 _ rfl))).trans rfl)
theorem dk_122 {code : ByteArray} {pc : Nat} (h : DkAt code pc [122]) : decode code pc = .ok (.ishr, 1) := dk_of ((dk_bind (dk_u1 (h 0 _ rfl))).trans rfl)
theorem dk_124 {code : ByteArray} {pc : Nat} (h : DkAt code pc [124]) : decode code pc = .ok (.iushr, 1) := dk_of ((dk_bind (dk_u1 (h 0 _ rfl))).trans rfl)
theorem dk_126 {code : ByteArray} {pc : Nat} (h : DkAt code pc [126]) : decode code pc = .ok (.iand, 1) := dk_of ((dk_bind (dk_u1 (h 0 _ rfl))).trans rfl)
theorem dk_127 {code : ByteArray} {pc : Nat} (h : DkAt code pc [127]) : decode code pc = .ok (.land, 1) := dk_of ((dk_bind (dk_u1 (h 0 _ rfl))).trans rfl)
theorem dk_129 {code : ByteArray} {pc : Nat} (h : DkAt code pc [129]) : decode code pc = .ok (.lor, 1) := dk_of ((dk_bind (dk_u1 (h 0 _ rfl))).trans rfl)
theorem dk_130 {code : ByteArray} {pc : Nat} (h : DkAt code pc [130]) : decode code pc = .ok (.ixor, 1) := dk_of ((dk_bind (dk_u1 (h 0 _ rfl))).trans rfl)
theorem dk_132 {code : ByteArray} {pc : Nat} (a b : UInt8) (h : DkAt code pc [132, a, b]) : decode code pc = .ok (.iinc a.toNat (Reader.signed 8 b.toNat), 3) := dk_of ((dk_bind (dk_u1 (h 0 _ rfl))).trans ((dk_bind (dk_u1 (h 1 _ rfl))).trans ((dk_bind (dk_map (dk_u1 (h 2 _ rfl)))).trans rfl)))
theorem dk_134 {code : ByteArray} {pc : Nat} (h : DkAt code pc [134]) : decode code pc = .ok (.i2f, 1) := dk_of ((dk_bind (dk_u1 (h 0 _ rfl))).trans rfl)
theorem dk_139 {code : ByteArray} {pc : Nat} (h : DkAt code pc [139]) : decode code pc = .ok (.f2i, 1) := dk_of ((dk_bind (dk_u1 (h 0 _ rfl))).trans rfl)
theorem dk_148 {code : ByteArray} {pc : Nat} (h : DkAt code pc [148]) : decode code pc = .ok (.lcmp, 1) := dk_of ((dk_bind (dk_u1 (h 0 _ rfl))).trans rfl)
theorem dk_150 {code : ByteArray} {pc : Nat} (h : DkAt code pc [150]) : decode code pc = .ok (.fcmp .g, 1) := dk_of ((dk_bind (dk_u1 (h 0 _ rfl))).trans rfl)
theorem dk_153 {code : ByteArray} {pc : Nat} (a b : UInt8) (h : DkAt code pc [153, a, b]) : decode code pc = .ok (.ifCond .eq (Reader.signed 16 (a.toNat * 256 + b.toNat)), 3) := dk_of ((dk_bind (dk_u1 (h 0 _ rfl))).trans ((dk_bind (dk_map (dk_u2 (h 1 _ rfl) (h 2 _ rfl)))).trans rfl))
theorem dk_154 {code : ByteArray} {pc : Nat} (a b : UInt8) (h : DkAt code pc [154, a, b]) : decode code pc = .ok (.ifCond .ne (Reader.signed 16 (a.toNat * 256 + b.toNat)), 3) := dk_of ((dk_bind (dk_u1 (h 0 _ rfl))).trans ((dk_bind (dk_map (dk_u2 (h 1 _ rfl) (h 2 _ rfl)))).trans rfl))
theorem dk_155 {code : ByteArray} {pc : Nat} (a b : UInt8) (h : DkAt code pc [155, a, b]) : decode code pc = .ok (.ifCond .lt (Reader.signed 16 (a.toNat * 256 + b.toNat)), 3) := dk_of ((dk_bind (dk_u1 (h 0 _ rfl))).trans ((dk_bind (dk_map (dk_u2 (h 1 _ rfl) (h 2 _ rfl)))).trans rfl))
theorem dk_156 {code : ByteArray} {pc : Nat} (a b : UInt8) (h : DkAt code pc [156, a, b]) : decode code pc = .ok (.ifCond .ge (Reader.signed 16 (a.toNat * 256 + b.toNat)), 3) := dk_of ((dk_bind (dk_u1 (h 0 _ rfl))).trans ((dk_bind (dk_map (dk_u2 (h 1 _ rfl) (h 2 _ rfl)))).trans rfl))
theorem dk_157 {code : ByteArray} {pc : Nat} (a b : UInt8) (h : DkAt code pc [157, a, b]) : decode code pc = .ok (.ifCond .gt (Reader.signed 16 (a.toNat * 256 + b.toNat)), 3) := dk_of ((dk_bind (dk_u1 (h 0 _ rfl))).trans ((dk_bind (dk_map (dk_u2 (h 1 _ rfl) (h 2 _ rfl)))).trans rfl))
theorem dk_158 {code : ByteArray} {pc : Nat} (a b : UInt8) (h : DkAt code pc [158, a, b]) : decode code pc = .ok (.ifCond .le (Reader.signed 16 (a.toNat * 256 + b.toNat)), 3) := dk_of ((dk_bind (dk_u1 (h 0 _ rfl))).trans ((dk_bind (dk_map (dk_u2 (h 1 _ rfl) (h 2 _ rfl)))).trans rfl))
theorem dk_159 {code : ByteArray} {pc : Nat} (a b : UInt8) (h : DkAt code pc [159, a, b]) : decode code pc = .ok (.if_icmp .eq (Reader.signed 16 (a.toNat * 256 + b.toNat)), 3) := dk_of ((dk_bind (dk_u1 (h 0 _ rfl))).trans ((dk_bind (dk_map (dk_u2 (h 1 _ rfl) (h 2 _ rfl)))).trans rfl))
theorem dk_160 {code : ByteArray} {pc : Nat} (a b : UInt8) (h : DkAt code pc [160, a, b]) : decode code pc = .ok (.if_icmp .ne (Reader.signed 16 (a.toNat * 256 + b.toNat)), 3) := dk_of ((dk_bind (dk_u1 (h 0 _ rfl))).trans ((dk_bind (dk_map (dk_u2 (h 1 _ rfl) (h 2 _ rfl)))).trans rfl))
theorem dk_161 {code : ByteArray} {pc : Nat} (a b : UInt8) (h : DkAt code pc [161, a, b]) : decode code pc = .ok (.if_icmp .lt (Reader.signed 16 (a.toNat * 256 + b.toNat)), 3) := dk_of ((dk_bind (dk_u1 (h 0 _ rfl))).trans ((dk_bind (dk_map (dk_u2 (h 1 _ rfl) (h 2 _ rfl)))).trans rfl))
theorem dk_162 {code : ByteArray} {pc : Nat} (a b : UInt8) (h : DkAt code pc [162, a, b]) : decode code pc = .ok (.if_icmp .ge (Reader.signed 16 (a.toNat * 256 + b.toNat)), 3) := dk_of ((dk_bind (dk_u1 (h 0 _ rfl))).trans ((dk_bind (dk_map (dk_u2 (h 1 _ rfl) (h 2 _ rfl)))).trans rfl))
theorem dk_163 {code : ByteArray} {pc : Nat} (a b : UInt8) (h : DkAt code pc [163, a, b]) : decode code pc = .ok (.if_icmp .gt (Reader.signed 16 (a.toNat * 256 + b.toNat)), 3) := dk_of ((dk_bind (dk_u1 (h 0 _ rfl))).trans ((dk_bind (dk_map (dk_u2 (h 1 _ rfl) (h 2 _ rfl)))).trans rfl))
theorem dk_164 {code : ByteArray} {pc : Nat} (a b : UInt8) (h : DkAt code pc [164, a, b]) : decode code pc = .ok (.if_icmp .le (Reader.signed 16 (a.toNat * 256 + b.toNat)), 3) := dk_of ((dk_bind (dk_u1 (h 0 _ rfl))).trans ((dk_bind (dk_map (dk_u2 (h 1 _ rfl) (h 2 _ rfl)))).trans rfl))
theorem dk_165 {code : ByteArray} {pc : Nat} (a b : UInt8) (h : DkAt code pc [165, a, b]) : decode code pc = .ok (.if_acmp .eq (Reader.signed 16 (a.toNat * 256 + b.toNat)), 3) := dk_of ((dk_bind (dk_u1 (h 0 _ rfl))).trans ((dk_bind (dk_map (dk_u2 (h 1 _ rfl) (h 2 _ rfl)))).trans rfl))
theorem dk_166 {code : ByteArray} {pc : Nat} (a b : UInt8) (h : DkAt code pc [166, a, b]) : decode code pc = .ok (.if_acmp .ne (Reader.signed 16 (a.toNat * 256 + b.toNat)), 3) := dk_of ((dk_bind (dk_u1 (h 0 _ rfl))).trans ((dk_bind (dk_map (dk_u2 (h 1 _ rfl) (h 2 _ rfl)))).trans rfl))
theorem dk_167 {code : ByteArray} {pc : Nat} (a b : UInt8) (h : DkAt code pc [167, a, b]) : decode code pc = .ok (.goto (Reader.signed 16 (a.toNat * 256 + b.toNat)), 3) := dk_of ((dk_bind (dk_u1 (h 0 _ rfl))).trans ((dk_bind (dk_map (dk_u2 (h 1 _ rfl) (h 2 _ rfl)))).trans rfl))
theorem dk_172 {code : ByteArray} {pc : Nat} (h : DkAt code pc [172]) : decode code pc = .ok (.ireturn, 1) := dk_of ((dk_bind (dk_u1 (h 0 _ rfl))).trans rfl)
theorem dk_176 {code : ByteArray} {pc : Nat} (h : DkAt code pc [176]) : decode code pc = .ok (.areturn, 1) := dk_of ((dk_bind (dk_u1 (h 0 _ rfl))).trans rfl)
theorem dk_177 {code : ByteArray} {pc : Nat} (h : DkAt code pc [177]) : decode code pc = .ok (.return_, 1) := dk_of ((dk_bind (dk_u1 (h 0 _ rfl))).trans rfl)
theorem dk_178 {code : ByteArray} {pc : Nat} (a b : UInt8) (h : DkAt code pc [178, a, b]) : decode code pc = .ok (.getstatic (a.toNat * 256 + b.toNat), 3) := dk_of ((dk_bind (dk_u1 (h 0 _ rfl))).trans ((dk_bind (dk_u2 (h 1 _ rfl) (h 2 _ rfl))).trans rfl))
theorem dk_180 {code : ByteArray} {pc : Nat} (a b : UInt8) (h : DkAt code pc [180, a, b]) : decode code pc = .ok (.getfield (a.toNat * 256 + b.toNat), 3) := dk_of ((dk_bind (dk_u1 (h 0 _ rfl))).trans ((dk_bind (dk_u2 (h 1 _ rfl) (h 2 _ rfl))).trans rfl))
theorem dk_181 {code : ByteArray} {pc : Nat} (a b : UInt8) (h : DkAt code pc [181, a, b]) : decode code pc = .ok (.putfield (a.toNat * 256 + b.toNat), 3) := dk_of ((dk_bind (dk_u1 (h 0 _ rfl))).trans ((dk_bind (dk_u2 (h 1 _ rfl) (h 2 _ rfl))).trans rfl))
theorem dk_182 {code : ByteArray} {pc : Nat} (a b : UInt8) (h : DkAt code pc [182, a, b]) : decode code pc = .ok (.invokevirtual (a.toNat * 256 + b.toNat), 3) := dk_of ((dk_bind (dk_u1 (h 0 _ rfl))).trans ((dk_bind (dk_u2 (h 1 _ rfl) (h 2 _ rfl))).trans rfl))
theorem dk_183 {code : ByteArray} {pc : Nat} (a b : UInt8) (h : DkAt code pc [183, a, b]) : decode code pc = .ok (.invokespecial (a.toNat * 256 + b.toNat), 3) := dk_of ((dk_bind (dk_u1 (h 0 _ rfl))).trans ((dk_bind (dk_u2 (h 1 _ rfl) (h 2 _ rfl))).trans rfl))
theorem dk_184 {code : ByteArray} {pc : Nat} (a b : UInt8) (h : DkAt code pc [184, a, b]) : decode code pc = .ok (.invokestatic (a.toNat * 256 + b.toNat), 3) := dk_of ((dk_bind (dk_u1 (h 0 _ rfl))).trans ((dk_bind (dk_u2 (h 1 _ rfl) (h 2 _ rfl))).trans rfl))
theorem dk_187 {code : ByteArray} {pc : Nat} (a b : UInt8) (h : DkAt code pc [187, a, b]) : decode code pc = .ok (.new (a.toNat * 256 + b.toNat), 3) := dk_of ((dk_bind (dk_u1 (h 0 _ rfl))).trans ((dk_bind (dk_u2 (h 1 _ rfl) (h 2 _ rfl))).trans rfl))
theorem dk_188_4 {code : ByteArray} {pc : Nat} (h : DkAt code pc [188, 4]) : decode code pc = .ok (.newarray .boolean, 2) := dk_of ((dk_bind (dk_u1 (h 0 _ rfl))).trans ((dk_bind (dk_u1 (h 1 _ rfl))).trans rfl))
theorem dk_188_10 {code : ByteArray} {pc : Nat} (h : DkAt code pc [188, 10]) : decode code pc = .ok (.newarray .int, 2) := dk_of ((dk_bind (dk_u1 (h 0 _ rfl))).trans ((dk_bind (dk_u1 (h 1 _ rfl))).trans rfl))
theorem dk_188_11 {code : ByteArray} {pc : Nat} (h : DkAt code pc [188, 11]) : decode code pc = .ok (.newarray .long, 2) := dk_of ((dk_bind (dk_u1 (h 0 _ rfl))).trans ((dk_bind (dk_u1 (h 1 _ rfl))).trans rfl))
theorem dk_189 {code : ByteArray} {pc : Nat} (a b : UInt8) (h : DkAt code pc [189, a, b]) : decode code pc = .ok (.anewarray (a.toNat * 256 + b.toNat), 3) := dk_of ((dk_bind (dk_u1 (h 0 _ rfl))).trans ((dk_bind (dk_u2 (h 1 _ rfl) (h 2 _ rfl))).trans rfl))
theorem dk_190 {code : ByteArray} {pc : Nat} (h : DkAt code pc [190]) : decode code pc = .ok (.arraylength, 1) := dk_of ((dk_bind (dk_u1 (h 0 _ rfl))).trans rfl)
theorem dk_191 {code : ByteArray} {pc : Nat} (h : DkAt code pc [191]) : decode code pc = .ok (.athrow, 1) := dk_of ((dk_bind (dk_u1 (h 0 _ rfl))).trans rfl)
theorem dk_192 {code : ByteArray} {pc : Nat} (a b : UInt8) (h : DkAt code pc [192, a, b]) : decode code pc = .ok (.checkcast (a.toNat * 256 + b.toNat), 3) := dk_of ((dk_bind (dk_u1 (h 0 _ rfl))).trans ((dk_bind (dk_u2 (h 1 _ rfl) (h 2 _ rfl))).trans rfl))
theorem dk_193 {code : ByteArray} {pc : Nat} (a b : UInt8) (h : DkAt code pc [193, a, b]) : decode code pc = .ok (.instanceof (a.toNat * 256 + b.toNat), 3) := dk_of ((dk_bind (dk_u1 (h 0 _ rfl))).trans ((dk_bind (dk_u2 (h 1 _ rfl) (h 2 _ rfl))).trans rfl))
theorem dk_198 {code : ByteArray} {pc : Nat} (a b : UInt8) (h : DkAt code pc [198, a, b]) : decode code pc = .ok (.ifnull (Reader.signed 16 (a.toNat * 256 + b.toNat)), 3) := dk_of ((dk_bind (dk_u1 (h 0 _ rfl))).trans ((dk_bind (dk_map (dk_u2 (h 1 _ rfl) (h 2 _ rfl)))).trans rfl))
theorem dk_199 {code : ByteArray} {pc : Nat} (a b : UInt8) (h : DkAt code pc [199, a, b]) : decode code pc = .ok (.ifnonnull (Reader.signed 16 (a.toNat * 256 + b.toNat)), 3) := dk_of ((dk_bind (dk_u1 (h 0 _ rfl))).trans ((dk_bind (dk_map (dk_u2 (h 1 _ rfl) (h 2 _ rfl)))).trans rfl))
/-! LinkStation -/
set_option maxRecDepth 100000
def RX0 : String := "LinkStation"
def TX0 : u_T := fun k => match k with
  | 0 => ("LinkStation", "ops", "[LLinkStation$Op;", true)
  | 1 => ("LinkStation", "modules", "Ljava/util/ArrayList;", true)
  | 2 => ("LinkStation", "fault", "LLinkStation$Fault;", true)
  | 3 => ("LinkStation", "scope", "LLinkStation$Scope;", false)
  | 4 => ("LinkStation", "spare", "LLinkStation$Scope;", false)
  | 5 => ("LinkStation", "machine", "LLinkStation$Machine;", true)
  | 6 => ("LinkStation", "loaded", "Z", false)
  | 7 => ("LinkStation", "isLazy", "Z", false)
  | _ => ("LinkStation", "isFaulty", "Z", false)
def tyX0 : Nat → FieldType := fun k => match k with
  | 0 => .array (.object "LinkStation$Op")
  | 1 => .object "java/util/ArrayList"
  | 2 => .object "LinkStation$Fault"
  | 3 => .object "LinkStation$Scope"
  | 4 => .object "LinkStation$Scope"
  | 5 => .object "LinkStation$Machine"
  | 6 => .boolean
  | 7 => .boolean
  | _ => .boolean
abbrev wsX00 : List Cond := u_ws RX0 TX0 9
theorem nmX0 : ∀ a, a < 9 → ∀ b, b < 9 → a ≠ b → (TX0 a).2.1 ≠ (TX0 b).2.1 := by decide +kernel
theorem tyX0_ok : ∀ k, k < 9 → parseFieldDescriptor (TX0 k).2.2.1 = some (tyX0 k) := by decide +kernel
abbrev cX0_init : ByteArray := prog_1_method_1_code
def yX0_init : MethodName := ⟨RX0, "<init>", "()V"⟩
def dkwX0_init_3 : List UInt8 := [183, 0, 47, 181, 0, 48, 177]
abbrev dktX0_init_3 : List UInt8 := dkwX0_init_3 ++ []
def dkwX0_init_2 : List UInt8 := [181, 0, 38, 42, 187, 0, 33, 89, 42, 180, 0, 29, 183, 0, 35, 181, 0, 42, 42, 187, 0, 45, 89]
abbrev dktX0_init_2 : List UInt8 := dkwX0_init_2 ++ dktX0_init_3
def dkwX0_init_1 : List UInt8 := [187, 0, 26, 89, 183, 0, 28, 181, 0, 29, 42, 187, 0, 33, 89, 42, 180, 0, 29, 183, 0, 35]
abbrev dktX0_init_1 : List UInt8 := dkwX0_init_1 ++ dktX0_init_2
def dkwX0_init_0 : List UInt8 := [42, 183, 0, 1, 42, 184, 0, 7, 181, 0, 13, 42, 187, 0, 19, 89, 183, 0, 21, 181, 0, 22, 42]
abbrev dktX0_init_0 : List UInt8 := dkwX0_init_0 ++ dktX0_init_1
theorem dksX0_init_0 : cX0_init.data.toList.drop 0 = dktX0_init_0 := by decide +kernel
theorem dksX0_init_1 : cX0_init.data.toList.drop 23 = dktX0_init_1 := dk_seg dksX0_init_0 23 rfl rfl
theorem dksX0_init_2 : cX0_init.data.toList.drop 45 = dktX0_init_2 := dk_seg dksX0_init_1 22 rfl rfl
theorem dksX0_init_3 : cX0_init.data.toList.drop 68 = dktX0_init_3 := dk_seg dksX0_init_2 23 rfl rfl
theorem dX0_init_0 : decode cX0_init 0 = .ok (.aload_n 0, 1) := dk_42 (dk_at dksX0_init_0 0 rfl rfl)
theorem dX0_init_1 : decode cX0_init 1 = .ok (.invokespecial 1, 3) := dk_183 0 1 (dk_at dksX0_init_0 1 rfl rfl)
theorem dX0_init_4 : decode cX0_init 4 = .ok (.aload_n 0, 1) := dk_42 (dk_at dksX0_init_0 4 rfl rfl)
theorem dX0_init_5 : decode cX0_init 5 = .ok (.invokestatic 7, 3) := dk_184 0 7 (dk_at dksX0_init_0 5 rfl rfl)
theorem dX0_init_8 : decode cX0_init 8 = .ok (.putfield 13, 3) := dk_181 0 13 (dk_at dksX0_init_0 8 rfl rfl)
theorem dX0_init_11 : decode cX0_init 11 = .ok (.aload_n 0, 1) := dk_42 (dk_at dksX0_init_0 11 rfl rfl)
theorem dX0_init_12 : decode cX0_init 12 = .ok (.new 19, 3) := dk_187 0 19 (dk_at dksX0_init_0 12 rfl rfl)
theorem dX0_init_15 : decode cX0_init 15 = .ok (.dup, 1) := dk_89 (dk_at dksX0_init_0 15 rfl rfl)
theorem dX0_init_16 : decode cX0_init 16 = .ok (.invokespecial 21, 3) := dk_183 0 21 (dk_at dksX0_init_0 16 rfl rfl)
theorem dX0_init_19 : decode cX0_init 19 = .ok (.putfield 22, 3) := dk_181 0 22 (dk_at dksX0_init_0 19 rfl rfl)
theorem dX0_init_22 : decode cX0_init 22 = .ok (.aload_n 0, 1) := dk_42 (dk_at dksX0_init_0 22 rfl rfl)
theorem dX0_init_23 : decode cX0_init 23 = .ok (.new 26, 3) := dk_187 0 26 (dk_at dksX0_init_1 0 rfl rfl)
theorem dX0_init_26 : decode cX0_init 26 = .ok (.dup, 1) := dk_89 (dk_at dksX0_init_1 3 rfl rfl)
theorem dX0_init_27 : decode cX0_init 27 = .ok (.invokespecial 28, 3) := dk_183 0 28 (dk_at dksX0_init_1 4 rfl rfl)
theorem dX0_init_30 : decode cX0_init 30 = .ok (.putfield 29, 3) := dk_181 0 29 (dk_at dksX0_init_1 7 rfl rfl)
theorem dX0_init_33 : decode cX0_init 33 = .ok (.aload_n 0, 1) := dk_42 (dk_at dksX0_init_1 10 rfl rfl)
theorem dX0_init_34 : decode cX0_init 34 = .ok (.new 33, 3) := dk_187 0 33 (dk_at dksX0_init_1 11 rfl rfl)
theorem dX0_init_37 : decode cX0_init 37 = .ok (.dup, 1) := dk_89 (dk_at dksX0_init_1 14 rfl rfl)
theorem dX0_init_38 : decode cX0_init 38 = .ok (.aload_n 0, 1) := dk_42 (dk_at dksX0_init_1 15 rfl rfl)
theorem dX0_init_39 : decode cX0_init 39 = .ok (.getfield 29, 3) := dk_180 0 29 (dk_at dksX0_init_1 16 rfl rfl)
theorem dX0_init_42 : decode cX0_init 42 = .ok (.invokespecial 35, 3) := dk_183 0 35 (dk_at dksX0_init_1 19 rfl rfl)
theorem dX0_init_45 : decode cX0_init 45 = .ok (.putfield 38, 3) := dk_181 0 38 (dk_at dksX0_init_2 0 rfl rfl)
theorem dX0_init_48 : decode cX0_init 48 = .ok (.aload_n 0, 1) := dk_42 (dk_at dksX0_init_2 3 rfl rfl)
theorem dX0_init_49 : decode cX0_init 49 = .ok (.new 33, 3) := dk_187 0 33 (dk_at dksX0_init_2 4 rfl rfl)
theorem dX0_init_52 : decode cX0_init 52 = .ok (.dup, 1) := dk_89 (dk_at dksX0_init_2 7 rfl rfl)
theorem dX0_init_53 : decode cX0_init 53 = .ok (.aload_n 0, 1) := dk_42 (dk_at dksX0_init_2 8 rfl rfl)
theorem dX0_init_54 : decode cX0_init 54 = .ok (.getfield 29, 3) := dk_180 0 29 (dk_at dksX0_init_2 9 rfl rfl)
theorem dX0_init_57 : decode cX0_init 57 = .ok (.invokespecial 35, 3) := dk_183 0 35 (dk_at dksX0_init_2 12 rfl rfl)
theorem dX0_init_60 : decode cX0_init 60 = .ok (.putfield 42, 3) := dk_181 0 42 (dk_at dksX0_init_2 15 rfl rfl)
theorem dX0_init_63 : decode cX0_init 63 = .ok (.aload_n 0, 1) := dk_42 (dk_at dksX0_init_2 18 rfl rfl)
theorem dX0_init_64 : decode cX0_init 64 = .ok (.new 45, 3) := dk_187 0 45 (dk_at dksX0_init_2 19 rfl rfl)
theorem dX0_init_67 : decode cX0_init 67 = .ok (.dup, 1) := dk_89 (dk_at dksX0_init_2 22 rfl rfl)
theorem dX0_init_68 : decode cX0_init 68 = .ok (.invokespecial 47, 3) := dk_183 0 47 (dk_at dksX0_init_3 0 rfl rfl)
theorem dX0_init_71 : decode cX0_init 71 = .ok (.putfield 48, 3) := dk_181 0 48 (dk_at dksX0_init_3 3 rfl rfl)
theorem dX0_init_74 : decode cX0_init 74 = .ok (.return_, 1) := dk_177 (dk_at dksX0_init_3 6 rfl rfl)
abbrev cX0_module : ByteArray := prog_1_method_6_code
def yX0_module : MethodName := ⟨RX0, "module", "()I"⟩
def dkwX0_module_1 : List UInt8 := [180, 0, 22, 182, 0, 52, 183, 0, 62, 182, 0, 65, 87, 42, 180, 0, 22, 182, 0, 52, 4, 100, 172]
abbrev dktX0_module_1 : List UInt8 := dkwX0_module_1 ++ []
def dkwX0_module_0 : List UInt8 := [42, 180, 0, 22, 182, 0, 52, 16, 12, 160, 0, 5, 2, 172, 42, 180, 0, 22, 187, 0, 60, 89, 42]
abbrev dktX0_module_0 : List UInt8 := dkwX0_module_0 ++ dktX0_module_1
theorem dksX0_module_0 : cX0_module.data.toList.drop 0 = dktX0_module_0 := by decide +kernel
theorem dksX0_module_1 : cX0_module.data.toList.drop 23 = dktX0_module_1 := dk_seg dksX0_module_0 23 rfl rfl
theorem dX0_module_0 : decode cX0_module 0 = .ok (.aload_n 0, 1) := dk_42 (dk_at dksX0_module_0 0 rfl rfl)
theorem dX0_module_1 : decode cX0_module 1 = .ok (.getfield 22, 3) := dk_180 0 22 (dk_at dksX0_module_0 1 rfl rfl)
theorem dX0_module_4 : decode cX0_module 4 = .ok (.invokevirtual 52, 3) := dk_182 0 52 (dk_at dksX0_module_0 4 rfl rfl)
theorem dX0_module_7 : decode cX0_module 7 = .ok (.bipush 12, 2) := dk_16 12 (dk_at dksX0_module_0 7 rfl rfl)
theorem dX0_module_9 : decode cX0_module 9 = .ok (.if_icmp .ne 5, 3) := dk_160 0 5 (dk_at dksX0_module_0 9 rfl rfl)
theorem dX0_module_12 : decode cX0_module 12 = .ok (.iconst (-1), 1) := dk_2 (dk_at dksX0_module_0 12 rfl rfl)
theorem dX0_module_13 : decode cX0_module 13 = .ok (.ireturn, 1) := dk_172 (dk_at dksX0_module_0 13 rfl rfl)
theorem dX0_module_14 : decode cX0_module 14 = .ok (.aload_n 0, 1) := dk_42 (dk_at dksX0_module_0 14 rfl rfl)
theorem dX0_module_15 : decode cX0_module 15 = .ok (.getfield 22, 3) := dk_180 0 22 (dk_at dksX0_module_0 15 rfl rfl)
theorem dX0_module_18 : decode cX0_module 18 = .ok (.new 60, 3) := dk_187 0 60 (dk_at dksX0_module_0 18 rfl rfl)
theorem dX0_module_21 : decode cX0_module 21 = .ok (.dup, 1) := dk_89 (dk_at dksX0_module_0 21 rfl rfl)
theorem dX0_module_22 : decode cX0_module 22 = .ok (.aload_n 0, 1) := dk_42 (dk_at dksX0_module_0 22 rfl rfl)
theorem dX0_module_23 : decode cX0_module 23 = .ok (.getfield 22, 3) := dk_180 0 22 (dk_at dksX0_module_1 0 rfl rfl)
theorem dX0_module_26 : decode cX0_module 26 = .ok (.invokevirtual 52, 3) := dk_182 0 52 (dk_at dksX0_module_1 3 rfl rfl)
theorem dX0_module_29 : decode cX0_module 29 = .ok (.invokespecial 62, 3) := dk_183 0 62 (dk_at dksX0_module_1 6 rfl rfl)
theorem dX0_module_32 : decode cX0_module 32 = .ok (.invokevirtual 65, 3) := dk_182 0 65 (dk_at dksX0_module_1 9 rfl rfl)
theorem dX0_module_35 : decode cX0_module 35 = .ok (.pop, 1) := dk_87 (dk_at dksX0_module_1 12 rfl rfl)
theorem dX0_module_36 : decode cX0_module 36 = .ok (.aload_n 0, 1) := dk_42 (dk_at dksX0_module_1 13 rfl rfl)
theorem dX0_module_37 : decode cX0_module 37 = .ok (.getfield 22, 3) := dk_180 0 22 (dk_at dksX0_module_1 14 rfl rfl)
theorem dX0_module_40 : decode cX0_module 40 = .ok (.invokevirtual 52, 3) := dk_182 0 52 (dk_at dksX0_module_1 17 rfl rfl)
theorem dX0_module_43 : decode cX0_module 43 = .ok (.iconst 1, 1) := dk_4 (dk_at dksX0_module_1 20 rfl rfl)
theorem dX0_module_44 : decode cX0_module 44 = .ok (.isub, 1) := dk_100 (dk_at dksX0_module_1 21 rfl rfl)
theorem dX0_module_45 : decode cX0_module 45 = .ok (.ireturn, 1) := dk_172 (dk_at dksX0_module_1 22 rfl rfl)
abbrev cX0_need : ByteArray := prog_1_method_7_code
def yX0_need : MethodName := ⟨RX0, "need", "(II)I"⟩
def dkwX0_need_3 : List UInt8 := [192, 0, 60, 182, 0, 65, 87, 42, 45, 182, 0, 52, 182, 0, 83, 172]
abbrev dktX0_need_3 : List UInt8 := dkwX0_need_3 ++ []
def dkwX0_need_2 : List UInt8 := [154, 0, 12, 45, 182, 0, 52, 16, 6, 160, 0, 5, 2, 172, 45, 42, 180, 0, 22, 28, 182, 0, 73]
abbrev dktX0_need_2 : List UInt8 := dkwX0_need_2 ++ dktX0_need_3
def dkwX0_need_1 : List UInt8 := [182, 0, 73, 192, 0, 60, 180, 0, 77, 78, 45, 42, 180, 0, 22, 28, 182, 0, 73, 182, 0, 80]
abbrev dktX0_need_1 : List UInt8 := dkwX0_need_1 ++ dktX0_need_2
def dkwX0_need_0 : List UInt8 := [42, 27, 182, 0, 69, 153, 0, 11, 42, 28, 182, 0, 69, 154, 0, 5, 2, 172, 42, 180, 0, 22, 27]
abbrev dktX0_need_0 : List UInt8 := dkwX0_need_0 ++ dktX0_need_1
theorem dksX0_need_0 : cX0_need.data.toList.drop 0 = dktX0_need_0 := by decide +kernel
theorem dksX0_need_1 : cX0_need.data.toList.drop 23 = dktX0_need_1 := dk_seg dksX0_need_0 23 rfl rfl
theorem dksX0_need_2 : cX0_need.data.toList.drop 45 = dktX0_need_2 := dk_seg dksX0_need_1 22 rfl rfl
theorem dksX0_need_3 : cX0_need.data.toList.drop 68 = dktX0_need_3 := dk_seg dksX0_need_2 23 rfl rfl
theorem dX0_need_0 : decode cX0_need 0 = .ok (.aload_n 0, 1) := dk_42 (dk_at dksX0_need_0 0 rfl rfl)
theorem dX0_need_1 : decode cX0_need 1 = .ok (.iload_n 1, 1) := dk_27 (dk_at dksX0_need_0 1 rfl rfl)
theorem dX0_need_2 : decode cX0_need 2 = .ok (.invokevirtual 69, 3) := dk_182 0 69 (dk_at dksX0_need_0 2 rfl rfl)
theorem dX0_need_5 : decode cX0_need 5 = .ok (.ifCond .eq 11, 3) := dk_153 0 11 (dk_at dksX0_need_0 5 rfl rfl)
theorem dX0_need_8 : decode cX0_need 8 = .ok (.aload_n 0, 1) := dk_42 (dk_at dksX0_need_0 8 rfl rfl)
theorem dX0_need_9 : decode cX0_need 9 = .ok (.iload_n 2, 1) := dk_28 (dk_at dksX0_need_0 9 rfl rfl)
theorem dX0_need_10 : decode cX0_need 10 = .ok (.invokevirtual 69, 3) := dk_182 0 69 (dk_at dksX0_need_0 10 rfl rfl)
theorem dX0_need_13 : decode cX0_need 13 = .ok (.ifCond .ne 5, 3) := dk_154 0 5 (dk_at dksX0_need_0 13 rfl rfl)
theorem dX0_need_16 : decode cX0_need 16 = .ok (.iconst (-1), 1) := dk_2 (dk_at dksX0_need_0 16 rfl rfl)
theorem dX0_need_17 : decode cX0_need 17 = .ok (.ireturn, 1) := dk_172 (dk_at dksX0_need_0 17 rfl rfl)
theorem dX0_need_18 : decode cX0_need 18 = .ok (.aload_n 0, 1) := dk_42 (dk_at dksX0_need_0 18 rfl rfl)
theorem dX0_need_19 : decode cX0_need 19 = .ok (.getfield 22, 3) := dk_180 0 22 (dk_at dksX0_need_0 19 rfl rfl)
theorem dX0_need_22 : decode cX0_need 22 = .ok (.iload_n 1, 1) := dk_27 (dk_at dksX0_need_0 22 rfl rfl)
theorem dX0_need_23 : decode cX0_need 23 = .ok (.invokevirtual 73, 3) := dk_182 0 73 (dk_at dksX0_need_1 0 rfl rfl)
theorem dX0_need_26 : decode cX0_need 26 = .ok (.checkcast 60, 3) := dk_192 0 60 (dk_at dksX0_need_1 3 rfl rfl)
theorem dX0_need_29 : decode cX0_need 29 = .ok (.getfield 77, 3) := dk_180 0 77 (dk_at dksX0_need_1 6 rfl rfl)
theorem dX0_need_32 : decode cX0_need 32 = .ok (.astore_n 3, 1) := dk_78 (dk_at dksX0_need_1 9 rfl rfl)
theorem dX0_need_33 : decode cX0_need 33 = .ok (.aload_n 3, 1) := dk_45 (dk_at dksX0_need_1 10 rfl rfl)
theorem dX0_need_34 : decode cX0_need 34 = .ok (.aload_n 0, 1) := dk_42 (dk_at dksX0_need_1 11 rfl rfl)
theorem dX0_need_35 : decode cX0_need 35 = .ok (.getfield 22, 3) := dk_180 0 22 (dk_at dksX0_need_1 12 rfl rfl)
theorem dX0_need_38 : decode cX0_need 38 = .ok (.iload_n 2, 1) := dk_28 (dk_at dksX0_need_1 15 rfl rfl)
theorem dX0_need_39 : decode cX0_need 39 = .ok (.invokevirtual 73, 3) := dk_182 0 73 (dk_at dksX0_need_1 16 rfl rfl)
theorem dX0_need_42 : decode cX0_need 42 = .ok (.invokevirtual 80, 3) := dk_182 0 80 (dk_at dksX0_need_1 19 rfl rfl)
theorem dX0_need_45 : decode cX0_need 45 = .ok (.ifCond .ne 12, 3) := dk_154 0 12 (dk_at dksX0_need_2 0 rfl rfl)
theorem dX0_need_48 : decode cX0_need 48 = .ok (.aload_n 3, 1) := dk_45 (dk_at dksX0_need_2 3 rfl rfl)
theorem dX0_need_49 : decode cX0_need 49 = .ok (.invokevirtual 52, 3) := dk_182 0 52 (dk_at dksX0_need_2 4 rfl rfl)
theorem dX0_need_52 : decode cX0_need 52 = .ok (.bipush 6, 2) := dk_16 6 (dk_at dksX0_need_2 7 rfl rfl)
theorem dX0_need_54 : decode cX0_need 54 = .ok (.if_icmp .ne 5, 3) := dk_160 0 5 (dk_at dksX0_need_2 9 rfl rfl)
theorem dX0_need_57 : decode cX0_need 57 = .ok (.iconst (-1), 1) := dk_2 (dk_at dksX0_need_2 12 rfl rfl)
theorem dX0_need_58 : decode cX0_need 58 = .ok (.ireturn, 1) := dk_172 (dk_at dksX0_need_2 13 rfl rfl)
theorem dX0_need_59 : decode cX0_need 59 = .ok (.aload_n 3, 1) := dk_45 (dk_at dksX0_need_2 14 rfl rfl)
theorem dX0_need_60 : decode cX0_need 60 = .ok (.aload_n 0, 1) := dk_42 (dk_at dksX0_need_2 15 rfl rfl)
theorem dX0_need_61 : decode cX0_need 61 = .ok (.getfield 22, 3) := dk_180 0 22 (dk_at dksX0_need_2 16 rfl rfl)
theorem dX0_need_64 : decode cX0_need 64 = .ok (.iload_n 2, 1) := dk_28 (dk_at dksX0_need_2 19 rfl rfl)
theorem dX0_need_65 : decode cX0_need 65 = .ok (.invokevirtual 73, 3) := dk_182 0 73 (dk_at dksX0_need_2 20 rfl rfl)
theorem dX0_need_68 : decode cX0_need 68 = .ok (.checkcast 60, 3) := dk_192 0 60 (dk_at dksX0_need_3 0 rfl rfl)
theorem dX0_need_71 : decode cX0_need 71 = .ok (.invokevirtual 65, 3) := dk_182 0 65 (dk_at dksX0_need_3 3 rfl rfl)
theorem dX0_need_74 : decode cX0_need 74 = .ok (.pop, 1) := dk_87 (dk_at dksX0_need_3 6 rfl rfl)
theorem dX0_need_75 : decode cX0_need 75 = .ok (.aload_n 0, 1) := dk_42 (dk_at dksX0_need_3 7 rfl rfl)
theorem dX0_need_76 : decode cX0_need 76 = .ok (.aload_n 3, 1) := dk_45 (dk_at dksX0_need_3 8 rfl rfl)
theorem dX0_need_77 : decode cX0_need 77 = .ok (.invokevirtual 52, 3) := dk_182 0 52 (dk_at dksX0_need_3 9 rfl rfl)
theorem dX0_need_80 : decode cX0_need 80 = .ok (.invokevirtual 83, 3) := dk_182 0 83 (dk_at dksX0_need_3 12 rfl rfl)
theorem dX0_need_83 : decode cX0_need 83 = .ok (.ireturn, 1) := dk_172 (dk_at dksX0_need_3 15 rfl rfl)
abbrev cX0_isModule : ByteArray := prog_1_method_3_code
def yX0_isModule : MethodName := ⟨RX0, "isModule", "(I)Z"⟩
def dkwX0_isModule_0 : List UInt8 := [27, 155, 0, 18, 27, 42, 180, 0, 22, 182, 0, 52, 162, 0, 7, 4, 167, 0, 4, 3, 172]
abbrev dktX0_isModule_0 : List UInt8 := dkwX0_isModule_0 ++ []
theorem dksX0_isModule_0 : cX0_isModule.data.toList.drop 0 = dktX0_isModule_0 := by decide +kernel
theorem dX0_isModule_0 : decode cX0_isModule 0 = .ok (.iload_n 1, 1) := dk_27 (dk_at dksX0_isModule_0 0 rfl rfl)
theorem dX0_isModule_1 : decode cX0_isModule 1 = .ok (.ifCond .lt 18, 3) := dk_155 0 18 (dk_at dksX0_isModule_0 1 rfl rfl)
theorem dX0_isModule_4 : decode cX0_isModule 4 = .ok (.iload_n 1, 1) := dk_27 (dk_at dksX0_isModule_0 4 rfl rfl)
theorem dX0_isModule_5 : decode cX0_isModule 5 = .ok (.aload_n 0, 1) := dk_42 (dk_at dksX0_isModule_0 5 rfl rfl)
theorem dX0_isModule_6 : decode cX0_isModule 6 = .ok (.getfield 22, 3) := dk_180 0 22 (dk_at dksX0_isModule_0 6 rfl rfl)
theorem dX0_isModule_9 : decode cX0_isModule 9 = .ok (.invokevirtual 52, 3) := dk_182 0 52 (dk_at dksX0_isModule_0 9 rfl rfl)
theorem dX0_isModule_12 : decode cX0_isModule 12 = .ok (.if_icmp .ge 7, 3) := dk_162 0 7 (dk_at dksX0_isModule_0 12 rfl rfl)
theorem dX0_isModule_15 : decode cX0_isModule 15 = .ok (.iconst 1, 1) := dk_4 (dk_at dksX0_isModule_0 15 rfl rfl)
theorem dX0_isModule_16 : decode cX0_isModule 16 = .ok (.goto 4, 3) := dk_167 0 4 (dk_at dksX0_isModule_0 16 rfl rfl)
theorem dX0_isModule_19 : decode cX0_isModule 19 = .ok (.iconst 0, 1) := dk_3 (dk_at dksX0_isModule_0 19 rfl rfl)
theorem dX0_isModule_20 : decode cX0_isModule 20 = .ok (.ireturn, 1) := dk_172 (dk_at dksX0_isModule_0 20 rfl rfl)
abbrev cX0_changed : ByteArray := prog_1_method_5_code
def yX0_changed : MethodName := ⟨RX0, "changed", "(I)I"⟩
def dkwX0_changed_0 : List UInt8 := [42, 3, 181, 0, 56, 27, 172]
abbrev dktX0_changed_0 : List UInt8 := dkwX0_changed_0 ++ []
theorem dksX0_changed_0 : cX0_changed.data.toList.drop 0 = dktX0_changed_0 := by decide +kernel
theorem dX0_changed_0 : decode cX0_changed 0 = .ok (.aload_n 0, 1) := dk_42 (dk_at dksX0_changed_0 0 rfl rfl)
theorem dX0_changed_1 : decode cX0_changed 1 = .ok (.iconst 0, 1) := dk_3 (dk_at dksX0_changed_0 1 rfl rfl)
theorem dX0_changed_2 : decode cX0_changed 2 = .ok (.putfield 56, 3) := dk_181 0 56 (dk_at dksX0_changed_0 2 rfl rfl)
theorem dX0_changed_5 : decode cX0_changed 5 = .ok (.iload_n 1, 1) := dk_27 (dk_at dksX0_changed_0 5 rfl rfl)
theorem dX0_changed_6 : decode cX0_changed 6 = .ok (.ireturn, 1) := dk_172 (dk_at dksX0_changed_0 6 rfl rfl)
abbrev cX0_define : ByteArray := prog_1_method_8_code
def yX0_define : MethodName := ⟨RX0, "define", "(IIIII)I"⟩
def dkwX0_define_7 : List UInt8 := [25, 7, 180, 0, 94, 182, 0, 109, 182, 0, 83, 172]
abbrev dktX0_define_7 : List UInt8 := dkwX0_define_7 ++ []
def dkwX0_define_6 : List UInt8 := [184, 0, 98, 25, 8, 182, 0, 115, 87, 29, 154, 0, 13, 25, 7, 180, 0, 119, 21, 4, 25, 8, 83, 42]
abbrev dktX0_define_6 : List UInt8 := dkwX0_define_6 ++ dktX0_define_7
def dkwX0_define_5 : List UInt8 := [160, 0, 7, 4, 167, 0, 4, 3, 21, 4, 21, 5, 183, 0, 112, 58, 8, 25, 7, 180, 0, 94, 28]
abbrev dktX0_define_5 : List UInt8 := dkwX0_define_5 ++ dktX0_define_6
def dkwX0_define_4 : List UInt8 := [25, 7, 180, 0, 94, 182, 0, 109, 16, 20, 160, 0, 5, 2, 172, 187, 0, 110, 89, 25, 7, 29, 4]
abbrev dktX0_define_4 : List UInt8 := dkwX0_define_4 ++ dktX0_define_5
def dkwX0_define_3 : List UInt8 := [182, 0, 73, 192, 0, 60, 58, 7, 25, 7, 180, 0, 94, 28, 184, 0, 98, 182, 0, 104, 154, 0, 16]
abbrev dktX0_define_3 : List UInt8 := dkwX0_define_3 ++ dktX0_define_4
def dkwX0_define_2 : List UInt8 := [153, 0, 7, 4, 167, 0, 4, 3, 54, 6, 21, 6, 154, 0, 5, 2, 172, 42, 180, 0, 22, 27]
abbrev dktX0_define_2 : List UInt8 := dkwX0_define_2 ++ dktX0_define_3
def dkwX0_define_1 : List UInt8 := [21, 5, 3, 8, 184, 0, 90, 153, 0, 23, 29, 4, 159, 0, 14, 21, 4, 3, 16, 99, 184, 0, 90]
abbrev dktX0_define_1 : List UInt8 := dkwX0_define_1 ++ dktX0_define_2
def dkwX0_define_0 : List UInt8 := [42, 27, 182, 0, 69, 153, 0, 49, 28, 184, 0, 87, 153, 0, 42, 29, 3, 4, 184, 0, 90, 153, 0, 33]
abbrev dktX0_define_0 : List UInt8 := dkwX0_define_0 ++ dktX0_define_1
theorem dksX0_define_0 : cX0_define.data.toList.drop 0 = dktX0_define_0 := by decide +kernel
theorem dksX0_define_1 : cX0_define.data.toList.drop 24 = dktX0_define_1 := dk_seg dksX0_define_0 24 rfl rfl
theorem dksX0_define_2 : cX0_define.data.toList.drop 47 = dktX0_define_2 := dk_seg dksX0_define_1 23 rfl rfl
theorem dksX0_define_3 : cX0_define.data.toList.drop 69 = dktX0_define_3 := dk_seg dksX0_define_2 22 rfl rfl
theorem dksX0_define_4 : cX0_define.data.toList.drop 92 = dktX0_define_4 := dk_seg dksX0_define_3 23 rfl rfl
theorem dksX0_define_5 : cX0_define.data.toList.drop 115 = dktX0_define_5 := dk_seg dksX0_define_4 23 rfl rfl
theorem dksX0_define_6 : cX0_define.data.toList.drop 138 = dktX0_define_6 := dk_seg dksX0_define_5 23 rfl rfl
theorem dksX0_define_7 : cX0_define.data.toList.drop 162 = dktX0_define_7 := dk_seg dksX0_define_6 24 rfl rfl
theorem dX0_define_0 : decode cX0_define 0 = .ok (.aload_n 0, 1) := dk_42 (dk_at dksX0_define_0 0 rfl rfl)
theorem dX0_define_1 : decode cX0_define 1 = .ok (.iload_n 1, 1) := dk_27 (dk_at dksX0_define_0 1 rfl rfl)
theorem dX0_define_2 : decode cX0_define 2 = .ok (.invokevirtual 69, 3) := dk_182 0 69 (dk_at dksX0_define_0 2 rfl rfl)
theorem dX0_define_5 : decode cX0_define 5 = .ok (.ifCond .eq 49, 3) := dk_153 0 49 (dk_at dksX0_define_0 5 rfl rfl)
theorem dX0_define_8 : decode cX0_define 8 = .ok (.iload_n 2, 1) := dk_28 (dk_at dksX0_define_0 8 rfl rfl)
theorem dX0_define_9 : decode cX0_define 9 = .ok (.invokestatic 87, 3) := dk_184 0 87 (dk_at dksX0_define_0 9 rfl rfl)
theorem dX0_define_12 : decode cX0_define 12 = .ok (.ifCond .eq 42, 3) := dk_153 0 42 (dk_at dksX0_define_0 12 rfl rfl)
theorem dX0_define_15 : decode cX0_define 15 = .ok (.iload_n 3, 1) := dk_29 (dk_at dksX0_define_0 15 rfl rfl)
theorem dX0_define_16 : decode cX0_define 16 = .ok (.iconst 0, 1) := dk_3 (dk_at dksX0_define_0 16 rfl rfl)
theorem dX0_define_17 : decode cX0_define 17 = .ok (.iconst 1, 1) := dk_4 (dk_at dksX0_define_0 17 rfl rfl)
theorem dX0_define_18 : decode cX0_define 18 = .ok (.invokestatic 90, 3) := dk_184 0 90 (dk_at dksX0_define_0 18 rfl rfl)
theorem dX0_define_21 : decode cX0_define 21 = .ok (.ifCond .eq 33, 3) := dk_153 0 33 (dk_at dksX0_define_0 21 rfl rfl)
theorem dX0_define_24 : decode cX0_define 24 = .ok (.iload 5, 2) := dk_21 5 (dk_at dksX0_define_1 0 rfl rfl)
theorem dX0_define_26 : decode cX0_define 26 = .ok (.iconst 0, 1) := dk_3 (dk_at dksX0_define_1 2 rfl rfl)
theorem dX0_define_27 : decode cX0_define 27 = .ok (.iconst 5, 1) := dk_8 (dk_at dksX0_define_1 3 rfl rfl)
theorem dX0_define_28 : decode cX0_define 28 = .ok (.invokestatic 90, 3) := dk_184 0 90 (dk_at dksX0_define_1 4 rfl rfl)
theorem dX0_define_31 : decode cX0_define 31 = .ok (.ifCond .eq 23, 3) := dk_153 0 23 (dk_at dksX0_define_1 7 rfl rfl)
theorem dX0_define_34 : decode cX0_define 34 = .ok (.iload_n 3, 1) := dk_29 (dk_at dksX0_define_1 10 rfl rfl)
theorem dX0_define_35 : decode cX0_define 35 = .ok (.iconst 1, 1) := dk_4 (dk_at dksX0_define_1 11 rfl rfl)
theorem dX0_define_36 : decode cX0_define 36 = .ok (.if_icmp .eq 14, 3) := dk_159 0 14 (dk_at dksX0_define_1 12 rfl rfl)
theorem dX0_define_39 : decode cX0_define 39 = .ok (.iload 4, 2) := dk_21 4 (dk_at dksX0_define_1 15 rfl rfl)
theorem dX0_define_41 : decode cX0_define 41 = .ok (.iconst 0, 1) := dk_3 (dk_at dksX0_define_1 17 rfl rfl)
theorem dX0_define_42 : decode cX0_define 42 = .ok (.bipush 99, 2) := dk_16 99 (dk_at dksX0_define_1 18 rfl rfl)
theorem dX0_define_44 : decode cX0_define 44 = .ok (.invokestatic 90, 3) := dk_184 0 90 (dk_at dksX0_define_1 20 rfl rfl)
theorem dX0_define_47 : decode cX0_define 47 = .ok (.ifCond .eq 7, 3) := dk_153 0 7 (dk_at dksX0_define_2 0 rfl rfl)
theorem dX0_define_50 : decode cX0_define 50 = .ok (.iconst 1, 1) := dk_4 (dk_at dksX0_define_2 3 rfl rfl)
theorem dX0_define_51 : decode cX0_define 51 = .ok (.goto 4, 3) := dk_167 0 4 (dk_at dksX0_define_2 4 rfl rfl)
theorem dX0_define_54 : decode cX0_define 54 = .ok (.iconst 0, 1) := dk_3 (dk_at dksX0_define_2 7 rfl rfl)
theorem dX0_define_55 : decode cX0_define 55 = .ok (.istore 6, 2) := dk_54 6 (dk_at dksX0_define_2 8 rfl rfl)
theorem dX0_define_57 : decode cX0_define 57 = .ok (.iload 6, 2) := dk_21 6 (dk_at dksX0_define_2 10 rfl rfl)
theorem dX0_define_59 : decode cX0_define 59 = .ok (.ifCond .ne 5, 3) := dk_154 0 5 (dk_at dksX0_define_2 12 rfl rfl)
theorem dX0_define_62 : decode cX0_define 62 = .ok (.iconst (-1), 1) := dk_2 (dk_at dksX0_define_2 15 rfl rfl)
theorem dX0_define_63 : decode cX0_define 63 = .ok (.ireturn, 1) := dk_172 (dk_at dksX0_define_2 16 rfl rfl)
theorem dX0_define_64 : decode cX0_define 64 = .ok (.aload_n 0, 1) := dk_42 (dk_at dksX0_define_2 17 rfl rfl)
theorem dX0_define_65 : decode cX0_define 65 = .ok (.getfield 22, 3) := dk_180 0 22 (dk_at dksX0_define_2 18 rfl rfl)
theorem dX0_define_68 : decode cX0_define 68 = .ok (.iload_n 1, 1) := dk_27 (dk_at dksX0_define_2 21 rfl rfl)
theorem dX0_define_69 : decode cX0_define 69 = .ok (.invokevirtual 73, 3) := dk_182 0 73 (dk_at dksX0_define_3 0 rfl rfl)
theorem dX0_define_72 : decode cX0_define 72 = .ok (.checkcast 60, 3) := dk_192 0 60 (dk_at dksX0_define_3 3 rfl rfl)
theorem dX0_define_75 : decode cX0_define 75 = .ok (.astore 7, 2) := dk_58 7 (dk_at dksX0_define_3 6 rfl rfl)
theorem dX0_define_77 : decode cX0_define 77 = .ok (.aload 7, 2) := dk_25 7 (dk_at dksX0_define_3 8 rfl rfl)
theorem dX0_define_79 : decode cX0_define 79 = .ok (.getfield 94, 3) := dk_180 0 94 (dk_at dksX0_define_3 10 rfl rfl)
theorem dX0_define_82 : decode cX0_define 82 = .ok (.iload_n 2, 1) := dk_28 (dk_at dksX0_define_3 13 rfl rfl)
theorem dX0_define_83 : decode cX0_define 83 = .ok (.invokestatic 98, 3) := dk_184 0 98 (dk_at dksX0_define_3 14 rfl rfl)
theorem dX0_define_86 : decode cX0_define 86 = .ok (.invokevirtual 104, 3) := dk_182 0 104 (dk_at dksX0_define_3 17 rfl rfl)
theorem dX0_define_89 : decode cX0_define 89 = .ok (.ifCond .ne 16, 3) := dk_154 0 16 (dk_at dksX0_define_3 20 rfl rfl)
theorem dX0_define_92 : decode cX0_define 92 = .ok (.aload 7, 2) := dk_25 7 (dk_at dksX0_define_4 0 rfl rfl)
theorem dX0_define_94 : decode cX0_define 94 = .ok (.getfield 94, 3) := dk_180 0 94 (dk_at dksX0_define_4 2 rfl rfl)
theorem dX0_define_97 : decode cX0_define 97 = .ok (.invokevirtual 109, 3) := dk_182 0 109 (dk_at dksX0_define_4 5 rfl rfl)
theorem dX0_define_100 : decode cX0_define 100 = .ok (.bipush 20, 2) := dk_16 20 (dk_at dksX0_define_4 8 rfl rfl)
theorem dX0_define_102 : decode cX0_define 102 = .ok (.if_icmp .ne 5, 3) := dk_160 0 5 (dk_at dksX0_define_4 10 rfl rfl)
theorem dX0_define_105 : decode cX0_define 105 = .ok (.iconst (-1), 1) := dk_2 (dk_at dksX0_define_4 13 rfl rfl)
theorem dX0_define_106 : decode cX0_define 106 = .ok (.ireturn, 1) := dk_172 (dk_at dksX0_define_4 14 rfl rfl)
theorem dX0_define_107 : decode cX0_define 107 = .ok (.new 110, 3) := dk_187 0 110 (dk_at dksX0_define_4 15 rfl rfl)
theorem dX0_define_110 : decode cX0_define 110 = .ok (.dup, 1) := dk_89 (dk_at dksX0_define_4 18 rfl rfl)
theorem dX0_define_111 : decode cX0_define 111 = .ok (.aload 7, 2) := dk_25 7 (dk_at dksX0_define_4 19 rfl rfl)
theorem dX0_define_113 : decode cX0_define 113 = .ok (.iload_n 3, 1) := dk_29 (dk_at dksX0_define_4 21 rfl rfl)
theorem dX0_define_114 : decode cX0_define 114 = .ok (.iconst 1, 1) := dk_4 (dk_at dksX0_define_4 22 rfl rfl)
theorem dX0_define_115 : decode cX0_define 115 = .ok (.if_icmp .ne 7, 3) := dk_160 0 7 (dk_at dksX0_define_5 0 rfl rfl)
theorem dX0_define_118 : decode cX0_define 118 = .ok (.iconst 1, 1) := dk_4 (dk_at dksX0_define_5 3 rfl rfl)
theorem dX0_define_119 : decode cX0_define 119 = .ok (.goto 4, 3) := dk_167 0 4 (dk_at dksX0_define_5 4 rfl rfl)
theorem dX0_define_122 : decode cX0_define 122 = .ok (.iconst 0, 1) := dk_3 (dk_at dksX0_define_5 7 rfl rfl)
theorem dX0_define_123 : decode cX0_define 123 = .ok (.iload 4, 2) := dk_21 4 (dk_at dksX0_define_5 8 rfl rfl)
theorem dX0_define_125 : decode cX0_define 125 = .ok (.iload 5, 2) := dk_21 5 (dk_at dksX0_define_5 10 rfl rfl)
theorem dX0_define_127 : decode cX0_define 127 = .ok (.invokespecial 112, 3) := dk_183 0 112 (dk_at dksX0_define_5 12 rfl rfl)
theorem dX0_define_130 : decode cX0_define 130 = .ok (.astore 8, 2) := dk_58 8 (dk_at dksX0_define_5 15 rfl rfl)
theorem dX0_define_132 : decode cX0_define 132 = .ok (.aload 7, 2) := dk_25 7 (dk_at dksX0_define_5 17 rfl rfl)
theorem dX0_define_134 : decode cX0_define 134 = .ok (.getfield 94, 3) := dk_180 0 94 (dk_at dksX0_define_5 19 rfl rfl)
theorem dX0_define_137 : decode cX0_define 137 = .ok (.iload_n 2, 1) := dk_28 (dk_at dksX0_define_5 22 rfl rfl)
theorem dX0_define_138 : decode cX0_define 138 = .ok (.invokestatic 98, 3) := dk_184 0 98 (dk_at dksX0_define_6 0 rfl rfl)
theorem dX0_define_141 : decode cX0_define 141 = .ok (.aload 8, 2) := dk_25 8 (dk_at dksX0_define_6 3 rfl rfl)
theorem dX0_define_143 : decode cX0_define 143 = .ok (.invokevirtual 115, 3) := dk_182 0 115 (dk_at dksX0_define_6 5 rfl rfl)
theorem dX0_define_146 : decode cX0_define 146 = .ok (.pop, 1) := dk_87 (dk_at dksX0_define_6 8 rfl rfl)
theorem dX0_define_147 : decode cX0_define 147 = .ok (.iload_n 3, 1) := dk_29 (dk_at dksX0_define_6 9 rfl rfl)
theorem dX0_define_148 : decode cX0_define 148 = .ok (.ifCond .ne 13, 3) := dk_154 0 13 (dk_at dksX0_define_6 10 rfl rfl)
theorem dX0_define_151 : decode cX0_define 151 = .ok (.aload 7, 2) := dk_25 7 (dk_at dksX0_define_6 13 rfl rfl)
theorem dX0_define_153 : decode cX0_define 153 = .ok (.getfield 119, 3) := dk_180 0 119 (dk_at dksX0_define_6 15 rfl rfl)
theorem dX0_define_156 : decode cX0_define 156 = .ok (.iload 4, 2) := dk_21 4 (dk_at dksX0_define_6 18 rfl rfl)
theorem dX0_define_158 : decode cX0_define 158 = .ok (.aload 8, 2) := dk_25 8 (dk_at dksX0_define_6 20 rfl rfl)
theorem dX0_define_160 : decode cX0_define 160 = .ok (.aastore, 1) := dk_83 (dk_at dksX0_define_6 22 rfl rfl)
theorem dX0_define_161 : decode cX0_define 161 = .ok (.aload_n 0, 1) := dk_42 (dk_at dksX0_define_6 23 rfl rfl)
theorem dX0_define_162 : decode cX0_define 162 = .ok (.aload 7, 2) := dk_25 7 (dk_at dksX0_define_7 0 rfl rfl)
theorem dX0_define_164 : decode cX0_define 164 = .ok (.getfield 94, 3) := dk_180 0 94 (dk_at dksX0_define_7 2 rfl rfl)
theorem dX0_define_167 : decode cX0_define 167 = .ok (.invokevirtual 109, 3) := dk_182 0 109 (dk_at dksX0_define_7 5 rfl rfl)
theorem dX0_define_170 : decode cX0_define 170 = .ok (.invokevirtual 83, 3) := dk_182 0 83 (dk_at dksX0_define_7 8 rfl rfl)
theorem dX0_define_173 : decode cX0_define 173 = .ok (.ireturn, 1) := dk_172 (dk_at dksX0_define_7 11 rfl rfl)
abbrev cX0_isName : ByteArray := prog_1_method_4_code
def yX0_isName : MethodName := ⟨RX0, "isName", "(I)Z"⟩
def dkwX0_isName_0 : List UInt8 := [26, 155, 0, 13, 26, 16, 64, 162, 0, 7, 4, 167, 0, 4, 3, 172]
abbrev dktX0_isName_0 : List UInt8 := dkwX0_isName_0 ++ []
theorem dksX0_isName_0 : cX0_isName.data.toList.drop 0 = dktX0_isName_0 := by decide +kernel
theorem dX0_isName_0 : decode cX0_isName 0 = .ok (.iload_n 0, 1) := dk_26 (dk_at dksX0_isName_0 0 rfl rfl)
theorem dX0_isName_1 : decode cX0_isName 1 = .ok (.ifCond .lt 13, 3) := dk_155 0 13 (dk_at dksX0_isName_0 1 rfl rfl)
theorem dX0_isName_4 : decode cX0_isName 4 = .ok (.iload_n 0, 1) := dk_26 (dk_at dksX0_isName_0 4 rfl rfl)
theorem dX0_isName_5 : decode cX0_isName 5 = .ok (.bipush 64, 2) := dk_16 64 (dk_at dksX0_isName_0 5 rfl rfl)
theorem dX0_isName_7 : decode cX0_isName 7 = .ok (.if_icmp .ge 7, 3) := dk_162 0 7 (dk_at dksX0_isName_0 7 rfl rfl)
theorem dX0_isName_10 : decode cX0_isName 10 = .ok (.iconst 1, 1) := dk_4 (dk_at dksX0_isName_0 10 rfl rfl)
theorem dX0_isName_11 : decode cX0_isName 11 = .ok (.goto 4, 3) := dk_167 0 4 (dk_at dksX0_isName_0 11 rfl rfl)
theorem dX0_isName_14 : decode cX0_isName 14 = .ok (.iconst 0, 1) := dk_3 (dk_at dksX0_isName_0 14 rfl rfl)
theorem dX0_isName_15 : decode cX0_isName 15 = .ok (.ireturn, 1) := dk_172 (dk_at dksX0_isName_0 15 rfl rfl)
abbrev cX0_within : ByteArray := prog_1_method_2_code
def yX0_within : MethodName := ⟨RX0, "within", "(III)Z"⟩
def dkwX0_within_0 : List UInt8 := [26, 27, 161, 0, 12, 26, 28, 163, 0, 7, 4, 167, 0, 4, 3, 172]
abbrev dktX0_within_0 : List UInt8 := dkwX0_within_0 ++ []
theorem dksX0_within_0 : cX0_within.data.toList.drop 0 = dktX0_within_0 := by decide +kernel
theorem dX0_within_0 : decode cX0_within 0 = .ok (.iload_n 0, 1) := dk_26 (dk_at dksX0_within_0 0 rfl rfl)
theorem dX0_within_1 : decode cX0_within 1 = .ok (.iload_n 1, 1) := dk_27 (dk_at dksX0_within_0 1 rfl rfl)
theorem dX0_within_2 : decode cX0_within 2 = .ok (.if_icmp .lt 12, 3) := dk_161 0 12 (dk_at dksX0_within_0 2 rfl rfl)
theorem dX0_within_5 : decode cX0_within 5 = .ok (.iload_n 0, 1) := dk_26 (dk_at dksX0_within_0 5 rfl rfl)
theorem dX0_within_6 : decode cX0_within 6 = .ok (.iload_n 2, 1) := dk_28 (dk_at dksX0_within_0 6 rfl rfl)
theorem dX0_within_7 : decode cX0_within 7 = .ok (.if_icmp .gt 7, 3) := dk_163 0 7 (dk_at dksX0_within_0 7 rfl rfl)
theorem dX0_within_10 : decode cX0_within 10 = .ok (.iconst 1, 1) := dk_4 (dk_at dksX0_within_0 10 rfl rfl)
theorem dX0_within_11 : decode cX0_within 11 = .ok (.goto 4, 3) := dk_167 0 4 (dk_at dksX0_within_0 11 rfl rfl)
theorem dX0_within_14 : decode cX0_within 14 = .ok (.iconst 0, 1) := dk_3 (dk_at dksX0_within_0 14 rfl rfl)
theorem dX0_within_15 : decode cX0_within 15 = .ok (.ireturn, 1) := dk_172 (dk_at dksX0_within_0 15 rfl rfl)
abbrev cX0_optional : ByteArray := prog_1_method_9_code
def yX0_optional : MethodName := ⟨RX0, "optional", "(II)I"⟩
def dkwX0_optional_2 : List UInt8 := [192, 0, 60, 180, 0, 123, 28, 182, 0, 131, 42, 4, 182, 0, 83, 172]
abbrev dktX0_optional_2 : List UInt8 := dkwX0_optional_2 ++ []
def dkwX0_optional_1 : List UInt8 := [192, 0, 60, 180, 0, 123, 28, 182, 0, 127, 153, 0, 5, 3, 172, 42, 180, 0, 22, 27, 182, 0, 73]
abbrev dktX0_optional_1 : List UInt8 := dkwX0_optional_1 ++ dktX0_optional_2
def dkwX0_optional_0 : List UInt8 := [42, 27, 182, 0, 69, 153, 0, 31, 28, 184, 0, 87, 153, 0, 24, 42, 180, 0, 22, 27, 182, 0, 73]
abbrev dktX0_optional_0 : List UInt8 := dkwX0_optional_0 ++ dktX0_optional_1
theorem dksX0_optional_0 : cX0_optional.data.toList.drop 0 = dktX0_optional_0 := by decide +kernel
theorem dksX0_optional_1 : cX0_optional.data.toList.drop 23 = dktX0_optional_1 := dk_seg dksX0_optional_0 23 rfl rfl
theorem dksX0_optional_2 : cX0_optional.data.toList.drop 46 = dktX0_optional_2 := dk_seg dksX0_optional_1 23 rfl rfl
theorem dX0_optional_0 : decode cX0_optional 0 = .ok (.aload_n 0, 1) := dk_42 (dk_at dksX0_optional_0 0 rfl rfl)
theorem dX0_optional_1 : decode cX0_optional 1 = .ok (.iload_n 1, 1) := dk_27 (dk_at dksX0_optional_0 1 rfl rfl)
theorem dX0_optional_2 : decode cX0_optional 2 = .ok (.invokevirtual 69, 3) := dk_182 0 69 (dk_at dksX0_optional_0 2 rfl rfl)
theorem dX0_optional_5 : decode cX0_optional 5 = .ok (.ifCond .eq 31, 3) := dk_153 0 31 (dk_at dksX0_optional_0 5 rfl rfl)
theorem dX0_optional_8 : decode cX0_optional 8 = .ok (.iload_n 2, 1) := dk_28 (dk_at dksX0_optional_0 8 rfl rfl)
theorem dX0_optional_9 : decode cX0_optional 9 = .ok (.invokestatic 87, 3) := dk_184 0 87 (dk_at dksX0_optional_0 9 rfl rfl)
theorem dX0_optional_12 : decode cX0_optional 12 = .ok (.ifCond .eq 24, 3) := dk_153 0 24 (dk_at dksX0_optional_0 12 rfl rfl)
theorem dX0_optional_15 : decode cX0_optional 15 = .ok (.aload_n 0, 1) := dk_42 (dk_at dksX0_optional_0 15 rfl rfl)
theorem dX0_optional_16 : decode cX0_optional 16 = .ok (.getfield 22, 3) := dk_180 0 22 (dk_at dksX0_optional_0 16 rfl rfl)
theorem dX0_optional_19 : decode cX0_optional 19 = .ok (.iload_n 1, 1) := dk_27 (dk_at dksX0_optional_0 19 rfl rfl)
theorem dX0_optional_20 : decode cX0_optional 20 = .ok (.invokevirtual 73, 3) := dk_182 0 73 (dk_at dksX0_optional_0 20 rfl rfl)
theorem dX0_optional_23 : decode cX0_optional 23 = .ok (.checkcast 60, 3) := dk_192 0 60 (dk_at dksX0_optional_1 0 rfl rfl)
theorem dX0_optional_26 : decode cX0_optional 26 = .ok (.getfield 123, 3) := dk_180 0 123 (dk_at dksX0_optional_1 3 rfl rfl)
theorem dX0_optional_29 : decode cX0_optional 29 = .ok (.iload_n 2, 1) := dk_28 (dk_at dksX0_optional_1 6 rfl rfl)
theorem dX0_optional_30 : decode cX0_optional 30 = .ok (.invokevirtual 127, 3) := dk_182 0 127 (dk_at dksX0_optional_1 7 rfl rfl)
theorem dX0_optional_33 : decode cX0_optional 33 = .ok (.ifCond .eq 5, 3) := dk_153 0 5 (dk_at dksX0_optional_1 10 rfl rfl)
theorem dX0_optional_36 : decode cX0_optional 36 = .ok (.iconst 0, 1) := dk_3 (dk_at dksX0_optional_1 13 rfl rfl)
theorem dX0_optional_37 : decode cX0_optional 37 = .ok (.ireturn, 1) := dk_172 (dk_at dksX0_optional_1 14 rfl rfl)
theorem dX0_optional_38 : decode cX0_optional 38 = .ok (.aload_n 0, 1) := dk_42 (dk_at dksX0_optional_1 15 rfl rfl)
theorem dX0_optional_39 : decode cX0_optional 39 = .ok (.getfield 22, 3) := dk_180 0 22 (dk_at dksX0_optional_1 16 rfl rfl)
theorem dX0_optional_42 : decode cX0_optional 42 = .ok (.iload_n 1, 1) := dk_27 (dk_at dksX0_optional_1 19 rfl rfl)
theorem dX0_optional_43 : decode cX0_optional 43 = .ok (.invokevirtual 73, 3) := dk_182 0 73 (dk_at dksX0_optional_1 20 rfl rfl)
theorem dX0_optional_46 : decode cX0_optional 46 = .ok (.checkcast 60, 3) := dk_192 0 60 (dk_at dksX0_optional_2 0 rfl rfl)
theorem dX0_optional_49 : decode cX0_optional 49 = .ok (.getfield 123, 3) := dk_180 0 123 (dk_at dksX0_optional_2 3 rfl rfl)
theorem dX0_optional_52 : decode cX0_optional 52 = .ok (.iload_n 2, 1) := dk_28 (dk_at dksX0_optional_2 6 rfl rfl)
theorem dX0_optional_53 : decode cX0_optional 53 = .ok (.invokevirtual 131, 3) := dk_182 0 131 (dk_at dksX0_optional_2 7 rfl rfl)
theorem dX0_optional_56 : decode cX0_optional 56 = .ok (.aload_n 0, 1) := dk_42 (dk_at dksX0_optional_2 10 rfl rfl)
theorem dX0_optional_57 : decode cX0_optional 57 = .ok (.iconst 1, 1) := dk_4 (dk_at dksX0_optional_2 11 rfl rfl)
theorem dX0_optional_58 : decode cX0_optional 58 = .ok (.invokevirtual 83, 3) := dk_182 0 83 (dk_at dksX0_optional_2 12 rfl rfl)
theorem dX0_optional_61 : decode cX0_optional 61 = .ok (.ireturn, 1) := dk_172 (dk_at dksX0_optional_2 15 rfl rfl)
abbrev cX0_beginner : ByteArray := prog_1_method_10_code
def yX0_beginner : MethodName := ⟨RX0, "beginner", "(II)I"⟩
def dkwX0_beginner_1 : List UInt8 := [180, 0, 22, 27, 182, 0, 73, 192, 0, 60, 28, 181, 0, 134, 42, 4, 182, 0, 83, 172]
abbrev dktX0_beginner_1 : List UInt8 := dkwX0_beginner_1 ++ []
def dkwX0_beginner_0 : List UInt8 := [42, 27, 182, 0, 69, 153, 0, 15, 28, 2, 159, 0, 12, 28, 184, 0, 87, 154, 0, 5, 3, 172, 42]
abbrev dktX0_beginner_0 : List UInt8 := dkwX0_beginner_0 ++ dktX0_beginner_1
theorem dksX0_beginner_0 : cX0_beginner.data.toList.drop 0 = dktX0_beginner_0 := by decide +kernel
theorem dksX0_beginner_1 : cX0_beginner.data.toList.drop 23 = dktX0_beginner_1 := dk_seg dksX0_beginner_0 23 rfl rfl
theorem dX0_beginner_0 : decode cX0_beginner 0 = .ok (.aload_n 0, 1) := dk_42 (dk_at dksX0_beginner_0 0 rfl rfl)
theorem dX0_beginner_1 : decode cX0_beginner 1 = .ok (.iload_n 1, 1) := dk_27 (dk_at dksX0_beginner_0 1 rfl rfl)
theorem dX0_beginner_2 : decode cX0_beginner 2 = .ok (.invokevirtual 69, 3) := dk_182 0 69 (dk_at dksX0_beginner_0 2 rfl rfl)
theorem dX0_beginner_5 : decode cX0_beginner 5 = .ok (.ifCond .eq 15, 3) := dk_153 0 15 (dk_at dksX0_beginner_0 5 rfl rfl)
theorem dX0_beginner_8 : decode cX0_beginner 8 = .ok (.iload_n 2, 1) := dk_28 (dk_at dksX0_beginner_0 8 rfl rfl)
theorem dX0_beginner_9 : decode cX0_beginner 9 = .ok (.iconst (-1), 1) := dk_2 (dk_at dksX0_beginner_0 9 rfl rfl)
theorem dX0_beginner_10 : decode cX0_beginner 10 = .ok (.if_icmp .eq 12, 3) := dk_159 0 12 (dk_at dksX0_beginner_0 10 rfl rfl)
theorem dX0_beginner_13 : decode cX0_beginner 13 = .ok (.iload_n 2, 1) := dk_28 (dk_at dksX0_beginner_0 13 rfl rfl)
theorem dX0_beginner_14 : decode cX0_beginner 14 = .ok (.invokestatic 87, 3) := dk_184 0 87 (dk_at dksX0_beginner_0 14 rfl rfl)
theorem dX0_beginner_17 : decode cX0_beginner 17 = .ok (.ifCond .ne 5, 3) := dk_154 0 5 (dk_at dksX0_beginner_0 17 rfl rfl)
theorem dX0_beginner_20 : decode cX0_beginner 20 = .ok (.iconst 0, 1) := dk_3 (dk_at dksX0_beginner_0 20 rfl rfl)
theorem dX0_beginner_21 : decode cX0_beginner 21 = .ok (.ireturn, 1) := dk_172 (dk_at dksX0_beginner_0 21 rfl rfl)
theorem dX0_beginner_22 : decode cX0_beginner 22 = .ok (.aload_n 0, 1) := dk_42 (dk_at dksX0_beginner_0 22 rfl rfl)
theorem dX0_beginner_23 : decode cX0_beginner 23 = .ok (.getfield 22, 3) := dk_180 0 22 (dk_at dksX0_beginner_1 0 rfl rfl)
theorem dX0_beginner_26 : decode cX0_beginner 26 = .ok (.iload_n 1, 1) := dk_27 (dk_at dksX0_beginner_1 3 rfl rfl)
theorem dX0_beginner_27 : decode cX0_beginner 27 = .ok (.invokevirtual 73, 3) := dk_182 0 73 (dk_at dksX0_beginner_1 4 rfl rfl)
theorem dX0_beginner_30 : decode cX0_beginner 30 = .ok (.checkcast 60, 3) := dk_192 0 60 (dk_at dksX0_beginner_1 7 rfl rfl)
theorem dX0_beginner_33 : decode cX0_beginner 33 = .ok (.iload_n 2, 1) := dk_28 (dk_at dksX0_beginner_1 10 rfl rfl)
theorem dX0_beginner_34 : decode cX0_beginner 34 = .ok (.putfield 134, 3) := dk_181 0 134 (dk_at dksX0_beginner_1 11 rfl rfl)
theorem dX0_beginner_37 : decode cX0_beginner 37 = .ok (.aload_n 0, 1) := dk_42 (dk_at dksX0_beginner_1 14 rfl rfl)
theorem dX0_beginner_38 : decode cX0_beginner 38 = .ok (.iconst 1, 1) := dk_4 (dk_at dksX0_beginner_1 15 rfl rfl)
theorem dX0_beginner_39 : decode cX0_beginner 39 = .ok (.invokevirtual 83, 3) := dk_182 0 83 (dk_at dksX0_beginner_1 16 rfl rfl)
theorem dX0_beginner_42 : decode cX0_beginner 42 = .ok (.ireturn, 1) := dk_172 (dk_at dksX0_beginner_1 19 rfl rfl)
abbrev cX0_put : ByteArray := prog_1_method_13_code
def yX0_put : MethodName := ⟨RX0, "put", "(IIIII)I"⟩
def dkwX0_put_5 : List UInt8 := [182, 0, 83, 172]
abbrev dktX0_put_5 : List UInt8 := dkwX0_put_5 ++ []
def dkwX0_put_4 : List UInt8 := [182, 0, 65, 87, 42, 42, 180, 0, 22, 27, 182, 0, 73, 192, 0, 60, 180, 0, 148, 182, 0, 52, 4, 100]
abbrev dktX0_put_4 : List UInt8 := dkwX0_put_4 ++ dktX0_put_5
def dkwX0_put_3 : List UInt8 := [192, 0, 60, 180, 0, 148, 187, 0, 151, 89, 42, 180, 0, 13, 28, 50, 29, 21, 4, 21, 5, 183, 0, 153]
abbrev dktX0_put_3 : List UInt8 := dkwX0_put_3 ++ dktX0_put_4
def dkwX0_put_2 : List UInt8 := [192, 0, 60, 180, 0, 148, 182, 0, 52, 16, 100, 160, 0, 5, 2, 172, 42, 180, 0, 22, 27, 182, 0, 73]
abbrev dktX0_put_2 : List UInt8 := dkwX0_put_2 ++ dktX0_put_3
def dkwX0_put_1 : List UInt8 := [180, 0, 13, 28, 50, 29, 21, 4, 21, 5, 184, 0, 144, 153, 0, 25, 42, 180, 0, 22, 27, 182, 0, 73]
abbrev dktX0_put_1 : List UInt8 := dkwX0_put_1 ++ dktX0_put_2
def dkwX0_put_0 : List UInt8 := [42, 27, 182, 0, 69, 153, 0, 57, 28, 3, 42, 180, 0, 13, 190, 4, 100, 184, 0, 90, 153, 0, 42, 42]
abbrev dktX0_put_0 : List UInt8 := dkwX0_put_0 ++ dktX0_put_1
theorem dksX0_put_0 : cX0_put.data.toList.drop 0 = dktX0_put_0 := by decide +kernel
theorem dksX0_put_1 : cX0_put.data.toList.drop 24 = dktX0_put_1 := dk_seg dksX0_put_0 24 rfl rfl
theorem dksX0_put_2 : cX0_put.data.toList.drop 48 = dktX0_put_2 := dk_seg dksX0_put_1 24 rfl rfl
theorem dksX0_put_3 : cX0_put.data.toList.drop 72 = dktX0_put_3 := dk_seg dksX0_put_2 24 rfl rfl
theorem dksX0_put_4 : cX0_put.data.toList.drop 96 = dktX0_put_4 := dk_seg dksX0_put_3 24 rfl rfl
theorem dksX0_put_5 : cX0_put.data.toList.drop 120 = dktX0_put_5 := dk_seg dksX0_put_4 24 rfl rfl
theorem dX0_put_0 : decode cX0_put 0 = .ok (.aload_n 0, 1) := dk_42 (dk_at dksX0_put_0 0 rfl rfl)
theorem dX0_put_1 : decode cX0_put 1 = .ok (.iload_n 1, 1) := dk_27 (dk_at dksX0_put_0 1 rfl rfl)
theorem dX0_put_2 : decode cX0_put 2 = .ok (.invokevirtual 69, 3) := dk_182 0 69 (dk_at dksX0_put_0 2 rfl rfl)
theorem dX0_put_5 : decode cX0_put 5 = .ok (.ifCond .eq 57, 3) := dk_153 0 57 (dk_at dksX0_put_0 5 rfl rfl)
theorem dX0_put_8 : decode cX0_put 8 = .ok (.iload_n 2, 1) := dk_28 (dk_at dksX0_put_0 8 rfl rfl)
theorem dX0_put_9 : decode cX0_put 9 = .ok (.iconst 0, 1) := dk_3 (dk_at dksX0_put_0 9 rfl rfl)
theorem dX0_put_10 : decode cX0_put 10 = .ok (.aload_n 0, 1) := dk_42 (dk_at dksX0_put_0 10 rfl rfl)
theorem dX0_put_11 : decode cX0_put 11 = .ok (.getfield 13, 3) := dk_180 0 13 (dk_at dksX0_put_0 11 rfl rfl)
theorem dX0_put_14 : decode cX0_put 14 = .ok (.arraylength, 1) := dk_190 (dk_at dksX0_put_0 14 rfl rfl)
theorem dX0_put_15 : decode cX0_put 15 = .ok (.iconst 1, 1) := dk_4 (dk_at dksX0_put_0 15 rfl rfl)
theorem dX0_put_16 : decode cX0_put 16 = .ok (.isub, 1) := dk_100 (dk_at dksX0_put_0 16 rfl rfl)
theorem dX0_put_17 : decode cX0_put 17 = .ok (.invokestatic 90, 3) := dk_184 0 90 (dk_at dksX0_put_0 17 rfl rfl)
theorem dX0_put_20 : decode cX0_put 20 = .ok (.ifCond .eq 42, 3) := dk_153 0 42 (dk_at dksX0_put_0 20 rfl rfl)
theorem dX0_put_23 : decode cX0_put 23 = .ok (.aload_n 0, 1) := dk_42 (dk_at dksX0_put_0 23 rfl rfl)
theorem dX0_put_24 : decode cX0_put 24 = .ok (.getfield 13, 3) := dk_180 0 13 (dk_at dksX0_put_1 0 rfl rfl)
theorem dX0_put_27 : decode cX0_put 27 = .ok (.iload_n 2, 1) := dk_28 (dk_at dksX0_put_1 3 rfl rfl)
theorem dX0_put_28 : decode cX0_put 28 = .ok (.aaload, 1) := dk_50 (dk_at dksX0_put_1 4 rfl rfl)
theorem dX0_put_29 : decode cX0_put 29 = .ok (.iload_n 3, 1) := dk_29 (dk_at dksX0_put_1 5 rfl rfl)
theorem dX0_put_30 : decode cX0_put 30 = .ok (.iload 4, 2) := dk_21 4 (dk_at dksX0_put_1 6 rfl rfl)
theorem dX0_put_32 : decode cX0_put 32 = .ok (.iload 5, 2) := dk_21 5 (dk_at dksX0_put_1 8 rfl rfl)
theorem dX0_put_34 : decode cX0_put 34 = .ok (.invokestatic 144, 3) := dk_184 0 144 (dk_at dksX0_put_1 10 rfl rfl)
theorem dX0_put_37 : decode cX0_put 37 = .ok (.ifCond .eq 25, 3) := dk_153 0 25 (dk_at dksX0_put_1 13 rfl rfl)
theorem dX0_put_40 : decode cX0_put 40 = .ok (.aload_n 0, 1) := dk_42 (dk_at dksX0_put_1 16 rfl rfl)
theorem dX0_put_41 : decode cX0_put 41 = .ok (.getfield 22, 3) := dk_180 0 22 (dk_at dksX0_put_1 17 rfl rfl)
theorem dX0_put_44 : decode cX0_put 44 = .ok (.iload_n 1, 1) := dk_27 (dk_at dksX0_put_1 20 rfl rfl)
theorem dX0_put_45 : decode cX0_put 45 = .ok (.invokevirtual 73, 3) := dk_182 0 73 (dk_at dksX0_put_1 21 rfl rfl)
theorem dX0_put_48 : decode cX0_put 48 = .ok (.checkcast 60, 3) := dk_192 0 60 (dk_at dksX0_put_2 0 rfl rfl)
theorem dX0_put_51 : decode cX0_put 51 = .ok (.getfield 148, 3) := dk_180 0 148 (dk_at dksX0_put_2 3 rfl rfl)
theorem dX0_put_54 : decode cX0_put 54 = .ok (.invokevirtual 52, 3) := dk_182 0 52 (dk_at dksX0_put_2 6 rfl rfl)
theorem dX0_put_57 : decode cX0_put 57 = .ok (.bipush 100, 2) := dk_16 100 (dk_at dksX0_put_2 9 rfl rfl)
theorem dX0_put_59 : decode cX0_put 59 = .ok (.if_icmp .ne 5, 3) := dk_160 0 5 (dk_at dksX0_put_2 11 rfl rfl)
theorem dX0_put_62 : decode cX0_put 62 = .ok (.iconst (-1), 1) := dk_2 (dk_at dksX0_put_2 14 rfl rfl)
theorem dX0_put_63 : decode cX0_put 63 = .ok (.ireturn, 1) := dk_172 (dk_at dksX0_put_2 15 rfl rfl)
theorem dX0_put_64 : decode cX0_put 64 = .ok (.aload_n 0, 1) := dk_42 (dk_at dksX0_put_2 16 rfl rfl)
theorem dX0_put_65 : decode cX0_put 65 = .ok (.getfield 22, 3) := dk_180 0 22 (dk_at dksX0_put_2 17 rfl rfl)
theorem dX0_put_68 : decode cX0_put 68 = .ok (.iload_n 1, 1) := dk_27 (dk_at dksX0_put_2 20 rfl rfl)
theorem dX0_put_69 : decode cX0_put 69 = .ok (.invokevirtual 73, 3) := dk_182 0 73 (dk_at dksX0_put_2 21 rfl rfl)
theorem dX0_put_72 : decode cX0_put 72 = .ok (.checkcast 60, 3) := dk_192 0 60 (dk_at dksX0_put_3 0 rfl rfl)
theorem dX0_put_75 : decode cX0_put 75 = .ok (.getfield 148, 3) := dk_180 0 148 (dk_at dksX0_put_3 3 rfl rfl)
theorem dX0_put_78 : decode cX0_put 78 = .ok (.new 151, 3) := dk_187 0 151 (dk_at dksX0_put_3 6 rfl rfl)
theorem dX0_put_81 : decode cX0_put 81 = .ok (.dup, 1) := dk_89 (dk_at dksX0_put_3 9 rfl rfl)
theorem dX0_put_82 : decode cX0_put 82 = .ok (.aload_n 0, 1) := dk_42 (dk_at dksX0_put_3 10 rfl rfl)
theorem dX0_put_83 : decode cX0_put 83 = .ok (.getfield 13, 3) := dk_180 0 13 (dk_at dksX0_put_3 11 rfl rfl)
theorem dX0_put_86 : decode cX0_put 86 = .ok (.iload_n 2, 1) := dk_28 (dk_at dksX0_put_3 14 rfl rfl)
theorem dX0_put_87 : decode cX0_put 87 = .ok (.aaload, 1) := dk_50 (dk_at dksX0_put_3 15 rfl rfl)
theorem dX0_put_88 : decode cX0_put 88 = .ok (.iload_n 3, 1) := dk_29 (dk_at dksX0_put_3 16 rfl rfl)
theorem dX0_put_89 : decode cX0_put 89 = .ok (.iload 4, 2) := dk_21 4 (dk_at dksX0_put_3 17 rfl rfl)
theorem dX0_put_91 : decode cX0_put 91 = .ok (.iload 5, 2) := dk_21 5 (dk_at dksX0_put_3 19 rfl rfl)
theorem dX0_put_93 : decode cX0_put 93 = .ok (.invokespecial 153, 3) := dk_183 0 153 (dk_at dksX0_put_3 21 rfl rfl)
theorem dX0_put_96 : decode cX0_put 96 = .ok (.invokevirtual 65, 3) := dk_182 0 65 (dk_at dksX0_put_4 0 rfl rfl)
theorem dX0_put_99 : decode cX0_put 99 = .ok (.pop, 1) := dk_87 (dk_at dksX0_put_4 3 rfl rfl)
theorem dX0_put_100 : decode cX0_put 100 = .ok (.aload_n 0, 1) := dk_42 (dk_at dksX0_put_4 4 rfl rfl)
theorem dX0_put_101 : decode cX0_put 101 = .ok (.aload_n 0, 1) := dk_42 (dk_at dksX0_put_4 5 rfl rfl)
theorem dX0_put_102 : decode cX0_put 102 = .ok (.getfield 22, 3) := dk_180 0 22 (dk_at dksX0_put_4 6 rfl rfl)
theorem dX0_put_105 : decode cX0_put 105 = .ok (.iload_n 1, 1) := dk_27 (dk_at dksX0_put_4 9 rfl rfl)
theorem dX0_put_106 : decode cX0_put 106 = .ok (.invokevirtual 73, 3) := dk_182 0 73 (dk_at dksX0_put_4 10 rfl rfl)
theorem dX0_put_109 : decode cX0_put 109 = .ok (.checkcast 60, 3) := dk_192 0 60 (dk_at dksX0_put_4 13 rfl rfl)
theorem dX0_put_112 : decode cX0_put 112 = .ok (.getfield 148, 3) := dk_180 0 148 (dk_at dksX0_put_4 16 rfl rfl)
theorem dX0_put_115 : decode cX0_put 115 = .ok (.invokevirtual 52, 3) := dk_182 0 52 (dk_at dksX0_put_4 19 rfl rfl)
theorem dX0_put_118 : decode cX0_put 118 = .ok (.iconst 1, 1) := dk_4 (dk_at dksX0_put_4 22 rfl rfl)
theorem dX0_put_119 : decode cX0_put 119 = .ok (.isub, 1) := dk_100 (dk_at dksX0_put_4 23 rfl rfl)
theorem dX0_put_120 : decode cX0_put 120 = .ok (.invokevirtual 83, 3) := dk_182 0 83 (dk_at dksX0_put_5 0 rfl rfl)
theorem dX0_put_123 : decode cX0_put 123 = .ok (.ireturn, 1) := dk_172 (dk_at dksX0_put_5 3 rfl rfl)
abbrev cX0_mayBe : ByteArray := prog_1_method_12_code
def yX0_mayBe : MethodName := ⟨RX0, "mayBe", "(LLinkStation$Op;III)Z"⟩
def dkwX0_mayBe_7 : List UInt8 := [184, 0, 87, 153, 0, 14, 28, 184, 0, 141, 153, 0, 7, 4, 167, 0, 4, 3, 172, 4, 172]
abbrev dktX0_mayBe_7 : List UInt8 := dkwX0_mayBe_7 ++ []
def dkwX0_mayBe_6 : List UInt8 := [172, 27, 184, 0, 141, 153, 0, 14, 28, 184, 0, 87, 153, 0, 7, 4, 167, 0, 4, 3, 172, 27]
abbrev dktX0_mayBe_6 : List UInt8 := dkwX0_mayBe_6 ++ dktX0_mayBe_7
def dkwX0_mayBe_5 : List UInt8 := [184, 0, 90, 153, 0, 7, 4, 167, 0, 4, 3, 172, 27, 3, 16, 99, 184, 0, 90, 172, 27, 184, 0, 87]
abbrev dktX0_mayBe_5 : List UInt8 := dkwX0_mayBe_5 ++ dktX0_mayBe_6
def dkwX0_mayBe_4 : List UInt8 := [167, 0, 4, 3, 172, 27, 184, 0, 141, 153, 0, 24, 28, 184, 0, 141, 153, 0, 17, 29, 3, 16, 99]
abbrev dktX0_mayBe_4 : List UInt8 := dkwX0_mayBe_4 ++ dktX0_mayBe_5
def dkwX0_mayBe_3 : List UInt8 := [172, 27, 184, 0, 141, 153, 0, 21, 28, 184, 0, 141, 153, 0, 14, 29, 184, 0, 141, 153, 0, 7, 4]
abbrev dktX0_mayBe_3 : List UInt8 := dkwX0_mayBe_3 ++ dktX0_mayBe_4
def dkwX0_mayBe_2 : List UInt8 := [27, 184, 0, 141, 172, 27, 184, 0, 141, 153, 0, 14, 28, 184, 0, 141, 153, 0, 7, 4, 167, 0, 4, 3]
abbrev dktX0_mayBe_2 : List UInt8 := dkwX0_mayBe_2 ++ dktX0_mayBe_3
def dkwX0_mayBe_1 : List UInt8 := [170, 0, 0, 0, 0, 0, 0, 207, 0, 0, 0, 0, 0, 0, 0, 13, 0, 0, 0, 72, 0, 0, 0, 77, 0, 0, 0, 97, 0, 0, 0, 97, 0, 0, 0, 97, 0, 0, 0, 124, 0, 0, 0, 154, 0, 0, 0, 162, 0, 0, 0, 167, 0, 0, 0, 187, 0, 0, 0, 167, 0, 0, 0, 72, 0, 0, 0, 207, 0, 0, 0, 72]
abbrev dktX0_mayBe_1 : List UInt8 := dkwX0_mayBe_1 ++ dktX0_mayBe_2
def dkwX0_mayBe_0 : List UInt8 := [42, 182, 0, 138]
abbrev dktX0_mayBe_0 : List UInt8 := dkwX0_mayBe_0 ++ dktX0_mayBe_1
theorem dksX0_mayBe_0 : cX0_mayBe.data.toList.drop 0 = dktX0_mayBe_0 := by decide +kernel
theorem dksX0_mayBe_1 : cX0_mayBe.data.toList.drop 4 = dktX0_mayBe_1 := dk_seg dksX0_mayBe_0 4 rfl rfl
theorem dksX0_mayBe_2 : cX0_mayBe.data.toList.drop 76 = dktX0_mayBe_2 := dk_seg dksX0_mayBe_1 72 rfl rfl
theorem dksX0_mayBe_3 : cX0_mayBe.data.toList.drop 100 = dktX0_mayBe_3 := dk_seg dksX0_mayBe_2 24 rfl rfl
theorem dksX0_mayBe_4 : cX0_mayBe.data.toList.drop 123 = dktX0_mayBe_4 := dk_seg dksX0_mayBe_3 23 rfl rfl
theorem dksX0_mayBe_5 : cX0_mayBe.data.toList.drop 146 = dktX0_mayBe_5 := dk_seg dksX0_mayBe_4 23 rfl rfl
theorem dksX0_mayBe_6 : cX0_mayBe.data.toList.drop 170 = dktX0_mayBe_6 := dk_seg dksX0_mayBe_5 24 rfl rfl
theorem dksX0_mayBe_7 : cX0_mayBe.data.toList.drop 192 = dktX0_mayBe_7 := dk_seg dksX0_mayBe_6 22 rfl rfl
theorem dX0_mayBe_0 : decode cX0_mayBe 0 = .ok (.aload_n 0, 1) := dk_42 (dk_at dksX0_mayBe_0 0 rfl rfl)
theorem dX0_mayBe_1 : decode cX0_mayBe 1 = .ok (.invokevirtual 138, 3) := dk_182 0 138 (dk_at dksX0_mayBe_0 1 rfl rfl)
theorem dX0_mayBe_4 : decode cX0_mayBe 4 = .ok (.tableswitch 207 0 13 #[72, 77, 97, 97, 97, 124, 154, 162, 167, 187, 167, 72, 207, 72], 72) := by decide +kernel
theorem dX0_mayBe_76 : decode cX0_mayBe 76 = .ok (.iload_n 1, 1) := dk_27 (dk_at dksX0_mayBe_2 0 rfl rfl)
theorem dX0_mayBe_77 : decode cX0_mayBe 77 = .ok (.invokestatic 141, 3) := dk_184 0 141 (dk_at dksX0_mayBe_2 1 rfl rfl)
theorem dX0_mayBe_80 : decode cX0_mayBe 80 = .ok (.ireturn, 1) := dk_172 (dk_at dksX0_mayBe_2 4 rfl rfl)
theorem dX0_mayBe_81 : decode cX0_mayBe 81 = .ok (.iload_n 1, 1) := dk_27 (dk_at dksX0_mayBe_2 5 rfl rfl)
theorem dX0_mayBe_82 : decode cX0_mayBe 82 = .ok (.invokestatic 141, 3) := dk_184 0 141 (dk_at dksX0_mayBe_2 6 rfl rfl)
theorem dX0_mayBe_85 : decode cX0_mayBe 85 = .ok (.ifCond .eq 14, 3) := dk_153 0 14 (dk_at dksX0_mayBe_2 9 rfl rfl)
theorem dX0_mayBe_88 : decode cX0_mayBe 88 = .ok (.iload_n 2, 1) := dk_28 (dk_at dksX0_mayBe_2 12 rfl rfl)
theorem dX0_mayBe_89 : decode cX0_mayBe 89 = .ok (.invokestatic 141, 3) := dk_184 0 141 (dk_at dksX0_mayBe_2 13 rfl rfl)
theorem dX0_mayBe_92 : decode cX0_mayBe 92 = .ok (.ifCond .eq 7, 3) := dk_153 0 7 (dk_at dksX0_mayBe_2 16 rfl rfl)
theorem dX0_mayBe_95 : decode cX0_mayBe 95 = .ok (.iconst 1, 1) := dk_4 (dk_at dksX0_mayBe_2 19 rfl rfl)
theorem dX0_mayBe_96 : decode cX0_mayBe 96 = .ok (.goto 4, 3) := dk_167 0 4 (dk_at dksX0_mayBe_2 20 rfl rfl)
theorem dX0_mayBe_99 : decode cX0_mayBe 99 = .ok (.iconst 0, 1) := dk_3 (dk_at dksX0_mayBe_2 23 rfl rfl)
theorem dX0_mayBe_100 : decode cX0_mayBe 100 = .ok (.ireturn, 1) := dk_172 (dk_at dksX0_mayBe_3 0 rfl rfl)
theorem dX0_mayBe_101 : decode cX0_mayBe 101 = .ok (.iload_n 1, 1) := dk_27 (dk_at dksX0_mayBe_3 1 rfl rfl)
theorem dX0_mayBe_102 : decode cX0_mayBe 102 = .ok (.invokestatic 141, 3) := dk_184 0 141 (dk_at dksX0_mayBe_3 2 rfl rfl)
theorem dX0_mayBe_105 : decode cX0_mayBe 105 = .ok (.ifCond .eq 21, 3) := dk_153 0 21 (dk_at dksX0_mayBe_3 5 rfl rfl)
theorem dX0_mayBe_108 : decode cX0_mayBe 108 = .ok (.iload_n 2, 1) := dk_28 (dk_at dksX0_mayBe_3 8 rfl rfl)
theorem dX0_mayBe_109 : decode cX0_mayBe 109 = .ok (.invokestatic 141, 3) := dk_184 0 141 (dk_at dksX0_mayBe_3 9 rfl rfl)
theorem dX0_mayBe_112 : decode cX0_mayBe 112 = .ok (.ifCond .eq 14, 3) := dk_153 0 14 (dk_at dksX0_mayBe_3 12 rfl rfl)
theorem dX0_mayBe_115 : decode cX0_mayBe 115 = .ok (.iload_n 3, 1) := dk_29 (dk_at dksX0_mayBe_3 15 rfl rfl)
theorem dX0_mayBe_116 : decode cX0_mayBe 116 = .ok (.invokestatic 141, 3) := dk_184 0 141 (dk_at dksX0_mayBe_3 16 rfl rfl)
theorem dX0_mayBe_119 : decode cX0_mayBe 119 = .ok (.ifCond .eq 7, 3) := dk_153 0 7 (dk_at dksX0_mayBe_3 19 rfl rfl)
theorem dX0_mayBe_122 : decode cX0_mayBe 122 = .ok (.iconst 1, 1) := dk_4 (dk_at dksX0_mayBe_3 22 rfl rfl)
theorem dX0_mayBe_123 : decode cX0_mayBe 123 = .ok (.goto 4, 3) := dk_167 0 4 (dk_at dksX0_mayBe_4 0 rfl rfl)
theorem dX0_mayBe_126 : decode cX0_mayBe 126 = .ok (.iconst 0, 1) := dk_3 (dk_at dksX0_mayBe_4 3 rfl rfl)
theorem dX0_mayBe_127 : decode cX0_mayBe 127 = .ok (.ireturn, 1) := dk_172 (dk_at dksX0_mayBe_4 4 rfl rfl)
theorem dX0_mayBe_128 : decode cX0_mayBe 128 = .ok (.iload_n 1, 1) := dk_27 (dk_at dksX0_mayBe_4 5 rfl rfl)
theorem dX0_mayBe_129 : decode cX0_mayBe 129 = .ok (.invokestatic 141, 3) := dk_184 0 141 (dk_at dksX0_mayBe_4 6 rfl rfl)
theorem dX0_mayBe_132 : decode cX0_mayBe 132 = .ok (.ifCond .eq 24, 3) := dk_153 0 24 (dk_at dksX0_mayBe_4 9 rfl rfl)
theorem dX0_mayBe_135 : decode cX0_mayBe 135 = .ok (.iload_n 2, 1) := dk_28 (dk_at dksX0_mayBe_4 12 rfl rfl)
theorem dX0_mayBe_136 : decode cX0_mayBe 136 = .ok (.invokestatic 141, 3) := dk_184 0 141 (dk_at dksX0_mayBe_4 13 rfl rfl)
theorem dX0_mayBe_139 : decode cX0_mayBe 139 = .ok (.ifCond .eq 17, 3) := dk_153 0 17 (dk_at dksX0_mayBe_4 16 rfl rfl)
theorem dX0_mayBe_142 : decode cX0_mayBe 142 = .ok (.iload_n 3, 1) := dk_29 (dk_at dksX0_mayBe_4 19 rfl rfl)
theorem dX0_mayBe_143 : decode cX0_mayBe 143 = .ok (.iconst 0, 1) := dk_3 (dk_at dksX0_mayBe_4 20 rfl rfl)
theorem dX0_mayBe_144 : decode cX0_mayBe 144 = .ok (.bipush 99, 2) := dk_16 99 (dk_at dksX0_mayBe_4 21 rfl rfl)
theorem dX0_mayBe_146 : decode cX0_mayBe 146 = .ok (.invokestatic 90, 3) := dk_184 0 90 (dk_at dksX0_mayBe_5 0 rfl rfl)
theorem dX0_mayBe_149 : decode cX0_mayBe 149 = .ok (.ifCond .eq 7, 3) := dk_153 0 7 (dk_at dksX0_mayBe_5 3 rfl rfl)
theorem dX0_mayBe_152 : decode cX0_mayBe 152 = .ok (.iconst 1, 1) := dk_4 (dk_at dksX0_mayBe_5 6 rfl rfl)
theorem dX0_mayBe_153 : decode cX0_mayBe 153 = .ok (.goto 4, 3) := dk_167 0 4 (dk_at dksX0_mayBe_5 7 rfl rfl)
theorem dX0_mayBe_156 : decode cX0_mayBe 156 = .ok (.iconst 0, 1) := dk_3 (dk_at dksX0_mayBe_5 10 rfl rfl)
theorem dX0_mayBe_157 : decode cX0_mayBe 157 = .ok (.ireturn, 1) := dk_172 (dk_at dksX0_mayBe_5 11 rfl rfl)
theorem dX0_mayBe_158 : decode cX0_mayBe 158 = .ok (.iload_n 1, 1) := dk_27 (dk_at dksX0_mayBe_5 12 rfl rfl)
theorem dX0_mayBe_159 : decode cX0_mayBe 159 = .ok (.iconst 0, 1) := dk_3 (dk_at dksX0_mayBe_5 13 rfl rfl)
theorem dX0_mayBe_160 : decode cX0_mayBe 160 = .ok (.bipush 99, 2) := dk_16 99 (dk_at dksX0_mayBe_5 14 rfl rfl)
theorem dX0_mayBe_162 : decode cX0_mayBe 162 = .ok (.invokestatic 90, 3) := dk_184 0 90 (dk_at dksX0_mayBe_5 16 rfl rfl)
theorem dX0_mayBe_165 : decode cX0_mayBe 165 = .ok (.ireturn, 1) := dk_172 (dk_at dksX0_mayBe_5 19 rfl rfl)
theorem dX0_mayBe_166 : decode cX0_mayBe 166 = .ok (.iload_n 1, 1) := dk_27 (dk_at dksX0_mayBe_5 20 rfl rfl)
theorem dX0_mayBe_167 : decode cX0_mayBe 167 = .ok (.invokestatic 87, 3) := dk_184 0 87 (dk_at dksX0_mayBe_5 21 rfl rfl)
theorem dX0_mayBe_170 : decode cX0_mayBe 170 = .ok (.ireturn, 1) := dk_172 (dk_at dksX0_mayBe_6 0 rfl rfl)
theorem dX0_mayBe_171 : decode cX0_mayBe 171 = .ok (.iload_n 1, 1) := dk_27 (dk_at dksX0_mayBe_6 1 rfl rfl)
theorem dX0_mayBe_172 : decode cX0_mayBe 172 = .ok (.invokestatic 141, 3) := dk_184 0 141 (dk_at dksX0_mayBe_6 2 rfl rfl)
theorem dX0_mayBe_175 : decode cX0_mayBe 175 = .ok (.ifCond .eq 14, 3) := dk_153 0 14 (dk_at dksX0_mayBe_6 5 rfl rfl)
theorem dX0_mayBe_178 : decode cX0_mayBe 178 = .ok (.iload_n 2, 1) := dk_28 (dk_at dksX0_mayBe_6 8 rfl rfl)
theorem dX0_mayBe_179 : decode cX0_mayBe 179 = .ok (.invokestatic 87, 3) := dk_184 0 87 (dk_at dksX0_mayBe_6 9 rfl rfl)
theorem dX0_mayBe_182 : decode cX0_mayBe 182 = .ok (.ifCond .eq 7, 3) := dk_153 0 7 (dk_at dksX0_mayBe_6 12 rfl rfl)
theorem dX0_mayBe_185 : decode cX0_mayBe 185 = .ok (.iconst 1, 1) := dk_4 (dk_at dksX0_mayBe_6 15 rfl rfl)
theorem dX0_mayBe_186 : decode cX0_mayBe 186 = .ok (.goto 4, 3) := dk_167 0 4 (dk_at dksX0_mayBe_6 16 rfl rfl)
theorem dX0_mayBe_189 : decode cX0_mayBe 189 = .ok (.iconst 0, 1) := dk_3 (dk_at dksX0_mayBe_6 19 rfl rfl)
theorem dX0_mayBe_190 : decode cX0_mayBe 190 = .ok (.ireturn, 1) := dk_172 (dk_at dksX0_mayBe_6 20 rfl rfl)
theorem dX0_mayBe_191 : decode cX0_mayBe 191 = .ok (.iload_n 1, 1) := dk_27 (dk_at dksX0_mayBe_6 21 rfl rfl)
theorem dX0_mayBe_192 : decode cX0_mayBe 192 = .ok (.invokestatic 87, 3) := dk_184 0 87 (dk_at dksX0_mayBe_7 0 rfl rfl)
theorem dX0_mayBe_195 : decode cX0_mayBe 195 = .ok (.ifCond .eq 14, 3) := dk_153 0 14 (dk_at dksX0_mayBe_7 3 rfl rfl)
theorem dX0_mayBe_198 : decode cX0_mayBe 198 = .ok (.iload_n 2, 1) := dk_28 (dk_at dksX0_mayBe_7 6 rfl rfl)
theorem dX0_mayBe_199 : decode cX0_mayBe 199 = .ok (.invokestatic 141, 3) := dk_184 0 141 (dk_at dksX0_mayBe_7 7 rfl rfl)
theorem dX0_mayBe_202 : decode cX0_mayBe 202 = .ok (.ifCond .eq 7, 3) := dk_153 0 7 (dk_at dksX0_mayBe_7 10 rfl rfl)
theorem dX0_mayBe_205 : decode cX0_mayBe 205 = .ok (.iconst 1, 1) := dk_4 (dk_at dksX0_mayBe_7 13 rfl rfl)
theorem dX0_mayBe_206 : decode cX0_mayBe 206 = .ok (.goto 4, 3) := dk_167 0 4 (dk_at dksX0_mayBe_7 14 rfl rfl)
theorem dX0_mayBe_209 : decode cX0_mayBe 209 = .ok (.iconst 0, 1) := dk_3 (dk_at dksX0_mayBe_7 17 rfl rfl)
theorem dX0_mayBe_210 : decode cX0_mayBe 210 = .ok (.ireturn, 1) := dk_172 (dk_at dksX0_mayBe_7 18 rfl rfl)
theorem dX0_mayBe_211 : decode cX0_mayBe 211 = .ok (.iconst 1, 1) := dk_4 (dk_at dksX0_mayBe_7 19 rfl rfl)
theorem dX0_mayBe_212 : decode cX0_mayBe 212 = .ok (.ireturn, 1) := dk_172 (dk_at dksX0_mayBe_7 20 rfl rfl)
abbrev cX0_isRegister : ByteArray := prog_1_method_11_code
def yX0_isRegister : MethodName := ⟨RX0, "isRegister", "(I)Z"⟩
def dkwX0_isRegister_0 : List UInt8 := [26, 155, 0, 13, 26, 16, 8, 162, 0, 7, 4, 167, 0, 4, 3, 172]
abbrev dktX0_isRegister_0 : List UInt8 := dkwX0_isRegister_0 ++ []
theorem dksX0_isRegister_0 : cX0_isRegister.data.toList.drop 0 = dktX0_isRegister_0 := by decide +kernel
theorem dX0_isRegister_0 : decode cX0_isRegister 0 = .ok (.iload_n 0, 1) := dk_26 (dk_at dksX0_isRegister_0 0 rfl rfl)
theorem dX0_isRegister_1 : decode cX0_isRegister 1 = .ok (.ifCond .lt 13, 3) := dk_155 0 13 (dk_at dksX0_isRegister_0 1 rfl rfl)
theorem dX0_isRegister_4 : decode cX0_isRegister 4 = .ok (.iload_n 0, 1) := dk_26 (dk_at dksX0_isRegister_0 4 rfl rfl)
theorem dX0_isRegister_5 : decode cX0_isRegister 5 = .ok (.bipush 8, 2) := dk_16 8 (dk_at dksX0_isRegister_0 5 rfl rfl)
theorem dX0_isRegister_7 : decode cX0_isRegister 7 = .ok (.if_icmp .ge 7, 3) := dk_162 0 7 (dk_at dksX0_isRegister_0 7 rfl rfl)
theorem dX0_isRegister_10 : decode cX0_isRegister 10 = .ok (.iconst 1, 1) := dk_4 (dk_at dksX0_isRegister_0 10 rfl rfl)
theorem dX0_isRegister_11 : decode cX0_isRegister 11 = .ok (.goto 4, 3) := dk_167 0 4 (dk_at dksX0_isRegister_0 11 rfl rfl)
theorem dX0_isRegister_14 : decode cX0_isRegister 14 = .ok (.iconst 0, 1) := dk_3 (dk_at dksX0_isRegister_0 14 rfl rfl)
theorem dX0_isRegister_15 : decode cX0_isRegister 15 = .ok (.ireturn, 1) := dk_172 (dk_at dksX0_isRegister_0 15 rfl rfl)
abbrev cX0_load : ByteArray := prog_1_method_14_code
def yX0_load : MethodName := ⟨RX0, "load", "(II)I"⟩
def dkwX0_load_4 : List UInt8 := [180, 0, 38, 182, 0, 169, 42, 180, 0, 38, 42, 180, 0, 166, 182, 0, 172, 3, 172]
abbrev dktX0_load_4 : List UInt8 := dkwX0_load_4 ++ []
def dkwX0_load_3 : List UInt8 := [181, 0, 160, 42, 4, 181, 0, 56, 42, 28, 4, 160, 0, 7, 4, 167, 0, 4, 3, 181, 0, 166, 42]
abbrev dktX0_load_3 : List UInt8 := dkwX0_load_3 ++ dktX0_load_4
def dkwX0_load_2 : List UInt8 := [180, 0, 163, 172, 42, 180, 0, 38, 78, 42, 42, 180, 0, 42, 181, 0, 38, 42, 45, 181, 0, 42, 42, 3]
abbrev dktX0_load_2 : List UInt8 := dkwX0_load_2 ++ dktX0_load_3
def dkwX0_load_1 : List UInt8 := [180, 0, 22, 27, 182, 0, 73, 192, 0, 60, 182, 0, 156, 167, 0, 14, 78, 42, 4, 181, 0, 160, 45]
abbrev dktX0_load_1 : List UInt8 := dkwX0_load_1 ++ dktX0_load_2
def dkwX0_load_0 : List UInt8 := [42, 27, 182, 0, 69, 153, 0, 12, 28, 3, 4, 184, 0, 90, 154, 0, 5, 2, 172, 42, 180, 0, 42, 42]
abbrev dktX0_load_0 : List UInt8 := dkwX0_load_0 ++ dktX0_load_1
theorem dksX0_load_0 : cX0_load.data.toList.drop 0 = dktX0_load_0 := by decide +kernel
theorem dksX0_load_1 : cX0_load.data.toList.drop 24 = dktX0_load_1 := dk_seg dksX0_load_0 24 rfl rfl
theorem dksX0_load_2 : cX0_load.data.toList.drop 47 = dktX0_load_2 := dk_seg dksX0_load_1 23 rfl rfl
theorem dksX0_load_3 : cX0_load.data.toList.drop 71 = dktX0_load_3 := dk_seg dksX0_load_2 24 rfl rfl
theorem dksX0_load_4 : cX0_load.data.toList.drop 94 = dktX0_load_4 := dk_seg dksX0_load_3 23 rfl rfl
theorem dX0_load_0 : decode cX0_load 0 = .ok (.aload_n 0, 1) := dk_42 (dk_at dksX0_load_0 0 rfl rfl)
theorem dX0_load_1 : decode cX0_load 1 = .ok (.iload_n 1, 1) := dk_27 (dk_at dksX0_load_0 1 rfl rfl)
theorem dX0_load_2 : decode cX0_load 2 = .ok (.invokevirtual 69, 3) := dk_182 0 69 (dk_at dksX0_load_0 2 rfl rfl)
theorem dX0_load_5 : decode cX0_load 5 = .ok (.ifCond .eq 12, 3) := dk_153 0 12 (dk_at dksX0_load_0 5 rfl rfl)
theorem dX0_load_8 : decode cX0_load 8 = .ok (.iload_n 2, 1) := dk_28 (dk_at dksX0_load_0 8 rfl rfl)
theorem dX0_load_9 : decode cX0_load 9 = .ok (.iconst 0, 1) := dk_3 (dk_at dksX0_load_0 9 rfl rfl)
theorem dX0_load_10 : decode cX0_load 10 = .ok (.iconst 1, 1) := dk_4 (dk_at dksX0_load_0 10 rfl rfl)
theorem dX0_load_11 : decode cX0_load 11 = .ok (.invokestatic 90, 3) := dk_184 0 90 (dk_at dksX0_load_0 11 rfl rfl)
theorem dX0_load_14 : decode cX0_load 14 = .ok (.ifCond .ne 5, 3) := dk_154 0 5 (dk_at dksX0_load_0 14 rfl rfl)
theorem dX0_load_17 : decode cX0_load 17 = .ok (.iconst (-1), 1) := dk_2 (dk_at dksX0_load_0 17 rfl rfl)
theorem dX0_load_18 : decode cX0_load 18 = .ok (.ireturn, 1) := dk_172 (dk_at dksX0_load_0 18 rfl rfl)
theorem dX0_load_19 : decode cX0_load 19 = .ok (.aload_n 0, 1) := dk_42 (dk_at dksX0_load_0 19 rfl rfl)
theorem dX0_load_20 : decode cX0_load 20 = .ok (.getfield 42, 3) := dk_180 0 42 (dk_at dksX0_load_0 20 rfl rfl)
theorem dX0_load_23 : decode cX0_load 23 = .ok (.aload_n 0, 1) := dk_42 (dk_at dksX0_load_0 23 rfl rfl)
theorem dX0_load_24 : decode cX0_load 24 = .ok (.getfield 22, 3) := dk_180 0 22 (dk_at dksX0_load_1 0 rfl rfl)
theorem dX0_load_27 : decode cX0_load 27 = .ok (.iload_n 1, 1) := dk_27 (dk_at dksX0_load_1 3 rfl rfl)
theorem dX0_load_28 : decode cX0_load 28 = .ok (.invokevirtual 73, 3) := dk_182 0 73 (dk_at dksX0_load_1 4 rfl rfl)
theorem dX0_load_31 : decode cX0_load 31 = .ok (.checkcast 60, 3) := dk_192 0 60 (dk_at dksX0_load_1 7 rfl rfl)
theorem dX0_load_34 : decode cX0_load 34 = .ok (.invokevirtual 156, 3) := dk_182 0 156 (dk_at dksX0_load_1 10 rfl rfl)
theorem dX0_load_37 : decode cX0_load 37 = .ok (.goto 14, 3) := dk_167 0 14 (dk_at dksX0_load_1 13 rfl rfl)
theorem dX0_load_40 : decode cX0_load 40 = .ok (.astore_n 3, 1) := dk_78 (dk_at dksX0_load_1 16 rfl rfl)
theorem dX0_load_41 : decode cX0_load 41 = .ok (.aload_n 0, 1) := dk_42 (dk_at dksX0_load_1 17 rfl rfl)
theorem dX0_load_42 : decode cX0_load 42 = .ok (.iconst 1, 1) := dk_4 (dk_at dksX0_load_1 18 rfl rfl)
theorem dX0_load_43 : decode cX0_load 43 = .ok (.putfield 160, 3) := dk_181 0 160 (dk_at dksX0_load_1 19 rfl rfl)
theorem dX0_load_46 : decode cX0_load 46 = .ok (.aload_n 3, 1) := dk_45 (dk_at dksX0_load_1 22 rfl rfl)
theorem dX0_load_47 : decode cX0_load 47 = .ok (.getfield 163, 3) := dk_180 0 163 (dk_at dksX0_load_2 0 rfl rfl)
theorem dX0_load_50 : decode cX0_load 50 = .ok (.ireturn, 1) := dk_172 (dk_at dksX0_load_2 3 rfl rfl)
theorem dX0_load_51 : decode cX0_load 51 = .ok (.aload_n 0, 1) := dk_42 (dk_at dksX0_load_2 4 rfl rfl)
theorem dX0_load_52 : decode cX0_load 52 = .ok (.getfield 38, 3) := dk_180 0 38 (dk_at dksX0_load_2 5 rfl rfl)
theorem dX0_load_55 : decode cX0_load 55 = .ok (.astore_n 3, 1) := dk_78 (dk_at dksX0_load_2 8 rfl rfl)
theorem dX0_load_56 : decode cX0_load 56 = .ok (.aload_n 0, 1) := dk_42 (dk_at dksX0_load_2 9 rfl rfl)
theorem dX0_load_57 : decode cX0_load 57 = .ok (.aload_n 0, 1) := dk_42 (dk_at dksX0_load_2 10 rfl rfl)
theorem dX0_load_58 : decode cX0_load 58 = .ok (.getfield 42, 3) := dk_180 0 42 (dk_at dksX0_load_2 11 rfl rfl)
theorem dX0_load_61 : decode cX0_load 61 = .ok (.putfield 38, 3) := dk_181 0 38 (dk_at dksX0_load_2 14 rfl rfl)
theorem dX0_load_64 : decode cX0_load 64 = .ok (.aload_n 0, 1) := dk_42 (dk_at dksX0_load_2 17 rfl rfl)
theorem dX0_load_65 : decode cX0_load 65 = .ok (.aload_n 3, 1) := dk_45 (dk_at dksX0_load_2 18 rfl rfl)
theorem dX0_load_66 : decode cX0_load 66 = .ok (.putfield 42, 3) := dk_181 0 42 (dk_at dksX0_load_2 19 rfl rfl)
theorem dX0_load_69 : decode cX0_load 69 = .ok (.aload_n 0, 1) := dk_42 (dk_at dksX0_load_2 22 rfl rfl)
theorem dX0_load_70 : decode cX0_load 70 = .ok (.iconst 0, 1) := dk_3 (dk_at dksX0_load_2 23 rfl rfl)
theorem dX0_load_71 : decode cX0_load 71 = .ok (.putfield 160, 3) := dk_181 0 160 (dk_at dksX0_load_3 0 rfl rfl)
theorem dX0_load_74 : decode cX0_load 74 = .ok (.aload_n 0, 1) := dk_42 (dk_at dksX0_load_3 3 rfl rfl)
theorem dX0_load_75 : decode cX0_load 75 = .ok (.iconst 1, 1) := dk_4 (dk_at dksX0_load_3 4 rfl rfl)
theorem dX0_load_76 : decode cX0_load 76 = .ok (.putfield 56, 3) := dk_181 0 56 (dk_at dksX0_load_3 5 rfl rfl)
theorem dX0_load_79 : decode cX0_load 79 = .ok (.aload_n 0, 1) := dk_42 (dk_at dksX0_load_3 8 rfl rfl)
theorem dX0_load_80 : decode cX0_load 80 = .ok (.iload_n 2, 1) := dk_28 (dk_at dksX0_load_3 9 rfl rfl)
theorem dX0_load_81 : decode cX0_load 81 = .ok (.iconst 1, 1) := dk_4 (dk_at dksX0_load_3 10 rfl rfl)
theorem dX0_load_82 : decode cX0_load 82 = .ok (.if_icmp .ne 7, 3) := dk_160 0 7 (dk_at dksX0_load_3 11 rfl rfl)
theorem dX0_load_85 : decode cX0_load 85 = .ok (.iconst 1, 1) := dk_4 (dk_at dksX0_load_3 14 rfl rfl)
theorem dX0_load_86 : decode cX0_load 86 = .ok (.goto 4, 3) := dk_167 0 4 (dk_at dksX0_load_3 15 rfl rfl)
theorem dX0_load_89 : decode cX0_load 89 = .ok (.iconst 0, 1) := dk_3 (dk_at dksX0_load_3 18 rfl rfl)
theorem dX0_load_90 : decode cX0_load 90 = .ok (.putfield 166, 3) := dk_181 0 166 (dk_at dksX0_load_3 19 rfl rfl)
theorem dX0_load_93 : decode cX0_load 93 = .ok (.aload_n 0, 1) := dk_42 (dk_at dksX0_load_3 22 rfl rfl)
theorem dX0_load_94 : decode cX0_load 94 = .ok (.getfield 38, 3) := dk_180 0 38 (dk_at dksX0_load_4 0 rfl rfl)
theorem dX0_load_97 : decode cX0_load 97 = .ok (.invokevirtual 169, 3) := dk_182 0 169 (dk_at dksX0_load_4 3 rfl rfl)
theorem dX0_load_100 : decode cX0_load 100 = .ok (.aload_n 0, 1) := dk_42 (dk_at dksX0_load_4 6 rfl rfl)
theorem dX0_load_101 : decode cX0_load 101 = .ok (.getfield 38, 3) := dk_180 0 38 (dk_at dksX0_load_4 7 rfl rfl)
theorem dX0_load_104 : decode cX0_load 104 = .ok (.aload_n 0, 1) := dk_42 (dk_at dksX0_load_4 10 rfl rfl)
theorem dX0_load_105 : decode cX0_load 105 = .ok (.getfield 166, 3) := dk_180 0 166 (dk_at dksX0_load_4 11 rfl rfl)
theorem dX0_load_108 : decode cX0_load 108 = .ok (.invokevirtual 172, 3) := dk_182 0 172 (dk_at dksX0_load_4 14 rfl rfl)
theorem dX0_load_111 : decode cX0_load 111 = .ok (.iconst 0, 1) := dk_3 (dk_at dksX0_load_4 17 rfl rfl)
theorem dX0_load_112 : decode cX0_load 112 = .ok (.ireturn, 1) := dk_172 (dk_at dksX0_load_4 18 rfl rfl)
abbrev cX0_fault : ByteArray := prog_1_method_15_code
def yX0_fault : MethodName := ⟨RX0, "fault", "(I)I"⟩
def dkwX0_fault_2 : List UInt8 := [180, 0, 182, 167, 0, 4, 2, 172]
abbrev dktX0_fault_2 : List UInt8 := dkwX0_fault_2 ++ []
def dkwX0_fault_1 : List UInt8 := [4, 160, 0, 13, 42, 180, 0, 29, 180, 0, 179, 167, 0, 19, 27, 5, 160, 0, 13, 42, 180, 0, 29]
abbrev dktX0_fault_1 : List UInt8 := dkwX0_fault_1 ++ dktX0_fault_2
def dkwX0_fault_0 : List UInt8 := [42, 180, 0, 160, 154, 0, 5, 2, 172, 27, 154, 0, 13, 42, 180, 0, 29, 180, 0, 176, 167, 0, 34, 27]
abbrev dktX0_fault_0 : List UInt8 := dkwX0_fault_0 ++ dktX0_fault_1
theorem dksX0_fault_0 : cX0_fault.data.toList.drop 0 = dktX0_fault_0 := by decide +kernel
theorem dksX0_fault_1 : cX0_fault.data.toList.drop 24 = dktX0_fault_1 := dk_seg dksX0_fault_0 24 rfl rfl
theorem dksX0_fault_2 : cX0_fault.data.toList.drop 47 = dktX0_fault_2 := dk_seg dksX0_fault_1 23 rfl rfl
theorem dX0_fault_0 : decode cX0_fault 0 = .ok (.aload_n 0, 1) := dk_42 (dk_at dksX0_fault_0 0 rfl rfl)
theorem dX0_fault_1 : decode cX0_fault 1 = .ok (.getfield 160, 3) := dk_180 0 160 (dk_at dksX0_fault_0 1 rfl rfl)
theorem dX0_fault_4 : decode cX0_fault 4 = .ok (.ifCond .ne 5, 3) := dk_154 0 5 (dk_at dksX0_fault_0 4 rfl rfl)
theorem dX0_fault_7 : decode cX0_fault 7 = .ok (.iconst (-1), 1) := dk_2 (dk_at dksX0_fault_0 7 rfl rfl)
theorem dX0_fault_8 : decode cX0_fault 8 = .ok (.ireturn, 1) := dk_172 (dk_at dksX0_fault_0 8 rfl rfl)
theorem dX0_fault_9 : decode cX0_fault 9 = .ok (.iload_n 1, 1) := dk_27 (dk_at dksX0_fault_0 9 rfl rfl)
theorem dX0_fault_10 : decode cX0_fault 10 = .ok (.ifCond .ne 13, 3) := dk_154 0 13 (dk_at dksX0_fault_0 10 rfl rfl)
theorem dX0_fault_13 : decode cX0_fault 13 = .ok (.aload_n 0, 1) := dk_42 (dk_at dksX0_fault_0 13 rfl rfl)
theorem dX0_fault_14 : decode cX0_fault 14 = .ok (.getfield 29, 3) := dk_180 0 29 (dk_at dksX0_fault_0 14 rfl rfl)
theorem dX0_fault_17 : decode cX0_fault 17 = .ok (.getfield 176, 3) := dk_180 0 176 (dk_at dksX0_fault_0 17 rfl rfl)
theorem dX0_fault_20 : decode cX0_fault 20 = .ok (.goto 34, 3) := dk_167 0 34 (dk_at dksX0_fault_0 20 rfl rfl)
theorem dX0_fault_23 : decode cX0_fault 23 = .ok (.iload_n 1, 1) := dk_27 (dk_at dksX0_fault_0 23 rfl rfl)
theorem dX0_fault_24 : decode cX0_fault 24 = .ok (.iconst 1, 1) := dk_4 (dk_at dksX0_fault_1 0 rfl rfl)
theorem dX0_fault_25 : decode cX0_fault 25 = .ok (.if_icmp .ne 13, 3) := dk_160 0 13 (dk_at dksX0_fault_1 1 rfl rfl)
theorem dX0_fault_28 : decode cX0_fault 28 = .ok (.aload_n 0, 1) := dk_42 (dk_at dksX0_fault_1 4 rfl rfl)
theorem dX0_fault_29 : decode cX0_fault 29 = .ok (.getfield 29, 3) := dk_180 0 29 (dk_at dksX0_fault_1 5 rfl rfl)
theorem dX0_fault_32 : decode cX0_fault 32 = .ok (.getfield 179, 3) := dk_180 0 179 (dk_at dksX0_fault_1 8 rfl rfl)
theorem dX0_fault_35 : decode cX0_fault 35 = .ok (.goto 19, 3) := dk_167 0 19 (dk_at dksX0_fault_1 11 rfl rfl)
theorem dX0_fault_38 : decode cX0_fault 38 = .ok (.iload_n 1, 1) := dk_27 (dk_at dksX0_fault_1 14 rfl rfl)
theorem dX0_fault_39 : decode cX0_fault 39 = .ok (.iconst 2, 1) := dk_5 (dk_at dksX0_fault_1 15 rfl rfl)
theorem dX0_fault_40 : decode cX0_fault 40 = .ok (.if_icmp .ne 13, 3) := dk_160 0 13 (dk_at dksX0_fault_1 16 rfl rfl)
theorem dX0_fault_43 : decode cX0_fault 43 = .ok (.aload_n 0, 1) := dk_42 (dk_at dksX0_fault_1 19 rfl rfl)
theorem dX0_fault_44 : decode cX0_fault 44 = .ok (.getfield 29, 3) := dk_180 0 29 (dk_at dksX0_fault_1 20 rfl rfl)
theorem dX0_fault_47 : decode cX0_fault 47 = .ok (.getfield 182, 3) := dk_180 0 182 (dk_at dksX0_fault_2 0 rfl rfl)
theorem dX0_fault_50 : decode cX0_fault 50 = .ok (.goto 4, 3) := dk_167 0 4 (dk_at dksX0_fault_2 3 rfl rfl)
theorem dX0_fault_53 : decode cX0_fault 53 = .ok (.iconst (-1), 1) := dk_2 (dk_at dksX0_fault_2 6 rfl rfl)
theorem dX0_fault_54 : decode cX0_fault 54 = .ok (.ireturn, 1) := dk_172 (dk_at dksX0_fault_2 7 rfl rfl)
abbrev cX0_order : ByteArray := prog_1_method_16_code
def yX0_order : MethodName := ⟨RX0, "order", "(II)I"⟩
def dkwX0_order_2 : List UInt8 := [180, 0, 185, 167, 0, 10, 42, 180, 0, 38, 180, 0, 188, 27, 182, 0, 73, 192, 0, 60, 180, 0, 191, 172]
abbrev dktX0_order_2 : List UInt8 := dkwX0_order_2 ++ []
def dkwX0_order_1 : List UInt8 := [180, 0, 185, 182, 0, 52, 4, 100, 184, 0, 90, 154, 0, 5, 2, 172, 28, 154, 0, 13, 42, 180, 0, 38]
abbrev dktX0_order_1 : List UInt8 := dkwX0_order_1 ++ dktX0_order_2
def dkwX0_order_0 : List UInt8 := [42, 180, 0, 56, 153, 0, 32, 28, 3, 4, 184, 0, 90, 153, 0, 23, 27, 3, 42, 180, 0, 38]
abbrev dktX0_order_0 : List UInt8 := dkwX0_order_0 ++ dktX0_order_1
theorem dksX0_order_0 : cX0_order.data.toList.drop 0 = dktX0_order_0 := by decide +kernel
theorem dksX0_order_1 : cX0_order.data.toList.drop 22 = dktX0_order_1 := dk_seg dksX0_order_0 22 rfl rfl
theorem dksX0_order_2 : cX0_order.data.toList.drop 46 = dktX0_order_2 := dk_seg dksX0_order_1 24 rfl rfl
theorem dX0_order_0 : decode cX0_order 0 = .ok (.aload_n 0, 1) := dk_42 (dk_at dksX0_order_0 0 rfl rfl)
theorem dX0_order_1 : decode cX0_order 1 = .ok (.getfield 56, 3) := dk_180 0 56 (dk_at dksX0_order_0 1 rfl rfl)
theorem dX0_order_4 : decode cX0_order 4 = .ok (.ifCond .eq 32, 3) := dk_153 0 32 (dk_at dksX0_order_0 4 rfl rfl)
theorem dX0_order_7 : decode cX0_order 7 = .ok (.iload_n 2, 1) := dk_28 (dk_at dksX0_order_0 7 rfl rfl)
theorem dX0_order_8 : decode cX0_order 8 = .ok (.iconst 0, 1) := dk_3 (dk_at dksX0_order_0 8 rfl rfl)
theorem dX0_order_9 : decode cX0_order 9 = .ok (.iconst 1, 1) := dk_4 (dk_at dksX0_order_0 9 rfl rfl)
theorem dX0_order_10 : decode cX0_order 10 = .ok (.invokestatic 90, 3) := dk_184 0 90 (dk_at dksX0_order_0 10 rfl rfl)
theorem dX0_order_13 : decode cX0_order 13 = .ok (.ifCond .eq 23, 3) := dk_153 0 23 (dk_at dksX0_order_0 13 rfl rfl)
theorem dX0_order_16 : decode cX0_order 16 = .ok (.iload_n 1, 1) := dk_27 (dk_at dksX0_order_0 16 rfl rfl)
theorem dX0_order_17 : decode cX0_order 17 = .ok (.iconst 0, 1) := dk_3 (dk_at dksX0_order_0 17 rfl rfl)
theorem dX0_order_18 : decode cX0_order 18 = .ok (.aload_n 0, 1) := dk_42 (dk_at dksX0_order_0 18 rfl rfl)
theorem dX0_order_19 : decode cX0_order 19 = .ok (.getfield 38, 3) := dk_180 0 38 (dk_at dksX0_order_0 19 rfl rfl)
theorem dX0_order_22 : decode cX0_order 22 = .ok (.getfield 185, 3) := dk_180 0 185 (dk_at dksX0_order_1 0 rfl rfl)
theorem dX0_order_25 : decode cX0_order 25 = .ok (.invokevirtual 52, 3) := dk_182 0 52 (dk_at dksX0_order_1 3 rfl rfl)
theorem dX0_order_28 : decode cX0_order 28 = .ok (.iconst 1, 1) := dk_4 (dk_at dksX0_order_1 6 rfl rfl)
theorem dX0_order_29 : decode cX0_order 29 = .ok (.isub, 1) := dk_100 (dk_at dksX0_order_1 7 rfl rfl)
theorem dX0_order_30 : decode cX0_order 30 = .ok (.invokestatic 90, 3) := dk_184 0 90 (dk_at dksX0_order_1 8 rfl rfl)
theorem dX0_order_33 : decode cX0_order 33 = .ok (.ifCond .ne 5, 3) := dk_154 0 5 (dk_at dksX0_order_1 11 rfl rfl)
theorem dX0_order_36 : decode cX0_order 36 = .ok (.iconst (-1), 1) := dk_2 (dk_at dksX0_order_1 14 rfl rfl)
theorem dX0_order_37 : decode cX0_order 37 = .ok (.ireturn, 1) := dk_172 (dk_at dksX0_order_1 15 rfl rfl)
theorem dX0_order_38 : decode cX0_order 38 = .ok (.iload_n 2, 1) := dk_28 (dk_at dksX0_order_1 16 rfl rfl)
theorem dX0_order_39 : decode cX0_order 39 = .ok (.ifCond .ne 13, 3) := dk_154 0 13 (dk_at dksX0_order_1 17 rfl rfl)
theorem dX0_order_42 : decode cX0_order 42 = .ok (.aload_n 0, 1) := dk_42 (dk_at dksX0_order_1 20 rfl rfl)
theorem dX0_order_43 : decode cX0_order 43 = .ok (.getfield 38, 3) := dk_180 0 38 (dk_at dksX0_order_1 21 rfl rfl)
theorem dX0_order_46 : decode cX0_order 46 = .ok (.getfield 185, 3) := dk_180 0 185 (dk_at dksX0_order_2 0 rfl rfl)
theorem dX0_order_49 : decode cX0_order 49 = .ok (.goto 10, 3) := dk_167 0 10 (dk_at dksX0_order_2 3 rfl rfl)
theorem dX0_order_52 : decode cX0_order 52 = .ok (.aload_n 0, 1) := dk_42 (dk_at dksX0_order_2 6 rfl rfl)
theorem dX0_order_53 : decode cX0_order 53 = .ok (.getfield 38, 3) := dk_180 0 38 (dk_at dksX0_order_2 7 rfl rfl)
theorem dX0_order_56 : decode cX0_order 56 = .ok (.getfield 188, 3) := dk_180 0 188 (dk_at dksX0_order_2 10 rfl rfl)
theorem dX0_order_59 : decode cX0_order 59 = .ok (.iload_n 1, 1) := dk_27 (dk_at dksX0_order_2 13 rfl rfl)
theorem dX0_order_60 : decode cX0_order 60 = .ok (.invokevirtual 73, 3) := dk_182 0 73 (dk_at dksX0_order_2 14 rfl rfl)
theorem dX0_order_63 : decode cX0_order 63 = .ok (.checkcast 60, 3) := dk_192 0 60 (dk_at dksX0_order_2 17 rfl rfl)
theorem dX0_order_66 : decode cX0_order 66 = .ok (.getfield 191, 3) := dk_180 0 191 (dk_at dksX0_order_2 20 rfl rfl)
theorem dX0_order_69 : decode cX0_order 69 = .ok (.ireturn, 1) := dk_172 (dk_at dksX0_order_2 23 rfl rfl)
abbrev cX0_comes : ByteArray := prog_1_method_19_code
def yX0_comes : MethodName := ⟨RX0, "comes", "(II)I"⟩
def dkwX0_comes_1 : List UInt8 := [27, 182, 0, 73, 192, 0, 60, 28, 182, 0, 208, 182, 0, 212, 167, 0, 4, 2, 172]
abbrev dktX0_comes_1 : List UInt8 := dkwX0_comes_1 ++ []
def dkwX0_comes_0 : List UInt8 := [42, 27, 182, 0, 205, 153, 0, 36, 28, 184, 0, 87, 153, 0, 29, 42, 42, 180, 0, 38, 42, 180, 0, 22]
abbrev dktX0_comes_0 : List UInt8 := dkwX0_comes_0 ++ dktX0_comes_1
theorem dksX0_comes_0 : cX0_comes.data.toList.drop 0 = dktX0_comes_0 := by decide +kernel
theorem dksX0_comes_1 : cX0_comes.data.toList.drop 24 = dktX0_comes_1 := dk_seg dksX0_comes_0 24 rfl rfl
theorem dX0_comes_0 : decode cX0_comes 0 = .ok (.aload_n 0, 1) := dk_42 (dk_at dksX0_comes_0 0 rfl rfl)
theorem dX0_comes_1 : decode cX0_comes 1 = .ok (.iload_n 1, 1) := dk_27 (dk_at dksX0_comes_0 1 rfl rfl)
theorem dX0_comes_2 : decode cX0_comes 2 = .ok (.invokevirtual 205, 3) := dk_182 0 205 (dk_at dksX0_comes_0 2 rfl rfl)
theorem dX0_comes_5 : decode cX0_comes 5 = .ok (.ifCond .eq 36, 3) := dk_153 0 36 (dk_at dksX0_comes_0 5 rfl rfl)
theorem dX0_comes_8 : decode cX0_comes 8 = .ok (.iload_n 2, 1) := dk_28 (dk_at dksX0_comes_0 8 rfl rfl)
theorem dX0_comes_9 : decode cX0_comes 9 = .ok (.invokestatic 87, 3) := dk_184 0 87 (dk_at dksX0_comes_0 9 rfl rfl)
theorem dX0_comes_12 : decode cX0_comes 12 = .ok (.ifCond .eq 29, 3) := dk_153 0 29 (dk_at dksX0_comes_0 12 rfl rfl)
theorem dX0_comes_15 : decode cX0_comes 15 = .ok (.aload_n 0, 1) := dk_42 (dk_at dksX0_comes_0 15 rfl rfl)
theorem dX0_comes_16 : decode cX0_comes 16 = .ok (.aload_n 0, 1) := dk_42 (dk_at dksX0_comes_0 16 rfl rfl)
theorem dX0_comes_17 : decode cX0_comes 17 = .ok (.getfield 38, 3) := dk_180 0 38 (dk_at dksX0_comes_0 17 rfl rfl)
theorem dX0_comes_20 : decode cX0_comes 20 = .ok (.aload_n 0, 1) := dk_42 (dk_at dksX0_comes_0 20 rfl rfl)
theorem dX0_comes_21 : decode cX0_comes 21 = .ok (.getfield 22, 3) := dk_180 0 22 (dk_at dksX0_comes_0 21 rfl rfl)
theorem dX0_comes_24 : decode cX0_comes 24 = .ok (.iload_n 1, 1) := dk_27 (dk_at dksX0_comes_1 0 rfl rfl)
theorem dX0_comes_25 : decode cX0_comes 25 = .ok (.invokevirtual 73, 3) := dk_182 0 73 (dk_at dksX0_comes_1 1 rfl rfl)
theorem dX0_comes_28 : decode cX0_comes 28 = .ok (.checkcast 60, 3) := dk_192 0 60 (dk_at dksX0_comes_1 4 rfl rfl)
theorem dX0_comes_31 : decode cX0_comes 31 = .ok (.iload_n 2, 1) := dk_28 (dk_at dksX0_comes_1 7 rfl rfl)
theorem dX0_comes_32 : decode cX0_comes 32 = .ok (.invokevirtual 208, 3) := dk_182 0 208 (dk_at dksX0_comes_1 8 rfl rfl)
theorem dX0_comes_35 : decode cX0_comes 35 = .ok (.invokevirtual 212, 3) := dk_182 0 212 (dk_at dksX0_comes_1 11 rfl rfl)
theorem dX0_comes_38 : decode cX0_comes 38 = .ok (.goto 4, 3) := dk_167 0 4 (dk_at dksX0_comes_1 14 rfl rfl)
theorem dX0_comes_41 : decode cX0_comes 41 = .ok (.iconst (-1), 1) := dk_2 (dk_at dksX0_comes_1 17 rfl rfl)
theorem dX0_comes_42 : decode cX0_comes 42 = .ok (.ireturn, 1) := dk_172 (dk_at dksX0_comes_1 18 rfl rfl)
abbrev cX0_isLoaded : ByteArray := prog_1_method_17_code
def yX0_isLoaded : MethodName := ⟨RX0, "isLoaded", "(I)Z"⟩
def dkwX0_isLoaded_1 : List UInt8 := [182, 0, 73, 192, 0, 60, 182, 0, 194, 153, 0, 7, 4, 167, 0, 4, 3, 172]
abbrev dktX0_isLoaded_1 : List UInt8 := dkwX0_isLoaded_1 ++ []
def dkwX0_isLoaded_0 : List UInt8 := [42, 180, 0, 56, 153, 0, 36, 42, 27, 182, 0, 69, 153, 0, 28, 42, 180, 0, 38, 42, 180, 0, 22, 27]
abbrev dktX0_isLoaded_0 : List UInt8 := dkwX0_isLoaded_0 ++ dktX0_isLoaded_1
theorem dksX0_isLoaded_0 : cX0_isLoaded.data.toList.drop 0 = dktX0_isLoaded_0 := by decide +kernel
theorem dksX0_isLoaded_1 : cX0_isLoaded.data.toList.drop 24 = dktX0_isLoaded_1 := dk_seg dksX0_isLoaded_0 24 rfl rfl
theorem dX0_isLoaded_0 : decode cX0_isLoaded 0 = .ok (.aload_n 0, 1) := dk_42 (dk_at dksX0_isLoaded_0 0 rfl rfl)
theorem dX0_isLoaded_1 : decode cX0_isLoaded 1 = .ok (.getfield 56, 3) := dk_180 0 56 (dk_at dksX0_isLoaded_0 1 rfl rfl)
theorem dX0_isLoaded_4 : decode cX0_isLoaded 4 = .ok (.ifCond .eq 36, 3) := dk_153 0 36 (dk_at dksX0_isLoaded_0 4 rfl rfl)
theorem dX0_isLoaded_7 : decode cX0_isLoaded 7 = .ok (.aload_n 0, 1) := dk_42 (dk_at dksX0_isLoaded_0 7 rfl rfl)
theorem dX0_isLoaded_8 : decode cX0_isLoaded 8 = .ok (.iload_n 1, 1) := dk_27 (dk_at dksX0_isLoaded_0 8 rfl rfl)
theorem dX0_isLoaded_9 : decode cX0_isLoaded 9 = .ok (.invokevirtual 69, 3) := dk_182 0 69 (dk_at dksX0_isLoaded_0 9 rfl rfl)
theorem dX0_isLoaded_12 : decode cX0_isLoaded 12 = .ok (.ifCond .eq 28, 3) := dk_153 0 28 (dk_at dksX0_isLoaded_0 12 rfl rfl)
theorem dX0_isLoaded_15 : decode cX0_isLoaded 15 = .ok (.aload_n 0, 1) := dk_42 (dk_at dksX0_isLoaded_0 15 rfl rfl)
theorem dX0_isLoaded_16 : decode cX0_isLoaded 16 = .ok (.getfield 38, 3) := dk_180 0 38 (dk_at dksX0_isLoaded_0 16 rfl rfl)
theorem dX0_isLoaded_19 : decode cX0_isLoaded 19 = .ok (.aload_n 0, 1) := dk_42 (dk_at dksX0_isLoaded_0 19 rfl rfl)
theorem dX0_isLoaded_20 : decode cX0_isLoaded 20 = .ok (.getfield 22, 3) := dk_180 0 22 (dk_at dksX0_isLoaded_0 20 rfl rfl)
theorem dX0_isLoaded_23 : decode cX0_isLoaded 23 = .ok (.iload_n 1, 1) := dk_27 (dk_at dksX0_isLoaded_0 23 rfl rfl)
theorem dX0_isLoaded_24 : decode cX0_isLoaded 24 = .ok (.invokevirtual 73, 3) := dk_182 0 73 (dk_at dksX0_isLoaded_1 0 rfl rfl)
theorem dX0_isLoaded_27 : decode cX0_isLoaded 27 = .ok (.checkcast 60, 3) := dk_192 0 60 (dk_at dksX0_isLoaded_1 3 rfl rfl)
theorem dX0_isLoaded_30 : decode cX0_isLoaded 30 = .ok (.invokevirtual 194, 3) := dk_182 0 194 (dk_at dksX0_isLoaded_1 6 rfl rfl)
theorem dX0_isLoaded_33 : decode cX0_isLoaded 33 = .ok (.ifCond .eq 7, 3) := dk_153 0 7 (dk_at dksX0_isLoaded_1 9 rfl rfl)
theorem dX0_isLoaded_36 : decode cX0_isLoaded 36 = .ok (.iconst 1, 1) := dk_4 (dk_at dksX0_isLoaded_1 12 rfl rfl)
theorem dX0_isLoaded_37 : decode cX0_isLoaded 37 = .ok (.goto 4, 3) := dk_167 0 4 (dk_at dksX0_isLoaded_1 13 rfl rfl)
theorem dX0_isLoaded_40 : decode cX0_isLoaded 40 = .ok (.iconst 0, 1) := dk_3 (dk_at dksX0_isLoaded_1 16 rfl rfl)
theorem dX0_isLoaded_41 : decode cX0_isLoaded 41 = .ok (.ireturn, 1) := dk_172 (dk_at dksX0_isLoaded_1 17 rfl rfl)
abbrev cX0_numberOf : ByteArray := prog_1_method_18_code
def yX0_numberOf : MethodName := ⟨RX0, "numberOf", "(LLinkStation$Definition;)I"⟩
def dkwX0_numberOf_1 : List UInt8 := [167, 0, 10, 43, 180, 0, 202, 180, 0, 191, 172]
abbrev dktX0_numberOf_1 : List UInt8 := dkwX0_numberOf_1 ++ []
def dkwX0_numberOf_0 : List UInt8 := [43, 199, 0, 8, 16, 21, 167, 0, 26, 43, 42, 180, 0, 38, 180, 0, 198, 166, 0, 8, 16, 20]
abbrev dktX0_numberOf_0 : List UInt8 := dkwX0_numberOf_0 ++ dktX0_numberOf_1
theorem dksX0_numberOf_0 : cX0_numberOf.data.toList.drop 0 = dktX0_numberOf_0 := by decide +kernel
theorem dksX0_numberOf_1 : cX0_numberOf.data.toList.drop 22 = dktX0_numberOf_1 := dk_seg dksX0_numberOf_0 22 rfl rfl
theorem dX0_numberOf_0 : decode cX0_numberOf 0 = .ok (.aload_n 1, 1) := dk_43 (dk_at dksX0_numberOf_0 0 rfl rfl)
theorem dX0_numberOf_1 : decode cX0_numberOf 1 = .ok (.ifnonnull 8, 3) := dk_199 0 8 (dk_at dksX0_numberOf_0 1 rfl rfl)
theorem dX0_numberOf_4 : decode cX0_numberOf 4 = .ok (.bipush 21, 2) := dk_16 21 (dk_at dksX0_numberOf_0 4 rfl rfl)
theorem dX0_numberOf_6 : decode cX0_numberOf 6 = .ok (.goto 26, 3) := dk_167 0 26 (dk_at dksX0_numberOf_0 6 rfl rfl)
theorem dX0_numberOf_9 : decode cX0_numberOf 9 = .ok (.aload_n 1, 1) := dk_43 (dk_at dksX0_numberOf_0 9 rfl rfl)
theorem dX0_numberOf_10 : decode cX0_numberOf 10 = .ok (.aload_n 0, 1) := dk_42 (dk_at dksX0_numberOf_0 10 rfl rfl)
theorem dX0_numberOf_11 : decode cX0_numberOf 11 = .ok (.getfield 38, 3) := dk_180 0 38 (dk_at dksX0_numberOf_0 11 rfl rfl)
theorem dX0_numberOf_14 : decode cX0_numberOf 14 = .ok (.getfield 198, 3) := dk_180 0 198 (dk_at dksX0_numberOf_0 14 rfl rfl)
theorem dX0_numberOf_17 : decode cX0_numberOf 17 = .ok (.if_acmp .ne 8, 3) := dk_166 0 8 (dk_at dksX0_numberOf_0 17 rfl rfl)
theorem dX0_numberOf_20 : decode cX0_numberOf 20 = .ok (.bipush 20, 2) := dk_16 20 (dk_at dksX0_numberOf_0 20 rfl rfl)
theorem dX0_numberOf_22 : decode cX0_numberOf 22 = .ok (.goto 10, 3) := dk_167 0 10 (dk_at dksX0_numberOf_1 0 rfl rfl)
theorem dX0_numberOf_25 : decode cX0_numberOf 25 = .ok (.aload_n 1, 1) := dk_43 (dk_at dksX0_numberOf_1 3 rfl rfl)
theorem dX0_numberOf_26 : decode cX0_numberOf 26 = .ok (.getfield 202, 3) := dk_180 0 202 (dk_at dksX0_numberOf_1 4 rfl rfl)
theorem dX0_numberOf_29 : decode cX0_numberOf 29 = .ok (.getfield 191, 3) := dk_180 0 191 (dk_at dksX0_numberOf_1 7 rfl rfl)
theorem dX0_numberOf_32 : decode cX0_numberOf 32 = .ok (.ireturn, 1) := dk_172 (dk_at dksX0_numberOf_1 10 rfl rfl)
abbrev cX0_bound : ByteArray := prog_1_method_20_code
def yX0_bound : MethodName := ⟨RX0, "bound", "(II)I"⟩
def dkwX0_bound_2 : List UInt8 := [180, 0, 216, 28, 184, 0, 98, 182, 0, 219, 192, 0, 110, 182, 0, 212, 172]
abbrev dktX0_bound_2 : List UInt8 := dkwX0_bound_2 ++ []
def dkwX0_bound_1 : List UInt8 := [184, 0, 98, 182, 0, 104, 154, 0, 5, 2, 172, 42, 42, 180, 0, 22, 27, 182, 0, 73, 192, 0, 60]
abbrev dktX0_bound_1 : List UInt8 := dkwX0_bound_1 ++ dktX0_bound_2
def dkwX0_bound_0 : List UInt8 := [42, 27, 182, 0, 205, 153, 0, 27, 42, 180, 0, 22, 27, 182, 0, 73, 192, 0, 60, 180, 0, 216, 28]
abbrev dktX0_bound_0 : List UInt8 := dkwX0_bound_0 ++ dktX0_bound_1
theorem dksX0_bound_0 : cX0_bound.data.toList.drop 0 = dktX0_bound_0 := by decide +kernel
theorem dksX0_bound_1 : cX0_bound.data.toList.drop 23 = dktX0_bound_1 := dk_seg dksX0_bound_0 23 rfl rfl
theorem dksX0_bound_2 : cX0_bound.data.toList.drop 46 = dktX0_bound_2 := dk_seg dksX0_bound_1 23 rfl rfl
theorem dX0_bound_0 : decode cX0_bound 0 = .ok (.aload_n 0, 1) := dk_42 (dk_at dksX0_bound_0 0 rfl rfl)
theorem dX0_bound_1 : decode cX0_bound 1 = .ok (.iload_n 1, 1) := dk_27 (dk_at dksX0_bound_0 1 rfl rfl)
theorem dX0_bound_2 : decode cX0_bound 2 = .ok (.invokevirtual 205, 3) := dk_182 0 205 (dk_at dksX0_bound_0 2 rfl rfl)
theorem dX0_bound_5 : decode cX0_bound 5 = .ok (.ifCond .eq 27, 3) := dk_153 0 27 (dk_at dksX0_bound_0 5 rfl rfl)
theorem dX0_bound_8 : decode cX0_bound 8 = .ok (.aload_n 0, 1) := dk_42 (dk_at dksX0_bound_0 8 rfl rfl)
theorem dX0_bound_9 : decode cX0_bound 9 = .ok (.getfield 22, 3) := dk_180 0 22 (dk_at dksX0_bound_0 9 rfl rfl)
theorem dX0_bound_12 : decode cX0_bound 12 = .ok (.iload_n 1, 1) := dk_27 (dk_at dksX0_bound_0 12 rfl rfl)
theorem dX0_bound_13 : decode cX0_bound 13 = .ok (.invokevirtual 73, 3) := dk_182 0 73 (dk_at dksX0_bound_0 13 rfl rfl)
theorem dX0_bound_16 : decode cX0_bound 16 = .ok (.checkcast 60, 3) := dk_192 0 60 (dk_at dksX0_bound_0 16 rfl rfl)
theorem dX0_bound_19 : decode cX0_bound 19 = .ok (.getfield 216, 3) := dk_180 0 216 (dk_at dksX0_bound_0 19 rfl rfl)
theorem dX0_bound_22 : decode cX0_bound 22 = .ok (.iload_n 2, 1) := dk_28 (dk_at dksX0_bound_0 22 rfl rfl)
theorem dX0_bound_23 : decode cX0_bound 23 = .ok (.invokestatic 98, 3) := dk_184 0 98 (dk_at dksX0_bound_1 0 rfl rfl)
theorem dX0_bound_26 : decode cX0_bound 26 = .ok (.invokevirtual 104, 3) := dk_182 0 104 (dk_at dksX0_bound_1 3 rfl rfl)
theorem dX0_bound_29 : decode cX0_bound 29 = .ok (.ifCond .ne 5, 3) := dk_154 0 5 (dk_at dksX0_bound_1 6 rfl rfl)
theorem dX0_bound_32 : decode cX0_bound 32 = .ok (.iconst (-1), 1) := dk_2 (dk_at dksX0_bound_1 9 rfl rfl)
theorem dX0_bound_33 : decode cX0_bound 33 = .ok (.ireturn, 1) := dk_172 (dk_at dksX0_bound_1 10 rfl rfl)
theorem dX0_bound_34 : decode cX0_bound 34 = .ok (.aload_n 0, 1) := dk_42 (dk_at dksX0_bound_1 11 rfl rfl)
theorem dX0_bound_35 : decode cX0_bound 35 = .ok (.aload_n 0, 1) := dk_42 (dk_at dksX0_bound_1 12 rfl rfl)
theorem dX0_bound_36 : decode cX0_bound 36 = .ok (.getfield 22, 3) := dk_180 0 22 (dk_at dksX0_bound_1 13 rfl rfl)
theorem dX0_bound_39 : decode cX0_bound 39 = .ok (.iload_n 1, 1) := dk_27 (dk_at dksX0_bound_1 16 rfl rfl)
theorem dX0_bound_40 : decode cX0_bound 40 = .ok (.invokevirtual 73, 3) := dk_182 0 73 (dk_at dksX0_bound_1 17 rfl rfl)
theorem dX0_bound_43 : decode cX0_bound 43 = .ok (.checkcast 60, 3) := dk_192 0 60 (dk_at dksX0_bound_1 20 rfl rfl)
theorem dX0_bound_46 : decode cX0_bound 46 = .ok (.getfield 216, 3) := dk_180 0 216 (dk_at dksX0_bound_2 0 rfl rfl)
theorem dX0_bound_49 : decode cX0_bound 49 = .ok (.iload_n 2, 1) := dk_28 (dk_at dksX0_bound_2 3 rfl rfl)
theorem dX0_bound_50 : decode cX0_bound 50 = .ok (.invokestatic 98, 3) := dk_184 0 98 (dk_at dksX0_bound_2 4 rfl rfl)
theorem dX0_bound_53 : decode cX0_bound 53 = .ok (.invokevirtual 219, 3) := dk_182 0 219 (dk_at dksX0_bound_2 7 rfl rfl)
theorem dX0_bound_56 : decode cX0_bound 56 = .ok (.checkcast 110, 3) := dk_192 0 110 (dk_at dksX0_bound_2 10 rfl rfl)
theorem dX0_bound_59 : decode cX0_bound 59 = .ok (.invokevirtual 212, 3) := dk_182 0 212 (dk_at dksX0_bound_2 13 rfl rfl)
theorem dX0_bound_62 : decode cX0_bound 62 = .ok (.ireturn, 1) := dk_172 (dk_at dksX0_bound_2 16 rfl rfl)
abbrev cX0_run : ByteArray := prog_1_method_21_code
def yX0_run : MethodName := ⟨RX0, "run", "(II)I"⟩
def dkwX0_run_4 : List UInt8 := [172]
abbrev dktX0_run_4 : List UInt8 := dkwX0_run_4 ++ []
def dkwX0_run_3 : List UInt8 := [42, 180, 0, 38, 42, 180, 0, 166, 182, 0, 172, 42, 180, 0, 48, 42, 180, 0, 38, 45, 28, 182, 0, 225]
abbrev dktX0_run_3 : List UInt8 := dkwX0_run_3 ++ dktX0_run_4
def dkwX0_run_2 : List UInt8 := [182, 0, 208, 78, 45, 42, 180, 0, 38, 180, 0, 198, 165, 0, 10, 45, 180, 0, 222, 153, 0, 5, 2, 172]
abbrev dktX0_run_2 : List UInt8 := dkwX0_run_2 ++ dktX0_run_3
def dkwX0_run_1 : List UInt8 := [154, 0, 5, 2, 172, 42, 180, 0, 38, 42, 180, 0, 38, 180, 0, 185, 3, 182, 0, 73, 192, 0, 60, 27]
abbrev dktX0_run_1 : List UInt8 := dkwX0_run_1 ++ dktX0_run_2
def dkwX0_run_0 : List UInt8 := [42, 180, 0, 56, 153, 0, 21, 27, 184, 0, 87, 153, 0, 14, 28, 3, 17, 19, 136, 184, 0, 90]
abbrev dktX0_run_0 : List UInt8 := dkwX0_run_0 ++ dktX0_run_1
theorem dksX0_run_0 : cX0_run.data.toList.drop 0 = dktX0_run_0 := by decide +kernel
theorem dksX0_run_1 : cX0_run.data.toList.drop 22 = dktX0_run_1 := dk_seg dksX0_run_0 22 rfl rfl
theorem dksX0_run_2 : cX0_run.data.toList.drop 46 = dktX0_run_2 := dk_seg dksX0_run_1 24 rfl rfl
theorem dksX0_run_3 : cX0_run.data.toList.drop 70 = dktX0_run_3 := dk_seg dksX0_run_2 24 rfl rfl
theorem dksX0_run_4 : cX0_run.data.toList.drop 94 = dktX0_run_4 := dk_seg dksX0_run_3 24 rfl rfl
theorem dX0_run_0 : decode cX0_run 0 = .ok (.aload_n 0, 1) := dk_42 (dk_at dksX0_run_0 0 rfl rfl)
theorem dX0_run_1 : decode cX0_run 1 = .ok (.getfield 56, 3) := dk_180 0 56 (dk_at dksX0_run_0 1 rfl rfl)
theorem dX0_run_4 : decode cX0_run 4 = .ok (.ifCond .eq 21, 3) := dk_153 0 21 (dk_at dksX0_run_0 4 rfl rfl)
theorem dX0_run_7 : decode cX0_run 7 = .ok (.iload_n 1, 1) := dk_27 (dk_at dksX0_run_0 7 rfl rfl)
theorem dX0_run_8 : decode cX0_run 8 = .ok (.invokestatic 87, 3) := dk_184 0 87 (dk_at dksX0_run_0 8 rfl rfl)
theorem dX0_run_11 : decode cX0_run 11 = .ok (.ifCond .eq 14, 3) := dk_153 0 14 (dk_at dksX0_run_0 11 rfl rfl)
theorem dX0_run_14 : decode cX0_run 14 = .ok (.iload_n 2, 1) := dk_28 (dk_at dksX0_run_0 14 rfl rfl)
theorem dX0_run_15 : decode cX0_run 15 = .ok (.iconst 0, 1) := dk_3 (dk_at dksX0_run_0 15 rfl rfl)
theorem dX0_run_16 : decode cX0_run 16 = .ok (.sipush 5000, 3) := dk_17 19 136 (dk_at dksX0_run_0 16 rfl rfl)
theorem dX0_run_19 : decode cX0_run 19 = .ok (.invokestatic 90, 3) := dk_184 0 90 (dk_at dksX0_run_0 19 rfl rfl)
theorem dX0_run_22 : decode cX0_run 22 = .ok (.ifCond .ne 5, 3) := dk_154 0 5 (dk_at dksX0_run_1 0 rfl rfl)
theorem dX0_run_25 : decode cX0_run 25 = .ok (.iconst (-1), 1) := dk_2 (dk_at dksX0_run_1 3 rfl rfl)
theorem dX0_run_26 : decode cX0_run 26 = .ok (.ireturn, 1) := dk_172 (dk_at dksX0_run_1 4 rfl rfl)
theorem dX0_run_27 : decode cX0_run 27 = .ok (.aload_n 0, 1) := dk_42 (dk_at dksX0_run_1 5 rfl rfl)
theorem dX0_run_28 : decode cX0_run 28 = .ok (.getfield 38, 3) := dk_180 0 38 (dk_at dksX0_run_1 6 rfl rfl)
theorem dX0_run_31 : decode cX0_run 31 = .ok (.aload_n 0, 1) := dk_42 (dk_at dksX0_run_1 9 rfl rfl)
theorem dX0_run_32 : decode cX0_run 32 = .ok (.getfield 38, 3) := dk_180 0 38 (dk_at dksX0_run_1 10 rfl rfl)
theorem dX0_run_35 : decode cX0_run 35 = .ok (.getfield 185, 3) := dk_180 0 185 (dk_at dksX0_run_1 13 rfl rfl)
theorem dX0_run_38 : decode cX0_run 38 = .ok (.iconst 0, 1) := dk_3 (dk_at dksX0_run_1 16 rfl rfl)
theorem dX0_run_39 : decode cX0_run 39 = .ok (.invokevirtual 73, 3) := dk_182 0 73 (dk_at dksX0_run_1 17 rfl rfl)
theorem dX0_run_42 : decode cX0_run 42 = .ok (.checkcast 60, 3) := dk_192 0 60 (dk_at dksX0_run_1 20 rfl rfl)
theorem dX0_run_45 : decode cX0_run 45 = .ok (.iload_n 1, 1) := dk_27 (dk_at dksX0_run_1 23 rfl rfl)
theorem dX0_run_46 : decode cX0_run 46 = .ok (.invokevirtual 208, 3) := dk_182 0 208 (dk_at dksX0_run_2 0 rfl rfl)
theorem dX0_run_49 : decode cX0_run 49 = .ok (.astore_n 3, 1) := dk_78 (dk_at dksX0_run_2 3 rfl rfl)
theorem dX0_run_50 : decode cX0_run 50 = .ok (.aload_n 3, 1) := dk_45 (dk_at dksX0_run_2 4 rfl rfl)
theorem dX0_run_51 : decode cX0_run 51 = .ok (.aload_n 0, 1) := dk_42 (dk_at dksX0_run_2 5 rfl rfl)
theorem dX0_run_52 : decode cX0_run 52 = .ok (.getfield 38, 3) := dk_180 0 38 (dk_at dksX0_run_2 6 rfl rfl)
theorem dX0_run_55 : decode cX0_run 55 = .ok (.getfield 198, 3) := dk_180 0 198 (dk_at dksX0_run_2 9 rfl rfl)
theorem dX0_run_58 : decode cX0_run 58 = .ok (.if_acmp .eq 10, 3) := dk_165 0 10 (dk_at dksX0_run_2 12 rfl rfl)
theorem dX0_run_61 : decode cX0_run 61 = .ok (.aload_n 3, 1) := dk_45 (dk_at dksX0_run_2 15 rfl rfl)
theorem dX0_run_62 : decode cX0_run 62 = .ok (.getfield 222, 3) := dk_180 0 222 (dk_at dksX0_run_2 16 rfl rfl)
theorem dX0_run_65 : decode cX0_run 65 = .ok (.ifCond .eq 5, 3) := dk_153 0 5 (dk_at dksX0_run_2 19 rfl rfl)
theorem dX0_run_68 : decode cX0_run 68 = .ok (.iconst (-1), 1) := dk_2 (dk_at dksX0_run_2 22 rfl rfl)
theorem dX0_run_69 : decode cX0_run 69 = .ok (.ireturn, 1) := dk_172 (dk_at dksX0_run_2 23 rfl rfl)
theorem dX0_run_70 : decode cX0_run 70 = .ok (.aload_n 0, 1) := dk_42 (dk_at dksX0_run_3 0 rfl rfl)
theorem dX0_run_71 : decode cX0_run 71 = .ok (.getfield 38, 3) := dk_180 0 38 (dk_at dksX0_run_3 1 rfl rfl)
theorem dX0_run_74 : decode cX0_run 74 = .ok (.aload_n 0, 1) := dk_42 (dk_at dksX0_run_3 4 rfl rfl)
theorem dX0_run_75 : decode cX0_run 75 = .ok (.getfield 166, 3) := dk_180 0 166 (dk_at dksX0_run_3 5 rfl rfl)
theorem dX0_run_78 : decode cX0_run 78 = .ok (.invokevirtual 172, 3) := dk_182 0 172 (dk_at dksX0_run_3 8 rfl rfl)
theorem dX0_run_81 : decode cX0_run 81 = .ok (.aload_n 0, 1) := dk_42 (dk_at dksX0_run_3 11 rfl rfl)
theorem dX0_run_82 : decode cX0_run 82 = .ok (.getfield 48, 3) := dk_180 0 48 (dk_at dksX0_run_3 12 rfl rfl)
theorem dX0_run_85 : decode cX0_run 85 = .ok (.aload_n 0, 1) := dk_42 (dk_at dksX0_run_3 15 rfl rfl)
theorem dX0_run_86 : decode cX0_run 86 = .ok (.getfield 38, 3) := dk_180 0 38 (dk_at dksX0_run_3 16 rfl rfl)
theorem dX0_run_89 : decode cX0_run 89 = .ok (.aload_n 3, 1) := dk_45 (dk_at dksX0_run_3 19 rfl rfl)
theorem dX0_run_90 : decode cX0_run 90 = .ok (.iload_n 2, 1) := dk_28 (dk_at dksX0_run_3 20 rfl rfl)
theorem dX0_run_91 : decode cX0_run 91 = .ok (.invokevirtual 225, 3) := dk_182 0 225 (dk_at dksX0_run_3 21 rfl rfl)
theorem dX0_run_94 : decode cX0_run 94 = .ok (.ireturn, 1) := dk_172 (dk_at dksX0_run_4 0 rfl rfl)
abbrev cX0_count : ByteArray := prog_1_method_22_code
def yX0_count : MethodName := ⟨RX0, "count", "(I)I"⟩
def dkwX0_count_4 : List UInt8 := [182, 0, 52, 167, 0, 4, 3, 172, 42, 180, 0, 22, 182, 0, 52, 172, 2, 172]
abbrev dktX0_count_4 : List UInt8 := dkwX0_count_4 ++ []
def dkwX0_count_3 : List UInt8 := [42, 180, 0, 48, 180, 0, 238, 172, 42, 180, 0, 56, 153, 0, 16, 42, 180, 0, 38, 180, 0, 185]
abbrev dktX0_count_3 : List UInt8 := dkwX0_count_3 ++ dktX0_count_4
def dkwX0_count_2 : List UInt8 := [42, 180, 0, 48, 180, 0, 229, 172, 42, 180, 0, 48, 180, 0, 232, 172, 42, 180, 0, 48, 180, 0, 235, 172]
abbrev dktX0_count_2 : List UInt8 := dkwX0_count_2 ++ dktX0_count_3
def dkwX0_count_1 : List UInt8 := [170, 0, 0, 0, 0, 0, 101, 0, 0, 0, 0, 0, 0, 0, 5, 0, 0, 0, 39, 0, 0, 0, 47, 0, 0, 0, 55, 0, 0, 0, 63, 0, 0, 0, 71, 0, 0, 0, 93]
abbrev dktX0_count_1 : List UInt8 := dkwX0_count_1 ++ dktX0_count_2
def dkwX0_count_0 : List UInt8 := [27]
abbrev dktX0_count_0 : List UInt8 := dkwX0_count_0 ++ dktX0_count_1
theorem dksX0_count_0 : cX0_count.data.toList.drop 0 = dktX0_count_0 := by decide +kernel
theorem dksX0_count_1 : cX0_count.data.toList.drop 1 = dktX0_count_1 := dk_seg dksX0_count_0 1 rfl rfl
theorem dksX0_count_2 : cX0_count.data.toList.drop 40 = dktX0_count_2 := dk_seg dksX0_count_1 39 rfl rfl
theorem dksX0_count_3 : cX0_count.data.toList.drop 64 = dktX0_count_3 := dk_seg dksX0_count_2 24 rfl rfl
theorem dksX0_count_4 : cX0_count.data.toList.drop 86 = dktX0_count_4 := dk_seg dksX0_count_3 22 rfl rfl
theorem dX0_count_0 : decode cX0_count 0 = .ok (.iload_n 1, 1) := dk_27 (dk_at dksX0_count_0 0 rfl rfl)
theorem dX0_count_1 : decode cX0_count 1 = .ok (.tableswitch 101 0 5 #[39, 47, 55, 63, 71, 93], 39) := by decide +kernel
theorem dX0_count_40 : decode cX0_count 40 = .ok (.aload_n 0, 1) := dk_42 (dk_at dksX0_count_2 0 rfl rfl)
theorem dX0_count_41 : decode cX0_count 41 = .ok (.getfield 48, 3) := dk_180 0 48 (dk_at dksX0_count_2 1 rfl rfl)
theorem dX0_count_44 : decode cX0_count 44 = .ok (.getfield 229, 3) := dk_180 0 229 (dk_at dksX0_count_2 4 rfl rfl)
theorem dX0_count_47 : decode cX0_count 47 = .ok (.ireturn, 1) := dk_172 (dk_at dksX0_count_2 7 rfl rfl)
theorem dX0_count_48 : decode cX0_count 48 = .ok (.aload_n 0, 1) := dk_42 (dk_at dksX0_count_2 8 rfl rfl)
theorem dX0_count_49 : decode cX0_count 49 = .ok (.getfield 48, 3) := dk_180 0 48 (dk_at dksX0_count_2 9 rfl rfl)
theorem dX0_count_52 : decode cX0_count 52 = .ok (.getfield 232, 3) := dk_180 0 232 (dk_at dksX0_count_2 12 rfl rfl)
theorem dX0_count_55 : decode cX0_count 55 = .ok (.ireturn, 1) := dk_172 (dk_at dksX0_count_2 15 rfl rfl)
theorem dX0_count_56 : decode cX0_count 56 = .ok (.aload_n 0, 1) := dk_42 (dk_at dksX0_count_2 16 rfl rfl)
theorem dX0_count_57 : decode cX0_count 57 = .ok (.getfield 48, 3) := dk_180 0 48 (dk_at dksX0_count_2 17 rfl rfl)
theorem dX0_count_60 : decode cX0_count 60 = .ok (.getfield 235, 3) := dk_180 0 235 (dk_at dksX0_count_2 20 rfl rfl)
theorem dX0_count_63 : decode cX0_count 63 = .ok (.ireturn, 1) := dk_172 (dk_at dksX0_count_2 23 rfl rfl)
theorem dX0_count_64 : decode cX0_count 64 = .ok (.aload_n 0, 1) := dk_42 (dk_at dksX0_count_3 0 rfl rfl)
theorem dX0_count_65 : decode cX0_count 65 = .ok (.getfield 48, 3) := dk_180 0 48 (dk_at dksX0_count_3 1 rfl rfl)
theorem dX0_count_68 : decode cX0_count 68 = .ok (.getfield 238, 3) := dk_180 0 238 (dk_at dksX0_count_3 4 rfl rfl)
theorem dX0_count_71 : decode cX0_count 71 = .ok (.ireturn, 1) := dk_172 (dk_at dksX0_count_3 7 rfl rfl)
theorem dX0_count_72 : decode cX0_count 72 = .ok (.aload_n 0, 1) := dk_42 (dk_at dksX0_count_3 8 rfl rfl)
theorem dX0_count_73 : decode cX0_count 73 = .ok (.getfield 56, 3) := dk_180 0 56 (dk_at dksX0_count_3 9 rfl rfl)
theorem dX0_count_76 : decode cX0_count 76 = .ok (.ifCond .eq 16, 3) := dk_153 0 16 (dk_at dksX0_count_3 12 rfl rfl)
theorem dX0_count_79 : decode cX0_count 79 = .ok (.aload_n 0, 1) := dk_42 (dk_at dksX0_count_3 15 rfl rfl)
theorem dX0_count_80 : decode cX0_count 80 = .ok (.getfield 38, 3) := dk_180 0 38 (dk_at dksX0_count_3 16 rfl rfl)
theorem dX0_count_83 : decode cX0_count 83 = .ok (.getfield 185, 3) := dk_180 0 185 (dk_at dksX0_count_3 19 rfl rfl)
theorem dX0_count_86 : decode cX0_count 86 = .ok (.invokevirtual 52, 3) := dk_182 0 52 (dk_at dksX0_count_4 0 rfl rfl)
theorem dX0_count_89 : decode cX0_count 89 = .ok (.goto 4, 3) := dk_167 0 4 (dk_at dksX0_count_4 3 rfl rfl)
theorem dX0_count_92 : decode cX0_count 92 = .ok (.iconst 0, 1) := dk_3 (dk_at dksX0_count_4 6 rfl rfl)
theorem dX0_count_93 : decode cX0_count 93 = .ok (.ireturn, 1) := dk_172 (dk_at dksX0_count_4 7 rfl rfl)
theorem dX0_count_94 : decode cX0_count 94 = .ok (.aload_n 0, 1) := dk_42 (dk_at dksX0_count_4 8 rfl rfl)
theorem dX0_count_95 : decode cX0_count 95 = .ok (.getfield 22, 3) := dk_180 0 22 (dk_at dksX0_count_4 9 rfl rfl)
theorem dX0_count_98 : decode cX0_count 98 = .ok (.invokevirtual 52, 3) := dk_182 0 52 (dk_at dksX0_count_4 12 rfl rfl)
theorem dX0_count_101 : decode cX0_count 101 = .ok (.ireturn, 1) := dk_172 (dk_at dksX0_count_4 15 rfl rfl)
theorem dX0_count_102 : decode cX0_count 102 = .ok (.iconst (-1), 1) := dk_2 (dk_at dksX0_count_4 16 rfl rfl)
theorem dX0_count_103 : decode cX0_count 103 = .ok (.ireturn, 1) := dk_172 (dk_at dksX0_count_4 17 rfl rfl)
abbrev cX0_said : ByteArray := prog_1_method_23_code
def yX0_said : MethodName := ⟨RX0, "said", "(I)I"⟩
def dkwX0_said_1 : List UInt8 := [180, 0, 48, 180, 0, 247, 27, 46, 167, 0, 4, 3, 172]
abbrev dktX0_said_1 : List UInt8 := dkwX0_said_1 ++ []
def dkwX0_said_0 : List UInt8 := [27, 3, 42, 180, 0, 48, 180, 0, 232, 16, 60, 184, 0, 241, 4, 100, 184, 0, 90, 153, 0, 15, 42]
abbrev dktX0_said_0 : List UInt8 := dkwX0_said_0 ++ dktX0_said_1
theorem dksX0_said_0 : cX0_said.data.toList.drop 0 = dktX0_said_0 := by decide +kernel
theorem dksX0_said_1 : cX0_said.data.toList.drop 23 = dktX0_said_1 := dk_seg dksX0_said_0 23 rfl rfl
theorem dX0_said_0 : decode cX0_said 0 = .ok (.iload_n 1, 1) := dk_27 (dk_at dksX0_said_0 0 rfl rfl)
theorem dX0_said_1 : decode cX0_said 1 = .ok (.iconst 0, 1) := dk_3 (dk_at dksX0_said_0 1 rfl rfl)
theorem dX0_said_2 : decode cX0_said 2 = .ok (.aload_n 0, 1) := dk_42 (dk_at dksX0_said_0 2 rfl rfl)
theorem dX0_said_3 : decode cX0_said 3 = .ok (.getfield 48, 3) := dk_180 0 48 (dk_at dksX0_said_0 3 rfl rfl)
theorem dX0_said_6 : decode cX0_said 6 = .ok (.getfield 232, 3) := dk_180 0 232 (dk_at dksX0_said_0 6 rfl rfl)
theorem dX0_said_9 : decode cX0_said 9 = .ok (.bipush 60, 2) := dk_16 60 (dk_at dksX0_said_0 9 rfl rfl)
theorem dX0_said_11 : decode cX0_said 11 = .ok (.invokestatic 241, 3) := dk_184 0 241 (dk_at dksX0_said_0 11 rfl rfl)
theorem dX0_said_14 : decode cX0_said 14 = .ok (.iconst 1, 1) := dk_4 (dk_at dksX0_said_0 14 rfl rfl)
theorem dX0_said_15 : decode cX0_said 15 = .ok (.isub, 1) := dk_100 (dk_at dksX0_said_0 15 rfl rfl)
theorem dX0_said_16 : decode cX0_said 16 = .ok (.invokestatic 90, 3) := dk_184 0 90 (dk_at dksX0_said_0 16 rfl rfl)
theorem dX0_said_19 : decode cX0_said 19 = .ok (.ifCond .eq 15, 3) := dk_153 0 15 (dk_at dksX0_said_0 19 rfl rfl)
theorem dX0_said_22 : decode cX0_said 22 = .ok (.aload_n 0, 1) := dk_42 (dk_at dksX0_said_0 22 rfl rfl)
theorem dX0_said_23 : decode cX0_said 23 = .ok (.getfield 48, 3) := dk_180 0 48 (dk_at dksX0_said_1 0 rfl rfl)
theorem dX0_said_26 : decode cX0_said 26 = .ok (.getfield 247, 3) := dk_180 0 247 (dk_at dksX0_said_1 3 rfl rfl)
theorem dX0_said_29 : decode cX0_said 29 = .ok (.iload_n 1, 1) := dk_27 (dk_at dksX0_said_1 6 rfl rfl)
theorem dX0_said_30 : decode cX0_said 30 = .ok (.iaload, 1) := dk_46 (dk_at dksX0_said_1 7 rfl rfl)
theorem dX0_said_31 : decode cX0_said 31 = .ok (.goto 4, 3) := dk_167 0 4 (dk_at dksX0_said_1 8 rfl rfl)
theorem dX0_said_34 : decode cX0_said 34 = .ok (.iconst 0, 1) := dk_3 (dk_at dksX0_said_1 11 rfl rfl)
theorem dX0_said_35 : decode cX0_said 35 = .ok (.ireturn, 1) := dk_172 (dk_at dksX0_said_1 12 rfl rfl)
abbrev cX0_register : ByteArray := prog_1_method_24_code
def yX0_register : MethodName := ⟨RX0, "register", "(I)I"⟩
def dkwX0_register_0 : List UInt8 := [27, 184, 0, 141, 153, 0, 15, 42, 180, 0, 48, 180, 0, 251, 27, 46, 167, 0, 4, 3, 172]
abbrev dktX0_register_0 : List UInt8 := dkwX0_register_0 ++ []
theorem dksX0_register_0 : cX0_register.data.toList.drop 0 = dktX0_register_0 := by decide +kernel
theorem dX0_register_0 : decode cX0_register 0 = .ok (.iload_n 1, 1) := dk_27 (dk_at dksX0_register_0 0 rfl rfl)
theorem dX0_register_1 : decode cX0_register 1 = .ok (.invokestatic 141, 3) := dk_184 0 141 (dk_at dksX0_register_0 1 rfl rfl)
theorem dX0_register_4 : decode cX0_register 4 = .ok (.ifCond .eq 15, 3) := dk_153 0 15 (dk_at dksX0_register_0 4 rfl rfl)
theorem dX0_register_7 : decode cX0_register 7 = .ok (.aload_n 0, 1) := dk_42 (dk_at dksX0_register_0 7 rfl rfl)
theorem dX0_register_8 : decode cX0_register 8 = .ok (.getfield 48, 3) := dk_180 0 48 (dk_at dksX0_register_0 8 rfl rfl)
theorem dX0_register_11 : decode cX0_register 11 = .ok (.getfield 251, 3) := dk_180 0 251 (dk_at dksX0_register_0 11 rfl rfl)
theorem dX0_register_14 : decode cX0_register 14 = .ok (.iload_n 1, 1) := dk_27 (dk_at dksX0_register_0 14 rfl rfl)
theorem dX0_register_15 : decode cX0_register 15 = .ok (.iaload, 1) := dk_46 (dk_at dksX0_register_0 15 rfl rfl)
theorem dX0_register_16 : decode cX0_register 16 = .ok (.goto 4, 3) := dk_167 0 4 (dk_at dksX0_register_0 16 rfl rfl)
theorem dX0_register_19 : decode cX0_register 19 = .ok (.iconst 0, 1) := dk_3 (dk_at dksX0_register_0 19 rfl rfl)
theorem dX0_register_20 : decode cX0_register 20 = .ok (.ireturn, 1) := dk_172 (dk_at dksX0_register_0 20 rfl rfl)
abbrev cX0_datum : ByteArray := prog_1_method_25_code
def yX0_datum : MethodName := ⟨RX0, "datum", "(II)I"⟩
def dkwX0_datum_2 : List UInt8 := [153, 0, 10, 45, 180, 0, 254, 167, 0, 4, 2, 172]
abbrev dktX0_datum_2 : List UInt8 := dkwX0_datum_2 ++ []
def dkwX0_datum_1 : List UInt8 := [184, 0, 98, 182, 0, 219, 192, 0, 110, 167, 0, 4, 1, 78, 45, 198, 0, 17, 45, 180, 0, 222]
abbrev dktX0_datum_1 : List UInt8 := dkwX0_datum_1 ++ dktX0_datum_2
def dkwX0_datum_0 : List UInt8 := [42, 27, 182, 0, 205, 153, 0, 30, 42, 180, 0, 22, 27, 182, 0, 73, 192, 0, 60, 180, 0, 94, 28]
abbrev dktX0_datum_0 : List UInt8 := dkwX0_datum_0 ++ dktX0_datum_1
theorem dksX0_datum_0 : cX0_datum.data.toList.drop 0 = dktX0_datum_0 := by decide +kernel
theorem dksX0_datum_1 : cX0_datum.data.toList.drop 23 = dktX0_datum_1 := dk_seg dksX0_datum_0 23 rfl rfl
theorem dksX0_datum_2 : cX0_datum.data.toList.drop 45 = dktX0_datum_2 := dk_seg dksX0_datum_1 22 rfl rfl
theorem dX0_datum_0 : decode cX0_datum 0 = .ok (.aload_n 0, 1) := dk_42 (dk_at dksX0_datum_0 0 rfl rfl)
theorem dX0_datum_1 : decode cX0_datum 1 = .ok (.iload_n 1, 1) := dk_27 (dk_at dksX0_datum_0 1 rfl rfl)
theorem dX0_datum_2 : decode cX0_datum 2 = .ok (.invokevirtual 205, 3) := dk_182 0 205 (dk_at dksX0_datum_0 2 rfl rfl)
theorem dX0_datum_5 : decode cX0_datum 5 = .ok (.ifCond .eq 30, 3) := dk_153 0 30 (dk_at dksX0_datum_0 5 rfl rfl)
theorem dX0_datum_8 : decode cX0_datum 8 = .ok (.aload_n 0, 1) := dk_42 (dk_at dksX0_datum_0 8 rfl rfl)
theorem dX0_datum_9 : decode cX0_datum 9 = .ok (.getfield 22, 3) := dk_180 0 22 (dk_at dksX0_datum_0 9 rfl rfl)
theorem dX0_datum_12 : decode cX0_datum 12 = .ok (.iload_n 1, 1) := dk_27 (dk_at dksX0_datum_0 12 rfl rfl)
theorem dX0_datum_13 : decode cX0_datum 13 = .ok (.invokevirtual 73, 3) := dk_182 0 73 (dk_at dksX0_datum_0 13 rfl rfl)
theorem dX0_datum_16 : decode cX0_datum 16 = .ok (.checkcast 60, 3) := dk_192 0 60 (dk_at dksX0_datum_0 16 rfl rfl)
theorem dX0_datum_19 : decode cX0_datum 19 = .ok (.getfield 94, 3) := dk_180 0 94 (dk_at dksX0_datum_0 19 rfl rfl)
theorem dX0_datum_22 : decode cX0_datum 22 = .ok (.iload_n 2, 1) := dk_28 (dk_at dksX0_datum_0 22 rfl rfl)
theorem dX0_datum_23 : decode cX0_datum 23 = .ok (.invokestatic 98, 3) := dk_184 0 98 (dk_at dksX0_datum_1 0 rfl rfl)
theorem dX0_datum_26 : decode cX0_datum 26 = .ok (.invokevirtual 219, 3) := dk_182 0 219 (dk_at dksX0_datum_1 3 rfl rfl)
theorem dX0_datum_29 : decode cX0_datum 29 = .ok (.checkcast 110, 3) := dk_192 0 110 (dk_at dksX0_datum_1 6 rfl rfl)
theorem dX0_datum_32 : decode cX0_datum 32 = .ok (.goto 4, 3) := dk_167 0 4 (dk_at dksX0_datum_1 9 rfl rfl)
theorem dX0_datum_35 : decode cX0_datum 35 = .ok (.aconst_null, 1) := dk_1 (dk_at dksX0_datum_1 12 rfl rfl)
theorem dX0_datum_36 : decode cX0_datum 36 = .ok (.astore_n 3, 1) := dk_78 (dk_at dksX0_datum_1 13 rfl rfl)
theorem dX0_datum_37 : decode cX0_datum 37 = .ok (.aload_n 3, 1) := dk_45 (dk_at dksX0_datum_1 14 rfl rfl)
theorem dX0_datum_38 : decode cX0_datum 38 = .ok (.ifnull 17, 3) := dk_198 0 17 (dk_at dksX0_datum_1 15 rfl rfl)
theorem dX0_datum_41 : decode cX0_datum 41 = .ok (.aload_n 3, 1) := dk_45 (dk_at dksX0_datum_1 18 rfl rfl)
theorem dX0_datum_42 : decode cX0_datum 42 = .ok (.getfield 222, 3) := dk_180 0 222 (dk_at dksX0_datum_1 19 rfl rfl)
theorem dX0_datum_45 : decode cX0_datum 45 = .ok (.ifCond .eq 10, 3) := dk_153 0 10 (dk_at dksX0_datum_2 0 rfl rfl)
theorem dX0_datum_48 : decode cX0_datum 48 = .ok (.aload_n 3, 1) := dk_45 (dk_at dksX0_datum_2 3 rfl rfl)
theorem dX0_datum_49 : decode cX0_datum 49 = .ok (.getfield 254, 3) := dk_180 0 254 (dk_at dksX0_datum_2 4 rfl rfl)
theorem dX0_datum_52 : decode cX0_datum 52 = .ok (.goto 4, 3) := dk_167 0 4 (dk_at dksX0_datum_2 7 rfl rfl)
theorem dX0_datum_55 : decode cX0_datum 55 = .ok (.iconst (-1), 1) := dk_2 (dk_at dksX0_datum_2 10 rfl rfl)
theorem dX0_datum_56 : decode cX0_datum 56 = .ok (.ireturn, 1) := dk_172 (dk_at dksX0_datum_2 11 rfl rfl)
abbrev cX0_check : ByteArray := prog_1_method_26_code
def yX0_check : MethodName := ⟨RX0, "check", "()I"⟩
def dkwX0_check_6 : List UInt8 := [153, 0, 7, 4, 167, 0, 4, 3, 172]
abbrev dktX0_check_6 : List UInt8 := dkwX0_check_6 ++ []
def dkwX0_check_5 : List UInt8 := [182, 0, 208, 166, 0, 7, 4, 167, 0, 4, 3, 126, 60, 167, 255, 185, 132, 2, 1, 167, 255, 129, 27]
abbrev dktX0_check_5 : List UInt8 := dkwX0_check_5 ++ dktX0_check_6
def dkwX0_check_4 : List UInt8 := [185, 1, 23, 1, 0, 42, 180, 0, 38, 45, 25, 5, 185, 1, 26, 1, 0, 192, 0, 99, 182, 1, 29]
abbrev dktX0_check_4 : List UInt8 := dkwX0_check_4 ++ dktX0_check_5
def dkwX0_check_3 : List UInt8 := [185, 1, 17, 1, 0, 192, 1, 21, 58, 5, 27, 25, 5, 185, 1, 23, 1, 0, 198, 0, 34, 25, 5]
abbrev dktX0_check_3 : List UInt8 := dkwX0_check_3 ++ dktX0_check_4
def dkwX0_check_2 : List UInt8 := [182, 1, 1, 185, 1, 5, 1, 0, 58, 4, 25, 4, 185, 1, 11, 1, 0, 153, 0, 67, 25, 4]
abbrev dktX0_check_2 : List UInt8 := dkwX0_check_2 ++ dktX0_check_3
def dkwX0_check_1 : List UInt8 := [162, 0, 112, 42, 180, 0, 38, 180, 0, 185, 28, 182, 0, 73, 192, 0, 60, 78, 45, 180, 0, 216]
abbrev dktX0_check_1 : List UInt8 := dkwX0_check_1 ++ dktX0_check_2
def dkwX0_check_0 : List UInt8 := [4, 60, 3, 61, 42, 180, 0, 56, 153, 0, 126, 28, 42, 180, 0, 38, 180, 0, 185, 182, 0, 52]
abbrev dktX0_check_0 : List UInt8 := dkwX0_check_0 ++ dktX0_check_1
theorem dksX0_check_0 : cX0_check.data.toList.drop 0 = dktX0_check_0 := by decide +kernel
theorem dksX0_check_1 : cX0_check.data.toList.drop 22 = dktX0_check_1 := dk_seg dksX0_check_0 22 rfl rfl
theorem dksX0_check_2 : cX0_check.data.toList.drop 44 = dktX0_check_2 := dk_seg dksX0_check_1 22 rfl rfl
theorem dksX0_check_3 : cX0_check.data.toList.drop 66 = dktX0_check_3 := dk_seg dksX0_check_2 22 rfl rfl
theorem dksX0_check_4 : cX0_check.data.toList.drop 89 = dktX0_check_4 := dk_seg dksX0_check_3 23 rfl rfl
theorem dksX0_check_5 : cX0_check.data.toList.drop 112 = dktX0_check_5 := dk_seg dksX0_check_4 23 rfl rfl
theorem dksX0_check_6 : cX0_check.data.toList.drop 135 = dktX0_check_6 := dk_seg dksX0_check_5 23 rfl rfl
theorem dX0_check_0 : decode cX0_check 0 = .ok (.iconst 1, 1) := dk_4 (dk_at dksX0_check_0 0 rfl rfl)
theorem dX0_check_1 : decode cX0_check 1 = .ok (.istore_n 1, 1) := dk_60 (dk_at dksX0_check_0 1 rfl rfl)
theorem dX0_check_2 : decode cX0_check 2 = .ok (.iconst 0, 1) := dk_3 (dk_at dksX0_check_0 2 rfl rfl)
theorem dX0_check_3 : decode cX0_check 3 = .ok (.istore_n 2, 1) := dk_61 (dk_at dksX0_check_0 3 rfl rfl)
theorem dX0_check_4 : decode cX0_check 4 = .ok (.aload_n 0, 1) := dk_42 (dk_at dksX0_check_0 4 rfl rfl)
theorem dX0_check_5 : decode cX0_check 5 = .ok (.getfield 56, 3) := dk_180 0 56 (dk_at dksX0_check_0 5 rfl rfl)
theorem dX0_check_8 : decode cX0_check 8 = .ok (.ifCond .eq 126, 3) := dk_153 0 126 (dk_at dksX0_check_0 8 rfl rfl)
theorem dX0_check_11 : decode cX0_check 11 = .ok (.iload_n 2, 1) := dk_28 (dk_at dksX0_check_0 11 rfl rfl)
theorem dX0_check_12 : decode cX0_check 12 = .ok (.aload_n 0, 1) := dk_42 (dk_at dksX0_check_0 12 rfl rfl)
theorem dX0_check_13 : decode cX0_check 13 = .ok (.getfield 38, 3) := dk_180 0 38 (dk_at dksX0_check_0 13 rfl rfl)
theorem dX0_check_16 : decode cX0_check 16 = .ok (.getfield 185, 3) := dk_180 0 185 (dk_at dksX0_check_0 16 rfl rfl)
theorem dX0_check_19 : decode cX0_check 19 = .ok (.invokevirtual 52, 3) := dk_182 0 52 (dk_at dksX0_check_0 19 rfl rfl)
theorem dX0_check_22 : decode cX0_check 22 = .ok (.if_icmp .ge 112, 3) := dk_162 0 112 (dk_at dksX0_check_1 0 rfl rfl)
theorem dX0_check_25 : decode cX0_check 25 = .ok (.aload_n 0, 1) := dk_42 (dk_at dksX0_check_1 3 rfl rfl)
theorem dX0_check_26 : decode cX0_check 26 = .ok (.getfield 38, 3) := dk_180 0 38 (dk_at dksX0_check_1 4 rfl rfl)
theorem dX0_check_29 : decode cX0_check 29 = .ok (.getfield 185, 3) := dk_180 0 185 (dk_at dksX0_check_1 7 rfl rfl)
theorem dX0_check_32 : decode cX0_check 32 = .ok (.iload_n 2, 1) := dk_28 (dk_at dksX0_check_1 10 rfl rfl)
theorem dX0_check_33 : decode cX0_check 33 = .ok (.invokevirtual 73, 3) := dk_182 0 73 (dk_at dksX0_check_1 11 rfl rfl)
theorem dX0_check_36 : decode cX0_check 36 = .ok (.checkcast 60, 3) := dk_192 0 60 (dk_at dksX0_check_1 14 rfl rfl)
theorem dX0_check_39 : decode cX0_check 39 = .ok (.astore_n 3, 1) := dk_78 (dk_at dksX0_check_1 17 rfl rfl)
theorem dX0_check_40 : decode cX0_check 40 = .ok (.aload_n 3, 1) := dk_45 (dk_at dksX0_check_1 18 rfl rfl)
theorem dX0_check_41 : decode cX0_check 41 = .ok (.getfield 216, 3) := dk_180 0 216 (dk_at dksX0_check_1 19 rfl rfl)
theorem dX0_check_44 : decode cX0_check 44 = .ok (.invokevirtual 257, 3) := dk_182 1 1 (dk_at dksX0_check_2 0 rfl rfl)
theorem dX0_check_47 : decode cX0_check 47 = .ok (.invokeinterface 261 1, 5) := by decide +kernel
theorem dX0_check_52 : decode cX0_check 52 = .ok (.astore 4, 2) := dk_58 4 (dk_at dksX0_check_2 8 rfl rfl)
theorem dX0_check_54 : decode cX0_check 54 = .ok (.aload 4, 2) := dk_25 4 (dk_at dksX0_check_2 10 rfl rfl)
theorem dX0_check_56 : decode cX0_check 56 = .ok (.invokeinterface 267 1, 5) := by decide +kernel
theorem dX0_check_61 : decode cX0_check 61 = .ok (.ifCond .eq 67, 3) := dk_153 0 67 (dk_at dksX0_check_2 17 rfl rfl)
theorem dX0_check_64 : decode cX0_check 64 = .ok (.aload 4, 2) := dk_25 4 (dk_at dksX0_check_2 20 rfl rfl)
theorem dX0_check_66 : decode cX0_check 66 = .ok (.invokeinterface 273 1, 5) := by decide +kernel
theorem dX0_check_71 : decode cX0_check 71 = .ok (.checkcast 277, 3) := dk_192 1 21 (dk_at dksX0_check_3 5 rfl rfl)
theorem dX0_check_74 : decode cX0_check 74 = .ok (.astore 5, 2) := dk_58 5 (dk_at dksX0_check_3 8 rfl rfl)
theorem dX0_check_76 : decode cX0_check 76 = .ok (.iload_n 1, 1) := dk_27 (dk_at dksX0_check_3 10 rfl rfl)
theorem dX0_check_77 : decode cX0_check 77 = .ok (.aload 5, 2) := dk_25 5 (dk_at dksX0_check_3 11 rfl rfl)
theorem dX0_check_79 : decode cX0_check 79 = .ok (.invokeinterface 279 1, 5) := by decide +kernel
theorem dX0_check_84 : decode cX0_check 84 = .ok (.ifnull 34, 3) := dk_198 0 34 (dk_at dksX0_check_3 18 rfl rfl)
theorem dX0_check_87 : decode cX0_check 87 = .ok (.aload 5, 2) := dk_25 5 (dk_at dksX0_check_3 21 rfl rfl)
theorem dX0_check_89 : decode cX0_check 89 = .ok (.invokeinterface 279 1, 5) := by decide +kernel
theorem dX0_check_94 : decode cX0_check 94 = .ok (.aload_n 0, 1) := dk_42 (dk_at dksX0_check_4 5 rfl rfl)
theorem dX0_check_95 : decode cX0_check 95 = .ok (.getfield 38, 3) := dk_180 0 38 (dk_at dksX0_check_4 6 rfl rfl)
theorem dX0_check_98 : decode cX0_check 98 = .ok (.aload_n 3, 1) := dk_45 (dk_at dksX0_check_4 9 rfl rfl)
theorem dX0_check_99 : decode cX0_check 99 = .ok (.aload 5, 2) := dk_25 5 (dk_at dksX0_check_4 10 rfl rfl)
theorem dX0_check_101 : decode cX0_check 101 = .ok (.invokeinterface 282 1, 5) := by decide +kernel
theorem dX0_check_106 : decode cX0_check 106 = .ok (.checkcast 99, 3) := dk_192 0 99 (dk_at dksX0_check_4 17 rfl rfl)
theorem dX0_check_109 : decode cX0_check 109 = .ok (.invokevirtual 285, 3) := dk_182 1 29 (dk_at dksX0_check_4 20 rfl rfl)
theorem dX0_check_112 : decode cX0_check 112 = .ok (.invokevirtual 208, 3) := dk_182 0 208 (dk_at dksX0_check_5 0 rfl rfl)
theorem dX0_check_115 : decode cX0_check 115 = .ok (.if_acmp .ne 7, 3) := dk_166 0 7 (dk_at dksX0_check_5 3 rfl rfl)
theorem dX0_check_118 : decode cX0_check 118 = .ok (.iconst 1, 1) := dk_4 (dk_at dksX0_check_5 6 rfl rfl)
theorem dX0_check_119 : decode cX0_check 119 = .ok (.goto 4, 3) := dk_167 0 4 (dk_at dksX0_check_5 7 rfl rfl)
theorem dX0_check_122 : decode cX0_check 122 = .ok (.iconst 0, 1) := dk_3 (dk_at dksX0_check_5 10 rfl rfl)
theorem dX0_check_123 : decode cX0_check 123 = .ok (.iand, 1) := dk_126 (dk_at dksX0_check_5 11 rfl rfl)
theorem dX0_check_124 : decode cX0_check 124 = .ok (.istore_n 1, 1) := dk_60 (dk_at dksX0_check_5 12 rfl rfl)
theorem dX0_check_125 : decode cX0_check 125 = .ok (.goto (-71), 3) := dk_167 255 185 (dk_at dksX0_check_5 13 rfl rfl)
theorem dX0_check_128 : decode cX0_check 128 = .ok (.iinc 2 1, 3) := dk_132 2 1 (dk_at dksX0_check_5 16 rfl rfl)
theorem dX0_check_131 : decode cX0_check 131 = .ok (.goto (-127), 3) := dk_167 255 129 (dk_at dksX0_check_5 19 rfl rfl)
theorem dX0_check_134 : decode cX0_check 134 = .ok (.iload_n 1, 1) := dk_27 (dk_at dksX0_check_5 22 rfl rfl)
theorem dX0_check_135 : decode cX0_check 135 = .ok (.ifCond .eq 7, 3) := dk_153 0 7 (dk_at dksX0_check_6 0 rfl rfl)
theorem dX0_check_138 : decode cX0_check 138 = .ok (.iconst 1, 1) := dk_4 (dk_at dksX0_check_6 3 rfl rfl)
theorem dX0_check_139 : decode cX0_check 139 = .ok (.goto 4, 3) := dk_167 0 4 (dk_at dksX0_check_6 4 rfl rfl)
theorem dX0_check_142 : decode cX0_check 142 = .ok (.iconst 0, 1) := dk_3 (dk_at dksX0_check_6 7 rfl rfl)
theorem dX0_check_143 : decode cX0_check 143 = .ok (.ireturn, 1) := dk_172 (dk_at dksX0_check_6 8 rfl rfl)
theorem q48 : (Jvm.Cond.initialized "LinkStation") ∈ lw_all := lw_g (lw_at lw_m1 1 rfl) rfl
theorem q90 : (Jvm.Cond.instantiable "LinkStation" (9 : Nat)) ∈ lw_all := lw_g (lw_at lw_m1 43 rfl) rfl
theorem q92 : (Jvm.Cond.instanceMethod ({ cls := "LinkStation", name := "<init>", desc := "()V" } : Jvm.MethodName)) ∈ lw_all := lw_g (lw_at lw_m1 45 rfl) rfl
theorem q93 : (Jvm.Cond.code ({ cls := "LinkStation", name := "<init>", desc := "()V" } : Jvm.MethodName) prog_1_method_1_code (1 : Nat) (Option.none : Option Jvm.ClassFile.FieldType)) ∈ lw_all := lw_g (lw_at lw_m1 46 rfl) rfl
theorem q94 : (Jvm.Cond.methodLink "LinkStation" (1 : Nat) ({ cls := "java/lang/Object", name := "<init>", desc := "()V" } : Jvm.MethodName)) ∈ lw_all := lw_g (lw_at lw_m1 47 rfl) rfl
theorem q97 : (Jvm.Cond.methodLink "LinkStation" (7 : Nat) ({ cls := "LinkStation$Op", name := "values", desc := "()[LLinkStation$Op;" } : Jvm.MethodName)) ∈ lw_all := lw_g (lw_at lw_m1 50 rfl) rfl
theorem q110 : (Jvm.Cond.classLink "LinkStation" (19 : Nat) "java/util/ArrayList") ∈ lw_all := lw_g (lw_at lw_m1 63 rfl) rfl
theorem q112 : (Jvm.Cond.methodLink "LinkStation" (21 : Nat) ({ cls := "java/util/ArrayList", name := "<init>", desc := "()V" } : Jvm.MethodName)) ∈ lw_all := lw_g (lw_at lw_m1 65 rfl) rfl
theorem q139 : (Jvm.Cond.classLink "LinkStation" (26 : Nat) "LinkStation$Fault") ∈ lw_all := lw_g (lw_at lw_m1 92 rfl) rfl
theorem q179 : (Jvm.Cond.methodLink "LinkStation" (28 : Nat) ({ cls := "LinkStation$Fault", name := "<init>", desc := "()V" } : Jvm.MethodName)) ∈ lw_all := lw_g (lw_at lw_m1 132 rfl) rfl
theorem q192 : (Jvm.Cond.fieldLinkNest "LinkStation" (163 : Nat) "LinkStation$Fault" "code" "I" "LinkStation") ∈ lw_tbl := lw_at lw_m1 145 rfl
theorem q194 : (Jvm.Cond.fieldLinkNest "LinkStation" (176 : Nat) "LinkStation$Fault" "module" "I" "LinkStation") ∈ lw_tbl := lw_at lw_m1 147 rfl
theorem q196 : (Jvm.Cond.fieldLinkNest "LinkStation" (179 : Nat) "LinkStation$Fault" "step" "I" "LinkStation") ∈ lw_tbl := lw_at lw_m1 149 rfl
theorem q198 : (Jvm.Cond.fieldLinkNest "LinkStation" (182 : Nat) "LinkStation$Fault" "name" "I" "LinkStation") ∈ lw_tbl := lw_at lw_m1 151 rfl
theorem q220 : (Jvm.Cond.classLink "LinkStation" (33 : Nat) "LinkStation$Scope") ∈ lw_all := lw_g (lw_at lw_m1 173 rfl) rfl
theorem q222 : (Jvm.Cond.methodLink "LinkStation" (35 : Nat) ({ cls := "LinkStation$Scope", name := "<init>", desc := "(LLinkStation$Fault;)V" } : Jvm.MethodName)) ∈ lw_all := lw_g (lw_at lw_m1 175 rfl) rfl
theorem q234 : (Jvm.Cond.fieldLinkNest "LinkStation" (202 : Nat) "LinkStation$Definition" "module" "LLinkStation$Module;" "LinkStation") ∈ lw_tbl := lw_at lw_m1 187 rfl
theorem q237 : (Jvm.Cond.fieldLinkNest "LinkStation" (222 : Nat) "LinkStation$Definition" "isDatum" "Z" "LinkStation") ∈ lw_tbl := lw_at lw_m1 190 rfl
theorem q244 : (Jvm.Cond.fieldLinkNest "LinkStation" (254 : Nat) "LinkStation$Definition" "now" "I" "LinkStation") ∈ lw_tbl := lw_at lw_m1 197 rfl
theorem q323 : (Jvm.Cond.fieldLinkNest "LinkStation" (198 : Nat) "LinkStation$Scope" "nothing" "LLinkStation$Definition;" "LinkStation") ∈ lw_tbl := lw_at lw_m2 36 rfl
theorem q325 : (Jvm.Cond.fieldLinkNest "LinkStation" (185 : Nat) "LinkStation$Scope" "order" "Ljava/util/ArrayList;" "LinkStation") ∈ lw_tbl := lw_at lw_m2 38 rfl
theorem q328 : (Jvm.Cond.fieldLinkNest "LinkStation" (188 : Nat) "LinkStation$Scope" "begun" "Ljava/util/ArrayList;" "LinkStation") ∈ lw_tbl := lw_at lw_m2 41 rfl
theorem q344 : (Jvm.Cond.classLink "LinkStation" (45 : Nat) "LinkStation$Machine") ∈ lw_all := lw_g (lw_at lw_m2 57 rfl) rfl
theorem q346 : (Jvm.Cond.methodLinkNest "LinkStation" (47 : Nat) ({ cls := "LinkStation$Machine", name := "<init>", desc := "()V" } : Jvm.MethodName) "LinkStation") ∈ lw_tbl := lw_at lw_m2 59 rfl
theorem q373 : (Jvm.Cond.fieldLinkNest "LinkStation" (251 : Nat) "LinkStation$Machine" "registers" "[I" "LinkStation") ∈ lw_tbl := lw_at lw_m2 86 rfl
theorem q377 : (Jvm.Cond.fieldLinkNest "LinkStation" (247 : Nat) "LinkStation$Machine" "says" "[I" "LinkStation") ∈ lw_tbl := lw_at lw_m2 90 rfl
theorem q380 : (Jvm.Cond.fieldLinkNest "LinkStation" (238 : Nat) "LinkStation$Machine" "deepest" "I" "LinkStation") ∈ lw_tbl := lw_at lw_m2 93 rfl
theorem q382 : (Jvm.Cond.fieldLinkNest "LinkStation" (232 : Nat) "LinkStation$Machine" "said" "I" "LinkStation") ∈ lw_tbl := lw_at lw_m2 95 rfl
theorem q384 : (Jvm.Cond.fieldLinkNest "LinkStation" (229 : Nat) "LinkStation$Machine" "made" "I" "LinkStation") ∈ lw_tbl := lw_at lw_m2 97 rfl
theorem q387 : (Jvm.Cond.fieldLinkNest "LinkStation" (235 : Nat) "LinkStation$Machine" "bound" "I" "LinkStation") ∈ lw_tbl := lw_at lw_m2 100 rfl
theorem q420 : (Jvm.Cond.fieldLink "LinkStation" (13 : Nat) "LinkStation" "ops" "[LLinkStation$Op;") ∈ lw_all := lw_g (lw_at lw_m2 133 rfl) rfl
theorem q421 : (Jvm.Cond.fieldLink "LinkStation" (22 : Nat) "LinkStation" "modules" "Ljava/util/ArrayList;") ∈ lw_all := lw_g (lw_at lw_m2 134 rfl) rfl
theorem q422 : (Jvm.Cond.fieldLink "LinkStation" (29 : Nat) "LinkStation" "fault" "LLinkStation$Fault;") ∈ lw_all := lw_g (lw_at lw_m2 135 rfl) rfl
theorem q423 : (Jvm.Cond.fieldLink "LinkStation" (38 : Nat) "LinkStation" "scope" "LLinkStation$Scope;") ∈ lw_all := lw_g (lw_at lw_m2 136 rfl) rfl
theorem q424 : (Jvm.Cond.fieldLink "LinkStation" (42 : Nat) "LinkStation" "spare" "LLinkStation$Scope;") ∈ lw_all := lw_g (lw_at lw_m2 137 rfl) rfl
theorem q425 : (Jvm.Cond.fieldLink "LinkStation" (48 : Nat) "LinkStation" "machine" "LLinkStation$Machine;") ∈ lw_all := lw_g (lw_at lw_m2 138 rfl) rfl
theorem q426 : (Jvm.Cond.fieldLink "LinkStation" (56 : Nat) "LinkStation" "loaded" "Z") ∈ lw_all := lw_g (lw_at lw_m2 139 rfl) rfl
theorem q427 : (Jvm.Cond.fieldLink "LinkStation" (166 : Nat) "LinkStation" "isLazy" "Z") ∈ lw_all := lw_g (lw_at lw_m2 140 rfl) rfl
theorem q428 : (Jvm.Cond.fieldLink "LinkStation" (160 : Nat) "LinkStation" "isFaulty" "Z") ∈ lw_all := lw_g (lw_at lw_m2 141 rfl) rfl
theorem q429 : (Jvm.Cond.laysFinal "LinkStation" "LinkStation" "ops" "[LLinkStation$Op;") ∈ lw_all := lw_g (lw_at lw_m2 142 rfl) rfl
theorem q430 : (Jvm.Cond.soleField "LinkStation" "ops") ∈ lw_all := lw_g (lw_at lw_m2 143 rfl) rfl
theorem q431 : (Jvm.Cond.laysFinal "LinkStation" "LinkStation" "modules" "Ljava/util/ArrayList;") ∈ lw_all := lw_g (lw_at lw_m2 144 rfl) rfl
theorem q432 : (Jvm.Cond.soleField "LinkStation" "modules") ∈ lw_all := lw_g (lw_at lw_m2 145 rfl) rfl
theorem q433 : (Jvm.Cond.laysFinal "LinkStation" "LinkStation" "fault" "LLinkStation$Fault;") ∈ lw_all := lw_g (lw_at lw_m2 146 rfl) rfl
theorem q434 : (Jvm.Cond.soleField "LinkStation" "fault") ∈ lw_all := lw_g (lw_at lw_m2 147 rfl) rfl
theorem q435 : (Jvm.Cond.lays "LinkStation" "LinkStation" "scope" "LLinkStation$Scope;") ∈ lw_all := lw_g (lw_at lw_m2 148 rfl) rfl
theorem q436 : (Jvm.Cond.soleField "LinkStation" "scope") ∈ lw_all := lw_g (lw_at lw_m2 149 rfl) rfl
theorem q437 : (Jvm.Cond.lays "LinkStation" "LinkStation" "spare" "LLinkStation$Scope;") ∈ lw_all := lw_g (lw_at lw_m2 150 rfl) rfl
theorem q438 : (Jvm.Cond.soleField "LinkStation" "spare") ∈ lw_all := lw_g (lw_at lw_m2 151 rfl) rfl
theorem q439 : (Jvm.Cond.laysFinal "LinkStation" "LinkStation" "machine" "LLinkStation$Machine;") ∈ lw_all := lw_g (lw_at lw_m2 152 rfl) rfl
theorem q440 : (Jvm.Cond.soleField "LinkStation" "machine") ∈ lw_all := lw_g (lw_at lw_m2 153 rfl) rfl
theorem q441 : (Jvm.Cond.lays "LinkStation" "LinkStation" "loaded" "Z") ∈ lw_all := lw_g (lw_at lw_m2 154 rfl) rfl
theorem q442 : (Jvm.Cond.soleField "LinkStation" "loaded") ∈ lw_all := lw_g (lw_at lw_m2 155 rfl) rfl
theorem q443 : (Jvm.Cond.lays "LinkStation" "LinkStation" "isLazy" "Z") ∈ lw_all := lw_g (lw_at lw_m2 156 rfl) rfl
theorem q444 : (Jvm.Cond.soleField "LinkStation" "isLazy") ∈ lw_all := lw_g (lw_at lw_m2 157 rfl) rfl
theorem q445 : (Jvm.Cond.lays "LinkStation" "LinkStation" "isFaulty" "Z") ∈ lw_all := lw_g (lw_at lw_m2 158 rfl) rfl
theorem q446 : (Jvm.Cond.soleField "LinkStation" "isFaulty") ∈ lw_all := lw_g (lw_at lw_m2 159 rfl) rfl
theorem q447 : (Jvm.Cond.superclass "LinkStation" "java/lang/Object") ∈ lw_all := lw_g (lw_at lw_m2 160 rfl) rfl
theorem q449 : (Jvm.Cond.instanceMethod ({ cls := "LinkStation", name := "module", desc := "()I" } : Jvm.MethodName)) ∈ lw_all := lw_g (lw_at lw_m2 162 rfl) rfl
theorem q450 : (Jvm.Cond.selects "LinkStation" ({ cls := "LinkStation", name := "module", desc := "()I" } : Jvm.MethodName) ({ cls := "LinkStation", name := "module", desc := "()I" } : Jvm.MethodName)) ∈ lw_all := lw_g (lw_at lw_m2 163 rfl) rfl
theorem q451 : (Jvm.Cond.code ({ cls := "LinkStation", name := "module", desc := "()I" } : Jvm.MethodName) prog_1_method_6_code (1 : Nat) (Option.some Jvm.ClassFile.FieldType.int)) ∈ lw_all := lw_g (lw_at lw_m2 164 rfl) rfl
theorem q452 : (Jvm.Cond.methodLink "LinkStation" (52 : Nat) ({ cls := "java/util/ArrayList", name := "size", desc := "()I" } : Jvm.MethodName)) ∈ lw_all := lw_g (lw_at lw_m2 165 rfl) rfl
theorem q456 : (Jvm.Cond.classLink "LinkStation" (60 : Nat) "LinkStation$Module") ∈ lw_all := lw_g (lw_at lw_m2 169 rfl) rfl
theorem q458 : (Jvm.Cond.methodLink "LinkStation" (62 : Nat) ({ cls := "LinkStation$Module", name := "<init>", desc := "(I)V" } : Jvm.MethodName)) ∈ lw_all := lw_g (lw_at lw_m2 171 rfl) rfl
theorem q472 : (Jvm.Cond.fieldLinkNest "LinkStation" (191 : Nat) "LinkStation$Module" "number" "I" "LinkStation") ∈ lw_tbl := lw_at lw_m2 185 rfl
theorem q475 : (Jvm.Cond.fieldLinkNest "LinkStation" (77 : Nat) "LinkStation$Module" "needs" "Ljava/util/ArrayList;" "LinkStation") ∈ lw_tbl := lw_at lw_m2 188 rfl
theorem q478 : (Jvm.Cond.fieldLinkNest "LinkStation" (94 : Nat) "LinkStation$Module" "definitions" "Ljava/util/HashMap;" "LinkStation") ∈ lw_tbl := lw_at lw_m2 191 rfl
theorem q480 : (Jvm.Cond.fieldLinkNest "LinkStation" (119 : Nat) "LinkStation$Module" "starts" "[LLinkStation$Definition;" "LinkStation") ∈ lw_tbl := lw_at lw_m2 193 rfl
theorem q485 : (Jvm.Cond.fieldLinkNest "LinkStation" (148 : Nat) "LinkStation$Module" "steps" "Ljava/util/ArrayList;" "LinkStation") ∈ lw_tbl := lw_at lw_m2 198 rfl
theorem q488 : (Jvm.Cond.fieldLinkNest "LinkStation" (123 : Nat) "LinkStation$Module" "optional" "Ljava/util/BitSet;" "LinkStation") ∈ lw_tbl := lw_at lw_m2 201 rfl
theorem q492 : (Jvm.Cond.fieldLinkNest "LinkStation" (134 : Nat) "LinkStation$Module" "beginner" "I" "LinkStation") ∈ lw_tbl := lw_at lw_m2 205 rfl
theorem q498 : (Jvm.Cond.fieldLinkNest "LinkStation" (216 : Nat) "LinkStation$Module" "slots" "Ljava/util/HashMap;" "LinkStation") ∈ lw_tbl := lw_at lw_m2 211 rfl
theorem q518 : (Jvm.Cond.methodLink "LinkStation" (65 : Nat) ({ cls := "java/util/ArrayList", name := "add", desc := "(Ljava/lang/Object;)Z" } : Jvm.MethodName)) ∈ lw_all := lw_g (lw_at lw_m2 231 rfl) rfl
theorem q550 : (Jvm.Cond.selects "LinkStation" ({ cls := "java/lang/Object", name := "getClass", desc := "()Ljava/lang/Class;" } : Jvm.MethodName) ({ cls := "java/lang/Object", name := "getClass", desc := "()Ljava/lang/Class;" } : Jvm.MethodName)) ∈ lw_all := lw_g (lw_at lw_m3 23 rfl) rfl
theorem q589 : (Jvm.Cond.instanceMethod ({ cls := "LinkStation", name := "need", desc := "(II)I" } : Jvm.MethodName)) ∈ lw_all := lw_g (lw_at lw_m3 62 rfl) rfl
theorem q590 : (Jvm.Cond.selects "LinkStation" ({ cls := "LinkStation", name := "need", desc := "(II)I" } : Jvm.MethodName) ({ cls := "LinkStation", name := "need", desc := "(II)I" } : Jvm.MethodName)) ∈ lw_all := lw_g (lw_at lw_m3 63 rfl) rfl
theorem q591 : (Jvm.Cond.code ({ cls := "LinkStation", name := "need", desc := "(II)I" } : Jvm.MethodName) prog_1_method_7_code (4 : Nat) (Option.some Jvm.ClassFile.FieldType.int)) ∈ lw_all := lw_g (lw_at lw_m3 64 rfl) rfl
theorem q592 : (Jvm.Cond.methodLink "LinkStation" (69 : Nat) ({ cls := "LinkStation", name := "isModule", desc := "(I)Z" } : Jvm.MethodName)) ∈ lw_all := lw_g (lw_at lw_m3 65 rfl) rfl
theorem q593 : (Jvm.Cond.privateMethod ({ cls := "LinkStation", name := "isModule", desc := "(I)Z" } : Jvm.MethodName)) ∈ lw_tbl := lw_at lw_m3 66 rfl
theorem q594 : (Jvm.Cond.instanceMethod ({ cls := "LinkStation", name := "isModule", desc := "(I)Z" } : Jvm.MethodName)) ∈ lw_all := lw_g (lw_at lw_m3 67 rfl) rfl
theorem q595 : (Jvm.Cond.code ({ cls := "LinkStation", name := "isModule", desc := "(I)Z" } : Jvm.MethodName) prog_1_method_3_code (2 : Nat) (Option.some Jvm.ClassFile.FieldType.boolean)) ∈ lw_all := lw_g (lw_at lw_m3 68 rfl) rfl
theorem q596 : (Jvm.Cond.methodLink "LinkStation" (73 : Nat) ({ cls := "java/util/ArrayList", name := "get", desc := "(I)Ljava/lang/Object;" } : Jvm.MethodName)) ∈ lw_all := lw_g (lw_at lw_m3 69 rfl) rfl
theorem q610 : (Jvm.Cond.methodLink "LinkStation" (80 : Nat) ({ cls := "java/util/ArrayList", name := "contains", desc := "(Ljava/lang/Object;)Z" } : Jvm.MethodName)) ∈ lw_all := lw_g (lw_at lw_m3 83 rfl) rfl
theorem q626 : (Jvm.Cond.selects "LinkStation" ({ cls := "java/lang/Object", name := "equals", desc := "(Ljava/lang/Object;)Z" } : Jvm.MethodName) ({ cls := "java/lang/Object", name := "equals", desc := "(Ljava/lang/Object;)Z" } : Jvm.MethodName)) ∈ lw_all := lw_g (lw_at lw_m3 99 rfl) rfl
theorem q647 : (Jvm.Cond.methodLink "LinkStation" (83 : Nat) ({ cls := "LinkStation", name := "changed", desc := "(I)I" } : Jvm.MethodName)) ∈ lw_all := lw_g (lw_at lw_m3 120 rfl) rfl
theorem q648 : (Jvm.Cond.privateMethod ({ cls := "LinkStation", name := "changed", desc := "(I)I" } : Jvm.MethodName)) ∈ lw_tbl := lw_at lw_m3 121 rfl
theorem q649 : (Jvm.Cond.instanceMethod ({ cls := "LinkStation", name := "changed", desc := "(I)I" } : Jvm.MethodName)) ∈ lw_all := lw_g (lw_at lw_m3 122 rfl) rfl
theorem q650 : (Jvm.Cond.code ({ cls := "LinkStation", name := "changed", desc := "(I)I" } : Jvm.MethodName) prog_1_method_5_code (2 : Nat) (Option.some Jvm.ClassFile.FieldType.int)) ∈ lw_all := lw_g (lw_at lw_m3 123 rfl) rfl
theorem q652 : (Jvm.Cond.instanceMethod ({ cls := "LinkStation", name := "define", desc := "(IIIII)I" } : Jvm.MethodName)) ∈ lw_all := lw_g (lw_at lw_m3 125 rfl) rfl
theorem q653 : (Jvm.Cond.selects "LinkStation" ({ cls := "LinkStation", name := "define", desc := "(IIIII)I" } : Jvm.MethodName) ({ cls := "LinkStation", name := "define", desc := "(IIIII)I" } : Jvm.MethodName)) ∈ lw_all := lw_g (lw_at lw_m3 126 rfl) rfl
theorem q654 : (Jvm.Cond.code ({ cls := "LinkStation", name := "define", desc := "(IIIII)I" } : Jvm.MethodName) prog_1_method_8_code (9 : Nat) (Option.some Jvm.ClassFile.FieldType.int)) ∈ lw_all := lw_g (lw_at lw_m3 127 rfl) rfl
theorem q655 : (Jvm.Cond.methodLink "LinkStation" (87 : Nat) ({ cls := "LinkStation", name := "isName", desc := "(I)Z" } : Jvm.MethodName)) ∈ lw_all := lw_g (lw_at lw_m3 128 rfl) rfl
theorem q656 : (Jvm.Cond.static ({ cls := "LinkStation", name := "isName", desc := "(I)Z" } : Jvm.MethodName)) ∈ lw_all := lw_g (lw_at lw_m3 129 rfl) rfl
theorem q657 : (Jvm.Cond.code ({ cls := "LinkStation", name := "isName", desc := "(I)Z" } : Jvm.MethodName) prog_1_method_4_code (1 : Nat) (Option.some Jvm.ClassFile.FieldType.boolean)) ∈ lw_all := lw_g (lw_at lw_m3 130 rfl) rfl
theorem q658 : (Jvm.Cond.methodLink "LinkStation" (90 : Nat) ({ cls := "LinkStation", name := "within", desc := "(III)Z" } : Jvm.MethodName)) ∈ lw_all := lw_g (lw_at lw_m3 131 rfl) rfl
theorem q659 : (Jvm.Cond.static ({ cls := "LinkStation", name := "within", desc := "(III)Z" } : Jvm.MethodName)) ∈ lw_all := lw_g (lw_at lw_m3 132 rfl) rfl
theorem q660 : (Jvm.Cond.code ({ cls := "LinkStation", name := "within", desc := "(III)Z" } : Jvm.MethodName) prog_1_method_2_code (3 : Nat) (Option.some Jvm.ClassFile.FieldType.boolean)) ∈ lw_all := lw_g (lw_at lw_m3 133 rfl) rfl
theorem q661 : (Jvm.Cond.methodLink "LinkStation" (98 : Nat) ({ cls := "java/lang/Integer", name := "valueOf", desc := "(I)Ljava/lang/Integer;" } : Jvm.MethodName)) ∈ lw_all := lw_g (lw_at lw_m3 134 rfl) rfl
theorem q680 : (Jvm.Cond.methodLink "LinkStation" (104 : Nat) ({ cls := "java/util/HashMap", name := "containsKey", desc := "(Ljava/lang/Object;)Z" } : Jvm.MethodName)) ∈ lw_all := lw_g (lw_at lw_m3 153 rfl) rfl
theorem q695 : (Jvm.Cond.selects "LinkStation" ({ cls := "java/lang/Object", name := "hashCode", desc := "()I" } : Jvm.MethodName) ({ cls := "java/lang/Object", name := "hashCode", desc := "()I" } : Jvm.MethodName)) ∈ lw_all := lw_g (lw_at lw_m3 168 rfl) rfl
theorem q775 : (Jvm.Cond.methodLink "LinkStation" (109 : Nat) ({ cls := "java/util/HashMap", name := "size", desc := "()I" } : Jvm.MethodName)) ∈ lw_all := lw_g (lw_at lw_m4 8 rfl) rfl
theorem q779 : (Jvm.Cond.classLink "LinkStation" (110 : Nat) "LinkStation$Definition") ∈ lw_all := lw_g (lw_at lw_m4 12 rfl) rfl
theorem q780 : (Jvm.Cond.methodLink "LinkStation" (112 : Nat) ({ cls := "LinkStation$Definition", name := "<init>", desc := "(LLinkStation$Module;ZII)V" } : Jvm.MethodName)) ∈ lw_all := lw_g (lw_at lw_m4 13 rfl) rfl
theorem q781 : (Jvm.Cond.methodLink "LinkStation" (115 : Nat) ({ cls := "java/util/HashMap", name := "put", desc := "(Ljava/lang/Object;Ljava/lang/Object;)Ljava/lang/Object;" } : Jvm.MethodName)) ∈ lw_all := lw_g (lw_at lw_m4 14 rfl) rfl
theorem q924 : (Jvm.Cond.instanceMethod ({ cls := "LinkStation", name := "optional", desc := "(II)I" } : Jvm.MethodName)) ∈ lw_all := lw_g (lw_at lw_m4 157 rfl) rfl
theorem q925 : (Jvm.Cond.selects "LinkStation" ({ cls := "LinkStation", name := "optional", desc := "(II)I" } : Jvm.MethodName) ({ cls := "LinkStation", name := "optional", desc := "(II)I" } : Jvm.MethodName)) ∈ lw_all := lw_g (lw_at lw_m4 158 rfl) rfl
theorem q926 : (Jvm.Cond.code ({ cls := "LinkStation", name := "optional", desc := "(II)I" } : Jvm.MethodName) prog_1_method_9_code (3 : Nat) (Option.some Jvm.ClassFile.FieldType.int)) ∈ lw_all := lw_g (lw_at lw_m4 159 rfl) rfl
theorem q927 : (Jvm.Cond.methodLink "LinkStation" (127 : Nat) ({ cls := "java/util/BitSet", name := "get", desc := "(I)Z" } : Jvm.MethodName)) ∈ lw_all := lw_g (lw_at lw_m4 160 rfl) rfl
theorem q937 : (Jvm.Cond.methodLink "LinkStation" (131 : Nat) ({ cls := "java/util/BitSet", name := "set", desc := "(I)V" } : Jvm.MethodName)) ∈ lw_all := lw_g (lw_at lw_m4 170 rfl) rfl
theorem q959 : (Jvm.Cond.instanceMethod ({ cls := "LinkStation", name := "beginner", desc := "(II)I" } : Jvm.MethodName)) ∈ lw_all := lw_g (lw_at lw_m4 192 rfl) rfl
theorem q960 : (Jvm.Cond.selects "LinkStation" ({ cls := "LinkStation", name := "beginner", desc := "(II)I" } : Jvm.MethodName) ({ cls := "LinkStation", name := "beginner", desc := "(II)I" } : Jvm.MethodName)) ∈ lw_all := lw_g (lw_at lw_m4 193 rfl) rfl
theorem q961 : (Jvm.Cond.code ({ cls := "LinkStation", name := "beginner", desc := "(II)I" } : Jvm.MethodName) prog_1_method_10_code (3 : Nat) (Option.some Jvm.ClassFile.FieldType.int)) ∈ lw_all := lw_g (lw_at lw_m4 194 rfl) rfl
theorem q963 : (Jvm.Cond.instanceMethod ({ cls := "LinkStation", name := "put", desc := "(IIIII)I" } : Jvm.MethodName)) ∈ lw_all := lw_g (lw_at lw_m4 196 rfl) rfl
theorem q964 : (Jvm.Cond.selects "LinkStation" ({ cls := "LinkStation", name := "put", desc := "(IIIII)I" } : Jvm.MethodName) ({ cls := "LinkStation", name := "put", desc := "(IIIII)I" } : Jvm.MethodName)) ∈ lw_all := lw_g (lw_at lw_m4 197 rfl) rfl
theorem q965 : (Jvm.Cond.code ({ cls := "LinkStation", name := "put", desc := "(IIIII)I" } : Jvm.MethodName) prog_1_method_13_code (6 : Nat) (Option.some Jvm.ClassFile.FieldType.int)) ∈ lw_all := lw_g (lw_at lw_m4 198 rfl) rfl
theorem q966 : (Jvm.Cond.methodLink "LinkStation" (144 : Nat) ({ cls := "LinkStation", name := "mayBe", desc := "(LLinkStation$Op;III)Z" } : Jvm.MethodName)) ∈ lw_all := lw_g (lw_at lw_m4 199 rfl) rfl
theorem q967 : (Jvm.Cond.static ({ cls := "LinkStation", name := "mayBe", desc := "(LLinkStation$Op;III)Z" } : Jvm.MethodName)) ∈ lw_all := lw_g (lw_at lw_m4 200 rfl) rfl
theorem q968 : (Jvm.Cond.code ({ cls := "LinkStation", name := "mayBe", desc := "(LLinkStation$Op;III)Z" } : Jvm.MethodName) prog_1_method_12_code (4 : Nat) (Option.some Jvm.ClassFile.FieldType.boolean)) ∈ lw_all := lw_g (lw_at lw_m4 201 rfl) rfl
theorem q969 : (Jvm.Cond.methodLink "LinkStation" (138 : Nat) ({ cls := "LinkStation$Op", name := "ordinal", desc := "()I" } : Jvm.MethodName)) ∈ lw_all := lw_g (lw_at lw_m4 202 rfl) rfl
theorem q975 : (Jvm.Cond.methodLink "LinkStation" (141 : Nat) ({ cls := "LinkStation", name := "isRegister", desc := "(I)Z" } : Jvm.MethodName)) ∈ lw_all := lw_g (lw_at lw_m4 208 rfl) rfl
theorem q976 : (Jvm.Cond.static ({ cls := "LinkStation", name := "isRegister", desc := "(I)Z" } : Jvm.MethodName)) ∈ lw_all := lw_g (lw_at lw_m4 209 rfl) rfl
theorem q977 : (Jvm.Cond.code ({ cls := "LinkStation", name := "isRegister", desc := "(I)Z" } : Jvm.MethodName) prog_1_method_11_code (1 : Nat) (Option.some Jvm.ClassFile.FieldType.boolean)) ∈ lw_all := lw_g (lw_at lw_m4 210 rfl) rfl
theorem q978 : (Jvm.Cond.classLink "LinkStation" (151 : Nat) "LinkStation$Step") ∈ lw_all := lw_g (lw_at lw_m4 211 rfl) rfl
theorem q980 : (Jvm.Cond.methodLink "LinkStation" (153 : Nat) ({ cls := "LinkStation$Step", name := "<init>", desc := "(LLinkStation$Op;III)V" } : Jvm.MethodName)) ∈ lw_all := lw_g (lw_at lw_m4 213 rfl) rfl
theorem q998 : (Jvm.Cond.instanceMethod ({ cls := "LinkStation", name := "load", desc := "(II)I" } : Jvm.MethodName)) ∈ lw_all := lw_g (lw_at lw_m4 231 rfl) rfl
theorem q999 : (Jvm.Cond.selects "LinkStation" ({ cls := "LinkStation", name := "load", desc := "(II)I" } : Jvm.MethodName) ({ cls := "LinkStation", name := "load", desc := "(II)I" } : Jvm.MethodName)) ∈ lw_all := lw_g (lw_at lw_m4 232 rfl) rfl
theorem q1000 : (Jvm.Cond.codeWith ({ cls := "LinkStation", name := "load", desc := "(II)I" } : Jvm.MethodName) prog_1_method_14_code (4 : Nat) (Option.some Jvm.ClassFile.FieldType.int) [((19 : Nat), (37 : Nat), (40 : Nat), (26 : Nat))]) ∈ lw_all := lw_g (lw_at lw_m4 233 rfl) rfl
theorem q1001 : (Jvm.Cond.methodLink "LinkStation" (156 : Nat) ({ cls := "LinkStation$Scope", name := "load", desc := "(LLinkStation$Module;)V" } : Jvm.MethodName)) ∈ lw_all := lw_g (lw_at lw_m4 234 rfl) rfl
theorem q1308 : (Jvm.Cond.methodLink "LinkStation" (169 : Nat) ({ cls := "LinkStation$Scope", name := "place", desc := "()V" } : Jvm.MethodName)) ∈ lw_all := lw_g (lw_at lw_m6 61 rfl) rfl
theorem q1318 : (Jvm.Cond.methodLink "LinkStation" (172 : Nat) ({ cls := "LinkStation$Scope", name := "begin", desc := "(Z)V" } : Jvm.MethodName)) ∈ lw_all := lw_g (lw_at lw_m6 71 rfl) rfl
theorem q1408 : (Jvm.Cond.instanceMethod ({ cls := "LinkStation", name := "fault", desc := "(I)I" } : Jvm.MethodName)) ∈ lw_all := lw_g (lw_at lw_m6 161 rfl) rfl
theorem q1409 : (Jvm.Cond.selects "LinkStation" ({ cls := "LinkStation", name := "fault", desc := "(I)I" } : Jvm.MethodName) ({ cls := "LinkStation", name := "fault", desc := "(I)I" } : Jvm.MethodName)) ∈ lw_all := lw_g (lw_at lw_m6 162 rfl) rfl
theorem q1410 : (Jvm.Cond.code ({ cls := "LinkStation", name := "fault", desc := "(I)I" } : Jvm.MethodName) prog_1_method_15_code (2 : Nat) (Option.some Jvm.ClassFile.FieldType.int)) ∈ lw_all := lw_g (lw_at lw_m6 163 rfl) rfl
theorem q1412 : (Jvm.Cond.instanceMethod ({ cls := "LinkStation", name := "order", desc := "(II)I" } : Jvm.MethodName)) ∈ lw_all := lw_g (lw_at lw_m6 165 rfl) rfl
theorem q1413 : (Jvm.Cond.selects "LinkStation" ({ cls := "LinkStation", name := "order", desc := "(II)I" } : Jvm.MethodName) ({ cls := "LinkStation", name := "order", desc := "(II)I" } : Jvm.MethodName)) ∈ lw_all := lw_g (lw_at lw_m6 166 rfl) rfl
theorem q1414 : (Jvm.Cond.code ({ cls := "LinkStation", name := "order", desc := "(II)I" } : Jvm.MethodName) prog_1_method_16_code (3 : Nat) (Option.some Jvm.ClassFile.FieldType.int)) ∈ lw_all := lw_g (lw_at lw_m6 167 rfl) rfl
theorem q1416 : (Jvm.Cond.instanceMethod ({ cls := "LinkStation", name := "comes", desc := "(II)I" } : Jvm.MethodName)) ∈ lw_all := lw_g (lw_at lw_m6 169 rfl) rfl
theorem q1417 : (Jvm.Cond.selects "LinkStation" ({ cls := "LinkStation", name := "comes", desc := "(II)I" } : Jvm.MethodName) ({ cls := "LinkStation", name := "comes", desc := "(II)I" } : Jvm.MethodName)) ∈ lw_all := lw_g (lw_at lw_m6 170 rfl) rfl
theorem q1418 : (Jvm.Cond.code ({ cls := "LinkStation", name := "comes", desc := "(II)I" } : Jvm.MethodName) prog_1_method_19_code (3 : Nat) (Option.some Jvm.ClassFile.FieldType.int)) ∈ lw_all := lw_g (lw_at lw_m6 171 rfl) rfl
theorem q1419 : (Jvm.Cond.methodLink "LinkStation" (205 : Nat) ({ cls := "LinkStation", name := "isLoaded", desc := "(I)Z" } : Jvm.MethodName)) ∈ lw_all := lw_g (lw_at lw_m6 172 rfl) rfl
theorem q1420 : (Jvm.Cond.privateMethod ({ cls := "LinkStation", name := "isLoaded", desc := "(I)Z" } : Jvm.MethodName)) ∈ lw_tbl := lw_at lw_m6 173 rfl
theorem q1421 : (Jvm.Cond.instanceMethod ({ cls := "LinkStation", name := "isLoaded", desc := "(I)Z" } : Jvm.MethodName)) ∈ lw_all := lw_g (lw_at lw_m6 174 rfl) rfl
theorem q1422 : (Jvm.Cond.code ({ cls := "LinkStation", name := "isLoaded", desc := "(I)Z" } : Jvm.MethodName) prog_1_method_17_code (2 : Nat) (Option.some Jvm.ClassFile.FieldType.boolean)) ∈ lw_all := lw_g (lw_at lw_m6 175 rfl) rfl
theorem q1423 : (Jvm.Cond.methodLink "LinkStation" (194 : Nat) ({ cls := "LinkStation$Scope", name := "has", desc := "(LLinkStation$Module;)Z" } : Jvm.MethodName)) ∈ lw_all := lw_g (lw_at lw_m6 176 rfl) rfl
theorem q1428 : (Jvm.Cond.methodLink "LinkStation" (208 : Nat) ({ cls := "LinkStation$Scope", name := "find", desc := "(LLinkStation$Module;I)LLinkStation$Definition;" } : Jvm.MethodName)) ∈ lw_all := lw_g (lw_at lw_m6 181 rfl) rfl
theorem q1429 : (Jvm.Cond.methodLink "LinkStation" (212 : Nat) ({ cls := "LinkStation", name := "numberOf", desc := "(LLinkStation$Definition;)I" } : Jvm.MethodName)) ∈ lw_all := lw_g (lw_at lw_m6 182 rfl) rfl
theorem q1430 : (Jvm.Cond.privateMethod ({ cls := "LinkStation", name := "numberOf", desc := "(LLinkStation$Definition;)I" } : Jvm.MethodName)) ∈ lw_tbl := lw_at lw_m6 183 rfl
theorem q1431 : (Jvm.Cond.instanceMethod ({ cls := "LinkStation", name := "numberOf", desc := "(LLinkStation$Definition;)I" } : Jvm.MethodName)) ∈ lw_all := lw_g (lw_at lw_m6 184 rfl) rfl
theorem q1432 : (Jvm.Cond.code ({ cls := "LinkStation", name := "numberOf", desc := "(LLinkStation$Definition;)I" } : Jvm.MethodName) prog_1_method_18_code (2 : Nat) (Option.some Jvm.ClassFile.FieldType.int)) ∈ lw_all := lw_g (lw_at lw_m6 185 rfl) rfl
theorem q1434 : (Jvm.Cond.instanceMethod ({ cls := "LinkStation", name := "bound", desc := "(II)I" } : Jvm.MethodName)) ∈ lw_all := lw_g (lw_at lw_m6 187 rfl) rfl
theorem q1435 : (Jvm.Cond.selects "LinkStation" ({ cls := "LinkStation", name := "bound", desc := "(II)I" } : Jvm.MethodName) ({ cls := "LinkStation", name := "bound", desc := "(II)I" } : Jvm.MethodName)) ∈ lw_all := lw_g (lw_at lw_m6 188 rfl) rfl
theorem q1436 : (Jvm.Cond.code ({ cls := "LinkStation", name := "bound", desc := "(II)I" } : Jvm.MethodName) prog_1_method_20_code (3 : Nat) (Option.some Jvm.ClassFile.FieldType.int)) ∈ lw_all := lw_g (lw_at lw_m6 189 rfl) rfl
theorem q1437 : (Jvm.Cond.methodLink "LinkStation" (219 : Nat) ({ cls := "java/util/HashMap", name := "get", desc := "(Ljava/lang/Object;)Ljava/lang/Object;" } : Jvm.MethodName)) ∈ lw_all := lw_g (lw_at lw_m6 190 rfl) rfl
theorem q1439 : (Jvm.Cond.instanceMethod ({ cls := "LinkStation", name := "run", desc := "(II)I" } : Jvm.MethodName)) ∈ lw_all := lw_g (lw_at lw_m6 192 rfl) rfl
theorem q1440 : (Jvm.Cond.selects "LinkStation" ({ cls := "LinkStation", name := "run", desc := "(II)I" } : Jvm.MethodName) ({ cls := "LinkStation", name := "run", desc := "(II)I" } : Jvm.MethodName)) ∈ lw_all := lw_g (lw_at lw_m6 193 rfl) rfl
theorem q1441 : (Jvm.Cond.code ({ cls := "LinkStation", name := "run", desc := "(II)I" } : Jvm.MethodName) prog_1_method_21_code (4 : Nat) (Option.some Jvm.ClassFile.FieldType.int)) ∈ lw_all := lw_g (lw_at lw_m6 194 rfl) rfl
theorem q1442 : (Jvm.Cond.methodLink "LinkStation" (225 : Nat) ({ cls := "LinkStation$Machine", name := "run", desc := "(LLinkStation$Scope;LLinkStation$Definition;I)I" } : Jvm.MethodName)) ∈ lw_all := lw_g (lw_at lw_m6 195 rfl) rfl
theorem q1523 : (Jvm.Cond.instanceMethod ({ cls := "LinkStation", name := "count", desc := "(I)I" } : Jvm.MethodName)) ∈ lw_all := lw_g (lw_at lw_m7 36 rfl) rfl
theorem q1524 : (Jvm.Cond.selects "LinkStation" ({ cls := "LinkStation", name := "count", desc := "(I)I" } : Jvm.MethodName) ({ cls := "LinkStation", name := "count", desc := "(I)I" } : Jvm.MethodName)) ∈ lw_all := lw_g (lw_at lw_m7 37 rfl) rfl
theorem q1525 : (Jvm.Cond.code ({ cls := "LinkStation", name := "count", desc := "(I)I" } : Jvm.MethodName) prog_1_method_22_code (2 : Nat) (Option.some Jvm.ClassFile.FieldType.int)) ∈ lw_all := lw_g (lw_at lw_m7 38 rfl) rfl
theorem q1527 : (Jvm.Cond.instanceMethod ({ cls := "LinkStation", name := "said", desc := "(I)I" } : Jvm.MethodName)) ∈ lw_all := lw_g (lw_at lw_m7 40 rfl) rfl
theorem q1528 : (Jvm.Cond.selects "LinkStation" ({ cls := "LinkStation", name := "said", desc := "(I)I" } : Jvm.MethodName) ({ cls := "LinkStation", name := "said", desc := "(I)I" } : Jvm.MethodName)) ∈ lw_all := lw_g (lw_at lw_m7 41 rfl) rfl
theorem q1529 : (Jvm.Cond.code ({ cls := "LinkStation", name := "said", desc := "(I)I" } : Jvm.MethodName) prog_1_method_23_code (2 : Nat) (Option.some Jvm.ClassFile.FieldType.int)) ∈ lw_all := lw_g (lw_at lw_m7 42 rfl) rfl
theorem q1530 : (Jvm.Cond.methodLink "LinkStation" (241 : Nat) ({ cls := "java/lang/Math", name := "min", desc := "(II)I" } : Jvm.MethodName)) ∈ lw_all := lw_g (lw_at lw_m7 43 rfl) rfl
theorem q1532 : (Jvm.Cond.instanceMethod ({ cls := "LinkStation", name := "register", desc := "(I)I" } : Jvm.MethodName)) ∈ lw_all := lw_g (lw_at lw_m7 45 rfl) rfl
theorem q1533 : (Jvm.Cond.selects "LinkStation" ({ cls := "LinkStation", name := "register", desc := "(I)I" } : Jvm.MethodName) ({ cls := "LinkStation", name := "register", desc := "(I)I" } : Jvm.MethodName)) ∈ lw_all := lw_g (lw_at lw_m7 46 rfl) rfl
theorem q1534 : (Jvm.Cond.code ({ cls := "LinkStation", name := "register", desc := "(I)I" } : Jvm.MethodName) prog_1_method_24_code (2 : Nat) (Option.some Jvm.ClassFile.FieldType.int)) ∈ lw_all := lw_g (lw_at lw_m7 47 rfl) rfl
theorem q1536 : (Jvm.Cond.instanceMethod ({ cls := "LinkStation", name := "datum", desc := "(II)I" } : Jvm.MethodName)) ∈ lw_all := lw_g (lw_at lw_m7 49 rfl) rfl
theorem q1537 : (Jvm.Cond.selects "LinkStation" ({ cls := "LinkStation", name := "datum", desc := "(II)I" } : Jvm.MethodName) ({ cls := "LinkStation", name := "datum", desc := "(II)I" } : Jvm.MethodName)) ∈ lw_all := lw_g (lw_at lw_m7 50 rfl) rfl
theorem q1538 : (Jvm.Cond.code ({ cls := "LinkStation", name := "datum", desc := "(II)I" } : Jvm.MethodName) prog_1_method_25_code (4 : Nat) (Option.some Jvm.ClassFile.FieldType.int)) ∈ lw_all := lw_g (lw_at lw_m7 51 rfl) rfl
theorem q1540 : (Jvm.Cond.instanceMethod ({ cls := "LinkStation", name := "check", desc := "()I" } : Jvm.MethodName)) ∈ lw_all := lw_g (lw_at lw_m7 53 rfl) rfl
theorem q1541 : (Jvm.Cond.selects "LinkStation" ({ cls := "LinkStation", name := "check", desc := "()I" } : Jvm.MethodName) ({ cls := "LinkStation", name := "check", desc := "()I" } : Jvm.MethodName)) ∈ lw_all := lw_g (lw_at lw_m7 54 rfl) rfl
theorem q1542 : (Jvm.Cond.code ({ cls := "LinkStation", name := "check", desc := "()I" } : Jvm.MethodName) prog_1_method_26_code (6 : Nat) (Option.some Jvm.ClassFile.FieldType.int)) ∈ lw_all := lw_g (lw_at lw_m7 55 rfl) rfl
theorem q1543 : (Jvm.Cond.methodLink "LinkStation" (257 : Nat) ({ cls := "java/util/HashMap", name := "entrySet", desc := "()Ljava/util/Set;" } : Jvm.MethodName)) ∈ lw_all := lw_g (lw_at lw_m7 56 rfl) rfl
theorem q1544 : (Jvm.Cond.interfaceEntry "LinkStation" (261 : Nat)) ∈ lw_tbl := lw_at lw_m7 57 rfl
theorem q1545 : (Jvm.Cond.methodLink "LinkStation" (261 : Nat) ({ cls := "java/util/Set", name := "iterator", desc := "()Ljava/util/Iterator;" } : Jvm.MethodName)) ∈ lw_all := lw_g (lw_at lw_m7 58 rfl) rfl
theorem q1546 : (Jvm.Cond.interfaceEntry "LinkStation" (267 : Nat)) ∈ lw_tbl := lw_at lw_m7 59 rfl
theorem q1547 : (Jvm.Cond.methodLink "LinkStation" (267 : Nat) ({ cls := "java/util/Iterator", name := "hasNext", desc := "()Z" } : Jvm.MethodName)) ∈ lw_all := lw_g (lw_at lw_m7 60 rfl) rfl
theorem q1548 : (Jvm.Cond.interfaceEntry "LinkStation" (273 : Nat)) ∈ lw_tbl := lw_at lw_m7 61 rfl
theorem q1549 : (Jvm.Cond.methodLink "LinkStation" (273 : Nat) ({ cls := "java/util/Iterator", name := "next", desc := "()Ljava/lang/Object;" } : Jvm.MethodName)) ∈ lw_all := lw_g (lw_at lw_m7 62 rfl) rfl
theorem q1550 : (Jvm.Cond.classLink "LinkStation" (277 : Nat) "java/util/Map$Entry") ∈ lw_all := lw_g (lw_at lw_m7 63 rfl) rfl
theorem q1551 : (Jvm.Cond.interfaceEntry "LinkStation" (279 : Nat)) ∈ lw_tbl := lw_at lw_m7 64 rfl
theorem q1552 : (Jvm.Cond.methodLink "LinkStation" (279 : Nat) ({ cls := "java/util/Map$Entry", name := "getValue", desc := "()Ljava/lang/Object;" } : Jvm.MethodName)) ∈ lw_all := lw_g (lw_at lw_m7 65 rfl) rfl
theorem q1553 : (Jvm.Cond.interfaceEntry "LinkStation" (282 : Nat)) ∈ lw_tbl := lw_at lw_m7 66 rfl
theorem q1554 : (Jvm.Cond.methodLink "LinkStation" (282 : Nat) ({ cls := "java/util/Map$Entry", name := "getKey", desc := "()Ljava/lang/Object;" } : Jvm.MethodName)) ∈ lw_all := lw_g (lw_at lw_m7 67 rfl) rfl
theorem q1555 : (Jvm.Cond.classLink "LinkStation" (99 : Nat) "java/lang/Integer") ∈ lw_all := lw_g (lw_at lw_m7 68 rfl) rfl
theorem q1556 : (Jvm.Cond.methodLink "LinkStation" (285 : Nat) ({ cls := "java/lang/Integer", name := "intValue", desc := "()I" } : Jvm.MethodName)) ∈ lw_all := lw_g (lw_at lw_m7 69 rfl) rfl
theorem q1837 : (Jvm.Cond.castable "LinkStation" "java/lang/Object") ∈ lw_tbl := lw_at lw_m8 110 rfl
theorem in_X0 : ∀ w ∈ wsX00, w ∈ lw_all := lw_in wsX00 [429, 431, 433, 435, 437, 439, 441, 443, 445] (by decide +kernel) (by decide +kernel)
/-! LinkStation$Op -/
set_option maxRecDepth 100000
def RX1 : String := "LinkStation$Op"
abbrev cX1_values : ByteArray := prog_7_method_1_code
def yX1_values : MethodName := ⟨RX1, "values", "()[LLinkStation$Op;"⟩
def dkwX1_values_0 : List UInt8 := [178, 0, 49, 182, 0, 53, 192, 0, 54, 176]
abbrev dktX1_values_0 : List UInt8 := dkwX1_values_0 ++ []
theorem dksX1_values_0 : cX1_values.data.toList.drop 0 = dktX1_values_0 := by decide +kernel
theorem dX1_values_0 : decode cX1_values 0 = .ok (.getstatic 49, 3) := dk_178 0 49 (dk_at dksX1_values_0 0 rfl rfl)
theorem dX1_values_3 : decode cX1_values 3 = .ok (.invokevirtual 53, 3) := dk_182 0 53 (dk_at dksX1_values_0 3 rfl rfl)
theorem dX1_values_6 : decode cX1_values 6 = .ok (.checkcast 54, 3) := dk_192 0 54 (dk_at dksX1_values_0 6 rfl rfl)
theorem dX1_values_9 : decode cX1_values 9 = .ok (.areturn, 1) := dk_176 (dk_at dksX1_values_0 9 rfl rfl)
abbrev cX1_takesDatum : ByteArray := prog_7_method_5_code
def yX1_takesDatum : MethodName := ⟨RX1, "takesDatum", "()Z"⟩
def dkwX1_takesDatum_0 : List UInt8 := [42, 178, 0, 28, 165, 0, 10, 42, 178, 0, 31, 166, 0, 7, 4, 167, 0, 4, 3, 172]
abbrev dktX1_takesDatum_0 : List UInt8 := dkwX1_takesDatum_0 ++ []
theorem dksX1_takesDatum_0 : cX1_takesDatum.data.toList.drop 0 = dktX1_takesDatum_0 := by decide +kernel
theorem dX1_takesDatum_0 : decode cX1_takesDatum 0 = .ok (.aload_n 0, 1) := dk_42 (dk_at dksX1_takesDatum_0 0 rfl rfl)
theorem dX1_takesDatum_1 : decode cX1_takesDatum 1 = .ok (.getstatic 28, 3) := dk_178 0 28 (dk_at dksX1_takesDatum_0 1 rfl rfl)
theorem dX1_takesDatum_4 : decode cX1_takesDatum 4 = .ok (.if_acmp .eq 10, 3) := dk_165 0 10 (dk_at dksX1_takesDatum_0 4 rfl rfl)
theorem dX1_takesDatum_7 : decode cX1_takesDatum 7 = .ok (.aload_n 0, 1) := dk_42 (dk_at dksX1_takesDatum_0 7 rfl rfl)
theorem dX1_takesDatum_8 : decode cX1_takesDatum 8 = .ok (.getstatic 31, 3) := dk_178 0 31 (dk_at dksX1_takesDatum_0 8 rfl rfl)
theorem dX1_takesDatum_11 : decode cX1_takesDatum 11 = .ok (.if_acmp .ne 7, 3) := dk_166 0 7 (dk_at dksX1_takesDatum_0 11 rfl rfl)
theorem dX1_takesDatum_14 : decode cX1_takesDatum 14 = .ok (.iconst 1, 1) := dk_4 (dk_at dksX1_takesDatum_0 14 rfl rfl)
theorem dX1_takesDatum_15 : decode cX1_takesDatum 15 = .ok (.goto 4, 3) := dk_167 0 4 (dk_at dksX1_takesDatum_0 15 rfl rfl)
theorem dX1_takesDatum_18 : decode cX1_takesDatum 18 = .ok (.iconst 0, 1) := dk_3 (dk_at dksX1_takesDatum_0 18 rfl rfl)
theorem dX1_takesDatum_19 : decode cX1_takesDatum 19 = .ok (.ireturn, 1) := dk_172 (dk_at dksX1_takesDatum_0 19 rfl rfl)
theorem q50 : (Jvm.Cond.initialized "LinkStation$Op") ∈ lw_all := lw_g (lw_at lw_m1 3 rfl) rfl
theorem q98 : (Jvm.Cond.static ({ cls := "LinkStation$Op", name := "values", desc := "()[LLinkStation$Op;" } : Jvm.MethodName)) ∈ lw_all := lw_g (lw_at lw_m1 51 rfl) rfl
theorem q99 : (Jvm.Cond.code ({ cls := "LinkStation$Op", name := "values", desc := "()[LLinkStation$Op;" } : Jvm.MethodName) prog_7_method_1_code (0 : Nat) (Option.some (Jvm.ClassFile.FieldType.array (Jvm.ClassFile.FieldType.object "LinkStation$Op")))) ∈ lw_all := lw_g (lw_at lw_m1 52 rfl) rfl
theorem q100 : (Jvm.Cond.fieldLink "LinkStation$Op" (49 : Nat) "LinkStation$Op" "$VALUES" "[LLinkStation$Op;") ∈ lw_all := lw_g (lw_at lw_m1 53 rfl) rfl
theorem q101 : (Jvm.Cond.laysStatic "LinkStation$Op" "$VALUES" "[LLinkStation$Op;") ∈ lw_tbl := lw_at lw_m1 54 rfl
theorem q102 : (Jvm.Cond.methodLink "LinkStation$Op" (53 : Nat) ({ cls := "[LLinkStation$Op;", name := "clone", desc := "()Ljava/lang/Object;" } : Jvm.MethodName)) ∈ lw_all := lw_g (lw_at lw_m1 55 rfl) rfl
theorem q109 : (Jvm.Cond.classLink "LinkStation$Op" (54 : Nat) "[LLinkStation$Op;") ∈ lw_all := lw_g (lw_at lw_m1 62 rfl) rfl
theorem q556 : (Jvm.Cond.selects "LinkStation$Op" ({ cls := "java/lang/Object", name := "getClass", desc := "()Ljava/lang/Class;" } : Jvm.MethodName) ({ cls := "java/lang/Object", name := "getClass", desc := "()Ljava/lang/Class;" } : Jvm.MethodName)) ∈ lw_all := lw_g (lw_at lw_m3 29 rfl) rfl
theorem q632 : (Jvm.Cond.selects "LinkStation$Op" ({ cls := "java/lang/Object", name := "equals", desc := "(Ljava/lang/Object;)Z" } : Jvm.MethodName) ({ cls := "java/lang/Enum", name := "equals", desc := "(Ljava/lang/Object;)Z" } : Jvm.MethodName)) ∈ lw_all := lw_g (lw_at lw_m3 105 rfl) rfl
theorem q701 : (Jvm.Cond.selects "LinkStation$Op" ({ cls := "java/lang/Object", name := "hashCode", desc := "()I" } : Jvm.MethodName) ({ cls := "java/lang/Enum", name := "hashCode", desc := "()I" } : Jvm.MethodName)) ∈ lw_all := lw_g (lw_at lw_m3 174 rfl) rfl
theorem q744 : (Jvm.Cond.castable "LinkStation$Op" "java/lang/Comparable") ∈ lw_tbl := lw_at lw_m3 217 rfl
theorem q745 : (Jvm.Cond.selects "LinkStation$Op" ({ cls := "java/lang/Comparable", name := "compareTo", desc := "(Ljava/lang/Object;)I" } : Jvm.MethodName) ({ cls := "java/lang/Enum", name := "compareTo", desc := "(Ljava/lang/Object;)I" } : Jvm.MethodName)) ∈ lw_all := lw_g (lw_at lw_m3 218 rfl) rfl
theorem q746 : (Jvm.Cond.unhidden "LinkStation$Op" "compareTo" "(Ljava/lang/Object;)I") ∈ lw_tbl := lw_at lw_m3 219 rfl
theorem q754 : (Jvm.Cond.selects "LinkStation$Op" ({ cls := "java/lang/Enum", name := "compareTo", desc := "(Ljava/lang/Enum;)I" } : Jvm.MethodName) ({ cls := "java/lang/Enum", name := "compareTo", desc := "(Ljava/lang/Enum;)I" } : Jvm.MethodName)) ∈ lw_all := lw_g (lw_at lw_m3 227 rfl) rfl
theorem q760 : (Jvm.Cond.selects "LinkStation$Op" ({ cls := "java/lang/Enum", name := "getDeclaringClass", desc := "()Ljava/lang/Class;" } : Jvm.MethodName) ({ cls := "java/lang/Enum", name := "getDeclaringClass", desc := "()Ljava/lang/Class;" } : Jvm.MethodName)) ∈ lw_all := lw_g (lw_at lw_m3 233 rfl) rfl
theorem q970 : (Jvm.Cond.sameMethod "LinkStation$Op" "java/lang/Enum" "ordinal" "()I") ∈ lw_all := lw_g (lw_at lw_m4 203 rfl) rfl
theorem q972 : (Jvm.Cond.selects "LinkStation$Op" ({ cls := "LinkStation$Op", name := "ordinal", desc := "()I" } : Jvm.MethodName) ({ cls := "java/lang/Enum", name := "ordinal", desc := "()I" } : Jvm.MethodName)) ∈ lw_all := lw_g (lw_at lw_m4 205 rfl) rfl
theorem q1301 : (Jvm.Cond.instanceMethod ({ cls := "LinkStation$Op", name := "takesDatum", desc := "()Z" } : Jvm.MethodName)) ∈ lw_all := lw_g (lw_at lw_m6 54 rfl) rfl
theorem q1302 : (Jvm.Cond.selects "LinkStation$Op" ({ cls := "LinkStation$Op", name := "takesDatum", desc := "()Z" } : Jvm.MethodName) ({ cls := "LinkStation$Op", name := "takesDatum", desc := "()Z" } : Jvm.MethodName)) ∈ lw_all := lw_g (lw_at lw_m6 55 rfl) rfl
theorem q1303 : (Jvm.Cond.code ({ cls := "LinkStation$Op", name := "takesDatum", desc := "()Z" } : Jvm.MethodName) prog_7_method_5_code (1 : Nat) (Option.some Jvm.ClassFile.FieldType.boolean)) ∈ lw_all := lw_g (lw_at lw_m6 56 rfl) rfl
theorem q1304 : (Jvm.Cond.fieldLink "LinkStation$Op" (28 : Nat) "LinkStation$Op" "GET" "LLinkStation$Op;") ∈ lw_all := lw_g (lw_at lw_m6 57 rfl) rfl
theorem q1305 : (Jvm.Cond.laysStatic "LinkStation$Op" "GET" "LLinkStation$Op;") ∈ lw_tbl := lw_at lw_m6 58 rfl
theorem q1306 : (Jvm.Cond.fieldLink "LinkStation$Op" (31 : Nat) "LinkStation$Op" "PUT" "LLinkStation$Op;") ∈ lw_all := lw_g (lw_at lw_m6 59 rfl) rfl
theorem q1307 : (Jvm.Cond.laysStatic "LinkStation$Op" "PUT" "LLinkStation$Op;") ∈ lw_tbl := lw_at lw_m6 60 rfl
theorem q1313 : (Jvm.Cond.laysStatic "LinkStation$Op" "CALL" "LLinkStation$Op;") ∈ lw_tbl := lw_at lw_m6 66 rfl
theorem q1832 : (Jvm.Cond.castable "LinkStation$Op" "java/lang/Enum") ∈ lw_tbl := lw_at lw_m8 105 rfl
theorem q1833 : (Jvm.Cond.castable "LinkStation$Op" "java/lang/Object") ∈ lw_tbl := lw_at lw_m8 106 rfl
theorem q1871 : (Jvm.Cond.laysStatic "LinkStation$Op" "SET" "LLinkStation$Op;") ∈ lw_tbl := lw_at lw_m8 144 rfl
theorem q1872 : (Jvm.Cond.laysStatic "LinkStation$Op" "MOVE" "LLinkStation$Op;") ∈ lw_tbl := lw_at lw_m8 145 rfl
theorem q1873 : (Jvm.Cond.laysStatic "LinkStation$Op" "SUM" "LLinkStation$Op;") ∈ lw_tbl := lw_at lw_m8 146 rfl
theorem q1874 : (Jvm.Cond.laysStatic "LinkStation$Op" "DIFFERENCE" "LLinkStation$Op;") ∈ lw_tbl := lw_at lw_m8 147 rfl
theorem q1875 : (Jvm.Cond.laysStatic "LinkStation$Op" "PRODUCT" "LLinkStation$Op;") ∈ lw_tbl := lw_at lw_m8 148 rfl
theorem q1876 : (Jvm.Cond.laysStatic "LinkStation$Op" "LESS" "LLinkStation$Op;") ∈ lw_tbl := lw_at lw_m8 149 rfl
theorem q1877 : (Jvm.Cond.laysStatic "LinkStation$Op" "GO" "LLinkStation$Op;") ∈ lw_tbl := lw_at lw_m8 150 rfl
theorem q1878 : (Jvm.Cond.laysStatic "LinkStation$Op" "ADDRESS" "LLinkStation$Op;") ∈ lw_tbl := lw_at lw_m8 151 rfl
theorem q1879 : (Jvm.Cond.laysStatic "LinkStation$Op" "CALL_AT" "LLinkStation$Op;") ∈ lw_tbl := lw_at lw_m8 152 rfl
theorem q1880 : (Jvm.Cond.laysStatic "LinkStation$Op" "BACK" "LLinkStation$Op;") ∈ lw_tbl := lw_at lw_m8 153 rfl
theorem q1881 : (Jvm.Cond.laysStatic "LinkStation$Op" "SAY" "LLinkStation$Op;") ∈ lw_tbl := lw_at lw_m8 154 rfl
theorem q1882 : (Jvm.Cond.laysStatic "LinkStation$Op" "END" "LLinkStation$Op;") ∈ lw_tbl := lw_at lw_m8 155 rfl
/-! LinkStation$Fault -/
set_option maxRecDepth 100000
def RX2 : String := "LinkStation$Fault"
def TX2 : u_T := fun k => match k with
  | 0 => ("java/lang/Throwable", "cause", "Ljava/lang/Throwable;", false)
  | 1 => ("java/lang/Throwable", "stackTrace", "[Ljava/lang/StackTraceElement;", false)
  | 2 => ("java/lang/Throwable", "suppressedExceptions", "Ljava/util/List;", false)
  | 3 => ("java/lang/Throwable", "detailMessage", "Ljava/lang/String;", false)
  | 4 => ("java/lang/Throwable", "backtrace", "Ljava/lang/Object;", false)
  | 5 => ("java/lang/Throwable", "depth", "I", false)
  | 6 => ("LinkStation$Fault", "code", "I", false)
  | 7 => ("LinkStation$Fault", "module", "I", false)
  | 8 => ("LinkStation$Fault", "step", "I", false)
  | _ => ("LinkStation$Fault", "name", "I", false)
def tyX2 : Nat → FieldType := fun k => match k with
  | 0 => .object "java/lang/Throwable"
  | 1 => .array (.object "java/lang/StackTraceElement")
  | 2 => .object "java/util/List"
  | 3 => .object "java/lang/String"
  | 4 => .object "java/lang/Object"
  | 5 => .int
  | 6 => .int
  | 7 => .int
  | 8 => .int
  | _ => .int
abbrev wsX20 : List Cond := u_ws RX2 TX2 10
theorem nmX2 : ∀ a, a < 10 → ∀ b, b < 10 → a ≠ b → (TX2 a).2.1 ≠ (TX2 b).2.1 := by decide +kernel
theorem tyX2_ok : ∀ k, k < 10 → parseFieldDescriptor (TX2 k).2.2.1 = some (tyX2 k) := by decide +kernel
abbrev cX2_init : ByteArray := prog_4_method_1_code
def yX2_init : MethodName := ⟨RX2, "<init>", "()V"⟩
def dkwX2_init_0 : List UInt8 := [42, 1, 1, 3, 3, 183, 0, 1, 177]
abbrev dktX2_init_0 : List UInt8 := dkwX2_init_0 ++ []
theorem dksX2_init_0 : cX2_init.data.toList.drop 0 = dktX2_init_0 := by decide +kernel
theorem dX2_init_0 : decode cX2_init 0 = .ok (.aload_n 0, 1) := dk_42 (dk_at dksX2_init_0 0 rfl rfl)
theorem dX2_init_1 : decode cX2_init 1 = .ok (.aconst_null, 1) := dk_1 (dk_at dksX2_init_0 1 rfl rfl)
theorem dX2_init_2 : decode cX2_init 2 = .ok (.aconst_null, 1) := dk_1 (dk_at dksX2_init_0 2 rfl rfl)
theorem dX2_init_3 : decode cX2_init 3 = .ok (.iconst 0, 1) := dk_3 (dk_at dksX2_init_0 3 rfl rfl)
theorem dX2_init_4 : decode cX2_init 4 = .ok (.iconst 0, 1) := dk_3 (dk_at dksX2_init_0 4 rfl rfl)
theorem dX2_init_5 : decode cX2_init 5 = .ok (.invokespecial 1, 3) := dk_183 0 1 (dk_at dksX2_init_0 5 rfl rfl)
theorem dX2_init_8 : decode cX2_init 8 = .ok (.return_, 1) := dk_177 (dk_at dksX2_init_0 8 rfl rfl)
abbrev cX2_at : ByteArray := prog_4_method_2_code
def yX2_at : MethodName := ⟨RX2, "at", "(IIII)LLinkStation$Fault;"⟩
def dkwX2_at_0 : List UInt8 := [42, 27, 181, 0, 7, 42, 28, 181, 0, 13, 42, 29, 181, 0, 16, 42, 21, 4, 181, 0, 19, 42, 176]
abbrev dktX2_at_0 : List UInt8 := dkwX2_at_0 ++ []
theorem dksX2_at_0 : cX2_at.data.toList.drop 0 = dktX2_at_0 := by decide +kernel
theorem dX2_at_0 : decode cX2_at 0 = .ok (.aload_n 0, 1) := dk_42 (dk_at dksX2_at_0 0 rfl rfl)
theorem dX2_at_1 : decode cX2_at 1 = .ok (.iload_n 1, 1) := dk_27 (dk_at dksX2_at_0 1 rfl rfl)
theorem dX2_at_2 : decode cX2_at 2 = .ok (.putfield 7, 3) := dk_181 0 7 (dk_at dksX2_at_0 2 rfl rfl)
theorem dX2_at_5 : decode cX2_at 5 = .ok (.aload_n 0, 1) := dk_42 (dk_at dksX2_at_0 5 rfl rfl)
theorem dX2_at_6 : decode cX2_at 6 = .ok (.iload_n 2, 1) := dk_28 (dk_at dksX2_at_0 6 rfl rfl)
theorem dX2_at_7 : decode cX2_at 7 = .ok (.putfield 13, 3) := dk_181 0 13 (dk_at dksX2_at_0 7 rfl rfl)
theorem dX2_at_10 : decode cX2_at 10 = .ok (.aload_n 0, 1) := dk_42 (dk_at dksX2_at_0 10 rfl rfl)
theorem dX2_at_11 : decode cX2_at 11 = .ok (.iload_n 3, 1) := dk_29 (dk_at dksX2_at_0 11 rfl rfl)
theorem dX2_at_12 : decode cX2_at 12 = .ok (.putfield 16, 3) := dk_181 0 16 (dk_at dksX2_at_0 12 rfl rfl)
theorem dX2_at_15 : decode cX2_at 15 = .ok (.aload_n 0, 1) := dk_42 (dk_at dksX2_at_0 15 rfl rfl)
theorem dX2_at_16 : decode cX2_at 16 = .ok (.iload 4, 2) := dk_21 4 (dk_at dksX2_at_0 16 rfl rfl)
theorem dX2_at_18 : decode cX2_at 18 = .ok (.putfield 19, 3) := dk_181 0 19 (dk_at dksX2_at_0 18 rfl rfl)
theorem dX2_at_21 : decode cX2_at 21 = .ok (.aload_n 0, 1) := dk_42 (dk_at dksX2_at_0 21 rfl rfl)
theorem dX2_at_22 : decode cX2_at 22 = .ok (.areturn, 1) := dk_176 (dk_at dksX2_at_0 22 rfl rfl)
theorem q57 : (Jvm.Cond.initialized "LinkStation$Fault") ∈ lw_all := lw_g (lw_at lw_m1 10 rfl) rfl
theorem q140 : (Jvm.Cond.instantiable "LinkStation$Fault" (10 : Nat)) ∈ lw_all := lw_g (lw_at lw_m1 93 rfl) rfl
theorem q141 : (Jvm.Cond.castable "LinkStation$Fault" "LinkStation$Fault") ∈ lw_tbl := lw_at lw_m1 94 rfl
theorem q148 : (Jvm.Cond.selects "LinkStation$Fault" ({ cls := "java/lang/Throwable", name := "fillInStackTrace", desc := "(I)Ljava/lang/Throwable;" } : Jvm.MethodName) ({ cls := "java/lang/Throwable", name := "fillInStackTrace", desc := "(I)Ljava/lang/Throwable;" } : Jvm.MethodName)) ∈ lw_all := lw_g (lw_at lw_m1 101 rfl) rfl
theorem q149 : (Jvm.Cond.selects "LinkStation$Fault" ({ cls := "java/lang/Throwable", name := "fillInStackTrace", desc := "()Ljava/lang/Throwable;" } : Jvm.MethodName) ({ cls := "java/lang/Throwable", name := "fillInStackTrace", desc := "()Ljava/lang/Throwable;" } : Jvm.MethodName)) ∈ lw_all := lw_g (lw_at lw_m1 102 rfl) rfl
theorem q150 : (Jvm.Cond.lays "LinkStation$Fault" "java/lang/Throwable" "cause" "Ljava/lang/Throwable;") ∈ lw_all := lw_g (lw_at lw_m1 103 rfl) rfl
theorem q152 : (Jvm.Cond.lays "LinkStation$Fault" "java/lang/Throwable" "stackTrace" "[Ljava/lang/StackTraceElement;") ∈ lw_all := lw_g (lw_at lw_m1 105 rfl) rfl
theorem q154 : (Jvm.Cond.lays "LinkStation$Fault" "java/lang/Throwable" "suppressedExceptions" "Ljava/util/List;") ∈ lw_all := lw_g (lw_at lw_m1 107 rfl) rfl
theorem q156 : (Jvm.Cond.lays "LinkStation$Fault" "java/lang/Throwable" "detailMessage" "Ljava/lang/String;") ∈ lw_all := lw_g (lw_at lw_m1 109 rfl) rfl
theorem q158 : (Jvm.Cond.lays "LinkStation$Fault" "java/lang/Throwable" "backtrace" "Ljava/lang/Object;") ∈ lw_all := lw_g (lw_at lw_m1 111 rfl) rfl
theorem q180 : (Jvm.Cond.instanceMethod ({ cls := "LinkStation$Fault", name := "<init>", desc := "()V" } : Jvm.MethodName)) ∈ lw_all := lw_g (lw_at lw_m1 133 rfl) rfl
theorem q181 : (Jvm.Cond.code ({ cls := "LinkStation$Fault", name := "<init>", desc := "()V" } : Jvm.MethodName) prog_4_method_1_code (1 : Nat) (Option.none : Option Jvm.ClassFile.FieldType)) ∈ lw_all := lw_g (lw_at lw_m1 134 rfl) rfl
theorem q182 : (Jvm.Cond.methodLink "LinkStation$Fault" (1 : Nat) ({ cls := "java/lang/RuntimeException", name := "<init>", desc := "(Ljava/lang/String;Ljava/lang/Throwable;ZZ)V" } : Jvm.MethodName)) ∈ lw_all := lw_g (lw_at lw_m1 135 rfl) rfl
theorem q191 : (Jvm.Cond.fieldLink "LinkStation$Fault" (7 : Nat) "LinkStation$Fault" "code" "I") ∈ lw_all := lw_g (lw_at lw_m1 144 rfl) rfl
theorem q193 : (Jvm.Cond.fieldLink "LinkStation$Fault" (13 : Nat) "LinkStation$Fault" "module" "I") ∈ lw_all := lw_g (lw_at lw_m1 146 rfl) rfl
theorem q195 : (Jvm.Cond.fieldLink "LinkStation$Fault" (16 : Nat) "LinkStation$Fault" "step" "I") ∈ lw_all := lw_g (lw_at lw_m1 148 rfl) rfl
theorem q197 : (Jvm.Cond.fieldLink "LinkStation$Fault" (19 : Nat) "LinkStation$Fault" "name" "I") ∈ lw_all := lw_g (lw_at lw_m1 150 rfl) rfl
theorem q204 : (Jvm.Cond.lays "LinkStation$Fault" "LinkStation$Fault" "code" "I") ∈ lw_all := lw_g (lw_at lw_m1 157 rfl) rfl
theorem q205 : (Jvm.Cond.soleField "LinkStation$Fault" "code") ∈ lw_all := lw_g (lw_at lw_m1 158 rfl) rfl
theorem q206 : (Jvm.Cond.lays "LinkStation$Fault" "LinkStation$Fault" "module" "I") ∈ lw_all := lw_g (lw_at lw_m1 159 rfl) rfl
theorem q207 : (Jvm.Cond.soleField "LinkStation$Fault" "module") ∈ lw_all := lw_g (lw_at lw_m1 160 rfl) rfl
theorem q208 : (Jvm.Cond.lays "LinkStation$Fault" "LinkStation$Fault" "step" "I") ∈ lw_all := lw_g (lw_at lw_m1 161 rfl) rfl
theorem q209 : (Jvm.Cond.soleField "LinkStation$Fault" "step") ∈ lw_all := lw_g (lw_at lw_m1 162 rfl) rfl
theorem q210 : (Jvm.Cond.lays "LinkStation$Fault" "LinkStation$Fault" "name" "I") ∈ lw_all := lw_g (lw_at lw_m1 163 rfl) rfl
theorem q211 : (Jvm.Cond.soleField "LinkStation$Fault" "name") ∈ lw_all := lw_g (lw_at lw_m1 164 rfl) rfl
theorem q216 : (Jvm.Cond.lays "LinkStation$Fault" "java/lang/Throwable" "depth" "I") ∈ lw_all := lw_g (lw_at lw_m1 169 rfl) rfl
theorem q219 : (Jvm.Cond.superclass "LinkStation$Fault" "java/lang/RuntimeException") ∈ lw_all := lw_g (lw_at lw_m1 172 rfl) rfl
theorem q553 : (Jvm.Cond.selects "LinkStation$Fault" ({ cls := "java/lang/Object", name := "getClass", desc := "()Ljava/lang/Class;" } : Jvm.MethodName) ({ cls := "java/lang/Object", name := "getClass", desc := "()Ljava/lang/Class;" } : Jvm.MethodName)) ∈ lw_all := lw_g (lw_at lw_m3 26 rfl) rfl
theorem q629 : (Jvm.Cond.selects "LinkStation$Fault" ({ cls := "java/lang/Object", name := "equals", desc := "(Ljava/lang/Object;)Z" } : Jvm.MethodName) ({ cls := "java/lang/Object", name := "equals", desc := "(Ljava/lang/Object;)Z" } : Jvm.MethodName)) ∈ lw_all := lw_g (lw_at lw_m3 102 rfl) rfl
theorem q698 : (Jvm.Cond.selects "LinkStation$Fault" ({ cls := "java/lang/Object", name := "hashCode", desc := "()I" } : Jvm.MethodName) ({ cls := "java/lang/Object", name := "hashCode", desc := "()I" } : Jvm.MethodName)) ∈ lw_all := lw_g (lw_at lw_m3 171 rfl) rfl
theorem q1285 : (Jvm.Cond.instanceMethod ({ cls := "LinkStation$Fault", name := "at", desc := "(IIII)LLinkStation$Fault;" } : Jvm.MethodName)) ∈ lw_all := lw_g (lw_at lw_m6 38 rfl) rfl
theorem q1286 : (Jvm.Cond.selects "LinkStation$Fault" ({ cls := "LinkStation$Fault", name := "at", desc := "(IIII)LLinkStation$Fault;" } : Jvm.MethodName) ({ cls := "LinkStation$Fault", name := "at", desc := "(IIII)LLinkStation$Fault;" } : Jvm.MethodName)) ∈ lw_all := lw_g (lw_at lw_m6 39 rfl) rfl
theorem q1287 : (Jvm.Cond.code ({ cls := "LinkStation$Fault", name := "at", desc := "(IIII)LLinkStation$Fault;" } : Jvm.MethodName) prog_4_method_2_code (5 : Nat) (Option.some (Jvm.ClassFile.FieldType.object "LinkStation$Fault"))) ∈ lw_all := lw_g (lw_at lw_m6 40 rfl) rfl
theorem q1839 : (Jvm.Cond.castable "LinkStation$Fault" "java/lang/Object") ∈ lw_tbl := lw_at lw_m8 112 rfl
theorem in_X2 : ∀ w ∈ wsX20, w ∈ lw_all := lw_in wsX20 [150, 152, 154, 156, 158, 216, 204, 206, 208, 210] (by decide +kernel) (by decide +kernel)
/-! LinkStation$Scope -/
set_option maxRecDepth 100000
def RX3 : String := "LinkStation$Scope"
def TX3 : u_T := fun k => match k with
  | 0 => ("LinkStation$Scope", "fault", "LLinkStation$Fault;", true)
  | 1 => ("LinkStation$Scope", "nothing", "LLinkStation$Definition;", true)
  | 2 => ("LinkStation$Scope", "order", "Ljava/util/ArrayList;", true)
  | 3 => ("LinkStation$Scope", "begun", "Ljava/util/ArrayList;", true)
  | 4 => ("LinkStation$Scope", "met", "Ljava/util/BitSet;", true)
  | _ => ("LinkStation$Scope", "open", "Ljava/util/HashMap;", true)
def tyX3 : Nat → FieldType := fun k => match k with
  | 0 => .object "LinkStation$Fault"
  | 1 => .object "LinkStation$Definition"
  | 2 => .object "java/util/ArrayList"
  | 3 => .object "java/util/ArrayList"
  | 4 => .object "java/util/BitSet"
  | _ => .object "java/util/HashMap"
abbrev wsX30 : List Cond := u_ws RX3 TX3 6
theorem nmX3 : ∀ a, a < 6 → ∀ b, b < 6 → a ≠ b → (TX3 a).2.1 ≠ (TX3 b).2.1 := by decide +kernel
theorem tyX3_ok : ∀ k, k < 6 → parseFieldDescriptor (TX3 k).2.2.1 = some (tyX3 k) := by decide +kernel
abbrev cX3_init : ByteArray := prog_8_method_1_code
def yX3_init : MethodName := ⟨RX3, "<init>", "(LLinkStation$Fault;)V"⟩
def dkwX3_init_2 : List UInt8 := [183, 0, 32, 181, 0, 35, 42, 187, 0, 39, 89, 183, 0, 41, 181, 0, 42, 42, 43, 181, 0, 46, 177]
abbrev dktX3_init_2 : List UInt8 := dkwX3_init_2 ++ []
def dkwX3_init_1 : List UInt8 := [183, 0, 22, 181, 0, 23, 42, 187, 0, 20, 89, 183, 0, 22, 181, 0, 27, 42, 187, 0, 30, 89, 16, 12]
abbrev dktX3_init_1 : List UInt8 := dkwX3_init_1 ++ dktX3_init_2
def dkwX3_init_0 : List UInt8 := [42, 183, 0, 3, 42, 187, 0, 9, 89, 1, 3, 3, 3, 183, 0, 11, 181, 0, 14, 42, 187, 0, 20, 89]
abbrev dktX3_init_0 : List UInt8 := dkwX3_init_0 ++ dktX3_init_1
theorem dksX3_init_0 : cX3_init.data.toList.drop 0 = dktX3_init_0 := by decide +kernel
theorem dksX3_init_1 : cX3_init.data.toList.drop 24 = dktX3_init_1 := dk_seg dksX3_init_0 24 rfl rfl
theorem dksX3_init_2 : cX3_init.data.toList.drop 48 = dktX3_init_2 := dk_seg dksX3_init_1 24 rfl rfl
theorem dX3_init_0 : decode cX3_init 0 = .ok (.aload_n 0, 1) := dk_42 (dk_at dksX3_init_0 0 rfl rfl)
theorem dX3_init_1 : decode cX3_init 1 = .ok (.invokespecial 3, 3) := dk_183 0 3 (dk_at dksX3_init_0 1 rfl rfl)
theorem dX3_init_4 : decode cX3_init 4 = .ok (.aload_n 0, 1) := dk_42 (dk_at dksX3_init_0 4 rfl rfl)
theorem dX3_init_5 : decode cX3_init 5 = .ok (.new 9, 3) := dk_187 0 9 (dk_at dksX3_init_0 5 rfl rfl)
theorem dX3_init_8 : decode cX3_init 8 = .ok (.dup, 1) := dk_89 (dk_at dksX3_init_0 8 rfl rfl)
theorem dX3_init_9 : decode cX3_init 9 = .ok (.aconst_null, 1) := dk_1 (dk_at dksX3_init_0 9 rfl rfl)
theorem dX3_init_10 : decode cX3_init 10 = .ok (.iconst 0, 1) := dk_3 (dk_at dksX3_init_0 10 rfl rfl)
theorem dX3_init_11 : decode cX3_init 11 = .ok (.iconst 0, 1) := dk_3 (dk_at dksX3_init_0 11 rfl rfl)
theorem dX3_init_12 : decode cX3_init 12 = .ok (.iconst 0, 1) := dk_3 (dk_at dksX3_init_0 12 rfl rfl)
theorem dX3_init_13 : decode cX3_init 13 = .ok (.invokespecial 11, 3) := dk_183 0 11 (dk_at dksX3_init_0 13 rfl rfl)
theorem dX3_init_16 : decode cX3_init 16 = .ok (.putfield 14, 3) := dk_181 0 14 (dk_at dksX3_init_0 16 rfl rfl)
theorem dX3_init_19 : decode cX3_init 19 = .ok (.aload_n 0, 1) := dk_42 (dk_at dksX3_init_0 19 rfl rfl)
theorem dX3_init_20 : decode cX3_init 20 = .ok (.new 20, 3) := dk_187 0 20 (dk_at dksX3_init_0 20 rfl rfl)
theorem dX3_init_23 : decode cX3_init 23 = .ok (.dup, 1) := dk_89 (dk_at dksX3_init_0 23 rfl rfl)
theorem dX3_init_24 : decode cX3_init 24 = .ok (.invokespecial 22, 3) := dk_183 0 22 (dk_at dksX3_init_1 0 rfl rfl)
theorem dX3_init_27 : decode cX3_init 27 = .ok (.putfield 23, 3) := dk_181 0 23 (dk_at dksX3_init_1 3 rfl rfl)
theorem dX3_init_30 : decode cX3_init 30 = .ok (.aload_n 0, 1) := dk_42 (dk_at dksX3_init_1 6 rfl rfl)
theorem dX3_init_31 : decode cX3_init 31 = .ok (.new 20, 3) := dk_187 0 20 (dk_at dksX3_init_1 7 rfl rfl)
theorem dX3_init_34 : decode cX3_init 34 = .ok (.dup, 1) := dk_89 (dk_at dksX3_init_1 10 rfl rfl)
theorem dX3_init_35 : decode cX3_init 35 = .ok (.invokespecial 22, 3) := dk_183 0 22 (dk_at dksX3_init_1 11 rfl rfl)
theorem dX3_init_38 : decode cX3_init 38 = .ok (.putfield 27, 3) := dk_181 0 27 (dk_at dksX3_init_1 14 rfl rfl)
theorem dX3_init_41 : decode cX3_init 41 = .ok (.aload_n 0, 1) := dk_42 (dk_at dksX3_init_1 17 rfl rfl)
theorem dX3_init_42 : decode cX3_init 42 = .ok (.new 30, 3) := dk_187 0 30 (dk_at dksX3_init_1 18 rfl rfl)
theorem dX3_init_45 : decode cX3_init 45 = .ok (.dup, 1) := dk_89 (dk_at dksX3_init_1 21 rfl rfl)
theorem dX3_init_46 : decode cX3_init 46 = .ok (.bipush 12, 2) := dk_16 12 (dk_at dksX3_init_1 22 rfl rfl)
theorem dX3_init_48 : decode cX3_init 48 = .ok (.invokespecial 32, 3) := dk_183 0 32 (dk_at dksX3_init_2 0 rfl rfl)
theorem dX3_init_51 : decode cX3_init 51 = .ok (.putfield 35, 3) := dk_181 0 35 (dk_at dksX3_init_2 3 rfl rfl)
theorem dX3_init_54 : decode cX3_init 54 = .ok (.aload_n 0, 1) := dk_42 (dk_at dksX3_init_2 6 rfl rfl)
theorem dX3_init_55 : decode cX3_init 55 = .ok (.new 39, 3) := dk_187 0 39 (dk_at dksX3_init_2 7 rfl rfl)
theorem dX3_init_58 : decode cX3_init 58 = .ok (.dup, 1) := dk_89 (dk_at dksX3_init_2 10 rfl rfl)
theorem dX3_init_59 : decode cX3_init 59 = .ok (.invokespecial 41, 3) := dk_183 0 41 (dk_at dksX3_init_2 11 rfl rfl)
theorem dX3_init_62 : decode cX3_init 62 = .ok (.putfield 42, 3) := dk_181 0 42 (dk_at dksX3_init_2 14 rfl rfl)
theorem dX3_init_65 : decode cX3_init 65 = .ok (.aload_n 0, 1) := dk_42 (dk_at dksX3_init_2 17 rfl rfl)
theorem dX3_init_66 : decode cX3_init 66 = .ok (.aload_n 1, 1) := dk_43 (dk_at dksX3_init_2 18 rfl rfl)
theorem dX3_init_67 : decode cX3_init 67 = .ok (.putfield 46, 3) := dk_181 0 46 (dk_at dksX3_init_2 19 rfl rfl)
theorem dX3_init_70 : decode cX3_init 70 = .ok (.return_, 1) := dk_177 (dk_at dksX3_init_2 22 rfl rfl)
abbrev cX3_load : ByteArray := prog_8_method_2_code
def yX3_load : MethodName := ⟨RX3, "load", "(LLinkStation$Module;)V"⟩
def dkwX3_load_7 : List UInt8 := [45, 182, 0, 106, 167, 255, 232, 177]
abbrev dktX3_load_7 : List UInt8 := dkwX3_load_7 ++ []
def dkwX3_load_6 : List UInt8 := [182, 0, 62, 77, 44, 185, 0, 66, 1, 0, 153, 0, 21, 44, 185, 0, 72, 1, 0, 192, 0, 76, 78, 42]
abbrev dktX3_load_6 : List UInt8 := dkwX3_load_6 ++ dktX3_load_7
def dkwX3_load_5 : List UInt8 := [25, 5, 185, 0, 99, 1, 0, 192, 0, 9, 182, 0, 102, 167, 255, 207, 167, 255, 171, 42, 180, 0, 23]
abbrev dktX3_load_5 : List UInt8 := dkwX3_load_5 ++ dktX3_load_6
def dkwX3_load_4 : List UInt8 := [185, 0, 72, 1, 0, 192, 0, 88, 58, 5, 42, 25, 5, 185, 0, 90, 1, 0, 192, 0, 93, 182, 0, 95]
abbrev dktX3_load_4 : List UInt8 := dkwX3_load_4 ++ dktX3_load_5
def dkwX3_load_3 : List UInt8 := [182, 0, 81, 185, 0, 85, 1, 0, 58, 4, 25, 4, 185, 0, 66, 1, 0, 153, 0, 45, 25, 4]
abbrev dktX3_load_3 : List UInt8 := dkwX3_load_3 ++ dktX3_load_4
def dkwX3_load_2 : List UInt8 := [185, 0, 66, 1, 0, 153, 0, 82, 44, 185, 0, 72, 1, 0, 192, 0, 76, 78, 45, 180, 0, 78]
abbrev dktX3_load_2 : List UInt8 := dkwX3_load_2 ++ dktX3_load_3
def dkwX3_load_1 : List UInt8 := [182, 0, 54, 42, 180, 0, 35, 182, 0, 58, 42, 43, 182, 0, 59, 42, 180, 0, 23, 182, 0, 62, 77, 44]
abbrev dktX3_load_1 : List UInt8 := dkwX3_load_1 ++ dktX3_load_2
def dkwX3_load_0 : List UInt8 := [42, 180, 0, 23, 182, 0, 50, 42, 180, 0, 27, 182, 0, 50, 42, 180, 0, 42, 182, 0, 53, 42, 43]
abbrev dktX3_load_0 : List UInt8 := dkwX3_load_0 ++ dktX3_load_1
theorem dksX3_load_0 : cX3_load.data.toList.drop 0 = dktX3_load_0 := by decide +kernel
theorem dksX3_load_1 : cX3_load.data.toList.drop 23 = dktX3_load_1 := dk_seg dksX3_load_0 23 rfl rfl
theorem dksX3_load_2 : cX3_load.data.toList.drop 47 = dktX3_load_2 := dk_seg dksX3_load_1 24 rfl rfl
theorem dksX3_load_3 : cX3_load.data.toList.drop 69 = dktX3_load_3 := dk_seg dksX3_load_2 22 rfl rfl
theorem dksX3_load_4 : cX3_load.data.toList.drop 91 = dktX3_load_4 := dk_seg dksX3_load_3 22 rfl rfl
theorem dksX3_load_5 : cX3_load.data.toList.drop 115 = dktX3_load_5 := dk_seg dksX3_load_4 24 rfl rfl
theorem dksX3_load_6 : cX3_load.data.toList.drop 138 = dktX3_load_6 := dk_seg dksX3_load_5 23 rfl rfl
theorem dksX3_load_7 : cX3_load.data.toList.drop 162 = dktX3_load_7 := dk_seg dksX3_load_6 24 rfl rfl
theorem dX3_load_0 : decode cX3_load 0 = .ok (.aload_n 0, 1) := dk_42 (dk_at dksX3_load_0 0 rfl rfl)
theorem dX3_load_1 : decode cX3_load 1 = .ok (.getfield 23, 3) := dk_180 0 23 (dk_at dksX3_load_0 1 rfl rfl)
theorem dX3_load_4 : decode cX3_load 4 = .ok (.invokevirtual 50, 3) := dk_182 0 50 (dk_at dksX3_load_0 4 rfl rfl)
theorem dX3_load_7 : decode cX3_load 7 = .ok (.aload_n 0, 1) := dk_42 (dk_at dksX3_load_0 7 rfl rfl)
theorem dX3_load_8 : decode cX3_load 8 = .ok (.getfield 27, 3) := dk_180 0 27 (dk_at dksX3_load_0 8 rfl rfl)
theorem dX3_load_11 : decode cX3_load 11 = .ok (.invokevirtual 50, 3) := dk_182 0 50 (dk_at dksX3_load_0 11 rfl rfl)
theorem dX3_load_14 : decode cX3_load 14 = .ok (.aload_n 0, 1) := dk_42 (dk_at dksX3_load_0 14 rfl rfl)
theorem dX3_load_15 : decode cX3_load 15 = .ok (.getfield 42, 3) := dk_180 0 42 (dk_at dksX3_load_0 15 rfl rfl)
theorem dX3_load_18 : decode cX3_load 18 = .ok (.invokevirtual 53, 3) := dk_182 0 53 (dk_at dksX3_load_0 18 rfl rfl)
theorem dX3_load_21 : decode cX3_load 21 = .ok (.aload_n 0, 1) := dk_42 (dk_at dksX3_load_0 21 rfl rfl)
theorem dX3_load_22 : decode cX3_load 22 = .ok (.aload_n 1, 1) := dk_43 (dk_at dksX3_load_0 22 rfl rfl)
theorem dX3_load_23 : decode cX3_load 23 = .ok (.invokevirtual 54, 3) := dk_182 0 54 (dk_at dksX3_load_1 0 rfl rfl)
theorem dX3_load_26 : decode cX3_load 26 = .ok (.aload_n 0, 1) := dk_42 (dk_at dksX3_load_1 3 rfl rfl)
theorem dX3_load_27 : decode cX3_load 27 = .ok (.getfield 35, 3) := dk_180 0 35 (dk_at dksX3_load_1 4 rfl rfl)
theorem dX3_load_30 : decode cX3_load 30 = .ok (.invokevirtual 58, 3) := dk_182 0 58 (dk_at dksX3_load_1 7 rfl rfl)
theorem dX3_load_33 : decode cX3_load 33 = .ok (.aload_n 0, 1) := dk_42 (dk_at dksX3_load_1 10 rfl rfl)
theorem dX3_load_34 : decode cX3_load 34 = .ok (.aload_n 1, 1) := dk_43 (dk_at dksX3_load_1 11 rfl rfl)
theorem dX3_load_35 : decode cX3_load 35 = .ok (.invokevirtual 59, 3) := dk_182 0 59 (dk_at dksX3_load_1 12 rfl rfl)
theorem dX3_load_38 : decode cX3_load 38 = .ok (.aload_n 0, 1) := dk_42 (dk_at dksX3_load_1 15 rfl rfl)
theorem dX3_load_39 : decode cX3_load 39 = .ok (.getfield 23, 3) := dk_180 0 23 (dk_at dksX3_load_1 16 rfl rfl)
theorem dX3_load_42 : decode cX3_load 42 = .ok (.invokevirtual 62, 3) := dk_182 0 62 (dk_at dksX3_load_1 19 rfl rfl)
theorem dX3_load_45 : decode cX3_load 45 = .ok (.astore_n 2, 1) := dk_77 (dk_at dksX3_load_1 22 rfl rfl)
theorem dX3_load_46 : decode cX3_load 46 = .ok (.aload_n 2, 1) := dk_44 (dk_at dksX3_load_1 23 rfl rfl)
theorem dX3_load_47 : decode cX3_load 47 = .ok (.invokeinterface 66 1, 5) := by decide +kernel
theorem dX3_load_52 : decode cX3_load 52 = .ok (.ifCond .eq 82, 3) := dk_153 0 82 (dk_at dksX3_load_2 5 rfl rfl)
theorem dX3_load_55 : decode cX3_load 55 = .ok (.aload_n 2, 1) := dk_44 (dk_at dksX3_load_2 8 rfl rfl)
theorem dX3_load_56 : decode cX3_load 56 = .ok (.invokeinterface 72 1, 5) := by decide +kernel
theorem dX3_load_61 : decode cX3_load 61 = .ok (.checkcast 76, 3) := dk_192 0 76 (dk_at dksX3_load_2 14 rfl rfl)
theorem dX3_load_64 : decode cX3_load 64 = .ok (.astore_n 3, 1) := dk_78 (dk_at dksX3_load_2 17 rfl rfl)
theorem dX3_load_65 : decode cX3_load 65 = .ok (.aload_n 3, 1) := dk_45 (dk_at dksX3_load_2 18 rfl rfl)
theorem dX3_load_66 : decode cX3_load 66 = .ok (.getfield 78, 3) := dk_180 0 78 (dk_at dksX3_load_2 19 rfl rfl)
theorem dX3_load_69 : decode cX3_load 69 = .ok (.invokevirtual 81, 3) := dk_182 0 81 (dk_at dksX3_load_3 0 rfl rfl)
theorem dX3_load_72 : decode cX3_load 72 = .ok (.invokeinterface 85 1, 5) := by decide +kernel
theorem dX3_load_77 : decode cX3_load 77 = .ok (.astore 4, 2) := dk_58 4 (dk_at dksX3_load_3 8 rfl rfl)
theorem dX3_load_79 : decode cX3_load 79 = .ok (.aload 4, 2) := dk_25 4 (dk_at dksX3_load_3 10 rfl rfl)
theorem dX3_load_81 : decode cX3_load 81 = .ok (.invokeinterface 66 1, 5) := by decide +kernel
theorem dX3_load_86 : decode cX3_load 86 = .ok (.ifCond .eq 45, 3) := dk_153 0 45 (dk_at dksX3_load_3 17 rfl rfl)
theorem dX3_load_89 : decode cX3_load 89 = .ok (.aload 4, 2) := dk_25 4 (dk_at dksX3_load_3 20 rfl rfl)
theorem dX3_load_91 : decode cX3_load 91 = .ok (.invokeinterface 72 1, 5) := by decide +kernel
theorem dX3_load_96 : decode cX3_load 96 = .ok (.checkcast 88, 3) := dk_192 0 88 (dk_at dksX3_load_4 5 rfl rfl)
theorem dX3_load_99 : decode cX3_load 99 = .ok (.astore 5, 2) := dk_58 5 (dk_at dksX3_load_4 8 rfl rfl)
theorem dX3_load_101 : decode cX3_load 101 = .ok (.aload_n 0, 1) := dk_42 (dk_at dksX3_load_4 10 rfl rfl)
theorem dX3_load_102 : decode cX3_load 102 = .ok (.aload 5, 2) := dk_25 5 (dk_at dksX3_load_4 11 rfl rfl)
theorem dX3_load_104 : decode cX3_load 104 = .ok (.invokeinterface 90 1, 5) := by decide +kernel
theorem dX3_load_109 : decode cX3_load 109 = .ok (.checkcast 93, 3) := dk_192 0 93 (dk_at dksX3_load_4 18 rfl rfl)
theorem dX3_load_112 : decode cX3_load 112 = .ok (.invokevirtual 95, 3) := dk_182 0 95 (dk_at dksX3_load_4 21 rfl rfl)
theorem dX3_load_115 : decode cX3_load 115 = .ok (.aload 5, 2) := dk_25 5 (dk_at dksX3_load_5 0 rfl rfl)
theorem dX3_load_117 : decode cX3_load 117 = .ok (.invokeinterface 99 1, 5) := by decide +kernel
theorem dX3_load_122 : decode cX3_load 122 = .ok (.checkcast 9, 3) := dk_192 0 9 (dk_at dksX3_load_5 7 rfl rfl)
theorem dX3_load_125 : decode cX3_load 125 = .ok (.invokevirtual 102, 3) := dk_182 0 102 (dk_at dksX3_load_5 10 rfl rfl)
theorem dX3_load_128 : decode cX3_load 128 = .ok (.goto (-49), 3) := dk_167 255 207 (dk_at dksX3_load_5 13 rfl rfl)
theorem dX3_load_131 : decode cX3_load 131 = .ok (.goto (-85), 3) := dk_167 255 171 (dk_at dksX3_load_5 16 rfl rfl)
theorem dX3_load_134 : decode cX3_load 134 = .ok (.aload_n 0, 1) := dk_42 (dk_at dksX3_load_5 19 rfl rfl)
theorem dX3_load_135 : decode cX3_load 135 = .ok (.getfield 23, 3) := dk_180 0 23 (dk_at dksX3_load_5 20 rfl rfl)
theorem dX3_load_138 : decode cX3_load 138 = .ok (.invokevirtual 62, 3) := dk_182 0 62 (dk_at dksX3_load_6 0 rfl rfl)
theorem dX3_load_141 : decode cX3_load 141 = .ok (.astore_n 2, 1) := dk_77 (dk_at dksX3_load_6 3 rfl rfl)
theorem dX3_load_142 : decode cX3_load 142 = .ok (.aload_n 2, 1) := dk_44 (dk_at dksX3_load_6 4 rfl rfl)
theorem dX3_load_143 : decode cX3_load 143 = .ok (.invokeinterface 66 1, 5) := by decide +kernel
theorem dX3_load_148 : decode cX3_load 148 = .ok (.ifCond .eq 21, 3) := dk_153 0 21 (dk_at dksX3_load_6 10 rfl rfl)
theorem dX3_load_151 : decode cX3_load 151 = .ok (.aload_n 2, 1) := dk_44 (dk_at dksX3_load_6 13 rfl rfl)
theorem dX3_load_152 : decode cX3_load 152 = .ok (.invokeinterface 72 1, 5) := by decide +kernel
theorem dX3_load_157 : decode cX3_load 157 = .ok (.checkcast 76, 3) := dk_192 0 76 (dk_at dksX3_load_6 19 rfl rfl)
theorem dX3_load_160 : decode cX3_load 160 = .ok (.astore_n 3, 1) := dk_78 (dk_at dksX3_load_6 22 rfl rfl)
theorem dX3_load_161 : decode cX3_load 161 = .ok (.aload_n 0, 1) := dk_42 (dk_at dksX3_load_6 23 rfl rfl)
theorem dX3_load_162 : decode cX3_load 162 = .ok (.aload_n 3, 1) := dk_45 (dk_at dksX3_load_7 0 rfl rfl)
theorem dX3_load_163 : decode cX3_load 163 = .ok (.invokevirtual 106, 3) := dk_182 0 106 (dk_at dksX3_load_7 1 rfl rfl)
theorem dX3_load_166 : decode cX3_load 166 = .ok (.goto (-24), 3) := dk_167 255 232 (dk_at dksX3_load_7 4 rfl rfl)
theorem dX3_load_169 : decode cX3_load 169 = .ok (.return_, 1) := dk_177 (dk_at dksX3_load_7 7 rfl rfl)
abbrev cX3_findOrder : ByteArray := prog_8_method_3_code
def yX3_findOrder : MethodName := ⟨RX3, "findOrder", "(LLinkStation$Module;)V"⟩
def dkwX3_findOrder_5 : List UInt8 := [25, 5, 182, 0, 119, 87, 167, 255, 200, 167, 255, 164, 177]
abbrev dktX3_findOrder_5 : List UInt8 := dkwX3_findOrder_5 ++ []
def dkwX3_findOrder_4 : List UInt8 := [25, 5, 180, 0, 112, 182, 0, 133, 154, 0, 22, 42, 180, 0, 35, 25, 5, 180, 0, 112, 182, 0, 116, 44]
abbrev dktX3_findOrder_4 : List UInt8 := dkwX3_findOrder_4 ++ dktX3_findOrder_5
def dkwX3_findOrder_3 : List UInt8 := [185, 0, 66, 1, 0, 153, 0, 52, 25, 4, 185, 0, 72, 1, 0, 192, 0, 76, 58, 5, 42, 180, 0, 35]
abbrev dktX3_findOrder_3 : List UInt8 := dkwX3_findOrder_3 ++ dktX3_findOrder_4
def dkwX3_findOrder_2 : List UInt8 := [42, 180, 0, 23, 45, 182, 0, 129, 87, 45, 180, 0, 130, 182, 0, 62, 58, 4, 25, 4]
abbrev dktX3_findOrder_2 : List UInt8 := dkwX3_findOrder_2 ++ dktX3_findOrder_3
def dkwX3_findOrder_1 : List UInt8 := [182, 0, 116, 44, 43, 182, 0, 119, 87, 44, 182, 0, 123, 154, 0, 91, 44, 182, 0, 126, 192, 0, 76, 78]
abbrev dktX3_findOrder_1 : List UInt8 := dkwX3_findOrder_1 ++ dktX3_findOrder_2
def dkwX3_findOrder_0 : List UInt8 := [187, 0, 109, 89, 183, 0, 111, 77, 42, 180, 0, 35, 182, 0, 58, 42, 180, 0, 35, 43, 180, 0, 112]
abbrev dktX3_findOrder_0 : List UInt8 := dkwX3_findOrder_0 ++ dktX3_findOrder_1
theorem dksX3_findOrder_0 : cX3_findOrder.data.toList.drop 0 = dktX3_findOrder_0 := by decide +kernel
theorem dksX3_findOrder_1 : cX3_findOrder.data.toList.drop 23 = dktX3_findOrder_1 := dk_seg dksX3_findOrder_0 23 rfl rfl
theorem dksX3_findOrder_2 : cX3_findOrder.data.toList.drop 47 = dktX3_findOrder_2 := dk_seg dksX3_findOrder_1 24 rfl rfl
theorem dksX3_findOrder_3 : cX3_findOrder.data.toList.drop 67 = dktX3_findOrder_3 := dk_seg dksX3_findOrder_2 20 rfl rfl
theorem dksX3_findOrder_4 : cX3_findOrder.data.toList.drop 91 = dktX3_findOrder_4 := dk_seg dksX3_findOrder_3 24 rfl rfl
theorem dksX3_findOrder_5 : cX3_findOrder.data.toList.drop 115 = dktX3_findOrder_5 := dk_seg dksX3_findOrder_4 24 rfl rfl
theorem dX3_findOrder_0 : decode cX3_findOrder 0 = .ok (.new 109, 3) := dk_187 0 109 (dk_at dksX3_findOrder_0 0 rfl rfl)
theorem dX3_findOrder_3 : decode cX3_findOrder 3 = .ok (.dup, 1) := dk_89 (dk_at dksX3_findOrder_0 3 rfl rfl)
theorem dX3_findOrder_4 : decode cX3_findOrder 4 = .ok (.invokespecial 111, 3) := dk_183 0 111 (dk_at dksX3_findOrder_0 4 rfl rfl)
theorem dX3_findOrder_7 : decode cX3_findOrder 7 = .ok (.astore_n 2, 1) := dk_77 (dk_at dksX3_findOrder_0 7 rfl rfl)
theorem dX3_findOrder_8 : decode cX3_findOrder 8 = .ok (.aload_n 0, 1) := dk_42 (dk_at dksX3_findOrder_0 8 rfl rfl)
theorem dX3_findOrder_9 : decode cX3_findOrder 9 = .ok (.getfield 35, 3) := dk_180 0 35 (dk_at dksX3_findOrder_0 9 rfl rfl)
theorem dX3_findOrder_12 : decode cX3_findOrder 12 = .ok (.invokevirtual 58, 3) := dk_182 0 58 (dk_at dksX3_findOrder_0 12 rfl rfl)
theorem dX3_findOrder_15 : decode cX3_findOrder 15 = .ok (.aload_n 0, 1) := dk_42 (dk_at dksX3_findOrder_0 15 rfl rfl)
theorem dX3_findOrder_16 : decode cX3_findOrder 16 = .ok (.getfield 35, 3) := dk_180 0 35 (dk_at dksX3_findOrder_0 16 rfl rfl)
theorem dX3_findOrder_19 : decode cX3_findOrder 19 = .ok (.aload_n 1, 1) := dk_43 (dk_at dksX3_findOrder_0 19 rfl rfl)
theorem dX3_findOrder_20 : decode cX3_findOrder 20 = .ok (.getfield 112, 3) := dk_180 0 112 (dk_at dksX3_findOrder_0 20 rfl rfl)
theorem dX3_findOrder_23 : decode cX3_findOrder 23 = .ok (.invokevirtual 116, 3) := dk_182 0 116 (dk_at dksX3_findOrder_1 0 rfl rfl)
theorem dX3_findOrder_26 : decode cX3_findOrder 26 = .ok (.aload_n 2, 1) := dk_44 (dk_at dksX3_findOrder_1 3 rfl rfl)
theorem dX3_findOrder_27 : decode cX3_findOrder 27 = .ok (.aload_n 1, 1) := dk_43 (dk_at dksX3_findOrder_1 4 rfl rfl)
theorem dX3_findOrder_28 : decode cX3_findOrder 28 = .ok (.invokevirtual 119, 3) := dk_182 0 119 (dk_at dksX3_findOrder_1 5 rfl rfl)
theorem dX3_findOrder_31 : decode cX3_findOrder 31 = .ok (.pop, 1) := dk_87 (dk_at dksX3_findOrder_1 8 rfl rfl)
theorem dX3_findOrder_32 : decode cX3_findOrder 32 = .ok (.aload_n 2, 1) := dk_44 (dk_at dksX3_findOrder_1 9 rfl rfl)
theorem dX3_findOrder_33 : decode cX3_findOrder 33 = .ok (.invokevirtual 123, 3) := dk_182 0 123 (dk_at dksX3_findOrder_1 10 rfl rfl)
theorem dX3_findOrder_36 : decode cX3_findOrder 36 = .ok (.ifCond .ne 91, 3) := dk_154 0 91 (dk_at dksX3_findOrder_1 13 rfl rfl)
theorem dX3_findOrder_39 : decode cX3_findOrder 39 = .ok (.aload_n 2, 1) := dk_44 (dk_at dksX3_findOrder_1 16 rfl rfl)
theorem dX3_findOrder_40 : decode cX3_findOrder 40 = .ok (.invokevirtual 126, 3) := dk_182 0 126 (dk_at dksX3_findOrder_1 17 rfl rfl)
theorem dX3_findOrder_43 : decode cX3_findOrder 43 = .ok (.checkcast 76, 3) := dk_192 0 76 (dk_at dksX3_findOrder_1 20 rfl rfl)
theorem dX3_findOrder_46 : decode cX3_findOrder 46 = .ok (.astore_n 3, 1) := dk_78 (dk_at dksX3_findOrder_1 23 rfl rfl)
theorem dX3_findOrder_47 : decode cX3_findOrder 47 = .ok (.aload_n 0, 1) := dk_42 (dk_at dksX3_findOrder_2 0 rfl rfl)
theorem dX3_findOrder_48 : decode cX3_findOrder 48 = .ok (.getfield 23, 3) := dk_180 0 23 (dk_at dksX3_findOrder_2 1 rfl rfl)
theorem dX3_findOrder_51 : decode cX3_findOrder 51 = .ok (.aload_n 3, 1) := dk_45 (dk_at dksX3_findOrder_2 4 rfl rfl)
theorem dX3_findOrder_52 : decode cX3_findOrder 52 = .ok (.invokevirtual 129, 3) := dk_182 0 129 (dk_at dksX3_findOrder_2 5 rfl rfl)
theorem dX3_findOrder_55 : decode cX3_findOrder 55 = .ok (.pop, 1) := dk_87 (dk_at dksX3_findOrder_2 8 rfl rfl)
theorem dX3_findOrder_56 : decode cX3_findOrder 56 = .ok (.aload_n 3, 1) := dk_45 (dk_at dksX3_findOrder_2 9 rfl rfl)
theorem dX3_findOrder_57 : decode cX3_findOrder 57 = .ok (.getfield 130, 3) := dk_180 0 130 (dk_at dksX3_findOrder_2 10 rfl rfl)
theorem dX3_findOrder_60 : decode cX3_findOrder 60 = .ok (.invokevirtual 62, 3) := dk_182 0 62 (dk_at dksX3_findOrder_2 13 rfl rfl)
theorem dX3_findOrder_63 : decode cX3_findOrder 63 = .ok (.astore 4, 2) := dk_58 4 (dk_at dksX3_findOrder_2 16 rfl rfl)
theorem dX3_findOrder_65 : decode cX3_findOrder 65 = .ok (.aload 4, 2) := dk_25 4 (dk_at dksX3_findOrder_2 18 rfl rfl)
theorem dX3_findOrder_67 : decode cX3_findOrder 67 = .ok (.invokeinterface 66 1, 5) := by decide +kernel
theorem dX3_findOrder_72 : decode cX3_findOrder 72 = .ok (.ifCond .eq 52, 3) := dk_153 0 52 (dk_at dksX3_findOrder_3 5 rfl rfl)
theorem dX3_findOrder_75 : decode cX3_findOrder 75 = .ok (.aload 4, 2) := dk_25 4 (dk_at dksX3_findOrder_3 8 rfl rfl)
theorem dX3_findOrder_77 : decode cX3_findOrder 77 = .ok (.invokeinterface 72 1, 5) := by decide +kernel
theorem dX3_findOrder_82 : decode cX3_findOrder 82 = .ok (.checkcast 76, 3) := dk_192 0 76 (dk_at dksX3_findOrder_3 15 rfl rfl)
theorem dX3_findOrder_85 : decode cX3_findOrder 85 = .ok (.astore 5, 2) := dk_58 5 (dk_at dksX3_findOrder_3 18 rfl rfl)
theorem dX3_findOrder_87 : decode cX3_findOrder 87 = .ok (.aload_n 0, 1) := dk_42 (dk_at dksX3_findOrder_3 20 rfl rfl)
theorem dX3_findOrder_88 : decode cX3_findOrder 88 = .ok (.getfield 35, 3) := dk_180 0 35 (dk_at dksX3_findOrder_3 21 rfl rfl)
theorem dX3_findOrder_91 : decode cX3_findOrder 91 = .ok (.aload 5, 2) := dk_25 5 (dk_at dksX3_findOrder_4 0 rfl rfl)
theorem dX3_findOrder_93 : decode cX3_findOrder 93 = .ok (.getfield 112, 3) := dk_180 0 112 (dk_at dksX3_findOrder_4 2 rfl rfl)
theorem dX3_findOrder_96 : decode cX3_findOrder 96 = .ok (.invokevirtual 133, 3) := dk_182 0 133 (dk_at dksX3_findOrder_4 5 rfl rfl)
theorem dX3_findOrder_99 : decode cX3_findOrder 99 = .ok (.ifCond .ne 22, 3) := dk_154 0 22 (dk_at dksX3_findOrder_4 8 rfl rfl)
theorem dX3_findOrder_102 : decode cX3_findOrder 102 = .ok (.aload_n 0, 1) := dk_42 (dk_at dksX3_findOrder_4 11 rfl rfl)
theorem dX3_findOrder_103 : decode cX3_findOrder 103 = .ok (.getfield 35, 3) := dk_180 0 35 (dk_at dksX3_findOrder_4 12 rfl rfl)
theorem dX3_findOrder_106 : decode cX3_findOrder 106 = .ok (.aload 5, 2) := dk_25 5 (dk_at dksX3_findOrder_4 15 rfl rfl)
theorem dX3_findOrder_108 : decode cX3_findOrder 108 = .ok (.getfield 112, 3) := dk_180 0 112 (dk_at dksX3_findOrder_4 17 rfl rfl)
theorem dX3_findOrder_111 : decode cX3_findOrder 111 = .ok (.invokevirtual 116, 3) := dk_182 0 116 (dk_at dksX3_findOrder_4 20 rfl rfl)
theorem dX3_findOrder_114 : decode cX3_findOrder 114 = .ok (.aload_n 2, 1) := dk_44 (dk_at dksX3_findOrder_4 23 rfl rfl)
theorem dX3_findOrder_115 : decode cX3_findOrder 115 = .ok (.aload 5, 2) := dk_25 5 (dk_at dksX3_findOrder_5 0 rfl rfl)
theorem dX3_findOrder_117 : decode cX3_findOrder 117 = .ok (.invokevirtual 119, 3) := dk_182 0 119 (dk_at dksX3_findOrder_5 2 rfl rfl)
theorem dX3_findOrder_120 : decode cX3_findOrder 120 = .ok (.pop, 1) := dk_87 (dk_at dksX3_findOrder_5 5 rfl rfl)
theorem dX3_findOrder_121 : decode cX3_findOrder 121 = .ok (.goto (-56), 3) := dk_167 255 200 (dk_at dksX3_findOrder_5 6 rfl rfl)
theorem dX3_findOrder_124 : decode cX3_findOrder 124 = .ok (.goto (-92), 3) := dk_167 255 164 (dk_at dksX3_findOrder_5 9 rfl rfl)
theorem dX3_findOrder_127 : decode cX3_findOrder 127 = .ok (.return_, 1) := dk_177 (dk_at dksX3_findOrder_5 12 rfl rfl)
abbrev cX3_findBegun : ByteArray := prog_8_method_4_code
def yX3_findBegun : MethodName := ⟨RX3, "findBegun", "(LLinkStation$Module;)V"⟩
def dkwX3_findBegun_3 : List UInt8 := [182, 0, 129, 87, 177]
abbrev dktX3_findBegun_3 : List UInt8 := dkwX3_findBegun_3 ++ []
def dkwX3_findBegun_2 : List UInt8 := [180, 0, 112, 182, 0, 133, 154, 0, 8, 42, 45, 182, 0, 59, 167, 255, 218, 42, 180, 0, 27, 43]
abbrev dktX3_findBegun_2 : List UInt8 := dkwX3_findBegun_2 ++ dktX3_findBegun_3
def dkwX3_findBegun_1 : List UInt8 := [185, 0, 66, 1, 0, 153, 0, 35, 44, 185, 0, 72, 1, 0, 192, 0, 76, 78, 42, 180, 0, 35, 45]
abbrev dktX3_findBegun_1 : List UInt8 := dkwX3_findBegun_1 ++ dktX3_findBegun_2
def dkwX3_findBegun_0 : List UInt8 := [42, 180, 0, 35, 43, 180, 0, 112, 182, 0, 116, 43, 180, 0, 130, 182, 0, 62, 77, 44]
abbrev dktX3_findBegun_0 : List UInt8 := dkwX3_findBegun_0 ++ dktX3_findBegun_1
theorem dksX3_findBegun_0 : cX3_findBegun.data.toList.drop 0 = dktX3_findBegun_0 := by decide +kernel
theorem dksX3_findBegun_1 : cX3_findBegun.data.toList.drop 20 = dktX3_findBegun_1 := dk_seg dksX3_findBegun_0 20 rfl rfl
theorem dksX3_findBegun_2 : cX3_findBegun.data.toList.drop 43 = dktX3_findBegun_2 := dk_seg dksX3_findBegun_1 23 rfl rfl
theorem dksX3_findBegun_3 : cX3_findBegun.data.toList.drop 65 = dktX3_findBegun_3 := dk_seg dksX3_findBegun_2 22 rfl rfl
theorem dX3_findBegun_0 : decode cX3_findBegun 0 = .ok (.aload_n 0, 1) := dk_42 (dk_at dksX3_findBegun_0 0 rfl rfl)
theorem dX3_findBegun_1 : decode cX3_findBegun 1 = .ok (.getfield 35, 3) := dk_180 0 35 (dk_at dksX3_findBegun_0 1 rfl rfl)
theorem dX3_findBegun_4 : decode cX3_findBegun 4 = .ok (.aload_n 1, 1) := dk_43 (dk_at dksX3_findBegun_0 4 rfl rfl)
theorem dX3_findBegun_5 : decode cX3_findBegun 5 = .ok (.getfield 112, 3) := dk_180 0 112 (dk_at dksX3_findBegun_0 5 rfl rfl)
theorem dX3_findBegun_8 : decode cX3_findBegun 8 = .ok (.invokevirtual 116, 3) := dk_182 0 116 (dk_at dksX3_findBegun_0 8 rfl rfl)
theorem dX3_findBegun_11 : decode cX3_findBegun 11 = .ok (.aload_n 1, 1) := dk_43 (dk_at dksX3_findBegun_0 11 rfl rfl)
theorem dX3_findBegun_12 : decode cX3_findBegun 12 = .ok (.getfield 130, 3) := dk_180 0 130 (dk_at dksX3_findBegun_0 12 rfl rfl)
theorem dX3_findBegun_15 : decode cX3_findBegun 15 = .ok (.invokevirtual 62, 3) := dk_182 0 62 (dk_at dksX3_findBegun_0 15 rfl rfl)
theorem dX3_findBegun_18 : decode cX3_findBegun 18 = .ok (.astore_n 2, 1) := dk_77 (dk_at dksX3_findBegun_0 18 rfl rfl)
theorem dX3_findBegun_19 : decode cX3_findBegun 19 = .ok (.aload_n 2, 1) := dk_44 (dk_at dksX3_findBegun_0 19 rfl rfl)
theorem dX3_findBegun_20 : decode cX3_findBegun 20 = .ok (.invokeinterface 66 1, 5) := by decide +kernel
theorem dX3_findBegun_25 : decode cX3_findBegun 25 = .ok (.ifCond .eq 35, 3) := dk_153 0 35 (dk_at dksX3_findBegun_1 5 rfl rfl)
theorem dX3_findBegun_28 : decode cX3_findBegun 28 = .ok (.aload_n 2, 1) := dk_44 (dk_at dksX3_findBegun_1 8 rfl rfl)
theorem dX3_findBegun_29 : decode cX3_findBegun 29 = .ok (.invokeinterface 72 1, 5) := by decide +kernel
theorem dX3_findBegun_34 : decode cX3_findBegun 34 = .ok (.checkcast 76, 3) := dk_192 0 76 (dk_at dksX3_findBegun_1 14 rfl rfl)
theorem dX3_findBegun_37 : decode cX3_findBegun 37 = .ok (.astore_n 3, 1) := dk_78 (dk_at dksX3_findBegun_1 17 rfl rfl)
theorem dX3_findBegun_38 : decode cX3_findBegun 38 = .ok (.aload_n 0, 1) := dk_42 (dk_at dksX3_findBegun_1 18 rfl rfl)
theorem dX3_findBegun_39 : decode cX3_findBegun 39 = .ok (.getfield 35, 3) := dk_180 0 35 (dk_at dksX3_findBegun_1 19 rfl rfl)
theorem dX3_findBegun_42 : decode cX3_findBegun 42 = .ok (.aload_n 3, 1) := dk_45 (dk_at dksX3_findBegun_1 22 rfl rfl)
theorem dX3_findBegun_43 : decode cX3_findBegun 43 = .ok (.getfield 112, 3) := dk_180 0 112 (dk_at dksX3_findBegun_2 0 rfl rfl)
theorem dX3_findBegun_46 : decode cX3_findBegun 46 = .ok (.invokevirtual 133, 3) := dk_182 0 133 (dk_at dksX3_findBegun_2 3 rfl rfl)
theorem dX3_findBegun_49 : decode cX3_findBegun 49 = .ok (.ifCond .ne 8, 3) := dk_154 0 8 (dk_at dksX3_findBegun_2 6 rfl rfl)
theorem dX3_findBegun_52 : decode cX3_findBegun 52 = .ok (.aload_n 0, 1) := dk_42 (dk_at dksX3_findBegun_2 9 rfl rfl)
theorem dX3_findBegun_53 : decode cX3_findBegun 53 = .ok (.aload_n 3, 1) := dk_45 (dk_at dksX3_findBegun_2 10 rfl rfl)
theorem dX3_findBegun_54 : decode cX3_findBegun 54 = .ok (.invokevirtual 59, 3) := dk_182 0 59 (dk_at dksX3_findBegun_2 11 rfl rfl)
theorem dX3_findBegun_57 : decode cX3_findBegun 57 = .ok (.goto (-38), 3) := dk_167 255 218 (dk_at dksX3_findBegun_2 14 rfl rfl)
theorem dX3_findBegun_60 : decode cX3_findBegun 60 = .ok (.aload_n 0, 1) := dk_42 (dk_at dksX3_findBegun_2 17 rfl rfl)
theorem dX3_findBegun_61 : decode cX3_findBegun 61 = .ok (.getfield 27, 3) := dk_180 0 27 (dk_at dksX3_findBegun_2 18 rfl rfl)
theorem dX3_findBegun_64 : decode cX3_findBegun 64 = .ok (.aload_n 1, 1) := dk_43 (dk_at dksX3_findBegun_2 21 rfl rfl)
theorem dX3_findBegun_65 : decode cX3_findBegun 65 = .ok (.invokevirtual 129, 3) := dk_182 0 129 (dk_at dksX3_findBegun_3 0 rfl rfl)
theorem dX3_findBegun_68 : decode cX3_findBegun 68 = .ok (.pop, 1) := dk_87 (dk_at dksX3_findBegun_3 3 rfl rfl)
theorem dX3_findBegun_69 : decode cX3_findBegun 69 = .ok (.return_, 1) := dk_177 (dk_at dksX3_findBegun_3 4 rfl rfl)
abbrev cX3_see : ByteArray := prog_8_method_5_code
def yX3_see : MethodName := ⟨RX3, "see", "(ILLinkStation$Definition;)V"⟩
def dkwX3_see_2 : List UInt8 := [184, 0, 137, 44, 182, 0, 147, 87, 177]
abbrev dktX3_see_2 : List UInt8 := dkwX3_see_2 ++ []
def dkwX3_see_1 : List UInt8 := [198, 0, 19, 45, 4, 182, 0, 144, 153, 0, 24, 44, 4, 182, 0, 144, 154, 0, 16, 42, 180, 0, 42, 27]
abbrev dktX3_see_1 : List UInt8 := dkwX3_see_1 ++ dktX3_see_2
def dkwX3_see_0 : List UInt8 := [42, 180, 0, 42, 27, 184, 0, 137, 182, 0, 141, 192, 0, 9, 78, 44, 7, 182, 0, 144, 154, 0, 36, 45]
abbrev dktX3_see_0 : List UInt8 := dkwX3_see_0 ++ dktX3_see_1
theorem dksX3_see_0 : cX3_see.data.toList.drop 0 = dktX3_see_0 := by decide +kernel
theorem dksX3_see_1 : cX3_see.data.toList.drop 24 = dktX3_see_1 := dk_seg dksX3_see_0 24 rfl rfl
theorem dksX3_see_2 : cX3_see.data.toList.drop 48 = dktX3_see_2 := dk_seg dksX3_see_1 24 rfl rfl
theorem dX3_see_0 : decode cX3_see 0 = .ok (.aload_n 0, 1) := dk_42 (dk_at dksX3_see_0 0 rfl rfl)
theorem dX3_see_1 : decode cX3_see 1 = .ok (.getfield 42, 3) := dk_180 0 42 (dk_at dksX3_see_0 1 rfl rfl)
theorem dX3_see_4 : decode cX3_see 4 = .ok (.iload_n 1, 1) := dk_27 (dk_at dksX3_see_0 4 rfl rfl)
theorem dX3_see_5 : decode cX3_see 5 = .ok (.invokestatic 137, 3) := dk_184 0 137 (dk_at dksX3_see_0 5 rfl rfl)
theorem dX3_see_8 : decode cX3_see 8 = .ok (.invokevirtual 141, 3) := dk_182 0 141 (dk_at dksX3_see_0 8 rfl rfl)
theorem dX3_see_11 : decode cX3_see 11 = .ok (.checkcast 9, 3) := dk_192 0 9 (dk_at dksX3_see_0 11 rfl rfl)
theorem dX3_see_14 : decode cX3_see 14 = .ok (.astore_n 3, 1) := dk_78 (dk_at dksX3_see_0 14 rfl rfl)
theorem dX3_see_15 : decode cX3_see 15 = .ok (.aload_n 2, 1) := dk_44 (dk_at dksX3_see_0 15 rfl rfl)
theorem dX3_see_16 : decode cX3_see 16 = .ok (.iconst 4, 1) := dk_7 (dk_at dksX3_see_0 16 rfl rfl)
theorem dX3_see_17 : decode cX3_see 17 = .ok (.invokevirtual 144, 3) := dk_182 0 144 (dk_at dksX3_see_0 17 rfl rfl)
theorem dX3_see_20 : decode cX3_see 20 = .ok (.ifCond .ne 36, 3) := dk_154 0 36 (dk_at dksX3_see_0 20 rfl rfl)
theorem dX3_see_23 : decode cX3_see 23 = .ok (.aload_n 3, 1) := dk_45 (dk_at dksX3_see_0 23 rfl rfl)
theorem dX3_see_24 : decode cX3_see 24 = .ok (.ifnull 19, 3) := dk_198 0 19 (dk_at dksX3_see_1 0 rfl rfl)
theorem dX3_see_27 : decode cX3_see 27 = .ok (.aload_n 3, 1) := dk_45 (dk_at dksX3_see_1 3 rfl rfl)
theorem dX3_see_28 : decode cX3_see 28 = .ok (.iconst 1, 1) := dk_4 (dk_at dksX3_see_1 4 rfl rfl)
theorem dX3_see_29 : decode cX3_see 29 = .ok (.invokevirtual 144, 3) := dk_182 0 144 (dk_at dksX3_see_1 5 rfl rfl)
theorem dX3_see_32 : decode cX3_see 32 = .ok (.ifCond .eq 24, 3) := dk_153 0 24 (dk_at dksX3_see_1 8 rfl rfl)
theorem dX3_see_35 : decode cX3_see 35 = .ok (.aload_n 2, 1) := dk_44 (dk_at dksX3_see_1 11 rfl rfl)
theorem dX3_see_36 : decode cX3_see 36 = .ok (.iconst 1, 1) := dk_4 (dk_at dksX3_see_1 12 rfl rfl)
theorem dX3_see_37 : decode cX3_see 37 = .ok (.invokevirtual 144, 3) := dk_182 0 144 (dk_at dksX3_see_1 13 rfl rfl)
theorem dX3_see_40 : decode cX3_see 40 = .ok (.ifCond .ne 16, 3) := dk_154 0 16 (dk_at dksX3_see_1 16 rfl rfl)
theorem dX3_see_43 : decode cX3_see 43 = .ok (.aload_n 0, 1) := dk_42 (dk_at dksX3_see_1 19 rfl rfl)
theorem dX3_see_44 : decode cX3_see 44 = .ok (.getfield 42, 3) := dk_180 0 42 (dk_at dksX3_see_1 20 rfl rfl)
theorem dX3_see_47 : decode cX3_see 47 = .ok (.iload_n 1, 1) := dk_27 (dk_at dksX3_see_1 23 rfl rfl)
theorem dX3_see_48 : decode cX3_see 48 = .ok (.invokestatic 137, 3) := dk_184 0 137 (dk_at dksX3_see_2 0 rfl rfl)
theorem dX3_see_51 : decode cX3_see 51 = .ok (.aload_n 2, 1) := dk_44 (dk_at dksX3_see_2 3 rfl rfl)
theorem dX3_see_52 : decode cX3_see 52 = .ok (.invokevirtual 147, 3) := dk_182 0 147 (dk_at dksX3_see_2 4 rfl rfl)
theorem dX3_see_55 : decode cX3_see 55 = .ok (.pop, 1) := dk_87 (dk_at dksX3_see_2 7 rfl rfl)
theorem dX3_see_56 : decode cX3_see 56 = .ok (.return_, 1) := dk_177 (dk_at dksX3_see_2 8 rfl rfl)
abbrev cX3_look : ByteArray := prog_8_method_8_code
def yX3_look : MethodName := ⟨RX3, "look", "(LLinkStation$Module;)V"⟩
def dkwX3_look_3 : List UInt8 := [132, 2, 1, 167, 255, 205, 177]
abbrev dktX3_look_3 : List UInt8 := dkwX3_look_3 ++ []
def dkwX3_look_2 : List UInt8 := [182, 0, 186, 2, 159, 0, 20, 42, 43, 28, 45, 182, 0, 186, 45, 182, 0, 189, 182, 0, 193, 182, 0, 171]
abbrev dktX3_look_2 : List UInt8 := dkwX3_look_2 ++ dktX3_look_3
def dkwX3_look_1 : List UInt8 := [180, 0, 175, 182, 0, 178, 162, 0, 46, 43, 180, 0, 175, 28, 182, 0, 181, 192, 0, 184, 78, 45]
abbrev dktX3_look_1 : List UInt8 := dkwX3_look_1 ++ dktX3_look_2
def dkwX3_look_0 : List UInt8 := [43, 180, 0, 168, 2, 159, 0, 14, 42, 43, 2, 43, 180, 0, 168, 3, 182, 0, 171, 3, 61, 28, 43]
abbrev dktX3_look_0 : List UInt8 := dkwX3_look_0 ++ dktX3_look_1
theorem dksX3_look_0 : cX3_look.data.toList.drop 0 = dktX3_look_0 := by decide +kernel
theorem dksX3_look_1 : cX3_look.data.toList.drop 23 = dktX3_look_1 := dk_seg dksX3_look_0 23 rfl rfl
theorem dksX3_look_2 : cX3_look.data.toList.drop 45 = dktX3_look_2 := dk_seg dksX3_look_1 22 rfl rfl
theorem dksX3_look_3 : cX3_look.data.toList.drop 69 = dktX3_look_3 := dk_seg dksX3_look_2 24 rfl rfl
theorem dX3_look_0 : decode cX3_look 0 = .ok (.aload_n 1, 1) := dk_43 (dk_at dksX3_look_0 0 rfl rfl)
theorem dX3_look_1 : decode cX3_look 1 = .ok (.getfield 168, 3) := dk_180 0 168 (dk_at dksX3_look_0 1 rfl rfl)
theorem dX3_look_4 : decode cX3_look 4 = .ok (.iconst (-1), 1) := dk_2 (dk_at dksX3_look_0 4 rfl rfl)
theorem dX3_look_5 : decode cX3_look 5 = .ok (.if_icmp .eq 14, 3) := dk_159 0 14 (dk_at dksX3_look_0 5 rfl rfl)
theorem dX3_look_8 : decode cX3_look 8 = .ok (.aload_n 0, 1) := dk_42 (dk_at dksX3_look_0 8 rfl rfl)
theorem dX3_look_9 : decode cX3_look 9 = .ok (.aload_n 1, 1) := dk_43 (dk_at dksX3_look_0 9 rfl rfl)
theorem dX3_look_10 : decode cX3_look 10 = .ok (.iconst (-1), 1) := dk_2 (dk_at dksX3_look_0 10 rfl rfl)
theorem dX3_look_11 : decode cX3_look 11 = .ok (.aload_n 1, 1) := dk_43 (dk_at dksX3_look_0 11 rfl rfl)
theorem dX3_look_12 : decode cX3_look 12 = .ok (.getfield 168, 3) := dk_180 0 168 (dk_at dksX3_look_0 12 rfl rfl)
theorem dX3_look_15 : decode cX3_look 15 = .ok (.iconst 0, 1) := dk_3 (dk_at dksX3_look_0 15 rfl rfl)
theorem dX3_look_16 : decode cX3_look 16 = .ok (.invokevirtual 171, 3) := dk_182 0 171 (dk_at dksX3_look_0 16 rfl rfl)
theorem dX3_look_19 : decode cX3_look 19 = .ok (.iconst 0, 1) := dk_3 (dk_at dksX3_look_0 19 rfl rfl)
theorem dX3_look_20 : decode cX3_look 20 = .ok (.istore_n 2, 1) := dk_61 (dk_at dksX3_look_0 20 rfl rfl)
theorem dX3_look_21 : decode cX3_look 21 = .ok (.iload_n 2, 1) := dk_28 (dk_at dksX3_look_0 21 rfl rfl)
theorem dX3_look_22 : decode cX3_look 22 = .ok (.aload_n 1, 1) := dk_43 (dk_at dksX3_look_0 22 rfl rfl)
theorem dX3_look_23 : decode cX3_look 23 = .ok (.getfield 175, 3) := dk_180 0 175 (dk_at dksX3_look_1 0 rfl rfl)
theorem dX3_look_26 : decode cX3_look 26 = .ok (.invokevirtual 178, 3) := dk_182 0 178 (dk_at dksX3_look_1 3 rfl rfl)
theorem dX3_look_29 : decode cX3_look 29 = .ok (.if_icmp .ge 46, 3) := dk_162 0 46 (dk_at dksX3_look_1 6 rfl rfl)
theorem dX3_look_32 : decode cX3_look 32 = .ok (.aload_n 1, 1) := dk_43 (dk_at dksX3_look_1 9 rfl rfl)
theorem dX3_look_33 : decode cX3_look 33 = .ok (.getfield 175, 3) := dk_180 0 175 (dk_at dksX3_look_1 10 rfl rfl)
theorem dX3_look_36 : decode cX3_look 36 = .ok (.iload_n 2, 1) := dk_28 (dk_at dksX3_look_1 13 rfl rfl)
theorem dX3_look_37 : decode cX3_look 37 = .ok (.invokevirtual 181, 3) := dk_182 0 181 (dk_at dksX3_look_1 14 rfl rfl)
theorem dX3_look_40 : decode cX3_look 40 = .ok (.checkcast 184, 3) := dk_192 0 184 (dk_at dksX3_look_1 17 rfl rfl)
theorem dX3_look_43 : decode cX3_look 43 = .ok (.astore_n 3, 1) := dk_78 (dk_at dksX3_look_1 20 rfl rfl)
theorem dX3_look_44 : decode cX3_look 44 = .ok (.aload_n 3, 1) := dk_45 (dk_at dksX3_look_1 21 rfl rfl)
theorem dX3_look_45 : decode cX3_look 45 = .ok (.invokevirtual 186, 3) := dk_182 0 186 (dk_at dksX3_look_2 0 rfl rfl)
theorem dX3_look_48 : decode cX3_look 48 = .ok (.iconst (-1), 1) := dk_2 (dk_at dksX3_look_2 3 rfl rfl)
theorem dX3_look_49 : decode cX3_look 49 = .ok (.if_icmp .eq 20, 3) := dk_159 0 20 (dk_at dksX3_look_2 4 rfl rfl)
theorem dX3_look_52 : decode cX3_look 52 = .ok (.aload_n 0, 1) := dk_42 (dk_at dksX3_look_2 7 rfl rfl)
theorem dX3_look_53 : decode cX3_look 53 = .ok (.aload_n 1, 1) := dk_43 (dk_at dksX3_look_2 8 rfl rfl)
theorem dX3_look_54 : decode cX3_look 54 = .ok (.iload_n 2, 1) := dk_28 (dk_at dksX3_look_2 9 rfl rfl)
theorem dX3_look_55 : decode cX3_look 55 = .ok (.aload_n 3, 1) := dk_45 (dk_at dksX3_look_2 10 rfl rfl)
theorem dX3_look_56 : decode cX3_look 56 = .ok (.invokevirtual 186, 3) := dk_182 0 186 (dk_at dksX3_look_2 11 rfl rfl)
theorem dX3_look_59 : decode cX3_look 59 = .ok (.aload_n 3, 1) := dk_45 (dk_at dksX3_look_2 14 rfl rfl)
theorem dX3_look_60 : decode cX3_look 60 = .ok (.invokevirtual 189, 3) := dk_182 0 189 (dk_at dksX3_look_2 15 rfl rfl)
theorem dX3_look_63 : decode cX3_look 63 = .ok (.invokevirtual 193, 3) := dk_182 0 193 (dk_at dksX3_look_2 18 rfl rfl)
theorem dX3_look_66 : decode cX3_look 66 = .ok (.invokevirtual 171, 3) := dk_182 0 171 (dk_at dksX3_look_2 21 rfl rfl)
theorem dX3_look_69 : decode cX3_look 69 = .ok (.iinc 2 1, 3) := dk_132 2 1 (dk_at dksX3_look_3 0 rfl rfl)
theorem dX3_look_72 : decode cX3_look 72 = .ok (.goto (-51), 3) := dk_167 255 205 (dk_at dksX3_look_3 3 rfl rfl)
theorem dX3_look_75 : decode cX3_look 75 = .ok (.return_, 1) := dk_177 (dk_at dksX3_look_3 6 rfl rfl)
abbrev cX3_need : ByteArray := prog_8_method_7_code
def yX3_need : MethodName := ⟨RX3, "need", "(LLinkStation$Module;IIZ)V"⟩
def dkwX3_need_2 : List UInt8 := [180, 0, 164, 21, 4, 159, 0, 18, 42, 180, 0, 46, 5, 43, 180, 0, 112, 28, 29, 182, 0, 158, 191, 177]
abbrev dktX3_need_2 : List UInt8 := dkwX3_need_2 ++ []
def dkwX3_need_1 : List UInt8 := [182, 0, 133, 154, 0, 43, 42, 180, 0, 46, 4, 43, 180, 0, 112, 28, 29, 182, 0, 158, 191, 25, 5]
abbrev dktX3_need_1 : List UInt8 := dkwX3_need_1 ++ dktX3_need_2
def dkwX3_need_0 : List UInt8 := [42, 43, 29, 182, 0, 151, 58, 5, 25, 5, 42, 180, 0, 14, 166, 0, 29, 43, 180, 0, 155, 29]
abbrev dktX3_need_0 : List UInt8 := dkwX3_need_0 ++ dktX3_need_1
theorem dksX3_need_0 : cX3_need.data.toList.drop 0 = dktX3_need_0 := by decide +kernel
theorem dksX3_need_1 : cX3_need.data.toList.drop 22 = dktX3_need_1 := dk_seg dksX3_need_0 22 rfl rfl
theorem dksX3_need_2 : cX3_need.data.toList.drop 45 = dktX3_need_2 := dk_seg dksX3_need_1 23 rfl rfl
theorem dX3_need_0 : decode cX3_need 0 = .ok (.aload_n 0, 1) := dk_42 (dk_at dksX3_need_0 0 rfl rfl)
theorem dX3_need_1 : decode cX3_need 1 = .ok (.aload_n 1, 1) := dk_43 (dk_at dksX3_need_0 1 rfl rfl)
theorem dX3_need_2 : decode cX3_need 2 = .ok (.iload_n 3, 1) := dk_29 (dk_at dksX3_need_0 2 rfl rfl)
theorem dX3_need_3 : decode cX3_need 3 = .ok (.invokevirtual 151, 3) := dk_182 0 151 (dk_at dksX3_need_0 3 rfl rfl)
theorem dX3_need_6 : decode cX3_need 6 = .ok (.astore 5, 2) := dk_58 5 (dk_at dksX3_need_0 6 rfl rfl)
theorem dX3_need_8 : decode cX3_need 8 = .ok (.aload 5, 2) := dk_25 5 (dk_at dksX3_need_0 8 rfl rfl)
theorem dX3_need_10 : decode cX3_need 10 = .ok (.aload_n 0, 1) := dk_42 (dk_at dksX3_need_0 10 rfl rfl)
theorem dX3_need_11 : decode cX3_need 11 = .ok (.getfield 14, 3) := dk_180 0 14 (dk_at dksX3_need_0 11 rfl rfl)
theorem dX3_need_14 : decode cX3_need 14 = .ok (.if_acmp .ne 29, 3) := dk_166 0 29 (dk_at dksX3_need_0 14 rfl rfl)
theorem dX3_need_17 : decode cX3_need 17 = .ok (.aload_n 1, 1) := dk_43 (dk_at dksX3_need_0 17 rfl rfl)
theorem dX3_need_18 : decode cX3_need 18 = .ok (.getfield 155, 3) := dk_180 0 155 (dk_at dksX3_need_0 18 rfl rfl)
theorem dX3_need_21 : decode cX3_need 21 = .ok (.iload_n 3, 1) := dk_29 (dk_at dksX3_need_0 21 rfl rfl)
theorem dX3_need_22 : decode cX3_need 22 = .ok (.invokevirtual 133, 3) := dk_182 0 133 (dk_at dksX3_need_1 0 rfl rfl)
theorem dX3_need_25 : decode cX3_need 25 = .ok (.ifCond .ne 43, 3) := dk_154 0 43 (dk_at dksX3_need_1 3 rfl rfl)
theorem dX3_need_28 : decode cX3_need 28 = .ok (.aload_n 0, 1) := dk_42 (dk_at dksX3_need_1 6 rfl rfl)
theorem dX3_need_29 : decode cX3_need 29 = .ok (.getfield 46, 3) := dk_180 0 46 (dk_at dksX3_need_1 7 rfl rfl)
theorem dX3_need_32 : decode cX3_need 32 = .ok (.iconst 1, 1) := dk_4 (dk_at dksX3_need_1 10 rfl rfl)
theorem dX3_need_33 : decode cX3_need 33 = .ok (.aload_n 1, 1) := dk_43 (dk_at dksX3_need_1 11 rfl rfl)
theorem dX3_need_34 : decode cX3_need 34 = .ok (.getfield 112, 3) := dk_180 0 112 (dk_at dksX3_need_1 12 rfl rfl)
theorem dX3_need_37 : decode cX3_need 37 = .ok (.iload_n 2, 1) := dk_28 (dk_at dksX3_need_1 15 rfl rfl)
theorem dX3_need_38 : decode cX3_need 38 = .ok (.iload_n 3, 1) := dk_29 (dk_at dksX3_need_1 16 rfl rfl)
theorem dX3_need_39 : decode cX3_need 39 = .ok (.invokevirtual 158, 3) := dk_182 0 158 (dk_at dksX3_need_1 17 rfl rfl)
theorem dX3_need_42 : decode cX3_need 42 = .ok (.athrow, 1) := dk_191 (dk_at dksX3_need_1 20 rfl rfl)
theorem dX3_need_43 : decode cX3_need 43 = .ok (.aload 5, 2) := dk_25 5 (dk_at dksX3_need_1 21 rfl rfl)
theorem dX3_need_45 : decode cX3_need 45 = .ok (.getfield 164, 3) := dk_180 0 164 (dk_at dksX3_need_2 0 rfl rfl)
theorem dX3_need_48 : decode cX3_need 48 = .ok (.iload 4, 2) := dk_21 4 (dk_at dksX3_need_2 3 rfl rfl)
theorem dX3_need_50 : decode cX3_need 50 = .ok (.if_icmp .eq 18, 3) := dk_159 0 18 (dk_at dksX3_need_2 5 rfl rfl)
theorem dX3_need_53 : decode cX3_need 53 = .ok (.aload_n 0, 1) := dk_42 (dk_at dksX3_need_2 8 rfl rfl)
theorem dX3_need_54 : decode cX3_need 54 = .ok (.getfield 46, 3) := dk_180 0 46 (dk_at dksX3_need_2 9 rfl rfl)
theorem dX3_need_57 : decode cX3_need 57 = .ok (.iconst 2, 1) := dk_5 (dk_at dksX3_need_2 12 rfl rfl)
theorem dX3_need_58 : decode cX3_need 58 = .ok (.aload_n 1, 1) := dk_43 (dk_at dksX3_need_2 13 rfl rfl)
theorem dX3_need_59 : decode cX3_need 59 = .ok (.getfield 112, 3) := dk_180 0 112 (dk_at dksX3_need_2 14 rfl rfl)
theorem dX3_need_62 : decode cX3_need 62 = .ok (.iload_n 2, 1) := dk_28 (dk_at dksX3_need_2 17 rfl rfl)
theorem dX3_need_63 : decode cX3_need 63 = .ok (.iload_n 3, 1) := dk_29 (dk_at dksX3_need_2 18 rfl rfl)
theorem dX3_need_64 : decode cX3_need 64 = .ok (.invokevirtual 158, 3) := dk_182 0 158 (dk_at dksX3_need_2 19 rfl rfl)
theorem dX3_need_67 : decode cX3_need 67 = .ok (.athrow, 1) := dk_191 (dk_at dksX3_need_2 22 rfl rfl)
theorem dX3_need_68 : decode cX3_need 68 = .ok (.return_, 1) := dk_177 (dk_at dksX3_need_2 23 rfl rfl)
abbrev cX3_find : ByteArray := prog_8_method_6_code
def yX3_find : MethodName := ⟨RX3, "find", "(LLinkStation$Module;I)LLinkStation$Definition;"⟩
def dkwX3_find_2 : List UInt8 := [192, 0, 9, 58, 4, 25, 4, 199, 0, 10, 42, 180, 0, 14, 167, 0, 5, 25, 4, 176]
abbrev dktX3_find_2 : List UInt8 := dkwX3_find_2 ++ []
def dkwX3_find_1 : List UInt8 := [154, 0, 11, 45, 7, 182, 0, 144, 153, 0, 5, 45, 176, 42, 180, 0, 42, 28, 184, 0, 137, 182, 0, 141]
abbrev dktX3_find_1 : List UInt8 := dkwX3_find_1 ++ dktX3_find_2
def dkwX3_find_0 : List UInt8 := [43, 180, 0, 78, 28, 184, 0, 137, 182, 0, 141, 192, 0, 9, 78, 45, 198, 0, 21, 45, 5, 182, 0, 144]
abbrev dktX3_find_0 : List UInt8 := dkwX3_find_0 ++ dktX3_find_1
theorem dksX3_find_0 : cX3_find.data.toList.drop 0 = dktX3_find_0 := by decide +kernel
theorem dksX3_find_1 : cX3_find.data.toList.drop 24 = dktX3_find_1 := dk_seg dksX3_find_0 24 rfl rfl
theorem dksX3_find_2 : cX3_find.data.toList.drop 48 = dktX3_find_2 := dk_seg dksX3_find_1 24 rfl rfl
theorem dX3_find_0 : decode cX3_find 0 = .ok (.aload_n 1, 1) := dk_43 (dk_at dksX3_find_0 0 rfl rfl)
theorem dX3_find_1 : decode cX3_find 1 = .ok (.getfield 78, 3) := dk_180 0 78 (dk_at dksX3_find_0 1 rfl rfl)
theorem dX3_find_4 : decode cX3_find 4 = .ok (.iload_n 2, 1) := dk_28 (dk_at dksX3_find_0 4 rfl rfl)
theorem dX3_find_5 : decode cX3_find 5 = .ok (.invokestatic 137, 3) := dk_184 0 137 (dk_at dksX3_find_0 5 rfl rfl)
theorem dX3_find_8 : decode cX3_find 8 = .ok (.invokevirtual 141, 3) := dk_182 0 141 (dk_at dksX3_find_0 8 rfl rfl)
theorem dX3_find_11 : decode cX3_find 11 = .ok (.checkcast 9, 3) := dk_192 0 9 (dk_at dksX3_find_0 11 rfl rfl)
theorem dX3_find_14 : decode cX3_find 14 = .ok (.astore_n 3, 1) := dk_78 (dk_at dksX3_find_0 14 rfl rfl)
theorem dX3_find_15 : decode cX3_find 15 = .ok (.aload_n 3, 1) := dk_45 (dk_at dksX3_find_0 15 rfl rfl)
theorem dX3_find_16 : decode cX3_find 16 = .ok (.ifnull 21, 3) := dk_198 0 21 (dk_at dksX3_find_0 16 rfl rfl)
theorem dX3_find_19 : decode cX3_find 19 = .ok (.aload_n 3, 1) := dk_45 (dk_at dksX3_find_0 19 rfl rfl)
theorem dX3_find_20 : decode cX3_find 20 = .ok (.iconst 2, 1) := dk_5 (dk_at dksX3_find_0 20 rfl rfl)
theorem dX3_find_21 : decode cX3_find 21 = .ok (.invokevirtual 144, 3) := dk_182 0 144 (dk_at dksX3_find_0 21 rfl rfl)
theorem dX3_find_24 : decode cX3_find 24 = .ok (.ifCond .ne 11, 3) := dk_154 0 11 (dk_at dksX3_find_1 0 rfl rfl)
theorem dX3_find_27 : decode cX3_find 27 = .ok (.aload_n 3, 1) := dk_45 (dk_at dksX3_find_1 3 rfl rfl)
theorem dX3_find_28 : decode cX3_find 28 = .ok (.iconst 4, 1) := dk_7 (dk_at dksX3_find_1 4 rfl rfl)
theorem dX3_find_29 : decode cX3_find 29 = .ok (.invokevirtual 144, 3) := dk_182 0 144 (dk_at dksX3_find_1 5 rfl rfl)
theorem dX3_find_32 : decode cX3_find 32 = .ok (.ifCond .eq 5, 3) := dk_153 0 5 (dk_at dksX3_find_1 8 rfl rfl)
theorem dX3_find_35 : decode cX3_find 35 = .ok (.aload_n 3, 1) := dk_45 (dk_at dksX3_find_1 11 rfl rfl)
theorem dX3_find_36 : decode cX3_find 36 = .ok (.areturn, 1) := dk_176 (dk_at dksX3_find_1 12 rfl rfl)
theorem dX3_find_37 : decode cX3_find 37 = .ok (.aload_n 0, 1) := dk_42 (dk_at dksX3_find_1 13 rfl rfl)
theorem dX3_find_38 : decode cX3_find 38 = .ok (.getfield 42, 3) := dk_180 0 42 (dk_at dksX3_find_1 14 rfl rfl)
theorem dX3_find_41 : decode cX3_find 41 = .ok (.iload_n 2, 1) := dk_28 (dk_at dksX3_find_1 17 rfl rfl)
theorem dX3_find_42 : decode cX3_find 42 = .ok (.invokestatic 137, 3) := dk_184 0 137 (dk_at dksX3_find_1 18 rfl rfl)
theorem dX3_find_45 : decode cX3_find 45 = .ok (.invokevirtual 141, 3) := dk_182 0 141 (dk_at dksX3_find_1 21 rfl rfl)
theorem dX3_find_48 : decode cX3_find 48 = .ok (.checkcast 9, 3) := dk_192 0 9 (dk_at dksX3_find_2 0 rfl rfl)
theorem dX3_find_51 : decode cX3_find 51 = .ok (.astore 4, 2) := dk_58 4 (dk_at dksX3_find_2 3 rfl rfl)
theorem dX3_find_53 : decode cX3_find 53 = .ok (.aload 4, 2) := dk_25 4 (dk_at dksX3_find_2 5 rfl rfl)
theorem dX3_find_55 : decode cX3_find 55 = .ok (.ifnonnull 10, 3) := dk_199 0 10 (dk_at dksX3_find_2 7 rfl rfl)
theorem dX3_find_58 : decode cX3_find 58 = .ok (.aload_n 0, 1) := dk_42 (dk_at dksX3_find_2 10 rfl rfl)
theorem dX3_find_59 : decode cX3_find 59 = .ok (.getfield 14, 3) := dk_180 0 14 (dk_at dksX3_find_2 11 rfl rfl)
theorem dX3_find_62 : decode cX3_find 62 = .ok (.goto 5, 3) := dk_167 0 5 (dk_at dksX3_find_2 14 rfl rfl)
theorem dX3_find_65 : decode cX3_find 65 = .ok (.aload 4, 2) := dk_25 4 (dk_at dksX3_find_2 17 rfl rfl)
theorem dX3_find_67 : decode cX3_find 67 = .ok (.areturn, 1) := dk_176 (dk_at dksX3_find_2 19 rfl rfl)
abbrev cX3_place : ByteArray := prog_8_method_10_code
def yX3_place : MethodName := ⟨RX3, "place", "()V"⟩
def dkwX3_place_4 : List UInt8 := [182, 0, 147, 87, 167, 255, 208, 132, 1, 1, 167, 255, 153, 177]
abbrev dktX3_place_4 : List UInt8 := dkwX3_place_4 ++ []
def dkwX3_place_3 : List UInt8 := [25, 4, 182, 0, 189, 178, 0, 207, 166, 0, 20, 44, 180, 0, 204, 25, 4, 182, 0, 211, 184, 0, 137, 1]
abbrev dktX3_place_3 : List UInt8 := dkwX3_place_3 ++ dktX3_place_4
def dkwX3_place_2 : List UInt8 := [182, 0, 62, 78, 45, 185, 0, 66, 1, 0, 153, 0, 45, 45, 185, 0, 72, 1, 0, 192, 0, 184, 58, 4]
abbrev dktX3_place_2 : List UInt8 := dkwX3_place_2 ++ dktX3_place_3
def dkwX3_place_1 : List UInt8 := [77, 44, 17, 3, 232, 27, 4, 96, 104, 181, 0, 201, 44, 180, 0, 204, 182, 0, 53, 44, 180, 0, 175]
abbrev dktX3_place_1 : List UInt8 := dkwX3_place_1 ++ dktX3_place_2
def dkwX3_place_0 : List UInt8 := [3, 60, 27, 42, 180, 0, 23, 182, 0, 178, 162, 0, 98, 42, 180, 0, 23, 27, 182, 0, 181, 192, 0, 76]
abbrev dktX3_place_0 : List UInt8 := dkwX3_place_0 ++ dktX3_place_1
theorem dksX3_place_0 : cX3_place.data.toList.drop 0 = dktX3_place_0 := by decide +kernel
theorem dksX3_place_1 : cX3_place.data.toList.drop 24 = dktX3_place_1 := dk_seg dksX3_place_0 24 rfl rfl
theorem dksX3_place_2 : cX3_place.data.toList.drop 47 = dktX3_place_2 := dk_seg dksX3_place_1 23 rfl rfl
theorem dksX3_place_3 : cX3_place.data.toList.drop 71 = dktX3_place_3 := dk_seg dksX3_place_2 24 rfl rfl
theorem dksX3_place_4 : cX3_place.data.toList.drop 95 = dktX3_place_4 := dk_seg dksX3_place_3 24 rfl rfl
theorem dX3_place_0 : decode cX3_place 0 = .ok (.iconst 0, 1) := dk_3 (dk_at dksX3_place_0 0 rfl rfl)
theorem dX3_place_1 : decode cX3_place 1 = .ok (.istore_n 1, 1) := dk_60 (dk_at dksX3_place_0 1 rfl rfl)
theorem dX3_place_2 : decode cX3_place 2 = .ok (.iload_n 1, 1) := dk_27 (dk_at dksX3_place_0 2 rfl rfl)
theorem dX3_place_3 : decode cX3_place 3 = .ok (.aload_n 0, 1) := dk_42 (dk_at dksX3_place_0 3 rfl rfl)
theorem dX3_place_4 : decode cX3_place 4 = .ok (.getfield 23, 3) := dk_180 0 23 (dk_at dksX3_place_0 4 rfl rfl)
theorem dX3_place_7 : decode cX3_place 7 = .ok (.invokevirtual 178, 3) := dk_182 0 178 (dk_at dksX3_place_0 7 rfl rfl)
theorem dX3_place_10 : decode cX3_place 10 = .ok (.if_icmp .ge 98, 3) := dk_162 0 98 (dk_at dksX3_place_0 10 rfl rfl)
theorem dX3_place_13 : decode cX3_place 13 = .ok (.aload_n 0, 1) := dk_42 (dk_at dksX3_place_0 13 rfl rfl)
theorem dX3_place_14 : decode cX3_place 14 = .ok (.getfield 23, 3) := dk_180 0 23 (dk_at dksX3_place_0 14 rfl rfl)
theorem dX3_place_17 : decode cX3_place 17 = .ok (.iload_n 1, 1) := dk_27 (dk_at dksX3_place_0 17 rfl rfl)
theorem dX3_place_18 : decode cX3_place 18 = .ok (.invokevirtual 181, 3) := dk_182 0 181 (dk_at dksX3_place_0 18 rfl rfl)
theorem dX3_place_21 : decode cX3_place 21 = .ok (.checkcast 76, 3) := dk_192 0 76 (dk_at dksX3_place_0 21 rfl rfl)
theorem dX3_place_24 : decode cX3_place 24 = .ok (.astore_n 2, 1) := dk_77 (dk_at dksX3_place_1 0 rfl rfl)
theorem dX3_place_25 : decode cX3_place 25 = .ok (.aload_n 2, 1) := dk_44 (dk_at dksX3_place_1 1 rfl rfl)
theorem dX3_place_26 : decode cX3_place 26 = .ok (.sipush 1000, 3) := dk_17 3 232 (dk_at dksX3_place_1 2 rfl rfl)
theorem dX3_place_29 : decode cX3_place 29 = .ok (.iload_n 1, 1) := dk_27 (dk_at dksX3_place_1 5 rfl rfl)
theorem dX3_place_30 : decode cX3_place 30 = .ok (.iconst 1, 1) := dk_4 (dk_at dksX3_place_1 6 rfl rfl)
theorem dX3_place_31 : decode cX3_place 31 = .ok (.iadd, 1) := dk_96 (dk_at dksX3_place_1 7 rfl rfl)
theorem dX3_place_32 : decode cX3_place 32 = .ok (.imul, 1) := dk_104 (dk_at dksX3_place_1 8 rfl rfl)
theorem dX3_place_33 : decode cX3_place 33 = .ok (.putfield 201, 3) := dk_181 0 201 (dk_at dksX3_place_1 9 rfl rfl)
theorem dX3_place_36 : decode cX3_place 36 = .ok (.aload_n 2, 1) := dk_44 (dk_at dksX3_place_1 12 rfl rfl)
theorem dX3_place_37 : decode cX3_place 37 = .ok (.getfield 204, 3) := dk_180 0 204 (dk_at dksX3_place_1 13 rfl rfl)
theorem dX3_place_40 : decode cX3_place 40 = .ok (.invokevirtual 53, 3) := dk_182 0 53 (dk_at dksX3_place_1 16 rfl rfl)
theorem dX3_place_43 : decode cX3_place 43 = .ok (.aload_n 2, 1) := dk_44 (dk_at dksX3_place_1 19 rfl rfl)
theorem dX3_place_44 : decode cX3_place 44 = .ok (.getfield 175, 3) := dk_180 0 175 (dk_at dksX3_place_1 20 rfl rfl)
theorem dX3_place_47 : decode cX3_place 47 = .ok (.invokevirtual 62, 3) := dk_182 0 62 (dk_at dksX3_place_2 0 rfl rfl)
theorem dX3_place_50 : decode cX3_place 50 = .ok (.astore_n 3, 1) := dk_78 (dk_at dksX3_place_2 3 rfl rfl)
theorem dX3_place_51 : decode cX3_place 51 = .ok (.aload_n 3, 1) := dk_45 (dk_at dksX3_place_2 4 rfl rfl)
theorem dX3_place_52 : decode cX3_place 52 = .ok (.invokeinterface 66 1, 5) := by decide +kernel
theorem dX3_place_57 : decode cX3_place 57 = .ok (.ifCond .eq 45, 3) := dk_153 0 45 (dk_at dksX3_place_2 10 rfl rfl)
theorem dX3_place_60 : decode cX3_place 60 = .ok (.aload_n 3, 1) := dk_45 (dk_at dksX3_place_2 13 rfl rfl)
theorem dX3_place_61 : decode cX3_place 61 = .ok (.invokeinterface 72 1, 5) := by decide +kernel
theorem dX3_place_66 : decode cX3_place 66 = .ok (.checkcast 184, 3) := dk_192 0 184 (dk_at dksX3_place_2 19 rfl rfl)
theorem dX3_place_69 : decode cX3_place 69 = .ok (.astore 4, 2) := dk_58 4 (dk_at dksX3_place_2 22 rfl rfl)
theorem dX3_place_71 : decode cX3_place 71 = .ok (.aload 4, 2) := dk_25 4 (dk_at dksX3_place_3 0 rfl rfl)
theorem dX3_place_73 : decode cX3_place 73 = .ok (.invokevirtual 189, 3) := dk_182 0 189 (dk_at dksX3_place_3 2 rfl rfl)
theorem dX3_place_76 : decode cX3_place 76 = .ok (.getstatic 207, 3) := dk_178 0 207 (dk_at dksX3_place_3 5 rfl rfl)
theorem dX3_place_79 : decode cX3_place 79 = .ok (.if_acmp .ne 20, 3) := dk_166 0 20 (dk_at dksX3_place_3 8 rfl rfl)
theorem dX3_place_82 : decode cX3_place 82 = .ok (.aload_n 2, 1) := dk_44 (dk_at dksX3_place_3 11 rfl rfl)
theorem dX3_place_83 : decode cX3_place 83 = .ok (.getfield 204, 3) := dk_180 0 204 (dk_at dksX3_place_3 12 rfl rfl)
theorem dX3_place_86 : decode cX3_place 86 = .ok (.aload 4, 2) := dk_25 4 (dk_at dksX3_place_3 15 rfl rfl)
theorem dX3_place_88 : decode cX3_place 88 = .ok (.invokevirtual 211, 3) := dk_182 0 211 (dk_at dksX3_place_3 17 rfl rfl)
theorem dX3_place_91 : decode cX3_place 91 = .ok (.invokestatic 137, 3) := dk_184 0 137 (dk_at dksX3_place_3 20 rfl rfl)
theorem dX3_place_94 : decode cX3_place 94 = .ok (.aconst_null, 1) := dk_1 (dk_at dksX3_place_3 23 rfl rfl)
theorem dX3_place_95 : decode cX3_place 95 = .ok (.invokevirtual 147, 3) := dk_182 0 147 (dk_at dksX3_place_4 0 rfl rfl)
theorem dX3_place_98 : decode cX3_place 98 = .ok (.pop, 1) := dk_87 (dk_at dksX3_place_4 3 rfl rfl)
theorem dX3_place_99 : decode cX3_place 99 = .ok (.goto (-48), 3) := dk_167 255 208 (dk_at dksX3_place_4 4 rfl rfl)
theorem dX3_place_102 : decode cX3_place 102 = .ok (.iinc 1 1, 3) := dk_132 1 1 (dk_at dksX3_place_4 7 rfl rfl)
theorem dX3_place_105 : decode cX3_place 105 = .ok (.goto (-103), 3) := dk_167 255 153 (dk_at dksX3_place_4 10 rfl rfl)
theorem dX3_place_108 : decode cX3_place 108 = .ok (.return_, 1) := dk_177 (dk_at dksX3_place_4 13 rfl rfl)
abbrev cX3_begin : ByteArray := prog_8_method_11_code
def yX3_begin : MethodName := ⟨RX3, "begin", "(Z)V"⟩
def dkwX3_begin_6 : List UInt8 := [182, 0, 151, 185, 0, 227, 2, 0, 87, 167, 255, 200, 167, 255, 115, 177]
abbrev dktX3_begin_6 : List UInt8 := dkwX3_begin_6 ++ []
def dkwX3_begin_5 : List UInt8 := [27, 153, 0, 7, 1, 167, 0, 21, 42, 45, 25, 5, 185, 0, 90, 1, 0, 192, 0, 93, 182, 0, 95]
abbrev dktX3_begin_5 : List UInt8 := dkwX3_begin_5 ++ dktX3_begin_6
def dkwX3_begin_4 : List UInt8 := [25, 4, 185, 0, 66, 1, 0, 153, 0, 52, 25, 4, 185, 0, 72, 1, 0, 192, 0, 88, 58, 5, 25, 5]
abbrev dktX3_begin_4 : List UInt8 := dkwX3_begin_4 ++ dktX3_begin_5
def dkwX3_begin_3 : List UInt8 := [180, 0, 221, 181, 0, 224, 167, 255, 224, 45, 180, 0, 204, 182, 0, 81, 185, 0, 85, 1, 0, 58, 4]
abbrev dktX3_begin_3 : List UInt8 := dkwX3_begin_3 ++ dktX3_begin_4
def dkwX3_begin_2 : List UInt8 := [185, 0, 66, 1, 0, 153, 0, 28, 25, 4, 185, 0, 72, 1, 0, 192, 0, 9, 58, 5, 25, 5, 25, 5]
abbrev dktX3_begin_2 : List UInt8 := dkwX3_begin_2 ++ dktX3_begin_3
def dkwX3_begin_1 : List UInt8 := [192, 0, 76, 78, 45, 180, 0, 78, 182, 0, 214, 185, 0, 218, 1, 0, 58, 4, 25, 4]
abbrev dktX3_begin_1 : List UInt8 := dkwX3_begin_1 ++ dktX3_begin_2
def dkwX3_begin_0 : List UInt8 := [42, 180, 0, 23, 182, 0, 62, 77, 44, 185, 0, 66, 1, 0, 153, 0, 138, 44, 185, 0, 72, 1, 0]
abbrev dktX3_begin_0 : List UInt8 := dkwX3_begin_0 ++ dktX3_begin_1
theorem dksX3_begin_0 : cX3_begin.data.toList.drop 0 = dktX3_begin_0 := by decide +kernel
theorem dksX3_begin_1 : cX3_begin.data.toList.drop 23 = dktX3_begin_1 := dk_seg dksX3_begin_0 23 rfl rfl
theorem dksX3_begin_2 : cX3_begin.data.toList.drop 43 = dktX3_begin_2 := dk_seg dksX3_begin_1 20 rfl rfl
theorem dksX3_begin_3 : cX3_begin.data.toList.drop 67 = dktX3_begin_3 := dk_seg dksX3_begin_2 24 rfl rfl
theorem dksX3_begin_4 : cX3_begin.data.toList.drop 90 = dktX3_begin_4 := dk_seg dksX3_begin_3 23 rfl rfl
theorem dksX3_begin_5 : cX3_begin.data.toList.drop 114 = dktX3_begin_5 := dk_seg dksX3_begin_4 24 rfl rfl
theorem dksX3_begin_6 : cX3_begin.data.toList.drop 137 = dktX3_begin_6 := dk_seg dksX3_begin_5 23 rfl rfl
theorem dX3_begin_0 : decode cX3_begin 0 = .ok (.aload_n 0, 1) := dk_42 (dk_at dksX3_begin_0 0 rfl rfl)
theorem dX3_begin_1 : decode cX3_begin 1 = .ok (.getfield 23, 3) := dk_180 0 23 (dk_at dksX3_begin_0 1 rfl rfl)
theorem dX3_begin_4 : decode cX3_begin 4 = .ok (.invokevirtual 62, 3) := dk_182 0 62 (dk_at dksX3_begin_0 4 rfl rfl)
theorem dX3_begin_7 : decode cX3_begin 7 = .ok (.astore_n 2, 1) := dk_77 (dk_at dksX3_begin_0 7 rfl rfl)
theorem dX3_begin_8 : decode cX3_begin 8 = .ok (.aload_n 2, 1) := dk_44 (dk_at dksX3_begin_0 8 rfl rfl)
theorem dX3_begin_9 : decode cX3_begin 9 = .ok (.invokeinterface 66 1, 5) := by decide +kernel
theorem dX3_begin_14 : decode cX3_begin 14 = .ok (.ifCond .eq 138, 3) := dk_153 0 138 (dk_at dksX3_begin_0 14 rfl rfl)
theorem dX3_begin_17 : decode cX3_begin 17 = .ok (.aload_n 2, 1) := dk_44 (dk_at dksX3_begin_0 17 rfl rfl)
theorem dX3_begin_18 : decode cX3_begin 18 = .ok (.invokeinterface 72 1, 5) := by decide +kernel
theorem dX3_begin_23 : decode cX3_begin 23 = .ok (.checkcast 76, 3) := dk_192 0 76 (dk_at dksX3_begin_1 0 rfl rfl)
theorem dX3_begin_26 : decode cX3_begin 26 = .ok (.astore_n 3, 1) := dk_78 (dk_at dksX3_begin_1 3 rfl rfl)
theorem dX3_begin_27 : decode cX3_begin 27 = .ok (.aload_n 3, 1) := dk_45 (dk_at dksX3_begin_1 4 rfl rfl)
theorem dX3_begin_28 : decode cX3_begin 28 = .ok (.getfield 78, 3) := dk_180 0 78 (dk_at dksX3_begin_1 5 rfl rfl)
theorem dX3_begin_31 : decode cX3_begin 31 = .ok (.invokevirtual 214, 3) := dk_182 0 214 (dk_at dksX3_begin_1 8 rfl rfl)
theorem dX3_begin_34 : decode cX3_begin 34 = .ok (.invokeinterface 218 1, 5) := by decide +kernel
theorem dX3_begin_39 : decode cX3_begin 39 = .ok (.astore 4, 2) := dk_58 4 (dk_at dksX3_begin_1 16 rfl rfl)
theorem dX3_begin_41 : decode cX3_begin 41 = .ok (.aload 4, 2) := dk_25 4 (dk_at dksX3_begin_1 18 rfl rfl)
theorem dX3_begin_43 : decode cX3_begin 43 = .ok (.invokeinterface 66 1, 5) := by decide +kernel
theorem dX3_begin_48 : decode cX3_begin 48 = .ok (.ifCond .eq 28, 3) := dk_153 0 28 (dk_at dksX3_begin_2 5 rfl rfl)
theorem dX3_begin_51 : decode cX3_begin 51 = .ok (.aload 4, 2) := dk_25 4 (dk_at dksX3_begin_2 8 rfl rfl)
theorem dX3_begin_53 : decode cX3_begin 53 = .ok (.invokeinterface 72 1, 5) := by decide +kernel
theorem dX3_begin_58 : decode cX3_begin 58 = .ok (.checkcast 9, 3) := dk_192 0 9 (dk_at dksX3_begin_2 15 rfl rfl)
theorem dX3_begin_61 : decode cX3_begin 61 = .ok (.astore 5, 2) := dk_58 5 (dk_at dksX3_begin_2 18 rfl rfl)
theorem dX3_begin_63 : decode cX3_begin 63 = .ok (.aload 5, 2) := dk_25 5 (dk_at dksX3_begin_2 20 rfl rfl)
theorem dX3_begin_65 : decode cX3_begin 65 = .ok (.aload 5, 2) := dk_25 5 (dk_at dksX3_begin_2 22 rfl rfl)
theorem dX3_begin_67 : decode cX3_begin 67 = .ok (.getfield 221, 3) := dk_180 0 221 (dk_at dksX3_begin_3 0 rfl rfl)
theorem dX3_begin_70 : decode cX3_begin 70 = .ok (.putfield 224, 3) := dk_181 0 224 (dk_at dksX3_begin_3 3 rfl rfl)
theorem dX3_begin_73 : decode cX3_begin 73 = .ok (.goto (-32), 3) := dk_167 255 224 (dk_at dksX3_begin_3 6 rfl rfl)
theorem dX3_begin_76 : decode cX3_begin 76 = .ok (.aload_n 3, 1) := dk_45 (dk_at dksX3_begin_3 9 rfl rfl)
theorem dX3_begin_77 : decode cX3_begin 77 = .ok (.getfield 204, 3) := dk_180 0 204 (dk_at dksX3_begin_3 10 rfl rfl)
theorem dX3_begin_80 : decode cX3_begin 80 = .ok (.invokevirtual 81, 3) := dk_182 0 81 (dk_at dksX3_begin_3 13 rfl rfl)
theorem dX3_begin_83 : decode cX3_begin 83 = .ok (.invokeinterface 85 1, 5) := by decide +kernel
theorem dX3_begin_88 : decode cX3_begin 88 = .ok (.astore 4, 2) := dk_58 4 (dk_at dksX3_begin_3 21 rfl rfl)
theorem dX3_begin_90 : decode cX3_begin 90 = .ok (.aload 4, 2) := dk_25 4 (dk_at dksX3_begin_4 0 rfl rfl)
theorem dX3_begin_92 : decode cX3_begin 92 = .ok (.invokeinterface 66 1, 5) := by decide +kernel
theorem dX3_begin_97 : decode cX3_begin 97 = .ok (.ifCond .eq 52, 3) := dk_153 0 52 (dk_at dksX3_begin_4 7 rfl rfl)
theorem dX3_begin_100 : decode cX3_begin 100 = .ok (.aload 4, 2) := dk_25 4 (dk_at dksX3_begin_4 10 rfl rfl)
theorem dX3_begin_102 : decode cX3_begin 102 = .ok (.invokeinterface 72 1, 5) := by decide +kernel
theorem dX3_begin_107 : decode cX3_begin 107 = .ok (.checkcast 88, 3) := dk_192 0 88 (dk_at dksX3_begin_4 17 rfl rfl)
theorem dX3_begin_110 : decode cX3_begin 110 = .ok (.astore 5, 2) := dk_58 5 (dk_at dksX3_begin_4 20 rfl rfl)
theorem dX3_begin_112 : decode cX3_begin 112 = .ok (.aload 5, 2) := dk_25 5 (dk_at dksX3_begin_4 22 rfl rfl)
theorem dX3_begin_114 : decode cX3_begin 114 = .ok (.iload_n 1, 1) := dk_27 (dk_at dksX3_begin_5 0 rfl rfl)
theorem dX3_begin_115 : decode cX3_begin 115 = .ok (.ifCond .eq 7, 3) := dk_153 0 7 (dk_at dksX3_begin_5 1 rfl rfl)
theorem dX3_begin_118 : decode cX3_begin 118 = .ok (.aconst_null, 1) := dk_1 (dk_at dksX3_begin_5 4 rfl rfl)
theorem dX3_begin_119 : decode cX3_begin 119 = .ok (.goto 21, 3) := dk_167 0 21 (dk_at dksX3_begin_5 5 rfl rfl)
theorem dX3_begin_122 : decode cX3_begin 122 = .ok (.aload_n 0, 1) := dk_42 (dk_at dksX3_begin_5 8 rfl rfl)
theorem dX3_begin_123 : decode cX3_begin 123 = .ok (.aload_n 3, 1) := dk_45 (dk_at dksX3_begin_5 9 rfl rfl)
theorem dX3_begin_124 : decode cX3_begin 124 = .ok (.aload 5, 2) := dk_25 5 (dk_at dksX3_begin_5 10 rfl rfl)
theorem dX3_begin_126 : decode cX3_begin 126 = .ok (.invokeinterface 90 1, 5) := by decide +kernel
theorem dX3_begin_131 : decode cX3_begin 131 = .ok (.checkcast 93, 3) := dk_192 0 93 (dk_at dksX3_begin_5 17 rfl rfl)
theorem dX3_begin_134 : decode cX3_begin 134 = .ok (.invokevirtual 95, 3) := dk_182 0 95 (dk_at dksX3_begin_5 20 rfl rfl)
theorem dX3_begin_137 : decode cX3_begin 137 = .ok (.invokevirtual 151, 3) := dk_182 0 151 (dk_at dksX3_begin_6 0 rfl rfl)
theorem dX3_begin_140 : decode cX3_begin 140 = .ok (.invokeinterface 227 2, 5) := by decide +kernel
theorem dX3_begin_145 : decode cX3_begin 145 = .ok (.pop, 1) := dk_87 (dk_at dksX3_begin_6 8 rfl rfl)
theorem dX3_begin_146 : decode cX3_begin 146 = .ok (.goto (-56), 3) := dk_167 255 200 (dk_at dksX3_begin_6 9 rfl rfl)
theorem dX3_begin_149 : decode cX3_begin 149 = .ok (.goto (-141), 3) := dk_167 255 115 (dk_at dksX3_begin_6 12 rfl rfl)
theorem dX3_begin_152 : decode cX3_begin 152 = .ok (.return_, 1) := dk_177 (dk_at dksX3_begin_6 15 rfl rfl)
abbrev cX3_has : ByteArray := prog_8_method_9_code
def yX3_has : MethodName := ⟨RX3, "has", "(LLinkStation$Module;)Z"⟩
def dkwX3_has_0 : List UInt8 := [42, 180, 0, 23, 43, 182, 0, 198, 172]
abbrev dktX3_has_0 : List UInt8 := dkwX3_has_0 ++ []
theorem dksX3_has_0 : cX3_has.data.toList.drop 0 = dktX3_has_0 := by decide +kernel
theorem dX3_has_0 : decode cX3_has 0 = .ok (.aload_n 0, 1) := dk_42 (dk_at dksX3_has_0 0 rfl rfl)
theorem dX3_has_1 : decode cX3_has 1 = .ok (.getfield 23, 3) := dk_180 0 23 (dk_at dksX3_has_0 1 rfl rfl)
theorem dX3_has_4 : decode cX3_has 4 = .ok (.aload_n 1, 1) := dk_43 (dk_at dksX3_has_0 4 rfl rfl)
theorem dX3_has_5 : decode cX3_has 5 = .ok (.invokevirtual 198, 3) := dk_182 0 198 (dk_at dksX3_has_0 5 rfl rfl)
theorem dX3_has_8 : decode cX3_has 8 = .ok (.ireturn, 1) := dk_172 (dk_at dksX3_has_0 8 rfl rfl)
abbrev cX3_at : ByteArray := prog_8_method_12_code
def yX3_at : MethodName := ⟨RX3, "at", "(I)LLinkStation$Definition;"⟩
def dkwX3_at_2 : List UInt8 := [192, 0, 76, 180, 0, 230, 29, 50, 167, 0, 4, 1, 176]
abbrev dktX3_at_2 : List UInt8 := dkwX3_at_2 ++ []
def dkwX3_at_1 : List UInt8 := [182, 0, 178, 162, 0, 32, 29, 155, 0, 28, 29, 16, 100, 162, 0, 22, 42, 180, 0, 23, 28, 182, 0, 181]
abbrev dktX3_at_1 : List UInt8 := dkwX3_at_1 ++ dktX3_at_2
def dkwX3_at_0 : List UInt8 := [27, 17, 3, 232, 108, 4, 100, 61, 27, 17, 3, 232, 112, 62, 28, 155, 0, 43, 28, 42, 180, 0, 23]
abbrev dktX3_at_0 : List UInt8 := dkwX3_at_0 ++ dktX3_at_1
theorem dksX3_at_0 : cX3_at.data.toList.drop 0 = dktX3_at_0 := by decide +kernel
theorem dksX3_at_1 : cX3_at.data.toList.drop 23 = dktX3_at_1 := dk_seg dksX3_at_0 23 rfl rfl
theorem dksX3_at_2 : cX3_at.data.toList.drop 47 = dktX3_at_2 := dk_seg dksX3_at_1 24 rfl rfl
theorem dX3_at_0 : decode cX3_at 0 = .ok (.iload_n 1, 1) := dk_27 (dk_at dksX3_at_0 0 rfl rfl)
theorem dX3_at_1 : decode cX3_at 1 = .ok (.sipush 1000, 3) := dk_17 3 232 (dk_at dksX3_at_0 1 rfl rfl)
theorem dX3_at_4 : decode cX3_at 4 = .ok (.idiv, 1) := dk_108 (dk_at dksX3_at_0 4 rfl rfl)
theorem dX3_at_5 : decode cX3_at 5 = .ok (.iconst 1, 1) := dk_4 (dk_at dksX3_at_0 5 rfl rfl)
theorem dX3_at_6 : decode cX3_at 6 = .ok (.isub, 1) := dk_100 (dk_at dksX3_at_0 6 rfl rfl)
theorem dX3_at_7 : decode cX3_at 7 = .ok (.istore_n 2, 1) := dk_61 (dk_at dksX3_at_0 7 rfl rfl)
theorem dX3_at_8 : decode cX3_at 8 = .ok (.iload_n 1, 1) := dk_27 (dk_at dksX3_at_0 8 rfl rfl)
theorem dX3_at_9 : decode cX3_at 9 = .ok (.sipush 1000, 3) := dk_17 3 232 (dk_at dksX3_at_0 9 rfl rfl)
theorem dX3_at_12 : decode cX3_at 12 = .ok (.irem, 1) := dk_112 (dk_at dksX3_at_0 12 rfl rfl)
theorem dX3_at_13 : decode cX3_at 13 = .ok (.istore_n 3, 1) := dk_62 (dk_at dksX3_at_0 13 rfl rfl)
theorem dX3_at_14 : decode cX3_at 14 = .ok (.iload_n 2, 1) := dk_28 (dk_at dksX3_at_0 14 rfl rfl)
theorem dX3_at_15 : decode cX3_at 15 = .ok (.ifCond .lt 43, 3) := dk_155 0 43 (dk_at dksX3_at_0 15 rfl rfl)
theorem dX3_at_18 : decode cX3_at 18 = .ok (.iload_n 2, 1) := dk_28 (dk_at dksX3_at_0 18 rfl rfl)
theorem dX3_at_19 : decode cX3_at 19 = .ok (.aload_n 0, 1) := dk_42 (dk_at dksX3_at_0 19 rfl rfl)
theorem dX3_at_20 : decode cX3_at 20 = .ok (.getfield 23, 3) := dk_180 0 23 (dk_at dksX3_at_0 20 rfl rfl)
theorem dX3_at_23 : decode cX3_at 23 = .ok (.invokevirtual 178, 3) := dk_182 0 178 (dk_at dksX3_at_1 0 rfl rfl)
theorem dX3_at_26 : decode cX3_at 26 = .ok (.if_icmp .ge 32, 3) := dk_162 0 32 (dk_at dksX3_at_1 3 rfl rfl)
theorem dX3_at_29 : decode cX3_at 29 = .ok (.iload_n 3, 1) := dk_29 (dk_at dksX3_at_1 6 rfl rfl)
theorem dX3_at_30 : decode cX3_at 30 = .ok (.ifCond .lt 28, 3) := dk_155 0 28 (dk_at dksX3_at_1 7 rfl rfl)
theorem dX3_at_33 : decode cX3_at 33 = .ok (.iload_n 3, 1) := dk_29 (dk_at dksX3_at_1 10 rfl rfl)
theorem dX3_at_34 : decode cX3_at 34 = .ok (.bipush 100, 2) := dk_16 100 (dk_at dksX3_at_1 11 rfl rfl)
theorem dX3_at_36 : decode cX3_at 36 = .ok (.if_icmp .ge 22, 3) := dk_162 0 22 (dk_at dksX3_at_1 13 rfl rfl)
theorem dX3_at_39 : decode cX3_at 39 = .ok (.aload_n 0, 1) := dk_42 (dk_at dksX3_at_1 16 rfl rfl)
theorem dX3_at_40 : decode cX3_at 40 = .ok (.getfield 23, 3) := dk_180 0 23 (dk_at dksX3_at_1 17 rfl rfl)
theorem dX3_at_43 : decode cX3_at 43 = .ok (.iload_n 2, 1) := dk_28 (dk_at dksX3_at_1 20 rfl rfl)
theorem dX3_at_44 : decode cX3_at 44 = .ok (.invokevirtual 181, 3) := dk_182 0 181 (dk_at dksX3_at_1 21 rfl rfl)
theorem dX3_at_47 : decode cX3_at 47 = .ok (.checkcast 76, 3) := dk_192 0 76 (dk_at dksX3_at_2 0 rfl rfl)
theorem dX3_at_50 : decode cX3_at 50 = .ok (.getfield 230, 3) := dk_180 0 230 (dk_at dksX3_at_2 3 rfl rfl)
theorem dX3_at_53 : decode cX3_at 53 = .ok (.iload_n 3, 1) := dk_29 (dk_at dksX3_at_2 6 rfl rfl)
theorem dX3_at_54 : decode cX3_at 54 = .ok (.aaload, 1) := dk_50 (dk_at dksX3_at_2 7 rfl rfl)
theorem dX3_at_55 : decode cX3_at 55 = .ok (.goto 4, 3) := dk_167 0 4 (dk_at dksX3_at_2 8 rfl rfl)
theorem dX3_at_58 : decode cX3_at 58 = .ok (.aconst_null, 1) := dk_1 (dk_at dksX3_at_2 11 rfl rfl)
theorem dX3_at_59 : decode cX3_at 59 = .ok (.areturn, 1) := dk_176 (dk_at dksX3_at_2 12 rfl rfl)
theorem q58 : (Jvm.Cond.initialized "LinkStation$Scope") ∈ lw_all := lw_g (lw_at lw_m1 11 rfl) rfl
theorem q221 : (Jvm.Cond.instantiable "LinkStation$Scope" (6 : Nat)) ∈ lw_all := lw_g (lw_at lw_m1 174 rfl) rfl
theorem q223 : (Jvm.Cond.instanceMethod ({ cls := "LinkStation$Scope", name := "<init>", desc := "(LLinkStation$Fault;)V" } : Jvm.MethodName)) ∈ lw_all := lw_g (lw_at lw_m1 176 rfl) rfl
theorem q224 : (Jvm.Cond.code ({ cls := "LinkStation$Scope", name := "<init>", desc := "(LLinkStation$Fault;)V" } : Jvm.MethodName) prog_8_method_1_code (2 : Nat) (Option.none : Option Jvm.ClassFile.FieldType)) ∈ lw_all := lw_g (lw_at lw_m1 177 rfl) rfl
theorem q225 : (Jvm.Cond.methodLink "LinkStation$Scope" (3 : Nat) ({ cls := "java/lang/Object", name := "<init>", desc := "()V" } : Jvm.MethodName)) ∈ lw_all := lw_g (lw_at lw_m1 178 rfl) rfl
theorem q226 : (Jvm.Cond.classLink "LinkStation$Scope" (9 : Nat) "LinkStation$Definition") ∈ lw_all := lw_g (lw_at lw_m1 179 rfl) rfl
theorem q228 : (Jvm.Cond.methodLink "LinkStation$Scope" (11 : Nat) ({ cls := "LinkStation$Definition", name := "<init>", desc := "(LLinkStation$Module;ZII)V" } : Jvm.MethodName)) ∈ lw_all := lw_g (lw_at lw_m1 181 rfl) rfl
theorem q236 : (Jvm.Cond.fieldLinkNest "LinkStation$Scope" (164 : Nat) "LinkStation$Definition" "isDatum" "Z" "LinkStation") ∈ lw_tbl := lw_at lw_m1 189 rfl
theorem q240 : (Jvm.Cond.fieldLinkNest "LinkStation$Scope" (221 : Nat) "LinkStation$Definition" "value" "I" "LinkStation") ∈ lw_tbl := lw_at lw_m1 193 rfl
theorem q243 : (Jvm.Cond.fieldLinkNest "LinkStation$Scope" (224 : Nat) "LinkStation$Definition" "now" "I" "LinkStation") ∈ lw_tbl := lw_at lw_m1 196 rfl
theorem q256 : (Jvm.Cond.classLink "LinkStation$Scope" (20 : Nat) "java/util/ArrayList") ∈ lw_all := lw_g (lw_at lw_m1 209 rfl) rfl
theorem q257 : (Jvm.Cond.methodLink "LinkStation$Scope" (22 : Nat) ({ cls := "java/util/ArrayList", name := "<init>", desc := "()V" } : Jvm.MethodName)) ∈ lw_all := lw_g (lw_at lw_m1 210 rfl) rfl
theorem q258 : (Jvm.Cond.classLink "LinkStation$Scope" (30 : Nat) "java/util/BitSet") ∈ lw_all := lw_g (lw_at lw_m1 211 rfl) rfl
theorem q260 : (Jvm.Cond.methodLink "LinkStation$Scope" (32 : Nat) ({ cls := "java/util/BitSet", name := "<init>", desc := "(I)V" } : Jvm.MethodName)) ∈ lw_all := lw_g (lw_at lw_m1 213 rfl) rfl
theorem q282 : (Jvm.Cond.classLink "LinkStation$Scope" (39 : Nat) "java/util/HashMap") ∈ lw_all := lw_g (lw_at lw_m1 235 rfl) rfl
theorem q284 : (Jvm.Cond.methodLink "LinkStation$Scope" (41 : Nat) ({ cls := "java/util/HashMap", name := "<init>", desc := "()V" } : Jvm.MethodName)) ∈ lw_all := lw_g (lw_at lw_m1 237 rfl) rfl
theorem q320 : (Jvm.Cond.fieldLink "LinkStation$Scope" (46 : Nat) "LinkStation$Scope" "fault" "LLinkStation$Fault;") ∈ lw_all := lw_g (lw_at lw_m2 33 rfl) rfl
theorem q321 : (Jvm.Cond.fieldLink "LinkStation$Scope" (14 : Nat) "LinkStation$Scope" "nothing" "LLinkStation$Definition;") ∈ lw_all := lw_g (lw_at lw_m2 34 rfl) rfl
theorem q324 : (Jvm.Cond.fieldLink "LinkStation$Scope" (23 : Nat) "LinkStation$Scope" "order" "Ljava/util/ArrayList;") ∈ lw_all := lw_g (lw_at lw_m2 37 rfl) rfl
theorem q326 : (Jvm.Cond.fieldLink "LinkStation$Scope" (27 : Nat) "LinkStation$Scope" "begun" "Ljava/util/ArrayList;") ∈ lw_all := lw_g (lw_at lw_m2 39 rfl) rfl
theorem q329 : (Jvm.Cond.fieldLink "LinkStation$Scope" (35 : Nat) "LinkStation$Scope" "met" "Ljava/util/BitSet;") ∈ lw_all := lw_g (lw_at lw_m2 42 rfl) rfl
theorem q330 : (Jvm.Cond.fieldLink "LinkStation$Scope" (42 : Nat) "LinkStation$Scope" "open" "Ljava/util/HashMap;") ∈ lw_all := lw_g (lw_at lw_m2 43 rfl) rfl
theorem q331 : (Jvm.Cond.laysFinal "LinkStation$Scope" "LinkStation$Scope" "fault" "LLinkStation$Fault;") ∈ lw_all := lw_g (lw_at lw_m2 44 rfl) rfl
theorem q332 : (Jvm.Cond.soleField "LinkStation$Scope" "fault") ∈ lw_all := lw_g (lw_at lw_m2 45 rfl) rfl
theorem q333 : (Jvm.Cond.laysFinal "LinkStation$Scope" "LinkStation$Scope" "nothing" "LLinkStation$Definition;") ∈ lw_all := lw_g (lw_at lw_m2 46 rfl) rfl
theorem q334 : (Jvm.Cond.soleField "LinkStation$Scope" "nothing") ∈ lw_all := lw_g (lw_at lw_m2 47 rfl) rfl
theorem q335 : (Jvm.Cond.laysFinal "LinkStation$Scope" "LinkStation$Scope" "order" "Ljava/util/ArrayList;") ∈ lw_all := lw_g (lw_at lw_m2 48 rfl) rfl
theorem q336 : (Jvm.Cond.soleField "LinkStation$Scope" "order") ∈ lw_all := lw_g (lw_at lw_m2 49 rfl) rfl
theorem q337 : (Jvm.Cond.laysFinal "LinkStation$Scope" "LinkStation$Scope" "begun" "Ljava/util/ArrayList;") ∈ lw_all := lw_g (lw_at lw_m2 50 rfl) rfl
theorem q338 : (Jvm.Cond.soleField "LinkStation$Scope" "begun") ∈ lw_all := lw_g (lw_at lw_m2 51 rfl) rfl
theorem q339 : (Jvm.Cond.laysFinal "LinkStation$Scope" "LinkStation$Scope" "met" "Ljava/util/BitSet;") ∈ lw_all := lw_g (lw_at lw_m2 52 rfl) rfl
theorem q340 : (Jvm.Cond.soleField "LinkStation$Scope" "met") ∈ lw_all := lw_g (lw_at lw_m2 53 rfl) rfl
theorem q341 : (Jvm.Cond.laysFinal "LinkStation$Scope" "LinkStation$Scope" "open" "Ljava/util/HashMap;") ∈ lw_all := lw_g (lw_at lw_m2 54 rfl) rfl
theorem q342 : (Jvm.Cond.soleField "LinkStation$Scope" "open") ∈ lw_all := lw_g (lw_at lw_m2 55 rfl) rfl
theorem q343 : (Jvm.Cond.superclass "LinkStation$Scope" "java/lang/Object") ∈ lw_all := lw_g (lw_at lw_m2 56 rfl) rfl
theorem q471 : (Jvm.Cond.fieldLinkNest "LinkStation$Scope" (112 : Nat) "LinkStation$Module" "number" "I" "LinkStation") ∈ lw_tbl := lw_at lw_m2 184 rfl
theorem q474 : (Jvm.Cond.fieldLinkNest "LinkStation$Scope" (130 : Nat) "LinkStation$Module" "needs" "Ljava/util/ArrayList;" "LinkStation") ∈ lw_tbl := lw_at lw_m2 187 rfl
theorem q477 : (Jvm.Cond.fieldLinkNest "LinkStation$Scope" (78 : Nat) "LinkStation$Module" "definitions" "Ljava/util/HashMap;" "LinkStation") ∈ lw_tbl := lw_at lw_m2 190 rfl
theorem q481 : (Jvm.Cond.fieldLinkNest "LinkStation$Scope" (230 : Nat) "LinkStation$Module" "starts" "[LLinkStation$Definition;" "LinkStation") ∈ lw_tbl := lw_at lw_m2 194 rfl
theorem q484 : (Jvm.Cond.fieldLinkNest "LinkStation$Scope" (175 : Nat) "LinkStation$Module" "steps" "Ljava/util/ArrayList;" "LinkStation") ∈ lw_tbl := lw_at lw_m2 197 rfl
theorem q487 : (Jvm.Cond.fieldLinkNest "LinkStation$Scope" (155 : Nat) "LinkStation$Module" "optional" "Ljava/util/BitSet;" "LinkStation") ∈ lw_tbl := lw_at lw_m2 200 rfl
theorem q491 : (Jvm.Cond.fieldLinkNest "LinkStation$Scope" (168 : Nat) "LinkStation$Module" "beginner" "I" "LinkStation") ∈ lw_tbl := lw_at lw_m2 204 rfl
theorem q494 : (Jvm.Cond.fieldLinkNest "LinkStation$Scope" (201 : Nat) "LinkStation$Module" "base" "I" "LinkStation") ∈ lw_tbl := lw_at lw_m2 207 rfl
theorem q496 : (Jvm.Cond.fieldLinkNest "LinkStation$Scope" (204 : Nat) "LinkStation$Module" "slots" "Ljava/util/HashMap;" "LinkStation") ∈ lw_tbl := lw_at lw_m2 209 rfl
theorem q557 : (Jvm.Cond.selects "LinkStation$Scope" ({ cls := "java/lang/Object", name := "getClass", desc := "()Ljava/lang/Class;" } : Jvm.MethodName) ({ cls := "java/lang/Object", name := "getClass", desc := "()Ljava/lang/Class;" } : Jvm.MethodName)) ∈ lw_all := lw_g (lw_at lw_m3 30 rfl) rfl
theorem q635 : (Jvm.Cond.selects "LinkStation$Scope" ({ cls := "java/lang/Object", name := "equals", desc := "(Ljava/lang/Object;)Z" } : Jvm.MethodName) ({ cls := "java/lang/Object", name := "equals", desc := "(Ljava/lang/Object;)Z" } : Jvm.MethodName)) ∈ lw_all := lw_g (lw_at lw_m3 108 rfl) rfl
theorem q707 : (Jvm.Cond.selects "LinkStation$Scope" ({ cls := "java/lang/Object", name := "hashCode", desc := "()I" } : Jvm.MethodName) ({ cls := "java/lang/Object", name := "hashCode", desc := "()I" } : Jvm.MethodName)) ∈ lw_all := lw_g (lw_at lw_m3 180 rfl) rfl
theorem q1002 : (Jvm.Cond.instanceMethod ({ cls := "LinkStation$Scope", name := "load", desc := "(LLinkStation$Module;)V" } : Jvm.MethodName)) ∈ lw_all := lw_g (lw_at lw_m4 235 rfl) rfl
theorem q1003 : (Jvm.Cond.selects "LinkStation$Scope" ({ cls := "LinkStation$Scope", name := "load", desc := "(LLinkStation$Module;)V" } : Jvm.MethodName) ({ cls := "LinkStation$Scope", name := "load", desc := "(LLinkStation$Module;)V" } : Jvm.MethodName)) ∈ lw_all := lw_g (lw_at lw_m4 236 rfl) rfl
theorem q1004 : (Jvm.Cond.code ({ cls := "LinkStation$Scope", name := "load", desc := "(LLinkStation$Module;)V" } : Jvm.MethodName) prog_8_method_2_code (6 : Nat) (Option.none : Option Jvm.ClassFile.FieldType)) ∈ lw_all := lw_g (lw_at lw_m4 237 rfl) rfl
theorem q1005 : (Jvm.Cond.methodLink "LinkStation$Scope" (50 : Nat) ({ cls := "java/util/ArrayList", name := "clear", desc := "()V" } : Jvm.MethodName)) ∈ lw_all := lw_g (lw_at lw_m4 238 rfl) rfl
theorem q1009 : (Jvm.Cond.methodLink "LinkStation$Scope" (53 : Nat) ({ cls := "java/util/HashMap", name := "clear", desc := "()V" } : Jvm.MethodName)) ∈ lw_all := lw_g (lw_at lw_m5 2 rfl) rfl
theorem q1013 : (Jvm.Cond.methodLink "LinkStation$Scope" (54 : Nat) ({ cls := "LinkStation$Scope", name := "findOrder", desc := "(LLinkStation$Module;)V" } : Jvm.MethodName)) ∈ lw_all := lw_g (lw_at lw_m5 6 rfl) rfl
theorem q1014 : (Jvm.Cond.privateMethod ({ cls := "LinkStation$Scope", name := "findOrder", desc := "(LLinkStation$Module;)V" } : Jvm.MethodName)) ∈ lw_tbl := lw_at lw_m5 7 rfl
theorem q1015 : (Jvm.Cond.instanceMethod ({ cls := "LinkStation$Scope", name := "findOrder", desc := "(LLinkStation$Module;)V" } : Jvm.MethodName)) ∈ lw_all := lw_g (lw_at lw_m5 8 rfl) rfl
theorem q1016 : (Jvm.Cond.code ({ cls := "LinkStation$Scope", name := "findOrder", desc := "(LLinkStation$Module;)V" } : Jvm.MethodName) prog_8_method_3_code (6 : Nat) (Option.none : Option Jvm.ClassFile.FieldType)) ∈ lw_all := lw_g (lw_at lw_m5 9 rfl) rfl
theorem q1017 : (Jvm.Cond.classLink "LinkStation$Scope" (109 : Nat) "java/util/ArrayDeque") ∈ lw_all := lw_g (lw_at lw_m5 10 rfl) rfl
theorem q1019 : (Jvm.Cond.methodLink "LinkStation$Scope" (111 : Nat) ({ cls := "java/util/ArrayDeque", name := "<init>", desc := "()V" } : Jvm.MethodName)) ∈ lw_all := lw_g (lw_at lw_m5 12 rfl) rfl
theorem q1036 : (Jvm.Cond.methodLink "LinkStation$Scope" (58 : Nat) ({ cls := "java/util/BitSet", name := "clear", desc := "()V" } : Jvm.MethodName)) ∈ lw_all := lw_g (lw_at lw_m5 29 rfl) rfl
theorem q1040 : (Jvm.Cond.methodLink "LinkStation$Scope" (116 : Nat) ({ cls := "java/util/BitSet", name := "set", desc := "(I)V" } : Jvm.MethodName)) ∈ lw_all := lw_g (lw_at lw_m5 33 rfl) rfl
theorem q1041 : (Jvm.Cond.methodLink "LinkStation$Scope" (119 : Nat) ({ cls := "java/util/ArrayDeque", name := "add", desc := "(Ljava/lang/Object;)Z" } : Jvm.MethodName)) ∈ lw_all := lw_g (lw_at lw_m5 34 rfl) rfl
theorem q1064 : (Jvm.Cond.methodLink "LinkStation$Scope" (123 : Nat) ({ cls := "java/util/ArrayDeque", name := "isEmpty", desc := "()Z" } : Jvm.MethodName)) ∈ lw_all := lw_g (lw_at lw_m5 57 rfl) rfl
theorem q1068 : (Jvm.Cond.methodLink "LinkStation$Scope" (126 : Nat) ({ cls := "java/util/ArrayDeque", name := "poll", desc := "()Ljava/lang/Object;" } : Jvm.MethodName)) ∈ lw_all := lw_g (lw_at lw_m5 61 rfl) rfl
theorem q1079 : (Jvm.Cond.classLink "LinkStation$Scope" (76 : Nat) "LinkStation$Module") ∈ lw_all := lw_g (lw_at lw_m5 72 rfl) rfl
theorem q1080 : (Jvm.Cond.methodLink "LinkStation$Scope" (129 : Nat) ({ cls := "java/util/ArrayList", name := "add", desc := "(Ljava/lang/Object;)Z" } : Jvm.MethodName)) ∈ lw_all := lw_g (lw_at lw_m5 73 rfl) rfl
theorem q1081 : (Jvm.Cond.methodLink "LinkStation$Scope" (62 : Nat) ({ cls := "java/util/ArrayList", name := "iterator", desc := "()Ljava/util/Iterator;" } : Jvm.MethodName)) ∈ lw_all := lw_g (lw_at lw_m5 74 rfl) rfl
theorem q1104 : (Jvm.Cond.interfaceEntry "LinkStation$Scope" (66 : Nat)) ∈ lw_tbl := lw_at lw_m5 97 rfl
theorem q1105 : (Jvm.Cond.methodLink "LinkStation$Scope" (66 : Nat) ({ cls := "java/util/Iterator", name := "hasNext", desc := "()Z" } : Jvm.MethodName)) ∈ lw_all := lw_g (lw_at lw_m5 98 rfl) rfl
theorem q1129 : (Jvm.Cond.interfaceEntry "LinkStation$Scope" (72 : Nat)) ∈ lw_tbl := lw_at lw_m5 122 rfl
theorem q1130 : (Jvm.Cond.methodLink "LinkStation$Scope" (72 : Nat) ({ cls := "java/util/Iterator", name := "next", desc := "()Ljava/lang/Object;" } : Jvm.MethodName)) ∈ lw_all := lw_g (lw_at lw_m5 123 rfl) rfl
theorem q1174 : (Jvm.Cond.methodLink "LinkStation$Scope" (133 : Nat) ({ cls := "java/util/BitSet", name := "get", desc := "(I)Z" } : Jvm.MethodName)) ∈ lw_all := lw_g (lw_at lw_m5 167 rfl) rfl
theorem q1175 : (Jvm.Cond.methodLink "LinkStation$Scope" (59 : Nat) ({ cls := "LinkStation$Scope", name := "findBegun", desc := "(LLinkStation$Module;)V" } : Jvm.MethodName)) ∈ lw_all := lw_g (lw_at lw_m5 168 rfl) rfl
theorem q1176 : (Jvm.Cond.privateMethod ({ cls := "LinkStation$Scope", name := "findBegun", desc := "(LLinkStation$Module;)V" } : Jvm.MethodName)) ∈ lw_tbl := lw_at lw_m5 169 rfl
theorem q1177 : (Jvm.Cond.instanceMethod ({ cls := "LinkStation$Scope", name := "findBegun", desc := "(LLinkStation$Module;)V" } : Jvm.MethodName)) ∈ lw_all := lw_g (lw_at lw_m5 170 rfl) rfl
theorem q1178 : (Jvm.Cond.code ({ cls := "LinkStation$Scope", name := "findBegun", desc := "(LLinkStation$Module;)V" } : Jvm.MethodName) prog_8_method_4_code (4 : Nat) (Option.none : Option Jvm.ClassFile.FieldType)) ∈ lw_all := lw_g (lw_at lw_m5 171 rfl) rfl
theorem q1179 : (Jvm.Cond.methodLink "LinkStation$Scope" (81 : Nat) ({ cls := "java/util/HashMap", name := "entrySet", desc := "()Ljava/util/Set;" } : Jvm.MethodName)) ∈ lw_all := lw_g (lw_at lw_m5 172 rfl) rfl
theorem q1196 : (Jvm.Cond.interfaceEntry "LinkStation$Scope" (85 : Nat)) ∈ lw_tbl := lw_at lw_m5 189 rfl
theorem q1197 : (Jvm.Cond.methodLink "LinkStation$Scope" (85 : Nat) ({ cls := "java/util/Set", name := "iterator", desc := "()Ljava/util/Iterator;" } : Jvm.MethodName)) ∈ lw_all := lw_g (lw_at lw_m5 190 rfl) rfl
theorem q1231 : (Jvm.Cond.classLink "LinkStation$Scope" (88 : Nat) "java/util/Map$Entry") ∈ lw_all := lw_g (lw_at lw_m5 224 rfl) rfl
theorem q1232 : (Jvm.Cond.interfaceEntry "LinkStation$Scope" (90 : Nat)) ∈ lw_tbl := lw_at lw_m5 225 rfl
theorem q1233 : (Jvm.Cond.methodLink "LinkStation$Scope" (90 : Nat) ({ cls := "java/util/Map$Entry", name := "getKey", desc := "()Ljava/lang/Object;" } : Jvm.MethodName)) ∈ lw_all := lw_g (lw_at lw_m5 226 rfl) rfl
theorem q1245 : (Jvm.Cond.classLink "LinkStation$Scope" (93 : Nat) "java/lang/Integer") ∈ lw_all := lw_g (lw_at lw_m5 238 rfl) rfl
theorem q1246 : (Jvm.Cond.methodLink "LinkStation$Scope" (95 : Nat) ({ cls := "java/lang/Integer", name := "intValue", desc := "()I" } : Jvm.MethodName)) ∈ lw_all := lw_g (lw_at lw_m5 239 rfl) rfl
theorem q1247 : (Jvm.Cond.interfaceEntry "LinkStation$Scope" (99 : Nat)) ∈ lw_tbl := lw_at lw_m6 0 rfl
theorem q1248 : (Jvm.Cond.methodLink "LinkStation$Scope" (99 : Nat) ({ cls := "java/util/Map$Entry", name := "getValue", desc := "()Ljava/lang/Object;" } : Jvm.MethodName)) ∈ lw_all := lw_g (lw_at lw_m6 1 rfl) rfl
theorem q1258 : (Jvm.Cond.methodLink "LinkStation$Scope" (102 : Nat) ({ cls := "LinkStation$Scope", name := "see", desc := "(ILLinkStation$Definition;)V" } : Jvm.MethodName)) ∈ lw_all := lw_g (lw_at lw_m6 11 rfl) rfl
theorem q1259 : (Jvm.Cond.privateMethod ({ cls := "LinkStation$Scope", name := "see", desc := "(ILLinkStation$Definition;)V" } : Jvm.MethodName)) ∈ lw_tbl := lw_at lw_m6 12 rfl
theorem q1260 : (Jvm.Cond.instanceMethod ({ cls := "LinkStation$Scope", name := "see", desc := "(ILLinkStation$Definition;)V" } : Jvm.MethodName)) ∈ lw_all := lw_g (lw_at lw_m6 13 rfl) rfl
theorem q1261 : (Jvm.Cond.code ({ cls := "LinkStation$Scope", name := "see", desc := "(ILLinkStation$Definition;)V" } : Jvm.MethodName) prog_8_method_5_code (4 : Nat) (Option.none : Option Jvm.ClassFile.FieldType)) ∈ lw_all := lw_g (lw_at lw_m6 14 rfl) rfl
theorem q1262 : (Jvm.Cond.methodLink "LinkStation$Scope" (137 : Nat) ({ cls := "java/lang/Integer", name := "valueOf", desc := "(I)Ljava/lang/Integer;" } : Jvm.MethodName)) ∈ lw_all := lw_g (lw_at lw_m6 15 rfl) rfl
theorem q1263 : (Jvm.Cond.methodLink "LinkStation$Scope" (141 : Nat) ({ cls := "java/util/HashMap", name := "get", desc := "(Ljava/lang/Object;)Ljava/lang/Object;" } : Jvm.MethodName)) ∈ lw_all := lw_g (lw_at lw_m6 16 rfl) rfl
theorem q1267 : (Jvm.Cond.methodLink "LinkStation$Scope" (144 : Nat) ({ cls := "LinkStation$Definition", name := "is", desc := "(I)Z" } : Jvm.MethodName)) ∈ lw_all := lw_g (lw_at lw_m6 20 rfl) rfl
theorem q1271 : (Jvm.Cond.methodLink "LinkStation$Scope" (147 : Nat) ({ cls := "java/util/HashMap", name := "put", desc := "(Ljava/lang/Object;Ljava/lang/Object;)Ljava/lang/Object;" } : Jvm.MethodName)) ∈ lw_all := lw_g (lw_at lw_m6 24 rfl) rfl
theorem q1272 : (Jvm.Cond.methodLink "LinkStation$Scope" (106 : Nat) ({ cls := "LinkStation$Scope", name := "look", desc := "(LLinkStation$Module;)V" } : Jvm.MethodName)) ∈ lw_all := lw_g (lw_at lw_m6 25 rfl) rfl
theorem q1273 : (Jvm.Cond.privateMethod ({ cls := "LinkStation$Scope", name := "look", desc := "(LLinkStation$Module;)V" } : Jvm.MethodName)) ∈ lw_tbl := lw_at lw_m6 26 rfl
theorem q1274 : (Jvm.Cond.instanceMethod ({ cls := "LinkStation$Scope", name := "look", desc := "(LLinkStation$Module;)V" } : Jvm.MethodName)) ∈ lw_all := lw_g (lw_at lw_m6 27 rfl) rfl
theorem q1275 : (Jvm.Cond.code ({ cls := "LinkStation$Scope", name := "look", desc := "(LLinkStation$Module;)V" } : Jvm.MethodName) prog_8_method_8_code (4 : Nat) (Option.none : Option Jvm.ClassFile.FieldType)) ∈ lw_all := lw_g (lw_at lw_m6 28 rfl) rfl
theorem q1276 : (Jvm.Cond.methodLink "LinkStation$Scope" (171 : Nat) ({ cls := "LinkStation$Scope", name := "need", desc := "(LLinkStation$Module;IIZ)V" } : Jvm.MethodName)) ∈ lw_all := lw_g (lw_at lw_m6 29 rfl) rfl
theorem q1277 : (Jvm.Cond.privateMethod ({ cls := "LinkStation$Scope", name := "need", desc := "(LLinkStation$Module;IIZ)V" } : Jvm.MethodName)) ∈ lw_tbl := lw_at lw_m6 30 rfl
theorem q1278 : (Jvm.Cond.instanceMethod ({ cls := "LinkStation$Scope", name := "need", desc := "(LLinkStation$Module;IIZ)V" } : Jvm.MethodName)) ∈ lw_all := lw_g (lw_at lw_m6 31 rfl) rfl
theorem q1279 : (Jvm.Cond.code ({ cls := "LinkStation$Scope", name := "need", desc := "(LLinkStation$Module;IIZ)V" } : Jvm.MethodName) prog_8_method_7_code (6 : Nat) (Option.none : Option Jvm.ClassFile.FieldType)) ∈ lw_all := lw_g (lw_at lw_m6 32 rfl) rfl
theorem q1280 : (Jvm.Cond.methodLink "LinkStation$Scope" (151 : Nat) ({ cls := "LinkStation$Scope", name := "find", desc := "(LLinkStation$Module;I)LLinkStation$Definition;" } : Jvm.MethodName)) ∈ lw_all := lw_g (lw_at lw_m6 33 rfl) rfl
theorem q1281 : (Jvm.Cond.instanceMethod ({ cls := "LinkStation$Scope", name := "find", desc := "(LLinkStation$Module;I)LLinkStation$Definition;" } : Jvm.MethodName)) ∈ lw_all := lw_g (lw_at lw_m6 34 rfl) rfl
theorem q1282 : (Jvm.Cond.selects "LinkStation$Scope" ({ cls := "LinkStation$Scope", name := "find", desc := "(LLinkStation$Module;I)LLinkStation$Definition;" } : Jvm.MethodName) ({ cls := "LinkStation$Scope", name := "find", desc := "(LLinkStation$Module;I)LLinkStation$Definition;" } : Jvm.MethodName)) ∈ lw_all := lw_g (lw_at lw_m6 35 rfl) rfl
theorem q1283 : (Jvm.Cond.code ({ cls := "LinkStation$Scope", name := "find", desc := "(LLinkStation$Module;I)LLinkStation$Definition;" } : Jvm.MethodName) prog_8_method_6_code (5 : Nat) (Option.some (Jvm.ClassFile.FieldType.object "LinkStation$Definition"))) ∈ lw_all := lw_g (lw_at lw_m6 36 rfl) rfl
theorem q1284 : (Jvm.Cond.methodLink "LinkStation$Scope" (158 : Nat) ({ cls := "LinkStation$Fault", name := "at", desc := "(IIII)LLinkStation$Fault;" } : Jvm.MethodName)) ∈ lw_all := lw_g (lw_at lw_m6 37 rfl) rfl
theorem q1288 : (Jvm.Cond.methodLink "LinkStation$Scope" (178 : Nat) ({ cls := "java/util/ArrayList", name := "size", desc := "()I" } : Jvm.MethodName)) ∈ lw_all := lw_g (lw_at lw_m6 41 rfl) rfl
theorem q1289 : (Jvm.Cond.methodLink "LinkStation$Scope" (181 : Nat) ({ cls := "java/util/ArrayList", name := "get", desc := "(I)Ljava/lang/Object;" } : Jvm.MethodName)) ∈ lw_all := lw_g (lw_at lw_m6 42 rfl) rfl
theorem q1290 : (Jvm.Cond.classLink "LinkStation$Scope" (184 : Nat) "LinkStation$Step") ∈ lw_all := lw_g (lw_at lw_m6 43 rfl) rfl
theorem q1291 : (Jvm.Cond.methodLink "LinkStation$Scope" (186 : Nat) ({ cls := "LinkStation$Step", name := "name", desc := "()I" } : Jvm.MethodName)) ∈ lw_all := lw_g (lw_at lw_m6 44 rfl) rfl
theorem q1296 : (Jvm.Cond.methodLink "LinkStation$Scope" (189 : Nat) ({ cls := "LinkStation$Step", name := "op", desc := "()LLinkStation$Op;" } : Jvm.MethodName)) ∈ lw_all := lw_g (lw_at lw_m6 49 rfl) rfl
theorem q1300 : (Jvm.Cond.methodLink "LinkStation$Scope" (193 : Nat) ({ cls := "LinkStation$Op", name := "takesDatum", desc := "()Z" } : Jvm.MethodName)) ∈ lw_all := lw_g (lw_at lw_m6 53 rfl) rfl
theorem q1309 : (Jvm.Cond.instanceMethod ({ cls := "LinkStation$Scope", name := "place", desc := "()V" } : Jvm.MethodName)) ∈ lw_all := lw_g (lw_at lw_m6 62 rfl) rfl
theorem q1310 : (Jvm.Cond.selects "LinkStation$Scope" ({ cls := "LinkStation$Scope", name := "place", desc := "()V" } : Jvm.MethodName) ({ cls := "LinkStation$Scope", name := "place", desc := "()V" } : Jvm.MethodName)) ∈ lw_all := lw_g (lw_at lw_m6 63 rfl) rfl
theorem q1311 : (Jvm.Cond.code ({ cls := "LinkStation$Scope", name := "place", desc := "()V" } : Jvm.MethodName) prog_8_method_10_code (5 : Nat) (Option.none : Option Jvm.ClassFile.FieldType)) ∈ lw_all := lw_g (lw_at lw_m6 64 rfl) rfl
theorem q1312 : (Jvm.Cond.fieldLink "LinkStation$Scope" (207 : Nat) "LinkStation$Op" "CALL" "LLinkStation$Op;") ∈ lw_all := lw_g (lw_at lw_m6 65 rfl) rfl
theorem q1314 : (Jvm.Cond.methodLink "LinkStation$Scope" (211 : Nat) ({ cls := "LinkStation$Step", name := "a", desc := "()I" } : Jvm.MethodName)) ∈ lw_all := lw_g (lw_at lw_m6 67 rfl) rfl
theorem q1319 : (Jvm.Cond.instanceMethod ({ cls := "LinkStation$Scope", name := "begin", desc := "(Z)V" } : Jvm.MethodName)) ∈ lw_all := lw_g (lw_at lw_m6 72 rfl) rfl
theorem q1320 : (Jvm.Cond.selects "LinkStation$Scope" ({ cls := "LinkStation$Scope", name := "begin", desc := "(Z)V" } : Jvm.MethodName) ({ cls := "LinkStation$Scope", name := "begin", desc := "(Z)V" } : Jvm.MethodName)) ∈ lw_all := lw_g (lw_at lw_m6 73 rfl) rfl
theorem q1321 : (Jvm.Cond.code ({ cls := "LinkStation$Scope", name := "begin", desc := "(Z)V" } : Jvm.MethodName) prog_8_method_11_code (6 : Nat) (Option.none : Option Jvm.ClassFile.FieldType)) ∈ lw_all := lw_g (lw_at lw_m6 74 rfl) rfl
theorem q1322 : (Jvm.Cond.methodLink "LinkStation$Scope" (214 : Nat) ({ cls := "java/util/HashMap", name := "values", desc := "()Ljava/util/Collection;" } : Jvm.MethodName)) ∈ lw_all := lw_g (lw_at lw_m6 75 rfl) rfl
theorem q1336 : (Jvm.Cond.interfaceEntry "LinkStation$Scope" (218 : Nat)) ∈ lw_tbl := lw_at lw_m6 89 rfl
theorem q1337 : (Jvm.Cond.methodLink "LinkStation$Scope" (218 : Nat) ({ cls := "java/util/Collection", name := "iterator", desc := "()Ljava/util/Iterator;" } : Jvm.MethodName)) ∈ lw_all := lw_g (lw_at lw_m6 90 rfl) rfl
theorem q1396 : (Jvm.Cond.interfaceEntry "LinkStation$Scope" (227 : Nat)) ∈ lw_tbl := lw_at lw_m6 149 rfl
theorem q1397 : (Jvm.Cond.methodLink "LinkStation$Scope" (227 : Nat) ({ cls := "java/util/Map$Entry", name := "setValue", desc := "(Ljava/lang/Object;)Ljava/lang/Object;" } : Jvm.MethodName)) ∈ lw_all := lw_g (lw_at lw_m6 150 rfl) rfl
theorem q1424 : (Jvm.Cond.instanceMethod ({ cls := "LinkStation$Scope", name := "has", desc := "(LLinkStation$Module;)Z" } : Jvm.MethodName)) ∈ lw_all := lw_g (lw_at lw_m6 177 rfl) rfl
theorem q1425 : (Jvm.Cond.selects "LinkStation$Scope" ({ cls := "LinkStation$Scope", name := "has", desc := "(LLinkStation$Module;)Z" } : Jvm.MethodName) ({ cls := "LinkStation$Scope", name := "has", desc := "(LLinkStation$Module;)Z" } : Jvm.MethodName)) ∈ lw_all := lw_g (lw_at lw_m6 178 rfl) rfl
theorem q1426 : (Jvm.Cond.code ({ cls := "LinkStation$Scope", name := "has", desc := "(LLinkStation$Module;)Z" } : Jvm.MethodName) prog_8_method_9_code (2 : Nat) (Option.some Jvm.ClassFile.FieldType.boolean)) ∈ lw_all := lw_g (lw_at lw_m6 179 rfl) rfl
theorem q1427 : (Jvm.Cond.methodLink "LinkStation$Scope" (198 : Nat) ({ cls := "java/util/ArrayList", name := "contains", desc := "(Ljava/lang/Object;)Z" } : Jvm.MethodName)) ∈ lw_all := lw_g (lw_at lw_m6 180 rfl) rfl
theorem q1511 : (Jvm.Cond.instanceMethod ({ cls := "LinkStation$Scope", name := "at", desc := "(I)LLinkStation$Definition;" } : Jvm.MethodName)) ∈ lw_all := lw_g (lw_at lw_m7 24 rfl) rfl
theorem q1512 : (Jvm.Cond.selects "LinkStation$Scope" ({ cls := "LinkStation$Scope", name := "at", desc := "(I)LLinkStation$Definition;" } : Jvm.MethodName) ({ cls := "LinkStation$Scope", name := "at", desc := "(I)LLinkStation$Definition;" } : Jvm.MethodName)) ∈ lw_all := lw_g (lw_at lw_m7 25 rfl) rfl
theorem q1513 : (Jvm.Cond.code ({ cls := "LinkStation$Scope", name := "at", desc := "(I)LLinkStation$Definition;" } : Jvm.MethodName) prog_8_method_12_code (4 : Nat) (Option.some (Jvm.ClassFile.FieldType.object "LinkStation$Definition"))) ∈ lw_all := lw_g (lw_at lw_m7 26 rfl) rfl
theorem q1840 : (Jvm.Cond.castable "LinkStation$Scope" "java/lang/Object") ∈ lw_tbl := lw_at lw_m8 113 rfl
theorem in_X3 : ∀ w ∈ wsX30, w ∈ lw_all := lw_in wsX30 [331, 333, 335, 337, 339, 341] (by decide +kernel) (by decide +kernel)
/-! LinkStation$Definition -/
set_option maxRecDepth 100000
def RX4 : String := "LinkStation$Definition"
def TX4 : u_T := fun k => match k with
  | 0 => ("LinkStation$Definition", "module", "LLinkStation$Module;", true)
  | 1 => ("LinkStation$Definition", "isDatum", "Z", true)
  | 2 => ("LinkStation$Definition", "value", "I", true)
  | 3 => ("LinkStation$Definition", "how", "I", true)
  | _ => ("LinkStation$Definition", "now", "I", false)
def tyX4 : Nat → FieldType := fun k => match k with
  | 0 => .object "LinkStation$Module"
  | 1 => .boolean
  | 2 => .int
  | 3 => .int
  | _ => .int
abbrev wsX40 : List Cond := u_ws RX4 TX4 5
theorem nmX4 : ∀ a, a < 5 → ∀ b, b < 5 → a ≠ b → (TX4 a).2.1 ≠ (TX4 b).2.1 := by decide +kernel
theorem tyX4_ok : ∀ k, k < 5 → parseFieldDescriptor (TX4 k).2.2.1 = some (tyX4 k) := by decide +kernel
abbrev cX4_init : ByteArray := prog_2_method_1_code
def yX4_init : MethodName := ⟨RX4, "<init>", "(LLinkStation$Module;ZII)V"⟩
def dkwX4_init_1 : List UInt8 := [181, 0, 21, 177]
abbrev dktX4_init_1 : List UInt8 := dkwX4_init_1 ++ []
def dkwX4_init_0 : List UInt8 := [42, 183, 0, 1, 42, 43, 181, 0, 7, 42, 28, 181, 0, 13, 42, 29, 181, 0, 17, 42, 21, 4]
abbrev dktX4_init_0 : List UInt8 := dkwX4_init_0 ++ dktX4_init_1
theorem dksX4_init_0 : cX4_init.data.toList.drop 0 = dktX4_init_0 := by decide +kernel
theorem dksX4_init_1 : cX4_init.data.toList.drop 22 = dktX4_init_1 := dk_seg dksX4_init_0 22 rfl rfl
theorem dX4_init_0 : decode cX4_init 0 = .ok (.aload_n 0, 1) := dk_42 (dk_at dksX4_init_0 0 rfl rfl)
theorem dX4_init_1 : decode cX4_init 1 = .ok (.invokespecial 1, 3) := dk_183 0 1 (dk_at dksX4_init_0 1 rfl rfl)
theorem dX4_init_4 : decode cX4_init 4 = .ok (.aload_n 0, 1) := dk_42 (dk_at dksX4_init_0 4 rfl rfl)
theorem dX4_init_5 : decode cX4_init 5 = .ok (.aload_n 1, 1) := dk_43 (dk_at dksX4_init_0 5 rfl rfl)
theorem dX4_init_6 : decode cX4_init 6 = .ok (.putfield 7, 3) := dk_181 0 7 (dk_at dksX4_init_0 6 rfl rfl)
theorem dX4_init_9 : decode cX4_init 9 = .ok (.aload_n 0, 1) := dk_42 (dk_at dksX4_init_0 9 rfl rfl)
theorem dX4_init_10 : decode cX4_init 10 = .ok (.iload_n 2, 1) := dk_28 (dk_at dksX4_init_0 10 rfl rfl)
theorem dX4_init_11 : decode cX4_init 11 = .ok (.putfield 13, 3) := dk_181 0 13 (dk_at dksX4_init_0 11 rfl rfl)
theorem dX4_init_14 : decode cX4_init 14 = .ok (.aload_n 0, 1) := dk_42 (dk_at dksX4_init_0 14 rfl rfl)
theorem dX4_init_15 : decode cX4_init 15 = .ok (.iload_n 3, 1) := dk_29 (dk_at dksX4_init_0 15 rfl rfl)
theorem dX4_init_16 : decode cX4_init 16 = .ok (.putfield 17, 3) := dk_181 0 17 (dk_at dksX4_init_0 16 rfl rfl)
theorem dX4_init_19 : decode cX4_init 19 = .ok (.aload_n 0, 1) := dk_42 (dk_at dksX4_init_0 19 rfl rfl)
theorem dX4_init_20 : decode cX4_init 20 = .ok (.iload 4, 2) := dk_21 4 (dk_at dksX4_init_0 20 rfl rfl)
theorem dX4_init_22 : decode cX4_init 22 = .ok (.putfield 21, 3) := dk_181 0 21 (dk_at dksX4_init_1 0 rfl rfl)
theorem dX4_init_25 : decode cX4_init 25 = .ok (.return_, 1) := dk_177 (dk_at dksX4_init_1 3 rfl rfl)
abbrev cX4_is : ByteArray := prog_2_method_2_code
def yX4_is : MethodName := ⟨RX4, "is", "(I)Z"⟩
def dkwX4_is_0 : List UInt8 := [42, 180, 0, 21, 27, 126, 153, 0, 7, 4, 167, 0, 4, 3, 172]
abbrev dktX4_is_0 : List UInt8 := dkwX4_is_0 ++ []
theorem dksX4_is_0 : cX4_is.data.toList.drop 0 = dktX4_is_0 := by decide +kernel
theorem dX4_is_0 : decode cX4_is 0 = .ok (.aload_n 0, 1) := dk_42 (dk_at dksX4_is_0 0 rfl rfl)
theorem dX4_is_1 : decode cX4_is 1 = .ok (.getfield 21, 3) := dk_180 0 21 (dk_at dksX4_is_0 1 rfl rfl)
theorem dX4_is_4 : decode cX4_is 4 = .ok (.iload_n 1, 1) := dk_27 (dk_at dksX4_is_0 4 rfl rfl)
theorem dX4_is_5 : decode cX4_is 5 = .ok (.iand, 1) := dk_126 (dk_at dksX4_is_0 5 rfl rfl)
theorem dX4_is_6 : decode cX4_is 6 = .ok (.ifCond .eq 7, 3) := dk_153 0 7 (dk_at dksX4_is_0 6 rfl rfl)
theorem dX4_is_9 : decode cX4_is 9 = .ok (.iconst 1, 1) := dk_4 (dk_at dksX4_is_0 9 rfl rfl)
theorem dX4_is_10 : decode cX4_is 10 = .ok (.goto 4, 3) := dk_167 0 4 (dk_at dksX4_is_0 10 rfl rfl)
theorem dX4_is_13 : decode cX4_is 13 = .ok (.iconst 0, 1) := dk_3 (dk_at dksX4_is_0 13 rfl rfl)
theorem dX4_is_14 : decode cX4_is 14 = .ok (.ireturn, 1) := dk_172 (dk_at dksX4_is_0 14 rfl rfl)
theorem q59 : (Jvm.Cond.initialized "LinkStation$Definition") ∈ lw_all := lw_g (lw_at lw_m1 12 rfl) rfl
theorem q227 : (Jvm.Cond.instantiable "LinkStation$Definition" (5 : Nat)) ∈ lw_all := lw_g (lw_at lw_m1 180 rfl) rfl
theorem q229 : (Jvm.Cond.instanceMethod ({ cls := "LinkStation$Definition", name := "<init>", desc := "(LLinkStation$Module;ZII)V" } : Jvm.MethodName)) ∈ lw_all := lw_g (lw_at lw_m1 182 rfl) rfl
theorem q230 : (Jvm.Cond.code ({ cls := "LinkStation$Definition", name := "<init>", desc := "(LLinkStation$Module;ZII)V" } : Jvm.MethodName) prog_2_method_1_code (5 : Nat) (Option.none : Option Jvm.ClassFile.FieldType)) ∈ lw_all := lw_g (lw_at lw_m1 183 rfl) rfl
theorem q231 : (Jvm.Cond.methodLink "LinkStation$Definition" (1 : Nat) ({ cls := "java/lang/Object", name := "<init>", desc := "()V" } : Jvm.MethodName)) ∈ lw_all := lw_g (lw_at lw_m1 184 rfl) rfl
theorem q232 : (Jvm.Cond.fieldLink "LinkStation$Definition" (7 : Nat) "LinkStation$Definition" "module" "LLinkStation$Module;") ∈ lw_all := lw_g (lw_at lw_m1 185 rfl) rfl
theorem q235 : (Jvm.Cond.fieldLink "LinkStation$Definition" (13 : Nat) "LinkStation$Definition" "isDatum" "Z") ∈ lw_all := lw_g (lw_at lw_m1 188 rfl) rfl
theorem q238 : (Jvm.Cond.fieldLink "LinkStation$Definition" (17 : Nat) "LinkStation$Definition" "value" "I") ∈ lw_all := lw_g (lw_at lw_m1 191 rfl) rfl
theorem q241 : (Jvm.Cond.fieldLink "LinkStation$Definition" (21 : Nat) "LinkStation$Definition" "how" "I") ∈ lw_all := lw_g (lw_at lw_m1 194 rfl) rfl
theorem q245 : (Jvm.Cond.laysFinal "LinkStation$Definition" "LinkStation$Definition" "module" "LLinkStation$Module;") ∈ lw_all := lw_g (lw_at lw_m1 198 rfl) rfl
theorem q246 : (Jvm.Cond.soleField "LinkStation$Definition" "module") ∈ lw_all := lw_g (lw_at lw_m1 199 rfl) rfl
theorem q247 : (Jvm.Cond.laysFinal "LinkStation$Definition" "LinkStation$Definition" "isDatum" "Z") ∈ lw_all := lw_g (lw_at lw_m1 200 rfl) rfl
theorem q248 : (Jvm.Cond.soleField "LinkStation$Definition" "isDatum") ∈ lw_all := lw_g (lw_at lw_m1 201 rfl) rfl
theorem q249 : (Jvm.Cond.laysFinal "LinkStation$Definition" "LinkStation$Definition" "value" "I") ∈ lw_all := lw_g (lw_at lw_m1 202 rfl) rfl
theorem q250 : (Jvm.Cond.soleField "LinkStation$Definition" "value") ∈ lw_all := lw_g (lw_at lw_m1 203 rfl) rfl
theorem q251 : (Jvm.Cond.laysFinal "LinkStation$Definition" "LinkStation$Definition" "how" "I") ∈ lw_all := lw_g (lw_at lw_m1 204 rfl) rfl
theorem q252 : (Jvm.Cond.soleField "LinkStation$Definition" "how") ∈ lw_all := lw_g (lw_at lw_m1 205 rfl) rfl
theorem q253 : (Jvm.Cond.lays "LinkStation$Definition" "LinkStation$Definition" "now" "I") ∈ lw_all := lw_g (lw_at lw_m1 206 rfl) rfl
theorem q254 : (Jvm.Cond.soleField "LinkStation$Definition" "now") ∈ lw_all := lw_g (lw_at lw_m1 207 rfl) rfl
theorem q255 : (Jvm.Cond.superclass "LinkStation$Definition" "java/lang/Object") ∈ lw_all := lw_g (lw_at lw_m1 208 rfl) rfl
theorem q551 : (Jvm.Cond.selects "LinkStation$Definition" ({ cls := "java/lang/Object", name := "getClass", desc := "()Ljava/lang/Class;" } : Jvm.MethodName) ({ cls := "java/lang/Object", name := "getClass", desc := "()Ljava/lang/Class;" } : Jvm.MethodName)) ∈ lw_all := lw_g (lw_at lw_m3 24 rfl) rfl
theorem q627 : (Jvm.Cond.selects "LinkStation$Definition" ({ cls := "java/lang/Object", name := "equals", desc := "(Ljava/lang/Object;)Z" } : Jvm.MethodName) ({ cls := "java/lang/Object", name := "equals", desc := "(Ljava/lang/Object;)Z" } : Jvm.MethodName)) ∈ lw_all := lw_g (lw_at lw_m3 100 rfl) rfl
theorem q696 : (Jvm.Cond.selects "LinkStation$Definition" ({ cls := "java/lang/Object", name := "hashCode", desc := "()I" } : Jvm.MethodName) ({ cls := "java/lang/Object", name := "hashCode", desc := "()I" } : Jvm.MethodName)) ∈ lw_all := lw_g (lw_at lw_m3 169 rfl) rfl
theorem q1268 : (Jvm.Cond.instanceMethod ({ cls := "LinkStation$Definition", name := "is", desc := "(I)Z" } : Jvm.MethodName)) ∈ lw_all := lw_g (lw_at lw_m6 21 rfl) rfl
theorem q1269 : (Jvm.Cond.selects "LinkStation$Definition" ({ cls := "LinkStation$Definition", name := "is", desc := "(I)Z" } : Jvm.MethodName) ({ cls := "LinkStation$Definition", name := "is", desc := "(I)Z" } : Jvm.MethodName)) ∈ lw_all := lw_g (lw_at lw_m6 22 rfl) rfl
theorem q1270 : (Jvm.Cond.code ({ cls := "LinkStation$Definition", name := "is", desc := "(I)Z" } : Jvm.MethodName) prog_2_method_2_code (2 : Nat) (Option.some Jvm.ClassFile.FieldType.boolean)) ∈ lw_all := lw_g (lw_at lw_m6 23 rfl) rfl
theorem q1835 : (Jvm.Cond.castable "LinkStation$Definition" "java/lang/Object") ∈ lw_tbl := lw_at lw_m8 108 rfl
theorem in_X4 : ∀ w ∈ wsX40, w ∈ lw_all := lw_in wsX40 [245, 247, 249, 251, 253] (by decide +kernel) (by decide +kernel)
/-! LinkStation$Machine -/
set_option maxRecDepth 100000
def RX5 : String := "LinkStation$Machine"
def TX5 : u_T := fun k => match k with
  | 0 => ("LinkStation$Machine", "scope", "LLinkStation$Scope;", false)
  | 1 => ("LinkStation$Machine", "ended", "LLinkStation$Ended;", true)
  | 2 => ("LinkStation$Machine", "registers", "[I", true)
  | 3 => ("LinkStation$Machine", "backModules", "[LLinkStation$Module;", true)
  | 4 => ("LinkStation$Machine", "backSteps", "[I", true)
  | 5 => ("LinkStation$Machine", "says", "[I", true)
  | 6 => ("LinkStation$Machine", "deep", "I", false)
  | 7 => ("LinkStation$Machine", "deepest", "I", false)
  | 8 => ("LinkStation$Machine", "said", "I", false)
  | 9 => ("LinkStation$Machine", "made", "I", false)
  | 10 => ("LinkStation$Machine", "granted", "I", false)
  | 11 => ("LinkStation$Machine", "bound", "I", false)
  | 12 => ("LinkStation$Machine", "module", "LLinkStation$Module;", false)
  | _ => ("LinkStation$Machine", "at", "I", false)
def tyX5 : Nat → FieldType := fun k => match k with
  | 0 => .object "LinkStation$Scope"
  | 1 => .object "LinkStation$Ended"
  | 2 => .array .int
  | 3 => .array (.object "LinkStation$Module")
  | 4 => .array .int
  | 5 => .array .int
  | 6 => .int
  | 7 => .int
  | 8 => .int
  | 9 => .int
  | 10 => .int
  | 11 => .int
  | 12 => .object "LinkStation$Module"
  | _ => .int
abbrev wsX50 : List Cond := u_ws RX5 TX5 14
set_option maxRecDepth 100000 in
theorem nmX5 : ∀ a, a < 14 → ∀ b, b < 14 → a ≠ b → (TX5 a).2.1 ≠ (TX5 b).2.1 := by decide +kernel
set_option maxRecDepth 100000 in
theorem tyX5_ok : ∀ k, k < 14 → parseFieldDescriptor (TX5 k).2.2.1 = some (tyX5 k) := by decide +kernel
abbrev cX5_init : ByteArray := prog_5_method_1_code
def yX5_init : MethodName := ⟨RX5, "<init>", "()V"⟩
def dkwX5_init_2 : List UInt8 := [177]
abbrev dktX5_init_2 : List UInt8 := dkwX5_init_2 ++ []
def dkwX5_init_1 : List UInt8 := [16, 100, 189, 0, 22, 181, 0, 24, 42, 16, 100, 188, 10, 181, 0, 28, 42, 16, 60, 188, 10, 181, 0, 31]
abbrev dktX5_init_1 : List UInt8 := dkwX5_init_1 ++ dktX5_init_2
def dkwX5_init_0 : List UInt8 := [42, 183, 0, 3, 42, 187, 0, 9, 89, 183, 0, 11, 181, 0, 12, 42, 16, 8, 188, 10, 181, 0, 18, 42]
abbrev dktX5_init_0 : List UInt8 := dkwX5_init_0 ++ dktX5_init_1
theorem dksX5_init_0 : cX5_init.data.toList.drop 0 = dktX5_init_0 := by decide +kernel
theorem dksX5_init_1 : cX5_init.data.toList.drop 24 = dktX5_init_1 := dk_seg dksX5_init_0 24 rfl rfl
theorem dksX5_init_2 : cX5_init.data.toList.drop 48 = dktX5_init_2 := dk_seg dksX5_init_1 24 rfl rfl
theorem dX5_init_0 : decode cX5_init 0 = .ok (.aload_n 0, 1) := dk_42 (dk_at dksX5_init_0 0 rfl rfl)
theorem dX5_init_1 : decode cX5_init 1 = .ok (.invokespecial 3, 3) := dk_183 0 3 (dk_at dksX5_init_0 1 rfl rfl)
theorem dX5_init_4 : decode cX5_init 4 = .ok (.aload_n 0, 1) := dk_42 (dk_at dksX5_init_0 4 rfl rfl)
theorem dX5_init_5 : decode cX5_init 5 = .ok (.new 9, 3) := dk_187 0 9 (dk_at dksX5_init_0 5 rfl rfl)
theorem dX5_init_8 : decode cX5_init 8 = .ok (.dup, 1) := dk_89 (dk_at dksX5_init_0 8 rfl rfl)
theorem dX5_init_9 : decode cX5_init 9 = .ok (.invokespecial 11, 3) := dk_183 0 11 (dk_at dksX5_init_0 9 rfl rfl)
theorem dX5_init_12 : decode cX5_init 12 = .ok (.putfield 12, 3) := dk_181 0 12 (dk_at dksX5_init_0 12 rfl rfl)
theorem dX5_init_15 : decode cX5_init 15 = .ok (.aload_n 0, 1) := dk_42 (dk_at dksX5_init_0 15 rfl rfl)
theorem dX5_init_16 : decode cX5_init 16 = .ok (.bipush 8, 2) := dk_16 8 (dk_at dksX5_init_0 16 rfl rfl)
theorem dX5_init_18 : decode cX5_init 18 = .ok (.newarray .int, 2) := dk_188_10 (dk_at dksX5_init_0 18 rfl rfl)
theorem dX5_init_20 : decode cX5_init 20 = .ok (.putfield 18, 3) := dk_181 0 18 (dk_at dksX5_init_0 20 rfl rfl)
theorem dX5_init_23 : decode cX5_init 23 = .ok (.aload_n 0, 1) := dk_42 (dk_at dksX5_init_0 23 rfl rfl)
theorem dX5_init_24 : decode cX5_init 24 = .ok (.bipush 100, 2) := dk_16 100 (dk_at dksX5_init_1 0 rfl rfl)
theorem dX5_init_26 : decode cX5_init 26 = .ok (.anewarray 22, 3) := dk_189 0 22 (dk_at dksX5_init_1 2 rfl rfl)
theorem dX5_init_29 : decode cX5_init 29 = .ok (.putfield 24, 3) := dk_181 0 24 (dk_at dksX5_init_1 5 rfl rfl)
theorem dX5_init_32 : decode cX5_init 32 = .ok (.aload_n 0, 1) := dk_42 (dk_at dksX5_init_1 8 rfl rfl)
theorem dX5_init_33 : decode cX5_init 33 = .ok (.bipush 100, 2) := dk_16 100 (dk_at dksX5_init_1 9 rfl rfl)
theorem dX5_init_35 : decode cX5_init 35 = .ok (.newarray .int, 2) := dk_188_10 (dk_at dksX5_init_1 11 rfl rfl)
theorem dX5_init_37 : decode cX5_init 37 = .ok (.putfield 28, 3) := dk_181 0 28 (dk_at dksX5_init_1 13 rfl rfl)
theorem dX5_init_40 : decode cX5_init 40 = .ok (.aload_n 0, 1) := dk_42 (dk_at dksX5_init_1 16 rfl rfl)
theorem dX5_init_41 : decode cX5_init 41 = .ok (.bipush 60, 2) := dk_16 60 (dk_at dksX5_init_1 17 rfl rfl)
theorem dX5_init_43 : decode cX5_init 43 = .ok (.newarray .int, 2) := dk_188_10 (dk_at dksX5_init_1 19 rfl rfl)
theorem dX5_init_45 : decode cX5_init 45 = .ok (.putfield 31, 3) := dk_181 0 31 (dk_at dksX5_init_1 21 rfl rfl)
theorem dX5_init_48 : decode cX5_init 48 = .ok (.return_, 1) := dk_177 (dk_at dksX5_init_2 0 rfl rfl)
abbrev cX5_run : ByteArray := prog_5_method_4_code
def yX5_run : MethodName := ⟨RX5, "run", "(LLinkStation$Scope;LLinkStation$Definition;I)I"⟩
def dkwX5_run_4 : List UInt8 := [25, 6, 182, 0, 103, 167, 255, 181, 42, 44, 182, 0, 103, 3, 172, 58, 4, 25, 4, 180, 0, 34, 172]
abbrev dktX5_run_4 : List UInt8 := dkwX5_run_4 ++ []
def dkwX5_run_3 : List UInt8 := [25, 5, 180, 0, 92, 182, 0, 99, 58, 6, 25, 6, 42, 180, 0, 62, 180, 0, 95, 165, 0, 9, 42]
abbrev dktX5_run_3 : List UInt8 := dkwX5_run_3 ++ dktX5_run_4
def dkwX5_run_2 : List UInt8 := [180, 0, 92, 2, 160, 0, 13, 42, 180, 0, 62, 180, 0, 95, 167, 0, 17, 42, 180, 0, 62, 25, 5]
abbrev dktX5_run_2 : List UInt8 := dkwX5_run_2 ++ dktX5_run_3
def dkwX5_run_1 : List UInt8 := [185, 0, 82, 1, 0, 153, 0, 71, 25, 4, 185, 0, 88, 1, 0, 192, 0, 22, 58, 5, 25, 5]
abbrev dktX5_run_1 : List UInt8 := dkwX5_run_1 ++ dktX5_run_2
def dkwX5_run_0 : List UInt8 := [42, 43, 181, 0, 62, 42, 29, 182, 0, 66, 42, 180, 0, 62, 180, 0, 70, 182, 0, 76, 58, 4, 25, 4]
abbrev dktX5_run_0 : List UInt8 := dkwX5_run_0 ++ dktX5_run_1
theorem dksX5_run_0 : cX5_run.data.toList.drop 0 = dktX5_run_0 := by decide +kernel
theorem dksX5_run_1 : cX5_run.data.toList.drop 24 = dktX5_run_1 := dk_seg dksX5_run_0 24 rfl rfl
theorem dksX5_run_2 : cX5_run.data.toList.drop 46 = dktX5_run_2 := dk_seg dksX5_run_1 22 rfl rfl
theorem dksX5_run_3 : cX5_run.data.toList.drop 69 = dktX5_run_3 := dk_seg dksX5_run_2 23 rfl rfl
theorem dksX5_run_4 : cX5_run.data.toList.drop 92 = dktX5_run_4 := dk_seg dksX5_run_3 23 rfl rfl
theorem dX5_run_0 : decode cX5_run 0 = .ok (.aload_n 0, 1) := dk_42 (dk_at dksX5_run_0 0 rfl rfl)
theorem dX5_run_1 : decode cX5_run 1 = .ok (.aload_n 1, 1) := dk_43 (dk_at dksX5_run_0 1 rfl rfl)
theorem dX5_run_2 : decode cX5_run 2 = .ok (.putfield 62, 3) := dk_181 0 62 (dk_at dksX5_run_0 2 rfl rfl)
theorem dX5_run_5 : decode cX5_run 5 = .ok (.aload_n 0, 1) := dk_42 (dk_at dksX5_run_0 5 rfl rfl)
theorem dX5_run_6 : decode cX5_run 6 = .ok (.iload_n 3, 1) := dk_29 (dk_at dksX5_run_0 6 rfl rfl)
theorem dX5_run_7 : decode cX5_run 7 = .ok (.invokevirtual 66, 3) := dk_182 0 66 (dk_at dksX5_run_0 7 rfl rfl)
theorem dX5_run_10 : decode cX5_run 10 = .ok (.aload_n 0, 1) := dk_42 (dk_at dksX5_run_0 10 rfl rfl)
theorem dX5_run_11 : decode cX5_run 11 = .ok (.getfield 62, 3) := dk_180 0 62 (dk_at dksX5_run_0 11 rfl rfl)
theorem dX5_run_14 : decode cX5_run 14 = .ok (.getfield 70, 3) := dk_180 0 70 (dk_at dksX5_run_0 14 rfl rfl)
theorem dX5_run_17 : decode cX5_run 17 = .ok (.invokevirtual 76, 3) := dk_182 0 76 (dk_at dksX5_run_0 17 rfl rfl)
theorem dX5_run_20 : decode cX5_run 20 = .ok (.astore 4, 2) := dk_58 4 (dk_at dksX5_run_0 20 rfl rfl)
theorem dX5_run_22 : decode cX5_run 22 = .ok (.aload 4, 2) := dk_25 4 (dk_at dksX5_run_0 22 rfl rfl)
theorem dX5_run_24 : decode cX5_run 24 = .ok (.invokeinterface 82 1, 5) := by decide +kernel
theorem dX5_run_29 : decode cX5_run 29 = .ok (.ifCond .eq 71, 3) := dk_153 0 71 (dk_at dksX5_run_1 5 rfl rfl)
theorem dX5_run_32 : decode cX5_run 32 = .ok (.aload 4, 2) := dk_25 4 (dk_at dksX5_run_1 8 rfl rfl)
theorem dX5_run_34 : decode cX5_run 34 = .ok (.invokeinterface 88 1, 5) := by decide +kernel
theorem dX5_run_39 : decode cX5_run 39 = .ok (.checkcast 22, 3) := dk_192 0 22 (dk_at dksX5_run_1 15 rfl rfl)
theorem dX5_run_42 : decode cX5_run 42 = .ok (.astore 5, 2) := dk_58 5 (dk_at dksX5_run_1 18 rfl rfl)
theorem dX5_run_44 : decode cX5_run 44 = .ok (.aload 5, 2) := dk_25 5 (dk_at dksX5_run_1 20 rfl rfl)
theorem dX5_run_46 : decode cX5_run 46 = .ok (.getfield 92, 3) := dk_180 0 92 (dk_at dksX5_run_2 0 rfl rfl)
theorem dX5_run_49 : decode cX5_run 49 = .ok (.iconst (-1), 1) := dk_2 (dk_at dksX5_run_2 3 rfl rfl)
theorem dX5_run_50 : decode cX5_run 50 = .ok (.if_icmp .ne 13, 3) := dk_160 0 13 (dk_at dksX5_run_2 4 rfl rfl)
theorem dX5_run_53 : decode cX5_run 53 = .ok (.aload_n 0, 1) := dk_42 (dk_at dksX5_run_2 7 rfl rfl)
theorem dX5_run_54 : decode cX5_run 54 = .ok (.getfield 62, 3) := dk_180 0 62 (dk_at dksX5_run_2 8 rfl rfl)
theorem dX5_run_57 : decode cX5_run 57 = .ok (.getfield 95, 3) := dk_180 0 95 (dk_at dksX5_run_2 11 rfl rfl)
theorem dX5_run_60 : decode cX5_run 60 = .ok (.goto 17, 3) := dk_167 0 17 (dk_at dksX5_run_2 14 rfl rfl)
theorem dX5_run_63 : decode cX5_run 63 = .ok (.aload_n 0, 1) := dk_42 (dk_at dksX5_run_2 17 rfl rfl)
theorem dX5_run_64 : decode cX5_run 64 = .ok (.getfield 62, 3) := dk_180 0 62 (dk_at dksX5_run_2 18 rfl rfl)
theorem dX5_run_67 : decode cX5_run 67 = .ok (.aload 5, 2) := dk_25 5 (dk_at dksX5_run_2 21 rfl rfl)
theorem dX5_run_69 : decode cX5_run 69 = .ok (.aload 5, 2) := dk_25 5 (dk_at dksX5_run_3 0 rfl rfl)
theorem dX5_run_71 : decode cX5_run 71 = .ok (.getfield 92, 3) := dk_180 0 92 (dk_at dksX5_run_3 2 rfl rfl)
theorem dX5_run_74 : decode cX5_run 74 = .ok (.invokevirtual 99, 3) := dk_182 0 99 (dk_at dksX5_run_3 5 rfl rfl)
theorem dX5_run_77 : decode cX5_run 77 = .ok (.astore 6, 2) := dk_58 6 (dk_at dksX5_run_3 8 rfl rfl)
theorem dX5_run_79 : decode cX5_run 79 = .ok (.aload 6, 2) := dk_25 6 (dk_at dksX5_run_3 10 rfl rfl)
theorem dX5_run_81 : decode cX5_run 81 = .ok (.aload_n 0, 1) := dk_42 (dk_at dksX5_run_3 12 rfl rfl)
theorem dX5_run_82 : decode cX5_run 82 = .ok (.getfield 62, 3) := dk_180 0 62 (dk_at dksX5_run_3 13 rfl rfl)
theorem dX5_run_85 : decode cX5_run 85 = .ok (.getfield 95, 3) := dk_180 0 95 (dk_at dksX5_run_3 16 rfl rfl)
theorem dX5_run_88 : decode cX5_run 88 = .ok (.if_acmp .eq 9, 3) := dk_165 0 9 (dk_at dksX5_run_3 19 rfl rfl)
theorem dX5_run_91 : decode cX5_run 91 = .ok (.aload_n 0, 1) := dk_42 (dk_at dksX5_run_3 22 rfl rfl)
theorem dX5_run_92 : decode cX5_run 92 = .ok (.aload 6, 2) := dk_25 6 (dk_at dksX5_run_4 0 rfl rfl)
theorem dX5_run_94 : decode cX5_run 94 = .ok (.invokevirtual 103, 3) := dk_182 0 103 (dk_at dksX5_run_4 2 rfl rfl)
theorem dX5_run_97 : decode cX5_run 97 = .ok (.goto (-75), 3) := dk_167 255 181 (dk_at dksX5_run_4 5 rfl rfl)
theorem dX5_run_100 : decode cX5_run 100 = .ok (.aload_n 0, 1) := dk_42 (dk_at dksX5_run_4 8 rfl rfl)
theorem dX5_run_101 : decode cX5_run 101 = .ok (.aload_n 2, 1) := dk_44 (dk_at dksX5_run_4 9 rfl rfl)
theorem dX5_run_102 : decode cX5_run 102 = .ok (.invokevirtual 103, 3) := dk_182 0 103 (dk_at dksX5_run_4 10 rfl rfl)
theorem dX5_run_105 : decode cX5_run 105 = .ok (.iconst 0, 1) := dk_3 (dk_at dksX5_run_4 13 rfl rfl)
theorem dX5_run_106 : decode cX5_run 106 = .ok (.ireturn, 1) := dk_172 (dk_at dksX5_run_4 14 rfl rfl)
theorem dX5_run_107 : decode cX5_run 107 = .ok (.astore 4, 2) := dk_58 4 (dk_at dksX5_run_4 15 rfl rfl)
theorem dX5_run_109 : decode cX5_run 109 = .ok (.aload 4, 2) := dk_25 4 (dk_at dksX5_run_4 17 rfl rfl)
theorem dX5_run_111 : decode cX5_run 111 = .ok (.getfield 34, 3) := dk_180 0 34 (dk_at dksX5_run_4 19 rfl rfl)
theorem dX5_run_114 : decode cX5_run 114 = .ok (.ireturn, 1) := dk_172 (dk_at dksX5_run_4 22 rfl rfl)
abbrev cX5_clear : ByteArray := prog_5_method_3_code
def yX5_clear : MethodName := ⟨RX5, "clear", "(I)V"⟩
def dkwX5_clear_1 : List UInt8 := [3, 181, 0, 53, 42, 3, 181, 0, 56, 42, 27, 181, 0, 59, 177]
abbrev dktX5_clear_1 : List UInt8 := dkwX5_clear_1 ++ []
def dkwX5_clear_0 : List UInt8 := [42, 180, 0, 18, 3, 184, 0, 38, 42, 3, 181, 0, 44, 42, 3, 181, 0, 47, 42, 3, 181, 0, 50, 42]
abbrev dktX5_clear_0 : List UInt8 := dkwX5_clear_0 ++ dktX5_clear_1
theorem dksX5_clear_0 : cX5_clear.data.toList.drop 0 = dktX5_clear_0 := by decide +kernel
theorem dksX5_clear_1 : cX5_clear.data.toList.drop 24 = dktX5_clear_1 := dk_seg dksX5_clear_0 24 rfl rfl
theorem dX5_clear_0 : decode cX5_clear 0 = .ok (.aload_n 0, 1) := dk_42 (dk_at dksX5_clear_0 0 rfl rfl)
theorem dX5_clear_1 : decode cX5_clear 1 = .ok (.getfield 18, 3) := dk_180 0 18 (dk_at dksX5_clear_0 1 rfl rfl)
theorem dX5_clear_4 : decode cX5_clear 4 = .ok (.iconst 0, 1) := dk_3 (dk_at dksX5_clear_0 4 rfl rfl)
theorem dX5_clear_5 : decode cX5_clear 5 = .ok (.invokestatic 38, 3) := dk_184 0 38 (dk_at dksX5_clear_0 5 rfl rfl)
theorem dX5_clear_8 : decode cX5_clear 8 = .ok (.aload_n 0, 1) := dk_42 (dk_at dksX5_clear_0 8 rfl rfl)
theorem dX5_clear_9 : decode cX5_clear 9 = .ok (.iconst 0, 1) := dk_3 (dk_at dksX5_clear_0 9 rfl rfl)
theorem dX5_clear_10 : decode cX5_clear 10 = .ok (.putfield 44, 3) := dk_181 0 44 (dk_at dksX5_clear_0 10 rfl rfl)
theorem dX5_clear_13 : decode cX5_clear 13 = .ok (.aload_n 0, 1) := dk_42 (dk_at dksX5_clear_0 13 rfl rfl)
theorem dX5_clear_14 : decode cX5_clear 14 = .ok (.iconst 0, 1) := dk_3 (dk_at dksX5_clear_0 14 rfl rfl)
theorem dX5_clear_15 : decode cX5_clear 15 = .ok (.putfield 47, 3) := dk_181 0 47 (dk_at dksX5_clear_0 15 rfl rfl)
theorem dX5_clear_18 : decode cX5_clear 18 = .ok (.aload_n 0, 1) := dk_42 (dk_at dksX5_clear_0 18 rfl rfl)
theorem dX5_clear_19 : decode cX5_clear 19 = .ok (.iconst 0, 1) := dk_3 (dk_at dksX5_clear_0 19 rfl rfl)
theorem dX5_clear_20 : decode cX5_clear 20 = .ok (.putfield 50, 3) := dk_181 0 50 (dk_at dksX5_clear_0 20 rfl rfl)
theorem dX5_clear_23 : decode cX5_clear 23 = .ok (.aload_n 0, 1) := dk_42 (dk_at dksX5_clear_0 23 rfl rfl)
theorem dX5_clear_24 : decode cX5_clear 24 = .ok (.iconst 0, 1) := dk_3 (dk_at dksX5_clear_1 0 rfl rfl)
theorem dX5_clear_25 : decode cX5_clear 25 = .ok (.putfield 53, 3) := dk_181 0 53 (dk_at dksX5_clear_1 1 rfl rfl)
theorem dX5_clear_28 : decode cX5_clear 28 = .ok (.aload_n 0, 1) := dk_42 (dk_at dksX5_clear_1 4 rfl rfl)
theorem dX5_clear_29 : decode cX5_clear 29 = .ok (.iconst 0, 1) := dk_3 (dk_at dksX5_clear_1 5 rfl rfl)
theorem dX5_clear_30 : decode cX5_clear 30 = .ok (.putfield 56, 3) := dk_181 0 56 (dk_at dksX5_clear_1 6 rfl rfl)
theorem dX5_clear_33 : decode cX5_clear 33 = .ok (.aload_n 0, 1) := dk_42 (dk_at dksX5_clear_1 9 rfl rfl)
theorem dX5_clear_34 : decode cX5_clear 34 = .ok (.iload_n 1, 1) := dk_27 (dk_at dksX5_clear_1 10 rfl rfl)
theorem dX5_clear_35 : decode cX5_clear 35 = .ok (.putfield 59, 3) := dk_181 0 59 (dk_at dksX5_clear_1 11 rfl rfl)
theorem dX5_clear_38 : decode cX5_clear 38 = .ok (.return_, 1) := dk_177 (dk_at dksX5_clear_1 14 rfl rfl)
abbrev cX5_callAlone : ByteArray := prog_5_method_5_code
def yX5_callAlone : MethodName := ⟨RX5, "callAlone", "(LLinkStation$Definition;)V"⟩
def dkwX5_callAlone_4 : List UInt8 := [192, 0, 135, 182, 0, 137, 61, 167, 255, 180, 177]
abbrev dktX5_callAlone_4 : List UInt8 := dkwX5_callAlone_4 ++ []
def dkwX5_callAlone_3 : List UInt8 := [180, 0, 53, 4, 96, 181, 0, 53, 42, 42, 180, 0, 113, 180, 0, 120, 42, 180, 0, 117, 182, 0, 131]
abbrev dktX5_callAlone_3 : List UInt8 := dkwX5_callAlone_3 ++ dktX5_callAlone_4
def dkwX5_callAlone_2 : List UInt8 := [182, 0, 127, 191, 42, 180, 0, 53, 42, 180, 0, 59, 160, 0, 9, 42, 4, 182, 0, 127, 191, 42, 89]
abbrev dktX5_callAlone_2 : List UInt8 := dkwX5_callAlone_2 ++ dktX5_callAlone_3
def dkwX5_callAlone_1 : List UInt8 := [153, 0, 78, 42, 180, 0, 117, 42, 180, 0, 113, 180, 0, 120, 182, 0, 123, 161, 0, 9, 42, 7]
abbrev dktX5_callAlone_1 : List UInt8 := dkwX5_callAlone_1 ++ dktX5_callAlone_2
def dkwX5_callAlone_0 : List UInt8 := [42, 3, 181, 0, 44, 42, 43, 180, 0, 107, 181, 0, 113, 42, 43, 180, 0, 114, 181, 0, 117, 4, 61, 28]
abbrev dktX5_callAlone_0 : List UInt8 := dkwX5_callAlone_0 ++ dktX5_callAlone_1
theorem dksX5_callAlone_0 : cX5_callAlone.data.toList.drop 0 = dktX5_callAlone_0 := by decide +kernel
theorem dksX5_callAlone_1 : cX5_callAlone.data.toList.drop 24 = dktX5_callAlone_1 := dk_seg dksX5_callAlone_0 24 rfl rfl
theorem dksX5_callAlone_2 : cX5_callAlone.data.toList.drop 46 = dktX5_callAlone_2 := dk_seg dksX5_callAlone_1 22 rfl rfl
theorem dksX5_callAlone_3 : cX5_callAlone.data.toList.drop 69 = dktX5_callAlone_3 := dk_seg dksX5_callAlone_2 23 rfl rfl
theorem dksX5_callAlone_4 : cX5_callAlone.data.toList.drop 92 = dktX5_callAlone_4 := dk_seg dksX5_callAlone_3 23 rfl rfl
theorem dX5_callAlone_0 : decode cX5_callAlone 0 = .ok (.aload_n 0, 1) := dk_42 (dk_at dksX5_callAlone_0 0 rfl rfl)
theorem dX5_callAlone_1 : decode cX5_callAlone 1 = .ok (.iconst 0, 1) := dk_3 (dk_at dksX5_callAlone_0 1 rfl rfl)
theorem dX5_callAlone_2 : decode cX5_callAlone 2 = .ok (.putfield 44, 3) := dk_181 0 44 (dk_at dksX5_callAlone_0 2 rfl rfl)
theorem dX5_callAlone_5 : decode cX5_callAlone 5 = .ok (.aload_n 0, 1) := dk_42 (dk_at dksX5_callAlone_0 5 rfl rfl)
theorem dX5_callAlone_6 : decode cX5_callAlone 6 = .ok (.aload_n 1, 1) := dk_43 (dk_at dksX5_callAlone_0 6 rfl rfl)
theorem dX5_callAlone_7 : decode cX5_callAlone 7 = .ok (.getfield 107, 3) := dk_180 0 107 (dk_at dksX5_callAlone_0 7 rfl rfl)
theorem dX5_callAlone_10 : decode cX5_callAlone 10 = .ok (.putfield 113, 3) := dk_181 0 113 (dk_at dksX5_callAlone_0 10 rfl rfl)
theorem dX5_callAlone_13 : decode cX5_callAlone 13 = .ok (.aload_n 0, 1) := dk_42 (dk_at dksX5_callAlone_0 13 rfl rfl)
theorem dX5_callAlone_14 : decode cX5_callAlone 14 = .ok (.aload_n 1, 1) := dk_43 (dk_at dksX5_callAlone_0 14 rfl rfl)
theorem dX5_callAlone_15 : decode cX5_callAlone 15 = .ok (.getfield 114, 3) := dk_180 0 114 (dk_at dksX5_callAlone_0 15 rfl rfl)
theorem dX5_callAlone_18 : decode cX5_callAlone 18 = .ok (.putfield 117, 3) := dk_181 0 117 (dk_at dksX5_callAlone_0 18 rfl rfl)
theorem dX5_callAlone_21 : decode cX5_callAlone 21 = .ok (.iconst 1, 1) := dk_4 (dk_at dksX5_callAlone_0 21 rfl rfl)
theorem dX5_callAlone_22 : decode cX5_callAlone 22 = .ok (.istore_n 2, 1) := dk_61 (dk_at dksX5_callAlone_0 22 rfl rfl)
theorem dX5_callAlone_23 : decode cX5_callAlone 23 = .ok (.iload_n 2, 1) := dk_28 (dk_at dksX5_callAlone_0 23 rfl rfl)
theorem dX5_callAlone_24 : decode cX5_callAlone 24 = .ok (.ifCond .eq 78, 3) := dk_153 0 78 (dk_at dksX5_callAlone_1 0 rfl rfl)
theorem dX5_callAlone_27 : decode cX5_callAlone 27 = .ok (.aload_n 0, 1) := dk_42 (dk_at dksX5_callAlone_1 3 rfl rfl)
theorem dX5_callAlone_28 : decode cX5_callAlone 28 = .ok (.getfield 117, 3) := dk_180 0 117 (dk_at dksX5_callAlone_1 4 rfl rfl)
theorem dX5_callAlone_31 : decode cX5_callAlone 31 = .ok (.aload_n 0, 1) := dk_42 (dk_at dksX5_callAlone_1 7 rfl rfl)
theorem dX5_callAlone_32 : decode cX5_callAlone 32 = .ok (.getfield 113, 3) := dk_180 0 113 (dk_at dksX5_callAlone_1 8 rfl rfl)
theorem dX5_callAlone_35 : decode cX5_callAlone 35 = .ok (.getfield 120, 3) := dk_180 0 120 (dk_at dksX5_callAlone_1 11 rfl rfl)
theorem dX5_callAlone_38 : decode cX5_callAlone 38 = .ok (.invokevirtual 123, 3) := dk_182 0 123 (dk_at dksX5_callAlone_1 14 rfl rfl)
theorem dX5_callAlone_41 : decode cX5_callAlone 41 = .ok (.if_icmp .lt 9, 3) := dk_161 0 9 (dk_at dksX5_callAlone_1 17 rfl rfl)
theorem dX5_callAlone_44 : decode cX5_callAlone 44 = .ok (.aload_n 0, 1) := dk_42 (dk_at dksX5_callAlone_1 20 rfl rfl)
theorem dX5_callAlone_45 : decode cX5_callAlone 45 = .ok (.iconst 4, 1) := dk_7 (dk_at dksX5_callAlone_1 21 rfl rfl)
theorem dX5_callAlone_46 : decode cX5_callAlone 46 = .ok (.invokevirtual 127, 3) := dk_182 0 127 (dk_at dksX5_callAlone_2 0 rfl rfl)
theorem dX5_callAlone_49 : decode cX5_callAlone 49 = .ok (.athrow, 1) := dk_191 (dk_at dksX5_callAlone_2 3 rfl rfl)
theorem dX5_callAlone_50 : decode cX5_callAlone 50 = .ok (.aload_n 0, 1) := dk_42 (dk_at dksX5_callAlone_2 4 rfl rfl)
theorem dX5_callAlone_51 : decode cX5_callAlone 51 = .ok (.getfield 53, 3) := dk_180 0 53 (dk_at dksX5_callAlone_2 5 rfl rfl)
theorem dX5_callAlone_54 : decode cX5_callAlone 54 = .ok (.aload_n 0, 1) := dk_42 (dk_at dksX5_callAlone_2 8 rfl rfl)
theorem dX5_callAlone_55 : decode cX5_callAlone 55 = .ok (.getfield 59, 3) := dk_180 0 59 (dk_at dksX5_callAlone_2 9 rfl rfl)
theorem dX5_callAlone_58 : decode cX5_callAlone 58 = .ok (.if_icmp .ne 9, 3) := dk_160 0 9 (dk_at dksX5_callAlone_2 12 rfl rfl)
theorem dX5_callAlone_61 : decode cX5_callAlone 61 = .ok (.aload_n 0, 1) := dk_42 (dk_at dksX5_callAlone_2 15 rfl rfl)
theorem dX5_callAlone_62 : decode cX5_callAlone 62 = .ok (.iconst 1, 1) := dk_4 (dk_at dksX5_callAlone_2 16 rfl rfl)
theorem dX5_callAlone_63 : decode cX5_callAlone 63 = .ok (.invokevirtual 127, 3) := dk_182 0 127 (dk_at dksX5_callAlone_2 17 rfl rfl)
theorem dX5_callAlone_66 : decode cX5_callAlone 66 = .ok (.athrow, 1) := dk_191 (dk_at dksX5_callAlone_2 20 rfl rfl)
theorem dX5_callAlone_67 : decode cX5_callAlone 67 = .ok (.aload_n 0, 1) := dk_42 (dk_at dksX5_callAlone_2 21 rfl rfl)
theorem dX5_callAlone_68 : decode cX5_callAlone 68 = .ok (.dup, 1) := dk_89 (dk_at dksX5_callAlone_2 22 rfl rfl)
theorem dX5_callAlone_69 : decode cX5_callAlone 69 = .ok (.getfield 53, 3) := dk_180 0 53 (dk_at dksX5_callAlone_3 0 rfl rfl)
theorem dX5_callAlone_72 : decode cX5_callAlone 72 = .ok (.iconst 1, 1) := dk_4 (dk_at dksX5_callAlone_3 3 rfl rfl)
theorem dX5_callAlone_73 : decode cX5_callAlone 73 = .ok (.iadd, 1) := dk_96 (dk_at dksX5_callAlone_3 4 rfl rfl)
theorem dX5_callAlone_74 : decode cX5_callAlone 74 = .ok (.putfield 53, 3) := dk_181 0 53 (dk_at dksX5_callAlone_3 5 rfl rfl)
theorem dX5_callAlone_77 : decode cX5_callAlone 77 = .ok (.aload_n 0, 1) := dk_42 (dk_at dksX5_callAlone_3 8 rfl rfl)
theorem dX5_callAlone_78 : decode cX5_callAlone 78 = .ok (.aload_n 0, 1) := dk_42 (dk_at dksX5_callAlone_3 9 rfl rfl)
theorem dX5_callAlone_79 : decode cX5_callAlone 79 = .ok (.getfield 113, 3) := dk_180 0 113 (dk_at dksX5_callAlone_3 10 rfl rfl)
theorem dX5_callAlone_82 : decode cX5_callAlone 82 = .ok (.getfield 120, 3) := dk_180 0 120 (dk_at dksX5_callAlone_3 13 rfl rfl)
theorem dX5_callAlone_85 : decode cX5_callAlone 85 = .ok (.aload_n 0, 1) := dk_42 (dk_at dksX5_callAlone_3 16 rfl rfl)
theorem dX5_callAlone_86 : decode cX5_callAlone 86 = .ok (.getfield 117, 3) := dk_180 0 117 (dk_at dksX5_callAlone_3 17 rfl rfl)
theorem dX5_callAlone_89 : decode cX5_callAlone 89 = .ok (.invokevirtual 131, 3) := dk_182 0 131 (dk_at dksX5_callAlone_3 20 rfl rfl)
theorem dX5_callAlone_92 : decode cX5_callAlone 92 = .ok (.checkcast 135, 3) := dk_192 0 135 (dk_at dksX5_callAlone_4 0 rfl rfl)
theorem dX5_callAlone_95 : decode cX5_callAlone 95 = .ok (.invokevirtual 137, 3) := dk_182 0 137 (dk_at dksX5_callAlone_4 3 rfl rfl)
theorem dX5_callAlone_98 : decode cX5_callAlone 98 = .ok (.istore_n 2, 1) := dk_61 (dk_at dksX5_callAlone_4 6 rfl rfl)
theorem dX5_callAlone_99 : decode cX5_callAlone 99 = .ok (.goto (-76), 3) := dk_167 255 180 (dk_at dksX5_callAlone_4 7 rfl rfl)
theorem dX5_callAlone_102 : decode cX5_callAlone 102 = .ok (.return_, 1) := dk_177 (dk_at dksX5_callAlone_4 10 rfl rfl)
abbrev cX5_end : ByteArray := prog_5_method_2_code
def yX5_end : MethodName := ⟨RX5, "end", "(I)LLinkStation$Ended;"⟩
def dkwX5_end_0 : List UInt8 := [42, 180, 0, 12, 27, 181, 0, 34, 42, 180, 0, 12, 176]
abbrev dktX5_end_0 : List UInt8 := dkwX5_end_0 ++ []
theorem dksX5_end_0 : cX5_end.data.toList.drop 0 = dktX5_end_0 := by decide +kernel
theorem dX5_end_0 : decode cX5_end 0 = .ok (.aload_n 0, 1) := dk_42 (dk_at dksX5_end_0 0 rfl rfl)
theorem dX5_end_1 : decode cX5_end 1 = .ok (.getfield 12, 3) := dk_180 0 12 (dk_at dksX5_end_0 1 rfl rfl)
theorem dX5_end_4 : decode cX5_end 4 = .ok (.iload_n 1, 1) := dk_27 (dk_at dksX5_end_0 4 rfl rfl)
theorem dX5_end_5 : decode cX5_end 5 = .ok (.putfield 34, 3) := dk_181 0 34 (dk_at dksX5_end_0 5 rfl rfl)
theorem dX5_end_8 : decode cX5_end 8 = .ok (.aload_n 0, 1) := dk_42 (dk_at dksX5_end_0 8 rfl rfl)
theorem dX5_end_9 : decode cX5_end 9 = .ok (.getfield 12, 3) := dk_180 0 12 (dk_at dksX5_end_0 9 rfl rfl)
theorem dX5_end_12 : decode cX5_end 12 = .ok (.areturn, 1) := dk_176 (dk_at dksX5_end_0 12 rfl rfl)
abbrev cX5_make : ByteArray := prog_5_method_7_code
def yX5_make : MethodName := ⟨RX5, "make", "(LLinkStation$Step;)Z"⟩
def dkwX5_make_13 : List UInt8 := [42, 180, 0, 18, 28, 46, 182, 0, 184, 167, 0, 9, 42, 3, 182, 0, 127, 191, 4, 172]
abbrev dktX5_make_13 : List UInt8 := dkwX5_make_13 ++ []
def dkwX5_make_12 : List UInt8 := [180, 0, 62, 42, 180, 0, 18, 28, 46, 182, 0, 179, 182, 0, 163, 167, 0, 27, 42, 182, 0, 181, 172, 42]
abbrev dktX5_make_12 : List UInt8 := dkwX5_make_12 ++ dktX5_make_13
def dkwX5_make_11 : List UInt8 := [42, 180, 0, 18, 28, 42, 42, 43, 182, 0, 153, 182, 0, 166, 182, 0, 175, 79, 167, 0, 47, 42, 42]
abbrev dktX5_make_11 : List UInt8 := dkwX5_make_11 ++ dktX5_make_12
def dkwX5_make_10 : List UInt8 := [167, 0, 89, 42, 42, 28, 182, 0, 166, 42, 180, 0, 18, 43, 182, 0, 153, 46, 182, 0, 171, 167, 0, 68]
abbrev dktX5_make_10 : List UInt8 := dkwX5_make_10 ++ dktX5_make_11
def dkwX5_make_9 : List UInt8 := [182, 0, 163, 167, 0, 109, 42, 180, 0, 18, 28, 42, 43, 182, 0, 153, 182, 0, 166, 180, 0, 168, 79]
abbrev dktX5_make_9 : List UInt8 := dkwX5_make_9 ++ dktX5_make_10
def dkwX5_make_8 : List UInt8 := [42, 180, 0, 117, 181, 0, 117, 167, 0, 129, 42, 28, 181, 0, 117, 167, 0, 121, 42, 42, 28, 182, 0, 159]
abbrev dktX5_make_8 : List UInt8 := dkwX5_make_8 ++ dktX5_make_9
def dkwX5_make_7 : List UInt8 := [180, 0, 18, 28, 46, 42, 180, 0, 18, 43, 182, 0, 153, 46, 162, 0, 10, 43, 182, 0, 156, 167, 0, 7]
abbrev dktX5_make_7 : List UInt8 := dkwX5_make_7 ++ dktX5_make_8
def dkwX5_make_6 : List UInt8 := [180, 0, 18, 43, 182, 0, 153, 46, 42, 180, 0, 18, 43, 182, 0, 156, 46, 104, 79, 167, 0, 165, 42, 42]
abbrev dktX5_make_6 : List UInt8 := dkwX5_make_6 ++ dktX5_make_7
def dkwX5_make_5 : List UInt8 := [182, 0, 153, 46, 42, 180, 0, 18, 43, 182, 0, 156, 46, 100, 79, 167, 0, 193, 42, 180, 0, 18, 28, 42]
abbrev dktX5_make_5 : List UInt8 := dkwX5_make_5 ++ dktX5_make_6
def dkwX5_make_4 : List UInt8 := [180, 0, 18, 43, 182, 0, 156, 46, 96, 79, 167, 0, 221, 42, 180, 0, 18, 28, 42, 180, 0, 18, 43]
abbrev dktX5_make_4 : List UInt8 := dkwX5_make_4 ++ dktX5_make_5
def dkwX5_make_3 : List UInt8 := [182, 0, 153, 46, 79, 167, 0, 249, 42, 180, 0, 18, 28, 42, 180, 0, 18, 43, 182, 0, 153, 46, 42]
abbrev dktX5_make_3 : List UInt8 := dkwX5_make_3 ++ dktX5_make_4
def dkwX5_make_2 : List UInt8 := [42, 180, 0, 18, 28, 43, 182, 0, 153, 79, 167, 1, 11, 42, 180, 0, 18, 28, 42, 180, 0, 18, 43]
abbrev dktX5_make_2 : List UInt8 := dkwX5_make_2 ++ dktX5_make_3
def dkwX5_make_1 : List UInt8 := [170, 0, 0, 0, 1, 85, 0, 0, 0, 0, 0, 0, 0, 13, 0, 0, 0, 70, 0, 0, 0, 83, 0, 0, 0, 101, 0, 0, 0, 129, 0, 0, 0, 157, 0, 0, 0, 185, 0, 0, 0, 221, 0, 0, 0, 229, 0, 0, 0, 241, 0, 0, 1, 5, 0, 0, 1, 26, 0, 0, 1, 47, 0, 0, 1, 67, 0, 0, 1, 72]
abbrev dktX5_make_1 : List UInt8 := dkwX5_make_1 ++ dktX5_make_2
def dkwX5_make_0 : List UInt8 := [42, 89, 180, 0, 117, 4, 96, 181, 0, 117, 43, 182, 0, 141, 61, 43, 182, 0, 144, 182, 0, 148]
abbrev dktX5_make_0 : List UInt8 := dkwX5_make_0 ++ dktX5_make_1
theorem dksX5_make_0 : cX5_make.data.toList.drop 0 = dktX5_make_0 := by decide +kernel
theorem dksX5_make_1 : cX5_make.data.toList.drop 22 = dktX5_make_1 := dk_seg dksX5_make_0 22 rfl rfl
theorem dksX5_make_2 : cX5_make.data.toList.drop 92 = dktX5_make_2 := dk_seg dksX5_make_1 70 rfl rfl
theorem dksX5_make_3 : cX5_make.data.toList.drop 115 = dktX5_make_3 := dk_seg dksX5_make_2 23 rfl rfl
theorem dksX5_make_4 : cX5_make.data.toList.drop 138 = dktX5_make_4 := dk_seg dksX5_make_3 23 rfl rfl
theorem dksX5_make_5 : cX5_make.data.toList.drop 161 = dktX5_make_5 := dk_seg dksX5_make_4 23 rfl rfl
theorem dksX5_make_6 : cX5_make.data.toList.drop 185 = dktX5_make_6 := dk_seg dksX5_make_5 24 rfl rfl
theorem dksX5_make_7 : cX5_make.data.toList.drop 209 = dktX5_make_7 := dk_seg dksX5_make_6 24 rfl rfl
theorem dksX5_make_8 : cX5_make.data.toList.drop 233 = dktX5_make_8 := dk_seg dksX5_make_7 24 rfl rfl
theorem dksX5_make_9 : cX5_make.data.toList.drop 257 = dktX5_make_9 := dk_seg dksX5_make_8 24 rfl rfl
theorem dksX5_make_10 : cX5_make.data.toList.drop 280 = dktX5_make_10 := dk_seg dksX5_make_9 23 rfl rfl
theorem dksX5_make_11 : cX5_make.data.toList.drop 304 = dktX5_make_11 := dk_seg dksX5_make_10 24 rfl rfl
theorem dksX5_make_12 : cX5_make.data.toList.drop 327 = dktX5_make_12 := dk_seg dksX5_make_11 23 rfl rfl
theorem dksX5_make_13 : cX5_make.data.toList.drop 351 = dktX5_make_13 := dk_seg dksX5_make_12 24 rfl rfl
theorem dX5_make_0 : decode cX5_make 0 = .ok (.aload_n 0, 1) := dk_42 (dk_at dksX5_make_0 0 rfl rfl)
theorem dX5_make_1 : decode cX5_make 1 = .ok (.dup, 1) := dk_89 (dk_at dksX5_make_0 1 rfl rfl)
theorem dX5_make_2 : decode cX5_make 2 = .ok (.getfield 117, 3) := dk_180 0 117 (dk_at dksX5_make_0 2 rfl rfl)
theorem dX5_make_5 : decode cX5_make 5 = .ok (.iconst 1, 1) := dk_4 (dk_at dksX5_make_0 5 rfl rfl)
theorem dX5_make_6 : decode cX5_make 6 = .ok (.iadd, 1) := dk_96 (dk_at dksX5_make_0 6 rfl rfl)
theorem dX5_make_7 : decode cX5_make 7 = .ok (.putfield 117, 3) := dk_181 0 117 (dk_at dksX5_make_0 7 rfl rfl)
theorem dX5_make_10 : decode cX5_make 10 = .ok (.aload_n 1, 1) := dk_43 (dk_at dksX5_make_0 10 rfl rfl)
theorem dX5_make_11 : decode cX5_make 11 = .ok (.invokevirtual 141, 3) := dk_182 0 141 (dk_at dksX5_make_0 11 rfl rfl)
theorem dX5_make_14 : decode cX5_make 14 = .ok (.istore_n 2, 1) := dk_61 (dk_at dksX5_make_0 14 rfl rfl)
theorem dX5_make_15 : decode cX5_make 15 = .ok (.aload_n 1, 1) := dk_43 (dk_at dksX5_make_0 15 rfl rfl)
theorem dX5_make_16 : decode cX5_make 16 = .ok (.invokevirtual 144, 3) := dk_182 0 144 (dk_at dksX5_make_0 16 rfl rfl)
theorem dX5_make_19 : decode cX5_make 19 = .ok (.invokevirtual 148, 3) := dk_182 0 148 (dk_at dksX5_make_0 19 rfl rfl)
theorem dX5_make_22 : decode cX5_make 22 = .ok (.tableswitch 341 0 13 #[70, 83, 101, 129, 157, 185, 221, 229, 241, 261, 282, 303, 323, 328], 70) := by decide +kernel
theorem dX5_make_92 : decode cX5_make 92 = .ok (.aload_n 0, 1) := dk_42 (dk_at dksX5_make_2 0 rfl rfl)
theorem dX5_make_93 : decode cX5_make 93 = .ok (.getfield 18, 3) := dk_180 0 18 (dk_at dksX5_make_2 1 rfl rfl)
theorem dX5_make_96 : decode cX5_make 96 = .ok (.iload_n 2, 1) := dk_28 (dk_at dksX5_make_2 4 rfl rfl)
theorem dX5_make_97 : decode cX5_make 97 = .ok (.aload_n 1, 1) := dk_43 (dk_at dksX5_make_2 5 rfl rfl)
theorem dX5_make_98 : decode cX5_make 98 = .ok (.invokevirtual 153, 3) := dk_182 0 153 (dk_at dksX5_make_2 6 rfl rfl)
theorem dX5_make_101 : decode cX5_make 101 = .ok (.iastore, 1) := dk_79 (dk_at dksX5_make_2 9 rfl rfl)
theorem dX5_make_102 : decode cX5_make 102 = .ok (.goto 267, 3) := dk_167 1 11 (dk_at dksX5_make_2 10 rfl rfl)
theorem dX5_make_105 : decode cX5_make 105 = .ok (.aload_n 0, 1) := dk_42 (dk_at dksX5_make_2 13 rfl rfl)
theorem dX5_make_106 : decode cX5_make 106 = .ok (.getfield 18, 3) := dk_180 0 18 (dk_at dksX5_make_2 14 rfl rfl)
theorem dX5_make_109 : decode cX5_make 109 = .ok (.iload_n 2, 1) := dk_28 (dk_at dksX5_make_2 17 rfl rfl)
theorem dX5_make_110 : decode cX5_make 110 = .ok (.aload_n 0, 1) := dk_42 (dk_at dksX5_make_2 18 rfl rfl)
theorem dX5_make_111 : decode cX5_make 111 = .ok (.getfield 18, 3) := dk_180 0 18 (dk_at dksX5_make_2 19 rfl rfl)
theorem dX5_make_114 : decode cX5_make 114 = .ok (.aload_n 1, 1) := dk_43 (dk_at dksX5_make_2 22 rfl rfl)
theorem dX5_make_115 : decode cX5_make 115 = .ok (.invokevirtual 153, 3) := dk_182 0 153 (dk_at dksX5_make_3 0 rfl rfl)
theorem dX5_make_118 : decode cX5_make 118 = .ok (.iaload, 1) := dk_46 (dk_at dksX5_make_3 3 rfl rfl)
theorem dX5_make_119 : decode cX5_make 119 = .ok (.iastore, 1) := dk_79 (dk_at dksX5_make_3 4 rfl rfl)
theorem dX5_make_120 : decode cX5_make 120 = .ok (.goto 249, 3) := dk_167 0 249 (dk_at dksX5_make_3 5 rfl rfl)
theorem dX5_make_123 : decode cX5_make 123 = .ok (.aload_n 0, 1) := dk_42 (dk_at dksX5_make_3 8 rfl rfl)
theorem dX5_make_124 : decode cX5_make 124 = .ok (.getfield 18, 3) := dk_180 0 18 (dk_at dksX5_make_3 9 rfl rfl)
theorem dX5_make_127 : decode cX5_make 127 = .ok (.iload_n 2, 1) := dk_28 (dk_at dksX5_make_3 12 rfl rfl)
theorem dX5_make_128 : decode cX5_make 128 = .ok (.aload_n 0, 1) := dk_42 (dk_at dksX5_make_3 13 rfl rfl)
theorem dX5_make_129 : decode cX5_make 129 = .ok (.getfield 18, 3) := dk_180 0 18 (dk_at dksX5_make_3 14 rfl rfl)
theorem dX5_make_132 : decode cX5_make 132 = .ok (.aload_n 1, 1) := dk_43 (dk_at dksX5_make_3 17 rfl rfl)
theorem dX5_make_133 : decode cX5_make 133 = .ok (.invokevirtual 153, 3) := dk_182 0 153 (dk_at dksX5_make_3 18 rfl rfl)
theorem dX5_make_136 : decode cX5_make 136 = .ok (.iaload, 1) := dk_46 (dk_at dksX5_make_3 21 rfl rfl)
theorem dX5_make_137 : decode cX5_make 137 = .ok (.aload_n 0, 1) := dk_42 (dk_at dksX5_make_3 22 rfl rfl)
theorem dX5_make_138 : decode cX5_make 138 = .ok (.getfield 18, 3) := dk_180 0 18 (dk_at dksX5_make_4 0 rfl rfl)
theorem dX5_make_141 : decode cX5_make 141 = .ok (.aload_n 1, 1) := dk_43 (dk_at dksX5_make_4 3 rfl rfl)
theorem dX5_make_142 : decode cX5_make 142 = .ok (.invokevirtual 156, 3) := dk_182 0 156 (dk_at dksX5_make_4 4 rfl rfl)
theorem dX5_make_145 : decode cX5_make 145 = .ok (.iaload, 1) := dk_46 (dk_at dksX5_make_4 7 rfl rfl)
theorem dX5_make_146 : decode cX5_make 146 = .ok (.iadd, 1) := dk_96 (dk_at dksX5_make_4 8 rfl rfl)
theorem dX5_make_147 : decode cX5_make 147 = .ok (.iastore, 1) := dk_79 (dk_at dksX5_make_4 9 rfl rfl)
theorem dX5_make_148 : decode cX5_make 148 = .ok (.goto 221, 3) := dk_167 0 221 (dk_at dksX5_make_4 10 rfl rfl)
theorem dX5_make_151 : decode cX5_make 151 = .ok (.aload_n 0, 1) := dk_42 (dk_at dksX5_make_4 13 rfl rfl)
theorem dX5_make_152 : decode cX5_make 152 = .ok (.getfield 18, 3) := dk_180 0 18 (dk_at dksX5_make_4 14 rfl rfl)
theorem dX5_make_155 : decode cX5_make 155 = .ok (.iload_n 2, 1) := dk_28 (dk_at dksX5_make_4 17 rfl rfl)
theorem dX5_make_156 : decode cX5_make 156 = .ok (.aload_n 0, 1) := dk_42 (dk_at dksX5_make_4 18 rfl rfl)
theorem dX5_make_157 : decode cX5_make 157 = .ok (.getfield 18, 3) := dk_180 0 18 (dk_at dksX5_make_4 19 rfl rfl)
theorem dX5_make_160 : decode cX5_make 160 = .ok (.aload_n 1, 1) := dk_43 (dk_at dksX5_make_4 22 rfl rfl)
theorem dX5_make_161 : decode cX5_make 161 = .ok (.invokevirtual 153, 3) := dk_182 0 153 (dk_at dksX5_make_5 0 rfl rfl)
theorem dX5_make_164 : decode cX5_make 164 = .ok (.iaload, 1) := dk_46 (dk_at dksX5_make_5 3 rfl rfl)
theorem dX5_make_165 : decode cX5_make 165 = .ok (.aload_n 0, 1) := dk_42 (dk_at dksX5_make_5 4 rfl rfl)
theorem dX5_make_166 : decode cX5_make 166 = .ok (.getfield 18, 3) := dk_180 0 18 (dk_at dksX5_make_5 5 rfl rfl)
theorem dX5_make_169 : decode cX5_make 169 = .ok (.aload_n 1, 1) := dk_43 (dk_at dksX5_make_5 8 rfl rfl)
theorem dX5_make_170 : decode cX5_make 170 = .ok (.invokevirtual 156, 3) := dk_182 0 156 (dk_at dksX5_make_5 9 rfl rfl)
theorem dX5_make_173 : decode cX5_make 173 = .ok (.iaload, 1) := dk_46 (dk_at dksX5_make_5 12 rfl rfl)
theorem dX5_make_174 : decode cX5_make 174 = .ok (.isub, 1) := dk_100 (dk_at dksX5_make_5 13 rfl rfl)
theorem dX5_make_175 : decode cX5_make 175 = .ok (.iastore, 1) := dk_79 (dk_at dksX5_make_5 14 rfl rfl)
theorem dX5_make_176 : decode cX5_make 176 = .ok (.goto 193, 3) := dk_167 0 193 (dk_at dksX5_make_5 15 rfl rfl)
theorem dX5_make_179 : decode cX5_make 179 = .ok (.aload_n 0, 1) := dk_42 (dk_at dksX5_make_5 18 rfl rfl)
theorem dX5_make_180 : decode cX5_make 180 = .ok (.getfield 18, 3) := dk_180 0 18 (dk_at dksX5_make_5 19 rfl rfl)
theorem dX5_make_183 : decode cX5_make 183 = .ok (.iload_n 2, 1) := dk_28 (dk_at dksX5_make_5 22 rfl rfl)
theorem dX5_make_184 : decode cX5_make 184 = .ok (.aload_n 0, 1) := dk_42 (dk_at dksX5_make_5 23 rfl rfl)
theorem dX5_make_185 : decode cX5_make 185 = .ok (.getfield 18, 3) := dk_180 0 18 (dk_at dksX5_make_6 0 rfl rfl)
theorem dX5_make_188 : decode cX5_make 188 = .ok (.aload_n 1, 1) := dk_43 (dk_at dksX5_make_6 3 rfl rfl)
theorem dX5_make_189 : decode cX5_make 189 = .ok (.invokevirtual 153, 3) := dk_182 0 153 (dk_at dksX5_make_6 4 rfl rfl)
theorem dX5_make_192 : decode cX5_make 192 = .ok (.iaload, 1) := dk_46 (dk_at dksX5_make_6 7 rfl rfl)
theorem dX5_make_193 : decode cX5_make 193 = .ok (.aload_n 0, 1) := dk_42 (dk_at dksX5_make_6 8 rfl rfl)
theorem dX5_make_194 : decode cX5_make 194 = .ok (.getfield 18, 3) := dk_180 0 18 (dk_at dksX5_make_6 9 rfl rfl)
theorem dX5_make_197 : decode cX5_make 197 = .ok (.aload_n 1, 1) := dk_43 (dk_at dksX5_make_6 12 rfl rfl)
theorem dX5_make_198 : decode cX5_make 198 = .ok (.invokevirtual 156, 3) := dk_182 0 156 (dk_at dksX5_make_6 13 rfl rfl)
theorem dX5_make_201 : decode cX5_make 201 = .ok (.iaload, 1) := dk_46 (dk_at dksX5_make_6 16 rfl rfl)
theorem dX5_make_202 : decode cX5_make 202 = .ok (.imul, 1) := dk_104 (dk_at dksX5_make_6 17 rfl rfl)
theorem dX5_make_203 : decode cX5_make 203 = .ok (.iastore, 1) := dk_79 (dk_at dksX5_make_6 18 rfl rfl)
theorem dX5_make_204 : decode cX5_make 204 = .ok (.goto 165, 3) := dk_167 0 165 (dk_at dksX5_make_6 19 rfl rfl)
theorem dX5_make_207 : decode cX5_make 207 = .ok (.aload_n 0, 1) := dk_42 (dk_at dksX5_make_6 22 rfl rfl)
theorem dX5_make_208 : decode cX5_make 208 = .ok (.aload_n 0, 1) := dk_42 (dk_at dksX5_make_6 23 rfl rfl)
theorem dX5_make_209 : decode cX5_make 209 = .ok (.getfield 18, 3) := dk_180 0 18 (dk_at dksX5_make_7 0 rfl rfl)
theorem dX5_make_212 : decode cX5_make 212 = .ok (.iload_n 2, 1) := dk_28 (dk_at dksX5_make_7 3 rfl rfl)
theorem dX5_make_213 : decode cX5_make 213 = .ok (.iaload, 1) := dk_46 (dk_at dksX5_make_7 4 rfl rfl)
theorem dX5_make_214 : decode cX5_make 214 = .ok (.aload_n 0, 1) := dk_42 (dk_at dksX5_make_7 5 rfl rfl)
theorem dX5_make_215 : decode cX5_make 215 = .ok (.getfield 18, 3) := dk_180 0 18 (dk_at dksX5_make_7 6 rfl rfl)
theorem dX5_make_218 : decode cX5_make 218 = .ok (.aload_n 1, 1) := dk_43 (dk_at dksX5_make_7 9 rfl rfl)
theorem dX5_make_219 : decode cX5_make 219 = .ok (.invokevirtual 153, 3) := dk_182 0 153 (dk_at dksX5_make_7 10 rfl rfl)
theorem dX5_make_222 : decode cX5_make 222 = .ok (.iaload, 1) := dk_46 (dk_at dksX5_make_7 13 rfl rfl)
theorem dX5_make_223 : decode cX5_make 223 = .ok (.if_icmp .ge 10, 3) := dk_162 0 10 (dk_at dksX5_make_7 14 rfl rfl)
theorem dX5_make_226 : decode cX5_make 226 = .ok (.aload_n 1, 1) := dk_43 (dk_at dksX5_make_7 17 rfl rfl)
theorem dX5_make_227 : decode cX5_make 227 = .ok (.invokevirtual 156, 3) := dk_182 0 156 (dk_at dksX5_make_7 18 rfl rfl)
theorem dX5_make_230 : decode cX5_make 230 = .ok (.goto 7, 3) := dk_167 0 7 (dk_at dksX5_make_7 21 rfl rfl)
theorem dX5_make_233 : decode cX5_make 233 = .ok (.aload_n 0, 1) := dk_42 (dk_at dksX5_make_8 0 rfl rfl)
theorem dX5_make_234 : decode cX5_make 234 = .ok (.getfield 117, 3) := dk_180 0 117 (dk_at dksX5_make_8 1 rfl rfl)
theorem dX5_make_237 : decode cX5_make 237 = .ok (.putfield 117, 3) := dk_181 0 117 (dk_at dksX5_make_8 4 rfl rfl)
theorem dX5_make_240 : decode cX5_make 240 = .ok (.goto 129, 3) := dk_167 0 129 (dk_at dksX5_make_8 7 rfl rfl)
theorem dX5_make_243 : decode cX5_make 243 = .ok (.aload_n 0, 1) := dk_42 (dk_at dksX5_make_8 10 rfl rfl)
theorem dX5_make_244 : decode cX5_make 244 = .ok (.iload_n 2, 1) := dk_28 (dk_at dksX5_make_8 11 rfl rfl)
theorem dX5_make_245 : decode cX5_make 245 = .ok (.putfield 117, 3) := dk_181 0 117 (dk_at dksX5_make_8 12 rfl rfl)
theorem dX5_make_248 : decode cX5_make 248 = .ok (.goto 121, 3) := dk_167 0 121 (dk_at dksX5_make_8 15 rfl rfl)
theorem dX5_make_251 : decode cX5_make 251 = .ok (.aload_n 0, 1) := dk_42 (dk_at dksX5_make_8 18 rfl rfl)
theorem dX5_make_252 : decode cX5_make 252 = .ok (.aload_n 0, 1) := dk_42 (dk_at dksX5_make_8 19 rfl rfl)
theorem dX5_make_253 : decode cX5_make 253 = .ok (.iload_n 2, 1) := dk_28 (dk_at dksX5_make_8 20 rfl rfl)
theorem dX5_make_254 : decode cX5_make 254 = .ok (.invokevirtual 159, 3) := dk_182 0 159 (dk_at dksX5_make_8 21 rfl rfl)
theorem dX5_make_257 : decode cX5_make 257 = .ok (.invokevirtual 163, 3) := dk_182 0 163 (dk_at dksX5_make_9 0 rfl rfl)
theorem dX5_make_260 : decode cX5_make 260 = .ok (.goto 109, 3) := dk_167 0 109 (dk_at dksX5_make_9 3 rfl rfl)
theorem dX5_make_263 : decode cX5_make 263 = .ok (.aload_n 0, 1) := dk_42 (dk_at dksX5_make_9 6 rfl rfl)
theorem dX5_make_264 : decode cX5_make 264 = .ok (.getfield 18, 3) := dk_180 0 18 (dk_at dksX5_make_9 7 rfl rfl)
theorem dX5_make_267 : decode cX5_make 267 = .ok (.iload_n 2, 1) := dk_28 (dk_at dksX5_make_9 10 rfl rfl)
theorem dX5_make_268 : decode cX5_make 268 = .ok (.aload_n 0, 1) := dk_42 (dk_at dksX5_make_9 11 rfl rfl)
theorem dX5_make_269 : decode cX5_make 269 = .ok (.aload_n 1, 1) := dk_43 (dk_at dksX5_make_9 12 rfl rfl)
theorem dX5_make_270 : decode cX5_make 270 = .ok (.invokevirtual 153, 3) := dk_182 0 153 (dk_at dksX5_make_9 13 rfl rfl)
theorem dX5_make_273 : decode cX5_make 273 = .ok (.invokevirtual 166, 3) := dk_182 0 166 (dk_at dksX5_make_9 16 rfl rfl)
theorem dX5_make_276 : decode cX5_make 276 = .ok (.getfield 168, 3) := dk_180 0 168 (dk_at dksX5_make_9 19 rfl rfl)
theorem dX5_make_279 : decode cX5_make 279 = .ok (.iastore, 1) := dk_79 (dk_at dksX5_make_9 22 rfl rfl)
theorem dX5_make_280 : decode cX5_make 280 = .ok (.goto 89, 3) := dk_167 0 89 (dk_at dksX5_make_10 0 rfl rfl)
theorem dX5_make_283 : decode cX5_make 283 = .ok (.aload_n 0, 1) := dk_42 (dk_at dksX5_make_10 3 rfl rfl)
theorem dX5_make_284 : decode cX5_make 284 = .ok (.aload_n 0, 1) := dk_42 (dk_at dksX5_make_10 4 rfl rfl)
theorem dX5_make_285 : decode cX5_make 285 = .ok (.iload_n 2, 1) := dk_28 (dk_at dksX5_make_10 5 rfl rfl)
theorem dX5_make_286 : decode cX5_make 286 = .ok (.invokevirtual 166, 3) := dk_182 0 166 (dk_at dksX5_make_10 6 rfl rfl)
theorem dX5_make_289 : decode cX5_make 289 = .ok (.aload_n 0, 1) := dk_42 (dk_at dksX5_make_10 9 rfl rfl)
theorem dX5_make_290 : decode cX5_make 290 = .ok (.getfield 18, 3) := dk_180 0 18 (dk_at dksX5_make_10 10 rfl rfl)
theorem dX5_make_293 : decode cX5_make 293 = .ok (.aload_n 1, 1) := dk_43 (dk_at dksX5_make_10 13 rfl rfl)
theorem dX5_make_294 : decode cX5_make 294 = .ok (.invokevirtual 153, 3) := dk_182 0 153 (dk_at dksX5_make_10 14 rfl rfl)
theorem dX5_make_297 : decode cX5_make 297 = .ok (.iaload, 1) := dk_46 (dk_at dksX5_make_10 17 rfl rfl)
theorem dX5_make_298 : decode cX5_make 298 = .ok (.invokevirtual 171, 3) := dk_182 0 171 (dk_at dksX5_make_10 18 rfl rfl)
theorem dX5_make_301 : decode cX5_make 301 = .ok (.goto 68, 3) := dk_167 0 68 (dk_at dksX5_make_10 21 rfl rfl)
theorem dX5_make_304 : decode cX5_make 304 = .ok (.aload_n 0, 1) := dk_42 (dk_at dksX5_make_11 0 rfl rfl)
theorem dX5_make_305 : decode cX5_make 305 = .ok (.getfield 18, 3) := dk_180 0 18 (dk_at dksX5_make_11 1 rfl rfl)
theorem dX5_make_308 : decode cX5_make 308 = .ok (.iload_n 2, 1) := dk_28 (dk_at dksX5_make_11 4 rfl rfl)
theorem dX5_make_309 : decode cX5_make 309 = .ok (.aload_n 0, 1) := dk_42 (dk_at dksX5_make_11 5 rfl rfl)
theorem dX5_make_310 : decode cX5_make 310 = .ok (.aload_n 0, 1) := dk_42 (dk_at dksX5_make_11 6 rfl rfl)
theorem dX5_make_311 : decode cX5_make 311 = .ok (.aload_n 1, 1) := dk_43 (dk_at dksX5_make_11 7 rfl rfl)
theorem dX5_make_312 : decode cX5_make 312 = .ok (.invokevirtual 153, 3) := dk_182 0 153 (dk_at dksX5_make_11 8 rfl rfl)
theorem dX5_make_315 : decode cX5_make 315 = .ok (.invokevirtual 166, 3) := dk_182 0 166 (dk_at dksX5_make_11 11 rfl rfl)
theorem dX5_make_318 : decode cX5_make 318 = .ok (.invokevirtual 175, 3) := dk_182 0 175 (dk_at dksX5_make_11 14 rfl rfl)
theorem dX5_make_321 : decode cX5_make 321 = .ok (.iastore, 1) := dk_79 (dk_at dksX5_make_11 17 rfl rfl)
theorem dX5_make_322 : decode cX5_make 322 = .ok (.goto 47, 3) := dk_167 0 47 (dk_at dksX5_make_11 18 rfl rfl)
theorem dX5_make_325 : decode cX5_make 325 = .ok (.aload_n 0, 1) := dk_42 (dk_at dksX5_make_11 21 rfl rfl)
theorem dX5_make_326 : decode cX5_make 326 = .ok (.aload_n 0, 1) := dk_42 (dk_at dksX5_make_11 22 rfl rfl)
theorem dX5_make_327 : decode cX5_make 327 = .ok (.getfield 62, 3) := dk_180 0 62 (dk_at dksX5_make_12 0 rfl rfl)
theorem dX5_make_330 : decode cX5_make 330 = .ok (.aload_n 0, 1) := dk_42 (dk_at dksX5_make_12 3 rfl rfl)
theorem dX5_make_331 : decode cX5_make 331 = .ok (.getfield 18, 3) := dk_180 0 18 (dk_at dksX5_make_12 4 rfl rfl)
theorem dX5_make_334 : decode cX5_make 334 = .ok (.iload_n 2, 1) := dk_28 (dk_at dksX5_make_12 7 rfl rfl)
theorem dX5_make_335 : decode cX5_make 335 = .ok (.iaload, 1) := dk_46 (dk_at dksX5_make_12 8 rfl rfl)
theorem dX5_make_336 : decode cX5_make 336 = .ok (.invokevirtual 179, 3) := dk_182 0 179 (dk_at dksX5_make_12 9 rfl rfl)
theorem dX5_make_339 : decode cX5_make 339 = .ok (.invokevirtual 163, 3) := dk_182 0 163 (dk_at dksX5_make_12 12 rfl rfl)
theorem dX5_make_342 : decode cX5_make 342 = .ok (.goto 27, 3) := dk_167 0 27 (dk_at dksX5_make_12 15 rfl rfl)
theorem dX5_make_345 : decode cX5_make 345 = .ok (.aload_n 0, 1) := dk_42 (dk_at dksX5_make_12 18 rfl rfl)
theorem dX5_make_346 : decode cX5_make 346 = .ok (.invokevirtual 181, 3) := dk_182 0 181 (dk_at dksX5_make_12 19 rfl rfl)
theorem dX5_make_349 : decode cX5_make 349 = .ok (.ireturn, 1) := dk_172 (dk_at dksX5_make_12 22 rfl rfl)
theorem dX5_make_350 : decode cX5_make 350 = .ok (.aload_n 0, 1) := dk_42 (dk_at dksX5_make_12 23 rfl rfl)
theorem dX5_make_351 : decode cX5_make 351 = .ok (.aload_n 0, 1) := dk_42 (dk_at dksX5_make_13 0 rfl rfl)
theorem dX5_make_352 : decode cX5_make 352 = .ok (.getfield 18, 3) := dk_180 0 18 (dk_at dksX5_make_13 1 rfl rfl)
theorem dX5_make_355 : decode cX5_make 355 = .ok (.iload_n 2, 1) := dk_28 (dk_at dksX5_make_13 4 rfl rfl)
theorem dX5_make_356 : decode cX5_make 356 = .ok (.iaload, 1) := dk_46 (dk_at dksX5_make_13 5 rfl rfl)
theorem dX5_make_357 : decode cX5_make 357 = .ok (.invokevirtual 184, 3) := dk_182 0 184 (dk_at dksX5_make_13 6 rfl rfl)
theorem dX5_make_360 : decode cX5_make 360 = .ok (.goto 9, 3) := dk_167 0 9 (dk_at dksX5_make_13 9 rfl rfl)
theorem dX5_make_363 : decode cX5_make 363 = .ok (.aload_n 0, 1) := dk_42 (dk_at dksX5_make_13 12 rfl rfl)
theorem dX5_make_364 : decode cX5_make 364 = .ok (.iconst 0, 1) := dk_3 (dk_at dksX5_make_13 13 rfl rfl)
theorem dX5_make_365 : decode cX5_make 365 = .ok (.invokevirtual 127, 3) := dk_182 0 127 (dk_at dksX5_make_13 14 rfl rfl)
theorem dX5_make_368 : decode cX5_make 368 = .ok (.athrow, 1) := dk_191 (dk_at dksX5_make_13 17 rfl rfl)
theorem dX5_make_369 : decode cX5_make 369 = .ok (.iconst 1, 1) := dk_4 (dk_at dksX5_make_13 18 rfl rfl)
theorem dX5_make_370 : decode cX5_make 370 = .ok (.ireturn, 1) := dk_172 (dk_at dksX5_make_13 19 rfl rfl)
abbrev cX5_slot : ByteArray := prog_5_method_11_code
def yX5_slot : MethodName := ⟨RX5, "slot", "(I)LLinkStation$Definition;"⟩
def dkwX5_slot_2 : List UInt8 := [180, 0, 56, 4, 96, 181, 0, 56, 44, 176]
abbrev dktX5_slot_2 : List UInt8 := dkwX5_slot_2 ++ []
def dkwX5_slot_1 : List UInt8 := [182, 0, 166, 77, 42, 180, 0, 113, 180, 0, 190, 27, 184, 0, 194, 44, 182, 0, 205, 87, 42, 89]
abbrev dktX5_slot_1 : List UInt8 := dkwX5_slot_1 ++ dktX5_slot_2
def dkwX5_slot_0 : List UInt8 := [42, 180, 0, 113, 180, 0, 190, 27, 184, 0, 194, 182, 0, 200, 192, 0, 108, 77, 44, 199, 0, 35, 42, 27]
abbrev dktX5_slot_0 : List UInt8 := dkwX5_slot_0 ++ dktX5_slot_1
theorem dksX5_slot_0 : cX5_slot.data.toList.drop 0 = dktX5_slot_0 := by decide +kernel
theorem dksX5_slot_1 : cX5_slot.data.toList.drop 24 = dktX5_slot_1 := dk_seg dksX5_slot_0 24 rfl rfl
theorem dksX5_slot_2 : cX5_slot.data.toList.drop 46 = dktX5_slot_2 := dk_seg dksX5_slot_1 22 rfl rfl
theorem dX5_slot_0 : decode cX5_slot 0 = .ok (.aload_n 0, 1) := dk_42 (dk_at dksX5_slot_0 0 rfl rfl)
theorem dX5_slot_1 : decode cX5_slot 1 = .ok (.getfield 113, 3) := dk_180 0 113 (dk_at dksX5_slot_0 1 rfl rfl)
theorem dX5_slot_4 : decode cX5_slot 4 = .ok (.getfield 190, 3) := dk_180 0 190 (dk_at dksX5_slot_0 4 rfl rfl)
theorem dX5_slot_7 : decode cX5_slot 7 = .ok (.iload_n 1, 1) := dk_27 (dk_at dksX5_slot_0 7 rfl rfl)
theorem dX5_slot_8 : decode cX5_slot 8 = .ok (.invokestatic 194, 3) := dk_184 0 194 (dk_at dksX5_slot_0 8 rfl rfl)
theorem dX5_slot_11 : decode cX5_slot 11 = .ok (.invokevirtual 200, 3) := dk_182 0 200 (dk_at dksX5_slot_0 11 rfl rfl)
theorem dX5_slot_14 : decode cX5_slot 14 = .ok (.checkcast 108, 3) := dk_192 0 108 (dk_at dksX5_slot_0 14 rfl rfl)
theorem dX5_slot_17 : decode cX5_slot 17 = .ok (.astore_n 2, 1) := dk_77 (dk_at dksX5_slot_0 17 rfl rfl)
theorem dX5_slot_18 : decode cX5_slot 18 = .ok (.aload_n 2, 1) := dk_44 (dk_at dksX5_slot_0 18 rfl rfl)
theorem dX5_slot_19 : decode cX5_slot 19 = .ok (.ifnonnull 35, 3) := dk_199 0 35 (dk_at dksX5_slot_0 19 rfl rfl)
theorem dX5_slot_22 : decode cX5_slot 22 = .ok (.aload_n 0, 1) := dk_42 (dk_at dksX5_slot_0 22 rfl rfl)
theorem dX5_slot_23 : decode cX5_slot 23 = .ok (.iload_n 1, 1) := dk_27 (dk_at dksX5_slot_0 23 rfl rfl)
theorem dX5_slot_24 : decode cX5_slot 24 = .ok (.invokevirtual 166, 3) := dk_182 0 166 (dk_at dksX5_slot_1 0 rfl rfl)
theorem dX5_slot_27 : decode cX5_slot 27 = .ok (.astore_n 2, 1) := dk_77 (dk_at dksX5_slot_1 3 rfl rfl)
theorem dX5_slot_28 : decode cX5_slot 28 = .ok (.aload_n 0, 1) := dk_42 (dk_at dksX5_slot_1 4 rfl rfl)
theorem dX5_slot_29 : decode cX5_slot 29 = .ok (.getfield 113, 3) := dk_180 0 113 (dk_at dksX5_slot_1 5 rfl rfl)
theorem dX5_slot_32 : decode cX5_slot 32 = .ok (.getfield 190, 3) := dk_180 0 190 (dk_at dksX5_slot_1 8 rfl rfl)
theorem dX5_slot_35 : decode cX5_slot 35 = .ok (.iload_n 1, 1) := dk_27 (dk_at dksX5_slot_1 11 rfl rfl)
theorem dX5_slot_36 : decode cX5_slot 36 = .ok (.invokestatic 194, 3) := dk_184 0 194 (dk_at dksX5_slot_1 12 rfl rfl)
theorem dX5_slot_39 : decode cX5_slot 39 = .ok (.aload_n 2, 1) := dk_44 (dk_at dksX5_slot_1 15 rfl rfl)
theorem dX5_slot_40 : decode cX5_slot 40 = .ok (.invokevirtual 205, 3) := dk_182 0 205 (dk_at dksX5_slot_1 16 rfl rfl)
theorem dX5_slot_43 : decode cX5_slot 43 = .ok (.pop, 1) := dk_87 (dk_at dksX5_slot_1 19 rfl rfl)
theorem dX5_slot_44 : decode cX5_slot 44 = .ok (.aload_n 0, 1) := dk_42 (dk_at dksX5_slot_1 20 rfl rfl)
theorem dX5_slot_45 : decode cX5_slot 45 = .ok (.dup, 1) := dk_89 (dk_at dksX5_slot_1 21 rfl rfl)
theorem dX5_slot_46 : decode cX5_slot 46 = .ok (.getfield 56, 3) := dk_180 0 56 (dk_at dksX5_slot_2 0 rfl rfl)
theorem dX5_slot_49 : decode cX5_slot 49 = .ok (.iconst 1, 1) := dk_4 (dk_at dksX5_slot_2 3 rfl rfl)
theorem dX5_slot_50 : decode cX5_slot 50 = .ok (.iadd, 1) := dk_96 (dk_at dksX5_slot_2 4 rfl rfl)
theorem dX5_slot_51 : decode cX5_slot 51 = .ok (.putfield 56, 3) := dk_181 0 56 (dk_at dksX5_slot_2 5 rfl rfl)
theorem dX5_slot_54 : decode cX5_slot 54 = .ok (.aload_n 2, 1) := dk_44 (dk_at dksX5_slot_2 8 rfl rfl)
theorem dX5_slot_55 : decode cX5_slot 55 = .ok (.areturn, 1) := dk_176 (dk_at dksX5_slot_2 9 rfl rfl)
abbrev cX5_find : ByteArray := prog_5_method_6_code
def yX5_find : MethodName := ⟨RX5, "find", "(I)LLinkStation$Definition;"⟩
def dkwX5_find_0 : List UInt8 := [42, 180, 0, 62, 42, 180, 0, 113, 27, 182, 0, 99, 176]
abbrev dktX5_find_0 : List UInt8 := dkwX5_find_0 ++ []
theorem dksX5_find_0 : cX5_find.data.toList.drop 0 = dktX5_find_0 := by decide +kernel
theorem dX5_find_0 : decode cX5_find 0 = .ok (.aload_n 0, 1) := dk_42 (dk_at dksX5_find_0 0 rfl rfl)
theorem dX5_find_1 : decode cX5_find 1 = .ok (.getfield 62, 3) := dk_180 0 62 (dk_at dksX5_find_0 1 rfl rfl)
theorem dX5_find_4 : decode cX5_find 4 = .ok (.aload_n 0, 1) := dk_42 (dk_at dksX5_find_0 4 rfl rfl)
theorem dX5_find_5 : decode cX5_find 5 = .ok (.getfield 113, 3) := dk_180 0 113 (dk_at dksX5_find_0 5 rfl rfl)
theorem dX5_find_8 : decode cX5_find 8 = .ok (.iload_n 1, 1) := dk_27 (dk_at dksX5_find_0 8 rfl rfl)
theorem dX5_find_9 : decode cX5_find 9 = .ok (.invokevirtual 99, 3) := dk_182 0 99 (dk_at dksX5_find_0 9 rfl rfl)
theorem dX5_find_12 : decode cX5_find 12 = .ok (.areturn, 1) := dk_176 (dk_at dksX5_find_0 12 rfl rfl)
abbrev cX5_call : ByteArray := prog_5_method_12_code
def yX5_call : MethodName := ⟨RX5, "call", "(LLinkStation$Definition;)V"⟩
def dkwX5_call_4 : List UInt8 := [181, 0, 113, 42, 43, 180, 0, 114, 181, 0, 117, 177]
abbrev dktX5_call_4 : List UInt8 := dkwX5_call_4 ++ []
def dkwX5_call_3 : List UInt8 := [181, 0, 44, 42, 42, 180, 0, 47, 42, 180, 0, 44, 184, 0, 208, 181, 0, 47, 42, 43, 180, 0, 107]
abbrev dktX5_call_3 : List UInt8 := dkwX5_call_3 ++ dktX5_call_4
def dkwX5_call_2 : List UInt8 := [180, 0, 113, 83, 42, 180, 0, 28, 42, 180, 0, 44, 42, 180, 0, 117, 79, 42, 89, 180, 0, 44, 4, 96]
abbrev dktX5_call_2 : List UInt8 := dkwX5_call_2 ++ dktX5_call_3
def dkwX5_call_1 : List UInt8 := [180, 0, 44, 16, 100, 160, 0, 9, 42, 5, 182, 0, 127, 191, 42, 180, 0, 24, 42, 180, 0, 44, 42]
abbrev dktX5_call_1 : List UInt8 := dkwX5_call_1 ++ dktX5_call_2
def dkwX5_call_0 : List UInt8 := [43, 198, 0, 14, 43, 42, 180, 0, 62, 180, 0, 95, 166, 0, 9, 42, 6, 182, 0, 127, 191, 42]
abbrev dktX5_call_0 : List UInt8 := dkwX5_call_0 ++ dktX5_call_1
theorem dksX5_call_0 : cX5_call.data.toList.drop 0 = dktX5_call_0 := by decide +kernel
theorem dksX5_call_1 : cX5_call.data.toList.drop 22 = dktX5_call_1 := dk_seg dksX5_call_0 22 rfl rfl
theorem dksX5_call_2 : cX5_call.data.toList.drop 45 = dktX5_call_2 := dk_seg dksX5_call_1 23 rfl rfl
theorem dksX5_call_3 : cX5_call.data.toList.drop 69 = dktX5_call_3 := dk_seg dksX5_call_2 24 rfl rfl
theorem dksX5_call_4 : cX5_call.data.toList.drop 92 = dktX5_call_4 := dk_seg dksX5_call_3 23 rfl rfl
theorem dX5_call_0 : decode cX5_call 0 = .ok (.aload_n 1, 1) := dk_43 (dk_at dksX5_call_0 0 rfl rfl)
theorem dX5_call_1 : decode cX5_call 1 = .ok (.ifnull 14, 3) := dk_198 0 14 (dk_at dksX5_call_0 1 rfl rfl)
theorem dX5_call_4 : decode cX5_call 4 = .ok (.aload_n 1, 1) := dk_43 (dk_at dksX5_call_0 4 rfl rfl)
theorem dX5_call_5 : decode cX5_call 5 = .ok (.aload_n 0, 1) := dk_42 (dk_at dksX5_call_0 5 rfl rfl)
theorem dX5_call_6 : decode cX5_call 6 = .ok (.getfield 62, 3) := dk_180 0 62 (dk_at dksX5_call_0 6 rfl rfl)
theorem dX5_call_9 : decode cX5_call 9 = .ok (.getfield 95, 3) := dk_180 0 95 (dk_at dksX5_call_0 9 rfl rfl)
theorem dX5_call_12 : decode cX5_call 12 = .ok (.if_acmp .ne 9, 3) := dk_166 0 9 (dk_at dksX5_call_0 12 rfl rfl)
theorem dX5_call_15 : decode cX5_call 15 = .ok (.aload_n 0, 1) := dk_42 (dk_at dksX5_call_0 15 rfl rfl)
theorem dX5_call_16 : decode cX5_call 16 = .ok (.iconst 3, 1) := dk_6 (dk_at dksX5_call_0 16 rfl rfl)
theorem dX5_call_17 : decode cX5_call 17 = .ok (.invokevirtual 127, 3) := dk_182 0 127 (dk_at dksX5_call_0 17 rfl rfl)
theorem dX5_call_20 : decode cX5_call 20 = .ok (.athrow, 1) := dk_191 (dk_at dksX5_call_0 20 rfl rfl)
theorem dX5_call_21 : decode cX5_call 21 = .ok (.aload_n 0, 1) := dk_42 (dk_at dksX5_call_0 21 rfl rfl)
theorem dX5_call_22 : decode cX5_call 22 = .ok (.getfield 44, 3) := dk_180 0 44 (dk_at dksX5_call_1 0 rfl rfl)
theorem dX5_call_25 : decode cX5_call 25 = .ok (.bipush 100, 2) := dk_16 100 (dk_at dksX5_call_1 3 rfl rfl)
theorem dX5_call_27 : decode cX5_call 27 = .ok (.if_icmp .ne 9, 3) := dk_160 0 9 (dk_at dksX5_call_1 5 rfl rfl)
theorem dX5_call_30 : decode cX5_call 30 = .ok (.aload_n 0, 1) := dk_42 (dk_at dksX5_call_1 8 rfl rfl)
theorem dX5_call_31 : decode cX5_call 31 = .ok (.iconst 2, 1) := dk_5 (dk_at dksX5_call_1 9 rfl rfl)
theorem dX5_call_32 : decode cX5_call 32 = .ok (.invokevirtual 127, 3) := dk_182 0 127 (dk_at dksX5_call_1 10 rfl rfl)
theorem dX5_call_35 : decode cX5_call 35 = .ok (.athrow, 1) := dk_191 (dk_at dksX5_call_1 13 rfl rfl)
theorem dX5_call_36 : decode cX5_call 36 = .ok (.aload_n 0, 1) := dk_42 (dk_at dksX5_call_1 14 rfl rfl)
theorem dX5_call_37 : decode cX5_call 37 = .ok (.getfield 24, 3) := dk_180 0 24 (dk_at dksX5_call_1 15 rfl rfl)
theorem dX5_call_40 : decode cX5_call 40 = .ok (.aload_n 0, 1) := dk_42 (dk_at dksX5_call_1 18 rfl rfl)
theorem dX5_call_41 : decode cX5_call 41 = .ok (.getfield 44, 3) := dk_180 0 44 (dk_at dksX5_call_1 19 rfl rfl)
theorem dX5_call_44 : decode cX5_call 44 = .ok (.aload_n 0, 1) := dk_42 (dk_at dksX5_call_1 22 rfl rfl)
theorem dX5_call_45 : decode cX5_call 45 = .ok (.getfield 113, 3) := dk_180 0 113 (dk_at dksX5_call_2 0 rfl rfl)
theorem dX5_call_48 : decode cX5_call 48 = .ok (.aastore, 1) := dk_83 (dk_at dksX5_call_2 3 rfl rfl)
theorem dX5_call_49 : decode cX5_call 49 = .ok (.aload_n 0, 1) := dk_42 (dk_at dksX5_call_2 4 rfl rfl)
theorem dX5_call_50 : decode cX5_call 50 = .ok (.getfield 28, 3) := dk_180 0 28 (dk_at dksX5_call_2 5 rfl rfl)
theorem dX5_call_53 : decode cX5_call 53 = .ok (.aload_n 0, 1) := dk_42 (dk_at dksX5_call_2 8 rfl rfl)
theorem dX5_call_54 : decode cX5_call 54 = .ok (.getfield 44, 3) := dk_180 0 44 (dk_at dksX5_call_2 9 rfl rfl)
theorem dX5_call_57 : decode cX5_call 57 = .ok (.aload_n 0, 1) := dk_42 (dk_at dksX5_call_2 12 rfl rfl)
theorem dX5_call_58 : decode cX5_call 58 = .ok (.getfield 117, 3) := dk_180 0 117 (dk_at dksX5_call_2 13 rfl rfl)
theorem dX5_call_61 : decode cX5_call 61 = .ok (.iastore, 1) := dk_79 (dk_at dksX5_call_2 16 rfl rfl)
theorem dX5_call_62 : decode cX5_call 62 = .ok (.aload_n 0, 1) := dk_42 (dk_at dksX5_call_2 17 rfl rfl)
theorem dX5_call_63 : decode cX5_call 63 = .ok (.dup, 1) := dk_89 (dk_at dksX5_call_2 18 rfl rfl)
theorem dX5_call_64 : decode cX5_call 64 = .ok (.getfield 44, 3) := dk_180 0 44 (dk_at dksX5_call_2 19 rfl rfl)
theorem dX5_call_67 : decode cX5_call 67 = .ok (.iconst 1, 1) := dk_4 (dk_at dksX5_call_2 22 rfl rfl)
theorem dX5_call_68 : decode cX5_call 68 = .ok (.iadd, 1) := dk_96 (dk_at dksX5_call_2 23 rfl rfl)
theorem dX5_call_69 : decode cX5_call 69 = .ok (.putfield 44, 3) := dk_181 0 44 (dk_at dksX5_call_3 0 rfl rfl)
theorem dX5_call_72 : decode cX5_call 72 = .ok (.aload_n 0, 1) := dk_42 (dk_at dksX5_call_3 3 rfl rfl)
theorem dX5_call_73 : decode cX5_call 73 = .ok (.aload_n 0, 1) := dk_42 (dk_at dksX5_call_3 4 rfl rfl)
theorem dX5_call_74 : decode cX5_call 74 = .ok (.getfield 47, 3) := dk_180 0 47 (dk_at dksX5_call_3 5 rfl rfl)
theorem dX5_call_77 : decode cX5_call 77 = .ok (.aload_n 0, 1) := dk_42 (dk_at dksX5_call_3 8 rfl rfl)
theorem dX5_call_78 : decode cX5_call 78 = .ok (.getfield 44, 3) := dk_180 0 44 (dk_at dksX5_call_3 9 rfl rfl)
theorem dX5_call_81 : decode cX5_call 81 = .ok (.invokestatic 208, 3) := dk_184 0 208 (dk_at dksX5_call_3 12 rfl rfl)
theorem dX5_call_84 : decode cX5_call 84 = .ok (.putfield 47, 3) := dk_181 0 47 (dk_at dksX5_call_3 15 rfl rfl)
theorem dX5_call_87 : decode cX5_call 87 = .ok (.aload_n 0, 1) := dk_42 (dk_at dksX5_call_3 18 rfl rfl)
theorem dX5_call_88 : decode cX5_call 88 = .ok (.aload_n 1, 1) := dk_43 (dk_at dksX5_call_3 19 rfl rfl)
theorem dX5_call_89 : decode cX5_call 89 = .ok (.getfield 107, 3) := dk_180 0 107 (dk_at dksX5_call_3 20 rfl rfl)
theorem dX5_call_92 : decode cX5_call 92 = .ok (.putfield 113, 3) := dk_181 0 113 (dk_at dksX5_call_4 0 rfl rfl)
theorem dX5_call_95 : decode cX5_call 95 = .ok (.aload_n 0, 1) := dk_42 (dk_at dksX5_call_4 3 rfl rfl)
theorem dX5_call_96 : decode cX5_call 96 = .ok (.aload_n 1, 1) := dk_43 (dk_at dksX5_call_4 4 rfl rfl)
theorem dX5_call_97 : decode cX5_call 97 = .ok (.getfield 114, 3) := dk_180 0 114 (dk_at dksX5_call_4 5 rfl rfl)
theorem dX5_call_100 : decode cX5_call 100 = .ok (.putfield 117, 3) := dk_181 0 117 (dk_at dksX5_call_4 8 rfl rfl)
theorem dX5_call_103 : decode cX5_call 103 = .ok (.return_, 1) := dk_177 (dk_at dksX5_call_4 11 rfl rfl)
abbrev cX5_put : ByteArray := prog_5_method_8_code
def yX5_put : MethodName := ⟨RX5, "put", "(LLinkStation$Definition;I)V"⟩
def dkwX5_put_0 : List UInt8 := [43, 42, 180, 0, 62, 180, 0, 95, 165, 0, 8, 43, 28, 181, 0, 168, 177]
abbrev dktX5_put_0 : List UInt8 := dkwX5_put_0 ++ []
theorem dksX5_put_0 : cX5_put.data.toList.drop 0 = dktX5_put_0 := by decide +kernel
theorem dX5_put_0 : decode cX5_put 0 = .ok (.aload_n 1, 1) := dk_43 (dk_at dksX5_put_0 0 rfl rfl)
theorem dX5_put_1 : decode cX5_put 1 = .ok (.aload_n 0, 1) := dk_42 (dk_at dksX5_put_0 1 rfl rfl)
theorem dX5_put_2 : decode cX5_put 2 = .ok (.getfield 62, 3) := dk_180 0 62 (dk_at dksX5_put_0 2 rfl rfl)
theorem dX5_put_5 : decode cX5_put 5 = .ok (.getfield 95, 3) := dk_180 0 95 (dk_at dksX5_put_0 5 rfl rfl)
theorem dX5_put_8 : decode cX5_put 8 = .ok (.if_acmp .eq 8, 3) := dk_165 0 8 (dk_at dksX5_put_0 8 rfl rfl)
theorem dX5_put_11 : decode cX5_put 11 = .ok (.aload_n 1, 1) := dk_43 (dk_at dksX5_put_0 11 rfl rfl)
theorem dX5_put_12 : decode cX5_put 12 = .ok (.iload_n 2, 1) := dk_28 (dk_at dksX5_put_0 12 rfl rfl)
theorem dX5_put_13 : decode cX5_put 13 = .ok (.putfield 168, 3) := dk_181 0 168 (dk_at dksX5_put_0 13 rfl rfl)
theorem dX5_put_16 : decode cX5_put 16 = .ok (.return_, 1) := dk_177 (dk_at dksX5_put_0 16 rfl rfl)
abbrev cX5_address : ByteArray := prog_5_method_9_code
def yX5_address : MethodName := ⟨RX5, "address", "(LLinkStation$Definition;)I"⟩
def dkwX5_address_1 : List UInt8 := [180, 0, 114, 96, 172]
abbrev dktX5_address_1 : List UInt8 := dkwX5_address_1 ++ []
def dkwX5_address_0 : List UInt8 := [43, 42, 180, 0, 62, 180, 0, 95, 166, 0, 7, 3, 167, 0, 15, 43, 180, 0, 107, 180, 0, 187, 43]
abbrev dktX5_address_0 : List UInt8 := dkwX5_address_0 ++ dktX5_address_1
theorem dksX5_address_0 : cX5_address.data.toList.drop 0 = dktX5_address_0 := by decide +kernel
theorem dksX5_address_1 : cX5_address.data.toList.drop 23 = dktX5_address_1 := dk_seg dksX5_address_0 23 rfl rfl
theorem dX5_address_0 : decode cX5_address 0 = .ok (.aload_n 1, 1) := dk_43 (dk_at dksX5_address_0 0 rfl rfl)
theorem dX5_address_1 : decode cX5_address 1 = .ok (.aload_n 0, 1) := dk_42 (dk_at dksX5_address_0 1 rfl rfl)
theorem dX5_address_2 : decode cX5_address 2 = .ok (.getfield 62, 3) := dk_180 0 62 (dk_at dksX5_address_0 2 rfl rfl)
theorem dX5_address_5 : decode cX5_address 5 = .ok (.getfield 95, 3) := dk_180 0 95 (dk_at dksX5_address_0 5 rfl rfl)
theorem dX5_address_8 : decode cX5_address 8 = .ok (.if_acmp .ne 7, 3) := dk_166 0 7 (dk_at dksX5_address_0 8 rfl rfl)
theorem dX5_address_11 : decode cX5_address 11 = .ok (.iconst 0, 1) := dk_3 (dk_at dksX5_address_0 11 rfl rfl)
theorem dX5_address_12 : decode cX5_address 12 = .ok (.goto 15, 3) := dk_167 0 15 (dk_at dksX5_address_0 12 rfl rfl)
theorem dX5_address_15 : decode cX5_address 15 = .ok (.aload_n 1, 1) := dk_43 (dk_at dksX5_address_0 15 rfl rfl)
theorem dX5_address_16 : decode cX5_address 16 = .ok (.getfield 107, 3) := dk_180 0 107 (dk_at dksX5_address_0 16 rfl rfl)
theorem dX5_address_19 : decode cX5_address 19 = .ok (.getfield 187, 3) := dk_180 0 187 (dk_at dksX5_address_0 19 rfl rfl)
theorem dX5_address_22 : decode cX5_address 22 = .ok (.aload_n 1, 1) := dk_43 (dk_at dksX5_address_0 22 rfl rfl)
theorem dX5_address_23 : decode cX5_address 23 = .ok (.getfield 114, 3) := dk_180 0 114 (dk_at dksX5_address_1 0 rfl rfl)
theorem dX5_address_26 : decode cX5_address 26 = .ok (.iadd, 1) := dk_96 (dk_at dksX5_address_1 3 rfl rfl)
theorem dX5_address_27 : decode cX5_address 27 = .ok (.ireturn, 1) := dk_172 (dk_at dksX5_address_1 4 rfl rfl)
abbrev cX5_goBack : ByteArray := prog_5_method_13_code
def yX5_goBack : MethodName := ⟨RX5, "goBack", "()Z"⟩
def dkwX5_goBack_1 : List UInt8 := [42, 180, 0, 44, 50, 181, 0, 113, 42, 42, 180, 0, 28, 42, 180, 0, 44, 46, 181, 0, 117, 4, 172]
abbrev dktX5_goBack_1 : List UInt8 := dkwX5_goBack_1 ++ []
def dkwX5_goBack_0 : List UInt8 := [42, 180, 0, 44, 154, 0, 5, 3, 172, 42, 89, 180, 0, 44, 4, 100, 181, 0, 44, 42, 42, 180, 0, 24]
abbrev dktX5_goBack_0 : List UInt8 := dkwX5_goBack_0 ++ dktX5_goBack_1
theorem dksX5_goBack_0 : cX5_goBack.data.toList.drop 0 = dktX5_goBack_0 := by decide +kernel
theorem dksX5_goBack_1 : cX5_goBack.data.toList.drop 24 = dktX5_goBack_1 := dk_seg dksX5_goBack_0 24 rfl rfl
theorem dX5_goBack_0 : decode cX5_goBack 0 = .ok (.aload_n 0, 1) := dk_42 (dk_at dksX5_goBack_0 0 rfl rfl)
theorem dX5_goBack_1 : decode cX5_goBack 1 = .ok (.getfield 44, 3) := dk_180 0 44 (dk_at dksX5_goBack_0 1 rfl rfl)
theorem dX5_goBack_4 : decode cX5_goBack 4 = .ok (.ifCond .ne 5, 3) := dk_154 0 5 (dk_at dksX5_goBack_0 4 rfl rfl)
theorem dX5_goBack_7 : decode cX5_goBack 7 = .ok (.iconst 0, 1) := dk_3 (dk_at dksX5_goBack_0 7 rfl rfl)
theorem dX5_goBack_8 : decode cX5_goBack 8 = .ok (.ireturn, 1) := dk_172 (dk_at dksX5_goBack_0 8 rfl rfl)
theorem dX5_goBack_9 : decode cX5_goBack 9 = .ok (.aload_n 0, 1) := dk_42 (dk_at dksX5_goBack_0 9 rfl rfl)
theorem dX5_goBack_10 : decode cX5_goBack 10 = .ok (.dup, 1) := dk_89 (dk_at dksX5_goBack_0 10 rfl rfl)
theorem dX5_goBack_11 : decode cX5_goBack 11 = .ok (.getfield 44, 3) := dk_180 0 44 (dk_at dksX5_goBack_0 11 rfl rfl)
theorem dX5_goBack_14 : decode cX5_goBack 14 = .ok (.iconst 1, 1) := dk_4 (dk_at dksX5_goBack_0 14 rfl rfl)
theorem dX5_goBack_15 : decode cX5_goBack 15 = .ok (.isub, 1) := dk_100 (dk_at dksX5_goBack_0 15 rfl rfl)
theorem dX5_goBack_16 : decode cX5_goBack 16 = .ok (.putfield 44, 3) := dk_181 0 44 (dk_at dksX5_goBack_0 16 rfl rfl)
theorem dX5_goBack_19 : decode cX5_goBack 19 = .ok (.aload_n 0, 1) := dk_42 (dk_at dksX5_goBack_0 19 rfl rfl)
theorem dX5_goBack_20 : decode cX5_goBack 20 = .ok (.aload_n 0, 1) := dk_42 (dk_at dksX5_goBack_0 20 rfl rfl)
theorem dX5_goBack_21 : decode cX5_goBack 21 = .ok (.getfield 24, 3) := dk_180 0 24 (dk_at dksX5_goBack_0 21 rfl rfl)
theorem dX5_goBack_24 : decode cX5_goBack 24 = .ok (.aload_n 0, 1) := dk_42 (dk_at dksX5_goBack_1 0 rfl rfl)
theorem dX5_goBack_25 : decode cX5_goBack 25 = .ok (.getfield 44, 3) := dk_180 0 44 (dk_at dksX5_goBack_1 1 rfl rfl)
theorem dX5_goBack_28 : decode cX5_goBack 28 = .ok (.aaload, 1) := dk_50 (dk_at dksX5_goBack_1 4 rfl rfl)
theorem dX5_goBack_29 : decode cX5_goBack 29 = .ok (.putfield 113, 3) := dk_181 0 113 (dk_at dksX5_goBack_1 5 rfl rfl)
theorem dX5_goBack_32 : decode cX5_goBack 32 = .ok (.aload_n 0, 1) := dk_42 (dk_at dksX5_goBack_1 8 rfl rfl)
theorem dX5_goBack_33 : decode cX5_goBack 33 = .ok (.aload_n 0, 1) := dk_42 (dk_at dksX5_goBack_1 9 rfl rfl)
theorem dX5_goBack_34 : decode cX5_goBack 34 = .ok (.getfield 28, 3) := dk_180 0 28 (dk_at dksX5_goBack_1 10 rfl rfl)
theorem dX5_goBack_37 : decode cX5_goBack 37 = .ok (.aload_n 0, 1) := dk_42 (dk_at dksX5_goBack_1 13 rfl rfl)
theorem dX5_goBack_38 : decode cX5_goBack 38 = .ok (.getfield 44, 3) := dk_180 0 44 (dk_at dksX5_goBack_1 14 rfl rfl)
theorem dX5_goBack_41 : decode cX5_goBack 41 = .ok (.iaload, 1) := dk_46 (dk_at dksX5_goBack_1 17 rfl rfl)
theorem dX5_goBack_42 : decode cX5_goBack 42 = .ok (.putfield 117, 3) := dk_181 0 117 (dk_at dksX5_goBack_1 18 rfl rfl)
theorem dX5_goBack_45 : decode cX5_goBack 45 = .ok (.iconst 1, 1) := dk_4 (dk_at dksX5_goBack_1 21 rfl rfl)
theorem dX5_goBack_46 : decode cX5_goBack 46 = .ok (.ireturn, 1) := dk_172 (dk_at dksX5_goBack_1 22 rfl rfl)
abbrev cX5_say : ByteArray := prog_5_method_10_code
def yX5_say : MethodName := ⟨RX5, "say", "(I)V"⟩
def dkwX5_say_1 : List UInt8 := [4, 96, 181, 0, 50, 177]
abbrev dktX5_say_1 : List UInt8 := dkwX5_say_1 ++ []
def dkwX5_say_0 : List UInt8 := [42, 180, 0, 50, 16, 60, 162, 0, 13, 42, 180, 0, 31, 42, 180, 0, 50, 27, 79, 42, 89, 180, 0, 50]
abbrev dktX5_say_0 : List UInt8 := dkwX5_say_0 ++ dktX5_say_1
theorem dksX5_say_0 : cX5_say.data.toList.drop 0 = dktX5_say_0 := by decide +kernel
theorem dksX5_say_1 : cX5_say.data.toList.drop 24 = dktX5_say_1 := dk_seg dksX5_say_0 24 rfl rfl
theorem dX5_say_0 : decode cX5_say 0 = .ok (.aload_n 0, 1) := dk_42 (dk_at dksX5_say_0 0 rfl rfl)
theorem dX5_say_1 : decode cX5_say 1 = .ok (.getfield 50, 3) := dk_180 0 50 (dk_at dksX5_say_0 1 rfl rfl)
theorem dX5_say_4 : decode cX5_say 4 = .ok (.bipush 60, 2) := dk_16 60 (dk_at dksX5_say_0 4 rfl rfl)
theorem dX5_say_6 : decode cX5_say 6 = .ok (.if_icmp .ge 13, 3) := dk_162 0 13 (dk_at dksX5_say_0 6 rfl rfl)
theorem dX5_say_9 : decode cX5_say 9 = .ok (.aload_n 0, 1) := dk_42 (dk_at dksX5_say_0 9 rfl rfl)
theorem dX5_say_10 : decode cX5_say 10 = .ok (.getfield 31, 3) := dk_180 0 31 (dk_at dksX5_say_0 10 rfl rfl)
theorem dX5_say_13 : decode cX5_say 13 = .ok (.aload_n 0, 1) := dk_42 (dk_at dksX5_say_0 13 rfl rfl)
theorem dX5_say_14 : decode cX5_say 14 = .ok (.getfield 50, 3) := dk_180 0 50 (dk_at dksX5_say_0 14 rfl rfl)
theorem dX5_say_17 : decode cX5_say 17 = .ok (.iload_n 1, 1) := dk_27 (dk_at dksX5_say_0 17 rfl rfl)
theorem dX5_say_18 : decode cX5_say 18 = .ok (.iastore, 1) := dk_79 (dk_at dksX5_say_0 18 rfl rfl)
theorem dX5_say_19 : decode cX5_say 19 = .ok (.aload_n 0, 1) := dk_42 (dk_at dksX5_say_0 19 rfl rfl)
theorem dX5_say_20 : decode cX5_say 20 = .ok (.dup, 1) := dk_89 (dk_at dksX5_say_0 20 rfl rfl)
theorem dX5_say_21 : decode cX5_say 21 = .ok (.getfield 50, 3) := dk_180 0 50 (dk_at dksX5_say_0 21 rfl rfl)
theorem dX5_say_24 : decode cX5_say 24 = .ok (.iconst 1, 1) := dk_4 (dk_at dksX5_say_1 0 rfl rfl)
theorem dX5_say_25 : decode cX5_say 25 = .ok (.iadd, 1) := dk_96 (dk_at dksX5_say_1 1 rfl rfl)
theorem dX5_say_26 : decode cX5_say 26 = .ok (.putfield 50, 3) := dk_181 0 50 (dk_at dksX5_say_1 2 rfl rfl)
theorem dX5_say_29 : decode cX5_say 29 = .ok (.return_, 1) := dk_177 (dk_at dksX5_say_1 5 rfl rfl)
theorem q63 : (Jvm.Cond.initialized "LinkStation$Machine") ∈ lw_all := lw_g (lw_at lw_m1 16 rfl) rfl
theorem q233 : (Jvm.Cond.fieldLinkNest "LinkStation$Machine" (107 : Nat) "LinkStation$Definition" "module" "LLinkStation$Module;" "LinkStation") ∈ lw_tbl := lw_at lw_m1 186 rfl
theorem q239 : (Jvm.Cond.fieldLinkNest "LinkStation$Machine" (114 : Nat) "LinkStation$Definition" "value" "I" "LinkStation") ∈ lw_tbl := lw_at lw_m1 192 rfl
theorem q242 : (Jvm.Cond.fieldLinkNest "LinkStation$Machine" (168 : Nat) "LinkStation$Definition" "now" "I" "LinkStation") ∈ lw_tbl := lw_at lw_m1 195 rfl
theorem q322 : (Jvm.Cond.fieldLinkNest "LinkStation$Machine" (95 : Nat) "LinkStation$Scope" "nothing" "LLinkStation$Definition;" "LinkStation") ∈ lw_tbl := lw_at lw_m2 35 rfl
theorem q327 : (Jvm.Cond.fieldLinkNest "LinkStation$Machine" (70 : Nat) "LinkStation$Scope" "begun" "Ljava/util/ArrayList;" "LinkStation") ∈ lw_tbl := lw_at lw_m2 40 rfl
theorem q345 : (Jvm.Cond.instantiable "LinkStation$Machine" (14 : Nat)) ∈ lw_all := lw_g (lw_at lw_m2 58 rfl) rfl
theorem q347 : (Jvm.Cond.instanceMethod ({ cls := "LinkStation$Machine", name := "<init>", desc := "()V" } : Jvm.MethodName)) ∈ lw_all := lw_g (lw_at lw_m2 60 rfl) rfl
theorem q348 : (Jvm.Cond.code ({ cls := "LinkStation$Machine", name := "<init>", desc := "()V" } : Jvm.MethodName) prog_5_method_1_code (1 : Nat) (Option.none : Option Jvm.ClassFile.FieldType)) ∈ lw_all := lw_g (lw_at lw_m2 61 rfl) rfl
theorem q349 : (Jvm.Cond.methodLink "LinkStation$Machine" (3 : Nat) ({ cls := "java/lang/Object", name := "<init>", desc := "()V" } : Jvm.MethodName)) ∈ lw_all := lw_g (lw_at lw_m2 62 rfl) rfl
theorem q350 : (Jvm.Cond.classLink "LinkStation$Machine" (9 : Nat) "LinkStation$Ended") ∈ lw_all := lw_g (lw_at lw_m2 63 rfl) rfl
theorem q359 : (Jvm.Cond.methodLink "LinkStation$Machine" (11 : Nat) ({ cls := "LinkStation$Ended", name := "<init>", desc := "()V" } : Jvm.MethodName)) ∈ lw_all := lw_g (lw_at lw_m2 72 rfl) rfl
theorem q363 : (Jvm.Cond.fieldLinkNest "LinkStation$Machine" (34 : Nat) "LinkStation$Ended" "how" "I" "LinkStation") ∈ lw_tbl := lw_at lw_m2 76 rfl
theorem q368 : (Jvm.Cond.classLink "LinkStation$Machine" (22 : Nat) "LinkStation$Module") ∈ lw_all := lw_g (lw_at lw_m2 81 rfl) rfl
theorem q370 : (Jvm.Cond.fieldLink "LinkStation$Machine" (62 : Nat) "LinkStation$Machine" "scope" "LLinkStation$Scope;") ∈ lw_all := lw_g (lw_at lw_m2 83 rfl) rfl
theorem q371 : (Jvm.Cond.fieldLink "LinkStation$Machine" (12 : Nat) "LinkStation$Machine" "ended" "LLinkStation$Ended;") ∈ lw_all := lw_g (lw_at lw_m2 84 rfl) rfl
theorem q372 : (Jvm.Cond.fieldLink "LinkStation$Machine" (18 : Nat) "LinkStation$Machine" "registers" "[I") ∈ lw_all := lw_g (lw_at lw_m2 85 rfl) rfl
theorem q374 : (Jvm.Cond.fieldLink "LinkStation$Machine" (24 : Nat) "LinkStation$Machine" "backModules" "[LLinkStation$Module;") ∈ lw_all := lw_g (lw_at lw_m2 87 rfl) rfl
theorem q375 : (Jvm.Cond.fieldLink "LinkStation$Machine" (28 : Nat) "LinkStation$Machine" "backSteps" "[I") ∈ lw_all := lw_g (lw_at lw_m2 88 rfl) rfl
theorem q376 : (Jvm.Cond.fieldLink "LinkStation$Machine" (31 : Nat) "LinkStation$Machine" "says" "[I") ∈ lw_all := lw_g (lw_at lw_m2 89 rfl) rfl
theorem q378 : (Jvm.Cond.fieldLink "LinkStation$Machine" (44 : Nat) "LinkStation$Machine" "deep" "I") ∈ lw_all := lw_g (lw_at lw_m2 91 rfl) rfl
theorem q379 : (Jvm.Cond.fieldLink "LinkStation$Machine" (47 : Nat) "LinkStation$Machine" "deepest" "I") ∈ lw_all := lw_g (lw_at lw_m2 92 rfl) rfl
theorem q381 : (Jvm.Cond.fieldLink "LinkStation$Machine" (50 : Nat) "LinkStation$Machine" "said" "I") ∈ lw_all := lw_g (lw_at lw_m2 94 rfl) rfl
theorem q383 : (Jvm.Cond.fieldLink "LinkStation$Machine" (53 : Nat) "LinkStation$Machine" "made" "I") ∈ lw_all := lw_g (lw_at lw_m2 96 rfl) rfl
theorem q385 : (Jvm.Cond.fieldLink "LinkStation$Machine" (59 : Nat) "LinkStation$Machine" "granted" "I") ∈ lw_all := lw_g (lw_at lw_m2 98 rfl) rfl
theorem q386 : (Jvm.Cond.fieldLink "LinkStation$Machine" (56 : Nat) "LinkStation$Machine" "bound" "I") ∈ lw_all := lw_g (lw_at lw_m2 99 rfl) rfl
theorem q388 : (Jvm.Cond.fieldLink "LinkStation$Machine" (113 : Nat) "LinkStation$Machine" "module" "LLinkStation$Module;") ∈ lw_all := lw_g (lw_at lw_m2 101 rfl) rfl
theorem q389 : (Jvm.Cond.fieldLink "LinkStation$Machine" (117 : Nat) "LinkStation$Machine" "at" "I") ∈ lw_all := lw_g (lw_at lw_m2 102 rfl) rfl
theorem q390 : (Jvm.Cond.lays "LinkStation$Machine" "LinkStation$Machine" "scope" "LLinkStation$Scope;") ∈ lw_all := lw_g (lw_at lw_m2 103 rfl) rfl
theorem q391 : (Jvm.Cond.soleField "LinkStation$Machine" "scope") ∈ lw_all := lw_g (lw_at lw_m2 104 rfl) rfl
theorem q392 : (Jvm.Cond.laysFinal "LinkStation$Machine" "LinkStation$Machine" "ended" "LLinkStation$Ended;") ∈ lw_all := lw_g (lw_at lw_m2 105 rfl) rfl
theorem q393 : (Jvm.Cond.soleField "LinkStation$Machine" "ended") ∈ lw_all := lw_g (lw_at lw_m2 106 rfl) rfl
theorem q394 : (Jvm.Cond.laysFinal "LinkStation$Machine" "LinkStation$Machine" "registers" "[I") ∈ lw_all := lw_g (lw_at lw_m2 107 rfl) rfl
theorem q395 : (Jvm.Cond.soleField "LinkStation$Machine" "registers") ∈ lw_all := lw_g (lw_at lw_m2 108 rfl) rfl
theorem q396 : (Jvm.Cond.laysFinal "LinkStation$Machine" "LinkStation$Machine" "backModules" "[LLinkStation$Module;") ∈ lw_all := lw_g (lw_at lw_m2 109 rfl) rfl
theorem q397 : (Jvm.Cond.soleField "LinkStation$Machine" "backModules") ∈ lw_all := lw_g (lw_at lw_m2 110 rfl) rfl
theorem q398 : (Jvm.Cond.laysFinal "LinkStation$Machine" "LinkStation$Machine" "backSteps" "[I") ∈ lw_all := lw_g (lw_at lw_m2 111 rfl) rfl
theorem q399 : (Jvm.Cond.soleField "LinkStation$Machine" "backSteps") ∈ lw_all := lw_g (lw_at lw_m2 112 rfl) rfl
theorem q400 : (Jvm.Cond.laysFinal "LinkStation$Machine" "LinkStation$Machine" "says" "[I") ∈ lw_all := lw_g (lw_at lw_m2 113 rfl) rfl
theorem q401 : (Jvm.Cond.soleField "LinkStation$Machine" "says") ∈ lw_all := lw_g (lw_at lw_m2 114 rfl) rfl
theorem q402 : (Jvm.Cond.lays "LinkStation$Machine" "LinkStation$Machine" "deep" "I") ∈ lw_all := lw_g (lw_at lw_m2 115 rfl) rfl
theorem q403 : (Jvm.Cond.soleField "LinkStation$Machine" "deep") ∈ lw_all := lw_g (lw_at lw_m2 116 rfl) rfl
theorem q404 : (Jvm.Cond.lays "LinkStation$Machine" "LinkStation$Machine" "deepest" "I") ∈ lw_all := lw_g (lw_at lw_m2 117 rfl) rfl
theorem q405 : (Jvm.Cond.soleField "LinkStation$Machine" "deepest") ∈ lw_all := lw_g (lw_at lw_m2 118 rfl) rfl
theorem q406 : (Jvm.Cond.lays "LinkStation$Machine" "LinkStation$Machine" "said" "I") ∈ lw_all := lw_g (lw_at lw_m2 119 rfl) rfl
theorem q407 : (Jvm.Cond.soleField "LinkStation$Machine" "said") ∈ lw_all := lw_g (lw_at lw_m2 120 rfl) rfl
theorem q408 : (Jvm.Cond.lays "LinkStation$Machine" "LinkStation$Machine" "made" "I") ∈ lw_all := lw_g (lw_at lw_m2 121 rfl) rfl
theorem q409 : (Jvm.Cond.soleField "LinkStation$Machine" "made") ∈ lw_all := lw_g (lw_at lw_m2 122 rfl) rfl
theorem q410 : (Jvm.Cond.lays "LinkStation$Machine" "LinkStation$Machine" "granted" "I") ∈ lw_all := lw_g (lw_at lw_m2 123 rfl) rfl
theorem q411 : (Jvm.Cond.soleField "LinkStation$Machine" "granted") ∈ lw_all := lw_g (lw_at lw_m2 124 rfl) rfl
theorem q412 : (Jvm.Cond.lays "LinkStation$Machine" "LinkStation$Machine" "bound" "I") ∈ lw_all := lw_g (lw_at lw_m2 125 rfl) rfl
theorem q413 : (Jvm.Cond.soleField "LinkStation$Machine" "bound") ∈ lw_all := lw_g (lw_at lw_m2 126 rfl) rfl
theorem q414 : (Jvm.Cond.lays "LinkStation$Machine" "LinkStation$Machine" "module" "LLinkStation$Module;") ∈ lw_all := lw_g (lw_at lw_m2 127 rfl) rfl
theorem q415 : (Jvm.Cond.soleField "LinkStation$Machine" "module") ∈ lw_all := lw_g (lw_at lw_m2 128 rfl) rfl
theorem q416 : (Jvm.Cond.lays "LinkStation$Machine" "LinkStation$Machine" "at" "I") ∈ lw_all := lw_g (lw_at lw_m2 129 rfl) rfl
theorem q417 : (Jvm.Cond.soleField "LinkStation$Machine" "at") ∈ lw_all := lw_g (lw_at lw_m2 130 rfl) rfl
theorem q418 : (Jvm.Cond.superclass "LinkStation$Machine" "java/lang/Object") ∈ lw_all := lw_g (lw_at lw_m2 131 rfl) rfl
theorem q483 : (Jvm.Cond.fieldLinkNest "LinkStation$Machine" (120 : Nat) "LinkStation$Module" "steps" "Ljava/util/ArrayList;" "LinkStation") ∈ lw_tbl := lw_at lw_m2 196 rfl
theorem q490 : (Jvm.Cond.fieldLinkNest "LinkStation$Machine" (92 : Nat) "LinkStation$Module" "beginner" "I" "LinkStation") ∈ lw_tbl := lw_at lw_m2 203 rfl
theorem q493 : (Jvm.Cond.fieldLinkNest "LinkStation$Machine" (187 : Nat) "LinkStation$Module" "base" "I" "LinkStation") ∈ lw_tbl := lw_at lw_m2 206 rfl
theorem q497 : (Jvm.Cond.fieldLinkNest "LinkStation$Machine" (190 : Nat) "LinkStation$Module" "slots" "Ljava/util/HashMap;" "LinkStation") ∈ lw_tbl := lw_at lw_m2 210 rfl
theorem q554 : (Jvm.Cond.selects "LinkStation$Machine" ({ cls := "java/lang/Object", name := "getClass", desc := "()Ljava/lang/Class;" } : Jvm.MethodName) ({ cls := "java/lang/Object", name := "getClass", desc := "()Ljava/lang/Class;" } : Jvm.MethodName)) ∈ lw_all := lw_g (lw_at lw_m3 27 rfl) rfl
theorem q630 : (Jvm.Cond.selects "LinkStation$Machine" ({ cls := "java/lang/Object", name := "equals", desc := "(Ljava/lang/Object;)Z" } : Jvm.MethodName) ({ cls := "java/lang/Object", name := "equals", desc := "(Ljava/lang/Object;)Z" } : Jvm.MethodName)) ∈ lw_all := lw_g (lw_at lw_m3 103 rfl) rfl
theorem q699 : (Jvm.Cond.selects "LinkStation$Machine" ({ cls := "java/lang/Object", name := "hashCode", desc := "()I" } : Jvm.MethodName) ({ cls := "java/lang/Object", name := "hashCode", desc := "()I" } : Jvm.MethodName)) ∈ lw_all := lw_g (lw_at lw_m3 172 rfl) rfl
theorem q1443 : (Jvm.Cond.instanceMethod ({ cls := "LinkStation$Machine", name := "run", desc := "(LLinkStation$Scope;LLinkStation$Definition;I)I" } : Jvm.MethodName)) ∈ lw_all := lw_g (lw_at lw_m6 196 rfl) rfl
theorem q1444 : (Jvm.Cond.selects "LinkStation$Machine" ({ cls := "LinkStation$Machine", name := "run", desc := "(LLinkStation$Scope;LLinkStation$Definition;I)I" } : Jvm.MethodName) ({ cls := "LinkStation$Machine", name := "run", desc := "(LLinkStation$Scope;LLinkStation$Definition;I)I" } : Jvm.MethodName)) ∈ lw_all := lw_g (lw_at lw_m6 197 rfl) rfl
theorem q1445 : (Jvm.Cond.codeWith ({ cls := "LinkStation$Machine", name := "run", desc := "(LLinkStation$Scope;LLinkStation$Definition;I)I" } : Jvm.MethodName) prog_5_method_4_code (7 : Nat) (Option.some Jvm.ClassFile.FieldType.int) [((10 : Nat), (106 : Nat), (107 : Nat), (9 : Nat))]) ∈ lw_all := lw_g (lw_at lw_m6 198 rfl) rfl
theorem q1446 : (Jvm.Cond.methodLink "LinkStation$Machine" (66 : Nat) ({ cls := "LinkStation$Machine", name := "clear", desc := "(I)V" } : Jvm.MethodName)) ∈ lw_all := lw_g (lw_at lw_m6 199 rfl) rfl
theorem q1447 : (Jvm.Cond.privateMethod ({ cls := "LinkStation$Machine", name := "clear", desc := "(I)V" } : Jvm.MethodName)) ∈ lw_tbl := lw_at lw_m6 200 rfl
theorem q1448 : (Jvm.Cond.instanceMethod ({ cls := "LinkStation$Machine", name := "clear", desc := "(I)V" } : Jvm.MethodName)) ∈ lw_all := lw_g (lw_at lw_m6 201 rfl) rfl
theorem q1449 : (Jvm.Cond.code ({ cls := "LinkStation$Machine", name := "clear", desc := "(I)V" } : Jvm.MethodName) prog_5_method_3_code (2 : Nat) (Option.none : Option Jvm.ClassFile.FieldType)) ∈ lw_all := lw_g (lw_at lw_m6 202 rfl) rfl
theorem q1450 : (Jvm.Cond.methodLink "LinkStation$Machine" (38 : Nat) ({ cls := "java/util/Arrays", name := "fill", desc := "([II)V" } : Jvm.MethodName)) ∈ lw_all := lw_g (lw_at lw_m6 203 rfl) rfl
theorem q1453 : (Jvm.Cond.methodLink "LinkStation$Machine" (76 : Nat) ({ cls := "java/util/ArrayList", name := "iterator", desc := "()Ljava/util/Iterator;" } : Jvm.MethodName)) ∈ lw_all := lw_g (lw_at lw_m6 206 rfl) rfl
theorem q1454 : (Jvm.Cond.interfaceEntry "LinkStation$Machine" (82 : Nat)) ∈ lw_tbl := lw_at lw_m6 207 rfl
theorem q1455 : (Jvm.Cond.methodLink "LinkStation$Machine" (82 : Nat) ({ cls := "java/util/Iterator", name := "hasNext", desc := "()Z" } : Jvm.MethodName)) ∈ lw_all := lw_g (lw_at lw_m6 208 rfl) rfl
theorem q1456 : (Jvm.Cond.interfaceEntry "LinkStation$Machine" (88 : Nat)) ∈ lw_tbl := lw_at lw_m6 209 rfl
theorem q1457 : (Jvm.Cond.methodLink "LinkStation$Machine" (88 : Nat) ({ cls := "java/util/Iterator", name := "next", desc := "()Ljava/lang/Object;" } : Jvm.MethodName)) ∈ lw_all := lw_g (lw_at lw_m6 210 rfl) rfl
theorem q1458 : (Jvm.Cond.methodLink "LinkStation$Machine" (99 : Nat) ({ cls := "LinkStation$Scope", name := "find", desc := "(LLinkStation$Module;I)LLinkStation$Definition;" } : Jvm.MethodName)) ∈ lw_all := lw_g (lw_at lw_m6 211 rfl) rfl
theorem q1459 : (Jvm.Cond.methodLink "LinkStation$Machine" (103 : Nat) ({ cls := "LinkStation$Machine", name := "callAlone", desc := "(LLinkStation$Definition;)V" } : Jvm.MethodName)) ∈ lw_all := lw_g (lw_at lw_m6 212 rfl) rfl
theorem q1460 : (Jvm.Cond.privateMethod ({ cls := "LinkStation$Machine", name := "callAlone", desc := "(LLinkStation$Definition;)V" } : Jvm.MethodName)) ∈ lw_tbl := lw_at lw_m6 213 rfl
theorem q1461 : (Jvm.Cond.instanceMethod ({ cls := "LinkStation$Machine", name := "callAlone", desc := "(LLinkStation$Definition;)V" } : Jvm.MethodName)) ∈ lw_all := lw_g (lw_at lw_m6 214 rfl) rfl
theorem q1462 : (Jvm.Cond.code ({ cls := "LinkStation$Machine", name := "callAlone", desc := "(LLinkStation$Definition;)V" } : Jvm.MethodName) prog_5_method_5_code (3 : Nat) (Option.none : Option Jvm.ClassFile.FieldType)) ∈ lw_all := lw_g (lw_at lw_m6 215 rfl) rfl
theorem q1463 : (Jvm.Cond.methodLink "LinkStation$Machine" (123 : Nat) ({ cls := "java/util/ArrayList", name := "size", desc := "()I" } : Jvm.MethodName)) ∈ lw_all := lw_g (lw_at lw_m6 216 rfl) rfl
theorem q1464 : (Jvm.Cond.methodLink "LinkStation$Machine" (127 : Nat) ({ cls := "LinkStation$Machine", name := "end", desc := "(I)LLinkStation$Ended;" } : Jvm.MethodName)) ∈ lw_all := lw_g (lw_at lw_m6 217 rfl) rfl
theorem q1465 : (Jvm.Cond.privateMethod ({ cls := "LinkStation$Machine", name := "end", desc := "(I)LLinkStation$Ended;" } : Jvm.MethodName)) ∈ lw_tbl := lw_at lw_m6 218 rfl
theorem q1466 : (Jvm.Cond.instanceMethod ({ cls := "LinkStation$Machine", name := "end", desc := "(I)LLinkStation$Ended;" } : Jvm.MethodName)) ∈ lw_all := lw_g (lw_at lw_m6 219 rfl) rfl
theorem q1467 : (Jvm.Cond.code ({ cls := "LinkStation$Machine", name := "end", desc := "(I)LLinkStation$Ended;" } : Jvm.MethodName) prog_5_method_2_code (2 : Nat) (Option.some (Jvm.ClassFile.FieldType.object "LinkStation$Ended"))) ∈ lw_all := lw_g (lw_at lw_m6 220 rfl) rfl
theorem q1468 : (Jvm.Cond.methodLink "LinkStation$Machine" (131 : Nat) ({ cls := "java/util/ArrayList", name := "get", desc := "(I)Ljava/lang/Object;" } : Jvm.MethodName)) ∈ lw_all := lw_g (lw_at lw_m6 221 rfl) rfl
theorem q1469 : (Jvm.Cond.classLink "LinkStation$Machine" (135 : Nat) "LinkStation$Step") ∈ lw_all := lw_g (lw_at lw_m6 222 rfl) rfl
theorem q1470 : (Jvm.Cond.methodLink "LinkStation$Machine" (137 : Nat) ({ cls := "LinkStation$Machine", name := "make", desc := "(LLinkStation$Step;)Z" } : Jvm.MethodName)) ∈ lw_all := lw_g (lw_at lw_m6 223 rfl) rfl
theorem q1471 : (Jvm.Cond.privateMethod ({ cls := "LinkStation$Machine", name := "make", desc := "(LLinkStation$Step;)Z" } : Jvm.MethodName)) ∈ lw_tbl := lw_at lw_m6 224 rfl
theorem q1472 : (Jvm.Cond.instanceMethod ({ cls := "LinkStation$Machine", name := "make", desc := "(LLinkStation$Step;)Z" } : Jvm.MethodName)) ∈ lw_all := lw_g (lw_at lw_m6 225 rfl) rfl
theorem q1473 : (Jvm.Cond.code ({ cls := "LinkStation$Machine", name := "make", desc := "(LLinkStation$Step;)Z" } : Jvm.MethodName) prog_5_method_7_code (3 : Nat) (Option.some Jvm.ClassFile.FieldType.boolean)) ∈ lw_all := lw_g (lw_at lw_m6 226 rfl) rfl
theorem q1474 : (Jvm.Cond.methodLink "LinkStation$Machine" (141 : Nat) ({ cls := "LinkStation$Step", name := "a", desc := "()I" } : Jvm.MethodName)) ∈ lw_all := lw_g (lw_at lw_m6 227 rfl) rfl
theorem q1475 : (Jvm.Cond.methodLink "LinkStation$Machine" (144 : Nat) ({ cls := "LinkStation$Step", name := "op", desc := "()LLinkStation$Op;" } : Jvm.MethodName)) ∈ lw_all := lw_g (lw_at lw_m6 228 rfl) rfl
theorem q1476 : (Jvm.Cond.methodLink "LinkStation$Machine" (148 : Nat) ({ cls := "LinkStation$Op", name := "ordinal", desc := "()I" } : Jvm.MethodName)) ∈ lw_all := lw_g (lw_at lw_m6 229 rfl) rfl
theorem q1477 : (Jvm.Cond.methodLink "LinkStation$Machine" (153 : Nat) ({ cls := "LinkStation$Step", name := "b", desc := "()I" } : Jvm.MethodName)) ∈ lw_all := lw_g (lw_at lw_m6 230 rfl) rfl
theorem q1481 : (Jvm.Cond.methodLink "LinkStation$Machine" (156 : Nat) ({ cls := "LinkStation$Step", name := "c", desc := "()I" } : Jvm.MethodName)) ∈ lw_all := lw_g (lw_at lw_m6 234 rfl) rfl
theorem q1485 : (Jvm.Cond.methodLink "LinkStation$Machine" (159 : Nat) ({ cls := "LinkStation$Machine", name := "slot", desc := "(I)LLinkStation$Definition;" } : Jvm.MethodName)) ∈ lw_all := lw_g (lw_at lw_m6 238 rfl) rfl
theorem q1486 : (Jvm.Cond.privateMethod ({ cls := "LinkStation$Machine", name := "slot", desc := "(I)LLinkStation$Definition;" } : Jvm.MethodName)) ∈ lw_tbl := lw_at lw_m6 239 rfl
theorem q1487 : (Jvm.Cond.instanceMethod ({ cls := "LinkStation$Machine", name := "slot", desc := "(I)LLinkStation$Definition;" } : Jvm.MethodName)) ∈ lw_all := lw_g (lw_at lw_m7 0 rfl) rfl
theorem q1488 : (Jvm.Cond.code ({ cls := "LinkStation$Machine", name := "slot", desc := "(I)LLinkStation$Definition;" } : Jvm.MethodName) prog_5_method_11_code (3 : Nat) (Option.some (Jvm.ClassFile.FieldType.object "LinkStation$Definition"))) ∈ lw_all := lw_g (lw_at lw_m7 1 rfl) rfl
theorem q1489 : (Jvm.Cond.methodLink "LinkStation$Machine" (194 : Nat) ({ cls := "java/lang/Integer", name := "valueOf", desc := "(I)Ljava/lang/Integer;" } : Jvm.MethodName)) ∈ lw_all := lw_g (lw_at lw_m7 2 rfl) rfl
theorem q1490 : (Jvm.Cond.methodLink "LinkStation$Machine" (200 : Nat) ({ cls := "java/util/HashMap", name := "get", desc := "(Ljava/lang/Object;)Ljava/lang/Object;" } : Jvm.MethodName)) ∈ lw_all := lw_g (lw_at lw_m7 3 rfl) rfl
theorem q1491 : (Jvm.Cond.classLink "LinkStation$Machine" (108 : Nat) "LinkStation$Definition") ∈ lw_all := lw_g (lw_at lw_m7 4 rfl) rfl
theorem q1492 : (Jvm.Cond.methodLink "LinkStation$Machine" (166 : Nat) ({ cls := "LinkStation$Machine", name := "find", desc := "(I)LLinkStation$Definition;" } : Jvm.MethodName)) ∈ lw_all := lw_g (lw_at lw_m7 5 rfl) rfl
theorem q1493 : (Jvm.Cond.privateMethod ({ cls := "LinkStation$Machine", name := "find", desc := "(I)LLinkStation$Definition;" } : Jvm.MethodName)) ∈ lw_tbl := lw_at lw_m7 6 rfl
theorem q1494 : (Jvm.Cond.instanceMethod ({ cls := "LinkStation$Machine", name := "find", desc := "(I)LLinkStation$Definition;" } : Jvm.MethodName)) ∈ lw_all := lw_g (lw_at lw_m7 7 rfl) rfl
theorem q1495 : (Jvm.Cond.code ({ cls := "LinkStation$Machine", name := "find", desc := "(I)LLinkStation$Definition;" } : Jvm.MethodName) prog_5_method_6_code (2 : Nat) (Option.some (Jvm.ClassFile.FieldType.object "LinkStation$Definition"))) ∈ lw_all := lw_g (lw_at lw_m7 8 rfl) rfl
theorem q1496 : (Jvm.Cond.methodLink "LinkStation$Machine" (205 : Nat) ({ cls := "java/util/HashMap", name := "put", desc := "(Ljava/lang/Object;Ljava/lang/Object;)Ljava/lang/Object;" } : Jvm.MethodName)) ∈ lw_all := lw_g (lw_at lw_m7 9 rfl) rfl
theorem q1497 : (Jvm.Cond.methodLink "LinkStation$Machine" (163 : Nat) ({ cls := "LinkStation$Machine", name := "call", desc := "(LLinkStation$Definition;)V" } : Jvm.MethodName)) ∈ lw_all := lw_g (lw_at lw_m7 10 rfl) rfl
theorem q1498 : (Jvm.Cond.privateMethod ({ cls := "LinkStation$Machine", name := "call", desc := "(LLinkStation$Definition;)V" } : Jvm.MethodName)) ∈ lw_tbl := lw_at lw_m7 11 rfl
theorem q1499 : (Jvm.Cond.instanceMethod ({ cls := "LinkStation$Machine", name := "call", desc := "(LLinkStation$Definition;)V" } : Jvm.MethodName)) ∈ lw_all := lw_g (lw_at lw_m7 12 rfl) rfl
theorem q1500 : (Jvm.Cond.code ({ cls := "LinkStation$Machine", name := "call", desc := "(LLinkStation$Definition;)V" } : Jvm.MethodName) prog_5_method_12_code (2 : Nat) (Option.none : Option Jvm.ClassFile.FieldType)) ∈ lw_all := lw_g (lw_at lw_m7 13 rfl) rfl
theorem q1501 : (Jvm.Cond.methodLink "LinkStation$Machine" (208 : Nat) ({ cls := "java/lang/Math", name := "max", desc := "(II)I" } : Jvm.MethodName)) ∈ lw_all := lw_g (lw_at lw_m7 14 rfl) rfl
theorem q1502 : (Jvm.Cond.methodLink "LinkStation$Machine" (171 : Nat) ({ cls := "LinkStation$Machine", name := "put", desc := "(LLinkStation$Definition;I)V" } : Jvm.MethodName)) ∈ lw_all := lw_g (lw_at lw_m7 15 rfl) rfl
theorem q1503 : (Jvm.Cond.privateMethod ({ cls := "LinkStation$Machine", name := "put", desc := "(LLinkStation$Definition;I)V" } : Jvm.MethodName)) ∈ lw_tbl := lw_at lw_m7 16 rfl
theorem q1504 : (Jvm.Cond.instanceMethod ({ cls := "LinkStation$Machine", name := "put", desc := "(LLinkStation$Definition;I)V" } : Jvm.MethodName)) ∈ lw_all := lw_g (lw_at lw_m7 17 rfl) rfl
theorem q1505 : (Jvm.Cond.code ({ cls := "LinkStation$Machine", name := "put", desc := "(LLinkStation$Definition;I)V" } : Jvm.MethodName) prog_5_method_8_code (3 : Nat) (Option.none : Option Jvm.ClassFile.FieldType)) ∈ lw_all := lw_g (lw_at lw_m7 18 rfl) rfl
theorem q1506 : (Jvm.Cond.methodLink "LinkStation$Machine" (175 : Nat) ({ cls := "LinkStation$Machine", name := "address", desc := "(LLinkStation$Definition;)I" } : Jvm.MethodName)) ∈ lw_all := lw_g (lw_at lw_m7 19 rfl) rfl
theorem q1507 : (Jvm.Cond.privateMethod ({ cls := "LinkStation$Machine", name := "address", desc := "(LLinkStation$Definition;)I" } : Jvm.MethodName)) ∈ lw_tbl := lw_at lw_m7 20 rfl
theorem q1508 : (Jvm.Cond.instanceMethod ({ cls := "LinkStation$Machine", name := "address", desc := "(LLinkStation$Definition;)I" } : Jvm.MethodName)) ∈ lw_all := lw_g (lw_at lw_m7 21 rfl) rfl
theorem q1509 : (Jvm.Cond.code ({ cls := "LinkStation$Machine", name := "address", desc := "(LLinkStation$Definition;)I" } : Jvm.MethodName) prog_5_method_9_code (2 : Nat) (Option.some Jvm.ClassFile.FieldType.int)) ∈ lw_all := lw_g (lw_at lw_m7 22 rfl) rfl
theorem q1510 : (Jvm.Cond.methodLink "LinkStation$Machine" (179 : Nat) ({ cls := "LinkStation$Scope", name := "at", desc := "(I)LLinkStation$Definition;" } : Jvm.MethodName)) ∈ lw_all := lw_g (lw_at lw_m7 23 rfl) rfl
theorem q1514 : (Jvm.Cond.methodLink "LinkStation$Machine" (181 : Nat) ({ cls := "LinkStation$Machine", name := "goBack", desc := "()Z" } : Jvm.MethodName)) ∈ lw_all := lw_g (lw_at lw_m7 27 rfl) rfl
theorem q1515 : (Jvm.Cond.privateMethod ({ cls := "LinkStation$Machine", name := "goBack", desc := "()Z" } : Jvm.MethodName)) ∈ lw_tbl := lw_at lw_m7 28 rfl
theorem q1516 : (Jvm.Cond.instanceMethod ({ cls := "LinkStation$Machine", name := "goBack", desc := "()Z" } : Jvm.MethodName)) ∈ lw_all := lw_g (lw_at lw_m7 29 rfl) rfl
theorem q1517 : (Jvm.Cond.code ({ cls := "LinkStation$Machine", name := "goBack", desc := "()Z" } : Jvm.MethodName) prog_5_method_13_code (1 : Nat) (Option.some Jvm.ClassFile.FieldType.boolean)) ∈ lw_all := lw_g (lw_at lw_m7 30 rfl) rfl
theorem q1518 : (Jvm.Cond.methodLink "LinkStation$Machine" (184 : Nat) ({ cls := "LinkStation$Machine", name := "say", desc := "(I)V" } : Jvm.MethodName)) ∈ lw_all := lw_g (lw_at lw_m7 31 rfl) rfl
theorem q1519 : (Jvm.Cond.privateMethod ({ cls := "LinkStation$Machine", name := "say", desc := "(I)V" } : Jvm.MethodName)) ∈ lw_tbl := lw_at lw_m7 32 rfl
theorem q1520 : (Jvm.Cond.instanceMethod ({ cls := "LinkStation$Machine", name := "say", desc := "(I)V" } : Jvm.MethodName)) ∈ lw_all := lw_g (lw_at lw_m7 33 rfl) rfl
theorem q1521 : (Jvm.Cond.code ({ cls := "LinkStation$Machine", name := "say", desc := "(I)V" } : Jvm.MethodName) prog_5_method_10_code (2 : Nat) (Option.none : Option Jvm.ClassFile.FieldType)) ∈ lw_all := lw_g (lw_at lw_m7 34 rfl) rfl
theorem q1843 : (Jvm.Cond.castable "LinkStation$Machine" "java/lang/Object") ∈ lw_tbl := lw_at lw_m8 116 rfl
theorem in_X5 : ∀ w ∈ wsX50, w ∈ lw_all := lw_in wsX50 [390, 392, 394, 396, 398, 400, 402, 404, 406, 408, 410, 412, 414, 416] (by decide +kernel) (by decide +kernel)
/-! LinkStation$Ended -/
set_option maxRecDepth 100000
def RX6 : String := "LinkStation$Ended"
def TX6 : u_T := fun k => match k with
  | 0 => ("java/lang/Throwable", "cause", "Ljava/lang/Throwable;", false)
  | 1 => ("java/lang/Throwable", "stackTrace", "[Ljava/lang/StackTraceElement;", false)
  | 2 => ("java/lang/Throwable", "suppressedExceptions", "Ljava/util/List;", false)
  | 3 => ("java/lang/Throwable", "detailMessage", "Ljava/lang/String;", false)
  | 4 => ("java/lang/Throwable", "backtrace", "Ljava/lang/Object;", false)
  | 5 => ("java/lang/Throwable", "depth", "I", false)
  | _ => ("LinkStation$Ended", "how", "I", false)
def tyX6 : Nat → FieldType := fun k => match k with
  | 0 => .object "java/lang/Throwable"
  | 1 => .array (.object "java/lang/StackTraceElement")
  | 2 => .object "java/util/List"
  | 3 => .object "java/lang/String"
  | 4 => .object "java/lang/Object"
  | 5 => .int
  | _ => .int
abbrev wsX60 : List Cond := u_ws RX6 TX6 7
theorem nmX6 : ∀ a, a < 7 → ∀ b, b < 7 → a ≠ b → (TX6 a).2.1 ≠ (TX6 b).2.1 := by decide +kernel
theorem tyX6_ok : ∀ k, k < 7 → parseFieldDescriptor (TX6 k).2.2.1 = some (tyX6 k) := by decide +kernel
abbrev cX6_init : ByteArray := prog_3_method_1_code
def yX6_init : MethodName := ⟨RX6, "<init>", "()V"⟩
def dkwX6_init_0 : List UInt8 := [42, 1, 1, 3, 3, 183, 0, 1, 177]
abbrev dktX6_init_0 : List UInt8 := dkwX6_init_0 ++ []
theorem dksX6_init_0 : cX6_init.data.toList.drop 0 = dktX6_init_0 := by decide +kernel
theorem dX6_init_0 : decode cX6_init 0 = .ok (.aload_n 0, 1) := dk_42 (dk_at dksX6_init_0 0 rfl rfl)
theorem dX6_init_1 : decode cX6_init 1 = .ok (.aconst_null, 1) := dk_1 (dk_at dksX6_init_0 1 rfl rfl)
theorem dX6_init_2 : decode cX6_init 2 = .ok (.aconst_null, 1) := dk_1 (dk_at dksX6_init_0 2 rfl rfl)
theorem dX6_init_3 : decode cX6_init 3 = .ok (.iconst 0, 1) := dk_3 (dk_at dksX6_init_0 3 rfl rfl)
theorem dX6_init_4 : decode cX6_init 4 = .ok (.iconst 0, 1) := dk_3 (dk_at dksX6_init_0 4 rfl rfl)
theorem dX6_init_5 : decode cX6_init 5 = .ok (.invokespecial 1, 3) := dk_183 0 1 (dk_at dksX6_init_0 5 rfl rfl)
theorem dX6_init_8 : decode cX6_init 8 = .ok (.return_, 1) := dk_177 (dk_at dksX6_init_0 8 rfl rfl)
theorem q64 : (Jvm.Cond.initialized "LinkStation$Ended") ∈ lw_all := lw_g (lw_at lw_m1 17 rfl) rfl
theorem q172 : (Jvm.Cond.selects "LinkStation$Ended" ({ cls := "java/lang/Throwable", name := "fillInStackTrace", desc := "()Ljava/lang/Throwable;" } : Jvm.MethodName) ({ cls := "java/lang/Throwable", name := "fillInStackTrace", desc := "()Ljava/lang/Throwable;" } : Jvm.MethodName)) ∈ lw_all := lw_g (lw_at lw_m1 125 rfl) rfl
theorem q351 : (Jvm.Cond.instantiable "LinkStation$Ended" (7 : Nat)) ∈ lw_all := lw_g (lw_at lw_m2 64 rfl) rfl
theorem q352 : (Jvm.Cond.castable "LinkStation$Ended" "LinkStation$Ended") ∈ lw_tbl := lw_at lw_m2 65 rfl
theorem q353 : (Jvm.Cond.selects "LinkStation$Ended" ({ cls := "java/lang/Throwable", name := "fillInStackTrace", desc := "(I)Ljava/lang/Throwable;" } : Jvm.MethodName) ({ cls := "java/lang/Throwable", name := "fillInStackTrace", desc := "(I)Ljava/lang/Throwable;" } : Jvm.MethodName)) ∈ lw_all := lw_g (lw_at lw_m2 66 rfl) rfl
theorem q354 : (Jvm.Cond.lays "LinkStation$Ended" "java/lang/Throwable" "cause" "Ljava/lang/Throwable;") ∈ lw_all := lw_g (lw_at lw_m2 67 rfl) rfl
theorem q355 : (Jvm.Cond.lays "LinkStation$Ended" "java/lang/Throwable" "stackTrace" "[Ljava/lang/StackTraceElement;") ∈ lw_all := lw_g (lw_at lw_m2 68 rfl) rfl
theorem q356 : (Jvm.Cond.lays "LinkStation$Ended" "java/lang/Throwable" "suppressedExceptions" "Ljava/util/List;") ∈ lw_all := lw_g (lw_at lw_m2 69 rfl) rfl
theorem q357 : (Jvm.Cond.lays "LinkStation$Ended" "java/lang/Throwable" "detailMessage" "Ljava/lang/String;") ∈ lw_all := lw_g (lw_at lw_m2 70 rfl) rfl
theorem q358 : (Jvm.Cond.lays "LinkStation$Ended" "java/lang/Throwable" "backtrace" "Ljava/lang/Object;") ∈ lw_all := lw_g (lw_at lw_m2 71 rfl) rfl
theorem q360 : (Jvm.Cond.instanceMethod ({ cls := "LinkStation$Ended", name := "<init>", desc := "()V" } : Jvm.MethodName)) ∈ lw_all := lw_g (lw_at lw_m2 73 rfl) rfl
theorem q361 : (Jvm.Cond.code ({ cls := "LinkStation$Ended", name := "<init>", desc := "()V" } : Jvm.MethodName) prog_3_method_1_code (1 : Nat) (Option.none : Option Jvm.ClassFile.FieldType)) ∈ lw_all := lw_g (lw_at lw_m2 74 rfl) rfl
theorem q362 : (Jvm.Cond.methodLink "LinkStation$Ended" (1 : Nat) ({ cls := "java/lang/RuntimeException", name := "<init>", desc := "(Ljava/lang/String;Ljava/lang/Throwable;ZZ)V" } : Jvm.MethodName)) ∈ lw_all := lw_g (lw_at lw_m2 75 rfl) rfl
theorem q364 : (Jvm.Cond.lays "LinkStation$Ended" "LinkStation$Ended" "how" "I") ∈ lw_all := lw_g (lw_at lw_m2 77 rfl) rfl
theorem q365 : (Jvm.Cond.soleField "LinkStation$Ended" "how") ∈ lw_all := lw_g (lw_at lw_m2 78 rfl) rfl
theorem q366 : (Jvm.Cond.lays "LinkStation$Ended" "java/lang/Throwable" "depth" "I") ∈ lw_all := lw_g (lw_at lw_m2 79 rfl) rfl
theorem q367 : (Jvm.Cond.superclass "LinkStation$Ended" "java/lang/RuntimeException") ∈ lw_all := lw_g (lw_at lw_m2 80 rfl) rfl
theorem q552 : (Jvm.Cond.selects "LinkStation$Ended" ({ cls := "java/lang/Object", name := "getClass", desc := "()Ljava/lang/Class;" } : Jvm.MethodName) ({ cls := "java/lang/Object", name := "getClass", desc := "()Ljava/lang/Class;" } : Jvm.MethodName)) ∈ lw_all := lw_g (lw_at lw_m3 25 rfl) rfl
theorem q628 : (Jvm.Cond.selects "LinkStation$Ended" ({ cls := "java/lang/Object", name := "equals", desc := "(Ljava/lang/Object;)Z" } : Jvm.MethodName) ({ cls := "java/lang/Object", name := "equals", desc := "(Ljava/lang/Object;)Z" } : Jvm.MethodName)) ∈ lw_all := lw_g (lw_at lw_m3 101 rfl) rfl
theorem q697 : (Jvm.Cond.selects "LinkStation$Ended" ({ cls := "java/lang/Object", name := "hashCode", desc := "()I" } : Jvm.MethodName) ({ cls := "java/lang/Object", name := "hashCode", desc := "()I" } : Jvm.MethodName)) ∈ lw_all := lw_g (lw_at lw_m3 170 rfl) rfl
theorem q1844 : (Jvm.Cond.castable "LinkStation$Ended" "java/lang/Object") ∈ lw_tbl := lw_at lw_m8 117 rfl
theorem in_X6 : ∀ w ∈ wsX60, w ∈ lw_all := lw_in wsX60 [354, 355, 356, 357, 358, 366, 364] (by decide +kernel) (by decide +kernel)
/-! LinkStationModel -/
set_option maxRecDepth 100000
def RX7 : String := "LinkStationModel"
def TX7 : u_T := fun k => match k with
  | 0 => ("LinkStationModel", "modules", "I", false)
  | 1 => ("LinkStationModel", "needs", "[I", true)
  | 2 => ("LinkStationModel", "needCount", "[I", true)
  | 3 => ("LinkStationModel", "defName", "[I", true)
  | 4 => ("LinkStationModel", "defKind", "[I", true)
  | 5 => ("LinkStationModel", "defValue", "[I", true)
  | 6 => ("LinkStationModel", "defHow", "[I", true)
  | 7 => ("LinkStationModel", "defCount", "[I", true)
  | 8 => ("LinkStationModel", "steps", "[I", true)
  | 9 => ("LinkStationModel", "stepCount", "[I", true)
  | 10 => ("LinkStationModel", "optional", "[Z", true)
  | 11 => ("LinkStationModel", "beginners", "[I", true)
  | 12 => ("LinkStationModel", "loaded", "Z", false)
  | 13 => ("LinkStationModel", "lazy", "Z", false)
  | 14 => ("LinkStationModel", "root", "I", false)
  | 15 => ("LinkStationModel", "many", "I", false)
  | 16 => ("LinkStationModel", "order", "[I", true)
  | 17 => ("LinkStationModel", "begun", "[I", true)
  | 18 => ("LinkStationModel", "slots", "[I", true)
  | 19 => ("LinkStationModel", "data", "[I", true)
  | 20 => ("LinkStationModel", "tried", "I", false)
  | 21 => ("LinkStationModel", "trial", "[I", true)
  | 22 => ("LinkStationModel", "met", "[Z", true)
  | 23 => ("LinkStationModel", "path", "[I", true)
  | 24 => ("LinkStationModel", "pathNext", "[I", true)
  | 25 => ("LinkStationModel", "faultModule", "I", false)
  | 26 => ("LinkStationModel", "faultStep", "I", false)
  | 27 => ("LinkStationModel", "faultName", "I", false)
  | 28 => ("LinkStationModel", "registers", "[I", true)
  | 29 => ("LinkStationModel", "made", "I", false)
  | 30 => ("LinkStationModel", "saidCount", "I", false)
  | 31 => ("LinkStationModel", "boundCount", "I", false)
  | 32 => ("LinkStationModel", "deepest", "I", false)
  | 33 => ("LinkStationModel", "words", "[I", true)
  | 34 => ("LinkStationModel", "backModule", "[I", true)
  | 35 => ("LinkStationModel", "backStep", "[I", true)
  | 36 => ("LinkStationModel", "deep", "I", false)
  | 37 => ("LinkStationModel", "nowModule", "I", false)
  | _ => ("LinkStationModel", "nowStep", "I", false)
def tyX7 : Nat → FieldType := fun k => match k with
  | 0 => .int
  | 1 => .array .int
  | 2 => .array .int
  | 3 => .array .int
  | 4 => .array .int
  | 5 => .array .int
  | 6 => .array .int
  | 7 => .array .int
  | 8 => .array .int
  | 9 => .array .int
  | 10 => .array .boolean
  | 11 => .array .int
  | 12 => .boolean
  | 13 => .boolean
  | 14 => .int
  | 15 => .int
  | 16 => .array .int
  | 17 => .array .int
  | 18 => .array .int
  | 19 => .array .int
  | 20 => .int
  | 21 => .array .int
  | 22 => .array .boolean
  | 23 => .array .int
  | 24 => .array .int
  | 25 => .int
  | 26 => .int
  | 27 => .int
  | 28 => .array .int
  | 29 => .int
  | 30 => .int
  | 31 => .int
  | 32 => .int
  | 33 => .array .int
  | 34 => .array .int
  | 35 => .array .int
  | 36 => .int
  | 37 => .int
  | _ => .int
abbrev wsX70 : List Cond := u_ws RX7 TX7 39
set_option maxRecDepth 100000 in
theorem nmX7 : ∀ a, a < 39 → ∀ b, b < 39 → a ≠ b → (TX7 a).2.1 ≠ (TX7 b).2.1 := by decide +kernel
set_option maxRecDepth 100000 in
theorem tyX7_ok : ∀ k, k < 39 → parseFieldDescriptor (TX7 k).2.2.1 = some (tyX7 k) := by decide +kernel
abbrev cX7_init : ByteArray := prog_11_method_1_code
def yX7_init : MethodName := ⟨RX7, "<init>", "()V"⟩
def dkwX7_init_9 : List UInt8 := [181, 0, 87, 177]
abbrev dktX7_init_9 : List UInt8 := dkwX7_init_9 ++ []
def dkwX7_init_8 : List UInt8 := [181, 0, 78, 42, 16, 60, 188, 10, 181, 0, 81, 42, 16, 101, 188, 10, 181, 0, 84, 42, 16, 101, 188, 10]
abbrev dktX7_init_8 : List UInt8 := dkwX7_init_8 ++ dktX7_init_9
def dkwX7_init_7 : List UInt8 := [181, 0, 65, 42, 2, 181, 0, 68, 42, 2, 181, 0, 72, 42, 2, 181, 0, 75, 42, 16, 8, 188, 10]
abbrev dktX7_init_7 : List UInt8 := dkwX7_init_7 ++ dktX7_init_8
def dkwX7_init_6 : List UInt8 := [181, 0, 56, 42, 16, 12, 188, 4, 181, 0, 59, 42, 16, 12, 188, 10, 181, 0, 62, 42, 16, 12, 188, 10]
abbrev dktX7_init_6 : List UInt8 := dkwX7_init_6 ++ dktX7_init_7
def dkwX7_init_5 : List UInt8 := [17, 3, 0, 188, 10, 181, 0, 50, 42, 17, 0, 240, 188, 10, 181, 0, 53, 42, 16, 12, 188, 10]
abbrev dktX7_init_5 : List UInt8 := dkwX7_init_5 ++ dktX7_init_6
def dkwX7_init_4 : List UInt8 := [188, 10, 181, 0, 41, 42, 16, 12, 188, 10, 181, 0, 44, 42, 16, 12, 188, 10, 181, 0, 47, 42]
abbrev dktX7_init_4 : List UInt8 := dkwX7_init_4 ++ dktX7_init_5
def dkwX7_init_3 : List UInt8 := [181, 0, 31, 42, 16, 12, 188, 10, 181, 0, 34, 42, 17, 3, 0, 188, 4, 181, 0, 37, 42, 16, 12]
abbrev dktX7_init_3 : List UInt8 := dkwX7_init_3 ++ dktX7_init_4
def dkwX7_init_2 : List UInt8 := [17, 0, 240, 188, 10, 181, 0, 25, 42, 16, 12, 188, 10, 181, 0, 28, 42, 17, 18, 192, 188, 10]
abbrev dktX7_init_2 : List UInt8 := dkwX7_init_2 ++ dktX7_init_3
def dkwX7_init_1 : List UInt8 := [188, 10, 181, 0, 16, 42, 17, 0, 240, 188, 10, 181, 0, 19, 42, 17, 0, 240, 188, 10, 181, 0, 22, 42]
abbrev dktX7_init_1 : List UInt8 := dkwX7_init_1 ++ dktX7_init_2
def dkwX7_init_0 : List UInt8 := [42, 183, 0, 1, 42, 16, 72, 188, 10, 181, 0, 7, 42, 16, 12, 188, 10, 181, 0, 13, 42, 17, 0, 240]
abbrev dktX7_init_0 : List UInt8 := dkwX7_init_0 ++ dktX7_init_1
theorem dksX7_init_0 : cX7_init.data.toList.drop 0 = dktX7_init_0 := by decide +kernel
theorem dksX7_init_1 : cX7_init.data.toList.drop 24 = dktX7_init_1 := dk_seg dksX7_init_0 24 rfl rfl
theorem dksX7_init_2 : cX7_init.data.toList.drop 48 = dktX7_init_2 := dk_seg dksX7_init_1 24 rfl rfl
theorem dksX7_init_3 : cX7_init.data.toList.drop 70 = dktX7_init_3 := dk_seg dksX7_init_2 22 rfl rfl
theorem dksX7_init_4 : cX7_init.data.toList.drop 93 = dktX7_init_4 := dk_seg dksX7_init_3 23 rfl rfl
theorem dksX7_init_5 : cX7_init.data.toList.drop 115 = dktX7_init_5 := dk_seg dksX7_init_4 22 rfl rfl
theorem dksX7_init_6 : cX7_init.data.toList.drop 137 = dktX7_init_6 := dk_seg dksX7_init_5 22 rfl rfl
theorem dksX7_init_7 : cX7_init.data.toList.drop 161 = dktX7_init_7 := dk_seg dksX7_init_6 24 rfl rfl
theorem dksX7_init_8 : cX7_init.data.toList.drop 184 = dktX7_init_8 := dk_seg dksX7_init_7 23 rfl rfl
theorem dksX7_init_9 : cX7_init.data.toList.drop 208 = dktX7_init_9 := dk_seg dksX7_init_8 24 rfl rfl
theorem dX7_init_0 : decode cX7_init 0 = .ok (.aload_n 0, 1) := dk_42 (dk_at dksX7_init_0 0 rfl rfl)
theorem dX7_init_1 : decode cX7_init 1 = .ok (.invokespecial 1, 3) := dk_183 0 1 (dk_at dksX7_init_0 1 rfl rfl)
theorem dX7_init_4 : decode cX7_init 4 = .ok (.aload_n 0, 1) := dk_42 (dk_at dksX7_init_0 4 rfl rfl)
theorem dX7_init_5 : decode cX7_init 5 = .ok (.bipush 72, 2) := dk_16 72 (dk_at dksX7_init_0 5 rfl rfl)
theorem dX7_init_7 : decode cX7_init 7 = .ok (.newarray .int, 2) := dk_188_10 (dk_at dksX7_init_0 7 rfl rfl)
theorem dX7_init_9 : decode cX7_init 9 = .ok (.putfield 7, 3) := dk_181 0 7 (dk_at dksX7_init_0 9 rfl rfl)
theorem dX7_init_12 : decode cX7_init 12 = .ok (.aload_n 0, 1) := dk_42 (dk_at dksX7_init_0 12 rfl rfl)
theorem dX7_init_13 : decode cX7_init 13 = .ok (.bipush 12, 2) := dk_16 12 (dk_at dksX7_init_0 13 rfl rfl)
theorem dX7_init_15 : decode cX7_init 15 = .ok (.newarray .int, 2) := dk_188_10 (dk_at dksX7_init_0 15 rfl rfl)
theorem dX7_init_17 : decode cX7_init 17 = .ok (.putfield 13, 3) := dk_181 0 13 (dk_at dksX7_init_0 17 rfl rfl)
theorem dX7_init_20 : decode cX7_init 20 = .ok (.aload_n 0, 1) := dk_42 (dk_at dksX7_init_0 20 rfl rfl)
theorem dX7_init_21 : decode cX7_init 21 = .ok (.sipush 240, 3) := dk_17 0 240 (dk_at dksX7_init_0 21 rfl rfl)
theorem dX7_init_24 : decode cX7_init 24 = .ok (.newarray .int, 2) := dk_188_10 (dk_at dksX7_init_1 0 rfl rfl)
theorem dX7_init_26 : decode cX7_init 26 = .ok (.putfield 16, 3) := dk_181 0 16 (dk_at dksX7_init_1 2 rfl rfl)
theorem dX7_init_29 : decode cX7_init 29 = .ok (.aload_n 0, 1) := dk_42 (dk_at dksX7_init_1 5 rfl rfl)
theorem dX7_init_30 : decode cX7_init 30 = .ok (.sipush 240, 3) := dk_17 0 240 (dk_at dksX7_init_1 6 rfl rfl)
theorem dX7_init_33 : decode cX7_init 33 = .ok (.newarray .int, 2) := dk_188_10 (dk_at dksX7_init_1 9 rfl rfl)
theorem dX7_init_35 : decode cX7_init 35 = .ok (.putfield 19, 3) := dk_181 0 19 (dk_at dksX7_init_1 11 rfl rfl)
theorem dX7_init_38 : decode cX7_init 38 = .ok (.aload_n 0, 1) := dk_42 (dk_at dksX7_init_1 14 rfl rfl)
theorem dX7_init_39 : decode cX7_init 39 = .ok (.sipush 240, 3) := dk_17 0 240 (dk_at dksX7_init_1 15 rfl rfl)
theorem dX7_init_42 : decode cX7_init 42 = .ok (.newarray .int, 2) := dk_188_10 (dk_at dksX7_init_1 18 rfl rfl)
theorem dX7_init_44 : decode cX7_init 44 = .ok (.putfield 22, 3) := dk_181 0 22 (dk_at dksX7_init_1 20 rfl rfl)
theorem dX7_init_47 : decode cX7_init 47 = .ok (.aload_n 0, 1) := dk_42 (dk_at dksX7_init_1 23 rfl rfl)
theorem dX7_init_48 : decode cX7_init 48 = .ok (.sipush 240, 3) := dk_17 0 240 (dk_at dksX7_init_2 0 rfl rfl)
theorem dX7_init_51 : decode cX7_init 51 = .ok (.newarray .int, 2) := dk_188_10 (dk_at dksX7_init_2 3 rfl rfl)
theorem dX7_init_53 : decode cX7_init 53 = .ok (.putfield 25, 3) := dk_181 0 25 (dk_at dksX7_init_2 5 rfl rfl)
theorem dX7_init_56 : decode cX7_init 56 = .ok (.aload_n 0, 1) := dk_42 (dk_at dksX7_init_2 8 rfl rfl)
theorem dX7_init_57 : decode cX7_init 57 = .ok (.bipush 12, 2) := dk_16 12 (dk_at dksX7_init_2 9 rfl rfl)
theorem dX7_init_59 : decode cX7_init 59 = .ok (.newarray .int, 2) := dk_188_10 (dk_at dksX7_init_2 11 rfl rfl)
theorem dX7_init_61 : decode cX7_init 61 = .ok (.putfield 28, 3) := dk_181 0 28 (dk_at dksX7_init_2 13 rfl rfl)
theorem dX7_init_64 : decode cX7_init 64 = .ok (.aload_n 0, 1) := dk_42 (dk_at dksX7_init_2 16 rfl rfl)
theorem dX7_init_65 : decode cX7_init 65 = .ok (.sipush 4800, 3) := dk_17 18 192 (dk_at dksX7_init_2 17 rfl rfl)
theorem dX7_init_68 : decode cX7_init 68 = .ok (.newarray .int, 2) := dk_188_10 (dk_at dksX7_init_2 20 rfl rfl)
theorem dX7_init_70 : decode cX7_init 70 = .ok (.putfield 31, 3) := dk_181 0 31 (dk_at dksX7_init_3 0 rfl rfl)
theorem dX7_init_73 : decode cX7_init 73 = .ok (.aload_n 0, 1) := dk_42 (dk_at dksX7_init_3 3 rfl rfl)
theorem dX7_init_74 : decode cX7_init 74 = .ok (.bipush 12, 2) := dk_16 12 (dk_at dksX7_init_3 4 rfl rfl)
theorem dX7_init_76 : decode cX7_init 76 = .ok (.newarray .int, 2) := dk_188_10 (dk_at dksX7_init_3 6 rfl rfl)
theorem dX7_init_78 : decode cX7_init 78 = .ok (.putfield 34, 3) := dk_181 0 34 (dk_at dksX7_init_3 8 rfl rfl)
theorem dX7_init_81 : decode cX7_init 81 = .ok (.aload_n 0, 1) := dk_42 (dk_at dksX7_init_3 11 rfl rfl)
theorem dX7_init_82 : decode cX7_init 82 = .ok (.sipush 768, 3) := dk_17 3 0 (dk_at dksX7_init_3 12 rfl rfl)
theorem dX7_init_85 : decode cX7_init 85 = .ok (.newarray .boolean, 2) := dk_188_4 (dk_at dksX7_init_3 15 rfl rfl)
theorem dX7_init_87 : decode cX7_init 87 = .ok (.putfield 37, 3) := dk_181 0 37 (dk_at dksX7_init_3 17 rfl rfl)
theorem dX7_init_90 : decode cX7_init 90 = .ok (.aload_n 0, 1) := dk_42 (dk_at dksX7_init_3 20 rfl rfl)
theorem dX7_init_91 : decode cX7_init 91 = .ok (.bipush 12, 2) := dk_16 12 (dk_at dksX7_init_3 21 rfl rfl)
theorem dX7_init_93 : decode cX7_init 93 = .ok (.newarray .int, 2) := dk_188_10 (dk_at dksX7_init_4 0 rfl rfl)
theorem dX7_init_95 : decode cX7_init 95 = .ok (.putfield 41, 3) := dk_181 0 41 (dk_at dksX7_init_4 2 rfl rfl)
theorem dX7_init_98 : decode cX7_init 98 = .ok (.aload_n 0, 1) := dk_42 (dk_at dksX7_init_4 5 rfl rfl)
theorem dX7_init_99 : decode cX7_init 99 = .ok (.bipush 12, 2) := dk_16 12 (dk_at dksX7_init_4 6 rfl rfl)
theorem dX7_init_101 : decode cX7_init 101 = .ok (.newarray .int, 2) := dk_188_10 (dk_at dksX7_init_4 8 rfl rfl)
theorem dX7_init_103 : decode cX7_init 103 = .ok (.putfield 44, 3) := dk_181 0 44 (dk_at dksX7_init_4 10 rfl rfl)
theorem dX7_init_106 : decode cX7_init 106 = .ok (.aload_n 0, 1) := dk_42 (dk_at dksX7_init_4 13 rfl rfl)
theorem dX7_init_107 : decode cX7_init 107 = .ok (.bipush 12, 2) := dk_16 12 (dk_at dksX7_init_4 14 rfl rfl)
theorem dX7_init_109 : decode cX7_init 109 = .ok (.newarray .int, 2) := dk_188_10 (dk_at dksX7_init_4 16 rfl rfl)
theorem dX7_init_111 : decode cX7_init 111 = .ok (.putfield 47, 3) := dk_181 0 47 (dk_at dksX7_init_4 18 rfl rfl)
theorem dX7_init_114 : decode cX7_init 114 = .ok (.aload_n 0, 1) := dk_42 (dk_at dksX7_init_4 21 rfl rfl)
theorem dX7_init_115 : decode cX7_init 115 = .ok (.sipush 768, 3) := dk_17 3 0 (dk_at dksX7_init_5 0 rfl rfl)
theorem dX7_init_118 : decode cX7_init 118 = .ok (.newarray .int, 2) := dk_188_10 (dk_at dksX7_init_5 3 rfl rfl)
theorem dX7_init_120 : decode cX7_init 120 = .ok (.putfield 50, 3) := dk_181 0 50 (dk_at dksX7_init_5 5 rfl rfl)
theorem dX7_init_123 : decode cX7_init 123 = .ok (.aload_n 0, 1) := dk_42 (dk_at dksX7_init_5 8 rfl rfl)
theorem dX7_init_124 : decode cX7_init 124 = .ok (.sipush 240, 3) := dk_17 0 240 (dk_at dksX7_init_5 9 rfl rfl)
theorem dX7_init_127 : decode cX7_init 127 = .ok (.newarray .int, 2) := dk_188_10 (dk_at dksX7_init_5 12 rfl rfl)
theorem dX7_init_129 : decode cX7_init 129 = .ok (.putfield 53, 3) := dk_181 0 53 (dk_at dksX7_init_5 14 rfl rfl)
theorem dX7_init_132 : decode cX7_init 132 = .ok (.aload_n 0, 1) := dk_42 (dk_at dksX7_init_5 17 rfl rfl)
theorem dX7_init_133 : decode cX7_init 133 = .ok (.bipush 12, 2) := dk_16 12 (dk_at dksX7_init_5 18 rfl rfl)
theorem dX7_init_135 : decode cX7_init 135 = .ok (.newarray .int, 2) := dk_188_10 (dk_at dksX7_init_5 20 rfl rfl)
theorem dX7_init_137 : decode cX7_init 137 = .ok (.putfield 56, 3) := dk_181 0 56 (dk_at dksX7_init_6 0 rfl rfl)
theorem dX7_init_140 : decode cX7_init 140 = .ok (.aload_n 0, 1) := dk_42 (dk_at dksX7_init_6 3 rfl rfl)
theorem dX7_init_141 : decode cX7_init 141 = .ok (.bipush 12, 2) := dk_16 12 (dk_at dksX7_init_6 4 rfl rfl)
theorem dX7_init_143 : decode cX7_init 143 = .ok (.newarray .boolean, 2) := dk_188_4 (dk_at dksX7_init_6 6 rfl rfl)
theorem dX7_init_145 : decode cX7_init 145 = .ok (.putfield 59, 3) := dk_181 0 59 (dk_at dksX7_init_6 8 rfl rfl)
theorem dX7_init_148 : decode cX7_init 148 = .ok (.aload_n 0, 1) := dk_42 (dk_at dksX7_init_6 11 rfl rfl)
theorem dX7_init_149 : decode cX7_init 149 = .ok (.bipush 12, 2) := dk_16 12 (dk_at dksX7_init_6 12 rfl rfl)
theorem dX7_init_151 : decode cX7_init 151 = .ok (.newarray .int, 2) := dk_188_10 (dk_at dksX7_init_6 14 rfl rfl)
theorem dX7_init_153 : decode cX7_init 153 = .ok (.putfield 62, 3) := dk_181 0 62 (dk_at dksX7_init_6 16 rfl rfl)
theorem dX7_init_156 : decode cX7_init 156 = .ok (.aload_n 0, 1) := dk_42 (dk_at dksX7_init_6 19 rfl rfl)
theorem dX7_init_157 : decode cX7_init 157 = .ok (.bipush 12, 2) := dk_16 12 (dk_at dksX7_init_6 20 rfl rfl)
theorem dX7_init_159 : decode cX7_init 159 = .ok (.newarray .int, 2) := dk_188_10 (dk_at dksX7_init_6 22 rfl rfl)
theorem dX7_init_161 : decode cX7_init 161 = .ok (.putfield 65, 3) := dk_181 0 65 (dk_at dksX7_init_7 0 rfl rfl)
theorem dX7_init_164 : decode cX7_init 164 = .ok (.aload_n 0, 1) := dk_42 (dk_at dksX7_init_7 3 rfl rfl)
theorem dX7_init_165 : decode cX7_init 165 = .ok (.iconst (-1), 1) := dk_2 (dk_at dksX7_init_7 4 rfl rfl)
theorem dX7_init_166 : decode cX7_init 166 = .ok (.putfield 68, 3) := dk_181 0 68 (dk_at dksX7_init_7 5 rfl rfl)
theorem dX7_init_169 : decode cX7_init 169 = .ok (.aload_n 0, 1) := dk_42 (dk_at dksX7_init_7 8 rfl rfl)
theorem dX7_init_170 : decode cX7_init 170 = .ok (.iconst (-1), 1) := dk_2 (dk_at dksX7_init_7 9 rfl rfl)
theorem dX7_init_171 : decode cX7_init 171 = .ok (.putfield 72, 3) := dk_181 0 72 (dk_at dksX7_init_7 10 rfl rfl)
theorem dX7_init_174 : decode cX7_init 174 = .ok (.aload_n 0, 1) := dk_42 (dk_at dksX7_init_7 13 rfl rfl)
theorem dX7_init_175 : decode cX7_init 175 = .ok (.iconst (-1), 1) := dk_2 (dk_at dksX7_init_7 14 rfl rfl)
theorem dX7_init_176 : decode cX7_init 176 = .ok (.putfield 75, 3) := dk_181 0 75 (dk_at dksX7_init_7 15 rfl rfl)
theorem dX7_init_179 : decode cX7_init 179 = .ok (.aload_n 0, 1) := dk_42 (dk_at dksX7_init_7 18 rfl rfl)
theorem dX7_init_180 : decode cX7_init 180 = .ok (.bipush 8, 2) := dk_16 8 (dk_at dksX7_init_7 19 rfl rfl)
theorem dX7_init_182 : decode cX7_init 182 = .ok (.newarray .int, 2) := dk_188_10 (dk_at dksX7_init_7 21 rfl rfl)
theorem dX7_init_184 : decode cX7_init 184 = .ok (.putfield 78, 3) := dk_181 0 78 (dk_at dksX7_init_8 0 rfl rfl)
theorem dX7_init_187 : decode cX7_init 187 = .ok (.aload_n 0, 1) := dk_42 (dk_at dksX7_init_8 3 rfl rfl)
theorem dX7_init_188 : decode cX7_init 188 = .ok (.bipush 60, 2) := dk_16 60 (dk_at dksX7_init_8 4 rfl rfl)
theorem dX7_init_190 : decode cX7_init 190 = .ok (.newarray .int, 2) := dk_188_10 (dk_at dksX7_init_8 6 rfl rfl)
theorem dX7_init_192 : decode cX7_init 192 = .ok (.putfield 81, 3) := dk_181 0 81 (dk_at dksX7_init_8 8 rfl rfl)
theorem dX7_init_195 : decode cX7_init 195 = .ok (.aload_n 0, 1) := dk_42 (dk_at dksX7_init_8 11 rfl rfl)
theorem dX7_init_196 : decode cX7_init 196 = .ok (.bipush 101, 2) := dk_16 101 (dk_at dksX7_init_8 12 rfl rfl)
theorem dX7_init_198 : decode cX7_init 198 = .ok (.newarray .int, 2) := dk_188_10 (dk_at dksX7_init_8 14 rfl rfl)
theorem dX7_init_200 : decode cX7_init 200 = .ok (.putfield 84, 3) := dk_181 0 84 (dk_at dksX7_init_8 16 rfl rfl)
theorem dX7_init_203 : decode cX7_init 203 = .ok (.aload_n 0, 1) := dk_42 (dk_at dksX7_init_8 19 rfl rfl)
theorem dX7_init_204 : decode cX7_init 204 = .ok (.bipush 101, 2) := dk_16 101 (dk_at dksX7_init_8 20 rfl rfl)
theorem dX7_init_206 : decode cX7_init 206 = .ok (.newarray .int, 2) := dk_188_10 (dk_at dksX7_init_8 22 rfl rfl)
theorem dX7_init_208 : decode cX7_init 208 = .ok (.putfield 87, 3) := dk_181 0 87 (dk_at dksX7_init_9 0 rfl rfl)
theorem dX7_init_211 : decode cX7_init 211 = .ok (.return_, 1) := dk_177 (dk_at dksX7_init_9 3 rfl rfl)
abbrev cX7_module : ByteArray := prog_11_method_6_code
def yX7_module : MethodName := ⟨RX7, "module", "()I"⟩
def dkwX7_module_1 : List UInt8 := [180, 0, 90, 4, 96, 181, 0, 90, 42, 180, 0, 90, 4, 100, 172]
abbrev dktX7_module_1 : List UInt8 := dkwX7_module_1 ++ []
def dkwX7_module_0 : List UInt8 := [42, 180, 0, 90, 16, 12, 160, 0, 5, 2, 172, 42, 180, 0, 41, 42, 180, 0, 90, 2, 79, 42, 89]
abbrev dktX7_module_0 : List UInt8 := dkwX7_module_0 ++ dktX7_module_1
theorem dksX7_module_0 : cX7_module.data.toList.drop 0 = dktX7_module_0 := by decide +kernel
theorem dksX7_module_1 : cX7_module.data.toList.drop 23 = dktX7_module_1 := dk_seg dksX7_module_0 23 rfl rfl
theorem dX7_module_0 : decode cX7_module 0 = .ok (.aload_n 0, 1) := dk_42 (dk_at dksX7_module_0 0 rfl rfl)
theorem dX7_module_1 : decode cX7_module 1 = .ok (.getfield 90, 3) := dk_180 0 90 (dk_at dksX7_module_0 1 rfl rfl)
theorem dX7_module_4 : decode cX7_module 4 = .ok (.bipush 12, 2) := dk_16 12 (dk_at dksX7_module_0 4 rfl rfl)
theorem dX7_module_6 : decode cX7_module 6 = .ok (.if_icmp .ne 5, 3) := dk_160 0 5 (dk_at dksX7_module_0 6 rfl rfl)
theorem dX7_module_9 : decode cX7_module 9 = .ok (.iconst (-1), 1) := dk_2 (dk_at dksX7_module_0 9 rfl rfl)
theorem dX7_module_10 : decode cX7_module 10 = .ok (.ireturn, 1) := dk_172 (dk_at dksX7_module_0 10 rfl rfl)
theorem dX7_module_11 : decode cX7_module 11 = .ok (.aload_n 0, 1) := dk_42 (dk_at dksX7_module_0 11 rfl rfl)
theorem dX7_module_12 : decode cX7_module 12 = .ok (.getfield 41, 3) := dk_180 0 41 (dk_at dksX7_module_0 12 rfl rfl)
theorem dX7_module_15 : decode cX7_module 15 = .ok (.aload_n 0, 1) := dk_42 (dk_at dksX7_module_0 15 rfl rfl)
theorem dX7_module_16 : decode cX7_module 16 = .ok (.getfield 90, 3) := dk_180 0 90 (dk_at dksX7_module_0 16 rfl rfl)
theorem dX7_module_19 : decode cX7_module 19 = .ok (.iconst (-1), 1) := dk_2 (dk_at dksX7_module_0 19 rfl rfl)
theorem dX7_module_20 : decode cX7_module 20 = .ok (.iastore, 1) := dk_79 (dk_at dksX7_module_0 20 rfl rfl)
theorem dX7_module_21 : decode cX7_module 21 = .ok (.aload_n 0, 1) := dk_42 (dk_at dksX7_module_0 21 rfl rfl)
theorem dX7_module_22 : decode cX7_module 22 = .ok (.dup, 1) := dk_89 (dk_at dksX7_module_0 22 rfl rfl)
theorem dX7_module_23 : decode cX7_module 23 = .ok (.getfield 90, 3) := dk_180 0 90 (dk_at dksX7_module_1 0 rfl rfl)
theorem dX7_module_26 : decode cX7_module 26 = .ok (.iconst 1, 1) := dk_4 (dk_at dksX7_module_1 3 rfl rfl)
theorem dX7_module_27 : decode cX7_module 27 = .ok (.iadd, 1) := dk_96 (dk_at dksX7_module_1 4 rfl rfl)
theorem dX7_module_28 : decode cX7_module 28 = .ok (.putfield 90, 3) := dk_181 0 90 (dk_at dksX7_module_1 5 rfl rfl)
theorem dX7_module_31 : decode cX7_module 31 = .ok (.aload_n 0, 1) := dk_42 (dk_at dksX7_module_1 8 rfl rfl)
theorem dX7_module_32 : decode cX7_module 32 = .ok (.getfield 90, 3) := dk_180 0 90 (dk_at dksX7_module_1 9 rfl rfl)
theorem dX7_module_35 : decode cX7_module 35 = .ok (.iconst 1, 1) := dk_4 (dk_at dksX7_module_1 12 rfl rfl)
theorem dX7_module_36 : decode cX7_module 36 = .ok (.isub, 1) := dk_100 (dk_at dksX7_module_1 13 rfl rfl)
theorem dX7_module_37 : decode cX7_module 37 = .ok (.ireturn, 1) := dk_172 (dk_at dksX7_module_1 14 rfl rfl)
abbrev cX7_need : ByteArray := prog_11_method_7_code
def yX7_need : MethodName := ⟨RX7, "need", "(II)I"⟩
def dkwX7_need_4 : List UInt8 := [42, 180, 0, 13, 27, 46, 172]
abbrev dktX7_need_4 : List UInt8 := dkwX7_need_4 ++ []
def dkwX7_need_3 : List UInt8 := [42, 180, 0, 13, 27, 46, 96, 28, 79, 42, 180, 0, 13, 27, 92, 46, 4, 96, 79, 42, 3, 181, 0, 97]
abbrev dktX7_need_3 : List UInt8 := dkwX7_need_3 ++ dktX7_need_4
def dkwX7_need_2 : List UInt8 := [104, 29, 96, 46, 28, 160, 0, 5, 2, 172, 132, 3, 1, 167, 255, 226, 42, 180, 0, 7, 16, 6, 27, 104]
abbrev dktX7_need_2 : List UInt8 := dkwX7_need_2 ++ dktX7_need_3
def dkwX7_need_1 : List UInt8 := [160, 0, 5, 2, 172, 3, 62, 29, 42, 180, 0, 13, 27, 46, 162, 0, 26, 42, 180, 0, 7, 16, 6, 27]
abbrev dktX7_need_1 : List UInt8 := dkwX7_need_1 ++ dktX7_need_2
def dkwX7_need_0 : List UInt8 := [42, 27, 182, 0, 93, 153, 0, 22, 42, 28, 182, 0, 93, 153, 0, 14, 42, 180, 0, 13, 27, 46, 16, 6]
abbrev dktX7_need_0 : List UInt8 := dkwX7_need_0 ++ dktX7_need_1
theorem dksX7_need_0 : cX7_need.data.toList.drop 0 = dktX7_need_0 := by decide +kernel
theorem dksX7_need_1 : cX7_need.data.toList.drop 24 = dktX7_need_1 := dk_seg dksX7_need_0 24 rfl rfl
theorem dksX7_need_2 : cX7_need.data.toList.drop 48 = dktX7_need_2 := dk_seg dksX7_need_1 24 rfl rfl
theorem dksX7_need_3 : cX7_need.data.toList.drop 72 = dktX7_need_3 := dk_seg dksX7_need_2 24 rfl rfl
theorem dksX7_need_4 : cX7_need.data.toList.drop 96 = dktX7_need_4 := dk_seg dksX7_need_3 24 rfl rfl
theorem dX7_need_0 : decode cX7_need 0 = .ok (.aload_n 0, 1) := dk_42 (dk_at dksX7_need_0 0 rfl rfl)
theorem dX7_need_1 : decode cX7_need 1 = .ok (.iload_n 1, 1) := dk_27 (dk_at dksX7_need_0 1 rfl rfl)
theorem dX7_need_2 : decode cX7_need 2 = .ok (.invokevirtual 93, 3) := dk_182 0 93 (dk_at dksX7_need_0 2 rfl rfl)
theorem dX7_need_5 : decode cX7_need 5 = .ok (.ifCond .eq 22, 3) := dk_153 0 22 (dk_at dksX7_need_0 5 rfl rfl)
theorem dX7_need_8 : decode cX7_need 8 = .ok (.aload_n 0, 1) := dk_42 (dk_at dksX7_need_0 8 rfl rfl)
theorem dX7_need_9 : decode cX7_need 9 = .ok (.iload_n 2, 1) := dk_28 (dk_at dksX7_need_0 9 rfl rfl)
theorem dX7_need_10 : decode cX7_need 10 = .ok (.invokevirtual 93, 3) := dk_182 0 93 (dk_at dksX7_need_0 10 rfl rfl)
theorem dX7_need_13 : decode cX7_need 13 = .ok (.ifCond .eq 14, 3) := dk_153 0 14 (dk_at dksX7_need_0 13 rfl rfl)
theorem dX7_need_16 : decode cX7_need 16 = .ok (.aload_n 0, 1) := dk_42 (dk_at dksX7_need_0 16 rfl rfl)
theorem dX7_need_17 : decode cX7_need 17 = .ok (.getfield 13, 3) := dk_180 0 13 (dk_at dksX7_need_0 17 rfl rfl)
theorem dX7_need_20 : decode cX7_need 20 = .ok (.iload_n 1, 1) := dk_27 (dk_at dksX7_need_0 20 rfl rfl)
theorem dX7_need_21 : decode cX7_need 21 = .ok (.iaload, 1) := dk_46 (dk_at dksX7_need_0 21 rfl rfl)
theorem dX7_need_22 : decode cX7_need 22 = .ok (.bipush 6, 2) := dk_16 6 (dk_at dksX7_need_0 22 rfl rfl)
theorem dX7_need_24 : decode cX7_need 24 = .ok (.if_icmp .ne 5, 3) := dk_160 0 5 (dk_at dksX7_need_1 0 rfl rfl)
theorem dX7_need_27 : decode cX7_need 27 = .ok (.iconst (-1), 1) := dk_2 (dk_at dksX7_need_1 3 rfl rfl)
theorem dX7_need_28 : decode cX7_need 28 = .ok (.ireturn, 1) := dk_172 (dk_at dksX7_need_1 4 rfl rfl)
theorem dX7_need_29 : decode cX7_need 29 = .ok (.iconst 0, 1) := dk_3 (dk_at dksX7_need_1 5 rfl rfl)
theorem dX7_need_30 : decode cX7_need 30 = .ok (.istore_n 3, 1) := dk_62 (dk_at dksX7_need_1 6 rfl rfl)
theorem dX7_need_31 : decode cX7_need 31 = .ok (.iload_n 3, 1) := dk_29 (dk_at dksX7_need_1 7 rfl rfl)
theorem dX7_need_32 : decode cX7_need 32 = .ok (.aload_n 0, 1) := dk_42 (dk_at dksX7_need_1 8 rfl rfl)
theorem dX7_need_33 : decode cX7_need 33 = .ok (.getfield 13, 3) := dk_180 0 13 (dk_at dksX7_need_1 9 rfl rfl)
theorem dX7_need_36 : decode cX7_need 36 = .ok (.iload_n 1, 1) := dk_27 (dk_at dksX7_need_1 12 rfl rfl)
theorem dX7_need_37 : decode cX7_need 37 = .ok (.iaload, 1) := dk_46 (dk_at dksX7_need_1 13 rfl rfl)
theorem dX7_need_38 : decode cX7_need 38 = .ok (.if_icmp .ge 26, 3) := dk_162 0 26 (dk_at dksX7_need_1 14 rfl rfl)
theorem dX7_need_41 : decode cX7_need 41 = .ok (.aload_n 0, 1) := dk_42 (dk_at dksX7_need_1 17 rfl rfl)
theorem dX7_need_42 : decode cX7_need 42 = .ok (.getfield 7, 3) := dk_180 0 7 (dk_at dksX7_need_1 18 rfl rfl)
theorem dX7_need_45 : decode cX7_need 45 = .ok (.bipush 6, 2) := dk_16 6 (dk_at dksX7_need_1 21 rfl rfl)
theorem dX7_need_47 : decode cX7_need 47 = .ok (.iload_n 1, 1) := dk_27 (dk_at dksX7_need_1 23 rfl rfl)
theorem dX7_need_48 : decode cX7_need 48 = .ok (.imul, 1) := dk_104 (dk_at dksX7_need_2 0 rfl rfl)
theorem dX7_need_49 : decode cX7_need 49 = .ok (.iload_n 3, 1) := dk_29 (dk_at dksX7_need_2 1 rfl rfl)
theorem dX7_need_50 : decode cX7_need 50 = .ok (.iadd, 1) := dk_96 (dk_at dksX7_need_2 2 rfl rfl)
theorem dX7_need_51 : decode cX7_need 51 = .ok (.iaload, 1) := dk_46 (dk_at dksX7_need_2 3 rfl rfl)
theorem dX7_need_52 : decode cX7_need 52 = .ok (.iload_n 2, 1) := dk_28 (dk_at dksX7_need_2 4 rfl rfl)
theorem dX7_need_53 : decode cX7_need 53 = .ok (.if_icmp .ne 5, 3) := dk_160 0 5 (dk_at dksX7_need_2 5 rfl rfl)
theorem dX7_need_56 : decode cX7_need 56 = .ok (.iconst (-1), 1) := dk_2 (dk_at dksX7_need_2 8 rfl rfl)
theorem dX7_need_57 : decode cX7_need 57 = .ok (.ireturn, 1) := dk_172 (dk_at dksX7_need_2 9 rfl rfl)
theorem dX7_need_58 : decode cX7_need 58 = .ok (.iinc 3 1, 3) := dk_132 3 1 (dk_at dksX7_need_2 10 rfl rfl)
theorem dX7_need_61 : decode cX7_need 61 = .ok (.goto (-30), 3) := dk_167 255 226 (dk_at dksX7_need_2 13 rfl rfl)
theorem dX7_need_64 : decode cX7_need 64 = .ok (.aload_n 0, 1) := dk_42 (dk_at dksX7_need_2 16 rfl rfl)
theorem dX7_need_65 : decode cX7_need 65 = .ok (.getfield 7, 3) := dk_180 0 7 (dk_at dksX7_need_2 17 rfl rfl)
theorem dX7_need_68 : decode cX7_need 68 = .ok (.bipush 6, 2) := dk_16 6 (dk_at dksX7_need_2 20 rfl rfl)
theorem dX7_need_70 : decode cX7_need 70 = .ok (.iload_n 1, 1) := dk_27 (dk_at dksX7_need_2 22 rfl rfl)
theorem dX7_need_71 : decode cX7_need 71 = .ok (.imul, 1) := dk_104 (dk_at dksX7_need_2 23 rfl rfl)
theorem dX7_need_72 : decode cX7_need 72 = .ok (.aload_n 0, 1) := dk_42 (dk_at dksX7_need_3 0 rfl rfl)
theorem dX7_need_73 : decode cX7_need 73 = .ok (.getfield 13, 3) := dk_180 0 13 (dk_at dksX7_need_3 1 rfl rfl)
theorem dX7_need_76 : decode cX7_need 76 = .ok (.iload_n 1, 1) := dk_27 (dk_at dksX7_need_3 4 rfl rfl)
theorem dX7_need_77 : decode cX7_need 77 = .ok (.iaload, 1) := dk_46 (dk_at dksX7_need_3 5 rfl rfl)
theorem dX7_need_78 : decode cX7_need 78 = .ok (.iadd, 1) := dk_96 (dk_at dksX7_need_3 6 rfl rfl)
theorem dX7_need_79 : decode cX7_need 79 = .ok (.iload_n 2, 1) := dk_28 (dk_at dksX7_need_3 7 rfl rfl)
theorem dX7_need_80 : decode cX7_need 80 = .ok (.iastore, 1) := dk_79 (dk_at dksX7_need_3 8 rfl rfl)
theorem dX7_need_81 : decode cX7_need 81 = .ok (.aload_n 0, 1) := dk_42 (dk_at dksX7_need_3 9 rfl rfl)
theorem dX7_need_82 : decode cX7_need 82 = .ok (.getfield 13, 3) := dk_180 0 13 (dk_at dksX7_need_3 10 rfl rfl)
theorem dX7_need_85 : decode cX7_need 85 = .ok (.iload_n 1, 1) := dk_27 (dk_at dksX7_need_3 13 rfl rfl)
theorem dX7_need_86 : decode cX7_need 86 = .ok (.dup2, 1) := dk_92 (dk_at dksX7_need_3 14 rfl rfl)
theorem dX7_need_87 : decode cX7_need 87 = .ok (.iaload, 1) := dk_46 (dk_at dksX7_need_3 15 rfl rfl)
theorem dX7_need_88 : decode cX7_need 88 = .ok (.iconst 1, 1) := dk_4 (dk_at dksX7_need_3 16 rfl rfl)
theorem dX7_need_89 : decode cX7_need 89 = .ok (.iadd, 1) := dk_96 (dk_at dksX7_need_3 17 rfl rfl)
theorem dX7_need_90 : decode cX7_need 90 = .ok (.iastore, 1) := dk_79 (dk_at dksX7_need_3 18 rfl rfl)
theorem dX7_need_91 : decode cX7_need 91 = .ok (.aload_n 0, 1) := dk_42 (dk_at dksX7_need_3 19 rfl rfl)
theorem dX7_need_92 : decode cX7_need 92 = .ok (.iconst 0, 1) := dk_3 (dk_at dksX7_need_3 20 rfl rfl)
theorem dX7_need_93 : decode cX7_need 93 = .ok (.putfield 97, 3) := dk_181 0 97 (dk_at dksX7_need_3 21 rfl rfl)
theorem dX7_need_96 : decode cX7_need 96 = .ok (.aload_n 0, 1) := dk_42 (dk_at dksX7_need_4 0 rfl rfl)
theorem dX7_need_97 : decode cX7_need 97 = .ok (.getfield 13, 3) := dk_180 0 13 (dk_at dksX7_need_4 1 rfl rfl)
theorem dX7_need_100 : decode cX7_need 100 = .ok (.iload_n 1, 1) := dk_27 (dk_at dksX7_need_4 4 rfl rfl)
theorem dX7_need_101 : decode cX7_need 101 = .ok (.iaload, 1) := dk_46 (dk_at dksX7_need_4 5 rfl rfl)
theorem dX7_need_102 : decode cX7_need 102 = .ok (.ireturn, 1) := dk_172 (dk_at dksX7_need_4 6 rfl rfl)
abbrev cX7_isModule : ByteArray := prog_11_method_2_code
def yX7_isModule : MethodName := ⟨RX7, "isModule", "(I)Z"⟩
def dkwX7_isModule_0 : List UInt8 := [27, 155, 0, 15, 27, 42, 180, 0, 90, 162, 0, 7, 4, 167, 0, 4, 3, 172]
abbrev dktX7_isModule_0 : List UInt8 := dkwX7_isModule_0 ++ []
theorem dksX7_isModule_0 : cX7_isModule.data.toList.drop 0 = dktX7_isModule_0 := by decide +kernel
theorem dX7_isModule_0 : decode cX7_isModule 0 = .ok (.iload_n 1, 1) := dk_27 (dk_at dksX7_isModule_0 0 rfl rfl)
theorem dX7_isModule_1 : decode cX7_isModule 1 = .ok (.ifCond .lt 15, 3) := dk_155 0 15 (dk_at dksX7_isModule_0 1 rfl rfl)
theorem dX7_isModule_4 : decode cX7_isModule 4 = .ok (.iload_n 1, 1) := dk_27 (dk_at dksX7_isModule_0 4 rfl rfl)
theorem dX7_isModule_5 : decode cX7_isModule 5 = .ok (.aload_n 0, 1) := dk_42 (dk_at dksX7_isModule_0 5 rfl rfl)
theorem dX7_isModule_6 : decode cX7_isModule 6 = .ok (.getfield 90, 3) := dk_180 0 90 (dk_at dksX7_isModule_0 6 rfl rfl)
theorem dX7_isModule_9 : decode cX7_isModule 9 = .ok (.if_icmp .ge 7, 3) := dk_162 0 7 (dk_at dksX7_isModule_0 9 rfl rfl)
theorem dX7_isModule_12 : decode cX7_isModule 12 = .ok (.iconst 1, 1) := dk_4 (dk_at dksX7_isModule_0 12 rfl rfl)
theorem dX7_isModule_13 : decode cX7_isModule 13 = .ok (.goto 4, 3) := dk_167 0 4 (dk_at dksX7_isModule_0 13 rfl rfl)
theorem dX7_isModule_16 : decode cX7_isModule 16 = .ok (.iconst 0, 1) := dk_3 (dk_at dksX7_isModule_0 16 rfl rfl)
theorem dX7_isModule_17 : decode cX7_isModule 17 = .ok (.ireturn, 1) := dk_172 (dk_at dksX7_isModule_0 17 rfl rfl)
abbrev cX7_define : ByteArray := prog_11_method_9_code
def yX7_define : MethodName := ⟨RX7, "define", "(IIIII)I"⟩
def dkwX7_define_5 : List UInt8 := [180, 0, 28, 27, 92, 46, 4, 96, 79, 42, 3, 181, 0, 97, 42, 180, 0, 28, 27, 46, 172]
abbrev dktX7_define_5 : List UInt8 := dkwX7_define_5 ++ []
def dkwX7_define_4 : List UInt8 := [21, 6, 29, 79, 42, 180, 0, 22, 21, 6, 21, 4, 79, 42, 180, 0, 25, 21, 6, 21, 5, 79, 42]
abbrev dktX7_define_4 : List UInt8 := dkwX7_define_4 ++ dktX7_define_5
def dkwX7_define_3 : List UInt8 := [27, 104, 42, 180, 0, 28, 27, 46, 96, 54, 6, 42, 180, 0, 16, 21, 6, 28, 79, 42, 180, 0, 19]
abbrev dktX7_define_3 : List UInt8 := dkwX7_define_3 ++ dktX7_define_4
def dkwX7_define_2 : List UInt8 := [27, 28, 182, 0, 107, 2, 160, 0, 14, 42, 180, 0, 28, 27, 46, 16, 20, 160, 0, 5, 2, 172, 16, 20]
abbrev dktX7_define_2 : List UInt8 := dkwX7_define_2 ++ dktX7_define_3
def dkwX7_define_1 : List UInt8 := [21, 5, 155, 0, 42, 21, 5, 8, 163, 0, 36, 29, 154, 0, 11, 21, 4, 184, 0, 104, 153, 0, 24, 42]
abbrev dktX7_define_1 : List UInt8 := dkwX7_define_1 ++ dktX7_define_2
def dkwX7_define_0 : List UInt8 := [42, 27, 182, 0, 93, 153, 0, 63, 28, 184, 0, 101, 153, 0, 56, 29, 155, 0, 52, 29, 4, 163, 0, 47]
abbrev dktX7_define_0 : List UInt8 := dkwX7_define_0 ++ dktX7_define_1
theorem dksX7_define_0 : cX7_define.data.toList.drop 0 = dktX7_define_0 := by decide +kernel
theorem dksX7_define_1 : cX7_define.data.toList.drop 24 = dktX7_define_1 := dk_seg dksX7_define_0 24 rfl rfl
theorem dksX7_define_2 : cX7_define.data.toList.drop 48 = dktX7_define_2 := dk_seg dksX7_define_1 24 rfl rfl
theorem dksX7_define_3 : cX7_define.data.toList.drop 72 = dktX7_define_3 := dk_seg dksX7_define_2 24 rfl rfl
theorem dksX7_define_4 : cX7_define.data.toList.drop 95 = dktX7_define_4 := dk_seg dksX7_define_3 23 rfl rfl
theorem dksX7_define_5 : cX7_define.data.toList.drop 118 = dktX7_define_5 := dk_seg dksX7_define_4 23 rfl rfl
theorem dX7_define_0 : decode cX7_define 0 = .ok (.aload_n 0, 1) := dk_42 (dk_at dksX7_define_0 0 rfl rfl)
theorem dX7_define_1 : decode cX7_define 1 = .ok (.iload_n 1, 1) := dk_27 (dk_at dksX7_define_0 1 rfl rfl)
theorem dX7_define_2 : decode cX7_define 2 = .ok (.invokevirtual 93, 3) := dk_182 0 93 (dk_at dksX7_define_0 2 rfl rfl)
theorem dX7_define_5 : decode cX7_define 5 = .ok (.ifCond .eq 63, 3) := dk_153 0 63 (dk_at dksX7_define_0 5 rfl rfl)
theorem dX7_define_8 : decode cX7_define 8 = .ok (.iload_n 2, 1) := dk_28 (dk_at dksX7_define_0 8 rfl rfl)
theorem dX7_define_9 : decode cX7_define 9 = .ok (.invokestatic 101, 3) := dk_184 0 101 (dk_at dksX7_define_0 9 rfl rfl)
theorem dX7_define_12 : decode cX7_define 12 = .ok (.ifCond .eq 56, 3) := dk_153 0 56 (dk_at dksX7_define_0 12 rfl rfl)
theorem dX7_define_15 : decode cX7_define 15 = .ok (.iload_n 3, 1) := dk_29 (dk_at dksX7_define_0 15 rfl rfl)
theorem dX7_define_16 : decode cX7_define 16 = .ok (.ifCond .lt 52, 3) := dk_155 0 52 (dk_at dksX7_define_0 16 rfl rfl)
theorem dX7_define_19 : decode cX7_define 19 = .ok (.iload_n 3, 1) := dk_29 (dk_at dksX7_define_0 19 rfl rfl)
theorem dX7_define_20 : decode cX7_define 20 = .ok (.iconst 1, 1) := dk_4 (dk_at dksX7_define_0 20 rfl rfl)
theorem dX7_define_21 : decode cX7_define 21 = .ok (.if_icmp .gt 47, 3) := dk_163 0 47 (dk_at dksX7_define_0 21 rfl rfl)
theorem dX7_define_24 : decode cX7_define 24 = .ok (.iload 5, 2) := dk_21 5 (dk_at dksX7_define_1 0 rfl rfl)
theorem dX7_define_26 : decode cX7_define 26 = .ok (.ifCond .lt 42, 3) := dk_155 0 42 (dk_at dksX7_define_1 2 rfl rfl)
theorem dX7_define_29 : decode cX7_define 29 = .ok (.iload 5, 2) := dk_21 5 (dk_at dksX7_define_1 5 rfl rfl)
theorem dX7_define_31 : decode cX7_define 31 = .ok (.iconst 5, 1) := dk_8 (dk_at dksX7_define_1 7 rfl rfl)
theorem dX7_define_32 : decode cX7_define 32 = .ok (.if_icmp .gt 36, 3) := dk_163 0 36 (dk_at dksX7_define_1 8 rfl rfl)
theorem dX7_define_35 : decode cX7_define 35 = .ok (.iload_n 3, 1) := dk_29 (dk_at dksX7_define_1 11 rfl rfl)
theorem dX7_define_36 : decode cX7_define 36 = .ok (.ifCond .ne 11, 3) := dk_154 0 11 (dk_at dksX7_define_1 12 rfl rfl)
theorem dX7_define_39 : decode cX7_define 39 = .ok (.iload 4, 2) := dk_21 4 (dk_at dksX7_define_1 15 rfl rfl)
theorem dX7_define_41 : decode cX7_define 41 = .ok (.invokestatic 104, 3) := dk_184 0 104 (dk_at dksX7_define_1 17 rfl rfl)
theorem dX7_define_44 : decode cX7_define 44 = .ok (.ifCond .eq 24, 3) := dk_153 0 24 (dk_at dksX7_define_1 20 rfl rfl)
theorem dX7_define_47 : decode cX7_define 47 = .ok (.aload_n 0, 1) := dk_42 (dk_at dksX7_define_1 23 rfl rfl)
theorem dX7_define_48 : decode cX7_define 48 = .ok (.iload_n 1, 1) := dk_27 (dk_at dksX7_define_2 0 rfl rfl)
theorem dX7_define_49 : decode cX7_define 49 = .ok (.iload_n 2, 1) := dk_28 (dk_at dksX7_define_2 1 rfl rfl)
theorem dX7_define_50 : decode cX7_define 50 = .ok (.invokevirtual 107, 3) := dk_182 0 107 (dk_at dksX7_define_2 2 rfl rfl)
theorem dX7_define_53 : decode cX7_define 53 = .ok (.iconst (-1), 1) := dk_2 (dk_at dksX7_define_2 5 rfl rfl)
theorem dX7_define_54 : decode cX7_define 54 = .ok (.if_icmp .ne 14, 3) := dk_160 0 14 (dk_at dksX7_define_2 6 rfl rfl)
theorem dX7_define_57 : decode cX7_define 57 = .ok (.aload_n 0, 1) := dk_42 (dk_at dksX7_define_2 9 rfl rfl)
theorem dX7_define_58 : decode cX7_define 58 = .ok (.getfield 28, 3) := dk_180 0 28 (dk_at dksX7_define_2 10 rfl rfl)
theorem dX7_define_61 : decode cX7_define 61 = .ok (.iload_n 1, 1) := dk_27 (dk_at dksX7_define_2 13 rfl rfl)
theorem dX7_define_62 : decode cX7_define 62 = .ok (.iaload, 1) := dk_46 (dk_at dksX7_define_2 14 rfl rfl)
theorem dX7_define_63 : decode cX7_define 63 = .ok (.bipush 20, 2) := dk_16 20 (dk_at dksX7_define_2 15 rfl rfl)
theorem dX7_define_65 : decode cX7_define 65 = .ok (.if_icmp .ne 5, 3) := dk_160 0 5 (dk_at dksX7_define_2 17 rfl rfl)
theorem dX7_define_68 : decode cX7_define 68 = .ok (.iconst (-1), 1) := dk_2 (dk_at dksX7_define_2 20 rfl rfl)
theorem dX7_define_69 : decode cX7_define 69 = .ok (.ireturn, 1) := dk_172 (dk_at dksX7_define_2 21 rfl rfl)
theorem dX7_define_70 : decode cX7_define 70 = .ok (.bipush 20, 2) := dk_16 20 (dk_at dksX7_define_2 22 rfl rfl)
theorem dX7_define_72 : decode cX7_define 72 = .ok (.iload_n 1, 1) := dk_27 (dk_at dksX7_define_3 0 rfl rfl)
theorem dX7_define_73 : decode cX7_define 73 = .ok (.imul, 1) := dk_104 (dk_at dksX7_define_3 1 rfl rfl)
theorem dX7_define_74 : decode cX7_define 74 = .ok (.aload_n 0, 1) := dk_42 (dk_at dksX7_define_3 2 rfl rfl)
theorem dX7_define_75 : decode cX7_define 75 = .ok (.getfield 28, 3) := dk_180 0 28 (dk_at dksX7_define_3 3 rfl rfl)
theorem dX7_define_78 : decode cX7_define 78 = .ok (.iload_n 1, 1) := dk_27 (dk_at dksX7_define_3 6 rfl rfl)
theorem dX7_define_79 : decode cX7_define 79 = .ok (.iaload, 1) := dk_46 (dk_at dksX7_define_3 7 rfl rfl)
theorem dX7_define_80 : decode cX7_define 80 = .ok (.iadd, 1) := dk_96 (dk_at dksX7_define_3 8 rfl rfl)
theorem dX7_define_81 : decode cX7_define 81 = .ok (.istore 6, 2) := dk_54 6 (dk_at dksX7_define_3 9 rfl rfl)
theorem dX7_define_83 : decode cX7_define 83 = .ok (.aload_n 0, 1) := dk_42 (dk_at dksX7_define_3 11 rfl rfl)
theorem dX7_define_84 : decode cX7_define 84 = .ok (.getfield 16, 3) := dk_180 0 16 (dk_at dksX7_define_3 12 rfl rfl)
theorem dX7_define_87 : decode cX7_define 87 = .ok (.iload 6, 2) := dk_21 6 (dk_at dksX7_define_3 15 rfl rfl)
theorem dX7_define_89 : decode cX7_define 89 = .ok (.iload_n 2, 1) := dk_28 (dk_at dksX7_define_3 17 rfl rfl)
theorem dX7_define_90 : decode cX7_define 90 = .ok (.iastore, 1) := dk_79 (dk_at dksX7_define_3 18 rfl rfl)
theorem dX7_define_91 : decode cX7_define 91 = .ok (.aload_n 0, 1) := dk_42 (dk_at dksX7_define_3 19 rfl rfl)
theorem dX7_define_92 : decode cX7_define 92 = .ok (.getfield 19, 3) := dk_180 0 19 (dk_at dksX7_define_3 20 rfl rfl)
theorem dX7_define_95 : decode cX7_define 95 = .ok (.iload 6, 2) := dk_21 6 (dk_at dksX7_define_4 0 rfl rfl)
theorem dX7_define_97 : decode cX7_define 97 = .ok (.iload_n 3, 1) := dk_29 (dk_at dksX7_define_4 2 rfl rfl)
theorem dX7_define_98 : decode cX7_define 98 = .ok (.iastore, 1) := dk_79 (dk_at dksX7_define_4 3 rfl rfl)
theorem dX7_define_99 : decode cX7_define 99 = .ok (.aload_n 0, 1) := dk_42 (dk_at dksX7_define_4 4 rfl rfl)
theorem dX7_define_100 : decode cX7_define 100 = .ok (.getfield 22, 3) := dk_180 0 22 (dk_at dksX7_define_4 5 rfl rfl)
theorem dX7_define_103 : decode cX7_define 103 = .ok (.iload 6, 2) := dk_21 6 (dk_at dksX7_define_4 8 rfl rfl)
theorem dX7_define_105 : decode cX7_define 105 = .ok (.iload 4, 2) := dk_21 4 (dk_at dksX7_define_4 10 rfl rfl)
theorem dX7_define_107 : decode cX7_define 107 = .ok (.iastore, 1) := dk_79 (dk_at dksX7_define_4 12 rfl rfl)
theorem dX7_define_108 : decode cX7_define 108 = .ok (.aload_n 0, 1) := dk_42 (dk_at dksX7_define_4 13 rfl rfl)
theorem dX7_define_109 : decode cX7_define 109 = .ok (.getfield 25, 3) := dk_180 0 25 (dk_at dksX7_define_4 14 rfl rfl)
theorem dX7_define_112 : decode cX7_define 112 = .ok (.iload 6, 2) := dk_21 6 (dk_at dksX7_define_4 17 rfl rfl)
theorem dX7_define_114 : decode cX7_define 114 = .ok (.iload 5, 2) := dk_21 5 (dk_at dksX7_define_4 19 rfl rfl)
theorem dX7_define_116 : decode cX7_define 116 = .ok (.iastore, 1) := dk_79 (dk_at dksX7_define_4 21 rfl rfl)
theorem dX7_define_117 : decode cX7_define 117 = .ok (.aload_n 0, 1) := dk_42 (dk_at dksX7_define_4 22 rfl rfl)
theorem dX7_define_118 : decode cX7_define 118 = .ok (.getfield 28, 3) := dk_180 0 28 (dk_at dksX7_define_5 0 rfl rfl)
theorem dX7_define_121 : decode cX7_define 121 = .ok (.iload_n 1, 1) := dk_27 (dk_at dksX7_define_5 3 rfl rfl)
theorem dX7_define_122 : decode cX7_define 122 = .ok (.dup2, 1) := dk_92 (dk_at dksX7_define_5 4 rfl rfl)
theorem dX7_define_123 : decode cX7_define 123 = .ok (.iaload, 1) := dk_46 (dk_at dksX7_define_5 5 rfl rfl)
theorem dX7_define_124 : decode cX7_define 124 = .ok (.iconst 1, 1) := dk_4 (dk_at dksX7_define_5 6 rfl rfl)
theorem dX7_define_125 : decode cX7_define 125 = .ok (.iadd, 1) := dk_96 (dk_at dksX7_define_5 7 rfl rfl)
theorem dX7_define_126 : decode cX7_define 126 = .ok (.iastore, 1) := dk_79 (dk_at dksX7_define_5 8 rfl rfl)
theorem dX7_define_127 : decode cX7_define 127 = .ok (.aload_n 0, 1) := dk_42 (dk_at dksX7_define_5 9 rfl rfl)
theorem dX7_define_128 : decode cX7_define 128 = .ok (.iconst 0, 1) := dk_3 (dk_at dksX7_define_5 10 rfl rfl)
theorem dX7_define_129 : decode cX7_define 129 = .ok (.putfield 97, 3) := dk_181 0 97 (dk_at dksX7_define_5 11 rfl rfl)
theorem dX7_define_132 : decode cX7_define 132 = .ok (.aload_n 0, 1) := dk_42 (dk_at dksX7_define_5 14 rfl rfl)
theorem dX7_define_133 : decode cX7_define 133 = .ok (.getfield 28, 3) := dk_180 0 28 (dk_at dksX7_define_5 15 rfl rfl)
theorem dX7_define_136 : decode cX7_define 136 = .ok (.iload_n 1, 1) := dk_27 (dk_at dksX7_define_5 18 rfl rfl)
theorem dX7_define_137 : decode cX7_define 137 = .ok (.iaload, 1) := dk_46 (dk_at dksX7_define_5 19 rfl rfl)
theorem dX7_define_138 : decode cX7_define 138 = .ok (.ireturn, 1) := dk_172 (dk_at dksX7_define_5 20 rfl rfl)
abbrev cX7_isName : ByteArray := prog_11_method_3_code
def yX7_isName : MethodName := ⟨RX7, "isName", "(I)Z"⟩
def dkwX7_isName_0 : List UInt8 := [26, 155, 0, 13, 26, 16, 64, 162, 0, 7, 4, 167, 0, 4, 3, 172]
abbrev dktX7_isName_0 : List UInt8 := dkwX7_isName_0 ++ []
theorem dksX7_isName_0 : cX7_isName.data.toList.drop 0 = dktX7_isName_0 := by decide +kernel
theorem dX7_isName_0 : decode cX7_isName 0 = .ok (.iload_n 0, 1) := dk_26 (dk_at dksX7_isName_0 0 rfl rfl)
theorem dX7_isName_1 : decode cX7_isName 1 = .ok (.ifCond .lt 13, 3) := dk_155 0 13 (dk_at dksX7_isName_0 1 rfl rfl)
theorem dX7_isName_4 : decode cX7_isName 4 = .ok (.iload_n 0, 1) := dk_26 (dk_at dksX7_isName_0 4 rfl rfl)
theorem dX7_isName_5 : decode cX7_isName 5 = .ok (.bipush 64, 2) := dk_16 64 (dk_at dksX7_isName_0 5 rfl rfl)
theorem dX7_isName_7 : decode cX7_isName 7 = .ok (.if_icmp .ge 7, 3) := dk_162 0 7 (dk_at dksX7_isName_0 7 rfl rfl)
theorem dX7_isName_10 : decode cX7_isName 10 = .ok (.iconst 1, 1) := dk_4 (dk_at dksX7_isName_0 10 rfl rfl)
theorem dX7_isName_11 : decode cX7_isName 11 = .ok (.goto 4, 3) := dk_167 0 4 (dk_at dksX7_isName_0 11 rfl rfl)
theorem dX7_isName_14 : decode cX7_isName 14 = .ok (.iconst 0, 1) := dk_3 (dk_at dksX7_isName_0 14 rfl rfl)
theorem dX7_isName_15 : decode cX7_isName 15 = .ok (.ireturn, 1) := dk_172 (dk_at dksX7_isName_0 15 rfl rfl)
abbrev cX7_isStep : ByteArray := prog_11_method_5_code
def yX7_isStep : MethodName := ⟨RX7, "isStep", "(I)Z"⟩
def dkwX7_isStep_0 : List UInt8 := [26, 155, 0, 13, 26, 16, 100, 162, 0, 7, 4, 167, 0, 4, 3, 172]
abbrev dktX7_isStep_0 : List UInt8 := dkwX7_isStep_0 ++ []
theorem dksX7_isStep_0 : cX7_isStep.data.toList.drop 0 = dktX7_isStep_0 := by decide +kernel
theorem dX7_isStep_0 : decode cX7_isStep 0 = .ok (.iload_n 0, 1) := dk_26 (dk_at dksX7_isStep_0 0 rfl rfl)
theorem dX7_isStep_1 : decode cX7_isStep 1 = .ok (.ifCond .lt 13, 3) := dk_155 0 13 (dk_at dksX7_isStep_0 1 rfl rfl)
theorem dX7_isStep_4 : decode cX7_isStep 4 = .ok (.iload_n 0, 1) := dk_26 (dk_at dksX7_isStep_0 4 rfl rfl)
theorem dX7_isStep_5 : decode cX7_isStep 5 = .ok (.bipush 100, 2) := dk_16 100 (dk_at dksX7_isStep_0 5 rfl rfl)
theorem dX7_isStep_7 : decode cX7_isStep 7 = .ok (.if_icmp .ge 7, 3) := dk_162 0 7 (dk_at dksX7_isStep_0 7 rfl rfl)
theorem dX7_isStep_10 : decode cX7_isStep 10 = .ok (.iconst 1, 1) := dk_4 (dk_at dksX7_isStep_0 10 rfl rfl)
theorem dX7_isStep_11 : decode cX7_isStep 11 = .ok (.goto 4, 3) := dk_167 0 4 (dk_at dksX7_isStep_0 11 rfl rfl)
theorem dX7_isStep_14 : decode cX7_isStep 14 = .ok (.iconst 0, 1) := dk_3 (dk_at dksX7_isStep_0 14 rfl rfl)
theorem dX7_isStep_15 : decode cX7_isStep 15 = .ok (.ireturn, 1) := dk_172 (dk_at dksX7_isStep_0 15 rfl rfl)
abbrev cX7_ofName : ByteArray := prog_11_method_8_code
def yX7_ofName : MethodName := ⟨RX7, "ofName", "(II)I"⟩
def dkwX7_ofName_1 : List UInt8 := [160, 0, 10, 16, 20, 27, 104, 29, 96, 172, 132, 3, 1, 167, 255, 221, 2, 172]
abbrev dktX7_ofName_1 : List UInt8 := dkwX7_ofName_1 ++ []
def dkwX7_ofName_0 : List UInt8 := [3, 62, 29, 42, 180, 0, 28, 27, 46, 162, 0, 31, 42, 180, 0, 16, 16, 20, 27, 104, 29, 96, 46, 28]
abbrev dktX7_ofName_0 : List UInt8 := dkwX7_ofName_0 ++ dktX7_ofName_1
theorem dksX7_ofName_0 : cX7_ofName.data.toList.drop 0 = dktX7_ofName_0 := by decide +kernel
theorem dksX7_ofName_1 : cX7_ofName.data.toList.drop 24 = dktX7_ofName_1 := dk_seg dksX7_ofName_0 24 rfl rfl
theorem dX7_ofName_0 : decode cX7_ofName 0 = .ok (.iconst 0, 1) := dk_3 (dk_at dksX7_ofName_0 0 rfl rfl)
theorem dX7_ofName_1 : decode cX7_ofName 1 = .ok (.istore_n 3, 1) := dk_62 (dk_at dksX7_ofName_0 1 rfl rfl)
theorem dX7_ofName_2 : decode cX7_ofName 2 = .ok (.iload_n 3, 1) := dk_29 (dk_at dksX7_ofName_0 2 rfl rfl)
theorem dX7_ofName_3 : decode cX7_ofName 3 = .ok (.aload_n 0, 1) := dk_42 (dk_at dksX7_ofName_0 3 rfl rfl)
theorem dX7_ofName_4 : decode cX7_ofName 4 = .ok (.getfield 28, 3) := dk_180 0 28 (dk_at dksX7_ofName_0 4 rfl rfl)
theorem dX7_ofName_7 : decode cX7_ofName 7 = .ok (.iload_n 1, 1) := dk_27 (dk_at dksX7_ofName_0 7 rfl rfl)
theorem dX7_ofName_8 : decode cX7_ofName 8 = .ok (.iaload, 1) := dk_46 (dk_at dksX7_ofName_0 8 rfl rfl)
theorem dX7_ofName_9 : decode cX7_ofName 9 = .ok (.if_icmp .ge 31, 3) := dk_162 0 31 (dk_at dksX7_ofName_0 9 rfl rfl)
theorem dX7_ofName_12 : decode cX7_ofName 12 = .ok (.aload_n 0, 1) := dk_42 (dk_at dksX7_ofName_0 12 rfl rfl)
theorem dX7_ofName_13 : decode cX7_ofName 13 = .ok (.getfield 16, 3) := dk_180 0 16 (dk_at dksX7_ofName_0 13 rfl rfl)
theorem dX7_ofName_16 : decode cX7_ofName 16 = .ok (.bipush 20, 2) := dk_16 20 (dk_at dksX7_ofName_0 16 rfl rfl)
theorem dX7_ofName_18 : decode cX7_ofName 18 = .ok (.iload_n 1, 1) := dk_27 (dk_at dksX7_ofName_0 18 rfl rfl)
theorem dX7_ofName_19 : decode cX7_ofName 19 = .ok (.imul, 1) := dk_104 (dk_at dksX7_ofName_0 19 rfl rfl)
theorem dX7_ofName_20 : decode cX7_ofName 20 = .ok (.iload_n 3, 1) := dk_29 (dk_at dksX7_ofName_0 20 rfl rfl)
theorem dX7_ofName_21 : decode cX7_ofName 21 = .ok (.iadd, 1) := dk_96 (dk_at dksX7_ofName_0 21 rfl rfl)
theorem dX7_ofName_22 : decode cX7_ofName 22 = .ok (.iaload, 1) := dk_46 (dk_at dksX7_ofName_0 22 rfl rfl)
theorem dX7_ofName_23 : decode cX7_ofName 23 = .ok (.iload_n 2, 1) := dk_28 (dk_at dksX7_ofName_0 23 rfl rfl)
theorem dX7_ofName_24 : decode cX7_ofName 24 = .ok (.if_icmp .ne 10, 3) := dk_160 0 10 (dk_at dksX7_ofName_1 0 rfl rfl)
theorem dX7_ofName_27 : decode cX7_ofName 27 = .ok (.bipush 20, 2) := dk_16 20 (dk_at dksX7_ofName_1 3 rfl rfl)
theorem dX7_ofName_29 : decode cX7_ofName 29 = .ok (.iload_n 1, 1) := dk_27 (dk_at dksX7_ofName_1 5 rfl rfl)
theorem dX7_ofName_30 : decode cX7_ofName 30 = .ok (.imul, 1) := dk_104 (dk_at dksX7_ofName_1 6 rfl rfl)
theorem dX7_ofName_31 : decode cX7_ofName 31 = .ok (.iload_n 3, 1) := dk_29 (dk_at dksX7_ofName_1 7 rfl rfl)
theorem dX7_ofName_32 : decode cX7_ofName 32 = .ok (.iadd, 1) := dk_96 (dk_at dksX7_ofName_1 8 rfl rfl)
theorem dX7_ofName_33 : decode cX7_ofName 33 = .ok (.ireturn, 1) := dk_172 (dk_at dksX7_ofName_1 9 rfl rfl)
theorem dX7_ofName_34 : decode cX7_ofName 34 = .ok (.iinc 3 1, 3) := dk_132 3 1 (dk_at dksX7_ofName_1 10 rfl rfl)
theorem dX7_ofName_37 : decode cX7_ofName 37 = .ok (.goto (-35), 3) := dk_167 255 221 (dk_at dksX7_ofName_1 13 rfl rfl)
theorem dX7_ofName_40 : decode cX7_ofName 40 = .ok (.iconst (-1), 1) := dk_2 (dk_at dksX7_ofName_1 16 rfl rfl)
theorem dX7_ofName_41 : decode cX7_ofName 41 = .ok (.ireturn, 1) := dk_172 (dk_at dksX7_ofName_1 17 rfl rfl)
abbrev cX7_optional : ByteArray := prog_11_method_10_code
def yX7_optional : MethodName := ⟨RX7, "optional", "(II)I"⟩
def dkwX7_optional_2 : List UInt8 := [4, 172]
abbrev dktX7_optional_2 : List UInt8 := dkwX7_optional_2 ++ []
def dkwX7_optional_1 : List UInt8 := [96, 51, 153, 0, 5, 3, 172, 42, 180, 0, 37, 16, 64, 27, 104, 28, 96, 4, 84, 42, 3, 181, 0, 97]
abbrev dktX7_optional_1 : List UInt8 := dkwX7_optional_1 ++ dktX7_optional_2
def dkwX7_optional_0 : List UInt8 := [42, 27, 182, 0, 93, 153, 0, 24, 28, 184, 0, 101, 153, 0, 17, 42, 180, 0, 37, 16, 64, 27, 104, 28]
abbrev dktX7_optional_0 : List UInt8 := dkwX7_optional_0 ++ dktX7_optional_1
theorem dksX7_optional_0 : cX7_optional.data.toList.drop 0 = dktX7_optional_0 := by decide +kernel
theorem dksX7_optional_1 : cX7_optional.data.toList.drop 24 = dktX7_optional_1 := dk_seg dksX7_optional_0 24 rfl rfl
theorem dksX7_optional_2 : cX7_optional.data.toList.drop 48 = dktX7_optional_2 := dk_seg dksX7_optional_1 24 rfl rfl
theorem dX7_optional_0 : decode cX7_optional 0 = .ok (.aload_n 0, 1) := dk_42 (dk_at dksX7_optional_0 0 rfl rfl)
theorem dX7_optional_1 : decode cX7_optional 1 = .ok (.iload_n 1, 1) := dk_27 (dk_at dksX7_optional_0 1 rfl rfl)
theorem dX7_optional_2 : decode cX7_optional 2 = .ok (.invokevirtual 93, 3) := dk_182 0 93 (dk_at dksX7_optional_0 2 rfl rfl)
theorem dX7_optional_5 : decode cX7_optional 5 = .ok (.ifCond .eq 24, 3) := dk_153 0 24 (dk_at dksX7_optional_0 5 rfl rfl)
theorem dX7_optional_8 : decode cX7_optional 8 = .ok (.iload_n 2, 1) := dk_28 (dk_at dksX7_optional_0 8 rfl rfl)
theorem dX7_optional_9 : decode cX7_optional 9 = .ok (.invokestatic 101, 3) := dk_184 0 101 (dk_at dksX7_optional_0 9 rfl rfl)
theorem dX7_optional_12 : decode cX7_optional 12 = .ok (.ifCond .eq 17, 3) := dk_153 0 17 (dk_at dksX7_optional_0 12 rfl rfl)
theorem dX7_optional_15 : decode cX7_optional 15 = .ok (.aload_n 0, 1) := dk_42 (dk_at dksX7_optional_0 15 rfl rfl)
theorem dX7_optional_16 : decode cX7_optional 16 = .ok (.getfield 37, 3) := dk_180 0 37 (dk_at dksX7_optional_0 16 rfl rfl)
theorem dX7_optional_19 : decode cX7_optional 19 = .ok (.bipush 64, 2) := dk_16 64 (dk_at dksX7_optional_0 19 rfl rfl)
theorem dX7_optional_21 : decode cX7_optional 21 = .ok (.iload_n 1, 1) := dk_27 (dk_at dksX7_optional_0 21 rfl rfl)
theorem dX7_optional_22 : decode cX7_optional 22 = .ok (.imul, 1) := dk_104 (dk_at dksX7_optional_0 22 rfl rfl)
theorem dX7_optional_23 : decode cX7_optional 23 = .ok (.iload_n 2, 1) := dk_28 (dk_at dksX7_optional_0 23 rfl rfl)
theorem dX7_optional_24 : decode cX7_optional 24 = .ok (.iadd, 1) := dk_96 (dk_at dksX7_optional_1 0 rfl rfl)
theorem dX7_optional_25 : decode cX7_optional 25 = .ok (.baload, 1) := dk_51 (dk_at dksX7_optional_1 1 rfl rfl)
theorem dX7_optional_26 : decode cX7_optional 26 = .ok (.ifCond .eq 5, 3) := dk_153 0 5 (dk_at dksX7_optional_1 2 rfl rfl)
theorem dX7_optional_29 : decode cX7_optional 29 = .ok (.iconst 0, 1) := dk_3 (dk_at dksX7_optional_1 5 rfl rfl)
theorem dX7_optional_30 : decode cX7_optional 30 = .ok (.ireturn, 1) := dk_172 (dk_at dksX7_optional_1 6 rfl rfl)
theorem dX7_optional_31 : decode cX7_optional 31 = .ok (.aload_n 0, 1) := dk_42 (dk_at dksX7_optional_1 7 rfl rfl)
theorem dX7_optional_32 : decode cX7_optional 32 = .ok (.getfield 37, 3) := dk_180 0 37 (dk_at dksX7_optional_1 8 rfl rfl)
theorem dX7_optional_35 : decode cX7_optional 35 = .ok (.bipush 64, 2) := dk_16 64 (dk_at dksX7_optional_1 11 rfl rfl)
theorem dX7_optional_37 : decode cX7_optional 37 = .ok (.iload_n 1, 1) := dk_27 (dk_at dksX7_optional_1 13 rfl rfl)
theorem dX7_optional_38 : decode cX7_optional 38 = .ok (.imul, 1) := dk_104 (dk_at dksX7_optional_1 14 rfl rfl)
theorem dX7_optional_39 : decode cX7_optional 39 = .ok (.iload_n 2, 1) := dk_28 (dk_at dksX7_optional_1 15 rfl rfl)
theorem dX7_optional_40 : decode cX7_optional 40 = .ok (.iadd, 1) := dk_96 (dk_at dksX7_optional_1 16 rfl rfl)
theorem dX7_optional_41 : decode cX7_optional 41 = .ok (.iconst 1, 1) := dk_4 (dk_at dksX7_optional_1 17 rfl rfl)
theorem dX7_optional_42 : decode cX7_optional 42 = .ok (.bastore, 1) := dk_84 (dk_at dksX7_optional_1 18 rfl rfl)
theorem dX7_optional_43 : decode cX7_optional 43 = .ok (.aload_n 0, 1) := dk_42 (dk_at dksX7_optional_1 19 rfl rfl)
theorem dX7_optional_44 : decode cX7_optional 44 = .ok (.iconst 0, 1) := dk_3 (dk_at dksX7_optional_1 20 rfl rfl)
theorem dX7_optional_45 : decode cX7_optional 45 = .ok (.putfield 97, 3) := dk_181 0 97 (dk_at dksX7_optional_1 21 rfl rfl)
theorem dX7_optional_48 : decode cX7_optional 48 = .ok (.iconst 1, 1) := dk_4 (dk_at dksX7_optional_2 0 rfl rfl)
theorem dX7_optional_49 : decode cX7_optional 49 = .ok (.ireturn, 1) := dk_172 (dk_at dksX7_optional_2 1 rfl rfl)
abbrev cX7_beginner : ByteArray := prog_11_method_11_code
def yX7_beginner : MethodName := ⟨RX7, "beginner", "(II)I"⟩
def dkwX7_beginner_1 : List UInt8 := [180, 0, 41, 27, 28, 79, 42, 3, 181, 0, 97, 4, 172]
abbrev dktX7_beginner_1 : List UInt8 := dkwX7_beginner_1 ++ []
def dkwX7_beginner_0 : List UInt8 := [42, 27, 182, 0, 93, 153, 0, 15, 28, 2, 159, 0, 12, 28, 184, 0, 101, 154, 0, 5, 3, 172, 42]
abbrev dktX7_beginner_0 : List UInt8 := dkwX7_beginner_0 ++ dktX7_beginner_1
theorem dksX7_beginner_0 : cX7_beginner.data.toList.drop 0 = dktX7_beginner_0 := by decide +kernel
theorem dksX7_beginner_1 : cX7_beginner.data.toList.drop 23 = dktX7_beginner_1 := dk_seg dksX7_beginner_0 23 rfl rfl
theorem dX7_beginner_0 : decode cX7_beginner 0 = .ok (.aload_n 0, 1) := dk_42 (dk_at dksX7_beginner_0 0 rfl rfl)
theorem dX7_beginner_1 : decode cX7_beginner 1 = .ok (.iload_n 1, 1) := dk_27 (dk_at dksX7_beginner_0 1 rfl rfl)
theorem dX7_beginner_2 : decode cX7_beginner 2 = .ok (.invokevirtual 93, 3) := dk_182 0 93 (dk_at dksX7_beginner_0 2 rfl rfl)
theorem dX7_beginner_5 : decode cX7_beginner 5 = .ok (.ifCond .eq 15, 3) := dk_153 0 15 (dk_at dksX7_beginner_0 5 rfl rfl)
theorem dX7_beginner_8 : decode cX7_beginner 8 = .ok (.iload_n 2, 1) := dk_28 (dk_at dksX7_beginner_0 8 rfl rfl)
theorem dX7_beginner_9 : decode cX7_beginner 9 = .ok (.iconst (-1), 1) := dk_2 (dk_at dksX7_beginner_0 9 rfl rfl)
theorem dX7_beginner_10 : decode cX7_beginner 10 = .ok (.if_icmp .eq 12, 3) := dk_159 0 12 (dk_at dksX7_beginner_0 10 rfl rfl)
theorem dX7_beginner_13 : decode cX7_beginner 13 = .ok (.iload_n 2, 1) := dk_28 (dk_at dksX7_beginner_0 13 rfl rfl)
theorem dX7_beginner_14 : decode cX7_beginner 14 = .ok (.invokestatic 101, 3) := dk_184 0 101 (dk_at dksX7_beginner_0 14 rfl rfl)
theorem dX7_beginner_17 : decode cX7_beginner 17 = .ok (.ifCond .ne 5, 3) := dk_154 0 5 (dk_at dksX7_beginner_0 17 rfl rfl)
theorem dX7_beginner_20 : decode cX7_beginner 20 = .ok (.iconst 0, 1) := dk_3 (dk_at dksX7_beginner_0 20 rfl rfl)
theorem dX7_beginner_21 : decode cX7_beginner 21 = .ok (.ireturn, 1) := dk_172 (dk_at dksX7_beginner_0 21 rfl rfl)
theorem dX7_beginner_22 : decode cX7_beginner 22 = .ok (.aload_n 0, 1) := dk_42 (dk_at dksX7_beginner_0 22 rfl rfl)
theorem dX7_beginner_23 : decode cX7_beginner 23 = .ok (.getfield 41, 3) := dk_180 0 41 (dk_at dksX7_beginner_1 0 rfl rfl)
theorem dX7_beginner_26 : decode cX7_beginner 26 = .ok (.iload_n 1, 1) := dk_27 (dk_at dksX7_beginner_1 3 rfl rfl)
theorem dX7_beginner_27 : decode cX7_beginner 27 = .ok (.iload_n 2, 1) := dk_28 (dk_at dksX7_beginner_1 4 rfl rfl)
theorem dX7_beginner_28 : decode cX7_beginner 28 = .ok (.iastore, 1) := dk_79 (dk_at dksX7_beginner_1 5 rfl rfl)
theorem dX7_beginner_29 : decode cX7_beginner 29 = .ok (.aload_n 0, 1) := dk_42 (dk_at dksX7_beginner_1 6 rfl rfl)
theorem dX7_beginner_30 : decode cX7_beginner 30 = .ok (.iconst 0, 1) := dk_3 (dk_at dksX7_beginner_1 7 rfl rfl)
theorem dX7_beginner_31 : decode cX7_beginner 31 = .ok (.putfield 97, 3) := dk_181 0 97 (dk_at dksX7_beginner_1 8 rfl rfl)
theorem dX7_beginner_34 : decode cX7_beginner 34 = .ok (.iconst 1, 1) := dk_4 (dk_at dksX7_beginner_1 11 rfl rfl)
theorem dX7_beginner_35 : decode cX7_beginner 35 = .ok (.ireturn, 1) := dk_172 (dk_at dksX7_beginner_1 12 rfl rfl)
abbrev cX7_put : ByteArray := prog_11_method_13_code
def yX7_put : MethodName := ⟨RX7, "put", "(IIIII)I"⟩
def dkwX7_put_4 : List UInt8 := [96, 79, 42, 3, 181, 0, 97, 42, 180, 0, 34, 27, 46, 4, 100, 172]
abbrev dktX7_put_4 : List UInt8 := dkwX7_put_4 ++ []
def dkwX7_put_3 : List UInt8 := [5, 96, 21, 4, 79, 42, 180, 0, 31, 21, 6, 6, 96, 21, 5, 79, 42, 180, 0, 34, 27, 92, 46, 4]
abbrev dktX7_put_3 : List UInt8 := dkwX7_put_3 ++ dktX7_put_4
def dkwX7_put_2 : List UInt8 := [42, 180, 0, 31, 21, 6, 28, 79, 42, 180, 0, 31, 21, 6, 4, 96, 29, 79, 42, 180, 0, 31, 21, 6]
abbrev dktX7_put_2 : List UInt8 := dkwX7_put_2 ++ dktX7_put_3
def dkwX7_put_1 : List UInt8 := [27, 46, 16, 100, 160, 0, 5, 2, 172, 7, 16, 100, 27, 104, 42, 180, 0, 34, 27, 46, 96, 104, 54, 6]
abbrev dktX7_put_1 : List UInt8 := dkwX7_put_1 ++ dktX7_put_2
def dkwX7_put_0 : List UInt8 := [42, 27, 182, 0, 93, 153, 0, 26, 28, 29, 21, 4, 21, 5, 184, 0, 114, 153, 0, 14, 42, 180, 0, 34]
abbrev dktX7_put_0 : List UInt8 := dkwX7_put_0 ++ dktX7_put_1
theorem dksX7_put_0 : cX7_put.data.toList.drop 0 = dktX7_put_0 := by decide +kernel
theorem dksX7_put_1 : cX7_put.data.toList.drop 24 = dktX7_put_1 := dk_seg dksX7_put_0 24 rfl rfl
theorem dksX7_put_2 : cX7_put.data.toList.drop 48 = dktX7_put_2 := dk_seg dksX7_put_1 24 rfl rfl
theorem dksX7_put_3 : cX7_put.data.toList.drop 72 = dktX7_put_3 := dk_seg dksX7_put_2 24 rfl rfl
theorem dksX7_put_4 : cX7_put.data.toList.drop 96 = dktX7_put_4 := dk_seg dksX7_put_3 24 rfl rfl
theorem dX7_put_0 : decode cX7_put 0 = .ok (.aload_n 0, 1) := dk_42 (dk_at dksX7_put_0 0 rfl rfl)
theorem dX7_put_1 : decode cX7_put 1 = .ok (.iload_n 1, 1) := dk_27 (dk_at dksX7_put_0 1 rfl rfl)
theorem dX7_put_2 : decode cX7_put 2 = .ok (.invokevirtual 93, 3) := dk_182 0 93 (dk_at dksX7_put_0 2 rfl rfl)
theorem dX7_put_5 : decode cX7_put 5 = .ok (.ifCond .eq 26, 3) := dk_153 0 26 (dk_at dksX7_put_0 5 rfl rfl)
theorem dX7_put_8 : decode cX7_put 8 = .ok (.iload_n 2, 1) := dk_28 (dk_at dksX7_put_0 8 rfl rfl)
theorem dX7_put_9 : decode cX7_put 9 = .ok (.iload_n 3, 1) := dk_29 (dk_at dksX7_put_0 9 rfl rfl)
theorem dX7_put_10 : decode cX7_put 10 = .ok (.iload 4, 2) := dk_21 4 (dk_at dksX7_put_0 10 rfl rfl)
theorem dX7_put_12 : decode cX7_put 12 = .ok (.iload 5, 2) := dk_21 5 (dk_at dksX7_put_0 12 rfl rfl)
theorem dX7_put_14 : decode cX7_put 14 = .ok (.invokestatic 114, 3) := dk_184 0 114 (dk_at dksX7_put_0 14 rfl rfl)
theorem dX7_put_17 : decode cX7_put 17 = .ok (.ifCond .eq 14, 3) := dk_153 0 14 (dk_at dksX7_put_0 17 rfl rfl)
theorem dX7_put_20 : decode cX7_put 20 = .ok (.aload_n 0, 1) := dk_42 (dk_at dksX7_put_0 20 rfl rfl)
theorem dX7_put_21 : decode cX7_put 21 = .ok (.getfield 34, 3) := dk_180 0 34 (dk_at dksX7_put_0 21 rfl rfl)
theorem dX7_put_24 : decode cX7_put 24 = .ok (.iload_n 1, 1) := dk_27 (dk_at dksX7_put_1 0 rfl rfl)
theorem dX7_put_25 : decode cX7_put 25 = .ok (.iaload, 1) := dk_46 (dk_at dksX7_put_1 1 rfl rfl)
theorem dX7_put_26 : decode cX7_put 26 = .ok (.bipush 100, 2) := dk_16 100 (dk_at dksX7_put_1 2 rfl rfl)
theorem dX7_put_28 : decode cX7_put 28 = .ok (.if_icmp .ne 5, 3) := dk_160 0 5 (dk_at dksX7_put_1 4 rfl rfl)
theorem dX7_put_31 : decode cX7_put 31 = .ok (.iconst (-1), 1) := dk_2 (dk_at dksX7_put_1 7 rfl rfl)
theorem dX7_put_32 : decode cX7_put 32 = .ok (.ireturn, 1) := dk_172 (dk_at dksX7_put_1 8 rfl rfl)
theorem dX7_put_33 : decode cX7_put 33 = .ok (.iconst 4, 1) := dk_7 (dk_at dksX7_put_1 9 rfl rfl)
theorem dX7_put_34 : decode cX7_put 34 = .ok (.bipush 100, 2) := dk_16 100 (dk_at dksX7_put_1 10 rfl rfl)
theorem dX7_put_36 : decode cX7_put 36 = .ok (.iload_n 1, 1) := dk_27 (dk_at dksX7_put_1 12 rfl rfl)
theorem dX7_put_37 : decode cX7_put 37 = .ok (.imul, 1) := dk_104 (dk_at dksX7_put_1 13 rfl rfl)
theorem dX7_put_38 : decode cX7_put 38 = .ok (.aload_n 0, 1) := dk_42 (dk_at dksX7_put_1 14 rfl rfl)
theorem dX7_put_39 : decode cX7_put 39 = .ok (.getfield 34, 3) := dk_180 0 34 (dk_at dksX7_put_1 15 rfl rfl)
theorem dX7_put_42 : decode cX7_put 42 = .ok (.iload_n 1, 1) := dk_27 (dk_at dksX7_put_1 18 rfl rfl)
theorem dX7_put_43 : decode cX7_put 43 = .ok (.iaload, 1) := dk_46 (dk_at dksX7_put_1 19 rfl rfl)
theorem dX7_put_44 : decode cX7_put 44 = .ok (.iadd, 1) := dk_96 (dk_at dksX7_put_1 20 rfl rfl)
theorem dX7_put_45 : decode cX7_put 45 = .ok (.imul, 1) := dk_104 (dk_at dksX7_put_1 21 rfl rfl)
theorem dX7_put_46 : decode cX7_put 46 = .ok (.istore 6, 2) := dk_54 6 (dk_at dksX7_put_1 22 rfl rfl)
theorem dX7_put_48 : decode cX7_put 48 = .ok (.aload_n 0, 1) := dk_42 (dk_at dksX7_put_2 0 rfl rfl)
theorem dX7_put_49 : decode cX7_put 49 = .ok (.getfield 31, 3) := dk_180 0 31 (dk_at dksX7_put_2 1 rfl rfl)
theorem dX7_put_52 : decode cX7_put 52 = .ok (.iload 6, 2) := dk_21 6 (dk_at dksX7_put_2 4 rfl rfl)
theorem dX7_put_54 : decode cX7_put 54 = .ok (.iload_n 2, 1) := dk_28 (dk_at dksX7_put_2 6 rfl rfl)
theorem dX7_put_55 : decode cX7_put 55 = .ok (.iastore, 1) := dk_79 (dk_at dksX7_put_2 7 rfl rfl)
theorem dX7_put_56 : decode cX7_put 56 = .ok (.aload_n 0, 1) := dk_42 (dk_at dksX7_put_2 8 rfl rfl)
theorem dX7_put_57 : decode cX7_put 57 = .ok (.getfield 31, 3) := dk_180 0 31 (dk_at dksX7_put_2 9 rfl rfl)
theorem dX7_put_60 : decode cX7_put 60 = .ok (.iload 6, 2) := dk_21 6 (dk_at dksX7_put_2 12 rfl rfl)
theorem dX7_put_62 : decode cX7_put 62 = .ok (.iconst 1, 1) := dk_4 (dk_at dksX7_put_2 14 rfl rfl)
theorem dX7_put_63 : decode cX7_put 63 = .ok (.iadd, 1) := dk_96 (dk_at dksX7_put_2 15 rfl rfl)
theorem dX7_put_64 : decode cX7_put 64 = .ok (.iload_n 3, 1) := dk_29 (dk_at dksX7_put_2 16 rfl rfl)
theorem dX7_put_65 : decode cX7_put 65 = .ok (.iastore, 1) := dk_79 (dk_at dksX7_put_2 17 rfl rfl)
theorem dX7_put_66 : decode cX7_put 66 = .ok (.aload_n 0, 1) := dk_42 (dk_at dksX7_put_2 18 rfl rfl)
theorem dX7_put_67 : decode cX7_put 67 = .ok (.getfield 31, 3) := dk_180 0 31 (dk_at dksX7_put_2 19 rfl rfl)
theorem dX7_put_70 : decode cX7_put 70 = .ok (.iload 6, 2) := dk_21 6 (dk_at dksX7_put_2 22 rfl rfl)
theorem dX7_put_72 : decode cX7_put 72 = .ok (.iconst 2, 1) := dk_5 (dk_at dksX7_put_3 0 rfl rfl)
theorem dX7_put_73 : decode cX7_put 73 = .ok (.iadd, 1) := dk_96 (dk_at dksX7_put_3 1 rfl rfl)
theorem dX7_put_74 : decode cX7_put 74 = .ok (.iload 4, 2) := dk_21 4 (dk_at dksX7_put_3 2 rfl rfl)
theorem dX7_put_76 : decode cX7_put 76 = .ok (.iastore, 1) := dk_79 (dk_at dksX7_put_3 4 rfl rfl)
theorem dX7_put_77 : decode cX7_put 77 = .ok (.aload_n 0, 1) := dk_42 (dk_at dksX7_put_3 5 rfl rfl)
theorem dX7_put_78 : decode cX7_put 78 = .ok (.getfield 31, 3) := dk_180 0 31 (dk_at dksX7_put_3 6 rfl rfl)
theorem dX7_put_81 : decode cX7_put 81 = .ok (.iload 6, 2) := dk_21 6 (dk_at dksX7_put_3 9 rfl rfl)
theorem dX7_put_83 : decode cX7_put 83 = .ok (.iconst 3, 1) := dk_6 (dk_at dksX7_put_3 11 rfl rfl)
theorem dX7_put_84 : decode cX7_put 84 = .ok (.iadd, 1) := dk_96 (dk_at dksX7_put_3 12 rfl rfl)
theorem dX7_put_85 : decode cX7_put 85 = .ok (.iload 5, 2) := dk_21 5 (dk_at dksX7_put_3 13 rfl rfl)
theorem dX7_put_87 : decode cX7_put 87 = .ok (.iastore, 1) := dk_79 (dk_at dksX7_put_3 15 rfl rfl)
theorem dX7_put_88 : decode cX7_put 88 = .ok (.aload_n 0, 1) := dk_42 (dk_at dksX7_put_3 16 rfl rfl)
theorem dX7_put_89 : decode cX7_put 89 = .ok (.getfield 34, 3) := dk_180 0 34 (dk_at dksX7_put_3 17 rfl rfl)
theorem dX7_put_92 : decode cX7_put 92 = .ok (.iload_n 1, 1) := dk_27 (dk_at dksX7_put_3 20 rfl rfl)
theorem dX7_put_93 : decode cX7_put 93 = .ok (.dup2, 1) := dk_92 (dk_at dksX7_put_3 21 rfl rfl)
theorem dX7_put_94 : decode cX7_put 94 = .ok (.iaload, 1) := dk_46 (dk_at dksX7_put_3 22 rfl rfl)
theorem dX7_put_95 : decode cX7_put 95 = .ok (.iconst 1, 1) := dk_4 (dk_at dksX7_put_3 23 rfl rfl)
theorem dX7_put_96 : decode cX7_put 96 = .ok (.iadd, 1) := dk_96 (dk_at dksX7_put_4 0 rfl rfl)
theorem dX7_put_97 : decode cX7_put 97 = .ok (.iastore, 1) := dk_79 (dk_at dksX7_put_4 1 rfl rfl)
theorem dX7_put_98 : decode cX7_put 98 = .ok (.aload_n 0, 1) := dk_42 (dk_at dksX7_put_4 2 rfl rfl)
theorem dX7_put_99 : decode cX7_put 99 = .ok (.iconst 0, 1) := dk_3 (dk_at dksX7_put_4 3 rfl rfl)
theorem dX7_put_100 : decode cX7_put 100 = .ok (.putfield 97, 3) := dk_181 0 97 (dk_at dksX7_put_4 4 rfl rfl)
theorem dX7_put_103 : decode cX7_put 103 = .ok (.aload_n 0, 1) := dk_42 (dk_at dksX7_put_4 7 rfl rfl)
theorem dX7_put_104 : decode cX7_put 104 = .ok (.getfield 34, 3) := dk_180 0 34 (dk_at dksX7_put_4 8 rfl rfl)
theorem dX7_put_107 : decode cX7_put 107 = .ok (.iload_n 1, 1) := dk_27 (dk_at dksX7_put_4 11 rfl rfl)
theorem dX7_put_108 : decode cX7_put 108 = .ok (.iaload, 1) := dk_46 (dk_at dksX7_put_4 12 rfl rfl)
theorem dX7_put_109 : decode cX7_put 109 = .ok (.iconst 1, 1) := dk_4 (dk_at dksX7_put_4 13 rfl rfl)
theorem dX7_put_110 : decode cX7_put 110 = .ok (.isub, 1) := dk_100 (dk_at dksX7_put_4 14 rfl rfl)
theorem dX7_put_111 : decode cX7_put 111 = .ok (.ireturn, 1) := dk_172 (dk_at dksX7_put_4 15 rfl rfl)
abbrev cX7_isGood : ByteArray := prog_11_method_12_code
def yX7_isGood : MethodName := ⟨RX7, "isGood", "(IIII)Z"⟩
def dkwX7_isGood_8 : List UInt8 := [4, 167, 0, 4, 3, 172]
abbrev dktX7_isGood_8 : List UInt8 := dkwX7_isGood_8 ++ []
def dkwX7_isGood_7 : List UInt8 := [184, 0, 111, 153, 0, 7, 4, 167, 0, 4, 3, 172, 26, 16, 12, 159, 0, 9, 26, 16, 14, 160, 0, 7]
abbrev dktX7_isGood_7 : List UInt8 := dkwX7_isGood_7 ++ dktX7_isGood_8
def dkwX7_isGood_6 : List UInt8 := [153, 0, 14, 28, 184, 0, 101, 153, 0, 7, 4, 167, 0, 4, 3, 172, 27, 184, 0, 101, 153, 0, 14, 28]
abbrev dktX7_isGood_6 : List UInt8 := dkwX7_isGood_6 ++ dktX7_isGood_7
def dkwX7_isGood_5 : List UInt8 := [153, 0, 7, 4, 167, 0, 4, 3, 172, 27, 184, 0, 104, 172, 27, 184, 0, 101, 172, 27, 184, 0, 111]
abbrev dktX7_isGood_5 : List UInt8 := dkwX7_isGood_5 ++ dktX7_isGood_6
def dkwX7_isGood_4 : List UInt8 := [167, 0, 4, 3, 172, 27, 184, 0, 111, 153, 0, 21, 28, 184, 0, 111, 153, 0, 14, 29, 184, 0, 104]
abbrev dktX7_isGood_4 : List UInt8 := dkwX7_isGood_4 ++ dktX7_isGood_5
def dkwX7_isGood_3 : List UInt8 := [172, 27, 184, 0, 111, 153, 0, 21, 28, 184, 0, 111, 153, 0, 14, 29, 184, 0, 111, 153, 0, 7, 4]
abbrev dktX7_isGood_3 : List UInt8 := dkwX7_isGood_3 ++ dktX7_isGood_4
def dkwX7_isGood_2 : List UInt8 := [27, 184, 0, 111, 172, 27, 184, 0, 111, 153, 0, 14, 28, 184, 0, 111, 153, 0, 7, 4, 167, 0, 4, 3]
abbrev dktX7_isGood_2 : List UInt8 := dkwX7_isGood_2 ++ dktX7_isGood_3
def dkwX7_isGood_1 : List UInt8 := [170, 0, 0, 0, 0, 0, 200, 0, 0, 0, 0, 0, 0, 0, 13, 0, 0, 0, 71, 0, 0, 0, 76, 0, 0, 0, 96, 0, 0, 0, 96, 0, 0, 0, 96, 0, 0, 0, 123, 0, 0, 0, 150, 0, 0, 0, 155, 0, 0, 0, 160, 0, 0, 0, 180, 0, 0, 0, 160, 0, 0, 0, 71, 0, 0, 0, 200, 0, 0, 0, 71]
abbrev dktX7_isGood_1 : List UInt8 := dkwX7_isGood_1 ++ dktX7_isGood_2
def dkwX7_isGood_0 : List UInt8 := [26]
abbrev dktX7_isGood_0 : List UInt8 := dkwX7_isGood_0 ++ dktX7_isGood_1
theorem dksX7_isGood_0 : cX7_isGood.data.toList.drop 0 = dktX7_isGood_0 := by decide +kernel
theorem dksX7_isGood_1 : cX7_isGood.data.toList.drop 1 = dktX7_isGood_1 := dk_seg dksX7_isGood_0 1 rfl rfl
theorem dksX7_isGood_2 : cX7_isGood.data.toList.drop 72 = dktX7_isGood_2 := dk_seg dksX7_isGood_1 71 rfl rfl
theorem dksX7_isGood_3 : cX7_isGood.data.toList.drop 96 = dktX7_isGood_3 := dk_seg dksX7_isGood_2 24 rfl rfl
theorem dksX7_isGood_4 : cX7_isGood.data.toList.drop 119 = dktX7_isGood_4 := dk_seg dksX7_isGood_3 23 rfl rfl
theorem dksX7_isGood_5 : cX7_isGood.data.toList.drop 142 = dktX7_isGood_5 := dk_seg dksX7_isGood_4 23 rfl rfl
theorem dksX7_isGood_6 : cX7_isGood.data.toList.drop 165 = dktX7_isGood_6 := dk_seg dksX7_isGood_5 23 rfl rfl
theorem dksX7_isGood_7 : cX7_isGood.data.toList.drop 189 = dktX7_isGood_7 := dk_seg dksX7_isGood_6 24 rfl rfl
theorem dksX7_isGood_8 : cX7_isGood.data.toList.drop 213 = dktX7_isGood_8 := dk_seg dksX7_isGood_7 24 rfl rfl
theorem dX7_isGood_0 : decode cX7_isGood 0 = .ok (.iload_n 0, 1) := dk_26 (dk_at dksX7_isGood_0 0 rfl rfl)
theorem dX7_isGood_1 : decode cX7_isGood 1 = .ok (.tableswitch 200 0 13 #[71, 76, 96, 96, 96, 123, 150, 155, 160, 180, 160, 71, 200, 71], 71) := by decide +kernel
theorem dX7_isGood_72 : decode cX7_isGood 72 = .ok (.iload_n 1, 1) := dk_27 (dk_at dksX7_isGood_2 0 rfl rfl)
theorem dX7_isGood_73 : decode cX7_isGood 73 = .ok (.invokestatic 111, 3) := dk_184 0 111 (dk_at dksX7_isGood_2 1 rfl rfl)
theorem dX7_isGood_76 : decode cX7_isGood 76 = .ok (.ireturn, 1) := dk_172 (dk_at dksX7_isGood_2 4 rfl rfl)
theorem dX7_isGood_77 : decode cX7_isGood 77 = .ok (.iload_n 1, 1) := dk_27 (dk_at dksX7_isGood_2 5 rfl rfl)
theorem dX7_isGood_78 : decode cX7_isGood 78 = .ok (.invokestatic 111, 3) := dk_184 0 111 (dk_at dksX7_isGood_2 6 rfl rfl)
theorem dX7_isGood_81 : decode cX7_isGood 81 = .ok (.ifCond .eq 14, 3) := dk_153 0 14 (dk_at dksX7_isGood_2 9 rfl rfl)
theorem dX7_isGood_84 : decode cX7_isGood 84 = .ok (.iload_n 2, 1) := dk_28 (dk_at dksX7_isGood_2 12 rfl rfl)
theorem dX7_isGood_85 : decode cX7_isGood 85 = .ok (.invokestatic 111, 3) := dk_184 0 111 (dk_at dksX7_isGood_2 13 rfl rfl)
theorem dX7_isGood_88 : decode cX7_isGood 88 = .ok (.ifCond .eq 7, 3) := dk_153 0 7 (dk_at dksX7_isGood_2 16 rfl rfl)
theorem dX7_isGood_91 : decode cX7_isGood 91 = .ok (.iconst 1, 1) := dk_4 (dk_at dksX7_isGood_2 19 rfl rfl)
theorem dX7_isGood_92 : decode cX7_isGood 92 = .ok (.goto 4, 3) := dk_167 0 4 (dk_at dksX7_isGood_2 20 rfl rfl)
theorem dX7_isGood_95 : decode cX7_isGood 95 = .ok (.iconst 0, 1) := dk_3 (dk_at dksX7_isGood_2 23 rfl rfl)
theorem dX7_isGood_96 : decode cX7_isGood 96 = .ok (.ireturn, 1) := dk_172 (dk_at dksX7_isGood_3 0 rfl rfl)
theorem dX7_isGood_97 : decode cX7_isGood 97 = .ok (.iload_n 1, 1) := dk_27 (dk_at dksX7_isGood_3 1 rfl rfl)
theorem dX7_isGood_98 : decode cX7_isGood 98 = .ok (.invokestatic 111, 3) := dk_184 0 111 (dk_at dksX7_isGood_3 2 rfl rfl)
theorem dX7_isGood_101 : decode cX7_isGood 101 = .ok (.ifCond .eq 21, 3) := dk_153 0 21 (dk_at dksX7_isGood_3 5 rfl rfl)
theorem dX7_isGood_104 : decode cX7_isGood 104 = .ok (.iload_n 2, 1) := dk_28 (dk_at dksX7_isGood_3 8 rfl rfl)
theorem dX7_isGood_105 : decode cX7_isGood 105 = .ok (.invokestatic 111, 3) := dk_184 0 111 (dk_at dksX7_isGood_3 9 rfl rfl)
theorem dX7_isGood_108 : decode cX7_isGood 108 = .ok (.ifCond .eq 14, 3) := dk_153 0 14 (dk_at dksX7_isGood_3 12 rfl rfl)
theorem dX7_isGood_111 : decode cX7_isGood 111 = .ok (.iload_n 3, 1) := dk_29 (dk_at dksX7_isGood_3 15 rfl rfl)
theorem dX7_isGood_112 : decode cX7_isGood 112 = .ok (.invokestatic 111, 3) := dk_184 0 111 (dk_at dksX7_isGood_3 16 rfl rfl)
theorem dX7_isGood_115 : decode cX7_isGood 115 = .ok (.ifCond .eq 7, 3) := dk_153 0 7 (dk_at dksX7_isGood_3 19 rfl rfl)
theorem dX7_isGood_118 : decode cX7_isGood 118 = .ok (.iconst 1, 1) := dk_4 (dk_at dksX7_isGood_3 22 rfl rfl)
theorem dX7_isGood_119 : decode cX7_isGood 119 = .ok (.goto 4, 3) := dk_167 0 4 (dk_at dksX7_isGood_4 0 rfl rfl)
theorem dX7_isGood_122 : decode cX7_isGood 122 = .ok (.iconst 0, 1) := dk_3 (dk_at dksX7_isGood_4 3 rfl rfl)
theorem dX7_isGood_123 : decode cX7_isGood 123 = .ok (.ireturn, 1) := dk_172 (dk_at dksX7_isGood_4 4 rfl rfl)
theorem dX7_isGood_124 : decode cX7_isGood 124 = .ok (.iload_n 1, 1) := dk_27 (dk_at dksX7_isGood_4 5 rfl rfl)
theorem dX7_isGood_125 : decode cX7_isGood 125 = .ok (.invokestatic 111, 3) := dk_184 0 111 (dk_at dksX7_isGood_4 6 rfl rfl)
theorem dX7_isGood_128 : decode cX7_isGood 128 = .ok (.ifCond .eq 21, 3) := dk_153 0 21 (dk_at dksX7_isGood_4 9 rfl rfl)
theorem dX7_isGood_131 : decode cX7_isGood 131 = .ok (.iload_n 2, 1) := dk_28 (dk_at dksX7_isGood_4 12 rfl rfl)
theorem dX7_isGood_132 : decode cX7_isGood 132 = .ok (.invokestatic 111, 3) := dk_184 0 111 (dk_at dksX7_isGood_4 13 rfl rfl)
theorem dX7_isGood_135 : decode cX7_isGood 135 = .ok (.ifCond .eq 14, 3) := dk_153 0 14 (dk_at dksX7_isGood_4 16 rfl rfl)
theorem dX7_isGood_138 : decode cX7_isGood 138 = .ok (.iload_n 3, 1) := dk_29 (dk_at dksX7_isGood_4 19 rfl rfl)
theorem dX7_isGood_139 : decode cX7_isGood 139 = .ok (.invokestatic 104, 3) := dk_184 0 104 (dk_at dksX7_isGood_4 20 rfl rfl)
theorem dX7_isGood_142 : decode cX7_isGood 142 = .ok (.ifCond .eq 7, 3) := dk_153 0 7 (dk_at dksX7_isGood_5 0 rfl rfl)
theorem dX7_isGood_145 : decode cX7_isGood 145 = .ok (.iconst 1, 1) := dk_4 (dk_at dksX7_isGood_5 3 rfl rfl)
theorem dX7_isGood_146 : decode cX7_isGood 146 = .ok (.goto 4, 3) := dk_167 0 4 (dk_at dksX7_isGood_5 4 rfl rfl)
theorem dX7_isGood_149 : decode cX7_isGood 149 = .ok (.iconst 0, 1) := dk_3 (dk_at dksX7_isGood_5 7 rfl rfl)
theorem dX7_isGood_150 : decode cX7_isGood 150 = .ok (.ireturn, 1) := dk_172 (dk_at dksX7_isGood_5 8 rfl rfl)
theorem dX7_isGood_151 : decode cX7_isGood 151 = .ok (.iload_n 1, 1) := dk_27 (dk_at dksX7_isGood_5 9 rfl rfl)
theorem dX7_isGood_152 : decode cX7_isGood 152 = .ok (.invokestatic 104, 3) := dk_184 0 104 (dk_at dksX7_isGood_5 10 rfl rfl)
theorem dX7_isGood_155 : decode cX7_isGood 155 = .ok (.ireturn, 1) := dk_172 (dk_at dksX7_isGood_5 13 rfl rfl)
theorem dX7_isGood_156 : decode cX7_isGood 156 = .ok (.iload_n 1, 1) := dk_27 (dk_at dksX7_isGood_5 14 rfl rfl)
theorem dX7_isGood_157 : decode cX7_isGood 157 = .ok (.invokestatic 101, 3) := dk_184 0 101 (dk_at dksX7_isGood_5 15 rfl rfl)
theorem dX7_isGood_160 : decode cX7_isGood 160 = .ok (.ireturn, 1) := dk_172 (dk_at dksX7_isGood_5 18 rfl rfl)
theorem dX7_isGood_161 : decode cX7_isGood 161 = .ok (.iload_n 1, 1) := dk_27 (dk_at dksX7_isGood_5 19 rfl rfl)
theorem dX7_isGood_162 : decode cX7_isGood 162 = .ok (.invokestatic 111, 3) := dk_184 0 111 (dk_at dksX7_isGood_5 20 rfl rfl)
theorem dX7_isGood_165 : decode cX7_isGood 165 = .ok (.ifCond .eq 14, 3) := dk_153 0 14 (dk_at dksX7_isGood_6 0 rfl rfl)
theorem dX7_isGood_168 : decode cX7_isGood 168 = .ok (.iload_n 2, 1) := dk_28 (dk_at dksX7_isGood_6 3 rfl rfl)
theorem dX7_isGood_169 : decode cX7_isGood 169 = .ok (.invokestatic 101, 3) := dk_184 0 101 (dk_at dksX7_isGood_6 4 rfl rfl)
theorem dX7_isGood_172 : decode cX7_isGood 172 = .ok (.ifCond .eq 7, 3) := dk_153 0 7 (dk_at dksX7_isGood_6 7 rfl rfl)
theorem dX7_isGood_175 : decode cX7_isGood 175 = .ok (.iconst 1, 1) := dk_4 (dk_at dksX7_isGood_6 10 rfl rfl)
theorem dX7_isGood_176 : decode cX7_isGood 176 = .ok (.goto 4, 3) := dk_167 0 4 (dk_at dksX7_isGood_6 11 rfl rfl)
theorem dX7_isGood_179 : decode cX7_isGood 179 = .ok (.iconst 0, 1) := dk_3 (dk_at dksX7_isGood_6 14 rfl rfl)
theorem dX7_isGood_180 : decode cX7_isGood 180 = .ok (.ireturn, 1) := dk_172 (dk_at dksX7_isGood_6 15 rfl rfl)
theorem dX7_isGood_181 : decode cX7_isGood 181 = .ok (.iload_n 1, 1) := dk_27 (dk_at dksX7_isGood_6 16 rfl rfl)
theorem dX7_isGood_182 : decode cX7_isGood 182 = .ok (.invokestatic 101, 3) := dk_184 0 101 (dk_at dksX7_isGood_6 17 rfl rfl)
theorem dX7_isGood_185 : decode cX7_isGood 185 = .ok (.ifCond .eq 14, 3) := dk_153 0 14 (dk_at dksX7_isGood_6 20 rfl rfl)
theorem dX7_isGood_188 : decode cX7_isGood 188 = .ok (.iload_n 2, 1) := dk_28 (dk_at dksX7_isGood_6 23 rfl rfl)
theorem dX7_isGood_189 : decode cX7_isGood 189 = .ok (.invokestatic 111, 3) := dk_184 0 111 (dk_at dksX7_isGood_7 0 rfl rfl)
theorem dX7_isGood_192 : decode cX7_isGood 192 = .ok (.ifCond .eq 7, 3) := dk_153 0 7 (dk_at dksX7_isGood_7 3 rfl rfl)
theorem dX7_isGood_195 : decode cX7_isGood 195 = .ok (.iconst 1, 1) := dk_4 (dk_at dksX7_isGood_7 6 rfl rfl)
theorem dX7_isGood_196 : decode cX7_isGood 196 = .ok (.goto 4, 3) := dk_167 0 4 (dk_at dksX7_isGood_7 7 rfl rfl)
theorem dX7_isGood_199 : decode cX7_isGood 199 = .ok (.iconst 0, 1) := dk_3 (dk_at dksX7_isGood_7 10 rfl rfl)
theorem dX7_isGood_200 : decode cX7_isGood 200 = .ok (.ireturn, 1) := dk_172 (dk_at dksX7_isGood_7 11 rfl rfl)
theorem dX7_isGood_201 : decode cX7_isGood 201 = .ok (.iload_n 0, 1) := dk_26 (dk_at dksX7_isGood_7 12 rfl rfl)
theorem dX7_isGood_202 : decode cX7_isGood 202 = .ok (.bipush 12, 2) := dk_16 12 (dk_at dksX7_isGood_7 13 rfl rfl)
theorem dX7_isGood_204 : decode cX7_isGood 204 = .ok (.if_icmp .eq 9, 3) := dk_159 0 9 (dk_at dksX7_isGood_7 15 rfl rfl)
theorem dX7_isGood_207 : decode cX7_isGood 207 = .ok (.iload_n 0, 1) := dk_26 (dk_at dksX7_isGood_7 18 rfl rfl)
theorem dX7_isGood_208 : decode cX7_isGood 208 = .ok (.bipush 14, 2) := dk_16 14 (dk_at dksX7_isGood_7 19 rfl rfl)
theorem dX7_isGood_210 : decode cX7_isGood 210 = .ok (.if_icmp .ne 7, 3) := dk_160 0 7 (dk_at dksX7_isGood_7 21 rfl rfl)
theorem dX7_isGood_213 : decode cX7_isGood 213 = .ok (.iconst 1, 1) := dk_4 (dk_at dksX7_isGood_8 0 rfl rfl)
theorem dX7_isGood_214 : decode cX7_isGood 214 = .ok (.goto 4, 3) := dk_167 0 4 (dk_at dksX7_isGood_8 1 rfl rfl)
theorem dX7_isGood_217 : decode cX7_isGood 217 = .ok (.iconst 0, 1) := dk_3 (dk_at dksX7_isGood_8 4 rfl rfl)
theorem dX7_isGood_218 : decode cX7_isGood 218 = .ok (.ireturn, 1) := dk_172 (dk_at dksX7_isGood_8 5 rfl rfl)
abbrev cX7_isRegister : ByteArray := prog_11_method_4_code
def yX7_isRegister : MethodName := ⟨RX7, "isRegister", "(I)Z"⟩
def dkwX7_isRegister_0 : List UInt8 := [26, 155, 0, 13, 26, 16, 8, 162, 0, 7, 4, 167, 0, 4, 3, 172]
abbrev dktX7_isRegister_0 : List UInt8 := dkwX7_isRegister_0 ++ []
theorem dksX7_isRegister_0 : cX7_isRegister.data.toList.drop 0 = dktX7_isRegister_0 := by decide +kernel
theorem dX7_isRegister_0 : decode cX7_isRegister 0 = .ok (.iload_n 0, 1) := dk_26 (dk_at dksX7_isRegister_0 0 rfl rfl)
theorem dX7_isRegister_1 : decode cX7_isRegister 1 = .ok (.ifCond .lt 13, 3) := dk_155 0 13 (dk_at dksX7_isRegister_0 1 rfl rfl)
theorem dX7_isRegister_4 : decode cX7_isRegister 4 = .ok (.iload_n 0, 1) := dk_26 (dk_at dksX7_isRegister_0 4 rfl rfl)
theorem dX7_isRegister_5 : decode cX7_isRegister 5 = .ok (.bipush 8, 2) := dk_16 8 (dk_at dksX7_isRegister_0 5 rfl rfl)
theorem dX7_isRegister_7 : decode cX7_isRegister 7 = .ok (.if_icmp .ge 7, 3) := dk_162 0 7 (dk_at dksX7_isRegister_0 7 rfl rfl)
theorem dX7_isRegister_10 : decode cX7_isRegister 10 = .ok (.iconst 1, 1) := dk_4 (dk_at dksX7_isRegister_0 10 rfl rfl)
theorem dX7_isRegister_11 : decode cX7_isRegister 11 = .ok (.goto 4, 3) := dk_167 0 4 (dk_at dksX7_isRegister_0 11 rfl rfl)
theorem dX7_isRegister_14 : decode cX7_isRegister 14 = .ok (.iconst 0, 1) := dk_3 (dk_at dksX7_isRegister_0 14 rfl rfl)
theorem dX7_isRegister_15 : decode cX7_isRegister 15 = .ok (.ireturn, 1) := dk_172 (dk_at dksX7_isRegister_0 15 rfl rfl)
abbrev cX7_load : ByteArray := prog_11_method_22_code
def yX7_load : MethodName := ⟨RX7, "load", "(II)I"⟩
def dkwX7_load_6 : List UInt8 := [182, 0, 153, 42, 182, 0, 156, 3, 172]
abbrev dktX7_load_6 : List UInt8 := dkwX7_load_6 ++ []
def dkwX7_load_5 : List UInt8 := [162, 0, 21, 42, 180, 0, 44, 29, 42, 180, 0, 56, 29, 46, 79, 132, 3, 1, 167, 255, 233, 42]
abbrev dktX7_load_5 : List UInt8 := dkwX7_load_5 ++ dktX7_load_6
def dkwX7_load_4 : List UInt8 := [181, 0, 139, 42, 27, 181, 0, 129, 42, 42, 180, 0, 118, 181, 0, 132, 3, 62, 29, 42, 180, 0, 132]
abbrev dktX7_load_4 : List UInt8 := dkwX7_load_4 ++ dktX7_load_5
def dkwX7_load_3 : List UInt8 := [132, 3, 1, 167, 255, 225, 42, 4, 181, 0, 97, 42, 28, 4, 160, 0, 7, 4, 167, 0, 4, 3]
abbrev dktX7_load_3 : List UInt8 := dkwX7_load_3 ++ dktX7_load_4
def dkwX7_load_2 : List UInt8 := [162, 0, 29, 42, 42, 180, 0, 56, 29, 46, 182, 0, 150, 54, 4, 21, 4, 158, 0, 6, 21, 4, 172]
abbrev dktX7_load_2 : List UInt8 := dkwX7_load_2 ++ dktX7_load_3
def dkwX7_load_1 : List UInt8 := [42, 2, 181, 0, 72, 42, 2, 181, 0, 75, 42, 27, 182, 0, 146, 3, 62, 29, 42, 180, 0, 118]
abbrev dktX7_load_1 : List UInt8 := dkwX7_load_1 ++ dktX7_load_2
def dkwX7_load_0 : List UInt8 := [42, 27, 182, 0, 93, 153, 0, 12, 28, 155, 0, 8, 28, 4, 164, 0, 5, 2, 172, 42, 2, 181, 0, 68]
abbrev dktX7_load_0 : List UInt8 := dkwX7_load_0 ++ dktX7_load_1
theorem dksX7_load_0 : cX7_load.data.toList.drop 0 = dktX7_load_0 := by decide +kernel
theorem dksX7_load_1 : cX7_load.data.toList.drop 24 = dktX7_load_1 := dk_seg dksX7_load_0 24 rfl rfl
theorem dksX7_load_2 : cX7_load.data.toList.drop 46 = dktX7_load_2 := dk_seg dksX7_load_1 22 rfl rfl
theorem dksX7_load_3 : cX7_load.data.toList.drop 69 = dktX7_load_3 := dk_seg dksX7_load_2 23 rfl rfl
theorem dksX7_load_4 : cX7_load.data.toList.drop 91 = dktX7_load_4 := dk_seg dksX7_load_3 22 rfl rfl
theorem dksX7_load_5 : cX7_load.data.toList.drop 114 = dktX7_load_5 := dk_seg dksX7_load_4 23 rfl rfl
theorem dksX7_load_6 : cX7_load.data.toList.drop 136 = dktX7_load_6 := dk_seg dksX7_load_5 22 rfl rfl
theorem dX7_load_0 : decode cX7_load 0 = .ok (.aload_n 0, 1) := dk_42 (dk_at dksX7_load_0 0 rfl rfl)
theorem dX7_load_1 : decode cX7_load 1 = .ok (.iload_n 1, 1) := dk_27 (dk_at dksX7_load_0 1 rfl rfl)
theorem dX7_load_2 : decode cX7_load 2 = .ok (.invokevirtual 93, 3) := dk_182 0 93 (dk_at dksX7_load_0 2 rfl rfl)
theorem dX7_load_5 : decode cX7_load 5 = .ok (.ifCond .eq 12, 3) := dk_153 0 12 (dk_at dksX7_load_0 5 rfl rfl)
theorem dX7_load_8 : decode cX7_load 8 = .ok (.iload_n 2, 1) := dk_28 (dk_at dksX7_load_0 8 rfl rfl)
theorem dX7_load_9 : decode cX7_load 9 = .ok (.ifCond .lt 8, 3) := dk_155 0 8 (dk_at dksX7_load_0 9 rfl rfl)
theorem dX7_load_12 : decode cX7_load 12 = .ok (.iload_n 2, 1) := dk_28 (dk_at dksX7_load_0 12 rfl rfl)
theorem dX7_load_13 : decode cX7_load 13 = .ok (.iconst 1, 1) := dk_4 (dk_at dksX7_load_0 13 rfl rfl)
theorem dX7_load_14 : decode cX7_load 14 = .ok (.if_icmp .le 5, 3) := dk_164 0 5 (dk_at dksX7_load_0 14 rfl rfl)
theorem dX7_load_17 : decode cX7_load 17 = .ok (.iconst (-1), 1) := dk_2 (dk_at dksX7_load_0 17 rfl rfl)
theorem dX7_load_18 : decode cX7_load 18 = .ok (.ireturn, 1) := dk_172 (dk_at dksX7_load_0 18 rfl rfl)
theorem dX7_load_19 : decode cX7_load 19 = .ok (.aload_n 0, 1) := dk_42 (dk_at dksX7_load_0 19 rfl rfl)
theorem dX7_load_20 : decode cX7_load 20 = .ok (.iconst (-1), 1) := dk_2 (dk_at dksX7_load_0 20 rfl rfl)
theorem dX7_load_21 : decode cX7_load 21 = .ok (.putfield 68, 3) := dk_181 0 68 (dk_at dksX7_load_0 21 rfl rfl)
theorem dX7_load_24 : decode cX7_load 24 = .ok (.aload_n 0, 1) := dk_42 (dk_at dksX7_load_1 0 rfl rfl)
theorem dX7_load_25 : decode cX7_load 25 = .ok (.iconst (-1), 1) := dk_2 (dk_at dksX7_load_1 1 rfl rfl)
theorem dX7_load_26 : decode cX7_load 26 = .ok (.putfield 72, 3) := dk_181 0 72 (dk_at dksX7_load_1 2 rfl rfl)
theorem dX7_load_29 : decode cX7_load 29 = .ok (.aload_n 0, 1) := dk_42 (dk_at dksX7_load_1 5 rfl rfl)
theorem dX7_load_30 : decode cX7_load 30 = .ok (.iconst (-1), 1) := dk_2 (dk_at dksX7_load_1 6 rfl rfl)
theorem dX7_load_31 : decode cX7_load 31 = .ok (.putfield 75, 3) := dk_181 0 75 (dk_at dksX7_load_1 7 rfl rfl)
theorem dX7_load_34 : decode cX7_load 34 = .ok (.aload_n 0, 1) := dk_42 (dk_at dksX7_load_1 10 rfl rfl)
theorem dX7_load_35 : decode cX7_load 35 = .ok (.iload_n 1, 1) := dk_27 (dk_at dksX7_load_1 11 rfl rfl)
theorem dX7_load_36 : decode cX7_load 36 = .ok (.invokevirtual 146, 3) := dk_182 0 146 (dk_at dksX7_load_1 12 rfl rfl)
theorem dX7_load_39 : decode cX7_load 39 = .ok (.iconst 0, 1) := dk_3 (dk_at dksX7_load_1 15 rfl rfl)
theorem dX7_load_40 : decode cX7_load 40 = .ok (.istore_n 3, 1) := dk_62 (dk_at dksX7_load_1 16 rfl rfl)
theorem dX7_load_41 : decode cX7_load 41 = .ok (.iload_n 3, 1) := dk_29 (dk_at dksX7_load_1 17 rfl rfl)
theorem dX7_load_42 : decode cX7_load 42 = .ok (.aload_n 0, 1) := dk_42 (dk_at dksX7_load_1 18 rfl rfl)
theorem dX7_load_43 : decode cX7_load 43 = .ok (.getfield 118, 3) := dk_180 0 118 (dk_at dksX7_load_1 19 rfl rfl)
theorem dX7_load_46 : decode cX7_load 46 = .ok (.if_icmp .ge 29, 3) := dk_162 0 29 (dk_at dksX7_load_2 0 rfl rfl)
theorem dX7_load_49 : decode cX7_load 49 = .ok (.aload_n 0, 1) := dk_42 (dk_at dksX7_load_2 3 rfl rfl)
theorem dX7_load_50 : decode cX7_load 50 = .ok (.aload_n 0, 1) := dk_42 (dk_at dksX7_load_2 4 rfl rfl)
theorem dX7_load_51 : decode cX7_load 51 = .ok (.getfield 56, 3) := dk_180 0 56 (dk_at dksX7_load_2 5 rfl rfl)
theorem dX7_load_54 : decode cX7_load 54 = .ok (.iload_n 3, 1) := dk_29 (dk_at dksX7_load_2 8 rfl rfl)
theorem dX7_load_55 : decode cX7_load 55 = .ok (.iaload, 1) := dk_46 (dk_at dksX7_load_2 9 rfl rfl)
theorem dX7_load_56 : decode cX7_load 56 = .ok (.invokevirtual 150, 3) := dk_182 0 150 (dk_at dksX7_load_2 10 rfl rfl)
theorem dX7_load_59 : decode cX7_load 59 = .ok (.istore 4, 2) := dk_54 4 (dk_at dksX7_load_2 13 rfl rfl)
theorem dX7_load_61 : decode cX7_load 61 = .ok (.iload 4, 2) := dk_21 4 (dk_at dksX7_load_2 15 rfl rfl)
theorem dX7_load_63 : decode cX7_load 63 = .ok (.ifCond .le 6, 3) := dk_158 0 6 (dk_at dksX7_load_2 17 rfl rfl)
theorem dX7_load_66 : decode cX7_load 66 = .ok (.iload 4, 2) := dk_21 4 (dk_at dksX7_load_2 20 rfl rfl)
theorem dX7_load_68 : decode cX7_load 68 = .ok (.ireturn, 1) := dk_172 (dk_at dksX7_load_2 22 rfl rfl)
theorem dX7_load_69 : decode cX7_load 69 = .ok (.iinc 3 1, 3) := dk_132 3 1 (dk_at dksX7_load_3 0 rfl rfl)
theorem dX7_load_72 : decode cX7_load 72 = .ok (.goto (-31), 3) := dk_167 255 225 (dk_at dksX7_load_3 3 rfl rfl)
theorem dX7_load_75 : decode cX7_load 75 = .ok (.aload_n 0, 1) := dk_42 (dk_at dksX7_load_3 6 rfl rfl)
theorem dX7_load_76 : decode cX7_load 76 = .ok (.iconst 1, 1) := dk_4 (dk_at dksX7_load_3 7 rfl rfl)
theorem dX7_load_77 : decode cX7_load 77 = .ok (.putfield 97, 3) := dk_181 0 97 (dk_at dksX7_load_3 8 rfl rfl)
theorem dX7_load_80 : decode cX7_load 80 = .ok (.aload_n 0, 1) := dk_42 (dk_at dksX7_load_3 11 rfl rfl)
theorem dX7_load_81 : decode cX7_load 81 = .ok (.iload_n 2, 1) := dk_28 (dk_at dksX7_load_3 12 rfl rfl)
theorem dX7_load_82 : decode cX7_load 82 = .ok (.iconst 1, 1) := dk_4 (dk_at dksX7_load_3 13 rfl rfl)
theorem dX7_load_83 : decode cX7_load 83 = .ok (.if_icmp .ne 7, 3) := dk_160 0 7 (dk_at dksX7_load_3 14 rfl rfl)
theorem dX7_load_86 : decode cX7_load 86 = .ok (.iconst 1, 1) := dk_4 (dk_at dksX7_load_3 17 rfl rfl)
theorem dX7_load_87 : decode cX7_load 87 = .ok (.goto 4, 3) := dk_167 0 4 (dk_at dksX7_load_3 18 rfl rfl)
theorem dX7_load_90 : decode cX7_load 90 = .ok (.iconst 0, 1) := dk_3 (dk_at dksX7_load_3 21 rfl rfl)
theorem dX7_load_91 : decode cX7_load 91 = .ok (.putfield 139, 3) := dk_181 0 139 (dk_at dksX7_load_4 0 rfl rfl)
theorem dX7_load_94 : decode cX7_load 94 = .ok (.aload_n 0, 1) := dk_42 (dk_at dksX7_load_4 3 rfl rfl)
theorem dX7_load_95 : decode cX7_load 95 = .ok (.iload_n 1, 1) := dk_27 (dk_at dksX7_load_4 4 rfl rfl)
theorem dX7_load_96 : decode cX7_load 96 = .ok (.putfield 129, 3) := dk_181 0 129 (dk_at dksX7_load_4 5 rfl rfl)
theorem dX7_load_99 : decode cX7_load 99 = .ok (.aload_n 0, 1) := dk_42 (dk_at dksX7_load_4 8 rfl rfl)
theorem dX7_load_100 : decode cX7_load 100 = .ok (.aload_n 0, 1) := dk_42 (dk_at dksX7_load_4 9 rfl rfl)
theorem dX7_load_101 : decode cX7_load 101 = .ok (.getfield 118, 3) := dk_180 0 118 (dk_at dksX7_load_4 10 rfl rfl)
theorem dX7_load_104 : decode cX7_load 104 = .ok (.putfield 132, 3) := dk_181 0 132 (dk_at dksX7_load_4 13 rfl rfl)
theorem dX7_load_107 : decode cX7_load 107 = .ok (.iconst 0, 1) := dk_3 (dk_at dksX7_load_4 16 rfl rfl)
theorem dX7_load_108 : decode cX7_load 108 = .ok (.istore_n 3, 1) := dk_62 (dk_at dksX7_load_4 17 rfl rfl)
theorem dX7_load_109 : decode cX7_load 109 = .ok (.iload_n 3, 1) := dk_29 (dk_at dksX7_load_4 18 rfl rfl)
theorem dX7_load_110 : decode cX7_load 110 = .ok (.aload_n 0, 1) := dk_42 (dk_at dksX7_load_4 19 rfl rfl)
theorem dX7_load_111 : decode cX7_load 111 = .ok (.getfield 132, 3) := dk_180 0 132 (dk_at dksX7_load_4 20 rfl rfl)
theorem dX7_load_114 : decode cX7_load 114 = .ok (.if_icmp .ge 21, 3) := dk_162 0 21 (dk_at dksX7_load_5 0 rfl rfl)
theorem dX7_load_117 : decode cX7_load 117 = .ok (.aload_n 0, 1) := dk_42 (dk_at dksX7_load_5 3 rfl rfl)
theorem dX7_load_118 : decode cX7_load 118 = .ok (.getfield 44, 3) := dk_180 0 44 (dk_at dksX7_load_5 4 rfl rfl)
theorem dX7_load_121 : decode cX7_load 121 = .ok (.iload_n 3, 1) := dk_29 (dk_at dksX7_load_5 7 rfl rfl)
theorem dX7_load_122 : decode cX7_load 122 = .ok (.aload_n 0, 1) := dk_42 (dk_at dksX7_load_5 8 rfl rfl)
theorem dX7_load_123 : decode cX7_load 123 = .ok (.getfield 56, 3) := dk_180 0 56 (dk_at dksX7_load_5 9 rfl rfl)
theorem dX7_load_126 : decode cX7_load 126 = .ok (.iload_n 3, 1) := dk_29 (dk_at dksX7_load_5 12 rfl rfl)
theorem dX7_load_127 : decode cX7_load 127 = .ok (.iaload, 1) := dk_46 (dk_at dksX7_load_5 13 rfl rfl)
theorem dX7_load_128 : decode cX7_load 128 = .ok (.iastore, 1) := dk_79 (dk_at dksX7_load_5 14 rfl rfl)
theorem dX7_load_129 : decode cX7_load 129 = .ok (.iinc 3 1, 3) := dk_132 3 1 (dk_at dksX7_load_5 15 rfl rfl)
theorem dX7_load_132 : decode cX7_load 132 = .ok (.goto (-23), 3) := dk_167 255 233 (dk_at dksX7_load_5 18 rfl rfl)
theorem dX7_load_135 : decode cX7_load 135 = .ok (.aload_n 0, 1) := dk_42 (dk_at dksX7_load_5 21 rfl rfl)
theorem dX7_load_136 : decode cX7_load 136 = .ok (.invokevirtual 153, 3) := dk_182 0 153 (dk_at dksX7_load_6 0 rfl rfl)
theorem dX7_load_139 : decode cX7_load 139 = .ok (.aload_n 0, 1) := dk_42 (dk_at dksX7_load_6 3 rfl rfl)
theorem dX7_load_140 : decode cX7_load 140 = .ok (.invokevirtual 156, 3) := dk_182 0 156 (dk_at dksX7_load_6 4 rfl rfl)
theorem dX7_load_143 : decode cX7_load 143 = .ok (.iconst 0, 1) := dk_3 (dk_at dksX7_load_6 7 rfl rfl)
theorem dX7_load_144 : decode cX7_load 144 = .ok (.ireturn, 1) := dk_172 (dk_at dksX7_load_6 8 rfl rfl)
abbrev cX7_findOrder : ByteArray := prog_11_method_15_code
def yX7_findOrder : MethodName := ⟨RX7, "findOrder", "(I)V"⟩
def dkwX7_findOrder_5 : List UInt8 := [180, 0, 118, 4, 96, 181, 0, 118, 132, 4, 1, 167, 255, 189, 132, 2, 1, 167, 255, 165, 177]
abbrev dktX7_findOrder_5 : List UInt8 := dkwX7_findOrder_5 ++ []
def dkwX7_findOrder_4 : List UInt8 := [154, 0, 32, 42, 180, 0, 59, 21, 5, 4, 84, 42, 180, 0, 56, 42, 180, 0, 118, 21, 5, 79, 42, 89]
abbrev dktX7_findOrder_4 : List UInt8 := dkwX7_findOrder_4 ++ dktX7_findOrder_5
def dkwX7_findOrder_3 : List UInt8 := [162, 0, 62, 42, 180, 0, 7, 16, 6, 29, 104, 21, 4, 96, 46, 54, 5, 42, 180, 0, 59, 21, 5, 51]
abbrev dktX7_findOrder_3 : List UInt8 := dkwX7_findOrder_3 ++ dktX7_findOrder_4
def dkwX7_findOrder_2 : List UInt8 := [180, 0, 118, 162, 0, 89, 42, 180, 0, 56, 28, 46, 62, 3, 54, 4, 21, 4, 42, 180, 0, 13, 29, 46]
abbrev dktX7_findOrder_2 : List UInt8 := dkwX7_findOrder_2 ++ dktX7_findOrder_3
def dkwX7_findOrder_1 : List UInt8 := [132, 2, 1, 167, 255, 231, 42, 180, 0, 56, 3, 27, 79, 42, 4, 181, 0, 118, 3, 61, 28, 42]
abbrev dktX7_findOrder_1 : List UInt8 := dkwX7_findOrder_1 ++ dktX7_findOrder_2
def dkwX7_findOrder_0 : List UInt8 := [3, 61, 28, 16, 12, 162, 0, 25, 42, 180, 0, 59, 28, 28, 27, 160, 0, 7, 4, 167, 0, 4, 3, 84]
abbrev dktX7_findOrder_0 : List UInt8 := dkwX7_findOrder_0 ++ dktX7_findOrder_1
theorem dksX7_findOrder_0 : cX7_findOrder.data.toList.drop 0 = dktX7_findOrder_0 := by decide +kernel
theorem dksX7_findOrder_1 : cX7_findOrder.data.toList.drop 24 = dktX7_findOrder_1 := dk_seg dksX7_findOrder_0 24 rfl rfl
theorem dksX7_findOrder_2 : cX7_findOrder.data.toList.drop 46 = dktX7_findOrder_2 := dk_seg dksX7_findOrder_1 22 rfl rfl
theorem dksX7_findOrder_3 : cX7_findOrder.data.toList.drop 70 = dktX7_findOrder_3 := dk_seg dksX7_findOrder_2 24 rfl rfl
theorem dksX7_findOrder_4 : cX7_findOrder.data.toList.drop 94 = dktX7_findOrder_4 := dk_seg dksX7_findOrder_3 24 rfl rfl
theorem dksX7_findOrder_5 : cX7_findOrder.data.toList.drop 118 = dktX7_findOrder_5 := dk_seg dksX7_findOrder_4 24 rfl rfl
theorem dX7_findOrder_0 : decode cX7_findOrder 0 = .ok (.iconst 0, 1) := dk_3 (dk_at dksX7_findOrder_0 0 rfl rfl)
theorem dX7_findOrder_1 : decode cX7_findOrder 1 = .ok (.istore_n 2, 1) := dk_61 (dk_at dksX7_findOrder_0 1 rfl rfl)
theorem dX7_findOrder_2 : decode cX7_findOrder 2 = .ok (.iload_n 2, 1) := dk_28 (dk_at dksX7_findOrder_0 2 rfl rfl)
theorem dX7_findOrder_3 : decode cX7_findOrder 3 = .ok (.bipush 12, 2) := dk_16 12 (dk_at dksX7_findOrder_0 3 rfl rfl)
theorem dX7_findOrder_5 : decode cX7_findOrder 5 = .ok (.if_icmp .ge 25, 3) := dk_162 0 25 (dk_at dksX7_findOrder_0 5 rfl rfl)
theorem dX7_findOrder_8 : decode cX7_findOrder 8 = .ok (.aload_n 0, 1) := dk_42 (dk_at dksX7_findOrder_0 8 rfl rfl)
theorem dX7_findOrder_9 : decode cX7_findOrder 9 = .ok (.getfield 59, 3) := dk_180 0 59 (dk_at dksX7_findOrder_0 9 rfl rfl)
theorem dX7_findOrder_12 : decode cX7_findOrder 12 = .ok (.iload_n 2, 1) := dk_28 (dk_at dksX7_findOrder_0 12 rfl rfl)
theorem dX7_findOrder_13 : decode cX7_findOrder 13 = .ok (.iload_n 2, 1) := dk_28 (dk_at dksX7_findOrder_0 13 rfl rfl)
theorem dX7_findOrder_14 : decode cX7_findOrder 14 = .ok (.iload_n 1, 1) := dk_27 (dk_at dksX7_findOrder_0 14 rfl rfl)
theorem dX7_findOrder_15 : decode cX7_findOrder 15 = .ok (.if_icmp .ne 7, 3) := dk_160 0 7 (dk_at dksX7_findOrder_0 15 rfl rfl)
theorem dX7_findOrder_18 : decode cX7_findOrder 18 = .ok (.iconst 1, 1) := dk_4 (dk_at dksX7_findOrder_0 18 rfl rfl)
theorem dX7_findOrder_19 : decode cX7_findOrder 19 = .ok (.goto 4, 3) := dk_167 0 4 (dk_at dksX7_findOrder_0 19 rfl rfl)
theorem dX7_findOrder_22 : decode cX7_findOrder 22 = .ok (.iconst 0, 1) := dk_3 (dk_at dksX7_findOrder_0 22 rfl rfl)
theorem dX7_findOrder_23 : decode cX7_findOrder 23 = .ok (.bastore, 1) := dk_84 (dk_at dksX7_findOrder_0 23 rfl rfl)
theorem dX7_findOrder_24 : decode cX7_findOrder 24 = .ok (.iinc 2 1, 3) := dk_132 2 1 (dk_at dksX7_findOrder_1 0 rfl rfl)
theorem dX7_findOrder_27 : decode cX7_findOrder 27 = .ok (.goto (-25), 3) := dk_167 255 231 (dk_at dksX7_findOrder_1 3 rfl rfl)
theorem dX7_findOrder_30 : decode cX7_findOrder 30 = .ok (.aload_n 0, 1) := dk_42 (dk_at dksX7_findOrder_1 6 rfl rfl)
theorem dX7_findOrder_31 : decode cX7_findOrder 31 = .ok (.getfield 56, 3) := dk_180 0 56 (dk_at dksX7_findOrder_1 7 rfl rfl)
theorem dX7_findOrder_34 : decode cX7_findOrder 34 = .ok (.iconst 0, 1) := dk_3 (dk_at dksX7_findOrder_1 10 rfl rfl)
theorem dX7_findOrder_35 : decode cX7_findOrder 35 = .ok (.iload_n 1, 1) := dk_27 (dk_at dksX7_findOrder_1 11 rfl rfl)
theorem dX7_findOrder_36 : decode cX7_findOrder 36 = .ok (.iastore, 1) := dk_79 (dk_at dksX7_findOrder_1 12 rfl rfl)
theorem dX7_findOrder_37 : decode cX7_findOrder 37 = .ok (.aload_n 0, 1) := dk_42 (dk_at dksX7_findOrder_1 13 rfl rfl)
theorem dX7_findOrder_38 : decode cX7_findOrder 38 = .ok (.iconst 1, 1) := dk_4 (dk_at dksX7_findOrder_1 14 rfl rfl)
theorem dX7_findOrder_39 : decode cX7_findOrder 39 = .ok (.putfield 118, 3) := dk_181 0 118 (dk_at dksX7_findOrder_1 15 rfl rfl)
theorem dX7_findOrder_42 : decode cX7_findOrder 42 = .ok (.iconst 0, 1) := dk_3 (dk_at dksX7_findOrder_1 18 rfl rfl)
theorem dX7_findOrder_43 : decode cX7_findOrder 43 = .ok (.istore_n 2, 1) := dk_61 (dk_at dksX7_findOrder_1 19 rfl rfl)
theorem dX7_findOrder_44 : decode cX7_findOrder 44 = .ok (.iload_n 2, 1) := dk_28 (dk_at dksX7_findOrder_1 20 rfl rfl)
theorem dX7_findOrder_45 : decode cX7_findOrder 45 = .ok (.aload_n 0, 1) := dk_42 (dk_at dksX7_findOrder_1 21 rfl rfl)
theorem dX7_findOrder_46 : decode cX7_findOrder 46 = .ok (.getfield 118, 3) := dk_180 0 118 (dk_at dksX7_findOrder_2 0 rfl rfl)
theorem dX7_findOrder_49 : decode cX7_findOrder 49 = .ok (.if_icmp .ge 89, 3) := dk_162 0 89 (dk_at dksX7_findOrder_2 3 rfl rfl)
theorem dX7_findOrder_52 : decode cX7_findOrder 52 = .ok (.aload_n 0, 1) := dk_42 (dk_at dksX7_findOrder_2 6 rfl rfl)
theorem dX7_findOrder_53 : decode cX7_findOrder 53 = .ok (.getfield 56, 3) := dk_180 0 56 (dk_at dksX7_findOrder_2 7 rfl rfl)
theorem dX7_findOrder_56 : decode cX7_findOrder 56 = .ok (.iload_n 2, 1) := dk_28 (dk_at dksX7_findOrder_2 10 rfl rfl)
theorem dX7_findOrder_57 : decode cX7_findOrder 57 = .ok (.iaload, 1) := dk_46 (dk_at dksX7_findOrder_2 11 rfl rfl)
theorem dX7_findOrder_58 : decode cX7_findOrder 58 = .ok (.istore_n 3, 1) := dk_62 (dk_at dksX7_findOrder_2 12 rfl rfl)
theorem dX7_findOrder_59 : decode cX7_findOrder 59 = .ok (.iconst 0, 1) := dk_3 (dk_at dksX7_findOrder_2 13 rfl rfl)
theorem dX7_findOrder_60 : decode cX7_findOrder 60 = .ok (.istore 4, 2) := dk_54 4 (dk_at dksX7_findOrder_2 14 rfl rfl)
theorem dX7_findOrder_62 : decode cX7_findOrder 62 = .ok (.iload 4, 2) := dk_21 4 (dk_at dksX7_findOrder_2 16 rfl rfl)
theorem dX7_findOrder_64 : decode cX7_findOrder 64 = .ok (.aload_n 0, 1) := dk_42 (dk_at dksX7_findOrder_2 18 rfl rfl)
theorem dX7_findOrder_65 : decode cX7_findOrder 65 = .ok (.getfield 13, 3) := dk_180 0 13 (dk_at dksX7_findOrder_2 19 rfl rfl)
theorem dX7_findOrder_68 : decode cX7_findOrder 68 = .ok (.iload_n 3, 1) := dk_29 (dk_at dksX7_findOrder_2 22 rfl rfl)
theorem dX7_findOrder_69 : decode cX7_findOrder 69 = .ok (.iaload, 1) := dk_46 (dk_at dksX7_findOrder_2 23 rfl rfl)
theorem dX7_findOrder_70 : decode cX7_findOrder 70 = .ok (.if_icmp .ge 62, 3) := dk_162 0 62 (dk_at dksX7_findOrder_3 0 rfl rfl)
theorem dX7_findOrder_73 : decode cX7_findOrder 73 = .ok (.aload_n 0, 1) := dk_42 (dk_at dksX7_findOrder_3 3 rfl rfl)
theorem dX7_findOrder_74 : decode cX7_findOrder 74 = .ok (.getfield 7, 3) := dk_180 0 7 (dk_at dksX7_findOrder_3 4 rfl rfl)
theorem dX7_findOrder_77 : decode cX7_findOrder 77 = .ok (.bipush 6, 2) := dk_16 6 (dk_at dksX7_findOrder_3 7 rfl rfl)
theorem dX7_findOrder_79 : decode cX7_findOrder 79 = .ok (.iload_n 3, 1) := dk_29 (dk_at dksX7_findOrder_3 9 rfl rfl)
theorem dX7_findOrder_80 : decode cX7_findOrder 80 = .ok (.imul, 1) := dk_104 (dk_at dksX7_findOrder_3 10 rfl rfl)
theorem dX7_findOrder_81 : decode cX7_findOrder 81 = .ok (.iload 4, 2) := dk_21 4 (dk_at dksX7_findOrder_3 11 rfl rfl)
theorem dX7_findOrder_83 : decode cX7_findOrder 83 = .ok (.iadd, 1) := dk_96 (dk_at dksX7_findOrder_3 13 rfl rfl)
theorem dX7_findOrder_84 : decode cX7_findOrder 84 = .ok (.iaload, 1) := dk_46 (dk_at dksX7_findOrder_3 14 rfl rfl)
theorem dX7_findOrder_85 : decode cX7_findOrder 85 = .ok (.istore 5, 2) := dk_54 5 (dk_at dksX7_findOrder_3 15 rfl rfl)
theorem dX7_findOrder_87 : decode cX7_findOrder 87 = .ok (.aload_n 0, 1) := dk_42 (dk_at dksX7_findOrder_3 17 rfl rfl)
theorem dX7_findOrder_88 : decode cX7_findOrder 88 = .ok (.getfield 59, 3) := dk_180 0 59 (dk_at dksX7_findOrder_3 18 rfl rfl)
theorem dX7_findOrder_91 : decode cX7_findOrder 91 = .ok (.iload 5, 2) := dk_21 5 (dk_at dksX7_findOrder_3 21 rfl rfl)
theorem dX7_findOrder_93 : decode cX7_findOrder 93 = .ok (.baload, 1) := dk_51 (dk_at dksX7_findOrder_3 23 rfl rfl)
theorem dX7_findOrder_94 : decode cX7_findOrder 94 = .ok (.ifCond .ne 32, 3) := dk_154 0 32 (dk_at dksX7_findOrder_4 0 rfl rfl)
theorem dX7_findOrder_97 : decode cX7_findOrder 97 = .ok (.aload_n 0, 1) := dk_42 (dk_at dksX7_findOrder_4 3 rfl rfl)
theorem dX7_findOrder_98 : decode cX7_findOrder 98 = .ok (.getfield 59, 3) := dk_180 0 59 (dk_at dksX7_findOrder_4 4 rfl rfl)
theorem dX7_findOrder_101 : decode cX7_findOrder 101 = .ok (.iload 5, 2) := dk_21 5 (dk_at dksX7_findOrder_4 7 rfl rfl)
theorem dX7_findOrder_103 : decode cX7_findOrder 103 = .ok (.iconst 1, 1) := dk_4 (dk_at dksX7_findOrder_4 9 rfl rfl)
theorem dX7_findOrder_104 : decode cX7_findOrder 104 = .ok (.bastore, 1) := dk_84 (dk_at dksX7_findOrder_4 10 rfl rfl)
theorem dX7_findOrder_105 : decode cX7_findOrder 105 = .ok (.aload_n 0, 1) := dk_42 (dk_at dksX7_findOrder_4 11 rfl rfl)
theorem dX7_findOrder_106 : decode cX7_findOrder 106 = .ok (.getfield 56, 3) := dk_180 0 56 (dk_at dksX7_findOrder_4 12 rfl rfl)
theorem dX7_findOrder_109 : decode cX7_findOrder 109 = .ok (.aload_n 0, 1) := dk_42 (dk_at dksX7_findOrder_4 15 rfl rfl)
theorem dX7_findOrder_110 : decode cX7_findOrder 110 = .ok (.getfield 118, 3) := dk_180 0 118 (dk_at dksX7_findOrder_4 16 rfl rfl)
theorem dX7_findOrder_113 : decode cX7_findOrder 113 = .ok (.iload 5, 2) := dk_21 5 (dk_at dksX7_findOrder_4 19 rfl rfl)
theorem dX7_findOrder_115 : decode cX7_findOrder 115 = .ok (.iastore, 1) := dk_79 (dk_at dksX7_findOrder_4 21 rfl rfl)
theorem dX7_findOrder_116 : decode cX7_findOrder 116 = .ok (.aload_n 0, 1) := dk_42 (dk_at dksX7_findOrder_4 22 rfl rfl)
theorem dX7_findOrder_117 : decode cX7_findOrder 117 = .ok (.dup, 1) := dk_89 (dk_at dksX7_findOrder_4 23 rfl rfl)
theorem dX7_findOrder_118 : decode cX7_findOrder 118 = .ok (.getfield 118, 3) := dk_180 0 118 (dk_at dksX7_findOrder_5 0 rfl rfl)
theorem dX7_findOrder_121 : decode cX7_findOrder 121 = .ok (.iconst 1, 1) := dk_4 (dk_at dksX7_findOrder_5 3 rfl rfl)
theorem dX7_findOrder_122 : decode cX7_findOrder 122 = .ok (.iadd, 1) := dk_96 (dk_at dksX7_findOrder_5 4 rfl rfl)
theorem dX7_findOrder_123 : decode cX7_findOrder 123 = .ok (.putfield 118, 3) := dk_181 0 118 (dk_at dksX7_findOrder_5 5 rfl rfl)
theorem dX7_findOrder_126 : decode cX7_findOrder 126 = .ok (.iinc 4 1, 3) := dk_132 4 1 (dk_at dksX7_findOrder_5 8 rfl rfl)
theorem dX7_findOrder_129 : decode cX7_findOrder 129 = .ok (.goto (-67), 3) := dk_167 255 189 (dk_at dksX7_findOrder_5 11 rfl rfl)
theorem dX7_findOrder_132 : decode cX7_findOrder 132 = .ok (.iinc 2 1, 3) := dk_132 2 1 (dk_at dksX7_findOrder_5 14 rfl rfl)
theorem dX7_findOrder_135 : decode cX7_findOrder 135 = .ok (.goto (-91), 3) := dk_167 255 165 (dk_at dksX7_findOrder_5 17 rfl rfl)
theorem dX7_findOrder_138 : decode cX7_findOrder 138 = .ok (.return_, 1) := dk_177 (dk_at dksX7_findOrder_5 20 rfl rfl)
abbrev cX7_lookAt : ByteArray := prog_11_method_17_code
def yX7_lookAt : MethodName := ⟨RX7, "lookAt", "(I)I"⟩
def dkwX7_lookAt_6 : List UInt8 := [167, 255, 145, 28, 172]
abbrev dktX7_lookAt_6 : List UInt8 := dkwX7_lookAt_6 ++ []
def dkwX7_lookAt_5 : List UInt8 := [159, 0, 10, 21, 5, 16, 10, 160, 0, 7, 4, 167, 0, 4, 3, 182, 0, 125, 61, 132, 3, 1]
abbrev dktX7_lookAt_5 : List UInt8 := dkwX7_lookAt_5 ++ dktX7_lookAt_6
def dkwX7_lookAt_4 : List UInt8 := [180, 0, 31, 21, 4, 4, 96, 46, 167, 0, 12, 42, 180, 0, 31, 21, 4, 5, 96, 46, 21, 5, 16, 7]
abbrev dktX7_lookAt_4 : List UInt8 := dkwX7_lookAt_4 ++ dktX7_lookAt_5
def dkwX7_lookAt_3 : List UInt8 := [16, 11, 162, 0, 64, 42, 27, 29, 21, 5, 16, 7, 159, 0, 10, 21, 5, 16, 9, 160, 0, 15, 42]
abbrev dktX7_lookAt_3 : List UInt8 := dkwX7_lookAt_3 ++ dktX7_lookAt_4
def dkwX7_lookAt_2 : List UInt8 := [104, 29, 96, 104, 54, 4, 42, 180, 0, 31, 21, 4, 46, 54, 5, 21, 5, 16, 6, 164, 0, 71, 21, 5]
abbrev dktX7_lookAt_2 : List UInt8 := dkwX7_lookAt_2 ++ dktX7_lookAt_3
def dkwX7_lookAt_1 : List UInt8 := [182, 0, 125, 61, 3, 62, 29, 42, 180, 0, 34, 27, 46, 162, 0, 107, 28, 154, 0, 103, 7, 16, 100, 27]
abbrev dktX7_lookAt_1 : List UInt8 := dkwX7_lookAt_1 ++ dktX7_lookAt_2
def dkwX7_lookAt_0 : List UInt8 := [42, 180, 0, 41, 27, 46, 2, 160, 0, 7, 3, 167, 0, 16, 42, 27, 2, 42, 180, 0, 41, 27, 46, 4]
abbrev dktX7_lookAt_0 : List UInt8 := dkwX7_lookAt_0 ++ dktX7_lookAt_1
theorem dksX7_lookAt_0 : cX7_lookAt.data.toList.drop 0 = dktX7_lookAt_0 := by decide +kernel
theorem dksX7_lookAt_1 : cX7_lookAt.data.toList.drop 24 = dktX7_lookAt_1 := dk_seg dksX7_lookAt_0 24 rfl rfl
theorem dksX7_lookAt_2 : cX7_lookAt.data.toList.drop 48 = dktX7_lookAt_2 := dk_seg dksX7_lookAt_1 24 rfl rfl
theorem dksX7_lookAt_3 : cX7_lookAt.data.toList.drop 72 = dktX7_lookAt_3 := dk_seg dksX7_lookAt_2 24 rfl rfl
theorem dksX7_lookAt_4 : cX7_lookAt.data.toList.drop 95 = dktX7_lookAt_4 := dk_seg dksX7_lookAt_3 23 rfl rfl
theorem dksX7_lookAt_5 : cX7_lookAt.data.toList.drop 119 = dktX7_lookAt_5 := dk_seg dksX7_lookAt_4 24 rfl rfl
theorem dksX7_lookAt_6 : cX7_lookAt.data.toList.drop 141 = dktX7_lookAt_6 := dk_seg dksX7_lookAt_5 22 rfl rfl
theorem dX7_lookAt_0 : decode cX7_lookAt 0 = .ok (.aload_n 0, 1) := dk_42 (dk_at dksX7_lookAt_0 0 rfl rfl)
theorem dX7_lookAt_1 : decode cX7_lookAt 1 = .ok (.getfield 41, 3) := dk_180 0 41 (dk_at dksX7_lookAt_0 1 rfl rfl)
theorem dX7_lookAt_4 : decode cX7_lookAt 4 = .ok (.iload_n 1, 1) := dk_27 (dk_at dksX7_lookAt_0 4 rfl rfl)
theorem dX7_lookAt_5 : decode cX7_lookAt 5 = .ok (.iaload, 1) := dk_46 (dk_at dksX7_lookAt_0 5 rfl rfl)
theorem dX7_lookAt_6 : decode cX7_lookAt 6 = .ok (.iconst (-1), 1) := dk_2 (dk_at dksX7_lookAt_0 6 rfl rfl)
theorem dX7_lookAt_7 : decode cX7_lookAt 7 = .ok (.if_icmp .ne 7, 3) := dk_160 0 7 (dk_at dksX7_lookAt_0 7 rfl rfl)
theorem dX7_lookAt_10 : decode cX7_lookAt 10 = .ok (.iconst 0, 1) := dk_3 (dk_at dksX7_lookAt_0 10 rfl rfl)
theorem dX7_lookAt_11 : decode cX7_lookAt 11 = .ok (.goto 16, 3) := dk_167 0 16 (dk_at dksX7_lookAt_0 11 rfl rfl)
theorem dX7_lookAt_14 : decode cX7_lookAt 14 = .ok (.aload_n 0, 1) := dk_42 (dk_at dksX7_lookAt_0 14 rfl rfl)
theorem dX7_lookAt_15 : decode cX7_lookAt 15 = .ok (.iload_n 1, 1) := dk_27 (dk_at dksX7_lookAt_0 15 rfl rfl)
theorem dX7_lookAt_16 : decode cX7_lookAt 16 = .ok (.iconst (-1), 1) := dk_2 (dk_at dksX7_lookAt_0 16 rfl rfl)
theorem dX7_lookAt_17 : decode cX7_lookAt 17 = .ok (.aload_n 0, 1) := dk_42 (dk_at dksX7_lookAt_0 17 rfl rfl)
theorem dX7_lookAt_18 : decode cX7_lookAt 18 = .ok (.getfield 41, 3) := dk_180 0 41 (dk_at dksX7_lookAt_0 18 rfl rfl)
theorem dX7_lookAt_21 : decode cX7_lookAt 21 = .ok (.iload_n 1, 1) := dk_27 (dk_at dksX7_lookAt_0 21 rfl rfl)
theorem dX7_lookAt_22 : decode cX7_lookAt 22 = .ok (.iaload, 1) := dk_46 (dk_at dksX7_lookAt_0 22 rfl rfl)
theorem dX7_lookAt_23 : decode cX7_lookAt 23 = .ok (.iconst 1, 1) := dk_4 (dk_at dksX7_lookAt_0 23 rfl rfl)
theorem dX7_lookAt_24 : decode cX7_lookAt 24 = .ok (.invokevirtual 125, 3) := dk_182 0 125 (dk_at dksX7_lookAt_1 0 rfl rfl)
theorem dX7_lookAt_27 : decode cX7_lookAt 27 = .ok (.istore_n 2, 1) := dk_61 (dk_at dksX7_lookAt_1 3 rfl rfl)
theorem dX7_lookAt_28 : decode cX7_lookAt 28 = .ok (.iconst 0, 1) := dk_3 (dk_at dksX7_lookAt_1 4 rfl rfl)
theorem dX7_lookAt_29 : decode cX7_lookAt 29 = .ok (.istore_n 3, 1) := dk_62 (dk_at dksX7_lookAt_1 5 rfl rfl)
theorem dX7_lookAt_30 : decode cX7_lookAt 30 = .ok (.iload_n 3, 1) := dk_29 (dk_at dksX7_lookAt_1 6 rfl rfl)
theorem dX7_lookAt_31 : decode cX7_lookAt 31 = .ok (.aload_n 0, 1) := dk_42 (dk_at dksX7_lookAt_1 7 rfl rfl)
theorem dX7_lookAt_32 : decode cX7_lookAt 32 = .ok (.getfield 34, 3) := dk_180 0 34 (dk_at dksX7_lookAt_1 8 rfl rfl)
theorem dX7_lookAt_35 : decode cX7_lookAt 35 = .ok (.iload_n 1, 1) := dk_27 (dk_at dksX7_lookAt_1 11 rfl rfl)
theorem dX7_lookAt_36 : decode cX7_lookAt 36 = .ok (.iaload, 1) := dk_46 (dk_at dksX7_lookAt_1 12 rfl rfl)
theorem dX7_lookAt_37 : decode cX7_lookAt 37 = .ok (.if_icmp .ge 107, 3) := dk_162 0 107 (dk_at dksX7_lookAt_1 13 rfl rfl)
theorem dX7_lookAt_40 : decode cX7_lookAt 40 = .ok (.iload_n 2, 1) := dk_28 (dk_at dksX7_lookAt_1 16 rfl rfl)
theorem dX7_lookAt_41 : decode cX7_lookAt 41 = .ok (.ifCond .ne 103, 3) := dk_154 0 103 (dk_at dksX7_lookAt_1 17 rfl rfl)
theorem dX7_lookAt_44 : decode cX7_lookAt 44 = .ok (.iconst 4, 1) := dk_7 (dk_at dksX7_lookAt_1 20 rfl rfl)
theorem dX7_lookAt_45 : decode cX7_lookAt 45 = .ok (.bipush 100, 2) := dk_16 100 (dk_at dksX7_lookAt_1 21 rfl rfl)
theorem dX7_lookAt_47 : decode cX7_lookAt 47 = .ok (.iload_n 1, 1) := dk_27 (dk_at dksX7_lookAt_1 23 rfl rfl)
theorem dX7_lookAt_48 : decode cX7_lookAt 48 = .ok (.imul, 1) := dk_104 (dk_at dksX7_lookAt_2 0 rfl rfl)
theorem dX7_lookAt_49 : decode cX7_lookAt 49 = .ok (.iload_n 3, 1) := dk_29 (dk_at dksX7_lookAt_2 1 rfl rfl)
theorem dX7_lookAt_50 : decode cX7_lookAt 50 = .ok (.iadd, 1) := dk_96 (dk_at dksX7_lookAt_2 2 rfl rfl)
theorem dX7_lookAt_51 : decode cX7_lookAt 51 = .ok (.imul, 1) := dk_104 (dk_at dksX7_lookAt_2 3 rfl rfl)
theorem dX7_lookAt_52 : decode cX7_lookAt 52 = .ok (.istore 4, 2) := dk_54 4 (dk_at dksX7_lookAt_2 4 rfl rfl)
theorem dX7_lookAt_54 : decode cX7_lookAt 54 = .ok (.aload_n 0, 1) := dk_42 (dk_at dksX7_lookAt_2 6 rfl rfl)
theorem dX7_lookAt_55 : decode cX7_lookAt 55 = .ok (.getfield 31, 3) := dk_180 0 31 (dk_at dksX7_lookAt_2 7 rfl rfl)
theorem dX7_lookAt_58 : decode cX7_lookAt 58 = .ok (.iload 4, 2) := dk_21 4 (dk_at dksX7_lookAt_2 10 rfl rfl)
theorem dX7_lookAt_60 : decode cX7_lookAt 60 = .ok (.iaload, 1) := dk_46 (dk_at dksX7_lookAt_2 12 rfl rfl)
theorem dX7_lookAt_61 : decode cX7_lookAt 61 = .ok (.istore 5, 2) := dk_54 5 (dk_at dksX7_lookAt_2 13 rfl rfl)
theorem dX7_lookAt_63 : decode cX7_lookAt 63 = .ok (.iload 5, 2) := dk_21 5 (dk_at dksX7_lookAt_2 15 rfl rfl)
theorem dX7_lookAt_65 : decode cX7_lookAt 65 = .ok (.bipush 6, 2) := dk_16 6 (dk_at dksX7_lookAt_2 17 rfl rfl)
theorem dX7_lookAt_67 : decode cX7_lookAt 67 = .ok (.if_icmp .le 71, 3) := dk_164 0 71 (dk_at dksX7_lookAt_2 19 rfl rfl)
theorem dX7_lookAt_70 : decode cX7_lookAt 70 = .ok (.iload 5, 2) := dk_21 5 (dk_at dksX7_lookAt_2 22 rfl rfl)
theorem dX7_lookAt_72 : decode cX7_lookAt 72 = .ok (.bipush 11, 2) := dk_16 11 (dk_at dksX7_lookAt_3 0 rfl rfl)
theorem dX7_lookAt_74 : decode cX7_lookAt 74 = .ok (.if_icmp .ge 64, 3) := dk_162 0 64 (dk_at dksX7_lookAt_3 2 rfl rfl)
theorem dX7_lookAt_77 : decode cX7_lookAt 77 = .ok (.aload_n 0, 1) := dk_42 (dk_at dksX7_lookAt_3 5 rfl rfl)
theorem dX7_lookAt_78 : decode cX7_lookAt 78 = .ok (.iload_n 1, 1) := dk_27 (dk_at dksX7_lookAt_3 6 rfl rfl)
theorem dX7_lookAt_79 : decode cX7_lookAt 79 = .ok (.iload_n 3, 1) := dk_29 (dk_at dksX7_lookAt_3 7 rfl rfl)
theorem dX7_lookAt_80 : decode cX7_lookAt 80 = .ok (.iload 5, 2) := dk_21 5 (dk_at dksX7_lookAt_3 8 rfl rfl)
theorem dX7_lookAt_82 : decode cX7_lookAt 82 = .ok (.bipush 7, 2) := dk_16 7 (dk_at dksX7_lookAt_3 10 rfl rfl)
theorem dX7_lookAt_84 : decode cX7_lookAt 84 = .ok (.if_icmp .eq 10, 3) := dk_159 0 10 (dk_at dksX7_lookAt_3 12 rfl rfl)
theorem dX7_lookAt_87 : decode cX7_lookAt 87 = .ok (.iload 5, 2) := dk_21 5 (dk_at dksX7_lookAt_3 15 rfl rfl)
theorem dX7_lookAt_89 : decode cX7_lookAt 89 = .ok (.bipush 9, 2) := dk_16 9 (dk_at dksX7_lookAt_3 17 rfl rfl)
theorem dX7_lookAt_91 : decode cX7_lookAt 91 = .ok (.if_icmp .ne 15, 3) := dk_160 0 15 (dk_at dksX7_lookAt_3 19 rfl rfl)
theorem dX7_lookAt_94 : decode cX7_lookAt 94 = .ok (.aload_n 0, 1) := dk_42 (dk_at dksX7_lookAt_3 22 rfl rfl)
theorem dX7_lookAt_95 : decode cX7_lookAt 95 = .ok (.getfield 31, 3) := dk_180 0 31 (dk_at dksX7_lookAt_4 0 rfl rfl)
theorem dX7_lookAt_98 : decode cX7_lookAt 98 = .ok (.iload 4, 2) := dk_21 4 (dk_at dksX7_lookAt_4 3 rfl rfl)
theorem dX7_lookAt_100 : decode cX7_lookAt 100 = .ok (.iconst 1, 1) := dk_4 (dk_at dksX7_lookAt_4 5 rfl rfl)
theorem dX7_lookAt_101 : decode cX7_lookAt 101 = .ok (.iadd, 1) := dk_96 (dk_at dksX7_lookAt_4 6 rfl rfl)
theorem dX7_lookAt_102 : decode cX7_lookAt 102 = .ok (.iaload, 1) := dk_46 (dk_at dksX7_lookAt_4 7 rfl rfl)
theorem dX7_lookAt_103 : decode cX7_lookAt 103 = .ok (.goto 12, 3) := dk_167 0 12 (dk_at dksX7_lookAt_4 8 rfl rfl)
theorem dX7_lookAt_106 : decode cX7_lookAt 106 = .ok (.aload_n 0, 1) := dk_42 (dk_at dksX7_lookAt_4 11 rfl rfl)
theorem dX7_lookAt_107 : decode cX7_lookAt 107 = .ok (.getfield 31, 3) := dk_180 0 31 (dk_at dksX7_lookAt_4 12 rfl rfl)
theorem dX7_lookAt_110 : decode cX7_lookAt 110 = .ok (.iload 4, 2) := dk_21 4 (dk_at dksX7_lookAt_4 15 rfl rfl)
theorem dX7_lookAt_112 : decode cX7_lookAt 112 = .ok (.iconst 2, 1) := dk_5 (dk_at dksX7_lookAt_4 17 rfl rfl)
theorem dX7_lookAt_113 : decode cX7_lookAt 113 = .ok (.iadd, 1) := dk_96 (dk_at dksX7_lookAt_4 18 rfl rfl)
theorem dX7_lookAt_114 : decode cX7_lookAt 114 = .ok (.iaload, 1) := dk_46 (dk_at dksX7_lookAt_4 19 rfl rfl)
theorem dX7_lookAt_115 : decode cX7_lookAt 115 = .ok (.iload 5, 2) := dk_21 5 (dk_at dksX7_lookAt_4 20 rfl rfl)
theorem dX7_lookAt_117 : decode cX7_lookAt 117 = .ok (.bipush 7, 2) := dk_16 7 (dk_at dksX7_lookAt_4 22 rfl rfl)
theorem dX7_lookAt_119 : decode cX7_lookAt 119 = .ok (.if_icmp .eq 10, 3) := dk_159 0 10 (dk_at dksX7_lookAt_5 0 rfl rfl)
theorem dX7_lookAt_122 : decode cX7_lookAt 122 = .ok (.iload 5, 2) := dk_21 5 (dk_at dksX7_lookAt_5 3 rfl rfl)
theorem dX7_lookAt_124 : decode cX7_lookAt 124 = .ok (.bipush 10, 2) := dk_16 10 (dk_at dksX7_lookAt_5 5 rfl rfl)
theorem dX7_lookAt_126 : decode cX7_lookAt 126 = .ok (.if_icmp .ne 7, 3) := dk_160 0 7 (dk_at dksX7_lookAt_5 7 rfl rfl)
theorem dX7_lookAt_129 : decode cX7_lookAt 129 = .ok (.iconst 1, 1) := dk_4 (dk_at dksX7_lookAt_5 10 rfl rfl)
theorem dX7_lookAt_130 : decode cX7_lookAt 130 = .ok (.goto 4, 3) := dk_167 0 4 (dk_at dksX7_lookAt_5 11 rfl rfl)
theorem dX7_lookAt_133 : decode cX7_lookAt 133 = .ok (.iconst 0, 1) := dk_3 (dk_at dksX7_lookAt_5 14 rfl rfl)
theorem dX7_lookAt_134 : decode cX7_lookAt 134 = .ok (.invokevirtual 125, 3) := dk_182 0 125 (dk_at dksX7_lookAt_5 15 rfl rfl)
theorem dX7_lookAt_137 : decode cX7_lookAt 137 = .ok (.istore_n 2, 1) := dk_61 (dk_at dksX7_lookAt_5 18 rfl rfl)
theorem dX7_lookAt_138 : decode cX7_lookAt 138 = .ok (.iinc 3 1, 3) := dk_132 3 1 (dk_at dksX7_lookAt_5 19 rfl rfl)
theorem dX7_lookAt_141 : decode cX7_lookAt 141 = .ok (.goto (-111), 3) := dk_167 255 145 (dk_at dksX7_lookAt_6 0 rfl rfl)
theorem dX7_lookAt_144 : decode cX7_lookAt 144 = .ok (.iload_n 2, 1) := dk_28 (dk_at dksX7_lookAt_6 3 rfl rfl)
theorem dX7_lookAt_145 : decode cX7_lookAt 145 = .ok (.ireturn, 1) := dk_172 (dk_at dksX7_lookAt_6 4 rfl rfl)
abbrev cX7_look : ByteArray := prog_11_method_16_code
def yX7_look : MethodName := ⟨RX7, "look", "(IIIZ)I"⟩
def dkwX7_look_4 : List UInt8 := [172]
abbrev dktX7_look_4 : List UInt8 := dkwX7_look_4 ++ []
def dkwX7_look_3 : List UInt8 := [54, 6, 21, 6, 158, 0, 18, 42, 27, 181, 0, 68, 42, 28, 181, 0, 72, 42, 29, 181, 0, 75, 21, 6]
abbrev dktX7_look_3 : List UInt8 := dkwX7_look_3 ++ dktX7_look_4
def dkwX7_look_2 : List UInt8 := [180, 0, 19, 21, 5, 46, 154, 0, 7, 4, 167, 0, 4, 3, 21, 4, 160, 0, 7, 3, 167, 0, 4, 5]
abbrev dktX7_look_2 : List UInt8 := dkwX7_look_2 ++ dktX7_look_3
def dkwX7_look_1 : List UInt8 := [180, 0, 37, 16, 64, 27, 104, 29, 96, 51, 153, 0, 7, 3, 167, 0, 32, 4, 167, 0, 28, 42]
abbrev dktX7_look_1 : List UInt8 := dkwX7_look_1 ++ dktX7_look_2
def dkwX7_look_0 : List UInt8 := [42, 42, 180, 0, 56, 42, 180, 0, 118, 27, 29, 182, 0, 121, 54, 5, 21, 5, 2, 160, 0, 25, 42]
abbrev dktX7_look_0 : List UInt8 := dkwX7_look_0 ++ dktX7_look_1
theorem dksX7_look_0 : cX7_look.data.toList.drop 0 = dktX7_look_0 := by decide +kernel
theorem dksX7_look_1 : cX7_look.data.toList.drop 23 = dktX7_look_1 := dk_seg dksX7_look_0 23 rfl rfl
theorem dksX7_look_2 : cX7_look.data.toList.drop 45 = dktX7_look_2 := dk_seg dksX7_look_1 22 rfl rfl
theorem dksX7_look_3 : cX7_look.data.toList.drop 69 = dktX7_look_3 := dk_seg dksX7_look_2 24 rfl rfl
theorem dksX7_look_4 : cX7_look.data.toList.drop 93 = dktX7_look_4 := dk_seg dksX7_look_3 24 rfl rfl
theorem dX7_look_0 : decode cX7_look 0 = .ok (.aload_n 0, 1) := dk_42 (dk_at dksX7_look_0 0 rfl rfl)
theorem dX7_look_1 : decode cX7_look 1 = .ok (.aload_n 0, 1) := dk_42 (dk_at dksX7_look_0 1 rfl rfl)
theorem dX7_look_2 : decode cX7_look 2 = .ok (.getfield 56, 3) := dk_180 0 56 (dk_at dksX7_look_0 2 rfl rfl)
theorem dX7_look_5 : decode cX7_look 5 = .ok (.aload_n 0, 1) := dk_42 (dk_at dksX7_look_0 5 rfl rfl)
theorem dX7_look_6 : decode cX7_look 6 = .ok (.getfield 118, 3) := dk_180 0 118 (dk_at dksX7_look_0 6 rfl rfl)
theorem dX7_look_9 : decode cX7_look 9 = .ok (.iload_n 1, 1) := dk_27 (dk_at dksX7_look_0 9 rfl rfl)
theorem dX7_look_10 : decode cX7_look 10 = .ok (.iload_n 3, 1) := dk_29 (dk_at dksX7_look_0 10 rfl rfl)
theorem dX7_look_11 : decode cX7_look 11 = .ok (.invokevirtual 121, 3) := dk_182 0 121 (dk_at dksX7_look_0 11 rfl rfl)
theorem dX7_look_14 : decode cX7_look 14 = .ok (.istore 5, 2) := dk_54 5 (dk_at dksX7_look_0 14 rfl rfl)
theorem dX7_look_16 : decode cX7_look 16 = .ok (.iload 5, 2) := dk_21 5 (dk_at dksX7_look_0 16 rfl rfl)
theorem dX7_look_18 : decode cX7_look 18 = .ok (.iconst (-1), 1) := dk_2 (dk_at dksX7_look_0 18 rfl rfl)
theorem dX7_look_19 : decode cX7_look 19 = .ok (.if_icmp .ne 25, 3) := dk_160 0 25 (dk_at dksX7_look_0 19 rfl rfl)
theorem dX7_look_22 : decode cX7_look 22 = .ok (.aload_n 0, 1) := dk_42 (dk_at dksX7_look_0 22 rfl rfl)
theorem dX7_look_23 : decode cX7_look 23 = .ok (.getfield 37, 3) := dk_180 0 37 (dk_at dksX7_look_1 0 rfl rfl)
theorem dX7_look_26 : decode cX7_look 26 = .ok (.bipush 64, 2) := dk_16 64 (dk_at dksX7_look_1 3 rfl rfl)
theorem dX7_look_28 : decode cX7_look 28 = .ok (.iload_n 1, 1) := dk_27 (dk_at dksX7_look_1 5 rfl rfl)
theorem dX7_look_29 : decode cX7_look 29 = .ok (.imul, 1) := dk_104 (dk_at dksX7_look_1 6 rfl rfl)
theorem dX7_look_30 : decode cX7_look 30 = .ok (.iload_n 3, 1) := dk_29 (dk_at dksX7_look_1 7 rfl rfl)
theorem dX7_look_31 : decode cX7_look 31 = .ok (.iadd, 1) := dk_96 (dk_at dksX7_look_1 8 rfl rfl)
theorem dX7_look_32 : decode cX7_look 32 = .ok (.baload, 1) := dk_51 (dk_at dksX7_look_1 9 rfl rfl)
theorem dX7_look_33 : decode cX7_look 33 = .ok (.ifCond .eq 7, 3) := dk_153 0 7 (dk_at dksX7_look_1 10 rfl rfl)
theorem dX7_look_36 : decode cX7_look 36 = .ok (.iconst 0, 1) := dk_3 (dk_at dksX7_look_1 13 rfl rfl)
theorem dX7_look_37 : decode cX7_look 37 = .ok (.goto 32, 3) := dk_167 0 32 (dk_at dksX7_look_1 14 rfl rfl)
theorem dX7_look_40 : decode cX7_look 40 = .ok (.iconst 1, 1) := dk_4 (dk_at dksX7_look_1 17 rfl rfl)
theorem dX7_look_41 : decode cX7_look 41 = .ok (.goto 28, 3) := dk_167 0 28 (dk_at dksX7_look_1 18 rfl rfl)
theorem dX7_look_44 : decode cX7_look 44 = .ok (.aload_n 0, 1) := dk_42 (dk_at dksX7_look_1 21 rfl rfl)
theorem dX7_look_45 : decode cX7_look 45 = .ok (.getfield 19, 3) := dk_180 0 19 (dk_at dksX7_look_2 0 rfl rfl)
theorem dX7_look_48 : decode cX7_look 48 = .ok (.iload 5, 2) := dk_21 5 (dk_at dksX7_look_2 3 rfl rfl)
theorem dX7_look_50 : decode cX7_look 50 = .ok (.iaload, 1) := dk_46 (dk_at dksX7_look_2 5 rfl rfl)
theorem dX7_look_51 : decode cX7_look 51 = .ok (.ifCond .ne 7, 3) := dk_154 0 7 (dk_at dksX7_look_2 6 rfl rfl)
theorem dX7_look_54 : decode cX7_look 54 = .ok (.iconst 1, 1) := dk_4 (dk_at dksX7_look_2 9 rfl rfl)
theorem dX7_look_55 : decode cX7_look 55 = .ok (.goto 4, 3) := dk_167 0 4 (dk_at dksX7_look_2 10 rfl rfl)
theorem dX7_look_58 : decode cX7_look 58 = .ok (.iconst 0, 1) := dk_3 (dk_at dksX7_look_2 13 rfl rfl)
theorem dX7_look_59 : decode cX7_look 59 = .ok (.iload 4, 2) := dk_21 4 (dk_at dksX7_look_2 14 rfl rfl)
theorem dX7_look_61 : decode cX7_look 61 = .ok (.if_icmp .ne 7, 3) := dk_160 0 7 (dk_at dksX7_look_2 16 rfl rfl)
theorem dX7_look_64 : decode cX7_look 64 = .ok (.iconst 0, 1) := dk_3 (dk_at dksX7_look_2 19 rfl rfl)
theorem dX7_look_65 : decode cX7_look 65 = .ok (.goto 4, 3) := dk_167 0 4 (dk_at dksX7_look_2 20 rfl rfl)
theorem dX7_look_68 : decode cX7_look 68 = .ok (.iconst 2, 1) := dk_5 (dk_at dksX7_look_2 23 rfl rfl)
theorem dX7_look_69 : decode cX7_look 69 = .ok (.istore 6, 2) := dk_54 6 (dk_at dksX7_look_3 0 rfl rfl)
theorem dX7_look_71 : decode cX7_look 71 = .ok (.iload 6, 2) := dk_21 6 (dk_at dksX7_look_3 2 rfl rfl)
theorem dX7_look_73 : decode cX7_look 73 = .ok (.ifCond .le 18, 3) := dk_158 0 18 (dk_at dksX7_look_3 4 rfl rfl)
theorem dX7_look_76 : decode cX7_look 76 = .ok (.aload_n 0, 1) := dk_42 (dk_at dksX7_look_3 7 rfl rfl)
theorem dX7_look_77 : decode cX7_look 77 = .ok (.iload_n 1, 1) := dk_27 (dk_at dksX7_look_3 8 rfl rfl)
theorem dX7_look_78 : decode cX7_look 78 = .ok (.putfield 68, 3) := dk_181 0 68 (dk_at dksX7_look_3 9 rfl rfl)
theorem dX7_look_81 : decode cX7_look 81 = .ok (.aload_n 0, 1) := dk_42 (dk_at dksX7_look_3 12 rfl rfl)
theorem dX7_look_82 : decode cX7_look 82 = .ok (.iload_n 2, 1) := dk_28 (dk_at dksX7_look_3 13 rfl rfl)
theorem dX7_look_83 : decode cX7_look 83 = .ok (.putfield 72, 3) := dk_181 0 72 (dk_at dksX7_look_3 14 rfl rfl)
theorem dX7_look_86 : decode cX7_look 86 = .ok (.aload_n 0, 1) := dk_42 (dk_at dksX7_look_3 17 rfl rfl)
theorem dX7_look_87 : decode cX7_look 87 = .ok (.iload_n 3, 1) := dk_29 (dk_at dksX7_look_3 18 rfl rfl)
theorem dX7_look_88 : decode cX7_look 88 = .ok (.putfield 75, 3) := dk_181 0 75 (dk_at dksX7_look_3 19 rfl rfl)
theorem dX7_look_91 : decode cX7_look 91 = .ok (.iload 6, 2) := dk_21 6 (dk_at dksX7_look_3 22 rfl rfl)
theorem dX7_look_93 : decode cX7_look 93 = .ok (.ireturn, 1) := dk_172 (dk_at dksX7_look_4 0 rfl rfl)
abbrev cX7_find : ByteArray := prog_11_method_14_code
def yX7_find : MethodName := ⟨RX7, "find", "([IIII)I"⟩
def dkwX7_find_4 : List UInt8 := [21, 8, 167, 0, 5, 21, 6, 54, 6, 132, 7, 1, 167, 255, 187, 21, 6, 172]
abbrev dktX7_find_4 : List UInt8 := dkwX7_find_4 ++ []
def dkwX7_find_3 : List UInt8 := [154, 0, 33, 42, 180, 0, 25, 21, 8, 46, 4, 126, 154, 0, 6, 21, 8, 172, 21, 6, 2, 160, 0, 8]
abbrev dktX7_find_3 : List UInt8 := dkwX7_find_3 ++ dktX7_find_4
def dkwX7_find_2 : List UInt8 := [21, 4, 182, 0, 107, 54, 8, 21, 8, 2, 159, 0, 45, 42, 180, 0, 25, 21, 8, 46, 7, 126]
abbrev dktX7_find_2 : List UInt8 := dkwX7_find_2 ++ dktX7_find_3
def dkwX7_find_1 : List UInt8 := [126, 153, 0, 6, 21, 5, 172, 2, 54, 6, 3, 54, 7, 21, 7, 28, 162, 0, 69, 42, 43, 21, 7, 46]
abbrev dktX7_find_1 : List UInt8 := dkwX7_find_1 ++ dktX7_find_2
def dkwX7_find_0 : List UInt8 := [42, 29, 21, 4, 182, 0, 107, 54, 5, 21, 5, 2, 159, 0, 19, 42, 180, 0, 25, 21, 5, 46, 16, 6]
abbrev dktX7_find_0 : List UInt8 := dkwX7_find_0 ++ dktX7_find_1
theorem dksX7_find_0 : cX7_find.data.toList.drop 0 = dktX7_find_0 := by decide +kernel
theorem dksX7_find_1 : cX7_find.data.toList.drop 24 = dktX7_find_1 := dk_seg dksX7_find_0 24 rfl rfl
theorem dksX7_find_2 : cX7_find.data.toList.drop 48 = dktX7_find_2 := dk_seg dksX7_find_1 24 rfl rfl
theorem dksX7_find_3 : cX7_find.data.toList.drop 70 = dktX7_find_3 := dk_seg dksX7_find_2 22 rfl rfl
theorem dksX7_find_4 : cX7_find.data.toList.drop 94 = dktX7_find_4 := dk_seg dksX7_find_3 24 rfl rfl
theorem dX7_find_0 : decode cX7_find 0 = .ok (.aload_n 0, 1) := dk_42 (dk_at dksX7_find_0 0 rfl rfl)
theorem dX7_find_1 : decode cX7_find 1 = .ok (.iload_n 3, 1) := dk_29 (dk_at dksX7_find_0 1 rfl rfl)
theorem dX7_find_2 : decode cX7_find 2 = .ok (.iload 4, 2) := dk_21 4 (dk_at dksX7_find_0 2 rfl rfl)
theorem dX7_find_4 : decode cX7_find 4 = .ok (.invokevirtual 107, 3) := dk_182 0 107 (dk_at dksX7_find_0 4 rfl rfl)
theorem dX7_find_7 : decode cX7_find 7 = .ok (.istore 5, 2) := dk_54 5 (dk_at dksX7_find_0 7 rfl rfl)
theorem dX7_find_9 : decode cX7_find 9 = .ok (.iload 5, 2) := dk_21 5 (dk_at dksX7_find_0 9 rfl rfl)
theorem dX7_find_11 : decode cX7_find 11 = .ok (.iconst (-1), 1) := dk_2 (dk_at dksX7_find_0 11 rfl rfl)
theorem dX7_find_12 : decode cX7_find 12 = .ok (.if_icmp .eq 19, 3) := dk_159 0 19 (dk_at dksX7_find_0 12 rfl rfl)
theorem dX7_find_15 : decode cX7_find 15 = .ok (.aload_n 0, 1) := dk_42 (dk_at dksX7_find_0 15 rfl rfl)
theorem dX7_find_16 : decode cX7_find 16 = .ok (.getfield 25, 3) := dk_180 0 25 (dk_at dksX7_find_0 16 rfl rfl)
theorem dX7_find_19 : decode cX7_find 19 = .ok (.iload 5, 2) := dk_21 5 (dk_at dksX7_find_0 19 rfl rfl)
theorem dX7_find_21 : decode cX7_find 21 = .ok (.iaload, 1) := dk_46 (dk_at dksX7_find_0 21 rfl rfl)
theorem dX7_find_22 : decode cX7_find 22 = .ok (.bipush 6, 2) := dk_16 6 (dk_at dksX7_find_0 22 rfl rfl)
theorem dX7_find_24 : decode cX7_find 24 = .ok (.iand, 1) := dk_126 (dk_at dksX7_find_1 0 rfl rfl)
theorem dX7_find_25 : decode cX7_find 25 = .ok (.ifCond .eq 6, 3) := dk_153 0 6 (dk_at dksX7_find_1 1 rfl rfl)
theorem dX7_find_28 : decode cX7_find 28 = .ok (.iload 5, 2) := dk_21 5 (dk_at dksX7_find_1 4 rfl rfl)
theorem dX7_find_30 : decode cX7_find 30 = .ok (.ireturn, 1) := dk_172 (dk_at dksX7_find_1 6 rfl rfl)
theorem dX7_find_31 : decode cX7_find 31 = .ok (.iconst (-1), 1) := dk_2 (dk_at dksX7_find_1 7 rfl rfl)
theorem dX7_find_32 : decode cX7_find 32 = .ok (.istore 6, 2) := dk_54 6 (dk_at dksX7_find_1 8 rfl rfl)
theorem dX7_find_34 : decode cX7_find 34 = .ok (.iconst 0, 1) := dk_3 (dk_at dksX7_find_1 10 rfl rfl)
theorem dX7_find_35 : decode cX7_find 35 = .ok (.istore 7, 2) := dk_54 7 (dk_at dksX7_find_1 11 rfl rfl)
theorem dX7_find_37 : decode cX7_find 37 = .ok (.iload 7, 2) := dk_21 7 (dk_at dksX7_find_1 13 rfl rfl)
theorem dX7_find_39 : decode cX7_find 39 = .ok (.iload_n 2, 1) := dk_28 (dk_at dksX7_find_1 15 rfl rfl)
theorem dX7_find_40 : decode cX7_find 40 = .ok (.if_icmp .ge 69, 3) := dk_162 0 69 (dk_at dksX7_find_1 16 rfl rfl)
theorem dX7_find_43 : decode cX7_find 43 = .ok (.aload_n 0, 1) := dk_42 (dk_at dksX7_find_1 19 rfl rfl)
theorem dX7_find_44 : decode cX7_find 44 = .ok (.aload_n 1, 1) := dk_43 (dk_at dksX7_find_1 20 rfl rfl)
theorem dX7_find_45 : decode cX7_find 45 = .ok (.iload 7, 2) := dk_21 7 (dk_at dksX7_find_1 21 rfl rfl)
theorem dX7_find_47 : decode cX7_find 47 = .ok (.iaload, 1) := dk_46 (dk_at dksX7_find_1 23 rfl rfl)
theorem dX7_find_48 : decode cX7_find 48 = .ok (.iload 4, 2) := dk_21 4 (dk_at dksX7_find_2 0 rfl rfl)
theorem dX7_find_50 : decode cX7_find 50 = .ok (.invokevirtual 107, 3) := dk_182 0 107 (dk_at dksX7_find_2 2 rfl rfl)
theorem dX7_find_53 : decode cX7_find 53 = .ok (.istore 8, 2) := dk_54 8 (dk_at dksX7_find_2 5 rfl rfl)
theorem dX7_find_55 : decode cX7_find 55 = .ok (.iload 8, 2) := dk_21 8 (dk_at dksX7_find_2 7 rfl rfl)
theorem dX7_find_57 : decode cX7_find 57 = .ok (.iconst (-1), 1) := dk_2 (dk_at dksX7_find_2 9 rfl rfl)
theorem dX7_find_58 : decode cX7_find 58 = .ok (.if_icmp .eq 45, 3) := dk_159 0 45 (dk_at dksX7_find_2 10 rfl rfl)
theorem dX7_find_61 : decode cX7_find 61 = .ok (.aload_n 0, 1) := dk_42 (dk_at dksX7_find_2 13 rfl rfl)
theorem dX7_find_62 : decode cX7_find 62 = .ok (.getfield 25, 3) := dk_180 0 25 (dk_at dksX7_find_2 14 rfl rfl)
theorem dX7_find_65 : decode cX7_find 65 = .ok (.iload 8, 2) := dk_21 8 (dk_at dksX7_find_2 17 rfl rfl)
theorem dX7_find_67 : decode cX7_find 67 = .ok (.iaload, 1) := dk_46 (dk_at dksX7_find_2 19 rfl rfl)
theorem dX7_find_68 : decode cX7_find 68 = .ok (.iconst 4, 1) := dk_7 (dk_at dksX7_find_2 20 rfl rfl)
theorem dX7_find_69 : decode cX7_find 69 = .ok (.iand, 1) := dk_126 (dk_at dksX7_find_2 21 rfl rfl)
theorem dX7_find_70 : decode cX7_find 70 = .ok (.ifCond .ne 33, 3) := dk_154 0 33 (dk_at dksX7_find_3 0 rfl rfl)
theorem dX7_find_73 : decode cX7_find 73 = .ok (.aload_n 0, 1) := dk_42 (dk_at dksX7_find_3 3 rfl rfl)
theorem dX7_find_74 : decode cX7_find 74 = .ok (.getfield 25, 3) := dk_180 0 25 (dk_at dksX7_find_3 4 rfl rfl)
theorem dX7_find_77 : decode cX7_find 77 = .ok (.iload 8, 2) := dk_21 8 (dk_at dksX7_find_3 7 rfl rfl)
theorem dX7_find_79 : decode cX7_find 79 = .ok (.iaload, 1) := dk_46 (dk_at dksX7_find_3 9 rfl rfl)
theorem dX7_find_80 : decode cX7_find 80 = .ok (.iconst 1, 1) := dk_4 (dk_at dksX7_find_3 10 rfl rfl)
theorem dX7_find_81 : decode cX7_find 81 = .ok (.iand, 1) := dk_126 (dk_at dksX7_find_3 11 rfl rfl)
theorem dX7_find_82 : decode cX7_find 82 = .ok (.ifCond .ne 6, 3) := dk_154 0 6 (dk_at dksX7_find_3 12 rfl rfl)
theorem dX7_find_85 : decode cX7_find 85 = .ok (.iload 8, 2) := dk_21 8 (dk_at dksX7_find_3 15 rfl rfl)
theorem dX7_find_87 : decode cX7_find 87 = .ok (.ireturn, 1) := dk_172 (dk_at dksX7_find_3 17 rfl rfl)
theorem dX7_find_88 : decode cX7_find 88 = .ok (.iload 6, 2) := dk_21 6 (dk_at dksX7_find_3 18 rfl rfl)
theorem dX7_find_90 : decode cX7_find 90 = .ok (.iconst (-1), 1) := dk_2 (dk_at dksX7_find_3 20 rfl rfl)
theorem dX7_find_91 : decode cX7_find 91 = .ok (.if_icmp .ne 8, 3) := dk_160 0 8 (dk_at dksX7_find_3 21 rfl rfl)
theorem dX7_find_94 : decode cX7_find 94 = .ok (.iload 8, 2) := dk_21 8 (dk_at dksX7_find_4 0 rfl rfl)
theorem dX7_find_96 : decode cX7_find 96 = .ok (.goto 5, 3) := dk_167 0 5 (dk_at dksX7_find_4 2 rfl rfl)
theorem dX7_find_99 : decode cX7_find 99 = .ok (.iload 6, 2) := dk_21 6 (dk_at dksX7_find_4 5 rfl rfl)
theorem dX7_find_101 : decode cX7_find 101 = .ok (.istore 6, 2) := dk_54 6 (dk_at dksX7_find_4 7 rfl rfl)
theorem dX7_find_103 : decode cX7_find 103 = .ok (.iinc 7 1, 3) := dk_132 7 1 (dk_at dksX7_find_4 9 rfl rfl)
theorem dX7_find_106 : decode cX7_find 106 = .ok (.goto (-69), 3) := dk_167 255 187 (dk_at dksX7_find_4 12 rfl rfl)
theorem dX7_find_109 : decode cX7_find 109 = .ok (.iload 6, 2) := dk_21 6 (dk_at dksX7_find_4 15 rfl rfl)
theorem dX7_find_111 : decode cX7_find 111 = .ok (.ireturn, 1) := dk_172 (dk_at dksX7_find_4 17 rfl rfl)
abbrev cX7_findBegun : ByteArray := prog_11_method_18_code
def yX7_findBegun : MethodName := ⟨RX7, "findBegun", "()V"⟩
def dkwX7_findBegun_7 : List UInt8 := [180, 0, 65, 28, 3, 79, 132, 2, 1, 167, 255, 134, 177]
abbrev dktX7_findBegun_7 : List UInt8 := dkwX7_findBegun_7 ++ []
def dkwX7_findBegun_6 : List UInt8 := [21, 4, 96, 46, 54, 5, 42, 180, 0, 59, 21, 5, 4, 84, 42, 180, 0, 62, 28, 21, 5, 79, 42]
abbrev dktX7_findBegun_6 : List UInt8 := dkwX7_findBegun_6 ++ dktX7_findBegun_7
def dkwX7_findBegun_5 : List UInt8 := [42, 180, 0, 7, 16, 6, 29, 104, 21, 4, 96, 46, 51, 154, 0, 43, 42, 180, 0, 7, 16, 6, 29, 104]
abbrev dktX7_findBegun_5 : List UInt8 := dkwX7_findBegun_5 ++ dktX7_findBegun_6
def dkwX7_findBegun_4 : List UInt8 := [46, 160, 0, 19, 42, 180, 0, 47, 27, 29, 79, 132, 1, 1, 132, 2, 255, 167, 0, 63, 42, 180, 0, 59]
abbrev dktX7_findBegun_4 : List UInt8 := dkwX7_findBegun_4 ++ dktX7_findBegun_5
def dkwX7_findBegun_3 : List UInt8 := [4, 100, 46, 54, 4, 42, 180, 0, 65, 28, 4, 100, 92, 46, 4, 96, 79, 21, 4, 42, 180, 0, 13, 29]
abbrev dktX7_findBegun_3 : List UInt8 := dkwX7_findBegun_3 ++ dktX7_findBegun_4
def dkwX7_findBegun_2 : List UInt8 := [180, 0, 65, 3, 3, 79, 28, 158, 0, 124, 42, 180, 0, 62, 28, 4, 100, 46, 62, 42, 180, 0, 65, 28]
abbrev dktX7_findBegun_2 : List UInt8 := dkwX7_findBegun_2 ++ dktX7_findBegun_3
def dkwX7_findBegun_1 : List UInt8 := [167, 0, 4, 3, 84, 132, 2, 1, 167, 255, 228, 4, 61, 42, 180, 0, 62, 3, 42, 180, 0, 129, 79, 42]
abbrev dktX7_findBegun_1 : List UInt8 := dkwX7_findBegun_1 ++ dktX7_findBegun_2
def dkwX7_findBegun_0 : List UInt8 := [3, 60, 3, 61, 28, 16, 12, 162, 0, 28, 42, 180, 0, 59, 28, 28, 42, 180, 0, 129, 160, 0, 7, 4]
abbrev dktX7_findBegun_0 : List UInt8 := dkwX7_findBegun_0 ++ dktX7_findBegun_1
theorem dksX7_findBegun_0 : cX7_findBegun.data.toList.drop 0 = dktX7_findBegun_0 := by decide +kernel
theorem dksX7_findBegun_1 : cX7_findBegun.data.toList.drop 24 = dktX7_findBegun_1 := dk_seg dksX7_findBegun_0 24 rfl rfl
theorem dksX7_findBegun_2 : cX7_findBegun.data.toList.drop 48 = dktX7_findBegun_2 := dk_seg dksX7_findBegun_1 24 rfl rfl
theorem dksX7_findBegun_3 : cX7_findBegun.data.toList.drop 72 = dktX7_findBegun_3 := dk_seg dksX7_findBegun_2 24 rfl rfl
theorem dksX7_findBegun_4 : cX7_findBegun.data.toList.drop 96 = dktX7_findBegun_4 := dk_seg dksX7_findBegun_3 24 rfl rfl
theorem dksX7_findBegun_5 : cX7_findBegun.data.toList.drop 120 = dktX7_findBegun_5 := dk_seg dksX7_findBegun_4 24 rfl rfl
theorem dksX7_findBegun_6 : cX7_findBegun.data.toList.drop 144 = dktX7_findBegun_6 := dk_seg dksX7_findBegun_5 24 rfl rfl
theorem dksX7_findBegun_7 : cX7_findBegun.data.toList.drop 167 = dktX7_findBegun_7 := dk_seg dksX7_findBegun_6 23 rfl rfl
theorem dX7_findBegun_0 : decode cX7_findBegun 0 = .ok (.iconst 0, 1) := dk_3 (dk_at dksX7_findBegun_0 0 rfl rfl)
theorem dX7_findBegun_1 : decode cX7_findBegun 1 = .ok (.istore_n 1, 1) := dk_60 (dk_at dksX7_findBegun_0 1 rfl rfl)
theorem dX7_findBegun_2 : decode cX7_findBegun 2 = .ok (.iconst 0, 1) := dk_3 (dk_at dksX7_findBegun_0 2 rfl rfl)
theorem dX7_findBegun_3 : decode cX7_findBegun 3 = .ok (.istore_n 2, 1) := dk_61 (dk_at dksX7_findBegun_0 3 rfl rfl)
theorem dX7_findBegun_4 : decode cX7_findBegun 4 = .ok (.iload_n 2, 1) := dk_28 (dk_at dksX7_findBegun_0 4 rfl rfl)
theorem dX7_findBegun_5 : decode cX7_findBegun 5 = .ok (.bipush 12, 2) := dk_16 12 (dk_at dksX7_findBegun_0 5 rfl rfl)
theorem dX7_findBegun_7 : decode cX7_findBegun 7 = .ok (.if_icmp .ge 28, 3) := dk_162 0 28 (dk_at dksX7_findBegun_0 7 rfl rfl)
theorem dX7_findBegun_10 : decode cX7_findBegun 10 = .ok (.aload_n 0, 1) := dk_42 (dk_at dksX7_findBegun_0 10 rfl rfl)
theorem dX7_findBegun_11 : decode cX7_findBegun 11 = .ok (.getfield 59, 3) := dk_180 0 59 (dk_at dksX7_findBegun_0 11 rfl rfl)
theorem dX7_findBegun_14 : decode cX7_findBegun 14 = .ok (.iload_n 2, 1) := dk_28 (dk_at dksX7_findBegun_0 14 rfl rfl)
theorem dX7_findBegun_15 : decode cX7_findBegun 15 = .ok (.iload_n 2, 1) := dk_28 (dk_at dksX7_findBegun_0 15 rfl rfl)
theorem dX7_findBegun_16 : decode cX7_findBegun 16 = .ok (.aload_n 0, 1) := dk_42 (dk_at dksX7_findBegun_0 16 rfl rfl)
theorem dX7_findBegun_17 : decode cX7_findBegun 17 = .ok (.getfield 129, 3) := dk_180 0 129 (dk_at dksX7_findBegun_0 17 rfl rfl)
theorem dX7_findBegun_20 : decode cX7_findBegun 20 = .ok (.if_icmp .ne 7, 3) := dk_160 0 7 (dk_at dksX7_findBegun_0 20 rfl rfl)
theorem dX7_findBegun_23 : decode cX7_findBegun 23 = .ok (.iconst 1, 1) := dk_4 (dk_at dksX7_findBegun_0 23 rfl rfl)
theorem dX7_findBegun_24 : decode cX7_findBegun 24 = .ok (.goto 4, 3) := dk_167 0 4 (dk_at dksX7_findBegun_1 0 rfl rfl)
theorem dX7_findBegun_27 : decode cX7_findBegun 27 = .ok (.iconst 0, 1) := dk_3 (dk_at dksX7_findBegun_1 3 rfl rfl)
theorem dX7_findBegun_28 : decode cX7_findBegun 28 = .ok (.bastore, 1) := dk_84 (dk_at dksX7_findBegun_1 4 rfl rfl)
theorem dX7_findBegun_29 : decode cX7_findBegun 29 = .ok (.iinc 2 1, 3) := dk_132 2 1 (dk_at dksX7_findBegun_1 5 rfl rfl)
theorem dX7_findBegun_32 : decode cX7_findBegun 32 = .ok (.goto (-28), 3) := dk_167 255 228 (dk_at dksX7_findBegun_1 8 rfl rfl)
theorem dX7_findBegun_35 : decode cX7_findBegun 35 = .ok (.iconst 1, 1) := dk_4 (dk_at dksX7_findBegun_1 11 rfl rfl)
theorem dX7_findBegun_36 : decode cX7_findBegun 36 = .ok (.istore_n 2, 1) := dk_61 (dk_at dksX7_findBegun_1 12 rfl rfl)
theorem dX7_findBegun_37 : decode cX7_findBegun 37 = .ok (.aload_n 0, 1) := dk_42 (dk_at dksX7_findBegun_1 13 rfl rfl)
theorem dX7_findBegun_38 : decode cX7_findBegun 38 = .ok (.getfield 62, 3) := dk_180 0 62 (dk_at dksX7_findBegun_1 14 rfl rfl)
theorem dX7_findBegun_41 : decode cX7_findBegun 41 = .ok (.iconst 0, 1) := dk_3 (dk_at dksX7_findBegun_1 17 rfl rfl)
theorem dX7_findBegun_42 : decode cX7_findBegun 42 = .ok (.aload_n 0, 1) := dk_42 (dk_at dksX7_findBegun_1 18 rfl rfl)
theorem dX7_findBegun_43 : decode cX7_findBegun 43 = .ok (.getfield 129, 3) := dk_180 0 129 (dk_at dksX7_findBegun_1 19 rfl rfl)
theorem dX7_findBegun_46 : decode cX7_findBegun 46 = .ok (.iastore, 1) := dk_79 (dk_at dksX7_findBegun_1 22 rfl rfl)
theorem dX7_findBegun_47 : decode cX7_findBegun 47 = .ok (.aload_n 0, 1) := dk_42 (dk_at dksX7_findBegun_1 23 rfl rfl)
theorem dX7_findBegun_48 : decode cX7_findBegun 48 = .ok (.getfield 65, 3) := dk_180 0 65 (dk_at dksX7_findBegun_2 0 rfl rfl)
theorem dX7_findBegun_51 : decode cX7_findBegun 51 = .ok (.iconst 0, 1) := dk_3 (dk_at dksX7_findBegun_2 3 rfl rfl)
theorem dX7_findBegun_52 : decode cX7_findBegun 52 = .ok (.iconst 0, 1) := dk_3 (dk_at dksX7_findBegun_2 4 rfl rfl)
theorem dX7_findBegun_53 : decode cX7_findBegun 53 = .ok (.iastore, 1) := dk_79 (dk_at dksX7_findBegun_2 5 rfl rfl)
theorem dX7_findBegun_54 : decode cX7_findBegun 54 = .ok (.iload_n 2, 1) := dk_28 (dk_at dksX7_findBegun_2 6 rfl rfl)
theorem dX7_findBegun_55 : decode cX7_findBegun 55 = .ok (.ifCond .le 124, 3) := dk_158 0 124 (dk_at dksX7_findBegun_2 7 rfl rfl)
theorem dX7_findBegun_58 : decode cX7_findBegun 58 = .ok (.aload_n 0, 1) := dk_42 (dk_at dksX7_findBegun_2 10 rfl rfl)
theorem dX7_findBegun_59 : decode cX7_findBegun 59 = .ok (.getfield 62, 3) := dk_180 0 62 (dk_at dksX7_findBegun_2 11 rfl rfl)
theorem dX7_findBegun_62 : decode cX7_findBegun 62 = .ok (.iload_n 2, 1) := dk_28 (dk_at dksX7_findBegun_2 14 rfl rfl)
theorem dX7_findBegun_63 : decode cX7_findBegun 63 = .ok (.iconst 1, 1) := dk_4 (dk_at dksX7_findBegun_2 15 rfl rfl)
theorem dX7_findBegun_64 : decode cX7_findBegun 64 = .ok (.isub, 1) := dk_100 (dk_at dksX7_findBegun_2 16 rfl rfl)
theorem dX7_findBegun_65 : decode cX7_findBegun 65 = .ok (.iaload, 1) := dk_46 (dk_at dksX7_findBegun_2 17 rfl rfl)
theorem dX7_findBegun_66 : decode cX7_findBegun 66 = .ok (.istore_n 3, 1) := dk_62 (dk_at dksX7_findBegun_2 18 rfl rfl)
theorem dX7_findBegun_67 : decode cX7_findBegun 67 = .ok (.aload_n 0, 1) := dk_42 (dk_at dksX7_findBegun_2 19 rfl rfl)
theorem dX7_findBegun_68 : decode cX7_findBegun 68 = .ok (.getfield 65, 3) := dk_180 0 65 (dk_at dksX7_findBegun_2 20 rfl rfl)
theorem dX7_findBegun_71 : decode cX7_findBegun 71 = .ok (.iload_n 2, 1) := dk_28 (dk_at dksX7_findBegun_2 23 rfl rfl)
theorem dX7_findBegun_72 : decode cX7_findBegun 72 = .ok (.iconst 1, 1) := dk_4 (dk_at dksX7_findBegun_3 0 rfl rfl)
theorem dX7_findBegun_73 : decode cX7_findBegun 73 = .ok (.isub, 1) := dk_100 (dk_at dksX7_findBegun_3 1 rfl rfl)
theorem dX7_findBegun_74 : decode cX7_findBegun 74 = .ok (.iaload, 1) := dk_46 (dk_at dksX7_findBegun_3 2 rfl rfl)
theorem dX7_findBegun_75 : decode cX7_findBegun 75 = .ok (.istore 4, 2) := dk_54 4 (dk_at dksX7_findBegun_3 3 rfl rfl)
theorem dX7_findBegun_77 : decode cX7_findBegun 77 = .ok (.aload_n 0, 1) := dk_42 (dk_at dksX7_findBegun_3 5 rfl rfl)
theorem dX7_findBegun_78 : decode cX7_findBegun 78 = .ok (.getfield 65, 3) := dk_180 0 65 (dk_at dksX7_findBegun_3 6 rfl rfl)
theorem dX7_findBegun_81 : decode cX7_findBegun 81 = .ok (.iload_n 2, 1) := dk_28 (dk_at dksX7_findBegun_3 9 rfl rfl)
theorem dX7_findBegun_82 : decode cX7_findBegun 82 = .ok (.iconst 1, 1) := dk_4 (dk_at dksX7_findBegun_3 10 rfl rfl)
theorem dX7_findBegun_83 : decode cX7_findBegun 83 = .ok (.isub, 1) := dk_100 (dk_at dksX7_findBegun_3 11 rfl rfl)
theorem dX7_findBegun_84 : decode cX7_findBegun 84 = .ok (.dup2, 1) := dk_92 (dk_at dksX7_findBegun_3 12 rfl rfl)
theorem dX7_findBegun_85 : decode cX7_findBegun 85 = .ok (.iaload, 1) := dk_46 (dk_at dksX7_findBegun_3 13 rfl rfl)
theorem dX7_findBegun_86 : decode cX7_findBegun 86 = .ok (.iconst 1, 1) := dk_4 (dk_at dksX7_findBegun_3 14 rfl rfl)
theorem dX7_findBegun_87 : decode cX7_findBegun 87 = .ok (.iadd, 1) := dk_96 (dk_at dksX7_findBegun_3 15 rfl rfl)
theorem dX7_findBegun_88 : decode cX7_findBegun 88 = .ok (.iastore, 1) := dk_79 (dk_at dksX7_findBegun_3 16 rfl rfl)
theorem dX7_findBegun_89 : decode cX7_findBegun 89 = .ok (.iload 4, 2) := dk_21 4 (dk_at dksX7_findBegun_3 17 rfl rfl)
theorem dX7_findBegun_91 : decode cX7_findBegun 91 = .ok (.aload_n 0, 1) := dk_42 (dk_at dksX7_findBegun_3 19 rfl rfl)
theorem dX7_findBegun_92 : decode cX7_findBegun 92 = .ok (.getfield 13, 3) := dk_180 0 13 (dk_at dksX7_findBegun_3 20 rfl rfl)
theorem dX7_findBegun_95 : decode cX7_findBegun 95 = .ok (.iload_n 3, 1) := dk_29 (dk_at dksX7_findBegun_3 23 rfl rfl)
theorem dX7_findBegun_96 : decode cX7_findBegun 96 = .ok (.iaload, 1) := dk_46 (dk_at dksX7_findBegun_4 0 rfl rfl)
theorem dX7_findBegun_97 : decode cX7_findBegun 97 = .ok (.if_icmp .ne 19, 3) := dk_160 0 19 (dk_at dksX7_findBegun_4 1 rfl rfl)
theorem dX7_findBegun_100 : decode cX7_findBegun 100 = .ok (.aload_n 0, 1) := dk_42 (dk_at dksX7_findBegun_4 4 rfl rfl)
theorem dX7_findBegun_101 : decode cX7_findBegun 101 = .ok (.getfield 47, 3) := dk_180 0 47 (dk_at dksX7_findBegun_4 5 rfl rfl)
theorem dX7_findBegun_104 : decode cX7_findBegun 104 = .ok (.iload_n 1, 1) := dk_27 (dk_at dksX7_findBegun_4 8 rfl rfl)
theorem dX7_findBegun_105 : decode cX7_findBegun 105 = .ok (.iload_n 3, 1) := dk_29 (dk_at dksX7_findBegun_4 9 rfl rfl)
theorem dX7_findBegun_106 : decode cX7_findBegun 106 = .ok (.iastore, 1) := dk_79 (dk_at dksX7_findBegun_4 10 rfl rfl)
theorem dX7_findBegun_107 : decode cX7_findBegun 107 = .ok (.iinc 1 1, 3) := dk_132 1 1 (dk_at dksX7_findBegun_4 11 rfl rfl)
theorem dX7_findBegun_110 : decode cX7_findBegun 110 = .ok (.iinc 2 (-1), 3) := dk_132 2 255 (dk_at dksX7_findBegun_4 14 rfl rfl)
theorem dX7_findBegun_113 : decode cX7_findBegun 113 = .ok (.goto 63, 3) := dk_167 0 63 (dk_at dksX7_findBegun_4 17 rfl rfl)
theorem dX7_findBegun_116 : decode cX7_findBegun 116 = .ok (.aload_n 0, 1) := dk_42 (dk_at dksX7_findBegun_4 20 rfl rfl)
theorem dX7_findBegun_117 : decode cX7_findBegun 117 = .ok (.getfield 59, 3) := dk_180 0 59 (dk_at dksX7_findBegun_4 21 rfl rfl)
theorem dX7_findBegun_120 : decode cX7_findBegun 120 = .ok (.aload_n 0, 1) := dk_42 (dk_at dksX7_findBegun_5 0 rfl rfl)
theorem dX7_findBegun_121 : decode cX7_findBegun 121 = .ok (.getfield 7, 3) := dk_180 0 7 (dk_at dksX7_findBegun_5 1 rfl rfl)
theorem dX7_findBegun_124 : decode cX7_findBegun 124 = .ok (.bipush 6, 2) := dk_16 6 (dk_at dksX7_findBegun_5 4 rfl rfl)
theorem dX7_findBegun_126 : decode cX7_findBegun 126 = .ok (.iload_n 3, 1) := dk_29 (dk_at dksX7_findBegun_5 6 rfl rfl)
theorem dX7_findBegun_127 : decode cX7_findBegun 127 = .ok (.imul, 1) := dk_104 (dk_at dksX7_findBegun_5 7 rfl rfl)
theorem dX7_findBegun_128 : decode cX7_findBegun 128 = .ok (.iload 4, 2) := dk_21 4 (dk_at dksX7_findBegun_5 8 rfl rfl)
theorem dX7_findBegun_130 : decode cX7_findBegun 130 = .ok (.iadd, 1) := dk_96 (dk_at dksX7_findBegun_5 10 rfl rfl)
theorem dX7_findBegun_131 : decode cX7_findBegun 131 = .ok (.iaload, 1) := dk_46 (dk_at dksX7_findBegun_5 11 rfl rfl)
theorem dX7_findBegun_132 : decode cX7_findBegun 132 = .ok (.baload, 1) := dk_51 (dk_at dksX7_findBegun_5 12 rfl rfl)
theorem dX7_findBegun_133 : decode cX7_findBegun 133 = .ok (.ifCond .ne 43, 3) := dk_154 0 43 (dk_at dksX7_findBegun_5 13 rfl rfl)
theorem dX7_findBegun_136 : decode cX7_findBegun 136 = .ok (.aload_n 0, 1) := dk_42 (dk_at dksX7_findBegun_5 16 rfl rfl)
theorem dX7_findBegun_137 : decode cX7_findBegun 137 = .ok (.getfield 7, 3) := dk_180 0 7 (dk_at dksX7_findBegun_5 17 rfl rfl)
theorem dX7_findBegun_140 : decode cX7_findBegun 140 = .ok (.bipush 6, 2) := dk_16 6 (dk_at dksX7_findBegun_5 20 rfl rfl)
theorem dX7_findBegun_142 : decode cX7_findBegun 142 = .ok (.iload_n 3, 1) := dk_29 (dk_at dksX7_findBegun_5 22 rfl rfl)
theorem dX7_findBegun_143 : decode cX7_findBegun 143 = .ok (.imul, 1) := dk_104 (dk_at dksX7_findBegun_5 23 rfl rfl)
theorem dX7_findBegun_144 : decode cX7_findBegun 144 = .ok (.iload 4, 2) := dk_21 4 (dk_at dksX7_findBegun_6 0 rfl rfl)
theorem dX7_findBegun_146 : decode cX7_findBegun 146 = .ok (.iadd, 1) := dk_96 (dk_at dksX7_findBegun_6 2 rfl rfl)
theorem dX7_findBegun_147 : decode cX7_findBegun 147 = .ok (.iaload, 1) := dk_46 (dk_at dksX7_findBegun_6 3 rfl rfl)
theorem dX7_findBegun_148 : decode cX7_findBegun 148 = .ok (.istore 5, 2) := dk_54 5 (dk_at dksX7_findBegun_6 4 rfl rfl)
theorem dX7_findBegun_150 : decode cX7_findBegun 150 = .ok (.aload_n 0, 1) := dk_42 (dk_at dksX7_findBegun_6 6 rfl rfl)
theorem dX7_findBegun_151 : decode cX7_findBegun 151 = .ok (.getfield 59, 3) := dk_180 0 59 (dk_at dksX7_findBegun_6 7 rfl rfl)
theorem dX7_findBegun_154 : decode cX7_findBegun 154 = .ok (.iload 5, 2) := dk_21 5 (dk_at dksX7_findBegun_6 10 rfl rfl)
theorem dX7_findBegun_156 : decode cX7_findBegun 156 = .ok (.iconst 1, 1) := dk_4 (dk_at dksX7_findBegun_6 12 rfl rfl)
theorem dX7_findBegun_157 : decode cX7_findBegun 157 = .ok (.bastore, 1) := dk_84 (dk_at dksX7_findBegun_6 13 rfl rfl)
theorem dX7_findBegun_158 : decode cX7_findBegun 158 = .ok (.aload_n 0, 1) := dk_42 (dk_at dksX7_findBegun_6 14 rfl rfl)
theorem dX7_findBegun_159 : decode cX7_findBegun 159 = .ok (.getfield 62, 3) := dk_180 0 62 (dk_at dksX7_findBegun_6 15 rfl rfl)
theorem dX7_findBegun_162 : decode cX7_findBegun 162 = .ok (.iload_n 2, 1) := dk_28 (dk_at dksX7_findBegun_6 18 rfl rfl)
theorem dX7_findBegun_163 : decode cX7_findBegun 163 = .ok (.iload 5, 2) := dk_21 5 (dk_at dksX7_findBegun_6 19 rfl rfl)
theorem dX7_findBegun_165 : decode cX7_findBegun 165 = .ok (.iastore, 1) := dk_79 (dk_at dksX7_findBegun_6 21 rfl rfl)
theorem dX7_findBegun_166 : decode cX7_findBegun 166 = .ok (.aload_n 0, 1) := dk_42 (dk_at dksX7_findBegun_6 22 rfl rfl)
theorem dX7_findBegun_167 : decode cX7_findBegun 167 = .ok (.getfield 65, 3) := dk_180 0 65 (dk_at dksX7_findBegun_7 0 rfl rfl)
theorem dX7_findBegun_170 : decode cX7_findBegun 170 = .ok (.iload_n 2, 1) := dk_28 (dk_at dksX7_findBegun_7 3 rfl rfl)
theorem dX7_findBegun_171 : decode cX7_findBegun 171 = .ok (.iconst 0, 1) := dk_3 (dk_at dksX7_findBegun_7 4 rfl rfl)
theorem dX7_findBegun_172 : decode cX7_findBegun 172 = .ok (.iastore, 1) := dk_79 (dk_at dksX7_findBegun_7 5 rfl rfl)
theorem dX7_findBegun_173 : decode cX7_findBegun 173 = .ok (.iinc 2 1, 3) := dk_132 2 1 (dk_at dksX7_findBegun_7 6 rfl rfl)
theorem dX7_findBegun_176 : decode cX7_findBegun 176 = .ok (.goto (-122), 3) := dk_167 255 134 (dk_at dksX7_findBegun_7 9 rfl rfl)
theorem dX7_findBegun_179 : decode cX7_findBegun 179 = .ok (.return_, 1) := dk_177 (dk_at dksX7_findBegun_7 12 rfl rfl)
abbrev cX7_setAll : ByteArray := prog_11_method_21_code
def yX7_setAll : MethodName := ⟨RX7, "setAll", "()V"⟩
def dkwX7_setAll_5 : List UInt8 := [162, 0, 21, 42, 180, 0, 53, 27, 42, 180, 0, 22, 27, 46, 79, 132, 1, 1, 167, 255, 234, 177]
abbrev dktX7_setAll_5 : List UInt8 := dkwX7_setAll_5 ++ []
def dkwX7_setAll_4 : List UInt8 := [182, 0, 142, 79, 132, 3, 1, 167, 255, 197, 132, 1, 1, 167, 255, 174, 3, 60, 27, 17, 0, 240]
abbrev dktX7_setAll_4 : List UInt8 := dkwX7_setAll_4 ++ dktX7_setAll_5
def dkwX7_setAll_3 : List UInt8 := [153, 0, 8, 16, 21, 167, 0, 21, 42, 42, 42, 180, 0, 44, 42, 180, 0, 132, 28, 29, 182, 0, 121]
abbrev dktX7_setAll_3 : List UInt8 := dkwX7_setAll_3 ++ dktX7_setAll_4
def dkwX7_setAll_2 : List UInt8 := [28, 29, 182, 0, 135, 153, 0, 44, 42, 180, 0, 50, 16, 64, 28, 104, 29, 96, 42, 180, 0, 139]
abbrev dktX7_setAll_2 : List UInt8 := dkwX7_setAll_2 ++ dktX7_setAll_3
def dkwX7_setAll_1 : List UInt8 := [27, 42, 180, 0, 132, 162, 0, 80, 42, 180, 0, 44, 27, 46, 61, 3, 62, 29, 16, 64, 162, 0, 59, 42]
abbrev dktX7_setAll_1 : List UInt8 := dkwX7_setAll_1 ++ dktX7_setAll_2
def dkwX7_setAll_0 : List UInt8 := [3, 60, 27, 17, 3, 0, 162, 0, 16, 42, 180, 0, 50, 27, 2, 79, 132, 1, 1, 167, 255, 239, 3, 60]
abbrev dktX7_setAll_0 : List UInt8 := dkwX7_setAll_0 ++ dktX7_setAll_1
theorem dksX7_setAll_0 : cX7_setAll.data.toList.drop 0 = dktX7_setAll_0 := by decide +kernel
theorem dksX7_setAll_1 : cX7_setAll.data.toList.drop 24 = dktX7_setAll_1 := dk_seg dksX7_setAll_0 24 rfl rfl
theorem dksX7_setAll_2 : cX7_setAll.data.toList.drop 48 = dktX7_setAll_2 := dk_seg dksX7_setAll_1 24 rfl rfl
theorem dksX7_setAll_3 : cX7_setAll.data.toList.drop 70 = dktX7_setAll_3 := dk_seg dksX7_setAll_2 22 rfl rfl
theorem dksX7_setAll_4 : cX7_setAll.data.toList.drop 93 = dktX7_setAll_4 := dk_seg dksX7_setAll_3 23 rfl rfl
theorem dksX7_setAll_5 : cX7_setAll.data.toList.drop 115 = dktX7_setAll_5 := dk_seg dksX7_setAll_4 22 rfl rfl
theorem dX7_setAll_0 : decode cX7_setAll 0 = .ok (.iconst 0, 1) := dk_3 (dk_at dksX7_setAll_0 0 rfl rfl)
theorem dX7_setAll_1 : decode cX7_setAll 1 = .ok (.istore_n 1, 1) := dk_60 (dk_at dksX7_setAll_0 1 rfl rfl)
theorem dX7_setAll_2 : decode cX7_setAll 2 = .ok (.iload_n 1, 1) := dk_27 (dk_at dksX7_setAll_0 2 rfl rfl)
theorem dX7_setAll_3 : decode cX7_setAll 3 = .ok (.sipush 768, 3) := dk_17 3 0 (dk_at dksX7_setAll_0 3 rfl rfl)
theorem dX7_setAll_6 : decode cX7_setAll 6 = .ok (.if_icmp .ge 16, 3) := dk_162 0 16 (dk_at dksX7_setAll_0 6 rfl rfl)
theorem dX7_setAll_9 : decode cX7_setAll 9 = .ok (.aload_n 0, 1) := dk_42 (dk_at dksX7_setAll_0 9 rfl rfl)
theorem dX7_setAll_10 : decode cX7_setAll 10 = .ok (.getfield 50, 3) := dk_180 0 50 (dk_at dksX7_setAll_0 10 rfl rfl)
theorem dX7_setAll_13 : decode cX7_setAll 13 = .ok (.iload_n 1, 1) := dk_27 (dk_at dksX7_setAll_0 13 rfl rfl)
theorem dX7_setAll_14 : decode cX7_setAll 14 = .ok (.iconst (-1), 1) := dk_2 (dk_at dksX7_setAll_0 14 rfl rfl)
theorem dX7_setAll_15 : decode cX7_setAll 15 = .ok (.iastore, 1) := dk_79 (dk_at dksX7_setAll_0 15 rfl rfl)
theorem dX7_setAll_16 : decode cX7_setAll 16 = .ok (.iinc 1 1, 3) := dk_132 1 1 (dk_at dksX7_setAll_0 16 rfl rfl)
theorem dX7_setAll_19 : decode cX7_setAll 19 = .ok (.goto (-17), 3) := dk_167 255 239 (dk_at dksX7_setAll_0 19 rfl rfl)
theorem dX7_setAll_22 : decode cX7_setAll 22 = .ok (.iconst 0, 1) := dk_3 (dk_at dksX7_setAll_0 22 rfl rfl)
theorem dX7_setAll_23 : decode cX7_setAll 23 = .ok (.istore_n 1, 1) := dk_60 (dk_at dksX7_setAll_0 23 rfl rfl)
theorem dX7_setAll_24 : decode cX7_setAll 24 = .ok (.iload_n 1, 1) := dk_27 (dk_at dksX7_setAll_1 0 rfl rfl)
theorem dX7_setAll_25 : decode cX7_setAll 25 = .ok (.aload_n 0, 1) := dk_42 (dk_at dksX7_setAll_1 1 rfl rfl)
theorem dX7_setAll_26 : decode cX7_setAll 26 = .ok (.getfield 132, 3) := dk_180 0 132 (dk_at dksX7_setAll_1 2 rfl rfl)
theorem dX7_setAll_29 : decode cX7_setAll 29 = .ok (.if_icmp .ge 80, 3) := dk_162 0 80 (dk_at dksX7_setAll_1 5 rfl rfl)
theorem dX7_setAll_32 : decode cX7_setAll 32 = .ok (.aload_n 0, 1) := dk_42 (dk_at dksX7_setAll_1 8 rfl rfl)
theorem dX7_setAll_33 : decode cX7_setAll 33 = .ok (.getfield 44, 3) := dk_180 0 44 (dk_at dksX7_setAll_1 9 rfl rfl)
theorem dX7_setAll_36 : decode cX7_setAll 36 = .ok (.iload_n 1, 1) := dk_27 (dk_at dksX7_setAll_1 12 rfl rfl)
theorem dX7_setAll_37 : decode cX7_setAll 37 = .ok (.iaload, 1) := dk_46 (dk_at dksX7_setAll_1 13 rfl rfl)
theorem dX7_setAll_38 : decode cX7_setAll 38 = .ok (.istore_n 2, 1) := dk_61 (dk_at dksX7_setAll_1 14 rfl rfl)
theorem dX7_setAll_39 : decode cX7_setAll 39 = .ok (.iconst 0, 1) := dk_3 (dk_at dksX7_setAll_1 15 rfl rfl)
theorem dX7_setAll_40 : decode cX7_setAll 40 = .ok (.istore_n 3, 1) := dk_62 (dk_at dksX7_setAll_1 16 rfl rfl)
theorem dX7_setAll_41 : decode cX7_setAll 41 = .ok (.iload_n 3, 1) := dk_29 (dk_at dksX7_setAll_1 17 rfl rfl)
theorem dX7_setAll_42 : decode cX7_setAll 42 = .ok (.bipush 64, 2) := dk_16 64 (dk_at dksX7_setAll_1 18 rfl rfl)
theorem dX7_setAll_44 : decode cX7_setAll 44 = .ok (.if_icmp .ge 59, 3) := dk_162 0 59 (dk_at dksX7_setAll_1 20 rfl rfl)
theorem dX7_setAll_47 : decode cX7_setAll 47 = .ok (.aload_n 0, 1) := dk_42 (dk_at dksX7_setAll_1 23 rfl rfl)
theorem dX7_setAll_48 : decode cX7_setAll 48 = .ok (.iload_n 2, 1) := dk_28 (dk_at dksX7_setAll_2 0 rfl rfl)
theorem dX7_setAll_49 : decode cX7_setAll 49 = .ok (.iload_n 3, 1) := dk_29 (dk_at dksX7_setAll_2 1 rfl rfl)
theorem dX7_setAll_50 : decode cX7_setAll 50 = .ok (.invokevirtual 135, 3) := dk_182 0 135 (dk_at dksX7_setAll_2 2 rfl rfl)
theorem dX7_setAll_53 : decode cX7_setAll 53 = .ok (.ifCond .eq 44, 3) := dk_153 0 44 (dk_at dksX7_setAll_2 5 rfl rfl)
theorem dX7_setAll_56 : decode cX7_setAll 56 = .ok (.aload_n 0, 1) := dk_42 (dk_at dksX7_setAll_2 8 rfl rfl)
theorem dX7_setAll_57 : decode cX7_setAll 57 = .ok (.getfield 50, 3) := dk_180 0 50 (dk_at dksX7_setAll_2 9 rfl rfl)
theorem dX7_setAll_60 : decode cX7_setAll 60 = .ok (.bipush 64, 2) := dk_16 64 (dk_at dksX7_setAll_2 12 rfl rfl)
theorem dX7_setAll_62 : decode cX7_setAll 62 = .ok (.iload_n 2, 1) := dk_28 (dk_at dksX7_setAll_2 14 rfl rfl)
theorem dX7_setAll_63 : decode cX7_setAll 63 = .ok (.imul, 1) := dk_104 (dk_at dksX7_setAll_2 15 rfl rfl)
theorem dX7_setAll_64 : decode cX7_setAll 64 = .ok (.iload_n 3, 1) := dk_29 (dk_at dksX7_setAll_2 16 rfl rfl)
theorem dX7_setAll_65 : decode cX7_setAll 65 = .ok (.iadd, 1) := dk_96 (dk_at dksX7_setAll_2 17 rfl rfl)
theorem dX7_setAll_66 : decode cX7_setAll 66 = .ok (.aload_n 0, 1) := dk_42 (dk_at dksX7_setAll_2 18 rfl rfl)
theorem dX7_setAll_67 : decode cX7_setAll 67 = .ok (.getfield 139, 3) := dk_180 0 139 (dk_at dksX7_setAll_2 19 rfl rfl)
theorem dX7_setAll_70 : decode cX7_setAll 70 = .ok (.ifCond .eq 8, 3) := dk_153 0 8 (dk_at dksX7_setAll_3 0 rfl rfl)
theorem dX7_setAll_73 : decode cX7_setAll 73 = .ok (.bipush 21, 2) := dk_16 21 (dk_at dksX7_setAll_3 3 rfl rfl)
theorem dX7_setAll_75 : decode cX7_setAll 75 = .ok (.goto 21, 3) := dk_167 0 21 (dk_at dksX7_setAll_3 5 rfl rfl)
theorem dX7_setAll_78 : decode cX7_setAll 78 = .ok (.aload_n 0, 1) := dk_42 (dk_at dksX7_setAll_3 8 rfl rfl)
theorem dX7_setAll_79 : decode cX7_setAll 79 = .ok (.aload_n 0, 1) := dk_42 (dk_at dksX7_setAll_3 9 rfl rfl)
theorem dX7_setAll_80 : decode cX7_setAll 80 = .ok (.aload_n 0, 1) := dk_42 (dk_at dksX7_setAll_3 10 rfl rfl)
theorem dX7_setAll_81 : decode cX7_setAll 81 = .ok (.getfield 44, 3) := dk_180 0 44 (dk_at dksX7_setAll_3 11 rfl rfl)
theorem dX7_setAll_84 : decode cX7_setAll 84 = .ok (.aload_n 0, 1) := dk_42 (dk_at dksX7_setAll_3 14 rfl rfl)
theorem dX7_setAll_85 : decode cX7_setAll 85 = .ok (.getfield 132, 3) := dk_180 0 132 (dk_at dksX7_setAll_3 15 rfl rfl)
theorem dX7_setAll_88 : decode cX7_setAll 88 = .ok (.iload_n 2, 1) := dk_28 (dk_at dksX7_setAll_3 18 rfl rfl)
theorem dX7_setAll_89 : decode cX7_setAll 89 = .ok (.iload_n 3, 1) := dk_29 (dk_at dksX7_setAll_3 19 rfl rfl)
theorem dX7_setAll_90 : decode cX7_setAll 90 = .ok (.invokevirtual 121, 3) := dk_182 0 121 (dk_at dksX7_setAll_3 20 rfl rfl)
theorem dX7_setAll_93 : decode cX7_setAll 93 = .ok (.invokevirtual 142, 3) := dk_182 0 142 (dk_at dksX7_setAll_4 0 rfl rfl)
theorem dX7_setAll_96 : decode cX7_setAll 96 = .ok (.iastore, 1) := dk_79 (dk_at dksX7_setAll_4 3 rfl rfl)
theorem dX7_setAll_97 : decode cX7_setAll 97 = .ok (.iinc 3 1, 3) := dk_132 3 1 (dk_at dksX7_setAll_4 4 rfl rfl)
theorem dX7_setAll_100 : decode cX7_setAll 100 = .ok (.goto (-59), 3) := dk_167 255 197 (dk_at dksX7_setAll_4 7 rfl rfl)
theorem dX7_setAll_103 : decode cX7_setAll 103 = .ok (.iinc 1 1, 3) := dk_132 1 1 (dk_at dksX7_setAll_4 10 rfl rfl)
theorem dX7_setAll_106 : decode cX7_setAll 106 = .ok (.goto (-82), 3) := dk_167 255 174 (dk_at dksX7_setAll_4 13 rfl rfl)
theorem dX7_setAll_109 : decode cX7_setAll 109 = .ok (.iconst 0, 1) := dk_3 (dk_at dksX7_setAll_4 16 rfl rfl)
theorem dX7_setAll_110 : decode cX7_setAll 110 = .ok (.istore_n 1, 1) := dk_60 (dk_at dksX7_setAll_4 17 rfl rfl)
theorem dX7_setAll_111 : decode cX7_setAll 111 = .ok (.iload_n 1, 1) := dk_27 (dk_at dksX7_setAll_4 18 rfl rfl)
theorem dX7_setAll_112 : decode cX7_setAll 112 = .ok (.sipush 240, 3) := dk_17 0 240 (dk_at dksX7_setAll_4 19 rfl rfl)
theorem dX7_setAll_115 : decode cX7_setAll 115 = .ok (.if_icmp .ge 21, 3) := dk_162 0 21 (dk_at dksX7_setAll_5 0 rfl rfl)
theorem dX7_setAll_118 : decode cX7_setAll 118 = .ok (.aload_n 0, 1) := dk_42 (dk_at dksX7_setAll_5 3 rfl rfl)
theorem dX7_setAll_119 : decode cX7_setAll 119 = .ok (.getfield 53, 3) := dk_180 0 53 (dk_at dksX7_setAll_5 4 rfl rfl)
theorem dX7_setAll_122 : decode cX7_setAll 122 = .ok (.iload_n 1, 1) := dk_27 (dk_at dksX7_setAll_5 7 rfl rfl)
theorem dX7_setAll_123 : decode cX7_setAll 123 = .ok (.aload_n 0, 1) := dk_42 (dk_at dksX7_setAll_5 8 rfl rfl)
theorem dX7_setAll_124 : decode cX7_setAll 124 = .ok (.getfield 22, 3) := dk_180 0 22 (dk_at dksX7_setAll_5 9 rfl rfl)
theorem dX7_setAll_127 : decode cX7_setAll 127 = .ok (.iload_n 1, 1) := dk_27 (dk_at dksX7_setAll_5 12 rfl rfl)
theorem dX7_setAll_128 : decode cX7_setAll 128 = .ok (.iaload, 1) := dk_46 (dk_at dksX7_setAll_5 13 rfl rfl)
theorem dX7_setAll_129 : decode cX7_setAll 129 = .ok (.iastore, 1) := dk_79 (dk_at dksX7_setAll_5 14 rfl rfl)
theorem dX7_setAll_130 : decode cX7_setAll 130 = .ok (.iinc 1 1, 3) := dk_132 1 1 (dk_at dksX7_setAll_5 15 rfl rfl)
theorem dX7_setAll_133 : decode cX7_setAll 133 = .ok (.goto (-22), 3) := dk_167 255 234 (dk_at dksX7_setAll_5 18 rfl rfl)
theorem dX7_setAll_136 : decode cX7_setAll 136 = .ok (.return_, 1) := dk_177 (dk_at dksX7_setAll_5 21 rfl rfl)
abbrev cX7_usesCall : ByteArray := prog_11_method_19_code
def yX7_usesCall : MethodName := ⟨RX7, "usesCall", "(II)Z"⟩
def dkwX7_usesCall_2 : List UInt8 := [21, 5, 4, 96, 46, 28, 160, 0, 7, 4, 167, 0, 4, 3, 62, 132, 4, 1, 167, 255, 196, 29, 172]
abbrev dktX7_usesCall_2 : List UInt8 := dkwX7_usesCall_2 ++ []
def dkwX7_usesCall_1 : List UInt8 := [104, 54, 5, 29, 154, 0, 28, 42, 180, 0, 31, 21, 5, 46, 16, 7, 160, 0, 20, 42, 180, 0, 31]
abbrev dktX7_usesCall_1 : List UInt8 := dkwX7_usesCall_1 ++ dktX7_usesCall_2
def dkwX7_usesCall_0 : List UInt8 := [3, 62, 3, 54, 4, 21, 4, 42, 180, 0, 34, 27, 46, 162, 0, 55, 7, 16, 100, 27, 104, 21, 4, 96]
abbrev dktX7_usesCall_0 : List UInt8 := dkwX7_usesCall_0 ++ dktX7_usesCall_1
theorem dksX7_usesCall_0 : cX7_usesCall.data.toList.drop 0 = dktX7_usesCall_0 := by decide +kernel
theorem dksX7_usesCall_1 : cX7_usesCall.data.toList.drop 24 = dktX7_usesCall_1 := dk_seg dksX7_usesCall_0 24 rfl rfl
theorem dksX7_usesCall_2 : cX7_usesCall.data.toList.drop 47 = dktX7_usesCall_2 := dk_seg dksX7_usesCall_1 23 rfl rfl
theorem dX7_usesCall_0 : decode cX7_usesCall 0 = .ok (.iconst 0, 1) := dk_3 (dk_at dksX7_usesCall_0 0 rfl rfl)
theorem dX7_usesCall_1 : decode cX7_usesCall 1 = .ok (.istore_n 3, 1) := dk_62 (dk_at dksX7_usesCall_0 1 rfl rfl)
theorem dX7_usesCall_2 : decode cX7_usesCall 2 = .ok (.iconst 0, 1) := dk_3 (dk_at dksX7_usesCall_0 2 rfl rfl)
theorem dX7_usesCall_3 : decode cX7_usesCall 3 = .ok (.istore 4, 2) := dk_54 4 (dk_at dksX7_usesCall_0 3 rfl rfl)
theorem dX7_usesCall_5 : decode cX7_usesCall 5 = .ok (.iload 4, 2) := dk_21 4 (dk_at dksX7_usesCall_0 5 rfl rfl)
theorem dX7_usesCall_7 : decode cX7_usesCall 7 = .ok (.aload_n 0, 1) := dk_42 (dk_at dksX7_usesCall_0 7 rfl rfl)
theorem dX7_usesCall_8 : decode cX7_usesCall 8 = .ok (.getfield 34, 3) := dk_180 0 34 (dk_at dksX7_usesCall_0 8 rfl rfl)
theorem dX7_usesCall_11 : decode cX7_usesCall 11 = .ok (.iload_n 1, 1) := dk_27 (dk_at dksX7_usesCall_0 11 rfl rfl)
theorem dX7_usesCall_12 : decode cX7_usesCall 12 = .ok (.iaload, 1) := dk_46 (dk_at dksX7_usesCall_0 12 rfl rfl)
theorem dX7_usesCall_13 : decode cX7_usesCall 13 = .ok (.if_icmp .ge 55, 3) := dk_162 0 55 (dk_at dksX7_usesCall_0 13 rfl rfl)
theorem dX7_usesCall_16 : decode cX7_usesCall 16 = .ok (.iconst 4, 1) := dk_7 (dk_at dksX7_usesCall_0 16 rfl rfl)
theorem dX7_usesCall_17 : decode cX7_usesCall 17 = .ok (.bipush 100, 2) := dk_16 100 (dk_at dksX7_usesCall_0 17 rfl rfl)
theorem dX7_usesCall_19 : decode cX7_usesCall 19 = .ok (.iload_n 1, 1) := dk_27 (dk_at dksX7_usesCall_0 19 rfl rfl)
theorem dX7_usesCall_20 : decode cX7_usesCall 20 = .ok (.imul, 1) := dk_104 (dk_at dksX7_usesCall_0 20 rfl rfl)
theorem dX7_usesCall_21 : decode cX7_usesCall 21 = .ok (.iload 4, 2) := dk_21 4 (dk_at dksX7_usesCall_0 21 rfl rfl)
theorem dX7_usesCall_23 : decode cX7_usesCall 23 = .ok (.iadd, 1) := dk_96 (dk_at dksX7_usesCall_0 23 rfl rfl)
theorem dX7_usesCall_24 : decode cX7_usesCall 24 = .ok (.imul, 1) := dk_104 (dk_at dksX7_usesCall_1 0 rfl rfl)
theorem dX7_usesCall_25 : decode cX7_usesCall 25 = .ok (.istore 5, 2) := dk_54 5 (dk_at dksX7_usesCall_1 1 rfl rfl)
theorem dX7_usesCall_27 : decode cX7_usesCall 27 = .ok (.iload_n 3, 1) := dk_29 (dk_at dksX7_usesCall_1 3 rfl rfl)
theorem dX7_usesCall_28 : decode cX7_usesCall 28 = .ok (.ifCond .ne 28, 3) := dk_154 0 28 (dk_at dksX7_usesCall_1 4 rfl rfl)
theorem dX7_usesCall_31 : decode cX7_usesCall 31 = .ok (.aload_n 0, 1) := dk_42 (dk_at dksX7_usesCall_1 7 rfl rfl)
theorem dX7_usesCall_32 : decode cX7_usesCall 32 = .ok (.getfield 31, 3) := dk_180 0 31 (dk_at dksX7_usesCall_1 8 rfl rfl)
theorem dX7_usesCall_35 : decode cX7_usesCall 35 = .ok (.iload 5, 2) := dk_21 5 (dk_at dksX7_usesCall_1 11 rfl rfl)
theorem dX7_usesCall_37 : decode cX7_usesCall 37 = .ok (.iaload, 1) := dk_46 (dk_at dksX7_usesCall_1 13 rfl rfl)
theorem dX7_usesCall_38 : decode cX7_usesCall 38 = .ok (.bipush 7, 2) := dk_16 7 (dk_at dksX7_usesCall_1 14 rfl rfl)
theorem dX7_usesCall_40 : decode cX7_usesCall 40 = .ok (.if_icmp .ne 20, 3) := dk_160 0 20 (dk_at dksX7_usesCall_1 16 rfl rfl)
theorem dX7_usesCall_43 : decode cX7_usesCall 43 = .ok (.aload_n 0, 1) := dk_42 (dk_at dksX7_usesCall_1 19 rfl rfl)
theorem dX7_usesCall_44 : decode cX7_usesCall 44 = .ok (.getfield 31, 3) := dk_180 0 31 (dk_at dksX7_usesCall_1 20 rfl rfl)
theorem dX7_usesCall_47 : decode cX7_usesCall 47 = .ok (.iload 5, 2) := dk_21 5 (dk_at dksX7_usesCall_2 0 rfl rfl)
theorem dX7_usesCall_49 : decode cX7_usesCall 49 = .ok (.iconst 1, 1) := dk_4 (dk_at dksX7_usesCall_2 2 rfl rfl)
theorem dX7_usesCall_50 : decode cX7_usesCall 50 = .ok (.iadd, 1) := dk_96 (dk_at dksX7_usesCall_2 3 rfl rfl)
theorem dX7_usesCall_51 : decode cX7_usesCall 51 = .ok (.iaload, 1) := dk_46 (dk_at dksX7_usesCall_2 4 rfl rfl)
theorem dX7_usesCall_52 : decode cX7_usesCall 52 = .ok (.iload_n 2, 1) := dk_28 (dk_at dksX7_usesCall_2 5 rfl rfl)
theorem dX7_usesCall_53 : decode cX7_usesCall 53 = .ok (.if_icmp .ne 7, 3) := dk_160 0 7 (dk_at dksX7_usesCall_2 6 rfl rfl)
theorem dX7_usesCall_56 : decode cX7_usesCall 56 = .ok (.iconst 1, 1) := dk_4 (dk_at dksX7_usesCall_2 9 rfl rfl)
theorem dX7_usesCall_57 : decode cX7_usesCall 57 = .ok (.goto 4, 3) := dk_167 0 4 (dk_at dksX7_usesCall_2 10 rfl rfl)
theorem dX7_usesCall_60 : decode cX7_usesCall 60 = .ok (.iconst 0, 1) := dk_3 (dk_at dksX7_usesCall_2 13 rfl rfl)
theorem dX7_usesCall_61 : decode cX7_usesCall 61 = .ok (.istore_n 3, 1) := dk_62 (dk_at dksX7_usesCall_2 14 rfl rfl)
theorem dX7_usesCall_62 : decode cX7_usesCall 62 = .ok (.iinc 4 1, 3) := dk_132 4 1 (dk_at dksX7_usesCall_2 15 rfl rfl)
theorem dX7_usesCall_65 : decode cX7_usesCall 65 = .ok (.goto (-60), 3) := dk_167 255 196 (dk_at dksX7_usesCall_2 18 rfl rfl)
theorem dX7_usesCall_68 : decode cX7_usesCall 68 = .ok (.iload_n 3, 1) := dk_29 (dk_at dksX7_usesCall_2 21 rfl rfl)
theorem dX7_usesCall_69 : decode cX7_usesCall 69 = .ok (.ireturn, 1) := dk_172 (dk_at dksX7_usesCall_2 22 rfl rfl)
abbrev cX7_moduleOf : ByteArray := prog_11_method_20_code
def yX7_moduleOf : MethodName := ⟨RX7, "moduleOf", "(I)I"⟩
def dkwX7_moduleOf_0 : List UInt8 := [27, 2, 160, 0, 8, 16, 20, 167, 0, 7, 27, 16, 20, 108, 172]
abbrev dktX7_moduleOf_0 : List UInt8 := dkwX7_moduleOf_0 ++ []
theorem dksX7_moduleOf_0 : cX7_moduleOf.data.toList.drop 0 = dktX7_moduleOf_0 := by decide +kernel
theorem dX7_moduleOf_0 : decode cX7_moduleOf 0 = .ok (.iload_n 1, 1) := dk_27 (dk_at dksX7_moduleOf_0 0 rfl rfl)
theorem dX7_moduleOf_1 : decode cX7_moduleOf 1 = .ok (.iconst (-1), 1) := dk_2 (dk_at dksX7_moduleOf_0 1 rfl rfl)
theorem dX7_moduleOf_2 : decode cX7_moduleOf 2 = .ok (.if_icmp .ne 8, 3) := dk_160 0 8 (dk_at dksX7_moduleOf_0 2 rfl rfl)
theorem dX7_moduleOf_5 : decode cX7_moduleOf 5 = .ok (.bipush 20, 2) := dk_16 20 (dk_at dksX7_moduleOf_0 5 rfl rfl)
theorem dX7_moduleOf_7 : decode cX7_moduleOf 7 = .ok (.goto 7, 3) := dk_167 0 7 (dk_at dksX7_moduleOf_0 7 rfl rfl)
theorem dX7_moduleOf_10 : decode cX7_moduleOf 10 = .ok (.iload_n 1, 1) := dk_27 (dk_at dksX7_moduleOf_0 10 rfl rfl)
theorem dX7_moduleOf_11 : decode cX7_moduleOf 11 = .ok (.bipush 20, 2) := dk_16 20 (dk_at dksX7_moduleOf_0 11 rfl rfl)
theorem dX7_moduleOf_13 : decode cX7_moduleOf 13 = .ok (.idiv, 1) := dk_108 (dk_at dksX7_moduleOf_0 13 rfl rfl)
theorem dX7_moduleOf_14 : decode cX7_moduleOf 14 = .ok (.ireturn, 1) := dk_172 (dk_at dksX7_moduleOf_0 14 rfl rfl)
abbrev cX7_fault : ByteArray := prog_11_method_23_code
def yX7_fault : MethodName := ⟨RX7, "fault", "(I)I"⟩
def dkwX7_fault_1 : List UInt8 := [5, 160, 0, 10, 42, 180, 0, 75, 167, 0, 4, 2, 172]
abbrev dktX7_fault_1 : List UInt8 := dkwX7_fault_1 ++ []
def dkwX7_fault_0 : List UInt8 := [27, 154, 0, 10, 42, 180, 0, 68, 167, 0, 28, 27, 4, 160, 0, 10, 42, 180, 0, 72, 167, 0, 16, 27]
abbrev dktX7_fault_0 : List UInt8 := dkwX7_fault_0 ++ dktX7_fault_1
theorem dksX7_fault_0 : cX7_fault.data.toList.drop 0 = dktX7_fault_0 := by decide +kernel
theorem dksX7_fault_1 : cX7_fault.data.toList.drop 24 = dktX7_fault_1 := dk_seg dksX7_fault_0 24 rfl rfl
theorem dX7_fault_0 : decode cX7_fault 0 = .ok (.iload_n 1, 1) := dk_27 (dk_at dksX7_fault_0 0 rfl rfl)
theorem dX7_fault_1 : decode cX7_fault 1 = .ok (.ifCond .ne 10, 3) := dk_154 0 10 (dk_at dksX7_fault_0 1 rfl rfl)
theorem dX7_fault_4 : decode cX7_fault 4 = .ok (.aload_n 0, 1) := dk_42 (dk_at dksX7_fault_0 4 rfl rfl)
theorem dX7_fault_5 : decode cX7_fault 5 = .ok (.getfield 68, 3) := dk_180 0 68 (dk_at dksX7_fault_0 5 rfl rfl)
theorem dX7_fault_8 : decode cX7_fault 8 = .ok (.goto 28, 3) := dk_167 0 28 (dk_at dksX7_fault_0 8 rfl rfl)
theorem dX7_fault_11 : decode cX7_fault 11 = .ok (.iload_n 1, 1) := dk_27 (dk_at dksX7_fault_0 11 rfl rfl)
theorem dX7_fault_12 : decode cX7_fault 12 = .ok (.iconst 1, 1) := dk_4 (dk_at dksX7_fault_0 12 rfl rfl)
theorem dX7_fault_13 : decode cX7_fault 13 = .ok (.if_icmp .ne 10, 3) := dk_160 0 10 (dk_at dksX7_fault_0 13 rfl rfl)
theorem dX7_fault_16 : decode cX7_fault 16 = .ok (.aload_n 0, 1) := dk_42 (dk_at dksX7_fault_0 16 rfl rfl)
theorem dX7_fault_17 : decode cX7_fault 17 = .ok (.getfield 72, 3) := dk_180 0 72 (dk_at dksX7_fault_0 17 rfl rfl)
theorem dX7_fault_20 : decode cX7_fault 20 = .ok (.goto 16, 3) := dk_167 0 16 (dk_at dksX7_fault_0 20 rfl rfl)
theorem dX7_fault_23 : decode cX7_fault 23 = .ok (.iload_n 1, 1) := dk_27 (dk_at dksX7_fault_0 23 rfl rfl)
theorem dX7_fault_24 : decode cX7_fault 24 = .ok (.iconst 2, 1) := dk_5 (dk_at dksX7_fault_1 0 rfl rfl)
theorem dX7_fault_25 : decode cX7_fault 25 = .ok (.if_icmp .ne 10, 3) := dk_160 0 10 (dk_at dksX7_fault_1 1 rfl rfl)
theorem dX7_fault_28 : decode cX7_fault 28 = .ok (.aload_n 0, 1) := dk_42 (dk_at dksX7_fault_1 4 rfl rfl)
theorem dX7_fault_29 : decode cX7_fault 29 = .ok (.getfield 75, 3) := dk_180 0 75 (dk_at dksX7_fault_1 5 rfl rfl)
theorem dX7_fault_32 : decode cX7_fault 32 = .ok (.goto 4, 3) := dk_167 0 4 (dk_at dksX7_fault_1 8 rfl rfl)
theorem dX7_fault_35 : decode cX7_fault 35 = .ok (.iconst (-1), 1) := dk_2 (dk_at dksX7_fault_1 11 rfl rfl)
theorem dX7_fault_36 : decode cX7_fault 36 = .ok (.ireturn, 1) := dk_172 (dk_at dksX7_fault_1 12 rfl rfl)
abbrev cX7_order : ByteArray := prog_11_method_24_code
def yX7_order : MethodName := ⟨RX7, "order", "(II)I"⟩
def dkwX7_order_2 : List UInt8 := [46, 172]
abbrev dktX7_order_2 : List UInt8 := dkwX7_order_2 ++ []
def dkwX7_order_1 : List UInt8 := [4, 164, 0, 5, 2, 172, 28, 154, 0, 12, 42, 180, 0, 44, 27, 46, 167, 0, 9, 42, 180, 0, 47, 27]
abbrev dktX7_order_1 : List UInt8 := dkwX7_order_1 ++ dktX7_order_2
def dkwX7_order_0 : List UInt8 := [42, 180, 0, 97, 153, 0, 24, 27, 155, 0, 20, 27, 42, 180, 0, 132, 162, 0, 12, 28, 155, 0, 8, 28]
abbrev dktX7_order_0 : List UInt8 := dkwX7_order_0 ++ dktX7_order_1
theorem dksX7_order_0 : cX7_order.data.toList.drop 0 = dktX7_order_0 := by decide +kernel
theorem dksX7_order_1 : cX7_order.data.toList.drop 24 = dktX7_order_1 := dk_seg dksX7_order_0 24 rfl rfl
theorem dksX7_order_2 : cX7_order.data.toList.drop 48 = dktX7_order_2 := dk_seg dksX7_order_1 24 rfl rfl
theorem dX7_order_0 : decode cX7_order 0 = .ok (.aload_n 0, 1) := dk_42 (dk_at dksX7_order_0 0 rfl rfl)
theorem dX7_order_1 : decode cX7_order 1 = .ok (.getfield 97, 3) := dk_180 0 97 (dk_at dksX7_order_0 1 rfl rfl)
theorem dX7_order_4 : decode cX7_order 4 = .ok (.ifCond .eq 24, 3) := dk_153 0 24 (dk_at dksX7_order_0 4 rfl rfl)
theorem dX7_order_7 : decode cX7_order 7 = .ok (.iload_n 1, 1) := dk_27 (dk_at dksX7_order_0 7 rfl rfl)
theorem dX7_order_8 : decode cX7_order 8 = .ok (.ifCond .lt 20, 3) := dk_155 0 20 (dk_at dksX7_order_0 8 rfl rfl)
theorem dX7_order_11 : decode cX7_order 11 = .ok (.iload_n 1, 1) := dk_27 (dk_at dksX7_order_0 11 rfl rfl)
theorem dX7_order_12 : decode cX7_order 12 = .ok (.aload_n 0, 1) := dk_42 (dk_at dksX7_order_0 12 rfl rfl)
theorem dX7_order_13 : decode cX7_order 13 = .ok (.getfield 132, 3) := dk_180 0 132 (dk_at dksX7_order_0 13 rfl rfl)
theorem dX7_order_16 : decode cX7_order 16 = .ok (.if_icmp .ge 12, 3) := dk_162 0 12 (dk_at dksX7_order_0 16 rfl rfl)
theorem dX7_order_19 : decode cX7_order 19 = .ok (.iload_n 2, 1) := dk_28 (dk_at dksX7_order_0 19 rfl rfl)
theorem dX7_order_20 : decode cX7_order 20 = .ok (.ifCond .lt 8, 3) := dk_155 0 8 (dk_at dksX7_order_0 20 rfl rfl)
theorem dX7_order_23 : decode cX7_order 23 = .ok (.iload_n 2, 1) := dk_28 (dk_at dksX7_order_0 23 rfl rfl)
theorem dX7_order_24 : decode cX7_order 24 = .ok (.iconst 1, 1) := dk_4 (dk_at dksX7_order_1 0 rfl rfl)
theorem dX7_order_25 : decode cX7_order 25 = .ok (.if_icmp .le 5, 3) := dk_164 0 5 (dk_at dksX7_order_1 1 rfl rfl)
theorem dX7_order_28 : decode cX7_order 28 = .ok (.iconst (-1), 1) := dk_2 (dk_at dksX7_order_1 4 rfl rfl)
theorem dX7_order_29 : decode cX7_order 29 = .ok (.ireturn, 1) := dk_172 (dk_at dksX7_order_1 5 rfl rfl)
theorem dX7_order_30 : decode cX7_order 30 = .ok (.iload_n 2, 1) := dk_28 (dk_at dksX7_order_1 6 rfl rfl)
theorem dX7_order_31 : decode cX7_order 31 = .ok (.ifCond .ne 12, 3) := dk_154 0 12 (dk_at dksX7_order_1 7 rfl rfl)
theorem dX7_order_34 : decode cX7_order 34 = .ok (.aload_n 0, 1) := dk_42 (dk_at dksX7_order_1 10 rfl rfl)
theorem dX7_order_35 : decode cX7_order 35 = .ok (.getfield 44, 3) := dk_180 0 44 (dk_at dksX7_order_1 11 rfl rfl)
theorem dX7_order_38 : decode cX7_order 38 = .ok (.iload_n 1, 1) := dk_27 (dk_at dksX7_order_1 14 rfl rfl)
theorem dX7_order_39 : decode cX7_order 39 = .ok (.iaload, 1) := dk_46 (dk_at dksX7_order_1 15 rfl rfl)
theorem dX7_order_40 : decode cX7_order 40 = .ok (.goto 9, 3) := dk_167 0 9 (dk_at dksX7_order_1 16 rfl rfl)
theorem dX7_order_43 : decode cX7_order 43 = .ok (.aload_n 0, 1) := dk_42 (dk_at dksX7_order_1 19 rfl rfl)
theorem dX7_order_44 : decode cX7_order 44 = .ok (.getfield 47, 3) := dk_180 0 47 (dk_at dksX7_order_1 20 rfl rfl)
theorem dX7_order_47 : decode cX7_order 47 = .ok (.iload_n 1, 1) := dk_27 (dk_at dksX7_order_1 23 rfl rfl)
theorem dX7_order_48 : decode cX7_order 48 = .ok (.iaload, 1) := dk_46 (dk_at dksX7_order_2 0 rfl rfl)
theorem dX7_order_49 : decode cX7_order 49 = .ok (.ireturn, 1) := dk_172 (dk_at dksX7_order_2 1 rfl rfl)
abbrev cX7_comes : ByteArray := prog_11_method_26_code
def yX7_comes : MethodName := ⟨RX7, "comes", "(II)I"⟩
def dkwX7_comes_1 : List UInt8 := [180, 0, 44, 42, 180, 0, 132, 27, 28, 182, 0, 121, 182, 0, 142, 172]
abbrev dktX7_comes_1 : List UInt8 := dkwX7_comes_1 ++ []
def dkwX7_comes_0 : List UInt8 := [42, 27, 182, 0, 159, 2, 159, 0, 10, 28, 184, 0, 101, 154, 0, 7, 2, 167, 0, 21, 42, 42, 42]
abbrev dktX7_comes_0 : List UInt8 := dkwX7_comes_0 ++ dktX7_comes_1
theorem dksX7_comes_0 : cX7_comes.data.toList.drop 0 = dktX7_comes_0 := by decide +kernel
theorem dksX7_comes_1 : cX7_comes.data.toList.drop 23 = dktX7_comes_1 := dk_seg dksX7_comes_0 23 rfl rfl
theorem dX7_comes_0 : decode cX7_comes 0 = .ok (.aload_n 0, 1) := dk_42 (dk_at dksX7_comes_0 0 rfl rfl)
theorem dX7_comes_1 : decode cX7_comes 1 = .ok (.iload_n 1, 1) := dk_27 (dk_at dksX7_comes_0 1 rfl rfl)
theorem dX7_comes_2 : decode cX7_comes 2 = .ok (.invokevirtual 159, 3) := dk_182 0 159 (dk_at dksX7_comes_0 2 rfl rfl)
theorem dX7_comes_5 : decode cX7_comes 5 = .ok (.iconst (-1), 1) := dk_2 (dk_at dksX7_comes_0 5 rfl rfl)
theorem dX7_comes_6 : decode cX7_comes 6 = .ok (.if_icmp .eq 10, 3) := dk_159 0 10 (dk_at dksX7_comes_0 6 rfl rfl)
theorem dX7_comes_9 : decode cX7_comes 9 = .ok (.iload_n 2, 1) := dk_28 (dk_at dksX7_comes_0 9 rfl rfl)
theorem dX7_comes_10 : decode cX7_comes 10 = .ok (.invokestatic 101, 3) := dk_184 0 101 (dk_at dksX7_comes_0 10 rfl rfl)
theorem dX7_comes_13 : decode cX7_comes 13 = .ok (.ifCond .ne 7, 3) := dk_154 0 7 (dk_at dksX7_comes_0 13 rfl rfl)
theorem dX7_comes_16 : decode cX7_comes 16 = .ok (.iconst (-1), 1) := dk_2 (dk_at dksX7_comes_0 16 rfl rfl)
theorem dX7_comes_17 : decode cX7_comes 17 = .ok (.goto 21, 3) := dk_167 0 21 (dk_at dksX7_comes_0 17 rfl rfl)
theorem dX7_comes_20 : decode cX7_comes 20 = .ok (.aload_n 0, 1) := dk_42 (dk_at dksX7_comes_0 20 rfl rfl)
theorem dX7_comes_21 : decode cX7_comes 21 = .ok (.aload_n 0, 1) := dk_42 (dk_at dksX7_comes_0 21 rfl rfl)
theorem dX7_comes_22 : decode cX7_comes 22 = .ok (.aload_n 0, 1) := dk_42 (dk_at dksX7_comes_0 22 rfl rfl)
theorem dX7_comes_23 : decode cX7_comes 23 = .ok (.getfield 44, 3) := dk_180 0 44 (dk_at dksX7_comes_1 0 rfl rfl)
theorem dX7_comes_26 : decode cX7_comes 26 = .ok (.aload_n 0, 1) := dk_42 (dk_at dksX7_comes_1 3 rfl rfl)
theorem dX7_comes_27 : decode cX7_comes 27 = .ok (.getfield 132, 3) := dk_180 0 132 (dk_at dksX7_comes_1 4 rfl rfl)
theorem dX7_comes_30 : decode cX7_comes 30 = .ok (.iload_n 1, 1) := dk_27 (dk_at dksX7_comes_1 7 rfl rfl)
theorem dX7_comes_31 : decode cX7_comes 31 = .ok (.iload_n 2, 1) := dk_28 (dk_at dksX7_comes_1 8 rfl rfl)
theorem dX7_comes_32 : decode cX7_comes 32 = .ok (.invokevirtual 121, 3) := dk_182 0 121 (dk_at dksX7_comes_1 9 rfl rfl)
theorem dX7_comes_35 : decode cX7_comes 35 = .ok (.invokevirtual 142, 3) := dk_182 0 142 (dk_at dksX7_comes_1 12 rfl rfl)
theorem dX7_comes_38 : decode cX7_comes 38 = .ok (.ireturn, 1) := dk_172 (dk_at dksX7_comes_1 15 rfl rfl)
abbrev cX7_placeOf : ByteArray := prog_11_method_25_code
def yX7_placeOf : MethodName := ⟨RX7, "placeOf", "(I)I"⟩
def dkwX7_placeOf_1 : List UInt8 := [160, 0, 5, 28, 172, 132, 2, 1, 167, 255, 226, 2, 172]
abbrev dktX7_placeOf_1 : List UInt8 := dkwX7_placeOf_1 ++ []
def dkwX7_placeOf_0 : List UInt8 := [3, 61, 28, 42, 180, 0, 132, 162, 0, 28, 42, 180, 0, 97, 153, 0, 21, 42, 180, 0, 44, 28, 46, 27]
abbrev dktX7_placeOf_0 : List UInt8 := dkwX7_placeOf_0 ++ dktX7_placeOf_1
theorem dksX7_placeOf_0 : cX7_placeOf.data.toList.drop 0 = dktX7_placeOf_0 := by decide +kernel
theorem dksX7_placeOf_1 : cX7_placeOf.data.toList.drop 24 = dktX7_placeOf_1 := dk_seg dksX7_placeOf_0 24 rfl rfl
theorem dX7_placeOf_0 : decode cX7_placeOf 0 = .ok (.iconst 0, 1) := dk_3 (dk_at dksX7_placeOf_0 0 rfl rfl)
theorem dX7_placeOf_1 : decode cX7_placeOf 1 = .ok (.istore_n 2, 1) := dk_61 (dk_at dksX7_placeOf_0 1 rfl rfl)
theorem dX7_placeOf_2 : decode cX7_placeOf 2 = .ok (.iload_n 2, 1) := dk_28 (dk_at dksX7_placeOf_0 2 rfl rfl)
theorem dX7_placeOf_3 : decode cX7_placeOf 3 = .ok (.aload_n 0, 1) := dk_42 (dk_at dksX7_placeOf_0 3 rfl rfl)
theorem dX7_placeOf_4 : decode cX7_placeOf 4 = .ok (.getfield 132, 3) := dk_180 0 132 (dk_at dksX7_placeOf_0 4 rfl rfl)
theorem dX7_placeOf_7 : decode cX7_placeOf 7 = .ok (.if_icmp .ge 28, 3) := dk_162 0 28 (dk_at dksX7_placeOf_0 7 rfl rfl)
theorem dX7_placeOf_10 : decode cX7_placeOf 10 = .ok (.aload_n 0, 1) := dk_42 (dk_at dksX7_placeOf_0 10 rfl rfl)
theorem dX7_placeOf_11 : decode cX7_placeOf 11 = .ok (.getfield 97, 3) := dk_180 0 97 (dk_at dksX7_placeOf_0 11 rfl rfl)
theorem dX7_placeOf_14 : decode cX7_placeOf 14 = .ok (.ifCond .eq 21, 3) := dk_153 0 21 (dk_at dksX7_placeOf_0 14 rfl rfl)
theorem dX7_placeOf_17 : decode cX7_placeOf 17 = .ok (.aload_n 0, 1) := dk_42 (dk_at dksX7_placeOf_0 17 rfl rfl)
theorem dX7_placeOf_18 : decode cX7_placeOf 18 = .ok (.getfield 44, 3) := dk_180 0 44 (dk_at dksX7_placeOf_0 18 rfl rfl)
theorem dX7_placeOf_21 : decode cX7_placeOf 21 = .ok (.iload_n 2, 1) := dk_28 (dk_at dksX7_placeOf_0 21 rfl rfl)
theorem dX7_placeOf_22 : decode cX7_placeOf 22 = .ok (.iaload, 1) := dk_46 (dk_at dksX7_placeOf_0 22 rfl rfl)
theorem dX7_placeOf_23 : decode cX7_placeOf 23 = .ok (.iload_n 1, 1) := dk_27 (dk_at dksX7_placeOf_0 23 rfl rfl)
theorem dX7_placeOf_24 : decode cX7_placeOf 24 = .ok (.if_icmp .ne 5, 3) := dk_160 0 5 (dk_at dksX7_placeOf_1 0 rfl rfl)
theorem dX7_placeOf_27 : decode cX7_placeOf 27 = .ok (.iload_n 2, 1) := dk_28 (dk_at dksX7_placeOf_1 3 rfl rfl)
theorem dX7_placeOf_28 : decode cX7_placeOf 28 = .ok (.ireturn, 1) := dk_172 (dk_at dksX7_placeOf_1 4 rfl rfl)
theorem dX7_placeOf_29 : decode cX7_placeOf 29 = .ok (.iinc 2 1, 3) := dk_132 2 1 (dk_at dksX7_placeOf_1 5 rfl rfl)
theorem dX7_placeOf_32 : decode cX7_placeOf 32 = .ok (.goto (-30), 3) := dk_167 255 226 (dk_at dksX7_placeOf_1 8 rfl rfl)
theorem dX7_placeOf_35 : decode cX7_placeOf 35 = .ok (.iconst (-1), 1) := dk_2 (dk_at dksX7_placeOf_1 11 rfl rfl)
theorem dX7_placeOf_36 : decode cX7_placeOf 36 = .ok (.ireturn, 1) := dk_172 (dk_at dksX7_placeOf_1 12 rfl rfl)
abbrev cX7_bound : ByteArray := prog_11_method_27_code
def yX7_bound : MethodName := ⟨RX7, "bound", "(II)I"⟩
def dkwX7_bound_1 : List UInt8 := [16, 64, 27, 104, 28, 96, 46, 172]
abbrev dktX7_bound_1 : List UInt8 := dkwX7_bound_1 ++ []
def dkwX7_bound_0 : List UInt8 := [42, 27, 182, 0, 159, 2, 159, 0, 10, 28, 184, 0, 101, 154, 0, 7, 2, 167, 0, 14, 42, 180, 0, 50]
abbrev dktX7_bound_0 : List UInt8 := dkwX7_bound_0 ++ dktX7_bound_1
theorem dksX7_bound_0 : cX7_bound.data.toList.drop 0 = dktX7_bound_0 := by decide +kernel
theorem dksX7_bound_1 : cX7_bound.data.toList.drop 24 = dktX7_bound_1 := dk_seg dksX7_bound_0 24 rfl rfl
theorem dX7_bound_0 : decode cX7_bound 0 = .ok (.aload_n 0, 1) := dk_42 (dk_at dksX7_bound_0 0 rfl rfl)
theorem dX7_bound_1 : decode cX7_bound 1 = .ok (.iload_n 1, 1) := dk_27 (dk_at dksX7_bound_0 1 rfl rfl)
theorem dX7_bound_2 : decode cX7_bound 2 = .ok (.invokevirtual 159, 3) := dk_182 0 159 (dk_at dksX7_bound_0 2 rfl rfl)
theorem dX7_bound_5 : decode cX7_bound 5 = .ok (.iconst (-1), 1) := dk_2 (dk_at dksX7_bound_0 5 rfl rfl)
theorem dX7_bound_6 : decode cX7_bound 6 = .ok (.if_icmp .eq 10, 3) := dk_159 0 10 (dk_at dksX7_bound_0 6 rfl rfl)
theorem dX7_bound_9 : decode cX7_bound 9 = .ok (.iload_n 2, 1) := dk_28 (dk_at dksX7_bound_0 9 rfl rfl)
theorem dX7_bound_10 : decode cX7_bound 10 = .ok (.invokestatic 101, 3) := dk_184 0 101 (dk_at dksX7_bound_0 10 rfl rfl)
theorem dX7_bound_13 : decode cX7_bound 13 = .ok (.ifCond .ne 7, 3) := dk_154 0 7 (dk_at dksX7_bound_0 13 rfl rfl)
theorem dX7_bound_16 : decode cX7_bound 16 = .ok (.iconst (-1), 1) := dk_2 (dk_at dksX7_bound_0 16 rfl rfl)
theorem dX7_bound_17 : decode cX7_bound 17 = .ok (.goto 14, 3) := dk_167 0 14 (dk_at dksX7_bound_0 17 rfl rfl)
theorem dX7_bound_20 : decode cX7_bound 20 = .ok (.aload_n 0, 1) := dk_42 (dk_at dksX7_bound_0 20 rfl rfl)
theorem dX7_bound_21 : decode cX7_bound 21 = .ok (.getfield 50, 3) := dk_180 0 50 (dk_at dksX7_bound_0 21 rfl rfl)
theorem dX7_bound_24 : decode cX7_bound 24 = .ok (.bipush 64, 2) := dk_16 64 (dk_at dksX7_bound_1 0 rfl rfl)
theorem dX7_bound_26 : decode cX7_bound 26 = .ok (.iload_n 1, 1) := dk_27 (dk_at dksX7_bound_1 2 rfl rfl)
theorem dX7_bound_27 : decode cX7_bound 27 = .ok (.imul, 1) := dk_104 (dk_at dksX7_bound_1 3 rfl rfl)
theorem dX7_bound_28 : decode cX7_bound 28 = .ok (.iload_n 2, 1) := dk_28 (dk_at dksX7_bound_1 4 rfl rfl)
theorem dX7_bound_29 : decode cX7_bound 29 = .ok (.iadd, 1) := dk_96 (dk_at dksX7_bound_1 5 rfl rfl)
theorem dX7_bound_30 : decode cX7_bound 30 = .ok (.iaload, 1) := dk_46 (dk_at dksX7_bound_1 6 rfl rfl)
theorem dX7_bound_31 : decode cX7_bound 31 = .ok (.ireturn, 1) := dk_172 (dk_at dksX7_bound_1 7 rfl rfl)
abbrev cX7_run : ByteArray := prog_11_method_34_code
def yX7_run : MethodName := ⟨RX7, "run", "(II)I"⟩
def dkwX7_run_9 : List UInt8 := [167, 0, 5, 21, 4, 54, 4, 21, 4, 2, 160, 0, 7, 3, 167, 0, 5, 21, 4, 172]
abbrev dktX7_run_9 : List UInt8 := dkwX7_run_9 ++ []
def dkwX7_run_8 : List UInt8 := [182, 0, 199, 54, 4, 132, 5, 1, 167, 255, 176, 21, 4, 2, 160, 0, 12, 42, 29, 28, 182, 0, 199]
abbrev dktX7_run_8 : List UInt8 := dkwX7_run_8 ++ dktX7_run_9
def dkwX7_run_7 : List UInt8 := [21, 6, 42, 180, 0, 41, 21, 6, 46, 182, 0, 121, 54, 7, 21, 7, 2, 159, 0, 12, 42, 21, 7, 28]
abbrev dktX7_run_7 : List UInt8 := dkwX7_run_7 ++ dktX7_run_8
def dkwX7_run_6 : List UInt8 := [180, 0, 41, 21, 6, 46, 2, 160, 0, 7, 2, 167, 0, 24, 42, 42, 180, 0, 44, 42, 180, 0, 132]
abbrev dktX7_run_6 : List UInt8 := dkwX7_run_6 ++ dktX7_run_7
def dkwX7_run_5 : List UInt8 := [180, 0, 132, 162, 0, 77, 21, 4, 2, 160, 0, 71, 42, 180, 0, 47, 21, 5, 46, 54, 6, 42]
abbrev dktX7_run_5 : List UInt8 := dkwX7_run_5 ++ dktX7_run_6
def dkwX7_run_4 : List UInt8 := [42, 3, 181, 0, 189, 42, 3, 181, 0, 174, 42, 3, 181, 0, 171, 2, 54, 4, 3, 54, 5, 21, 5, 42]
abbrev dktX7_run_4 : List UInt8 := dkwX7_run_4 ++ dktX7_run_5
def dkwX7_run_3 : List UInt8 := [16, 8, 162, 0, 17, 42, 180, 0, 78, 21, 4, 3, 79, 132, 4, 1, 167, 255, 238, 42, 3, 181, 0, 192]
abbrev dktX7_run_3 : List UInt8 := dkwX7_run_3 ++ dktX7_run_4
def dkwX7_run_2 : List UInt8 := [2, 159, 0, 12, 42, 180, 0, 19, 29, 46, 153, 0, 5, 2, 172, 42, 182, 0, 156, 3, 54, 4, 21, 4]
abbrev dktX7_run_2 : List UInt8 := dkwX7_run_2 ++ dktX7_run_3
def dkwX7_run_1 : List UInt8 := [164, 0, 5, 2, 172, 42, 42, 180, 0, 44, 42, 180, 0, 132, 42, 180, 0, 129, 27, 182, 0, 121, 62, 29]
abbrev dktX7_run_1 : List UInt8 := dkwX7_run_1 ++ dktX7_run_2
def dkwX7_run_0 : List UInt8 := [42, 180, 0, 97, 153, 0, 21, 27, 184, 0, 101, 153, 0, 14, 28, 155, 0, 10, 28, 17, 19, 136]
abbrev dktX7_run_0 : List UInt8 := dkwX7_run_0 ++ dktX7_run_1
theorem dksX7_run_0 : cX7_run.data.toList.drop 0 = dktX7_run_0 := by decide +kernel
theorem dksX7_run_1 : cX7_run.data.toList.drop 22 = dktX7_run_1 := dk_seg dksX7_run_0 22 rfl rfl
theorem dksX7_run_2 : cX7_run.data.toList.drop 46 = dktX7_run_2 := dk_seg dksX7_run_1 24 rfl rfl
theorem dksX7_run_3 : cX7_run.data.toList.drop 70 = dktX7_run_3 := dk_seg dksX7_run_2 24 rfl rfl
theorem dksX7_run_4 : cX7_run.data.toList.drop 94 = dktX7_run_4 := dk_seg dksX7_run_3 24 rfl rfl
theorem dksX7_run_5 : cX7_run.data.toList.drop 118 = dktX7_run_5 := dk_seg dksX7_run_4 24 rfl rfl
theorem dksX7_run_6 : cX7_run.data.toList.drop 140 = dktX7_run_6 := dk_seg dksX7_run_5 22 rfl rfl
theorem dksX7_run_7 : cX7_run.data.toList.drop 163 = dktX7_run_7 := dk_seg dksX7_run_6 23 rfl rfl
theorem dksX7_run_8 : cX7_run.data.toList.drop 187 = dktX7_run_8 := dk_seg dksX7_run_7 24 rfl rfl
theorem dksX7_run_9 : cX7_run.data.toList.drop 210 = dktX7_run_9 := dk_seg dksX7_run_8 23 rfl rfl
theorem dX7_run_0 : decode cX7_run 0 = .ok (.aload_n 0, 1) := dk_42 (dk_at dksX7_run_0 0 rfl rfl)
theorem dX7_run_1 : decode cX7_run 1 = .ok (.getfield 97, 3) := dk_180 0 97 (dk_at dksX7_run_0 1 rfl rfl)
theorem dX7_run_4 : decode cX7_run 4 = .ok (.ifCond .eq 21, 3) := dk_153 0 21 (dk_at dksX7_run_0 4 rfl rfl)
theorem dX7_run_7 : decode cX7_run 7 = .ok (.iload_n 1, 1) := dk_27 (dk_at dksX7_run_0 7 rfl rfl)
theorem dX7_run_8 : decode cX7_run 8 = .ok (.invokestatic 101, 3) := dk_184 0 101 (dk_at dksX7_run_0 8 rfl rfl)
theorem dX7_run_11 : decode cX7_run 11 = .ok (.ifCond .eq 14, 3) := dk_153 0 14 (dk_at dksX7_run_0 11 rfl rfl)
theorem dX7_run_14 : decode cX7_run 14 = .ok (.iload_n 2, 1) := dk_28 (dk_at dksX7_run_0 14 rfl rfl)
theorem dX7_run_15 : decode cX7_run 15 = .ok (.ifCond .lt 10, 3) := dk_155 0 10 (dk_at dksX7_run_0 15 rfl rfl)
theorem dX7_run_18 : decode cX7_run 18 = .ok (.iload_n 2, 1) := dk_28 (dk_at dksX7_run_0 18 rfl rfl)
theorem dX7_run_19 : decode cX7_run 19 = .ok (.sipush 5000, 3) := dk_17 19 136 (dk_at dksX7_run_0 19 rfl rfl)
theorem dX7_run_22 : decode cX7_run 22 = .ok (.if_icmp .le 5, 3) := dk_164 0 5 (dk_at dksX7_run_1 0 rfl rfl)
theorem dX7_run_25 : decode cX7_run 25 = .ok (.iconst (-1), 1) := dk_2 (dk_at dksX7_run_1 3 rfl rfl)
theorem dX7_run_26 : decode cX7_run 26 = .ok (.ireturn, 1) := dk_172 (dk_at dksX7_run_1 4 rfl rfl)
theorem dX7_run_27 : decode cX7_run 27 = .ok (.aload_n 0, 1) := dk_42 (dk_at dksX7_run_1 5 rfl rfl)
theorem dX7_run_28 : decode cX7_run 28 = .ok (.aload_n 0, 1) := dk_42 (dk_at dksX7_run_1 6 rfl rfl)
theorem dX7_run_29 : decode cX7_run 29 = .ok (.getfield 44, 3) := dk_180 0 44 (dk_at dksX7_run_1 7 rfl rfl)
theorem dX7_run_32 : decode cX7_run 32 = .ok (.aload_n 0, 1) := dk_42 (dk_at dksX7_run_1 10 rfl rfl)
theorem dX7_run_33 : decode cX7_run 33 = .ok (.getfield 132, 3) := dk_180 0 132 (dk_at dksX7_run_1 11 rfl rfl)
theorem dX7_run_36 : decode cX7_run 36 = .ok (.aload_n 0, 1) := dk_42 (dk_at dksX7_run_1 14 rfl rfl)
theorem dX7_run_37 : decode cX7_run 37 = .ok (.getfield 129, 3) := dk_180 0 129 (dk_at dksX7_run_1 15 rfl rfl)
theorem dX7_run_40 : decode cX7_run 40 = .ok (.iload_n 1, 1) := dk_27 (dk_at dksX7_run_1 18 rfl rfl)
theorem dX7_run_41 : decode cX7_run 41 = .ok (.invokevirtual 121, 3) := dk_182 0 121 (dk_at dksX7_run_1 19 rfl rfl)
theorem dX7_run_44 : decode cX7_run 44 = .ok (.istore_n 3, 1) := dk_62 (dk_at dksX7_run_1 22 rfl rfl)
theorem dX7_run_45 : decode cX7_run 45 = .ok (.iload_n 3, 1) := dk_29 (dk_at dksX7_run_1 23 rfl rfl)
theorem dX7_run_46 : decode cX7_run 46 = .ok (.iconst (-1), 1) := dk_2 (dk_at dksX7_run_2 0 rfl rfl)
theorem dX7_run_47 : decode cX7_run 47 = .ok (.if_icmp .eq 12, 3) := dk_159 0 12 (dk_at dksX7_run_2 1 rfl rfl)
theorem dX7_run_50 : decode cX7_run 50 = .ok (.aload_n 0, 1) := dk_42 (dk_at dksX7_run_2 4 rfl rfl)
theorem dX7_run_51 : decode cX7_run 51 = .ok (.getfield 19, 3) := dk_180 0 19 (dk_at dksX7_run_2 5 rfl rfl)
theorem dX7_run_54 : decode cX7_run 54 = .ok (.iload_n 3, 1) := dk_29 (dk_at dksX7_run_2 8 rfl rfl)
theorem dX7_run_55 : decode cX7_run 55 = .ok (.iaload, 1) := dk_46 (dk_at dksX7_run_2 9 rfl rfl)
theorem dX7_run_56 : decode cX7_run 56 = .ok (.ifCond .eq 5, 3) := dk_153 0 5 (dk_at dksX7_run_2 10 rfl rfl)
theorem dX7_run_59 : decode cX7_run 59 = .ok (.iconst (-1), 1) := dk_2 (dk_at dksX7_run_2 13 rfl rfl)
theorem dX7_run_60 : decode cX7_run 60 = .ok (.ireturn, 1) := dk_172 (dk_at dksX7_run_2 14 rfl rfl)
theorem dX7_run_61 : decode cX7_run 61 = .ok (.aload_n 0, 1) := dk_42 (dk_at dksX7_run_2 15 rfl rfl)
theorem dX7_run_62 : decode cX7_run 62 = .ok (.invokevirtual 156, 3) := dk_182 0 156 (dk_at dksX7_run_2 16 rfl rfl)
theorem dX7_run_65 : decode cX7_run 65 = .ok (.iconst 0, 1) := dk_3 (dk_at dksX7_run_2 19 rfl rfl)
theorem dX7_run_66 : decode cX7_run 66 = .ok (.istore 4, 2) := dk_54 4 (dk_at dksX7_run_2 20 rfl rfl)
theorem dX7_run_68 : decode cX7_run 68 = .ok (.iload 4, 2) := dk_21 4 (dk_at dksX7_run_2 22 rfl rfl)
theorem dX7_run_70 : decode cX7_run 70 = .ok (.bipush 8, 2) := dk_16 8 (dk_at dksX7_run_3 0 rfl rfl)
theorem dX7_run_72 : decode cX7_run 72 = .ok (.if_icmp .ge 17, 3) := dk_162 0 17 (dk_at dksX7_run_3 2 rfl rfl)
theorem dX7_run_75 : decode cX7_run 75 = .ok (.aload_n 0, 1) := dk_42 (dk_at dksX7_run_3 5 rfl rfl)
theorem dX7_run_76 : decode cX7_run 76 = .ok (.getfield 78, 3) := dk_180 0 78 (dk_at dksX7_run_3 6 rfl rfl)
theorem dX7_run_79 : decode cX7_run 79 = .ok (.iload 4, 2) := dk_21 4 (dk_at dksX7_run_3 9 rfl rfl)
theorem dX7_run_81 : decode cX7_run 81 = .ok (.iconst 0, 1) := dk_3 (dk_at dksX7_run_3 11 rfl rfl)
theorem dX7_run_82 : decode cX7_run 82 = .ok (.iastore, 1) := dk_79 (dk_at dksX7_run_3 12 rfl rfl)
theorem dX7_run_83 : decode cX7_run 83 = .ok (.iinc 4 1, 3) := dk_132 4 1 (dk_at dksX7_run_3 13 rfl rfl)
theorem dX7_run_86 : decode cX7_run 86 = .ok (.goto (-18), 3) := dk_167 255 238 (dk_at dksX7_run_3 16 rfl rfl)
theorem dX7_run_89 : decode cX7_run 89 = .ok (.aload_n 0, 1) := dk_42 (dk_at dksX7_run_3 19 rfl rfl)
theorem dX7_run_90 : decode cX7_run 90 = .ok (.iconst 0, 1) := dk_3 (dk_at dksX7_run_3 20 rfl rfl)
theorem dX7_run_91 : decode cX7_run 91 = .ok (.putfield 192, 3) := dk_181 0 192 (dk_at dksX7_run_3 21 rfl rfl)
theorem dX7_run_94 : decode cX7_run 94 = .ok (.aload_n 0, 1) := dk_42 (dk_at dksX7_run_4 0 rfl rfl)
theorem dX7_run_95 : decode cX7_run 95 = .ok (.iconst 0, 1) := dk_3 (dk_at dksX7_run_4 1 rfl rfl)
theorem dX7_run_96 : decode cX7_run 96 = .ok (.putfield 189, 3) := dk_181 0 189 (dk_at dksX7_run_4 2 rfl rfl)
theorem dX7_run_99 : decode cX7_run 99 = .ok (.aload_n 0, 1) := dk_42 (dk_at dksX7_run_4 5 rfl rfl)
theorem dX7_run_100 : decode cX7_run 100 = .ok (.iconst 0, 1) := dk_3 (dk_at dksX7_run_4 6 rfl rfl)
theorem dX7_run_101 : decode cX7_run 101 = .ok (.putfield 174, 3) := dk_181 0 174 (dk_at dksX7_run_4 7 rfl rfl)
theorem dX7_run_104 : decode cX7_run 104 = .ok (.aload_n 0, 1) := dk_42 (dk_at dksX7_run_4 10 rfl rfl)
theorem dX7_run_105 : decode cX7_run 105 = .ok (.iconst 0, 1) := dk_3 (dk_at dksX7_run_4 11 rfl rfl)
theorem dX7_run_106 : decode cX7_run 106 = .ok (.putfield 171, 3) := dk_181 0 171 (dk_at dksX7_run_4 12 rfl rfl)
theorem dX7_run_109 : decode cX7_run 109 = .ok (.iconst (-1), 1) := dk_2 (dk_at dksX7_run_4 15 rfl rfl)
theorem dX7_run_110 : decode cX7_run 110 = .ok (.istore 4, 2) := dk_54 4 (dk_at dksX7_run_4 16 rfl rfl)
theorem dX7_run_112 : decode cX7_run 112 = .ok (.iconst 0, 1) := dk_3 (dk_at dksX7_run_4 18 rfl rfl)
theorem dX7_run_113 : decode cX7_run 113 = .ok (.istore 5, 2) := dk_54 5 (dk_at dksX7_run_4 19 rfl rfl)
theorem dX7_run_115 : decode cX7_run 115 = .ok (.iload 5, 2) := dk_21 5 (dk_at dksX7_run_4 21 rfl rfl)
theorem dX7_run_117 : decode cX7_run 117 = .ok (.aload_n 0, 1) := dk_42 (dk_at dksX7_run_4 23 rfl rfl)
theorem dX7_run_118 : decode cX7_run 118 = .ok (.getfield 132, 3) := dk_180 0 132 (dk_at dksX7_run_5 0 rfl rfl)
theorem dX7_run_121 : decode cX7_run 121 = .ok (.if_icmp .ge 77, 3) := dk_162 0 77 (dk_at dksX7_run_5 3 rfl rfl)
theorem dX7_run_124 : decode cX7_run 124 = .ok (.iload 4, 2) := dk_21 4 (dk_at dksX7_run_5 6 rfl rfl)
theorem dX7_run_126 : decode cX7_run 126 = .ok (.iconst (-1), 1) := dk_2 (dk_at dksX7_run_5 8 rfl rfl)
theorem dX7_run_127 : decode cX7_run 127 = .ok (.if_icmp .ne 71, 3) := dk_160 0 71 (dk_at dksX7_run_5 9 rfl rfl)
theorem dX7_run_130 : decode cX7_run 130 = .ok (.aload_n 0, 1) := dk_42 (dk_at dksX7_run_5 12 rfl rfl)
theorem dX7_run_131 : decode cX7_run 131 = .ok (.getfield 47, 3) := dk_180 0 47 (dk_at dksX7_run_5 13 rfl rfl)
theorem dX7_run_134 : decode cX7_run 134 = .ok (.iload 5, 2) := dk_21 5 (dk_at dksX7_run_5 16 rfl rfl)
theorem dX7_run_136 : decode cX7_run 136 = .ok (.iaload, 1) := dk_46 (dk_at dksX7_run_5 18 rfl rfl)
theorem dX7_run_137 : decode cX7_run 137 = .ok (.istore 6, 2) := dk_54 6 (dk_at dksX7_run_5 19 rfl rfl)
theorem dX7_run_139 : decode cX7_run 139 = .ok (.aload_n 0, 1) := dk_42 (dk_at dksX7_run_5 21 rfl rfl)
theorem dX7_run_140 : decode cX7_run 140 = .ok (.getfield 41, 3) := dk_180 0 41 (dk_at dksX7_run_6 0 rfl rfl)
theorem dX7_run_143 : decode cX7_run 143 = .ok (.iload 6, 2) := dk_21 6 (dk_at dksX7_run_6 3 rfl rfl)
theorem dX7_run_145 : decode cX7_run 145 = .ok (.iaload, 1) := dk_46 (dk_at dksX7_run_6 5 rfl rfl)
theorem dX7_run_146 : decode cX7_run 146 = .ok (.iconst (-1), 1) := dk_2 (dk_at dksX7_run_6 6 rfl rfl)
theorem dX7_run_147 : decode cX7_run 147 = .ok (.if_icmp .ne 7, 3) := dk_160 0 7 (dk_at dksX7_run_6 7 rfl rfl)
theorem dX7_run_150 : decode cX7_run 150 = .ok (.iconst (-1), 1) := dk_2 (dk_at dksX7_run_6 10 rfl rfl)
theorem dX7_run_151 : decode cX7_run 151 = .ok (.goto 24, 3) := dk_167 0 24 (dk_at dksX7_run_6 11 rfl rfl)
theorem dX7_run_154 : decode cX7_run 154 = .ok (.aload_n 0, 1) := dk_42 (dk_at dksX7_run_6 14 rfl rfl)
theorem dX7_run_155 : decode cX7_run 155 = .ok (.aload_n 0, 1) := dk_42 (dk_at dksX7_run_6 15 rfl rfl)
theorem dX7_run_156 : decode cX7_run 156 = .ok (.getfield 44, 3) := dk_180 0 44 (dk_at dksX7_run_6 16 rfl rfl)
theorem dX7_run_159 : decode cX7_run 159 = .ok (.aload_n 0, 1) := dk_42 (dk_at dksX7_run_6 19 rfl rfl)
theorem dX7_run_160 : decode cX7_run 160 = .ok (.getfield 132, 3) := dk_180 0 132 (dk_at dksX7_run_6 20 rfl rfl)
theorem dX7_run_163 : decode cX7_run 163 = .ok (.iload 6, 2) := dk_21 6 (dk_at dksX7_run_7 0 rfl rfl)
theorem dX7_run_165 : decode cX7_run 165 = .ok (.aload_n 0, 1) := dk_42 (dk_at dksX7_run_7 2 rfl rfl)
theorem dX7_run_166 : decode cX7_run 166 = .ok (.getfield 41, 3) := dk_180 0 41 (dk_at dksX7_run_7 3 rfl rfl)
theorem dX7_run_169 : decode cX7_run 169 = .ok (.iload 6, 2) := dk_21 6 (dk_at dksX7_run_7 6 rfl rfl)
theorem dX7_run_171 : decode cX7_run 171 = .ok (.iaload, 1) := dk_46 (dk_at dksX7_run_7 8 rfl rfl)
theorem dX7_run_172 : decode cX7_run 172 = .ok (.invokevirtual 121, 3) := dk_182 0 121 (dk_at dksX7_run_7 9 rfl rfl)
theorem dX7_run_175 : decode cX7_run 175 = .ok (.istore 7, 2) := dk_54 7 (dk_at dksX7_run_7 12 rfl rfl)
theorem dX7_run_177 : decode cX7_run 177 = .ok (.iload 7, 2) := dk_21 7 (dk_at dksX7_run_7 14 rfl rfl)
theorem dX7_run_179 : decode cX7_run 179 = .ok (.iconst (-1), 1) := dk_2 (dk_at dksX7_run_7 16 rfl rfl)
theorem dX7_run_180 : decode cX7_run 180 = .ok (.if_icmp .eq 12, 3) := dk_159 0 12 (dk_at dksX7_run_7 17 rfl rfl)
theorem dX7_run_183 : decode cX7_run 183 = .ok (.aload_n 0, 1) := dk_42 (dk_at dksX7_run_7 20 rfl rfl)
theorem dX7_run_184 : decode cX7_run 184 = .ok (.iload 7, 2) := dk_21 7 (dk_at dksX7_run_7 21 rfl rfl)
theorem dX7_run_186 : decode cX7_run 186 = .ok (.iload_n 2, 1) := dk_28 (dk_at dksX7_run_7 23 rfl rfl)
theorem dX7_run_187 : decode cX7_run 187 = .ok (.invokevirtual 199, 3) := dk_182 0 199 (dk_at dksX7_run_8 0 rfl rfl)
theorem dX7_run_190 : decode cX7_run 190 = .ok (.istore 4, 2) := dk_54 4 (dk_at dksX7_run_8 3 rfl rfl)
theorem dX7_run_192 : decode cX7_run 192 = .ok (.iinc 5 1, 3) := dk_132 5 1 (dk_at dksX7_run_8 5 rfl rfl)
theorem dX7_run_195 : decode cX7_run 195 = .ok (.goto (-80), 3) := dk_167 255 176 (dk_at dksX7_run_8 8 rfl rfl)
theorem dX7_run_198 : decode cX7_run 198 = .ok (.iload 4, 2) := dk_21 4 (dk_at dksX7_run_8 11 rfl rfl)
theorem dX7_run_200 : decode cX7_run 200 = .ok (.iconst (-1), 1) := dk_2 (dk_at dksX7_run_8 13 rfl rfl)
theorem dX7_run_201 : decode cX7_run 201 = .ok (.if_icmp .ne 12, 3) := dk_160 0 12 (dk_at dksX7_run_8 14 rfl rfl)
theorem dX7_run_204 : decode cX7_run 204 = .ok (.aload_n 0, 1) := dk_42 (dk_at dksX7_run_8 17 rfl rfl)
theorem dX7_run_205 : decode cX7_run 205 = .ok (.iload_n 3, 1) := dk_29 (dk_at dksX7_run_8 18 rfl rfl)
theorem dX7_run_206 : decode cX7_run 206 = .ok (.iload_n 2, 1) := dk_28 (dk_at dksX7_run_8 19 rfl rfl)
theorem dX7_run_207 : decode cX7_run 207 = .ok (.invokevirtual 199, 3) := dk_182 0 199 (dk_at dksX7_run_8 20 rfl rfl)
theorem dX7_run_210 : decode cX7_run 210 = .ok (.goto 5, 3) := dk_167 0 5 (dk_at dksX7_run_9 0 rfl rfl)
theorem dX7_run_213 : decode cX7_run 213 = .ok (.iload 4, 2) := dk_21 4 (dk_at dksX7_run_9 3 rfl rfl)
theorem dX7_run_215 : decode cX7_run 215 = .ok (.istore 4, 2) := dk_54 4 (dk_at dksX7_run_9 5 rfl rfl)
theorem dX7_run_217 : decode cX7_run 217 = .ok (.iload 4, 2) := dk_21 4 (dk_at dksX7_run_9 7 rfl rfl)
theorem dX7_run_219 : decode cX7_run 219 = .ok (.iconst (-1), 1) := dk_2 (dk_at dksX7_run_9 9 rfl rfl)
theorem dX7_run_220 : decode cX7_run 220 = .ok (.if_icmp .ne 7, 3) := dk_160 0 7 (dk_at dksX7_run_9 10 rfl rfl)
theorem dX7_run_223 : decode cX7_run 223 = .ok (.iconst 0, 1) := dk_3 (dk_at dksX7_run_9 13 rfl rfl)
theorem dX7_run_224 : decode cX7_run 224 = .ok (.goto 5, 3) := dk_167 0 5 (dk_at dksX7_run_9 14 rfl rfl)
theorem dX7_run_227 : decode cX7_run 227 = .ok (.iload 4, 2) := dk_21 4 (dk_at dksX7_run_9 17 rfl rfl)
theorem dX7_run_229 : decode cX7_run 229 = .ok (.ireturn, 1) := dk_172 (dk_at dksX7_run_9 19 rfl rfl)
abbrev cX7_go : ByteArray := prog_11_method_33_code
def yX7_go : MethodName := ⟨RX7, "go", "(II)I"⟩
def dkwX7_go_3 : List UInt8 := [172]
abbrev dktX7_go_3 : List UInt8 := dkwX7_go_3 ++ []
def dkwX7_go_2 : List UInt8 := [160, 0, 5, 4, 172, 42, 89, 180, 0, 192, 4, 96, 181, 0, 192, 42, 182, 0, 195, 62, 167, 255, 201, 29]
abbrev dktX7_go_2 : List UInt8 := dkwX7_go_2 ++ dktX7_go_3
def dkwX7_go_1 : List UInt8 := [180, 0, 168, 42, 180, 0, 34, 42, 180, 0, 165, 46, 161, 0, 5, 7, 172, 42, 180, 0, 192, 28]
abbrev dktX7_go_1 : List UInt8 := dkwX7_go_1 ++ dktX7_go_2
def dkwX7_go_0 : List UInt8 := [42, 3, 181, 0, 162, 42, 27, 182, 0, 177, 62, 29, 2, 160, 0, 56, 42, 180, 0, 162, 158, 0, 49, 42]
abbrev dktX7_go_0 : List UInt8 := dkwX7_go_0 ++ dktX7_go_1
theorem dksX7_go_0 : cX7_go.data.toList.drop 0 = dktX7_go_0 := by decide +kernel
theorem dksX7_go_1 : cX7_go.data.toList.drop 24 = dktX7_go_1 := dk_seg dksX7_go_0 24 rfl rfl
theorem dksX7_go_2 : cX7_go.data.toList.drop 46 = dktX7_go_2 := dk_seg dksX7_go_1 22 rfl rfl
theorem dksX7_go_3 : cX7_go.data.toList.drop 70 = dktX7_go_3 := dk_seg dksX7_go_2 24 rfl rfl
theorem dX7_go_0 : decode cX7_go 0 = .ok (.aload_n 0, 1) := dk_42 (dk_at dksX7_go_0 0 rfl rfl)
theorem dX7_go_1 : decode cX7_go 1 = .ok (.iconst 0, 1) := dk_3 (dk_at dksX7_go_0 1 rfl rfl)
theorem dX7_go_2 : decode cX7_go 2 = .ok (.putfield 162, 3) := dk_181 0 162 (dk_at dksX7_go_0 2 rfl rfl)
theorem dX7_go_5 : decode cX7_go 5 = .ok (.aload_n 0, 1) := dk_42 (dk_at dksX7_go_0 5 rfl rfl)
theorem dX7_go_6 : decode cX7_go 6 = .ok (.iload_n 1, 1) := dk_27 (dk_at dksX7_go_0 6 rfl rfl)
theorem dX7_go_7 : decode cX7_go 7 = .ok (.invokevirtual 177, 3) := dk_182 0 177 (dk_at dksX7_go_0 7 rfl rfl)
theorem dX7_go_10 : decode cX7_go 10 = .ok (.istore_n 3, 1) := dk_62 (dk_at dksX7_go_0 10 rfl rfl)
theorem dX7_go_11 : decode cX7_go 11 = .ok (.iload_n 3, 1) := dk_29 (dk_at dksX7_go_0 11 rfl rfl)
theorem dX7_go_12 : decode cX7_go 12 = .ok (.iconst (-1), 1) := dk_2 (dk_at dksX7_go_0 12 rfl rfl)
theorem dX7_go_13 : decode cX7_go 13 = .ok (.if_icmp .ne 56, 3) := dk_160 0 56 (dk_at dksX7_go_0 13 rfl rfl)
theorem dX7_go_16 : decode cX7_go 16 = .ok (.aload_n 0, 1) := dk_42 (dk_at dksX7_go_0 16 rfl rfl)
theorem dX7_go_17 : decode cX7_go 17 = .ok (.getfield 162, 3) := dk_180 0 162 (dk_at dksX7_go_0 17 rfl rfl)
theorem dX7_go_20 : decode cX7_go 20 = .ok (.ifCond .le 49, 3) := dk_158 0 49 (dk_at dksX7_go_0 20 rfl rfl)
theorem dX7_go_23 : decode cX7_go 23 = .ok (.aload_n 0, 1) := dk_42 (dk_at dksX7_go_0 23 rfl rfl)
theorem dX7_go_24 : decode cX7_go 24 = .ok (.getfield 168, 3) := dk_180 0 168 (dk_at dksX7_go_1 0 rfl rfl)
theorem dX7_go_27 : decode cX7_go 27 = .ok (.aload_n 0, 1) := dk_42 (dk_at dksX7_go_1 3 rfl rfl)
theorem dX7_go_28 : decode cX7_go 28 = .ok (.getfield 34, 3) := dk_180 0 34 (dk_at dksX7_go_1 4 rfl rfl)
theorem dX7_go_31 : decode cX7_go 31 = .ok (.aload_n 0, 1) := dk_42 (dk_at dksX7_go_1 7 rfl rfl)
theorem dX7_go_32 : decode cX7_go 32 = .ok (.getfield 165, 3) := dk_180 0 165 (dk_at dksX7_go_1 8 rfl rfl)
theorem dX7_go_35 : decode cX7_go 35 = .ok (.iaload, 1) := dk_46 (dk_at dksX7_go_1 11 rfl rfl)
theorem dX7_go_36 : decode cX7_go 36 = .ok (.if_icmp .lt 5, 3) := dk_161 0 5 (dk_at dksX7_go_1 12 rfl rfl)
theorem dX7_go_39 : decode cX7_go 39 = .ok (.iconst 4, 1) := dk_7 (dk_at dksX7_go_1 15 rfl rfl)
theorem dX7_go_40 : decode cX7_go 40 = .ok (.ireturn, 1) := dk_172 (dk_at dksX7_go_1 16 rfl rfl)
theorem dX7_go_41 : decode cX7_go 41 = .ok (.aload_n 0, 1) := dk_42 (dk_at dksX7_go_1 17 rfl rfl)
theorem dX7_go_42 : decode cX7_go 42 = .ok (.getfield 192, 3) := dk_180 0 192 (dk_at dksX7_go_1 18 rfl rfl)
theorem dX7_go_45 : decode cX7_go 45 = .ok (.iload_n 2, 1) := dk_28 (dk_at dksX7_go_1 21 rfl rfl)
theorem dX7_go_46 : decode cX7_go 46 = .ok (.if_icmp .ne 5, 3) := dk_160 0 5 (dk_at dksX7_go_2 0 rfl rfl)
theorem dX7_go_49 : decode cX7_go 49 = .ok (.iconst 1, 1) := dk_4 (dk_at dksX7_go_2 3 rfl rfl)
theorem dX7_go_50 : decode cX7_go 50 = .ok (.ireturn, 1) := dk_172 (dk_at dksX7_go_2 4 rfl rfl)
theorem dX7_go_51 : decode cX7_go 51 = .ok (.aload_n 0, 1) := dk_42 (dk_at dksX7_go_2 5 rfl rfl)
theorem dX7_go_52 : decode cX7_go 52 = .ok (.dup, 1) := dk_89 (dk_at dksX7_go_2 6 rfl rfl)
theorem dX7_go_53 : decode cX7_go 53 = .ok (.getfield 192, 3) := dk_180 0 192 (dk_at dksX7_go_2 7 rfl rfl)
theorem dX7_go_56 : decode cX7_go 56 = .ok (.iconst 1, 1) := dk_4 (dk_at dksX7_go_2 10 rfl rfl)
theorem dX7_go_57 : decode cX7_go 57 = .ok (.iadd, 1) := dk_96 (dk_at dksX7_go_2 11 rfl rfl)
theorem dX7_go_58 : decode cX7_go 58 = .ok (.putfield 192, 3) := dk_181 0 192 (dk_at dksX7_go_2 12 rfl rfl)
theorem dX7_go_61 : decode cX7_go 61 = .ok (.aload_n 0, 1) := dk_42 (dk_at dksX7_go_2 15 rfl rfl)
theorem dX7_go_62 : decode cX7_go 62 = .ok (.invokevirtual 195, 3) := dk_182 0 195 (dk_at dksX7_go_2 16 rfl rfl)
theorem dX7_go_65 : decode cX7_go 65 = .ok (.istore_n 3, 1) := dk_62 (dk_at dksX7_go_2 19 rfl rfl)
theorem dX7_go_66 : decode cX7_go 66 = .ok (.goto (-55), 3) := dk_167 255 201 (dk_at dksX7_go_2 20 rfl rfl)
theorem dX7_go_69 : decode cX7_go 69 = .ok (.iload_n 3, 1) := dk_29 (dk_at dksX7_go_2 23 rfl rfl)
theorem dX7_go_70 : decode cX7_go 70 = .ok (.ireturn, 1) := dk_172 (dk_at dksX7_go_3 0 rfl rfl)
abbrev cX7_call : ByteArray := prog_11_method_28_code
def yX7_call : MethodName := ⟨RX7, "call", "(I)I"⟩
def dkwX7_call_4 : List UInt8 := [42, 180, 0, 22, 27, 46, 181, 0, 168, 2, 172]
abbrev dktX7_call_4 : List UInt8 := dkwX7_call_4 ++ []
def dkwX7_call_3 : List UInt8 := [180, 0, 162, 4, 100, 167, 0, 7, 42, 180, 0, 171, 181, 0, 171, 42, 27, 16, 20, 108, 181, 0, 165, 42]
abbrev dktX7_call_3 : List UInt8 := dkwX7_call_3 ++ dktX7_call_4
def dkwX7_call_2 : List UInt8 := [180, 0, 162, 4, 96, 181, 0, 162, 42, 42, 180, 0, 162, 4, 100, 42, 180, 0, 171, 164, 0, 12, 42]
abbrev dktX7_call_2 : List UInt8 := dkwX7_call_2 ++ dktX7_call_3
def dkwX7_call_1 : List UInt8 := [180, 0, 162, 42, 180, 0, 165, 79, 42, 180, 0, 87, 42, 180, 0, 162, 42, 180, 0, 168, 79, 42, 89]
abbrev dktX7_call_1 : List UInt8 := dkwX7_call_1 ++ dktX7_call_2
def dkwX7_call_0 : List UInt8 := [27, 2, 160, 0, 5, 6, 172, 42, 180, 0, 162, 16, 101, 160, 0, 5, 5, 172, 42, 180, 0, 84, 42]
abbrev dktX7_call_0 : List UInt8 := dkwX7_call_0 ++ dktX7_call_1
theorem dksX7_call_0 : cX7_call.data.toList.drop 0 = dktX7_call_0 := by decide +kernel
theorem dksX7_call_1 : cX7_call.data.toList.drop 23 = dktX7_call_1 := dk_seg dksX7_call_0 23 rfl rfl
theorem dksX7_call_2 : cX7_call.data.toList.drop 46 = dktX7_call_2 := dk_seg dksX7_call_1 23 rfl rfl
theorem dksX7_call_3 : cX7_call.data.toList.drop 69 = dktX7_call_3 := dk_seg dksX7_call_2 23 rfl rfl
theorem dksX7_call_4 : cX7_call.data.toList.drop 93 = dktX7_call_4 := dk_seg dksX7_call_3 24 rfl rfl
theorem dX7_call_0 : decode cX7_call 0 = .ok (.iload_n 1, 1) := dk_27 (dk_at dksX7_call_0 0 rfl rfl)
theorem dX7_call_1 : decode cX7_call 1 = .ok (.iconst (-1), 1) := dk_2 (dk_at dksX7_call_0 1 rfl rfl)
theorem dX7_call_2 : decode cX7_call 2 = .ok (.if_icmp .ne 5, 3) := dk_160 0 5 (dk_at dksX7_call_0 2 rfl rfl)
theorem dX7_call_5 : decode cX7_call 5 = .ok (.iconst 3, 1) := dk_6 (dk_at dksX7_call_0 5 rfl rfl)
theorem dX7_call_6 : decode cX7_call 6 = .ok (.ireturn, 1) := dk_172 (dk_at dksX7_call_0 6 rfl rfl)
theorem dX7_call_7 : decode cX7_call 7 = .ok (.aload_n 0, 1) := dk_42 (dk_at dksX7_call_0 7 rfl rfl)
theorem dX7_call_8 : decode cX7_call 8 = .ok (.getfield 162, 3) := dk_180 0 162 (dk_at dksX7_call_0 8 rfl rfl)
theorem dX7_call_11 : decode cX7_call 11 = .ok (.bipush 101, 2) := dk_16 101 (dk_at dksX7_call_0 11 rfl rfl)
theorem dX7_call_13 : decode cX7_call 13 = .ok (.if_icmp .ne 5, 3) := dk_160 0 5 (dk_at dksX7_call_0 13 rfl rfl)
theorem dX7_call_16 : decode cX7_call 16 = .ok (.iconst 2, 1) := dk_5 (dk_at dksX7_call_0 16 rfl rfl)
theorem dX7_call_17 : decode cX7_call 17 = .ok (.ireturn, 1) := dk_172 (dk_at dksX7_call_0 17 rfl rfl)
theorem dX7_call_18 : decode cX7_call 18 = .ok (.aload_n 0, 1) := dk_42 (dk_at dksX7_call_0 18 rfl rfl)
theorem dX7_call_19 : decode cX7_call 19 = .ok (.getfield 84, 3) := dk_180 0 84 (dk_at dksX7_call_0 19 rfl rfl)
theorem dX7_call_22 : decode cX7_call 22 = .ok (.aload_n 0, 1) := dk_42 (dk_at dksX7_call_0 22 rfl rfl)
theorem dX7_call_23 : decode cX7_call 23 = .ok (.getfield 162, 3) := dk_180 0 162 (dk_at dksX7_call_1 0 rfl rfl)
theorem dX7_call_26 : decode cX7_call 26 = .ok (.aload_n 0, 1) := dk_42 (dk_at dksX7_call_1 3 rfl rfl)
theorem dX7_call_27 : decode cX7_call 27 = .ok (.getfield 165, 3) := dk_180 0 165 (dk_at dksX7_call_1 4 rfl rfl)
theorem dX7_call_30 : decode cX7_call 30 = .ok (.iastore, 1) := dk_79 (dk_at dksX7_call_1 7 rfl rfl)
theorem dX7_call_31 : decode cX7_call 31 = .ok (.aload_n 0, 1) := dk_42 (dk_at dksX7_call_1 8 rfl rfl)
theorem dX7_call_32 : decode cX7_call 32 = .ok (.getfield 87, 3) := dk_180 0 87 (dk_at dksX7_call_1 9 rfl rfl)
theorem dX7_call_35 : decode cX7_call 35 = .ok (.aload_n 0, 1) := dk_42 (dk_at dksX7_call_1 12 rfl rfl)
theorem dX7_call_36 : decode cX7_call 36 = .ok (.getfield 162, 3) := dk_180 0 162 (dk_at dksX7_call_1 13 rfl rfl)
theorem dX7_call_39 : decode cX7_call 39 = .ok (.aload_n 0, 1) := dk_42 (dk_at dksX7_call_1 16 rfl rfl)
theorem dX7_call_40 : decode cX7_call 40 = .ok (.getfield 168, 3) := dk_180 0 168 (dk_at dksX7_call_1 17 rfl rfl)
theorem dX7_call_43 : decode cX7_call 43 = .ok (.iastore, 1) := dk_79 (dk_at dksX7_call_1 20 rfl rfl)
theorem dX7_call_44 : decode cX7_call 44 = .ok (.aload_n 0, 1) := dk_42 (dk_at dksX7_call_1 21 rfl rfl)
theorem dX7_call_45 : decode cX7_call 45 = .ok (.dup, 1) := dk_89 (dk_at dksX7_call_1 22 rfl rfl)
theorem dX7_call_46 : decode cX7_call 46 = .ok (.getfield 162, 3) := dk_180 0 162 (dk_at dksX7_call_2 0 rfl rfl)
theorem dX7_call_49 : decode cX7_call 49 = .ok (.iconst 1, 1) := dk_4 (dk_at dksX7_call_2 3 rfl rfl)
theorem dX7_call_50 : decode cX7_call 50 = .ok (.iadd, 1) := dk_96 (dk_at dksX7_call_2 4 rfl rfl)
theorem dX7_call_51 : decode cX7_call 51 = .ok (.putfield 162, 3) := dk_181 0 162 (dk_at dksX7_call_2 5 rfl rfl)
theorem dX7_call_54 : decode cX7_call 54 = .ok (.aload_n 0, 1) := dk_42 (dk_at dksX7_call_2 8 rfl rfl)
theorem dX7_call_55 : decode cX7_call 55 = .ok (.aload_n 0, 1) := dk_42 (dk_at dksX7_call_2 9 rfl rfl)
theorem dX7_call_56 : decode cX7_call 56 = .ok (.getfield 162, 3) := dk_180 0 162 (dk_at dksX7_call_2 10 rfl rfl)
theorem dX7_call_59 : decode cX7_call 59 = .ok (.iconst 1, 1) := dk_4 (dk_at dksX7_call_2 13 rfl rfl)
theorem dX7_call_60 : decode cX7_call 60 = .ok (.isub, 1) := dk_100 (dk_at dksX7_call_2 14 rfl rfl)
theorem dX7_call_61 : decode cX7_call 61 = .ok (.aload_n 0, 1) := dk_42 (dk_at dksX7_call_2 15 rfl rfl)
theorem dX7_call_62 : decode cX7_call 62 = .ok (.getfield 171, 3) := dk_180 0 171 (dk_at dksX7_call_2 16 rfl rfl)
theorem dX7_call_65 : decode cX7_call 65 = .ok (.if_icmp .le 12, 3) := dk_164 0 12 (dk_at dksX7_call_2 19 rfl rfl)
theorem dX7_call_68 : decode cX7_call 68 = .ok (.aload_n 0, 1) := dk_42 (dk_at dksX7_call_2 22 rfl rfl)
theorem dX7_call_69 : decode cX7_call 69 = .ok (.getfield 162, 3) := dk_180 0 162 (dk_at dksX7_call_3 0 rfl rfl)
theorem dX7_call_72 : decode cX7_call 72 = .ok (.iconst 1, 1) := dk_4 (dk_at dksX7_call_3 3 rfl rfl)
theorem dX7_call_73 : decode cX7_call 73 = .ok (.isub, 1) := dk_100 (dk_at dksX7_call_3 4 rfl rfl)
theorem dX7_call_74 : decode cX7_call 74 = .ok (.goto 7, 3) := dk_167 0 7 (dk_at dksX7_call_3 5 rfl rfl)
theorem dX7_call_77 : decode cX7_call 77 = .ok (.aload_n 0, 1) := dk_42 (dk_at dksX7_call_3 8 rfl rfl)
theorem dX7_call_78 : decode cX7_call 78 = .ok (.getfield 171, 3) := dk_180 0 171 (dk_at dksX7_call_3 9 rfl rfl)
theorem dX7_call_81 : decode cX7_call 81 = .ok (.putfield 171, 3) := dk_181 0 171 (dk_at dksX7_call_3 12 rfl rfl)
theorem dX7_call_84 : decode cX7_call 84 = .ok (.aload_n 0, 1) := dk_42 (dk_at dksX7_call_3 15 rfl rfl)
theorem dX7_call_85 : decode cX7_call 85 = .ok (.iload_n 1, 1) := dk_27 (dk_at dksX7_call_3 16 rfl rfl)
theorem dX7_call_86 : decode cX7_call 86 = .ok (.bipush 20, 2) := dk_16 20 (dk_at dksX7_call_3 17 rfl rfl)
theorem dX7_call_88 : decode cX7_call 88 = .ok (.idiv, 1) := dk_108 (dk_at dksX7_call_3 19 rfl rfl)
theorem dX7_call_89 : decode cX7_call 89 = .ok (.putfield 165, 3) := dk_181 0 165 (dk_at dksX7_call_3 20 rfl rfl)
theorem dX7_call_92 : decode cX7_call 92 = .ok (.aload_n 0, 1) := dk_42 (dk_at dksX7_call_3 23 rfl rfl)
theorem dX7_call_93 : decode cX7_call 93 = .ok (.aload_n 0, 1) := dk_42 (dk_at dksX7_call_4 0 rfl rfl)
theorem dX7_call_94 : decode cX7_call 94 = .ok (.getfield 22, 3) := dk_180 0 22 (dk_at dksX7_call_4 1 rfl rfl)
theorem dX7_call_97 : decode cX7_call 97 = .ok (.iload_n 1, 1) := dk_27 (dk_at dksX7_call_4 4 rfl rfl)
theorem dX7_call_98 : decode cX7_call 98 = .ok (.iaload, 1) := dk_46 (dk_at dksX7_call_4 5 rfl rfl)
theorem dX7_call_99 : decode cX7_call 99 = .ok (.putfield 168, 3) := dk_181 0 168 (dk_at dksX7_call_4 6 rfl rfl)
theorem dX7_call_102 : decode cX7_call 102 = .ok (.iconst (-1), 1) := dk_2 (dk_at dksX7_call_4 9 rfl rfl)
theorem dX7_call_103 : decode cX7_call 103 = .ok (.ireturn, 1) := dk_172 (dk_at dksX7_call_4 10 rfl rfl)
abbrev cX7_make : ByteArray := prog_11_method_32_code
def yX7_make : MethodName := ⟨RX7, "make", "()I"⟩
def dkwX7_make_18 : List UInt8 := [96, 181, 0, 189, 2, 172, 3, 172]
abbrev dktX7_make_18 : List UInt8 := dkwX7_make_18 ++ []
def dkwX7_make_17 : List UInt8 := [162, 0, 18, 42, 180, 0, 81, 42, 180, 0, 189, 42, 180, 0, 78, 28, 46, 79, 42, 89, 180, 0, 189, 4]
abbrev dktX7_make_17 : List UInt8 := dkwX7_make_17 ++ dktX7_make_18
def dkwX7_make_16 : List UInt8 := [181, 0, 165, 42, 42, 180, 0, 87, 42, 180, 0, 162, 46, 181, 0, 168, 2, 172, 42, 180, 0, 189, 16, 60]
abbrev dktX7_make_16 : List UInt8 := dkwX7_make_16 ++ dktX7_make_17
def dkwX7_make_15 : List UInt8 := [182, 0, 177, 172, 42, 89, 180, 0, 162, 4, 100, 181, 0, 162, 42, 42, 180, 0, 84, 42, 180, 0, 162, 46]
abbrev dktX7_make_15 : List UInt8 := dkwX7_make_15 ++ dktX7_make_16
def dkwX7_make_14 : List UInt8 := [180, 0, 165, 29, 182, 0, 121, 182, 0, 183, 79, 2, 172, 42, 42, 42, 180, 0, 78, 28, 46, 182, 0, 186]
abbrev dktX7_make_14 : List UInt8 := dkwX7_make_14 ++ dktX7_make_15
def dkwX7_make_13 : List UInt8 := [180, 0, 78, 29, 46, 79, 2, 172, 42, 180, 0, 78, 28, 42, 42, 42, 180, 0, 44, 42, 180, 0, 132, 42]
abbrev dktX7_make_13 : List UInt8 := dkwX7_make_13 ++ dktX7_make_14
def dkwX7_make_12 : List UInt8 := [180, 0, 165, 28, 182, 0, 121, 54, 6, 21, 6, 2, 159, 0, 16, 42, 180, 0, 53, 21, 6, 42]
abbrev dktX7_make_12 : List UInt8 := dkwX7_make_12 ++ dktX7_make_13
def dkwX7_make_11 : List UInt8 := [3, 167, 0, 10, 42, 180, 0, 53, 21, 5, 46, 79, 2, 172, 42, 42, 180, 0, 44, 42, 180, 0, 132, 42]
abbrev dktX7_make_11 : List UInt8 := dkwX7_make_11 ++ dktX7_make_12
def dkwX7_make_10 : List UInt8 := [180, 0, 132, 42, 180, 0, 165, 29, 182, 0, 121, 54, 5, 42, 180, 0, 78, 28, 21, 5, 2, 160, 0, 7]
abbrev dktX7_make_10 : List UInt8 := dkwX7_make_10 ++ dktX7_make_11
def dkwX7_make_9 : List UInt8 := [181, 0, 168, 2, 172, 42, 28, 181, 0, 168, 2, 172, 42, 28, 182, 0, 180, 172, 42, 42, 180, 0, 44, 42]
abbrev dktX7_make_9 : List UInt8 := dkwX7_make_9 ++ dktX7_make_10
def dkwX7_make_8 : List UInt8 := [180, 0, 78, 28, 46, 42, 180, 0, 78, 29, 46, 162, 0, 8, 21, 4, 167, 0, 7, 42, 180, 0, 168]
abbrev dktX7_make_8 : List UInt8 := dkwX7_make_8 ++ dktX7_make_9
def dkwX7_make_7 : List UInt8 := [180, 0, 78, 28, 42, 180, 0, 78, 29, 46, 42, 180, 0, 78, 21, 4, 46, 104, 79, 2, 172, 42, 42]
abbrev dktX7_make_7 : List UInt8 := dkwX7_make_7 ++ dktX7_make_8
def dkwX7_make_6 : List UInt8 := [180, 0, 78, 28, 42, 180, 0, 78, 29, 46, 42, 180, 0, 78, 21, 4, 46, 100, 79, 2, 172, 42]
abbrev dktX7_make_6 : List UInt8 := dkwX7_make_6 ++ dktX7_make_7
def dkwX7_make_5 : List UInt8 := [180, 0, 78, 28, 42, 180, 0, 78, 29, 46, 42, 180, 0, 78, 21, 4, 46, 96, 79, 2, 172, 42]
abbrev dktX7_make_5 : List UInt8 := dkwX7_make_5 ++ dktX7_make_6
def dkwX7_make_4 : List UInt8 := [42, 180, 0, 78, 28, 29, 79, 2, 172, 42, 180, 0, 78, 28, 42, 180, 0, 78, 29, 46, 79, 2, 172, 42]
abbrev dktX7_make_4 : List UInt8 := dkwX7_make_4 ++ dktX7_make_5
def dkwX7_make_3 : List UInt8 := [170, 0, 0, 1, 147, 0, 0, 0, 0, 0, 0, 0, 13, 0, 0, 0, 69, 0, 0, 0, 78, 0, 0, 0, 92, 0, 0, 0, 114, 0, 0, 0, 136, 0, 0, 0, 158, 0, 0, 0, 188, 0, 0, 0, 195, 0, 0, 0, 201, 0, 0, 0, 245, 0, 0, 1, 29, 0, 0, 1, 58, 0, 0, 1, 73, 0, 0, 1, 111]
abbrev dktX7_make_3 : List UInt8 := dkwX7_make_3 ++ dktX7_make_4
def dkwX7_make_2 : List UInt8 := [4, 96, 181, 0, 168, 42, 180, 0, 31, 27, 46]
abbrev dktX7_make_2 : List UInt8 := dkwX7_make_2 ++ dktX7_make_3
def dkwX7_make_1 : List UInt8 := [42, 180, 0, 31, 27, 5, 96, 46, 62, 42, 180, 0, 31, 27, 6, 96, 46, 54, 4, 42, 89, 180, 0, 168]
abbrev dktX7_make_1 : List UInt8 := dkwX7_make_1 ++ dktX7_make_2
def dkwX7_make_0 : List UInt8 := [7, 16, 100, 42, 180, 0, 165, 104, 42, 180, 0, 168, 96, 104, 60, 42, 180, 0, 31, 27, 4, 96, 46, 61]
abbrev dktX7_make_0 : List UInt8 := dkwX7_make_0 ++ dktX7_make_1
theorem dksX7_make_0 : cX7_make.data.toList.drop 0 = dktX7_make_0 := by decide +kernel
theorem dksX7_make_1 : cX7_make.data.toList.drop 24 = dktX7_make_1 := dk_seg dksX7_make_0 24 rfl rfl
theorem dksX7_make_2 : cX7_make.data.toList.drop 48 = dktX7_make_2 := dk_seg dksX7_make_1 24 rfl rfl
theorem dksX7_make_3 : cX7_make.data.toList.drop 59 = dktX7_make_3 := dk_seg dksX7_make_2 11 rfl rfl
theorem dksX7_make_4 : cX7_make.data.toList.drop 128 = dktX7_make_4 := dk_seg dksX7_make_3 69 rfl rfl
theorem dksX7_make_5 : cX7_make.data.toList.drop 152 = dktX7_make_5 := dk_seg dksX7_make_4 24 rfl rfl
theorem dksX7_make_6 : cX7_make.data.toList.drop 174 = dktX7_make_6 := dk_seg dksX7_make_5 22 rfl rfl
theorem dksX7_make_7 : cX7_make.data.toList.drop 196 = dktX7_make_7 := dk_seg dksX7_make_6 22 rfl rfl
theorem dksX7_make_8 : cX7_make.data.toList.drop 219 = dktX7_make_8 := dk_seg dksX7_make_7 23 rfl rfl
theorem dksX7_make_9 : cX7_make.data.toList.drop 242 = dktX7_make_9 := dk_seg dksX7_make_8 23 rfl rfl
theorem dksX7_make_10 : cX7_make.data.toList.drop 266 = dktX7_make_10 := dk_seg dksX7_make_9 24 rfl rfl
theorem dksX7_make_11 : cX7_make.data.toList.drop 290 = dktX7_make_11 := dk_seg dksX7_make_10 24 rfl rfl
theorem dksX7_make_12 : cX7_make.data.toList.drop 314 = dktX7_make_12 := dk_seg dksX7_make_11 24 rfl rfl
theorem dksX7_make_13 : cX7_make.data.toList.drop 336 = dktX7_make_13 := dk_seg dksX7_make_12 22 rfl rfl
theorem dksX7_make_14 : cX7_make.data.toList.drop 360 = dktX7_make_14 := dk_seg dksX7_make_13 24 rfl rfl
theorem dksX7_make_15 : cX7_make.data.toList.drop 384 = dktX7_make_15 := dk_seg dksX7_make_14 24 rfl rfl
theorem dksX7_make_16 : cX7_make.data.toList.drop 408 = dktX7_make_16 := dk_seg dksX7_make_15 24 rfl rfl
theorem dksX7_make_17 : cX7_make.data.toList.drop 432 = dktX7_make_17 := dk_seg dksX7_make_16 24 rfl rfl
theorem dksX7_make_18 : cX7_make.data.toList.drop 456 = dktX7_make_18 := dk_seg dksX7_make_17 24 rfl rfl
theorem dX7_make_0 : decode cX7_make 0 = .ok (.iconst 4, 1) := dk_7 (dk_at dksX7_make_0 0 rfl rfl)
theorem dX7_make_1 : decode cX7_make 1 = .ok (.bipush 100, 2) := dk_16 100 (dk_at dksX7_make_0 1 rfl rfl)
theorem dX7_make_3 : decode cX7_make 3 = .ok (.aload_n 0, 1) := dk_42 (dk_at dksX7_make_0 3 rfl rfl)
theorem dX7_make_4 : decode cX7_make 4 = .ok (.getfield 165, 3) := dk_180 0 165 (dk_at dksX7_make_0 4 rfl rfl)
theorem dX7_make_7 : decode cX7_make 7 = .ok (.imul, 1) := dk_104 (dk_at dksX7_make_0 7 rfl rfl)
theorem dX7_make_8 : decode cX7_make 8 = .ok (.aload_n 0, 1) := dk_42 (dk_at dksX7_make_0 8 rfl rfl)
theorem dX7_make_9 : decode cX7_make 9 = .ok (.getfield 168, 3) := dk_180 0 168 (dk_at dksX7_make_0 9 rfl rfl)
theorem dX7_make_12 : decode cX7_make 12 = .ok (.iadd, 1) := dk_96 (dk_at dksX7_make_0 12 rfl rfl)
theorem dX7_make_13 : decode cX7_make 13 = .ok (.imul, 1) := dk_104 (dk_at dksX7_make_0 13 rfl rfl)
theorem dX7_make_14 : decode cX7_make 14 = .ok (.istore_n 1, 1) := dk_60 (dk_at dksX7_make_0 14 rfl rfl)
theorem dX7_make_15 : decode cX7_make 15 = .ok (.aload_n 0, 1) := dk_42 (dk_at dksX7_make_0 15 rfl rfl)
theorem dX7_make_16 : decode cX7_make 16 = .ok (.getfield 31, 3) := dk_180 0 31 (dk_at dksX7_make_0 16 rfl rfl)
theorem dX7_make_19 : decode cX7_make 19 = .ok (.iload_n 1, 1) := dk_27 (dk_at dksX7_make_0 19 rfl rfl)
theorem dX7_make_20 : decode cX7_make 20 = .ok (.iconst 1, 1) := dk_4 (dk_at dksX7_make_0 20 rfl rfl)
theorem dX7_make_21 : decode cX7_make 21 = .ok (.iadd, 1) := dk_96 (dk_at dksX7_make_0 21 rfl rfl)
theorem dX7_make_22 : decode cX7_make 22 = .ok (.iaload, 1) := dk_46 (dk_at dksX7_make_0 22 rfl rfl)
theorem dX7_make_23 : decode cX7_make 23 = .ok (.istore_n 2, 1) := dk_61 (dk_at dksX7_make_0 23 rfl rfl)
theorem dX7_make_24 : decode cX7_make 24 = .ok (.aload_n 0, 1) := dk_42 (dk_at dksX7_make_1 0 rfl rfl)
theorem dX7_make_25 : decode cX7_make 25 = .ok (.getfield 31, 3) := dk_180 0 31 (dk_at dksX7_make_1 1 rfl rfl)
theorem dX7_make_28 : decode cX7_make 28 = .ok (.iload_n 1, 1) := dk_27 (dk_at dksX7_make_1 4 rfl rfl)
theorem dX7_make_29 : decode cX7_make 29 = .ok (.iconst 2, 1) := dk_5 (dk_at dksX7_make_1 5 rfl rfl)
theorem dX7_make_30 : decode cX7_make 30 = .ok (.iadd, 1) := dk_96 (dk_at dksX7_make_1 6 rfl rfl)
theorem dX7_make_31 : decode cX7_make 31 = .ok (.iaload, 1) := dk_46 (dk_at dksX7_make_1 7 rfl rfl)
theorem dX7_make_32 : decode cX7_make 32 = .ok (.istore_n 3, 1) := dk_62 (dk_at dksX7_make_1 8 rfl rfl)
theorem dX7_make_33 : decode cX7_make 33 = .ok (.aload_n 0, 1) := dk_42 (dk_at dksX7_make_1 9 rfl rfl)
theorem dX7_make_34 : decode cX7_make 34 = .ok (.getfield 31, 3) := dk_180 0 31 (dk_at dksX7_make_1 10 rfl rfl)
theorem dX7_make_37 : decode cX7_make 37 = .ok (.iload_n 1, 1) := dk_27 (dk_at dksX7_make_1 13 rfl rfl)
theorem dX7_make_38 : decode cX7_make 38 = .ok (.iconst 3, 1) := dk_6 (dk_at dksX7_make_1 14 rfl rfl)
theorem dX7_make_39 : decode cX7_make 39 = .ok (.iadd, 1) := dk_96 (dk_at dksX7_make_1 15 rfl rfl)
theorem dX7_make_40 : decode cX7_make 40 = .ok (.iaload, 1) := dk_46 (dk_at dksX7_make_1 16 rfl rfl)
theorem dX7_make_41 : decode cX7_make 41 = .ok (.istore 4, 2) := dk_54 4 (dk_at dksX7_make_1 17 rfl rfl)
theorem dX7_make_43 : decode cX7_make 43 = .ok (.aload_n 0, 1) := dk_42 (dk_at dksX7_make_1 19 rfl rfl)
theorem dX7_make_44 : decode cX7_make 44 = .ok (.dup, 1) := dk_89 (dk_at dksX7_make_1 20 rfl rfl)
theorem dX7_make_45 : decode cX7_make 45 = .ok (.getfield 168, 3) := dk_180 0 168 (dk_at dksX7_make_1 21 rfl rfl)
theorem dX7_make_48 : decode cX7_make 48 = .ok (.iconst 1, 1) := dk_4 (dk_at dksX7_make_2 0 rfl rfl)
theorem dX7_make_49 : decode cX7_make 49 = .ok (.iadd, 1) := dk_96 (dk_at dksX7_make_2 1 rfl rfl)
theorem dX7_make_50 : decode cX7_make 50 = .ok (.putfield 168, 3) := dk_181 0 168 (dk_at dksX7_make_2 2 rfl rfl)
theorem dX7_make_53 : decode cX7_make 53 = .ok (.aload_n 0, 1) := dk_42 (dk_at dksX7_make_2 5 rfl rfl)
theorem dX7_make_54 : decode cX7_make 54 = .ok (.getfield 31, 3) := dk_180 0 31 (dk_at dksX7_make_2 6 rfl rfl)
theorem dX7_make_57 : decode cX7_make 57 = .ok (.iload_n 1, 1) := dk_27 (dk_at dksX7_make_2 9 rfl rfl)
theorem dX7_make_58 : decode cX7_make 58 = .ok (.iaload, 1) := dk_46 (dk_at dksX7_make_2 10 rfl rfl)
theorem dX7_make_59 : decode cX7_make 59 = .ok (.tableswitch 403 0 13 #[69, 78, 92, 114, 136, 158, 188, 195, 201, 245, 285, 314, 329, 367], 69) := by decide +kernel
theorem dX7_make_128 : decode cX7_make 128 = .ok (.aload_n 0, 1) := dk_42 (dk_at dksX7_make_4 0 rfl rfl)
theorem dX7_make_129 : decode cX7_make 129 = .ok (.getfield 78, 3) := dk_180 0 78 (dk_at dksX7_make_4 1 rfl rfl)
theorem dX7_make_132 : decode cX7_make 132 = .ok (.iload_n 2, 1) := dk_28 (dk_at dksX7_make_4 4 rfl rfl)
theorem dX7_make_133 : decode cX7_make 133 = .ok (.iload_n 3, 1) := dk_29 (dk_at dksX7_make_4 5 rfl rfl)
theorem dX7_make_134 : decode cX7_make 134 = .ok (.iastore, 1) := dk_79 (dk_at dksX7_make_4 6 rfl rfl)
theorem dX7_make_135 : decode cX7_make 135 = .ok (.iconst (-1), 1) := dk_2 (dk_at dksX7_make_4 7 rfl rfl)
theorem dX7_make_136 : decode cX7_make 136 = .ok (.ireturn, 1) := dk_172 (dk_at dksX7_make_4 8 rfl rfl)
theorem dX7_make_137 : decode cX7_make 137 = .ok (.aload_n 0, 1) := dk_42 (dk_at dksX7_make_4 9 rfl rfl)
theorem dX7_make_138 : decode cX7_make 138 = .ok (.getfield 78, 3) := dk_180 0 78 (dk_at dksX7_make_4 10 rfl rfl)
theorem dX7_make_141 : decode cX7_make 141 = .ok (.iload_n 2, 1) := dk_28 (dk_at dksX7_make_4 13 rfl rfl)
theorem dX7_make_142 : decode cX7_make 142 = .ok (.aload_n 0, 1) := dk_42 (dk_at dksX7_make_4 14 rfl rfl)
theorem dX7_make_143 : decode cX7_make 143 = .ok (.getfield 78, 3) := dk_180 0 78 (dk_at dksX7_make_4 15 rfl rfl)
theorem dX7_make_146 : decode cX7_make 146 = .ok (.iload_n 3, 1) := dk_29 (dk_at dksX7_make_4 18 rfl rfl)
theorem dX7_make_147 : decode cX7_make 147 = .ok (.iaload, 1) := dk_46 (dk_at dksX7_make_4 19 rfl rfl)
theorem dX7_make_148 : decode cX7_make 148 = .ok (.iastore, 1) := dk_79 (dk_at dksX7_make_4 20 rfl rfl)
theorem dX7_make_149 : decode cX7_make 149 = .ok (.iconst (-1), 1) := dk_2 (dk_at dksX7_make_4 21 rfl rfl)
theorem dX7_make_150 : decode cX7_make 150 = .ok (.ireturn, 1) := dk_172 (dk_at dksX7_make_4 22 rfl rfl)
theorem dX7_make_151 : decode cX7_make 151 = .ok (.aload_n 0, 1) := dk_42 (dk_at dksX7_make_4 23 rfl rfl)
theorem dX7_make_152 : decode cX7_make 152 = .ok (.getfield 78, 3) := dk_180 0 78 (dk_at dksX7_make_5 0 rfl rfl)
theorem dX7_make_155 : decode cX7_make 155 = .ok (.iload_n 2, 1) := dk_28 (dk_at dksX7_make_5 3 rfl rfl)
theorem dX7_make_156 : decode cX7_make 156 = .ok (.aload_n 0, 1) := dk_42 (dk_at dksX7_make_5 4 rfl rfl)
theorem dX7_make_157 : decode cX7_make 157 = .ok (.getfield 78, 3) := dk_180 0 78 (dk_at dksX7_make_5 5 rfl rfl)
theorem dX7_make_160 : decode cX7_make 160 = .ok (.iload_n 3, 1) := dk_29 (dk_at dksX7_make_5 8 rfl rfl)
theorem dX7_make_161 : decode cX7_make 161 = .ok (.iaload, 1) := dk_46 (dk_at dksX7_make_5 9 rfl rfl)
theorem dX7_make_162 : decode cX7_make 162 = .ok (.aload_n 0, 1) := dk_42 (dk_at dksX7_make_5 10 rfl rfl)
theorem dX7_make_163 : decode cX7_make 163 = .ok (.getfield 78, 3) := dk_180 0 78 (dk_at dksX7_make_5 11 rfl rfl)
theorem dX7_make_166 : decode cX7_make 166 = .ok (.iload 4, 2) := dk_21 4 (dk_at dksX7_make_5 14 rfl rfl)
theorem dX7_make_168 : decode cX7_make 168 = .ok (.iaload, 1) := dk_46 (dk_at dksX7_make_5 16 rfl rfl)
theorem dX7_make_169 : decode cX7_make 169 = .ok (.iadd, 1) := dk_96 (dk_at dksX7_make_5 17 rfl rfl)
theorem dX7_make_170 : decode cX7_make 170 = .ok (.iastore, 1) := dk_79 (dk_at dksX7_make_5 18 rfl rfl)
theorem dX7_make_171 : decode cX7_make 171 = .ok (.iconst (-1), 1) := dk_2 (dk_at dksX7_make_5 19 rfl rfl)
theorem dX7_make_172 : decode cX7_make 172 = .ok (.ireturn, 1) := dk_172 (dk_at dksX7_make_5 20 rfl rfl)
theorem dX7_make_173 : decode cX7_make 173 = .ok (.aload_n 0, 1) := dk_42 (dk_at dksX7_make_5 21 rfl rfl)
theorem dX7_make_174 : decode cX7_make 174 = .ok (.getfield 78, 3) := dk_180 0 78 (dk_at dksX7_make_6 0 rfl rfl)
theorem dX7_make_177 : decode cX7_make 177 = .ok (.iload_n 2, 1) := dk_28 (dk_at dksX7_make_6 3 rfl rfl)
theorem dX7_make_178 : decode cX7_make 178 = .ok (.aload_n 0, 1) := dk_42 (dk_at dksX7_make_6 4 rfl rfl)
theorem dX7_make_179 : decode cX7_make 179 = .ok (.getfield 78, 3) := dk_180 0 78 (dk_at dksX7_make_6 5 rfl rfl)
theorem dX7_make_182 : decode cX7_make 182 = .ok (.iload_n 3, 1) := dk_29 (dk_at dksX7_make_6 8 rfl rfl)
theorem dX7_make_183 : decode cX7_make 183 = .ok (.iaload, 1) := dk_46 (dk_at dksX7_make_6 9 rfl rfl)
theorem dX7_make_184 : decode cX7_make 184 = .ok (.aload_n 0, 1) := dk_42 (dk_at dksX7_make_6 10 rfl rfl)
theorem dX7_make_185 : decode cX7_make 185 = .ok (.getfield 78, 3) := dk_180 0 78 (dk_at dksX7_make_6 11 rfl rfl)
theorem dX7_make_188 : decode cX7_make 188 = .ok (.iload 4, 2) := dk_21 4 (dk_at dksX7_make_6 14 rfl rfl)
theorem dX7_make_190 : decode cX7_make 190 = .ok (.iaload, 1) := dk_46 (dk_at dksX7_make_6 16 rfl rfl)
theorem dX7_make_191 : decode cX7_make 191 = .ok (.isub, 1) := dk_100 (dk_at dksX7_make_6 17 rfl rfl)
theorem dX7_make_192 : decode cX7_make 192 = .ok (.iastore, 1) := dk_79 (dk_at dksX7_make_6 18 rfl rfl)
theorem dX7_make_193 : decode cX7_make 193 = .ok (.iconst (-1), 1) := dk_2 (dk_at dksX7_make_6 19 rfl rfl)
theorem dX7_make_194 : decode cX7_make 194 = .ok (.ireturn, 1) := dk_172 (dk_at dksX7_make_6 20 rfl rfl)
theorem dX7_make_195 : decode cX7_make 195 = .ok (.aload_n 0, 1) := dk_42 (dk_at dksX7_make_6 21 rfl rfl)
theorem dX7_make_196 : decode cX7_make 196 = .ok (.getfield 78, 3) := dk_180 0 78 (dk_at dksX7_make_7 0 rfl rfl)
theorem dX7_make_199 : decode cX7_make 199 = .ok (.iload_n 2, 1) := dk_28 (dk_at dksX7_make_7 3 rfl rfl)
theorem dX7_make_200 : decode cX7_make 200 = .ok (.aload_n 0, 1) := dk_42 (dk_at dksX7_make_7 4 rfl rfl)
theorem dX7_make_201 : decode cX7_make 201 = .ok (.getfield 78, 3) := dk_180 0 78 (dk_at dksX7_make_7 5 rfl rfl)
theorem dX7_make_204 : decode cX7_make 204 = .ok (.iload_n 3, 1) := dk_29 (dk_at dksX7_make_7 8 rfl rfl)
theorem dX7_make_205 : decode cX7_make 205 = .ok (.iaload, 1) := dk_46 (dk_at dksX7_make_7 9 rfl rfl)
theorem dX7_make_206 : decode cX7_make 206 = .ok (.aload_n 0, 1) := dk_42 (dk_at dksX7_make_7 10 rfl rfl)
theorem dX7_make_207 : decode cX7_make 207 = .ok (.getfield 78, 3) := dk_180 0 78 (dk_at dksX7_make_7 11 rfl rfl)
theorem dX7_make_210 : decode cX7_make 210 = .ok (.iload 4, 2) := dk_21 4 (dk_at dksX7_make_7 14 rfl rfl)
theorem dX7_make_212 : decode cX7_make 212 = .ok (.iaload, 1) := dk_46 (dk_at dksX7_make_7 16 rfl rfl)
theorem dX7_make_213 : decode cX7_make 213 = .ok (.imul, 1) := dk_104 (dk_at dksX7_make_7 17 rfl rfl)
theorem dX7_make_214 : decode cX7_make 214 = .ok (.iastore, 1) := dk_79 (dk_at dksX7_make_7 18 rfl rfl)
theorem dX7_make_215 : decode cX7_make 215 = .ok (.iconst (-1), 1) := dk_2 (dk_at dksX7_make_7 19 rfl rfl)
theorem dX7_make_216 : decode cX7_make 216 = .ok (.ireturn, 1) := dk_172 (dk_at dksX7_make_7 20 rfl rfl)
theorem dX7_make_217 : decode cX7_make 217 = .ok (.aload_n 0, 1) := dk_42 (dk_at dksX7_make_7 21 rfl rfl)
theorem dX7_make_218 : decode cX7_make 218 = .ok (.aload_n 0, 1) := dk_42 (dk_at dksX7_make_7 22 rfl rfl)
theorem dX7_make_219 : decode cX7_make 219 = .ok (.getfield 78, 3) := dk_180 0 78 (dk_at dksX7_make_8 0 rfl rfl)
theorem dX7_make_222 : decode cX7_make 222 = .ok (.iload_n 2, 1) := dk_28 (dk_at dksX7_make_8 3 rfl rfl)
theorem dX7_make_223 : decode cX7_make 223 = .ok (.iaload, 1) := dk_46 (dk_at dksX7_make_8 4 rfl rfl)
theorem dX7_make_224 : decode cX7_make 224 = .ok (.aload_n 0, 1) := dk_42 (dk_at dksX7_make_8 5 rfl rfl)
theorem dX7_make_225 : decode cX7_make 225 = .ok (.getfield 78, 3) := dk_180 0 78 (dk_at dksX7_make_8 6 rfl rfl)
theorem dX7_make_228 : decode cX7_make 228 = .ok (.iload_n 3, 1) := dk_29 (dk_at dksX7_make_8 9 rfl rfl)
theorem dX7_make_229 : decode cX7_make 229 = .ok (.iaload, 1) := dk_46 (dk_at dksX7_make_8 10 rfl rfl)
theorem dX7_make_230 : decode cX7_make 230 = .ok (.if_icmp .ge 8, 3) := dk_162 0 8 (dk_at dksX7_make_8 11 rfl rfl)
theorem dX7_make_233 : decode cX7_make 233 = .ok (.iload 4, 2) := dk_21 4 (dk_at dksX7_make_8 14 rfl rfl)
theorem dX7_make_235 : decode cX7_make 235 = .ok (.goto 7, 3) := dk_167 0 7 (dk_at dksX7_make_8 16 rfl rfl)
theorem dX7_make_238 : decode cX7_make 238 = .ok (.aload_n 0, 1) := dk_42 (dk_at dksX7_make_8 19 rfl rfl)
theorem dX7_make_239 : decode cX7_make 239 = .ok (.getfield 168, 3) := dk_180 0 168 (dk_at dksX7_make_8 20 rfl rfl)
theorem dX7_make_242 : decode cX7_make 242 = .ok (.putfield 168, 3) := dk_181 0 168 (dk_at dksX7_make_9 0 rfl rfl)
theorem dX7_make_245 : decode cX7_make 245 = .ok (.iconst (-1), 1) := dk_2 (dk_at dksX7_make_9 3 rfl rfl)
theorem dX7_make_246 : decode cX7_make 246 = .ok (.ireturn, 1) := dk_172 (dk_at dksX7_make_9 4 rfl rfl)
theorem dX7_make_247 : decode cX7_make 247 = .ok (.aload_n 0, 1) := dk_42 (dk_at dksX7_make_9 5 rfl rfl)
theorem dX7_make_248 : decode cX7_make 248 = .ok (.iload_n 2, 1) := dk_28 (dk_at dksX7_make_9 6 rfl rfl)
theorem dX7_make_249 : decode cX7_make 249 = .ok (.putfield 168, 3) := dk_181 0 168 (dk_at dksX7_make_9 7 rfl rfl)
theorem dX7_make_252 : decode cX7_make 252 = .ok (.iconst (-1), 1) := dk_2 (dk_at dksX7_make_9 10 rfl rfl)
theorem dX7_make_253 : decode cX7_make 253 = .ok (.ireturn, 1) := dk_172 (dk_at dksX7_make_9 11 rfl rfl)
theorem dX7_make_254 : decode cX7_make 254 = .ok (.aload_n 0, 1) := dk_42 (dk_at dksX7_make_9 12 rfl rfl)
theorem dX7_make_255 : decode cX7_make 255 = .ok (.iload_n 2, 1) := dk_28 (dk_at dksX7_make_9 13 rfl rfl)
theorem dX7_make_256 : decode cX7_make 256 = .ok (.invokevirtual 180, 3) := dk_182 0 180 (dk_at dksX7_make_9 14 rfl rfl)
theorem dX7_make_259 : decode cX7_make 259 = .ok (.ireturn, 1) := dk_172 (dk_at dksX7_make_9 17 rfl rfl)
theorem dX7_make_260 : decode cX7_make 260 = .ok (.aload_n 0, 1) := dk_42 (dk_at dksX7_make_9 18 rfl rfl)
theorem dX7_make_261 : decode cX7_make 261 = .ok (.aload_n 0, 1) := dk_42 (dk_at dksX7_make_9 19 rfl rfl)
theorem dX7_make_262 : decode cX7_make 262 = .ok (.getfield 44, 3) := dk_180 0 44 (dk_at dksX7_make_9 20 rfl rfl)
theorem dX7_make_265 : decode cX7_make 265 = .ok (.aload_n 0, 1) := dk_42 (dk_at dksX7_make_9 23 rfl rfl)
theorem dX7_make_266 : decode cX7_make 266 = .ok (.getfield 132, 3) := dk_180 0 132 (dk_at dksX7_make_10 0 rfl rfl)
theorem dX7_make_269 : decode cX7_make 269 = .ok (.aload_n 0, 1) := dk_42 (dk_at dksX7_make_10 3 rfl rfl)
theorem dX7_make_270 : decode cX7_make 270 = .ok (.getfield 165, 3) := dk_180 0 165 (dk_at dksX7_make_10 4 rfl rfl)
theorem dX7_make_273 : decode cX7_make 273 = .ok (.iload_n 3, 1) := dk_29 (dk_at dksX7_make_10 7 rfl rfl)
theorem dX7_make_274 : decode cX7_make 274 = .ok (.invokevirtual 121, 3) := dk_182 0 121 (dk_at dksX7_make_10 8 rfl rfl)
theorem dX7_make_277 : decode cX7_make 277 = .ok (.istore 5, 2) := dk_54 5 (dk_at dksX7_make_10 11 rfl rfl)
theorem dX7_make_279 : decode cX7_make 279 = .ok (.aload_n 0, 1) := dk_42 (dk_at dksX7_make_10 13 rfl rfl)
theorem dX7_make_280 : decode cX7_make 280 = .ok (.getfield 78, 3) := dk_180 0 78 (dk_at dksX7_make_10 14 rfl rfl)
theorem dX7_make_283 : decode cX7_make 283 = .ok (.iload_n 2, 1) := dk_28 (dk_at dksX7_make_10 17 rfl rfl)
theorem dX7_make_284 : decode cX7_make 284 = .ok (.iload 5, 2) := dk_21 5 (dk_at dksX7_make_10 18 rfl rfl)
theorem dX7_make_286 : decode cX7_make 286 = .ok (.iconst (-1), 1) := dk_2 (dk_at dksX7_make_10 20 rfl rfl)
theorem dX7_make_287 : decode cX7_make 287 = .ok (.if_icmp .ne 7, 3) := dk_160 0 7 (dk_at dksX7_make_10 21 rfl rfl)
theorem dX7_make_290 : decode cX7_make 290 = .ok (.iconst 0, 1) := dk_3 (dk_at dksX7_make_11 0 rfl rfl)
theorem dX7_make_291 : decode cX7_make 291 = .ok (.goto 10, 3) := dk_167 0 10 (dk_at dksX7_make_11 1 rfl rfl)
theorem dX7_make_294 : decode cX7_make 294 = .ok (.aload_n 0, 1) := dk_42 (dk_at dksX7_make_11 4 rfl rfl)
theorem dX7_make_295 : decode cX7_make 295 = .ok (.getfield 53, 3) := dk_180 0 53 (dk_at dksX7_make_11 5 rfl rfl)
theorem dX7_make_298 : decode cX7_make 298 = .ok (.iload 5, 2) := dk_21 5 (dk_at dksX7_make_11 8 rfl rfl)
theorem dX7_make_300 : decode cX7_make 300 = .ok (.iaload, 1) := dk_46 (dk_at dksX7_make_11 10 rfl rfl)
theorem dX7_make_301 : decode cX7_make 301 = .ok (.iastore, 1) := dk_79 (dk_at dksX7_make_11 11 rfl rfl)
theorem dX7_make_302 : decode cX7_make 302 = .ok (.iconst (-1), 1) := dk_2 (dk_at dksX7_make_11 12 rfl rfl)
theorem dX7_make_303 : decode cX7_make 303 = .ok (.ireturn, 1) := dk_172 (dk_at dksX7_make_11 13 rfl rfl)
theorem dX7_make_304 : decode cX7_make 304 = .ok (.aload_n 0, 1) := dk_42 (dk_at dksX7_make_11 14 rfl rfl)
theorem dX7_make_305 : decode cX7_make 305 = .ok (.aload_n 0, 1) := dk_42 (dk_at dksX7_make_11 15 rfl rfl)
theorem dX7_make_306 : decode cX7_make 306 = .ok (.getfield 44, 3) := dk_180 0 44 (dk_at dksX7_make_11 16 rfl rfl)
theorem dX7_make_309 : decode cX7_make 309 = .ok (.aload_n 0, 1) := dk_42 (dk_at dksX7_make_11 19 rfl rfl)
theorem dX7_make_310 : decode cX7_make 310 = .ok (.getfield 132, 3) := dk_180 0 132 (dk_at dksX7_make_11 20 rfl rfl)
theorem dX7_make_313 : decode cX7_make 313 = .ok (.aload_n 0, 1) := dk_42 (dk_at dksX7_make_11 23 rfl rfl)
theorem dX7_make_314 : decode cX7_make 314 = .ok (.getfield 165, 3) := dk_180 0 165 (dk_at dksX7_make_12 0 rfl rfl)
theorem dX7_make_317 : decode cX7_make 317 = .ok (.iload_n 2, 1) := dk_28 (dk_at dksX7_make_12 3 rfl rfl)
theorem dX7_make_318 : decode cX7_make 318 = .ok (.invokevirtual 121, 3) := dk_182 0 121 (dk_at dksX7_make_12 4 rfl rfl)
theorem dX7_make_321 : decode cX7_make 321 = .ok (.istore 6, 2) := dk_54 6 (dk_at dksX7_make_12 7 rfl rfl)
theorem dX7_make_323 : decode cX7_make 323 = .ok (.iload 6, 2) := dk_21 6 (dk_at dksX7_make_12 9 rfl rfl)
theorem dX7_make_325 : decode cX7_make 325 = .ok (.iconst (-1), 1) := dk_2 (dk_at dksX7_make_12 11 rfl rfl)
theorem dX7_make_326 : decode cX7_make 326 = .ok (.if_icmp .eq 16, 3) := dk_159 0 16 (dk_at dksX7_make_12 12 rfl rfl)
theorem dX7_make_329 : decode cX7_make 329 = .ok (.aload_n 0, 1) := dk_42 (dk_at dksX7_make_12 15 rfl rfl)
theorem dX7_make_330 : decode cX7_make 330 = .ok (.getfield 53, 3) := dk_180 0 53 (dk_at dksX7_make_12 16 rfl rfl)
theorem dX7_make_333 : decode cX7_make 333 = .ok (.iload 6, 2) := dk_21 6 (dk_at dksX7_make_12 19 rfl rfl)
theorem dX7_make_335 : decode cX7_make 335 = .ok (.aload_n 0, 1) := dk_42 (dk_at dksX7_make_12 21 rfl rfl)
theorem dX7_make_336 : decode cX7_make 336 = .ok (.getfield 78, 3) := dk_180 0 78 (dk_at dksX7_make_13 0 rfl rfl)
theorem dX7_make_339 : decode cX7_make 339 = .ok (.iload_n 3, 1) := dk_29 (dk_at dksX7_make_13 3 rfl rfl)
theorem dX7_make_340 : decode cX7_make 340 = .ok (.iaload, 1) := dk_46 (dk_at dksX7_make_13 4 rfl rfl)
theorem dX7_make_341 : decode cX7_make 341 = .ok (.iastore, 1) := dk_79 (dk_at dksX7_make_13 5 rfl rfl)
theorem dX7_make_342 : decode cX7_make 342 = .ok (.iconst (-1), 1) := dk_2 (dk_at dksX7_make_13 6 rfl rfl)
theorem dX7_make_343 : decode cX7_make 343 = .ok (.ireturn, 1) := dk_172 (dk_at dksX7_make_13 7 rfl rfl)
theorem dX7_make_344 : decode cX7_make 344 = .ok (.aload_n 0, 1) := dk_42 (dk_at dksX7_make_13 8 rfl rfl)
theorem dX7_make_345 : decode cX7_make 345 = .ok (.getfield 78, 3) := dk_180 0 78 (dk_at dksX7_make_13 9 rfl rfl)
theorem dX7_make_348 : decode cX7_make 348 = .ok (.iload_n 2, 1) := dk_28 (dk_at dksX7_make_13 12 rfl rfl)
theorem dX7_make_349 : decode cX7_make 349 = .ok (.aload_n 0, 1) := dk_42 (dk_at dksX7_make_13 13 rfl rfl)
theorem dX7_make_350 : decode cX7_make 350 = .ok (.aload_n 0, 1) := dk_42 (dk_at dksX7_make_13 14 rfl rfl)
theorem dX7_make_351 : decode cX7_make 351 = .ok (.aload_n 0, 1) := dk_42 (dk_at dksX7_make_13 15 rfl rfl)
theorem dX7_make_352 : decode cX7_make 352 = .ok (.getfield 44, 3) := dk_180 0 44 (dk_at dksX7_make_13 16 rfl rfl)
theorem dX7_make_355 : decode cX7_make 355 = .ok (.aload_n 0, 1) := dk_42 (dk_at dksX7_make_13 19 rfl rfl)
theorem dX7_make_356 : decode cX7_make 356 = .ok (.getfield 132, 3) := dk_180 0 132 (dk_at dksX7_make_13 20 rfl rfl)
theorem dX7_make_359 : decode cX7_make 359 = .ok (.aload_n 0, 1) := dk_42 (dk_at dksX7_make_13 23 rfl rfl)
theorem dX7_make_360 : decode cX7_make 360 = .ok (.getfield 165, 3) := dk_180 0 165 (dk_at dksX7_make_14 0 rfl rfl)
theorem dX7_make_363 : decode cX7_make 363 = .ok (.iload_n 3, 1) := dk_29 (dk_at dksX7_make_14 3 rfl rfl)
theorem dX7_make_364 : decode cX7_make 364 = .ok (.invokevirtual 121, 3) := dk_182 0 121 (dk_at dksX7_make_14 4 rfl rfl)
theorem dX7_make_367 : decode cX7_make 367 = .ok (.invokevirtual 183, 3) := dk_182 0 183 (dk_at dksX7_make_14 7 rfl rfl)
theorem dX7_make_370 : decode cX7_make 370 = .ok (.iastore, 1) := dk_79 (dk_at dksX7_make_14 10 rfl rfl)
theorem dX7_make_371 : decode cX7_make 371 = .ok (.iconst (-1), 1) := dk_2 (dk_at dksX7_make_14 11 rfl rfl)
theorem dX7_make_372 : decode cX7_make 372 = .ok (.ireturn, 1) := dk_172 (dk_at dksX7_make_14 12 rfl rfl)
theorem dX7_make_373 : decode cX7_make 373 = .ok (.aload_n 0, 1) := dk_42 (dk_at dksX7_make_14 13 rfl rfl)
theorem dX7_make_374 : decode cX7_make 374 = .ok (.aload_n 0, 1) := dk_42 (dk_at dksX7_make_14 14 rfl rfl)
theorem dX7_make_375 : decode cX7_make 375 = .ok (.aload_n 0, 1) := dk_42 (dk_at dksX7_make_14 15 rfl rfl)
theorem dX7_make_376 : decode cX7_make 376 = .ok (.getfield 78, 3) := dk_180 0 78 (dk_at dksX7_make_14 16 rfl rfl)
theorem dX7_make_379 : decode cX7_make 379 = .ok (.iload_n 2, 1) := dk_28 (dk_at dksX7_make_14 19 rfl rfl)
theorem dX7_make_380 : decode cX7_make 380 = .ok (.iaload, 1) := dk_46 (dk_at dksX7_make_14 20 rfl rfl)
theorem dX7_make_381 : decode cX7_make 381 = .ok (.invokevirtual 186, 3) := dk_182 0 186 (dk_at dksX7_make_14 21 rfl rfl)
theorem dX7_make_384 : decode cX7_make 384 = .ok (.invokevirtual 177, 3) := dk_182 0 177 (dk_at dksX7_make_15 0 rfl rfl)
theorem dX7_make_387 : decode cX7_make 387 = .ok (.ireturn, 1) := dk_172 (dk_at dksX7_make_15 3 rfl rfl)
theorem dX7_make_388 : decode cX7_make 388 = .ok (.aload_n 0, 1) := dk_42 (dk_at dksX7_make_15 4 rfl rfl)
theorem dX7_make_389 : decode cX7_make 389 = .ok (.dup, 1) := dk_89 (dk_at dksX7_make_15 5 rfl rfl)
theorem dX7_make_390 : decode cX7_make 390 = .ok (.getfield 162, 3) := dk_180 0 162 (dk_at dksX7_make_15 6 rfl rfl)
theorem dX7_make_393 : decode cX7_make 393 = .ok (.iconst 1, 1) := dk_4 (dk_at dksX7_make_15 9 rfl rfl)
theorem dX7_make_394 : decode cX7_make 394 = .ok (.isub, 1) := dk_100 (dk_at dksX7_make_15 10 rfl rfl)
theorem dX7_make_395 : decode cX7_make 395 = .ok (.putfield 162, 3) := dk_181 0 162 (dk_at dksX7_make_15 11 rfl rfl)
theorem dX7_make_398 : decode cX7_make 398 = .ok (.aload_n 0, 1) := dk_42 (dk_at dksX7_make_15 14 rfl rfl)
theorem dX7_make_399 : decode cX7_make 399 = .ok (.aload_n 0, 1) := dk_42 (dk_at dksX7_make_15 15 rfl rfl)
theorem dX7_make_400 : decode cX7_make 400 = .ok (.getfield 84, 3) := dk_180 0 84 (dk_at dksX7_make_15 16 rfl rfl)
theorem dX7_make_403 : decode cX7_make 403 = .ok (.aload_n 0, 1) := dk_42 (dk_at dksX7_make_15 19 rfl rfl)
theorem dX7_make_404 : decode cX7_make 404 = .ok (.getfield 162, 3) := dk_180 0 162 (dk_at dksX7_make_15 20 rfl rfl)
theorem dX7_make_407 : decode cX7_make 407 = .ok (.iaload, 1) := dk_46 (dk_at dksX7_make_15 23 rfl rfl)
theorem dX7_make_408 : decode cX7_make 408 = .ok (.putfield 165, 3) := dk_181 0 165 (dk_at dksX7_make_16 0 rfl rfl)
theorem dX7_make_411 : decode cX7_make 411 = .ok (.aload_n 0, 1) := dk_42 (dk_at dksX7_make_16 3 rfl rfl)
theorem dX7_make_412 : decode cX7_make 412 = .ok (.aload_n 0, 1) := dk_42 (dk_at dksX7_make_16 4 rfl rfl)
theorem dX7_make_413 : decode cX7_make 413 = .ok (.getfield 87, 3) := dk_180 0 87 (dk_at dksX7_make_16 5 rfl rfl)
theorem dX7_make_416 : decode cX7_make 416 = .ok (.aload_n 0, 1) := dk_42 (dk_at dksX7_make_16 8 rfl rfl)
theorem dX7_make_417 : decode cX7_make 417 = .ok (.getfield 162, 3) := dk_180 0 162 (dk_at dksX7_make_16 9 rfl rfl)
theorem dX7_make_420 : decode cX7_make 420 = .ok (.iaload, 1) := dk_46 (dk_at dksX7_make_16 12 rfl rfl)
theorem dX7_make_421 : decode cX7_make 421 = .ok (.putfield 168, 3) := dk_181 0 168 (dk_at dksX7_make_16 13 rfl rfl)
theorem dX7_make_424 : decode cX7_make 424 = .ok (.iconst (-1), 1) := dk_2 (dk_at dksX7_make_16 16 rfl rfl)
theorem dX7_make_425 : decode cX7_make 425 = .ok (.ireturn, 1) := dk_172 (dk_at dksX7_make_16 17 rfl rfl)
theorem dX7_make_426 : decode cX7_make 426 = .ok (.aload_n 0, 1) := dk_42 (dk_at dksX7_make_16 18 rfl rfl)
theorem dX7_make_427 : decode cX7_make 427 = .ok (.getfield 189, 3) := dk_180 0 189 (dk_at dksX7_make_16 19 rfl rfl)
theorem dX7_make_430 : decode cX7_make 430 = .ok (.bipush 60, 2) := dk_16 60 (dk_at dksX7_make_16 22 rfl rfl)
theorem dX7_make_432 : decode cX7_make 432 = .ok (.if_icmp .ge 18, 3) := dk_162 0 18 (dk_at dksX7_make_17 0 rfl rfl)
theorem dX7_make_435 : decode cX7_make 435 = .ok (.aload_n 0, 1) := dk_42 (dk_at dksX7_make_17 3 rfl rfl)
theorem dX7_make_436 : decode cX7_make 436 = .ok (.getfield 81, 3) := dk_180 0 81 (dk_at dksX7_make_17 4 rfl rfl)
theorem dX7_make_439 : decode cX7_make 439 = .ok (.aload_n 0, 1) := dk_42 (dk_at dksX7_make_17 7 rfl rfl)
theorem dX7_make_440 : decode cX7_make 440 = .ok (.getfield 189, 3) := dk_180 0 189 (dk_at dksX7_make_17 8 rfl rfl)
theorem dX7_make_443 : decode cX7_make 443 = .ok (.aload_n 0, 1) := dk_42 (dk_at dksX7_make_17 11 rfl rfl)
theorem dX7_make_444 : decode cX7_make 444 = .ok (.getfield 78, 3) := dk_180 0 78 (dk_at dksX7_make_17 12 rfl rfl)
theorem dX7_make_447 : decode cX7_make 447 = .ok (.iload_n 2, 1) := dk_28 (dk_at dksX7_make_17 15 rfl rfl)
theorem dX7_make_448 : decode cX7_make 448 = .ok (.iaload, 1) := dk_46 (dk_at dksX7_make_17 16 rfl rfl)
theorem dX7_make_449 : decode cX7_make 449 = .ok (.iastore, 1) := dk_79 (dk_at dksX7_make_17 17 rfl rfl)
theorem dX7_make_450 : decode cX7_make 450 = .ok (.aload_n 0, 1) := dk_42 (dk_at dksX7_make_17 18 rfl rfl)
theorem dX7_make_451 : decode cX7_make 451 = .ok (.dup, 1) := dk_89 (dk_at dksX7_make_17 19 rfl rfl)
theorem dX7_make_452 : decode cX7_make 452 = .ok (.getfield 189, 3) := dk_180 0 189 (dk_at dksX7_make_17 20 rfl rfl)
theorem dX7_make_455 : decode cX7_make 455 = .ok (.iconst 1, 1) := dk_4 (dk_at dksX7_make_17 23 rfl rfl)
theorem dX7_make_456 : decode cX7_make 456 = .ok (.iadd, 1) := dk_96 (dk_at dksX7_make_18 0 rfl rfl)
theorem dX7_make_457 : decode cX7_make 457 = .ok (.putfield 189, 3) := dk_181 0 189 (dk_at dksX7_make_18 1 rfl rfl)
theorem dX7_make_460 : decode cX7_make 460 = .ok (.iconst (-1), 1) := dk_2 (dk_at dksX7_make_18 4 rfl rfl)
theorem dX7_make_461 : decode cX7_make 461 = .ok (.ireturn, 1) := dk_172 (dk_at dksX7_make_18 5 rfl rfl)
theorem dX7_make_462 : decode cX7_make 462 = .ok (.iconst 0, 1) := dk_3 (dk_at dksX7_make_18 6 rfl rfl)
theorem dX7_make_463 : decode cX7_make 463 = .ok (.ireturn, 1) := dk_172 (dk_at dksX7_make_18 7 rfl rfl)
abbrev cX7_callName : ByteArray := prog_11_method_31_code
def yX7_callName : MethodName := ⟨RX7, "callName", "(I)I"⟩
def dkwX7_callName_2 : List UInt8 := [182, 0, 142, 79, 42, 89, 180, 0, 174, 4, 96, 181, 0, 174, 42, 29, 182, 0, 177, 172]
abbrev dktX7_callName_2 : List UInt8 := dkwX7_callName_2 ++ []
def dkwX7_callName_1 : List UInt8 := [182, 0, 121, 62, 42, 180, 0, 50, 28, 46, 16, 21, 160, 0, 24, 42, 180, 0, 50, 28, 42, 29]
abbrev dktX7_callName_1 : List UInt8 := dkwX7_callName_1 ++ dktX7_callName_2
def dkwX7_callName_0 : List UInt8 := [16, 64, 42, 180, 0, 165, 104, 27, 96, 61, 42, 42, 180, 0, 44, 42, 180, 0, 132, 42, 180, 0, 165, 27]
abbrev dktX7_callName_0 : List UInt8 := dkwX7_callName_0 ++ dktX7_callName_1
theorem dksX7_callName_0 : cX7_callName.data.toList.drop 0 = dktX7_callName_0 := by decide +kernel
theorem dksX7_callName_1 : cX7_callName.data.toList.drop 24 = dktX7_callName_1 := dk_seg dksX7_callName_0 24 rfl rfl
theorem dksX7_callName_2 : cX7_callName.data.toList.drop 46 = dktX7_callName_2 := dk_seg dksX7_callName_1 22 rfl rfl
theorem dX7_callName_0 : decode cX7_callName 0 = .ok (.bipush 64, 2) := dk_16 64 (dk_at dksX7_callName_0 0 rfl rfl)
theorem dX7_callName_2 : decode cX7_callName 2 = .ok (.aload_n 0, 1) := dk_42 (dk_at dksX7_callName_0 2 rfl rfl)
theorem dX7_callName_3 : decode cX7_callName 3 = .ok (.getfield 165, 3) := dk_180 0 165 (dk_at dksX7_callName_0 3 rfl rfl)
theorem dX7_callName_6 : decode cX7_callName 6 = .ok (.imul, 1) := dk_104 (dk_at dksX7_callName_0 6 rfl rfl)
theorem dX7_callName_7 : decode cX7_callName 7 = .ok (.iload_n 1, 1) := dk_27 (dk_at dksX7_callName_0 7 rfl rfl)
theorem dX7_callName_8 : decode cX7_callName 8 = .ok (.iadd, 1) := dk_96 (dk_at dksX7_callName_0 8 rfl rfl)
theorem dX7_callName_9 : decode cX7_callName 9 = .ok (.istore_n 2, 1) := dk_61 (dk_at dksX7_callName_0 9 rfl rfl)
theorem dX7_callName_10 : decode cX7_callName 10 = .ok (.aload_n 0, 1) := dk_42 (dk_at dksX7_callName_0 10 rfl rfl)
theorem dX7_callName_11 : decode cX7_callName 11 = .ok (.aload_n 0, 1) := dk_42 (dk_at dksX7_callName_0 11 rfl rfl)
theorem dX7_callName_12 : decode cX7_callName 12 = .ok (.getfield 44, 3) := dk_180 0 44 (dk_at dksX7_callName_0 12 rfl rfl)
theorem dX7_callName_15 : decode cX7_callName 15 = .ok (.aload_n 0, 1) := dk_42 (dk_at dksX7_callName_0 15 rfl rfl)
theorem dX7_callName_16 : decode cX7_callName 16 = .ok (.getfield 132, 3) := dk_180 0 132 (dk_at dksX7_callName_0 16 rfl rfl)
theorem dX7_callName_19 : decode cX7_callName 19 = .ok (.aload_n 0, 1) := dk_42 (dk_at dksX7_callName_0 19 rfl rfl)
theorem dX7_callName_20 : decode cX7_callName 20 = .ok (.getfield 165, 3) := dk_180 0 165 (dk_at dksX7_callName_0 20 rfl rfl)
theorem dX7_callName_23 : decode cX7_callName 23 = .ok (.iload_n 1, 1) := dk_27 (dk_at dksX7_callName_0 23 rfl rfl)
theorem dX7_callName_24 : decode cX7_callName 24 = .ok (.invokevirtual 121, 3) := dk_182 0 121 (dk_at dksX7_callName_1 0 rfl rfl)
theorem dX7_callName_27 : decode cX7_callName 27 = .ok (.istore_n 3, 1) := dk_62 (dk_at dksX7_callName_1 3 rfl rfl)
theorem dX7_callName_28 : decode cX7_callName 28 = .ok (.aload_n 0, 1) := dk_42 (dk_at dksX7_callName_1 4 rfl rfl)
theorem dX7_callName_29 : decode cX7_callName 29 = .ok (.getfield 50, 3) := dk_180 0 50 (dk_at dksX7_callName_1 5 rfl rfl)
theorem dX7_callName_32 : decode cX7_callName 32 = .ok (.iload_n 2, 1) := dk_28 (dk_at dksX7_callName_1 8 rfl rfl)
theorem dX7_callName_33 : decode cX7_callName 33 = .ok (.iaload, 1) := dk_46 (dk_at dksX7_callName_1 9 rfl rfl)
theorem dX7_callName_34 : decode cX7_callName 34 = .ok (.bipush 21, 2) := dk_16 21 (dk_at dksX7_callName_1 10 rfl rfl)
theorem dX7_callName_36 : decode cX7_callName 36 = .ok (.if_icmp .ne 24, 3) := dk_160 0 24 (dk_at dksX7_callName_1 12 rfl rfl)
theorem dX7_callName_39 : decode cX7_callName 39 = .ok (.aload_n 0, 1) := dk_42 (dk_at dksX7_callName_1 15 rfl rfl)
theorem dX7_callName_40 : decode cX7_callName 40 = .ok (.getfield 50, 3) := dk_180 0 50 (dk_at dksX7_callName_1 16 rfl rfl)
theorem dX7_callName_43 : decode cX7_callName 43 = .ok (.iload_n 2, 1) := dk_28 (dk_at dksX7_callName_1 19 rfl rfl)
theorem dX7_callName_44 : decode cX7_callName 44 = .ok (.aload_n 0, 1) := dk_42 (dk_at dksX7_callName_1 20 rfl rfl)
theorem dX7_callName_45 : decode cX7_callName 45 = .ok (.iload_n 3, 1) := dk_29 (dk_at dksX7_callName_1 21 rfl rfl)
theorem dX7_callName_46 : decode cX7_callName 46 = .ok (.invokevirtual 142, 3) := dk_182 0 142 (dk_at dksX7_callName_2 0 rfl rfl)
theorem dX7_callName_49 : decode cX7_callName 49 = .ok (.iastore, 1) := dk_79 (dk_at dksX7_callName_2 3 rfl rfl)
theorem dX7_callName_50 : decode cX7_callName 50 = .ok (.aload_n 0, 1) := dk_42 (dk_at dksX7_callName_2 4 rfl rfl)
theorem dX7_callName_51 : decode cX7_callName 51 = .ok (.dup, 1) := dk_89 (dk_at dksX7_callName_2 5 rfl rfl)
theorem dX7_callName_52 : decode cX7_callName 52 = .ok (.getfield 174, 3) := dk_180 0 174 (dk_at dksX7_callName_2 6 rfl rfl)
theorem dX7_callName_55 : decode cX7_callName 55 = .ok (.iconst 1, 1) := dk_4 (dk_at dksX7_callName_2 9 rfl rfl)
theorem dX7_callName_56 : decode cX7_callName 56 = .ok (.iadd, 1) := dk_96 (dk_at dksX7_callName_2 10 rfl rfl)
theorem dX7_callName_57 : decode cX7_callName 57 = .ok (.putfield 174, 3) := dk_181 0 174 (dk_at dksX7_callName_2 11 rfl rfl)
theorem dX7_callName_60 : decode cX7_callName 60 = .ok (.aload_n 0, 1) := dk_42 (dk_at dksX7_callName_2 14 rfl rfl)
theorem dX7_callName_61 : decode cX7_callName 61 = .ok (.iload_n 3, 1) := dk_29 (dk_at dksX7_callName_2 15 rfl rfl)
theorem dX7_callName_62 : decode cX7_callName 62 = .ok (.invokevirtual 177, 3) := dk_182 0 177 (dk_at dksX7_callName_2 16 rfl rfl)
theorem dX7_callName_65 : decode cX7_callName 65 = .ok (.ireturn, 1) := dk_172 (dk_at dksX7_callName_2 19 rfl rfl)
abbrev cX7_addressOf : ByteArray := prog_11_method_30_code
def yX7_addressOf : MethodName := ⟨RX7, "addressOf", "(I)I"⟩
def dkwX7_addressOf_1 : List UInt8 := [180, 0, 22, 27, 46, 96, 172]
abbrev dktX7_addressOf_1 : List UInt8 := dkwX7_addressOf_1 ++ []
def dkwX7_addressOf_0 : List UInt8 := [27, 2, 160, 0, 7, 3, 167, 0, 24, 17, 3, 232, 42, 27, 16, 20, 108, 182, 0, 159, 4, 96, 104, 42]
abbrev dktX7_addressOf_0 : List UInt8 := dkwX7_addressOf_0 ++ dktX7_addressOf_1
theorem dksX7_addressOf_0 : cX7_addressOf.data.toList.drop 0 = dktX7_addressOf_0 := by decide +kernel
theorem dksX7_addressOf_1 : cX7_addressOf.data.toList.drop 24 = dktX7_addressOf_1 := dk_seg dksX7_addressOf_0 24 rfl rfl
theorem dX7_addressOf_0 : decode cX7_addressOf 0 = .ok (.iload_n 1, 1) := dk_27 (dk_at dksX7_addressOf_0 0 rfl rfl)
theorem dX7_addressOf_1 : decode cX7_addressOf 1 = .ok (.iconst (-1), 1) := dk_2 (dk_at dksX7_addressOf_0 1 rfl rfl)
theorem dX7_addressOf_2 : decode cX7_addressOf 2 = .ok (.if_icmp .ne 7, 3) := dk_160 0 7 (dk_at dksX7_addressOf_0 2 rfl rfl)
theorem dX7_addressOf_5 : decode cX7_addressOf 5 = .ok (.iconst 0, 1) := dk_3 (dk_at dksX7_addressOf_0 5 rfl rfl)
theorem dX7_addressOf_6 : decode cX7_addressOf 6 = .ok (.goto 24, 3) := dk_167 0 24 (dk_at dksX7_addressOf_0 6 rfl rfl)
theorem dX7_addressOf_9 : decode cX7_addressOf 9 = .ok (.sipush 1000, 3) := dk_17 3 232 (dk_at dksX7_addressOf_0 9 rfl rfl)
theorem dX7_addressOf_12 : decode cX7_addressOf 12 = .ok (.aload_n 0, 1) := dk_42 (dk_at dksX7_addressOf_0 12 rfl rfl)
theorem dX7_addressOf_13 : decode cX7_addressOf 13 = .ok (.iload_n 1, 1) := dk_27 (dk_at dksX7_addressOf_0 13 rfl rfl)
theorem dX7_addressOf_14 : decode cX7_addressOf 14 = .ok (.bipush 20, 2) := dk_16 20 (dk_at dksX7_addressOf_0 14 rfl rfl)
theorem dX7_addressOf_16 : decode cX7_addressOf 16 = .ok (.idiv, 1) := dk_108 (dk_at dksX7_addressOf_0 16 rfl rfl)
theorem dX7_addressOf_17 : decode cX7_addressOf 17 = .ok (.invokevirtual 159, 3) := dk_182 0 159 (dk_at dksX7_addressOf_0 17 rfl rfl)
theorem dX7_addressOf_20 : decode cX7_addressOf 20 = .ok (.iconst 1, 1) := dk_4 (dk_at dksX7_addressOf_0 20 rfl rfl)
theorem dX7_addressOf_21 : decode cX7_addressOf 21 = .ok (.iadd, 1) := dk_96 (dk_at dksX7_addressOf_0 21 rfl rfl)
theorem dX7_addressOf_22 : decode cX7_addressOf 22 = .ok (.imul, 1) := dk_104 (dk_at dksX7_addressOf_0 22 rfl rfl)
theorem dX7_addressOf_23 : decode cX7_addressOf 23 = .ok (.aload_n 0, 1) := dk_42 (dk_at dksX7_addressOf_0 23 rfl rfl)
theorem dX7_addressOf_24 : decode cX7_addressOf 24 = .ok (.getfield 22, 3) := dk_180 0 22 (dk_at dksX7_addressOf_1 0 rfl rfl)
theorem dX7_addressOf_27 : decode cX7_addressOf 27 = .ok (.iload_n 1, 1) := dk_27 (dk_at dksX7_addressOf_1 3 rfl rfl)
theorem dX7_addressOf_28 : decode cX7_addressOf 28 = .ok (.iaload, 1) := dk_46 (dk_at dksX7_addressOf_1 4 rfl rfl)
theorem dX7_addressOf_29 : decode cX7_addressOf 29 = .ok (.iadd, 1) := dk_96 (dk_at dksX7_addressOf_1 5 rfl rfl)
theorem dX7_addressOf_30 : decode cX7_addressOf 30 = .ok (.ireturn, 1) := dk_172 (dk_at dksX7_addressOf_1 6 rfl rfl)
abbrev cX7_atAddress : ByteArray := prog_11_method_29_code
def yX7_atAddress : MethodName := ⟨RX7, "atAddress", "(I)I"⟩
def dkwX7_atAddress_3 : List UInt8 := [27, 17, 3, 232, 112, 160, 0, 6, 21, 5, 172, 132, 4, 1, 167, 255, 205, 2, 172]
abbrev dktX7_atAddress_3 : List UInt8 := dkwX7_atAddress_3 ++ []
def dkwX7_atAddress_2 : List UInt8 := [29, 104, 21, 4, 96, 54, 5, 42, 180, 0, 19, 21, 5, 46, 154, 0, 21, 42, 180, 0, 22, 21, 5, 46]
abbrev dktX7_atAddress_2 : List UInt8 := dkwX7_atAddress_2 ++ dktX7_atAddress_3
def dkwX7_atAddress_1 : List UInt8 := [172, 42, 180, 0, 44, 28, 46, 62, 3, 54, 4, 21, 4, 42, 180, 0, 28, 29, 46, 162, 0, 46, 16, 20]
abbrev dktX7_atAddress_1 : List UInt8 := dkwX7_atAddress_1 ++ dktX7_atAddress_2
def dkwX7_atAddress_0 : List UInt8 := [27, 17, 3, 232, 108, 4, 100, 61, 27, 17, 3, 232, 161, 0, 11, 28, 42, 180, 0, 132, 161, 0, 5, 2]
abbrev dktX7_atAddress_0 : List UInt8 := dkwX7_atAddress_0 ++ dktX7_atAddress_1
theorem dksX7_atAddress_0 : cX7_atAddress.data.toList.drop 0 = dktX7_atAddress_0 := by decide +kernel
theorem dksX7_atAddress_1 : cX7_atAddress.data.toList.drop 24 = dktX7_atAddress_1 := dk_seg dksX7_atAddress_0 24 rfl rfl
theorem dksX7_atAddress_2 : cX7_atAddress.data.toList.drop 48 = dktX7_atAddress_2 := dk_seg dksX7_atAddress_1 24 rfl rfl
theorem dksX7_atAddress_3 : cX7_atAddress.data.toList.drop 72 = dktX7_atAddress_3 := dk_seg dksX7_atAddress_2 24 rfl rfl
theorem dX7_atAddress_0 : decode cX7_atAddress 0 = .ok (.iload_n 1, 1) := dk_27 (dk_at dksX7_atAddress_0 0 rfl rfl)
theorem dX7_atAddress_1 : decode cX7_atAddress 1 = .ok (.sipush 1000, 3) := dk_17 3 232 (dk_at dksX7_atAddress_0 1 rfl rfl)
theorem dX7_atAddress_4 : decode cX7_atAddress 4 = .ok (.idiv, 1) := dk_108 (dk_at dksX7_atAddress_0 4 rfl rfl)
theorem dX7_atAddress_5 : decode cX7_atAddress 5 = .ok (.iconst 1, 1) := dk_4 (dk_at dksX7_atAddress_0 5 rfl rfl)
theorem dX7_atAddress_6 : decode cX7_atAddress 6 = .ok (.isub, 1) := dk_100 (dk_at dksX7_atAddress_0 6 rfl rfl)
theorem dX7_atAddress_7 : decode cX7_atAddress 7 = .ok (.istore_n 2, 1) := dk_61 (dk_at dksX7_atAddress_0 7 rfl rfl)
theorem dX7_atAddress_8 : decode cX7_atAddress 8 = .ok (.iload_n 1, 1) := dk_27 (dk_at dksX7_atAddress_0 8 rfl rfl)
theorem dX7_atAddress_9 : decode cX7_atAddress 9 = .ok (.sipush 1000, 3) := dk_17 3 232 (dk_at dksX7_atAddress_0 9 rfl rfl)
theorem dX7_atAddress_12 : decode cX7_atAddress 12 = .ok (.if_icmp .lt 11, 3) := dk_161 0 11 (dk_at dksX7_atAddress_0 12 rfl rfl)
theorem dX7_atAddress_15 : decode cX7_atAddress 15 = .ok (.iload_n 2, 1) := dk_28 (dk_at dksX7_atAddress_0 15 rfl rfl)
theorem dX7_atAddress_16 : decode cX7_atAddress 16 = .ok (.aload_n 0, 1) := dk_42 (dk_at dksX7_atAddress_0 16 rfl rfl)
theorem dX7_atAddress_17 : decode cX7_atAddress 17 = .ok (.getfield 132, 3) := dk_180 0 132 (dk_at dksX7_atAddress_0 17 rfl rfl)
theorem dX7_atAddress_20 : decode cX7_atAddress 20 = .ok (.if_icmp .lt 5, 3) := dk_161 0 5 (dk_at dksX7_atAddress_0 20 rfl rfl)
theorem dX7_atAddress_23 : decode cX7_atAddress 23 = .ok (.iconst (-1), 1) := dk_2 (dk_at dksX7_atAddress_0 23 rfl rfl)
theorem dX7_atAddress_24 : decode cX7_atAddress 24 = .ok (.ireturn, 1) := dk_172 (dk_at dksX7_atAddress_1 0 rfl rfl)
theorem dX7_atAddress_25 : decode cX7_atAddress 25 = .ok (.aload_n 0, 1) := dk_42 (dk_at dksX7_atAddress_1 1 rfl rfl)
theorem dX7_atAddress_26 : decode cX7_atAddress 26 = .ok (.getfield 44, 3) := dk_180 0 44 (dk_at dksX7_atAddress_1 2 rfl rfl)
theorem dX7_atAddress_29 : decode cX7_atAddress 29 = .ok (.iload_n 2, 1) := dk_28 (dk_at dksX7_atAddress_1 5 rfl rfl)
theorem dX7_atAddress_30 : decode cX7_atAddress 30 = .ok (.iaload, 1) := dk_46 (dk_at dksX7_atAddress_1 6 rfl rfl)
theorem dX7_atAddress_31 : decode cX7_atAddress 31 = .ok (.istore_n 3, 1) := dk_62 (dk_at dksX7_atAddress_1 7 rfl rfl)
theorem dX7_atAddress_32 : decode cX7_atAddress 32 = .ok (.iconst 0, 1) := dk_3 (dk_at dksX7_atAddress_1 8 rfl rfl)
theorem dX7_atAddress_33 : decode cX7_atAddress 33 = .ok (.istore 4, 2) := dk_54 4 (dk_at dksX7_atAddress_1 9 rfl rfl)
theorem dX7_atAddress_35 : decode cX7_atAddress 35 = .ok (.iload 4, 2) := dk_21 4 (dk_at dksX7_atAddress_1 11 rfl rfl)
theorem dX7_atAddress_37 : decode cX7_atAddress 37 = .ok (.aload_n 0, 1) := dk_42 (dk_at dksX7_atAddress_1 13 rfl rfl)
theorem dX7_atAddress_38 : decode cX7_atAddress 38 = .ok (.getfield 28, 3) := dk_180 0 28 (dk_at dksX7_atAddress_1 14 rfl rfl)
theorem dX7_atAddress_41 : decode cX7_atAddress 41 = .ok (.iload_n 3, 1) := dk_29 (dk_at dksX7_atAddress_1 17 rfl rfl)
theorem dX7_atAddress_42 : decode cX7_atAddress 42 = .ok (.iaload, 1) := dk_46 (dk_at dksX7_atAddress_1 18 rfl rfl)
theorem dX7_atAddress_43 : decode cX7_atAddress 43 = .ok (.if_icmp .ge 46, 3) := dk_162 0 46 (dk_at dksX7_atAddress_1 19 rfl rfl)
theorem dX7_atAddress_46 : decode cX7_atAddress 46 = .ok (.bipush 20, 2) := dk_16 20 (dk_at dksX7_atAddress_1 22 rfl rfl)
theorem dX7_atAddress_48 : decode cX7_atAddress 48 = .ok (.iload_n 3, 1) := dk_29 (dk_at dksX7_atAddress_2 0 rfl rfl)
theorem dX7_atAddress_49 : decode cX7_atAddress 49 = .ok (.imul, 1) := dk_104 (dk_at dksX7_atAddress_2 1 rfl rfl)
theorem dX7_atAddress_50 : decode cX7_atAddress 50 = .ok (.iload 4, 2) := dk_21 4 (dk_at dksX7_atAddress_2 2 rfl rfl)
theorem dX7_atAddress_52 : decode cX7_atAddress 52 = .ok (.iadd, 1) := dk_96 (dk_at dksX7_atAddress_2 4 rfl rfl)
theorem dX7_atAddress_53 : decode cX7_atAddress 53 = .ok (.istore 5, 2) := dk_54 5 (dk_at dksX7_atAddress_2 5 rfl rfl)
theorem dX7_atAddress_55 : decode cX7_atAddress 55 = .ok (.aload_n 0, 1) := dk_42 (dk_at dksX7_atAddress_2 7 rfl rfl)
theorem dX7_atAddress_56 : decode cX7_atAddress 56 = .ok (.getfield 19, 3) := dk_180 0 19 (dk_at dksX7_atAddress_2 8 rfl rfl)
theorem dX7_atAddress_59 : decode cX7_atAddress 59 = .ok (.iload 5, 2) := dk_21 5 (dk_at dksX7_atAddress_2 11 rfl rfl)
theorem dX7_atAddress_61 : decode cX7_atAddress 61 = .ok (.iaload, 1) := dk_46 (dk_at dksX7_atAddress_2 13 rfl rfl)
theorem dX7_atAddress_62 : decode cX7_atAddress 62 = .ok (.ifCond .ne 21, 3) := dk_154 0 21 (dk_at dksX7_atAddress_2 14 rfl rfl)
theorem dX7_atAddress_65 : decode cX7_atAddress 65 = .ok (.aload_n 0, 1) := dk_42 (dk_at dksX7_atAddress_2 17 rfl rfl)
theorem dX7_atAddress_66 : decode cX7_atAddress 66 = .ok (.getfield 22, 3) := dk_180 0 22 (dk_at dksX7_atAddress_2 18 rfl rfl)
theorem dX7_atAddress_69 : decode cX7_atAddress 69 = .ok (.iload 5, 2) := dk_21 5 (dk_at dksX7_atAddress_2 21 rfl rfl)
theorem dX7_atAddress_71 : decode cX7_atAddress 71 = .ok (.iaload, 1) := dk_46 (dk_at dksX7_atAddress_2 23 rfl rfl)
theorem dX7_atAddress_72 : decode cX7_atAddress 72 = .ok (.iload_n 1, 1) := dk_27 (dk_at dksX7_atAddress_3 0 rfl rfl)
theorem dX7_atAddress_73 : decode cX7_atAddress 73 = .ok (.sipush 1000, 3) := dk_17 3 232 (dk_at dksX7_atAddress_3 1 rfl rfl)
theorem dX7_atAddress_76 : decode cX7_atAddress 76 = .ok (.irem, 1) := dk_112 (dk_at dksX7_atAddress_3 4 rfl rfl)
theorem dX7_atAddress_77 : decode cX7_atAddress 77 = .ok (.if_icmp .ne 6, 3) := dk_160 0 6 (dk_at dksX7_atAddress_3 5 rfl rfl)
theorem dX7_atAddress_80 : decode cX7_atAddress 80 = .ok (.iload 5, 2) := dk_21 5 (dk_at dksX7_atAddress_3 8 rfl rfl)
theorem dX7_atAddress_82 : decode cX7_atAddress 82 = .ok (.ireturn, 1) := dk_172 (dk_at dksX7_atAddress_3 10 rfl rfl)
theorem dX7_atAddress_83 : decode cX7_atAddress 83 = .ok (.iinc 4 1, 3) := dk_132 4 1 (dk_at dksX7_atAddress_3 11 rfl rfl)
theorem dX7_atAddress_86 : decode cX7_atAddress 86 = .ok (.goto (-51), 3) := dk_167 255 205 (dk_at dksX7_atAddress_3 14 rfl rfl)
theorem dX7_atAddress_89 : decode cX7_atAddress 89 = .ok (.iconst (-1), 1) := dk_2 (dk_at dksX7_atAddress_3 17 rfl rfl)
theorem dX7_atAddress_90 : decode cX7_atAddress 90 = .ok (.ireturn, 1) := dk_172 (dk_at dksX7_atAddress_3 18 rfl rfl)
abbrev cX7_count : ByteArray := prog_11_method_35_code
def yX7_count : MethodName := ⟨RX7, "count", "(I)I"⟩
def dkwX7_count_3 : List UInt8 := [153, 0, 10, 42, 180, 0, 132, 167, 0, 4, 3, 172, 42, 180, 0, 90, 172, 2, 172]
abbrev dktX7_count_3 : List UInt8 := dkwX7_count_3 ++ []
def dkwX7_count_2 : List UInt8 := [42, 180, 0, 192, 172, 42, 180, 0, 189, 172, 42, 180, 0, 174, 172, 42, 180, 0, 171, 172, 42, 180, 0, 97]
abbrev dktX7_count_2 : List UInt8 := dkwX7_count_2 ++ dktX7_count_3
def dkwX7_count_1 : List UInt8 := [170, 0, 0, 0, 0, 0, 80, 0, 0, 0, 0, 0, 0, 0, 5, 0, 0, 0, 39, 0, 0, 0, 44, 0, 0, 0, 49, 0, 0, 0, 54, 0, 0, 0, 59, 0, 0, 0, 75]
abbrev dktX7_count_1 : List UInt8 := dkwX7_count_1 ++ dktX7_count_2
def dkwX7_count_0 : List UInt8 := [27]
abbrev dktX7_count_0 : List UInt8 := dkwX7_count_0 ++ dktX7_count_1
theorem dksX7_count_0 : cX7_count.data.toList.drop 0 = dktX7_count_0 := by decide +kernel
theorem dksX7_count_1 : cX7_count.data.toList.drop 1 = dktX7_count_1 := dk_seg dksX7_count_0 1 rfl rfl
theorem dksX7_count_2 : cX7_count.data.toList.drop 40 = dktX7_count_2 := dk_seg dksX7_count_1 39 rfl rfl
theorem dksX7_count_3 : cX7_count.data.toList.drop 64 = dktX7_count_3 := dk_seg dksX7_count_2 24 rfl rfl
theorem dX7_count_0 : decode cX7_count 0 = .ok (.iload_n 1, 1) := dk_27 (dk_at dksX7_count_0 0 rfl rfl)
theorem dX7_count_1 : decode cX7_count 1 = .ok (.tableswitch 80 0 5 #[39, 44, 49, 54, 59, 75], 39) := by decide +kernel
theorem dX7_count_40 : decode cX7_count 40 = .ok (.aload_n 0, 1) := dk_42 (dk_at dksX7_count_2 0 rfl rfl)
theorem dX7_count_41 : decode cX7_count 41 = .ok (.getfield 192, 3) := dk_180 0 192 (dk_at dksX7_count_2 1 rfl rfl)
theorem dX7_count_44 : decode cX7_count 44 = .ok (.ireturn, 1) := dk_172 (dk_at dksX7_count_2 4 rfl rfl)
theorem dX7_count_45 : decode cX7_count 45 = .ok (.aload_n 0, 1) := dk_42 (dk_at dksX7_count_2 5 rfl rfl)
theorem dX7_count_46 : decode cX7_count 46 = .ok (.getfield 189, 3) := dk_180 0 189 (dk_at dksX7_count_2 6 rfl rfl)
theorem dX7_count_49 : decode cX7_count 49 = .ok (.ireturn, 1) := dk_172 (dk_at dksX7_count_2 9 rfl rfl)
theorem dX7_count_50 : decode cX7_count 50 = .ok (.aload_n 0, 1) := dk_42 (dk_at dksX7_count_2 10 rfl rfl)
theorem dX7_count_51 : decode cX7_count 51 = .ok (.getfield 174, 3) := dk_180 0 174 (dk_at dksX7_count_2 11 rfl rfl)
theorem dX7_count_54 : decode cX7_count 54 = .ok (.ireturn, 1) := dk_172 (dk_at dksX7_count_2 14 rfl rfl)
theorem dX7_count_55 : decode cX7_count 55 = .ok (.aload_n 0, 1) := dk_42 (dk_at dksX7_count_2 15 rfl rfl)
theorem dX7_count_56 : decode cX7_count 56 = .ok (.getfield 171, 3) := dk_180 0 171 (dk_at dksX7_count_2 16 rfl rfl)
theorem dX7_count_59 : decode cX7_count 59 = .ok (.ireturn, 1) := dk_172 (dk_at dksX7_count_2 19 rfl rfl)
theorem dX7_count_60 : decode cX7_count 60 = .ok (.aload_n 0, 1) := dk_42 (dk_at dksX7_count_2 20 rfl rfl)
theorem dX7_count_61 : decode cX7_count 61 = .ok (.getfield 97, 3) := dk_180 0 97 (dk_at dksX7_count_2 21 rfl rfl)
theorem dX7_count_64 : decode cX7_count 64 = .ok (.ifCond .eq 10, 3) := dk_153 0 10 (dk_at dksX7_count_3 0 rfl rfl)
theorem dX7_count_67 : decode cX7_count 67 = .ok (.aload_n 0, 1) := dk_42 (dk_at dksX7_count_3 3 rfl rfl)
theorem dX7_count_68 : decode cX7_count 68 = .ok (.getfield 132, 3) := dk_180 0 132 (dk_at dksX7_count_3 4 rfl rfl)
theorem dX7_count_71 : decode cX7_count 71 = .ok (.goto 4, 3) := dk_167 0 4 (dk_at dksX7_count_3 7 rfl rfl)
theorem dX7_count_74 : decode cX7_count 74 = .ok (.iconst 0, 1) := dk_3 (dk_at dksX7_count_3 10 rfl rfl)
theorem dX7_count_75 : decode cX7_count 75 = .ok (.ireturn, 1) := dk_172 (dk_at dksX7_count_3 11 rfl rfl)
theorem dX7_count_76 : decode cX7_count 76 = .ok (.aload_n 0, 1) := dk_42 (dk_at dksX7_count_3 12 rfl rfl)
theorem dX7_count_77 : decode cX7_count 77 = .ok (.getfield 90, 3) := dk_180 0 90 (dk_at dksX7_count_3 13 rfl rfl)
theorem dX7_count_80 : decode cX7_count 80 = .ok (.ireturn, 1) := dk_172 (dk_at dksX7_count_3 16 rfl rfl)
theorem dX7_count_81 : decode cX7_count 81 = .ok (.iconst (-1), 1) := dk_2 (dk_at dksX7_count_3 17 rfl rfl)
theorem dX7_count_82 : decode cX7_count 82 = .ok (.ireturn, 1) := dk_172 (dk_at dksX7_count_3 18 rfl rfl)
abbrev cX7_said : ByteArray := prog_11_method_36_code
def yX7_said : MethodName := ⟨RX7, "said", "(I)I"⟩
def dkwX7_said_1 : List UInt8 := [180, 0, 81, 27, 46, 172]
abbrev dktX7_said_1 : List UInt8 := dkwX7_said_1 ++ []
def dkwX7_said_0 : List UInt8 := [27, 155, 0, 17, 27, 42, 180, 0, 189, 162, 0, 9, 27, 16, 60, 161, 0, 7, 3, 167, 0, 9, 42]
abbrev dktX7_said_0 : List UInt8 := dkwX7_said_0 ++ dktX7_said_1
theorem dksX7_said_0 : cX7_said.data.toList.drop 0 = dktX7_said_0 := by decide +kernel
theorem dksX7_said_1 : cX7_said.data.toList.drop 23 = dktX7_said_1 := dk_seg dksX7_said_0 23 rfl rfl
theorem dX7_said_0 : decode cX7_said 0 = .ok (.iload_n 1, 1) := dk_27 (dk_at dksX7_said_0 0 rfl rfl)
theorem dX7_said_1 : decode cX7_said 1 = .ok (.ifCond .lt 17, 3) := dk_155 0 17 (dk_at dksX7_said_0 1 rfl rfl)
theorem dX7_said_4 : decode cX7_said 4 = .ok (.iload_n 1, 1) := dk_27 (dk_at dksX7_said_0 4 rfl rfl)
theorem dX7_said_5 : decode cX7_said 5 = .ok (.aload_n 0, 1) := dk_42 (dk_at dksX7_said_0 5 rfl rfl)
theorem dX7_said_6 : decode cX7_said 6 = .ok (.getfield 189, 3) := dk_180 0 189 (dk_at dksX7_said_0 6 rfl rfl)
theorem dX7_said_9 : decode cX7_said 9 = .ok (.if_icmp .ge 9, 3) := dk_162 0 9 (dk_at dksX7_said_0 9 rfl rfl)
theorem dX7_said_12 : decode cX7_said 12 = .ok (.iload_n 1, 1) := dk_27 (dk_at dksX7_said_0 12 rfl rfl)
theorem dX7_said_13 : decode cX7_said 13 = .ok (.bipush 60, 2) := dk_16 60 (dk_at dksX7_said_0 13 rfl rfl)
theorem dX7_said_15 : decode cX7_said 15 = .ok (.if_icmp .lt 7, 3) := dk_161 0 7 (dk_at dksX7_said_0 15 rfl rfl)
theorem dX7_said_18 : decode cX7_said 18 = .ok (.iconst 0, 1) := dk_3 (dk_at dksX7_said_0 18 rfl rfl)
theorem dX7_said_19 : decode cX7_said 19 = .ok (.goto 9, 3) := dk_167 0 9 (dk_at dksX7_said_0 19 rfl rfl)
theorem dX7_said_22 : decode cX7_said 22 = .ok (.aload_n 0, 1) := dk_42 (dk_at dksX7_said_0 22 rfl rfl)
theorem dX7_said_23 : decode cX7_said 23 = .ok (.getfield 81, 3) := dk_180 0 81 (dk_at dksX7_said_1 0 rfl rfl)
theorem dX7_said_26 : decode cX7_said 26 = .ok (.iload_n 1, 1) := dk_27 (dk_at dksX7_said_1 3 rfl rfl)
theorem dX7_said_27 : decode cX7_said 27 = .ok (.iaload, 1) := dk_46 (dk_at dksX7_said_1 4 rfl rfl)
theorem dX7_said_28 : decode cX7_said 28 = .ok (.ireturn, 1) := dk_172 (dk_at dksX7_said_1 5 rfl rfl)
abbrev cX7_register : ByteArray := prog_11_method_37_code
def yX7_register : MethodName := ⟨RX7, "register", "(I)I"⟩
def dkwX7_register_0 : List UInt8 := [27, 184, 0, 111, 153, 0, 12, 42, 180, 0, 78, 27, 46, 167, 0, 4, 3, 172]
abbrev dktX7_register_0 : List UInt8 := dkwX7_register_0 ++ []
theorem dksX7_register_0 : cX7_register.data.toList.drop 0 = dktX7_register_0 := by decide +kernel
theorem dX7_register_0 : decode cX7_register 0 = .ok (.iload_n 1, 1) := dk_27 (dk_at dksX7_register_0 0 rfl rfl)
theorem dX7_register_1 : decode cX7_register 1 = .ok (.invokestatic 111, 3) := dk_184 0 111 (dk_at dksX7_register_0 1 rfl rfl)
theorem dX7_register_4 : decode cX7_register 4 = .ok (.ifCond .eq 12, 3) := dk_153 0 12 (dk_at dksX7_register_0 4 rfl rfl)
theorem dX7_register_7 : decode cX7_register 7 = .ok (.aload_n 0, 1) := dk_42 (dk_at dksX7_register_0 7 rfl rfl)
theorem dX7_register_8 : decode cX7_register 8 = .ok (.getfield 78, 3) := dk_180 0 78 (dk_at dksX7_register_0 8 rfl rfl)
theorem dX7_register_11 : decode cX7_register 11 = .ok (.iload_n 1, 1) := dk_27 (dk_at dksX7_register_0 11 rfl rfl)
theorem dX7_register_12 : decode cX7_register 12 = .ok (.iaload, 1) := dk_46 (dk_at dksX7_register_0 12 rfl rfl)
theorem dX7_register_13 : decode cX7_register 13 = .ok (.goto 4, 3) := dk_167 0 4 (dk_at dksX7_register_0 13 rfl rfl)
theorem dX7_register_16 : decode cX7_register 16 = .ok (.iconst 0, 1) := dk_3 (dk_at dksX7_register_0 16 rfl rfl)
theorem dX7_register_17 : decode cX7_register 17 = .ok (.ireturn, 1) := dk_172 (dk_at dksX7_register_0 17 rfl rfl)
abbrev cX7_datum : ByteArray := prog_11_method_38_code
def yX7_datum : MethodName := ⟨RX7, "datum", "(II)I"⟩
def dkwX7_datum_1 : List UInt8 := [180, 0, 19, 29, 46, 4, 159, 0, 7, 2, 167, 0, 9, 42, 180, 0, 53, 29, 46, 172]
abbrev dktX7_datum_1 : List UInt8 := dkwX7_datum_1 ++ []
def dkwX7_datum_0 : List UInt8 := [42, 27, 182, 0, 159, 2, 160, 0, 5, 2, 172, 42, 27, 28, 182, 0, 107, 62, 29, 2, 159, 0, 13, 42]
abbrev dktX7_datum_0 : List UInt8 := dkwX7_datum_0 ++ dktX7_datum_1
theorem dksX7_datum_0 : cX7_datum.data.toList.drop 0 = dktX7_datum_0 := by decide +kernel
theorem dksX7_datum_1 : cX7_datum.data.toList.drop 24 = dktX7_datum_1 := dk_seg dksX7_datum_0 24 rfl rfl
theorem dX7_datum_0 : decode cX7_datum 0 = .ok (.aload_n 0, 1) := dk_42 (dk_at dksX7_datum_0 0 rfl rfl)
theorem dX7_datum_1 : decode cX7_datum 1 = .ok (.iload_n 1, 1) := dk_27 (dk_at dksX7_datum_0 1 rfl rfl)
theorem dX7_datum_2 : decode cX7_datum 2 = .ok (.invokevirtual 159, 3) := dk_182 0 159 (dk_at dksX7_datum_0 2 rfl rfl)
theorem dX7_datum_5 : decode cX7_datum 5 = .ok (.iconst (-1), 1) := dk_2 (dk_at dksX7_datum_0 5 rfl rfl)
theorem dX7_datum_6 : decode cX7_datum 6 = .ok (.if_icmp .ne 5, 3) := dk_160 0 5 (dk_at dksX7_datum_0 6 rfl rfl)
theorem dX7_datum_9 : decode cX7_datum 9 = .ok (.iconst (-1), 1) := dk_2 (dk_at dksX7_datum_0 9 rfl rfl)
theorem dX7_datum_10 : decode cX7_datum 10 = .ok (.ireturn, 1) := dk_172 (dk_at dksX7_datum_0 10 rfl rfl)
theorem dX7_datum_11 : decode cX7_datum 11 = .ok (.aload_n 0, 1) := dk_42 (dk_at dksX7_datum_0 11 rfl rfl)
theorem dX7_datum_12 : decode cX7_datum 12 = .ok (.iload_n 1, 1) := dk_27 (dk_at dksX7_datum_0 12 rfl rfl)
theorem dX7_datum_13 : decode cX7_datum 13 = .ok (.iload_n 2, 1) := dk_28 (dk_at dksX7_datum_0 13 rfl rfl)
theorem dX7_datum_14 : decode cX7_datum 14 = .ok (.invokevirtual 107, 3) := dk_182 0 107 (dk_at dksX7_datum_0 14 rfl rfl)
theorem dX7_datum_17 : decode cX7_datum 17 = .ok (.istore_n 3, 1) := dk_62 (dk_at dksX7_datum_0 17 rfl rfl)
theorem dX7_datum_18 : decode cX7_datum 18 = .ok (.iload_n 3, 1) := dk_29 (dk_at dksX7_datum_0 18 rfl rfl)
theorem dX7_datum_19 : decode cX7_datum 19 = .ok (.iconst (-1), 1) := dk_2 (dk_at dksX7_datum_0 19 rfl rfl)
theorem dX7_datum_20 : decode cX7_datum 20 = .ok (.if_icmp .eq 13, 3) := dk_159 0 13 (dk_at dksX7_datum_0 20 rfl rfl)
theorem dX7_datum_23 : decode cX7_datum 23 = .ok (.aload_n 0, 1) := dk_42 (dk_at dksX7_datum_0 23 rfl rfl)
theorem dX7_datum_24 : decode cX7_datum 24 = .ok (.getfield 19, 3) := dk_180 0 19 (dk_at dksX7_datum_1 0 rfl rfl)
theorem dX7_datum_27 : decode cX7_datum 27 = .ok (.iload_n 3, 1) := dk_29 (dk_at dksX7_datum_1 3 rfl rfl)
theorem dX7_datum_28 : decode cX7_datum 28 = .ok (.iaload, 1) := dk_46 (dk_at dksX7_datum_1 4 rfl rfl)
theorem dX7_datum_29 : decode cX7_datum 29 = .ok (.iconst 1, 1) := dk_4 (dk_at dksX7_datum_1 5 rfl rfl)
theorem dX7_datum_30 : decode cX7_datum 30 = .ok (.if_icmp .eq 7, 3) := dk_159 0 7 (dk_at dksX7_datum_1 6 rfl rfl)
theorem dX7_datum_33 : decode cX7_datum 33 = .ok (.iconst (-1), 1) := dk_2 (dk_at dksX7_datum_1 9 rfl rfl)
theorem dX7_datum_34 : decode cX7_datum 34 = .ok (.goto 9, 3) := dk_167 0 9 (dk_at dksX7_datum_1 10 rfl rfl)
theorem dX7_datum_37 : decode cX7_datum 37 = .ok (.aload_n 0, 1) := dk_42 (dk_at dksX7_datum_1 13 rfl rfl)
theorem dX7_datum_38 : decode cX7_datum 38 = .ok (.getfield 53, 3) := dk_180 0 53 (dk_at dksX7_datum_1 14 rfl rfl)
theorem dX7_datum_41 : decode cX7_datum 41 = .ok (.iload_n 3, 1) := dk_29 (dk_at dksX7_datum_1 17 rfl rfl)
theorem dX7_datum_42 : decode cX7_datum 42 = .ok (.iaload, 1) := dk_46 (dk_at dksX7_datum_1 18 rfl rfl)
theorem dX7_datum_43 : decode cX7_datum 43 = .ok (.ireturn, 1) := dk_172 (dk_at dksX7_datum_1 19 rfl rfl)
abbrev cX7_check : ByteArray := prog_11_method_39_code
def yX7_check : MethodName := ⟨RX7, "check", "()I"⟩
theorem dX7_check_0 : decode cX7_check 0 = .ok (.iconst 1, 1) := by decide +kernel
theorem dX7_check_1 : decode cX7_check 1 = .ok (.ireturn, 1) := by decide +kernel
theorem q65 : (Jvm.Cond.initialized "LinkStationModel") ∈ lw_all := lw_g (lw_at lw_m1 18 rfl) rfl
theorem q559 : (Jvm.Cond.selects "LinkStationModel" ({ cls := "java/lang/Object", name := "getClass", desc := "()Ljava/lang/Class;" } : Jvm.MethodName) ({ cls := "java/lang/Object", name := "getClass", desc := "()Ljava/lang/Class;" } : Jvm.MethodName)) ∈ lw_all := lw_g (lw_at lw_m3 32 rfl) rfl
theorem q637 : (Jvm.Cond.selects "LinkStationModel" ({ cls := "java/lang/Object", name := "equals", desc := "(Ljava/lang/Object;)Z" } : Jvm.MethodName) ({ cls := "java/lang/Object", name := "equals", desc := "(Ljava/lang/Object;)Z" } : Jvm.MethodName)) ∈ lw_all := lw_g (lw_at lw_m3 110 rfl) rfl
theorem q709 : (Jvm.Cond.selects "LinkStationModel" ({ cls := "java/lang/Object", name := "hashCode", desc := "()I" } : Jvm.MethodName) ({ cls := "java/lang/Object", name := "hashCode", desc := "()I" } : Jvm.MethodName)) ∈ lw_all := lw_g (lw_at lw_m3 182 rfl) rfl
theorem q1558 : (Jvm.Cond.instantiable "LinkStationModel" (39 : Nat)) ∈ lw_all := lw_g (lw_at lw_m7 71 rfl) rfl
theorem q1560 : (Jvm.Cond.instanceMethod ({ cls := "LinkStationModel", name := "<init>", desc := "()V" } : Jvm.MethodName)) ∈ lw_all := lw_g (lw_at lw_m7 73 rfl) rfl
theorem q1561 : (Jvm.Cond.code ({ cls := "LinkStationModel", name := "<init>", desc := "()V" } : Jvm.MethodName) prog_11_method_1_code (1 : Nat) (Option.none : Option Jvm.ClassFile.FieldType)) ∈ lw_all := lw_g (lw_at lw_m7 74 rfl) rfl
theorem q1562 : (Jvm.Cond.methodLink "LinkStationModel" (1 : Nat) ({ cls := "java/lang/Object", name := "<init>", desc := "()V" } : Jvm.MethodName)) ∈ lw_all := lw_g (lw_at lw_m7 75 rfl) rfl
theorem q1563 : (Jvm.Cond.fieldLink "LinkStationModel" (90 : Nat) "LinkStationModel" "modules" "I") ∈ lw_all := lw_g (lw_at lw_m7 76 rfl) rfl
theorem q1564 : (Jvm.Cond.fieldLink "LinkStationModel" (7 : Nat) "LinkStationModel" "needs" "[I") ∈ lw_all := lw_g (lw_at lw_m7 77 rfl) rfl
theorem q1565 : (Jvm.Cond.fieldLink "LinkStationModel" (13 : Nat) "LinkStationModel" "needCount" "[I") ∈ lw_all := lw_g (lw_at lw_m7 78 rfl) rfl
theorem q1566 : (Jvm.Cond.fieldLink "LinkStationModel" (16 : Nat) "LinkStationModel" "defName" "[I") ∈ lw_all := lw_g (lw_at lw_m7 79 rfl) rfl
theorem q1567 : (Jvm.Cond.fieldLink "LinkStationModel" (19 : Nat) "LinkStationModel" "defKind" "[I") ∈ lw_all := lw_g (lw_at lw_m7 80 rfl) rfl
theorem q1568 : (Jvm.Cond.fieldLink "LinkStationModel" (22 : Nat) "LinkStationModel" "defValue" "[I") ∈ lw_all := lw_g (lw_at lw_m7 81 rfl) rfl
theorem q1569 : (Jvm.Cond.fieldLink "LinkStationModel" (25 : Nat) "LinkStationModel" "defHow" "[I") ∈ lw_all := lw_g (lw_at lw_m7 82 rfl) rfl
theorem q1570 : (Jvm.Cond.fieldLink "LinkStationModel" (28 : Nat) "LinkStationModel" "defCount" "[I") ∈ lw_all := lw_g (lw_at lw_m7 83 rfl) rfl
theorem q1571 : (Jvm.Cond.fieldLink "LinkStationModel" (31 : Nat) "LinkStationModel" "steps" "[I") ∈ lw_all := lw_g (lw_at lw_m7 84 rfl) rfl
theorem q1572 : (Jvm.Cond.fieldLink "LinkStationModel" (34 : Nat) "LinkStationModel" "stepCount" "[I") ∈ lw_all := lw_g (lw_at lw_m7 85 rfl) rfl
theorem q1573 : (Jvm.Cond.fieldLink "LinkStationModel" (37 : Nat) "LinkStationModel" "optional" "[Z") ∈ lw_all := lw_g (lw_at lw_m7 86 rfl) rfl
theorem q1574 : (Jvm.Cond.fieldLink "LinkStationModel" (41 : Nat) "LinkStationModel" "beginners" "[I") ∈ lw_all := lw_g (lw_at lw_m7 87 rfl) rfl
theorem q1575 : (Jvm.Cond.fieldLink "LinkStationModel" (97 : Nat) "LinkStationModel" "loaded" "Z") ∈ lw_all := lw_g (lw_at lw_m7 88 rfl) rfl
theorem q1576 : (Jvm.Cond.fieldLink "LinkStationModel" (139 : Nat) "LinkStationModel" "lazy" "Z") ∈ lw_all := lw_g (lw_at lw_m7 89 rfl) rfl
theorem q1577 : (Jvm.Cond.fieldLink "LinkStationModel" (129 : Nat) "LinkStationModel" "root" "I") ∈ lw_all := lw_g (lw_at lw_m7 90 rfl) rfl
theorem q1578 : (Jvm.Cond.fieldLink "LinkStationModel" (132 : Nat) "LinkStationModel" "many" "I") ∈ lw_all := lw_g (lw_at lw_m7 91 rfl) rfl
theorem q1579 : (Jvm.Cond.fieldLink "LinkStationModel" (44 : Nat) "LinkStationModel" "order" "[I") ∈ lw_all := lw_g (lw_at lw_m7 92 rfl) rfl
theorem q1580 : (Jvm.Cond.fieldLink "LinkStationModel" (47 : Nat) "LinkStationModel" "begun" "[I") ∈ lw_all := lw_g (lw_at lw_m7 93 rfl) rfl
theorem q1581 : (Jvm.Cond.fieldLink "LinkStationModel" (50 : Nat) "LinkStationModel" "slots" "[I") ∈ lw_all := lw_g (lw_at lw_m7 94 rfl) rfl
theorem q1582 : (Jvm.Cond.fieldLink "LinkStationModel" (53 : Nat) "LinkStationModel" "data" "[I") ∈ lw_all := lw_g (lw_at lw_m7 95 rfl) rfl
theorem q1583 : (Jvm.Cond.fieldLink "LinkStationModel" (118 : Nat) "LinkStationModel" "tried" "I") ∈ lw_all := lw_g (lw_at lw_m7 96 rfl) rfl
theorem q1584 : (Jvm.Cond.fieldLink "LinkStationModel" (56 : Nat) "LinkStationModel" "trial" "[I") ∈ lw_all := lw_g (lw_at lw_m7 97 rfl) rfl
theorem q1585 : (Jvm.Cond.fieldLink "LinkStationModel" (59 : Nat) "LinkStationModel" "met" "[Z") ∈ lw_all := lw_g (lw_at lw_m7 98 rfl) rfl
theorem q1586 : (Jvm.Cond.fieldLink "LinkStationModel" (62 : Nat) "LinkStationModel" "path" "[I") ∈ lw_all := lw_g (lw_at lw_m7 99 rfl) rfl
theorem q1587 : (Jvm.Cond.fieldLink "LinkStationModel" (65 : Nat) "LinkStationModel" "pathNext" "[I") ∈ lw_all := lw_g (lw_at lw_m7 100 rfl) rfl
theorem q1588 : (Jvm.Cond.fieldLink "LinkStationModel" (68 : Nat) "LinkStationModel" "faultModule" "I") ∈ lw_all := lw_g (lw_at lw_m7 101 rfl) rfl
theorem q1589 : (Jvm.Cond.fieldLink "LinkStationModel" (72 : Nat) "LinkStationModel" "faultStep" "I") ∈ lw_all := lw_g (lw_at lw_m7 102 rfl) rfl
theorem q1590 : (Jvm.Cond.fieldLink "LinkStationModel" (75 : Nat) "LinkStationModel" "faultName" "I") ∈ lw_all := lw_g (lw_at lw_m7 103 rfl) rfl
theorem q1591 : (Jvm.Cond.fieldLink "LinkStationModel" (78 : Nat) "LinkStationModel" "registers" "[I") ∈ lw_all := lw_g (lw_at lw_m7 104 rfl) rfl
theorem q1592 : (Jvm.Cond.fieldLink "LinkStationModel" (192 : Nat) "LinkStationModel" "made" "I") ∈ lw_all := lw_g (lw_at lw_m7 105 rfl) rfl
theorem q1593 : (Jvm.Cond.fieldLink "LinkStationModel" (189 : Nat) "LinkStationModel" "saidCount" "I") ∈ lw_all := lw_g (lw_at lw_m7 106 rfl) rfl
theorem q1594 : (Jvm.Cond.fieldLink "LinkStationModel" (174 : Nat) "LinkStationModel" "boundCount" "I") ∈ lw_all := lw_g (lw_at lw_m7 107 rfl) rfl
theorem q1595 : (Jvm.Cond.fieldLink "LinkStationModel" (171 : Nat) "LinkStationModel" "deepest" "I") ∈ lw_all := lw_g (lw_at lw_m7 108 rfl) rfl
theorem q1596 : (Jvm.Cond.fieldLink "LinkStationModel" (81 : Nat) "LinkStationModel" "words" "[I") ∈ lw_all := lw_g (lw_at lw_m7 109 rfl) rfl
theorem q1597 : (Jvm.Cond.fieldLink "LinkStationModel" (84 : Nat) "LinkStationModel" "backModule" "[I") ∈ lw_all := lw_g (lw_at lw_m7 110 rfl) rfl
theorem q1598 : (Jvm.Cond.fieldLink "LinkStationModel" (87 : Nat) "LinkStationModel" "backStep" "[I") ∈ lw_all := lw_g (lw_at lw_m7 111 rfl) rfl
theorem q1599 : (Jvm.Cond.fieldLink "LinkStationModel" (162 : Nat) "LinkStationModel" "deep" "I") ∈ lw_all := lw_g (lw_at lw_m7 112 rfl) rfl
theorem q1600 : (Jvm.Cond.fieldLink "LinkStationModel" (165 : Nat) "LinkStationModel" "nowModule" "I") ∈ lw_all := lw_g (lw_at lw_m7 113 rfl) rfl
theorem q1601 : (Jvm.Cond.fieldLink "LinkStationModel" (168 : Nat) "LinkStationModel" "nowStep" "I") ∈ lw_all := lw_g (lw_at lw_m7 114 rfl) rfl
theorem q1602 : (Jvm.Cond.lays "LinkStationModel" "LinkStationModel" "modules" "I") ∈ lw_all := lw_g (lw_at lw_m7 115 rfl) rfl
theorem q1603 : (Jvm.Cond.soleField "LinkStationModel" "modules") ∈ lw_all := lw_g (lw_at lw_m7 116 rfl) rfl
theorem q1604 : (Jvm.Cond.laysFinal "LinkStationModel" "LinkStationModel" "needs" "[I") ∈ lw_all := lw_g (lw_at lw_m7 117 rfl) rfl
theorem q1605 : (Jvm.Cond.soleField "LinkStationModel" "needs") ∈ lw_all := lw_g (lw_at lw_m7 118 rfl) rfl
theorem q1606 : (Jvm.Cond.laysFinal "LinkStationModel" "LinkStationModel" "needCount" "[I") ∈ lw_all := lw_g (lw_at lw_m7 119 rfl) rfl
theorem q1607 : (Jvm.Cond.soleField "LinkStationModel" "needCount") ∈ lw_all := lw_g (lw_at lw_m7 120 rfl) rfl
theorem q1608 : (Jvm.Cond.laysFinal "LinkStationModel" "LinkStationModel" "defName" "[I") ∈ lw_all := lw_g (lw_at lw_m7 121 rfl) rfl
theorem q1609 : (Jvm.Cond.soleField "LinkStationModel" "defName") ∈ lw_all := lw_g (lw_at lw_m7 122 rfl) rfl
theorem q1610 : (Jvm.Cond.laysFinal "LinkStationModel" "LinkStationModel" "defKind" "[I") ∈ lw_all := lw_g (lw_at lw_m7 123 rfl) rfl
theorem q1611 : (Jvm.Cond.soleField "LinkStationModel" "defKind") ∈ lw_all := lw_g (lw_at lw_m7 124 rfl) rfl
theorem q1612 : (Jvm.Cond.laysFinal "LinkStationModel" "LinkStationModel" "defValue" "[I") ∈ lw_all := lw_g (lw_at lw_m7 125 rfl) rfl
theorem q1613 : (Jvm.Cond.soleField "LinkStationModel" "defValue") ∈ lw_all := lw_g (lw_at lw_m7 126 rfl) rfl
theorem q1614 : (Jvm.Cond.laysFinal "LinkStationModel" "LinkStationModel" "defHow" "[I") ∈ lw_all := lw_g (lw_at lw_m7 127 rfl) rfl
theorem q1615 : (Jvm.Cond.soleField "LinkStationModel" "defHow") ∈ lw_all := lw_g (lw_at lw_m7 128 rfl) rfl
theorem q1616 : (Jvm.Cond.laysFinal "LinkStationModel" "LinkStationModel" "defCount" "[I") ∈ lw_all := lw_g (lw_at lw_m7 129 rfl) rfl
theorem q1617 : (Jvm.Cond.soleField "LinkStationModel" "defCount") ∈ lw_all := lw_g (lw_at lw_m7 130 rfl) rfl
theorem q1618 : (Jvm.Cond.laysFinal "LinkStationModel" "LinkStationModel" "steps" "[I") ∈ lw_all := lw_g (lw_at lw_m7 131 rfl) rfl
theorem q1619 : (Jvm.Cond.soleField "LinkStationModel" "steps") ∈ lw_all := lw_g (lw_at lw_m7 132 rfl) rfl
theorem q1620 : (Jvm.Cond.laysFinal "LinkStationModel" "LinkStationModel" "stepCount" "[I") ∈ lw_all := lw_g (lw_at lw_m7 133 rfl) rfl
theorem q1621 : (Jvm.Cond.soleField "LinkStationModel" "stepCount") ∈ lw_all := lw_g (lw_at lw_m7 134 rfl) rfl
theorem q1622 : (Jvm.Cond.laysFinal "LinkStationModel" "LinkStationModel" "optional" "[Z") ∈ lw_all := lw_g (lw_at lw_m7 135 rfl) rfl
theorem q1623 : (Jvm.Cond.soleField "LinkStationModel" "optional") ∈ lw_all := lw_g (lw_at lw_m7 136 rfl) rfl
theorem q1624 : (Jvm.Cond.laysFinal "LinkStationModel" "LinkStationModel" "beginners" "[I") ∈ lw_all := lw_g (lw_at lw_m7 137 rfl) rfl
theorem q1625 : (Jvm.Cond.soleField "LinkStationModel" "beginners") ∈ lw_all := lw_g (lw_at lw_m7 138 rfl) rfl
theorem q1626 : (Jvm.Cond.lays "LinkStationModel" "LinkStationModel" "loaded" "Z") ∈ lw_all := lw_g (lw_at lw_m7 139 rfl) rfl
theorem q1627 : (Jvm.Cond.soleField "LinkStationModel" "loaded") ∈ lw_all := lw_g (lw_at lw_m7 140 rfl) rfl
theorem q1628 : (Jvm.Cond.lays "LinkStationModel" "LinkStationModel" "lazy" "Z") ∈ lw_all := lw_g (lw_at lw_m7 141 rfl) rfl
theorem q1629 : (Jvm.Cond.soleField "LinkStationModel" "lazy") ∈ lw_all := lw_g (lw_at lw_m7 142 rfl) rfl
theorem q1630 : (Jvm.Cond.lays "LinkStationModel" "LinkStationModel" "root" "I") ∈ lw_all := lw_g (lw_at lw_m7 143 rfl) rfl
theorem q1631 : (Jvm.Cond.soleField "LinkStationModel" "root") ∈ lw_all := lw_g (lw_at lw_m7 144 rfl) rfl
theorem q1632 : (Jvm.Cond.lays "LinkStationModel" "LinkStationModel" "many" "I") ∈ lw_all := lw_g (lw_at lw_m7 145 rfl) rfl
theorem q1633 : (Jvm.Cond.soleField "LinkStationModel" "many") ∈ lw_all := lw_g (lw_at lw_m7 146 rfl) rfl
theorem q1634 : (Jvm.Cond.laysFinal "LinkStationModel" "LinkStationModel" "order" "[I") ∈ lw_all := lw_g (lw_at lw_m7 147 rfl) rfl
theorem q1635 : (Jvm.Cond.soleField "LinkStationModel" "order") ∈ lw_all := lw_g (lw_at lw_m7 148 rfl) rfl
theorem q1636 : (Jvm.Cond.laysFinal "LinkStationModel" "LinkStationModel" "begun" "[I") ∈ lw_all := lw_g (lw_at lw_m7 149 rfl) rfl
theorem q1637 : (Jvm.Cond.soleField "LinkStationModel" "begun") ∈ lw_all := lw_g (lw_at lw_m7 150 rfl) rfl
theorem q1638 : (Jvm.Cond.laysFinal "LinkStationModel" "LinkStationModel" "slots" "[I") ∈ lw_all := lw_g (lw_at lw_m7 151 rfl) rfl
theorem q1639 : (Jvm.Cond.soleField "LinkStationModel" "slots") ∈ lw_all := lw_g (lw_at lw_m7 152 rfl) rfl
theorem q1640 : (Jvm.Cond.laysFinal "LinkStationModel" "LinkStationModel" "data" "[I") ∈ lw_all := lw_g (lw_at lw_m7 153 rfl) rfl
theorem q1641 : (Jvm.Cond.soleField "LinkStationModel" "data") ∈ lw_all := lw_g (lw_at lw_m7 154 rfl) rfl
theorem q1642 : (Jvm.Cond.lays "LinkStationModel" "LinkStationModel" "tried" "I") ∈ lw_all := lw_g (lw_at lw_m7 155 rfl) rfl
theorem q1643 : (Jvm.Cond.soleField "LinkStationModel" "tried") ∈ lw_all := lw_g (lw_at lw_m7 156 rfl) rfl
theorem q1644 : (Jvm.Cond.laysFinal "LinkStationModel" "LinkStationModel" "trial" "[I") ∈ lw_all := lw_g (lw_at lw_m7 157 rfl) rfl
theorem q1645 : (Jvm.Cond.soleField "LinkStationModel" "trial") ∈ lw_all := lw_g (lw_at lw_m7 158 rfl) rfl
theorem q1646 : (Jvm.Cond.laysFinal "LinkStationModel" "LinkStationModel" "met" "[Z") ∈ lw_all := lw_g (lw_at lw_m7 159 rfl) rfl
theorem q1647 : (Jvm.Cond.soleField "LinkStationModel" "met") ∈ lw_all := lw_g (lw_at lw_m7 160 rfl) rfl
theorem q1648 : (Jvm.Cond.laysFinal "LinkStationModel" "LinkStationModel" "path" "[I") ∈ lw_all := lw_g (lw_at lw_m7 161 rfl) rfl
theorem q1649 : (Jvm.Cond.soleField "LinkStationModel" "path") ∈ lw_all := lw_g (lw_at lw_m7 162 rfl) rfl
theorem q1650 : (Jvm.Cond.laysFinal "LinkStationModel" "LinkStationModel" "pathNext" "[I") ∈ lw_all := lw_g (lw_at lw_m7 163 rfl) rfl
theorem q1651 : (Jvm.Cond.soleField "LinkStationModel" "pathNext") ∈ lw_all := lw_g (lw_at lw_m7 164 rfl) rfl
theorem q1652 : (Jvm.Cond.lays "LinkStationModel" "LinkStationModel" "faultModule" "I") ∈ lw_all := lw_g (lw_at lw_m7 165 rfl) rfl
theorem q1653 : (Jvm.Cond.soleField "LinkStationModel" "faultModule") ∈ lw_all := lw_g (lw_at lw_m7 166 rfl) rfl
theorem q1654 : (Jvm.Cond.lays "LinkStationModel" "LinkStationModel" "faultStep" "I") ∈ lw_all := lw_g (lw_at lw_m7 167 rfl) rfl
theorem q1655 : (Jvm.Cond.soleField "LinkStationModel" "faultStep") ∈ lw_all := lw_g (lw_at lw_m7 168 rfl) rfl
theorem q1656 : (Jvm.Cond.lays "LinkStationModel" "LinkStationModel" "faultName" "I") ∈ lw_all := lw_g (lw_at lw_m7 169 rfl) rfl
theorem q1657 : (Jvm.Cond.soleField "LinkStationModel" "faultName") ∈ lw_all := lw_g (lw_at lw_m7 170 rfl) rfl
theorem q1658 : (Jvm.Cond.laysFinal "LinkStationModel" "LinkStationModel" "registers" "[I") ∈ lw_all := lw_g (lw_at lw_m7 171 rfl) rfl
theorem q1659 : (Jvm.Cond.soleField "LinkStationModel" "registers") ∈ lw_all := lw_g (lw_at lw_m7 172 rfl) rfl
theorem q1660 : (Jvm.Cond.lays "LinkStationModel" "LinkStationModel" "made" "I") ∈ lw_all := lw_g (lw_at lw_m7 173 rfl) rfl
theorem q1661 : (Jvm.Cond.soleField "LinkStationModel" "made") ∈ lw_all := lw_g (lw_at lw_m7 174 rfl) rfl
theorem q1662 : (Jvm.Cond.lays "LinkStationModel" "LinkStationModel" "saidCount" "I") ∈ lw_all := lw_g (lw_at lw_m7 175 rfl) rfl
theorem q1663 : (Jvm.Cond.soleField "LinkStationModel" "saidCount") ∈ lw_all := lw_g (lw_at lw_m7 176 rfl) rfl
theorem q1664 : (Jvm.Cond.lays "LinkStationModel" "LinkStationModel" "boundCount" "I") ∈ lw_all := lw_g (lw_at lw_m7 177 rfl) rfl
theorem q1665 : (Jvm.Cond.soleField "LinkStationModel" "boundCount") ∈ lw_all := lw_g (lw_at lw_m7 178 rfl) rfl
theorem q1666 : (Jvm.Cond.lays "LinkStationModel" "LinkStationModel" "deepest" "I") ∈ lw_all := lw_g (lw_at lw_m7 179 rfl) rfl
theorem q1667 : (Jvm.Cond.soleField "LinkStationModel" "deepest") ∈ lw_all := lw_g (lw_at lw_m7 180 rfl) rfl
theorem q1668 : (Jvm.Cond.laysFinal "LinkStationModel" "LinkStationModel" "words" "[I") ∈ lw_all := lw_g (lw_at lw_m7 181 rfl) rfl
theorem q1669 : (Jvm.Cond.soleField "LinkStationModel" "words") ∈ lw_all := lw_g (lw_at lw_m7 182 rfl) rfl
theorem q1670 : (Jvm.Cond.laysFinal "LinkStationModel" "LinkStationModel" "backModule" "[I") ∈ lw_all := lw_g (lw_at lw_m7 183 rfl) rfl
theorem q1671 : (Jvm.Cond.soleField "LinkStationModel" "backModule") ∈ lw_all := lw_g (lw_at lw_m7 184 rfl) rfl
theorem q1672 : (Jvm.Cond.laysFinal "LinkStationModel" "LinkStationModel" "backStep" "[I") ∈ lw_all := lw_g (lw_at lw_m7 185 rfl) rfl
theorem q1673 : (Jvm.Cond.soleField "LinkStationModel" "backStep") ∈ lw_all := lw_g (lw_at lw_m7 186 rfl) rfl
theorem q1674 : (Jvm.Cond.lays "LinkStationModel" "LinkStationModel" "deep" "I") ∈ lw_all := lw_g (lw_at lw_m7 187 rfl) rfl
theorem q1675 : (Jvm.Cond.soleField "LinkStationModel" "deep") ∈ lw_all := lw_g (lw_at lw_m7 188 rfl) rfl
theorem q1676 : (Jvm.Cond.lays "LinkStationModel" "LinkStationModel" "nowModule" "I") ∈ lw_all := lw_g (lw_at lw_m7 189 rfl) rfl
theorem q1677 : (Jvm.Cond.soleField "LinkStationModel" "nowModule") ∈ lw_all := lw_g (lw_at lw_m7 190 rfl) rfl
theorem q1678 : (Jvm.Cond.lays "LinkStationModel" "LinkStationModel" "nowStep" "I") ∈ lw_all := lw_g (lw_at lw_m7 191 rfl) rfl
theorem q1679 : (Jvm.Cond.soleField "LinkStationModel" "nowStep") ∈ lw_all := lw_g (lw_at lw_m7 192 rfl) rfl
theorem q1680 : (Jvm.Cond.superclass "LinkStationModel" "java/lang/Object") ∈ lw_all := lw_g (lw_at lw_m7 193 rfl) rfl
theorem q1683 : (Jvm.Cond.instanceMethod ({ cls := "LinkStationModel", name := "module", desc := "()I" } : Jvm.MethodName)) ∈ lw_all := lw_g (lw_at lw_m7 196 rfl) rfl
theorem q1684 : (Jvm.Cond.selects "LinkStationModel" ({ cls := "LinkStationModel", name := "module", desc := "()I" } : Jvm.MethodName) ({ cls := "LinkStationModel", name := "module", desc := "()I" } : Jvm.MethodName)) ∈ lw_all := lw_g (lw_at lw_m7 197 rfl) rfl
theorem q1685 : (Jvm.Cond.code ({ cls := "LinkStationModel", name := "module", desc := "()I" } : Jvm.MethodName) prog_11_method_6_code (1 : Nat) (Option.some Jvm.ClassFile.FieldType.int)) ∈ lw_all := lw_g (lw_at lw_m7 198 rfl) rfl
theorem q1687 : (Jvm.Cond.instanceMethod ({ cls := "LinkStationModel", name := "need", desc := "(II)I" } : Jvm.MethodName)) ∈ lw_all := lw_g (lw_at lw_m7 200 rfl) rfl
theorem q1688 : (Jvm.Cond.selects "LinkStationModel" ({ cls := "LinkStationModel", name := "need", desc := "(II)I" } : Jvm.MethodName) ({ cls := "LinkStationModel", name := "need", desc := "(II)I" } : Jvm.MethodName)) ∈ lw_all := lw_g (lw_at lw_m7 201 rfl) rfl
theorem q1689 : (Jvm.Cond.code ({ cls := "LinkStationModel", name := "need", desc := "(II)I" } : Jvm.MethodName) prog_11_method_7_code (4 : Nat) (Option.some Jvm.ClassFile.FieldType.int)) ∈ lw_all := lw_g (lw_at lw_m7 202 rfl) rfl
theorem q1690 : (Jvm.Cond.methodLink "LinkStationModel" (93 : Nat) ({ cls := "LinkStationModel", name := "isModule", desc := "(I)Z" } : Jvm.MethodName)) ∈ lw_all := lw_g (lw_at lw_m7 203 rfl) rfl
theorem q1691 : (Jvm.Cond.privateMethod ({ cls := "LinkStationModel", name := "isModule", desc := "(I)Z" } : Jvm.MethodName)) ∈ lw_tbl := lw_at lw_m7 204 rfl
theorem q1692 : (Jvm.Cond.instanceMethod ({ cls := "LinkStationModel", name := "isModule", desc := "(I)Z" } : Jvm.MethodName)) ∈ lw_all := lw_g (lw_at lw_m7 205 rfl) rfl
theorem q1693 : (Jvm.Cond.code ({ cls := "LinkStationModel", name := "isModule", desc := "(I)Z" } : Jvm.MethodName) prog_11_method_2_code (2 : Nat) (Option.some Jvm.ClassFile.FieldType.boolean)) ∈ lw_all := lw_g (lw_at lw_m7 206 rfl) rfl
theorem q1695 : (Jvm.Cond.instanceMethod ({ cls := "LinkStationModel", name := "define", desc := "(IIIII)I" } : Jvm.MethodName)) ∈ lw_all := lw_g (lw_at lw_m7 208 rfl) rfl
theorem q1696 : (Jvm.Cond.selects "LinkStationModel" ({ cls := "LinkStationModel", name := "define", desc := "(IIIII)I" } : Jvm.MethodName) ({ cls := "LinkStationModel", name := "define", desc := "(IIIII)I" } : Jvm.MethodName)) ∈ lw_all := lw_g (lw_at lw_m7 209 rfl) rfl
theorem q1697 : (Jvm.Cond.code ({ cls := "LinkStationModel", name := "define", desc := "(IIIII)I" } : Jvm.MethodName) prog_11_method_9_code (7 : Nat) (Option.some Jvm.ClassFile.FieldType.int)) ∈ lw_all := lw_g (lw_at lw_m7 210 rfl) rfl
theorem q1698 : (Jvm.Cond.methodLink "LinkStationModel" (101 : Nat) ({ cls := "LinkStationModel", name := "isName", desc := "(I)Z" } : Jvm.MethodName)) ∈ lw_all := lw_g (lw_at lw_m7 211 rfl) rfl
theorem q1699 : (Jvm.Cond.static ({ cls := "LinkStationModel", name := "isName", desc := "(I)Z" } : Jvm.MethodName)) ∈ lw_all := lw_g (lw_at lw_m7 212 rfl) rfl
theorem q1700 : (Jvm.Cond.code ({ cls := "LinkStationModel", name := "isName", desc := "(I)Z" } : Jvm.MethodName) prog_11_method_3_code (1 : Nat) (Option.some Jvm.ClassFile.FieldType.boolean)) ∈ lw_all := lw_g (lw_at lw_m7 213 rfl) rfl
theorem q1701 : (Jvm.Cond.methodLink "LinkStationModel" (104 : Nat) ({ cls := "LinkStationModel", name := "isStep", desc := "(I)Z" } : Jvm.MethodName)) ∈ lw_all := lw_g (lw_at lw_m7 214 rfl) rfl
theorem q1702 : (Jvm.Cond.static ({ cls := "LinkStationModel", name := "isStep", desc := "(I)Z" } : Jvm.MethodName)) ∈ lw_all := lw_g (lw_at lw_m7 215 rfl) rfl
theorem q1703 : (Jvm.Cond.code ({ cls := "LinkStationModel", name := "isStep", desc := "(I)Z" } : Jvm.MethodName) prog_11_method_5_code (1 : Nat) (Option.some Jvm.ClassFile.FieldType.boolean)) ∈ lw_all := lw_g (lw_at lw_m7 216 rfl) rfl
theorem q1704 : (Jvm.Cond.methodLink "LinkStationModel" (107 : Nat) ({ cls := "LinkStationModel", name := "ofName", desc := "(II)I" } : Jvm.MethodName)) ∈ lw_all := lw_g (lw_at lw_m7 217 rfl) rfl
theorem q1705 : (Jvm.Cond.privateMethod ({ cls := "LinkStationModel", name := "ofName", desc := "(II)I" } : Jvm.MethodName)) ∈ lw_tbl := lw_at lw_m7 218 rfl
theorem q1706 : (Jvm.Cond.instanceMethod ({ cls := "LinkStationModel", name := "ofName", desc := "(II)I" } : Jvm.MethodName)) ∈ lw_all := lw_g (lw_at lw_m7 219 rfl) rfl
theorem q1707 : (Jvm.Cond.code ({ cls := "LinkStationModel", name := "ofName", desc := "(II)I" } : Jvm.MethodName) prog_11_method_8_code (4 : Nat) (Option.some Jvm.ClassFile.FieldType.int)) ∈ lw_all := lw_g (lw_at lw_m7 220 rfl) rfl
theorem q1709 : (Jvm.Cond.instanceMethod ({ cls := "LinkStationModel", name := "optional", desc := "(II)I" } : Jvm.MethodName)) ∈ lw_all := lw_g (lw_at lw_m7 222 rfl) rfl
theorem q1710 : (Jvm.Cond.selects "LinkStationModel" ({ cls := "LinkStationModel", name := "optional", desc := "(II)I" } : Jvm.MethodName) ({ cls := "LinkStationModel", name := "optional", desc := "(II)I" } : Jvm.MethodName)) ∈ lw_all := lw_g (lw_at lw_m7 223 rfl) rfl
theorem q1711 : (Jvm.Cond.code ({ cls := "LinkStationModel", name := "optional", desc := "(II)I" } : Jvm.MethodName) prog_11_method_10_code (3 : Nat) (Option.some Jvm.ClassFile.FieldType.int)) ∈ lw_all := lw_g (lw_at lw_m7 224 rfl) rfl
theorem q1713 : (Jvm.Cond.instanceMethod ({ cls := "LinkStationModel", name := "beginner", desc := "(II)I" } : Jvm.MethodName)) ∈ lw_all := lw_g (lw_at lw_m7 226 rfl) rfl
theorem q1714 : (Jvm.Cond.selects "LinkStationModel" ({ cls := "LinkStationModel", name := "beginner", desc := "(II)I" } : Jvm.MethodName) ({ cls := "LinkStationModel", name := "beginner", desc := "(II)I" } : Jvm.MethodName)) ∈ lw_all := lw_g (lw_at lw_m7 227 rfl) rfl
theorem q1715 : (Jvm.Cond.code ({ cls := "LinkStationModel", name := "beginner", desc := "(II)I" } : Jvm.MethodName) prog_11_method_11_code (3 : Nat) (Option.some Jvm.ClassFile.FieldType.int)) ∈ lw_all := lw_g (lw_at lw_m7 228 rfl) rfl
theorem q1717 : (Jvm.Cond.instanceMethod ({ cls := "LinkStationModel", name := "put", desc := "(IIIII)I" } : Jvm.MethodName)) ∈ lw_all := lw_g (lw_at lw_m7 230 rfl) rfl
theorem q1718 : (Jvm.Cond.selects "LinkStationModel" ({ cls := "LinkStationModel", name := "put", desc := "(IIIII)I" } : Jvm.MethodName) ({ cls := "LinkStationModel", name := "put", desc := "(IIIII)I" } : Jvm.MethodName)) ∈ lw_all := lw_g (lw_at lw_m7 231 rfl) rfl
theorem q1719 : (Jvm.Cond.code ({ cls := "LinkStationModel", name := "put", desc := "(IIIII)I" } : Jvm.MethodName) prog_11_method_13_code (7 : Nat) (Option.some Jvm.ClassFile.FieldType.int)) ∈ lw_all := lw_g (lw_at lw_m7 232 rfl) rfl
theorem q1720 : (Jvm.Cond.methodLink "LinkStationModel" (114 : Nat) ({ cls := "LinkStationModel", name := "isGood", desc := "(IIII)Z" } : Jvm.MethodName)) ∈ lw_all := lw_g (lw_at lw_m7 233 rfl) rfl
theorem q1721 : (Jvm.Cond.static ({ cls := "LinkStationModel", name := "isGood", desc := "(IIII)Z" } : Jvm.MethodName)) ∈ lw_all := lw_g (lw_at lw_m7 234 rfl) rfl
theorem q1722 : (Jvm.Cond.code ({ cls := "LinkStationModel", name := "isGood", desc := "(IIII)Z" } : Jvm.MethodName) prog_11_method_12_code (4 : Nat) (Option.some Jvm.ClassFile.FieldType.boolean)) ∈ lw_all := lw_g (lw_at lw_m7 235 rfl) rfl
theorem q1723 : (Jvm.Cond.methodLink "LinkStationModel" (111 : Nat) ({ cls := "LinkStationModel", name := "isRegister", desc := "(I)Z" } : Jvm.MethodName)) ∈ lw_all := lw_g (lw_at lw_m7 236 rfl) rfl
theorem q1724 : (Jvm.Cond.static ({ cls := "LinkStationModel", name := "isRegister", desc := "(I)Z" } : Jvm.MethodName)) ∈ lw_all := lw_g (lw_at lw_m7 237 rfl) rfl
theorem q1725 : (Jvm.Cond.code ({ cls := "LinkStationModel", name := "isRegister", desc := "(I)Z" } : Jvm.MethodName) prog_11_method_4_code (1 : Nat) (Option.some Jvm.ClassFile.FieldType.boolean)) ∈ lw_all := lw_g (lw_at lw_m7 238 rfl) rfl
theorem q1727 : (Jvm.Cond.instanceMethod ({ cls := "LinkStationModel", name := "load", desc := "(II)I" } : Jvm.MethodName)) ∈ lw_all := lw_g (lw_at lw_m8 0 rfl) rfl
theorem q1728 : (Jvm.Cond.selects "LinkStationModel" ({ cls := "LinkStationModel", name := "load", desc := "(II)I" } : Jvm.MethodName) ({ cls := "LinkStationModel", name := "load", desc := "(II)I" } : Jvm.MethodName)) ∈ lw_all := lw_g (lw_at lw_m8 1 rfl) rfl
theorem q1729 : (Jvm.Cond.code ({ cls := "LinkStationModel", name := "load", desc := "(II)I" } : Jvm.MethodName) prog_11_method_22_code (5 : Nat) (Option.some Jvm.ClassFile.FieldType.int)) ∈ lw_all := lw_g (lw_at lw_m8 2 rfl) rfl
theorem q1730 : (Jvm.Cond.methodLink "LinkStationModel" (146 : Nat) ({ cls := "LinkStationModel", name := "findOrder", desc := "(I)V" } : Jvm.MethodName)) ∈ lw_all := lw_g (lw_at lw_m8 3 rfl) rfl
theorem q1731 : (Jvm.Cond.privateMethod ({ cls := "LinkStationModel", name := "findOrder", desc := "(I)V" } : Jvm.MethodName)) ∈ lw_tbl := lw_at lw_m8 4 rfl
theorem q1732 : (Jvm.Cond.instanceMethod ({ cls := "LinkStationModel", name := "findOrder", desc := "(I)V" } : Jvm.MethodName)) ∈ lw_all := lw_g (lw_at lw_m8 5 rfl) rfl
theorem q1733 : (Jvm.Cond.code ({ cls := "LinkStationModel", name := "findOrder", desc := "(I)V" } : Jvm.MethodName) prog_11_method_15_code (6 : Nat) (Option.none : Option Jvm.ClassFile.FieldType)) ∈ lw_all := lw_g (lw_at lw_m8 6 rfl) rfl
theorem q1734 : (Jvm.Cond.methodLink "LinkStationModel" (150 : Nat) ({ cls := "LinkStationModel", name := "lookAt", desc := "(I)I" } : Jvm.MethodName)) ∈ lw_all := lw_g (lw_at lw_m8 7 rfl) rfl
theorem q1735 : (Jvm.Cond.privateMethod ({ cls := "LinkStationModel", name := "lookAt", desc := "(I)I" } : Jvm.MethodName)) ∈ lw_tbl := lw_at lw_m8 8 rfl
theorem q1736 : (Jvm.Cond.instanceMethod ({ cls := "LinkStationModel", name := "lookAt", desc := "(I)I" } : Jvm.MethodName)) ∈ lw_all := lw_g (lw_at lw_m8 9 rfl) rfl
theorem q1737 : (Jvm.Cond.code ({ cls := "LinkStationModel", name := "lookAt", desc := "(I)I" } : Jvm.MethodName) prog_11_method_17_code (6 : Nat) (Option.some Jvm.ClassFile.FieldType.int)) ∈ lw_all := lw_g (lw_at lw_m8 10 rfl) rfl
theorem q1738 : (Jvm.Cond.methodLink "LinkStationModel" (125 : Nat) ({ cls := "LinkStationModel", name := "look", desc := "(IIIZ)I" } : Jvm.MethodName)) ∈ lw_all := lw_g (lw_at lw_m8 11 rfl) rfl
theorem q1739 : (Jvm.Cond.privateMethod ({ cls := "LinkStationModel", name := "look", desc := "(IIIZ)I" } : Jvm.MethodName)) ∈ lw_tbl := lw_at lw_m8 12 rfl
theorem q1740 : (Jvm.Cond.instanceMethod ({ cls := "LinkStationModel", name := "look", desc := "(IIIZ)I" } : Jvm.MethodName)) ∈ lw_all := lw_g (lw_at lw_m8 13 rfl) rfl
theorem q1741 : (Jvm.Cond.code ({ cls := "LinkStationModel", name := "look", desc := "(IIIZ)I" } : Jvm.MethodName) prog_11_method_16_code (7 : Nat) (Option.some Jvm.ClassFile.FieldType.int)) ∈ lw_all := lw_g (lw_at lw_m8 14 rfl) rfl
theorem q1742 : (Jvm.Cond.methodLink "LinkStationModel" (121 : Nat) ({ cls := "LinkStationModel", name := "find", desc := "([IIII)I" } : Jvm.MethodName)) ∈ lw_all := lw_g (lw_at lw_m8 15 rfl) rfl
theorem q1743 : (Jvm.Cond.privateMethod ({ cls := "LinkStationModel", name := "find", desc := "([IIII)I" } : Jvm.MethodName)) ∈ lw_tbl := lw_at lw_m8 16 rfl
theorem q1744 : (Jvm.Cond.instanceMethod ({ cls := "LinkStationModel", name := "find", desc := "([IIII)I" } : Jvm.MethodName)) ∈ lw_all := lw_g (lw_at lw_m8 17 rfl) rfl
theorem q1745 : (Jvm.Cond.code ({ cls := "LinkStationModel", name := "find", desc := "([IIII)I" } : Jvm.MethodName) prog_11_method_14_code (9 : Nat) (Option.some Jvm.ClassFile.FieldType.int)) ∈ lw_all := lw_g (lw_at lw_m8 18 rfl) rfl
theorem q1746 : (Jvm.Cond.methodLink "LinkStationModel" (153 : Nat) ({ cls := "LinkStationModel", name := "findBegun", desc := "()V" } : Jvm.MethodName)) ∈ lw_all := lw_g (lw_at lw_m8 19 rfl) rfl
theorem q1747 : (Jvm.Cond.privateMethod ({ cls := "LinkStationModel", name := "findBegun", desc := "()V" } : Jvm.MethodName)) ∈ lw_tbl := lw_at lw_m8 20 rfl
theorem q1748 : (Jvm.Cond.instanceMethod ({ cls := "LinkStationModel", name := "findBegun", desc := "()V" } : Jvm.MethodName)) ∈ lw_all := lw_g (lw_at lw_m8 21 rfl) rfl
theorem q1749 : (Jvm.Cond.code ({ cls := "LinkStationModel", name := "findBegun", desc := "()V" } : Jvm.MethodName) prog_11_method_18_code (6 : Nat) (Option.none : Option Jvm.ClassFile.FieldType)) ∈ lw_all := lw_g (lw_at lw_m8 22 rfl) rfl
theorem q1750 : (Jvm.Cond.methodLink "LinkStationModel" (156 : Nat) ({ cls := "LinkStationModel", name := "setAll", desc := "()V" } : Jvm.MethodName)) ∈ lw_all := lw_g (lw_at lw_m8 23 rfl) rfl
theorem q1751 : (Jvm.Cond.privateMethod ({ cls := "LinkStationModel", name := "setAll", desc := "()V" } : Jvm.MethodName)) ∈ lw_tbl := lw_at lw_m8 24 rfl
theorem q1752 : (Jvm.Cond.instanceMethod ({ cls := "LinkStationModel", name := "setAll", desc := "()V" } : Jvm.MethodName)) ∈ lw_all := lw_g (lw_at lw_m8 25 rfl) rfl
theorem q1753 : (Jvm.Cond.code ({ cls := "LinkStationModel", name := "setAll", desc := "()V" } : Jvm.MethodName) prog_11_method_21_code (4 : Nat) (Option.none : Option Jvm.ClassFile.FieldType)) ∈ lw_all := lw_g (lw_at lw_m8 26 rfl) rfl
theorem q1754 : (Jvm.Cond.methodLink "LinkStationModel" (135 : Nat) ({ cls := "LinkStationModel", name := "usesCall", desc := "(II)Z" } : Jvm.MethodName)) ∈ lw_all := lw_g (lw_at lw_m8 27 rfl) rfl
theorem q1755 : (Jvm.Cond.privateMethod ({ cls := "LinkStationModel", name := "usesCall", desc := "(II)Z" } : Jvm.MethodName)) ∈ lw_tbl := lw_at lw_m8 28 rfl
theorem q1756 : (Jvm.Cond.instanceMethod ({ cls := "LinkStationModel", name := "usesCall", desc := "(II)Z" } : Jvm.MethodName)) ∈ lw_all := lw_g (lw_at lw_m8 29 rfl) rfl
theorem q1757 : (Jvm.Cond.code ({ cls := "LinkStationModel", name := "usesCall", desc := "(II)Z" } : Jvm.MethodName) prog_11_method_19_code (6 : Nat) (Option.some Jvm.ClassFile.FieldType.boolean)) ∈ lw_all := lw_g (lw_at lw_m8 30 rfl) rfl
theorem q1758 : (Jvm.Cond.methodLink "LinkStationModel" (142 : Nat) ({ cls := "LinkStationModel", name := "moduleOf", desc := "(I)I" } : Jvm.MethodName)) ∈ lw_all := lw_g (lw_at lw_m8 31 rfl) rfl
theorem q1759 : (Jvm.Cond.privateMethod ({ cls := "LinkStationModel", name := "moduleOf", desc := "(I)I" } : Jvm.MethodName)) ∈ lw_tbl := lw_at lw_m8 32 rfl
theorem q1760 : (Jvm.Cond.instanceMethod ({ cls := "LinkStationModel", name := "moduleOf", desc := "(I)I" } : Jvm.MethodName)) ∈ lw_all := lw_g (lw_at lw_m8 33 rfl) rfl
theorem q1761 : (Jvm.Cond.code ({ cls := "LinkStationModel", name := "moduleOf", desc := "(I)I" } : Jvm.MethodName) prog_11_method_20_code (2 : Nat) (Option.some Jvm.ClassFile.FieldType.int)) ∈ lw_all := lw_g (lw_at lw_m8 34 rfl) rfl
theorem q1763 : (Jvm.Cond.instanceMethod ({ cls := "LinkStationModel", name := "fault", desc := "(I)I" } : Jvm.MethodName)) ∈ lw_all := lw_g (lw_at lw_m8 36 rfl) rfl
theorem q1764 : (Jvm.Cond.selects "LinkStationModel" ({ cls := "LinkStationModel", name := "fault", desc := "(I)I" } : Jvm.MethodName) ({ cls := "LinkStationModel", name := "fault", desc := "(I)I" } : Jvm.MethodName)) ∈ lw_all := lw_g (lw_at lw_m8 37 rfl) rfl
theorem q1765 : (Jvm.Cond.code ({ cls := "LinkStationModel", name := "fault", desc := "(I)I" } : Jvm.MethodName) prog_11_method_23_code (2 : Nat) (Option.some Jvm.ClassFile.FieldType.int)) ∈ lw_all := lw_g (lw_at lw_m8 38 rfl) rfl
theorem q1767 : (Jvm.Cond.instanceMethod ({ cls := "LinkStationModel", name := "order", desc := "(II)I" } : Jvm.MethodName)) ∈ lw_all := lw_g (lw_at lw_m8 40 rfl) rfl
theorem q1768 : (Jvm.Cond.selects "LinkStationModel" ({ cls := "LinkStationModel", name := "order", desc := "(II)I" } : Jvm.MethodName) ({ cls := "LinkStationModel", name := "order", desc := "(II)I" } : Jvm.MethodName)) ∈ lw_all := lw_g (lw_at lw_m8 41 rfl) rfl
theorem q1769 : (Jvm.Cond.code ({ cls := "LinkStationModel", name := "order", desc := "(II)I" } : Jvm.MethodName) prog_11_method_24_code (3 : Nat) (Option.some Jvm.ClassFile.FieldType.int)) ∈ lw_all := lw_g (lw_at lw_m8 42 rfl) rfl
theorem q1771 : (Jvm.Cond.instanceMethod ({ cls := "LinkStationModel", name := "comes", desc := "(II)I" } : Jvm.MethodName)) ∈ lw_all := lw_g (lw_at lw_m8 44 rfl) rfl
theorem q1772 : (Jvm.Cond.selects "LinkStationModel" ({ cls := "LinkStationModel", name := "comes", desc := "(II)I" } : Jvm.MethodName) ({ cls := "LinkStationModel", name := "comes", desc := "(II)I" } : Jvm.MethodName)) ∈ lw_all := lw_g (lw_at lw_m8 45 rfl) rfl
theorem q1773 : (Jvm.Cond.code ({ cls := "LinkStationModel", name := "comes", desc := "(II)I" } : Jvm.MethodName) prog_11_method_26_code (3 : Nat) (Option.some Jvm.ClassFile.FieldType.int)) ∈ lw_all := lw_g (lw_at lw_m8 46 rfl) rfl
theorem q1774 : (Jvm.Cond.methodLink "LinkStationModel" (159 : Nat) ({ cls := "LinkStationModel", name := "placeOf", desc := "(I)I" } : Jvm.MethodName)) ∈ lw_all := lw_g (lw_at lw_m8 47 rfl) rfl
theorem q1775 : (Jvm.Cond.privateMethod ({ cls := "LinkStationModel", name := "placeOf", desc := "(I)I" } : Jvm.MethodName)) ∈ lw_tbl := lw_at lw_m8 48 rfl
theorem q1776 : (Jvm.Cond.instanceMethod ({ cls := "LinkStationModel", name := "placeOf", desc := "(I)I" } : Jvm.MethodName)) ∈ lw_all := lw_g (lw_at lw_m8 49 rfl) rfl
theorem q1777 : (Jvm.Cond.code ({ cls := "LinkStationModel", name := "placeOf", desc := "(I)I" } : Jvm.MethodName) prog_11_method_25_code (3 : Nat) (Option.some Jvm.ClassFile.FieldType.int)) ∈ lw_all := lw_g (lw_at lw_m8 50 rfl) rfl
theorem q1779 : (Jvm.Cond.instanceMethod ({ cls := "LinkStationModel", name := "bound", desc := "(II)I" } : Jvm.MethodName)) ∈ lw_all := lw_g (lw_at lw_m8 52 rfl) rfl
theorem q1780 : (Jvm.Cond.selects "LinkStationModel" ({ cls := "LinkStationModel", name := "bound", desc := "(II)I" } : Jvm.MethodName) ({ cls := "LinkStationModel", name := "bound", desc := "(II)I" } : Jvm.MethodName)) ∈ lw_all := lw_g (lw_at lw_m8 53 rfl) rfl
theorem q1781 : (Jvm.Cond.code ({ cls := "LinkStationModel", name := "bound", desc := "(II)I" } : Jvm.MethodName) prog_11_method_27_code (3 : Nat) (Option.some Jvm.ClassFile.FieldType.int)) ∈ lw_all := lw_g (lw_at lw_m8 54 rfl) rfl
theorem q1783 : (Jvm.Cond.instanceMethod ({ cls := "LinkStationModel", name := "run", desc := "(II)I" } : Jvm.MethodName)) ∈ lw_all := lw_g (lw_at lw_m8 56 rfl) rfl
theorem q1784 : (Jvm.Cond.selects "LinkStationModel" ({ cls := "LinkStationModel", name := "run", desc := "(II)I" } : Jvm.MethodName) ({ cls := "LinkStationModel", name := "run", desc := "(II)I" } : Jvm.MethodName)) ∈ lw_all := lw_g (lw_at lw_m8 57 rfl) rfl
theorem q1785 : (Jvm.Cond.code ({ cls := "LinkStationModel", name := "run", desc := "(II)I" } : Jvm.MethodName) prog_11_method_34_code (8 : Nat) (Option.some Jvm.ClassFile.FieldType.int)) ∈ lw_all := lw_g (lw_at lw_m8 58 rfl) rfl
theorem q1786 : (Jvm.Cond.methodLink "LinkStationModel" (199 : Nat) ({ cls := "LinkStationModel", name := "go", desc := "(II)I" } : Jvm.MethodName)) ∈ lw_all := lw_g (lw_at lw_m8 59 rfl) rfl
theorem q1787 : (Jvm.Cond.privateMethod ({ cls := "LinkStationModel", name := "go", desc := "(II)I" } : Jvm.MethodName)) ∈ lw_tbl := lw_at lw_m8 60 rfl
theorem q1788 : (Jvm.Cond.instanceMethod ({ cls := "LinkStationModel", name := "go", desc := "(II)I" } : Jvm.MethodName)) ∈ lw_all := lw_g (lw_at lw_m8 61 rfl) rfl
theorem q1789 : (Jvm.Cond.code ({ cls := "LinkStationModel", name := "go", desc := "(II)I" } : Jvm.MethodName) prog_11_method_33_code (4 : Nat) (Option.some Jvm.ClassFile.FieldType.int)) ∈ lw_all := lw_g (lw_at lw_m8 62 rfl) rfl
theorem q1790 : (Jvm.Cond.methodLink "LinkStationModel" (177 : Nat) ({ cls := "LinkStationModel", name := "call", desc := "(I)I" } : Jvm.MethodName)) ∈ lw_all := lw_g (lw_at lw_m8 63 rfl) rfl
theorem q1791 : (Jvm.Cond.privateMethod ({ cls := "LinkStationModel", name := "call", desc := "(I)I" } : Jvm.MethodName)) ∈ lw_tbl := lw_at lw_m8 64 rfl
theorem q1792 : (Jvm.Cond.instanceMethod ({ cls := "LinkStationModel", name := "call", desc := "(I)I" } : Jvm.MethodName)) ∈ lw_all := lw_g (lw_at lw_m8 65 rfl) rfl
theorem q1793 : (Jvm.Cond.code ({ cls := "LinkStationModel", name := "call", desc := "(I)I" } : Jvm.MethodName) prog_11_method_28_code (2 : Nat) (Option.some Jvm.ClassFile.FieldType.int)) ∈ lw_all := lw_g (lw_at lw_m8 66 rfl) rfl
theorem q1794 : (Jvm.Cond.methodLink "LinkStationModel" (195 : Nat) ({ cls := "LinkStationModel", name := "make", desc := "()I" } : Jvm.MethodName)) ∈ lw_all := lw_g (lw_at lw_m8 67 rfl) rfl
theorem q1795 : (Jvm.Cond.privateMethod ({ cls := "LinkStationModel", name := "make", desc := "()I" } : Jvm.MethodName)) ∈ lw_tbl := lw_at lw_m8 68 rfl
theorem q1796 : (Jvm.Cond.instanceMethod ({ cls := "LinkStationModel", name := "make", desc := "()I" } : Jvm.MethodName)) ∈ lw_all := lw_g (lw_at lw_m8 69 rfl) rfl
theorem q1797 : (Jvm.Cond.code ({ cls := "LinkStationModel", name := "make", desc := "()I" } : Jvm.MethodName) prog_11_method_32_code (7 : Nat) (Option.some Jvm.ClassFile.FieldType.int)) ∈ lw_all := lw_g (lw_at lw_m8 70 rfl) rfl
theorem q1798 : (Jvm.Cond.methodLink "LinkStationModel" (180 : Nat) ({ cls := "LinkStationModel", name := "callName", desc := "(I)I" } : Jvm.MethodName)) ∈ lw_all := lw_g (lw_at lw_m8 71 rfl) rfl
theorem q1799 : (Jvm.Cond.privateMethod ({ cls := "LinkStationModel", name := "callName", desc := "(I)I" } : Jvm.MethodName)) ∈ lw_tbl := lw_at lw_m8 72 rfl
theorem q1800 : (Jvm.Cond.instanceMethod ({ cls := "LinkStationModel", name := "callName", desc := "(I)I" } : Jvm.MethodName)) ∈ lw_all := lw_g (lw_at lw_m8 73 rfl) rfl
theorem q1801 : (Jvm.Cond.code ({ cls := "LinkStationModel", name := "callName", desc := "(I)I" } : Jvm.MethodName) prog_11_method_31_code (4 : Nat) (Option.some Jvm.ClassFile.FieldType.int)) ∈ lw_all := lw_g (lw_at lw_m8 74 rfl) rfl
theorem q1802 : (Jvm.Cond.methodLink "LinkStationModel" (183 : Nat) ({ cls := "LinkStationModel", name := "addressOf", desc := "(I)I" } : Jvm.MethodName)) ∈ lw_all := lw_g (lw_at lw_m8 75 rfl) rfl
theorem q1803 : (Jvm.Cond.privateMethod ({ cls := "LinkStationModel", name := "addressOf", desc := "(I)I" } : Jvm.MethodName)) ∈ lw_tbl := lw_at lw_m8 76 rfl
theorem q1804 : (Jvm.Cond.instanceMethod ({ cls := "LinkStationModel", name := "addressOf", desc := "(I)I" } : Jvm.MethodName)) ∈ lw_all := lw_g (lw_at lw_m8 77 rfl) rfl
theorem q1805 : (Jvm.Cond.code ({ cls := "LinkStationModel", name := "addressOf", desc := "(I)I" } : Jvm.MethodName) prog_11_method_30_code (2 : Nat) (Option.some Jvm.ClassFile.FieldType.int)) ∈ lw_all := lw_g (lw_at lw_m8 78 rfl) rfl
theorem q1806 : (Jvm.Cond.methodLink "LinkStationModel" (186 : Nat) ({ cls := "LinkStationModel", name := "atAddress", desc := "(I)I" } : Jvm.MethodName)) ∈ lw_all := lw_g (lw_at lw_m8 79 rfl) rfl
theorem q1807 : (Jvm.Cond.privateMethod ({ cls := "LinkStationModel", name := "atAddress", desc := "(I)I" } : Jvm.MethodName)) ∈ lw_tbl := lw_at lw_m8 80 rfl
theorem q1808 : (Jvm.Cond.instanceMethod ({ cls := "LinkStationModel", name := "atAddress", desc := "(I)I" } : Jvm.MethodName)) ∈ lw_all := lw_g (lw_at lw_m8 81 rfl) rfl
theorem q1809 : (Jvm.Cond.code ({ cls := "LinkStationModel", name := "atAddress", desc := "(I)I" } : Jvm.MethodName) prog_11_method_29_code (6 : Nat) (Option.some Jvm.ClassFile.FieldType.int)) ∈ lw_all := lw_g (lw_at lw_m8 82 rfl) rfl
theorem q1811 : (Jvm.Cond.instanceMethod ({ cls := "LinkStationModel", name := "count", desc := "(I)I" } : Jvm.MethodName)) ∈ lw_all := lw_g (lw_at lw_m8 84 rfl) rfl
theorem q1812 : (Jvm.Cond.selects "LinkStationModel" ({ cls := "LinkStationModel", name := "count", desc := "(I)I" } : Jvm.MethodName) ({ cls := "LinkStationModel", name := "count", desc := "(I)I" } : Jvm.MethodName)) ∈ lw_all := lw_g (lw_at lw_m8 85 rfl) rfl
theorem q1813 : (Jvm.Cond.code ({ cls := "LinkStationModel", name := "count", desc := "(I)I" } : Jvm.MethodName) prog_11_method_35_code (2 : Nat) (Option.some Jvm.ClassFile.FieldType.int)) ∈ lw_all := lw_g (lw_at lw_m8 86 rfl) rfl
theorem q1815 : (Jvm.Cond.instanceMethod ({ cls := "LinkStationModel", name := "said", desc := "(I)I" } : Jvm.MethodName)) ∈ lw_all := lw_g (lw_at lw_m8 88 rfl) rfl
theorem q1816 : (Jvm.Cond.selects "LinkStationModel" ({ cls := "LinkStationModel", name := "said", desc := "(I)I" } : Jvm.MethodName) ({ cls := "LinkStationModel", name := "said", desc := "(I)I" } : Jvm.MethodName)) ∈ lw_all := lw_g (lw_at lw_m8 89 rfl) rfl
theorem q1817 : (Jvm.Cond.code ({ cls := "LinkStationModel", name := "said", desc := "(I)I" } : Jvm.MethodName) prog_11_method_36_code (2 : Nat) (Option.some Jvm.ClassFile.FieldType.int)) ∈ lw_all := lw_g (lw_at lw_m8 90 rfl) rfl
theorem q1819 : (Jvm.Cond.instanceMethod ({ cls := "LinkStationModel", name := "register", desc := "(I)I" } : Jvm.MethodName)) ∈ lw_all := lw_g (lw_at lw_m8 92 rfl) rfl
theorem q1820 : (Jvm.Cond.selects "LinkStationModel" ({ cls := "LinkStationModel", name := "register", desc := "(I)I" } : Jvm.MethodName) ({ cls := "LinkStationModel", name := "register", desc := "(I)I" } : Jvm.MethodName)) ∈ lw_all := lw_g (lw_at lw_m8 93 rfl) rfl
theorem q1821 : (Jvm.Cond.code ({ cls := "LinkStationModel", name := "register", desc := "(I)I" } : Jvm.MethodName) prog_11_method_37_code (2 : Nat) (Option.some Jvm.ClassFile.FieldType.int)) ∈ lw_all := lw_g (lw_at lw_m8 94 rfl) rfl
theorem q1823 : (Jvm.Cond.instanceMethod ({ cls := "LinkStationModel", name := "datum", desc := "(II)I" } : Jvm.MethodName)) ∈ lw_all := lw_g (lw_at lw_m8 96 rfl) rfl
theorem q1824 : (Jvm.Cond.selects "LinkStationModel" ({ cls := "LinkStationModel", name := "datum", desc := "(II)I" } : Jvm.MethodName) ({ cls := "LinkStationModel", name := "datum", desc := "(II)I" } : Jvm.MethodName)) ∈ lw_all := lw_g (lw_at lw_m8 97 rfl) rfl
theorem q1825 : (Jvm.Cond.code ({ cls := "LinkStationModel", name := "datum", desc := "(II)I" } : Jvm.MethodName) prog_11_method_38_code (4 : Nat) (Option.some Jvm.ClassFile.FieldType.int)) ∈ lw_all := lw_g (lw_at lw_m8 98 rfl) rfl
theorem q1827 : (Jvm.Cond.instanceMethod ({ cls := "LinkStationModel", name := "check", desc := "()I" } : Jvm.MethodName)) ∈ lw_all := lw_g (lw_at lw_m8 100 rfl) rfl
theorem q1828 : (Jvm.Cond.selects "LinkStationModel" ({ cls := "LinkStationModel", name := "check", desc := "()I" } : Jvm.MethodName) ({ cls := "LinkStationModel", name := "check", desc := "()I" } : Jvm.MethodName)) ∈ lw_all := lw_g (lw_at lw_m8 101 rfl) rfl
theorem q1829 : (Jvm.Cond.code ({ cls := "LinkStationModel", name := "check", desc := "()I" } : Jvm.MethodName) prog_11_method_39_code (1 : Nat) (Option.some Jvm.ClassFile.FieldType.int)) ∈ lw_all := lw_g (lw_at lw_m8 102 rfl) rfl
theorem q1845 : (Jvm.Cond.castable "LinkStationModel" "java/lang/Object") ∈ lw_tbl := lw_at lw_m8 118 rfl
theorem in_X7 : ∀ w ∈ wsX70, w ∈ lw_all := lw_in wsX70 [1602, 1604, 1606, 1608, 1610, 1612, 1614, 1616, 1618, 1620, 1622, 1624, 1626, 1628, 1630, 1632, 1634, 1636, 1638, 1640, 1642, 1644, 1646, 1648, 1650, 1652, 1654, 1656, 1658, 1660, 1662, 1664, 1666, 1668, 1670, 1672, 1674, 1676, 1678] (by decide +kernel) (by decide +kernel)
/-! LinkStation$Module -/
set_option maxRecDepth 100000
def RX8 : String := "LinkStation$Module"
def TX8 : u_T := fun k => match k with
  | 0 => ("LinkStation$Module", "number", "I", true)
  | 1 => ("LinkStation$Module", "needs", "Ljava/util/ArrayList;", true)
  | 2 => ("LinkStation$Module", "definitions", "Ljava/util/HashMap;", true)
  | 3 => ("LinkStation$Module", "starts", "[LLinkStation$Definition;", true)
  | 4 => ("LinkStation$Module", "steps", "Ljava/util/ArrayList;", true)
  | 5 => ("LinkStation$Module", "optional", "Ljava/util/BitSet;", true)
  | 6 => ("LinkStation$Module", "beginner", "I", false)
  | 7 => ("LinkStation$Module", "base", "I", false)
  | _ => ("LinkStation$Module", "slots", "Ljava/util/HashMap;", true)
def tyX8 : Nat → FieldType := fun k => match k with
  | 0 => .int
  | 1 => .object "java/util/ArrayList"
  | 2 => .object "java/util/HashMap"
  | 3 => .array (.object "LinkStation$Definition")
  | 4 => .object "java/util/ArrayList"
  | 5 => .object "java/util/BitSet"
  | 6 => .int
  | 7 => .int
  | _ => .object "java/util/HashMap"
abbrev wsX80 : List Cond := u_ws RX8 TX8 9
theorem nmX8 : ∀ a, a < 9 → ∀ b, b < 9 → a ≠ b → (TX8 a).2.1 ≠ (TX8 b).2.1 := by decide +kernel
theorem tyX8_ok : ∀ k, k < 9 → parseFieldDescriptor (TX8 k).2.2.1 = some (tyX8 k) := by decide +kernel
abbrev cX8_init : ByteArray := prog_6_method_1_code
def yX8_init : MethodName := ⟨RX8, "<init>", "(I)V"⟩
def dkwX8_init_3 : List UInt8 := [183, 0, 20, 181, 0, 47, 42, 27, 181, 0, 50, 177]
abbrev dktX8_init_3 : List UInt8 := dkwX8_init_3 ++ []
def dkwX8_init_2 : List UInt8 := [187, 0, 34, 89, 16, 64, 183, 0, 36, 181, 0, 39, 42, 2, 181, 0, 43, 42, 187, 0, 18, 89]
abbrev dktX8_init_2 : List UInt8 := dkwX8_init_2 ++ dktX8_init_3
def dkwX8_init_1 : List UInt8 := [181, 0, 21, 42, 16, 100, 189, 0, 25, 181, 0, 27, 42, 187, 0, 9, 89, 183, 0, 11, 181, 0, 31, 42]
abbrev dktX8_init_1 : List UInt8 := dkwX8_init_1 ++ dktX8_init_2
def dkwX8_init_0 : List UInt8 := [42, 183, 0, 3, 42, 187, 0, 9, 89, 183, 0, 11, 181, 0, 12, 42, 187, 0, 18, 89, 183, 0, 20]
abbrev dktX8_init_0 : List UInt8 := dkwX8_init_0 ++ dktX8_init_1
theorem dksX8_init_0 : cX8_init.data.toList.drop 0 = dktX8_init_0 := by decide +kernel
theorem dksX8_init_1 : cX8_init.data.toList.drop 23 = dktX8_init_1 := dk_seg dksX8_init_0 23 rfl rfl
theorem dksX8_init_2 : cX8_init.data.toList.drop 47 = dktX8_init_2 := dk_seg dksX8_init_1 24 rfl rfl
theorem dksX8_init_3 : cX8_init.data.toList.drop 69 = dktX8_init_3 := dk_seg dksX8_init_2 22 rfl rfl
theorem dX8_init_0 : decode cX8_init 0 = .ok (.aload_n 0, 1) := dk_42 (dk_at dksX8_init_0 0 rfl rfl)
theorem dX8_init_1 : decode cX8_init 1 = .ok (.invokespecial 3, 3) := dk_183 0 3 (dk_at dksX8_init_0 1 rfl rfl)
theorem dX8_init_4 : decode cX8_init 4 = .ok (.aload_n 0, 1) := dk_42 (dk_at dksX8_init_0 4 rfl rfl)
theorem dX8_init_5 : decode cX8_init 5 = .ok (.new 9, 3) := dk_187 0 9 (dk_at dksX8_init_0 5 rfl rfl)
theorem dX8_init_8 : decode cX8_init 8 = .ok (.dup, 1) := dk_89 (dk_at dksX8_init_0 8 rfl rfl)
theorem dX8_init_9 : decode cX8_init 9 = .ok (.invokespecial 11, 3) := dk_183 0 11 (dk_at dksX8_init_0 9 rfl rfl)
theorem dX8_init_12 : decode cX8_init 12 = .ok (.putfield 12, 3) := dk_181 0 12 (dk_at dksX8_init_0 12 rfl rfl)
theorem dX8_init_15 : decode cX8_init 15 = .ok (.aload_n 0, 1) := dk_42 (dk_at dksX8_init_0 15 rfl rfl)
theorem dX8_init_16 : decode cX8_init 16 = .ok (.new 18, 3) := dk_187 0 18 (dk_at dksX8_init_0 16 rfl rfl)
theorem dX8_init_19 : decode cX8_init 19 = .ok (.dup, 1) := dk_89 (dk_at dksX8_init_0 19 rfl rfl)
theorem dX8_init_20 : decode cX8_init 20 = .ok (.invokespecial 20, 3) := dk_183 0 20 (dk_at dksX8_init_0 20 rfl rfl)
theorem dX8_init_23 : decode cX8_init 23 = .ok (.putfield 21, 3) := dk_181 0 21 (dk_at dksX8_init_1 0 rfl rfl)
theorem dX8_init_26 : decode cX8_init 26 = .ok (.aload_n 0, 1) := dk_42 (dk_at dksX8_init_1 3 rfl rfl)
theorem dX8_init_27 : decode cX8_init 27 = .ok (.bipush 100, 2) := dk_16 100 (dk_at dksX8_init_1 4 rfl rfl)
theorem dX8_init_29 : decode cX8_init 29 = .ok (.anewarray 25, 3) := dk_189 0 25 (dk_at dksX8_init_1 6 rfl rfl)
theorem dX8_init_32 : decode cX8_init 32 = .ok (.putfield 27, 3) := dk_181 0 27 (dk_at dksX8_init_1 9 rfl rfl)
theorem dX8_init_35 : decode cX8_init 35 = .ok (.aload_n 0, 1) := dk_42 (dk_at dksX8_init_1 12 rfl rfl)
theorem dX8_init_36 : decode cX8_init 36 = .ok (.new 9, 3) := dk_187 0 9 (dk_at dksX8_init_1 13 rfl rfl)
theorem dX8_init_39 : decode cX8_init 39 = .ok (.dup, 1) := dk_89 (dk_at dksX8_init_1 16 rfl rfl)
theorem dX8_init_40 : decode cX8_init 40 = .ok (.invokespecial 11, 3) := dk_183 0 11 (dk_at dksX8_init_1 17 rfl rfl)
theorem dX8_init_43 : decode cX8_init 43 = .ok (.putfield 31, 3) := dk_181 0 31 (dk_at dksX8_init_1 20 rfl rfl)
theorem dX8_init_46 : decode cX8_init 46 = .ok (.aload_n 0, 1) := dk_42 (dk_at dksX8_init_1 23 rfl rfl)
theorem dX8_init_47 : decode cX8_init 47 = .ok (.new 34, 3) := dk_187 0 34 (dk_at dksX8_init_2 0 rfl rfl)
theorem dX8_init_50 : decode cX8_init 50 = .ok (.dup, 1) := dk_89 (dk_at dksX8_init_2 3 rfl rfl)
theorem dX8_init_51 : decode cX8_init 51 = .ok (.bipush 64, 2) := dk_16 64 (dk_at dksX8_init_2 4 rfl rfl)
theorem dX8_init_53 : decode cX8_init 53 = .ok (.invokespecial 36, 3) := dk_183 0 36 (dk_at dksX8_init_2 6 rfl rfl)
theorem dX8_init_56 : decode cX8_init 56 = .ok (.putfield 39, 3) := dk_181 0 39 (dk_at dksX8_init_2 9 rfl rfl)
theorem dX8_init_59 : decode cX8_init 59 = .ok (.aload_n 0, 1) := dk_42 (dk_at dksX8_init_2 12 rfl rfl)
theorem dX8_init_60 : decode cX8_init 60 = .ok (.iconst (-1), 1) := dk_2 (dk_at dksX8_init_2 13 rfl rfl)
theorem dX8_init_61 : decode cX8_init 61 = .ok (.putfield 43, 3) := dk_181 0 43 (dk_at dksX8_init_2 14 rfl rfl)
theorem dX8_init_64 : decode cX8_init 64 = .ok (.aload_n 0, 1) := dk_42 (dk_at dksX8_init_2 17 rfl rfl)
theorem dX8_init_65 : decode cX8_init 65 = .ok (.new 18, 3) := dk_187 0 18 (dk_at dksX8_init_2 18 rfl rfl)
theorem dX8_init_68 : decode cX8_init 68 = .ok (.dup, 1) := dk_89 (dk_at dksX8_init_2 21 rfl rfl)
theorem dX8_init_69 : decode cX8_init 69 = .ok (.invokespecial 20, 3) := dk_183 0 20 (dk_at dksX8_init_3 0 rfl rfl)
theorem dX8_init_72 : decode cX8_init 72 = .ok (.putfield 47, 3) := dk_181 0 47 (dk_at dksX8_init_3 3 rfl rfl)
theorem dX8_init_75 : decode cX8_init 75 = .ok (.aload_n 0, 1) := dk_42 (dk_at dksX8_init_3 6 rfl rfl)
theorem dX8_init_76 : decode cX8_init 76 = .ok (.iload_n 1, 1) := dk_27 (dk_at dksX8_init_3 7 rfl rfl)
theorem dX8_init_77 : decode cX8_init 77 = .ok (.putfield 50, 3) := dk_181 0 50 (dk_at dksX8_init_3 8 rfl rfl)
theorem dX8_init_80 : decode cX8_init 80 = .ok (.return_, 1) := dk_177 (dk_at dksX8_init_3 11 rfl rfl)
theorem q66 : (Jvm.Cond.initialized "LinkStation$Module") ∈ lw_all := lw_g (lw_at lw_m1 19 rfl) rfl
theorem q457 : (Jvm.Cond.instantiable "LinkStation$Module" (9 : Nat)) ∈ lw_all := lw_g (lw_at lw_m2 170 rfl) rfl
theorem q459 : (Jvm.Cond.instanceMethod ({ cls := "LinkStation$Module", name := "<init>", desc := "(I)V" } : Jvm.MethodName)) ∈ lw_all := lw_g (lw_at lw_m2 172 rfl) rfl
theorem q460 : (Jvm.Cond.code ({ cls := "LinkStation$Module", name := "<init>", desc := "(I)V" } : Jvm.MethodName) prog_6_method_1_code (2 : Nat) (Option.none : Option Jvm.ClassFile.FieldType)) ∈ lw_all := lw_g (lw_at lw_m2 173 rfl) rfl
theorem q461 : (Jvm.Cond.methodLink "LinkStation$Module" (3 : Nat) ({ cls := "java/lang/Object", name := "<init>", desc := "()V" } : Jvm.MethodName)) ∈ lw_all := lw_g (lw_at lw_m2 174 rfl) rfl
theorem q462 : (Jvm.Cond.classLink "LinkStation$Module" (9 : Nat) "java/util/ArrayList") ∈ lw_all := lw_g (lw_at lw_m2 175 rfl) rfl
theorem q463 : (Jvm.Cond.methodLink "LinkStation$Module" (11 : Nat) ({ cls := "java/util/ArrayList", name := "<init>", desc := "()V" } : Jvm.MethodName)) ∈ lw_all := lw_g (lw_at lw_m2 176 rfl) rfl
theorem q464 : (Jvm.Cond.classLink "LinkStation$Module" (18 : Nat) "java/util/HashMap") ∈ lw_all := lw_g (lw_at lw_m2 177 rfl) rfl
theorem q465 : (Jvm.Cond.methodLink "LinkStation$Module" (20 : Nat) ({ cls := "java/util/HashMap", name := "<init>", desc := "()V" } : Jvm.MethodName)) ∈ lw_all := lw_g (lw_at lw_m2 178 rfl) rfl
theorem q466 : (Jvm.Cond.classLink "LinkStation$Module" (25 : Nat) "LinkStation$Definition") ∈ lw_all := lw_g (lw_at lw_m2 179 rfl) rfl
theorem q468 : (Jvm.Cond.classLink "LinkStation$Module" (34 : Nat) "java/util/BitSet") ∈ lw_all := lw_g (lw_at lw_m2 181 rfl) rfl
theorem q469 : (Jvm.Cond.methodLink "LinkStation$Module" (36 : Nat) ({ cls := "java/util/BitSet", name := "<init>", desc := "(I)V" } : Jvm.MethodName)) ∈ lw_all := lw_g (lw_at lw_m2 182 rfl) rfl
theorem q470 : (Jvm.Cond.fieldLink "LinkStation$Module" (50 : Nat) "LinkStation$Module" "number" "I") ∈ lw_all := lw_g (lw_at lw_m2 183 rfl) rfl
theorem q473 : (Jvm.Cond.fieldLink "LinkStation$Module" (12 : Nat) "LinkStation$Module" "needs" "Ljava/util/ArrayList;") ∈ lw_all := lw_g (lw_at lw_m2 186 rfl) rfl
theorem q476 : (Jvm.Cond.fieldLink "LinkStation$Module" (21 : Nat) "LinkStation$Module" "definitions" "Ljava/util/HashMap;") ∈ lw_all := lw_g (lw_at lw_m2 189 rfl) rfl
theorem q479 : (Jvm.Cond.fieldLink "LinkStation$Module" (27 : Nat) "LinkStation$Module" "starts" "[LLinkStation$Definition;") ∈ lw_all := lw_g (lw_at lw_m2 192 rfl) rfl
theorem q482 : (Jvm.Cond.fieldLink "LinkStation$Module" (31 : Nat) "LinkStation$Module" "steps" "Ljava/util/ArrayList;") ∈ lw_all := lw_g (lw_at lw_m2 195 rfl) rfl
theorem q486 : (Jvm.Cond.fieldLink "LinkStation$Module" (39 : Nat) "LinkStation$Module" "optional" "Ljava/util/BitSet;") ∈ lw_all := lw_g (lw_at lw_m2 199 rfl) rfl
theorem q489 : (Jvm.Cond.fieldLink "LinkStation$Module" (43 : Nat) "LinkStation$Module" "beginner" "I") ∈ lw_all := lw_g (lw_at lw_m2 202 rfl) rfl
theorem q495 : (Jvm.Cond.fieldLink "LinkStation$Module" (47 : Nat) "LinkStation$Module" "slots" "Ljava/util/HashMap;") ∈ lw_all := lw_g (lw_at lw_m2 208 rfl) rfl
theorem q499 : (Jvm.Cond.laysFinal "LinkStation$Module" "LinkStation$Module" "number" "I") ∈ lw_all := lw_g (lw_at lw_m2 212 rfl) rfl
theorem q500 : (Jvm.Cond.soleField "LinkStation$Module" "number") ∈ lw_all := lw_g (lw_at lw_m2 213 rfl) rfl
theorem q501 : (Jvm.Cond.laysFinal "LinkStation$Module" "LinkStation$Module" "needs" "Ljava/util/ArrayList;") ∈ lw_all := lw_g (lw_at lw_m2 214 rfl) rfl
theorem q502 : (Jvm.Cond.soleField "LinkStation$Module" "needs") ∈ lw_all := lw_g (lw_at lw_m2 215 rfl) rfl
theorem q503 : (Jvm.Cond.laysFinal "LinkStation$Module" "LinkStation$Module" "definitions" "Ljava/util/HashMap;") ∈ lw_all := lw_g (lw_at lw_m2 216 rfl) rfl
theorem q504 : (Jvm.Cond.soleField "LinkStation$Module" "definitions") ∈ lw_all := lw_g (lw_at lw_m2 217 rfl) rfl
theorem q505 : (Jvm.Cond.laysFinal "LinkStation$Module" "LinkStation$Module" "starts" "[LLinkStation$Definition;") ∈ lw_all := lw_g (lw_at lw_m2 218 rfl) rfl
theorem q506 : (Jvm.Cond.soleField "LinkStation$Module" "starts") ∈ lw_all := lw_g (lw_at lw_m2 219 rfl) rfl
theorem q507 : (Jvm.Cond.laysFinal "LinkStation$Module" "LinkStation$Module" "steps" "Ljava/util/ArrayList;") ∈ lw_all := lw_g (lw_at lw_m2 220 rfl) rfl
theorem q508 : (Jvm.Cond.soleField "LinkStation$Module" "steps") ∈ lw_all := lw_g (lw_at lw_m2 221 rfl) rfl
theorem q509 : (Jvm.Cond.laysFinal "LinkStation$Module" "LinkStation$Module" "optional" "Ljava/util/BitSet;") ∈ lw_all := lw_g (lw_at lw_m2 222 rfl) rfl
theorem q510 : (Jvm.Cond.soleField "LinkStation$Module" "optional") ∈ lw_all := lw_g (lw_at lw_m2 223 rfl) rfl
theorem q511 : (Jvm.Cond.lays "LinkStation$Module" "LinkStation$Module" "beginner" "I") ∈ lw_all := lw_g (lw_at lw_m2 224 rfl) rfl
theorem q512 : (Jvm.Cond.soleField "LinkStation$Module" "beginner") ∈ lw_all := lw_g (lw_at lw_m2 225 rfl) rfl
theorem q513 : (Jvm.Cond.lays "LinkStation$Module" "LinkStation$Module" "base" "I") ∈ lw_all := lw_g (lw_at lw_m2 226 rfl) rfl
theorem q514 : (Jvm.Cond.soleField "LinkStation$Module" "base") ∈ lw_all := lw_g (lw_at lw_m2 227 rfl) rfl
theorem q515 : (Jvm.Cond.laysFinal "LinkStation$Module" "LinkStation$Module" "slots" "Ljava/util/HashMap;") ∈ lw_all := lw_g (lw_at lw_m2 228 rfl) rfl
theorem q516 : (Jvm.Cond.soleField "LinkStation$Module" "slots") ∈ lw_all := lw_g (lw_at lw_m2 229 rfl) rfl
theorem q517 : (Jvm.Cond.superclass "LinkStation$Module" "java/lang/Object") ∈ lw_all := lw_g (lw_at lw_m2 230 rfl) rfl
theorem q555 : (Jvm.Cond.selects "LinkStation$Module" ({ cls := "java/lang/Object", name := "getClass", desc := "()Ljava/lang/Class;" } : Jvm.MethodName) ({ cls := "java/lang/Object", name := "getClass", desc := "()Ljava/lang/Class;" } : Jvm.MethodName)) ∈ lw_all := lw_g (lw_at lw_m3 28 rfl) rfl
theorem q631 : (Jvm.Cond.selects "LinkStation$Module" ({ cls := "java/lang/Object", name := "equals", desc := "(Ljava/lang/Object;)Z" } : Jvm.MethodName) ({ cls := "java/lang/Object", name := "equals", desc := "(Ljava/lang/Object;)Z" } : Jvm.MethodName)) ∈ lw_all := lw_g (lw_at lw_m3 104 rfl) rfl
theorem q700 : (Jvm.Cond.selects "LinkStation$Module" ({ cls := "java/lang/Object", name := "hashCode", desc := "()I" } : Jvm.MethodName) ({ cls := "java/lang/Object", name := "hashCode", desc := "()I" } : Jvm.MethodName)) ∈ lw_all := lw_g (lw_at lw_m3 173 rfl) rfl
theorem q1834 : (Jvm.Cond.castable "LinkStation$Module" "java/lang/Object") ∈ lw_tbl := lw_at lw_m8 107 rfl
theorem in_X8 : ∀ w ∈ wsX80, w ∈ lw_all := lw_in wsX80 [499, 501, 503, 505, 507, 509, 511, 513, 515] (by decide +kernel) (by decide +kernel)
/-! LinkStation$Step -/
set_option maxRecDepth 100000
def RX9 : String := "LinkStation$Step"
def TX9 : u_T := fun k => match k with
  | 0 => ("LinkStation$Step", "op", "LLinkStation$Op;", true)
  | 1 => ("LinkStation$Step", "a", "I", true)
  | 2 => ("LinkStation$Step", "b", "I", true)
  | _ => ("LinkStation$Step", "c", "I", true)
def tyX9 : Nat → FieldType := fun k => match k with
  | 0 => .object "LinkStation$Op"
  | 1 => .int
  | 2 => .int
  | _ => .int
abbrev wsX90 : List Cond := u_ws RX9 TX9 4
theorem nmX9 : ∀ a, a < 4 → ∀ b, b < 4 → a ≠ b → (TX9 a).2.1 ≠ (TX9 b).2.1 := by decide +kernel
theorem tyX9_ok : ∀ k, k < 4 → parseFieldDescriptor (TX9 k).2.2.1 = some (tyX9 k) := by decide +kernel
abbrev cX9_init : ByteArray := prog_9_method_1_code
def yX9_init : MethodName := ⟨RX9, "<init>", "(LLinkStation$Op;III)V"⟩
def dkwX9_init_1 : List UInt8 := [181, 0, 22, 177]
abbrev dktX9_init_1 : List UInt8 := dkwX9_init_1 ++ []
def dkwX9_init_0 : List UInt8 := [42, 183, 0, 3, 42, 43, 181, 0, 9, 42, 28, 181, 0, 15, 42, 29, 181, 0, 19, 42, 21, 4]
abbrev dktX9_init_0 : List UInt8 := dkwX9_init_0 ++ dktX9_init_1
theorem dksX9_init_0 : cX9_init.data.toList.drop 0 = dktX9_init_0 := by decide +kernel
theorem dksX9_init_1 : cX9_init.data.toList.drop 22 = dktX9_init_1 := dk_seg dksX9_init_0 22 rfl rfl
theorem dX9_init_0 : decode cX9_init 0 = .ok (.aload_n 0, 1) := dk_42 (dk_at dksX9_init_0 0 rfl rfl)
theorem dX9_init_1 : decode cX9_init 1 = .ok (.invokespecial 3, 3) := dk_183 0 3 (dk_at dksX9_init_0 1 rfl rfl)
theorem dX9_init_4 : decode cX9_init 4 = .ok (.aload_n 0, 1) := dk_42 (dk_at dksX9_init_0 4 rfl rfl)
theorem dX9_init_5 : decode cX9_init 5 = .ok (.aload_n 1, 1) := dk_43 (dk_at dksX9_init_0 5 rfl rfl)
theorem dX9_init_6 : decode cX9_init 6 = .ok (.putfield 9, 3) := dk_181 0 9 (dk_at dksX9_init_0 6 rfl rfl)
theorem dX9_init_9 : decode cX9_init 9 = .ok (.aload_n 0, 1) := dk_42 (dk_at dksX9_init_0 9 rfl rfl)
theorem dX9_init_10 : decode cX9_init 10 = .ok (.iload_n 2, 1) := dk_28 (dk_at dksX9_init_0 10 rfl rfl)
theorem dX9_init_11 : decode cX9_init 11 = .ok (.putfield 15, 3) := dk_181 0 15 (dk_at dksX9_init_0 11 rfl rfl)
theorem dX9_init_14 : decode cX9_init 14 = .ok (.aload_n 0, 1) := dk_42 (dk_at dksX9_init_0 14 rfl rfl)
theorem dX9_init_15 : decode cX9_init 15 = .ok (.iload_n 3, 1) := dk_29 (dk_at dksX9_init_0 15 rfl rfl)
theorem dX9_init_16 : decode cX9_init 16 = .ok (.putfield 19, 3) := dk_181 0 19 (dk_at dksX9_init_0 16 rfl rfl)
theorem dX9_init_19 : decode cX9_init 19 = .ok (.aload_n 0, 1) := dk_42 (dk_at dksX9_init_0 19 rfl rfl)
theorem dX9_init_20 : decode cX9_init 20 = .ok (.iload 4, 2) := dk_21 4 (dk_at dksX9_init_0 20 rfl rfl)
theorem dX9_init_22 : decode cX9_init 22 = .ok (.putfield 22, 3) := dk_181 0 22 (dk_at dksX9_init_1 0 rfl rfl)
theorem dX9_init_25 : decode cX9_init 25 = .ok (.return_, 1) := dk_177 (dk_at dksX9_init_1 3 rfl rfl)
abbrev cX9_name : ByteArray := prog_9_method_6_code
def yX9_name : MethodName := ⟨RX9, "name", "()I"⟩
def dkwX9_name_2 : List UInt8 := [42, 180, 0, 15, 172, 42, 180, 0, 19, 172, 2, 172]
abbrev dktX9_name_2 : List UInt8 := dkwX9_name_2 ++ []
def dkwX9_name_1 : List UInt8 := [170, 0, 0, 0, 39, 0, 0, 0, 7, 0, 0, 0, 10, 0, 0, 0, 29, 0, 0, 0, 34, 0, 0, 0, 29, 0, 0, 0, 34]
abbrev dktX9_name_1 : List UInt8 := dkwX9_name_1 ++ dktX9_name_2
def dkwX9_name_0 : List UInt8 := [42, 180, 0, 9, 182, 0, 25]
abbrev dktX9_name_0 : List UInt8 := dkwX9_name_0 ++ dktX9_name_1
theorem dksX9_name_0 : cX9_name.data.toList.drop 0 = dktX9_name_0 := by decide +kernel
theorem dksX9_name_1 : cX9_name.data.toList.drop 7 = dktX9_name_1 := dk_seg dksX9_name_0 7 rfl rfl
theorem dksX9_name_2 : cX9_name.data.toList.drop 36 = dktX9_name_2 := dk_seg dksX9_name_1 29 rfl rfl
theorem dX9_name_0 : decode cX9_name 0 = .ok (.aload_n 0, 1) := dk_42 (dk_at dksX9_name_0 0 rfl rfl)
theorem dX9_name_1 : decode cX9_name 1 = .ok (.getfield 9, 3) := dk_180 0 9 (dk_at dksX9_name_0 1 rfl rfl)
theorem dX9_name_4 : decode cX9_name 4 = .ok (.invokevirtual 25, 3) := dk_182 0 25 (dk_at dksX9_name_0 4 rfl rfl)
theorem dX9_name_7 : decode cX9_name 7 = .ok (.tableswitch 39 7 10 #[29, 34, 29, 34], 29) := by decide +kernel
theorem dX9_name_36 : decode cX9_name 36 = .ok (.aload_n 0, 1) := dk_42 (dk_at dksX9_name_2 0 rfl rfl)
theorem dX9_name_37 : decode cX9_name 37 = .ok (.getfield 15, 3) := dk_180 0 15 (dk_at dksX9_name_2 1 rfl rfl)
theorem dX9_name_40 : decode cX9_name 40 = .ok (.ireturn, 1) := dk_172 (dk_at dksX9_name_2 4 rfl rfl)
theorem dX9_name_41 : decode cX9_name 41 = .ok (.aload_n 0, 1) := dk_42 (dk_at dksX9_name_2 5 rfl rfl)
theorem dX9_name_42 : decode cX9_name 42 = .ok (.getfield 19, 3) := dk_180 0 19 (dk_at dksX9_name_2 6 rfl rfl)
theorem dX9_name_45 : decode cX9_name 45 = .ok (.ireturn, 1) := dk_172 (dk_at dksX9_name_2 9 rfl rfl)
theorem dX9_name_46 : decode cX9_name 46 = .ok (.iconst (-1), 1) := dk_2 (dk_at dksX9_name_2 10 rfl rfl)
theorem dX9_name_47 : decode cX9_name 47 = .ok (.ireturn, 1) := dk_172 (dk_at dksX9_name_2 11 rfl rfl)
abbrev cX9_op : ByteArray := prog_9_method_2_code
def yX9_op : MethodName := ⟨RX9, "op", "()LLinkStation$Op;"⟩
theorem dX9_op_0 : decode cX9_op 0 = .ok (.aload_n 0, 1) := by decide +kernel
theorem dX9_op_1 : decode cX9_op 1 = .ok (.getfield 9, 3) := by decide +kernel
theorem dX9_op_4 : decode cX9_op 4 = .ok (.areturn, 1) := by decide +kernel
abbrev cX9_a : ByteArray := prog_9_method_3_code
def yX9_a : MethodName := ⟨RX9, "a", "()I"⟩
theorem dX9_a_0 : decode cX9_a 0 = .ok (.aload_n 0, 1) := by decide +kernel
theorem dX9_a_1 : decode cX9_a 1 = .ok (.getfield 15, 3) := by decide +kernel
theorem dX9_a_4 : decode cX9_a 4 = .ok (.ireturn, 1) := by decide +kernel
abbrev cX9_b : ByteArray := prog_9_method_4_code
def yX9_b : MethodName := ⟨RX9, "b", "()I"⟩
theorem dX9_b_0 : decode cX9_b 0 = .ok (.aload_n 0, 1) := by decide +kernel
theorem dX9_b_1 : decode cX9_b 1 = .ok (.getfield 19, 3) := by decide +kernel
theorem dX9_b_4 : decode cX9_b 4 = .ok (.ireturn, 1) := by decide +kernel
abbrev cX9_c : ByteArray := prog_9_method_5_code
def yX9_c : MethodName := ⟨RX9, "c", "()I"⟩
theorem dX9_c_0 : decode cX9_c 0 = .ok (.aload_n 0, 1) := by decide +kernel
theorem dX9_c_1 : decode cX9_c 1 = .ok (.getfield 22, 3) := by decide +kernel
theorem dX9_c_4 : decode cX9_c 4 = .ok (.ireturn, 1) := by decide +kernel
theorem q79 : (Jvm.Cond.initialized "LinkStation$Step") ∈ lw_all := lw_g (lw_at lw_m1 32 rfl) rfl
theorem q558 : (Jvm.Cond.selects "LinkStation$Step" ({ cls := "java/lang/Object", name := "getClass", desc := "()Ljava/lang/Class;" } : Jvm.MethodName) ({ cls := "java/lang/Object", name := "getClass", desc := "()Ljava/lang/Class;" } : Jvm.MethodName)) ∈ lw_all := lw_g (lw_at lw_m3 31 rfl) rfl
theorem q636 : (Jvm.Cond.selects "LinkStation$Step" ({ cls := "java/lang/Object", name := "equals", desc := "(Ljava/lang/Object;)Z" } : Jvm.MethodName) ({ cls := "java/lang/Object", name := "equals", desc := "(Ljava/lang/Object;)Z" } : Jvm.MethodName)) ∈ lw_all := lw_g (lw_at lw_m3 109 rfl) rfl
theorem q708 : (Jvm.Cond.selects "LinkStation$Step" ({ cls := "java/lang/Object", name := "hashCode", desc := "()I" } : Jvm.MethodName) ({ cls := "java/lang/Object", name := "hashCode", desc := "()I" } : Jvm.MethodName)) ∈ lw_all := lw_g (lw_at lw_m3 181 rfl) rfl
theorem q979 : (Jvm.Cond.instantiable "LinkStation$Step" (4 : Nat)) ∈ lw_all := lw_g (lw_at lw_m4 212 rfl) rfl
theorem q981 : (Jvm.Cond.instanceMethod ({ cls := "LinkStation$Step", name := "<init>", desc := "(LLinkStation$Op;III)V" } : Jvm.MethodName)) ∈ lw_all := lw_g (lw_at lw_m4 214 rfl) rfl
theorem q982 : (Jvm.Cond.code ({ cls := "LinkStation$Step", name := "<init>", desc := "(LLinkStation$Op;III)V" } : Jvm.MethodName) prog_9_method_1_code (5 : Nat) (Option.none : Option Jvm.ClassFile.FieldType)) ∈ lw_all := lw_g (lw_at lw_m4 215 rfl) rfl
theorem q983 : (Jvm.Cond.methodLink "LinkStation$Step" (3 : Nat) ({ cls := "java/lang/Object", name := "<init>", desc := "()V" } : Jvm.MethodName)) ∈ lw_all := lw_g (lw_at lw_m4 216 rfl) rfl
theorem q984 : (Jvm.Cond.fieldLink "LinkStation$Step" (9 : Nat) "LinkStation$Step" "op" "LLinkStation$Op;") ∈ lw_all := lw_g (lw_at lw_m4 217 rfl) rfl
theorem q985 : (Jvm.Cond.fieldLink "LinkStation$Step" (15 : Nat) "LinkStation$Step" "a" "I") ∈ lw_all := lw_g (lw_at lw_m4 218 rfl) rfl
theorem q986 : (Jvm.Cond.fieldLink "LinkStation$Step" (19 : Nat) "LinkStation$Step" "b" "I") ∈ lw_all := lw_g (lw_at lw_m4 219 rfl) rfl
theorem q987 : (Jvm.Cond.fieldLink "LinkStation$Step" (22 : Nat) "LinkStation$Step" "c" "I") ∈ lw_all := lw_g (lw_at lw_m4 220 rfl) rfl
theorem q988 : (Jvm.Cond.laysFinal "LinkStation$Step" "LinkStation$Step" "op" "LLinkStation$Op;") ∈ lw_all := lw_g (lw_at lw_m4 221 rfl) rfl
theorem q989 : (Jvm.Cond.soleField "LinkStation$Step" "op") ∈ lw_all := lw_g (lw_at lw_m4 222 rfl) rfl
theorem q990 : (Jvm.Cond.laysFinal "LinkStation$Step" "LinkStation$Step" "a" "I") ∈ lw_all := lw_g (lw_at lw_m4 223 rfl) rfl
theorem q991 : (Jvm.Cond.soleField "LinkStation$Step" "a") ∈ lw_all := lw_g (lw_at lw_m4 224 rfl) rfl
theorem q992 : (Jvm.Cond.laysFinal "LinkStation$Step" "LinkStation$Step" "b" "I") ∈ lw_all := lw_g (lw_at lw_m4 225 rfl) rfl
theorem q993 : (Jvm.Cond.soleField "LinkStation$Step" "b") ∈ lw_all := lw_g (lw_at lw_m4 226 rfl) rfl
theorem q994 : (Jvm.Cond.laysFinal "LinkStation$Step" "LinkStation$Step" "c" "I") ∈ lw_all := lw_g (lw_at lw_m4 227 rfl) rfl
theorem q995 : (Jvm.Cond.soleField "LinkStation$Step" "c") ∈ lw_all := lw_g (lw_at lw_m4 228 rfl) rfl
theorem q996 : (Jvm.Cond.superclass "LinkStation$Step" "java/lang/Object") ∈ lw_all := lw_g (lw_at lw_m4 229 rfl) rfl
theorem q1292 : (Jvm.Cond.instanceMethod ({ cls := "LinkStation$Step", name := "name", desc := "()I" } : Jvm.MethodName)) ∈ lw_all := lw_g (lw_at lw_m6 45 rfl) rfl
theorem q1293 : (Jvm.Cond.selects "LinkStation$Step" ({ cls := "LinkStation$Step", name := "name", desc := "()I" } : Jvm.MethodName) ({ cls := "LinkStation$Step", name := "name", desc := "()I" } : Jvm.MethodName)) ∈ lw_all := lw_g (lw_at lw_m6 46 rfl) rfl
theorem q1294 : (Jvm.Cond.code ({ cls := "LinkStation$Step", name := "name", desc := "()I" } : Jvm.MethodName) prog_9_method_6_code (1 : Nat) (Option.some Jvm.ClassFile.FieldType.int)) ∈ lw_all := lw_g (lw_at lw_m6 47 rfl) rfl
theorem q1295 : (Jvm.Cond.methodLink "LinkStation$Step" (25 : Nat) ({ cls := "LinkStation$Op", name := "ordinal", desc := "()I" } : Jvm.MethodName)) ∈ lw_all := lw_g (lw_at lw_m6 48 rfl) rfl
theorem q1297 : (Jvm.Cond.instanceMethod ({ cls := "LinkStation$Step", name := "op", desc := "()LLinkStation$Op;" } : Jvm.MethodName)) ∈ lw_all := lw_g (lw_at lw_m6 50 rfl) rfl
theorem q1298 : (Jvm.Cond.selects "LinkStation$Step" ({ cls := "LinkStation$Step", name := "op", desc := "()LLinkStation$Op;" } : Jvm.MethodName) ({ cls := "LinkStation$Step", name := "op", desc := "()LLinkStation$Op;" } : Jvm.MethodName)) ∈ lw_all := lw_g (lw_at lw_m6 51 rfl) rfl
theorem q1299 : (Jvm.Cond.code ({ cls := "LinkStation$Step", name := "op", desc := "()LLinkStation$Op;" } : Jvm.MethodName) prog_9_method_2_code (1 : Nat) (Option.some (Jvm.ClassFile.FieldType.object "LinkStation$Op"))) ∈ lw_all := lw_g (lw_at lw_m6 52 rfl) rfl
theorem q1315 : (Jvm.Cond.instanceMethod ({ cls := "LinkStation$Step", name := "a", desc := "()I" } : Jvm.MethodName)) ∈ lw_all := lw_g (lw_at lw_m6 68 rfl) rfl
theorem q1316 : (Jvm.Cond.selects "LinkStation$Step" ({ cls := "LinkStation$Step", name := "a", desc := "()I" } : Jvm.MethodName) ({ cls := "LinkStation$Step", name := "a", desc := "()I" } : Jvm.MethodName)) ∈ lw_all := lw_g (lw_at lw_m6 69 rfl) rfl
theorem q1317 : (Jvm.Cond.code ({ cls := "LinkStation$Step", name := "a", desc := "()I" } : Jvm.MethodName) prog_9_method_3_code (1 : Nat) (Option.some Jvm.ClassFile.FieldType.int)) ∈ lw_all := lw_g (lw_at lw_m6 70 rfl) rfl
theorem q1478 : (Jvm.Cond.instanceMethod ({ cls := "LinkStation$Step", name := "b", desc := "()I" } : Jvm.MethodName)) ∈ lw_all := lw_g (lw_at lw_m6 231 rfl) rfl
theorem q1479 : (Jvm.Cond.selects "LinkStation$Step" ({ cls := "LinkStation$Step", name := "b", desc := "()I" } : Jvm.MethodName) ({ cls := "LinkStation$Step", name := "b", desc := "()I" } : Jvm.MethodName)) ∈ lw_all := lw_g (lw_at lw_m6 232 rfl) rfl
theorem q1480 : (Jvm.Cond.code ({ cls := "LinkStation$Step", name := "b", desc := "()I" } : Jvm.MethodName) prog_9_method_4_code (1 : Nat) (Option.some Jvm.ClassFile.FieldType.int)) ∈ lw_all := lw_g (lw_at lw_m6 233 rfl) rfl
theorem q1482 : (Jvm.Cond.instanceMethod ({ cls := "LinkStation$Step", name := "c", desc := "()I" } : Jvm.MethodName)) ∈ lw_all := lw_g (lw_at lw_m6 235 rfl) rfl
theorem q1483 : (Jvm.Cond.selects "LinkStation$Step" ({ cls := "LinkStation$Step", name := "c", desc := "()I" } : Jvm.MethodName) ({ cls := "LinkStation$Step", name := "c", desc := "()I" } : Jvm.MethodName)) ∈ lw_all := lw_g (lw_at lw_m6 236 rfl) rfl
theorem q1484 : (Jvm.Cond.code ({ cls := "LinkStation$Step", name := "c", desc := "()I" } : Jvm.MethodName) prog_9_method_5_code (1 : Nat) (Option.some Jvm.ClassFile.FieldType.int)) ∈ lw_all := lw_g (lw_at lw_m6 237 rfl) rfl
theorem q1848 : (Jvm.Cond.castable "LinkStation$Step" "java/lang/Object") ∈ lw_tbl := lw_at lw_m8 121 rfl
theorem in_X9 : ∀ w ∈ wsX90, w ∈ lw_all := lw_in wsX90 [988, 990, 992, 994] (by decide +kernel) (by decide +kernel)
/-! the law's own entry -/
set_option maxRecDepth 100000
abbrev cL_law : ByteArray := code
def dkwL_law_26 : List UInt8 := [4, 172]
abbrev dktL_law_26 : List UInt8 := dkwL_law_26 ++ []
def dkwL_law_25 : List UInt8 := [159, 0, 18, 3, 172, 43, 182, 0, 81, 44, 182, 0, 84, 159, 0, 5, 3, 172, 132, 3, 6, 167, 253, 126]
abbrev dktL_law_25 : List UInt8 := dkwL_law_25 ++ dktL_law_26
def dkwL_law_24 : List UInt8 := [46, 42, 29, 5, 96, 46, 182, 0, 77, 44, 42, 29, 4, 96, 46, 42, 29, 5, 96, 46, 182, 0, 80]
abbrev dktL_law_24 : List UInt8 := dkwL_law_24 ++ dktL_law_25
def dkwL_law_23 : List UInt8 := [96, 46, 182, 0, 73, 44, 42, 29, 4, 96, 46, 182, 0, 76, 159, 0, 51, 3, 172, 43, 42, 29, 4, 96]
abbrev dktL_law_23 : List UInt8 := dkwL_law_23 ++ dktL_law_24
def dkwL_law_22 : List UInt8 := [4, 96, 46, 182, 0, 69, 44, 42, 29, 4, 96, 46, 182, 0, 72, 159, 0, 74, 3, 172, 43, 42, 29, 4]
abbrev dktL_law_22 : List UInt8 := dkwL_law_22 ++ dktL_law_23
def dkwL_law_21 : List UInt8 := [29, 4, 96, 46, 182, 0, 65, 44, 42, 29, 4, 96, 46, 182, 0, 68, 159, 0, 97, 3, 172, 43, 42, 29]
abbrev dktL_law_21 : List UInt8 := dkwL_law_21 ++ dktL_law_22
def dkwL_law_20 : List UInt8 := [182, 0, 61, 44, 42, 29, 4, 96, 46, 42, 29, 5, 96, 46, 182, 0, 64, 159, 0, 120, 3, 172, 43, 42]
abbrev dktL_law_20 : List UInt8 := dkwL_law_20 ++ dktL_law_21
def dkwL_law_19 : List UInt8 := [5, 96, 46, 182, 0, 60, 159, 0, 153, 3, 172, 43, 42, 29, 4, 96, 46, 42, 29, 5, 96, 46]
abbrev dktL_law_19 : List UInt8 := dkwL_law_19 ++ dktL_law_20
def dkwL_law_18 : List UInt8 := [3, 172, 43, 42, 29, 4, 96, 46, 42, 29, 5, 96, 46, 182, 0, 57, 44, 42, 29, 4, 96, 46, 42, 29]
abbrev dktL_law_18 : List UInt8 := dkwL_law_18 ++ dktL_law_19
def dkwL_law_17 : List UInt8 := [29, 5, 96, 46, 182, 0, 53, 44, 42, 29, 4, 96, 46, 42, 29, 5, 96, 46, 182, 0, 56, 159, 0, 186]
abbrev dktL_law_17 : List UInt8 := dkwL_law_17 ++ dktL_law_18
def dkwL_law_16 : List UInt8 := [29, 4, 96, 46, 42, 29, 5, 96, 46, 182, 0, 52, 159, 0, 219, 3, 172, 43, 42, 29, 4, 96, 46, 42]
abbrev dktL_law_16 : List UInt8 := dkwL_law_16 ++ dktL_law_17
def dkwL_law_15 : List UInt8 := [182, 0, 48, 159, 0, 252, 3, 172, 43, 42, 29, 4, 96, 46, 42, 29, 5, 96, 46, 182, 0, 49, 44, 42]
abbrev dktL_law_15 : List UInt8 := dkwL_law_15 ++ dktL_law_16
def dkwL_law_14 : List UInt8 := [182, 0, 43, 159, 1, 19, 3, 172, 43, 42, 29, 4, 96, 46, 182, 0, 44, 44, 42, 29, 4, 96, 46]
abbrev dktL_law_14 : List UInt8 := dkwL_law_14 ++ dktL_law_15
def dkwL_law_13 : List UInt8 := [42, 29, 4, 96, 46, 42, 29, 5, 96, 46, 182, 0, 40, 44, 42, 29, 4, 96, 46, 42, 29, 5, 96, 46]
abbrev dktL_law_13 : List UInt8 := dkwL_law_13 ++ dktL_law_14
def dkwL_law_12 : List UInt8 := [42, 29, 6, 96, 46, 42, 29, 7, 96, 46, 42, 29, 8, 96, 46, 182, 0, 39, 159, 1, 52, 3, 172, 43]
abbrev dktL_law_12 : List UInt8 := dkwL_law_12 ++ dktL_law_13
def dkwL_law_11 : List UInt8 := [42, 29, 7, 96, 46, 42, 29, 8, 96, 46, 182, 0, 36, 44, 42, 29, 4, 96, 46, 42, 29, 5, 96, 46]
abbrev dktL_law_11 : List UInt8 := dkwL_law_11 ++ dktL_law_12
def dkwL_law_10 : List UInt8 := [182, 0, 35, 159, 1, 115, 3, 172, 43, 42, 29, 4, 96, 46, 42, 29, 5, 96, 46, 42, 29, 6, 96, 46]
abbrev dktL_law_10 : List UInt8 := dkwL_law_10 ++ dktL_law_11
def dkwL_law_9 : List UInt8 := [29, 4, 96, 46, 42, 29, 5, 96, 46, 182, 0, 32, 44, 42, 29, 4, 96, 46, 42, 29, 5, 96, 46]
abbrev dktL_law_9 : List UInt8 := dkwL_law_9 ++ dktL_law_10
def dkwL_law_8 : List UInt8 := [182, 0, 28, 44, 42, 29, 4, 96, 46, 42, 29, 5, 96, 46, 182, 0, 31, 159, 1, 148, 3, 172, 43, 42]
abbrev dktL_law_8 : List UInt8 := dkwL_law_8 ++ dktL_law_9
def dkwL_law_7 : List UInt8 := [42, 29, 8, 96, 46, 182, 0, 27, 159, 1, 181, 3, 172, 43, 42, 29, 4, 96, 46, 42, 29, 5, 96, 46]
abbrev dktL_law_7 : List UInt8 := dkwL_law_7 ++ dktL_law_8
def dkwL_law_6 : List UInt8 := [182, 0, 23, 44, 42, 29, 4, 96, 46, 42, 29, 5, 96, 46, 42, 29, 6, 96, 46, 42, 29, 7, 96, 46]
abbrev dktL_law_6 : List UInt8 := dkwL_law_6 ++ dktL_law_7
def dkwL_law_5 : List UInt8 := [29, 4, 96, 46, 42, 29, 5, 96, 46, 42, 29, 6, 96, 46, 42, 29, 7, 96, 46, 42, 29, 8, 96, 46]
abbrev dktL_law_5 : List UInt8 := dkwL_law_5 ++ dktL_law_6
def dkwL_law_4 : List UInt8 := [182, 0, 18, 44, 42, 29, 4, 96, 46, 42, 29, 5, 96, 46, 182, 0, 22, 159, 1, 244, 3, 172, 43, 42]
abbrev dktL_law_4 : List UInt8 := dkwL_law_4 ++ dktL_law_5
def dkwL_law_3 : List UInt8 := [43, 182, 0, 13, 44, 182, 0, 17, 159, 2, 21, 3, 172, 43, 42, 29, 4, 96, 46, 42, 29, 5, 96, 46]
abbrev dktL_law_3 : List UInt8 := dkwL_law_3 ++ dktL_law_4
def dkwL_law_2 : List UInt8 := [170, 0, 0, 0, 0, 2, 112, 0, 0, 0, 0, 0, 0, 0, 16, 0, 0, 0, 83, 0, 0, 0, 96, 0, 0, 0, 129, 0, 0, 0, 192, 0, 0, 0, 225, 0, 0, 1, 2, 0, 0, 1, 65, 0, 0, 1, 98, 0, 0, 1, 121, 0, 0, 1, 154, 0, 0, 1, 187, 0, 0, 1, 220, 0, 0, 1, 253, 0, 0, 2, 20, 0, 0, 2, 43, 0, 0, 2, 66, 0, 0, 2, 99]
abbrev dktL_law_2 : List UInt8 := dkwL_law_2 ++ dktL_law_3
def dkwL_law_1 : List UInt8 := [163, 2, 127, 42, 29, 46, 16, 31, 126]
abbrev dktL_law_1 : List UInt8 := dkwL_law_1 ++ dktL_law_2
def dkwL_law_0 : List UInt8 := [187, 0, 7, 89, 183, 0, 9, 76, 187, 0, 10, 89, 183, 0, 12, 77, 3, 62, 29, 42, 190, 16, 6, 100]
abbrev dktL_law_0 : List UInt8 := dkwL_law_0 ++ dktL_law_1
theorem dksL_law_0 : cL_law.data.toList.drop 0 = dktL_law_0 := by decide +kernel
theorem dksL_law_1 : cL_law.data.toList.drop 24 = dktL_law_1 := dk_seg dksL_law_0 24 rfl rfl
theorem dksL_law_2 : cL_law.data.toList.drop 33 = dktL_law_2 := dk_seg dksL_law_1 9 rfl rfl
theorem dksL_law_3 : cL_law.data.toList.drop 116 = dktL_law_3 := dk_seg dksL_law_2 83 rfl rfl
theorem dksL_law_4 : cL_law.data.toList.drop 140 = dktL_law_4 := dk_seg dksL_law_3 24 rfl rfl
theorem dksL_law_5 : cL_law.data.toList.drop 164 = dktL_law_5 := dk_seg dksL_law_4 24 rfl rfl
theorem dksL_law_6 : cL_law.data.toList.drop 188 = dktL_law_6 := dk_seg dksL_law_5 24 rfl rfl
theorem dksL_law_7 : cL_law.data.toList.drop 212 = dktL_law_7 := dk_seg dksL_law_6 24 rfl rfl
theorem dksL_law_8 : cL_law.data.toList.drop 236 = dktL_law_8 := dk_seg dksL_law_7 24 rfl rfl
theorem dksL_law_9 : cL_law.data.toList.drop 260 = dktL_law_9 := dk_seg dksL_law_8 24 rfl rfl
theorem dksL_law_10 : cL_law.data.toList.drop 283 = dktL_law_10 := dk_seg dksL_law_9 23 rfl rfl
theorem dksL_law_11 : cL_law.data.toList.drop 307 = dktL_law_11 := dk_seg dksL_law_10 24 rfl rfl
theorem dksL_law_12 : cL_law.data.toList.drop 331 = dktL_law_12 := dk_seg dksL_law_11 24 rfl rfl
theorem dksL_law_13 : cL_law.data.toList.drop 355 = dktL_law_13 := dk_seg dksL_law_12 24 rfl rfl
theorem dksL_law_14 : cL_law.data.toList.drop 379 = dktL_law_14 := dk_seg dksL_law_13 24 rfl rfl
theorem dksL_law_15 : cL_law.data.toList.drop 402 = dktL_law_15 := dk_seg dksL_law_14 23 rfl rfl
theorem dksL_law_16 : cL_law.data.toList.drop 426 = dktL_law_16 := dk_seg dksL_law_15 24 rfl rfl
theorem dksL_law_17 : cL_law.data.toList.drop 450 = dktL_law_17 := dk_seg dksL_law_16 24 rfl rfl
theorem dksL_law_18 : cL_law.data.toList.drop 474 = dktL_law_18 := dk_seg dksL_law_17 24 rfl rfl
theorem dksL_law_19 : cL_law.data.toList.drop 498 = dktL_law_19 := dk_seg dksL_law_18 24 rfl rfl
theorem dksL_law_20 : cL_law.data.toList.drop 520 = dktL_law_20 := dk_seg dksL_law_19 22 rfl rfl
theorem dksL_law_21 : cL_law.data.toList.drop 544 = dktL_law_21 := dk_seg dksL_law_20 24 rfl rfl
theorem dksL_law_22 : cL_law.data.toList.drop 568 = dktL_law_22 := dk_seg dksL_law_21 24 rfl rfl
theorem dksL_law_23 : cL_law.data.toList.drop 592 = dktL_law_23 := dk_seg dksL_law_22 24 rfl rfl
theorem dksL_law_24 : cL_law.data.toList.drop 616 = dktL_law_24 := dk_seg dksL_law_23 24 rfl rfl
theorem dksL_law_25 : cL_law.data.toList.drop 639 = dktL_law_25 := dk_seg dksL_law_24 23 rfl rfl
theorem dksL_law_26 : cL_law.data.toList.drop 663 = dktL_law_26 := dk_seg dksL_law_25 24 rfl rfl
theorem dL_law_0 : decode cL_law 0 = .ok (.new 7, 3) := dk_187 0 7 (dk_at dksL_law_0 0 rfl rfl)
theorem dL_law_3 : decode cL_law 3 = .ok (.dup, 1) := dk_89 (dk_at dksL_law_0 3 rfl rfl)
theorem dL_law_4 : decode cL_law 4 = .ok (.invokespecial 9, 3) := dk_183 0 9 (dk_at dksL_law_0 4 rfl rfl)
theorem dL_law_7 : decode cL_law 7 = .ok (.astore_n 1, 1) := dk_76 (dk_at dksL_law_0 7 rfl rfl)
theorem dL_law_8 : decode cL_law 8 = .ok (.new 10, 3) := dk_187 0 10 (dk_at dksL_law_0 8 rfl rfl)
theorem dL_law_11 : decode cL_law 11 = .ok (.dup, 1) := dk_89 (dk_at dksL_law_0 11 rfl rfl)
theorem dL_law_12 : decode cL_law 12 = .ok (.invokespecial 12, 3) := dk_183 0 12 (dk_at dksL_law_0 12 rfl rfl)
theorem dL_law_15 : decode cL_law 15 = .ok (.astore_n 2, 1) := dk_77 (dk_at dksL_law_0 15 rfl rfl)
theorem dL_law_16 : decode cL_law 16 = .ok (.iconst 0, 1) := dk_3 (dk_at dksL_law_0 16 rfl rfl)
theorem dL_law_17 : decode cL_law 17 = .ok (.istore_n 3, 1) := dk_62 (dk_at dksL_law_0 17 rfl rfl)
theorem dL_law_18 : decode cL_law 18 = .ok (.iload_n 3, 1) := dk_29 (dk_at dksL_law_0 18 rfl rfl)
theorem dL_law_19 : decode cL_law 19 = .ok (.aload_n 0, 1) := dk_42 (dk_at dksL_law_0 19 rfl rfl)
theorem dL_law_20 : decode cL_law 20 = .ok (.arraylength, 1) := dk_190 (dk_at dksL_law_0 20 rfl rfl)
theorem dL_law_21 : decode cL_law 21 = .ok (.bipush 6, 2) := dk_16 6 (dk_at dksL_law_0 21 rfl rfl)
theorem dL_law_23 : decode cL_law 23 = .ok (.isub, 1) := dk_100 (dk_at dksL_law_0 23 rfl rfl)
theorem dL_law_24 : decode cL_law 24 = .ok (.if_icmp .gt 639, 3) := dk_163 2 127 (dk_at dksL_law_1 0 rfl rfl)
theorem dL_law_27 : decode cL_law 27 = .ok (.aload_n 0, 1) := dk_42 (dk_at dksL_law_1 3 rfl rfl)
theorem dL_law_28 : decode cL_law 28 = .ok (.iload_n 3, 1) := dk_29 (dk_at dksL_law_1 4 rfl rfl)
theorem dL_law_29 : decode cL_law 29 = .ok (.iaload, 1) := dk_46 (dk_at dksL_law_1 5 rfl rfl)
theorem dL_law_30 : decode cL_law 30 = .ok (.bipush 31, 2) := dk_16 31 (dk_at dksL_law_1 6 rfl rfl)
theorem dL_law_32 : decode cL_law 32 = .ok (.iand, 1) := dk_126 (dk_at dksL_law_1 8 rfl rfl)
theorem dL_law_33 : decode cL_law 33 = .ok (.tableswitch 624 0 16 #[83, 96, 129, 192, 225, 258, 321, 354, 377, 410, 443, 476, 509, 532, 555, 578, 611], 83) := by decide +kernel
theorem dL_law_116 : decode cL_law 116 = .ok (.aload_n 1, 1) := dk_43 (dk_at dksL_law_3 0 rfl rfl)
theorem dL_law_117 : decode cL_law 117 = .ok (.invokevirtual 13, 3) := dk_182 0 13 (dk_at dksL_law_3 1 rfl rfl)
theorem dL_law_120 : decode cL_law 120 = .ok (.aload_n 2, 1) := dk_44 (dk_at dksL_law_3 4 rfl rfl)
theorem dL_law_121 : decode cL_law 121 = .ok (.invokevirtual 17, 3) := dk_182 0 17 (dk_at dksL_law_3 5 rfl rfl)
theorem dL_law_124 : decode cL_law 124 = .ok (.if_icmp .eq 533, 3) := dk_159 2 21 (dk_at dksL_law_3 8 rfl rfl)
theorem dL_law_127 : decode cL_law 127 = .ok (.iconst 0, 1) := dk_3 (dk_at dksL_law_3 11 rfl rfl)
theorem dL_law_128 : decode cL_law 128 = .ok (.ireturn, 1) := dk_172 (dk_at dksL_law_3 12 rfl rfl)
theorem dL_law_129 : decode cL_law 129 = .ok (.aload_n 1, 1) := dk_43 (dk_at dksL_law_3 13 rfl rfl)
theorem dL_law_130 : decode cL_law 130 = .ok (.aload_n 0, 1) := dk_42 (dk_at dksL_law_3 14 rfl rfl)
theorem dL_law_131 : decode cL_law 131 = .ok (.iload_n 3, 1) := dk_29 (dk_at dksL_law_3 15 rfl rfl)
theorem dL_law_132 : decode cL_law 132 = .ok (.iconst 1, 1) := dk_4 (dk_at dksL_law_3 16 rfl rfl)
theorem dL_law_133 : decode cL_law 133 = .ok (.iadd, 1) := dk_96 (dk_at dksL_law_3 17 rfl rfl)
theorem dL_law_134 : decode cL_law 134 = .ok (.iaload, 1) := dk_46 (dk_at dksL_law_3 18 rfl rfl)
theorem dL_law_135 : decode cL_law 135 = .ok (.aload_n 0, 1) := dk_42 (dk_at dksL_law_3 19 rfl rfl)
theorem dL_law_136 : decode cL_law 136 = .ok (.iload_n 3, 1) := dk_29 (dk_at dksL_law_3 20 rfl rfl)
theorem dL_law_137 : decode cL_law 137 = .ok (.iconst 2, 1) := dk_5 (dk_at dksL_law_3 21 rfl rfl)
theorem dL_law_138 : decode cL_law 138 = .ok (.iadd, 1) := dk_96 (dk_at dksL_law_3 22 rfl rfl)
theorem dL_law_139 : decode cL_law 139 = .ok (.iaload, 1) := dk_46 (dk_at dksL_law_3 23 rfl rfl)
theorem dL_law_140 : decode cL_law 140 = .ok (.invokevirtual 18, 3) := dk_182 0 18 (dk_at dksL_law_4 0 rfl rfl)
theorem dL_law_143 : decode cL_law 143 = .ok (.aload_n 2, 1) := dk_44 (dk_at dksL_law_4 3 rfl rfl)
theorem dL_law_144 : decode cL_law 144 = .ok (.aload_n 0, 1) := dk_42 (dk_at dksL_law_4 4 rfl rfl)
theorem dL_law_145 : decode cL_law 145 = .ok (.iload_n 3, 1) := dk_29 (dk_at dksL_law_4 5 rfl rfl)
theorem dL_law_146 : decode cL_law 146 = .ok (.iconst 1, 1) := dk_4 (dk_at dksL_law_4 6 rfl rfl)
theorem dL_law_147 : decode cL_law 147 = .ok (.iadd, 1) := dk_96 (dk_at dksL_law_4 7 rfl rfl)
theorem dL_law_148 : decode cL_law 148 = .ok (.iaload, 1) := dk_46 (dk_at dksL_law_4 8 rfl rfl)
theorem dL_law_149 : decode cL_law 149 = .ok (.aload_n 0, 1) := dk_42 (dk_at dksL_law_4 9 rfl rfl)
theorem dL_law_150 : decode cL_law 150 = .ok (.iload_n 3, 1) := dk_29 (dk_at dksL_law_4 10 rfl rfl)
theorem dL_law_151 : decode cL_law 151 = .ok (.iconst 2, 1) := dk_5 (dk_at dksL_law_4 11 rfl rfl)
theorem dL_law_152 : decode cL_law 152 = .ok (.iadd, 1) := dk_96 (dk_at dksL_law_4 12 rfl rfl)
theorem dL_law_153 : decode cL_law 153 = .ok (.iaload, 1) := dk_46 (dk_at dksL_law_4 13 rfl rfl)
theorem dL_law_154 : decode cL_law 154 = .ok (.invokevirtual 22, 3) := dk_182 0 22 (dk_at dksL_law_4 14 rfl rfl)
theorem dL_law_157 : decode cL_law 157 = .ok (.if_icmp .eq 500, 3) := dk_159 1 244 (dk_at dksL_law_4 17 rfl rfl)
theorem dL_law_160 : decode cL_law 160 = .ok (.iconst 0, 1) := dk_3 (dk_at dksL_law_4 20 rfl rfl)
theorem dL_law_161 : decode cL_law 161 = .ok (.ireturn, 1) := dk_172 (dk_at dksL_law_4 21 rfl rfl)
theorem dL_law_162 : decode cL_law 162 = .ok (.aload_n 1, 1) := dk_43 (dk_at dksL_law_4 22 rfl rfl)
theorem dL_law_163 : decode cL_law 163 = .ok (.aload_n 0, 1) := dk_42 (dk_at dksL_law_4 23 rfl rfl)
theorem dL_law_164 : decode cL_law 164 = .ok (.iload_n 3, 1) := dk_29 (dk_at dksL_law_5 0 rfl rfl)
theorem dL_law_165 : decode cL_law 165 = .ok (.iconst 1, 1) := dk_4 (dk_at dksL_law_5 1 rfl rfl)
theorem dL_law_166 : decode cL_law 166 = .ok (.iadd, 1) := dk_96 (dk_at dksL_law_5 2 rfl rfl)
theorem dL_law_167 : decode cL_law 167 = .ok (.iaload, 1) := dk_46 (dk_at dksL_law_5 3 rfl rfl)
theorem dL_law_168 : decode cL_law 168 = .ok (.aload_n 0, 1) := dk_42 (dk_at dksL_law_5 4 rfl rfl)
theorem dL_law_169 : decode cL_law 169 = .ok (.iload_n 3, 1) := dk_29 (dk_at dksL_law_5 5 rfl rfl)
theorem dL_law_170 : decode cL_law 170 = .ok (.iconst 2, 1) := dk_5 (dk_at dksL_law_5 6 rfl rfl)
theorem dL_law_171 : decode cL_law 171 = .ok (.iadd, 1) := dk_96 (dk_at dksL_law_5 7 rfl rfl)
theorem dL_law_172 : decode cL_law 172 = .ok (.iaload, 1) := dk_46 (dk_at dksL_law_5 8 rfl rfl)
theorem dL_law_173 : decode cL_law 173 = .ok (.aload_n 0, 1) := dk_42 (dk_at dksL_law_5 9 rfl rfl)
theorem dL_law_174 : decode cL_law 174 = .ok (.iload_n 3, 1) := dk_29 (dk_at dksL_law_5 10 rfl rfl)
theorem dL_law_175 : decode cL_law 175 = .ok (.iconst 3, 1) := dk_6 (dk_at dksL_law_5 11 rfl rfl)
theorem dL_law_176 : decode cL_law 176 = .ok (.iadd, 1) := dk_96 (dk_at dksL_law_5 12 rfl rfl)
theorem dL_law_177 : decode cL_law 177 = .ok (.iaload, 1) := dk_46 (dk_at dksL_law_5 13 rfl rfl)
theorem dL_law_178 : decode cL_law 178 = .ok (.aload_n 0, 1) := dk_42 (dk_at dksL_law_5 14 rfl rfl)
theorem dL_law_179 : decode cL_law 179 = .ok (.iload_n 3, 1) := dk_29 (dk_at dksL_law_5 15 rfl rfl)
theorem dL_law_180 : decode cL_law 180 = .ok (.iconst 4, 1) := dk_7 (dk_at dksL_law_5 16 rfl rfl)
theorem dL_law_181 : decode cL_law 181 = .ok (.iadd, 1) := dk_96 (dk_at dksL_law_5 17 rfl rfl)
theorem dL_law_182 : decode cL_law 182 = .ok (.iaload, 1) := dk_46 (dk_at dksL_law_5 18 rfl rfl)
theorem dL_law_183 : decode cL_law 183 = .ok (.aload_n 0, 1) := dk_42 (dk_at dksL_law_5 19 rfl rfl)
theorem dL_law_184 : decode cL_law 184 = .ok (.iload_n 3, 1) := dk_29 (dk_at dksL_law_5 20 rfl rfl)
theorem dL_law_185 : decode cL_law 185 = .ok (.iconst 5, 1) := dk_8 (dk_at dksL_law_5 21 rfl rfl)
theorem dL_law_186 : decode cL_law 186 = .ok (.iadd, 1) := dk_96 (dk_at dksL_law_5 22 rfl rfl)
theorem dL_law_187 : decode cL_law 187 = .ok (.iaload, 1) := dk_46 (dk_at dksL_law_5 23 rfl rfl)
theorem dL_law_188 : decode cL_law 188 = .ok (.invokevirtual 23, 3) := dk_182 0 23 (dk_at dksL_law_6 0 rfl rfl)
theorem dL_law_191 : decode cL_law 191 = .ok (.aload_n 2, 1) := dk_44 (dk_at dksL_law_6 3 rfl rfl)
theorem dL_law_192 : decode cL_law 192 = .ok (.aload_n 0, 1) := dk_42 (dk_at dksL_law_6 4 rfl rfl)
theorem dL_law_193 : decode cL_law 193 = .ok (.iload_n 3, 1) := dk_29 (dk_at dksL_law_6 5 rfl rfl)
theorem dL_law_194 : decode cL_law 194 = .ok (.iconst 1, 1) := dk_4 (dk_at dksL_law_6 6 rfl rfl)
theorem dL_law_195 : decode cL_law 195 = .ok (.iadd, 1) := dk_96 (dk_at dksL_law_6 7 rfl rfl)
theorem dL_law_196 : decode cL_law 196 = .ok (.iaload, 1) := dk_46 (dk_at dksL_law_6 8 rfl rfl)
theorem dL_law_197 : decode cL_law 197 = .ok (.aload_n 0, 1) := dk_42 (dk_at dksL_law_6 9 rfl rfl)
theorem dL_law_198 : decode cL_law 198 = .ok (.iload_n 3, 1) := dk_29 (dk_at dksL_law_6 10 rfl rfl)
theorem dL_law_199 : decode cL_law 199 = .ok (.iconst 2, 1) := dk_5 (dk_at dksL_law_6 11 rfl rfl)
theorem dL_law_200 : decode cL_law 200 = .ok (.iadd, 1) := dk_96 (dk_at dksL_law_6 12 rfl rfl)
theorem dL_law_201 : decode cL_law 201 = .ok (.iaload, 1) := dk_46 (dk_at dksL_law_6 13 rfl rfl)
theorem dL_law_202 : decode cL_law 202 = .ok (.aload_n 0, 1) := dk_42 (dk_at dksL_law_6 14 rfl rfl)
theorem dL_law_203 : decode cL_law 203 = .ok (.iload_n 3, 1) := dk_29 (dk_at dksL_law_6 15 rfl rfl)
theorem dL_law_204 : decode cL_law 204 = .ok (.iconst 3, 1) := dk_6 (dk_at dksL_law_6 16 rfl rfl)
theorem dL_law_205 : decode cL_law 205 = .ok (.iadd, 1) := dk_96 (dk_at dksL_law_6 17 rfl rfl)
theorem dL_law_206 : decode cL_law 206 = .ok (.iaload, 1) := dk_46 (dk_at dksL_law_6 18 rfl rfl)
theorem dL_law_207 : decode cL_law 207 = .ok (.aload_n 0, 1) := dk_42 (dk_at dksL_law_6 19 rfl rfl)
theorem dL_law_208 : decode cL_law 208 = .ok (.iload_n 3, 1) := dk_29 (dk_at dksL_law_6 20 rfl rfl)
theorem dL_law_209 : decode cL_law 209 = .ok (.iconst 4, 1) := dk_7 (dk_at dksL_law_6 21 rfl rfl)
theorem dL_law_210 : decode cL_law 210 = .ok (.iadd, 1) := dk_96 (dk_at dksL_law_6 22 rfl rfl)
theorem dL_law_211 : decode cL_law 211 = .ok (.iaload, 1) := dk_46 (dk_at dksL_law_6 23 rfl rfl)
theorem dL_law_212 : decode cL_law 212 = .ok (.aload_n 0, 1) := dk_42 (dk_at dksL_law_7 0 rfl rfl)
theorem dL_law_213 : decode cL_law 213 = .ok (.iload_n 3, 1) := dk_29 (dk_at dksL_law_7 1 rfl rfl)
theorem dL_law_214 : decode cL_law 214 = .ok (.iconst 5, 1) := dk_8 (dk_at dksL_law_7 2 rfl rfl)
theorem dL_law_215 : decode cL_law 215 = .ok (.iadd, 1) := dk_96 (dk_at dksL_law_7 3 rfl rfl)
theorem dL_law_216 : decode cL_law 216 = .ok (.iaload, 1) := dk_46 (dk_at dksL_law_7 4 rfl rfl)
theorem dL_law_217 : decode cL_law 217 = .ok (.invokevirtual 27, 3) := dk_182 0 27 (dk_at dksL_law_7 5 rfl rfl)
theorem dL_law_220 : decode cL_law 220 = .ok (.if_icmp .eq 437, 3) := dk_159 1 181 (dk_at dksL_law_7 8 rfl rfl)
theorem dL_law_223 : decode cL_law 223 = .ok (.iconst 0, 1) := dk_3 (dk_at dksL_law_7 11 rfl rfl)
theorem dL_law_224 : decode cL_law 224 = .ok (.ireturn, 1) := dk_172 (dk_at dksL_law_7 12 rfl rfl)
theorem dL_law_225 : decode cL_law 225 = .ok (.aload_n 1, 1) := dk_43 (dk_at dksL_law_7 13 rfl rfl)
theorem dL_law_226 : decode cL_law 226 = .ok (.aload_n 0, 1) := dk_42 (dk_at dksL_law_7 14 rfl rfl)
theorem dL_law_227 : decode cL_law 227 = .ok (.iload_n 3, 1) := dk_29 (dk_at dksL_law_7 15 rfl rfl)
theorem dL_law_228 : decode cL_law 228 = .ok (.iconst 1, 1) := dk_4 (dk_at dksL_law_7 16 rfl rfl)
theorem dL_law_229 : decode cL_law 229 = .ok (.iadd, 1) := dk_96 (dk_at dksL_law_7 17 rfl rfl)
theorem dL_law_230 : decode cL_law 230 = .ok (.iaload, 1) := dk_46 (dk_at dksL_law_7 18 rfl rfl)
theorem dL_law_231 : decode cL_law 231 = .ok (.aload_n 0, 1) := dk_42 (dk_at dksL_law_7 19 rfl rfl)
theorem dL_law_232 : decode cL_law 232 = .ok (.iload_n 3, 1) := dk_29 (dk_at dksL_law_7 20 rfl rfl)
theorem dL_law_233 : decode cL_law 233 = .ok (.iconst 2, 1) := dk_5 (dk_at dksL_law_7 21 rfl rfl)
theorem dL_law_234 : decode cL_law 234 = .ok (.iadd, 1) := dk_96 (dk_at dksL_law_7 22 rfl rfl)
theorem dL_law_235 : decode cL_law 235 = .ok (.iaload, 1) := dk_46 (dk_at dksL_law_7 23 rfl rfl)
theorem dL_law_236 : decode cL_law 236 = .ok (.invokevirtual 28, 3) := dk_182 0 28 (dk_at dksL_law_8 0 rfl rfl)
theorem dL_law_239 : decode cL_law 239 = .ok (.aload_n 2, 1) := dk_44 (dk_at dksL_law_8 3 rfl rfl)
theorem dL_law_240 : decode cL_law 240 = .ok (.aload_n 0, 1) := dk_42 (dk_at dksL_law_8 4 rfl rfl)
theorem dL_law_241 : decode cL_law 241 = .ok (.iload_n 3, 1) := dk_29 (dk_at dksL_law_8 5 rfl rfl)
theorem dL_law_242 : decode cL_law 242 = .ok (.iconst 1, 1) := dk_4 (dk_at dksL_law_8 6 rfl rfl)
theorem dL_law_243 : decode cL_law 243 = .ok (.iadd, 1) := dk_96 (dk_at dksL_law_8 7 rfl rfl)
theorem dL_law_244 : decode cL_law 244 = .ok (.iaload, 1) := dk_46 (dk_at dksL_law_8 8 rfl rfl)
theorem dL_law_245 : decode cL_law 245 = .ok (.aload_n 0, 1) := dk_42 (dk_at dksL_law_8 9 rfl rfl)
theorem dL_law_246 : decode cL_law 246 = .ok (.iload_n 3, 1) := dk_29 (dk_at dksL_law_8 10 rfl rfl)
theorem dL_law_247 : decode cL_law 247 = .ok (.iconst 2, 1) := dk_5 (dk_at dksL_law_8 11 rfl rfl)
theorem dL_law_248 : decode cL_law 248 = .ok (.iadd, 1) := dk_96 (dk_at dksL_law_8 12 rfl rfl)
theorem dL_law_249 : decode cL_law 249 = .ok (.iaload, 1) := dk_46 (dk_at dksL_law_8 13 rfl rfl)
theorem dL_law_250 : decode cL_law 250 = .ok (.invokevirtual 31, 3) := dk_182 0 31 (dk_at dksL_law_8 14 rfl rfl)
theorem dL_law_253 : decode cL_law 253 = .ok (.if_icmp .eq 404, 3) := dk_159 1 148 (dk_at dksL_law_8 17 rfl rfl)
theorem dL_law_256 : decode cL_law 256 = .ok (.iconst 0, 1) := dk_3 (dk_at dksL_law_8 20 rfl rfl)
theorem dL_law_257 : decode cL_law 257 = .ok (.ireturn, 1) := dk_172 (dk_at dksL_law_8 21 rfl rfl)
theorem dL_law_258 : decode cL_law 258 = .ok (.aload_n 1, 1) := dk_43 (dk_at dksL_law_8 22 rfl rfl)
theorem dL_law_259 : decode cL_law 259 = .ok (.aload_n 0, 1) := dk_42 (dk_at dksL_law_8 23 rfl rfl)
theorem dL_law_260 : decode cL_law 260 = .ok (.iload_n 3, 1) := dk_29 (dk_at dksL_law_9 0 rfl rfl)
theorem dL_law_261 : decode cL_law 261 = .ok (.iconst 1, 1) := dk_4 (dk_at dksL_law_9 1 rfl rfl)
theorem dL_law_262 : decode cL_law 262 = .ok (.iadd, 1) := dk_96 (dk_at dksL_law_9 2 rfl rfl)
theorem dL_law_263 : decode cL_law 263 = .ok (.iaload, 1) := dk_46 (dk_at dksL_law_9 3 rfl rfl)
theorem dL_law_264 : decode cL_law 264 = .ok (.aload_n 0, 1) := dk_42 (dk_at dksL_law_9 4 rfl rfl)
theorem dL_law_265 : decode cL_law 265 = .ok (.iload_n 3, 1) := dk_29 (dk_at dksL_law_9 5 rfl rfl)
theorem dL_law_266 : decode cL_law 266 = .ok (.iconst 2, 1) := dk_5 (dk_at dksL_law_9 6 rfl rfl)
theorem dL_law_267 : decode cL_law 267 = .ok (.iadd, 1) := dk_96 (dk_at dksL_law_9 7 rfl rfl)
theorem dL_law_268 : decode cL_law 268 = .ok (.iaload, 1) := dk_46 (dk_at dksL_law_9 8 rfl rfl)
theorem dL_law_269 : decode cL_law 269 = .ok (.invokevirtual 32, 3) := dk_182 0 32 (dk_at dksL_law_9 9 rfl rfl)
theorem dL_law_272 : decode cL_law 272 = .ok (.aload_n 2, 1) := dk_44 (dk_at dksL_law_9 12 rfl rfl)
theorem dL_law_273 : decode cL_law 273 = .ok (.aload_n 0, 1) := dk_42 (dk_at dksL_law_9 13 rfl rfl)
theorem dL_law_274 : decode cL_law 274 = .ok (.iload_n 3, 1) := dk_29 (dk_at dksL_law_9 14 rfl rfl)
theorem dL_law_275 : decode cL_law 275 = .ok (.iconst 1, 1) := dk_4 (dk_at dksL_law_9 15 rfl rfl)
theorem dL_law_276 : decode cL_law 276 = .ok (.iadd, 1) := dk_96 (dk_at dksL_law_9 16 rfl rfl)
theorem dL_law_277 : decode cL_law 277 = .ok (.iaload, 1) := dk_46 (dk_at dksL_law_9 17 rfl rfl)
theorem dL_law_278 : decode cL_law 278 = .ok (.aload_n 0, 1) := dk_42 (dk_at dksL_law_9 18 rfl rfl)
theorem dL_law_279 : decode cL_law 279 = .ok (.iload_n 3, 1) := dk_29 (dk_at dksL_law_9 19 rfl rfl)
theorem dL_law_280 : decode cL_law 280 = .ok (.iconst 2, 1) := dk_5 (dk_at dksL_law_9 20 rfl rfl)
theorem dL_law_281 : decode cL_law 281 = .ok (.iadd, 1) := dk_96 (dk_at dksL_law_9 21 rfl rfl)
theorem dL_law_282 : decode cL_law 282 = .ok (.iaload, 1) := dk_46 (dk_at dksL_law_9 22 rfl rfl)
theorem dL_law_283 : decode cL_law 283 = .ok (.invokevirtual 35, 3) := dk_182 0 35 (dk_at dksL_law_10 0 rfl rfl)
theorem dL_law_286 : decode cL_law 286 = .ok (.if_icmp .eq 371, 3) := dk_159 1 115 (dk_at dksL_law_10 3 rfl rfl)
theorem dL_law_289 : decode cL_law 289 = .ok (.iconst 0, 1) := dk_3 (dk_at dksL_law_10 6 rfl rfl)
theorem dL_law_290 : decode cL_law 290 = .ok (.ireturn, 1) := dk_172 (dk_at dksL_law_10 7 rfl rfl)
theorem dL_law_291 : decode cL_law 291 = .ok (.aload_n 1, 1) := dk_43 (dk_at dksL_law_10 8 rfl rfl)
theorem dL_law_292 : decode cL_law 292 = .ok (.aload_n 0, 1) := dk_42 (dk_at dksL_law_10 9 rfl rfl)
theorem dL_law_293 : decode cL_law 293 = .ok (.iload_n 3, 1) := dk_29 (dk_at dksL_law_10 10 rfl rfl)
theorem dL_law_294 : decode cL_law 294 = .ok (.iconst 1, 1) := dk_4 (dk_at dksL_law_10 11 rfl rfl)
theorem dL_law_295 : decode cL_law 295 = .ok (.iadd, 1) := dk_96 (dk_at dksL_law_10 12 rfl rfl)
theorem dL_law_296 : decode cL_law 296 = .ok (.iaload, 1) := dk_46 (dk_at dksL_law_10 13 rfl rfl)
theorem dL_law_297 : decode cL_law 297 = .ok (.aload_n 0, 1) := dk_42 (dk_at dksL_law_10 14 rfl rfl)
theorem dL_law_298 : decode cL_law 298 = .ok (.iload_n 3, 1) := dk_29 (dk_at dksL_law_10 15 rfl rfl)
theorem dL_law_299 : decode cL_law 299 = .ok (.iconst 2, 1) := dk_5 (dk_at dksL_law_10 16 rfl rfl)
theorem dL_law_300 : decode cL_law 300 = .ok (.iadd, 1) := dk_96 (dk_at dksL_law_10 17 rfl rfl)
theorem dL_law_301 : decode cL_law 301 = .ok (.iaload, 1) := dk_46 (dk_at dksL_law_10 18 rfl rfl)
theorem dL_law_302 : decode cL_law 302 = .ok (.aload_n 0, 1) := dk_42 (dk_at dksL_law_10 19 rfl rfl)
theorem dL_law_303 : decode cL_law 303 = .ok (.iload_n 3, 1) := dk_29 (dk_at dksL_law_10 20 rfl rfl)
theorem dL_law_304 : decode cL_law 304 = .ok (.iconst 3, 1) := dk_6 (dk_at dksL_law_10 21 rfl rfl)
theorem dL_law_305 : decode cL_law 305 = .ok (.iadd, 1) := dk_96 (dk_at dksL_law_10 22 rfl rfl)
theorem dL_law_306 : decode cL_law 306 = .ok (.iaload, 1) := dk_46 (dk_at dksL_law_10 23 rfl rfl)
theorem dL_law_307 : decode cL_law 307 = .ok (.aload_n 0, 1) := dk_42 (dk_at dksL_law_11 0 rfl rfl)
theorem dL_law_308 : decode cL_law 308 = .ok (.iload_n 3, 1) := dk_29 (dk_at dksL_law_11 1 rfl rfl)
theorem dL_law_309 : decode cL_law 309 = .ok (.iconst 4, 1) := dk_7 (dk_at dksL_law_11 2 rfl rfl)
theorem dL_law_310 : decode cL_law 310 = .ok (.iadd, 1) := dk_96 (dk_at dksL_law_11 3 rfl rfl)
theorem dL_law_311 : decode cL_law 311 = .ok (.iaload, 1) := dk_46 (dk_at dksL_law_11 4 rfl rfl)
theorem dL_law_312 : decode cL_law 312 = .ok (.aload_n 0, 1) := dk_42 (dk_at dksL_law_11 5 rfl rfl)
theorem dL_law_313 : decode cL_law 313 = .ok (.iload_n 3, 1) := dk_29 (dk_at dksL_law_11 6 rfl rfl)
theorem dL_law_314 : decode cL_law 314 = .ok (.iconst 5, 1) := dk_8 (dk_at dksL_law_11 7 rfl rfl)
theorem dL_law_315 : decode cL_law 315 = .ok (.iadd, 1) := dk_96 (dk_at dksL_law_11 8 rfl rfl)
theorem dL_law_316 : decode cL_law 316 = .ok (.iaload, 1) := dk_46 (dk_at dksL_law_11 9 rfl rfl)
theorem dL_law_317 : decode cL_law 317 = .ok (.invokevirtual 36, 3) := dk_182 0 36 (dk_at dksL_law_11 10 rfl rfl)
theorem dL_law_320 : decode cL_law 320 = .ok (.aload_n 2, 1) := dk_44 (dk_at dksL_law_11 13 rfl rfl)
theorem dL_law_321 : decode cL_law 321 = .ok (.aload_n 0, 1) := dk_42 (dk_at dksL_law_11 14 rfl rfl)
theorem dL_law_322 : decode cL_law 322 = .ok (.iload_n 3, 1) := dk_29 (dk_at dksL_law_11 15 rfl rfl)
theorem dL_law_323 : decode cL_law 323 = .ok (.iconst 1, 1) := dk_4 (dk_at dksL_law_11 16 rfl rfl)
theorem dL_law_324 : decode cL_law 324 = .ok (.iadd, 1) := dk_96 (dk_at dksL_law_11 17 rfl rfl)
theorem dL_law_325 : decode cL_law 325 = .ok (.iaload, 1) := dk_46 (dk_at dksL_law_11 18 rfl rfl)
theorem dL_law_326 : decode cL_law 326 = .ok (.aload_n 0, 1) := dk_42 (dk_at dksL_law_11 19 rfl rfl)
theorem dL_law_327 : decode cL_law 327 = .ok (.iload_n 3, 1) := dk_29 (dk_at dksL_law_11 20 rfl rfl)
theorem dL_law_328 : decode cL_law 328 = .ok (.iconst 2, 1) := dk_5 (dk_at dksL_law_11 21 rfl rfl)
theorem dL_law_329 : decode cL_law 329 = .ok (.iadd, 1) := dk_96 (dk_at dksL_law_11 22 rfl rfl)
theorem dL_law_330 : decode cL_law 330 = .ok (.iaload, 1) := dk_46 (dk_at dksL_law_11 23 rfl rfl)
theorem dL_law_331 : decode cL_law 331 = .ok (.aload_n 0, 1) := dk_42 (dk_at dksL_law_12 0 rfl rfl)
theorem dL_law_332 : decode cL_law 332 = .ok (.iload_n 3, 1) := dk_29 (dk_at dksL_law_12 1 rfl rfl)
theorem dL_law_333 : decode cL_law 333 = .ok (.iconst 3, 1) := dk_6 (dk_at dksL_law_12 2 rfl rfl)
theorem dL_law_334 : decode cL_law 334 = .ok (.iadd, 1) := dk_96 (dk_at dksL_law_12 3 rfl rfl)
theorem dL_law_335 : decode cL_law 335 = .ok (.iaload, 1) := dk_46 (dk_at dksL_law_12 4 rfl rfl)
theorem dL_law_336 : decode cL_law 336 = .ok (.aload_n 0, 1) := dk_42 (dk_at dksL_law_12 5 rfl rfl)
theorem dL_law_337 : decode cL_law 337 = .ok (.iload_n 3, 1) := dk_29 (dk_at dksL_law_12 6 rfl rfl)
theorem dL_law_338 : decode cL_law 338 = .ok (.iconst 4, 1) := dk_7 (dk_at dksL_law_12 7 rfl rfl)
theorem dL_law_339 : decode cL_law 339 = .ok (.iadd, 1) := dk_96 (dk_at dksL_law_12 8 rfl rfl)
theorem dL_law_340 : decode cL_law 340 = .ok (.iaload, 1) := dk_46 (dk_at dksL_law_12 9 rfl rfl)
theorem dL_law_341 : decode cL_law 341 = .ok (.aload_n 0, 1) := dk_42 (dk_at dksL_law_12 10 rfl rfl)
theorem dL_law_342 : decode cL_law 342 = .ok (.iload_n 3, 1) := dk_29 (dk_at dksL_law_12 11 rfl rfl)
theorem dL_law_343 : decode cL_law 343 = .ok (.iconst 5, 1) := dk_8 (dk_at dksL_law_12 12 rfl rfl)
theorem dL_law_344 : decode cL_law 344 = .ok (.iadd, 1) := dk_96 (dk_at dksL_law_12 13 rfl rfl)
theorem dL_law_345 : decode cL_law 345 = .ok (.iaload, 1) := dk_46 (dk_at dksL_law_12 14 rfl rfl)
theorem dL_law_346 : decode cL_law 346 = .ok (.invokevirtual 39, 3) := dk_182 0 39 (dk_at dksL_law_12 15 rfl rfl)
theorem dL_law_349 : decode cL_law 349 = .ok (.if_icmp .eq 308, 3) := dk_159 1 52 (dk_at dksL_law_12 18 rfl rfl)
theorem dL_law_352 : decode cL_law 352 = .ok (.iconst 0, 1) := dk_3 (dk_at dksL_law_12 21 rfl rfl)
theorem dL_law_353 : decode cL_law 353 = .ok (.ireturn, 1) := dk_172 (dk_at dksL_law_12 22 rfl rfl)
theorem dL_law_354 : decode cL_law 354 = .ok (.aload_n 1, 1) := dk_43 (dk_at dksL_law_12 23 rfl rfl)
theorem dL_law_355 : decode cL_law 355 = .ok (.aload_n 0, 1) := dk_42 (dk_at dksL_law_13 0 rfl rfl)
theorem dL_law_356 : decode cL_law 356 = .ok (.iload_n 3, 1) := dk_29 (dk_at dksL_law_13 1 rfl rfl)
theorem dL_law_357 : decode cL_law 357 = .ok (.iconst 1, 1) := dk_4 (dk_at dksL_law_13 2 rfl rfl)
theorem dL_law_358 : decode cL_law 358 = .ok (.iadd, 1) := dk_96 (dk_at dksL_law_13 3 rfl rfl)
theorem dL_law_359 : decode cL_law 359 = .ok (.iaload, 1) := dk_46 (dk_at dksL_law_13 4 rfl rfl)
theorem dL_law_360 : decode cL_law 360 = .ok (.aload_n 0, 1) := dk_42 (dk_at dksL_law_13 5 rfl rfl)
theorem dL_law_361 : decode cL_law 361 = .ok (.iload_n 3, 1) := dk_29 (dk_at dksL_law_13 6 rfl rfl)
theorem dL_law_362 : decode cL_law 362 = .ok (.iconst 2, 1) := dk_5 (dk_at dksL_law_13 7 rfl rfl)
theorem dL_law_363 : decode cL_law 363 = .ok (.iadd, 1) := dk_96 (dk_at dksL_law_13 8 rfl rfl)
theorem dL_law_364 : decode cL_law 364 = .ok (.iaload, 1) := dk_46 (dk_at dksL_law_13 9 rfl rfl)
theorem dL_law_365 : decode cL_law 365 = .ok (.invokevirtual 40, 3) := dk_182 0 40 (dk_at dksL_law_13 10 rfl rfl)
theorem dL_law_368 : decode cL_law 368 = .ok (.aload_n 2, 1) := dk_44 (dk_at dksL_law_13 13 rfl rfl)
theorem dL_law_369 : decode cL_law 369 = .ok (.aload_n 0, 1) := dk_42 (dk_at dksL_law_13 14 rfl rfl)
theorem dL_law_370 : decode cL_law 370 = .ok (.iload_n 3, 1) := dk_29 (dk_at dksL_law_13 15 rfl rfl)
theorem dL_law_371 : decode cL_law 371 = .ok (.iconst 1, 1) := dk_4 (dk_at dksL_law_13 16 rfl rfl)
theorem dL_law_372 : decode cL_law 372 = .ok (.iadd, 1) := dk_96 (dk_at dksL_law_13 17 rfl rfl)
theorem dL_law_373 : decode cL_law 373 = .ok (.iaload, 1) := dk_46 (dk_at dksL_law_13 18 rfl rfl)
theorem dL_law_374 : decode cL_law 374 = .ok (.aload_n 0, 1) := dk_42 (dk_at dksL_law_13 19 rfl rfl)
theorem dL_law_375 : decode cL_law 375 = .ok (.iload_n 3, 1) := dk_29 (dk_at dksL_law_13 20 rfl rfl)
theorem dL_law_376 : decode cL_law 376 = .ok (.iconst 2, 1) := dk_5 (dk_at dksL_law_13 21 rfl rfl)
theorem dL_law_377 : decode cL_law 377 = .ok (.iadd, 1) := dk_96 (dk_at dksL_law_13 22 rfl rfl)
theorem dL_law_378 : decode cL_law 378 = .ok (.iaload, 1) := dk_46 (dk_at dksL_law_13 23 rfl rfl)
theorem dL_law_379 : decode cL_law 379 = .ok (.invokevirtual 43, 3) := dk_182 0 43 (dk_at dksL_law_14 0 rfl rfl)
theorem dL_law_382 : decode cL_law 382 = .ok (.if_icmp .eq 275, 3) := dk_159 1 19 (dk_at dksL_law_14 3 rfl rfl)
theorem dL_law_385 : decode cL_law 385 = .ok (.iconst 0, 1) := dk_3 (dk_at dksL_law_14 6 rfl rfl)
theorem dL_law_386 : decode cL_law 386 = .ok (.ireturn, 1) := dk_172 (dk_at dksL_law_14 7 rfl rfl)
theorem dL_law_387 : decode cL_law 387 = .ok (.aload_n 1, 1) := dk_43 (dk_at dksL_law_14 8 rfl rfl)
theorem dL_law_388 : decode cL_law 388 = .ok (.aload_n 0, 1) := dk_42 (dk_at dksL_law_14 9 rfl rfl)
theorem dL_law_389 : decode cL_law 389 = .ok (.iload_n 3, 1) := dk_29 (dk_at dksL_law_14 10 rfl rfl)
theorem dL_law_390 : decode cL_law 390 = .ok (.iconst 1, 1) := dk_4 (dk_at dksL_law_14 11 rfl rfl)
theorem dL_law_391 : decode cL_law 391 = .ok (.iadd, 1) := dk_96 (dk_at dksL_law_14 12 rfl rfl)
theorem dL_law_392 : decode cL_law 392 = .ok (.iaload, 1) := dk_46 (dk_at dksL_law_14 13 rfl rfl)
theorem dL_law_393 : decode cL_law 393 = .ok (.invokevirtual 44, 3) := dk_182 0 44 (dk_at dksL_law_14 14 rfl rfl)
theorem dL_law_396 : decode cL_law 396 = .ok (.aload_n 2, 1) := dk_44 (dk_at dksL_law_14 17 rfl rfl)
theorem dL_law_397 : decode cL_law 397 = .ok (.aload_n 0, 1) := dk_42 (dk_at dksL_law_14 18 rfl rfl)
theorem dL_law_398 : decode cL_law 398 = .ok (.iload_n 3, 1) := dk_29 (dk_at dksL_law_14 19 rfl rfl)
theorem dL_law_399 : decode cL_law 399 = .ok (.iconst 1, 1) := dk_4 (dk_at dksL_law_14 20 rfl rfl)
theorem dL_law_400 : decode cL_law 400 = .ok (.iadd, 1) := dk_96 (dk_at dksL_law_14 21 rfl rfl)
theorem dL_law_401 : decode cL_law 401 = .ok (.iaload, 1) := dk_46 (dk_at dksL_law_14 22 rfl rfl)
theorem dL_law_402 : decode cL_law 402 = .ok (.invokevirtual 48, 3) := dk_182 0 48 (dk_at dksL_law_15 0 rfl rfl)
theorem dL_law_405 : decode cL_law 405 = .ok (.if_icmp .eq 252, 3) := dk_159 0 252 (dk_at dksL_law_15 3 rfl rfl)
theorem dL_law_408 : decode cL_law 408 = .ok (.iconst 0, 1) := dk_3 (dk_at dksL_law_15 6 rfl rfl)
theorem dL_law_409 : decode cL_law 409 = .ok (.ireturn, 1) := dk_172 (dk_at dksL_law_15 7 rfl rfl)
theorem dL_law_410 : decode cL_law 410 = .ok (.aload_n 1, 1) := dk_43 (dk_at dksL_law_15 8 rfl rfl)
theorem dL_law_411 : decode cL_law 411 = .ok (.aload_n 0, 1) := dk_42 (dk_at dksL_law_15 9 rfl rfl)
theorem dL_law_412 : decode cL_law 412 = .ok (.iload_n 3, 1) := dk_29 (dk_at dksL_law_15 10 rfl rfl)
theorem dL_law_413 : decode cL_law 413 = .ok (.iconst 1, 1) := dk_4 (dk_at dksL_law_15 11 rfl rfl)
theorem dL_law_414 : decode cL_law 414 = .ok (.iadd, 1) := dk_96 (dk_at dksL_law_15 12 rfl rfl)
theorem dL_law_415 : decode cL_law 415 = .ok (.iaload, 1) := dk_46 (dk_at dksL_law_15 13 rfl rfl)
theorem dL_law_416 : decode cL_law 416 = .ok (.aload_n 0, 1) := dk_42 (dk_at dksL_law_15 14 rfl rfl)
theorem dL_law_417 : decode cL_law 417 = .ok (.iload_n 3, 1) := dk_29 (dk_at dksL_law_15 15 rfl rfl)
theorem dL_law_418 : decode cL_law 418 = .ok (.iconst 2, 1) := dk_5 (dk_at dksL_law_15 16 rfl rfl)
theorem dL_law_419 : decode cL_law 419 = .ok (.iadd, 1) := dk_96 (dk_at dksL_law_15 17 rfl rfl)
theorem dL_law_420 : decode cL_law 420 = .ok (.iaload, 1) := dk_46 (dk_at dksL_law_15 18 rfl rfl)
theorem dL_law_421 : decode cL_law 421 = .ok (.invokevirtual 49, 3) := dk_182 0 49 (dk_at dksL_law_15 19 rfl rfl)
theorem dL_law_424 : decode cL_law 424 = .ok (.aload_n 2, 1) := dk_44 (dk_at dksL_law_15 22 rfl rfl)
theorem dL_law_425 : decode cL_law 425 = .ok (.aload_n 0, 1) := dk_42 (dk_at dksL_law_15 23 rfl rfl)
theorem dL_law_426 : decode cL_law 426 = .ok (.iload_n 3, 1) := dk_29 (dk_at dksL_law_16 0 rfl rfl)
theorem dL_law_427 : decode cL_law 427 = .ok (.iconst 1, 1) := dk_4 (dk_at dksL_law_16 1 rfl rfl)
theorem dL_law_428 : decode cL_law 428 = .ok (.iadd, 1) := dk_96 (dk_at dksL_law_16 2 rfl rfl)
theorem dL_law_429 : decode cL_law 429 = .ok (.iaload, 1) := dk_46 (dk_at dksL_law_16 3 rfl rfl)
theorem dL_law_430 : decode cL_law 430 = .ok (.aload_n 0, 1) := dk_42 (dk_at dksL_law_16 4 rfl rfl)
theorem dL_law_431 : decode cL_law 431 = .ok (.iload_n 3, 1) := dk_29 (dk_at dksL_law_16 5 rfl rfl)
theorem dL_law_432 : decode cL_law 432 = .ok (.iconst 2, 1) := dk_5 (dk_at dksL_law_16 6 rfl rfl)
theorem dL_law_433 : decode cL_law 433 = .ok (.iadd, 1) := dk_96 (dk_at dksL_law_16 7 rfl rfl)
theorem dL_law_434 : decode cL_law 434 = .ok (.iaload, 1) := dk_46 (dk_at dksL_law_16 8 rfl rfl)
theorem dL_law_435 : decode cL_law 435 = .ok (.invokevirtual 52, 3) := dk_182 0 52 (dk_at dksL_law_16 9 rfl rfl)
theorem dL_law_438 : decode cL_law 438 = .ok (.if_icmp .eq 219, 3) := dk_159 0 219 (dk_at dksL_law_16 12 rfl rfl)
theorem dL_law_441 : decode cL_law 441 = .ok (.iconst 0, 1) := dk_3 (dk_at dksL_law_16 15 rfl rfl)
theorem dL_law_442 : decode cL_law 442 = .ok (.ireturn, 1) := dk_172 (dk_at dksL_law_16 16 rfl rfl)
theorem dL_law_443 : decode cL_law 443 = .ok (.aload_n 1, 1) := dk_43 (dk_at dksL_law_16 17 rfl rfl)
theorem dL_law_444 : decode cL_law 444 = .ok (.aload_n 0, 1) := dk_42 (dk_at dksL_law_16 18 rfl rfl)
theorem dL_law_445 : decode cL_law 445 = .ok (.iload_n 3, 1) := dk_29 (dk_at dksL_law_16 19 rfl rfl)
theorem dL_law_446 : decode cL_law 446 = .ok (.iconst 1, 1) := dk_4 (dk_at dksL_law_16 20 rfl rfl)
theorem dL_law_447 : decode cL_law 447 = .ok (.iadd, 1) := dk_96 (dk_at dksL_law_16 21 rfl rfl)
theorem dL_law_448 : decode cL_law 448 = .ok (.iaload, 1) := dk_46 (dk_at dksL_law_16 22 rfl rfl)
theorem dL_law_449 : decode cL_law 449 = .ok (.aload_n 0, 1) := dk_42 (dk_at dksL_law_16 23 rfl rfl)
theorem dL_law_450 : decode cL_law 450 = .ok (.iload_n 3, 1) := dk_29 (dk_at dksL_law_17 0 rfl rfl)
theorem dL_law_451 : decode cL_law 451 = .ok (.iconst 2, 1) := dk_5 (dk_at dksL_law_17 1 rfl rfl)
theorem dL_law_452 : decode cL_law 452 = .ok (.iadd, 1) := dk_96 (dk_at dksL_law_17 2 rfl rfl)
theorem dL_law_453 : decode cL_law 453 = .ok (.iaload, 1) := dk_46 (dk_at dksL_law_17 3 rfl rfl)
theorem dL_law_454 : decode cL_law 454 = .ok (.invokevirtual 53, 3) := dk_182 0 53 (dk_at dksL_law_17 4 rfl rfl)
theorem dL_law_457 : decode cL_law 457 = .ok (.aload_n 2, 1) := dk_44 (dk_at dksL_law_17 7 rfl rfl)
theorem dL_law_458 : decode cL_law 458 = .ok (.aload_n 0, 1) := dk_42 (dk_at dksL_law_17 8 rfl rfl)
theorem dL_law_459 : decode cL_law 459 = .ok (.iload_n 3, 1) := dk_29 (dk_at dksL_law_17 9 rfl rfl)
theorem dL_law_460 : decode cL_law 460 = .ok (.iconst 1, 1) := dk_4 (dk_at dksL_law_17 10 rfl rfl)
theorem dL_law_461 : decode cL_law 461 = .ok (.iadd, 1) := dk_96 (dk_at dksL_law_17 11 rfl rfl)
theorem dL_law_462 : decode cL_law 462 = .ok (.iaload, 1) := dk_46 (dk_at dksL_law_17 12 rfl rfl)
theorem dL_law_463 : decode cL_law 463 = .ok (.aload_n 0, 1) := dk_42 (dk_at dksL_law_17 13 rfl rfl)
theorem dL_law_464 : decode cL_law 464 = .ok (.iload_n 3, 1) := dk_29 (dk_at dksL_law_17 14 rfl rfl)
theorem dL_law_465 : decode cL_law 465 = .ok (.iconst 2, 1) := dk_5 (dk_at dksL_law_17 15 rfl rfl)
theorem dL_law_466 : decode cL_law 466 = .ok (.iadd, 1) := dk_96 (dk_at dksL_law_17 16 rfl rfl)
theorem dL_law_467 : decode cL_law 467 = .ok (.iaload, 1) := dk_46 (dk_at dksL_law_17 17 rfl rfl)
theorem dL_law_468 : decode cL_law 468 = .ok (.invokevirtual 56, 3) := dk_182 0 56 (dk_at dksL_law_17 18 rfl rfl)
theorem dL_law_471 : decode cL_law 471 = .ok (.if_icmp .eq 186, 3) := dk_159 0 186 (dk_at dksL_law_17 21 rfl rfl)
theorem dL_law_474 : decode cL_law 474 = .ok (.iconst 0, 1) := dk_3 (dk_at dksL_law_18 0 rfl rfl)
theorem dL_law_475 : decode cL_law 475 = .ok (.ireturn, 1) := dk_172 (dk_at dksL_law_18 1 rfl rfl)
theorem dL_law_476 : decode cL_law 476 = .ok (.aload_n 1, 1) := dk_43 (dk_at dksL_law_18 2 rfl rfl)
theorem dL_law_477 : decode cL_law 477 = .ok (.aload_n 0, 1) := dk_42 (dk_at dksL_law_18 3 rfl rfl)
theorem dL_law_478 : decode cL_law 478 = .ok (.iload_n 3, 1) := dk_29 (dk_at dksL_law_18 4 rfl rfl)
theorem dL_law_479 : decode cL_law 479 = .ok (.iconst 1, 1) := dk_4 (dk_at dksL_law_18 5 rfl rfl)
theorem dL_law_480 : decode cL_law 480 = .ok (.iadd, 1) := dk_96 (dk_at dksL_law_18 6 rfl rfl)
theorem dL_law_481 : decode cL_law 481 = .ok (.iaload, 1) := dk_46 (dk_at dksL_law_18 7 rfl rfl)
theorem dL_law_482 : decode cL_law 482 = .ok (.aload_n 0, 1) := dk_42 (dk_at dksL_law_18 8 rfl rfl)
theorem dL_law_483 : decode cL_law 483 = .ok (.iload_n 3, 1) := dk_29 (dk_at dksL_law_18 9 rfl rfl)
theorem dL_law_484 : decode cL_law 484 = .ok (.iconst 2, 1) := dk_5 (dk_at dksL_law_18 10 rfl rfl)
theorem dL_law_485 : decode cL_law 485 = .ok (.iadd, 1) := dk_96 (dk_at dksL_law_18 11 rfl rfl)
theorem dL_law_486 : decode cL_law 486 = .ok (.iaload, 1) := dk_46 (dk_at dksL_law_18 12 rfl rfl)
theorem dL_law_487 : decode cL_law 487 = .ok (.invokevirtual 57, 3) := dk_182 0 57 (dk_at dksL_law_18 13 rfl rfl)
theorem dL_law_490 : decode cL_law 490 = .ok (.aload_n 2, 1) := dk_44 (dk_at dksL_law_18 16 rfl rfl)
theorem dL_law_491 : decode cL_law 491 = .ok (.aload_n 0, 1) := dk_42 (dk_at dksL_law_18 17 rfl rfl)
theorem dL_law_492 : decode cL_law 492 = .ok (.iload_n 3, 1) := dk_29 (dk_at dksL_law_18 18 rfl rfl)
theorem dL_law_493 : decode cL_law 493 = .ok (.iconst 1, 1) := dk_4 (dk_at dksL_law_18 19 rfl rfl)
theorem dL_law_494 : decode cL_law 494 = .ok (.iadd, 1) := dk_96 (dk_at dksL_law_18 20 rfl rfl)
theorem dL_law_495 : decode cL_law 495 = .ok (.iaload, 1) := dk_46 (dk_at dksL_law_18 21 rfl rfl)
theorem dL_law_496 : decode cL_law 496 = .ok (.aload_n 0, 1) := dk_42 (dk_at dksL_law_18 22 rfl rfl)
theorem dL_law_497 : decode cL_law 497 = .ok (.iload_n 3, 1) := dk_29 (dk_at dksL_law_18 23 rfl rfl)
theorem dL_law_498 : decode cL_law 498 = .ok (.iconst 2, 1) := dk_5 (dk_at dksL_law_19 0 rfl rfl)
theorem dL_law_499 : decode cL_law 499 = .ok (.iadd, 1) := dk_96 (dk_at dksL_law_19 1 rfl rfl)
theorem dL_law_500 : decode cL_law 500 = .ok (.iaload, 1) := dk_46 (dk_at dksL_law_19 2 rfl rfl)
theorem dL_law_501 : decode cL_law 501 = .ok (.invokevirtual 60, 3) := dk_182 0 60 (dk_at dksL_law_19 3 rfl rfl)
theorem dL_law_504 : decode cL_law 504 = .ok (.if_icmp .eq 153, 3) := dk_159 0 153 (dk_at dksL_law_19 6 rfl rfl)
theorem dL_law_507 : decode cL_law 507 = .ok (.iconst 0, 1) := dk_3 (dk_at dksL_law_19 9 rfl rfl)
theorem dL_law_508 : decode cL_law 508 = .ok (.ireturn, 1) := dk_172 (dk_at dksL_law_19 10 rfl rfl)
theorem dL_law_509 : decode cL_law 509 = .ok (.aload_n 1, 1) := dk_43 (dk_at dksL_law_19 11 rfl rfl)
theorem dL_law_510 : decode cL_law 510 = .ok (.aload_n 0, 1) := dk_42 (dk_at dksL_law_19 12 rfl rfl)
theorem dL_law_511 : decode cL_law 511 = .ok (.iload_n 3, 1) := dk_29 (dk_at dksL_law_19 13 rfl rfl)
theorem dL_law_512 : decode cL_law 512 = .ok (.iconst 1, 1) := dk_4 (dk_at dksL_law_19 14 rfl rfl)
theorem dL_law_513 : decode cL_law 513 = .ok (.iadd, 1) := dk_96 (dk_at dksL_law_19 15 rfl rfl)
theorem dL_law_514 : decode cL_law 514 = .ok (.iaload, 1) := dk_46 (dk_at dksL_law_19 16 rfl rfl)
theorem dL_law_515 : decode cL_law 515 = .ok (.aload_n 0, 1) := dk_42 (dk_at dksL_law_19 17 rfl rfl)
theorem dL_law_516 : decode cL_law 516 = .ok (.iload_n 3, 1) := dk_29 (dk_at dksL_law_19 18 rfl rfl)
theorem dL_law_517 : decode cL_law 517 = .ok (.iconst 2, 1) := dk_5 (dk_at dksL_law_19 19 rfl rfl)
theorem dL_law_518 : decode cL_law 518 = .ok (.iadd, 1) := dk_96 (dk_at dksL_law_19 20 rfl rfl)
theorem dL_law_519 : decode cL_law 519 = .ok (.iaload, 1) := dk_46 (dk_at dksL_law_19 21 rfl rfl)
theorem dL_law_520 : decode cL_law 520 = .ok (.invokevirtual 61, 3) := dk_182 0 61 (dk_at dksL_law_20 0 rfl rfl)
theorem dL_law_523 : decode cL_law 523 = .ok (.aload_n 2, 1) := dk_44 (dk_at dksL_law_20 3 rfl rfl)
theorem dL_law_524 : decode cL_law 524 = .ok (.aload_n 0, 1) := dk_42 (dk_at dksL_law_20 4 rfl rfl)
theorem dL_law_525 : decode cL_law 525 = .ok (.iload_n 3, 1) := dk_29 (dk_at dksL_law_20 5 rfl rfl)
theorem dL_law_526 : decode cL_law 526 = .ok (.iconst 1, 1) := dk_4 (dk_at dksL_law_20 6 rfl rfl)
theorem dL_law_527 : decode cL_law 527 = .ok (.iadd, 1) := dk_96 (dk_at dksL_law_20 7 rfl rfl)
theorem dL_law_528 : decode cL_law 528 = .ok (.iaload, 1) := dk_46 (dk_at dksL_law_20 8 rfl rfl)
theorem dL_law_529 : decode cL_law 529 = .ok (.aload_n 0, 1) := dk_42 (dk_at dksL_law_20 9 rfl rfl)
theorem dL_law_530 : decode cL_law 530 = .ok (.iload_n 3, 1) := dk_29 (dk_at dksL_law_20 10 rfl rfl)
theorem dL_law_531 : decode cL_law 531 = .ok (.iconst 2, 1) := dk_5 (dk_at dksL_law_20 11 rfl rfl)
theorem dL_law_532 : decode cL_law 532 = .ok (.iadd, 1) := dk_96 (dk_at dksL_law_20 12 rfl rfl)
theorem dL_law_533 : decode cL_law 533 = .ok (.iaload, 1) := dk_46 (dk_at dksL_law_20 13 rfl rfl)
theorem dL_law_534 : decode cL_law 534 = .ok (.invokevirtual 64, 3) := dk_182 0 64 (dk_at dksL_law_20 14 rfl rfl)
theorem dL_law_537 : decode cL_law 537 = .ok (.if_icmp .eq 120, 3) := dk_159 0 120 (dk_at dksL_law_20 17 rfl rfl)
theorem dL_law_540 : decode cL_law 540 = .ok (.iconst 0, 1) := dk_3 (dk_at dksL_law_20 20 rfl rfl)
theorem dL_law_541 : decode cL_law 541 = .ok (.ireturn, 1) := dk_172 (dk_at dksL_law_20 21 rfl rfl)
theorem dL_law_542 : decode cL_law 542 = .ok (.aload_n 1, 1) := dk_43 (dk_at dksL_law_20 22 rfl rfl)
theorem dL_law_543 : decode cL_law 543 = .ok (.aload_n 0, 1) := dk_42 (dk_at dksL_law_20 23 rfl rfl)
theorem dL_law_544 : decode cL_law 544 = .ok (.iload_n 3, 1) := dk_29 (dk_at dksL_law_21 0 rfl rfl)
theorem dL_law_545 : decode cL_law 545 = .ok (.iconst 1, 1) := dk_4 (dk_at dksL_law_21 1 rfl rfl)
theorem dL_law_546 : decode cL_law 546 = .ok (.iadd, 1) := dk_96 (dk_at dksL_law_21 2 rfl rfl)
theorem dL_law_547 : decode cL_law 547 = .ok (.iaload, 1) := dk_46 (dk_at dksL_law_21 3 rfl rfl)
theorem dL_law_548 : decode cL_law 548 = .ok (.invokevirtual 65, 3) := dk_182 0 65 (dk_at dksL_law_21 4 rfl rfl)
theorem dL_law_551 : decode cL_law 551 = .ok (.aload_n 2, 1) := dk_44 (dk_at dksL_law_21 7 rfl rfl)
theorem dL_law_552 : decode cL_law 552 = .ok (.aload_n 0, 1) := dk_42 (dk_at dksL_law_21 8 rfl rfl)
theorem dL_law_553 : decode cL_law 553 = .ok (.iload_n 3, 1) := dk_29 (dk_at dksL_law_21 9 rfl rfl)
theorem dL_law_554 : decode cL_law 554 = .ok (.iconst 1, 1) := dk_4 (dk_at dksL_law_21 10 rfl rfl)
theorem dL_law_555 : decode cL_law 555 = .ok (.iadd, 1) := dk_96 (dk_at dksL_law_21 11 rfl rfl)
theorem dL_law_556 : decode cL_law 556 = .ok (.iaload, 1) := dk_46 (dk_at dksL_law_21 12 rfl rfl)
theorem dL_law_557 : decode cL_law 557 = .ok (.invokevirtual 68, 3) := dk_182 0 68 (dk_at dksL_law_21 13 rfl rfl)
theorem dL_law_560 : decode cL_law 560 = .ok (.if_icmp .eq 97, 3) := dk_159 0 97 (dk_at dksL_law_21 16 rfl rfl)
theorem dL_law_563 : decode cL_law 563 = .ok (.iconst 0, 1) := dk_3 (dk_at dksL_law_21 19 rfl rfl)
theorem dL_law_564 : decode cL_law 564 = .ok (.ireturn, 1) := dk_172 (dk_at dksL_law_21 20 rfl rfl)
theorem dL_law_565 : decode cL_law 565 = .ok (.aload_n 1, 1) := dk_43 (dk_at dksL_law_21 21 rfl rfl)
theorem dL_law_566 : decode cL_law 566 = .ok (.aload_n 0, 1) := dk_42 (dk_at dksL_law_21 22 rfl rfl)
theorem dL_law_567 : decode cL_law 567 = .ok (.iload_n 3, 1) := dk_29 (dk_at dksL_law_21 23 rfl rfl)
theorem dL_law_568 : decode cL_law 568 = .ok (.iconst 1, 1) := dk_4 (dk_at dksL_law_22 0 rfl rfl)
theorem dL_law_569 : decode cL_law 569 = .ok (.iadd, 1) := dk_96 (dk_at dksL_law_22 1 rfl rfl)
theorem dL_law_570 : decode cL_law 570 = .ok (.iaload, 1) := dk_46 (dk_at dksL_law_22 2 rfl rfl)
theorem dL_law_571 : decode cL_law 571 = .ok (.invokevirtual 69, 3) := dk_182 0 69 (dk_at dksL_law_22 3 rfl rfl)
theorem dL_law_574 : decode cL_law 574 = .ok (.aload_n 2, 1) := dk_44 (dk_at dksL_law_22 6 rfl rfl)
theorem dL_law_575 : decode cL_law 575 = .ok (.aload_n 0, 1) := dk_42 (dk_at dksL_law_22 7 rfl rfl)
theorem dL_law_576 : decode cL_law 576 = .ok (.iload_n 3, 1) := dk_29 (dk_at dksL_law_22 8 rfl rfl)
theorem dL_law_577 : decode cL_law 577 = .ok (.iconst 1, 1) := dk_4 (dk_at dksL_law_22 9 rfl rfl)
theorem dL_law_578 : decode cL_law 578 = .ok (.iadd, 1) := dk_96 (dk_at dksL_law_22 10 rfl rfl)
theorem dL_law_579 : decode cL_law 579 = .ok (.iaload, 1) := dk_46 (dk_at dksL_law_22 11 rfl rfl)
theorem dL_law_580 : decode cL_law 580 = .ok (.invokevirtual 72, 3) := dk_182 0 72 (dk_at dksL_law_22 12 rfl rfl)
theorem dL_law_583 : decode cL_law 583 = .ok (.if_icmp .eq 74, 3) := dk_159 0 74 (dk_at dksL_law_22 15 rfl rfl)
theorem dL_law_586 : decode cL_law 586 = .ok (.iconst 0, 1) := dk_3 (dk_at dksL_law_22 18 rfl rfl)
theorem dL_law_587 : decode cL_law 587 = .ok (.ireturn, 1) := dk_172 (dk_at dksL_law_22 19 rfl rfl)
theorem dL_law_588 : decode cL_law 588 = .ok (.aload_n 1, 1) := dk_43 (dk_at dksL_law_22 20 rfl rfl)
theorem dL_law_589 : decode cL_law 589 = .ok (.aload_n 0, 1) := dk_42 (dk_at dksL_law_22 21 rfl rfl)
theorem dL_law_590 : decode cL_law 590 = .ok (.iload_n 3, 1) := dk_29 (dk_at dksL_law_22 22 rfl rfl)
theorem dL_law_591 : decode cL_law 591 = .ok (.iconst 1, 1) := dk_4 (dk_at dksL_law_22 23 rfl rfl)
theorem dL_law_592 : decode cL_law 592 = .ok (.iadd, 1) := dk_96 (dk_at dksL_law_23 0 rfl rfl)
theorem dL_law_593 : decode cL_law 593 = .ok (.iaload, 1) := dk_46 (dk_at dksL_law_23 1 rfl rfl)
theorem dL_law_594 : decode cL_law 594 = .ok (.invokevirtual 73, 3) := dk_182 0 73 (dk_at dksL_law_23 2 rfl rfl)
theorem dL_law_597 : decode cL_law 597 = .ok (.aload_n 2, 1) := dk_44 (dk_at dksL_law_23 5 rfl rfl)
theorem dL_law_598 : decode cL_law 598 = .ok (.aload_n 0, 1) := dk_42 (dk_at dksL_law_23 6 rfl rfl)
theorem dL_law_599 : decode cL_law 599 = .ok (.iload_n 3, 1) := dk_29 (dk_at dksL_law_23 7 rfl rfl)
theorem dL_law_600 : decode cL_law 600 = .ok (.iconst 1, 1) := dk_4 (dk_at dksL_law_23 8 rfl rfl)
theorem dL_law_601 : decode cL_law 601 = .ok (.iadd, 1) := dk_96 (dk_at dksL_law_23 9 rfl rfl)
theorem dL_law_602 : decode cL_law 602 = .ok (.iaload, 1) := dk_46 (dk_at dksL_law_23 10 rfl rfl)
theorem dL_law_603 : decode cL_law 603 = .ok (.invokevirtual 76, 3) := dk_182 0 76 (dk_at dksL_law_23 11 rfl rfl)
theorem dL_law_606 : decode cL_law 606 = .ok (.if_icmp .eq 51, 3) := dk_159 0 51 (dk_at dksL_law_23 14 rfl rfl)
theorem dL_law_609 : decode cL_law 609 = .ok (.iconst 0, 1) := dk_3 (dk_at dksL_law_23 17 rfl rfl)
theorem dL_law_610 : decode cL_law 610 = .ok (.ireturn, 1) := dk_172 (dk_at dksL_law_23 18 rfl rfl)
theorem dL_law_611 : decode cL_law 611 = .ok (.aload_n 1, 1) := dk_43 (dk_at dksL_law_23 19 rfl rfl)
theorem dL_law_612 : decode cL_law 612 = .ok (.aload_n 0, 1) := dk_42 (dk_at dksL_law_23 20 rfl rfl)
theorem dL_law_613 : decode cL_law 613 = .ok (.iload_n 3, 1) := dk_29 (dk_at dksL_law_23 21 rfl rfl)
theorem dL_law_614 : decode cL_law 614 = .ok (.iconst 1, 1) := dk_4 (dk_at dksL_law_23 22 rfl rfl)
theorem dL_law_615 : decode cL_law 615 = .ok (.iadd, 1) := dk_96 (dk_at dksL_law_23 23 rfl rfl)
theorem dL_law_616 : decode cL_law 616 = .ok (.iaload, 1) := dk_46 (dk_at dksL_law_24 0 rfl rfl)
theorem dL_law_617 : decode cL_law 617 = .ok (.aload_n 0, 1) := dk_42 (dk_at dksL_law_24 1 rfl rfl)
theorem dL_law_618 : decode cL_law 618 = .ok (.iload_n 3, 1) := dk_29 (dk_at dksL_law_24 2 rfl rfl)
theorem dL_law_619 : decode cL_law 619 = .ok (.iconst 2, 1) := dk_5 (dk_at dksL_law_24 3 rfl rfl)
theorem dL_law_620 : decode cL_law 620 = .ok (.iadd, 1) := dk_96 (dk_at dksL_law_24 4 rfl rfl)
theorem dL_law_621 : decode cL_law 621 = .ok (.iaload, 1) := dk_46 (dk_at dksL_law_24 5 rfl rfl)
theorem dL_law_622 : decode cL_law 622 = .ok (.invokevirtual 77, 3) := dk_182 0 77 (dk_at dksL_law_24 6 rfl rfl)
theorem dL_law_625 : decode cL_law 625 = .ok (.aload_n 2, 1) := dk_44 (dk_at dksL_law_24 9 rfl rfl)
theorem dL_law_626 : decode cL_law 626 = .ok (.aload_n 0, 1) := dk_42 (dk_at dksL_law_24 10 rfl rfl)
theorem dL_law_627 : decode cL_law 627 = .ok (.iload_n 3, 1) := dk_29 (dk_at dksL_law_24 11 rfl rfl)
theorem dL_law_628 : decode cL_law 628 = .ok (.iconst 1, 1) := dk_4 (dk_at dksL_law_24 12 rfl rfl)
theorem dL_law_629 : decode cL_law 629 = .ok (.iadd, 1) := dk_96 (dk_at dksL_law_24 13 rfl rfl)
theorem dL_law_630 : decode cL_law 630 = .ok (.iaload, 1) := dk_46 (dk_at dksL_law_24 14 rfl rfl)
theorem dL_law_631 : decode cL_law 631 = .ok (.aload_n 0, 1) := dk_42 (dk_at dksL_law_24 15 rfl rfl)
theorem dL_law_632 : decode cL_law 632 = .ok (.iload_n 3, 1) := dk_29 (dk_at dksL_law_24 16 rfl rfl)
theorem dL_law_633 : decode cL_law 633 = .ok (.iconst 2, 1) := dk_5 (dk_at dksL_law_24 17 rfl rfl)
theorem dL_law_634 : decode cL_law 634 = .ok (.iadd, 1) := dk_96 (dk_at dksL_law_24 18 rfl rfl)
theorem dL_law_635 : decode cL_law 635 = .ok (.iaload, 1) := dk_46 (dk_at dksL_law_24 19 rfl rfl)
theorem dL_law_636 : decode cL_law 636 = .ok (.invokevirtual 80, 3) := dk_182 0 80 (dk_at dksL_law_24 20 rfl rfl)
theorem dL_law_639 : decode cL_law 639 = .ok (.if_icmp .eq 18, 3) := dk_159 0 18 (dk_at dksL_law_25 0 rfl rfl)
theorem dL_law_642 : decode cL_law 642 = .ok (.iconst 0, 1) := dk_3 (dk_at dksL_law_25 3 rfl rfl)
theorem dL_law_643 : decode cL_law 643 = .ok (.ireturn, 1) := dk_172 (dk_at dksL_law_25 4 rfl rfl)
theorem dL_law_644 : decode cL_law 644 = .ok (.aload_n 1, 1) := dk_43 (dk_at dksL_law_25 5 rfl rfl)
theorem dL_law_645 : decode cL_law 645 = .ok (.invokevirtual 81, 3) := dk_182 0 81 (dk_at dksL_law_25 6 rfl rfl)
theorem dL_law_648 : decode cL_law 648 = .ok (.aload_n 2, 1) := dk_44 (dk_at dksL_law_25 9 rfl rfl)
theorem dL_law_649 : decode cL_law 649 = .ok (.invokevirtual 84, 3) := dk_182 0 84 (dk_at dksL_law_25 10 rfl rfl)
theorem dL_law_652 : decode cL_law 652 = .ok (.if_icmp .eq 5, 3) := dk_159 0 5 (dk_at dksL_law_25 13 rfl rfl)
theorem dL_law_655 : decode cL_law 655 = .ok (.iconst 0, 1) := dk_3 (dk_at dksL_law_25 16 rfl rfl)
theorem dL_law_656 : decode cL_law 656 = .ok (.ireturn, 1) := dk_172 (dk_at dksL_law_25 17 rfl rfl)
theorem dL_law_657 : decode cL_law 657 = .ok (.iinc 3 6, 3) := dk_132 3 6 (dk_at dksL_law_25 18 rfl rfl)
theorem dL_law_660 : decode cL_law 660 = .ok (.goto (-642), 3) := dk_167 253 126 (dk_at dksL_law_25 21 rfl rfl)
theorem dL_law_663 : decode cL_law 663 = .ok (.iconst 1, 1) := dk_4 (dk_at dksL_law_26 0 rfl rfl)
theorem dL_law_664 : decode cL_law 664 = .ok (.ireturn, 1) := dk_172 (dk_at dksL_law_26 1 rfl rfl)
