/-! DECODE ROWS BY BYTES: one lemma an opcode; a method's code is cut into short pieces once, and a row reads its own piece alone. -/
set_option maxRecDepth 100000
/-- the code has just these bytes from pc on -/
def DkAt (code : ByteArray) (pc : Nat) (bs : List UInt8) : Prop := ∀ (j : Nat) (b : UInt8), bs[j]? = some b → code.data.toList[pc + j]? = some b
/-- the piece W has the bytes bs from its place j on -/
def dkIn (W : List UInt8) (j : Nat) (bs : List UInt8) : Bool := decide ((W.drop j).take bs.length = bs)
theorem dk_seg {l W T : List UInt8} {o o2 : Nat} (h : l.drop o = W ++ T) (n : Nat) (hn : W.length = n) (ho : o + n = o2) : l.drop o2 = T := by
  subst ho
  rw [← List.drop_drop, h, List.drop_left' hn]
theorem dk_at {code : ByteArray} {W T bs : List UInt8} {o pc : Nat} (h : code.data.toList.drop o = W ++ T) (j : Nat) (hp : o + j = pc) (hw : dkIn W j bs = true) : DkAt code pc bs := by
  subst hp
  intro i b e
  have h1 := of_decide_eq_true hw
  have h2 : i < bs.length := (List.getElem?_eq_some_iff.mp e).1
  have h3 : W[j + i]? = some b := by
    rw [← h1, List.getElem?_take, if_pos h2, List.getElem?_drop] at e
    exact e
  have h4 : j + i < W.length := (List.getElem?_eq_some_iff.mp h3).1
  have h5 : (code.data.toList.drop o)[j + i]? = some b := by
    rw [h, List.getElem?_append_left h4]
    exact h3
  rw [List.getElem?_drop, ← Nat.add_assoc] at h5
  exact h5
theorem dk_u1 {A : ByteArray} {p : Nat} {b : UInt8} (h : A.data.toList[p]? = some b) : (Reader.u1 : Reader DecodeError Nat) A p = .ok (b.toNat, p + 1) := by
  obtain ⟨h1, h2⟩ := List.getElem?_eq_some_iff.mp h
  have h3 : p < A.size := by simpa using h1
  have h4 : A[p]'h3 = b := h2
  have e : (Reader.u1 : Reader DecodeError Nat) A p = (if h : p < A.size then .ok (A[p].toNat, p + 1) else .error (HasTruncated.truncated p)) := by
    show (do if h : p < A.size then do set (p + 1); Pure.pure A[p].toNat else MonadExcept.throw (HasTruncated.truncated p) : Reader DecodeError Nat) A p = _
    by_cases hi : p < A.size
    · rw [dif_pos hi, dif_pos hi]; rfl
    · rw [dif_neg hi, dif_neg hi]; rfl
  rw [e, dif_pos h3, h4]
theorem dk_bind {α β : Type} {r : Reader DecodeError α} {f : α → Reader DecodeError β} {A : ByteArray} {p s : Nat} {a : α} (h : r A p = .ok (a, s)) : (r >>= f) A p = f a A s := by
  show (do let (a, s) ← r A p; f a A s : Except DecodeError (β × Nat)) = _
  rw [h]
  rfl
theorem dk_map {α β : Type} {r : Reader DecodeError α} {g : α → β} {A : ByteArray} {p s : Nat} {a : α} (h : r A p = .ok (a, s)) : (g <$> r) A p = .ok (g a, s) := by
  show (do let (a, s) ← r A p; .ok (g a, s) : Except DecodeError (β × Nat)) = _
  rw [h]
  rfl
theorem dk_u2 {A : ByteArray} {p : Nat} {a b : UInt8} (h : A.data.toList[p]? = some a) (h2 : A.data.toList[p + 1]? = some b) : (Reader.u2 : Reader DecodeError Nat) A p = .ok (a.toNat * 256 + b.toNat, p + 2) := by
  show (Reader.u1 >>= fun hi => Reader.u1 >>= fun lo => Pure.pure (hi * 256 + lo) : Reader DecodeError Nat) A p = _
  rw [dk_bind (dk_u1 h), dk_bind (dk_u1 h2)]
  rfl
theorem dk_of {code : ByteArray} {pc n : Nat} {i : Instr} (h : Decoder.instr pc code pc = .ok (i, pc + n)) : decode code pc = .ok (i, n) := by
  have e : decode code pc = (match Decoder.instr pc code pc with | .error x => .error x | .ok (j, s) => .ok (j, s - pc)) := by
    show (do let (j, s) ← Decoder.instr pc code pc; Pure.pure (j, s - pc) : Except DecodeError (Instr × Nat)) = _
    cases Decoder.instr pc code pc <;> rfl
  rw [e, h]
  show Except.ok (i, pc + n - pc) = _
  rw [Nat.add_sub_cancel_left]
theorem dk_1 {code : ByteArray} {pc : Nat} (h : DkAt code pc [1]) : decode code pc = .ok (.aconst_null, 1) := dk_of ((dk_bind (dk_u1 (h 0 _ rfl))).trans rfl)
theorem dk_2 {code : ByteArray} {pc : Nat} (h : DkAt code pc [2]) : decode code pc = .ok (.iconst (-1), 1) := dk_of ((dk_bind (dk_u1 (h 0 _ rfl))).trans rfl)
theorem dk_3 {code : ByteArray} {pc : Nat} (h : DkAt code pc [3]) : decode code pc = .ok (.iconst 0, 1) := dk_of ((dk_bind (dk_u1 (h 0 _ rfl))).trans rfl)
theorem dk_4 {code : ByteArray} {pc : Nat} (h : DkAt code pc [4]) : decode code pc = .ok (.iconst 1, 1) := dk_of ((dk_bind (dk_u1 (h 0 _ rfl))).trans rfl)
theorem dk_5 {code : ByteArray} {pc : Nat} (h : DkAt code pc [5]) : decode code pc = .ok (.iconst 2, 1) := dk_of ((dk_bind (dk_u1 (h 0 _ rfl))).trans rfl)
theorem dk_6 {code : ByteArray} {pc : Nat} (h : DkAt code pc [6]) : decode code pc = .ok (.iconst 3, 1) := dk_of ((dk_bind (dk_u1 (h 0 _ rfl))).trans rfl)
theorem dk_7 {code : ByteArray} {pc : Nat} (h : DkAt code pc [7]) : decode code pc = .ok (.iconst 4, 1) := dk_of ((dk_bind (dk_u1 (h 0 _ rfl))).trans rfl)
theorem dk_8 {code : ByteArray} {pc : Nat} (h : DkAt code pc [8]) : decode code pc = .ok (.iconst 5, 1) := dk_of ((dk_bind (dk_u1 (h 0 _ rfl))).trans rfl)
theorem dk_9 {code : ByteArray} {pc : Nat} (h : DkAt code pc [9]) : decode code pc = .ok (.lconst 0, 1) := dk_of ((dk_bind (dk_u1 (h 0 _ rfl))).trans rfl)
theorem dk_10 {code : ByteArray} {pc : Nat} (h : DkAt code pc [10]) : decode code pc = .ok (.lconst 1, 1) := dk_of ((dk_bind (dk_u1 (h 0 _ rfl))).trans rfl)
theorem dk_16 {code : ByteArray} {pc : Nat} (a : UInt8) (h : DkAt code pc [16, a]) : decode code pc = .ok (.bipush (Reader.signed 8 a.toNat), 2) := dk_of ((dk_bind (dk_u1 (h 0 _ rfl))).trans ((dk_bind (dk_map (dk_u1 (h 1 _ rfl)))).trans rfl))
theorem dk_17 {code : ByteArray} {pc : Nat} (a b : UInt8) (h : DkAt code pc [17, a, b]) : decode code pc = .ok (.sipush (Reader.signed 16 (a.toNat * 256 + b.toNat)), 3) := dk_of ((dk_bind (dk_u1 (h 0 _ rfl))).trans ((dk_bind (dk_map (dk_u2 (h 1 _ rfl) (h 2 _ rfl)))).trans rfl))
theorem dk_18 {code : ByteArray} {pc : Nat} (a : UInt8) (h : DkAt code pc [18, a]) : decode code pc = .ok (.ldc a.toNat, 2) := dk_of ((dk_bind (dk_u1 (h 0 _ rfl))).trans ((dk_bind (dk_u1 (h 1 _ rfl))).trans rfl))
theorem dk_21 {code : ByteArray} {pc : Nat} (a : UInt8) (h : DkAt code pc [21, a]) : decode code pc = .ok (.iload a.toNat, 2) := dk_of ((dk_bind (dk_u1 (h 0 _ rfl))).trans ((dk_bind (dk_u1 (h 1 _ rfl))).trans rfl))
theorem dk_25 {code : ByteArray} {pc : Nat} (a : UInt8) (h : DkAt code pc [25, a]) : decode code pc = .ok (.aload a.toNat, 2) := dk_of ((dk_bind (dk_u1 (h 0 _ rfl))).trans ((dk_bind (dk_u1 (h 1 _ rfl))).trans rfl))
theorem dk_26 {code : ByteArray} {pc : Nat} (h : DkAt code pc [26]) : decode code pc = .ok (.iload_n 0, 1) := dk_of ((dk_bind (dk_u1 (h 0 _ rfl))).trans rfl)
theorem dk_27 {code : ByteArray} {pc : Nat} (h : DkAt code pc [27]) : decode code pc = .ok (.iload_n 1, 1) := dk_of ((dk_bind (dk_u1 (h 0 _ rfl))).trans rfl)
theorem dk_28 {code : ByteArray} {pc : Nat} (h : DkAt code pc [28]) : decode code pc = .ok (.iload_n 2, 1) := dk_of ((dk_bind (dk_u1 (h 0 _ rfl))).trans rfl)
theorem dk_29 {code : ByteArray} {pc : Nat} (h : DkAt code pc [29]) : decode code pc = .ok (.iload_n 3, 1) := dk_of ((dk_bind (dk_u1 (h 0 _ rfl))).trans rfl)
theorem dk_42 {code : ByteArray} {pc : Nat} (h : DkAt code pc [42]) : decode code pc = .ok (.aload_n 0, 1) := dk_of ((dk_bind (dk_u1 (h 0 _ rfl))).trans rfl)
theorem dk_43 {code : ByteArray} {pc : Nat} (h : DkAt code pc [43]) : decode code pc = .ok (.aload_n 1, 1) := dk_of ((dk_bind (dk_u1 (h 0 _ rfl))).trans rfl)
theorem dk_44 {code : ByteArray} {pc : Nat} (h : DkAt code pc [44]) : decode code pc = .ok (.aload_n 2, 1) := dk_of ((dk_bind (dk_u1 (h 0 _ rfl))).trans rfl)
theorem dk_45 {code : ByteArray} {pc : Nat} (h : DkAt code pc [45]) : decode code pc = .ok (.aload_n 3, 1) := dk_of ((dk_bind (dk_u1 (h 0 _ rfl))).trans rfl)
theorem dk_46 {code : ByteArray} {pc : Nat} (h : DkAt code pc [46]) : decode code pc = .ok (.iaload, 1) := dk_of ((dk_bind (dk_u1 (h 0 _ rfl))).trans rfl)
theorem dk_47 {code : ByteArray} {pc : Nat} (h : DkAt code pc [47]) : decode code pc = .ok (.laload, 1) := dk_of ((dk_bind (dk_u1 (h 0 _ rfl))).trans rfl)
theorem dk_50 {code : ByteArray} {pc : Nat} (h : DkAt code pc [50]) : decode code pc = .ok (.aaload, 1) := dk_of ((dk_bind (dk_u1 (h 0 _ rfl))).trans rfl)
theorem dk_51 {code : ByteArray} {pc : Nat} (h : DkAt code pc [51]) : decode code pc = .ok (.baload, 1) := dk_of ((dk_bind (dk_u1 (h 0 _ rfl))).trans rfl)
theorem dk_54 {code : ByteArray} {pc : Nat} (a : UInt8) (h : DkAt code pc [54, a]) : decode code pc = .ok (.istore a.toNat, 2) := dk_of ((dk_bind (dk_u1 (h 0 _ rfl))).trans ((dk_bind (dk_u1 (h 1 _ rfl))).trans rfl))
theorem dk_58 {code : ByteArray} {pc : Nat} (a : UInt8) (h : DkAt code pc [58, a]) : decode code pc = .ok (.astore a.toNat, 2) := dk_of ((dk_bind (dk_u1 (h 0 _ rfl))).trans ((dk_bind (dk_u1 (h 1 _ rfl))).trans rfl))
theorem dk_61 {code : ByteArray} {pc : Nat} (h : DkAt code pc [61]) : decode code pc = .ok (.istore_n 2, 1) := dk_of ((dk_bind (dk_u1 (h 0 _ rfl))).trans rfl)
theorem dk_62 {code : ByteArray} {pc : Nat} (h : DkAt code pc [62]) : decode code pc = .ok (.istore_n 3, 1) := dk_of ((dk_bind (dk_u1 (h 0 _ rfl))).trans rfl)
theorem dk_76 {code : ByteArray} {pc : Nat} (h : DkAt code pc [76]) : decode code pc = .ok (.astore_n 1, 1) := dk_of ((dk_bind (dk_u1 (h 0 _ rfl))).trans rfl)
theorem dk_77 {code : ByteArray} {pc : Nat} (h : DkAt code pc [77]) : decode code pc = .ok (.astore_n 2, 1) := dk_of ((dk_bind (dk_u1 (h 0 _ rfl))).trans rfl)
theorem dk_78 {code : ByteArray} {pc : Nat} (h : DkAt code pc [78]) : decode code pc = .ok (.astore_n 3, 1) := dk_of ((dk_bind (dk_u1 (h 0 _ rfl))).trans rfl)
theorem dk_79 {code : ByteArray} {pc : Nat} (h : DkAt code pc [79]) : decode code pc = .ok (.iastore, 1) := dk_of ((dk_bind (dk_u1 (h 0 _ rfl))).trans rfl)
theorem dk_80 {code : ByteArray} {pc : Nat} (h : DkAt code pc [80]) : decode code pc = .ok (.lastore, 1) := dk_of ((dk_bind (dk_u1 (h 0 _ rfl))).trans rfl)
theorem dk_83 {code : ByteArray} {pc : Nat} (h : DkAt code pc [83]) : decode code pc = .ok (.aastore, 1) := dk_of ((dk_bind (dk_u1 (h 0 _ rfl))).trans rfl)
theorem dk_84 {code : ByteArray} {pc : Nat} (h : DkAt code pc [84]) : decode code pc = .ok (.bastore, 1) := dk_of ((dk_bind (dk_u1 (h 0 _ rfl))).trans rfl)
theorem dk_87 {code : ByteArray} {pc : Nat} (h : DkAt code pc [87]) : decode code pc = .ok (.pop, 1) := dk_of ((dk_bind (dk_u1 (h 0 _ rfl))).trans rfl)
theorem dk_89 {code : ByteArray} {pc : Nat} (h : DkAt code pc [89]) : decode code pc = .ok (.dup, 1) := dk_of ((dk_bind (dk_u1 (h 0 _ rfl))).trans rfl)
theorem dk_90 {code : ByteArray} {pc : Nat} (h : DkAt code pc [90]) : decode code pc = .ok (.dup_x1, 1) := dk_of ((dk_bind (dk_u1 (h 0 _ rfl))).trans rfl)
theorem dk_92 {code : ByteArray} {pc : Nat} (h : DkAt code pc [92]) : decode code pc = .ok (.dup2, 1) := dk_of ((dk_bind (dk_u1 (h 0 _ rfl))).trans rfl)
theorem dk_96 {code : ByteArray} {pc : Nat} (h : DkAt code pc [96]) : decode code pc = .ok (.iadd, 1) := dk_of ((dk_bind (dk_u1 (h 0 _ rfl))).trans rfl)
theorem dk_100 {code : ByteArray} {pc : Nat} (h : DkAt code pc [100]) : decode code pc = .ok (.isub, 1) := dk_of ((dk_bind (dk_u1 (h 0 _ rfl))).trans rfl)
theorem dk_104 {code : ByteArray} {pc : Nat} (h : DkAt code pc [104]) : decode code pc = .ok (.imul, 1) := dk_of ((dk_bind (dk_u1 (h 0 _ rfl))).trans rfl)
theorem dk_108 {code : ByteArray} {pc : Nat} (h : DkAt code pc [108]) : decode code pc = .ok (.idiv, 1) := dk_of ((dk_bind (dk_u1 (h 0 _ rfl))).trans rfl)
theorem dk_122 {code : ByteArray} {pc : Nat} (h : DkAt code pc [122]) : decode code pc = .ok (.ishr, 1) := dk_of ((dk_bind (dk_u1 (h 0 _ rfl))).trans rfl)
theorem dk_126 {code : ByteArray} {pc : Nat} (h : DkAt code pc [126]) : decode code pc = .ok (.iand, 1) := dk_of ((dk_bind (dk_u1 (h 0 _ rfl))).trans rfl)
theorem dk_128 {code : ByteArray} {pc : Nat} (h : DkAt code pc [128]) : decode code pc = .ok (.ior, 1) := dk_of ((dk_bind (dk_u1 (h 0 _ rfl))).trans rfl)
theorem dk_130 {code : ByteArray} {pc : Nat} (h : DkAt code pc [130]) : decode code pc = .ok (.ixor, 1) := dk_of ((dk_bind (dk_u1 (h 0 _ rfl))).trans rfl)
theorem dk_132 {code : ByteArray} {pc : Nat} (a b : UInt8) (h : DkAt code pc [132, a, b]) : decode code pc = .ok (.iinc a.toNat (Reader.signed 8 b.toNat), 3) := dk_of ((dk_bind (dk_u1 (h 0 _ rfl))).trans ((dk_bind (dk_u1 (h 1 _ rfl))).trans ((dk_bind (dk_map (dk_u1 (h 2 _ rfl)))).trans rfl)))
theorem dk_133 {code : ByteArray} {pc : Nat} (h : DkAt code pc [133]) : decode code pc = .ok (.i2l, 1) := dk_of ((dk_bind (dk_u1 (h 0 _ rfl))).trans rfl)
theorem dk_148 {code : ByteArray} {pc : Nat} (h : DkAt code pc [148]) : decode code pc = .ok (.lcmp, 1) := dk_of ((dk_bind (dk_u1 (h 0 _ rfl))).trans rfl)
theorem dk_153 {code : ByteArray} {pc : Nat} (a b : UInt8) (h : DkAt code pc [153, a, b]) : decode code pc = .ok (.ifCond .eq (Reader.signed 16 (a.toNat * 256 + b.toNat)), 3) := dk_of ((dk_bind (dk_u1 (h 0 _ rfl))).trans ((dk_bind (dk_map (dk_u2 (h 1 _ rfl) (h 2 _ rfl)))).trans rfl))
theorem dk_154 {code : ByteArray} {pc : Nat} (a b : UInt8) (h : DkAt code pc [154, a, b]) : decode code pc = .ok (.ifCond .ne (Reader.signed 16 (a.toNat * 256 + b.toNat)), 3) := dk_of ((dk_bind (dk_u1 (h 0 _ rfl))).trans ((dk_bind (dk_map (dk_u2 (h 1 _ rfl) (h 2 _ rfl)))).trans rfl))
theorem dk_155 {code : ByteArray} {pc : Nat} (a b : UInt8) (h : DkAt code pc [155, a, b]) : decode code pc = .ok (.ifCond .lt (Reader.signed 16 (a.toNat * 256 + b.toNat)), 3) := dk_of ((dk_bind (dk_u1 (h 0 _ rfl))).trans ((dk_bind (dk_map (dk_u2 (h 1 _ rfl) (h 2 _ rfl)))).trans rfl))
theorem dk_156 {code : ByteArray} {pc : Nat} (a b : UInt8) (h : DkAt code pc [156, a, b]) : decode code pc = .ok (.ifCond .ge (Reader.signed 16 (a.toNat * 256 + b.toNat)), 3) := dk_of ((dk_bind (dk_u1 (h 0 _ rfl))).trans ((dk_bind (dk_map (dk_u2 (h 1 _ rfl) (h 2 _ rfl)))).trans rfl))
theorem dk_157 {code : ByteArray} {pc : Nat} (a b : UInt8) (h : DkAt code pc [157, a, b]) : decode code pc = .ok (.ifCond .gt (Reader.signed 16 (a.toNat * 256 + b.toNat)), 3) := dk_of ((dk_bind (dk_u1 (h 0 _ rfl))).trans ((dk_bind (dk_map (dk_u2 (h 1 _ rfl) (h 2 _ rfl)))).trans rfl))
theorem dk_159 {code : ByteArray} {pc : Nat} (a b : UInt8) (h : DkAt code pc [159, a, b]) : decode code pc = .ok (.if_icmp .eq (Reader.signed 16 (a.toNat * 256 + b.toNat)), 3) := dk_of ((dk_bind (dk_u1 (h 0 _ rfl))).trans ((dk_bind (dk_map (dk_u2 (h 1 _ rfl) (h 2 _ rfl)))).trans rfl))
theorem dk_160 {code : ByteArray} {pc : Nat} (a b : UInt8) (h : DkAt code pc [160, a, b]) : decode code pc = .ok (.if_icmp .ne (Reader.signed 16 (a.toNat * 256 + b.toNat)), 3) := dk_of ((dk_bind (dk_u1 (h 0 _ rfl))).trans ((dk_bind (dk_map (dk_u2 (h 1 _ rfl) (h 2 _ rfl)))).trans rfl))
theorem dk_161 {code : ByteArray} {pc : Nat} (a b : UInt8) (h : DkAt code pc [161, a, b]) : decode code pc = .ok (.if_icmp .lt (Reader.signed 16 (a.toNat * 256 + b.toNat)), 3) := dk_of ((dk_bind (dk_u1 (h 0 _ rfl))).trans ((dk_bind (dk_map (dk_u2 (h 1 _ rfl) (h 2 _ rfl)))).trans rfl))
theorem dk_162 {code : ByteArray} {pc : Nat} (a b : UInt8) (h : DkAt code pc [162, a, b]) : decode code pc = .ok (.if_icmp .ge (Reader.signed 16 (a.toNat * 256 + b.toNat)), 3) := dk_of ((dk_bind (dk_u1 (h 0 _ rfl))).trans ((dk_bind (dk_map (dk_u2 (h 1 _ rfl) (h 2 _ rfl)))).trans rfl))
theorem dk_163 {code : ByteArray} {pc : Nat} (a b : UInt8) (h : DkAt code pc [163, a, b]) : decode code pc = .ok (.if_icmp .gt (Reader.signed 16 (a.toNat * 256 + b.toNat)), 3) := dk_of ((dk_bind (dk_u1 (h 0 _ rfl))).trans ((dk_bind (dk_map (dk_u2 (h 1 _ rfl) (h 2 _ rfl)))).trans rfl))
theorem dk_164 {code : ByteArray} {pc : Nat} (a b : UInt8) (h : DkAt code pc [164, a, b]) : decode code pc = .ok (.if_icmp .le (Reader.signed 16 (a.toNat * 256 + b.toNat)), 3) := dk_of ((dk_bind (dk_u1 (h 0 _ rfl))).trans ((dk_bind (dk_map (dk_u2 (h 1 _ rfl) (h 2 _ rfl)))).trans rfl))
theorem dk_165 {code : ByteArray} {pc : Nat} (a b : UInt8) (h : DkAt code pc [165, a, b]) : decode code pc = .ok (.if_acmp .eq (Reader.signed 16 (a.toNat * 256 + b.toNat)), 3) := dk_of ((dk_bind (dk_u1 (h 0 _ rfl))).trans ((dk_bind (dk_map (dk_u2 (h 1 _ rfl) (h 2 _ rfl)))).trans rfl))
theorem dk_166 {code : ByteArray} {pc : Nat} (a b : UInt8) (h : DkAt code pc [166, a, b]) : decode code pc = .ok (.if_acmp .ne (Reader.signed 16 (a.toNat * 256 + b.toNat)), 3) := dk_of ((dk_bind (dk_u1 (h 0 _ rfl))).trans ((dk_bind (dk_map (dk_u2 (h 1 _ rfl) (h 2 _ rfl)))).trans rfl))
theorem dk_167 {code : ByteArray} {pc : Nat} (a b : UInt8) (h : DkAt code pc [167, a, b]) : decode code pc = .ok (.goto (Reader.signed 16 (a.toNat * 256 + b.toNat)), 3) := dk_of ((dk_bind (dk_u1 (h 0 _ rfl))).trans ((dk_bind (dk_map (dk_u2 (h 1 _ rfl) (h 2 _ rfl)))).trans rfl))
theorem dk_172 {code : ByteArray} {pc : Nat} (h : DkAt code pc [172]) : decode code pc = .ok (.ireturn, 1) := dk_of ((dk_bind (dk_u1 (h 0 _ rfl))).trans rfl)
theorem dk_176 {code : ByteArray} {pc : Nat} (h : DkAt code pc [176]) : decode code pc = .ok (.areturn, 1) := dk_of ((dk_bind (dk_u1 (h 0 _ rfl))).trans rfl)
theorem dk_177 {code : ByteArray} {pc : Nat} (h : DkAt code pc [177]) : decode code pc = .ok (.return_, 1) := dk_of ((dk_bind (dk_u1 (h 0 _ rfl))).trans rfl)
theorem dk_178 {code : ByteArray} {pc : Nat} (a b : UInt8) (h : DkAt code pc [178, a, b]) : decode code pc = .ok (.getstatic (a.toNat * 256 + b.toNat), 3) := dk_of ((dk_bind (dk_u1 (h 0 _ rfl))).trans ((dk_bind (dk_u2 (h 1 _ rfl) (h 2 _ rfl))).trans rfl))
theorem dk_180 {code : ByteArray} {pc : Nat} (a b : UInt8) (h : DkAt code pc [180, a, b]) : decode code pc = .ok (.getfield (a.toNat * 256 + b.toNat), 3) := dk_of ((dk_bind (dk_u1 (h 0 _ rfl))).trans ((dk_bind (dk_u2 (h 1 _ rfl) (h 2 _ rfl))).trans rfl))
theorem dk_181 {code : ByteArray} {pc : Nat} (a b : UInt8) (h : DkAt code pc [181, a, b]) : decode code pc = .ok (.putfield (a.toNat * 256 + b.toNat), 3) := dk_of ((dk_bind (dk_u1 (h 0 _ rfl))).trans ((dk_bind (dk_u2 (h 1 _ rfl) (h 2 _ rfl))).trans rfl))
theorem dk_182 {code : ByteArray} {pc : Nat} (a b : UInt8) (h : DkAt code pc [182, a, b]) : decode code pc = .ok (.invokevirtual (a.toNat * 256 + b.toNat), 3) := dk_of ((dk_bind (dk_u1 (h 0 _ rfl))).trans ((dk_bind (dk_u2 (h 1 _ rfl) (h 2 _ rfl))).trans rfl))
theorem dk_183 {code : ByteArray} {pc : Nat} (a b : UInt8) (h : DkAt code pc [183, a, b]) : decode code pc = .ok (.invokespecial (a.toNat * 256 + b.toNat), 3) := dk_of ((dk_bind (dk_u1 (h 0 _ rfl))).trans ((dk_bind (dk_u2 (h 1 _ rfl) (h 2 _ rfl))).trans rfl))
theorem dk_184 {code : ByteArray} {pc : Nat} (a b : UInt8) (h : DkAt code pc [184, a, b]) : decode code pc = .ok (.invokestatic (a.toNat * 256 + b.toNat), 3) := dk_of ((dk_bind (dk_u1 (h 0 _ rfl))).trans ((dk_bind (dk_u2 (h 1 _ rfl) (h 2 _ rfl))).trans rfl))
theorem dk_187 {code : ByteArray} {pc : Nat} (a b : UInt8) (h : DkAt code pc [187, a, b]) : decode code pc = .ok (.new (a.toNat * 256 + b.toNat), 3) := dk_of ((dk_bind (dk_u1 (h 0 _ rfl))).trans ((dk_bind (dk_u2 (h 1 _ rfl) (h 2 _ rfl))).trans rfl))
theorem dk_188_4 {code : ByteArray} {pc : Nat} (h : DkAt code pc [188, 4]) : decode code pc = .ok (.newarray .boolean, 2) := dk_of ((dk_bind (dk_u1 (h 0 _ rfl))).trans ((dk_bind (dk_u1 (h 1 _ rfl))).trans rfl))
theorem dk_188_10 {code : ByteArray} {pc : Nat} (h : DkAt code pc [188, 10]) : decode code pc = .ok (.newarray .int, 2) := dk_of ((dk_bind (dk_u1 (h 0 _ rfl))).trans ((dk_bind (dk_u1 (h 1 _ rfl))).trans rfl))
theorem dk_188_11 {code : ByteArray} {pc : Nat} (h : DkAt code pc [188, 11]) : decode code pc = .ok (.newarray .long, 2) := dk_of ((dk_bind (dk_u1 (h 0 _ rfl))).trans ((dk_bind (dk_u1 (h 1 _ rfl))).trans rfl))
theorem dk_189 {code : ByteArray} {pc : Nat} (a b : UInt8) (h : DkAt code pc [189, a, b]) : decode code pc = .ok (.anewarray (a.toNat * 256 + b.toNat), 3) := dk_of ((dk_bind (dk_u1 (h 0 _ rfl))).trans ((dk_bind (dk_u2 (h 1 _ rfl) (h 2 _ rfl))).trans rfl))
theorem dk_190 {code : ByteArray} {pc : Nat} (h : DkAt code pc [190]) : decode code pc = .ok (.arraylength, 1) := dk_of ((dk_bind (dk_u1 (h 0 _ rfl))).trans rfl)
theorem dk_191 {code : ByteArray} {pc : Nat} (h : DkAt code pc [191]) : decode code pc = .ok (.athrow, 1) := dk_of ((dk_bind (dk_u1 (h 0 _ rfl))).trans rfl)
theorem dk_192 {code : ByteArray} {pc : Nat} (a b : UInt8) (h : DkAt code pc [192, a, b]) : decode code pc = .ok (.checkcast (a.toNat * 256 + b.toNat), 3) := dk_of ((dk_bind (dk_u1 (h 0 _ rfl))).trans ((dk_bind (dk_u2 (h 1 _ rfl) (h 2 _ rfl))).trans rfl))
theorem dk_198 {code : ByteArray} {pc : Nat} (a b : UInt8) (h : DkAt code pc [198, a, b]) : decode code pc = .ok (.ifnull (Reader.signed 16 (a.toNat * 256 + b.toNat)), 3) := dk_of ((dk_bind (dk_u1 (h 0 _ rfl))).trans ((dk_bind (dk_map (dk_u2 (h 1 _ rfl) (h 2 _ rfl)))).trans rfl))
theorem q887 : (Jvm.Cond.castable "[B" "java/lang/Object") ∈ lw_tbl := lw_at lw_m4 139 rfl
set_option maxRecDepth 100000
theorem q888 : (Jvm.Cond.castable "[I" "java/lang/Object") ∈ lw_tbl := lw_at lw_m4 140 rfl
set_option maxRecDepth 100000
theorem q890 : (Jvm.Cond.castable "[J" "java/lang/Object") ∈ lw_tbl := lw_at lw_m4 142 rfl
set_option maxRecDepth 100000
theorem q883 : (Jvm.Cond.sameMethod "[Ljava/lang/Object;" "java/lang/Object" "getClass" "()Ljava/lang/Class;") ∈ lw_all := lw_g (lw_at lw_m4 135 rfl) rfl
set_option maxRecDepth 100000
theorem q884 : (Jvm.Cond.selects "[Ljava/lang/Object;" ({ cls := "java/lang/Object", name := "getClass", desc := "()Ljava/lang/Class;" } : Jvm.MethodName) ({ cls := "java/lang/Object", name := "getClass", desc := "()Ljava/lang/Class;" } : Jvm.MethodName)) ∈ lw_all := lw_g (lw_at lw_m4 136 rfl) rfl
theorem q886 : (Jvm.Cond.castable "[Ljava/lang/Object;" "java/lang/Object") ∈ lw_tbl := lw_at lw_m4 138 rfl
theorem q889 : (Jvm.Cond.castable "[Z" "java/lang/Object") ∈ lw_tbl := lw_at lw_m4 141 rfl
set_option maxRecDepth 100000
theorem q44 : (Jvm.Cond.initialized "java/lang/System") ∈ lw_all := lw_g (lw_at lw_m1 16 rfl) rfl
set_option maxRecDepth 100000
theorem q281 : (Jvm.Cond.static ({ cls := "java/lang/System", name := "arraycopy", desc := "(Ljava/lang/Object;ILjava/lang/Object;II)V" } : Jvm.MethodName)) ∈ lw_all := lw_g (lw_at lw_m2 13 rfl) rfl
theorem q282 : (Jvm.Cond.native ({ cls := "java/lang/System", name := "arraycopy", desc := "(Ljava/lang/Object;ILjava/lang/Object;II)V" } : Jvm.MethodName)) ∈ lw_all := lw_g (lw_at lw_m2 14 rfl) rfl
theorem q180 : (Jvm.Cond.interfaceMethod "java/util/List" "java/util/List" "size" "()I") ∈ lw_tbl := lw_at lw_m1 152 rfl
set_option maxRecDepth 100000
theorem q181 : (Jvm.Cond.declares ({ cls := "java/util/List", name := "size", desc := "()I" } : Jvm.MethodName)) ∈ lw_tbl := lw_at lw_m1 153 rfl
theorem q224 : (Jvm.Cond.interfaceMethod "java/util/List" "java/util/List" "add" "(Ljava/lang/Object;)Z") ∈ lw_tbl := lw_at lw_m1 196 rfl
theorem q225 : (Jvm.Cond.declares ({ cls := "java/util/List", name := "add", desc := "(Ljava/lang/Object;)Z" } : Jvm.MethodName)) ∈ lw_tbl := lw_at lw_m1 197 rfl
theorem q349 : (Jvm.Cond.interfaceMethod "java/util/List" "java/util/List" "get" "(I)Ljava/lang/Object;") ∈ lw_tbl := lw_at lw_m2 81 rfl
theorem q350 : (Jvm.Cond.declares ({ cls := "java/util/List", name := "get", desc := "(I)Ljava/lang/Object;" } : Jvm.MethodName)) ∈ lw_tbl := lw_at lw_m2 82 rfl
theorem q275 : (Jvm.Cond.arrayOver (Jvm.ClassFile.FieldType.object "java/lang/Object")) ∈ lw_tbl := lw_at lw_m2 7 rfl
set_option maxRecDepth 100000
theorem q316 : (Jvm.Cond.arrayClass Jvm.ClassFile.FieldType.byte) ∈ lw_all := lw_g (lw_at lw_m2 48 rfl) rfl
theorem q426 : (Jvm.Cond.arrayClass Jvm.ClassFile.FieldType.int) ∈ lw_all := lw_g (lw_at lw_m2 158 rfl) rfl
theorem q719 : (Jvm.Cond.arrayClass Jvm.ClassFile.FieldType.boolean) ∈ lw_all := lw_g (lw_at lw_m3 211 rfl) rfl
theorem q866 : (Jvm.Cond.arrayClass Jvm.ClassFile.FieldType.long) ∈ lw_all := lw_g (lw_at lw_m4 118 rfl) rfl
/-! java/util/AbstractCollection -/
set_option maxRecDepth 100000
def RJ0 : String := "java/util/AbstractCollection"
abbrev cJ0_init : ByteArray := prog_22_method_1_code
def yJ0_init : MethodName := ⟨RJ0, "<init>", "()V"⟩
theorem dJ0_init_0 : decode cJ0_init 0 = .ok (.aload_n 0, 1) := by decide +kernel
theorem dJ0_init_1 : decode cJ0_init 1 = .ok (.invokespecial 1, 3) := by decide +kernel
theorem dJ0_init_4 : decode cJ0_init 4 = .ok (.return_, 1) := by decide +kernel
theorem q30 : (Jvm.Cond.initialized "java/util/AbstractCollection") ∈ lw_all := lw_g (lw_at lw_m1 2 rfl) rfl
theorem q70 : (Jvm.Cond.instanceMethod ({ cls := "java/util/AbstractCollection", name := "<init>", desc := "()V" } : Jvm.MethodName)) ∈ lw_all := lw_g (lw_at lw_m1 42 rfl) rfl
theorem q71 : (Jvm.Cond.code ({ cls := "java/util/AbstractCollection", name := "<init>", desc := "()V" } : Jvm.MethodName) prog_22_method_1_code (1 : Nat) (Option.none : Option Jvm.ClassFile.FieldType)) ∈ lw_all := lw_g (lw_at lw_m1 43 rfl) rfl
theorem q72 : (Jvm.Cond.methodLink "java/util/AbstractCollection" (1 : Nat) ({ cls := "java/lang/Object", name := "<init>", desc := "()V" } : Jvm.MethodName)) ∈ lw_all := lw_g (lw_at lw_m1 44 rfl) rfl
/-! java/util/AbstractList -/
set_option maxRecDepth 100000
def RJ1 : String := "java/util/AbstractList"
abbrev cJ1_init : ByteArray := prog_23_method_1_code
def yJ1_init : MethodName := ⟨RJ1, "<init>", "()V"⟩
def dkwJ1_init_0 : List UInt8 := [42, 183, 0, 1, 42, 3, 181, 0, 7, 177]
abbrev dktJ1_init_0 : List UInt8 := dkwJ1_init_0 ++ []
theorem dksJ1_init_0 : cJ1_init.data.toList.drop 0 = dktJ1_init_0 := by decide +kernel
theorem dJ1_init_0 : decode cJ1_init 0 = .ok (.aload_n 0, 1) := dk_42 (dk_at dksJ1_init_0 0 rfl rfl)
theorem dJ1_init_1 : decode cJ1_init 1 = .ok (.invokespecial 1, 3) := dk_183 0 1 (dk_at dksJ1_init_0 1 rfl rfl)
theorem dJ1_init_4 : decode cJ1_init 4 = .ok (.aload_n 0, 1) := dk_42 (dk_at dksJ1_init_0 4 rfl rfl)
theorem dJ1_init_5 : decode cJ1_init 5 = .ok (.iconst 0, 1) := dk_3 (dk_at dksJ1_init_0 5 rfl rfl)
theorem dJ1_init_6 : decode cJ1_init 6 = .ok (.putfield 7, 3) := dk_181 0 7 (dk_at dksJ1_init_0 6 rfl rfl)
theorem dJ1_init_9 : decode cJ1_init 9 = .ok (.return_, 1) := dk_177 (dk_at dksJ1_init_0 9 rfl rfl)
theorem q31 : (Jvm.Cond.initialized "java/util/AbstractList") ∈ lw_all := lw_g (lw_at lw_m1 3 rfl) rfl
theorem q67 : (Jvm.Cond.instanceMethod ({ cls := "java/util/AbstractList", name := "<init>", desc := "()V" } : Jvm.MethodName)) ∈ lw_all := lw_g (lw_at lw_m1 39 rfl) rfl
theorem q68 : (Jvm.Cond.code ({ cls := "java/util/AbstractList", name := "<init>", desc := "()V" } : Jvm.MethodName) prog_23_method_1_code (1 : Nat) (Option.none : Option Jvm.ClassFile.FieldType)) ∈ lw_all := lw_g (lw_at lw_m1 40 rfl) rfl
theorem q69 : (Jvm.Cond.methodLink "java/util/AbstractList" (1 : Nat) ({ cls := "java/util/AbstractCollection", name := "<init>", desc := "()V" } : Jvm.MethodName)) ∈ lw_all := lw_g (lw_at lw_m1 41 rfl) rfl
theorem q77 : (Jvm.Cond.fieldLink "java/util/AbstractList" (7 : Nat) "java/util/AbstractList" "modCount" "I") ∈ lw_all := lw_g (lw_at lw_m1 49 rfl) rfl
theorem q85 : (Jvm.Cond.soleField "java/util/AbstractList" "modCount") ∈ lw_all := lw_g (lw_at lw_m1 57 rfl) rfl
/-! java/lang/Math -/
set_option maxRecDepth 100000
def RJ10 : String := "java/lang/Math"
abbrev cJ10_max : ByteArray := prog_16_method_65_code
def yJ10_max : MethodName := ⟨RJ10, "max", "(II)I"⟩
def dkwJ10_max_0 : List UInt8 := [26, 27, 161, 0, 7, 26, 167, 0, 4, 27, 172]
abbrev dktJ10_max_0 : List UInt8 := dkwJ10_max_0 ++ []
theorem dksJ10_max_0 : cJ10_max.data.toList.drop 0 = dktJ10_max_0 := by decide +kernel
theorem dJ10_max_0 : decode cJ10_max 0 = .ok (.iload_n 0, 1) := dk_26 (dk_at dksJ10_max_0 0 rfl rfl)
theorem dJ10_max_1 : decode cJ10_max 1 = .ok (.iload_n 1, 1) := dk_27 (dk_at dksJ10_max_0 1 rfl rfl)
theorem dJ10_max_2 : decode cJ10_max 2 = .ok (.if_icmp .lt 7, 3) := dk_161 0 7 (dk_at dksJ10_max_0 2 rfl rfl)
theorem dJ10_max_5 : decode cJ10_max 5 = .ok (.iload_n 0, 1) := dk_26 (dk_at dksJ10_max_0 5 rfl rfl)
theorem dJ10_max_6 : decode cJ10_max 6 = .ok (.goto 4, 3) := dk_167 0 4 (dk_at dksJ10_max_0 6 rfl rfl)
theorem dJ10_max_9 : decode cJ10_max 9 = .ok (.iload_n 1, 1) := dk_27 (dk_at dksJ10_max_0 9 rfl rfl)
theorem dJ10_max_10 : decode cJ10_max 10 = .ok (.ireturn, 1) := dk_172 (dk_at dksJ10_max_0 10 rfl rfl)
abbrev cJ10_min : ByteArray := prog_16_method_69_code
def yJ10_min : MethodName := ⟨RJ10, "min", "(II)I"⟩
def dkwJ10_min_0 : List UInt8 := [26, 27, 163, 0, 7, 26, 167, 0, 4, 27, 172]
abbrev dktJ10_min_0 : List UInt8 := dkwJ10_min_0 ++ []
theorem dksJ10_min_0 : cJ10_min.data.toList.drop 0 = dktJ10_min_0 := by decide +kernel
theorem dJ10_min_0 : decode cJ10_min 0 = .ok (.iload_n 0, 1) := dk_26 (dk_at dksJ10_min_0 0 rfl rfl)
theorem dJ10_min_1 : decode cJ10_min 1 = .ok (.iload_n 1, 1) := dk_27 (dk_at dksJ10_min_0 1 rfl rfl)
theorem dJ10_min_2 : decode cJ10_min 2 = .ok (.if_icmp .gt 7, 3) := dk_163 0 7 (dk_at dksJ10_min_0 2 rfl rfl)
theorem dJ10_min_5 : decode cJ10_min 5 = .ok (.iload_n 0, 1) := dk_26 (dk_at dksJ10_min_0 5 rfl rfl)
theorem dJ10_min_6 : decode cJ10_min 6 = .ok (.goto 4, 3) := dk_167 0 4 (dk_at dksJ10_min_0 6 rfl rfl)
theorem dJ10_min_9 : decode cJ10_min 9 = .ok (.iload_n 1, 1) := dk_27 (dk_at dksJ10_min_0 9 rfl rfl)
theorem dJ10_min_10 : decode cJ10_min 10 = .ok (.ireturn, 1) := dk_172 (dk_at dksJ10_min_0 10 rfl rfl)
theorem q42 : (Jvm.Cond.initialized "java/lang/Math") ∈ lw_all := lw_g (lw_at lw_m1 14 rfl) rfl
theorem q247 : (Jvm.Cond.static ({ cls := "java/lang/Math", name := "max", desc := "(II)I" } : Jvm.MethodName)) ∈ lw_all := lw_g (lw_at lw_m1 219 rfl) rfl
theorem q248 : (Jvm.Cond.code ({ cls := "java/lang/Math", name := "max", desc := "(II)I" } : Jvm.MethodName) prog_16_method_65_code (2 : Nat) (Option.some Jvm.ClassFile.FieldType.int)) ∈ lw_all := lw_g (lw_at lw_m1 220 rfl) rfl
theorem q278 : (Jvm.Cond.static ({ cls := "java/lang/Math", name := "min", desc := "(II)I" } : Jvm.MethodName)) ∈ lw_all := lw_g (lw_at lw_m2 10 rfl) rfl
theorem q279 : (Jvm.Cond.code ({ cls := "java/lang/Math", name := "min", desc := "(II)I" } : Jvm.MethodName) prog_16_method_69_code (2 : Nat) (Option.some Jvm.ClassFile.FieldType.int)) ∈ lw_all := lw_g (lw_at lw_m2 11 rfl) rfl
/-! java/util/Arrays -/
set_option maxRecDepth 100000
def RJ11 : String := "java/util/Arrays"
abbrev cJ11_copyOf : ByteArray := prog_25_method_119_code
def yJ11_copyOf : MethodName := ⟨RJ11, "copyOf", "([Ljava/lang/Object;I)[Ljava/lang/Object;"⟩
def dkwJ11_copyOf_0 : List UInt8 := [42, 27, 42, 182, 0, 86, 184, 1, 44, 176]
abbrev dktJ11_copyOf_0 : List UInt8 := dkwJ11_copyOf_0 ++ []
theorem dksJ11_copyOf_0 : cJ11_copyOf.data.toList.drop 0 = dktJ11_copyOf_0 := by decide +kernel
theorem dJ11_copyOf_0 : decode cJ11_copyOf 0 = .ok (.aload_n 0, 1) := dk_42 (dk_at dksJ11_copyOf_0 0 rfl rfl)
theorem dJ11_copyOf_1 : decode cJ11_copyOf 1 = .ok (.iload_n 1, 1) := dk_27 (dk_at dksJ11_copyOf_0 1 rfl rfl)
theorem dJ11_copyOf_2 : decode cJ11_copyOf 2 = .ok (.aload_n 0, 1) := dk_42 (dk_at dksJ11_copyOf_0 2 rfl rfl)
theorem dJ11_copyOf_3 : decode cJ11_copyOf 3 = .ok (.invokevirtual 86, 3) := dk_182 0 86 (dk_at dksJ11_copyOf_0 3 rfl rfl)
theorem dJ11_copyOf_6 : decode cJ11_copyOf 6 = .ok (.invokestatic 300, 3) := dk_184 1 44 (dk_at dksJ11_copyOf_0 6 rfl rfl)
theorem dJ11_copyOf_9 : decode cJ11_copyOf 9 = .ok (.areturn, 1) := dk_176 (dk_at dksJ11_copyOf_0 9 rfl rfl)
abbrev cJ11_copyOf_2 : ByteArray := prog_25_method_120_code
def yJ11_copyOf_2 : MethodName := ⟨RJ11, "copyOf", "([Ljava/lang/Object;ILjava/lang/Class;)[Ljava/lang/Object;"⟩
def dkwJ11_copyOf_2_1 : List UInt8 := [78, 42, 3, 45, 3, 42, 190, 27, 184, 1, 48, 184, 0, 150, 45, 176]
abbrev dktJ11_copyOf_2_1 : List UInt8 := dkwJ11_copyOf_2_1 ++ []
def dkwJ11_copyOf_2_0 : List UInt8 := [44, 18, 110, 166, 0, 10, 27, 189, 0, 2, 167, 0, 14, 44, 182, 0, 90, 27, 184, 0, 95, 192, 0, 110]
abbrev dktJ11_copyOf_2_0 : List UInt8 := dkwJ11_copyOf_2_0 ++ dktJ11_copyOf_2_1
theorem dksJ11_copyOf_2_0 : cJ11_copyOf_2.data.toList.drop 0 = dktJ11_copyOf_2_0 := by decide +kernel
theorem dksJ11_copyOf_2_1 : cJ11_copyOf_2.data.toList.drop 24 = dktJ11_copyOf_2_1 := dk_seg dksJ11_copyOf_2_0 24 rfl rfl
theorem dJ11_copyOf_2_0 : decode cJ11_copyOf_2 0 = .ok (.aload_n 2, 1) := dk_44 (dk_at dksJ11_copyOf_2_0 0 rfl rfl)
theorem dJ11_copyOf_2_1 : decode cJ11_copyOf_2 1 = .ok (.ldc 110, 2) := dk_18 110 (dk_at dksJ11_copyOf_2_0 1 rfl rfl)
theorem dJ11_copyOf_2_3 : decode cJ11_copyOf_2 3 = .ok (.if_acmp .ne 10, 3) := dk_166 0 10 (dk_at dksJ11_copyOf_2_0 3 rfl rfl)
theorem dJ11_copyOf_2_6 : decode cJ11_copyOf_2 6 = .ok (.iload_n 1, 1) := dk_27 (dk_at dksJ11_copyOf_2_0 6 rfl rfl)
theorem dJ11_copyOf_2_7 : decode cJ11_copyOf_2 7 = .ok (.anewarray 2, 3) := dk_189 0 2 (dk_at dksJ11_copyOf_2_0 7 rfl rfl)
theorem dJ11_copyOf_2_10 : decode cJ11_copyOf_2 10 = .ok (.goto 14, 3) := dk_167 0 14 (dk_at dksJ11_copyOf_2_0 10 rfl rfl)
theorem dJ11_copyOf_2_13 : decode cJ11_copyOf_2 13 = .ok (.aload_n 2, 1) := dk_44 (dk_at dksJ11_copyOf_2_0 13 rfl rfl)
theorem dJ11_copyOf_2_14 : decode cJ11_copyOf_2 14 = .ok (.invokevirtual 90, 3) := dk_182 0 90 (dk_at dksJ11_copyOf_2_0 14 rfl rfl)
theorem dJ11_copyOf_2_17 : decode cJ11_copyOf_2 17 = .ok (.iload_n 1, 1) := dk_27 (dk_at dksJ11_copyOf_2_0 17 rfl rfl)
theorem dJ11_copyOf_2_18 : decode cJ11_copyOf_2 18 = .ok (.invokestatic 95, 3) := dk_184 0 95 (dk_at dksJ11_copyOf_2_0 18 rfl rfl)
theorem dJ11_copyOf_2_21 : decode cJ11_copyOf_2 21 = .ok (.checkcast 110, 3) := dk_192 0 110 (dk_at dksJ11_copyOf_2_0 21 rfl rfl)
theorem dJ11_copyOf_2_24 : decode cJ11_copyOf_2 24 = .ok (.astore_n 3, 1) := dk_78 (dk_at dksJ11_copyOf_2_1 0 rfl rfl)
theorem dJ11_copyOf_2_25 : decode cJ11_copyOf_2 25 = .ok (.aload_n 0, 1) := dk_42 (dk_at dksJ11_copyOf_2_1 1 rfl rfl)
theorem dJ11_copyOf_2_26 : decode cJ11_copyOf_2 26 = .ok (.iconst 0, 1) := dk_3 (dk_at dksJ11_copyOf_2_1 2 rfl rfl)
theorem dJ11_copyOf_2_27 : decode cJ11_copyOf_2 27 = .ok (.aload_n 3, 1) := dk_45 (dk_at dksJ11_copyOf_2_1 3 rfl rfl)
theorem dJ11_copyOf_2_28 : decode cJ11_copyOf_2 28 = .ok (.iconst 0, 1) := dk_3 (dk_at dksJ11_copyOf_2_1 4 rfl rfl)
theorem dJ11_copyOf_2_29 : decode cJ11_copyOf_2 29 = .ok (.aload_n 0, 1) := dk_42 (dk_at dksJ11_copyOf_2_1 5 rfl rfl)
theorem dJ11_copyOf_2_30 : decode cJ11_copyOf_2 30 = .ok (.arraylength, 1) := dk_190 (dk_at dksJ11_copyOf_2_1 6 rfl rfl)
theorem dJ11_copyOf_2_31 : decode cJ11_copyOf_2 31 = .ok (.iload_n 1, 1) := dk_27 (dk_at dksJ11_copyOf_2_1 7 rfl rfl)
theorem dJ11_copyOf_2_32 : decode cJ11_copyOf_2 32 = .ok (.invokestatic 304, 3) := dk_184 1 48 (dk_at dksJ11_copyOf_2_1 8 rfl rfl)
theorem dJ11_copyOf_2_35 : decode cJ11_copyOf_2 35 = .ok (.invokestatic 150, 3) := dk_184 0 150 (dk_at dksJ11_copyOf_2_1 11 rfl rfl)
theorem dJ11_copyOf_2_38 : decode cJ11_copyOf_2 38 = .ok (.aload_n 3, 1) := dk_45 (dk_at dksJ11_copyOf_2_1 14 rfl rfl)
theorem dJ11_copyOf_2_39 : decode cJ11_copyOf_2 39 = .ok (.areturn, 1) := dk_176 (dk_at dksJ11_copyOf_2_1 15 rfl rfl)
theorem q43 : (Jvm.Cond.initialized "java/util/Arrays") ∈ lw_all := lw_g (lw_at lw_m1 15 rfl) rfl
theorem q254 : (Jvm.Cond.static ({ cls := "java/util/Arrays", name := "copyOf", desc := "([Ljava/lang/Object;I)[Ljava/lang/Object;" } : Jvm.MethodName)) ∈ lw_all := lw_g (lw_at lw_m1 226 rfl) rfl
theorem q255 : (Jvm.Cond.code ({ cls := "java/util/Arrays", name := "copyOf", desc := "([Ljava/lang/Object;I)[Ljava/lang/Object;" } : Jvm.MethodName) prog_25_method_119_code (2 : Nat) (Option.some (Jvm.ClassFile.FieldType.array (Jvm.ClassFile.FieldType.object "java/lang/Object")))) ∈ lw_all := lw_g (lw_at lw_m1 227 rfl) rfl
theorem q256 : (Jvm.Cond.methodLink "java/util/Arrays" (86 : Nat) ({ cls := "java/lang/Object", name := "getClass", desc := "()Ljava/lang/Class;" } : Jvm.MethodName)) ∈ lw_all := lw_g (lw_at lw_m1 228 rfl) rfl
theorem q271 : (Jvm.Cond.methodLink "java/util/Arrays" (300 : Nat) ({ cls := "java/util/Arrays", name := "copyOf", desc := "([Ljava/lang/Object;ILjava/lang/Class;)[Ljava/lang/Object;" } : Jvm.MethodName)) ∈ lw_all := lw_g (lw_at lw_m2 3 rfl) rfl
theorem q272 : (Jvm.Cond.static ({ cls := "java/util/Arrays", name := "copyOf", desc := "([Ljava/lang/Object;ILjava/lang/Class;)[Ljava/lang/Object;" } : Jvm.MethodName)) ∈ lw_all := lw_g (lw_at lw_m2 4 rfl) rfl
theorem q273 : (Jvm.Cond.code ({ cls := "java/util/Arrays", name := "copyOf", desc := "([Ljava/lang/Object;ILjava/lang/Class;)[Ljava/lang/Object;" } : Jvm.MethodName) prog_25_method_120_code (4 : Nat) (Option.some (Jvm.ClassFile.FieldType.array (Jvm.ClassFile.FieldType.object "java/lang/Object")))) ∈ lw_all := lw_g (lw_at lw_m2 5 rfl) rfl
theorem q274 : (Jvm.Cond.classLink "java/util/Arrays" (110 : Nat) "[Ljava/lang/Object;") ∈ lw_all := lw_g (lw_at lw_m2 6 rfl) rfl
theorem q276 : (Jvm.Cond.classLink "java/util/Arrays" (2 : Nat) "java/lang/Object") ∈ lw_all := lw_g (lw_at lw_m2 8 rfl) rfl
theorem q277 : (Jvm.Cond.methodLink "java/util/Arrays" (304 : Nat) ({ cls := "java/lang/Math", name := "min", desc := "(II)I" } : Jvm.MethodName)) ∈ lw_all := lw_g (lw_at lw_m2 9 rfl) rfl
theorem q280 : (Jvm.Cond.methodLink "java/util/Arrays" (150 : Nat) ({ cls := "java/lang/System", name := "arraycopy", desc := "(Ljava/lang/Object;ILjava/lang/Object;II)V" } : Jvm.MethodName)) ∈ lw_all := lw_g (lw_at lw_m2 12 rfl) rfl
/-! java/lang/IndexOutOfBoundsException -/
set_option maxRecDepth 100000
def RJ12 : String := "java/lang/IndexOutOfBoundsException"
def TJ12 : u_T := fun k => match k with
  | 0 => ("java/lang/Throwable", "cause", "Ljava/lang/Throwable;", false)
  | 1 => ("java/lang/Throwable", "stackTrace", "[Ljava/lang/StackTraceElement;", false)
  | 2 => ("java/lang/Throwable", "suppressedExceptions", "Ljava/util/List;", false)
  | 3 => ("java/lang/Throwable", "detailMessage", "Ljava/lang/String;", false)
  | 4 => ("java/lang/Throwable", "backtrace", "Ljava/lang/Object;", false)
  | _ => ("java/lang/Throwable", "depth", "I", false)
def tyJ12 : Nat → FieldType := fun k => match k with
  | 0 => .object "java/lang/Throwable"
  | 1 => .array (.object "java/lang/StackTraceElement")
  | 2 => .object "java/util/List"
  | 3 => .object "java/lang/String"
  | 4 => .object "java/lang/Object"
  | _ => .int
abbrev wsJ120 : List Cond := u_ws RJ12 TJ12 6
theorem nmJ12 : ∀ a, a < 6 → ∀ b, b < 6 → a ≠ b → (TJ12 a).2.1 ≠ (TJ12 b).2.1 := by decide +kernel
theorem tyJ12_ok : ∀ k, k < 6 → parseFieldDescriptor (TJ12 k).2.2.1 = some (tyJ12 k) := by decide +kernel
abbrev cJ12_init : ByteArray := prog_14_method_2_code
def yJ12_init : MethodName := ⟨RJ12, "<init>", "(Ljava/lang/String;)V"⟩
def dkwJ12_init_0 : List UInt8 := [42, 43, 183, 0, 7, 177]
abbrev dktJ12_init_0 : List UInt8 := dkwJ12_init_0 ++ []
theorem dksJ12_init_0 : cJ12_init.data.toList.drop 0 = dktJ12_init_0 := by decide +kernel
theorem dJ12_init_0 : decode cJ12_init 0 = .ok (.aload_n 0, 1) := dk_42 (dk_at dksJ12_init_0 0 rfl rfl)
theorem dJ12_init_1 : decode cJ12_init 1 = .ok (.aload_n 1, 1) := dk_43 (dk_at dksJ12_init_0 1 rfl rfl)
theorem dJ12_init_2 : decode cJ12_init 2 = .ok (.invokespecial 7, 3) := dk_183 0 7 (dk_at dksJ12_init_0 2 rfl rfl)
theorem dJ12_init_5 : decode cJ12_init 5 = .ok (.return_, 1) := dk_177 (dk_at dksJ12_init_0 5 rfl rfl)
abbrev cJ12_init_2 : ByteArray := prog_14_method_1_code
def yJ12_init_2 : MethodName := ⟨RJ12, "<init>", "()V"⟩
theorem dJ12_init_2_0 : decode cJ12_init_2 0 = .ok (.aload_n 0, 1) := by decide +kernel
theorem dJ12_init_2_1 : decode cJ12_init_2 1 = .ok (.invokespecial 1, 3) := by decide +kernel
theorem dJ12_init_2_4 : decode cJ12_init_2 4 = .ok (.return_, 1) := by decide +kernel
theorem q45 : (Jvm.Cond.initialized "java/lang/IndexOutOfBoundsException") ∈ lw_all := lw_g (lw_at lw_m1 17 rfl) rfl
theorem q148 : (Jvm.Cond.selects "java/lang/IndexOutOfBoundsException" ({ cls := "java/lang/Throwable", name := "fillInStackTrace", desc := "()Ljava/lang/Throwable;" } : Jvm.MethodName) ({ cls := "java/lang/Throwable", name := "fillInStackTrace", desc := "()Ljava/lang/Throwable;" } : Jvm.MethodName)) ∈ lw_all := lw_g (lw_at lw_m1 120 rfl) rfl
theorem q268 : (Jvm.Cond.selects "java/lang/IndexOutOfBoundsException" ({ cls := "java/lang/Object", name := "getClass", desc := "()Ljava/lang/Class;" } : Jvm.MethodName) ({ cls := "java/lang/Object", name := "getClass", desc := "()Ljava/lang/Class;" } : Jvm.MethodName)) ∈ lw_all := lw_g (lw_at lw_m2 0 rfl) rfl
theorem q293 : (Jvm.Cond.instanceMethod ({ cls := "java/lang/IndexOutOfBoundsException", name := "<init>", desc := "(Ljava/lang/String;)V" } : Jvm.MethodName)) ∈ lw_all := lw_g (lw_at lw_m2 25 rfl) rfl
theorem q294 : (Jvm.Cond.code ({ cls := "java/lang/IndexOutOfBoundsException", name := "<init>", desc := "(Ljava/lang/String;)V" } : Jvm.MethodName) prog_14_method_2_code (2 : Nat) (Option.none : Option Jvm.ClassFile.FieldType)) ∈ lw_all := lw_g (lw_at lw_m2 26 rfl) rfl
theorem q295 : (Jvm.Cond.methodLink "java/lang/IndexOutOfBoundsException" (7 : Nat) ({ cls := "java/lang/RuntimeException", name := "<init>", desc := "(Ljava/lang/String;)V" } : Jvm.MethodName)) ∈ lw_all := lw_g (lw_at lw_m2 27 rfl) rfl
theorem q312 : (Jvm.Cond.declares ({ cls := "java/lang/IndexOutOfBoundsException", name := "<init>", desc := "()V" } : Jvm.MethodName)) ∈ lw_tbl := lw_at lw_m2 44 rfl
theorem q313 : (Jvm.Cond.declares ({ cls := "java/lang/IndexOutOfBoundsException", name := "<init>", desc := "(Ljava/lang/String;)V" } : Jvm.MethodName)) ∈ lw_tbl := lw_at lw_m2 45 rfl
theorem q333 : (Jvm.Cond.instantiable "java/lang/IndexOutOfBoundsException" (6 : Nat)) ∈ lw_all := lw_g (lw_at lw_m2 65 rfl) rfl
theorem q334 : (Jvm.Cond.castable "java/lang/IndexOutOfBoundsException" "java/lang/IndexOutOfBoundsException") ∈ lw_tbl := lw_at lw_m2 66 rfl
theorem q335 : (Jvm.Cond.selects "java/lang/IndexOutOfBoundsException" ({ cls := "java/lang/Throwable", name := "fillInStackTrace", desc := "(I)Ljava/lang/Throwable;" } : Jvm.MethodName) ({ cls := "java/lang/Throwable", name := "fillInStackTrace", desc := "(I)Ljava/lang/Throwable;" } : Jvm.MethodName)) ∈ lw_all := lw_g (lw_at lw_m2 67 rfl) rfl
theorem q336 : (Jvm.Cond.lays "java/lang/IndexOutOfBoundsException" "java/lang/Throwable" "cause" "Ljava/lang/Throwable;") ∈ lw_all := lw_g (lw_at lw_m2 68 rfl) rfl
theorem q337 : (Jvm.Cond.lays "java/lang/IndexOutOfBoundsException" "java/lang/Throwable" "stackTrace" "[Ljava/lang/StackTraceElement;") ∈ lw_all := lw_g (lw_at lw_m2 69 rfl) rfl
theorem q338 : (Jvm.Cond.lays "java/lang/IndexOutOfBoundsException" "java/lang/Throwable" "suppressedExceptions" "Ljava/util/List;") ∈ lw_all := lw_g (lw_at lw_m2 70 rfl) rfl
theorem q339 : (Jvm.Cond.lays "java/lang/IndexOutOfBoundsException" "java/lang/Throwable" "detailMessage" "Ljava/lang/String;") ∈ lw_all := lw_g (lw_at lw_m2 71 rfl) rfl
theorem q340 : (Jvm.Cond.lays "java/lang/IndexOutOfBoundsException" "java/lang/Throwable" "backtrace" "Ljava/lang/Object;") ∈ lw_all := lw_g (lw_at lw_m2 72 rfl) rfl
theorem q342 : (Jvm.Cond.instanceMethod ({ cls := "java/lang/IndexOutOfBoundsException", name := "<init>", desc := "()V" } : Jvm.MethodName)) ∈ lw_all := lw_g (lw_at lw_m2 74 rfl) rfl
theorem q343 : (Jvm.Cond.code ({ cls := "java/lang/IndexOutOfBoundsException", name := "<init>", desc := "()V" } : Jvm.MethodName) prog_14_method_1_code (1 : Nat) (Option.none : Option Jvm.ClassFile.FieldType)) ∈ lw_all := lw_g (lw_at lw_m2 75 rfl) rfl
theorem q344 : (Jvm.Cond.methodLink "java/lang/IndexOutOfBoundsException" (1 : Nat) ({ cls := "java/lang/RuntimeException", name := "<init>", desc := "()V" } : Jvm.MethodName)) ∈ lw_all := lw_g (lw_at lw_m2 76 rfl) rfl
theorem q345 : (Jvm.Cond.lays "java/lang/IndexOutOfBoundsException" "java/lang/Throwable" "depth" "I") ∈ lw_all := lw_g (lw_at lw_m2 77 rfl) rfl
theorem q346 : (Jvm.Cond.superclass "java/lang/IndexOutOfBoundsException" "java/lang/RuntimeException") ∈ lw_all := lw_g (lw_at lw_m2 78 rfl) rfl
theorem q877 : (Jvm.Cond.castable "java/lang/IndexOutOfBoundsException" "java/lang/Object") ∈ lw_tbl := lw_at lw_m4 129 rfl
theorem in_J12 : ∀ w ∈ wsJ120, w ∈ lw_all := lw_in wsJ120 [336, 337, 338, 339, 340, 345] (by decide +kernel) (by decide +kernel)
/-! java/lang/ArrayIndexOutOfBoundsException -/
set_option maxRecDepth 100000
def RJ13 : String := "java/lang/ArrayIndexOutOfBoundsException"
def TJ13 : u_T := fun k => match k with
  | 0 => ("java/lang/Throwable", "backtrace", "Ljava/lang/Object;", false)
  | 1 => ("java/lang/Throwable", "detailMessage", "Ljava/lang/String;", false)
  | 2 => ("java/lang/Throwable", "cause", "Ljava/lang/Throwable;", false)
  | 3 => ("java/lang/Throwable", "stackTrace", "[Ljava/lang/StackTraceElement;", false)
  | 4 => ("java/lang/Throwable", "depth", "I", false)
  | _ => ("java/lang/Throwable", "suppressedExceptions", "Ljava/util/List;", false)
def tyJ13 : Nat → FieldType := fun k => match k with
  | 0 => .object "java/lang/Object"
  | 1 => .object "java/lang/String"
  | 2 => .object "java/lang/Throwable"
  | 3 => .array (.object "java/lang/StackTraceElement")
  | 4 => .int
  | _ => .object "java/util/List"
abbrev wsJ130 : List Cond := u_ws RJ13 TJ13 6
theorem nmJ13 : ∀ a, a < 6 → ∀ b, b < 6 → a ≠ b → (TJ13 a).2.1 ≠ (TJ13 b).2.1 := by decide +kernel
theorem tyJ13_ok : ∀ k, k < 6 → parseFieldDescriptor (TJ13 k).2.2.1 = some (tyJ13 k) := by decide +kernel
abbrev cJ13_init : ByteArray := prog_9_method_2_code
def yJ13_init : MethodName := ⟨RJ13, "<init>", "(Ljava/lang/String;)V"⟩
def dkwJ13_init_0 : List UInt8 := [42, 43, 183, 0, 7, 177]
abbrev dktJ13_init_0 : List UInt8 := dkwJ13_init_0 ++ []
theorem dksJ13_init_0 : cJ13_init.data.toList.drop 0 = dktJ13_init_0 := by decide +kernel
theorem dJ13_init_0 : decode cJ13_init 0 = .ok (.aload_n 0, 1) := dk_42 (dk_at dksJ13_init_0 0 rfl rfl)
theorem dJ13_init_1 : decode cJ13_init 1 = .ok (.aload_n 1, 1) := dk_43 (dk_at dksJ13_init_0 1 rfl rfl)
theorem dJ13_init_2 : decode cJ13_init 2 = .ok (.invokespecial 7, 3) := dk_183 0 7 (dk_at dksJ13_init_0 2 rfl rfl)
theorem dJ13_init_5 : decode cJ13_init 5 = .ok (.return_, 1) := dk_177 (dk_at dksJ13_init_0 5 rfl rfl)
theorem q46 : (Jvm.Cond.initialized "java/lang/ArrayIndexOutOfBoundsException") ∈ lw_all := lw_g (lw_at lw_m1 18 rfl) rfl
theorem q146 : (Jvm.Cond.selects "java/lang/ArrayIndexOutOfBoundsException" ({ cls := "java/lang/Throwable", name := "fillInStackTrace", desc := "()Ljava/lang/Throwable;" } : Jvm.MethodName) ({ cls := "java/lang/Throwable", name := "fillInStackTrace", desc := "()Ljava/lang/Throwable;" } : Jvm.MethodName)) ∈ lw_all := lw_g (lw_at lw_m1 118 rfl) rfl
theorem q265 : (Jvm.Cond.selects "java/lang/ArrayIndexOutOfBoundsException" ({ cls := "java/lang/Object", name := "getClass", desc := "()Ljava/lang/Class;" } : Jvm.MethodName) ({ cls := "java/lang/Object", name := "getClass", desc := "()Ljava/lang/Class;" } : Jvm.MethodName)) ∈ lw_all := lw_g (lw_at lw_m1 237 rfl) rfl
theorem q289 : (Jvm.Cond.instantiable "java/lang/ArrayIndexOutOfBoundsException" (6 : Nat)) ∈ lw_all := lw_g (lw_at lw_m2 21 rfl) rfl
theorem q290 : (Jvm.Cond.instanceMethod ({ cls := "java/lang/ArrayIndexOutOfBoundsException", name := "<init>", desc := "(Ljava/lang/String;)V" } : Jvm.MethodName)) ∈ lw_all := lw_g (lw_at lw_m2 22 rfl) rfl
theorem q291 : (Jvm.Cond.code ({ cls := "java/lang/ArrayIndexOutOfBoundsException", name := "<init>", desc := "(Ljava/lang/String;)V" } : Jvm.MethodName) prog_9_method_2_code (2 : Nat) (Option.none : Option Jvm.ClassFile.FieldType)) ∈ lw_all := lw_g (lw_at lw_m2 23 rfl) rfl
theorem q292 : (Jvm.Cond.methodLink "java/lang/ArrayIndexOutOfBoundsException" (7 : Nat) ({ cls := "java/lang/IndexOutOfBoundsException", name := "<init>", desc := "(Ljava/lang/String;)V" } : Jvm.MethodName)) ∈ lw_all := lw_g (lw_at lw_m2 24 rfl) rfl
theorem q304 : (Jvm.Cond.lays "java/lang/ArrayIndexOutOfBoundsException" "java/lang/Throwable" "backtrace" "Ljava/lang/Object;") ∈ lw_all := lw_g (lw_at lw_m2 36 rfl) rfl
theorem q305 : (Jvm.Cond.lays "java/lang/ArrayIndexOutOfBoundsException" "java/lang/Throwable" "detailMessage" "Ljava/lang/String;") ∈ lw_all := lw_g (lw_at lw_m2 37 rfl) rfl
theorem q306 : (Jvm.Cond.lays "java/lang/ArrayIndexOutOfBoundsException" "java/lang/Throwable" "cause" "Ljava/lang/Throwable;") ∈ lw_all := lw_g (lw_at lw_m2 38 rfl) rfl
theorem q307 : (Jvm.Cond.lays "java/lang/ArrayIndexOutOfBoundsException" "java/lang/Throwable" "stackTrace" "[Ljava/lang/StackTraceElement;") ∈ lw_all := lw_g (lw_at lw_m2 39 rfl) rfl
theorem q308 : (Jvm.Cond.lays "java/lang/ArrayIndexOutOfBoundsException" "java/lang/Throwable" "depth" "I") ∈ lw_all := lw_g (lw_at lw_m2 40 rfl) rfl
theorem q309 : (Jvm.Cond.lays "java/lang/ArrayIndexOutOfBoundsException" "java/lang/Throwable" "suppressedExceptions" "Ljava/util/List;") ∈ lw_all := lw_g (lw_at lw_m2 41 rfl) rfl
theorem q310 : (Jvm.Cond.superclass "java/lang/ArrayIndexOutOfBoundsException" "java/lang/IndexOutOfBoundsException") ∈ lw_all := lw_g (lw_at lw_m2 42 rfl) rfl
theorem q311 : (Jvm.Cond.castable "java/lang/ArrayIndexOutOfBoundsException" "java/lang/ArrayIndexOutOfBoundsException") ∈ lw_tbl := lw_at lw_m2 43 rfl
theorem q314 : (Jvm.Cond.selects "java/lang/ArrayIndexOutOfBoundsException" ({ cls := "java/lang/Throwable", name := "fillInStackTrace", desc := "(I)Ljava/lang/Throwable;" } : Jvm.MethodName) ({ cls := "java/lang/Throwable", name := "fillInStackTrace", desc := "(I)Ljava/lang/Throwable;" } : Jvm.MethodName)) ∈ lw_all := lw_g (lw_at lw_m2 46 rfl) rfl
theorem q869 : (Jvm.Cond.castable "java/lang/ArrayIndexOutOfBoundsException" "java/lang/IndexOutOfBoundsException") ∈ lw_tbl := lw_at lw_m4 121 rfl
theorem q876 : (Jvm.Cond.castable "java/lang/ArrayIndexOutOfBoundsException" "java/lang/Object") ∈ lw_tbl := lw_at lw_m4 128 rfl
theorem in_J13 : ∀ w ∈ wsJ130, w ∈ lw_all := lw_in wsJ130 [304, 305, 306, 307, 308, 309] (by decide +kernel) (by decide +kernel)
/-! java/lang/String -/
set_option maxRecDepth 100000
def RJ14 : String := "java/lang/String"
def TJ14 : u_T := fun k => match k with
  | 0 => ("java/lang/String", "value", "[B", true)
  | _ => ("java/lang/String", "coder", "B", true)
def tyJ14 : Nat → FieldType := fun k => match k with
  | 0 => .array .byte
  | _ => .byte
abbrev wsJ140 : List Cond := u_ws RJ14 TJ14 2
theorem nmJ14 : ∀ a, a < 2 → ∀ b, b < 2 → a ≠ b → (TJ14 a).2.1 ≠ (TJ14 b).2.1 := by decide +kernel
theorem tyJ14_ok : ∀ k, k < 2 → parseFieldDescriptor (TJ14 k).2.2.1 = some (tyJ14 k) := by decide +kernel
theorem q47 : (Jvm.Cond.initialized "java/lang/String") ∈ lw_all := lw_g (lw_at lw_m1 19 rfl) rfl
theorem q315 : (Jvm.Cond.instantiable "java/lang/String" (4 : Nat)) ∈ lw_all := lw_g (lw_at lw_m2 47 rfl) rfl
theorem q317 : (Jvm.Cond.laysFinal "java/lang/String" "java/lang/String" "value" "[B") ∈ lw_all := lw_g (lw_at lw_m2 49 rfl) rfl
theorem q318 : (Jvm.Cond.soleField "java/lang/String" "value") ∈ lw_all := lw_g (lw_at lw_m2 50 rfl) rfl
theorem q319 : (Jvm.Cond.laysFinal "java/lang/String" "java/lang/String" "coder" "B") ∈ lw_all := lw_g (lw_at lw_m2 51 rfl) rfl
theorem q320 : (Jvm.Cond.soleField "java/lang/String" "coder") ∈ lw_all := lw_g (lw_at lw_m2 52 rfl) rfl
theorem q882 : (Jvm.Cond.castable "java/lang/String" "java/lang/Object") ∈ lw_tbl := lw_at lw_m4 134 rfl
theorem in_J14 : ∀ w ∈ wsJ140, w ∈ lw_all := lw_in wsJ140 [317, 319] (by decide +kernel) (by decide +kernel)
/-! java/util/Objects -/
set_option maxRecDepth 100000
def RJ15 : String := "java/util/Objects"
abbrev cJ15_checkIndex : ByteArray := prog_28_method_17_code
def yJ15_checkIndex : MethodName := ⟨RJ15, "checkIndex", "(II)I"⟩
def dkwJ15_checkIndex_0 : List UInt8 := [26, 27, 1, 184, 0, 105, 172]
abbrev dktJ15_checkIndex_0 : List UInt8 := dkwJ15_checkIndex_0 ++ []
theorem dksJ15_checkIndex_0 : cJ15_checkIndex.data.toList.drop 0 = dktJ15_checkIndex_0 := by decide +kernel
theorem dJ15_checkIndex_0 : decode cJ15_checkIndex 0 = .ok (.iload_n 0, 1) := dk_26 (dk_at dksJ15_checkIndex_0 0 rfl rfl)
theorem dJ15_checkIndex_1 : decode cJ15_checkIndex 1 = .ok (.iload_n 1, 1) := dk_27 (dk_at dksJ15_checkIndex_0 1 rfl rfl)
theorem dJ15_checkIndex_2 : decode cJ15_checkIndex 2 = .ok (.aconst_null, 1) := dk_1 (dk_at dksJ15_checkIndex_0 2 rfl rfl)
theorem dJ15_checkIndex_3 : decode cJ15_checkIndex 3 = .ok (.invokestatic 105, 3) := dk_184 0 105 (dk_at dksJ15_checkIndex_0 3 rfl rfl)
theorem dJ15_checkIndex_6 : decode cJ15_checkIndex 6 = .ok (.ireturn, 1) := dk_172 (dk_at dksJ15_checkIndex_0 6 rfl rfl)
theorem q48 : (Jvm.Cond.initialized "java/util/Objects") ∈ lw_all := lw_g (lw_at lw_m1 20 rfl) rfl
theorem q357 : (Jvm.Cond.static ({ cls := "java/util/Objects", name := "checkIndex", desc := "(II)I" } : Jvm.MethodName)) ∈ lw_all := lw_g (lw_at lw_m2 89 rfl) rfl
theorem q358 : (Jvm.Cond.code ({ cls := "java/util/Objects", name := "checkIndex", desc := "(II)I" } : Jvm.MethodName) prog_28_method_17_code (2 : Nat) (Option.some Jvm.ClassFile.FieldType.int)) ∈ lw_all := lw_g (lw_at lw_m2 90 rfl) rfl
theorem q359 : (Jvm.Cond.methodLink "java/util/Objects" (105 : Nat) ({ cls := "jdk/internal/util/Preconditions", name := "checkIndex", desc := "(IILjava/util/function/BiFunction;)I" } : Jvm.MethodName)) ∈ lw_all := lw_g (lw_at lw_m2 91 rfl) rfl
/-! jdk/internal/util/Preconditions -/
set_option maxRecDepth 100000
def RJ16 : String := "jdk/internal/util/Preconditions"
abbrev cJ16_checkIndex : ByteArray := prog_32_method_11_code
def yJ16_checkIndex : MethodName := ⟨RJ16, "checkIndex", "(IILjava/util/function/BiFunction;)I"⟩
def dkwJ16_checkIndex_0 : List UInt8 := [26, 155, 0, 8, 26, 27, 161, 0, 10, 44, 26, 27, 184, 0, 95, 191, 26, 172]
abbrev dktJ16_checkIndex_0 : List UInt8 := dkwJ16_checkIndex_0 ++ []
theorem dksJ16_checkIndex_0 : cJ16_checkIndex.data.toList.drop 0 = dktJ16_checkIndex_0 := by decide +kernel
theorem dJ16_checkIndex_0 : decode cJ16_checkIndex 0 = .ok (.iload_n 0, 1) := dk_26 (dk_at dksJ16_checkIndex_0 0 rfl rfl)
theorem dJ16_checkIndex_1 : decode cJ16_checkIndex 1 = .ok (.ifCond .lt 8, 3) := dk_155 0 8 (dk_at dksJ16_checkIndex_0 1 rfl rfl)
theorem dJ16_checkIndex_4 : decode cJ16_checkIndex 4 = .ok (.iload_n 0, 1) := dk_26 (dk_at dksJ16_checkIndex_0 4 rfl rfl)
theorem dJ16_checkIndex_5 : decode cJ16_checkIndex 5 = .ok (.iload_n 1, 1) := dk_27 (dk_at dksJ16_checkIndex_0 5 rfl rfl)
theorem dJ16_checkIndex_6 : decode cJ16_checkIndex 6 = .ok (.if_icmp .lt 10, 3) := dk_161 0 10 (dk_at dksJ16_checkIndex_0 6 rfl rfl)
theorem dJ16_checkIndex_9 : decode cJ16_checkIndex 9 = .ok (.aload_n 2, 1) := dk_44 (dk_at dksJ16_checkIndex_0 9 rfl rfl)
theorem dJ16_checkIndex_10 : decode cJ16_checkIndex 10 = .ok (.iload_n 0, 1) := dk_26 (dk_at dksJ16_checkIndex_0 10 rfl rfl)
theorem dJ16_checkIndex_11 : decode cJ16_checkIndex 11 = .ok (.iload_n 1, 1) := dk_27 (dk_at dksJ16_checkIndex_0 11 rfl rfl)
theorem dJ16_checkIndex_12 : decode cJ16_checkIndex 12 = .ok (.invokestatic 95, 3) := dk_184 0 95 (dk_at dksJ16_checkIndex_0 12 rfl rfl)
theorem dJ16_checkIndex_15 : decode cJ16_checkIndex 15 = .ok (.athrow, 1) := dk_191 (dk_at dksJ16_checkIndex_0 15 rfl rfl)
theorem dJ16_checkIndex_16 : decode cJ16_checkIndex 16 = .ok (.iload_n 0, 1) := dk_26 (dk_at dksJ16_checkIndex_0 16 rfl rfl)
theorem dJ16_checkIndex_17 : decode cJ16_checkIndex 17 = .ok (.ireturn, 1) := dk_172 (dk_at dksJ16_checkIndex_0 17 rfl rfl)
theorem q49 : (Jvm.Cond.initialized "jdk/internal/util/Preconditions") ∈ lw_all := lw_g (lw_at lw_m1 21 rfl) rfl
theorem q360 : (Jvm.Cond.static ({ cls := "jdk/internal/util/Preconditions", name := "checkIndex", desc := "(IILjava/util/function/BiFunction;)I" } : Jvm.MethodName)) ∈ lw_all := lw_g (lw_at lw_m2 92 rfl) rfl
theorem q361 : (Jvm.Cond.code ({ cls := "jdk/internal/util/Preconditions", name := "checkIndex", desc := "(IILjava/util/function/BiFunction;)I" } : Jvm.MethodName) prog_32_method_11_code (3 : Nat) (Option.some Jvm.ClassFile.FieldType.int)) ∈ lw_all := lw_g (lw_at lw_m2 93 rfl) rfl
/-! java/lang/Object -/
set_option maxRecDepth 100000
def RJ17 : String := "java/lang/Object"
abbrev cJ17_init : ByteArray := object_method_1_code
def yJ17_init : MethodName := ⟨RJ17, "<init>", "()V"⟩
theorem dJ17_init_0 : decode cJ17_init 0 = .ok (.return_, 1) := by decide +kernel
theorem q59 : (Jvm.Cond.instanceMethod ({ cls := "java/lang/Object", name := "<init>", desc := "()V" } : Jvm.MethodName)) ∈ lw_all := lw_g (lw_at lw_m1 31 rfl) rfl
theorem q60 : (Jvm.Cond.code ({ cls := "java/lang/Object", name := "<init>", desc := "()V" } : Jvm.MethodName) object_method_1_code (1 : Nat) (Option.none : Option Jvm.ClassFile.FieldType)) ∈ lw_all := lw_g (lw_at lw_m1 32 rfl) rfl
theorem q257 : (Jvm.Cond.instanceMethod ({ cls := "java/lang/Object", name := "getClass", desc := "()Ljava/lang/Class;" } : Jvm.MethodName)) ∈ lw_all := lw_g (lw_at lw_m1 229 rfl) rfl
theorem q258 : (Jvm.Cond.sameMethod "java/lang/Object" "java/lang/Object" "getClass" "()Ljava/lang/Class;") ∈ lw_all := lw_g (lw_at lw_m1 230 rfl) rfl
theorem q270 : (Jvm.Cond.native ({ cls := "java/lang/Object", name := "getClass", desc := "()Ljava/lang/Class;" } : Jvm.MethodName)) ∈ lw_all := lw_g (lw_at lw_m2 2 rfl) rfl
theorem q868 : (Jvm.Cond.initialized "java/lang/Object") ∈ lw_all := lw_g (lw_at lw_m4 120 rfl) rfl
theorem q885 : (Jvm.Cond.declares ({ cls := "java/lang/Object", name := "getClass", desc := "()Ljava/lang/Class;" } : Jvm.MethodName)) ∈ lw_tbl := lw_at lw_m4 137 rfl
/-! java/util/ArrayList -/
set_option maxRecDepth 100000
def RJ2 : String := "java/util/ArrayList"
def TJ2 : u_T := fun k => match k with
  | 0 => ("java/util/AbstractList", "modCount", "I", false)
  | 1 => ("java/util/ArrayList", "elementData", "[Ljava/lang/Object;", false)
  | _ => ("java/util/ArrayList", "size", "I", false)
def tyJ2 : Nat → FieldType := fun k => match k with
  | 0 => .int
  | 1 => .array (.object "java/lang/Object")
  | _ => .int
abbrev wsJ20 : List Cond := u_ws RJ2 TJ2 3
theorem nmJ2 : ∀ a, a < 3 → ∀ b, b < 3 → a ≠ b → (TJ2 a).2.1 ≠ (TJ2 b).2.1 := by decide +kernel
theorem tyJ2_ok : ∀ k, k < 3 → parseFieldDescriptor (TJ2 k).2.2.1 = some (tyJ2 k) := by decide +kernel
abbrev cJ2_init : ByteArray := prog_24_method_2_code
def yJ2_init : MethodName := ⟨RJ2, "<init>", "()V"⟩
def dkwJ2_init_0 : List UInt8 := [42, 183, 0, 1, 42, 178, 0, 39, 181, 0, 9, 177]
abbrev dktJ2_init_0 : List UInt8 := dkwJ2_init_0 ++ []
theorem dksJ2_init_0 : cJ2_init.data.toList.drop 0 = dktJ2_init_0 := by decide +kernel
theorem dJ2_init_0 : decode cJ2_init 0 = .ok (.aload_n 0, 1) := dk_42 (dk_at dksJ2_init_0 0 rfl rfl)
theorem dJ2_init_1 : decode cJ2_init 1 = .ok (.invokespecial 1, 3) := dk_183 0 1 (dk_at dksJ2_init_0 1 rfl rfl)
theorem dJ2_init_4 : decode cJ2_init 4 = .ok (.aload_n 0, 1) := dk_42 (dk_at dksJ2_init_0 4 rfl rfl)
theorem dJ2_init_5 : decode cJ2_init 5 = .ok (.getstatic 39, 3) := dk_178 0 39 (dk_at dksJ2_init_0 5 rfl rfl)
theorem dJ2_init_8 : decode cJ2_init 8 = .ok (.putfield 9, 3) := dk_181 0 9 (dk_at dksJ2_init_0 8 rfl rfl)
theorem dJ2_init_11 : decode cJ2_init 11 = .ok (.return_, 1) := dk_177 (dk_at dksJ2_init_0 11 rfl rfl)
abbrev cJ2_size : ByteArray := prog_24_method_8_code
def yJ2_size : MethodName := ⟨RJ2, "size", "()I"⟩
theorem dJ2_size_0 : decode cJ2_size 0 = .ok (.aload_n 0, 1) := by decide +kernel
theorem dJ2_size_1 : decode cJ2_size 1 = .ok (.getfield 48, 3) := by decide +kernel
theorem dJ2_size_4 : decode cJ2_size 4 = .ok (.ireturn, 1) := by decide +kernel
abbrev cJ2_add : ByteArray := prog_24_method_25_code
def yJ2_add : MethodName := ⟨RJ2, "add", "(Ljava/lang/Object;)Z"⟩
def dkwJ2_add_1 : List UInt8 := [172]
abbrev dktJ2_add_1 : List UInt8 := dkwJ2_add_1 ++ []
def dkwJ2_add_0 : List UInt8 := [42, 89, 180, 0, 63, 4, 96, 181, 0, 63, 42, 43, 42, 180, 0, 9, 42, 180, 0, 48, 182, 0, 131, 4]
abbrev dktJ2_add_0 : List UInt8 := dkwJ2_add_0 ++ dktJ2_add_1
theorem dksJ2_add_0 : cJ2_add.data.toList.drop 0 = dktJ2_add_0 := by decide +kernel
theorem dksJ2_add_1 : cJ2_add.data.toList.drop 24 = dktJ2_add_1 := dk_seg dksJ2_add_0 24 rfl rfl
theorem dJ2_add_0 : decode cJ2_add 0 = .ok (.aload_n 0, 1) := dk_42 (dk_at dksJ2_add_0 0 rfl rfl)
theorem dJ2_add_1 : decode cJ2_add 1 = .ok (.dup, 1) := dk_89 (dk_at dksJ2_add_0 1 rfl rfl)
theorem dJ2_add_2 : decode cJ2_add 2 = .ok (.getfield 63, 3) := dk_180 0 63 (dk_at dksJ2_add_0 2 rfl rfl)
theorem dJ2_add_5 : decode cJ2_add 5 = .ok (.iconst 1, 1) := dk_4 (dk_at dksJ2_add_0 5 rfl rfl)
theorem dJ2_add_6 : decode cJ2_add 6 = .ok (.iadd, 1) := dk_96 (dk_at dksJ2_add_0 6 rfl rfl)
theorem dJ2_add_7 : decode cJ2_add 7 = .ok (.putfield 63, 3) := dk_181 0 63 (dk_at dksJ2_add_0 7 rfl rfl)
theorem dJ2_add_10 : decode cJ2_add 10 = .ok (.aload_n 0, 1) := dk_42 (dk_at dksJ2_add_0 10 rfl rfl)
theorem dJ2_add_11 : decode cJ2_add 11 = .ok (.aload_n 1, 1) := dk_43 (dk_at dksJ2_add_0 11 rfl rfl)
theorem dJ2_add_12 : decode cJ2_add 12 = .ok (.aload_n 0, 1) := dk_42 (dk_at dksJ2_add_0 12 rfl rfl)
theorem dJ2_add_13 : decode cJ2_add 13 = .ok (.getfield 9, 3) := dk_180 0 9 (dk_at dksJ2_add_0 13 rfl rfl)
theorem dJ2_add_16 : decode cJ2_add 16 = .ok (.aload_n 0, 1) := dk_42 (dk_at dksJ2_add_0 16 rfl rfl)
theorem dJ2_add_17 : decode cJ2_add 17 = .ok (.getfield 48, 3) := dk_180 0 48 (dk_at dksJ2_add_0 17 rfl rfl)
theorem dJ2_add_20 : decode cJ2_add 20 = .ok (.invokevirtual 131, 3) := dk_182 0 131 (dk_at dksJ2_add_0 20 rfl rfl)
theorem dJ2_add_23 : decode cJ2_add 23 = .ok (.iconst 1, 1) := dk_4 (dk_at dksJ2_add_0 23 rfl rfl)
theorem dJ2_add_24 : decode cJ2_add 24 = .ok (.ireturn, 1) := dk_172 (dk_at dksJ2_add_1 0 rfl rfl)
abbrev cJ2_add_2 : ByteArray := prog_24_method_24_code
def yJ2_add_2 : MethodName := ⟨RJ2, "add", "(Ljava/lang/Object;[Ljava/lang/Object;I)V"⟩
def dkwJ2_add_2_0 : List UInt8 := [29, 44, 190, 160, 0, 8, 42, 182, 0, 129, 77, 44, 29, 43, 83, 42, 29, 4, 96, 181, 0, 48, 177]
abbrev dktJ2_add_2_0 : List UInt8 := dkwJ2_add_2_0 ++ []
theorem dksJ2_add_2_0 : cJ2_add_2.data.toList.drop 0 = dktJ2_add_2_0 := by decide +kernel
theorem dJ2_add_2_0 : decode cJ2_add_2 0 = .ok (.iload_n 3, 1) := dk_29 (dk_at dksJ2_add_2_0 0 rfl rfl)
theorem dJ2_add_2_1 : decode cJ2_add_2 1 = .ok (.aload_n 2, 1) := dk_44 (dk_at dksJ2_add_2_0 1 rfl rfl)
theorem dJ2_add_2_2 : decode cJ2_add_2 2 = .ok (.arraylength, 1) := dk_190 (dk_at dksJ2_add_2_0 2 rfl rfl)
theorem dJ2_add_2_3 : decode cJ2_add_2 3 = .ok (.if_icmp .ne 8, 3) := dk_160 0 8 (dk_at dksJ2_add_2_0 3 rfl rfl)
theorem dJ2_add_2_6 : decode cJ2_add_2 6 = .ok (.aload_n 0, 1) := dk_42 (dk_at dksJ2_add_2_0 6 rfl rfl)
theorem dJ2_add_2_7 : decode cJ2_add_2 7 = .ok (.invokevirtual 129, 3) := dk_182 0 129 (dk_at dksJ2_add_2_0 7 rfl rfl)
theorem dJ2_add_2_10 : decode cJ2_add_2 10 = .ok (.astore_n 2, 1) := dk_77 (dk_at dksJ2_add_2_0 10 rfl rfl)
theorem dJ2_add_2_11 : decode cJ2_add_2 11 = .ok (.aload_n 2, 1) := dk_44 (dk_at dksJ2_add_2_0 11 rfl rfl)
theorem dJ2_add_2_12 : decode cJ2_add_2 12 = .ok (.iload_n 3, 1) := dk_29 (dk_at dksJ2_add_2_0 12 rfl rfl)
theorem dJ2_add_2_13 : decode cJ2_add_2 13 = .ok (.aload_n 1, 1) := dk_43 (dk_at dksJ2_add_2_0 13 rfl rfl)
theorem dJ2_add_2_14 : decode cJ2_add_2 14 = .ok (.aastore, 1) := dk_83 (dk_at dksJ2_add_2_0 14 rfl rfl)
theorem dJ2_add_2_15 : decode cJ2_add_2 15 = .ok (.aload_n 0, 1) := dk_42 (dk_at dksJ2_add_2_0 15 rfl rfl)
theorem dJ2_add_2_16 : decode cJ2_add_2 16 = .ok (.iload_n 3, 1) := dk_29 (dk_at dksJ2_add_2_0 16 rfl rfl)
theorem dJ2_add_2_17 : decode cJ2_add_2 17 = .ok (.iconst 1, 1) := dk_4 (dk_at dksJ2_add_2_0 17 rfl rfl)
theorem dJ2_add_2_18 : decode cJ2_add_2 18 = .ok (.iadd, 1) := dk_96 (dk_at dksJ2_add_2_0 18 rfl rfl)
theorem dJ2_add_2_19 : decode cJ2_add_2 19 = .ok (.putfield 48, 3) := dk_181 0 48 (dk_at dksJ2_add_2_0 19 rfl rfl)
theorem dJ2_add_2_22 : decode cJ2_add_2 22 = .ok (.return_, 1) := dk_177 (dk_at dksJ2_add_2_0 22 rfl rfl)
abbrev cJ2_grow : ByteArray := prog_24_method_7_code
def yJ2_grow : MethodName := ⟨RJ2, "grow", "()[Ljava/lang/Object;"⟩
def dkwJ2_grow_0 : List UInt8 := [42, 42, 180, 0, 48, 4, 96, 182, 0, 69, 176]
abbrev dktJ2_grow_0 : List UInt8 := dkwJ2_grow_0 ++ []
theorem dksJ2_grow_0 : cJ2_grow.data.toList.drop 0 = dktJ2_grow_0 := by decide +kernel
theorem dJ2_grow_0 : decode cJ2_grow 0 = .ok (.aload_n 0, 1) := dk_42 (dk_at dksJ2_grow_0 0 rfl rfl)
theorem dJ2_grow_1 : decode cJ2_grow 1 = .ok (.aload_n 0, 1) := dk_42 (dk_at dksJ2_grow_0 1 rfl rfl)
theorem dJ2_grow_2 : decode cJ2_grow 2 = .ok (.getfield 48, 3) := dk_180 0 48 (dk_at dksJ2_grow_0 2 rfl rfl)
theorem dJ2_grow_5 : decode cJ2_grow 5 = .ok (.iconst 1, 1) := dk_4 (dk_at dksJ2_grow_0 5 rfl rfl)
theorem dJ2_grow_6 : decode cJ2_grow 6 = .ok (.iadd, 1) := dk_96 (dk_at dksJ2_grow_0 6 rfl rfl)
theorem dJ2_grow_7 : decode cJ2_grow 7 = .ok (.invokevirtual 69, 3) := dk_182 0 69 (dk_at dksJ2_grow_0 7 rfl rfl)
theorem dJ2_grow_10 : decode cJ2_grow 10 = .ok (.areturn, 1) := dk_176 (dk_at dksJ2_grow_0 10 rfl rfl)
abbrev cJ2_grow_2 : ByteArray := prog_24_method_6_code
def yJ2_grow_2 : MethodName := ⟨RJ2, "grow", "(I)[Ljava/lang/Object;"⟩
def dkwJ2_grow_2_2 : List UInt8 := [27, 184, 0, 79, 189, 0, 7, 90, 181, 0, 9, 176]
abbrev dktJ2_grow_2_2 : List UInt8 := dkwJ2_grow_2_2 ++ []
def dkwJ2_grow_2_1 : List UInt8 := [28, 4, 122, 184, 0, 73, 62, 42, 42, 180, 0, 9, 29, 184, 0, 66, 90, 181, 0, 9, 176, 42, 16, 10]
abbrev dktJ2_grow_2_1 : List UInt8 := dkwJ2_grow_2_1 ++ dktJ2_grow_2_2
def dkwJ2_grow_2_0 : List UInt8 := [42, 180, 0, 9, 190, 61, 28, 157, 0, 13, 42, 180, 0, 9, 178, 0, 39, 165, 0, 28, 28, 27, 28, 100]
abbrev dktJ2_grow_2_0 : List UInt8 := dkwJ2_grow_2_0 ++ dktJ2_grow_2_1
theorem dksJ2_grow_2_0 : cJ2_grow_2.data.toList.drop 0 = dktJ2_grow_2_0 := by decide +kernel
theorem dksJ2_grow_2_1 : cJ2_grow_2.data.toList.drop 24 = dktJ2_grow_2_1 := dk_seg dksJ2_grow_2_0 24 rfl rfl
theorem dksJ2_grow_2_2 : cJ2_grow_2.data.toList.drop 48 = dktJ2_grow_2_2 := dk_seg dksJ2_grow_2_1 24 rfl rfl
theorem dJ2_grow_2_0 : decode cJ2_grow_2 0 = .ok (.aload_n 0, 1) := dk_42 (dk_at dksJ2_grow_2_0 0 rfl rfl)
theorem dJ2_grow_2_1 : decode cJ2_grow_2 1 = .ok (.getfield 9, 3) := dk_180 0 9 (dk_at dksJ2_grow_2_0 1 rfl rfl)
theorem dJ2_grow_2_4 : decode cJ2_grow_2 4 = .ok (.arraylength, 1) := dk_190 (dk_at dksJ2_grow_2_0 4 rfl rfl)
theorem dJ2_grow_2_5 : decode cJ2_grow_2 5 = .ok (.istore_n 2, 1) := dk_61 (dk_at dksJ2_grow_2_0 5 rfl rfl)
theorem dJ2_grow_2_6 : decode cJ2_grow_2 6 = .ok (.iload_n 2, 1) := dk_28 (dk_at dksJ2_grow_2_0 6 rfl rfl)
theorem dJ2_grow_2_7 : decode cJ2_grow_2 7 = .ok (.ifCond .gt 13, 3) := dk_157 0 13 (dk_at dksJ2_grow_2_0 7 rfl rfl)
theorem dJ2_grow_2_10 : decode cJ2_grow_2 10 = .ok (.aload_n 0, 1) := dk_42 (dk_at dksJ2_grow_2_0 10 rfl rfl)
theorem dJ2_grow_2_11 : decode cJ2_grow_2 11 = .ok (.getfield 9, 3) := dk_180 0 9 (dk_at dksJ2_grow_2_0 11 rfl rfl)
theorem dJ2_grow_2_14 : decode cJ2_grow_2 14 = .ok (.getstatic 39, 3) := dk_178 0 39 (dk_at dksJ2_grow_2_0 14 rfl rfl)
theorem dJ2_grow_2_17 : decode cJ2_grow_2 17 = .ok (.if_acmp .eq 28, 3) := dk_165 0 28 (dk_at dksJ2_grow_2_0 17 rfl rfl)
theorem dJ2_grow_2_20 : decode cJ2_grow_2 20 = .ok (.iload_n 2, 1) := dk_28 (dk_at dksJ2_grow_2_0 20 rfl rfl)
theorem dJ2_grow_2_21 : decode cJ2_grow_2 21 = .ok (.iload_n 1, 1) := dk_27 (dk_at dksJ2_grow_2_0 21 rfl rfl)
theorem dJ2_grow_2_22 : decode cJ2_grow_2 22 = .ok (.iload_n 2, 1) := dk_28 (dk_at dksJ2_grow_2_0 22 rfl rfl)
theorem dJ2_grow_2_23 : decode cJ2_grow_2 23 = .ok (.isub, 1) := dk_100 (dk_at dksJ2_grow_2_0 23 rfl rfl)
theorem dJ2_grow_2_24 : decode cJ2_grow_2 24 = .ok (.iload_n 2, 1) := dk_28 (dk_at dksJ2_grow_2_1 0 rfl rfl)
theorem dJ2_grow_2_25 : decode cJ2_grow_2 25 = .ok (.iconst 1, 1) := dk_4 (dk_at dksJ2_grow_2_1 1 rfl rfl)
theorem dJ2_grow_2_26 : decode cJ2_grow_2 26 = .ok (.ishr, 1) := dk_122 (dk_at dksJ2_grow_2_1 2 rfl rfl)
theorem dJ2_grow_2_27 : decode cJ2_grow_2 27 = .ok (.invokestatic 73, 3) := dk_184 0 73 (dk_at dksJ2_grow_2_1 3 rfl rfl)
theorem dJ2_grow_2_30 : decode cJ2_grow_2 30 = .ok (.istore_n 3, 1) := dk_62 (dk_at dksJ2_grow_2_1 6 rfl rfl)
theorem dJ2_grow_2_31 : decode cJ2_grow_2 31 = .ok (.aload_n 0, 1) := dk_42 (dk_at dksJ2_grow_2_1 7 rfl rfl)
theorem dJ2_grow_2_32 : decode cJ2_grow_2 32 = .ok (.aload_n 0, 1) := dk_42 (dk_at dksJ2_grow_2_1 8 rfl rfl)
theorem dJ2_grow_2_33 : decode cJ2_grow_2 33 = .ok (.getfield 9, 3) := dk_180 0 9 (dk_at dksJ2_grow_2_1 9 rfl rfl)
theorem dJ2_grow_2_36 : decode cJ2_grow_2 36 = .ok (.iload_n 3, 1) := dk_29 (dk_at dksJ2_grow_2_1 12 rfl rfl)
theorem dJ2_grow_2_37 : decode cJ2_grow_2 37 = .ok (.invokestatic 66, 3) := dk_184 0 66 (dk_at dksJ2_grow_2_1 13 rfl rfl)
theorem dJ2_grow_2_40 : decode cJ2_grow_2 40 = .ok (.dup_x1, 1) := dk_90 (dk_at dksJ2_grow_2_1 16 rfl rfl)
theorem dJ2_grow_2_41 : decode cJ2_grow_2 41 = .ok (.putfield 9, 3) := dk_181 0 9 (dk_at dksJ2_grow_2_1 17 rfl rfl)
theorem dJ2_grow_2_44 : decode cJ2_grow_2 44 = .ok (.areturn, 1) := dk_176 (dk_at dksJ2_grow_2_1 20 rfl rfl)
theorem dJ2_grow_2_45 : decode cJ2_grow_2 45 = .ok (.aload_n 0, 1) := dk_42 (dk_at dksJ2_grow_2_1 21 rfl rfl)
theorem dJ2_grow_2_46 : decode cJ2_grow_2 46 = .ok (.bipush 10, 2) := dk_16 10 (dk_at dksJ2_grow_2_1 22 rfl rfl)
theorem dJ2_grow_2_48 : decode cJ2_grow_2 48 = .ok (.iload_n 1, 1) := dk_27 (dk_at dksJ2_grow_2_2 0 rfl rfl)
theorem dJ2_grow_2_49 : decode cJ2_grow_2 49 = .ok (.invokestatic 79, 3) := dk_184 0 79 (dk_at dksJ2_grow_2_2 1 rfl rfl)
theorem dJ2_grow_2_52 : decode cJ2_grow_2 52 = .ok (.anewarray 7, 3) := dk_189 0 7 (dk_at dksJ2_grow_2_2 4 rfl rfl)
theorem dJ2_grow_2_55 : decode cJ2_grow_2 55 = .ok (.dup_x1, 1) := dk_90 (dk_at dksJ2_grow_2_2 7 rfl rfl)
theorem dJ2_grow_2_56 : decode cJ2_grow_2 56 = .ok (.putfield 9, 3) := dk_181 0 9 (dk_at dksJ2_grow_2_2 8 rfl rfl)
theorem dJ2_grow_2_59 : decode cJ2_grow_2 59 = .ok (.areturn, 1) := dk_176 (dk_at dksJ2_grow_2_2 11 rfl rfl)
abbrev cJ2_get : ByteArray := prog_24_method_20_code
def yJ2_get : MethodName := ⟨RJ2, "get", "(I)Ljava/lang/Object;"⟩
def dkwJ2_get_0 : List UInt8 := [27, 42, 180, 0, 48, 184, 0, 118, 87, 42, 27, 182, 0, 123, 176]
abbrev dktJ2_get_0 : List UInt8 := dkwJ2_get_0 ++ []
theorem dksJ2_get_0 : cJ2_get.data.toList.drop 0 = dktJ2_get_0 := by decide +kernel
theorem dJ2_get_0 : decode cJ2_get 0 = .ok (.iload_n 1, 1) := dk_27 (dk_at dksJ2_get_0 0 rfl rfl)
theorem dJ2_get_1 : decode cJ2_get 1 = .ok (.aload_n 0, 1) := dk_42 (dk_at dksJ2_get_0 1 rfl rfl)
theorem dJ2_get_2 : decode cJ2_get 2 = .ok (.getfield 48, 3) := dk_180 0 48 (dk_at dksJ2_get_0 2 rfl rfl)
theorem dJ2_get_5 : decode cJ2_get 5 = .ok (.invokestatic 118, 3) := dk_184 0 118 (dk_at dksJ2_get_0 5 rfl rfl)
theorem dJ2_get_8 : decode cJ2_get 8 = .ok (.pop, 1) := dk_87 (dk_at dksJ2_get_0 8 rfl rfl)
theorem dJ2_get_9 : decode cJ2_get 9 = .ok (.aload_n 0, 1) := dk_42 (dk_at dksJ2_get_0 9 rfl rfl)
theorem dJ2_get_10 : decode cJ2_get 10 = .ok (.iload_n 1, 1) := dk_27 (dk_at dksJ2_get_0 10 rfl rfl)
theorem dJ2_get_11 : decode cJ2_get 11 = .ok (.invokevirtual 123, 3) := dk_182 0 123 (dk_at dksJ2_get_0 11 rfl rfl)
theorem dJ2_get_14 : decode cJ2_get 14 = .ok (.areturn, 1) := dk_176 (dk_at dksJ2_get_0 14 rfl rfl)
abbrev cJ2_elementData : ByteArray := prog_24_method_18_code
def yJ2_elementData : MethodName := ⟨RJ2, "elementData", "(I)Ljava/lang/Object;"⟩
def dkwJ2_elementData_0 : List UInt8 := [42, 180, 0, 9, 27, 50, 176]
abbrev dktJ2_elementData_0 : List UInt8 := dkwJ2_elementData_0 ++ []
theorem dksJ2_elementData_0 : cJ2_elementData.data.toList.drop 0 = dktJ2_elementData_0 := by decide +kernel
theorem dJ2_elementData_0 : decode cJ2_elementData 0 = .ok (.aload_n 0, 1) := dk_42 (dk_at dksJ2_elementData_0 0 rfl rfl)
theorem dJ2_elementData_1 : decode cJ2_elementData 1 = .ok (.getfield 9, 3) := dk_180 0 9 (dk_at dksJ2_elementData_0 1 rfl rfl)
theorem dJ2_elementData_4 : decode cJ2_elementData 4 = .ok (.iload_n 1, 1) := dk_27 (dk_at dksJ2_elementData_0 4 rfl rfl)
theorem dJ2_elementData_5 : decode cJ2_elementData 5 = .ok (.aaload, 1) := dk_50 (dk_at dksJ2_elementData_0 5 rfl rfl)
theorem dJ2_elementData_6 : decode cJ2_elementData 6 = .ok (.areturn, 1) := dk_176 (dk_at dksJ2_elementData_0 6 rfl rfl)
theorem q32 : (Jvm.Cond.initialized "java/util/ArrayList") ∈ lw_all := lw_g (lw_at lw_m1 4 rfl) rfl
theorem q62 : (Jvm.Cond.instantiable "java/util/ArrayList" (3 : Nat)) ∈ lw_all := lw_g (lw_at lw_m1 34 rfl) rfl
theorem q64 : (Jvm.Cond.instanceMethod ({ cls := "java/util/ArrayList", name := "<init>", desc := "()V" } : Jvm.MethodName)) ∈ lw_all := lw_g (lw_at lw_m1 36 rfl) rfl
theorem q65 : (Jvm.Cond.code ({ cls := "java/util/ArrayList", name := "<init>", desc := "()V" } : Jvm.MethodName) prog_24_method_2_code (1 : Nat) (Option.none : Option Jvm.ClassFile.FieldType)) ∈ lw_all := lw_g (lw_at lw_m1 37 rfl) rfl
theorem q66 : (Jvm.Cond.methodLink "java/util/ArrayList" (1 : Nat) ({ cls := "java/util/AbstractList", name := "<init>", desc := "()V" } : Jvm.MethodName)) ∈ lw_all := lw_g (lw_at lw_m1 38 rfl) rfl
theorem q73 : (Jvm.Cond.fieldLink "java/util/ArrayList" (39 : Nat) "java/util/ArrayList" "DEFAULTCAPACITY_EMPTY_ELEMENTDATA" "[Ljava/lang/Object;") ∈ lw_all := lw_g (lw_at lw_m1 45 rfl) rfl
theorem q74 : (Jvm.Cond.laysStatic "java/util/ArrayList" "DEFAULTCAPACITY_EMPTY_ELEMENTDATA" "[Ljava/lang/Object;") ∈ lw_tbl := lw_at lw_m1 46 rfl
theorem q75 : (Jvm.Cond.fieldLink "java/util/ArrayList" (9 : Nat) "java/util/ArrayList" "elementData" "[Ljava/lang/Object;") ∈ lw_all := lw_g (lw_at lw_m1 47 rfl) rfl
theorem q76 : (Jvm.Cond.fieldLink "java/util/ArrayList" (48 : Nat) "java/util/ArrayList" "size" "I") ∈ lw_all := lw_g (lw_at lw_m1 48 rfl) rfl
theorem q78 : (Jvm.Cond.fieldLink "java/util/ArrayList" (63 : Nat) "java/util/ArrayList" "modCount" "I") ∈ lw_all := lw_g (lw_at lw_m1 50 rfl) rfl
theorem q79 : (Jvm.Cond.sameField "java/util/ArrayList" "java/util/AbstractList" "modCount" "I") ∈ lw_all := lw_g (lw_at lw_m1 51 rfl) rfl
theorem q80 : (Jvm.Cond.lays "java/util/ArrayList" "java/util/ArrayList" "elementData" "[Ljava/lang/Object;") ∈ lw_all := lw_g (lw_at lw_m1 52 rfl) rfl
theorem q81 : (Jvm.Cond.soleField "java/util/ArrayList" "elementData") ∈ lw_all := lw_g (lw_at lw_m1 53 rfl) rfl
theorem q82 : (Jvm.Cond.lays "java/util/ArrayList" "java/util/ArrayList" "size" "I") ∈ lw_all := lw_g (lw_at lw_m1 54 rfl) rfl
theorem q83 : (Jvm.Cond.soleField "java/util/ArrayList" "size") ∈ lw_all := lw_g (lw_at lw_m1 55 rfl) rfl
theorem q84 : (Jvm.Cond.lays "java/util/ArrayList" "java/util/AbstractList" "modCount" "I") ∈ lw_all := lw_g (lw_at lw_m1 56 rfl) rfl
theorem q86 : (Jvm.Cond.superclass "java/util/ArrayList" "java/util/AbstractList") ∈ lw_all := lw_g (lw_at lw_m1 58 rfl) rfl
theorem q182 : (Jvm.Cond.castable "java/util/ArrayList" "java/util/List") ∈ lw_tbl := lw_at lw_m1 154 rfl
theorem q183 : (Jvm.Cond.selects "java/util/ArrayList" ({ cls := "java/util/List", name := "size", desc := "()I" } : Jvm.MethodName) ({ cls := "java/util/ArrayList", name := "size", desc := "()I" } : Jvm.MethodName)) ∈ lw_all := lw_g (lw_at lw_m1 155 rfl) rfl
theorem q184 : (Jvm.Cond.unhidden "java/util/ArrayList" "size" "()I") ∈ lw_tbl := lw_at lw_m1 156 rfl
theorem q185 : (Jvm.Cond.instanceMethod ({ cls := "java/util/ArrayList", name := "size", desc := "()I" } : Jvm.MethodName)) ∈ lw_all := lw_g (lw_at lw_m1 157 rfl) rfl
theorem q186 : (Jvm.Cond.publicMethod ({ cls := "java/util/ArrayList", name := "size", desc := "()I" } : Jvm.MethodName)) ∈ lw_tbl := lw_at lw_m1 158 rfl
theorem q187 : (Jvm.Cond.code ({ cls := "java/util/ArrayList", name := "size", desc := "()I" } : Jvm.MethodName) prog_24_method_8_code (1 : Nat) (Option.some Jvm.ClassFile.FieldType.int)) ∈ lw_all := lw_g (lw_at lw_m1 159 rfl) rfl
theorem q226 : (Jvm.Cond.selects "java/util/ArrayList" ({ cls := "java/util/List", name := "add", desc := "(Ljava/lang/Object;)Z" } : Jvm.MethodName) ({ cls := "java/util/ArrayList", name := "add", desc := "(Ljava/lang/Object;)Z" } : Jvm.MethodName)) ∈ lw_all := lw_g (lw_at lw_m1 198 rfl) rfl
theorem q227 : (Jvm.Cond.unhidden "java/util/ArrayList" "add" "(Ljava/lang/Object;)Z") ∈ lw_tbl := lw_at lw_m1 199 rfl
theorem q228 : (Jvm.Cond.instanceMethod ({ cls := "java/util/ArrayList", name := "add", desc := "(Ljava/lang/Object;)Z" } : Jvm.MethodName)) ∈ lw_all := lw_g (lw_at lw_m1 200 rfl) rfl
theorem q229 : (Jvm.Cond.publicMethod ({ cls := "java/util/ArrayList", name := "add", desc := "(Ljava/lang/Object;)Z" } : Jvm.MethodName)) ∈ lw_tbl := lw_at lw_m1 201 rfl
theorem q230 : (Jvm.Cond.code ({ cls := "java/util/ArrayList", name := "add", desc := "(Ljava/lang/Object;)Z" } : Jvm.MethodName) prog_24_method_25_code (2 : Nat) (Option.some Jvm.ClassFile.FieldType.boolean)) ∈ lw_all := lw_g (lw_at lw_m1 202 rfl) rfl
theorem q231 : (Jvm.Cond.methodLink "java/util/ArrayList" (131 : Nat) ({ cls := "java/util/ArrayList", name := "add", desc := "(Ljava/lang/Object;[Ljava/lang/Object;I)V" } : Jvm.MethodName)) ∈ lw_all := lw_g (lw_at lw_m1 203 rfl) rfl
theorem q232 : (Jvm.Cond.privateMethod ({ cls := "java/util/ArrayList", name := "add", desc := "(Ljava/lang/Object;[Ljava/lang/Object;I)V" } : Jvm.MethodName)) ∈ lw_tbl := lw_at lw_m1 204 rfl
theorem q233 : (Jvm.Cond.instanceMethod ({ cls := "java/util/ArrayList", name := "add", desc := "(Ljava/lang/Object;[Ljava/lang/Object;I)V" } : Jvm.MethodName)) ∈ lw_all := lw_g (lw_at lw_m1 205 rfl) rfl
theorem q234 : (Jvm.Cond.code ({ cls := "java/util/ArrayList", name := "add", desc := "(Ljava/lang/Object;[Ljava/lang/Object;I)V" } : Jvm.MethodName) prog_24_method_24_code (4 : Nat) (Option.none : Option Jvm.ClassFile.FieldType)) ∈ lw_all := lw_g (lw_at lw_m1 206 rfl) rfl
theorem q235 : (Jvm.Cond.methodLink "java/util/ArrayList" (129 : Nat) ({ cls := "java/util/ArrayList", name := "grow", desc := "()[Ljava/lang/Object;" } : Jvm.MethodName)) ∈ lw_all := lw_g (lw_at lw_m1 207 rfl) rfl
theorem q236 : (Jvm.Cond.privateMethod ({ cls := "java/util/ArrayList", name := "grow", desc := "()[Ljava/lang/Object;" } : Jvm.MethodName)) ∈ lw_tbl := lw_at lw_m1 208 rfl
theorem q237 : (Jvm.Cond.instanceMethod ({ cls := "java/util/ArrayList", name := "grow", desc := "()[Ljava/lang/Object;" } : Jvm.MethodName)) ∈ lw_all := lw_g (lw_at lw_m1 209 rfl) rfl
theorem q238 : (Jvm.Cond.code ({ cls := "java/util/ArrayList", name := "grow", desc := "()[Ljava/lang/Object;" } : Jvm.MethodName) prog_24_method_7_code (1 : Nat) (Option.some (Jvm.ClassFile.FieldType.array (Jvm.ClassFile.FieldType.object "java/lang/Object")))) ∈ lw_all := lw_g (lw_at lw_m1 210 rfl) rfl
theorem q239 : (Jvm.Cond.methodLink "java/util/ArrayList" (69 : Nat) ({ cls := "java/util/ArrayList", name := "grow", desc := "(I)[Ljava/lang/Object;" } : Jvm.MethodName)) ∈ lw_all := lw_g (lw_at lw_m1 211 rfl) rfl
theorem q240 : (Jvm.Cond.privateMethod ({ cls := "java/util/ArrayList", name := "grow", desc := "(I)[Ljava/lang/Object;" } : Jvm.MethodName)) ∈ lw_tbl := lw_at lw_m1 212 rfl
theorem q241 : (Jvm.Cond.instanceMethod ({ cls := "java/util/ArrayList", name := "grow", desc := "(I)[Ljava/lang/Object;" } : Jvm.MethodName)) ∈ lw_all := lw_g (lw_at lw_m1 213 rfl) rfl
theorem q242 : (Jvm.Cond.code ({ cls := "java/util/ArrayList", name := "grow", desc := "(I)[Ljava/lang/Object;" } : Jvm.MethodName) prog_24_method_6_code (4 : Nat) (Option.some (Jvm.ClassFile.FieldType.array (Jvm.ClassFile.FieldType.object "java/lang/Object")))) ∈ lw_all := lw_g (lw_at lw_m1 214 rfl) rfl
theorem q243 : (Jvm.Cond.methodLink "java/util/ArrayList" (73 : Nat) ({ cls := "jdk/internal/util/ArraysSupport", name := "newLength", desc := "(III)I" } : Jvm.MethodName)) ∈ lw_all := lw_g (lw_at lw_m1 215 rfl) rfl
theorem q253 : (Jvm.Cond.methodLink "java/util/ArrayList" (66 : Nat) ({ cls := "java/util/Arrays", name := "copyOf", desc := "([Ljava/lang/Object;I)[Ljava/lang/Object;" } : Jvm.MethodName)) ∈ lw_all := lw_g (lw_at lw_m1 225 rfl) rfl
theorem q269 : (Jvm.Cond.selects "java/util/ArrayList" ({ cls := "java/lang/Object", name := "getClass", desc := "()Ljava/lang/Class;" } : Jvm.MethodName) ({ cls := "java/lang/Object", name := "getClass", desc := "()Ljava/lang/Class;" } : Jvm.MethodName)) ∈ lw_all := lw_g (lw_at lw_m2 1 rfl) rfl
theorem q283 : (Jvm.Cond.methodLink "java/util/ArrayList" (79 : Nat) ({ cls := "java/lang/Math", name := "max", desc := "(II)I" } : Jvm.MethodName)) ∈ lw_all := lw_g (lw_at lw_m2 15 rfl) rfl
theorem q284 : (Jvm.Cond.classLink "java/util/ArrayList" (7 : Nat) "java/lang/Object") ∈ lw_all := lw_g (lw_at lw_m2 16 rfl) rfl
theorem q351 : (Jvm.Cond.selects "java/util/ArrayList" ({ cls := "java/util/List", name := "get", desc := "(I)Ljava/lang/Object;" } : Jvm.MethodName) ({ cls := "java/util/ArrayList", name := "get", desc := "(I)Ljava/lang/Object;" } : Jvm.MethodName)) ∈ lw_all := lw_g (lw_at lw_m2 83 rfl) rfl
theorem q352 : (Jvm.Cond.unhidden "java/util/ArrayList" "get" "(I)Ljava/lang/Object;") ∈ lw_tbl := lw_at lw_m2 84 rfl
theorem q353 : (Jvm.Cond.instanceMethod ({ cls := "java/util/ArrayList", name := "get", desc := "(I)Ljava/lang/Object;" } : Jvm.MethodName)) ∈ lw_all := lw_g (lw_at lw_m2 85 rfl) rfl
theorem q354 : (Jvm.Cond.publicMethod ({ cls := "java/util/ArrayList", name := "get", desc := "(I)Ljava/lang/Object;" } : Jvm.MethodName)) ∈ lw_tbl := lw_at lw_m2 86 rfl
theorem q355 : (Jvm.Cond.code ({ cls := "java/util/ArrayList", name := "get", desc := "(I)Ljava/lang/Object;" } : Jvm.MethodName) prog_24_method_20_code (2 : Nat) (Option.some (Jvm.ClassFile.FieldType.object "java/lang/Object"))) ∈ lw_all := lw_g (lw_at lw_m2 87 rfl) rfl
theorem q356 : (Jvm.Cond.methodLink "java/util/ArrayList" (118 : Nat) ({ cls := "java/util/Objects", name := "checkIndex", desc := "(II)I" } : Jvm.MethodName)) ∈ lw_all := lw_g (lw_at lw_m2 88 rfl) rfl
theorem q362 : (Jvm.Cond.methodLink "java/util/ArrayList" (123 : Nat) ({ cls := "java/util/ArrayList", name := "elementData", desc := "(I)Ljava/lang/Object;" } : Jvm.MethodName)) ∈ lw_all := lw_g (lw_at lw_m2 94 rfl) rfl
theorem q363 : (Jvm.Cond.instanceMethod ({ cls := "java/util/ArrayList", name := "elementData", desc := "(I)Ljava/lang/Object;" } : Jvm.MethodName)) ∈ lw_all := lw_g (lw_at lw_m2 95 rfl) rfl
theorem q364 : (Jvm.Cond.selects "java/util/ArrayList" ({ cls := "java/util/ArrayList", name := "elementData", desc := "(I)Ljava/lang/Object;" } : Jvm.MethodName) ({ cls := "java/util/ArrayList", name := "elementData", desc := "(I)Ljava/lang/Object;" } : Jvm.MethodName)) ∈ lw_all := lw_g (lw_at lw_m2 96 rfl) rfl
theorem q365 : (Jvm.Cond.code ({ cls := "java/util/ArrayList", name := "elementData", desc := "(I)Ljava/lang/Object;" } : Jvm.MethodName) prog_24_method_18_code (2 : Nat) (Option.some (Jvm.ClassFile.FieldType.object "java/lang/Object"))) ∈ lw_all := lw_g (lw_at lw_m2 97 rfl) rfl
theorem q871 : (Jvm.Cond.castable "java/util/ArrayList" "java/lang/Object") ∈ lw_tbl := lw_at lw_m4 123 rfl
theorem in_J2 : ∀ w ∈ wsJ20, w ∈ lw_all := lw_in wsJ20 [84, 80, 82] (by decide +kernel) (by decide +kernel)
/-! java/lang/Throwable -/
set_option maxRecDepth 100000
def RJ3 : String := "java/lang/Throwable"
def TJ3 : u_T := fun k => match k with
  | 0 => ("java/lang/Throwable", "cause", "Ljava/lang/Throwable;", false)
  | 1 => ("java/lang/Throwable", "stackTrace", "[Ljava/lang/StackTraceElement;", false)
  | 2 => ("java/lang/Throwable", "suppressedExceptions", "Ljava/util/List;", false)
  | 3 => ("java/lang/Throwable", "detailMessage", "Ljava/lang/String;", false)
  | _ => ("java/lang/Throwable", "backtrace", "Ljava/lang/Object;", false)
def tyJ3 : Nat → FieldType := fun k => match k with
  | 0 => .object "java/lang/Throwable"
  | 1 => .array (.object "java/lang/StackTraceElement")
  | 2 => .object "java/util/List"
  | 3 => .object "java/lang/String"
  | _ => .object "java/lang/Object"
abbrev wsJ30 : List Cond := u_ws RJ3 TJ3 5
theorem nmJ3 : ∀ a, a < 5 → ∀ b, b < 5 → a ≠ b → (TJ3 a).2.1 ≠ (TJ3 b).2.1 := by decide +kernel
theorem tyJ3_ok : ∀ k, k < 5 → parseFieldDescriptor (TJ3 k).2.2.1 = some (tyJ3 k) := by decide +kernel
abbrev cJ3_init : ByteArray := prog_21_method_1_code
def yJ3_init : MethodName := ⟨RJ3, "<init>", "()V"⟩
def dkwJ3_init_1 : List UInt8 := [182, 0, 27, 87, 177]
abbrev dktJ3_init_1 : List UInt8 := dkwJ3_init_1 ++ []
def dkwJ3_init_0 : List UInt8 := [42, 183, 0, 1, 42, 42, 181, 0, 7, 42, 178, 0, 13, 181, 0, 17, 42, 178, 0, 20, 181, 0, 24, 42]
abbrev dktJ3_init_0 : List UInt8 := dkwJ3_init_0 ++ dktJ3_init_1
theorem dksJ3_init_0 : cJ3_init.data.toList.drop 0 = dktJ3_init_0 := by decide +kernel
theorem dksJ3_init_1 : cJ3_init.data.toList.drop 24 = dktJ3_init_1 := dk_seg dksJ3_init_0 24 rfl rfl
theorem dJ3_init_0 : decode cJ3_init 0 = .ok (.aload_n 0, 1) := dk_42 (dk_at dksJ3_init_0 0 rfl rfl)
theorem dJ3_init_1 : decode cJ3_init 1 = .ok (.invokespecial 1, 3) := dk_183 0 1 (dk_at dksJ3_init_0 1 rfl rfl)
theorem dJ3_init_4 : decode cJ3_init 4 = .ok (.aload_n 0, 1) := dk_42 (dk_at dksJ3_init_0 4 rfl rfl)
theorem dJ3_init_5 : decode cJ3_init 5 = .ok (.aload_n 0, 1) := dk_42 (dk_at dksJ3_init_0 5 rfl rfl)
theorem dJ3_init_6 : decode cJ3_init 6 = .ok (.putfield 7, 3) := dk_181 0 7 (dk_at dksJ3_init_0 6 rfl rfl)
theorem dJ3_init_9 : decode cJ3_init 9 = .ok (.aload_n 0, 1) := dk_42 (dk_at dksJ3_init_0 9 rfl rfl)
theorem dJ3_init_10 : decode cJ3_init 10 = .ok (.getstatic 13, 3) := dk_178 0 13 (dk_at dksJ3_init_0 10 rfl rfl)
theorem dJ3_init_13 : decode cJ3_init 13 = .ok (.putfield 17, 3) := dk_181 0 17 (dk_at dksJ3_init_0 13 rfl rfl)
theorem dJ3_init_16 : decode cJ3_init 16 = .ok (.aload_n 0, 1) := dk_42 (dk_at dksJ3_init_0 16 rfl rfl)
theorem dJ3_init_17 : decode cJ3_init 17 = .ok (.getstatic 20, 3) := dk_178 0 20 (dk_at dksJ3_init_0 17 rfl rfl)
theorem dJ3_init_20 : decode cJ3_init 20 = .ok (.putfield 24, 3) := dk_181 0 24 (dk_at dksJ3_init_0 20 rfl rfl)
theorem dJ3_init_23 : decode cJ3_init 23 = .ok (.aload_n 0, 1) := dk_42 (dk_at dksJ3_init_0 23 rfl rfl)
theorem dJ3_init_24 : decode cJ3_init 24 = .ok (.invokevirtual 27, 3) := dk_182 0 27 (dk_at dksJ3_init_1 0 rfl rfl)
theorem dJ3_init_27 : decode cJ3_init 27 = .ok (.pop, 1) := dk_87 (dk_at dksJ3_init_1 3 rfl rfl)
theorem dJ3_init_28 : decode cJ3_init 28 = .ok (.return_, 1) := dk_177 (dk_at dksJ3_init_1 4 rfl rfl)
abbrev cJ3_init_2 : ByteArray := prog_21_method_2_code
def yJ3_init_2 : MethodName := ⟨RJ3, "<init>", "(Ljava/lang/String;)V"⟩
def dkwJ3_init_2_1 : List UInt8 := [182, 0, 27, 87, 42, 43, 181, 0, 31, 177]
abbrev dktJ3_init_2_1 : List UInt8 := dkwJ3_init_2_1 ++ []
def dkwJ3_init_2_0 : List UInt8 := [42, 183, 0, 1, 42, 42, 181, 0, 7, 42, 178, 0, 13, 181, 0, 17, 42, 178, 0, 20, 181, 0, 24, 42]
abbrev dktJ3_init_2_0 : List UInt8 := dkwJ3_init_2_0 ++ dktJ3_init_2_1
theorem dksJ3_init_2_0 : cJ3_init_2.data.toList.drop 0 = dktJ3_init_2_0 := by decide +kernel
theorem dksJ3_init_2_1 : cJ3_init_2.data.toList.drop 24 = dktJ3_init_2_1 := dk_seg dksJ3_init_2_0 24 rfl rfl
theorem dJ3_init_2_0 : decode cJ3_init_2 0 = .ok (.aload_n 0, 1) := dk_42 (dk_at dksJ3_init_2_0 0 rfl rfl)
theorem dJ3_init_2_1 : decode cJ3_init_2 1 = .ok (.invokespecial 1, 3) := dk_183 0 1 (dk_at dksJ3_init_2_0 1 rfl rfl)
theorem dJ3_init_2_4 : decode cJ3_init_2 4 = .ok (.aload_n 0, 1) := dk_42 (dk_at dksJ3_init_2_0 4 rfl rfl)
theorem dJ3_init_2_5 : decode cJ3_init_2 5 = .ok (.aload_n 0, 1) := dk_42 (dk_at dksJ3_init_2_0 5 rfl rfl)
theorem dJ3_init_2_6 : decode cJ3_init_2 6 = .ok (.putfield 7, 3) := dk_181 0 7 (dk_at dksJ3_init_2_0 6 rfl rfl)
theorem dJ3_init_2_9 : decode cJ3_init_2 9 = .ok (.aload_n 0, 1) := dk_42 (dk_at dksJ3_init_2_0 9 rfl rfl)
theorem dJ3_init_2_10 : decode cJ3_init_2 10 = .ok (.getstatic 13, 3) := dk_178 0 13 (dk_at dksJ3_init_2_0 10 rfl rfl)
theorem dJ3_init_2_13 : decode cJ3_init_2 13 = .ok (.putfield 17, 3) := dk_181 0 17 (dk_at dksJ3_init_2_0 13 rfl rfl)
theorem dJ3_init_2_16 : decode cJ3_init_2 16 = .ok (.aload_n 0, 1) := dk_42 (dk_at dksJ3_init_2_0 16 rfl rfl)
theorem dJ3_init_2_17 : decode cJ3_init_2 17 = .ok (.getstatic 20, 3) := dk_178 0 20 (dk_at dksJ3_init_2_0 17 rfl rfl)
theorem dJ3_init_2_20 : decode cJ3_init_2 20 = .ok (.putfield 24, 3) := dk_181 0 24 (dk_at dksJ3_init_2_0 20 rfl rfl)
theorem dJ3_init_2_23 : decode cJ3_init_2 23 = .ok (.aload_n 0, 1) := dk_42 (dk_at dksJ3_init_2_0 23 rfl rfl)
theorem dJ3_init_2_24 : decode cJ3_init_2 24 = .ok (.invokevirtual 27, 3) := dk_182 0 27 (dk_at dksJ3_init_2_1 0 rfl rfl)
theorem dJ3_init_2_27 : decode cJ3_init_2 27 = .ok (.pop, 1) := dk_87 (dk_at dksJ3_init_2_1 3 rfl rfl)
theorem dJ3_init_2_28 : decode cJ3_init_2 28 = .ok (.aload_n 0, 1) := dk_42 (dk_at dksJ3_init_2_1 4 rfl rfl)
theorem dJ3_init_2_29 : decode cJ3_init_2 29 = .ok (.aload_n 1, 1) := dk_43 (dk_at dksJ3_init_2_1 5 rfl rfl)
theorem dJ3_init_2_30 : decode cJ3_init_2 30 = .ok (.putfield 31, 3) := dk_181 0 31 (dk_at dksJ3_init_2_1 6 rfl rfl)
theorem dJ3_init_2_33 : decode cJ3_init_2 33 = .ok (.return_, 1) := dk_177 (dk_at dksJ3_init_2_1 9 rfl rfl)
theorem q34 : (Jvm.Cond.initialized "java/lang/Throwable") ∈ lw_all := lw_g (lw_at lw_m1 6 rfl) rfl
theorem q120 : (Jvm.Cond.declares ({ cls := "java/lang/Throwable", name := "<init>", desc := "()V" } : Jvm.MethodName)) ∈ lw_tbl := lw_at lw_m1 92 rfl
theorem q121 : (Jvm.Cond.declares ({ cls := "java/lang/Throwable", name := "<init>", desc := "(Ljava/lang/String;)V" } : Jvm.MethodName)) ∈ lw_tbl := lw_at lw_m1 93 rfl
theorem q125 : (Jvm.Cond.lays "java/lang/Throwable" "java/lang/Throwable" "cause" "Ljava/lang/Throwable;") ∈ lw_all := lw_g (lw_at lw_m1 97 rfl) rfl
theorem q127 : (Jvm.Cond.lays "java/lang/Throwable" "java/lang/Throwable" "stackTrace" "[Ljava/lang/StackTraceElement;") ∈ lw_all := lw_g (lw_at lw_m1 99 rfl) rfl
theorem q129 : (Jvm.Cond.lays "java/lang/Throwable" "java/lang/Throwable" "suppressedExceptions" "Ljava/util/List;") ∈ lw_all := lw_g (lw_at lw_m1 101 rfl) rfl
theorem q131 : (Jvm.Cond.lays "java/lang/Throwable" "java/lang/Throwable" "detailMessage" "Ljava/lang/String;") ∈ lw_all := lw_g (lw_at lw_m1 103 rfl) rfl
theorem q133 : (Jvm.Cond.lays "java/lang/Throwable" "java/lang/Throwable" "backtrace" "Ljava/lang/Object;") ∈ lw_all := lw_g (lw_at lw_m1 105 rfl) rfl
theorem q134 : (Jvm.Cond.fieldLink "java/lang/Throwable" (198 : Nat) "java/lang/Throwable" "backtrace" "Ljava/lang/Object;") ∈ lw_all := lw_g (lw_at lw_m1 106 rfl) rfl
theorem q135 : (Jvm.Cond.superclass "java/lang/Throwable" "java/lang/Object") ∈ lw_all := lw_g (lw_at lw_m1 107 rfl) rfl
theorem q136 : (Jvm.Cond.instanceMethod ({ cls := "java/lang/Throwable", name := "<init>", desc := "()V" } : Jvm.MethodName)) ∈ lw_all := lw_g (lw_at lw_m1 108 rfl) rfl
theorem q137 : (Jvm.Cond.code ({ cls := "java/lang/Throwable", name := "<init>", desc := "()V" } : Jvm.MethodName) prog_21_method_1_code (1 : Nat) (Option.none : Option Jvm.ClassFile.FieldType)) ∈ lw_all := lw_g (lw_at lw_m1 109 rfl) rfl
theorem q138 : (Jvm.Cond.methodLink "java/lang/Throwable" (1 : Nat) ({ cls := "java/lang/Object", name := "<init>", desc := "()V" } : Jvm.MethodName)) ∈ lw_all := lw_g (lw_at lw_m1 110 rfl) rfl
theorem q139 : (Jvm.Cond.fieldLink "java/lang/Throwable" (13 : Nat) "java/lang/Throwable" "UNASSIGNED_STACK" "[Ljava/lang/StackTraceElement;") ∈ lw_all := lw_g (lw_at lw_m1 111 rfl) rfl
theorem q140 : (Jvm.Cond.laysStatic "java/lang/Throwable" "UNASSIGNED_STACK" "[Ljava/lang/StackTraceElement;") ∈ lw_tbl := lw_at lw_m1 112 rfl
theorem q141 : (Jvm.Cond.fieldLink "java/lang/Throwable" (20 : Nat) "java/lang/Throwable" "SUPPRESSED_SENTINEL" "Ljava/util/List;") ∈ lw_all := lw_g (lw_at lw_m1 113 rfl) rfl
theorem q142 : (Jvm.Cond.laysStatic "java/lang/Throwable" "SUPPRESSED_SENTINEL" "Ljava/util/List;") ∈ lw_tbl := lw_at lw_m1 114 rfl
theorem q143 : (Jvm.Cond.methodLink "java/lang/Throwable" (27 : Nat) ({ cls := "java/lang/Throwable", name := "fillInStackTrace", desc := "()Ljava/lang/Throwable;" } : Jvm.MethodName)) ∈ lw_all := lw_g (lw_at lw_m1 115 rfl) rfl
theorem q144 : (Jvm.Cond.instanceMethod ({ cls := "java/lang/Throwable", name := "fillInStackTrace", desc := "()Ljava/lang/Throwable;" } : Jvm.MethodName)) ∈ lw_all := lw_g (lw_at lw_m1 116 rfl) rfl
theorem q145 : (Jvm.Cond.sameMethod "java/lang/Throwable" "java/lang/Throwable" "fillInStackTrace" "()Ljava/lang/Throwable;") ∈ lw_all := lw_g (lw_at lw_m1 117 rfl) rfl
theorem q149 : (Jvm.Cond.codeSync ({ cls := "java/lang/Throwable", name := "fillInStackTrace", desc := "()Ljava/lang/Throwable;" } : Jvm.MethodName) prog_21_method_18_code (1 : Nat) (Option.some (Jvm.ClassFile.FieldType.object "java/lang/Throwable"))) ∈ lw_all := lw_g (lw_at lw_m1 121 rfl) rfl
theorem q150 : (Jvm.Cond.methodLink "java/lang/Throwable" (202 : Nat) ({ cls := "java/lang/Throwable", name := "fillInStackTrace", desc := "(I)Ljava/lang/Throwable;" } : Jvm.MethodName)) ∈ lw_all := lw_g (lw_at lw_m1 122 rfl) rfl
theorem q151 : (Jvm.Cond.privateMethod ({ cls := "java/lang/Throwable", name := "fillInStackTrace", desc := "(I)Ljava/lang/Throwable;" } : Jvm.MethodName)) ∈ lw_tbl := lw_at lw_m1 123 rfl
theorem q152 : (Jvm.Cond.instanceMethod ({ cls := "java/lang/Throwable", name := "fillInStackTrace", desc := "(I)Ljava/lang/Throwable;" } : Jvm.MethodName)) ∈ lw_all := lw_g (lw_at lw_m1 124 rfl) rfl
theorem q153 : (Jvm.Cond.instantiable "java/lang/Throwable" (6 : Nat)) ∈ lw_all := lw_g (lw_at lw_m1 125 rfl) rfl
theorem q154 : (Jvm.Cond.native ({ cls := "java/lang/Throwable", name := "fillInStackTrace", desc := "(I)Ljava/lang/Throwable;" } : Jvm.MethodName)) ∈ lw_all := lw_g (lw_at lw_m1 126 rfl) rfl
theorem q165 : (Jvm.Cond.fieldLink "java/lang/Throwable" (198 : Nat) "java/lang/Throwable" "backtrace" "Ljava/lang/Object;") ∈ lw_all := lw_g (lw_at lw_m1 137 rfl) rfl
theorem q166 : (Jvm.Cond.fieldLink "java/lang/Throwable" (31 : Nat) "java/lang/Throwable" "detailMessage" "Ljava/lang/String;") ∈ lw_all := lw_g (lw_at lw_m1 138 rfl) rfl
theorem q167 : (Jvm.Cond.fieldLink "java/lang/Throwable" (7 : Nat) "java/lang/Throwable" "cause" "Ljava/lang/Throwable;") ∈ lw_all := lw_g (lw_at lw_m1 139 rfl) rfl
theorem q168 : (Jvm.Cond.fieldLink "java/lang/Throwable" (17 : Nat) "java/lang/Throwable" "stackTrace" "[Ljava/lang/StackTraceElement;") ∈ lw_all := lw_g (lw_at lw_m1 140 rfl) rfl
theorem q169 : (Jvm.Cond.fieldLink "java/lang/Throwable" (24 : Nat) "java/lang/Throwable" "suppressedExceptions" "Ljava/util/List;") ∈ lw_all := lw_g (lw_at lw_m1 141 rfl) rfl
theorem q170 : (Jvm.Cond.soleField "java/lang/Throwable" "backtrace") ∈ lw_all := lw_g (lw_at lw_m1 142 rfl) rfl
theorem q171 : (Jvm.Cond.soleField "java/lang/Throwable" "detailMessage") ∈ lw_all := lw_g (lw_at lw_m1 143 rfl) rfl
theorem q172 : (Jvm.Cond.soleField "java/lang/Throwable" "cause") ∈ lw_all := lw_g (lw_at lw_m1 144 rfl) rfl
theorem q173 : (Jvm.Cond.soleField "java/lang/Throwable" "stackTrace") ∈ lw_all := lw_g (lw_at lw_m1 145 rfl) rfl
theorem q175 : (Jvm.Cond.soleField "java/lang/Throwable" "depth") ∈ lw_all := lw_g (lw_at lw_m1 147 rfl) rfl
theorem q176 : (Jvm.Cond.soleField "java/lang/Throwable" "suppressedExceptions") ∈ lw_all := lw_g (lw_at lw_m1 148 rfl) rfl
theorem q302 : (Jvm.Cond.instanceMethod ({ cls := "java/lang/Throwable", name := "<init>", desc := "(Ljava/lang/String;)V" } : Jvm.MethodName)) ∈ lw_all := lw_g (lw_at lw_m2 34 rfl) rfl
theorem q303 : (Jvm.Cond.code ({ cls := "java/lang/Throwable", name := "<init>", desc := "(Ljava/lang/String;)V" } : Jvm.MethodName) prog_21_method_2_code (2 : Nat) (Option.none : Option Jvm.ClassFile.FieldType)) ∈ lw_all := lw_g (lw_at lw_m2 35 rfl) rfl
theorem q867 : (Jvm.Cond.sameMethod "java/lang/Throwable" "java/lang/Throwable" "fillInStackTrace" "(I)Ljava/lang/Throwable;") ∈ lw_all := lw_g (lw_at lw_m4 119 rfl) rfl
theorem q881 : (Jvm.Cond.castable "java/lang/Throwable" "java/lang/Object") ∈ lw_tbl := lw_at lw_m4 133 rfl
theorem in_J3 : ∀ w ∈ wsJ30, w ∈ lw_all := lw_in wsJ30 [125, 127, 129, 131, 133] (by decide +kernel) (by decide +kernel)
/-! java/lang/Exception -/
set_option maxRecDepth 100000
def RJ4 : String := "java/lang/Exception"
abbrev cJ4_init : ByteArray := prog_11_method_1_code
def yJ4_init : MethodName := ⟨RJ4, "<init>", "()V"⟩
theorem dJ4_init_0 : decode cJ4_init 0 = .ok (.aload_n 0, 1) := by decide +kernel
theorem dJ4_init_1 : decode cJ4_init 1 = .ok (.invokespecial 1, 3) := by decide +kernel
theorem dJ4_init_4 : decode cJ4_init 4 = .ok (.return_, 1) := by decide +kernel
abbrev cJ4_init_2 : ByteArray := prog_11_method_2_code
def yJ4_init_2 : MethodName := ⟨RJ4, "<init>", "(Ljava/lang/String;)V"⟩
def dkwJ4_init_2_0 : List UInt8 := [42, 43, 183, 0, 7, 177]
abbrev dktJ4_init_2_0 : List UInt8 := dkwJ4_init_2_0 ++ []
theorem dksJ4_init_2_0 : cJ4_init_2.data.toList.drop 0 = dktJ4_init_2_0 := by decide +kernel
theorem dJ4_init_2_0 : decode cJ4_init_2 0 = .ok (.aload_n 0, 1) := dk_42 (dk_at dksJ4_init_2_0 0 rfl rfl)
theorem dJ4_init_2_1 : decode cJ4_init_2 1 = .ok (.aload_n 1, 1) := dk_43 (dk_at dksJ4_init_2_0 1 rfl rfl)
theorem dJ4_init_2_2 : decode cJ4_init_2 2 = .ok (.invokespecial 7, 3) := dk_183 0 7 (dk_at dksJ4_init_2_0 2 rfl rfl)
theorem dJ4_init_2_5 : decode cJ4_init_2 5 = .ok (.return_, 1) := dk_177 (dk_at dksJ4_init_2_0 5 rfl rfl)
theorem q35 : (Jvm.Cond.initialized "java/lang/Exception") ∈ lw_all := lw_g (lw_at lw_m1 7 rfl) rfl
theorem q118 : (Jvm.Cond.declares ({ cls := "java/lang/Exception", name := "<init>", desc := "()V" } : Jvm.MethodName)) ∈ lw_tbl := lw_at lw_m1 90 rfl
theorem q119 : (Jvm.Cond.declares ({ cls := "java/lang/Exception", name := "<init>", desc := "(Ljava/lang/String;)V" } : Jvm.MethodName)) ∈ lw_tbl := lw_at lw_m1 91 rfl
theorem q162 : (Jvm.Cond.instanceMethod ({ cls := "java/lang/Exception", name := "<init>", desc := "()V" } : Jvm.MethodName)) ∈ lw_all := lw_g (lw_at lw_m1 134 rfl) rfl
theorem q163 : (Jvm.Cond.code ({ cls := "java/lang/Exception", name := "<init>", desc := "()V" } : Jvm.MethodName) prog_11_method_1_code (1 : Nat) (Option.none : Option Jvm.ClassFile.FieldType)) ∈ lw_all := lw_g (lw_at lw_m1 135 rfl) rfl
theorem q164 : (Jvm.Cond.methodLink "java/lang/Exception" (1 : Nat) ({ cls := "java/lang/Throwable", name := "<init>", desc := "()V" } : Jvm.MethodName)) ∈ lw_all := lw_g (lw_at lw_m1 136 rfl) rfl
theorem q299 : (Jvm.Cond.instanceMethod ({ cls := "java/lang/Exception", name := "<init>", desc := "(Ljava/lang/String;)V" } : Jvm.MethodName)) ∈ lw_all := lw_g (lw_at lw_m2 31 rfl) rfl
theorem q300 : (Jvm.Cond.code ({ cls := "java/lang/Exception", name := "<init>", desc := "(Ljava/lang/String;)V" } : Jvm.MethodName) prog_11_method_2_code (2 : Nat) (Option.none : Option Jvm.ClassFile.FieldType)) ∈ lw_all := lw_g (lw_at lw_m2 32 rfl) rfl
theorem q301 : (Jvm.Cond.methodLink "java/lang/Exception" (7 : Nat) ({ cls := "java/lang/Throwable", name := "<init>", desc := "(Ljava/lang/String;)V" } : Jvm.MethodName)) ∈ lw_all := lw_g (lw_at lw_m2 33 rfl) rfl
/-! java/lang/RuntimeException -/
set_option maxRecDepth 100000
def RJ5 : String := "java/lang/RuntimeException"
abbrev cJ5_init : ByteArray := prog_18_method_1_code
def yJ5_init : MethodName := ⟨RJ5, "<init>", "()V"⟩
theorem dJ5_init_0 : decode cJ5_init 0 = .ok (.aload_n 0, 1) := by decide +kernel
theorem dJ5_init_1 : decode cJ5_init 1 = .ok (.invokespecial 1, 3) := by decide +kernel
theorem dJ5_init_4 : decode cJ5_init 4 = .ok (.return_, 1) := by decide +kernel
abbrev cJ5_init_2 : ByteArray := prog_18_method_2_code
def yJ5_init_2 : MethodName := ⟨RJ5, "<init>", "(Ljava/lang/String;)V"⟩
def dkwJ5_init_2_0 : List UInt8 := [42, 43, 183, 0, 7, 177]
abbrev dktJ5_init_2_0 : List UInt8 := dkwJ5_init_2_0 ++ []
theorem dksJ5_init_2_0 : cJ5_init_2.data.toList.drop 0 = dktJ5_init_2_0 := by decide +kernel
theorem dJ5_init_2_0 : decode cJ5_init_2 0 = .ok (.aload_n 0, 1) := dk_42 (dk_at dksJ5_init_2_0 0 rfl rfl)
theorem dJ5_init_2_1 : decode cJ5_init_2 1 = .ok (.aload_n 1, 1) := dk_43 (dk_at dksJ5_init_2_0 1 rfl rfl)
theorem dJ5_init_2_2 : decode cJ5_init_2 2 = .ok (.invokespecial 7, 3) := dk_183 0 7 (dk_at dksJ5_init_2_0 2 rfl rfl)
theorem dJ5_init_2_5 : decode cJ5_init_2 5 = .ok (.return_, 1) := dk_177 (dk_at dksJ5_init_2_0 5 rfl rfl)
theorem q36 : (Jvm.Cond.initialized "java/lang/RuntimeException") ∈ lw_all := lw_g (lw_at lw_m1 8 rfl) rfl
theorem q116 : (Jvm.Cond.declares ({ cls := "java/lang/RuntimeException", name := "<init>", desc := "()V" } : Jvm.MethodName)) ∈ lw_tbl := lw_at lw_m1 88 rfl
theorem q117 : (Jvm.Cond.declares ({ cls := "java/lang/RuntimeException", name := "<init>", desc := "(Ljava/lang/String;)V" } : Jvm.MethodName)) ∈ lw_tbl := lw_at lw_m1 89 rfl
theorem q159 : (Jvm.Cond.instanceMethod ({ cls := "java/lang/RuntimeException", name := "<init>", desc := "()V" } : Jvm.MethodName)) ∈ lw_all := lw_g (lw_at lw_m1 131 rfl) rfl
theorem q160 : (Jvm.Cond.code ({ cls := "java/lang/RuntimeException", name := "<init>", desc := "()V" } : Jvm.MethodName) prog_18_method_1_code (1 : Nat) (Option.none : Option Jvm.ClassFile.FieldType)) ∈ lw_all := lw_g (lw_at lw_m1 132 rfl) rfl
theorem q161 : (Jvm.Cond.methodLink "java/lang/RuntimeException" (1 : Nat) ({ cls := "java/lang/Exception", name := "<init>", desc := "()V" } : Jvm.MethodName)) ∈ lw_all := lw_g (lw_at lw_m1 133 rfl) rfl
theorem q296 : (Jvm.Cond.instanceMethod ({ cls := "java/lang/RuntimeException", name := "<init>", desc := "(Ljava/lang/String;)V" } : Jvm.MethodName)) ∈ lw_all := lw_g (lw_at lw_m2 28 rfl) rfl
theorem q297 : (Jvm.Cond.code ({ cls := "java/lang/RuntimeException", name := "<init>", desc := "(Ljava/lang/String;)V" } : Jvm.MethodName) prog_18_method_2_code (2 : Nat) (Option.none : Option Jvm.ClassFile.FieldType)) ∈ lw_all := lw_g (lw_at lw_m2 29 rfl) rfl
theorem q298 : (Jvm.Cond.methodLink "java/lang/RuntimeException" (7 : Nat) ({ cls := "java/lang/Exception", name := "<init>", desc := "(Ljava/lang/String;)V" } : Jvm.MethodName)) ∈ lw_all := lw_g (lw_at lw_m2 30 rfl) rfl
/-! java/lang/IllegalArgumentException -/
set_option maxRecDepth 100000
def RJ6 : String := "java/lang/IllegalArgumentException"
def TJ6 : u_T := fun k => match k with
  | 0 => ("java/lang/Throwable", "cause", "Ljava/lang/Throwable;", false)
  | 1 => ("java/lang/Throwable", "stackTrace", "[Ljava/lang/StackTraceElement;", false)
  | 2 => ("java/lang/Throwable", "suppressedExceptions", "Ljava/util/List;", false)
  | 3 => ("java/lang/Throwable", "detailMessage", "Ljava/lang/String;", false)
  | 4 => ("java/lang/Throwable", "backtrace", "Ljava/lang/Object;", false)
  | _ => ("java/lang/Throwable", "depth", "I", false)
def tyJ6 : Nat → FieldType := fun k => match k with
  | 0 => .object "java/lang/Throwable"
  | 1 => .array (.object "java/lang/StackTraceElement")
  | 2 => .object "java/util/List"
  | 3 => .object "java/lang/String"
  | 4 => .object "java/lang/Object"
  | _ => .int
abbrev wsJ60 : List Cond := u_ws RJ6 TJ6 6
theorem nmJ6 : ∀ a, a < 6 → ∀ b, b < 6 → a ≠ b → (TJ6 a).2.1 ≠ (TJ6 b).2.1 := by decide +kernel
theorem tyJ6_ok : ∀ k, k < 6 → parseFieldDescriptor (TJ6 k).2.2.1 = some (tyJ6 k) := by decide +kernel
abbrev cJ6_init : ByteArray := prog_12_method_1_code
def yJ6_init : MethodName := ⟨RJ6, "<init>", "()V"⟩
theorem dJ6_init_0 : decode cJ6_init 0 = .ok (.aload_n 0, 1) := by decide +kernel
theorem dJ6_init_1 : decode cJ6_init 1 = .ok (.invokespecial 1, 3) := by decide +kernel
theorem dJ6_init_4 : decode cJ6_init 4 = .ok (.return_, 1) := by decide +kernel
theorem q37 : (Jvm.Cond.initialized "java/lang/IllegalArgumentException") ∈ lw_all := lw_g (lw_at lw_m1 9 rfl) rfl
theorem q114 : (Jvm.Cond.instantiable "java/lang/IllegalArgumentException" (6 : Nat)) ∈ lw_all := lw_g (lw_at lw_m1 86 rfl) rfl
theorem q115 : (Jvm.Cond.castable "java/lang/IllegalArgumentException" "java/lang/IllegalArgumentException") ∈ lw_tbl := lw_at lw_m1 87 rfl
theorem q122 : (Jvm.Cond.selects "java/lang/IllegalArgumentException" ({ cls := "java/lang/Throwable", name := "fillInStackTrace", desc := "(I)Ljava/lang/Throwable;" } : Jvm.MethodName) ({ cls := "java/lang/Throwable", name := "fillInStackTrace", desc := "(I)Ljava/lang/Throwable;" } : Jvm.MethodName)) ∈ lw_all := lw_g (lw_at lw_m1 94 rfl) rfl
theorem q123 : (Jvm.Cond.selects "java/lang/IllegalArgumentException" ({ cls := "java/lang/Throwable", name := "fillInStackTrace", desc := "()Ljava/lang/Throwable;" } : Jvm.MethodName) ({ cls := "java/lang/Throwable", name := "fillInStackTrace", desc := "()Ljava/lang/Throwable;" } : Jvm.MethodName)) ∈ lw_all := lw_g (lw_at lw_m1 95 rfl) rfl
theorem q124 : (Jvm.Cond.lays "java/lang/IllegalArgumentException" "java/lang/Throwable" "cause" "Ljava/lang/Throwable;") ∈ lw_all := lw_g (lw_at lw_m1 96 rfl) rfl
theorem q126 : (Jvm.Cond.lays "java/lang/IllegalArgumentException" "java/lang/Throwable" "stackTrace" "[Ljava/lang/StackTraceElement;") ∈ lw_all := lw_g (lw_at lw_m1 98 rfl) rfl
theorem q128 : (Jvm.Cond.lays "java/lang/IllegalArgumentException" "java/lang/Throwable" "suppressedExceptions" "Ljava/util/List;") ∈ lw_all := lw_g (lw_at lw_m1 100 rfl) rfl
theorem q130 : (Jvm.Cond.lays "java/lang/IllegalArgumentException" "java/lang/Throwable" "detailMessage" "Ljava/lang/String;") ∈ lw_all := lw_g (lw_at lw_m1 102 rfl) rfl
theorem q132 : (Jvm.Cond.lays "java/lang/IllegalArgumentException" "java/lang/Throwable" "backtrace" "Ljava/lang/Object;") ∈ lw_all := lw_g (lw_at lw_m1 104 rfl) rfl
theorem q156 : (Jvm.Cond.instanceMethod ({ cls := "java/lang/IllegalArgumentException", name := "<init>", desc := "()V" } : Jvm.MethodName)) ∈ lw_all := lw_g (lw_at lw_m1 128 rfl) rfl
theorem q157 : (Jvm.Cond.code ({ cls := "java/lang/IllegalArgumentException", name := "<init>", desc := "()V" } : Jvm.MethodName) prog_12_method_1_code (1 : Nat) (Option.none : Option Jvm.ClassFile.FieldType)) ∈ lw_all := lw_g (lw_at lw_m1 129 rfl) rfl
theorem q158 : (Jvm.Cond.methodLink "java/lang/IllegalArgumentException" (1 : Nat) ({ cls := "java/lang/RuntimeException", name := "<init>", desc := "()V" } : Jvm.MethodName)) ∈ lw_all := lw_g (lw_at lw_m1 130 rfl) rfl
theorem q174 : (Jvm.Cond.lays "java/lang/IllegalArgumentException" "java/lang/Throwable" "depth" "I") ∈ lw_all := lw_g (lw_at lw_m1 146 rfl) rfl
theorem q177 : (Jvm.Cond.superclass "java/lang/IllegalArgumentException" "java/lang/RuntimeException") ∈ lw_all := lw_g (lw_at lw_m1 149 rfl) rfl
theorem q266 : (Jvm.Cond.selects "java/lang/IllegalArgumentException" ({ cls := "java/lang/Object", name := "getClass", desc := "()Ljava/lang/Class;" } : Jvm.MethodName) ({ cls := "java/lang/Object", name := "getClass", desc := "()Ljava/lang/Class;" } : Jvm.MethodName)) ∈ lw_all := lw_g (lw_at lw_m1 238 rfl) rfl
theorem q873 : (Jvm.Cond.castable "java/lang/IllegalArgumentException" "java/lang/Object") ∈ lw_tbl := lw_at lw_m4 125 rfl
theorem in_J6 : ∀ w ∈ wsJ60, w ∈ lw_all := lw_in wsJ60 [124, 126, 128, 130, 132, 174] (by decide +kernel) (by decide +kernel)
/-! java/lang/IllegalStateException -/
set_option maxRecDepth 100000
def RJ7 : String := "java/lang/IllegalStateException"
def TJ7 : u_T := fun k => match k with
  | 0 => ("java/lang/Throwable", "cause", "Ljava/lang/Throwable;", false)
  | 1 => ("java/lang/Throwable", "stackTrace", "[Ljava/lang/StackTraceElement;", false)
  | 2 => ("java/lang/Throwable", "suppressedExceptions", "Ljava/util/List;", false)
  | 3 => ("java/lang/Throwable", "detailMessage", "Ljava/lang/String;", false)
  | 4 => ("java/lang/Throwable", "backtrace", "Ljava/lang/Object;", false)
  | _ => ("java/lang/Throwable", "depth", "I", false)
def tyJ7 : Nat → FieldType := fun k => match k with
  | 0 => .object "java/lang/Throwable"
  | 1 => .array (.object "java/lang/StackTraceElement")
  | 2 => .object "java/util/List"
  | 3 => .object "java/lang/String"
  | 4 => .object "java/lang/Object"
  | _ => .int
abbrev wsJ70 : List Cond := u_ws RJ7 TJ7 6
theorem nmJ7 : ∀ a, a < 6 → ∀ b, b < 6 → a ≠ b → (TJ7 a).2.1 ≠ (TJ7 b).2.1 := by decide +kernel
theorem tyJ7_ok : ∀ k, k < 6 → parseFieldDescriptor (TJ7 k).2.2.1 = some (tyJ7 k) := by decide +kernel
abbrev cJ7_init : ByteArray := prog_13_method_1_code
def yJ7_init : MethodName := ⟨RJ7, "<init>", "()V"⟩
theorem dJ7_init_0 : decode cJ7_init 0 = .ok (.aload_n 0, 1) := by decide +kernel
theorem dJ7_init_1 : decode cJ7_init 1 = .ok (.invokespecial 1, 3) := by decide +kernel
theorem dJ7_init_4 : decode cJ7_init 4 = .ok (.return_, 1) := by decide +kernel
theorem q38 : (Jvm.Cond.initialized "java/lang/IllegalStateException") ∈ lw_all := lw_g (lw_at lw_m1 10 rfl) rfl
theorem q147 : (Jvm.Cond.selects "java/lang/IllegalStateException" ({ cls := "java/lang/Throwable", name := "fillInStackTrace", desc := "()Ljava/lang/Throwable;" } : Jvm.MethodName) ({ cls := "java/lang/Throwable", name := "fillInStackTrace", desc := "()Ljava/lang/Throwable;" } : Jvm.MethodName)) ∈ lw_all := lw_g (lw_at lw_m1 119 rfl) rfl
theorem q192 : (Jvm.Cond.instantiable "java/lang/IllegalStateException" (6 : Nat)) ∈ lw_all := lw_g (lw_at lw_m1 164 rfl) rfl
theorem q193 : (Jvm.Cond.castable "java/lang/IllegalStateException" "java/lang/IllegalStateException") ∈ lw_tbl := lw_at lw_m1 165 rfl
theorem q194 : (Jvm.Cond.selects "java/lang/IllegalStateException" ({ cls := "java/lang/Throwable", name := "fillInStackTrace", desc := "(I)Ljava/lang/Throwable;" } : Jvm.MethodName) ({ cls := "java/lang/Throwable", name := "fillInStackTrace", desc := "(I)Ljava/lang/Throwable;" } : Jvm.MethodName)) ∈ lw_all := lw_g (lw_at lw_m1 166 rfl) rfl
theorem q195 : (Jvm.Cond.lays "java/lang/IllegalStateException" "java/lang/Throwable" "cause" "Ljava/lang/Throwable;") ∈ lw_all := lw_g (lw_at lw_m1 167 rfl) rfl
theorem q196 : (Jvm.Cond.lays "java/lang/IllegalStateException" "java/lang/Throwable" "stackTrace" "[Ljava/lang/StackTraceElement;") ∈ lw_all := lw_g (lw_at lw_m1 168 rfl) rfl
theorem q197 : (Jvm.Cond.lays "java/lang/IllegalStateException" "java/lang/Throwable" "suppressedExceptions" "Ljava/util/List;") ∈ lw_all := lw_g (lw_at lw_m1 169 rfl) rfl
theorem q198 : (Jvm.Cond.lays "java/lang/IllegalStateException" "java/lang/Throwable" "detailMessage" "Ljava/lang/String;") ∈ lw_all := lw_g (lw_at lw_m1 170 rfl) rfl
theorem q199 : (Jvm.Cond.lays "java/lang/IllegalStateException" "java/lang/Throwable" "backtrace" "Ljava/lang/Object;") ∈ lw_all := lw_g (lw_at lw_m1 171 rfl) rfl
theorem q201 : (Jvm.Cond.instanceMethod ({ cls := "java/lang/IllegalStateException", name := "<init>", desc := "()V" } : Jvm.MethodName)) ∈ lw_all := lw_g (lw_at lw_m1 173 rfl) rfl
theorem q202 : (Jvm.Cond.code ({ cls := "java/lang/IllegalStateException", name := "<init>", desc := "()V" } : Jvm.MethodName) prog_13_method_1_code (1 : Nat) (Option.none : Option Jvm.ClassFile.FieldType)) ∈ lw_all := lw_g (lw_at lw_m1 174 rfl) rfl
theorem q203 : (Jvm.Cond.methodLink "java/lang/IllegalStateException" (1 : Nat) ({ cls := "java/lang/RuntimeException", name := "<init>", desc := "()V" } : Jvm.MethodName)) ∈ lw_all := lw_g (lw_at lw_m1 175 rfl) rfl
theorem q204 : (Jvm.Cond.lays "java/lang/IllegalStateException" "java/lang/Throwable" "depth" "I") ∈ lw_all := lw_g (lw_at lw_m1 176 rfl) rfl
theorem q205 : (Jvm.Cond.superclass "java/lang/IllegalStateException" "java/lang/RuntimeException") ∈ lw_all := lw_g (lw_at lw_m1 177 rfl) rfl
theorem q267 : (Jvm.Cond.selects "java/lang/IllegalStateException" ({ cls := "java/lang/Object", name := "getClass", desc := "()Ljava/lang/Class;" } : Jvm.MethodName) ({ cls := "java/lang/Object", name := "getClass", desc := "()Ljava/lang/Class;" } : Jvm.MethodName)) ∈ lw_all := lw_g (lw_at lw_m1 239 rfl) rfl
theorem q874 : (Jvm.Cond.castable "java/lang/IllegalStateException" "java/lang/Object") ∈ lw_tbl := lw_at lw_m4 126 rfl
theorem in_J7 : ∀ w ∈ wsJ70, w ∈ lw_all := lw_in wsJ70 [195, 196, 197, 198, 199, 204] (by decide +kernel) (by decide +kernel)
/-! java/lang/Record -/
set_option maxRecDepth 100000
def RJ8 : String := "java/lang/Record"
abbrev cJ8_init : ByteArray := prog_17_method_1_code
def yJ8_init : MethodName := ⟨RJ8, "<init>", "()V"⟩
theorem dJ8_init_0 : decode cJ8_init 0 = .ok (.aload_n 0, 1) := by decide +kernel
theorem dJ8_init_1 : decode cJ8_init 1 = .ok (.invokespecial 1, 3) := by decide +kernel
theorem dJ8_init_4 : decode cJ8_init 4 = .ok (.return_, 1) := by decide +kernel
theorem q39 : (Jvm.Cond.initialized "java/lang/Record") ∈ lw_all := lw_g (lw_at lw_m1 11 rfl) rfl
theorem q212 : (Jvm.Cond.instanceMethod ({ cls := "java/lang/Record", name := "<init>", desc := "()V" } : Jvm.MethodName)) ∈ lw_all := lw_g (lw_at lw_m1 184 rfl) rfl
theorem q213 : (Jvm.Cond.code ({ cls := "java/lang/Record", name := "<init>", desc := "()V" } : Jvm.MethodName) prog_17_method_1_code (1 : Nat) (Option.none : Option Jvm.ClassFile.FieldType)) ∈ lw_all := lw_g (lw_at lw_m1 185 rfl) rfl
theorem q214 : (Jvm.Cond.methodLink "java/lang/Record" (1 : Nat) ({ cls := "java/lang/Object", name := "<init>", desc := "()V" } : Jvm.MethodName)) ∈ lw_all := lw_g (lw_at lw_m1 186 rfl) rfl
/-! jdk/internal/util/ArraysSupport -/
set_option maxRecDepth 100000
def RJ9 : String := "jdk/internal/util/ArraysSupport"
abbrev cJ9_newLength : ByteArray := prog_31_method_27_code
def yJ9_newLength : MethodName := ⟨RJ9, "newLength", "(III)I"⟩
def dkwJ9_newLength_1 : List UInt8 := [184, 0, 201, 172]
abbrev dktJ9_newLength_1 : List UInt8 := dkwJ9_newLength_1 ++ []
def dkwJ9_newLength_0 : List UInt8 := [26, 27, 28, 184, 0, 194, 96, 62, 3, 29, 162, 0, 11, 29, 18, 200, 163, 0, 5, 29, 172, 26, 27]
abbrev dktJ9_newLength_0 : List UInt8 := dkwJ9_newLength_0 ++ dktJ9_newLength_1
theorem dksJ9_newLength_0 : cJ9_newLength.data.toList.drop 0 = dktJ9_newLength_0 := by decide +kernel
theorem dksJ9_newLength_1 : cJ9_newLength.data.toList.drop 23 = dktJ9_newLength_1 := dk_seg dksJ9_newLength_0 23 rfl rfl
theorem dJ9_newLength_0 : decode cJ9_newLength 0 = .ok (.iload_n 0, 1) := dk_26 (dk_at dksJ9_newLength_0 0 rfl rfl)
theorem dJ9_newLength_1 : decode cJ9_newLength 1 = .ok (.iload_n 1, 1) := dk_27 (dk_at dksJ9_newLength_0 1 rfl rfl)
theorem dJ9_newLength_2 : decode cJ9_newLength 2 = .ok (.iload_n 2, 1) := dk_28 (dk_at dksJ9_newLength_0 2 rfl rfl)
theorem dJ9_newLength_3 : decode cJ9_newLength 3 = .ok (.invokestatic 194, 3) := dk_184 0 194 (dk_at dksJ9_newLength_0 3 rfl rfl)
theorem dJ9_newLength_6 : decode cJ9_newLength 6 = .ok (.iadd, 1) := dk_96 (dk_at dksJ9_newLength_0 6 rfl rfl)
theorem dJ9_newLength_7 : decode cJ9_newLength 7 = .ok (.istore_n 3, 1) := dk_62 (dk_at dksJ9_newLength_0 7 rfl rfl)
theorem dJ9_newLength_8 : decode cJ9_newLength 8 = .ok (.iconst 0, 1) := dk_3 (dk_at dksJ9_newLength_0 8 rfl rfl)
theorem dJ9_newLength_9 : decode cJ9_newLength 9 = .ok (.iload_n 3, 1) := dk_29 (dk_at dksJ9_newLength_0 9 rfl rfl)
theorem dJ9_newLength_10 : decode cJ9_newLength 10 = .ok (.if_icmp .ge 11, 3) := dk_162 0 11 (dk_at dksJ9_newLength_0 10 rfl rfl)
theorem dJ9_newLength_13 : decode cJ9_newLength 13 = .ok (.iload_n 3, 1) := dk_29 (dk_at dksJ9_newLength_0 13 rfl rfl)
theorem dJ9_newLength_14 : decode cJ9_newLength 14 = .ok (.ldc 200, 2) := dk_18 200 (dk_at dksJ9_newLength_0 14 rfl rfl)
theorem dJ9_newLength_16 : decode cJ9_newLength 16 = .ok (.if_icmp .gt 5, 3) := dk_163 0 5 (dk_at dksJ9_newLength_0 16 rfl rfl)
theorem dJ9_newLength_19 : decode cJ9_newLength 19 = .ok (.iload_n 3, 1) := dk_29 (dk_at dksJ9_newLength_0 19 rfl rfl)
theorem dJ9_newLength_20 : decode cJ9_newLength 20 = .ok (.ireturn, 1) := dk_172 (dk_at dksJ9_newLength_0 20 rfl rfl)
theorem dJ9_newLength_21 : decode cJ9_newLength 21 = .ok (.iload_n 0, 1) := dk_26 (dk_at dksJ9_newLength_0 21 rfl rfl)
theorem dJ9_newLength_22 : decode cJ9_newLength 22 = .ok (.iload_n 1, 1) := dk_27 (dk_at dksJ9_newLength_0 22 rfl rfl)
theorem dJ9_newLength_23 : decode cJ9_newLength 23 = .ok (.invokestatic 201, 3) := dk_184 0 201 (dk_at dksJ9_newLength_1 0 rfl rfl)
theorem dJ9_newLength_26 : decode cJ9_newLength 26 = .ok (.ireturn, 1) := dk_172 (dk_at dksJ9_newLength_1 3 rfl rfl)
abbrev cJ9_hugeLength : ByteArray := prog_31_method_28_code
def yJ9_hugeLength : MethodName := ⟨RJ9, "hugeLength", "(II)I"⟩
def dkwJ9_hugeLength_2 : List UInt8 := [191, 28, 18, 200, 163, 0, 6, 18, 200, 172, 28, 172]
abbrev dktJ9_hugeLength_2 : List UInt8 := dkwJ9_hugeLength_2 ++ []
def dkwJ9_hugeLength_1 : List UInt8 := [26, 182, 0, 98, 18, 208, 182, 0, 94, 27, 182, 0, 98, 18, 210, 182, 0, 94, 182, 0, 101, 183, 0, 212]
abbrev dktJ9_hugeLength_1 : List UInt8 := dkwJ9_hugeLength_1 ++ dktJ9_hugeLength_2
def dkwJ9_hugeLength_0 : List UInt8 := [26, 27, 96, 61, 28, 156, 0, 44, 187, 0, 204, 89, 187, 0, 89, 89, 183, 0, 91, 18, 206, 182, 0, 94]
abbrev dktJ9_hugeLength_0 : List UInt8 := dkwJ9_hugeLength_0 ++ dktJ9_hugeLength_1
theorem dksJ9_hugeLength_0 : cJ9_hugeLength.data.toList.drop 0 = dktJ9_hugeLength_0 := by decide +kernel
theorem dksJ9_hugeLength_1 : cJ9_hugeLength.data.toList.drop 24 = dktJ9_hugeLength_1 := dk_seg dksJ9_hugeLength_0 24 rfl rfl
theorem dksJ9_hugeLength_2 : cJ9_hugeLength.data.toList.drop 48 = dktJ9_hugeLength_2 := dk_seg dksJ9_hugeLength_1 24 rfl rfl
theorem dJ9_hugeLength_0 : decode cJ9_hugeLength 0 = .ok (.iload_n 0, 1) := dk_26 (dk_at dksJ9_hugeLength_0 0 rfl rfl)
theorem dJ9_hugeLength_1 : decode cJ9_hugeLength 1 = .ok (.iload_n 1, 1) := dk_27 (dk_at dksJ9_hugeLength_0 1 rfl rfl)
theorem dJ9_hugeLength_2 : decode cJ9_hugeLength 2 = .ok (.iadd, 1) := dk_96 (dk_at dksJ9_hugeLength_0 2 rfl rfl)
theorem dJ9_hugeLength_3 : decode cJ9_hugeLength 3 = .ok (.istore_n 2, 1) := dk_61 (dk_at dksJ9_hugeLength_0 3 rfl rfl)
theorem dJ9_hugeLength_4 : decode cJ9_hugeLength 4 = .ok (.iload_n 2, 1) := dk_28 (dk_at dksJ9_hugeLength_0 4 rfl rfl)
theorem dJ9_hugeLength_5 : decode cJ9_hugeLength 5 = .ok (.ifCond .ge 44, 3) := dk_156 0 44 (dk_at dksJ9_hugeLength_0 5 rfl rfl)
theorem dJ9_hugeLength_8 : decode cJ9_hugeLength 8 = .ok (.new 204, 3) := dk_187 0 204 (dk_at dksJ9_hugeLength_0 8 rfl rfl)
theorem dJ9_hugeLength_11 : decode cJ9_hugeLength 11 = .ok (.dup, 1) := dk_89 (dk_at dksJ9_hugeLength_0 11 rfl rfl)
theorem dJ9_hugeLength_12 : decode cJ9_hugeLength 12 = .ok (.new 89, 3) := dk_187 0 89 (dk_at dksJ9_hugeLength_0 12 rfl rfl)
theorem dJ9_hugeLength_15 : decode cJ9_hugeLength 15 = .ok (.dup, 1) := dk_89 (dk_at dksJ9_hugeLength_0 15 rfl rfl)
theorem dJ9_hugeLength_16 : decode cJ9_hugeLength 16 = .ok (.invokespecial 91, 3) := dk_183 0 91 (dk_at dksJ9_hugeLength_0 16 rfl rfl)
theorem dJ9_hugeLength_19 : decode cJ9_hugeLength 19 = .ok (.ldc 206, 2) := dk_18 206 (dk_at dksJ9_hugeLength_0 19 rfl rfl)
theorem dJ9_hugeLength_21 : decode cJ9_hugeLength 21 = .ok (.invokevirtual 94, 3) := dk_182 0 94 (dk_at dksJ9_hugeLength_0 21 rfl rfl)
theorem dJ9_hugeLength_24 : decode cJ9_hugeLength 24 = .ok (.iload_n 0, 1) := dk_26 (dk_at dksJ9_hugeLength_1 0 rfl rfl)
theorem dJ9_hugeLength_25 : decode cJ9_hugeLength 25 = .ok (.invokevirtual 98, 3) := dk_182 0 98 (dk_at dksJ9_hugeLength_1 1 rfl rfl)
theorem dJ9_hugeLength_28 : decode cJ9_hugeLength 28 = .ok (.ldc 208, 2) := dk_18 208 (dk_at dksJ9_hugeLength_1 4 rfl rfl)
theorem dJ9_hugeLength_30 : decode cJ9_hugeLength 30 = .ok (.invokevirtual 94, 3) := dk_182 0 94 (dk_at dksJ9_hugeLength_1 6 rfl rfl)
theorem dJ9_hugeLength_33 : decode cJ9_hugeLength 33 = .ok (.iload_n 1, 1) := dk_27 (dk_at dksJ9_hugeLength_1 9 rfl rfl)
theorem dJ9_hugeLength_34 : decode cJ9_hugeLength 34 = .ok (.invokevirtual 98, 3) := dk_182 0 98 (dk_at dksJ9_hugeLength_1 10 rfl rfl)
theorem dJ9_hugeLength_37 : decode cJ9_hugeLength 37 = .ok (.ldc 210, 2) := dk_18 210 (dk_at dksJ9_hugeLength_1 13 rfl rfl)
theorem dJ9_hugeLength_39 : decode cJ9_hugeLength 39 = .ok (.invokevirtual 94, 3) := dk_182 0 94 (dk_at dksJ9_hugeLength_1 15 rfl rfl)
theorem dJ9_hugeLength_42 : decode cJ9_hugeLength 42 = .ok (.invokevirtual 101, 3) := dk_182 0 101 (dk_at dksJ9_hugeLength_1 18 rfl rfl)
theorem dJ9_hugeLength_45 : decode cJ9_hugeLength 45 = .ok (.invokespecial 212, 3) := dk_183 0 212 (dk_at dksJ9_hugeLength_1 21 rfl rfl)
theorem dJ9_hugeLength_48 : decode cJ9_hugeLength 48 = .ok (.athrow, 1) := dk_191 (dk_at dksJ9_hugeLength_2 0 rfl rfl)
theorem dJ9_hugeLength_49 : decode cJ9_hugeLength 49 = .ok (.iload_n 2, 1) := dk_28 (dk_at dksJ9_hugeLength_2 1 rfl rfl)
theorem dJ9_hugeLength_50 : decode cJ9_hugeLength 50 = .ok (.ldc 200, 2) := dk_18 200 (dk_at dksJ9_hugeLength_2 2 rfl rfl)
theorem dJ9_hugeLength_52 : decode cJ9_hugeLength 52 = .ok (.if_icmp .gt 6, 3) := dk_163 0 6 (dk_at dksJ9_hugeLength_2 4 rfl rfl)
theorem dJ9_hugeLength_55 : decode cJ9_hugeLength 55 = .ok (.ldc 200, 2) := dk_18 200 (dk_at dksJ9_hugeLength_2 7 rfl rfl)
theorem dJ9_hugeLength_57 : decode cJ9_hugeLength 57 = .ok (.ireturn, 1) := dk_172 (dk_at dksJ9_hugeLength_2 9 rfl rfl)
theorem dJ9_hugeLength_58 : decode cJ9_hugeLength 58 = .ok (.iload_n 2, 1) := dk_28 (dk_at dksJ9_hugeLength_2 10 rfl rfl)
theorem dJ9_hugeLength_59 : decode cJ9_hugeLength 59 = .ok (.ireturn, 1) := dk_172 (dk_at dksJ9_hugeLength_2 11 rfl rfl)
theorem q41 : (Jvm.Cond.initialized "jdk/internal/util/ArraysSupport") ∈ lw_all := lw_g (lw_at lw_m1 13 rfl) rfl
theorem q244 : (Jvm.Cond.static ({ cls := "jdk/internal/util/ArraysSupport", name := "newLength", desc := "(III)I" } : Jvm.MethodName)) ∈ lw_all := lw_g (lw_at lw_m1 216 rfl) rfl
theorem q245 : (Jvm.Cond.code ({ cls := "jdk/internal/util/ArraysSupport", name := "newLength", desc := "(III)I" } : Jvm.MethodName) prog_31_method_27_code (4 : Nat) (Option.some Jvm.ClassFile.FieldType.int)) ∈ lw_all := lw_g (lw_at lw_m1 217 rfl) rfl
theorem q246 : (Jvm.Cond.methodLink "jdk/internal/util/ArraysSupport" (194 : Nat) ({ cls := "java/lang/Math", name := "max", desc := "(II)I" } : Jvm.MethodName)) ∈ lw_all := lw_g (lw_at lw_m1 218 rfl) rfl
theorem q249 : (Jvm.Cond.constant "jdk/internal/util/ArraysSupport" (200 : Nat) (2147483639 : Int32)) ∈ lw_all := lw_g (lw_at lw_m1 221 rfl) rfl
theorem q250 : (Jvm.Cond.methodLink "jdk/internal/util/ArraysSupport" (201 : Nat) ({ cls := "jdk/internal/util/ArraysSupport", name := "hugeLength", desc := "(II)I" } : Jvm.MethodName)) ∈ lw_all := lw_g (lw_at lw_m1 222 rfl) rfl
theorem q251 : (Jvm.Cond.static ({ cls := "jdk/internal/util/ArraysSupport", name := "hugeLength", desc := "(II)I" } : Jvm.MethodName)) ∈ lw_all := lw_g (lw_at lw_m1 223 rfl) rfl
theorem q252 : (Jvm.Cond.code ({ cls := "jdk/internal/util/ArraysSupport", name := "hugeLength", desc := "(II)I" } : Jvm.MethodName) prog_31_method_28_code (3 : Nat) (Option.some Jvm.ClassFile.FieldType.int)) ∈ lw_all := lw_g (lw_at lw_m1 224 rfl) rfl
/-! LinkResolver$Title -/
set_option maxRecDepth 100000
def RX3 : String := "LinkResolver$Title"
def TX3 : u_T := fun k => match k with
  | 0 => ("LinkResolver$Title", "firstYear", "I", true)
  | _ => ("LinkResolver$Title", "volumes", "I", true)
def tyX3 : Nat → FieldType := fun k => match k with
  | 0 => .int
  | _ => .int
abbrev wsX30 : List Cond := u_ws RX3 TX3 2
theorem nmX3 : ∀ a, a < 2 → ∀ b, b < 2 → a ≠ b → (TX3 a).2.1 ≠ (TX3 b).2.1 := by decide +kernel
theorem tyX3_ok : ∀ k, k < 2 → parseFieldDescriptor (TX3 k).2.2.1 = some (tyX3 k) := by decide +kernel
abbrev cX3_init : ByteArray := prog_5_method_1_code
def yX3_init : MethodName := ⟨RX3, "<init>", "(II)V"⟩
def dkwX3_init_0 : List UInt8 := [42, 183, 0, 1, 42, 27, 181, 0, 7, 42, 28, 181, 0, 13, 177]
abbrev dktX3_init_0 : List UInt8 := dkwX3_init_0 ++ []
theorem dksX3_init_0 : cX3_init.data.toList.drop 0 = dktX3_init_0 := by decide +kernel
theorem dX3_init_0 : decode cX3_init 0 = .ok (.aload_n 0, 1) := dk_42 (dk_at dksX3_init_0 0 rfl rfl)
theorem dX3_init_1 : decode cX3_init 1 = .ok (.invokespecial 1, 3) := dk_183 0 1 (dk_at dksX3_init_0 1 rfl rfl)
theorem dX3_init_4 : decode cX3_init 4 = .ok (.aload_n 0, 1) := dk_42 (dk_at dksX3_init_0 4 rfl rfl)
theorem dX3_init_5 : decode cX3_init 5 = .ok (.iload_n 1, 1) := dk_27 (dk_at dksX3_init_0 5 rfl rfl)
theorem dX3_init_6 : decode cX3_init 6 = .ok (.putfield 7, 3) := dk_181 0 7 (dk_at dksX3_init_0 6 rfl rfl)
theorem dX3_init_9 : decode cX3_init 9 = .ok (.aload_n 0, 1) := dk_42 (dk_at dksX3_init_0 9 rfl rfl)
theorem dX3_init_10 : decode cX3_init 10 = .ok (.iload_n 2, 1) := dk_28 (dk_at dksX3_init_0 10 rfl rfl)
theorem dX3_init_11 : decode cX3_init 11 = .ok (.putfield 13, 3) := dk_181 0 13 (dk_at dksX3_init_0 11 rfl rfl)
theorem dX3_init_14 : decode cX3_init 14 = .ok (.return_, 1) := dk_177 (dk_at dksX3_init_0 14 rfl rfl)
abbrev cX3_volumes : ByteArray := prog_5_method_6_code
def yX3_volumes : MethodName := ⟨RX3, "volumes", "()I"⟩
theorem dX3_volumes_0 : decode cX3_volumes 0 = .ok (.aload_n 0, 1) := by decide +kernel
theorem dX3_volumes_1 : decode cX3_volumes 1 = .ok (.getfield 13, 3) := by decide +kernel
theorem dX3_volumes_4 : decode cX3_volumes 4 = .ok (.ireturn, 1) := by decide +kernel
abbrev cX3_firstYear : ByteArray := prog_5_method_5_code
def yX3_firstYear : MethodName := ⟨RX3, "firstYear", "()I"⟩
theorem dX3_firstYear_0 : decode cX3_firstYear 0 = .ok (.aload_n 0, 1) := by decide +kernel
theorem dX3_firstYear_1 : decode cX3_firstYear 1 = .ok (.getfield 7, 3) := by decide +kernel
theorem dX3_firstYear_4 : decode cX3_firstYear 4 = .ok (.ireturn, 1) := by decide +kernel
theorem q40 : (Jvm.Cond.initialized "LinkResolver$Title") ∈ lw_all := lw_g (lw_at lw_m1 12 rfl) rfl
theorem q207 : (Jvm.Cond.instantiable "LinkResolver$Title" (2 : Nat)) ∈ lw_all := lw_g (lw_at lw_m1 179 rfl) rfl
theorem q209 : (Jvm.Cond.instanceMethod ({ cls := "LinkResolver$Title", name := "<init>", desc := "(II)V" } : Jvm.MethodName)) ∈ lw_all := lw_g (lw_at lw_m1 181 rfl) rfl
theorem q210 : (Jvm.Cond.code ({ cls := "LinkResolver$Title", name := "<init>", desc := "(II)V" } : Jvm.MethodName) prog_5_method_1_code (3 : Nat) (Option.none : Option Jvm.ClassFile.FieldType)) ∈ lw_all := lw_g (lw_at lw_m1 182 rfl) rfl
theorem q211 : (Jvm.Cond.methodLink "LinkResolver$Title" (1 : Nat) ({ cls := "java/lang/Record", name := "<init>", desc := "()V" } : Jvm.MethodName)) ∈ lw_all := lw_g (lw_at lw_m1 183 rfl) rfl
theorem q215 : (Jvm.Cond.fieldLink "LinkResolver$Title" (7 : Nat) "LinkResolver$Title" "firstYear" "I") ∈ lw_all := lw_g (lw_at lw_m1 187 rfl) rfl
theorem q216 : (Jvm.Cond.fieldLink "LinkResolver$Title" (13 : Nat) "LinkResolver$Title" "volumes" "I") ∈ lw_all := lw_g (lw_at lw_m1 188 rfl) rfl
theorem q217 : (Jvm.Cond.laysFinal "LinkResolver$Title" "LinkResolver$Title" "firstYear" "I") ∈ lw_all := lw_g (lw_at lw_m1 189 rfl) rfl
theorem q218 : (Jvm.Cond.soleField "LinkResolver$Title" "firstYear") ∈ lw_all := lw_g (lw_at lw_m1 190 rfl) rfl
theorem q219 : (Jvm.Cond.laysFinal "LinkResolver$Title" "LinkResolver$Title" "volumes" "I") ∈ lw_all := lw_g (lw_at lw_m1 191 rfl) rfl
theorem q220 : (Jvm.Cond.soleField "LinkResolver$Title" "volumes") ∈ lw_all := lw_g (lw_at lw_m1 192 rfl) rfl
theorem q221 : (Jvm.Cond.superclass "LinkResolver$Title" "java/lang/Record") ∈ lw_all := lw_g (lw_at lw_m1 193 rfl) rfl
theorem q263 : (Jvm.Cond.selects "LinkResolver$Title" ({ cls := "java/lang/Object", name := "getClass", desc := "()Ljava/lang/Class;" } : Jvm.MethodName) ({ cls := "java/lang/Object", name := "getClass", desc := "()Ljava/lang/Class;" } : Jvm.MethodName)) ∈ lw_all := lw_g (lw_at lw_m1 235 rfl) rfl
theorem q367 : (Jvm.Cond.instanceMethod ({ cls := "LinkResolver$Title", name := "volumes", desc := "()I" } : Jvm.MethodName)) ∈ lw_all := lw_g (lw_at lw_m2 99 rfl) rfl
theorem q368 : (Jvm.Cond.selects "LinkResolver$Title" ({ cls := "LinkResolver$Title", name := "volumes", desc := "()I" } : Jvm.MethodName) ({ cls := "LinkResolver$Title", name := "volumes", desc := "()I" } : Jvm.MethodName)) ∈ lw_all := lw_g (lw_at lw_m2 100 rfl) rfl
theorem q369 : (Jvm.Cond.code ({ cls := "LinkResolver$Title", name := "volumes", desc := "()I" } : Jvm.MethodName) prog_5_method_6_code (1 : Nat) (Option.some Jvm.ClassFile.FieldType.int)) ∈ lw_all := lw_g (lw_at lw_m2 101 rfl) rfl
theorem q371 : (Jvm.Cond.instanceMethod ({ cls := "LinkResolver$Title", name := "firstYear", desc := "()I" } : Jvm.MethodName)) ∈ lw_all := lw_g (lw_at lw_m2 103 rfl) rfl
theorem q372 : (Jvm.Cond.selects "LinkResolver$Title" ({ cls := "LinkResolver$Title", name := "firstYear", desc := "()I" } : Jvm.MethodName) ({ cls := "LinkResolver$Title", name := "firstYear", desc := "()I" } : Jvm.MethodName)) ∈ lw_all := lw_g (lw_at lw_m2 104 rfl) rfl
theorem q373 : (Jvm.Cond.code ({ cls := "LinkResolver$Title", name := "firstYear", desc := "()I" } : Jvm.MethodName) prog_5_method_5_code (1 : Nat) (Option.some Jvm.ClassFile.FieldType.int)) ∈ lw_all := lw_g (lw_at lw_m2 105 rfl) rfl
theorem q875 : (Jvm.Cond.castable "LinkResolver$Title" "java/lang/Object") ∈ lw_tbl := lw_at lw_m4 127 rfl
theorem in_X3 : ∀ w ∈ wsX30, w ∈ lw_all := lw_in wsX30 [217, 219] (by decide +kernel) (by decide +kernel)
/-! LinkResolver$Subscription -/
set_option maxRecDepth 100000
def RX5 : String := "LinkResolver$Subscription"
def TX5 : u_T := fun k => match k with
  | 0 => ("LinkResolver$Subscription", "day", "I", true)
  | _ => ("LinkResolver$Subscription", "isOn", "Z", true)
def tyX5 : Nat → FieldType := fun k => match k with
  | 0 => .int
  | _ => .boolean
abbrev wsX50 : List Cond := u_ws RX5 TX5 2
theorem nmX5 : ∀ a, a < 2 → ∀ b, b < 2 → a ≠ b → (TX5 a).2.1 ≠ (TX5 b).2.1 := by decide +kernel
theorem tyX5_ok : ∀ k, k < 2 → parseFieldDescriptor (TX5 k).2.2.1 = some (tyX5 k) := by decide +kernel
abbrev cX5_day : ByteArray := prog_4_method_5_code
def yX5_day : MethodName := ⟨RX5, "day", "()I"⟩
theorem dX5_day_0 : decode cX5_day 0 = .ok (.aload_n 0, 1) := by decide +kernel
theorem dX5_day_1 : decode cX5_day 1 = .ok (.getfield 7, 3) := by decide +kernel
theorem dX5_day_4 : decode cX5_day 4 = .ok (.ireturn, 1) := by decide +kernel
abbrev cX5_isOn : ByteArray := prog_4_method_6_code
def yX5_isOn : MethodName := ⟨RX5, "isOn", "()Z"⟩
theorem dX5_isOn_0 : decode cX5_isOn 0 = .ok (.aload_n 0, 1) := by decide +kernel
theorem dX5_isOn_1 : decode cX5_isOn 1 = .ok (.getfield 13, 3) := by decide +kernel
theorem dX5_isOn_4 : decode cX5_isOn 4 = .ok (.ireturn, 1) := by decide +kernel
abbrev cX5_init : ByteArray := prog_4_method_1_code
def yX5_init : MethodName := ⟨RX5, "<init>", "(IZ)V"⟩
def dkwX5_init_0 : List UInt8 := [42, 183, 0, 1, 42, 27, 181, 0, 7, 42, 28, 181, 0, 13, 177]
abbrev dktX5_init_0 : List UInt8 := dkwX5_init_0 ++ []
theorem dksX5_init_0 : cX5_init.data.toList.drop 0 = dktX5_init_0 := by decide +kernel
theorem dX5_init_0 : decode cX5_init 0 = .ok (.aload_n 0, 1) := dk_42 (dk_at dksX5_init_0 0 rfl rfl)
theorem dX5_init_1 : decode cX5_init 1 = .ok (.invokespecial 1, 3) := dk_183 0 1 (dk_at dksX5_init_0 1 rfl rfl)
theorem dX5_init_4 : decode cX5_init 4 = .ok (.aload_n 0, 1) := dk_42 (dk_at dksX5_init_0 4 rfl rfl)
theorem dX5_init_5 : decode cX5_init 5 = .ok (.iload_n 1, 1) := dk_27 (dk_at dksX5_init_0 5 rfl rfl)
theorem dX5_init_6 : decode cX5_init 6 = .ok (.putfield 7, 3) := dk_181 0 7 (dk_at dksX5_init_0 6 rfl rfl)
theorem dX5_init_9 : decode cX5_init 9 = .ok (.aload_n 0, 1) := dk_42 (dk_at dksX5_init_0 9 rfl rfl)
theorem dX5_init_10 : decode cX5_init 10 = .ok (.iload_n 2, 1) := dk_28 (dk_at dksX5_init_0 10 rfl rfl)
theorem dX5_init_11 : decode cX5_init 11 = .ok (.putfield 13, 3) := dk_181 0 13 (dk_at dksX5_init_0 11 rfl rfl)
theorem dX5_init_14 : decode cX5_init 14 = .ok (.return_, 1) := dk_177 (dk_at dksX5_init_0 14 rfl rfl)
theorem q51 : (Jvm.Cond.initialized "LinkResolver$Subscription") ∈ lw_all := lw_g (lw_at lw_m1 23 rfl) rfl
theorem q262 : (Jvm.Cond.selects "LinkResolver$Subscription" ({ cls := "java/lang/Object", name := "getClass", desc := "()Ljava/lang/Class;" } : Jvm.MethodName) ({ cls := "java/lang/Object", name := "getClass", desc := "()Ljava/lang/Class;" } : Jvm.MethodName)) ∈ lw_all := lw_g (lw_at lw_m1 234 rfl) rfl
theorem q448 : (Jvm.Cond.instanceMethod ({ cls := "LinkResolver$Subscription", name := "day", desc := "()I" } : Jvm.MethodName)) ∈ lw_all := lw_g (lw_at lw_m2 180 rfl) rfl
theorem q449 : (Jvm.Cond.selects "LinkResolver$Subscription" ({ cls := "LinkResolver$Subscription", name := "day", desc := "()I" } : Jvm.MethodName) ({ cls := "LinkResolver$Subscription", name := "day", desc := "()I" } : Jvm.MethodName)) ∈ lw_all := lw_g (lw_at lw_m2 181 rfl) rfl
theorem q450 : (Jvm.Cond.code ({ cls := "LinkResolver$Subscription", name := "day", desc := "()I" } : Jvm.MethodName) prog_4_method_5_code (1 : Nat) (Option.some Jvm.ClassFile.FieldType.int)) ∈ lw_all := lw_g (lw_at lw_m2 182 rfl) rfl
theorem q452 : (Jvm.Cond.instanceMethod ({ cls := "LinkResolver$Subscription", name := "isOn", desc := "()Z" } : Jvm.MethodName)) ∈ lw_all := lw_g (lw_at lw_m2 184 rfl) rfl
theorem q453 : (Jvm.Cond.selects "LinkResolver$Subscription" ({ cls := "LinkResolver$Subscription", name := "isOn", desc := "()Z" } : Jvm.MethodName) ({ cls := "LinkResolver$Subscription", name := "isOn", desc := "()Z" } : Jvm.MethodName)) ∈ lw_all := lw_g (lw_at lw_m2 185 rfl) rfl
theorem q454 : (Jvm.Cond.code ({ cls := "LinkResolver$Subscription", name := "isOn", desc := "()Z" } : Jvm.MethodName) prog_4_method_6_code (1 : Nat) (Option.some Jvm.ClassFile.FieldType.boolean)) ∈ lw_all := lw_g (lw_at lw_m2 186 rfl) rfl
theorem q456 : (Jvm.Cond.instantiable "LinkResolver$Subscription" (2 : Nat)) ∈ lw_all := lw_g (lw_at lw_m2 188 rfl) rfl
theorem q458 : (Jvm.Cond.instanceMethod ({ cls := "LinkResolver$Subscription", name := "<init>", desc := "(IZ)V" } : Jvm.MethodName)) ∈ lw_all := lw_g (lw_at lw_m2 190 rfl) rfl
theorem q459 : (Jvm.Cond.code ({ cls := "LinkResolver$Subscription", name := "<init>", desc := "(IZ)V" } : Jvm.MethodName) prog_4_method_1_code (3 : Nat) (Option.none : Option Jvm.ClassFile.FieldType)) ∈ lw_all := lw_g (lw_at lw_m2 191 rfl) rfl
theorem q460 : (Jvm.Cond.methodLink "LinkResolver$Subscription" (1 : Nat) ({ cls := "java/lang/Record", name := "<init>", desc := "()V" } : Jvm.MethodName)) ∈ lw_all := lw_g (lw_at lw_m2 192 rfl) rfl
theorem q461 : (Jvm.Cond.fieldLink "LinkResolver$Subscription" (7 : Nat) "LinkResolver$Subscription" "day" "I") ∈ lw_all := lw_g (lw_at lw_m2 193 rfl) rfl
theorem q462 : (Jvm.Cond.fieldLink "LinkResolver$Subscription" (13 : Nat) "LinkResolver$Subscription" "isOn" "Z") ∈ lw_all := lw_g (lw_at lw_m2 194 rfl) rfl
theorem q463 : (Jvm.Cond.laysFinal "LinkResolver$Subscription" "LinkResolver$Subscription" "day" "I") ∈ lw_all := lw_g (lw_at lw_m2 195 rfl) rfl
theorem q464 : (Jvm.Cond.soleField "LinkResolver$Subscription" "day") ∈ lw_all := lw_g (lw_at lw_m2 196 rfl) rfl
theorem q465 : (Jvm.Cond.laysFinal "LinkResolver$Subscription" "LinkResolver$Subscription" "isOn" "Z") ∈ lw_all := lw_g (lw_at lw_m2 197 rfl) rfl
theorem q466 : (Jvm.Cond.soleField "LinkResolver$Subscription" "isOn") ∈ lw_all := lw_g (lw_at lw_m2 198 rfl) rfl
theorem q467 : (Jvm.Cond.superclass "LinkResolver$Subscription" "java/lang/Record") ∈ lw_all := lw_g (lw_at lw_m2 199 rfl) rfl
theorem q879 : (Jvm.Cond.castable "LinkResolver$Subscription" "java/lang/Object") ∈ lw_tbl := lw_at lw_m4 131 rfl
theorem in_X5 : ∀ w ∈ wsX50, w ∈ lw_all := lw_in wsX50 [463, 465] (by decide +kernel) (by decide +kernel)
/-! LinkResolver$Holding -/
set_option maxRecDepth 100000
def RX6 : String := "LinkResolver$Holding"
def TX6 : u_T := fun k => match k with
  | 0 => ("LinkResolver$Holding", "day", "I", true)
  | 1 => ("LinkResolver$Holding", "isIn", "Z", true)
  | 2 => ("LinkResolver$Holding", "first", "I", true)
  | 3 => ("LinkResolver$Holding", "last", "I", true)
  | _ => ("LinkResolver$Holding", "wall", "I", true)
def tyX6 : Nat → FieldType := fun k => match k with
  | 0 => .int
  | 1 => .boolean
  | 2 => .int
  | 3 => .int
  | _ => .int
abbrev wsX60 : List Cond := u_ws RX6 TX6 5
theorem nmX6 : ∀ a, a < 5 → ∀ b, b < 5 → a ≠ b → (TX6 a).2.1 ≠ (TX6 b).2.1 := by decide +kernel
theorem tyX6_ok : ∀ k, k < 5 → parseFieldDescriptor (TX6 k).2.2.1 = some (tyX6 k) := by decide +kernel
abbrev cX6_day : ByteArray := prog_2_method_6_code
def yX6_day : MethodName := ⟨RX6, "day", "()I"⟩
theorem dX6_day_0 : decode cX6_day 0 = .ok (.aload_n 0, 1) := by decide +kernel
theorem dX6_day_1 : decode cX6_day 1 = .ok (.getfield 7, 3) := by decide +kernel
theorem dX6_day_4 : decode cX6_day 4 = .ok (.ireturn, 1) := by decide +kernel
abbrev cX6_isIn : ByteArray := prog_2_method_7_code
def yX6_isIn : MethodName := ⟨RX6, "isIn", "()Z"⟩
theorem dX6_isIn_0 : decode cX6_isIn 0 = .ok (.aload_n 0, 1) := by decide +kernel
theorem dX6_isIn_1 : decode cX6_isIn 1 = .ok (.getfield 13, 3) := by decide +kernel
theorem dX6_isIn_4 : decode cX6_isIn 4 = .ok (.ireturn, 1) := by decide +kernel
abbrev cX6_init : ByteArray := prog_2_method_1_code
def yX6_init : MethodName := ⟨RX6, "<init>", "(IZIII)V"⟩
def dkwX6_init_1 : List UInt8 := [181, 0, 20, 42, 21, 5, 181, 0, 23, 177]
abbrev dktX6_init_1 : List UInt8 := dkwX6_init_1 ++ []
def dkwX6_init_0 : List UInt8 := [42, 183, 0, 1, 42, 27, 181, 0, 7, 42, 28, 181, 0, 13, 42, 29, 181, 0, 17, 42, 21, 4]
abbrev dktX6_init_0 : List UInt8 := dkwX6_init_0 ++ dktX6_init_1
theorem dksX6_init_0 : cX6_init.data.toList.drop 0 = dktX6_init_0 := by decide +kernel
theorem dksX6_init_1 : cX6_init.data.toList.drop 22 = dktX6_init_1 := dk_seg dksX6_init_0 22 rfl rfl
theorem dX6_init_0 : decode cX6_init 0 = .ok (.aload_n 0, 1) := dk_42 (dk_at dksX6_init_0 0 rfl rfl)
theorem dX6_init_1 : decode cX6_init 1 = .ok (.invokespecial 1, 3) := dk_183 0 1 (dk_at dksX6_init_0 1 rfl rfl)
theorem dX6_init_4 : decode cX6_init 4 = .ok (.aload_n 0, 1) := dk_42 (dk_at dksX6_init_0 4 rfl rfl)
theorem dX6_init_5 : decode cX6_init 5 = .ok (.iload_n 1, 1) := dk_27 (dk_at dksX6_init_0 5 rfl rfl)
theorem dX6_init_6 : decode cX6_init 6 = .ok (.putfield 7, 3) := dk_181 0 7 (dk_at dksX6_init_0 6 rfl rfl)
theorem dX6_init_9 : decode cX6_init 9 = .ok (.aload_n 0, 1) := dk_42 (dk_at dksX6_init_0 9 rfl rfl)
theorem dX6_init_10 : decode cX6_init 10 = .ok (.iload_n 2, 1) := dk_28 (dk_at dksX6_init_0 10 rfl rfl)
theorem dX6_init_11 : decode cX6_init 11 = .ok (.putfield 13, 3) := dk_181 0 13 (dk_at dksX6_init_0 11 rfl rfl)
theorem dX6_init_14 : decode cX6_init 14 = .ok (.aload_n 0, 1) := dk_42 (dk_at dksX6_init_0 14 rfl rfl)
theorem dX6_init_15 : decode cX6_init 15 = .ok (.iload_n 3, 1) := dk_29 (dk_at dksX6_init_0 15 rfl rfl)
theorem dX6_init_16 : decode cX6_init 16 = .ok (.putfield 17, 3) := dk_181 0 17 (dk_at dksX6_init_0 16 rfl rfl)
theorem dX6_init_19 : decode cX6_init 19 = .ok (.aload_n 0, 1) := dk_42 (dk_at dksX6_init_0 19 rfl rfl)
theorem dX6_init_20 : decode cX6_init 20 = .ok (.iload 4, 2) := dk_21 4 (dk_at dksX6_init_0 20 rfl rfl)
theorem dX6_init_22 : decode cX6_init 22 = .ok (.putfield 20, 3) := dk_181 0 20 (dk_at dksX6_init_1 0 rfl rfl)
theorem dX6_init_25 : decode cX6_init 25 = .ok (.aload_n 0, 1) := dk_42 (dk_at dksX6_init_1 3 rfl rfl)
theorem dX6_init_26 : decode cX6_init 26 = .ok (.iload 5, 2) := dk_21 5 (dk_at dksX6_init_1 4 rfl rfl)
theorem dX6_init_28 : decode cX6_init 28 = .ok (.putfield 23, 3) := dk_181 0 23 (dk_at dksX6_init_1 6 rfl rfl)
theorem dX6_init_31 : decode cX6_init 31 = .ok (.return_, 1) := dk_177 (dk_at dksX6_init_1 9 rfl rfl)
abbrev cX6_hasYear : ByteArray := prog_2_method_2_code
def yX6_hasYear : MethodName := ⟨RX6, "hasYear", "(I)Z"⟩
def dkwX6_hasYear_1 : List UInt8 := [167, 0, 4, 3, 172]
abbrev dktX6_hasYear_1 : List UInt8 := dkwX6_hasYear_1 ++ []
def dkwX6_hasYear_0 : List UInt8 := [42, 180, 0, 13, 153, 0, 23, 27, 42, 180, 0, 17, 161, 0, 15, 27, 42, 180, 0, 20, 163, 0, 7, 4]
abbrev dktX6_hasYear_0 : List UInt8 := dkwX6_hasYear_0 ++ dktX6_hasYear_1
theorem dksX6_hasYear_0 : cX6_hasYear.data.toList.drop 0 = dktX6_hasYear_0 := by decide +kernel
theorem dksX6_hasYear_1 : cX6_hasYear.data.toList.drop 24 = dktX6_hasYear_1 := dk_seg dksX6_hasYear_0 24 rfl rfl
theorem dX6_hasYear_0 : decode cX6_hasYear 0 = .ok (.aload_n 0, 1) := dk_42 (dk_at dksX6_hasYear_0 0 rfl rfl)
theorem dX6_hasYear_1 : decode cX6_hasYear 1 = .ok (.getfield 13, 3) := dk_180 0 13 (dk_at dksX6_hasYear_0 1 rfl rfl)
theorem dX6_hasYear_4 : decode cX6_hasYear 4 = .ok (.ifCond .eq 23, 3) := dk_153 0 23 (dk_at dksX6_hasYear_0 4 rfl rfl)
theorem dX6_hasYear_7 : decode cX6_hasYear 7 = .ok (.iload_n 1, 1) := dk_27 (dk_at dksX6_hasYear_0 7 rfl rfl)
theorem dX6_hasYear_8 : decode cX6_hasYear 8 = .ok (.aload_n 0, 1) := dk_42 (dk_at dksX6_hasYear_0 8 rfl rfl)
theorem dX6_hasYear_9 : decode cX6_hasYear 9 = .ok (.getfield 17, 3) := dk_180 0 17 (dk_at dksX6_hasYear_0 9 rfl rfl)
theorem dX6_hasYear_12 : decode cX6_hasYear 12 = .ok (.if_icmp .lt 15, 3) := dk_161 0 15 (dk_at dksX6_hasYear_0 12 rfl rfl)
theorem dX6_hasYear_15 : decode cX6_hasYear 15 = .ok (.iload_n 1, 1) := dk_27 (dk_at dksX6_hasYear_0 15 rfl rfl)
theorem dX6_hasYear_16 : decode cX6_hasYear 16 = .ok (.aload_n 0, 1) := dk_42 (dk_at dksX6_hasYear_0 16 rfl rfl)
theorem dX6_hasYear_17 : decode cX6_hasYear 17 = .ok (.getfield 20, 3) := dk_180 0 20 (dk_at dksX6_hasYear_0 17 rfl rfl)
theorem dX6_hasYear_20 : decode cX6_hasYear 20 = .ok (.if_icmp .gt 7, 3) := dk_163 0 7 (dk_at dksX6_hasYear_0 20 rfl rfl)
theorem dX6_hasYear_23 : decode cX6_hasYear 23 = .ok (.iconst 1, 1) := dk_4 (dk_at dksX6_hasYear_0 23 rfl rfl)
theorem dX6_hasYear_24 : decode cX6_hasYear 24 = .ok (.goto 4, 3) := dk_167 0 4 (dk_at dksX6_hasYear_1 0 rfl rfl)
theorem dX6_hasYear_27 : decode cX6_hasYear 27 = .ok (.iconst 0, 1) := dk_3 (dk_at dksX6_hasYear_1 3 rfl rfl)
theorem dX6_hasYear_28 : decode cX6_hasYear 28 = .ok (.ireturn, 1) := dk_172 (dk_at dksX6_hasYear_1 4 rfl rfl)
abbrev cX6_wall : ByteArray := prog_2_method_10_code
def yX6_wall : MethodName := ⟨RX6, "wall", "()I"⟩
theorem dX6_wall_0 : decode cX6_wall 0 = .ok (.aload_n 0, 1) := by decide +kernel
theorem dX6_wall_1 : decode cX6_wall 1 = .ok (.getfield 23, 3) := by decide +kernel
theorem dX6_wall_4 : decode cX6_wall 4 = .ok (.ireturn, 1) := by decide +kernel
theorem q52 : (Jvm.Cond.initialized "LinkResolver$Holding") ∈ lw_all := lw_g (lw_at lw_m1 24 rfl) rfl
theorem q260 : (Jvm.Cond.selects "LinkResolver$Holding" ({ cls := "java/lang/Object", name := "getClass", desc := "()Ljava/lang/Class;" } : Jvm.MethodName) ({ cls := "java/lang/Object", name := "getClass", desc := "()Ljava/lang/Class;" } : Jvm.MethodName)) ∈ lw_all := lw_g (lw_at lw_m1 232 rfl) rfl
theorem q490 : (Jvm.Cond.instanceMethod ({ cls := "LinkResolver$Holding", name := "day", desc := "()I" } : Jvm.MethodName)) ∈ lw_all := lw_g (lw_at lw_m2 222 rfl) rfl
theorem q491 : (Jvm.Cond.selects "LinkResolver$Holding" ({ cls := "LinkResolver$Holding", name := "day", desc := "()I" } : Jvm.MethodName) ({ cls := "LinkResolver$Holding", name := "day", desc := "()I" } : Jvm.MethodName)) ∈ lw_all := lw_g (lw_at lw_m2 223 rfl) rfl
theorem q492 : (Jvm.Cond.code ({ cls := "LinkResolver$Holding", name := "day", desc := "()I" } : Jvm.MethodName) prog_2_method_6_code (1 : Nat) (Option.some Jvm.ClassFile.FieldType.int)) ∈ lw_all := lw_g (lw_at lw_m2 224 rfl) rfl
theorem q494 : (Jvm.Cond.instanceMethod ({ cls := "LinkResolver$Holding", name := "isIn", desc := "()Z" } : Jvm.MethodName)) ∈ lw_all := lw_g (lw_at lw_m2 226 rfl) rfl
theorem q495 : (Jvm.Cond.selects "LinkResolver$Holding" ({ cls := "LinkResolver$Holding", name := "isIn", desc := "()Z" } : Jvm.MethodName) ({ cls := "LinkResolver$Holding", name := "isIn", desc := "()Z" } : Jvm.MethodName)) ∈ lw_all := lw_g (lw_at lw_m2 227 rfl) rfl
theorem q496 : (Jvm.Cond.code ({ cls := "LinkResolver$Holding", name := "isIn", desc := "()Z" } : Jvm.MethodName) prog_2_method_7_code (1 : Nat) (Option.some Jvm.ClassFile.FieldType.boolean)) ∈ lw_all := lw_g (lw_at lw_m2 228 rfl) rfl
theorem q499 : (Jvm.Cond.instantiable "LinkResolver$Holding" (5 : Nat)) ∈ lw_all := lw_g (lw_at lw_m2 231 rfl) rfl
theorem q501 : (Jvm.Cond.instanceMethod ({ cls := "LinkResolver$Holding", name := "<init>", desc := "(IZIII)V" } : Jvm.MethodName)) ∈ lw_all := lw_g (lw_at lw_m2 233 rfl) rfl
theorem q502 : (Jvm.Cond.code ({ cls := "LinkResolver$Holding", name := "<init>", desc := "(IZIII)V" } : Jvm.MethodName) prog_2_method_1_code (6 : Nat) (Option.none : Option Jvm.ClassFile.FieldType)) ∈ lw_all := lw_g (lw_at lw_m2 234 rfl) rfl
theorem q503 : (Jvm.Cond.methodLink "LinkResolver$Holding" (1 : Nat) ({ cls := "java/lang/Record", name := "<init>", desc := "()V" } : Jvm.MethodName)) ∈ lw_all := lw_g (lw_at lw_m2 235 rfl) rfl
theorem q504 : (Jvm.Cond.fieldLink "LinkResolver$Holding" (7 : Nat) "LinkResolver$Holding" "day" "I") ∈ lw_all := lw_g (lw_at lw_m2 236 rfl) rfl
theorem q505 : (Jvm.Cond.fieldLink "LinkResolver$Holding" (13 : Nat) "LinkResolver$Holding" "isIn" "Z") ∈ lw_all := lw_g (lw_at lw_m2 237 rfl) rfl
theorem q506 : (Jvm.Cond.fieldLink "LinkResolver$Holding" (17 : Nat) "LinkResolver$Holding" "first" "I") ∈ lw_all := lw_g (lw_at lw_m2 238 rfl) rfl
theorem q507 : (Jvm.Cond.fieldLink "LinkResolver$Holding" (20 : Nat) "LinkResolver$Holding" "last" "I") ∈ lw_all := lw_g (lw_at lw_m2 239 rfl) rfl
theorem q508 : (Jvm.Cond.fieldLink "LinkResolver$Holding" (23 : Nat) "LinkResolver$Holding" "wall" "I") ∈ lw_all := lw_g (lw_at lw_m3 0 rfl) rfl
theorem q509 : (Jvm.Cond.laysFinal "LinkResolver$Holding" "LinkResolver$Holding" "day" "I") ∈ lw_all := lw_g (lw_at lw_m3 1 rfl) rfl
theorem q510 : (Jvm.Cond.soleField "LinkResolver$Holding" "day") ∈ lw_all := lw_g (lw_at lw_m3 2 rfl) rfl
theorem q511 : (Jvm.Cond.laysFinal "LinkResolver$Holding" "LinkResolver$Holding" "isIn" "Z") ∈ lw_all := lw_g (lw_at lw_m3 3 rfl) rfl
theorem q512 : (Jvm.Cond.soleField "LinkResolver$Holding" "isIn") ∈ lw_all := lw_g (lw_at lw_m3 4 rfl) rfl
theorem q513 : (Jvm.Cond.laysFinal "LinkResolver$Holding" "LinkResolver$Holding" "first" "I") ∈ lw_all := lw_g (lw_at lw_m3 5 rfl) rfl
theorem q514 : (Jvm.Cond.soleField "LinkResolver$Holding" "first") ∈ lw_all := lw_g (lw_at lw_m3 6 rfl) rfl
theorem q515 : (Jvm.Cond.laysFinal "LinkResolver$Holding" "LinkResolver$Holding" "last" "I") ∈ lw_all := lw_g (lw_at lw_m3 7 rfl) rfl
theorem q516 : (Jvm.Cond.soleField "LinkResolver$Holding" "last") ∈ lw_all := lw_g (lw_at lw_m3 8 rfl) rfl
theorem q517 : (Jvm.Cond.laysFinal "LinkResolver$Holding" "LinkResolver$Holding" "wall" "I") ∈ lw_all := lw_g (lw_at lw_m3 9 rfl) rfl
theorem q518 : (Jvm.Cond.soleField "LinkResolver$Holding" "wall") ∈ lw_all := lw_g (lw_at lw_m3 10 rfl) rfl
theorem q519 : (Jvm.Cond.superclass "LinkResolver$Holding" "java/lang/Record") ∈ lw_all := lw_g (lw_at lw_m3 11 rfl) rfl
theorem q589 : (Jvm.Cond.instanceMethod ({ cls := "LinkResolver$Holding", name := "hasYear", desc := "(I)Z" } : Jvm.MethodName)) ∈ lw_all := lw_g (lw_at lw_m3 81 rfl) rfl
theorem q590 : (Jvm.Cond.selects "LinkResolver$Holding" ({ cls := "LinkResolver$Holding", name := "hasYear", desc := "(I)Z" } : Jvm.MethodName) ({ cls := "LinkResolver$Holding", name := "hasYear", desc := "(I)Z" } : Jvm.MethodName)) ∈ lw_all := lw_g (lw_at lw_m3 82 rfl) rfl
theorem q591 : (Jvm.Cond.code ({ cls := "LinkResolver$Holding", name := "hasYear", desc := "(I)Z" } : Jvm.MethodName) prog_2_method_2_code (2 : Nat) (Option.some Jvm.ClassFile.FieldType.boolean)) ∈ lw_all := lw_g (lw_at lw_m3 83 rfl) rfl
theorem q594 : (Jvm.Cond.instanceMethod ({ cls := "LinkResolver$Holding", name := "wall", desc := "()I" } : Jvm.MethodName)) ∈ lw_all := lw_g (lw_at lw_m3 86 rfl) rfl
theorem q595 : (Jvm.Cond.selects "LinkResolver$Holding" ({ cls := "LinkResolver$Holding", name := "wall", desc := "()I" } : Jvm.MethodName) ({ cls := "LinkResolver$Holding", name := "wall", desc := "()I" } : Jvm.MethodName)) ∈ lw_all := lw_g (lw_at lw_m3 87 rfl) rfl
theorem q596 : (Jvm.Cond.code ({ cls := "LinkResolver$Holding", name := "wall", desc := "()I" } : Jvm.MethodName) prog_2_method_10_code (1 : Nat) (Option.some Jvm.ClassFile.FieldType.int)) ∈ lw_all := lw_g (lw_at lw_m3 88 rfl) rfl
theorem q880 : (Jvm.Cond.castable "LinkResolver$Holding" "java/lang/Object") ∈ lw_tbl := lw_at lw_m4 132 rfl
theorem in_X6 : ∀ w ∈ wsX60, w ∈ lw_all := lw_in wsX60 [509, 511, 513, 515, 517] (by decide +kernel) (by decide +kernel)
/-! LinkResolver$Package -/
set_option maxRecDepth 100000
def RX4 : String := "LinkResolver$Package"
def TX4 : u_T := fun k => match k with
  | 0 => ("LinkResolver$Package", "number", "I", true)
  | 1 => ("LinkResolver$Package", "cost", "I", true)
  | 2 => ("LinkResolver$Package", "version", "I", true)
  | 3 => ("LinkResolver$Package", "groups", "I", true)
  | 4 => ("LinkResolver$Package", "keeps", "Z", true)
  | 5 => ("LinkResolver$Package", "subscriptions", "Ljava/util/List;", true)
  | 6 => ("LinkResolver$Package", "holdings", "Ljava/util/List;", true)
  | _ => ("LinkResolver$Package", "breaks", "[I", true)
def tyX4 : Nat → FieldType := fun k => match k with
  | 0 => .int
  | 1 => .int
  | 2 => .int
  | 3 => .int
  | 4 => .boolean
  | 5 => .object "java/util/List"
  | 6 => .object "java/util/List"
  | _ => .array .int
abbrev wsX40 : List Cond := u_ws RX4 TX4 8
theorem nmX4 : ∀ a, a < 8 → ∀ b, b < 8 → a ≠ b → (TX4 a).2.1 ≠ (TX4 b).2.1 := by decide +kernel
theorem tyX4_ok : ∀ k, k < 8 → parseFieldDescriptor (TX4 k).2.2.1 = some (tyX4 k) := by decide +kernel
abbrev cX4_init : ByteArray := prog_3_method_1_code
def yX4_init : MethodName := ⟨RX4, "<init>", "(IIIIZ)V"⟩
def dkwX4_init_4 : List UInt8 := [167, 255, 229, 177]
abbrev dktX4_init_4 : List UInt8 := dkwX4_init_4 ++ []
def dkwX4_init_3 : List UInt8 := [162, 0, 26, 42, 180, 0, 18, 187, 0, 9, 89, 183, 0, 11, 185, 0, 42, 2, 0, 87, 132, 6, 1]
abbrev dktX4_init_3 : List UInt8 := dkwX4_init_3 ++ dktX4_init_4
def dkwX4_init_2 : List UInt8 := [181, 0, 32, 42, 21, 4, 181, 0, 35, 42, 21, 5, 181, 0, 38, 3, 54, 6, 21, 6, 16, 20]
abbrev dktX4_init_2 : List UInt8 := dkwX4_init_2 ++ dktX4_init_3
def dkwX4_init_1 : List UInt8 := [181, 0, 18, 42, 16, 20, 188, 10, 181, 0, 21, 42, 27, 181, 0, 25, 42, 28, 181, 0, 29, 42, 29]
abbrev dktX4_init_1 : List UInt8 := dkwX4_init_1 ++ dktX4_init_2
def dkwX4_init_0 : List UInt8 := [42, 183, 0, 3, 42, 187, 0, 9, 89, 183, 0, 11, 181, 0, 12, 42, 187, 0, 9, 89, 183, 0, 11]
abbrev dktX4_init_0 : List UInt8 := dkwX4_init_0 ++ dktX4_init_1
theorem dksX4_init_0 : cX4_init.data.toList.drop 0 = dktX4_init_0 := by decide +kernel
theorem dksX4_init_1 : cX4_init.data.toList.drop 23 = dktX4_init_1 := dk_seg dksX4_init_0 23 rfl rfl
theorem dksX4_init_2 : cX4_init.data.toList.drop 46 = dktX4_init_2 := dk_seg dksX4_init_1 23 rfl rfl
theorem dksX4_init_3 : cX4_init.data.toList.drop 68 = dktX4_init_3 := dk_seg dksX4_init_2 22 rfl rfl
theorem dksX4_init_4 : cX4_init.data.toList.drop 91 = dktX4_init_4 := dk_seg dksX4_init_3 23 rfl rfl
theorem dX4_init_0 : decode cX4_init 0 = .ok (.aload_n 0, 1) := dk_42 (dk_at dksX4_init_0 0 rfl rfl)
theorem dX4_init_1 : decode cX4_init 1 = .ok (.invokespecial 3, 3) := dk_183 0 3 (dk_at dksX4_init_0 1 rfl rfl)
theorem dX4_init_4 : decode cX4_init 4 = .ok (.aload_n 0, 1) := dk_42 (dk_at dksX4_init_0 4 rfl rfl)
theorem dX4_init_5 : decode cX4_init 5 = .ok (.new 9, 3) := dk_187 0 9 (dk_at dksX4_init_0 5 rfl rfl)
theorem dX4_init_8 : decode cX4_init 8 = .ok (.dup, 1) := dk_89 (dk_at dksX4_init_0 8 rfl rfl)
theorem dX4_init_9 : decode cX4_init 9 = .ok (.invokespecial 11, 3) := dk_183 0 11 (dk_at dksX4_init_0 9 rfl rfl)
theorem dX4_init_12 : decode cX4_init 12 = .ok (.putfield 12, 3) := dk_181 0 12 (dk_at dksX4_init_0 12 rfl rfl)
theorem dX4_init_15 : decode cX4_init 15 = .ok (.aload_n 0, 1) := dk_42 (dk_at dksX4_init_0 15 rfl rfl)
theorem dX4_init_16 : decode cX4_init 16 = .ok (.new 9, 3) := dk_187 0 9 (dk_at dksX4_init_0 16 rfl rfl)
theorem dX4_init_19 : decode cX4_init 19 = .ok (.dup, 1) := dk_89 (dk_at dksX4_init_0 19 rfl rfl)
theorem dX4_init_20 : decode cX4_init 20 = .ok (.invokespecial 11, 3) := dk_183 0 11 (dk_at dksX4_init_0 20 rfl rfl)
theorem dX4_init_23 : decode cX4_init 23 = .ok (.putfield 18, 3) := dk_181 0 18 (dk_at dksX4_init_1 0 rfl rfl)
theorem dX4_init_26 : decode cX4_init 26 = .ok (.aload_n 0, 1) := dk_42 (dk_at dksX4_init_1 3 rfl rfl)
theorem dX4_init_27 : decode cX4_init 27 = .ok (.bipush 20, 2) := dk_16 20 (dk_at dksX4_init_1 4 rfl rfl)
theorem dX4_init_29 : decode cX4_init 29 = .ok (.newarray .int, 2) := dk_188_10 (dk_at dksX4_init_1 6 rfl rfl)
theorem dX4_init_31 : decode cX4_init 31 = .ok (.putfield 21, 3) := dk_181 0 21 (dk_at dksX4_init_1 8 rfl rfl)
theorem dX4_init_34 : decode cX4_init 34 = .ok (.aload_n 0, 1) := dk_42 (dk_at dksX4_init_1 11 rfl rfl)
theorem dX4_init_35 : decode cX4_init 35 = .ok (.iload_n 1, 1) := dk_27 (dk_at dksX4_init_1 12 rfl rfl)
theorem dX4_init_36 : decode cX4_init 36 = .ok (.putfield 25, 3) := dk_181 0 25 (dk_at dksX4_init_1 13 rfl rfl)
theorem dX4_init_39 : decode cX4_init 39 = .ok (.aload_n 0, 1) := dk_42 (dk_at dksX4_init_1 16 rfl rfl)
theorem dX4_init_40 : decode cX4_init 40 = .ok (.iload_n 2, 1) := dk_28 (dk_at dksX4_init_1 17 rfl rfl)
theorem dX4_init_41 : decode cX4_init 41 = .ok (.putfield 29, 3) := dk_181 0 29 (dk_at dksX4_init_1 18 rfl rfl)
theorem dX4_init_44 : decode cX4_init 44 = .ok (.aload_n 0, 1) := dk_42 (dk_at dksX4_init_1 21 rfl rfl)
theorem dX4_init_45 : decode cX4_init 45 = .ok (.iload_n 3, 1) := dk_29 (dk_at dksX4_init_1 22 rfl rfl)
theorem dX4_init_46 : decode cX4_init 46 = .ok (.putfield 32, 3) := dk_181 0 32 (dk_at dksX4_init_2 0 rfl rfl)
theorem dX4_init_49 : decode cX4_init 49 = .ok (.aload_n 0, 1) := dk_42 (dk_at dksX4_init_2 3 rfl rfl)
theorem dX4_init_50 : decode cX4_init 50 = .ok (.iload 4, 2) := dk_21 4 (dk_at dksX4_init_2 4 rfl rfl)
theorem dX4_init_52 : decode cX4_init 52 = .ok (.putfield 35, 3) := dk_181 0 35 (dk_at dksX4_init_2 6 rfl rfl)
theorem dX4_init_55 : decode cX4_init 55 = .ok (.aload_n 0, 1) := dk_42 (dk_at dksX4_init_2 9 rfl rfl)
theorem dX4_init_56 : decode cX4_init 56 = .ok (.iload 5, 2) := dk_21 5 (dk_at dksX4_init_2 10 rfl rfl)
theorem dX4_init_58 : decode cX4_init 58 = .ok (.putfield 38, 3) := dk_181 0 38 (dk_at dksX4_init_2 12 rfl rfl)
theorem dX4_init_61 : decode cX4_init 61 = .ok (.iconst 0, 1) := dk_3 (dk_at dksX4_init_2 15 rfl rfl)
theorem dX4_init_62 : decode cX4_init 62 = .ok (.istore 6, 2) := dk_54 6 (dk_at dksX4_init_2 16 rfl rfl)
theorem dX4_init_64 : decode cX4_init 64 = .ok (.iload 6, 2) := dk_21 6 (dk_at dksX4_init_2 18 rfl rfl)
theorem dX4_init_66 : decode cX4_init 66 = .ok (.bipush 20, 2) := dk_16 20 (dk_at dksX4_init_2 20 rfl rfl)
theorem dX4_init_68 : decode cX4_init 68 = .ok (.if_icmp .ge 26, 3) := dk_162 0 26 (dk_at dksX4_init_3 0 rfl rfl)
theorem dX4_init_71 : decode cX4_init 71 = .ok (.aload_n 0, 1) := dk_42 (dk_at dksX4_init_3 3 rfl rfl)
theorem dX4_init_72 : decode cX4_init 72 = .ok (.getfield 18, 3) := dk_180 0 18 (dk_at dksX4_init_3 4 rfl rfl)
theorem dX4_init_75 : decode cX4_init 75 = .ok (.new 9, 3) := dk_187 0 9 (dk_at dksX4_init_3 7 rfl rfl)
theorem dX4_init_78 : decode cX4_init 78 = .ok (.dup, 1) := dk_89 (dk_at dksX4_init_3 10 rfl rfl)
theorem dX4_init_79 : decode cX4_init 79 = .ok (.invokespecial 11, 3) := dk_183 0 11 (dk_at dksX4_init_3 11 rfl rfl)
theorem dX4_init_82 : decode cX4_init 82 = .ok (.invokeinterface 42 2, 5) := by decide +kernel
theorem dX4_init_87 : decode cX4_init 87 = .ok (.pop, 1) := dk_87 (dk_at dksX4_init_3 19 rfl rfl)
theorem dX4_init_88 : decode cX4_init 88 = .ok (.iinc 6 1, 3) := dk_132 6 1 (dk_at dksX4_init_3 20 rfl rfl)
theorem dX4_init_91 : decode cX4_init 91 = .ok (.goto (-27), 3) := dk_167 255 229 (dk_at dksX4_init_4 0 rfl rfl)
theorem dX4_init_94 : decode cX4_init 94 = .ok (.return_, 1) := dk_177 (dk_at dksX4_init_4 3 rfl rfl)
abbrev cX4_isSubscribed : ByteArray := prog_3_method_2_code
def yX4_isSubscribed : MethodName := ⟨RX4, "isSubscribed", "(I)Z"⟩
def dkwX4_isSubscribed_2 : List UInt8 := [185, 0, 52, 2, 0, 192, 0, 56, 182, 0, 61, 167, 0, 4, 28, 61, 132, 3, 1, 167, 255, 199, 28, 172]
abbrev dktX4_isSubscribed_2 : List UInt8 := dkwX4_isSubscribed_2 ++ []
def dkwX4_isSubscribed_1 : List UInt8 := [185, 0, 52, 2, 0, 192, 0, 56, 182, 0, 58, 27, 163, 0, 22, 42, 180, 0, 12, 29]
abbrev dktX4_isSubscribed_1 : List UInt8 := dkwX4_isSubscribed_1 ++ dktX4_isSubscribed_2
def dkwX4_isSubscribed_0 : List UInt8 := [3, 61, 3, 62, 29, 42, 180, 0, 12, 185, 0, 48, 1, 0, 162, 0, 50, 42, 180, 0, 12, 29]
abbrev dktX4_isSubscribed_0 : List UInt8 := dkwX4_isSubscribed_0 ++ dktX4_isSubscribed_1
theorem dksX4_isSubscribed_0 : cX4_isSubscribed.data.toList.drop 0 = dktX4_isSubscribed_0 := by decide +kernel
theorem dksX4_isSubscribed_1 : cX4_isSubscribed.data.toList.drop 22 = dktX4_isSubscribed_1 := dk_seg dksX4_isSubscribed_0 22 rfl rfl
theorem dksX4_isSubscribed_2 : cX4_isSubscribed.data.toList.drop 42 = dktX4_isSubscribed_2 := dk_seg dksX4_isSubscribed_1 20 rfl rfl
theorem dX4_isSubscribed_0 : decode cX4_isSubscribed 0 = .ok (.iconst 0, 1) := dk_3 (dk_at dksX4_isSubscribed_0 0 rfl rfl)
theorem dX4_isSubscribed_1 : decode cX4_isSubscribed 1 = .ok (.istore_n 2, 1) := dk_61 (dk_at dksX4_isSubscribed_0 1 rfl rfl)
theorem dX4_isSubscribed_2 : decode cX4_isSubscribed 2 = .ok (.iconst 0, 1) := dk_3 (dk_at dksX4_isSubscribed_0 2 rfl rfl)
theorem dX4_isSubscribed_3 : decode cX4_isSubscribed 3 = .ok (.istore_n 3, 1) := dk_62 (dk_at dksX4_isSubscribed_0 3 rfl rfl)
theorem dX4_isSubscribed_4 : decode cX4_isSubscribed 4 = .ok (.iload_n 3, 1) := dk_29 (dk_at dksX4_isSubscribed_0 4 rfl rfl)
theorem dX4_isSubscribed_5 : decode cX4_isSubscribed 5 = .ok (.aload_n 0, 1) := dk_42 (dk_at dksX4_isSubscribed_0 5 rfl rfl)
theorem dX4_isSubscribed_6 : decode cX4_isSubscribed 6 = .ok (.getfield 12, 3) := dk_180 0 12 (dk_at dksX4_isSubscribed_0 6 rfl rfl)
theorem dX4_isSubscribed_9 : decode cX4_isSubscribed 9 = .ok (.invokeinterface 48 1, 5) := by decide +kernel
theorem dX4_isSubscribed_14 : decode cX4_isSubscribed 14 = .ok (.if_icmp .ge 50, 3) := dk_162 0 50 (dk_at dksX4_isSubscribed_0 14 rfl rfl)
theorem dX4_isSubscribed_17 : decode cX4_isSubscribed 17 = .ok (.aload_n 0, 1) := dk_42 (dk_at dksX4_isSubscribed_0 17 rfl rfl)
theorem dX4_isSubscribed_18 : decode cX4_isSubscribed 18 = .ok (.getfield 12, 3) := dk_180 0 12 (dk_at dksX4_isSubscribed_0 18 rfl rfl)
theorem dX4_isSubscribed_21 : decode cX4_isSubscribed 21 = .ok (.iload_n 3, 1) := dk_29 (dk_at dksX4_isSubscribed_0 21 rfl rfl)
theorem dX4_isSubscribed_22 : decode cX4_isSubscribed 22 = .ok (.invokeinterface 52 2, 5) := by decide +kernel
theorem dX4_isSubscribed_27 : decode cX4_isSubscribed 27 = .ok (.checkcast 56, 3) := dk_192 0 56 (dk_at dksX4_isSubscribed_1 5 rfl rfl)
theorem dX4_isSubscribed_30 : decode cX4_isSubscribed 30 = .ok (.invokevirtual 58, 3) := dk_182 0 58 (dk_at dksX4_isSubscribed_1 8 rfl rfl)
theorem dX4_isSubscribed_33 : decode cX4_isSubscribed 33 = .ok (.iload_n 1, 1) := dk_27 (dk_at dksX4_isSubscribed_1 11 rfl rfl)
theorem dX4_isSubscribed_34 : decode cX4_isSubscribed 34 = .ok (.if_icmp .gt 22, 3) := dk_163 0 22 (dk_at dksX4_isSubscribed_1 12 rfl rfl)
theorem dX4_isSubscribed_37 : decode cX4_isSubscribed 37 = .ok (.aload_n 0, 1) := dk_42 (dk_at dksX4_isSubscribed_1 15 rfl rfl)
theorem dX4_isSubscribed_38 : decode cX4_isSubscribed 38 = .ok (.getfield 12, 3) := dk_180 0 12 (dk_at dksX4_isSubscribed_1 16 rfl rfl)
theorem dX4_isSubscribed_41 : decode cX4_isSubscribed 41 = .ok (.iload_n 3, 1) := dk_29 (dk_at dksX4_isSubscribed_1 19 rfl rfl)
theorem dX4_isSubscribed_42 : decode cX4_isSubscribed 42 = .ok (.invokeinterface 52 2, 5) := by decide +kernel
theorem dX4_isSubscribed_47 : decode cX4_isSubscribed 47 = .ok (.checkcast 56, 3) := dk_192 0 56 (dk_at dksX4_isSubscribed_2 5 rfl rfl)
theorem dX4_isSubscribed_50 : decode cX4_isSubscribed 50 = .ok (.invokevirtual 61, 3) := dk_182 0 61 (dk_at dksX4_isSubscribed_2 8 rfl rfl)
theorem dX4_isSubscribed_53 : decode cX4_isSubscribed 53 = .ok (.goto 4, 3) := dk_167 0 4 (dk_at dksX4_isSubscribed_2 11 rfl rfl)
theorem dX4_isSubscribed_56 : decode cX4_isSubscribed 56 = .ok (.iload_n 2, 1) := dk_28 (dk_at dksX4_isSubscribed_2 14 rfl rfl)
theorem dX4_isSubscribed_57 : decode cX4_isSubscribed 57 = .ok (.istore_n 2, 1) := dk_61 (dk_at dksX4_isSubscribed_2 15 rfl rfl)
theorem dX4_isSubscribed_58 : decode cX4_isSubscribed 58 = .ok (.iinc 3 1, 3) := dk_132 3 1 (dk_at dksX4_isSubscribed_2 16 rfl rfl)
theorem dX4_isSubscribed_61 : decode cX4_isSubscribed 61 = .ok (.goto (-57), 3) := dk_167 255 199 (dk_at dksX4_isSubscribed_2 19 rfl rfl)
theorem dX4_isSubscribed_64 : decode cX4_isSubscribed 64 = .ok (.iload_n 2, 1) := dk_28 (dk_at dksX4_isSubscribed_2 22 rfl rfl)
theorem dX4_isSubscribed_65 : decode cX4_isSubscribed 65 = .ok (.ireturn, 1) := dk_172 (dk_at dksX4_isSubscribed_2 23 rfl rfl)
abbrev cX4_isIn : ByteArray := prog_3_method_4_code
def yX4_isIn : MethodName := ⟨RX4, "isIn", "(II)Z"⟩
def dkwX4_isIn_0 : List UInt8 := [42, 27, 28, 182, 0, 68, 78, 45, 198, 0, 14, 45, 182, 0, 72, 153, 0, 7, 4, 167, 0, 4, 3, 172]
abbrev dktX4_isIn_0 : List UInt8 := dkwX4_isIn_0 ++ []
theorem dksX4_isIn_0 : cX4_isIn.data.toList.drop 0 = dktX4_isIn_0 := by decide +kernel
theorem dX4_isIn_0 : decode cX4_isIn 0 = .ok (.aload_n 0, 1) := dk_42 (dk_at dksX4_isIn_0 0 rfl rfl)
theorem dX4_isIn_1 : decode cX4_isIn 1 = .ok (.iload_n 1, 1) := dk_27 (dk_at dksX4_isIn_0 1 rfl rfl)
theorem dX4_isIn_2 : decode cX4_isIn 2 = .ok (.iload_n 2, 1) := dk_28 (dk_at dksX4_isIn_0 2 rfl rfl)
theorem dX4_isIn_3 : decode cX4_isIn 3 = .ok (.invokevirtual 68, 3) := dk_182 0 68 (dk_at dksX4_isIn_0 3 rfl rfl)
theorem dX4_isIn_6 : decode cX4_isIn 6 = .ok (.astore_n 3, 1) := dk_78 (dk_at dksX4_isIn_0 6 rfl rfl)
theorem dX4_isIn_7 : decode cX4_isIn 7 = .ok (.aload_n 3, 1) := dk_45 (dk_at dksX4_isIn_0 7 rfl rfl)
theorem dX4_isIn_8 : decode cX4_isIn 8 = .ok (.ifnull 14, 3) := dk_198 0 14 (dk_at dksX4_isIn_0 8 rfl rfl)
theorem dX4_isIn_11 : decode cX4_isIn 11 = .ok (.aload_n 3, 1) := dk_45 (dk_at dksX4_isIn_0 11 rfl rfl)
theorem dX4_isIn_12 : decode cX4_isIn 12 = .ok (.invokevirtual 72, 3) := dk_182 0 72 (dk_at dksX4_isIn_0 12 rfl rfl)
theorem dX4_isIn_15 : decode cX4_isIn 15 = .ok (.ifCond .eq 7, 3) := dk_153 0 7 (dk_at dksX4_isIn_0 15 rfl rfl)
theorem dX4_isIn_18 : decode cX4_isIn 18 = .ok (.iconst 1, 1) := dk_4 (dk_at dksX4_isIn_0 18 rfl rfl)
theorem dX4_isIn_19 : decode cX4_isIn 19 = .ok (.goto 4, 3) := dk_167 0 4 (dk_at dksX4_isIn_0 19 rfl rfl)
theorem dX4_isIn_22 : decode cX4_isIn 22 = .ok (.iconst 0, 1) := dk_3 (dk_at dksX4_isIn_0 22 rfl rfl)
theorem dX4_isIn_23 : decode cX4_isIn 23 = .ok (.ireturn, 1) := dk_172 (dk_at dksX4_isIn_0 23 rfl rfl)
abbrev cX4_holding : ByteArray := prog_3_method_3_code
def yX4_holding : MethodName := ⟨RX4, "holding", "(II)LLinkResolver$Holding;"⟩
def dkwX4_holding_3 : List UInt8 := [167, 255, 205, 45, 176]
abbrev dktX4_holding_3 : List UInt8 := dkwX4_holding_3 ++ []
def dkwX4_holding_2 : List UInt8 := [163, 0, 18, 25, 4, 21, 5, 185, 0, 52, 2, 0, 192, 0, 65, 167, 0, 4, 45, 78, 132, 5, 1]
abbrev dktX4_holding_2 : List UInt8 := dkwX4_holding_2 ++ dktX4_holding_3
def dkwX4_holding_1 : List UInt8 := [185, 0, 48, 1, 0, 162, 0, 45, 25, 4, 21, 5, 185, 0, 52, 2, 0, 192, 0, 65, 182, 0, 67, 28]
abbrev dktX4_holding_1 : List UInt8 := dkwX4_holding_1 ++ dktX4_holding_2
def dkwX4_holding_0 : List UInt8 := [1, 78, 42, 180, 0, 18, 27, 185, 0, 52, 2, 0, 192, 0, 43, 58, 4, 3, 54, 5, 21, 5, 25, 4]
abbrev dktX4_holding_0 : List UInt8 := dkwX4_holding_0 ++ dktX4_holding_1
theorem dksX4_holding_0 : cX4_holding.data.toList.drop 0 = dktX4_holding_0 := by decide +kernel
theorem dksX4_holding_1 : cX4_holding.data.toList.drop 24 = dktX4_holding_1 := dk_seg dksX4_holding_0 24 rfl rfl
theorem dksX4_holding_2 : cX4_holding.data.toList.drop 48 = dktX4_holding_2 := dk_seg dksX4_holding_1 24 rfl rfl
theorem dksX4_holding_3 : cX4_holding.data.toList.drop 71 = dktX4_holding_3 := dk_seg dksX4_holding_2 23 rfl rfl
theorem dX4_holding_0 : decode cX4_holding 0 = .ok (.aconst_null, 1) := dk_1 (dk_at dksX4_holding_0 0 rfl rfl)
theorem dX4_holding_1 : decode cX4_holding 1 = .ok (.astore_n 3, 1) := dk_78 (dk_at dksX4_holding_0 1 rfl rfl)
theorem dX4_holding_2 : decode cX4_holding 2 = .ok (.aload_n 0, 1) := dk_42 (dk_at dksX4_holding_0 2 rfl rfl)
theorem dX4_holding_3 : decode cX4_holding 3 = .ok (.getfield 18, 3) := dk_180 0 18 (dk_at dksX4_holding_0 3 rfl rfl)
theorem dX4_holding_6 : decode cX4_holding 6 = .ok (.iload_n 1, 1) := dk_27 (dk_at dksX4_holding_0 6 rfl rfl)
theorem dX4_holding_7 : decode cX4_holding 7 = .ok (.invokeinterface 52 2, 5) := by decide +kernel
theorem dX4_holding_12 : decode cX4_holding 12 = .ok (.checkcast 43, 3) := dk_192 0 43 (dk_at dksX4_holding_0 12 rfl rfl)
theorem dX4_holding_15 : decode cX4_holding 15 = .ok (.astore 4, 2) := dk_58 4 (dk_at dksX4_holding_0 15 rfl rfl)
theorem dX4_holding_17 : decode cX4_holding 17 = .ok (.iconst 0, 1) := dk_3 (dk_at dksX4_holding_0 17 rfl rfl)
theorem dX4_holding_18 : decode cX4_holding 18 = .ok (.istore 5, 2) := dk_54 5 (dk_at dksX4_holding_0 18 rfl rfl)
theorem dX4_holding_20 : decode cX4_holding 20 = .ok (.iload 5, 2) := dk_21 5 (dk_at dksX4_holding_0 20 rfl rfl)
theorem dX4_holding_22 : decode cX4_holding 22 = .ok (.aload 4, 2) := dk_25 4 (dk_at dksX4_holding_0 22 rfl rfl)
theorem dX4_holding_24 : decode cX4_holding 24 = .ok (.invokeinterface 48 1, 5) := by decide +kernel
theorem dX4_holding_29 : decode cX4_holding 29 = .ok (.if_icmp .ge 45, 3) := dk_162 0 45 (dk_at dksX4_holding_1 5 rfl rfl)
theorem dX4_holding_32 : decode cX4_holding 32 = .ok (.aload 4, 2) := dk_25 4 (dk_at dksX4_holding_1 8 rfl rfl)
theorem dX4_holding_34 : decode cX4_holding 34 = .ok (.iload 5, 2) := dk_21 5 (dk_at dksX4_holding_1 10 rfl rfl)
theorem dX4_holding_36 : decode cX4_holding 36 = .ok (.invokeinterface 52 2, 5) := by decide +kernel
theorem dX4_holding_41 : decode cX4_holding 41 = .ok (.checkcast 65, 3) := dk_192 0 65 (dk_at dksX4_holding_1 17 rfl rfl)
theorem dX4_holding_44 : decode cX4_holding 44 = .ok (.invokevirtual 67, 3) := dk_182 0 67 (dk_at dksX4_holding_1 20 rfl rfl)
theorem dX4_holding_47 : decode cX4_holding 47 = .ok (.iload_n 2, 1) := dk_28 (dk_at dksX4_holding_1 23 rfl rfl)
theorem dX4_holding_48 : decode cX4_holding 48 = .ok (.if_icmp .gt 18, 3) := dk_163 0 18 (dk_at dksX4_holding_2 0 rfl rfl)
theorem dX4_holding_51 : decode cX4_holding 51 = .ok (.aload 4, 2) := dk_25 4 (dk_at dksX4_holding_2 3 rfl rfl)
theorem dX4_holding_53 : decode cX4_holding 53 = .ok (.iload 5, 2) := dk_21 5 (dk_at dksX4_holding_2 5 rfl rfl)
theorem dX4_holding_55 : decode cX4_holding 55 = .ok (.invokeinterface 52 2, 5) := by decide +kernel
theorem dX4_holding_60 : decode cX4_holding 60 = .ok (.checkcast 65, 3) := dk_192 0 65 (dk_at dksX4_holding_2 12 rfl rfl)
theorem dX4_holding_63 : decode cX4_holding 63 = .ok (.goto 4, 3) := dk_167 0 4 (dk_at dksX4_holding_2 15 rfl rfl)
theorem dX4_holding_66 : decode cX4_holding 66 = .ok (.aload_n 3, 1) := dk_45 (dk_at dksX4_holding_2 18 rfl rfl)
theorem dX4_holding_67 : decode cX4_holding 67 = .ok (.astore_n 3, 1) := dk_78 (dk_at dksX4_holding_2 19 rfl rfl)
theorem dX4_holding_68 : decode cX4_holding 68 = .ok (.iinc 5 1, 3) := dk_132 5 1 (dk_at dksX4_holding_2 20 rfl rfl)
theorem dX4_holding_71 : decode cX4_holding 71 = .ok (.goto (-51), 3) := dk_167 255 205 (dk_at dksX4_holding_3 0 rfl rfl)
theorem dX4_holding_74 : decode cX4_holding 74 = .ok (.aload_n 3, 1) := dk_45 (dk_at dksX4_holding_3 3 rfl rfl)
theorem dX4_holding_75 : decode cX4_holding 75 = .ok (.areturn, 1) := dk_176 (dk_at dksX4_holding_3 4 rfl rfl)
abbrev cX4_covers : ByteArray := prog_3_method_8_code
def yX4_covers : MethodName := ⟨RX4, "covers", "(IIII)Z"⟩
def dkwX4_covers_1 : List UInt8 := [21, 4, 182, 0, 92, 153, 0, 7, 4, 167, 0, 4, 3, 172]
abbrev dktX4_covers_1 : List UInt8 := dkwX4_covers_1 ++ []
def dkwX4_covers_0 : List UInt8 := [42, 29, 182, 0, 89, 153, 0, 31, 42, 27, 28, 21, 4, 21, 4, 182, 0, 85, 154, 0, 14, 42, 27, 28]
abbrev dktX4_covers_0 : List UInt8 := dkwX4_covers_0 ++ dktX4_covers_1
theorem dksX4_covers_0 : cX4_covers.data.toList.drop 0 = dktX4_covers_0 := by decide +kernel
theorem dksX4_covers_1 : cX4_covers.data.toList.drop 24 = dktX4_covers_1 := dk_seg dksX4_covers_0 24 rfl rfl
theorem dX4_covers_0 : decode cX4_covers 0 = .ok (.aload_n 0, 1) := dk_42 (dk_at dksX4_covers_0 0 rfl rfl)
theorem dX4_covers_1 : decode cX4_covers 1 = .ok (.iload_n 3, 1) := dk_29 (dk_at dksX4_covers_0 1 rfl rfl)
theorem dX4_covers_2 : decode cX4_covers 2 = .ok (.invokevirtual 89, 3) := dk_182 0 89 (dk_at dksX4_covers_0 2 rfl rfl)
theorem dX4_covers_5 : decode cX4_covers 5 = .ok (.ifCond .eq 31, 3) := dk_153 0 31 (dk_at dksX4_covers_0 5 rfl rfl)
theorem dX4_covers_8 : decode cX4_covers 8 = .ok (.aload_n 0, 1) := dk_42 (dk_at dksX4_covers_0 8 rfl rfl)
theorem dX4_covers_9 : decode cX4_covers 9 = .ok (.iload_n 1, 1) := dk_27 (dk_at dksX4_covers_0 9 rfl rfl)
theorem dX4_covers_10 : decode cX4_covers 10 = .ok (.iload_n 2, 1) := dk_28 (dk_at dksX4_covers_0 10 rfl rfl)
theorem dX4_covers_11 : decode cX4_covers 11 = .ok (.iload 4, 2) := dk_21 4 (dk_at dksX4_covers_0 11 rfl rfl)
theorem dX4_covers_13 : decode cX4_covers 13 = .ok (.iload 4, 2) := dk_21 4 (dk_at dksX4_covers_0 13 rfl rfl)
theorem dX4_covers_15 : decode cX4_covers 15 = .ok (.invokevirtual 85, 3) := dk_182 0 85 (dk_at dksX4_covers_0 15 rfl rfl)
theorem dX4_covers_18 : decode cX4_covers 18 = .ok (.ifCond .ne 14, 3) := dk_154 0 14 (dk_at dksX4_covers_0 18 rfl rfl)
theorem dX4_covers_21 : decode cX4_covers 21 = .ok (.aload_n 0, 1) := dk_42 (dk_at dksX4_covers_0 21 rfl rfl)
theorem dX4_covers_22 : decode cX4_covers 22 = .ok (.iload_n 1, 1) := dk_27 (dk_at dksX4_covers_0 22 rfl rfl)
theorem dX4_covers_23 : decode cX4_covers 23 = .ok (.iload_n 2, 1) := dk_28 (dk_at dksX4_covers_0 23 rfl rfl)
theorem dX4_covers_24 : decode cX4_covers 24 = .ok (.iload 4, 2) := dk_21 4 (dk_at dksX4_covers_1 0 rfl rfl)
theorem dX4_covers_26 : decode cX4_covers 26 = .ok (.invokevirtual 92, 3) := dk_182 0 92 (dk_at dksX4_covers_1 2 rfl rfl)
theorem dX4_covers_29 : decode cX4_covers 29 = .ok (.ifCond .eq 7, 3) := dk_153 0 7 (dk_at dksX4_covers_1 5 rfl rfl)
theorem dX4_covers_32 : decode cX4_covers 32 = .ok (.iconst 1, 1) := dk_4 (dk_at dksX4_covers_1 8 rfl rfl)
theorem dX4_covers_33 : decode cX4_covers 33 = .ok (.goto 4, 3) := dk_167 0 4 (dk_at dksX4_covers_1 9 rfl rfl)
theorem dX4_covers_36 : decode cX4_covers 36 = .ok (.iconst 0, 1) := dk_3 (dk_at dksX4_covers_1 12 rfl rfl)
theorem dX4_covers_37 : decode cX4_covers 37 = .ok (.ireturn, 1) := dk_172 (dk_at dksX4_covers_1 13 rfl rfl)
abbrev cX4_letsIn : ByteArray := prog_3_method_7_code
def yX4_letsIn : MethodName := ⟨RX4, "letsIn", "(I)Z"⟩
def dkwX4_letsIn_0 : List UInt8 := [42, 180, 0, 35, 27, 122, 4, 126, 4, 160, 0, 7, 4, 167, 0, 4, 3, 172]
abbrev dktX4_letsIn_0 : List UInt8 := dkwX4_letsIn_0 ++ []
theorem dksX4_letsIn_0 : cX4_letsIn.data.toList.drop 0 = dktX4_letsIn_0 := by decide +kernel
theorem dX4_letsIn_0 : decode cX4_letsIn 0 = .ok (.aload_n 0, 1) := dk_42 (dk_at dksX4_letsIn_0 0 rfl rfl)
theorem dX4_letsIn_1 : decode cX4_letsIn 1 = .ok (.getfield 35, 3) := dk_180 0 35 (dk_at dksX4_letsIn_0 1 rfl rfl)
theorem dX4_letsIn_4 : decode cX4_letsIn 4 = .ok (.iload_n 1, 1) := dk_27 (dk_at dksX4_letsIn_0 4 rfl rfl)
theorem dX4_letsIn_5 : decode cX4_letsIn 5 = .ok (.ishr, 1) := dk_122 (dk_at dksX4_letsIn_0 5 rfl rfl)
theorem dX4_letsIn_6 : decode cX4_letsIn 6 = .ok (.iconst 1, 1) := dk_4 (dk_at dksX4_letsIn_0 6 rfl rfl)
theorem dX4_letsIn_7 : decode cX4_letsIn 7 = .ok (.iand, 1) := dk_126 (dk_at dksX4_letsIn_0 7 rfl rfl)
theorem dX4_letsIn_8 : decode cX4_letsIn 8 = .ok (.iconst 1, 1) := dk_4 (dk_at dksX4_letsIn_0 8 rfl rfl)
theorem dX4_letsIn_9 : decode cX4_letsIn 9 = .ok (.if_icmp .ne 7, 3) := dk_160 0 7 (dk_at dksX4_letsIn_0 9 rfl rfl)
theorem dX4_letsIn_12 : decode cX4_letsIn 12 = .ok (.iconst 1, 1) := dk_4 (dk_at dksX4_letsIn_0 12 rfl rfl)
theorem dX4_letsIn_13 : decode cX4_letsIn 13 = .ok (.goto 4, 3) := dk_167 0 4 (dk_at dksX4_letsIn_0 13 rfl rfl)
theorem dX4_letsIn_16 : decode cX4_letsIn 16 = .ok (.iconst 0, 1) := dk_3 (dk_at dksX4_letsIn_0 16 rfl rfl)
theorem dX4_letsIn_17 : decode cX4_letsIn 17 = .ok (.ireturn, 1) := dk_172 (dk_at dksX4_letsIn_0 17 rfl rfl)
abbrev cX4_gives : ByteArray := prog_3_method_5_code
def yX4_gives : MethodName := ⟨RX4, "gives", "(IIII)Z"⟩
def dkwX4_gives_2 : List UInt8 := [108, 25, 5, 182, 0, 82, 100, 163, 0, 7, 4, 167, 0, 4, 3, 172]
abbrev dktX4_gives_2 : List UInt8 := dkwX4_gives_2 ++ []
def dkwX4_gives_1 : List UInt8 := [182, 0, 79, 153, 0, 7, 4, 167, 0, 4, 3, 54, 6, 21, 6, 153, 0, 23, 28, 21, 4, 17, 1, 104]
abbrev dktX4_gives_1 : List UInt8 := dkwX4_gives_1 ++ dktX4_gives_2
def dkwX4_gives_0 : List UInt8 := [42, 27, 29, 182, 0, 68, 58, 5, 25, 5, 198, 0, 24, 25, 5, 28, 182, 0, 75, 153, 0, 15, 42, 29]
abbrev dktX4_gives_0 : List UInt8 := dkwX4_gives_0 ++ dktX4_gives_1
theorem dksX4_gives_0 : cX4_gives.data.toList.drop 0 = dktX4_gives_0 := by decide +kernel
theorem dksX4_gives_1 : cX4_gives.data.toList.drop 24 = dktX4_gives_1 := dk_seg dksX4_gives_0 24 rfl rfl
theorem dksX4_gives_2 : cX4_gives.data.toList.drop 48 = dktX4_gives_2 := dk_seg dksX4_gives_1 24 rfl rfl
theorem dX4_gives_0 : decode cX4_gives 0 = .ok (.aload_n 0, 1) := dk_42 (dk_at dksX4_gives_0 0 rfl rfl)
theorem dX4_gives_1 : decode cX4_gives 1 = .ok (.iload_n 1, 1) := dk_27 (dk_at dksX4_gives_0 1 rfl rfl)
theorem dX4_gives_2 : decode cX4_gives 2 = .ok (.iload_n 3, 1) := dk_29 (dk_at dksX4_gives_0 2 rfl rfl)
theorem dX4_gives_3 : decode cX4_gives 3 = .ok (.invokevirtual 68, 3) := dk_182 0 68 (dk_at dksX4_gives_0 3 rfl rfl)
theorem dX4_gives_6 : decode cX4_gives 6 = .ok (.astore 5, 2) := dk_58 5 (dk_at dksX4_gives_0 6 rfl rfl)
theorem dX4_gives_8 : decode cX4_gives 8 = .ok (.aload 5, 2) := dk_25 5 (dk_at dksX4_gives_0 8 rfl rfl)
theorem dX4_gives_10 : decode cX4_gives 10 = .ok (.ifnull 24, 3) := dk_198 0 24 (dk_at dksX4_gives_0 10 rfl rfl)
theorem dX4_gives_13 : decode cX4_gives 13 = .ok (.aload 5, 2) := dk_25 5 (dk_at dksX4_gives_0 13 rfl rfl)
theorem dX4_gives_15 : decode cX4_gives 15 = .ok (.iload_n 2, 1) := dk_28 (dk_at dksX4_gives_0 15 rfl rfl)
theorem dX4_gives_16 : decode cX4_gives 16 = .ok (.invokevirtual 75, 3) := dk_182 0 75 (dk_at dksX4_gives_0 16 rfl rfl)
theorem dX4_gives_19 : decode cX4_gives 19 = .ok (.ifCond .eq 15, 3) := dk_153 0 15 (dk_at dksX4_gives_0 19 rfl rfl)
theorem dX4_gives_22 : decode cX4_gives 22 = .ok (.aload_n 0, 1) := dk_42 (dk_at dksX4_gives_0 22 rfl rfl)
theorem dX4_gives_23 : decode cX4_gives 23 = .ok (.iload_n 3, 1) := dk_29 (dk_at dksX4_gives_0 23 rfl rfl)
theorem dX4_gives_24 : decode cX4_gives 24 = .ok (.invokevirtual 79, 3) := dk_182 0 79 (dk_at dksX4_gives_1 0 rfl rfl)
theorem dX4_gives_27 : decode cX4_gives 27 = .ok (.ifCond .eq 7, 3) := dk_153 0 7 (dk_at dksX4_gives_1 3 rfl rfl)
theorem dX4_gives_30 : decode cX4_gives 30 = .ok (.iconst 1, 1) := dk_4 (dk_at dksX4_gives_1 6 rfl rfl)
theorem dX4_gives_31 : decode cX4_gives 31 = .ok (.goto 4, 3) := dk_167 0 4 (dk_at dksX4_gives_1 7 rfl rfl)
theorem dX4_gives_34 : decode cX4_gives 34 = .ok (.iconst 0, 1) := dk_3 (dk_at dksX4_gives_1 10 rfl rfl)
theorem dX4_gives_35 : decode cX4_gives 35 = .ok (.istore 6, 2) := dk_54 6 (dk_at dksX4_gives_1 11 rfl rfl)
theorem dX4_gives_37 : decode cX4_gives 37 = .ok (.iload 6, 2) := dk_21 6 (dk_at dksX4_gives_1 13 rfl rfl)
theorem dX4_gives_39 : decode cX4_gives 39 = .ok (.ifCond .eq 23, 3) := dk_153 0 23 (dk_at dksX4_gives_1 15 rfl rfl)
theorem dX4_gives_42 : decode cX4_gives 42 = .ok (.iload_n 2, 1) := dk_28 (dk_at dksX4_gives_1 18 rfl rfl)
theorem dX4_gives_43 : decode cX4_gives 43 = .ok (.iload 4, 2) := dk_21 4 (dk_at dksX4_gives_1 19 rfl rfl)
theorem dX4_gives_45 : decode cX4_gives 45 = .ok (.sipush 360, 3) := dk_17 1 104 (dk_at dksX4_gives_1 21 rfl rfl)
theorem dX4_gives_48 : decode cX4_gives 48 = .ok (.idiv, 1) := dk_108 (dk_at dksX4_gives_2 0 rfl rfl)
theorem dX4_gives_49 : decode cX4_gives 49 = .ok (.aload 5, 2) := dk_25 5 (dk_at dksX4_gives_2 1 rfl rfl)
theorem dX4_gives_51 : decode cX4_gives 51 = .ok (.invokevirtual 82, 3) := dk_182 0 82 (dk_at dksX4_gives_2 3 rfl rfl)
theorem dX4_gives_54 : decode cX4_gives 54 = .ok (.isub, 1) := dk_100 (dk_at dksX4_gives_2 6 rfl rfl)
theorem dX4_gives_55 : decode cX4_gives 55 = .ok (.if_icmp .gt 7, 3) := dk_163 0 7 (dk_at dksX4_gives_2 7 rfl rfl)
theorem dX4_gives_58 : decode cX4_gives 58 = .ok (.iconst 1, 1) := dk_4 (dk_at dksX4_gives_2 10 rfl rfl)
theorem dX4_gives_59 : decode cX4_gives 59 = .ok (.goto 4, 3) := dk_167 0 4 (dk_at dksX4_gives_2 11 rfl rfl)
theorem dX4_gives_62 : decode cX4_gives 62 = .ok (.iconst 0, 1) := dk_3 (dk_at dksX4_gives_2 14 rfl rfl)
theorem dX4_gives_63 : decode cX4_gives 63 = .ok (.ireturn, 1) := dk_172 (dk_at dksX4_gives_2 15 rfl rfl)
abbrev cX4_hasKept : ByteArray := prog_3_method_6_code
def yX4_hasKept : MethodName := ⟨RX4, "hasKept", "(III)Z"⟩
def dkwX4_hasKept_1 : List UInt8 := [162, 0, 19, 42, 27, 28, 21, 4, 29, 182, 0, 85, 153, 0, 7, 4, 167, 0, 4, 3, 172]
abbrev dktX4_hasKept_1 : List UInt8 := dkwX4_hasKept_1 ++ []
def dkwX4_hasKept_0 : List UInt8 := [17, 1, 104, 28, 104, 17, 1, 104, 96, 4, 100, 54, 4, 42, 180, 0, 38, 153, 0, 25, 21, 4, 29]
abbrev dktX4_hasKept_0 : List UInt8 := dkwX4_hasKept_0 ++ dktX4_hasKept_1
theorem dksX4_hasKept_0 : cX4_hasKept.data.toList.drop 0 = dktX4_hasKept_0 := by decide +kernel
theorem dksX4_hasKept_1 : cX4_hasKept.data.toList.drop 23 = dktX4_hasKept_1 := dk_seg dksX4_hasKept_0 23 rfl rfl
theorem dX4_hasKept_0 : decode cX4_hasKept 0 = .ok (.sipush 360, 3) := dk_17 1 104 (dk_at dksX4_hasKept_0 0 rfl rfl)
theorem dX4_hasKept_3 : decode cX4_hasKept 3 = .ok (.iload_n 2, 1) := dk_28 (dk_at dksX4_hasKept_0 3 rfl rfl)
theorem dX4_hasKept_4 : decode cX4_hasKept 4 = .ok (.imul, 1) := dk_104 (dk_at dksX4_hasKept_0 4 rfl rfl)
theorem dX4_hasKept_5 : decode cX4_hasKept 5 = .ok (.sipush 360, 3) := dk_17 1 104 (dk_at dksX4_hasKept_0 5 rfl rfl)
theorem dX4_hasKept_8 : decode cX4_hasKept 8 = .ok (.iadd, 1) := dk_96 (dk_at dksX4_hasKept_0 8 rfl rfl)
theorem dX4_hasKept_9 : decode cX4_hasKept 9 = .ok (.iconst 1, 1) := dk_4 (dk_at dksX4_hasKept_0 9 rfl rfl)
theorem dX4_hasKept_10 : decode cX4_hasKept 10 = .ok (.isub, 1) := dk_100 (dk_at dksX4_hasKept_0 10 rfl rfl)
theorem dX4_hasKept_11 : decode cX4_hasKept 11 = .ok (.istore 4, 2) := dk_54 4 (dk_at dksX4_hasKept_0 11 rfl rfl)
theorem dX4_hasKept_13 : decode cX4_hasKept 13 = .ok (.aload_n 0, 1) := dk_42 (dk_at dksX4_hasKept_0 13 rfl rfl)
theorem dX4_hasKept_14 : decode cX4_hasKept 14 = .ok (.getfield 38, 3) := dk_180 0 38 (dk_at dksX4_hasKept_0 14 rfl rfl)
theorem dX4_hasKept_17 : decode cX4_hasKept 17 = .ok (.ifCond .eq 25, 3) := dk_153 0 25 (dk_at dksX4_hasKept_0 17 rfl rfl)
theorem dX4_hasKept_20 : decode cX4_hasKept 20 = .ok (.iload 4, 2) := dk_21 4 (dk_at dksX4_hasKept_0 20 rfl rfl)
theorem dX4_hasKept_22 : decode cX4_hasKept 22 = .ok (.iload_n 3, 1) := dk_29 (dk_at dksX4_hasKept_0 22 rfl rfl)
theorem dX4_hasKept_23 : decode cX4_hasKept 23 = .ok (.if_icmp .ge 19, 3) := dk_162 0 19 (dk_at dksX4_hasKept_1 0 rfl rfl)
theorem dX4_hasKept_26 : decode cX4_hasKept 26 = .ok (.aload_n 0, 1) := dk_42 (dk_at dksX4_hasKept_1 3 rfl rfl)
theorem dX4_hasKept_27 : decode cX4_hasKept 27 = .ok (.iload_n 1, 1) := dk_27 (dk_at dksX4_hasKept_1 4 rfl rfl)
theorem dX4_hasKept_28 : decode cX4_hasKept 28 = .ok (.iload_n 2, 1) := dk_28 (dk_at dksX4_hasKept_1 5 rfl rfl)
theorem dX4_hasKept_29 : decode cX4_hasKept 29 = .ok (.iload 4, 2) := dk_21 4 (dk_at dksX4_hasKept_1 6 rfl rfl)
theorem dX4_hasKept_31 : decode cX4_hasKept 31 = .ok (.iload_n 3, 1) := dk_29 (dk_at dksX4_hasKept_1 8 rfl rfl)
theorem dX4_hasKept_32 : decode cX4_hasKept 32 = .ok (.invokevirtual 85, 3) := dk_182 0 85 (dk_at dksX4_hasKept_1 9 rfl rfl)
theorem dX4_hasKept_35 : decode cX4_hasKept 35 = .ok (.ifCond .eq 7, 3) := dk_153 0 7 (dk_at dksX4_hasKept_1 12 rfl rfl)
theorem dX4_hasKept_38 : decode cX4_hasKept 38 = .ok (.iconst 1, 1) := dk_4 (dk_at dksX4_hasKept_1 15 rfl rfl)
theorem dX4_hasKept_39 : decode cX4_hasKept 39 = .ok (.goto 4, 3) := dk_167 0 4 (dk_at dksX4_hasKept_1 16 rfl rfl)
theorem dX4_hasKept_42 : decode cX4_hasKept 42 = .ok (.iconst 0, 1) := dk_3 (dk_at dksX4_hasKept_1 19 rfl rfl)
theorem dX4_hasKept_43 : decode cX4_hasKept 43 = .ok (.ireturn, 1) := dk_172 (dk_at dksX4_hasKept_1 20 rfl rfl)
abbrev cX4_isWayAheadOf : ByteArray := prog_3_method_9_code
def yX4_isWayAheadOf : MethodName := ⟨RX4, "isWayAheadOf", "(LLinkResolver$Package;I)Z"⟩
def dkwX4_isWayAheadOf_5 : List UInt8 := [167, 0, 4, 3, 172]
abbrev dktX4_isWayAheadOf_5 : List UInt8 := dkwX4_isWayAheadOf_5 ++ []
def dkwX4_isWayAheadOf_4 : List UInt8 := [162, 0, 7, 4, 167, 0, 23, 3, 167, 0, 19, 42, 180, 0, 25, 43, 180, 0, 25, 162, 0, 7, 4]
abbrev dktX4_isWayAheadOf_4 : List UInt8 := dkwX4_isWayAheadOf_4 ++ dktX4_isWayAheadOf_5
def dkwX4_isWayAheadOf_3 : List UInt8 := [167, 0, 4, 3, 172, 42, 180, 0, 32, 43, 180, 0, 32, 159, 0, 22, 42, 180, 0, 32, 43, 180, 0, 32]
abbrev dktX4_isWayAheadOf_3 : List UInt8 := dkwX4_isWayAheadOf_3 ++ dktX4_isWayAheadOf_4
def dkwX4_isWayAheadOf_2 : List UInt8 := [180, 0, 29, 43, 180, 0, 29, 159, 0, 20, 42, 180, 0, 29, 43, 180, 0, 29, 162, 0, 7, 4]
abbrev dktX4_isWayAheadOf_2 : List UInt8 := dkwX4_isWayAheadOf_2 ++ dktX4_isWayAheadOf_3
def dkwX4_isWayAheadOf_1 : List UInt8 := [161, 0, 7, 4, 167, 0, 4, 3, 159, 0, 13, 29, 154, 0, 7, 4, 167, 0, 4, 3, 172, 42]
abbrev dktX4_isWayAheadOf_1 : List UInt8 := dkwX4_isWayAheadOf_1 ++ dktX4_isWayAheadOf_2
def dkwX4_isWayAheadOf_0 : List UInt8 := [42, 180, 0, 21, 28, 46, 5, 161, 0, 7, 4, 167, 0, 4, 3, 62, 29, 43, 180, 0, 21, 28, 46, 5]
abbrev dktX4_isWayAheadOf_0 : List UInt8 := dkwX4_isWayAheadOf_0 ++ dktX4_isWayAheadOf_1
theorem dksX4_isWayAheadOf_0 : cX4_isWayAheadOf.data.toList.drop 0 = dktX4_isWayAheadOf_0 := by decide +kernel
theorem dksX4_isWayAheadOf_1 : cX4_isWayAheadOf.data.toList.drop 24 = dktX4_isWayAheadOf_1 := dk_seg dksX4_isWayAheadOf_0 24 rfl rfl
theorem dksX4_isWayAheadOf_2 : cX4_isWayAheadOf.data.toList.drop 46 = dktX4_isWayAheadOf_2 := dk_seg dksX4_isWayAheadOf_1 22 rfl rfl
theorem dksX4_isWayAheadOf_3 : cX4_isWayAheadOf.data.toList.drop 68 = dktX4_isWayAheadOf_3 := dk_seg dksX4_isWayAheadOf_2 22 rfl rfl
theorem dksX4_isWayAheadOf_4 : cX4_isWayAheadOf.data.toList.drop 92 = dktX4_isWayAheadOf_4 := dk_seg dksX4_isWayAheadOf_3 24 rfl rfl
theorem dksX4_isWayAheadOf_5 : cX4_isWayAheadOf.data.toList.drop 115 = dktX4_isWayAheadOf_5 := dk_seg dksX4_isWayAheadOf_4 23 rfl rfl
theorem dX4_isWayAheadOf_0 : decode cX4_isWayAheadOf 0 = .ok (.aload_n 0, 1) := dk_42 (dk_at dksX4_isWayAheadOf_0 0 rfl rfl)
theorem dX4_isWayAheadOf_1 : decode cX4_isWayAheadOf 1 = .ok (.getfield 21, 3) := dk_180 0 21 (dk_at dksX4_isWayAheadOf_0 1 rfl rfl)
theorem dX4_isWayAheadOf_4 : decode cX4_isWayAheadOf 4 = .ok (.iload_n 2, 1) := dk_28 (dk_at dksX4_isWayAheadOf_0 4 rfl rfl)
theorem dX4_isWayAheadOf_5 : decode cX4_isWayAheadOf 5 = .ok (.iaload, 1) := dk_46 (dk_at dksX4_isWayAheadOf_0 5 rfl rfl)
theorem dX4_isWayAheadOf_6 : decode cX4_isWayAheadOf 6 = .ok (.iconst 2, 1) := dk_5 (dk_at dksX4_isWayAheadOf_0 6 rfl rfl)
theorem dX4_isWayAheadOf_7 : decode cX4_isWayAheadOf 7 = .ok (.if_icmp .lt 7, 3) := dk_161 0 7 (dk_at dksX4_isWayAheadOf_0 7 rfl rfl)
theorem dX4_isWayAheadOf_10 : decode cX4_isWayAheadOf 10 = .ok (.iconst 1, 1) := dk_4 (dk_at dksX4_isWayAheadOf_0 10 rfl rfl)
theorem dX4_isWayAheadOf_11 : decode cX4_isWayAheadOf 11 = .ok (.goto 4, 3) := dk_167 0 4 (dk_at dksX4_isWayAheadOf_0 11 rfl rfl)
theorem dX4_isWayAheadOf_14 : decode cX4_isWayAheadOf 14 = .ok (.iconst 0, 1) := dk_3 (dk_at dksX4_isWayAheadOf_0 14 rfl rfl)
theorem dX4_isWayAheadOf_15 : decode cX4_isWayAheadOf 15 = .ok (.istore_n 3, 1) := dk_62 (dk_at dksX4_isWayAheadOf_0 15 rfl rfl)
theorem dX4_isWayAheadOf_16 : decode cX4_isWayAheadOf 16 = .ok (.iload_n 3, 1) := dk_29 (dk_at dksX4_isWayAheadOf_0 16 rfl rfl)
theorem dX4_isWayAheadOf_17 : decode cX4_isWayAheadOf 17 = .ok (.aload_n 1, 1) := dk_43 (dk_at dksX4_isWayAheadOf_0 17 rfl rfl)
theorem dX4_isWayAheadOf_18 : decode cX4_isWayAheadOf 18 = .ok (.getfield 21, 3) := dk_180 0 21 (dk_at dksX4_isWayAheadOf_0 18 rfl rfl)
theorem dX4_isWayAheadOf_21 : decode cX4_isWayAheadOf 21 = .ok (.iload_n 2, 1) := dk_28 (dk_at dksX4_isWayAheadOf_0 21 rfl rfl)
theorem dX4_isWayAheadOf_22 : decode cX4_isWayAheadOf 22 = .ok (.iaload, 1) := dk_46 (dk_at dksX4_isWayAheadOf_0 22 rfl rfl)
theorem dX4_isWayAheadOf_23 : decode cX4_isWayAheadOf 23 = .ok (.iconst 2, 1) := dk_5 (dk_at dksX4_isWayAheadOf_0 23 rfl rfl)
theorem dX4_isWayAheadOf_24 : decode cX4_isWayAheadOf 24 = .ok (.if_icmp .lt 7, 3) := dk_161 0 7 (dk_at dksX4_isWayAheadOf_1 0 rfl rfl)
theorem dX4_isWayAheadOf_27 : decode cX4_isWayAheadOf 27 = .ok (.iconst 1, 1) := dk_4 (dk_at dksX4_isWayAheadOf_1 3 rfl rfl)
theorem dX4_isWayAheadOf_28 : decode cX4_isWayAheadOf 28 = .ok (.goto 4, 3) := dk_167 0 4 (dk_at dksX4_isWayAheadOf_1 4 rfl rfl)
theorem dX4_isWayAheadOf_31 : decode cX4_isWayAheadOf 31 = .ok (.iconst 0, 1) := dk_3 (dk_at dksX4_isWayAheadOf_1 7 rfl rfl)
theorem dX4_isWayAheadOf_32 : decode cX4_isWayAheadOf 32 = .ok (.if_icmp .eq 13, 3) := dk_159 0 13 (dk_at dksX4_isWayAheadOf_1 8 rfl rfl)
theorem dX4_isWayAheadOf_35 : decode cX4_isWayAheadOf 35 = .ok (.iload_n 3, 1) := dk_29 (dk_at dksX4_isWayAheadOf_1 11 rfl rfl)
theorem dX4_isWayAheadOf_36 : decode cX4_isWayAheadOf 36 = .ok (.ifCond .ne 7, 3) := dk_154 0 7 (dk_at dksX4_isWayAheadOf_1 12 rfl rfl)
theorem dX4_isWayAheadOf_39 : decode cX4_isWayAheadOf 39 = .ok (.iconst 1, 1) := dk_4 (dk_at dksX4_isWayAheadOf_1 15 rfl rfl)
theorem dX4_isWayAheadOf_40 : decode cX4_isWayAheadOf 40 = .ok (.goto 4, 3) := dk_167 0 4 (dk_at dksX4_isWayAheadOf_1 16 rfl rfl)
theorem dX4_isWayAheadOf_43 : decode cX4_isWayAheadOf 43 = .ok (.iconst 0, 1) := dk_3 (dk_at dksX4_isWayAheadOf_1 19 rfl rfl)
theorem dX4_isWayAheadOf_44 : decode cX4_isWayAheadOf 44 = .ok (.ireturn, 1) := dk_172 (dk_at dksX4_isWayAheadOf_1 20 rfl rfl)
theorem dX4_isWayAheadOf_45 : decode cX4_isWayAheadOf 45 = .ok (.aload_n 0, 1) := dk_42 (dk_at dksX4_isWayAheadOf_1 21 rfl rfl)
theorem dX4_isWayAheadOf_46 : decode cX4_isWayAheadOf 46 = .ok (.getfield 29, 3) := dk_180 0 29 (dk_at dksX4_isWayAheadOf_2 0 rfl rfl)
theorem dX4_isWayAheadOf_49 : decode cX4_isWayAheadOf 49 = .ok (.aload_n 1, 1) := dk_43 (dk_at dksX4_isWayAheadOf_2 3 rfl rfl)
theorem dX4_isWayAheadOf_50 : decode cX4_isWayAheadOf 50 = .ok (.getfield 29, 3) := dk_180 0 29 (dk_at dksX4_isWayAheadOf_2 4 rfl rfl)
theorem dX4_isWayAheadOf_53 : decode cX4_isWayAheadOf 53 = .ok (.if_icmp .eq 20, 3) := dk_159 0 20 (dk_at dksX4_isWayAheadOf_2 7 rfl rfl)
theorem dX4_isWayAheadOf_56 : decode cX4_isWayAheadOf 56 = .ok (.aload_n 0, 1) := dk_42 (dk_at dksX4_isWayAheadOf_2 10 rfl rfl)
theorem dX4_isWayAheadOf_57 : decode cX4_isWayAheadOf 57 = .ok (.getfield 29, 3) := dk_180 0 29 (dk_at dksX4_isWayAheadOf_2 11 rfl rfl)
theorem dX4_isWayAheadOf_60 : decode cX4_isWayAheadOf 60 = .ok (.aload_n 1, 1) := dk_43 (dk_at dksX4_isWayAheadOf_2 14 rfl rfl)
theorem dX4_isWayAheadOf_61 : decode cX4_isWayAheadOf 61 = .ok (.getfield 29, 3) := dk_180 0 29 (dk_at dksX4_isWayAheadOf_2 15 rfl rfl)
theorem dX4_isWayAheadOf_64 : decode cX4_isWayAheadOf 64 = .ok (.if_icmp .ge 7, 3) := dk_162 0 7 (dk_at dksX4_isWayAheadOf_2 18 rfl rfl)
theorem dX4_isWayAheadOf_67 : decode cX4_isWayAheadOf 67 = .ok (.iconst 1, 1) := dk_4 (dk_at dksX4_isWayAheadOf_2 21 rfl rfl)
theorem dX4_isWayAheadOf_68 : decode cX4_isWayAheadOf 68 = .ok (.goto 4, 3) := dk_167 0 4 (dk_at dksX4_isWayAheadOf_3 0 rfl rfl)
theorem dX4_isWayAheadOf_71 : decode cX4_isWayAheadOf 71 = .ok (.iconst 0, 1) := dk_3 (dk_at dksX4_isWayAheadOf_3 3 rfl rfl)
theorem dX4_isWayAheadOf_72 : decode cX4_isWayAheadOf 72 = .ok (.ireturn, 1) := dk_172 (dk_at dksX4_isWayAheadOf_3 4 rfl rfl)
theorem dX4_isWayAheadOf_73 : decode cX4_isWayAheadOf 73 = .ok (.aload_n 0, 1) := dk_42 (dk_at dksX4_isWayAheadOf_3 5 rfl rfl)
theorem dX4_isWayAheadOf_74 : decode cX4_isWayAheadOf 74 = .ok (.getfield 32, 3) := dk_180 0 32 (dk_at dksX4_isWayAheadOf_3 6 rfl rfl)
theorem dX4_isWayAheadOf_77 : decode cX4_isWayAheadOf 77 = .ok (.aload_n 1, 1) := dk_43 (dk_at dksX4_isWayAheadOf_3 9 rfl rfl)
theorem dX4_isWayAheadOf_78 : decode cX4_isWayAheadOf 78 = .ok (.getfield 32, 3) := dk_180 0 32 (dk_at dksX4_isWayAheadOf_3 10 rfl rfl)
theorem dX4_isWayAheadOf_81 : decode cX4_isWayAheadOf 81 = .ok (.if_icmp .eq 22, 3) := dk_159 0 22 (dk_at dksX4_isWayAheadOf_3 13 rfl rfl)
theorem dX4_isWayAheadOf_84 : decode cX4_isWayAheadOf 84 = .ok (.aload_n 0, 1) := dk_42 (dk_at dksX4_isWayAheadOf_3 16 rfl rfl)
theorem dX4_isWayAheadOf_85 : decode cX4_isWayAheadOf 85 = .ok (.getfield 32, 3) := dk_180 0 32 (dk_at dksX4_isWayAheadOf_3 17 rfl rfl)
theorem dX4_isWayAheadOf_88 : decode cX4_isWayAheadOf 88 = .ok (.aload_n 1, 1) := dk_43 (dk_at dksX4_isWayAheadOf_3 20 rfl rfl)
theorem dX4_isWayAheadOf_89 : decode cX4_isWayAheadOf 89 = .ok (.getfield 32, 3) := dk_180 0 32 (dk_at dksX4_isWayAheadOf_3 21 rfl rfl)
theorem dX4_isWayAheadOf_92 : decode cX4_isWayAheadOf 92 = .ok (.if_icmp .ge 7, 3) := dk_162 0 7 (dk_at dksX4_isWayAheadOf_4 0 rfl rfl)
theorem dX4_isWayAheadOf_95 : decode cX4_isWayAheadOf 95 = .ok (.iconst 1, 1) := dk_4 (dk_at dksX4_isWayAheadOf_4 3 rfl rfl)
theorem dX4_isWayAheadOf_96 : decode cX4_isWayAheadOf 96 = .ok (.goto 23, 3) := dk_167 0 23 (dk_at dksX4_isWayAheadOf_4 4 rfl rfl)
theorem dX4_isWayAheadOf_99 : decode cX4_isWayAheadOf 99 = .ok (.iconst 0, 1) := dk_3 (dk_at dksX4_isWayAheadOf_4 7 rfl rfl)
theorem dX4_isWayAheadOf_100 : decode cX4_isWayAheadOf 100 = .ok (.goto 19, 3) := dk_167 0 19 (dk_at dksX4_isWayAheadOf_4 8 rfl rfl)
theorem dX4_isWayAheadOf_103 : decode cX4_isWayAheadOf 103 = .ok (.aload_n 0, 1) := dk_42 (dk_at dksX4_isWayAheadOf_4 11 rfl rfl)
theorem dX4_isWayAheadOf_104 : decode cX4_isWayAheadOf 104 = .ok (.getfield 25, 3) := dk_180 0 25 (dk_at dksX4_isWayAheadOf_4 12 rfl rfl)
theorem dX4_isWayAheadOf_107 : decode cX4_isWayAheadOf 107 = .ok (.aload_n 1, 1) := dk_43 (dk_at dksX4_isWayAheadOf_4 15 rfl rfl)
theorem dX4_isWayAheadOf_108 : decode cX4_isWayAheadOf 108 = .ok (.getfield 25, 3) := dk_180 0 25 (dk_at dksX4_isWayAheadOf_4 16 rfl rfl)
theorem dX4_isWayAheadOf_111 : decode cX4_isWayAheadOf 111 = .ok (.if_icmp .ge 7, 3) := dk_162 0 7 (dk_at dksX4_isWayAheadOf_4 19 rfl rfl)
theorem dX4_isWayAheadOf_114 : decode cX4_isWayAheadOf 114 = .ok (.iconst 1, 1) := dk_4 (dk_at dksX4_isWayAheadOf_4 22 rfl rfl)
theorem dX4_isWayAheadOf_115 : decode cX4_isWayAheadOf 115 = .ok (.goto 4, 3) := dk_167 0 4 (dk_at dksX4_isWayAheadOf_5 0 rfl rfl)
theorem dX4_isWayAheadOf_118 : decode cX4_isWayAheadOf 118 = .ok (.iconst 0, 1) := dk_3 (dk_at dksX4_isWayAheadOf_5 3 rfl rfl)
theorem dX4_isWayAheadOf_119 : decode cX4_isWayAheadOf 119 = .ok (.ireturn, 1) := dk_172 (dk_at dksX4_isWayAheadOf_5 4 rfl rfl)
theorem q50 : (Jvm.Cond.initialized "LinkResolver$Package") ∈ lw_all := lw_g (lw_at lw_m1 22 rfl) rfl
theorem q261 : (Jvm.Cond.selects "LinkResolver$Package" ({ cls := "java/lang/Object", name := "getClass", desc := "()Ljava/lang/Class;" } : Jvm.MethodName) ({ cls := "java/lang/Object", name := "getClass", desc := "()Ljava/lang/Class;" } : Jvm.MethodName)) ∈ lw_all := lw_g (lw_at lw_m1 233 rfl) rfl
theorem q389 : (Jvm.Cond.instantiable "LinkResolver$Package" (8 : Nat)) ∈ lw_all := lw_g (lw_at lw_m2 121 rfl) rfl
theorem q391 : (Jvm.Cond.instanceMethod ({ cls := "LinkResolver$Package", name := "<init>", desc := "(IIIIZ)V" } : Jvm.MethodName)) ∈ lw_all := lw_g (lw_at lw_m2 123 rfl) rfl
theorem q392 : (Jvm.Cond.code ({ cls := "LinkResolver$Package", name := "<init>", desc := "(IIIIZ)V" } : Jvm.MethodName) prog_3_method_1_code (7 : Nat) (Option.none : Option Jvm.ClassFile.FieldType)) ∈ lw_all := lw_g (lw_at lw_m2 124 rfl) rfl
theorem q393 : (Jvm.Cond.methodLink "LinkResolver$Package" (3 : Nat) ({ cls := "java/lang/Object", name := "<init>", desc := "()V" } : Jvm.MethodName)) ∈ lw_all := lw_g (lw_at lw_m2 125 rfl) rfl
theorem q394 : (Jvm.Cond.classLink "LinkResolver$Package" (9 : Nat) "java/util/ArrayList") ∈ lw_all := lw_g (lw_at lw_m2 126 rfl) rfl
theorem q395 : (Jvm.Cond.methodLink "LinkResolver$Package" (11 : Nat) ({ cls := "java/util/ArrayList", name := "<init>", desc := "()V" } : Jvm.MethodName)) ∈ lw_all := lw_g (lw_at lw_m2 127 rfl) rfl
theorem q396 : (Jvm.Cond.interfaceEntry "LinkResolver$Package" (42 : Nat)) ∈ lw_tbl := lw_at lw_m2 128 rfl
theorem q397 : (Jvm.Cond.methodLink "LinkResolver$Package" (42 : Nat) ({ cls := "java/util/List", name := "add", desc := "(Ljava/lang/Object;)Z" } : Jvm.MethodName)) ∈ lw_all := lw_g (lw_at lw_m2 129 rfl) rfl
theorem q398 : (Jvm.Cond.fieldLink "LinkResolver$Package" (25 : Nat) "LinkResolver$Package" "number" "I") ∈ lw_all := lw_g (lw_at lw_m2 130 rfl) rfl
theorem q399 : (Jvm.Cond.fieldLink "LinkResolver$Package" (29 : Nat) "LinkResolver$Package" "cost" "I") ∈ lw_all := lw_g (lw_at lw_m2 131 rfl) rfl
theorem q400 : (Jvm.Cond.fieldLink "LinkResolver$Package" (32 : Nat) "LinkResolver$Package" "version" "I") ∈ lw_all := lw_g (lw_at lw_m2 132 rfl) rfl
theorem q401 : (Jvm.Cond.fieldLink "LinkResolver$Package" (35 : Nat) "LinkResolver$Package" "groups" "I") ∈ lw_all := lw_g (lw_at lw_m2 133 rfl) rfl
theorem q402 : (Jvm.Cond.fieldLink "LinkResolver$Package" (38 : Nat) "LinkResolver$Package" "keeps" "Z") ∈ lw_all := lw_g (lw_at lw_m2 134 rfl) rfl
theorem q403 : (Jvm.Cond.fieldLink "LinkResolver$Package" (12 : Nat) "LinkResolver$Package" "subscriptions" "Ljava/util/List;") ∈ lw_all := lw_g (lw_at lw_m2 135 rfl) rfl
theorem q405 : (Jvm.Cond.fieldLink "LinkResolver$Package" (18 : Nat) "LinkResolver$Package" "holdings" "Ljava/util/List;") ∈ lw_all := lw_g (lw_at lw_m2 137 rfl) rfl
theorem q407 : (Jvm.Cond.fieldLink "LinkResolver$Package" (21 : Nat) "LinkResolver$Package" "breaks" "[I") ∈ lw_all := lw_g (lw_at lw_m2 139 rfl) rfl
theorem q409 : (Jvm.Cond.laysFinal "LinkResolver$Package" "LinkResolver$Package" "number" "I") ∈ lw_all := lw_g (lw_at lw_m2 141 rfl) rfl
theorem q410 : (Jvm.Cond.soleField "LinkResolver$Package" "number") ∈ lw_all := lw_g (lw_at lw_m2 142 rfl) rfl
theorem q411 : (Jvm.Cond.laysFinal "LinkResolver$Package" "LinkResolver$Package" "cost" "I") ∈ lw_all := lw_g (lw_at lw_m2 143 rfl) rfl
theorem q412 : (Jvm.Cond.soleField "LinkResolver$Package" "cost") ∈ lw_all := lw_g (lw_at lw_m2 144 rfl) rfl
theorem q413 : (Jvm.Cond.laysFinal "LinkResolver$Package" "LinkResolver$Package" "version" "I") ∈ lw_all := lw_g (lw_at lw_m2 145 rfl) rfl
theorem q414 : (Jvm.Cond.soleField "LinkResolver$Package" "version") ∈ lw_all := lw_g (lw_at lw_m2 146 rfl) rfl
theorem q415 : (Jvm.Cond.laysFinal "LinkResolver$Package" "LinkResolver$Package" "groups" "I") ∈ lw_all := lw_g (lw_at lw_m2 147 rfl) rfl
theorem q416 : (Jvm.Cond.soleField "LinkResolver$Package" "groups") ∈ lw_all := lw_g (lw_at lw_m2 148 rfl) rfl
theorem q417 : (Jvm.Cond.laysFinal "LinkResolver$Package" "LinkResolver$Package" "keeps" "Z") ∈ lw_all := lw_g (lw_at lw_m2 149 rfl) rfl
theorem q418 : (Jvm.Cond.soleField "LinkResolver$Package" "keeps") ∈ lw_all := lw_g (lw_at lw_m2 150 rfl) rfl
theorem q419 : (Jvm.Cond.laysFinal "LinkResolver$Package" "LinkResolver$Package" "subscriptions" "Ljava/util/List;") ∈ lw_all := lw_g (lw_at lw_m2 151 rfl) rfl
theorem q420 : (Jvm.Cond.soleField "LinkResolver$Package" "subscriptions") ∈ lw_all := lw_g (lw_at lw_m2 152 rfl) rfl
theorem q421 : (Jvm.Cond.laysFinal "LinkResolver$Package" "LinkResolver$Package" "holdings" "Ljava/util/List;") ∈ lw_all := lw_g (lw_at lw_m2 153 rfl) rfl
theorem q422 : (Jvm.Cond.soleField "LinkResolver$Package" "holdings") ∈ lw_all := lw_g (lw_at lw_m2 154 rfl) rfl
theorem q423 : (Jvm.Cond.laysFinal "LinkResolver$Package" "LinkResolver$Package" "breaks" "[I") ∈ lw_all := lw_g (lw_at lw_m2 155 rfl) rfl
theorem q424 : (Jvm.Cond.soleField "LinkResolver$Package" "breaks") ∈ lw_all := lw_g (lw_at lw_m2 156 rfl) rfl
theorem q425 : (Jvm.Cond.superclass "LinkResolver$Package" "java/lang/Object") ∈ lw_all := lw_g (lw_at lw_m2 157 rfl) rfl
theorem q439 : (Jvm.Cond.instanceMethod ({ cls := "LinkResolver$Package", name := "isSubscribed", desc := "(I)Z" } : Jvm.MethodName)) ∈ lw_all := lw_g (lw_at lw_m2 171 rfl) rfl
theorem q440 : (Jvm.Cond.selects "LinkResolver$Package" ({ cls := "LinkResolver$Package", name := "isSubscribed", desc := "(I)Z" } : Jvm.MethodName) ({ cls := "LinkResolver$Package", name := "isSubscribed", desc := "(I)Z" } : Jvm.MethodName)) ∈ lw_all := lw_g (lw_at lw_m2 172 rfl) rfl
theorem q441 : (Jvm.Cond.code ({ cls := "LinkResolver$Package", name := "isSubscribed", desc := "(I)Z" } : Jvm.MethodName) prog_3_method_2_code (4 : Nat) (Option.some Jvm.ClassFile.FieldType.boolean)) ∈ lw_all := lw_g (lw_at lw_m2 173 rfl) rfl
theorem q442 : (Jvm.Cond.interfaceEntry "LinkResolver$Package" (48 : Nat)) ∈ lw_tbl := lw_at lw_m2 174 rfl
theorem q443 : (Jvm.Cond.methodLink "LinkResolver$Package" (48 : Nat) ({ cls := "java/util/List", name := "size", desc := "()I" } : Jvm.MethodName)) ∈ lw_all := lw_g (lw_at lw_m2 175 rfl) rfl
theorem q444 : (Jvm.Cond.interfaceEntry "LinkResolver$Package" (52 : Nat)) ∈ lw_tbl := lw_at lw_m2 176 rfl
theorem q445 : (Jvm.Cond.methodLink "LinkResolver$Package" (52 : Nat) ({ cls := "java/util/List", name := "get", desc := "(I)Ljava/lang/Object;" } : Jvm.MethodName)) ∈ lw_all := lw_g (lw_at lw_m2 177 rfl) rfl
theorem q446 : (Jvm.Cond.classLink "LinkResolver$Package" (56 : Nat) "LinkResolver$Subscription") ∈ lw_all := lw_g (lw_at lw_m2 178 rfl) rfl
theorem q447 : (Jvm.Cond.methodLink "LinkResolver$Package" (58 : Nat) ({ cls := "LinkResolver$Subscription", name := "day", desc := "()I" } : Jvm.MethodName)) ∈ lw_all := lw_g (lw_at lw_m2 179 rfl) rfl
theorem q451 : (Jvm.Cond.methodLink "LinkResolver$Package" (61 : Nat) ({ cls := "LinkResolver$Subscription", name := "isOn", desc := "()Z" } : Jvm.MethodName)) ∈ lw_all := lw_g (lw_at lw_m2 183 rfl) rfl
theorem q480 : (Jvm.Cond.instanceMethod ({ cls := "LinkResolver$Package", name := "isIn", desc := "(II)Z" } : Jvm.MethodName)) ∈ lw_all := lw_g (lw_at lw_m2 212 rfl) rfl
theorem q481 : (Jvm.Cond.selects "LinkResolver$Package" ({ cls := "LinkResolver$Package", name := "isIn", desc := "(II)Z" } : Jvm.MethodName) ({ cls := "LinkResolver$Package", name := "isIn", desc := "(II)Z" } : Jvm.MethodName)) ∈ lw_all := lw_g (lw_at lw_m2 213 rfl) rfl
theorem q482 : (Jvm.Cond.code ({ cls := "LinkResolver$Package", name := "isIn", desc := "(II)Z" } : Jvm.MethodName) prog_3_method_4_code (4 : Nat) (Option.some Jvm.ClassFile.FieldType.boolean)) ∈ lw_all := lw_g (lw_at lw_m2 214 rfl) rfl
theorem q483 : (Jvm.Cond.methodLink "LinkResolver$Package" (68 : Nat) ({ cls := "LinkResolver$Package", name := "holding", desc := "(II)LLinkResolver$Holding;" } : Jvm.MethodName)) ∈ lw_all := lw_g (lw_at lw_m2 215 rfl) rfl
theorem q484 : (Jvm.Cond.instanceMethod ({ cls := "LinkResolver$Package", name := "holding", desc := "(II)LLinkResolver$Holding;" } : Jvm.MethodName)) ∈ lw_all := lw_g (lw_at lw_m2 216 rfl) rfl
theorem q485 : (Jvm.Cond.selects "LinkResolver$Package" ({ cls := "LinkResolver$Package", name := "holding", desc := "(II)LLinkResolver$Holding;" } : Jvm.MethodName) ({ cls := "LinkResolver$Package", name := "holding", desc := "(II)LLinkResolver$Holding;" } : Jvm.MethodName)) ∈ lw_all := lw_g (lw_at lw_m2 217 rfl) rfl
theorem q486 : (Jvm.Cond.code ({ cls := "LinkResolver$Package", name := "holding", desc := "(II)LLinkResolver$Holding;" } : Jvm.MethodName) prog_3_method_3_code (6 : Nat) (Option.some (Jvm.ClassFile.FieldType.object "LinkResolver$Holding"))) ∈ lw_all := lw_g (lw_at lw_m2 218 rfl) rfl
theorem q487 : (Jvm.Cond.classLink "LinkResolver$Package" (43 : Nat) "java/util/List") ∈ lw_all := lw_g (lw_at lw_m2 219 rfl) rfl
theorem q488 : (Jvm.Cond.classLink "LinkResolver$Package" (65 : Nat) "LinkResolver$Holding") ∈ lw_all := lw_g (lw_at lw_m2 220 rfl) rfl
theorem q489 : (Jvm.Cond.methodLink "LinkResolver$Package" (67 : Nat) ({ cls := "LinkResolver$Holding", name := "day", desc := "()I" } : Jvm.MethodName)) ∈ lw_all := lw_g (lw_at lw_m2 221 rfl) rfl
theorem q493 : (Jvm.Cond.methodLink "LinkResolver$Package" (72 : Nat) ({ cls := "LinkResolver$Holding", name := "isIn", desc := "()Z" } : Jvm.MethodName)) ∈ lw_all := lw_g (lw_at lw_m2 225 rfl) rfl
theorem q577 : (Jvm.Cond.instanceMethod ({ cls := "LinkResolver$Package", name := "covers", desc := "(IIII)Z" } : Jvm.MethodName)) ∈ lw_all := lw_g (lw_at lw_m3 69 rfl) rfl
theorem q578 : (Jvm.Cond.selects "LinkResolver$Package" ({ cls := "LinkResolver$Package", name := "covers", desc := "(IIII)Z" } : Jvm.MethodName) ({ cls := "LinkResolver$Package", name := "covers", desc := "(IIII)Z" } : Jvm.MethodName)) ∈ lw_all := lw_g (lw_at lw_m3 70 rfl) rfl
theorem q579 : (Jvm.Cond.code ({ cls := "LinkResolver$Package", name := "covers", desc := "(IIII)Z" } : Jvm.MethodName) prog_3_method_8_code (5 : Nat) (Option.some Jvm.ClassFile.FieldType.boolean)) ∈ lw_all := lw_g (lw_at lw_m3 71 rfl) rfl
theorem q580 : (Jvm.Cond.methodLink "LinkResolver$Package" (89 : Nat) ({ cls := "LinkResolver$Package", name := "letsIn", desc := "(I)Z" } : Jvm.MethodName)) ∈ lw_all := lw_g (lw_at lw_m3 72 rfl) rfl
theorem q581 : (Jvm.Cond.instanceMethod ({ cls := "LinkResolver$Package", name := "letsIn", desc := "(I)Z" } : Jvm.MethodName)) ∈ lw_all := lw_g (lw_at lw_m3 73 rfl) rfl
theorem q582 : (Jvm.Cond.selects "LinkResolver$Package" ({ cls := "LinkResolver$Package", name := "letsIn", desc := "(I)Z" } : Jvm.MethodName) ({ cls := "LinkResolver$Package", name := "letsIn", desc := "(I)Z" } : Jvm.MethodName)) ∈ lw_all := lw_g (lw_at lw_m3 74 rfl) rfl
theorem q583 : (Jvm.Cond.code ({ cls := "LinkResolver$Package", name := "letsIn", desc := "(I)Z" } : Jvm.MethodName) prog_3_method_7_code (2 : Nat) (Option.some Jvm.ClassFile.FieldType.boolean)) ∈ lw_all := lw_g (lw_at lw_m3 75 rfl) rfl
theorem q584 : (Jvm.Cond.methodLink "LinkResolver$Package" (85 : Nat) ({ cls := "LinkResolver$Package", name := "gives", desc := "(IIII)Z" } : Jvm.MethodName)) ∈ lw_all := lw_g (lw_at lw_m3 76 rfl) rfl
theorem q585 : (Jvm.Cond.privateMethod ({ cls := "LinkResolver$Package", name := "gives", desc := "(IIII)Z" } : Jvm.MethodName)) ∈ lw_tbl := lw_at lw_m3 77 rfl
theorem q586 : (Jvm.Cond.instanceMethod ({ cls := "LinkResolver$Package", name := "gives", desc := "(IIII)Z" } : Jvm.MethodName)) ∈ lw_all := lw_g (lw_at lw_m3 78 rfl) rfl
theorem q587 : (Jvm.Cond.code ({ cls := "LinkResolver$Package", name := "gives", desc := "(IIII)Z" } : Jvm.MethodName) prog_3_method_5_code (7 : Nat) (Option.some Jvm.ClassFile.FieldType.boolean)) ∈ lw_all := lw_g (lw_at lw_m3 79 rfl) rfl
theorem q588 : (Jvm.Cond.methodLink "LinkResolver$Package" (75 : Nat) ({ cls := "LinkResolver$Holding", name := "hasYear", desc := "(I)Z" } : Jvm.MethodName)) ∈ lw_all := lw_g (lw_at lw_m3 80 rfl) rfl
theorem q592 : (Jvm.Cond.methodLink "LinkResolver$Package" (79 : Nat) ({ cls := "LinkResolver$Package", name := "isSubscribed", desc := "(I)Z" } : Jvm.MethodName)) ∈ lw_all := lw_g (lw_at lw_m3 84 rfl) rfl
theorem q593 : (Jvm.Cond.methodLink "LinkResolver$Package" (82 : Nat) ({ cls := "LinkResolver$Holding", name := "wall", desc := "()I" } : Jvm.MethodName)) ∈ lw_all := lw_g (lw_at lw_m3 85 rfl) rfl
theorem q597 : (Jvm.Cond.methodLink "LinkResolver$Package" (92 : Nat) ({ cls := "LinkResolver$Package", name := "hasKept", desc := "(III)Z" } : Jvm.MethodName)) ∈ lw_all := lw_g (lw_at lw_m3 89 rfl) rfl
theorem q598 : (Jvm.Cond.instanceMethod ({ cls := "LinkResolver$Package", name := "hasKept", desc := "(III)Z" } : Jvm.MethodName)) ∈ lw_all := lw_g (lw_at lw_m3 90 rfl) rfl
theorem q599 : (Jvm.Cond.selects "LinkResolver$Package" ({ cls := "LinkResolver$Package", name := "hasKept", desc := "(III)Z" } : Jvm.MethodName) ({ cls := "LinkResolver$Package", name := "hasKept", desc := "(III)Z" } : Jvm.MethodName)) ∈ lw_all := lw_g (lw_at lw_m3 91 rfl) rfl
theorem q600 : (Jvm.Cond.code ({ cls := "LinkResolver$Package", name := "hasKept", desc := "(III)Z" } : Jvm.MethodName) prog_3_method_6_code (5 : Nat) (Option.some Jvm.ClassFile.FieldType.boolean)) ∈ lw_all := lw_g (lw_at lw_m3 92 rfl) rfl
theorem q624 : (Jvm.Cond.instanceMethod ({ cls := "LinkResolver$Package", name := "isWayAheadOf", desc := "(LLinkResolver$Package;I)Z" } : Jvm.MethodName)) ∈ lw_all := lw_g (lw_at lw_m3 116 rfl) rfl
theorem q625 : (Jvm.Cond.selects "LinkResolver$Package" ({ cls := "LinkResolver$Package", name := "isWayAheadOf", desc := "(LLinkResolver$Package;I)Z" } : Jvm.MethodName) ({ cls := "LinkResolver$Package", name := "isWayAheadOf", desc := "(LLinkResolver$Package;I)Z" } : Jvm.MethodName)) ∈ lw_all := lw_g (lw_at lw_m3 117 rfl) rfl
theorem q626 : (Jvm.Cond.code ({ cls := "LinkResolver$Package", name := "isWayAheadOf", desc := "(LLinkResolver$Package;I)Z" } : Jvm.MethodName) prog_3_method_9_code (4 : Nat) (Option.some Jvm.ClassFile.FieldType.boolean)) ∈ lw_all := lw_g (lw_at lw_m3 118 rfl) rfl
theorem q878 : (Jvm.Cond.castable "LinkResolver$Package" "java/lang/Object") ∈ lw_tbl := lw_at lw_m4 130 rfl
theorem in_X4 : ∀ w ∈ wsX40, w ∈ lw_all := lw_in wsX40 [409, 411, 413, 415, 417, 419, 421, 423] (by decide +kernel) (by decide +kernel)
/-! LinkResolver -/
set_option maxRecDepth 100000
def RX1 : String := "LinkResolver"
def TX1 : u_T := fun k => match k with
  | 0 => ("LinkResolver", "titles", "Ljava/util/List;", true)
  | 1 => ("LinkResolver", "packages", "Ljava/util/List;", true)
  | _ => ("LinkResolver", "today", "I", false)
def tyX1 : Nat → FieldType := fun k => match k with
  | 0 => .object "java/util/List"
  | 1 => .object "java/util/List"
  | _ => .int
abbrev wsX10 : List Cond := u_ws RX1 TX1 3
theorem nmX1 : ∀ a, a < 3 → ∀ b, b < 3 → a ≠ b → (TX1 a).2.1 ≠ (TX1 b).2.1 := by decide +kernel
theorem tyX1_ok : ∀ k, k < 3 → parseFieldDescriptor (TX1 k).2.2.1 = some (tyX1 k) := by decide +kernel
abbrev cX1_init : ByteArray := prog_1_method_1_code
def yX1_init : MethodName := ⟨RX1, "<init>", "()V"⟩
def dkwX1_init_1 : List UInt8 := [181, 0, 16, 177]
abbrev dktX1_init_1 : List UInt8 := dkwX1_init_1 ++ []
def dkwX1_init_0 : List UInt8 := [42, 183, 0, 3, 42, 187, 0, 9, 89, 183, 0, 11, 181, 0, 12, 42, 187, 0, 9, 89, 183, 0, 11]
abbrev dktX1_init_0 : List UInt8 := dkwX1_init_0 ++ dktX1_init_1
theorem dksX1_init_0 : cX1_init.data.toList.drop 0 = dktX1_init_0 := by decide +kernel
theorem dksX1_init_1 : cX1_init.data.toList.drop 23 = dktX1_init_1 := dk_seg dksX1_init_0 23 rfl rfl
theorem dX1_init_0 : decode cX1_init 0 = .ok (.aload_n 0, 1) := dk_42 (dk_at dksX1_init_0 0 rfl rfl)
theorem dX1_init_1 : decode cX1_init 1 = .ok (.invokespecial 3, 3) := dk_183 0 3 (dk_at dksX1_init_0 1 rfl rfl)
theorem dX1_init_4 : decode cX1_init 4 = .ok (.aload_n 0, 1) := dk_42 (dk_at dksX1_init_0 4 rfl rfl)
theorem dX1_init_5 : decode cX1_init 5 = .ok (.new 9, 3) := dk_187 0 9 (dk_at dksX1_init_0 5 rfl rfl)
theorem dX1_init_8 : decode cX1_init 8 = .ok (.dup, 1) := dk_89 (dk_at dksX1_init_0 8 rfl rfl)
theorem dX1_init_9 : decode cX1_init 9 = .ok (.invokespecial 11, 3) := dk_183 0 11 (dk_at dksX1_init_0 9 rfl rfl)
theorem dX1_init_12 : decode cX1_init 12 = .ok (.putfield 12, 3) := dk_181 0 12 (dk_at dksX1_init_0 12 rfl rfl)
theorem dX1_init_15 : decode cX1_init 15 = .ok (.aload_n 0, 1) := dk_42 (dk_at dksX1_init_0 15 rfl rfl)
theorem dX1_init_16 : decode cX1_init 16 = .ok (.new 9, 3) := dk_187 0 9 (dk_at dksX1_init_0 16 rfl rfl)
theorem dX1_init_19 : decode cX1_init 19 = .ok (.dup, 1) := dk_89 (dk_at dksX1_init_0 19 rfl rfl)
theorem dX1_init_20 : decode cX1_init 20 = .ok (.invokespecial 11, 3) := dk_183 0 11 (dk_at dksX1_init_0 20 rfl rfl)
theorem dX1_init_23 : decode cX1_init 23 = .ok (.putfield 16, 3) := dk_181 0 16 (dk_at dksX1_init_1 0 rfl rfl)
theorem dX1_init_26 : decode cX1_init 26 = .ok (.return_, 1) := dk_177 (dk_at dksX1_init_1 3 rfl rfl)
abbrev cX1_today : ByteArray := prog_1_method_18_code
def yX1_today : MethodName := ⟨RX1, "today", "()I"⟩
theorem dX1_today_0 : decode cX1_today 0 = .ok (.aload_n 0, 1) := by decide +kernel
theorem dX1_today_1 : decode cX1_today 1 = .ok (.getfield 62, 3) := by decide +kernel
theorem dX1_today_4 : decode cX1_today 4 = .ok (.ireturn, 1) := by decide +kernel
abbrev cX1_addTitle : ByteArray := prog_1_method_10_code
def yX1_addTitle : MethodName := ⟨RX1, "addTitle", "(II)I"⟩
def dkwX1_addTitle_2 : List UInt8 := [185, 0, 72, 2, 0, 87, 42, 180, 0, 12, 185, 0, 28, 1, 0, 4, 100, 172]
abbrev dktX1_addTitle_2 : List UInt8 := dkwX1_addTitle_2 ++ []
def dkwX1_addTitle_1 : List UInt8 := [162, 0, 7, 4, 167, 0, 4, 3, 184, 0, 66, 42, 180, 0, 12, 187, 0, 42, 89, 27, 28, 183, 0, 70]
abbrev dktX1_addTitle_1 : List UInt8 := dkwX1_addTitle_1 ++ dktX1_addTitle_2
def dkwX1_addTitle_0 : List UInt8 := [27, 3, 16, 55, 184, 0, 54, 28, 4, 7, 184, 0, 54, 42, 180, 0, 12, 185, 0, 28, 1, 0, 16, 20]
abbrev dktX1_addTitle_0 : List UInt8 := dkwX1_addTitle_0 ++ dktX1_addTitle_1
theorem dksX1_addTitle_0 : cX1_addTitle.data.toList.drop 0 = dktX1_addTitle_0 := by decide +kernel
theorem dksX1_addTitle_1 : cX1_addTitle.data.toList.drop 24 = dktX1_addTitle_1 := dk_seg dksX1_addTitle_0 24 rfl rfl
theorem dksX1_addTitle_2 : cX1_addTitle.data.toList.drop 48 = dktX1_addTitle_2 := dk_seg dksX1_addTitle_1 24 rfl rfl
theorem dX1_addTitle_0 : decode cX1_addTitle 0 = .ok (.iload_n 1, 1) := dk_27 (dk_at dksX1_addTitle_0 0 rfl rfl)
theorem dX1_addTitle_1 : decode cX1_addTitle 1 = .ok (.iconst 0, 1) := dk_3 (dk_at dksX1_addTitle_0 1 rfl rfl)
theorem dX1_addTitle_2 : decode cX1_addTitle 2 = .ok (.bipush 55, 2) := dk_16 55 (dk_at dksX1_addTitle_0 2 rfl rfl)
theorem dX1_addTitle_4 : decode cX1_addTitle 4 = .ok (.invokestatic 54, 3) := dk_184 0 54 (dk_at dksX1_addTitle_0 4 rfl rfl)
theorem dX1_addTitle_7 : decode cX1_addTitle 7 = .ok (.iload_n 2, 1) := dk_28 (dk_at dksX1_addTitle_0 7 rfl rfl)
theorem dX1_addTitle_8 : decode cX1_addTitle 8 = .ok (.iconst 1, 1) := dk_4 (dk_at dksX1_addTitle_0 8 rfl rfl)
theorem dX1_addTitle_9 : decode cX1_addTitle 9 = .ok (.iconst 4, 1) := dk_7 (dk_at dksX1_addTitle_0 9 rfl rfl)
theorem dX1_addTitle_10 : decode cX1_addTitle 10 = .ok (.invokestatic 54, 3) := dk_184 0 54 (dk_at dksX1_addTitle_0 10 rfl rfl)
theorem dX1_addTitle_13 : decode cX1_addTitle 13 = .ok (.aload_n 0, 1) := dk_42 (dk_at dksX1_addTitle_0 13 rfl rfl)
theorem dX1_addTitle_14 : decode cX1_addTitle 14 = .ok (.getfield 12, 3) := dk_180 0 12 (dk_at dksX1_addTitle_0 14 rfl rfl)
theorem dX1_addTitle_17 : decode cX1_addTitle 17 = .ok (.invokeinterface 28 1, 5) := by decide +kernel
theorem dX1_addTitle_22 : decode cX1_addTitle 22 = .ok (.bipush 20, 2) := dk_16 20 (dk_at dksX1_addTitle_0 22 rfl rfl)
theorem dX1_addTitle_24 : decode cX1_addTitle 24 = .ok (.if_icmp .ge 7, 3) := dk_162 0 7 (dk_at dksX1_addTitle_1 0 rfl rfl)
theorem dX1_addTitle_27 : decode cX1_addTitle 27 = .ok (.iconst 1, 1) := dk_4 (dk_at dksX1_addTitle_1 3 rfl rfl)
theorem dX1_addTitle_28 : decode cX1_addTitle 28 = .ok (.goto 4, 3) := dk_167 0 4 (dk_at dksX1_addTitle_1 4 rfl rfl)
theorem dX1_addTitle_31 : decode cX1_addTitle 31 = .ok (.iconst 0, 1) := dk_3 (dk_at dksX1_addTitle_1 7 rfl rfl)
theorem dX1_addTitle_32 : decode cX1_addTitle 32 = .ok (.invokestatic 66, 3) := dk_184 0 66 (dk_at dksX1_addTitle_1 8 rfl rfl)
theorem dX1_addTitle_35 : decode cX1_addTitle 35 = .ok (.aload_n 0, 1) := dk_42 (dk_at dksX1_addTitle_1 11 rfl rfl)
theorem dX1_addTitle_36 : decode cX1_addTitle 36 = .ok (.getfield 12, 3) := dk_180 0 12 (dk_at dksX1_addTitle_1 12 rfl rfl)
theorem dX1_addTitle_39 : decode cX1_addTitle 39 = .ok (.new 42, 3) := dk_187 0 42 (dk_at dksX1_addTitle_1 15 rfl rfl)
theorem dX1_addTitle_42 : decode cX1_addTitle 42 = .ok (.dup, 1) := dk_89 (dk_at dksX1_addTitle_1 18 rfl rfl)
theorem dX1_addTitle_43 : decode cX1_addTitle 43 = .ok (.iload_n 1, 1) := dk_27 (dk_at dksX1_addTitle_1 19 rfl rfl)
theorem dX1_addTitle_44 : decode cX1_addTitle 44 = .ok (.iload_n 2, 1) := dk_28 (dk_at dksX1_addTitle_1 20 rfl rfl)
theorem dX1_addTitle_45 : decode cX1_addTitle 45 = .ok (.invokespecial 70, 3) := dk_183 0 70 (dk_at dksX1_addTitle_1 21 rfl rfl)
theorem dX1_addTitle_48 : decode cX1_addTitle 48 = .ok (.invokeinterface 72 2, 5) := by decide +kernel
theorem dX1_addTitle_53 : decode cX1_addTitle 53 = .ok (.pop, 1) := dk_87 (dk_at dksX1_addTitle_2 5 rfl rfl)
theorem dX1_addTitle_54 : decode cX1_addTitle 54 = .ok (.aload_n 0, 1) := dk_42 (dk_at dksX1_addTitle_2 6 rfl rfl)
theorem dX1_addTitle_55 : decode cX1_addTitle 55 = .ok (.getfield 12, 3) := dk_180 0 12 (dk_at dksX1_addTitle_2 7 rfl rfl)
theorem dX1_addTitle_58 : decode cX1_addTitle 58 = .ok (.invokeinterface 28 1, 5) := by decide +kernel
theorem dX1_addTitle_63 : decode cX1_addTitle 63 = .ok (.iconst 1, 1) := dk_4 (dk_at dksX1_addTitle_2 15 rfl rfl)
theorem dX1_addTitle_64 : decode cX1_addTitle 64 = .ok (.isub, 1) := dk_100 (dk_at dksX1_addTitle_2 16 rfl rfl)
theorem dX1_addTitle_65 : decode cX1_addTitle 65 = .ok (.ireturn, 1) := dk_172 (dk_at dksX1_addTitle_2 17 rfl rfl)
abbrev cX1_check : ByteArray := prog_1_method_2_code
def yX1_check : MethodName := ⟨RX1, "check", "(III)V"⟩
def dkwX1_check_0 : List UInt8 := [26, 27, 161, 0, 8, 26, 28, 164, 0, 11, 187, 0, 19, 89, 183, 0, 21, 191, 177]
abbrev dktX1_check_0 : List UInt8 := dkwX1_check_0 ++ []
theorem dksX1_check_0 : cX1_check.data.toList.drop 0 = dktX1_check_0 := by decide +kernel
theorem dX1_check_0 : decode cX1_check 0 = .ok (.iload_n 0, 1) := dk_26 (dk_at dksX1_check_0 0 rfl rfl)
theorem dX1_check_1 : decode cX1_check 1 = .ok (.iload_n 1, 1) := dk_27 (dk_at dksX1_check_0 1 rfl rfl)
theorem dX1_check_2 : decode cX1_check 2 = .ok (.if_icmp .lt 8, 3) := dk_161 0 8 (dk_at dksX1_check_0 2 rfl rfl)
theorem dX1_check_5 : decode cX1_check 5 = .ok (.iload_n 0, 1) := dk_26 (dk_at dksX1_check_0 5 rfl rfl)
theorem dX1_check_6 : decode cX1_check 6 = .ok (.iload_n 2, 1) := dk_28 (dk_at dksX1_check_0 6 rfl rfl)
theorem dX1_check_7 : decode cX1_check 7 = .ok (.if_icmp .le 11, 3) := dk_164 0 11 (dk_at dksX1_check_0 7 rfl rfl)
theorem dX1_check_10 : decode cX1_check 10 = .ok (.new 19, 3) := dk_187 0 19 (dk_at dksX1_check_0 10 rfl rfl)
theorem dX1_check_13 : decode cX1_check 13 = .ok (.dup, 1) := dk_89 (dk_at dksX1_check_0 13 rfl rfl)
theorem dX1_check_14 : decode cX1_check 14 = .ok (.invokespecial 21, 3) := dk_183 0 21 (dk_at dksX1_check_0 14 rfl rfl)
theorem dX1_check_17 : decode cX1_check 17 = .ok (.athrow, 1) := dk_191 (dk_at dksX1_check_0 17 rfl rfl)
theorem dX1_check_18 : decode cX1_check 18 = .ok (.return_, 1) := dk_177 (dk_at dksX1_check_0 18 rfl rfl)
abbrev cX1_checkState : ByteArray := prog_1_method_3_code
def yX1_checkState : MethodName := ⟨RX1, "checkState", "(Z)V"⟩
def dkwX1_checkState_0 : List UInt8 := [26, 154, 0, 11, 187, 0, 22, 89, 183, 0, 24, 191, 177]
abbrev dktX1_checkState_0 : List UInt8 := dkwX1_checkState_0 ++ []
theorem dksX1_checkState_0 : cX1_checkState.data.toList.drop 0 = dktX1_checkState_0 := by decide +kernel
theorem dX1_checkState_0 : decode cX1_checkState 0 = .ok (.iload_n 0, 1) := dk_26 (dk_at dksX1_checkState_0 0 rfl rfl)
theorem dX1_checkState_1 : decode cX1_checkState 1 = .ok (.ifCond .ne 11, 3) := dk_154 0 11 (dk_at dksX1_checkState_0 1 rfl rfl)
theorem dX1_checkState_4 : decode cX1_checkState 4 = .ok (.new 22, 3) := dk_187 0 22 (dk_at dksX1_checkState_0 4 rfl rfl)
theorem dX1_checkState_7 : decode cX1_checkState 7 = .ok (.dup, 1) := dk_89 (dk_at dksX1_checkState_0 7 rfl rfl)
theorem dX1_checkState_8 : decode cX1_checkState 8 = .ok (.invokespecial 24, 3) := dk_183 0 24 (dk_at dksX1_checkState_0 8 rfl rfl)
theorem dX1_checkState_11 : decode cX1_checkState 11 = .ok (.athrow, 1) := dk_191 (dk_at dksX1_checkState_0 11 rfl rfl)
theorem dX1_checkState_12 : decode cX1_checkState 12 = .ok (.return_, 1) := dk_177 (dk_at dksX1_checkState_0 12 rfl rfl)
abbrev cX1_yearOf : ByteArray := prog_1_method_11_code
def yX1_yearOf : MethodName := ⟨RX1, "yearOf", "(II)I"⟩
def dkwX1_yearOf_1 : List UInt8 := [184, 0, 54, 45, 182, 0, 79, 28, 4, 100, 45, 182, 0, 76, 108, 96, 172]
abbrev dktX1_yearOf_1 : List UInt8 := dkwX1_yearOf_1 ++ []
def dkwX1_yearOf_0 : List UInt8 := [42, 27, 182, 0, 50, 78, 28, 4, 45, 182, 0, 76, 16, 55, 45, 182, 0, 79, 100, 4, 96, 104]
abbrev dktX1_yearOf_0 : List UInt8 := dkwX1_yearOf_0 ++ dktX1_yearOf_1
theorem dksX1_yearOf_0 : cX1_yearOf.data.toList.drop 0 = dktX1_yearOf_0 := by decide +kernel
theorem dksX1_yearOf_1 : cX1_yearOf.data.toList.drop 22 = dktX1_yearOf_1 := dk_seg dksX1_yearOf_0 22 rfl rfl
theorem dX1_yearOf_0 : decode cX1_yearOf 0 = .ok (.aload_n 0, 1) := dk_42 (dk_at dksX1_yearOf_0 0 rfl rfl)
theorem dX1_yearOf_1 : decode cX1_yearOf 1 = .ok (.iload_n 1, 1) := dk_27 (dk_at dksX1_yearOf_0 1 rfl rfl)
theorem dX1_yearOf_2 : decode cX1_yearOf 2 = .ok (.invokevirtual 50, 3) := dk_182 0 50 (dk_at dksX1_yearOf_0 2 rfl rfl)
theorem dX1_yearOf_5 : decode cX1_yearOf 5 = .ok (.astore_n 3, 1) := dk_78 (dk_at dksX1_yearOf_0 5 rfl rfl)
theorem dX1_yearOf_6 : decode cX1_yearOf 6 = .ok (.iload_n 2, 1) := dk_28 (dk_at dksX1_yearOf_0 6 rfl rfl)
theorem dX1_yearOf_7 : decode cX1_yearOf 7 = .ok (.iconst 1, 1) := dk_4 (dk_at dksX1_yearOf_0 7 rfl rfl)
theorem dX1_yearOf_8 : decode cX1_yearOf 8 = .ok (.aload_n 3, 1) := dk_45 (dk_at dksX1_yearOf_0 8 rfl rfl)
theorem dX1_yearOf_9 : decode cX1_yearOf 9 = .ok (.invokevirtual 76, 3) := dk_182 0 76 (dk_at dksX1_yearOf_0 9 rfl rfl)
theorem dX1_yearOf_12 : decode cX1_yearOf 12 = .ok (.bipush 55, 2) := dk_16 55 (dk_at dksX1_yearOf_0 12 rfl rfl)
theorem dX1_yearOf_14 : decode cX1_yearOf 14 = .ok (.aload_n 3, 1) := dk_45 (dk_at dksX1_yearOf_0 14 rfl rfl)
theorem dX1_yearOf_15 : decode cX1_yearOf 15 = .ok (.invokevirtual 79, 3) := dk_182 0 79 (dk_at dksX1_yearOf_0 15 rfl rfl)
theorem dX1_yearOf_18 : decode cX1_yearOf 18 = .ok (.isub, 1) := dk_100 (dk_at dksX1_yearOf_0 18 rfl rfl)
theorem dX1_yearOf_19 : decode cX1_yearOf 19 = .ok (.iconst 1, 1) := dk_4 (dk_at dksX1_yearOf_0 19 rfl rfl)
theorem dX1_yearOf_20 : decode cX1_yearOf 20 = .ok (.iadd, 1) := dk_96 (dk_at dksX1_yearOf_0 20 rfl rfl)
theorem dX1_yearOf_21 : decode cX1_yearOf 21 = .ok (.imul, 1) := dk_104 (dk_at dksX1_yearOf_0 21 rfl rfl)
theorem dX1_yearOf_22 : decode cX1_yearOf 22 = .ok (.invokestatic 54, 3) := dk_184 0 54 (dk_at dksX1_yearOf_1 0 rfl rfl)
theorem dX1_yearOf_25 : decode cX1_yearOf 25 = .ok (.aload_n 3, 1) := dk_45 (dk_at dksX1_yearOf_1 3 rfl rfl)
theorem dX1_yearOf_26 : decode cX1_yearOf 26 = .ok (.invokevirtual 79, 3) := dk_182 0 79 (dk_at dksX1_yearOf_1 4 rfl rfl)
theorem dX1_yearOf_29 : decode cX1_yearOf 29 = .ok (.iload_n 2, 1) := dk_28 (dk_at dksX1_yearOf_1 7 rfl rfl)
theorem dX1_yearOf_30 : decode cX1_yearOf 30 = .ok (.iconst 1, 1) := dk_4 (dk_at dksX1_yearOf_1 8 rfl rfl)
theorem dX1_yearOf_31 : decode cX1_yearOf 31 = .ok (.isub, 1) := dk_100 (dk_at dksX1_yearOf_1 9 rfl rfl)
theorem dX1_yearOf_32 : decode cX1_yearOf 32 = .ok (.aload_n 3, 1) := dk_45 (dk_at dksX1_yearOf_1 10 rfl rfl)
theorem dX1_yearOf_33 : decode cX1_yearOf 33 = .ok (.invokevirtual 76, 3) := dk_182 0 76 (dk_at dksX1_yearOf_1 11 rfl rfl)
theorem dX1_yearOf_36 : decode cX1_yearOf 36 = .ok (.idiv, 1) := dk_108 (dk_at dksX1_yearOf_1 14 rfl rfl)
theorem dX1_yearOf_37 : decode cX1_yearOf 37 = .ok (.iadd, 1) := dk_96 (dk_at dksX1_yearOf_1 15 rfl rfl)
theorem dX1_yearOf_38 : decode cX1_yearOf 38 = .ok (.ireturn, 1) := dk_172 (dk_at dksX1_yearOf_1 16 rfl rfl)
abbrev cX1_title : ByteArray := prog_1_method_5_code
def yX1_title : MethodName := ⟨RX1, "title", "(I)LLinkResolver$Title;"⟩
def dkwX1_title_1 : List UInt8 := [192, 0, 42, 176]
abbrev dktX1_title_1 : List UInt8 := dkwX1_title_1 ++ []
def dkwX1_title_0 : List UInt8 := [27, 42, 180, 0, 12, 185, 0, 28, 1, 0, 184, 0, 34, 42, 180, 0, 12, 27, 185, 0, 38, 2, 0]
abbrev dktX1_title_0 : List UInt8 := dkwX1_title_0 ++ dktX1_title_1
theorem dksX1_title_0 : cX1_title.data.toList.drop 0 = dktX1_title_0 := by decide +kernel
theorem dksX1_title_1 : cX1_title.data.toList.drop 23 = dktX1_title_1 := dk_seg dksX1_title_0 23 rfl rfl
theorem dX1_title_0 : decode cX1_title 0 = .ok (.iload_n 1, 1) := dk_27 (dk_at dksX1_title_0 0 rfl rfl)
theorem dX1_title_1 : decode cX1_title 1 = .ok (.aload_n 0, 1) := dk_42 (dk_at dksX1_title_0 1 rfl rfl)
theorem dX1_title_2 : decode cX1_title 2 = .ok (.getfield 12, 3) := dk_180 0 12 (dk_at dksX1_title_0 2 rfl rfl)
theorem dX1_title_5 : decode cX1_title 5 = .ok (.invokeinterface 28 1, 5) := by decide +kernel
theorem dX1_title_10 : decode cX1_title 10 = .ok (.invokestatic 34, 3) := dk_184 0 34 (dk_at dksX1_title_0 10 rfl rfl)
theorem dX1_title_13 : decode cX1_title 13 = .ok (.aload_n 0, 1) := dk_42 (dk_at dksX1_title_0 13 rfl rfl)
theorem dX1_title_14 : decode cX1_title 14 = .ok (.getfield 12, 3) := dk_180 0 12 (dk_at dksX1_title_0 14 rfl rfl)
theorem dX1_title_17 : decode cX1_title 17 = .ok (.iload_n 1, 1) := dk_27 (dk_at dksX1_title_0 17 rfl rfl)
theorem dX1_title_18 : decode cX1_title 18 = .ok (.invokeinterface 38 2, 5) := by decide +kernel
theorem dX1_title_23 : decode cX1_title 23 = .ok (.checkcast 42, 3) := dk_192 0 42 (dk_at dksX1_title_1 0 rfl rfl)
theorem dX1_title_26 : decode cX1_title 26 = .ok (.areturn, 1) := dk_176 (dk_at dksX1_title_1 3 rfl rfl)
abbrev cX1_checkIndex : ByteArray := prog_1_method_4_code
def yX1_checkIndex : MethodName := ⟨RX1, "checkIndex", "(II)V"⟩
def dkwX1_checkIndex_0 : List UInt8 := [26, 155, 0, 8, 26, 27, 161, 0, 11, 187, 0, 25, 89, 183, 0, 27, 191, 177]
abbrev dktX1_checkIndex_0 : List UInt8 := dkwX1_checkIndex_0 ++ []
theorem dksX1_checkIndex_0 : cX1_checkIndex.data.toList.drop 0 = dktX1_checkIndex_0 := by decide +kernel
theorem dX1_checkIndex_0 : decode cX1_checkIndex 0 = .ok (.iload_n 0, 1) := dk_26 (dk_at dksX1_checkIndex_0 0 rfl rfl)
theorem dX1_checkIndex_1 : decode cX1_checkIndex 1 = .ok (.ifCond .lt 8, 3) := dk_155 0 8 (dk_at dksX1_checkIndex_0 1 rfl rfl)
theorem dX1_checkIndex_4 : decode cX1_checkIndex 4 = .ok (.iload_n 0, 1) := dk_26 (dk_at dksX1_checkIndex_0 4 rfl rfl)
theorem dX1_checkIndex_5 : decode cX1_checkIndex 5 = .ok (.iload_n 1, 1) := dk_27 (dk_at dksX1_checkIndex_0 5 rfl rfl)
theorem dX1_checkIndex_6 : decode cX1_checkIndex 6 = .ok (.if_icmp .lt 11, 3) := dk_161 0 11 (dk_at dksX1_checkIndex_0 6 rfl rfl)
theorem dX1_checkIndex_9 : decode cX1_checkIndex 9 = .ok (.new 25, 3) := dk_187 0 25 (dk_at dksX1_checkIndex_0 9 rfl rfl)
theorem dX1_checkIndex_12 : decode cX1_checkIndex 12 = .ok (.dup, 1) := dk_89 (dk_at dksX1_checkIndex_0 12 rfl rfl)
theorem dX1_checkIndex_13 : decode cX1_checkIndex 13 = .ok (.invokespecial 27, 3) := dk_183 0 27 (dk_at dksX1_checkIndex_0 13 rfl rfl)
theorem dX1_checkIndex_16 : decode cX1_checkIndex 16 = .ok (.athrow, 1) := dk_191 (dk_at dksX1_checkIndex_0 16 rfl rfl)
theorem dX1_checkIndex_17 : decode cX1_checkIndex 17 = .ok (.return_, 1) := dk_177 (dk_at dksX1_checkIndex_0 17 rfl rfl)
abbrev cX1_volumeOf : ByteArray := prog_1_method_12_code
def yX1_volumeOf : MethodName := ⟨RX1, "volumeOf", "(II)I"⟩
def dkwX1_volumeOf_1 : List UInt8 := [182, 0, 76, 104, 4, 96, 172]
abbrev dktX1_volumeOf_1 : List UInt8 := dkwX1_volumeOf_1 ++ []
def dkwX1_volumeOf_0 : List UInt8 := [42, 27, 182, 0, 50, 78, 28, 45, 182, 0, 79, 16, 55, 184, 0, 54, 28, 45, 182, 0, 79, 100, 45]
abbrev dktX1_volumeOf_0 : List UInt8 := dkwX1_volumeOf_0 ++ dktX1_volumeOf_1
theorem dksX1_volumeOf_0 : cX1_volumeOf.data.toList.drop 0 = dktX1_volumeOf_0 := by decide +kernel
theorem dksX1_volumeOf_1 : cX1_volumeOf.data.toList.drop 23 = dktX1_volumeOf_1 := dk_seg dksX1_volumeOf_0 23 rfl rfl
theorem dX1_volumeOf_0 : decode cX1_volumeOf 0 = .ok (.aload_n 0, 1) := dk_42 (dk_at dksX1_volumeOf_0 0 rfl rfl)
theorem dX1_volumeOf_1 : decode cX1_volumeOf 1 = .ok (.iload_n 1, 1) := dk_27 (dk_at dksX1_volumeOf_0 1 rfl rfl)
theorem dX1_volumeOf_2 : decode cX1_volumeOf 2 = .ok (.invokevirtual 50, 3) := dk_182 0 50 (dk_at dksX1_volumeOf_0 2 rfl rfl)
theorem dX1_volumeOf_5 : decode cX1_volumeOf 5 = .ok (.astore_n 3, 1) := dk_78 (dk_at dksX1_volumeOf_0 5 rfl rfl)
theorem dX1_volumeOf_6 : decode cX1_volumeOf 6 = .ok (.iload_n 2, 1) := dk_28 (dk_at dksX1_volumeOf_0 6 rfl rfl)
theorem dX1_volumeOf_7 : decode cX1_volumeOf 7 = .ok (.aload_n 3, 1) := dk_45 (dk_at dksX1_volumeOf_0 7 rfl rfl)
theorem dX1_volumeOf_8 : decode cX1_volumeOf 8 = .ok (.invokevirtual 79, 3) := dk_182 0 79 (dk_at dksX1_volumeOf_0 8 rfl rfl)
theorem dX1_volumeOf_11 : decode cX1_volumeOf 11 = .ok (.bipush 55, 2) := dk_16 55 (dk_at dksX1_volumeOf_0 11 rfl rfl)
theorem dX1_volumeOf_13 : decode cX1_volumeOf 13 = .ok (.invokestatic 54, 3) := dk_184 0 54 (dk_at dksX1_volumeOf_0 13 rfl rfl)
theorem dX1_volumeOf_16 : decode cX1_volumeOf 16 = .ok (.iload_n 2, 1) := dk_28 (dk_at dksX1_volumeOf_0 16 rfl rfl)
theorem dX1_volumeOf_17 : decode cX1_volumeOf 17 = .ok (.aload_n 3, 1) := dk_45 (dk_at dksX1_volumeOf_0 17 rfl rfl)
theorem dX1_volumeOf_18 : decode cX1_volumeOf 18 = .ok (.invokevirtual 79, 3) := dk_182 0 79 (dk_at dksX1_volumeOf_0 18 rfl rfl)
theorem dX1_volumeOf_21 : decode cX1_volumeOf 21 = .ok (.isub, 1) := dk_100 (dk_at dksX1_volumeOf_0 21 rfl rfl)
theorem dX1_volumeOf_22 : decode cX1_volumeOf 22 = .ok (.aload_n 3, 1) := dk_45 (dk_at dksX1_volumeOf_0 22 rfl rfl)
theorem dX1_volumeOf_23 : decode cX1_volumeOf 23 = .ok (.invokevirtual 76, 3) := dk_182 0 76 (dk_at dksX1_volumeOf_1 0 rfl rfl)
theorem dX1_volumeOf_26 : decode cX1_volumeOf 26 = .ok (.imul, 1) := dk_104 (dk_at dksX1_volumeOf_1 3 rfl rfl)
theorem dX1_volumeOf_27 : decode cX1_volumeOf 27 = .ok (.iconst 1, 1) := dk_4 (dk_at dksX1_volumeOf_1 4 rfl rfl)
theorem dX1_volumeOf_28 : decode cX1_volumeOf 28 = .ok (.iadd, 1) := dk_96 (dk_at dksX1_volumeOf_1 5 rfl rfl)
theorem dX1_volumeOf_29 : decode cX1_volumeOf 29 = .ok (.ireturn, 1) := dk_172 (dk_at dksX1_volumeOf_1 6 rfl rfl)
abbrev cX1_addPackage : ByteArray := prog_1_method_13_code
def yX1_addPackage : MethodName := ⟨RX1, "addPackage", "(IIII)I"⟩
def dkwX1_addPackage_4 : List UInt8 := [185, 0, 28, 1, 0, 4, 100, 172]
abbrev dktX1_addPackage_4 : List UInt8 := dkwX1_addPackage_4 ++ []
def dkwX1_addPackage_3 : List UInt8 := [21, 4, 4, 160, 0, 7, 4, 167, 0, 4, 3, 183, 0, 82, 185, 0, 72, 2, 0, 87, 42, 180, 0, 16]
abbrev dktX1_addPackage_3 : List UInt8 := dkwX1_addPackage_3 ++ dktX1_addPackage_4
def dkwX1_addPackage_2 : List UInt8 := [184, 0, 66, 42, 180, 0, 16, 187, 0, 44, 89, 42, 180, 0, 16, 185, 0, 28, 1, 0, 27, 28, 29]
abbrev dktX1_addPackage_2 : List UInt8 := dkwX1_addPackage_2 ++ dktX1_addPackage_3
def dkwX1_addPackage_1 : List UInt8 := [4, 184, 0, 54, 42, 180, 0, 16, 185, 0, 28, 1, 0, 16, 10, 162, 0, 7, 4, 167, 0, 4, 3]
abbrev dktX1_addPackage_1 : List UInt8 := dkwX1_addPackage_1 ++ dktX1_addPackage_2
def dkwX1_addPackage_0 : List UInt8 := [27, 3, 17, 3, 232, 184, 0, 54, 28, 3, 5, 184, 0, 54, 29, 3, 16, 15, 184, 0, 54, 21, 4, 3]
abbrev dktX1_addPackage_0 : List UInt8 := dkwX1_addPackage_0 ++ dktX1_addPackage_1
theorem dksX1_addPackage_0 : cX1_addPackage.data.toList.drop 0 = dktX1_addPackage_0 := by decide +kernel
theorem dksX1_addPackage_1 : cX1_addPackage.data.toList.drop 24 = dktX1_addPackage_1 := dk_seg dksX1_addPackage_0 24 rfl rfl
theorem dksX1_addPackage_2 : cX1_addPackage.data.toList.drop 47 = dktX1_addPackage_2 := dk_seg dksX1_addPackage_1 23 rfl rfl
theorem dksX1_addPackage_3 : cX1_addPackage.data.toList.drop 70 = dktX1_addPackage_3 := dk_seg dksX1_addPackage_2 23 rfl rfl
theorem dksX1_addPackage_4 : cX1_addPackage.data.toList.drop 94 = dktX1_addPackage_4 := dk_seg dksX1_addPackage_3 24 rfl rfl
theorem dX1_addPackage_0 : decode cX1_addPackage 0 = .ok (.iload_n 1, 1) := dk_27 (dk_at dksX1_addPackage_0 0 rfl rfl)
theorem dX1_addPackage_1 : decode cX1_addPackage 1 = .ok (.iconst 0, 1) := dk_3 (dk_at dksX1_addPackage_0 1 rfl rfl)
theorem dX1_addPackage_2 : decode cX1_addPackage 2 = .ok (.sipush 1000, 3) := dk_17 3 232 (dk_at dksX1_addPackage_0 2 rfl rfl)
theorem dX1_addPackage_5 : decode cX1_addPackage 5 = .ok (.invokestatic 54, 3) := dk_184 0 54 (dk_at dksX1_addPackage_0 5 rfl rfl)
theorem dX1_addPackage_8 : decode cX1_addPackage 8 = .ok (.iload_n 2, 1) := dk_28 (dk_at dksX1_addPackage_0 8 rfl rfl)
theorem dX1_addPackage_9 : decode cX1_addPackage 9 = .ok (.iconst 0, 1) := dk_3 (dk_at dksX1_addPackage_0 9 rfl rfl)
theorem dX1_addPackage_10 : decode cX1_addPackage 10 = .ok (.iconst 2, 1) := dk_5 (dk_at dksX1_addPackage_0 10 rfl rfl)
theorem dX1_addPackage_11 : decode cX1_addPackage 11 = .ok (.invokestatic 54, 3) := dk_184 0 54 (dk_at dksX1_addPackage_0 11 rfl rfl)
theorem dX1_addPackage_14 : decode cX1_addPackage 14 = .ok (.iload_n 3, 1) := dk_29 (dk_at dksX1_addPackage_0 14 rfl rfl)
theorem dX1_addPackage_15 : decode cX1_addPackage 15 = .ok (.iconst 0, 1) := dk_3 (dk_at dksX1_addPackage_0 15 rfl rfl)
theorem dX1_addPackage_16 : decode cX1_addPackage 16 = .ok (.bipush 15, 2) := dk_16 15 (dk_at dksX1_addPackage_0 16 rfl rfl)
theorem dX1_addPackage_18 : decode cX1_addPackage 18 = .ok (.invokestatic 54, 3) := dk_184 0 54 (dk_at dksX1_addPackage_0 18 rfl rfl)
theorem dX1_addPackage_21 : decode cX1_addPackage 21 = .ok (.iload 4, 2) := dk_21 4 (dk_at dksX1_addPackage_0 21 rfl rfl)
theorem dX1_addPackage_23 : decode cX1_addPackage 23 = .ok (.iconst 0, 1) := dk_3 (dk_at dksX1_addPackage_0 23 rfl rfl)
theorem dX1_addPackage_24 : decode cX1_addPackage 24 = .ok (.iconst 1, 1) := dk_4 (dk_at dksX1_addPackage_1 0 rfl rfl)
theorem dX1_addPackage_25 : decode cX1_addPackage 25 = .ok (.invokestatic 54, 3) := dk_184 0 54 (dk_at dksX1_addPackage_1 1 rfl rfl)
theorem dX1_addPackage_28 : decode cX1_addPackage 28 = .ok (.aload_n 0, 1) := dk_42 (dk_at dksX1_addPackage_1 4 rfl rfl)
theorem dX1_addPackage_29 : decode cX1_addPackage 29 = .ok (.getfield 16, 3) := dk_180 0 16 (dk_at dksX1_addPackage_1 5 rfl rfl)
theorem dX1_addPackage_32 : decode cX1_addPackage 32 = .ok (.invokeinterface 28 1, 5) := by decide +kernel
theorem dX1_addPackage_37 : decode cX1_addPackage 37 = .ok (.bipush 10, 2) := dk_16 10 (dk_at dksX1_addPackage_1 13 rfl rfl)
theorem dX1_addPackage_39 : decode cX1_addPackage 39 = .ok (.if_icmp .ge 7, 3) := dk_162 0 7 (dk_at dksX1_addPackage_1 15 rfl rfl)
theorem dX1_addPackage_42 : decode cX1_addPackage 42 = .ok (.iconst 1, 1) := dk_4 (dk_at dksX1_addPackage_1 18 rfl rfl)
theorem dX1_addPackage_43 : decode cX1_addPackage 43 = .ok (.goto 4, 3) := dk_167 0 4 (dk_at dksX1_addPackage_1 19 rfl rfl)
theorem dX1_addPackage_46 : decode cX1_addPackage 46 = .ok (.iconst 0, 1) := dk_3 (dk_at dksX1_addPackage_1 22 rfl rfl)
theorem dX1_addPackage_47 : decode cX1_addPackage 47 = .ok (.invokestatic 66, 3) := dk_184 0 66 (dk_at dksX1_addPackage_2 0 rfl rfl)
theorem dX1_addPackage_50 : decode cX1_addPackage 50 = .ok (.aload_n 0, 1) := dk_42 (dk_at dksX1_addPackage_2 3 rfl rfl)
theorem dX1_addPackage_51 : decode cX1_addPackage 51 = .ok (.getfield 16, 3) := dk_180 0 16 (dk_at dksX1_addPackage_2 4 rfl rfl)
theorem dX1_addPackage_54 : decode cX1_addPackage 54 = .ok (.new 44, 3) := dk_187 0 44 (dk_at dksX1_addPackage_2 7 rfl rfl)
theorem dX1_addPackage_57 : decode cX1_addPackage 57 = .ok (.dup, 1) := dk_89 (dk_at dksX1_addPackage_2 10 rfl rfl)
theorem dX1_addPackage_58 : decode cX1_addPackage 58 = .ok (.aload_n 0, 1) := dk_42 (dk_at dksX1_addPackage_2 11 rfl rfl)
theorem dX1_addPackage_59 : decode cX1_addPackage 59 = .ok (.getfield 16, 3) := dk_180 0 16 (dk_at dksX1_addPackage_2 12 rfl rfl)
theorem dX1_addPackage_62 : decode cX1_addPackage 62 = .ok (.invokeinterface 28 1, 5) := by decide +kernel
theorem dX1_addPackage_67 : decode cX1_addPackage 67 = .ok (.iload_n 1, 1) := dk_27 (dk_at dksX1_addPackage_2 20 rfl rfl)
theorem dX1_addPackage_68 : decode cX1_addPackage 68 = .ok (.iload_n 2, 1) := dk_28 (dk_at dksX1_addPackage_2 21 rfl rfl)
theorem dX1_addPackage_69 : decode cX1_addPackage 69 = .ok (.iload_n 3, 1) := dk_29 (dk_at dksX1_addPackage_2 22 rfl rfl)
theorem dX1_addPackage_70 : decode cX1_addPackage 70 = .ok (.iload 4, 2) := dk_21 4 (dk_at dksX1_addPackage_3 0 rfl rfl)
theorem dX1_addPackage_72 : decode cX1_addPackage 72 = .ok (.iconst 1, 1) := dk_4 (dk_at dksX1_addPackage_3 2 rfl rfl)
theorem dX1_addPackage_73 : decode cX1_addPackage 73 = .ok (.if_icmp .ne 7, 3) := dk_160 0 7 (dk_at dksX1_addPackage_3 3 rfl rfl)
theorem dX1_addPackage_76 : decode cX1_addPackage 76 = .ok (.iconst 1, 1) := dk_4 (dk_at dksX1_addPackage_3 6 rfl rfl)
theorem dX1_addPackage_77 : decode cX1_addPackage 77 = .ok (.goto 4, 3) := dk_167 0 4 (dk_at dksX1_addPackage_3 7 rfl rfl)
theorem dX1_addPackage_80 : decode cX1_addPackage 80 = .ok (.iconst 0, 1) := dk_3 (dk_at dksX1_addPackage_3 10 rfl rfl)
theorem dX1_addPackage_81 : decode cX1_addPackage 81 = .ok (.invokespecial 82, 3) := dk_183 0 82 (dk_at dksX1_addPackage_3 11 rfl rfl)
theorem dX1_addPackage_84 : decode cX1_addPackage 84 = .ok (.invokeinterface 72 2, 5) := by decide +kernel
theorem dX1_addPackage_89 : decode cX1_addPackage 89 = .ok (.pop, 1) := dk_87 (dk_at dksX1_addPackage_3 19 rfl rfl)
theorem dX1_addPackage_90 : decode cX1_addPackage 90 = .ok (.aload_n 0, 1) := dk_42 (dk_at dksX1_addPackage_3 20 rfl rfl)
theorem dX1_addPackage_91 : decode cX1_addPackage 91 = .ok (.getfield 16, 3) := dk_180 0 16 (dk_at dksX1_addPackage_3 21 rfl rfl)
theorem dX1_addPackage_94 : decode cX1_addPackage 94 = .ok (.invokeinterface 28 1, 5) := by decide +kernel
theorem dX1_addPackage_99 : decode cX1_addPackage 99 = .ok (.iconst 1, 1) := dk_4 (dk_at dksX1_addPackage_4 5 rfl rfl)
theorem dX1_addPackage_100 : decode cX1_addPackage 100 = .ok (.isub, 1) := dk_100 (dk_at dksX1_addPackage_4 6 rfl rfl)
theorem dX1_addPackage_101 : decode cX1_addPackage 101 = .ok (.ireturn, 1) := dk_172 (dk_at dksX1_addPackage_4 7 rfl rfl)
abbrev cX1_subscribe : ByteArray := prog_1_method_14_code
def yX1_subscribe : MethodName := ⟨RX1, "subscribe", "(IZ)Z"⟩
def dkwX1_subscribe_1 : List UInt8 := [42, 180, 0, 62, 28, 183, 0, 94, 185, 0, 72, 2, 0, 87, 21, 4, 172]
abbrev dktX1_subscribe_1 : List UInt8 := dkwX1_subscribe_1 ++ []
def dkwX1_subscribe_0 : List UInt8 := [42, 27, 182, 0, 46, 78, 45, 42, 180, 0, 62, 182, 0, 85, 54, 4, 45, 180, 0, 89, 187, 0, 92, 89]
abbrev dktX1_subscribe_0 : List UInt8 := dkwX1_subscribe_0 ++ dktX1_subscribe_1
theorem dksX1_subscribe_0 : cX1_subscribe.data.toList.drop 0 = dktX1_subscribe_0 := by decide +kernel
theorem dksX1_subscribe_1 : cX1_subscribe.data.toList.drop 24 = dktX1_subscribe_1 := dk_seg dksX1_subscribe_0 24 rfl rfl
theorem dX1_subscribe_0 : decode cX1_subscribe 0 = .ok (.aload_n 0, 1) := dk_42 (dk_at dksX1_subscribe_0 0 rfl rfl)
theorem dX1_subscribe_1 : decode cX1_subscribe 1 = .ok (.iload_n 1, 1) := dk_27 (dk_at dksX1_subscribe_0 1 rfl rfl)
theorem dX1_subscribe_2 : decode cX1_subscribe 2 = .ok (.invokevirtual 46, 3) := dk_182 0 46 (dk_at dksX1_subscribe_0 2 rfl rfl)
theorem dX1_subscribe_5 : decode cX1_subscribe 5 = .ok (.astore_n 3, 1) := dk_78 (dk_at dksX1_subscribe_0 5 rfl rfl)
theorem dX1_subscribe_6 : decode cX1_subscribe 6 = .ok (.aload_n 3, 1) := dk_45 (dk_at dksX1_subscribe_0 6 rfl rfl)
theorem dX1_subscribe_7 : decode cX1_subscribe 7 = .ok (.aload_n 0, 1) := dk_42 (dk_at dksX1_subscribe_0 7 rfl rfl)
theorem dX1_subscribe_8 : decode cX1_subscribe 8 = .ok (.getfield 62, 3) := dk_180 0 62 (dk_at dksX1_subscribe_0 8 rfl rfl)
theorem dX1_subscribe_11 : decode cX1_subscribe 11 = .ok (.invokevirtual 85, 3) := dk_182 0 85 (dk_at dksX1_subscribe_0 11 rfl rfl)
theorem dX1_subscribe_14 : decode cX1_subscribe 14 = .ok (.istore 4, 2) := dk_54 4 (dk_at dksX1_subscribe_0 14 rfl rfl)
theorem dX1_subscribe_16 : decode cX1_subscribe 16 = .ok (.aload_n 3, 1) := dk_45 (dk_at dksX1_subscribe_0 16 rfl rfl)
theorem dX1_subscribe_17 : decode cX1_subscribe 17 = .ok (.getfield 89, 3) := dk_180 0 89 (dk_at dksX1_subscribe_0 17 rfl rfl)
theorem dX1_subscribe_20 : decode cX1_subscribe 20 = .ok (.new 92, 3) := dk_187 0 92 (dk_at dksX1_subscribe_0 20 rfl rfl)
theorem dX1_subscribe_23 : decode cX1_subscribe 23 = .ok (.dup, 1) := dk_89 (dk_at dksX1_subscribe_0 23 rfl rfl)
theorem dX1_subscribe_24 : decode cX1_subscribe 24 = .ok (.aload_n 0, 1) := dk_42 (dk_at dksX1_subscribe_1 0 rfl rfl)
theorem dX1_subscribe_25 : decode cX1_subscribe 25 = .ok (.getfield 62, 3) := dk_180 0 62 (dk_at dksX1_subscribe_1 1 rfl rfl)
theorem dX1_subscribe_28 : decode cX1_subscribe 28 = .ok (.iload_n 2, 1) := dk_28 (dk_at dksX1_subscribe_1 4 rfl rfl)
theorem dX1_subscribe_29 : decode cX1_subscribe 29 = .ok (.invokespecial 94, 3) := dk_183 0 94 (dk_at dksX1_subscribe_1 5 rfl rfl)
theorem dX1_subscribe_32 : decode cX1_subscribe 32 = .ok (.invokeinterface 72 2, 5) := by decide +kernel
theorem dX1_subscribe_37 : decode cX1_subscribe 37 = .ok (.pop, 1) := dk_87 (dk_at dksX1_subscribe_1 13 rfl rfl)
theorem dX1_subscribe_38 : decode cX1_subscribe 38 = .ok (.iload 4, 2) := dk_21 4 (dk_at dksX1_subscribe_1 14 rfl rfl)
theorem dX1_subscribe_40 : decode cX1_subscribe 40 = .ok (.ireturn, 1) := dk_172 (dk_at dksX1_subscribe_1 16 rfl rfl)
abbrev cX1_pack : ByteArray := prog_1_method_6_code
def yX1_pack : MethodName := ⟨RX1, "pack", "(I)LLinkResolver$Package;"⟩
def dkwX1_pack_1 : List UInt8 := [192, 0, 44, 176]
abbrev dktX1_pack_1 : List UInt8 := dkwX1_pack_1 ++ []
def dkwX1_pack_0 : List UInt8 := [27, 42, 180, 0, 16, 185, 0, 28, 1, 0, 184, 0, 34, 42, 180, 0, 16, 27, 185, 0, 38, 2, 0]
abbrev dktX1_pack_0 : List UInt8 := dkwX1_pack_0 ++ dktX1_pack_1
theorem dksX1_pack_0 : cX1_pack.data.toList.drop 0 = dktX1_pack_0 := by decide +kernel
theorem dksX1_pack_1 : cX1_pack.data.toList.drop 23 = dktX1_pack_1 := dk_seg dksX1_pack_0 23 rfl rfl
theorem dX1_pack_0 : decode cX1_pack 0 = .ok (.iload_n 1, 1) := dk_27 (dk_at dksX1_pack_0 0 rfl rfl)
theorem dX1_pack_1 : decode cX1_pack 1 = .ok (.aload_n 0, 1) := dk_42 (dk_at dksX1_pack_0 1 rfl rfl)
theorem dX1_pack_2 : decode cX1_pack 2 = .ok (.getfield 16, 3) := dk_180 0 16 (dk_at dksX1_pack_0 2 rfl rfl)
theorem dX1_pack_5 : decode cX1_pack 5 = .ok (.invokeinterface 28 1, 5) := by decide +kernel
theorem dX1_pack_10 : decode cX1_pack 10 = .ok (.invokestatic 34, 3) := dk_184 0 34 (dk_at dksX1_pack_0 10 rfl rfl)
theorem dX1_pack_13 : decode cX1_pack 13 = .ok (.aload_n 0, 1) := dk_42 (dk_at dksX1_pack_0 13 rfl rfl)
theorem dX1_pack_14 : decode cX1_pack 14 = .ok (.getfield 16, 3) := dk_180 0 16 (dk_at dksX1_pack_0 14 rfl rfl)
theorem dX1_pack_17 : decode cX1_pack 17 = .ok (.iload_n 1, 1) := dk_27 (dk_at dksX1_pack_0 17 rfl rfl)
theorem dX1_pack_18 : decode cX1_pack 18 = .ok (.invokeinterface 38 2, 5) := by decide +kernel
theorem dX1_pack_23 : decode cX1_pack 23 = .ok (.checkcast 44, 3) := dk_192 0 44 (dk_at dksX1_pack_1 0 rfl rfl)
theorem dX1_pack_26 : decode cX1_pack 26 = .ok (.areturn, 1) := dk_176 (dk_at dksX1_pack_1 3 rfl rfl)
abbrev cX1_come : ByteArray := prog_1_method_15_code
def yX1_come : MethodName := ⟨RX1, "come", "(IIIII)Z"⟩
def dkwX1_come_3 : List UInt8 := [21, 5, 183, 0, 110, 185, 0, 72, 2, 0, 87, 21, 7, 172]
abbrev dktX1_come_3 : List UInt8 := dkwX1_come_3 ++ []
def dkwX1_come_2 : List UInt8 := [180, 0, 105, 28, 185, 0, 38, 2, 0, 192, 0, 29, 187, 0, 108, 89, 42, 180, 0, 62, 4, 29, 21, 4]
abbrev dktX1_come_2 : List UInt8 := dkwX1_come_2 ++ dktX1_come_3
def dkwX1_come_1 : List UInt8 := [21, 5, 3, 16, 20, 184, 0, 54, 25, 6, 28, 42, 180, 0, 62, 182, 0, 101, 54, 7, 25, 6]
abbrev dktX1_come_1 : List UInt8 := dkwX1_come_1 ++ dktX1_come_2
def dkwX1_come_0 : List UInt8 := [42, 27, 28, 182, 0, 97, 58, 6, 29, 3, 16, 55, 184, 0, 54, 21, 4, 29, 16, 55, 184, 0, 54]
abbrev dktX1_come_0 : List UInt8 := dkwX1_come_0 ++ dktX1_come_1
theorem dksX1_come_0 : cX1_come.data.toList.drop 0 = dktX1_come_0 := by decide +kernel
theorem dksX1_come_1 : cX1_come.data.toList.drop 23 = dktX1_come_1 := dk_seg dksX1_come_0 23 rfl rfl
theorem dksX1_come_2 : cX1_come.data.toList.drop 45 = dktX1_come_2 := dk_seg dksX1_come_1 22 rfl rfl
theorem dksX1_come_3 : cX1_come.data.toList.drop 69 = dktX1_come_3 := dk_seg dksX1_come_2 24 rfl rfl
theorem dX1_come_0 : decode cX1_come 0 = .ok (.aload_n 0, 1) := dk_42 (dk_at dksX1_come_0 0 rfl rfl)
theorem dX1_come_1 : decode cX1_come 1 = .ok (.iload_n 1, 1) := dk_27 (dk_at dksX1_come_0 1 rfl rfl)
theorem dX1_come_2 : decode cX1_come 2 = .ok (.iload_n 2, 1) := dk_28 (dk_at dksX1_come_0 2 rfl rfl)
theorem dX1_come_3 : decode cX1_come 3 = .ok (.invokevirtual 97, 3) := dk_182 0 97 (dk_at dksX1_come_0 3 rfl rfl)
theorem dX1_come_6 : decode cX1_come 6 = .ok (.astore 6, 2) := dk_58 6 (dk_at dksX1_come_0 6 rfl rfl)
theorem dX1_come_8 : decode cX1_come 8 = .ok (.iload_n 3, 1) := dk_29 (dk_at dksX1_come_0 8 rfl rfl)
theorem dX1_come_9 : decode cX1_come 9 = .ok (.iconst 0, 1) := dk_3 (dk_at dksX1_come_0 9 rfl rfl)
theorem dX1_come_10 : decode cX1_come 10 = .ok (.bipush 55, 2) := dk_16 55 (dk_at dksX1_come_0 10 rfl rfl)
theorem dX1_come_12 : decode cX1_come 12 = .ok (.invokestatic 54, 3) := dk_184 0 54 (dk_at dksX1_come_0 12 rfl rfl)
theorem dX1_come_15 : decode cX1_come 15 = .ok (.iload 4, 2) := dk_21 4 (dk_at dksX1_come_0 15 rfl rfl)
theorem dX1_come_17 : decode cX1_come 17 = .ok (.iload_n 3, 1) := dk_29 (dk_at dksX1_come_0 17 rfl rfl)
theorem dX1_come_18 : decode cX1_come 18 = .ok (.bipush 55, 2) := dk_16 55 (dk_at dksX1_come_0 18 rfl rfl)
theorem dX1_come_20 : decode cX1_come 20 = .ok (.invokestatic 54, 3) := dk_184 0 54 (dk_at dksX1_come_0 20 rfl rfl)
theorem dX1_come_23 : decode cX1_come 23 = .ok (.iload 5, 2) := dk_21 5 (dk_at dksX1_come_1 0 rfl rfl)
theorem dX1_come_25 : decode cX1_come 25 = .ok (.iconst 0, 1) := dk_3 (dk_at dksX1_come_1 2 rfl rfl)
theorem dX1_come_26 : decode cX1_come 26 = .ok (.bipush 20, 2) := dk_16 20 (dk_at dksX1_come_1 3 rfl rfl)
theorem dX1_come_28 : decode cX1_come 28 = .ok (.invokestatic 54, 3) := dk_184 0 54 (dk_at dksX1_come_1 5 rfl rfl)
theorem dX1_come_31 : decode cX1_come 31 = .ok (.aload 6, 2) := dk_25 6 (dk_at dksX1_come_1 8 rfl rfl)
theorem dX1_come_33 : decode cX1_come 33 = .ok (.iload_n 2, 1) := dk_28 (dk_at dksX1_come_1 10 rfl rfl)
theorem dX1_come_34 : decode cX1_come 34 = .ok (.aload_n 0, 1) := dk_42 (dk_at dksX1_come_1 11 rfl rfl)
theorem dX1_come_35 : decode cX1_come 35 = .ok (.getfield 62, 3) := dk_180 0 62 (dk_at dksX1_come_1 12 rfl rfl)
theorem dX1_come_38 : decode cX1_come 38 = .ok (.invokevirtual 101, 3) := dk_182 0 101 (dk_at dksX1_come_1 15 rfl rfl)
theorem dX1_come_41 : decode cX1_come 41 = .ok (.istore 7, 2) := dk_54 7 (dk_at dksX1_come_1 18 rfl rfl)
theorem dX1_come_43 : decode cX1_come 43 = .ok (.aload 6, 2) := dk_25 6 (dk_at dksX1_come_1 20 rfl rfl)
theorem dX1_come_45 : decode cX1_come 45 = .ok (.getfield 105, 3) := dk_180 0 105 (dk_at dksX1_come_2 0 rfl rfl)
theorem dX1_come_48 : decode cX1_come 48 = .ok (.iload_n 2, 1) := dk_28 (dk_at dksX1_come_2 3 rfl rfl)
theorem dX1_come_49 : decode cX1_come 49 = .ok (.invokeinterface 38 2, 5) := by decide +kernel
theorem dX1_come_54 : decode cX1_come 54 = .ok (.checkcast 29, 3) := dk_192 0 29 (dk_at dksX1_come_2 9 rfl rfl)
theorem dX1_come_57 : decode cX1_come 57 = .ok (.new 108, 3) := dk_187 0 108 (dk_at dksX1_come_2 12 rfl rfl)
theorem dX1_come_60 : decode cX1_come 60 = .ok (.dup, 1) := dk_89 (dk_at dksX1_come_2 15 rfl rfl)
theorem dX1_come_61 : decode cX1_come 61 = .ok (.aload_n 0, 1) := dk_42 (dk_at dksX1_come_2 16 rfl rfl)
theorem dX1_come_62 : decode cX1_come 62 = .ok (.getfield 62, 3) := dk_180 0 62 (dk_at dksX1_come_2 17 rfl rfl)
theorem dX1_come_65 : decode cX1_come 65 = .ok (.iconst 1, 1) := dk_4 (dk_at dksX1_come_2 20 rfl rfl)
theorem dX1_come_66 : decode cX1_come 66 = .ok (.iload_n 3, 1) := dk_29 (dk_at dksX1_come_2 21 rfl rfl)
theorem dX1_come_67 : decode cX1_come 67 = .ok (.iload 4, 2) := dk_21 4 (dk_at dksX1_come_2 22 rfl rfl)
theorem dX1_come_69 : decode cX1_come 69 = .ok (.iload 5, 2) := dk_21 5 (dk_at dksX1_come_3 0 rfl rfl)
theorem dX1_come_71 : decode cX1_come 71 = .ok (.invokespecial 110, 3) := dk_183 0 110 (dk_at dksX1_come_3 2 rfl rfl)
theorem dX1_come_74 : decode cX1_come 74 = .ok (.invokeinterface 72 2, 5) := by decide +kernel
theorem dX1_come_79 : decode cX1_come 79 = .ok (.pop, 1) := dk_87 (dk_at dksX1_come_3 10 rfl rfl)
theorem dX1_come_80 : decode cX1_come 80 = .ok (.iload 7, 2) := dk_21 7 (dk_at dksX1_come_3 11 rfl rfl)
theorem dX1_come_82 : decode cX1_come 82 = .ok (.ireturn, 1) := dk_172 (dk_at dksX1_come_3 13 rfl rfl)
abbrev cX1_packWith : ByteArray := prog_1_method_7_code
def yX1_packWith : MethodName := ⟨RX1, "packWith", "(II)LLinkResolver$Package;"⟩
def dkwX1_packWith_0 : List UInt8 := [42, 27, 182, 0, 46, 78, 42, 28, 182, 0, 50, 87, 45, 176]
abbrev dktX1_packWith_0 : List UInt8 := dkwX1_packWith_0 ++ []
theorem dksX1_packWith_0 : cX1_packWith.data.toList.drop 0 = dktX1_packWith_0 := by decide +kernel
theorem dX1_packWith_0 : decode cX1_packWith 0 = .ok (.aload_n 0, 1) := dk_42 (dk_at dksX1_packWith_0 0 rfl rfl)
theorem dX1_packWith_1 : decode cX1_packWith 1 = .ok (.iload_n 1, 1) := dk_27 (dk_at dksX1_packWith_0 1 rfl rfl)
theorem dX1_packWith_2 : decode cX1_packWith 2 = .ok (.invokevirtual 46, 3) := dk_182 0 46 (dk_at dksX1_packWith_0 2 rfl rfl)
theorem dX1_packWith_5 : decode cX1_packWith 5 = .ok (.astore_n 3, 1) := dk_78 (dk_at dksX1_packWith_0 5 rfl rfl)
theorem dX1_packWith_6 : decode cX1_packWith 6 = .ok (.aload_n 0, 1) := dk_42 (dk_at dksX1_packWith_0 6 rfl rfl)
theorem dX1_packWith_7 : decode cX1_packWith 7 = .ok (.iload_n 2, 1) := dk_28 (dk_at dksX1_packWith_0 7 rfl rfl)
theorem dX1_packWith_8 : decode cX1_packWith 8 = .ok (.invokevirtual 50, 3) := dk_182 0 50 (dk_at dksX1_packWith_0 8 rfl rfl)
theorem dX1_packWith_11 : decode cX1_packWith 11 = .ok (.pop, 1) := dk_87 (dk_at dksX1_packWith_0 11 rfl rfl)
theorem dX1_packWith_12 : decode cX1_packWith 12 = .ok (.aload_n 3, 1) := dk_45 (dk_at dksX1_packWith_0 12 rfl rfl)
theorem dX1_packWith_13 : decode cX1_packWith 13 = .ok (.areturn, 1) := dk_176 (dk_at dksX1_packWith_0 13 rfl rfl)
abbrev cX1_go : ByteArray := prog_1_method_16_code
def yX1_go : MethodName := ⟨RX1, "go", "(II)V"⟩
def dkwX1_go_2 : List UInt8 := [185, 0, 72, 2, 0, 87, 177]
abbrev dktX1_go_2 : List UInt8 := dkwX1_go_2 ++ []
def dkwX1_go_1 : List UInt8 := [185, 0, 38, 2, 0, 192, 0, 29, 187, 0, 108, 89, 42, 180, 0, 62, 3, 3, 3, 3, 183, 0, 110]
abbrev dktX1_go_1 : List UInt8 := dkwX1_go_1 ++ dktX1_go_2
def dkwX1_go_0 : List UInt8 := [42, 27, 28, 182, 0, 97, 78, 45, 28, 42, 180, 0, 62, 182, 0, 101, 184, 0, 66, 45, 180, 0, 105, 28]
abbrev dktX1_go_0 : List UInt8 := dkwX1_go_0 ++ dktX1_go_1
theorem dksX1_go_0 : cX1_go.data.toList.drop 0 = dktX1_go_0 := by decide +kernel
theorem dksX1_go_1 : cX1_go.data.toList.drop 24 = dktX1_go_1 := dk_seg dksX1_go_0 24 rfl rfl
theorem dksX1_go_2 : cX1_go.data.toList.drop 47 = dktX1_go_2 := dk_seg dksX1_go_1 23 rfl rfl
theorem dX1_go_0 : decode cX1_go 0 = .ok (.aload_n 0, 1) := dk_42 (dk_at dksX1_go_0 0 rfl rfl)
theorem dX1_go_1 : decode cX1_go 1 = .ok (.iload_n 1, 1) := dk_27 (dk_at dksX1_go_0 1 rfl rfl)
theorem dX1_go_2 : decode cX1_go 2 = .ok (.iload_n 2, 1) := dk_28 (dk_at dksX1_go_0 2 rfl rfl)
theorem dX1_go_3 : decode cX1_go 3 = .ok (.invokevirtual 97, 3) := dk_182 0 97 (dk_at dksX1_go_0 3 rfl rfl)
theorem dX1_go_6 : decode cX1_go 6 = .ok (.astore_n 3, 1) := dk_78 (dk_at dksX1_go_0 6 rfl rfl)
theorem dX1_go_7 : decode cX1_go 7 = .ok (.aload_n 3, 1) := dk_45 (dk_at dksX1_go_0 7 rfl rfl)
theorem dX1_go_8 : decode cX1_go 8 = .ok (.iload_n 2, 1) := dk_28 (dk_at dksX1_go_0 8 rfl rfl)
theorem dX1_go_9 : decode cX1_go 9 = .ok (.aload_n 0, 1) := dk_42 (dk_at dksX1_go_0 9 rfl rfl)
theorem dX1_go_10 : decode cX1_go 10 = .ok (.getfield 62, 3) := dk_180 0 62 (dk_at dksX1_go_0 10 rfl rfl)
theorem dX1_go_13 : decode cX1_go 13 = .ok (.invokevirtual 101, 3) := dk_182 0 101 (dk_at dksX1_go_0 13 rfl rfl)
theorem dX1_go_16 : decode cX1_go 16 = .ok (.invokestatic 66, 3) := dk_184 0 66 (dk_at dksX1_go_0 16 rfl rfl)
theorem dX1_go_19 : decode cX1_go 19 = .ok (.aload_n 3, 1) := dk_45 (dk_at dksX1_go_0 19 rfl rfl)
theorem dX1_go_20 : decode cX1_go 20 = .ok (.getfield 105, 3) := dk_180 0 105 (dk_at dksX1_go_0 20 rfl rfl)
theorem dX1_go_23 : decode cX1_go 23 = .ok (.iload_n 2, 1) := dk_28 (dk_at dksX1_go_0 23 rfl rfl)
theorem dX1_go_24 : decode cX1_go 24 = .ok (.invokeinterface 38 2, 5) := by decide +kernel
theorem dX1_go_29 : decode cX1_go 29 = .ok (.checkcast 29, 3) := dk_192 0 29 (dk_at dksX1_go_1 5 rfl rfl)
theorem dX1_go_32 : decode cX1_go 32 = .ok (.new 108, 3) := dk_187 0 108 (dk_at dksX1_go_1 8 rfl rfl)
theorem dX1_go_35 : decode cX1_go 35 = .ok (.dup, 1) := dk_89 (dk_at dksX1_go_1 11 rfl rfl)
theorem dX1_go_36 : decode cX1_go 36 = .ok (.aload_n 0, 1) := dk_42 (dk_at dksX1_go_1 12 rfl rfl)
theorem dX1_go_37 : decode cX1_go 37 = .ok (.getfield 62, 3) := dk_180 0 62 (dk_at dksX1_go_1 13 rfl rfl)
theorem dX1_go_40 : decode cX1_go 40 = .ok (.iconst 0, 1) := dk_3 (dk_at dksX1_go_1 16 rfl rfl)
theorem dX1_go_41 : decode cX1_go 41 = .ok (.iconst 0, 1) := dk_3 (dk_at dksX1_go_1 17 rfl rfl)
theorem dX1_go_42 : decode cX1_go 42 = .ok (.iconst 0, 1) := dk_3 (dk_at dksX1_go_1 18 rfl rfl)
theorem dX1_go_43 : decode cX1_go 43 = .ok (.iconst 0, 1) := dk_3 (dk_at dksX1_go_1 19 rfl rfl)
theorem dX1_go_44 : decode cX1_go 44 = .ok (.invokespecial 110, 3) := dk_183 0 110 (dk_at dksX1_go_1 20 rfl rfl)
theorem dX1_go_47 : decode cX1_go 47 = .ok (.invokeinterface 72 2, 5) := by decide +kernel
theorem dX1_go_52 : decode cX1_go 52 = .ok (.pop, 1) := dk_87 (dk_at dksX1_go_2 5 rfl rfl)
theorem dX1_go_53 : decode cX1_go 53 = .ok (.return_, 1) := dk_177 (dk_at dksX1_go_2 6 rfl rfl)
abbrev cX1_pass : ByteArray := prog_1_method_17_code
def yX1_pass : MethodName := ⟨RX1, "pass", "(I)I"⟩
def dkwX1_pass_1 : List UInt8 := [3, 184, 0, 66, 42, 89, 180, 0, 62, 27, 96, 181, 0, 62, 42, 180, 0, 62, 172]
abbrev dktX1_pass_1 : List UInt8 := dkwX1_pass_1 ++ []
def dkwX1_pass_0 : List UInt8 := [27, 4, 17, 78, 32, 184, 0, 54, 42, 180, 0, 62, 27, 96, 17, 78, 32, 163, 0, 7, 4, 167, 0, 4]
abbrev dktX1_pass_0 : List UInt8 := dkwX1_pass_0 ++ dktX1_pass_1
theorem dksX1_pass_0 : cX1_pass.data.toList.drop 0 = dktX1_pass_0 := by decide +kernel
theorem dksX1_pass_1 : cX1_pass.data.toList.drop 24 = dktX1_pass_1 := dk_seg dksX1_pass_0 24 rfl rfl
theorem dX1_pass_0 : decode cX1_pass 0 = .ok (.iload_n 1, 1) := dk_27 (dk_at dksX1_pass_0 0 rfl rfl)
theorem dX1_pass_1 : decode cX1_pass 1 = .ok (.iconst 1, 1) := dk_4 (dk_at dksX1_pass_0 1 rfl rfl)
theorem dX1_pass_2 : decode cX1_pass 2 = .ok (.sipush 20000, 3) := dk_17 78 32 (dk_at dksX1_pass_0 2 rfl rfl)
theorem dX1_pass_5 : decode cX1_pass 5 = .ok (.invokestatic 54, 3) := dk_184 0 54 (dk_at dksX1_pass_0 5 rfl rfl)
theorem dX1_pass_8 : decode cX1_pass 8 = .ok (.aload_n 0, 1) := dk_42 (dk_at dksX1_pass_0 8 rfl rfl)
theorem dX1_pass_9 : decode cX1_pass 9 = .ok (.getfield 62, 3) := dk_180 0 62 (dk_at dksX1_pass_0 9 rfl rfl)
theorem dX1_pass_12 : decode cX1_pass 12 = .ok (.iload_n 1, 1) := dk_27 (dk_at dksX1_pass_0 12 rfl rfl)
theorem dX1_pass_13 : decode cX1_pass 13 = .ok (.iadd, 1) := dk_96 (dk_at dksX1_pass_0 13 rfl rfl)
theorem dX1_pass_14 : decode cX1_pass 14 = .ok (.sipush 20000, 3) := dk_17 78 32 (dk_at dksX1_pass_0 14 rfl rfl)
theorem dX1_pass_17 : decode cX1_pass 17 = .ok (.if_icmp .gt 7, 3) := dk_163 0 7 (dk_at dksX1_pass_0 17 rfl rfl)
theorem dX1_pass_20 : decode cX1_pass 20 = .ok (.iconst 1, 1) := dk_4 (dk_at dksX1_pass_0 20 rfl rfl)
theorem dX1_pass_21 : decode cX1_pass 21 = .ok (.goto 4, 3) := dk_167 0 4 (dk_at dksX1_pass_0 21 rfl rfl)
theorem dX1_pass_24 : decode cX1_pass 24 = .ok (.iconst 0, 1) := dk_3 (dk_at dksX1_pass_1 0 rfl rfl)
theorem dX1_pass_25 : decode cX1_pass 25 = .ok (.invokestatic 66, 3) := dk_184 0 66 (dk_at dksX1_pass_1 1 rfl rfl)
theorem dX1_pass_28 : decode cX1_pass 28 = .ok (.aload_n 0, 1) := dk_42 (dk_at dksX1_pass_1 4 rfl rfl)
theorem dX1_pass_29 : decode cX1_pass 29 = .ok (.dup, 1) := dk_89 (dk_at dksX1_pass_1 5 rfl rfl)
theorem dX1_pass_30 : decode cX1_pass 30 = .ok (.getfield 62, 3) := dk_180 0 62 (dk_at dksX1_pass_1 6 rfl rfl)
theorem dX1_pass_33 : decode cX1_pass 33 = .ok (.iload_n 1, 1) := dk_27 (dk_at dksX1_pass_1 9 rfl rfl)
theorem dX1_pass_34 : decode cX1_pass 34 = .ok (.iadd, 1) := dk_96 (dk_at dksX1_pass_1 10 rfl rfl)
theorem dX1_pass_35 : decode cX1_pass 35 = .ok (.putfield 62, 3) := dk_181 0 62 (dk_at dksX1_pass_1 11 rfl rfl)
theorem dX1_pass_38 : decode cX1_pass 38 = .ok (.aload_n 0, 1) := dk_42 (dk_at dksX1_pass_1 14 rfl rfl)
theorem dX1_pass_39 : decode cX1_pass 39 = .ok (.getfield 62, 3) := dk_180 0 62 (dk_at dksX1_pass_1 15 rfl rfl)
theorem dX1_pass_42 : decode cX1_pass 42 = .ok (.ireturn, 1) := dk_172 (dk_at dksX1_pass_1 18 rfl rfl)
abbrev cX1_isSubscribed : ByteArray := prog_1_method_19_code
def yX1_isSubscribed : MethodName := ⟨RX1, "isSubscribed", "(II)Z"⟩
def dkwX1_isSubscribed_0 : List UInt8 := [42, 27, 182, 0, 46, 78, 28, 3, 42, 180, 0, 62, 184, 0, 54, 45, 28, 182, 0, 85, 172]
abbrev dktX1_isSubscribed_0 : List UInt8 := dkwX1_isSubscribed_0 ++ []
theorem dksX1_isSubscribed_0 : cX1_isSubscribed.data.toList.drop 0 = dktX1_isSubscribed_0 := by decide +kernel
theorem dX1_isSubscribed_0 : decode cX1_isSubscribed 0 = .ok (.aload_n 0, 1) := dk_42 (dk_at dksX1_isSubscribed_0 0 rfl rfl)
theorem dX1_isSubscribed_1 : decode cX1_isSubscribed 1 = .ok (.iload_n 1, 1) := dk_27 (dk_at dksX1_isSubscribed_0 1 rfl rfl)
theorem dX1_isSubscribed_2 : decode cX1_isSubscribed 2 = .ok (.invokevirtual 46, 3) := dk_182 0 46 (dk_at dksX1_isSubscribed_0 2 rfl rfl)
theorem dX1_isSubscribed_5 : decode cX1_isSubscribed 5 = .ok (.astore_n 3, 1) := dk_78 (dk_at dksX1_isSubscribed_0 5 rfl rfl)
theorem dX1_isSubscribed_6 : decode cX1_isSubscribed 6 = .ok (.iload_n 2, 1) := dk_28 (dk_at dksX1_isSubscribed_0 6 rfl rfl)
theorem dX1_isSubscribed_7 : decode cX1_isSubscribed 7 = .ok (.iconst 0, 1) := dk_3 (dk_at dksX1_isSubscribed_0 7 rfl rfl)
theorem dX1_isSubscribed_8 : decode cX1_isSubscribed 8 = .ok (.aload_n 0, 1) := dk_42 (dk_at dksX1_isSubscribed_0 8 rfl rfl)
theorem dX1_isSubscribed_9 : decode cX1_isSubscribed 9 = .ok (.getfield 62, 3) := dk_180 0 62 (dk_at dksX1_isSubscribed_0 9 rfl rfl)
theorem dX1_isSubscribed_12 : decode cX1_isSubscribed 12 = .ok (.invokestatic 54, 3) := dk_184 0 54 (dk_at dksX1_isSubscribed_0 12 rfl rfl)
theorem dX1_isSubscribed_15 : decode cX1_isSubscribed 15 = .ok (.aload_n 3, 1) := dk_45 (dk_at dksX1_isSubscribed_0 15 rfl rfl)
theorem dX1_isSubscribed_16 : decode cX1_isSubscribed 16 = .ok (.iload_n 2, 1) := dk_28 (dk_at dksX1_isSubscribed_0 16 rfl rfl)
theorem dX1_isSubscribed_17 : decode cX1_isSubscribed 17 = .ok (.invokevirtual 85, 3) := dk_182 0 85 (dk_at dksX1_isSubscribed_0 17 rfl rfl)
theorem dX1_isSubscribed_20 : decode cX1_isSubscribed 20 = .ok (.ireturn, 1) := dk_172 (dk_at dksX1_isSubscribed_0 20 rfl rfl)
abbrev cX1_isIn : ByteArray := prog_1_method_20_code
def yX1_isIn : MethodName := ⟨RX1, "isIn", "(III)Z"⟩
def dkwX1_isIn_1 : List UInt8 := [172]
abbrev dktX1_isIn_1 : List UInt8 := dkwX1_isIn_1 ++ []
def dkwX1_isIn_0 : List UInt8 := [42, 27, 28, 182, 0, 97, 58, 4, 29, 3, 42, 180, 0, 62, 184, 0, 54, 25, 4, 28, 29, 182, 0, 101]
abbrev dktX1_isIn_0 : List UInt8 := dkwX1_isIn_0 ++ dktX1_isIn_1
theorem dksX1_isIn_0 : cX1_isIn.data.toList.drop 0 = dktX1_isIn_0 := by decide +kernel
theorem dksX1_isIn_1 : cX1_isIn.data.toList.drop 24 = dktX1_isIn_1 := dk_seg dksX1_isIn_0 24 rfl rfl
theorem dX1_isIn_0 : decode cX1_isIn 0 = .ok (.aload_n 0, 1) := dk_42 (dk_at dksX1_isIn_0 0 rfl rfl)
theorem dX1_isIn_1 : decode cX1_isIn 1 = .ok (.iload_n 1, 1) := dk_27 (dk_at dksX1_isIn_0 1 rfl rfl)
theorem dX1_isIn_2 : decode cX1_isIn 2 = .ok (.iload_n 2, 1) := dk_28 (dk_at dksX1_isIn_0 2 rfl rfl)
theorem dX1_isIn_3 : decode cX1_isIn 3 = .ok (.invokevirtual 97, 3) := dk_182 0 97 (dk_at dksX1_isIn_0 3 rfl rfl)
theorem dX1_isIn_6 : decode cX1_isIn 6 = .ok (.astore 4, 2) := dk_58 4 (dk_at dksX1_isIn_0 6 rfl rfl)
theorem dX1_isIn_8 : decode cX1_isIn 8 = .ok (.iload_n 3, 1) := dk_29 (dk_at dksX1_isIn_0 8 rfl rfl)
theorem dX1_isIn_9 : decode cX1_isIn 9 = .ok (.iconst 0, 1) := dk_3 (dk_at dksX1_isIn_0 9 rfl rfl)
theorem dX1_isIn_10 : decode cX1_isIn 10 = .ok (.aload_n 0, 1) := dk_42 (dk_at dksX1_isIn_0 10 rfl rfl)
theorem dX1_isIn_11 : decode cX1_isIn 11 = .ok (.getfield 62, 3) := dk_180 0 62 (dk_at dksX1_isIn_0 11 rfl rfl)
theorem dX1_isIn_14 : decode cX1_isIn 14 = .ok (.invokestatic 54, 3) := dk_184 0 54 (dk_at dksX1_isIn_0 14 rfl rfl)
theorem dX1_isIn_17 : decode cX1_isIn 17 = .ok (.aload 4, 2) := dk_25 4 (dk_at dksX1_isIn_0 17 rfl rfl)
theorem dX1_isIn_19 : decode cX1_isIn 19 = .ok (.iload_n 2, 1) := dk_28 (dk_at dksX1_isIn_0 19 rfl rfl)
theorem dX1_isIn_20 : decode cX1_isIn 20 = .ok (.iload_n 3, 1) := dk_29 (dk_at dksX1_isIn_0 20 rfl rfl)
theorem dX1_isIn_21 : decode cX1_isIn 21 = .ok (.invokevirtual 101, 3) := dk_182 0 101 (dk_at dksX1_isIn_0 21 rfl rfl)
theorem dX1_isIn_24 : decode cX1_isIn 24 = .ok (.ireturn, 1) := dk_172 (dk_at dksX1_isIn_1 0 rfl rfl)
abbrev cX1_report : ByteArray := prog_1_method_21_code
def yX1_report : MethodName := ⟨RX1, "report", "(II)I"⟩
def dkwX1_report_0 : List UInt8 := [42, 27, 28, 182, 0, 97, 78, 45, 180, 0, 113, 28, 92, 46, 4, 96, 79, 45, 180, 0, 113, 28, 46, 172]
abbrev dktX1_report_0 : List UInt8 := dkwX1_report_0 ++ []
theorem dksX1_report_0 : cX1_report.data.toList.drop 0 = dktX1_report_0 := by decide +kernel
theorem dX1_report_0 : decode cX1_report 0 = .ok (.aload_n 0, 1) := dk_42 (dk_at dksX1_report_0 0 rfl rfl)
theorem dX1_report_1 : decode cX1_report 1 = .ok (.iload_n 1, 1) := dk_27 (dk_at dksX1_report_0 1 rfl rfl)
theorem dX1_report_2 : decode cX1_report 2 = .ok (.iload_n 2, 1) := dk_28 (dk_at dksX1_report_0 2 rfl rfl)
theorem dX1_report_3 : decode cX1_report 3 = .ok (.invokevirtual 97, 3) := dk_182 0 97 (dk_at dksX1_report_0 3 rfl rfl)
theorem dX1_report_6 : decode cX1_report 6 = .ok (.astore_n 3, 1) := dk_78 (dk_at dksX1_report_0 6 rfl rfl)
theorem dX1_report_7 : decode cX1_report 7 = .ok (.aload_n 3, 1) := dk_45 (dk_at dksX1_report_0 7 rfl rfl)
theorem dX1_report_8 : decode cX1_report 8 = .ok (.getfield 113, 3) := dk_180 0 113 (dk_at dksX1_report_0 8 rfl rfl)
theorem dX1_report_11 : decode cX1_report 11 = .ok (.iload_n 2, 1) := dk_28 (dk_at dksX1_report_0 11 rfl rfl)
theorem dX1_report_12 : decode cX1_report 12 = .ok (.dup2, 1) := dk_92 (dk_at dksX1_report_0 12 rfl rfl)
theorem dX1_report_13 : decode cX1_report 13 = .ok (.iaload, 1) := dk_46 (dk_at dksX1_report_0 13 rfl rfl)
theorem dX1_report_14 : decode cX1_report 14 = .ok (.iconst 1, 1) := dk_4 (dk_at dksX1_report_0 14 rfl rfl)
theorem dX1_report_15 : decode cX1_report 15 = .ok (.iadd, 1) := dk_96 (dk_at dksX1_report_0 15 rfl rfl)
theorem dX1_report_16 : decode cX1_report 16 = .ok (.iastore, 1) := dk_79 (dk_at dksX1_report_0 16 rfl rfl)
theorem dX1_report_17 : decode cX1_report 17 = .ok (.aload_n 3, 1) := dk_45 (dk_at dksX1_report_0 17 rfl rfl)
theorem dX1_report_18 : decode cX1_report 18 = .ok (.getfield 113, 3) := dk_180 0 113 (dk_at dksX1_report_0 18 rfl rfl)
theorem dX1_report_21 : decode cX1_report 21 = .ok (.iload_n 2, 1) := dk_28 (dk_at dksX1_report_0 21 rfl rfl)
theorem dX1_report_22 : decode cX1_report 22 = .ok (.iaload, 1) := dk_46 (dk_at dksX1_report_0 22 rfl rfl)
theorem dX1_report_23 : decode cX1_report 23 = .ok (.ireturn, 1) := dk_172 (dk_at dksX1_report_0 23 rfl rfl)
abbrev cX1_mend : ByteArray := prog_1_method_22_code
def yX1_mend : MethodName := ⟨RX1, "mend", "(II)I"⟩
def dkwX1_mend_1 : List UInt8 := [172]
abbrev dktX1_mend_1 : List UInt8 := dkwX1_mend_1 ++ []
def dkwX1_mend_0 : List UInt8 := [42, 27, 28, 182, 0, 97, 78, 45, 180, 0, 113, 28, 46, 54, 4, 45, 180, 0, 113, 28, 3, 79, 21, 4]
abbrev dktX1_mend_0 : List UInt8 := dkwX1_mend_0 ++ dktX1_mend_1
theorem dksX1_mend_0 : cX1_mend.data.toList.drop 0 = dktX1_mend_0 := by decide +kernel
theorem dksX1_mend_1 : cX1_mend.data.toList.drop 24 = dktX1_mend_1 := dk_seg dksX1_mend_0 24 rfl rfl
theorem dX1_mend_0 : decode cX1_mend 0 = .ok (.aload_n 0, 1) := dk_42 (dk_at dksX1_mend_0 0 rfl rfl)
theorem dX1_mend_1 : decode cX1_mend 1 = .ok (.iload_n 1, 1) := dk_27 (dk_at dksX1_mend_0 1 rfl rfl)
theorem dX1_mend_2 : decode cX1_mend 2 = .ok (.iload_n 2, 1) := dk_28 (dk_at dksX1_mend_0 2 rfl rfl)
theorem dX1_mend_3 : decode cX1_mend 3 = .ok (.invokevirtual 97, 3) := dk_182 0 97 (dk_at dksX1_mend_0 3 rfl rfl)
theorem dX1_mend_6 : decode cX1_mend 6 = .ok (.astore_n 3, 1) := dk_78 (dk_at dksX1_mend_0 6 rfl rfl)
theorem dX1_mend_7 : decode cX1_mend 7 = .ok (.aload_n 3, 1) := dk_45 (dk_at dksX1_mend_0 7 rfl rfl)
theorem dX1_mend_8 : decode cX1_mend 8 = .ok (.getfield 113, 3) := dk_180 0 113 (dk_at dksX1_mend_0 8 rfl rfl)
theorem dX1_mend_11 : decode cX1_mend 11 = .ok (.iload_n 2, 1) := dk_28 (dk_at dksX1_mend_0 11 rfl rfl)
theorem dX1_mend_12 : decode cX1_mend 12 = .ok (.iaload, 1) := dk_46 (dk_at dksX1_mend_0 12 rfl rfl)
theorem dX1_mend_13 : decode cX1_mend 13 = .ok (.istore 4, 2) := dk_54 4 (dk_at dksX1_mend_0 13 rfl rfl)
theorem dX1_mend_15 : decode cX1_mend 15 = .ok (.aload_n 3, 1) := dk_45 (dk_at dksX1_mend_0 15 rfl rfl)
theorem dX1_mend_16 : decode cX1_mend 16 = .ok (.getfield 113, 3) := dk_180 0 113 (dk_at dksX1_mend_0 16 rfl rfl)
theorem dX1_mend_19 : decode cX1_mend 19 = .ok (.iload_n 2, 1) := dk_28 (dk_at dksX1_mend_0 19 rfl rfl)
theorem dX1_mend_20 : decode cX1_mend 20 = .ok (.iconst 0, 1) := dk_3 (dk_at dksX1_mend_0 20 rfl rfl)
theorem dX1_mend_21 : decode cX1_mend 21 = .ok (.iastore, 1) := dk_79 (dk_at dksX1_mend_0 21 rfl rfl)
theorem dX1_mend_22 : decode cX1_mend 22 = .ok (.iload 4, 2) := dk_21 4 (dk_at dksX1_mend_0 22 rfl rfl)
theorem dX1_mend_24 : decode cX1_mend 24 = .ok (.ireturn, 1) := dk_172 (dk_at dksX1_mend_1 0 rfl rfl)
abbrev cX1_covers : ByteArray := prog_1_method_23_code
def yX1_covers : MethodName := ⟨RX1, "covers", "(IIIII)Z"⟩
def dkwX1_covers_1 : List UInt8 := [21, 5, 182, 0, 120, 172]
abbrev dktX1_covers_1 : List UInt8 := dkwX1_covers_1 ++ []
def dkwX1_covers_0 : List UInt8 := [42, 27, 28, 182, 0, 97, 58, 6, 42, 29, 21, 4, 21, 5, 182, 0, 117, 25, 6, 28, 29, 21, 4]
abbrev dktX1_covers_0 : List UInt8 := dkwX1_covers_0 ++ dktX1_covers_1
theorem dksX1_covers_0 : cX1_covers.data.toList.drop 0 = dktX1_covers_0 := by decide +kernel
theorem dksX1_covers_1 : cX1_covers.data.toList.drop 23 = dktX1_covers_1 := dk_seg dksX1_covers_0 23 rfl rfl
theorem dX1_covers_0 : decode cX1_covers 0 = .ok (.aload_n 0, 1) := dk_42 (dk_at dksX1_covers_0 0 rfl rfl)
theorem dX1_covers_1 : decode cX1_covers 1 = .ok (.iload_n 1, 1) := dk_27 (dk_at dksX1_covers_0 1 rfl rfl)
theorem dX1_covers_2 : decode cX1_covers 2 = .ok (.iload_n 2, 1) := dk_28 (dk_at dksX1_covers_0 2 rfl rfl)
theorem dX1_covers_3 : decode cX1_covers 3 = .ok (.invokevirtual 97, 3) := dk_182 0 97 (dk_at dksX1_covers_0 3 rfl rfl)
theorem dX1_covers_6 : decode cX1_covers 6 = .ok (.astore 6, 2) := dk_58 6 (dk_at dksX1_covers_0 6 rfl rfl)
theorem dX1_covers_8 : decode cX1_covers 8 = .ok (.aload_n 0, 1) := dk_42 (dk_at dksX1_covers_0 8 rfl rfl)
theorem dX1_covers_9 : decode cX1_covers 9 = .ok (.iload_n 3, 1) := dk_29 (dk_at dksX1_covers_0 9 rfl rfl)
theorem dX1_covers_10 : decode cX1_covers 10 = .ok (.iload 4, 2) := dk_21 4 (dk_at dksX1_covers_0 10 rfl rfl)
theorem dX1_covers_12 : decode cX1_covers 12 = .ok (.iload 5, 2) := dk_21 5 (dk_at dksX1_covers_0 12 rfl rfl)
theorem dX1_covers_14 : decode cX1_covers 14 = .ok (.invokevirtual 117, 3) := dk_182 0 117 (dk_at dksX1_covers_0 14 rfl rfl)
theorem dX1_covers_17 : decode cX1_covers 17 = .ok (.aload 6, 2) := dk_25 6 (dk_at dksX1_covers_0 17 rfl rfl)
theorem dX1_covers_19 : decode cX1_covers 19 = .ok (.iload_n 2, 1) := dk_28 (dk_at dksX1_covers_0 19 rfl rfl)
theorem dX1_covers_20 : decode cX1_covers 20 = .ok (.iload_n 3, 1) := dk_29 (dk_at dksX1_covers_0 20 rfl rfl)
theorem dX1_covers_21 : decode cX1_covers 21 = .ok (.iload 4, 2) := dk_21 4 (dk_at dksX1_covers_0 21 rfl rfl)
theorem dX1_covers_23 : decode cX1_covers 23 = .ok (.iload 5, 2) := dk_21 5 (dk_at dksX1_covers_1 0 rfl rfl)
theorem dX1_covers_25 : decode cX1_covers 25 = .ok (.invokevirtual 120, 3) := dk_182 0 120 (dk_at dksX1_covers_1 2 rfl rfl)
theorem dX1_covers_28 : decode cX1_covers 28 = .ok (.ireturn, 1) := dk_172 (dk_at dksX1_covers_1 5 rfl rfl)
abbrev cX1_checkArticle : ByteArray := prog_1_method_9_code
def yX1_checkArticle : MethodName := ⟨RX1, "checkArticle", "(III)V"⟩
def dkwX1_checkArticle_0 : List UInt8 := [27, 3, 16, 55, 184, 0, 54, 28, 184, 0, 58, 29, 3, 42, 180, 0, 62, 184, 0, 54, 177]
abbrev dktX1_checkArticle_0 : List UInt8 := dkwX1_checkArticle_0 ++ []
theorem dksX1_checkArticle_0 : cX1_checkArticle.data.toList.drop 0 = dktX1_checkArticle_0 := by decide +kernel
theorem dX1_checkArticle_0 : decode cX1_checkArticle 0 = .ok (.iload_n 1, 1) := dk_27 (dk_at dksX1_checkArticle_0 0 rfl rfl)
theorem dX1_checkArticle_1 : decode cX1_checkArticle 1 = .ok (.iconst 0, 1) := dk_3 (dk_at dksX1_checkArticle_0 1 rfl rfl)
theorem dX1_checkArticle_2 : decode cX1_checkArticle 2 = .ok (.bipush 55, 2) := dk_16 55 (dk_at dksX1_checkArticle_0 2 rfl rfl)
theorem dX1_checkArticle_4 : decode cX1_checkArticle 4 = .ok (.invokestatic 54, 3) := dk_184 0 54 (dk_at dksX1_checkArticle_0 4 rfl rfl)
theorem dX1_checkArticle_7 : decode cX1_checkArticle 7 = .ok (.iload_n 2, 1) := dk_28 (dk_at dksX1_checkArticle_0 7 rfl rfl)
theorem dX1_checkArticle_8 : decode cX1_checkArticle 8 = .ok (.invokestatic 58, 3) := dk_184 0 58 (dk_at dksX1_checkArticle_0 8 rfl rfl)
theorem dX1_checkArticle_11 : decode cX1_checkArticle 11 = .ok (.iload_n 3, 1) := dk_29 (dk_at dksX1_checkArticle_0 11 rfl rfl)
theorem dX1_checkArticle_12 : decode cX1_checkArticle 12 = .ok (.iconst 0, 1) := dk_3 (dk_at dksX1_checkArticle_0 12 rfl rfl)
theorem dX1_checkArticle_13 : decode cX1_checkArticle 13 = .ok (.aload_n 0, 1) := dk_42 (dk_at dksX1_checkArticle_0 13 rfl rfl)
theorem dX1_checkArticle_14 : decode cX1_checkArticle 14 = .ok (.getfield 62, 3) := dk_180 0 62 (dk_at dksX1_checkArticle_0 14 rfl rfl)
theorem dX1_checkArticle_17 : decode cX1_checkArticle 17 = .ok (.invokestatic 54, 3) := dk_184 0 54 (dk_at dksX1_checkArticle_0 17 rfl rfl)
theorem dX1_checkArticle_20 : decode cX1_checkArticle 20 = .ok (.return_, 1) := dk_177 (dk_at dksX1_checkArticle_0 20 rfl rfl)
abbrev cX1_checkGroup : ByteArray := prog_1_method_8_code
def yX1_checkGroup : MethodName := ⟨RX1, "checkGroup", "(I)V"⟩
def dkwX1_checkGroup_0 : List UInt8 := [26, 3, 6, 184, 0, 54, 177]
abbrev dktX1_checkGroup_0 : List UInt8 := dkwX1_checkGroup_0 ++ []
theorem dksX1_checkGroup_0 : cX1_checkGroup.data.toList.drop 0 = dktX1_checkGroup_0 := by decide +kernel
theorem dX1_checkGroup_0 : decode cX1_checkGroup 0 = .ok (.iload_n 0, 1) := dk_26 (dk_at dksX1_checkGroup_0 0 rfl rfl)
theorem dX1_checkGroup_1 : decode cX1_checkGroup 1 = .ok (.iconst 0, 1) := dk_3 (dk_at dksX1_checkGroup_0 1 rfl rfl)
theorem dX1_checkGroup_2 : decode cX1_checkGroup 2 = .ok (.iconst 3, 1) := dk_6 (dk_at dksX1_checkGroup_0 2 rfl rfl)
theorem dX1_checkGroup_3 : decode cX1_checkGroup 3 = .ok (.invokestatic 54, 3) := dk_184 0 54 (dk_at dksX1_checkGroup_0 3 rfl rfl)
theorem dX1_checkGroup_6 : decode cX1_checkGroup 6 = .ok (.return_, 1) := dk_177 (dk_at dksX1_checkGroup_0 6 rfl rfl)
abbrev cX1_ways : ByteArray := prog_1_method_25_code
def yX1_ways : MethodName := ⟨RX1, "ways", "(IIII)I"⟩
def dkwX1_ways_0 : List UInt8 := [42, 27, 182, 0, 50, 87, 42, 28, 29, 21, 4, 182, 0, 117, 42, 27, 28, 29, 21, 4, 182, 0, 124, 172]
abbrev dktX1_ways_0 : List UInt8 := dkwX1_ways_0 ++ []
theorem dksX1_ways_0 : cX1_ways.data.toList.drop 0 = dktX1_ways_0 := by decide +kernel
theorem dX1_ways_0 : decode cX1_ways 0 = .ok (.aload_n 0, 1) := dk_42 (dk_at dksX1_ways_0 0 rfl rfl)
theorem dX1_ways_1 : decode cX1_ways 1 = .ok (.iload_n 1, 1) := dk_27 (dk_at dksX1_ways_0 1 rfl rfl)
theorem dX1_ways_2 : decode cX1_ways 2 = .ok (.invokevirtual 50, 3) := dk_182 0 50 (dk_at dksX1_ways_0 2 rfl rfl)
theorem dX1_ways_5 : decode cX1_ways 5 = .ok (.pop, 1) := dk_87 (dk_at dksX1_ways_0 5 rfl rfl)
theorem dX1_ways_6 : decode cX1_ways 6 = .ok (.aload_n 0, 1) := dk_42 (dk_at dksX1_ways_0 6 rfl rfl)
theorem dX1_ways_7 : decode cX1_ways 7 = .ok (.iload_n 2, 1) := dk_28 (dk_at dksX1_ways_0 7 rfl rfl)
theorem dX1_ways_8 : decode cX1_ways 8 = .ok (.iload_n 3, 1) := dk_29 (dk_at dksX1_ways_0 8 rfl rfl)
theorem dX1_ways_9 : decode cX1_ways 9 = .ok (.iload 4, 2) := dk_21 4 (dk_at dksX1_ways_0 9 rfl rfl)
theorem dX1_ways_11 : decode cX1_ways 11 = .ok (.invokevirtual 117, 3) := dk_182 0 117 (dk_at dksX1_ways_0 11 rfl rfl)
theorem dX1_ways_14 : decode cX1_ways 14 = .ok (.aload_n 0, 1) := dk_42 (dk_at dksX1_ways_0 14 rfl rfl)
theorem dX1_ways_15 : decode cX1_ways 15 = .ok (.iload_n 1, 1) := dk_27 (dk_at dksX1_ways_0 15 rfl rfl)
theorem dX1_ways_16 : decode cX1_ways 16 = .ok (.iload_n 2, 1) := dk_28 (dk_at dksX1_ways_0 16 rfl rfl)
theorem dX1_ways_17 : decode cX1_ways 17 = .ok (.iload_n 3, 1) := dk_29 (dk_at dksX1_ways_0 17 rfl rfl)
theorem dX1_ways_18 : decode cX1_ways 18 = .ok (.iload 4, 2) := dk_21 4 (dk_at dksX1_ways_0 18 rfl rfl)
theorem dX1_ways_20 : decode cX1_ways 20 = .ok (.invokevirtual 124, 3) := dk_182 0 124 (dk_at dksX1_ways_0 20 rfl rfl)
theorem dX1_ways_23 : decode cX1_ways 23 = .ok (.ireturn, 1) := dk_172 (dk_at dksX1_ways_0 23 rfl rfl)
abbrev cX1_countWays : ByteArray := prog_1_method_24_code
def yX1_countWays : MethodName := ⟨RX1, "countWays", "(IIII)I"⟩
def dkwX1_countWays_2 : List UInt8 := [4, 167, 0, 4, 3, 96, 54, 5, 132, 6, 1, 167, 255, 204, 21, 5, 172]
abbrev dktX1_countWays_2 : List UInt8 := dkwX1_countWays_2 ++ []
def dkwX1_countWays_1 : List UInt8 := [180, 0, 16, 21, 6, 185, 0, 38, 2, 0, 192, 0, 44, 27, 28, 29, 21, 4, 182, 0, 120, 153, 0, 7]
abbrev dktX1_countWays_1 : List UInt8 := dkwX1_countWays_1 ++ dktX1_countWays_2
def dkwX1_countWays_0 : List UInt8 := [3, 54, 5, 3, 54, 6, 21, 6, 42, 180, 0, 16, 185, 0, 28, 1, 0, 162, 0, 44, 21, 5, 42]
abbrev dktX1_countWays_0 : List UInt8 := dkwX1_countWays_0 ++ dktX1_countWays_1
theorem dksX1_countWays_0 : cX1_countWays.data.toList.drop 0 = dktX1_countWays_0 := by decide +kernel
theorem dksX1_countWays_1 : cX1_countWays.data.toList.drop 23 = dktX1_countWays_1 := dk_seg dksX1_countWays_0 23 rfl rfl
theorem dksX1_countWays_2 : cX1_countWays.data.toList.drop 47 = dktX1_countWays_2 := dk_seg dksX1_countWays_1 24 rfl rfl
theorem dX1_countWays_0 : decode cX1_countWays 0 = .ok (.iconst 0, 1) := dk_3 (dk_at dksX1_countWays_0 0 rfl rfl)
theorem dX1_countWays_1 : decode cX1_countWays 1 = .ok (.istore 5, 2) := dk_54 5 (dk_at dksX1_countWays_0 1 rfl rfl)
theorem dX1_countWays_3 : decode cX1_countWays 3 = .ok (.iconst 0, 1) := dk_3 (dk_at dksX1_countWays_0 3 rfl rfl)
theorem dX1_countWays_4 : decode cX1_countWays 4 = .ok (.istore 6, 2) := dk_54 6 (dk_at dksX1_countWays_0 4 rfl rfl)
theorem dX1_countWays_6 : decode cX1_countWays 6 = .ok (.iload 6, 2) := dk_21 6 (dk_at dksX1_countWays_0 6 rfl rfl)
theorem dX1_countWays_8 : decode cX1_countWays 8 = .ok (.aload_n 0, 1) := dk_42 (dk_at dksX1_countWays_0 8 rfl rfl)
theorem dX1_countWays_9 : decode cX1_countWays 9 = .ok (.getfield 16, 3) := dk_180 0 16 (dk_at dksX1_countWays_0 9 rfl rfl)
theorem dX1_countWays_12 : decode cX1_countWays 12 = .ok (.invokeinterface 28 1, 5) := by decide +kernel
theorem dX1_countWays_17 : decode cX1_countWays 17 = .ok (.if_icmp .ge 44, 3) := dk_162 0 44 (dk_at dksX1_countWays_0 17 rfl rfl)
theorem dX1_countWays_20 : decode cX1_countWays 20 = .ok (.iload 5, 2) := dk_21 5 (dk_at dksX1_countWays_0 20 rfl rfl)
theorem dX1_countWays_22 : decode cX1_countWays 22 = .ok (.aload_n 0, 1) := dk_42 (dk_at dksX1_countWays_0 22 rfl rfl)
theorem dX1_countWays_23 : decode cX1_countWays 23 = .ok (.getfield 16, 3) := dk_180 0 16 (dk_at dksX1_countWays_1 0 rfl rfl)
theorem dX1_countWays_26 : decode cX1_countWays 26 = .ok (.iload 6, 2) := dk_21 6 (dk_at dksX1_countWays_1 3 rfl rfl)
theorem dX1_countWays_28 : decode cX1_countWays 28 = .ok (.invokeinterface 38 2, 5) := by decide +kernel
theorem dX1_countWays_33 : decode cX1_countWays 33 = .ok (.checkcast 44, 3) := dk_192 0 44 (dk_at dksX1_countWays_1 10 rfl rfl)
theorem dX1_countWays_36 : decode cX1_countWays 36 = .ok (.iload_n 1, 1) := dk_27 (dk_at dksX1_countWays_1 13 rfl rfl)
theorem dX1_countWays_37 : decode cX1_countWays 37 = .ok (.iload_n 2, 1) := dk_28 (dk_at dksX1_countWays_1 14 rfl rfl)
theorem dX1_countWays_38 : decode cX1_countWays 38 = .ok (.iload_n 3, 1) := dk_29 (dk_at dksX1_countWays_1 15 rfl rfl)
theorem dX1_countWays_39 : decode cX1_countWays 39 = .ok (.iload 4, 2) := dk_21 4 (dk_at dksX1_countWays_1 16 rfl rfl)
theorem dX1_countWays_41 : decode cX1_countWays 41 = .ok (.invokevirtual 120, 3) := dk_182 0 120 (dk_at dksX1_countWays_1 18 rfl rfl)
theorem dX1_countWays_44 : decode cX1_countWays 44 = .ok (.ifCond .eq 7, 3) := dk_153 0 7 (dk_at dksX1_countWays_1 21 rfl rfl)
theorem dX1_countWays_47 : decode cX1_countWays 47 = .ok (.iconst 1, 1) := dk_4 (dk_at dksX1_countWays_2 0 rfl rfl)
theorem dX1_countWays_48 : decode cX1_countWays 48 = .ok (.goto 4, 3) := dk_167 0 4 (dk_at dksX1_countWays_2 1 rfl rfl)
theorem dX1_countWays_51 : decode cX1_countWays 51 = .ok (.iconst 0, 1) := dk_3 (dk_at dksX1_countWays_2 4 rfl rfl)
theorem dX1_countWays_52 : decode cX1_countWays 52 = .ok (.iadd, 1) := dk_96 (dk_at dksX1_countWays_2 5 rfl rfl)
theorem dX1_countWays_53 : decode cX1_countWays 53 = .ok (.istore 5, 2) := dk_54 5 (dk_at dksX1_countWays_2 6 rfl rfl)
theorem dX1_countWays_55 : decode cX1_countWays 55 = .ok (.iinc 6 1, 3) := dk_132 6 1 (dk_at dksX1_countWays_2 8 rfl rfl)
theorem dX1_countWays_58 : decode cX1_countWays 58 = .ok (.goto (-52), 3) := dk_167 255 204 (dk_at dksX1_countWays_2 11 rfl rfl)
theorem dX1_countWays_61 : decode cX1_countWays 61 = .ok (.iload 5, 2) := dk_21 5 (dk_at dksX1_countWays_2 14 rfl rfl)
theorem dX1_countWays_63 : decode cX1_countWays 63 = .ok (.ireturn, 1) := dk_172 (dk_at dksX1_countWays_2 16 rfl rfl)
abbrev cX1_wayAt : ByteArray := prog_1_method_27_code
def yX1_wayAt : MethodName := ⟨RX1, "wayAt", "(IIIII)I"⟩
def dkwX1_wayAt_3 : List UInt8 := [182, 0, 132, 27, 160, 0, 6, 21, 6, 172, 132, 6, 1, 167, 255, 190, 187, 0, 25, 89, 183, 0, 27, 191]
abbrev dktX1_wayAt_3 : List UInt8 := dkwX1_wayAt_3 ++ []
def dkwX1_wayAt_2 : List UInt8 := [25, 7, 28, 29, 21, 4, 21, 5, 182, 0, 120, 153, 0, 22, 42, 25, 7, 28, 29, 21, 4, 21, 5]
abbrev dktX1_wayAt_2 : List UInt8 := dkwX1_wayAt_2 ++ dktX1_wayAt_3
def dkwX1_wayAt_1 : List UInt8 := [185, 0, 28, 1, 0, 162, 0, 58, 42, 180, 0, 16, 21, 6, 185, 0, 38, 2, 0, 192, 0, 44, 58, 7]
abbrev dktX1_wayAt_1 : List UInt8 := dkwX1_wayAt_1 ++ dktX1_wayAt_2
def dkwX1_wayAt_0 : List UInt8 := [42, 29, 21, 4, 21, 5, 182, 0, 117, 42, 28, 182, 0, 50, 87, 3, 54, 6, 21, 6, 42, 180, 0, 16]
abbrev dktX1_wayAt_0 : List UInt8 := dkwX1_wayAt_0 ++ dktX1_wayAt_1
theorem dksX1_wayAt_0 : cX1_wayAt.data.toList.drop 0 = dktX1_wayAt_0 := by decide +kernel
theorem dksX1_wayAt_1 : cX1_wayAt.data.toList.drop 24 = dktX1_wayAt_1 := dk_seg dksX1_wayAt_0 24 rfl rfl
theorem dksX1_wayAt_2 : cX1_wayAt.data.toList.drop 48 = dktX1_wayAt_2 := dk_seg dksX1_wayAt_1 24 rfl rfl
theorem dksX1_wayAt_3 : cX1_wayAt.data.toList.drop 71 = dktX1_wayAt_3 := dk_seg dksX1_wayAt_2 23 rfl rfl
theorem dX1_wayAt_0 : decode cX1_wayAt 0 = .ok (.aload_n 0, 1) := dk_42 (dk_at dksX1_wayAt_0 0 rfl rfl)
theorem dX1_wayAt_1 : decode cX1_wayAt 1 = .ok (.iload_n 3, 1) := dk_29 (dk_at dksX1_wayAt_0 1 rfl rfl)
theorem dX1_wayAt_2 : decode cX1_wayAt 2 = .ok (.iload 4, 2) := dk_21 4 (dk_at dksX1_wayAt_0 2 rfl rfl)
theorem dX1_wayAt_4 : decode cX1_wayAt 4 = .ok (.iload 5, 2) := dk_21 5 (dk_at dksX1_wayAt_0 4 rfl rfl)
theorem dX1_wayAt_6 : decode cX1_wayAt 6 = .ok (.invokevirtual 117, 3) := dk_182 0 117 (dk_at dksX1_wayAt_0 6 rfl rfl)
theorem dX1_wayAt_9 : decode cX1_wayAt 9 = .ok (.aload_n 0, 1) := dk_42 (dk_at dksX1_wayAt_0 9 rfl rfl)
theorem dX1_wayAt_10 : decode cX1_wayAt 10 = .ok (.iload_n 2, 1) := dk_28 (dk_at dksX1_wayAt_0 10 rfl rfl)
theorem dX1_wayAt_11 : decode cX1_wayAt 11 = .ok (.invokevirtual 50, 3) := dk_182 0 50 (dk_at dksX1_wayAt_0 11 rfl rfl)
theorem dX1_wayAt_14 : decode cX1_wayAt 14 = .ok (.pop, 1) := dk_87 (dk_at dksX1_wayAt_0 14 rfl rfl)
theorem dX1_wayAt_15 : decode cX1_wayAt 15 = .ok (.iconst 0, 1) := dk_3 (dk_at dksX1_wayAt_0 15 rfl rfl)
theorem dX1_wayAt_16 : decode cX1_wayAt 16 = .ok (.istore 6, 2) := dk_54 6 (dk_at dksX1_wayAt_0 16 rfl rfl)
theorem dX1_wayAt_18 : decode cX1_wayAt 18 = .ok (.iload 6, 2) := dk_21 6 (dk_at dksX1_wayAt_0 18 rfl rfl)
theorem dX1_wayAt_20 : decode cX1_wayAt 20 = .ok (.aload_n 0, 1) := dk_42 (dk_at dksX1_wayAt_0 20 rfl rfl)
theorem dX1_wayAt_21 : decode cX1_wayAt 21 = .ok (.getfield 16, 3) := dk_180 0 16 (dk_at dksX1_wayAt_0 21 rfl rfl)
theorem dX1_wayAt_24 : decode cX1_wayAt 24 = .ok (.invokeinterface 28 1, 5) := by decide +kernel
theorem dX1_wayAt_29 : decode cX1_wayAt 29 = .ok (.if_icmp .ge 58, 3) := dk_162 0 58 (dk_at dksX1_wayAt_1 5 rfl rfl)
theorem dX1_wayAt_32 : decode cX1_wayAt 32 = .ok (.aload_n 0, 1) := dk_42 (dk_at dksX1_wayAt_1 8 rfl rfl)
theorem dX1_wayAt_33 : decode cX1_wayAt 33 = .ok (.getfield 16, 3) := dk_180 0 16 (dk_at dksX1_wayAt_1 9 rfl rfl)
theorem dX1_wayAt_36 : decode cX1_wayAt 36 = .ok (.iload 6, 2) := dk_21 6 (dk_at dksX1_wayAt_1 12 rfl rfl)
theorem dX1_wayAt_38 : decode cX1_wayAt 38 = .ok (.invokeinterface 38 2, 5) := by decide +kernel
theorem dX1_wayAt_43 : decode cX1_wayAt 43 = .ok (.checkcast 44, 3) := dk_192 0 44 (dk_at dksX1_wayAt_1 19 rfl rfl)
theorem dX1_wayAt_46 : decode cX1_wayAt 46 = .ok (.astore 7, 2) := dk_58 7 (dk_at dksX1_wayAt_1 22 rfl rfl)
theorem dX1_wayAt_48 : decode cX1_wayAt 48 = .ok (.aload 7, 2) := dk_25 7 (dk_at dksX1_wayAt_2 0 rfl rfl)
theorem dX1_wayAt_50 : decode cX1_wayAt 50 = .ok (.iload_n 2, 1) := dk_28 (dk_at dksX1_wayAt_2 2 rfl rfl)
theorem dX1_wayAt_51 : decode cX1_wayAt 51 = .ok (.iload_n 3, 1) := dk_29 (dk_at dksX1_wayAt_2 3 rfl rfl)
theorem dX1_wayAt_52 : decode cX1_wayAt 52 = .ok (.iload 4, 2) := dk_21 4 (dk_at dksX1_wayAt_2 4 rfl rfl)
theorem dX1_wayAt_54 : decode cX1_wayAt 54 = .ok (.iload 5, 2) := dk_21 5 (dk_at dksX1_wayAt_2 6 rfl rfl)
theorem dX1_wayAt_56 : decode cX1_wayAt 56 = .ok (.invokevirtual 120, 3) := dk_182 0 120 (dk_at dksX1_wayAt_2 8 rfl rfl)
theorem dX1_wayAt_59 : decode cX1_wayAt 59 = .ok (.ifCond .eq 22, 3) := dk_153 0 22 (dk_at dksX1_wayAt_2 11 rfl rfl)
theorem dX1_wayAt_62 : decode cX1_wayAt 62 = .ok (.aload_n 0, 1) := dk_42 (dk_at dksX1_wayAt_2 14 rfl rfl)
theorem dX1_wayAt_63 : decode cX1_wayAt 63 = .ok (.aload 7, 2) := dk_25 7 (dk_at dksX1_wayAt_2 15 rfl rfl)
theorem dX1_wayAt_65 : decode cX1_wayAt 65 = .ok (.iload_n 2, 1) := dk_28 (dk_at dksX1_wayAt_2 17 rfl rfl)
theorem dX1_wayAt_66 : decode cX1_wayAt 66 = .ok (.iload_n 3, 1) := dk_29 (dk_at dksX1_wayAt_2 18 rfl rfl)
theorem dX1_wayAt_67 : decode cX1_wayAt 67 = .ok (.iload 4, 2) := dk_21 4 (dk_at dksX1_wayAt_2 19 rfl rfl)
theorem dX1_wayAt_69 : decode cX1_wayAt 69 = .ok (.iload 5, 2) := dk_21 5 (dk_at dksX1_wayAt_2 21 rfl rfl)
theorem dX1_wayAt_71 : decode cX1_wayAt 71 = .ok (.invokevirtual 132, 3) := dk_182 0 132 (dk_at dksX1_wayAt_3 0 rfl rfl)
theorem dX1_wayAt_74 : decode cX1_wayAt 74 = .ok (.iload_n 1, 1) := dk_27 (dk_at dksX1_wayAt_3 3 rfl rfl)
theorem dX1_wayAt_75 : decode cX1_wayAt 75 = .ok (.if_icmp .ne 6, 3) := dk_160 0 6 (dk_at dksX1_wayAt_3 4 rfl rfl)
theorem dX1_wayAt_78 : decode cX1_wayAt 78 = .ok (.iload 6, 2) := dk_21 6 (dk_at dksX1_wayAt_3 7 rfl rfl)
theorem dX1_wayAt_80 : decode cX1_wayAt 80 = .ok (.ireturn, 1) := dk_172 (dk_at dksX1_wayAt_3 9 rfl rfl)
theorem dX1_wayAt_81 : decode cX1_wayAt 81 = .ok (.iinc 6 1, 3) := dk_132 6 1 (dk_at dksX1_wayAt_3 10 rfl rfl)
theorem dX1_wayAt_84 : decode cX1_wayAt 84 = .ok (.goto (-66), 3) := dk_167 255 190 (dk_at dksX1_wayAt_3 13 rfl rfl)
theorem dX1_wayAt_87 : decode cX1_wayAt 87 = .ok (.new 25, 3) := dk_187 0 25 (dk_at dksX1_wayAt_3 16 rfl rfl)
theorem dX1_wayAt_90 : decode cX1_wayAt 90 = .ok (.dup, 1) := dk_89 (dk_at dksX1_wayAt_3 19 rfl rfl)
theorem dX1_wayAt_91 : decode cX1_wayAt 91 = .ok (.invokespecial 27, 3) := dk_183 0 27 (dk_at dksX1_wayAt_3 20 rfl rfl)
theorem dX1_wayAt_94 : decode cX1_wayAt 94 = .ok (.athrow, 1) := dk_191 (dk_at dksX1_wayAt_3 23 rfl rfl)
abbrev cX1_waysAhead : ByteArray := prog_1_method_26_code
def yX1_waysAhead : MethodName := ⟨RX1, "waysAhead", "(LLinkResolver$Package;IIII)I"⟩
def dkwX1_waysAhead_3 : List UInt8 := [3, 96, 54, 6, 132, 7, 1, 167, 255, 183, 21, 6, 172]
abbrev dktX1_waysAhead_3 : List UInt8 := dkwX1_waysAhead_3 ++ []
def dkwX1_waysAhead_2 : List UInt8 := [21, 4, 21, 5, 182, 0, 120, 153, 0, 17, 25, 8, 43, 28, 182, 0, 128, 153, 0, 7, 4, 167, 0, 4]
abbrev dktX1_waysAhead_2 : List UInt8 := dkwX1_waysAhead_2 ++ dktX1_waysAhead_3
def dkwX1_waysAhead_1 : List UInt8 := [21, 7, 185, 0, 38, 2, 0, 192, 0, 44, 58, 8, 21, 6, 25, 8, 43, 165, 0, 31, 25, 8, 28, 29]
abbrev dktX1_waysAhead_1 : List UInt8 := dkwX1_waysAhead_1 ++ dktX1_waysAhead_2
def dkwX1_waysAhead_0 : List UInt8 := [3, 54, 6, 3, 54, 7, 21, 7, 42, 180, 0, 16, 185, 0, 28, 1, 0, 162, 0, 65, 42, 180, 0, 16]
abbrev dktX1_waysAhead_0 : List UInt8 := dkwX1_waysAhead_0 ++ dktX1_waysAhead_1
theorem dksX1_waysAhead_0 : cX1_waysAhead.data.toList.drop 0 = dktX1_waysAhead_0 := by decide +kernel
theorem dksX1_waysAhead_1 : cX1_waysAhead.data.toList.drop 24 = dktX1_waysAhead_1 := dk_seg dksX1_waysAhead_0 24 rfl rfl
theorem dksX1_waysAhead_2 : cX1_waysAhead.data.toList.drop 48 = dktX1_waysAhead_2 := dk_seg dksX1_waysAhead_1 24 rfl rfl
theorem dksX1_waysAhead_3 : cX1_waysAhead.data.toList.drop 72 = dktX1_waysAhead_3 := dk_seg dksX1_waysAhead_2 24 rfl rfl
theorem dX1_waysAhead_0 : decode cX1_waysAhead 0 = .ok (.iconst 0, 1) := dk_3 (dk_at dksX1_waysAhead_0 0 rfl rfl)
theorem dX1_waysAhead_1 : decode cX1_waysAhead 1 = .ok (.istore 6, 2) := dk_54 6 (dk_at dksX1_waysAhead_0 1 rfl rfl)
theorem dX1_waysAhead_3 : decode cX1_waysAhead 3 = .ok (.iconst 0, 1) := dk_3 (dk_at dksX1_waysAhead_0 3 rfl rfl)
theorem dX1_waysAhead_4 : decode cX1_waysAhead 4 = .ok (.istore 7, 2) := dk_54 7 (dk_at dksX1_waysAhead_0 4 rfl rfl)
theorem dX1_waysAhead_6 : decode cX1_waysAhead 6 = .ok (.iload 7, 2) := dk_21 7 (dk_at dksX1_waysAhead_0 6 rfl rfl)
theorem dX1_waysAhead_8 : decode cX1_waysAhead 8 = .ok (.aload_n 0, 1) := dk_42 (dk_at dksX1_waysAhead_0 8 rfl rfl)
theorem dX1_waysAhead_9 : decode cX1_waysAhead 9 = .ok (.getfield 16, 3) := dk_180 0 16 (dk_at dksX1_waysAhead_0 9 rfl rfl)
theorem dX1_waysAhead_12 : decode cX1_waysAhead 12 = .ok (.invokeinterface 28 1, 5) := by decide +kernel
theorem dX1_waysAhead_17 : decode cX1_waysAhead 17 = .ok (.if_icmp .ge 65, 3) := dk_162 0 65 (dk_at dksX1_waysAhead_0 17 rfl rfl)
theorem dX1_waysAhead_20 : decode cX1_waysAhead 20 = .ok (.aload_n 0, 1) := dk_42 (dk_at dksX1_waysAhead_0 20 rfl rfl)
theorem dX1_waysAhead_21 : decode cX1_waysAhead 21 = .ok (.getfield 16, 3) := dk_180 0 16 (dk_at dksX1_waysAhead_0 21 rfl rfl)
theorem dX1_waysAhead_24 : decode cX1_waysAhead 24 = .ok (.iload 7, 2) := dk_21 7 (dk_at dksX1_waysAhead_1 0 rfl rfl)
theorem dX1_waysAhead_26 : decode cX1_waysAhead 26 = .ok (.invokeinterface 38 2, 5) := by decide +kernel
theorem dX1_waysAhead_31 : decode cX1_waysAhead 31 = .ok (.checkcast 44, 3) := dk_192 0 44 (dk_at dksX1_waysAhead_1 7 rfl rfl)
theorem dX1_waysAhead_34 : decode cX1_waysAhead 34 = .ok (.astore 8, 2) := dk_58 8 (dk_at dksX1_waysAhead_1 10 rfl rfl)
theorem dX1_waysAhead_36 : decode cX1_waysAhead 36 = .ok (.iload 6, 2) := dk_21 6 (dk_at dksX1_waysAhead_1 12 rfl rfl)
theorem dX1_waysAhead_38 : decode cX1_waysAhead 38 = .ok (.aload 8, 2) := dk_25 8 (dk_at dksX1_waysAhead_1 14 rfl rfl)
theorem dX1_waysAhead_40 : decode cX1_waysAhead 40 = .ok (.aload_n 1, 1) := dk_43 (dk_at dksX1_waysAhead_1 16 rfl rfl)
theorem dX1_waysAhead_41 : decode cX1_waysAhead 41 = .ok (.if_acmp .eq 31, 3) := dk_165 0 31 (dk_at dksX1_waysAhead_1 17 rfl rfl)
theorem dX1_waysAhead_44 : decode cX1_waysAhead 44 = .ok (.aload 8, 2) := dk_25 8 (dk_at dksX1_waysAhead_1 20 rfl rfl)
theorem dX1_waysAhead_46 : decode cX1_waysAhead 46 = .ok (.iload_n 2, 1) := dk_28 (dk_at dksX1_waysAhead_1 22 rfl rfl)
theorem dX1_waysAhead_47 : decode cX1_waysAhead 47 = .ok (.iload_n 3, 1) := dk_29 (dk_at dksX1_waysAhead_1 23 rfl rfl)
theorem dX1_waysAhead_48 : decode cX1_waysAhead 48 = .ok (.iload 4, 2) := dk_21 4 (dk_at dksX1_waysAhead_2 0 rfl rfl)
theorem dX1_waysAhead_50 : decode cX1_waysAhead 50 = .ok (.iload 5, 2) := dk_21 5 (dk_at dksX1_waysAhead_2 2 rfl rfl)
theorem dX1_waysAhead_52 : decode cX1_waysAhead 52 = .ok (.invokevirtual 120, 3) := dk_182 0 120 (dk_at dksX1_waysAhead_2 4 rfl rfl)
theorem dX1_waysAhead_55 : decode cX1_waysAhead 55 = .ok (.ifCond .eq 17, 3) := dk_153 0 17 (dk_at dksX1_waysAhead_2 7 rfl rfl)
theorem dX1_waysAhead_58 : decode cX1_waysAhead 58 = .ok (.aload 8, 2) := dk_25 8 (dk_at dksX1_waysAhead_2 10 rfl rfl)
theorem dX1_waysAhead_60 : decode cX1_waysAhead 60 = .ok (.aload_n 1, 1) := dk_43 (dk_at dksX1_waysAhead_2 12 rfl rfl)
theorem dX1_waysAhead_61 : decode cX1_waysAhead 61 = .ok (.iload_n 2, 1) := dk_28 (dk_at dksX1_waysAhead_2 13 rfl rfl)
theorem dX1_waysAhead_62 : decode cX1_waysAhead 62 = .ok (.invokevirtual 128, 3) := dk_182 0 128 (dk_at dksX1_waysAhead_2 14 rfl rfl)
theorem dX1_waysAhead_65 : decode cX1_waysAhead 65 = .ok (.ifCond .eq 7, 3) := dk_153 0 7 (dk_at dksX1_waysAhead_2 17 rfl rfl)
theorem dX1_waysAhead_68 : decode cX1_waysAhead 68 = .ok (.iconst 1, 1) := dk_4 (dk_at dksX1_waysAhead_2 20 rfl rfl)
theorem dX1_waysAhead_69 : decode cX1_waysAhead 69 = .ok (.goto 4, 3) := dk_167 0 4 (dk_at dksX1_waysAhead_2 21 rfl rfl)
theorem dX1_waysAhead_72 : decode cX1_waysAhead 72 = .ok (.iconst 0, 1) := dk_3 (dk_at dksX1_waysAhead_3 0 rfl rfl)
theorem dX1_waysAhead_73 : decode cX1_waysAhead 73 = .ok (.iadd, 1) := dk_96 (dk_at dksX1_waysAhead_3 1 rfl rfl)
theorem dX1_waysAhead_74 : decode cX1_waysAhead 74 = .ok (.istore 6, 2) := dk_54 6 (dk_at dksX1_waysAhead_3 2 rfl rfl)
theorem dX1_waysAhead_76 : decode cX1_waysAhead 76 = .ok (.iinc 7 1, 3) := dk_132 7 1 (dk_at dksX1_waysAhead_3 4 rfl rfl)
theorem dX1_waysAhead_79 : decode cX1_waysAhead 79 = .ok (.goto (-73), 3) := dk_167 255 183 (dk_at dksX1_waysAhead_3 7 rfl rfl)
theorem dX1_waysAhead_82 : decode cX1_waysAhead 82 = .ok (.iload 6, 2) := dk_21 6 (dk_at dksX1_waysAhead_3 10 rfl rfl)
theorem dX1_waysAhead_84 : decode cX1_waysAhead 84 = .ok (.ireturn, 1) := dk_172 (dk_at dksX1_waysAhead_3 12 rfl rfl)
abbrev cX1_gap : ByteArray := prog_1_method_29_code
def yX1_gap : MethodName := ⟨RX1, "gap", "(II)I"⟩
def dkwX1_gap_2 : List UInt8 := [167, 255, 226, 2, 172]
abbrev dktX1_gap_2 : List UInt8 := dkwX1_gap_2 ++ []
def dkwX1_gap_1 : List UInt8 := [163, 0, 27, 42, 27, 21, 4, 28, 42, 180, 0, 62, 182, 0, 124, 154, 0, 6, 21, 4, 172, 132, 4, 1]
abbrev dktX1_gap_1 : List UInt8 := dkwX1_gap_1 ++ dktX1_gap_2
def dkwX1_gap_0 : List UInt8 := [42, 27, 182, 0, 50, 78, 28, 184, 0, 58, 45, 182, 0, 79, 54, 4, 21, 4, 42, 182, 0, 142]
abbrev dktX1_gap_0 : List UInt8 := dkwX1_gap_0 ++ dktX1_gap_1
theorem dksX1_gap_0 : cX1_gap.data.toList.drop 0 = dktX1_gap_0 := by decide +kernel
theorem dksX1_gap_1 : cX1_gap.data.toList.drop 22 = dktX1_gap_1 := dk_seg dksX1_gap_0 22 rfl rfl
theorem dksX1_gap_2 : cX1_gap.data.toList.drop 46 = dktX1_gap_2 := dk_seg dksX1_gap_1 24 rfl rfl
theorem dX1_gap_0 : decode cX1_gap 0 = .ok (.aload_n 0, 1) := dk_42 (dk_at dksX1_gap_0 0 rfl rfl)
theorem dX1_gap_1 : decode cX1_gap 1 = .ok (.iload_n 1, 1) := dk_27 (dk_at dksX1_gap_0 1 rfl rfl)
theorem dX1_gap_2 : decode cX1_gap 2 = .ok (.invokevirtual 50, 3) := dk_182 0 50 (dk_at dksX1_gap_0 2 rfl rfl)
theorem dX1_gap_5 : decode cX1_gap 5 = .ok (.astore_n 3, 1) := dk_78 (dk_at dksX1_gap_0 5 rfl rfl)
theorem dX1_gap_6 : decode cX1_gap 6 = .ok (.iload_n 2, 1) := dk_28 (dk_at dksX1_gap_0 6 rfl rfl)
theorem dX1_gap_7 : decode cX1_gap 7 = .ok (.invokestatic 58, 3) := dk_184 0 58 (dk_at dksX1_gap_0 7 rfl rfl)
theorem dX1_gap_10 : decode cX1_gap 10 = .ok (.aload_n 3, 1) := dk_45 (dk_at dksX1_gap_0 10 rfl rfl)
theorem dX1_gap_11 : decode cX1_gap 11 = .ok (.invokevirtual 79, 3) := dk_182 0 79 (dk_at dksX1_gap_0 11 rfl rfl)
theorem dX1_gap_14 : decode cX1_gap 14 = .ok (.istore 4, 2) := dk_54 4 (dk_at dksX1_gap_0 14 rfl rfl)
theorem dX1_gap_16 : decode cX1_gap 16 = .ok (.iload 4, 2) := dk_21 4 (dk_at dksX1_gap_0 16 rfl rfl)
theorem dX1_gap_18 : decode cX1_gap 18 = .ok (.aload_n 0, 1) := dk_42 (dk_at dksX1_gap_0 18 rfl rfl)
theorem dX1_gap_19 : decode cX1_gap 19 = .ok (.invokevirtual 142, 3) := dk_182 0 142 (dk_at dksX1_gap_0 19 rfl rfl)
theorem dX1_gap_22 : decode cX1_gap 22 = .ok (.if_icmp .gt 27, 3) := dk_163 0 27 (dk_at dksX1_gap_1 0 rfl rfl)
theorem dX1_gap_25 : decode cX1_gap 25 = .ok (.aload_n 0, 1) := dk_42 (dk_at dksX1_gap_1 3 rfl rfl)
theorem dX1_gap_26 : decode cX1_gap 26 = .ok (.iload_n 1, 1) := dk_27 (dk_at dksX1_gap_1 4 rfl rfl)
theorem dX1_gap_27 : decode cX1_gap 27 = .ok (.iload 4, 2) := dk_21 4 (dk_at dksX1_gap_1 5 rfl rfl)
theorem dX1_gap_29 : decode cX1_gap 29 = .ok (.iload_n 2, 1) := dk_28 (dk_at dksX1_gap_1 7 rfl rfl)
theorem dX1_gap_30 : decode cX1_gap 30 = .ok (.aload_n 0, 1) := dk_42 (dk_at dksX1_gap_1 8 rfl rfl)
theorem dX1_gap_31 : decode cX1_gap 31 = .ok (.getfield 62, 3) := dk_180 0 62 (dk_at dksX1_gap_1 9 rfl rfl)
theorem dX1_gap_34 : decode cX1_gap 34 = .ok (.invokevirtual 124, 3) := dk_182 0 124 (dk_at dksX1_gap_1 12 rfl rfl)
theorem dX1_gap_37 : decode cX1_gap 37 = .ok (.ifCond .ne 6, 3) := dk_154 0 6 (dk_at dksX1_gap_1 15 rfl rfl)
theorem dX1_gap_40 : decode cX1_gap 40 = .ok (.iload 4, 2) := dk_21 4 (dk_at dksX1_gap_1 18 rfl rfl)
theorem dX1_gap_42 : decode cX1_gap 42 = .ok (.ireturn, 1) := dk_172 (dk_at dksX1_gap_1 20 rfl rfl)
theorem dX1_gap_43 : decode cX1_gap 43 = .ok (.iinc 4 1, 3) := dk_132 4 1 (dk_at dksX1_gap_1 21 rfl rfl)
theorem dX1_gap_46 : decode cX1_gap 46 = .ok (.goto (-30), 3) := dk_167 255 226 (dk_at dksX1_gap_2 0 rfl rfl)
theorem dX1_gap_49 : decode cX1_gap 49 = .ok (.iconst (-1), 1) := dk_2 (dk_at dksX1_gap_2 3 rfl rfl)
theorem dX1_gap_50 : decode cX1_gap 50 = .ok (.ireturn, 1) := dk_172 (dk_at dksX1_gap_2 4 rfl rfl)
abbrev cX1_thisYear : ByteArray := prog_1_method_28_code
def yX1_thisYear : MethodName := ⟨RX1, "thisYear", "()I"⟩
def dkwX1_thisYear_0 : List UInt8 := [42, 180, 0, 62, 17, 1, 104, 108, 16, 55, 184, 0, 136, 172]
abbrev dktX1_thisYear_0 : List UInt8 := dkwX1_thisYear_0 ++ []
theorem dksX1_thisYear_0 : cX1_thisYear.data.toList.drop 0 = dktX1_thisYear_0 := by decide +kernel
theorem dX1_thisYear_0 : decode cX1_thisYear 0 = .ok (.aload_n 0, 1) := dk_42 (dk_at dksX1_thisYear_0 0 rfl rfl)
theorem dX1_thisYear_1 : decode cX1_thisYear 1 = .ok (.getfield 62, 3) := dk_180 0 62 (dk_at dksX1_thisYear_0 1 rfl rfl)
theorem dX1_thisYear_4 : decode cX1_thisYear 4 = .ok (.sipush 360, 3) := dk_17 1 104 (dk_at dksX1_thisYear_0 4 rfl rfl)
theorem dX1_thisYear_7 : decode cX1_thisYear 7 = .ok (.idiv, 1) := dk_108 (dk_at dksX1_thisYear_0 7 rfl rfl)
theorem dX1_thisYear_8 : decode cX1_thisYear 8 = .ok (.bipush 55, 2) := dk_16 55 (dk_at dksX1_thisYear_0 8 rfl rfl)
theorem dX1_thisYear_10 : decode cX1_thisYear 10 = .ok (.invokestatic 136, 3) := dk_184 0 136 (dk_at dksX1_thisYear_0 10 rfl rfl)
theorem dX1_thisYear_13 : decode cX1_thisYear 13 = .ok (.ireturn, 1) := dk_172 (dk_at dksX1_thisYear_0 13 rfl rfl)
abbrev cX1_doubles : ByteArray := prog_1_method_30_code
def yX1_doubles : MethodName := ⟨RX1, "doubles", "(II)I"⟩
def dkwX1_doubles_2 : List UInt8 := [4, 167, 0, 4, 3, 96, 54, 4, 132, 5, 1, 167, 255, 218, 21, 4, 172]
abbrev dktX1_doubles_2 : List UInt8 := dkwX1_doubles_2 ++ []
def dkwX1_doubles_1 : List UInt8 := [182, 0, 142, 163, 0, 35, 21, 4, 42, 27, 21, 5, 28, 42, 180, 0, 62, 182, 0, 124, 5, 161, 0, 7]
abbrev dktX1_doubles_1 : List UInt8 := dkwX1_doubles_1 ++ dktX1_doubles_2
def dkwX1_doubles_0 : List UInt8 := [42, 27, 182, 0, 50, 78, 28, 184, 0, 58, 3, 54, 4, 45, 182, 0, 79, 54, 5, 21, 5, 42]
abbrev dktX1_doubles_0 : List UInt8 := dkwX1_doubles_0 ++ dktX1_doubles_1
theorem dksX1_doubles_0 : cX1_doubles.data.toList.drop 0 = dktX1_doubles_0 := by decide +kernel
theorem dksX1_doubles_1 : cX1_doubles.data.toList.drop 22 = dktX1_doubles_1 := dk_seg dksX1_doubles_0 22 rfl rfl
theorem dksX1_doubles_2 : cX1_doubles.data.toList.drop 46 = dktX1_doubles_2 := dk_seg dksX1_doubles_1 24 rfl rfl
theorem dX1_doubles_0 : decode cX1_doubles 0 = .ok (.aload_n 0, 1) := dk_42 (dk_at dksX1_doubles_0 0 rfl rfl)
theorem dX1_doubles_1 : decode cX1_doubles 1 = .ok (.iload_n 1, 1) := dk_27 (dk_at dksX1_doubles_0 1 rfl rfl)
theorem dX1_doubles_2 : decode cX1_doubles 2 = .ok (.invokevirtual 50, 3) := dk_182 0 50 (dk_at dksX1_doubles_0 2 rfl rfl)
theorem dX1_doubles_5 : decode cX1_doubles 5 = .ok (.astore_n 3, 1) := dk_78 (dk_at dksX1_doubles_0 5 rfl rfl)
theorem dX1_doubles_6 : decode cX1_doubles 6 = .ok (.iload_n 2, 1) := dk_28 (dk_at dksX1_doubles_0 6 rfl rfl)
theorem dX1_doubles_7 : decode cX1_doubles 7 = .ok (.invokestatic 58, 3) := dk_184 0 58 (dk_at dksX1_doubles_0 7 rfl rfl)
theorem dX1_doubles_10 : decode cX1_doubles 10 = .ok (.iconst 0, 1) := dk_3 (dk_at dksX1_doubles_0 10 rfl rfl)
theorem dX1_doubles_11 : decode cX1_doubles 11 = .ok (.istore 4, 2) := dk_54 4 (dk_at dksX1_doubles_0 11 rfl rfl)
theorem dX1_doubles_13 : decode cX1_doubles 13 = .ok (.aload_n 3, 1) := dk_45 (dk_at dksX1_doubles_0 13 rfl rfl)
theorem dX1_doubles_14 : decode cX1_doubles 14 = .ok (.invokevirtual 79, 3) := dk_182 0 79 (dk_at dksX1_doubles_0 14 rfl rfl)
theorem dX1_doubles_17 : decode cX1_doubles 17 = .ok (.istore 5, 2) := dk_54 5 (dk_at dksX1_doubles_0 17 rfl rfl)
theorem dX1_doubles_19 : decode cX1_doubles 19 = .ok (.iload 5, 2) := dk_21 5 (dk_at dksX1_doubles_0 19 rfl rfl)
theorem dX1_doubles_21 : decode cX1_doubles 21 = .ok (.aload_n 0, 1) := dk_42 (dk_at dksX1_doubles_0 21 rfl rfl)
theorem dX1_doubles_22 : decode cX1_doubles 22 = .ok (.invokevirtual 142, 3) := dk_182 0 142 (dk_at dksX1_doubles_1 0 rfl rfl)
theorem dX1_doubles_25 : decode cX1_doubles 25 = .ok (.if_icmp .gt 35, 3) := dk_163 0 35 (dk_at dksX1_doubles_1 3 rfl rfl)
theorem dX1_doubles_28 : decode cX1_doubles 28 = .ok (.iload 4, 2) := dk_21 4 (dk_at dksX1_doubles_1 6 rfl rfl)
theorem dX1_doubles_30 : decode cX1_doubles 30 = .ok (.aload_n 0, 1) := dk_42 (dk_at dksX1_doubles_1 8 rfl rfl)
theorem dX1_doubles_31 : decode cX1_doubles 31 = .ok (.iload_n 1, 1) := dk_27 (dk_at dksX1_doubles_1 9 rfl rfl)
theorem dX1_doubles_32 : decode cX1_doubles 32 = .ok (.iload 5, 2) := dk_21 5 (dk_at dksX1_doubles_1 10 rfl rfl)
theorem dX1_doubles_34 : decode cX1_doubles 34 = .ok (.iload_n 2, 1) := dk_28 (dk_at dksX1_doubles_1 12 rfl rfl)
theorem dX1_doubles_35 : decode cX1_doubles 35 = .ok (.aload_n 0, 1) := dk_42 (dk_at dksX1_doubles_1 13 rfl rfl)
theorem dX1_doubles_36 : decode cX1_doubles 36 = .ok (.getfield 62, 3) := dk_180 0 62 (dk_at dksX1_doubles_1 14 rfl rfl)
theorem dX1_doubles_39 : decode cX1_doubles 39 = .ok (.invokevirtual 124, 3) := dk_182 0 124 (dk_at dksX1_doubles_1 17 rfl rfl)
theorem dX1_doubles_42 : decode cX1_doubles 42 = .ok (.iconst 2, 1) := dk_5 (dk_at dksX1_doubles_1 20 rfl rfl)
theorem dX1_doubles_43 : decode cX1_doubles 43 = .ok (.if_icmp .lt 7, 3) := dk_161 0 7 (dk_at dksX1_doubles_1 21 rfl rfl)
theorem dX1_doubles_46 : decode cX1_doubles 46 = .ok (.iconst 1, 1) := dk_4 (dk_at dksX1_doubles_2 0 rfl rfl)
theorem dX1_doubles_47 : decode cX1_doubles 47 = .ok (.goto 4, 3) := dk_167 0 4 (dk_at dksX1_doubles_2 1 rfl rfl)
theorem dX1_doubles_50 : decode cX1_doubles 50 = .ok (.iconst 0, 1) := dk_3 (dk_at dksX1_doubles_2 4 rfl rfl)
theorem dX1_doubles_51 : decode cX1_doubles 51 = .ok (.iadd, 1) := dk_96 (dk_at dksX1_doubles_2 5 rfl rfl)
theorem dX1_doubles_52 : decode cX1_doubles 52 = .ok (.istore 4, 2) := dk_54 4 (dk_at dksX1_doubles_2 6 rfl rfl)
theorem dX1_doubles_54 : decode cX1_doubles 54 = .ok (.iinc 5 1, 3) := dk_132 5 1 (dk_at dksX1_doubles_2 8 rfl rfl)
theorem dX1_doubles_57 : decode cX1_doubles 57 = .ok (.goto (-38), 3) := dk_167 255 218 (dk_at dksX1_doubles_2 11 rfl rfl)
theorem dX1_doubles_60 : decode cX1_doubles 60 = .ok (.iload 4, 2) := dk_21 4 (dk_at dksX1_doubles_2 14 rfl rfl)
theorem dX1_doubles_62 : decode cX1_doubles 62 = .ok (.ireturn, 1) := dk_172 (dk_at dksX1_doubles_2 16 rfl rfl)
abbrev cX1_isNeedless : ByteArray := prog_1_method_32_code
def yX1_isNeedless : MethodName := ⟨RX1, "isNeedless", "(I)Z"⟩
def dkwX1_isNeedless_4 : List UInt8 := [167, 255, 225, 132, 5, 1, 167, 255, 203, 132, 4, 1, 167, 255, 164, 29, 172]
abbrev dktX1_isNeedless_4 : List UInt8 := dkwX1_isNeedless_4 ++ []
def dkwX1_isNeedless_3 : List UInt8 := [21, 4, 21, 5, 21, 6, 182, 0, 149, 154, 0, 7, 4, 167, 0, 4, 3, 126, 62, 132, 6, 1]
abbrev dktX1_isNeedless_3 : List UInt8 := dkwX1_isNeedless_3 ++ dktX1_isNeedless_4
def dkwX1_isNeedless_2 : List UInt8 := [42, 182, 0, 142, 163, 0, 50, 29, 153, 0, 46, 3, 54, 6, 21, 6, 7, 162, 0, 31, 29, 42, 44]
abbrev dktX1_isNeedless_2 : List UInt8 := dkwX1_isNeedless_2 ++ dktX1_isNeedless_3
def dkwX1_isNeedless_1 : List UInt8 := [162, 0, 84, 42, 180, 0, 12, 21, 4, 185, 0, 38, 2, 0, 192, 0, 42, 182, 0, 79, 54, 5, 21, 5]
abbrev dktX1_isNeedless_1 : List UInt8 := dkwX1_isNeedless_1 ++ dktX1_isNeedless_2
def dkwX1_isNeedless_0 : List UInt8 := [42, 27, 182, 0, 46, 77, 4, 62, 3, 54, 4, 21, 4, 42, 180, 0, 12, 185, 0, 28, 1, 0]
abbrev dktX1_isNeedless_0 : List UInt8 := dkwX1_isNeedless_0 ++ dktX1_isNeedless_1
theorem dksX1_isNeedless_0 : cX1_isNeedless.data.toList.drop 0 = dktX1_isNeedless_0 := by decide +kernel
theorem dksX1_isNeedless_1 : cX1_isNeedless.data.toList.drop 22 = dktX1_isNeedless_1 := dk_seg dksX1_isNeedless_0 22 rfl rfl
theorem dksX1_isNeedless_2 : cX1_isNeedless.data.toList.drop 46 = dktX1_isNeedless_2 := dk_seg dksX1_isNeedless_1 24 rfl rfl
theorem dksX1_isNeedless_3 : cX1_isNeedless.data.toList.drop 69 = dktX1_isNeedless_3 := dk_seg dksX1_isNeedless_2 23 rfl rfl
theorem dksX1_isNeedless_4 : cX1_isNeedless.data.toList.drop 91 = dktX1_isNeedless_4 := dk_seg dksX1_isNeedless_3 22 rfl rfl
theorem dX1_isNeedless_0 : decode cX1_isNeedless 0 = .ok (.aload_n 0, 1) := dk_42 (dk_at dksX1_isNeedless_0 0 rfl rfl)
theorem dX1_isNeedless_1 : decode cX1_isNeedless 1 = .ok (.iload_n 1, 1) := dk_27 (dk_at dksX1_isNeedless_0 1 rfl rfl)
theorem dX1_isNeedless_2 : decode cX1_isNeedless 2 = .ok (.invokevirtual 46, 3) := dk_182 0 46 (dk_at dksX1_isNeedless_0 2 rfl rfl)
theorem dX1_isNeedless_5 : decode cX1_isNeedless 5 = .ok (.astore_n 2, 1) := dk_77 (dk_at dksX1_isNeedless_0 5 rfl rfl)
theorem dX1_isNeedless_6 : decode cX1_isNeedless 6 = .ok (.iconst 1, 1) := dk_4 (dk_at dksX1_isNeedless_0 6 rfl rfl)
theorem dX1_isNeedless_7 : decode cX1_isNeedless 7 = .ok (.istore_n 3, 1) := dk_62 (dk_at dksX1_isNeedless_0 7 rfl rfl)
theorem dX1_isNeedless_8 : decode cX1_isNeedless 8 = .ok (.iconst 0, 1) := dk_3 (dk_at dksX1_isNeedless_0 8 rfl rfl)
theorem dX1_isNeedless_9 : decode cX1_isNeedless 9 = .ok (.istore 4, 2) := dk_54 4 (dk_at dksX1_isNeedless_0 9 rfl rfl)
theorem dX1_isNeedless_11 : decode cX1_isNeedless 11 = .ok (.iload 4, 2) := dk_21 4 (dk_at dksX1_isNeedless_0 11 rfl rfl)
theorem dX1_isNeedless_13 : decode cX1_isNeedless 13 = .ok (.aload_n 0, 1) := dk_42 (dk_at dksX1_isNeedless_0 13 rfl rfl)
theorem dX1_isNeedless_14 : decode cX1_isNeedless 14 = .ok (.getfield 12, 3) := dk_180 0 12 (dk_at dksX1_isNeedless_0 14 rfl rfl)
theorem dX1_isNeedless_17 : decode cX1_isNeedless 17 = .ok (.invokeinterface 28 1, 5) := by decide +kernel
theorem dX1_isNeedless_22 : decode cX1_isNeedless 22 = .ok (.if_icmp .ge 84, 3) := dk_162 0 84 (dk_at dksX1_isNeedless_1 0 rfl rfl)
theorem dX1_isNeedless_25 : decode cX1_isNeedless 25 = .ok (.aload_n 0, 1) := dk_42 (dk_at dksX1_isNeedless_1 3 rfl rfl)
theorem dX1_isNeedless_26 : decode cX1_isNeedless 26 = .ok (.getfield 12, 3) := dk_180 0 12 (dk_at dksX1_isNeedless_1 4 rfl rfl)
theorem dX1_isNeedless_29 : decode cX1_isNeedless 29 = .ok (.iload 4, 2) := dk_21 4 (dk_at dksX1_isNeedless_1 7 rfl rfl)
theorem dX1_isNeedless_31 : decode cX1_isNeedless 31 = .ok (.invokeinterface 38 2, 5) := by decide +kernel
theorem dX1_isNeedless_36 : decode cX1_isNeedless 36 = .ok (.checkcast 42, 3) := dk_192 0 42 (dk_at dksX1_isNeedless_1 14 rfl rfl)
theorem dX1_isNeedless_39 : decode cX1_isNeedless 39 = .ok (.invokevirtual 79, 3) := dk_182 0 79 (dk_at dksX1_isNeedless_1 17 rfl rfl)
theorem dX1_isNeedless_42 : decode cX1_isNeedless 42 = .ok (.istore 5, 2) := dk_54 5 (dk_at dksX1_isNeedless_1 20 rfl rfl)
theorem dX1_isNeedless_44 : decode cX1_isNeedless 44 = .ok (.iload 5, 2) := dk_21 5 (dk_at dksX1_isNeedless_1 22 rfl rfl)
theorem dX1_isNeedless_46 : decode cX1_isNeedless 46 = .ok (.aload_n 0, 1) := dk_42 (dk_at dksX1_isNeedless_2 0 rfl rfl)
theorem dX1_isNeedless_47 : decode cX1_isNeedless 47 = .ok (.invokevirtual 142, 3) := dk_182 0 142 (dk_at dksX1_isNeedless_2 1 rfl rfl)
theorem dX1_isNeedless_50 : decode cX1_isNeedless 50 = .ok (.if_icmp .gt 50, 3) := dk_163 0 50 (dk_at dksX1_isNeedless_2 4 rfl rfl)
theorem dX1_isNeedless_53 : decode cX1_isNeedless 53 = .ok (.iload_n 3, 1) := dk_29 (dk_at dksX1_isNeedless_2 7 rfl rfl)
theorem dX1_isNeedless_54 : decode cX1_isNeedless 54 = .ok (.ifCond .eq 46, 3) := dk_153 0 46 (dk_at dksX1_isNeedless_2 8 rfl rfl)
theorem dX1_isNeedless_57 : decode cX1_isNeedless 57 = .ok (.iconst 0, 1) := dk_3 (dk_at dksX1_isNeedless_2 11 rfl rfl)
theorem dX1_isNeedless_58 : decode cX1_isNeedless 58 = .ok (.istore 6, 2) := dk_54 6 (dk_at dksX1_isNeedless_2 12 rfl rfl)
theorem dX1_isNeedless_60 : decode cX1_isNeedless 60 = .ok (.iload 6, 2) := dk_21 6 (dk_at dksX1_isNeedless_2 14 rfl rfl)
theorem dX1_isNeedless_62 : decode cX1_isNeedless 62 = .ok (.iconst 4, 1) := dk_7 (dk_at dksX1_isNeedless_2 16 rfl rfl)
theorem dX1_isNeedless_63 : decode cX1_isNeedless 63 = .ok (.if_icmp .ge 31, 3) := dk_162 0 31 (dk_at dksX1_isNeedless_2 17 rfl rfl)
theorem dX1_isNeedless_66 : decode cX1_isNeedless 66 = .ok (.iload_n 3, 1) := dk_29 (dk_at dksX1_isNeedless_2 20 rfl rfl)
theorem dX1_isNeedless_67 : decode cX1_isNeedless 67 = .ok (.aload_n 0, 1) := dk_42 (dk_at dksX1_isNeedless_2 21 rfl rfl)
theorem dX1_isNeedless_68 : decode cX1_isNeedless 68 = .ok (.aload_n 2, 1) := dk_44 (dk_at dksX1_isNeedless_2 22 rfl rfl)
theorem dX1_isNeedless_69 : decode cX1_isNeedless 69 = .ok (.iload 4, 2) := dk_21 4 (dk_at dksX1_isNeedless_3 0 rfl rfl)
theorem dX1_isNeedless_71 : decode cX1_isNeedless 71 = .ok (.iload 5, 2) := dk_21 5 (dk_at dksX1_isNeedless_3 2 rfl rfl)
theorem dX1_isNeedless_73 : decode cX1_isNeedless 73 = .ok (.iload 6, 2) := dk_21 6 (dk_at dksX1_isNeedless_3 4 rfl rfl)
theorem dX1_isNeedless_75 : decode cX1_isNeedless 75 = .ok (.invokevirtual 149, 3) := dk_182 0 149 (dk_at dksX1_isNeedless_3 6 rfl rfl)
theorem dX1_isNeedless_78 : decode cX1_isNeedless 78 = .ok (.ifCond .ne 7, 3) := dk_154 0 7 (dk_at dksX1_isNeedless_3 9 rfl rfl)
theorem dX1_isNeedless_81 : decode cX1_isNeedless 81 = .ok (.iconst 1, 1) := dk_4 (dk_at dksX1_isNeedless_3 12 rfl rfl)
theorem dX1_isNeedless_82 : decode cX1_isNeedless 82 = .ok (.goto 4, 3) := dk_167 0 4 (dk_at dksX1_isNeedless_3 13 rfl rfl)
theorem dX1_isNeedless_85 : decode cX1_isNeedless 85 = .ok (.iconst 0, 1) := dk_3 (dk_at dksX1_isNeedless_3 16 rfl rfl)
theorem dX1_isNeedless_86 : decode cX1_isNeedless 86 = .ok (.iand, 1) := dk_126 (dk_at dksX1_isNeedless_3 17 rfl rfl)
theorem dX1_isNeedless_87 : decode cX1_isNeedless 87 = .ok (.istore_n 3, 1) := dk_62 (dk_at dksX1_isNeedless_3 18 rfl rfl)
theorem dX1_isNeedless_88 : decode cX1_isNeedless 88 = .ok (.iinc 6 1, 3) := dk_132 6 1 (dk_at dksX1_isNeedless_3 19 rfl rfl)
theorem dX1_isNeedless_91 : decode cX1_isNeedless 91 = .ok (.goto (-31), 3) := dk_167 255 225 (dk_at dksX1_isNeedless_4 0 rfl rfl)
theorem dX1_isNeedless_94 : decode cX1_isNeedless 94 = .ok (.iinc 5 1, 3) := dk_132 5 1 (dk_at dksX1_isNeedless_4 3 rfl rfl)
theorem dX1_isNeedless_97 : decode cX1_isNeedless 97 = .ok (.goto (-53), 3) := dk_167 255 203 (dk_at dksX1_isNeedless_4 6 rfl rfl)
theorem dX1_isNeedless_100 : decode cX1_isNeedless 100 = .ok (.iinc 4 1, 3) := dk_132 4 1 (dk_at dksX1_isNeedless_4 9 rfl rfl)
theorem dX1_isNeedless_103 : decode cX1_isNeedless 103 = .ok (.goto (-92), 3) := dk_167 255 164 (dk_at dksX1_isNeedless_4 12 rfl rfl)
theorem dX1_isNeedless_106 : decode cX1_isNeedless 106 = .ok (.iload_n 3, 1) := dk_29 (dk_at dksX1_isNeedless_4 15 rfl rfl)
theorem dX1_isNeedless_107 : decode cX1_isNeedless 107 = .ok (.ireturn, 1) := dk_172 (dk_at dksX1_isNeedless_4 16 rfl rfl)
abbrev cX1_wouldBeLost : ByteArray := prog_1_method_31_code
def yX1_wouldBeLost : MethodName := ⟨RX1, "wouldBeLost", "(LLinkResolver$Package;III)Z"⟩
def dkwX1_wouldBeLost_2 : List UInt8 := [160, 0, 7, 4, 167, 0, 4, 3, 172]
abbrev dktX1_wouldBeLost_2 : List UInt8 := dkwX1_wouldBeLost_2 ++ []
def dkwX1_wouldBeLost_1 : List UInt8 := [180, 0, 62, 182, 0, 145, 154, 0, 23, 42, 28, 29, 21, 4, 42, 180, 0, 62, 182, 0, 124, 4]
abbrev dktX1_wouldBeLost_1 : List UInt8 := dkwX1_wouldBeLost_1 ++ dktX1_wouldBeLost_2
def dkwX1_wouldBeLost_0 : List UInt8 := [43, 28, 29, 21, 4, 42, 180, 0, 62, 182, 0, 120, 54, 5, 21, 5, 153, 0, 36, 43, 28, 29, 42]
abbrev dktX1_wouldBeLost_0 : List UInt8 := dkwX1_wouldBeLost_0 ++ dktX1_wouldBeLost_1
theorem dksX1_wouldBeLost_0 : cX1_wouldBeLost.data.toList.drop 0 = dktX1_wouldBeLost_0 := by decide +kernel
theorem dksX1_wouldBeLost_1 : cX1_wouldBeLost.data.toList.drop 23 = dktX1_wouldBeLost_1 := dk_seg dksX1_wouldBeLost_0 23 rfl rfl
theorem dksX1_wouldBeLost_2 : cX1_wouldBeLost.data.toList.drop 45 = dktX1_wouldBeLost_2 := dk_seg dksX1_wouldBeLost_1 22 rfl rfl
theorem dX1_wouldBeLost_0 : decode cX1_wouldBeLost 0 = .ok (.aload_n 1, 1) := dk_43 (dk_at dksX1_wouldBeLost_0 0 rfl rfl)
theorem dX1_wouldBeLost_1 : decode cX1_wouldBeLost 1 = .ok (.iload_n 2, 1) := dk_28 (dk_at dksX1_wouldBeLost_0 1 rfl rfl)
theorem dX1_wouldBeLost_2 : decode cX1_wouldBeLost 2 = .ok (.iload_n 3, 1) := dk_29 (dk_at dksX1_wouldBeLost_0 2 rfl rfl)
theorem dX1_wouldBeLost_3 : decode cX1_wouldBeLost 3 = .ok (.iload 4, 2) := dk_21 4 (dk_at dksX1_wouldBeLost_0 3 rfl rfl)
theorem dX1_wouldBeLost_5 : decode cX1_wouldBeLost 5 = .ok (.aload_n 0, 1) := dk_42 (dk_at dksX1_wouldBeLost_0 5 rfl rfl)
theorem dX1_wouldBeLost_6 : decode cX1_wouldBeLost 6 = .ok (.getfield 62, 3) := dk_180 0 62 (dk_at dksX1_wouldBeLost_0 6 rfl rfl)
theorem dX1_wouldBeLost_9 : decode cX1_wouldBeLost 9 = .ok (.invokevirtual 120, 3) := dk_182 0 120 (dk_at dksX1_wouldBeLost_0 9 rfl rfl)
theorem dX1_wouldBeLost_12 : decode cX1_wouldBeLost 12 = .ok (.istore 5, 2) := dk_54 5 (dk_at dksX1_wouldBeLost_0 12 rfl rfl)
theorem dX1_wouldBeLost_14 : decode cX1_wouldBeLost 14 = .ok (.iload 5, 2) := dk_21 5 (dk_at dksX1_wouldBeLost_0 14 rfl rfl)
theorem dX1_wouldBeLost_16 : decode cX1_wouldBeLost 16 = .ok (.ifCond .eq 36, 3) := dk_153 0 36 (dk_at dksX1_wouldBeLost_0 16 rfl rfl)
theorem dX1_wouldBeLost_19 : decode cX1_wouldBeLost 19 = .ok (.aload_n 1, 1) := dk_43 (dk_at dksX1_wouldBeLost_0 19 rfl rfl)
theorem dX1_wouldBeLost_20 : decode cX1_wouldBeLost 20 = .ok (.iload_n 2, 1) := dk_28 (dk_at dksX1_wouldBeLost_0 20 rfl rfl)
theorem dX1_wouldBeLost_21 : decode cX1_wouldBeLost 21 = .ok (.iload_n 3, 1) := dk_29 (dk_at dksX1_wouldBeLost_0 21 rfl rfl)
theorem dX1_wouldBeLost_22 : decode cX1_wouldBeLost 22 = .ok (.aload_n 0, 1) := dk_42 (dk_at dksX1_wouldBeLost_0 22 rfl rfl)
theorem dX1_wouldBeLost_23 : decode cX1_wouldBeLost 23 = .ok (.getfield 62, 3) := dk_180 0 62 (dk_at dksX1_wouldBeLost_1 0 rfl rfl)
theorem dX1_wouldBeLost_26 : decode cX1_wouldBeLost 26 = .ok (.invokevirtual 145, 3) := dk_182 0 145 (dk_at dksX1_wouldBeLost_1 3 rfl rfl)
theorem dX1_wouldBeLost_29 : decode cX1_wouldBeLost 29 = .ok (.ifCond .ne 23, 3) := dk_154 0 23 (dk_at dksX1_wouldBeLost_1 6 rfl rfl)
theorem dX1_wouldBeLost_32 : decode cX1_wouldBeLost 32 = .ok (.aload_n 0, 1) := dk_42 (dk_at dksX1_wouldBeLost_1 9 rfl rfl)
theorem dX1_wouldBeLost_33 : decode cX1_wouldBeLost 33 = .ok (.iload_n 2, 1) := dk_28 (dk_at dksX1_wouldBeLost_1 10 rfl rfl)
theorem dX1_wouldBeLost_34 : decode cX1_wouldBeLost 34 = .ok (.iload_n 3, 1) := dk_29 (dk_at dksX1_wouldBeLost_1 11 rfl rfl)
theorem dX1_wouldBeLost_35 : decode cX1_wouldBeLost 35 = .ok (.iload 4, 2) := dk_21 4 (dk_at dksX1_wouldBeLost_1 12 rfl rfl)
theorem dX1_wouldBeLost_37 : decode cX1_wouldBeLost 37 = .ok (.aload_n 0, 1) := dk_42 (dk_at dksX1_wouldBeLost_1 14 rfl rfl)
theorem dX1_wouldBeLost_38 : decode cX1_wouldBeLost 38 = .ok (.getfield 62, 3) := dk_180 0 62 (dk_at dksX1_wouldBeLost_1 15 rfl rfl)
theorem dX1_wouldBeLost_41 : decode cX1_wouldBeLost 41 = .ok (.invokevirtual 124, 3) := dk_182 0 124 (dk_at dksX1_wouldBeLost_1 18 rfl rfl)
theorem dX1_wouldBeLost_44 : decode cX1_wouldBeLost 44 = .ok (.iconst 1, 1) := dk_4 (dk_at dksX1_wouldBeLost_1 21 rfl rfl)
theorem dX1_wouldBeLost_45 : decode cX1_wouldBeLost 45 = .ok (.if_icmp .ne 7, 3) := dk_160 0 7 (dk_at dksX1_wouldBeLost_2 0 rfl rfl)
theorem dX1_wouldBeLost_48 : decode cX1_wouldBeLost 48 = .ok (.iconst 1, 1) := dk_4 (dk_at dksX1_wouldBeLost_2 3 rfl rfl)
theorem dX1_wouldBeLost_49 : decode cX1_wouldBeLost 49 = .ok (.goto 4, 3) := dk_167 0 4 (dk_at dksX1_wouldBeLost_2 4 rfl rfl)
theorem dX1_wouldBeLost_52 : decode cX1_wouldBeLost 52 = .ok (.iconst 0, 1) := dk_3 (dk_at dksX1_wouldBeLost_2 7 rfl rfl)
theorem dX1_wouldBeLost_53 : decode cX1_wouldBeLost 53 = .ok (.ireturn, 1) := dk_172 (dk_at dksX1_wouldBeLost_2 8 rfl rfl)
theorem q29 : (Jvm.Cond.initialized "LinkResolver") ∈ lw_all := lw_g (lw_at lw_m1 1 rfl) rfl
theorem q54 : (Jvm.Cond.instantiable "LinkResolver" (3 : Nat)) ∈ lw_all := lw_g (lw_at lw_m1 26 rfl) rfl
theorem q56 : (Jvm.Cond.instanceMethod ({ cls := "LinkResolver", name := "<init>", desc := "()V" } : Jvm.MethodName)) ∈ lw_all := lw_g (lw_at lw_m1 28 rfl) rfl
theorem q57 : (Jvm.Cond.code ({ cls := "LinkResolver", name := "<init>", desc := "()V" } : Jvm.MethodName) prog_1_method_1_code (1 : Nat) (Option.none : Option Jvm.ClassFile.FieldType)) ∈ lw_all := lw_g (lw_at lw_m1 29 rfl) rfl
theorem q58 : (Jvm.Cond.methodLink "LinkResolver" (3 : Nat) ({ cls := "java/lang/Object", name := "<init>", desc := "()V" } : Jvm.MethodName)) ∈ lw_all := lw_g (lw_at lw_m1 30 rfl) rfl
theorem q61 : (Jvm.Cond.classLink "LinkResolver" (9 : Nat) "java/util/ArrayList") ∈ lw_all := lw_g (lw_at lw_m1 33 rfl) rfl
theorem q63 : (Jvm.Cond.methodLink "LinkResolver" (11 : Nat) ({ cls := "java/util/ArrayList", name := "<init>", desc := "()V" } : Jvm.MethodName)) ∈ lw_all := lw_g (lw_at lw_m1 35 rfl) rfl
theorem q87 : (Jvm.Cond.fieldLink "LinkResolver" (12 : Nat) "LinkResolver" "titles" "Ljava/util/List;") ∈ lw_all := lw_g (lw_at lw_m1 59 rfl) rfl
theorem q88 : (Jvm.Cond.fieldLink "LinkResolver" (16 : Nat) "LinkResolver" "packages" "Ljava/util/List;") ∈ lw_all := lw_g (lw_at lw_m1 60 rfl) rfl
theorem q89 : (Jvm.Cond.fieldLink "LinkResolver" (62 : Nat) "LinkResolver" "today" "I") ∈ lw_all := lw_g (lw_at lw_m1 61 rfl) rfl
theorem q90 : (Jvm.Cond.laysFinal "LinkResolver" "LinkResolver" "titles" "Ljava/util/List;") ∈ lw_all := lw_g (lw_at lw_m1 62 rfl) rfl
theorem q91 : (Jvm.Cond.soleField "LinkResolver" "titles") ∈ lw_all := lw_g (lw_at lw_m1 63 rfl) rfl
theorem q92 : (Jvm.Cond.laysFinal "LinkResolver" "LinkResolver" "packages" "Ljava/util/List;") ∈ lw_all := lw_g (lw_at lw_m1 64 rfl) rfl
theorem q93 : (Jvm.Cond.soleField "LinkResolver" "packages") ∈ lw_all := lw_g (lw_at lw_m1 65 rfl) rfl
theorem q94 : (Jvm.Cond.lays "LinkResolver" "LinkResolver" "today" "I") ∈ lw_all := lw_g (lw_at lw_m1 66 rfl) rfl
theorem q95 : (Jvm.Cond.soleField "LinkResolver" "today") ∈ lw_all := lw_g (lw_at lw_m1 67 rfl) rfl
theorem q96 : (Jvm.Cond.superclass "LinkResolver" "java/lang/Object") ∈ lw_all := lw_g (lw_at lw_m1 68 rfl) rfl
theorem q98 : (Jvm.Cond.instanceMethod ({ cls := "LinkResolver", name := "today", desc := "()I" } : Jvm.MethodName)) ∈ lw_all := lw_g (lw_at lw_m1 70 rfl) rfl
theorem q99 : (Jvm.Cond.selects "LinkResolver" ({ cls := "LinkResolver", name := "today", desc := "()I" } : Jvm.MethodName) ({ cls := "LinkResolver", name := "today", desc := "()I" } : Jvm.MethodName)) ∈ lw_all := lw_g (lw_at lw_m1 71 rfl) rfl
theorem q100 : (Jvm.Cond.code ({ cls := "LinkResolver", name := "today", desc := "()I" } : Jvm.MethodName) prog_1_method_18_code (1 : Nat) (Option.some Jvm.ClassFile.FieldType.int)) ∈ lw_all := lw_g (lw_at lw_m1 72 rfl) rfl
theorem q107 : (Jvm.Cond.instanceMethod ({ cls := "LinkResolver", name := "addTitle", desc := "(II)I" } : Jvm.MethodName)) ∈ lw_all := lw_g (lw_at lw_m1 79 rfl) rfl
theorem q108 : (Jvm.Cond.selects "LinkResolver" ({ cls := "LinkResolver", name := "addTitle", desc := "(II)I" } : Jvm.MethodName) ({ cls := "LinkResolver", name := "addTitle", desc := "(II)I" } : Jvm.MethodName)) ∈ lw_all := lw_g (lw_at lw_m1 80 rfl) rfl
theorem q109 : (Jvm.Cond.code ({ cls := "LinkResolver", name := "addTitle", desc := "(II)I" } : Jvm.MethodName) prog_1_method_10_code (3 : Nat) (Option.some Jvm.ClassFile.FieldType.int)) ∈ lw_all := lw_g (lw_at lw_m1 81 rfl) rfl
theorem q110 : (Jvm.Cond.methodLink "LinkResolver" (54 : Nat) ({ cls := "LinkResolver", name := "check", desc := "(III)V" } : Jvm.MethodName)) ∈ lw_all := lw_g (lw_at lw_m1 82 rfl) rfl
theorem q111 : (Jvm.Cond.static ({ cls := "LinkResolver", name := "check", desc := "(III)V" } : Jvm.MethodName)) ∈ lw_all := lw_g (lw_at lw_m1 83 rfl) rfl
theorem q112 : (Jvm.Cond.code ({ cls := "LinkResolver", name := "check", desc := "(III)V" } : Jvm.MethodName) prog_1_method_2_code (3 : Nat) (Option.none : Option Jvm.ClassFile.FieldType)) ∈ lw_all := lw_g (lw_at lw_m1 84 rfl) rfl
theorem q113 : (Jvm.Cond.classLink "LinkResolver" (19 : Nat) "java/lang/IllegalArgumentException") ∈ lw_all := lw_g (lw_at lw_m1 85 rfl) rfl
theorem q155 : (Jvm.Cond.methodLink "LinkResolver" (21 : Nat) ({ cls := "java/lang/IllegalArgumentException", name := "<init>", desc := "()V" } : Jvm.MethodName)) ∈ lw_all := lw_g (lw_at lw_m1 127 rfl) rfl
theorem q178 : (Jvm.Cond.interfaceEntry "LinkResolver" (28 : Nat)) ∈ lw_tbl := lw_at lw_m1 150 rfl
theorem q179 : (Jvm.Cond.methodLink "LinkResolver" (28 : Nat) ({ cls := "java/util/List", name := "size", desc := "()I" } : Jvm.MethodName)) ∈ lw_all := lw_g (lw_at lw_m1 151 rfl) rfl
theorem q188 : (Jvm.Cond.methodLink "LinkResolver" (66 : Nat) ({ cls := "LinkResolver", name := "checkState", desc := "(Z)V" } : Jvm.MethodName)) ∈ lw_all := lw_g (lw_at lw_m1 160 rfl) rfl
theorem q189 : (Jvm.Cond.static ({ cls := "LinkResolver", name := "checkState", desc := "(Z)V" } : Jvm.MethodName)) ∈ lw_all := lw_g (lw_at lw_m1 161 rfl) rfl
theorem q190 : (Jvm.Cond.code ({ cls := "LinkResolver", name := "checkState", desc := "(Z)V" } : Jvm.MethodName) prog_1_method_3_code (1 : Nat) (Option.none : Option Jvm.ClassFile.FieldType)) ∈ lw_all := lw_g (lw_at lw_m1 162 rfl) rfl
theorem q191 : (Jvm.Cond.classLink "LinkResolver" (22 : Nat) "java/lang/IllegalStateException") ∈ lw_all := lw_g (lw_at lw_m1 163 rfl) rfl
theorem q200 : (Jvm.Cond.methodLink "LinkResolver" (24 : Nat) ({ cls := "java/lang/IllegalStateException", name := "<init>", desc := "()V" } : Jvm.MethodName)) ∈ lw_all := lw_g (lw_at lw_m1 172 rfl) rfl
theorem q206 : (Jvm.Cond.classLink "LinkResolver" (42 : Nat) "LinkResolver$Title") ∈ lw_all := lw_g (lw_at lw_m1 178 rfl) rfl
theorem q208 : (Jvm.Cond.methodLinkNest "LinkResolver" (70 : Nat) ({ cls := "LinkResolver$Title", name := "<init>", desc := "(II)V" } : Jvm.MethodName) "LinkResolver") ∈ lw_tbl := lw_at lw_m1 180 rfl
theorem q222 : (Jvm.Cond.interfaceEntry "LinkResolver" (72 : Nat)) ∈ lw_tbl := lw_at lw_m1 194 rfl
theorem q223 : (Jvm.Cond.methodLink "LinkResolver" (72 : Nat) ({ cls := "java/util/List", name := "add", desc := "(Ljava/lang/Object;)Z" } : Jvm.MethodName)) ∈ lw_all := lw_g (lw_at lw_m1 195 rfl) rfl
theorem q259 : (Jvm.Cond.selects "LinkResolver" ({ cls := "java/lang/Object", name := "getClass", desc := "()Ljava/lang/Class;" } : Jvm.MethodName) ({ cls := "java/lang/Object", name := "getClass", desc := "()Ljava/lang/Class;" } : Jvm.MethodName)) ∈ lw_all := lw_g (lw_at lw_m1 231 rfl) rfl
theorem q322 : (Jvm.Cond.instanceMethod ({ cls := "LinkResolver", name := "yearOf", desc := "(II)I" } : Jvm.MethodName)) ∈ lw_all := lw_g (lw_at lw_m2 54 rfl) rfl
theorem q323 : (Jvm.Cond.selects "LinkResolver" ({ cls := "LinkResolver", name := "yearOf", desc := "(II)I" } : Jvm.MethodName) ({ cls := "LinkResolver", name := "yearOf", desc := "(II)I" } : Jvm.MethodName)) ∈ lw_all := lw_g (lw_at lw_m2 55 rfl) rfl
theorem q324 : (Jvm.Cond.code ({ cls := "LinkResolver", name := "yearOf", desc := "(II)I" } : Jvm.MethodName) prog_1_method_11_code (4 : Nat) (Option.some Jvm.ClassFile.FieldType.int)) ∈ lw_all := lw_g (lw_at lw_m2 56 rfl) rfl
theorem q325 : (Jvm.Cond.methodLink "LinkResolver" (50 : Nat) ({ cls := "LinkResolver", name := "title", desc := "(I)LLinkResolver$Title;" } : Jvm.MethodName)) ∈ lw_all := lw_g (lw_at lw_m2 57 rfl) rfl
theorem q326 : (Jvm.Cond.privateMethod ({ cls := "LinkResolver", name := "title", desc := "(I)LLinkResolver$Title;" } : Jvm.MethodName)) ∈ lw_tbl := lw_at lw_m2 58 rfl
theorem q327 : (Jvm.Cond.instanceMethod ({ cls := "LinkResolver", name := "title", desc := "(I)LLinkResolver$Title;" } : Jvm.MethodName)) ∈ lw_all := lw_g (lw_at lw_m2 59 rfl) rfl
theorem q328 : (Jvm.Cond.code ({ cls := "LinkResolver", name := "title", desc := "(I)LLinkResolver$Title;" } : Jvm.MethodName) prog_1_method_5_code (2 : Nat) (Option.some (Jvm.ClassFile.FieldType.object "LinkResolver$Title"))) ∈ lw_all := lw_g (lw_at lw_m2 60 rfl) rfl
theorem q329 : (Jvm.Cond.methodLink "LinkResolver" (34 : Nat) ({ cls := "LinkResolver", name := "checkIndex", desc := "(II)V" } : Jvm.MethodName)) ∈ lw_all := lw_g (lw_at lw_m2 61 rfl) rfl
theorem q330 : (Jvm.Cond.static ({ cls := "LinkResolver", name := "checkIndex", desc := "(II)V" } : Jvm.MethodName)) ∈ lw_all := lw_g (lw_at lw_m2 62 rfl) rfl
theorem q331 : (Jvm.Cond.code ({ cls := "LinkResolver", name := "checkIndex", desc := "(II)V" } : Jvm.MethodName) prog_1_method_4_code (2 : Nat) (Option.none : Option Jvm.ClassFile.FieldType)) ∈ lw_all := lw_g (lw_at lw_m2 63 rfl) rfl
theorem q332 : (Jvm.Cond.classLink "LinkResolver" (25 : Nat) "java/lang/IndexOutOfBoundsException") ∈ lw_all := lw_g (lw_at lw_m2 64 rfl) rfl
theorem q341 : (Jvm.Cond.methodLink "LinkResolver" (27 : Nat) ({ cls := "java/lang/IndexOutOfBoundsException", name := "<init>", desc := "()V" } : Jvm.MethodName)) ∈ lw_all := lw_g (lw_at lw_m2 73 rfl) rfl
theorem q347 : (Jvm.Cond.interfaceEntry "LinkResolver" (38 : Nat)) ∈ lw_tbl := lw_at lw_m2 79 rfl
theorem q348 : (Jvm.Cond.methodLink "LinkResolver" (38 : Nat) ({ cls := "java/util/List", name := "get", desc := "(I)Ljava/lang/Object;" } : Jvm.MethodName)) ∈ lw_all := lw_g (lw_at lw_m2 80 rfl) rfl
theorem q366 : (Jvm.Cond.methodLink "LinkResolver" (76 : Nat) ({ cls := "LinkResolver$Title", name := "volumes", desc := "()I" } : Jvm.MethodName)) ∈ lw_all := lw_g (lw_at lw_m2 98 rfl) rfl
theorem q370 : (Jvm.Cond.methodLink "LinkResolver" (79 : Nat) ({ cls := "LinkResolver$Title", name := "firstYear", desc := "()I" } : Jvm.MethodName)) ∈ lw_all := lw_g (lw_at lw_m2 102 rfl) rfl
theorem q378 : (Jvm.Cond.instanceMethod ({ cls := "LinkResolver", name := "volumeOf", desc := "(II)I" } : Jvm.MethodName)) ∈ lw_all := lw_g (lw_at lw_m2 110 rfl) rfl
theorem q379 : (Jvm.Cond.selects "LinkResolver" ({ cls := "LinkResolver", name := "volumeOf", desc := "(II)I" } : Jvm.MethodName) ({ cls := "LinkResolver", name := "volumeOf", desc := "(II)I" } : Jvm.MethodName)) ∈ lw_all := lw_g (lw_at lw_m2 111 rfl) rfl
theorem q380 : (Jvm.Cond.code ({ cls := "LinkResolver", name := "volumeOf", desc := "(II)I" } : Jvm.MethodName) prog_1_method_12_code (4 : Nat) (Option.some Jvm.ClassFile.FieldType.int)) ∈ lw_all := lw_g (lw_at lw_m2 112 rfl) rfl
theorem q385 : (Jvm.Cond.instanceMethod ({ cls := "LinkResolver", name := "addPackage", desc := "(IIII)I" } : Jvm.MethodName)) ∈ lw_all := lw_g (lw_at lw_m2 117 rfl) rfl
theorem q386 : (Jvm.Cond.selects "LinkResolver" ({ cls := "LinkResolver", name := "addPackage", desc := "(IIII)I" } : Jvm.MethodName) ({ cls := "LinkResolver", name := "addPackage", desc := "(IIII)I" } : Jvm.MethodName)) ∈ lw_all := lw_g (lw_at lw_m2 118 rfl) rfl
theorem q387 : (Jvm.Cond.code ({ cls := "LinkResolver", name := "addPackage", desc := "(IIII)I" } : Jvm.MethodName) prog_1_method_13_code (5 : Nat) (Option.some Jvm.ClassFile.FieldType.int)) ∈ lw_all := lw_g (lw_at lw_m2 119 rfl) rfl
theorem q388 : (Jvm.Cond.classLink "LinkResolver" (44 : Nat) "LinkResolver$Package") ∈ lw_all := lw_g (lw_at lw_m2 120 rfl) rfl
theorem q390 : (Jvm.Cond.methodLink "LinkResolver" (82 : Nat) ({ cls := "LinkResolver$Package", name := "<init>", desc := "(IIIIZ)V" } : Jvm.MethodName)) ∈ lw_all := lw_g (lw_at lw_m2 122 rfl) rfl
theorem q404 : (Jvm.Cond.fieldLinkNest "LinkResolver" (89 : Nat) "LinkResolver$Package" "subscriptions" "Ljava/util/List;" "LinkResolver") ∈ lw_tbl := lw_at lw_m2 136 rfl
theorem q406 : (Jvm.Cond.fieldLinkNest "LinkResolver" (105 : Nat) "LinkResolver$Package" "holdings" "Ljava/util/List;" "LinkResolver") ∈ lw_tbl := lw_at lw_m2 138 rfl
theorem q408 : (Jvm.Cond.fieldLinkNest "LinkResolver" (113 : Nat) "LinkResolver$Package" "breaks" "[I" "LinkResolver") ∈ lw_tbl := lw_at lw_m2 140 rfl
theorem q431 : (Jvm.Cond.instanceMethod ({ cls := "LinkResolver", name := "subscribe", desc := "(IZ)Z" } : Jvm.MethodName)) ∈ lw_all := lw_g (lw_at lw_m2 163 rfl) rfl
theorem q432 : (Jvm.Cond.selects "LinkResolver" ({ cls := "LinkResolver", name := "subscribe", desc := "(IZ)Z" } : Jvm.MethodName) ({ cls := "LinkResolver", name := "subscribe", desc := "(IZ)Z" } : Jvm.MethodName)) ∈ lw_all := lw_g (lw_at lw_m2 164 rfl) rfl
theorem q433 : (Jvm.Cond.code ({ cls := "LinkResolver", name := "subscribe", desc := "(IZ)Z" } : Jvm.MethodName) prog_1_method_14_code (5 : Nat) (Option.some Jvm.ClassFile.FieldType.boolean)) ∈ lw_all := lw_g (lw_at lw_m2 165 rfl) rfl
theorem q434 : (Jvm.Cond.methodLink "LinkResolver" (46 : Nat) ({ cls := "LinkResolver", name := "pack", desc := "(I)LLinkResolver$Package;" } : Jvm.MethodName)) ∈ lw_all := lw_g (lw_at lw_m2 166 rfl) rfl
theorem q435 : (Jvm.Cond.privateMethod ({ cls := "LinkResolver", name := "pack", desc := "(I)LLinkResolver$Package;" } : Jvm.MethodName)) ∈ lw_tbl := lw_at lw_m2 167 rfl
theorem q436 : (Jvm.Cond.instanceMethod ({ cls := "LinkResolver", name := "pack", desc := "(I)LLinkResolver$Package;" } : Jvm.MethodName)) ∈ lw_all := lw_g (lw_at lw_m2 168 rfl) rfl
theorem q437 : (Jvm.Cond.code ({ cls := "LinkResolver", name := "pack", desc := "(I)LLinkResolver$Package;" } : Jvm.MethodName) prog_1_method_6_code (2 : Nat) (Option.some (Jvm.ClassFile.FieldType.object "LinkResolver$Package"))) ∈ lw_all := lw_g (lw_at lw_m2 169 rfl) rfl
theorem q438 : (Jvm.Cond.methodLink "LinkResolver" (85 : Nat) ({ cls := "LinkResolver$Package", name := "isSubscribed", desc := "(I)Z" } : Jvm.MethodName)) ∈ lw_all := lw_g (lw_at lw_m2 170 rfl) rfl
theorem q455 : (Jvm.Cond.classLink "LinkResolver" (92 : Nat) "LinkResolver$Subscription") ∈ lw_all := lw_g (lw_at lw_m2 187 rfl) rfl
theorem q457 : (Jvm.Cond.methodLinkNest "LinkResolver" (94 : Nat) ({ cls := "LinkResolver$Subscription", name := "<init>", desc := "(IZ)V" } : Jvm.MethodName) "LinkResolver") ∈ lw_tbl := lw_at lw_m2 189 rfl
theorem q472 : (Jvm.Cond.instanceMethod ({ cls := "LinkResolver", name := "come", desc := "(IIIII)Z" } : Jvm.MethodName)) ∈ lw_all := lw_g (lw_at lw_m2 204 rfl) rfl
theorem q473 : (Jvm.Cond.selects "LinkResolver" ({ cls := "LinkResolver", name := "come", desc := "(IIIII)Z" } : Jvm.MethodName) ({ cls := "LinkResolver", name := "come", desc := "(IIIII)Z" } : Jvm.MethodName)) ∈ lw_all := lw_g (lw_at lw_m2 205 rfl) rfl
theorem q474 : (Jvm.Cond.code ({ cls := "LinkResolver", name := "come", desc := "(IIIII)Z" } : Jvm.MethodName) prog_1_method_15_code (8 : Nat) (Option.some Jvm.ClassFile.FieldType.boolean)) ∈ lw_all := lw_g (lw_at lw_m2 206 rfl) rfl
theorem q475 : (Jvm.Cond.methodLink "LinkResolver" (97 : Nat) ({ cls := "LinkResolver", name := "packWith", desc := "(II)LLinkResolver$Package;" } : Jvm.MethodName)) ∈ lw_all := lw_g (lw_at lw_m2 207 rfl) rfl
theorem q476 : (Jvm.Cond.privateMethod ({ cls := "LinkResolver", name := "packWith", desc := "(II)LLinkResolver$Package;" } : Jvm.MethodName)) ∈ lw_tbl := lw_at lw_m2 208 rfl
theorem q477 : (Jvm.Cond.instanceMethod ({ cls := "LinkResolver", name := "packWith", desc := "(II)LLinkResolver$Package;" } : Jvm.MethodName)) ∈ lw_all := lw_g (lw_at lw_m2 209 rfl) rfl
theorem q478 : (Jvm.Cond.code ({ cls := "LinkResolver", name := "packWith", desc := "(II)LLinkResolver$Package;" } : Jvm.MethodName) prog_1_method_7_code (4 : Nat) (Option.some (Jvm.ClassFile.FieldType.object "LinkResolver$Package"))) ∈ lw_all := lw_g (lw_at lw_m2 210 rfl) rfl
theorem q479 : (Jvm.Cond.methodLink "LinkResolver" (101 : Nat) ({ cls := "LinkResolver$Package", name := "isIn", desc := "(II)Z" } : Jvm.MethodName)) ∈ lw_all := lw_g (lw_at lw_m2 211 rfl) rfl
theorem q497 : (Jvm.Cond.classLink "LinkResolver" (29 : Nat) "java/util/List") ∈ lw_all := lw_g (lw_at lw_m2 229 rfl) rfl
theorem q498 : (Jvm.Cond.classLink "LinkResolver" (108 : Nat) "LinkResolver$Holding") ∈ lw_all := lw_g (lw_at lw_m2 230 rfl) rfl
theorem q500 : (Jvm.Cond.methodLinkNest "LinkResolver" (110 : Nat) ({ cls := "LinkResolver$Holding", name := "<init>", desc := "(IZIII)V" } : Jvm.MethodName) "LinkResolver") ∈ lw_tbl := lw_at lw_m2 232 rfl
theorem q524 : (Jvm.Cond.instanceMethod ({ cls := "LinkResolver", name := "go", desc := "(II)V" } : Jvm.MethodName)) ∈ lw_all := lw_g (lw_at lw_m3 16 rfl) rfl
theorem q525 : (Jvm.Cond.selects "LinkResolver" ({ cls := "LinkResolver", name := "go", desc := "(II)V" } : Jvm.MethodName) ({ cls := "LinkResolver", name := "go", desc := "(II)V" } : Jvm.MethodName)) ∈ lw_all := lw_g (lw_at lw_m3 17 rfl) rfl
theorem q526 : (Jvm.Cond.code ({ cls := "LinkResolver", name := "go", desc := "(II)V" } : Jvm.MethodName) prog_1_method_16_code (4 : Nat) (Option.none : Option Jvm.ClassFile.FieldType)) ∈ lw_all := lw_g (lw_at lw_m3 18 rfl) rfl
theorem q531 : (Jvm.Cond.instanceMethod ({ cls := "LinkResolver", name := "pass", desc := "(I)I" } : Jvm.MethodName)) ∈ lw_all := lw_g (lw_at lw_m3 23 rfl) rfl
theorem q532 : (Jvm.Cond.selects "LinkResolver" ({ cls := "LinkResolver", name := "pass", desc := "(I)I" } : Jvm.MethodName) ({ cls := "LinkResolver", name := "pass", desc := "(I)I" } : Jvm.MethodName)) ∈ lw_all := lw_g (lw_at lw_m3 24 rfl) rfl
theorem q533 : (Jvm.Cond.code ({ cls := "LinkResolver", name := "pass", desc := "(I)I" } : Jvm.MethodName) prog_1_method_17_code (2 : Nat) (Option.some Jvm.ClassFile.FieldType.int)) ∈ lw_all := lw_g (lw_at lw_m3 25 rfl) rfl
theorem q538 : (Jvm.Cond.instanceMethod ({ cls := "LinkResolver", name := "isSubscribed", desc := "(II)Z" } : Jvm.MethodName)) ∈ lw_all := lw_g (lw_at lw_m3 30 rfl) rfl
theorem q539 : (Jvm.Cond.selects "LinkResolver" ({ cls := "LinkResolver", name := "isSubscribed", desc := "(II)Z" } : Jvm.MethodName) ({ cls := "LinkResolver", name := "isSubscribed", desc := "(II)Z" } : Jvm.MethodName)) ∈ lw_all := lw_g (lw_at lw_m3 31 rfl) rfl
theorem q540 : (Jvm.Cond.code ({ cls := "LinkResolver", name := "isSubscribed", desc := "(II)Z" } : Jvm.MethodName) prog_1_method_19_code (4 : Nat) (Option.some Jvm.ClassFile.FieldType.boolean)) ∈ lw_all := lw_g (lw_at lw_m3 32 rfl) rfl
theorem q545 : (Jvm.Cond.instanceMethod ({ cls := "LinkResolver", name := "isIn", desc := "(III)Z" } : Jvm.MethodName)) ∈ lw_all := lw_g (lw_at lw_m3 37 rfl) rfl
theorem q546 : (Jvm.Cond.selects "LinkResolver" ({ cls := "LinkResolver", name := "isIn", desc := "(III)Z" } : Jvm.MethodName) ({ cls := "LinkResolver", name := "isIn", desc := "(III)Z" } : Jvm.MethodName)) ∈ lw_all := lw_g (lw_at lw_m3 38 rfl) rfl
theorem q547 : (Jvm.Cond.code ({ cls := "LinkResolver", name := "isIn", desc := "(III)Z" } : Jvm.MethodName) prog_1_method_20_code (5 : Nat) (Option.some Jvm.ClassFile.FieldType.boolean)) ∈ lw_all := lw_g (lw_at lw_m3 39 rfl) rfl
theorem q552 : (Jvm.Cond.instanceMethod ({ cls := "LinkResolver", name := "report", desc := "(II)I" } : Jvm.MethodName)) ∈ lw_all := lw_g (lw_at lw_m3 44 rfl) rfl
theorem q553 : (Jvm.Cond.selects "LinkResolver" ({ cls := "LinkResolver", name := "report", desc := "(II)I" } : Jvm.MethodName) ({ cls := "LinkResolver", name := "report", desc := "(II)I" } : Jvm.MethodName)) ∈ lw_all := lw_g (lw_at lw_m3 45 rfl) rfl
theorem q554 : (Jvm.Cond.code ({ cls := "LinkResolver", name := "report", desc := "(II)I" } : Jvm.MethodName) prog_1_method_21_code (4 : Nat) (Option.some Jvm.ClassFile.FieldType.int)) ∈ lw_all := lw_g (lw_at lw_m3 46 rfl) rfl
theorem q559 : (Jvm.Cond.instanceMethod ({ cls := "LinkResolver", name := "mend", desc := "(II)I" } : Jvm.MethodName)) ∈ lw_all := lw_g (lw_at lw_m3 51 rfl) rfl
theorem q560 : (Jvm.Cond.selects "LinkResolver" ({ cls := "LinkResolver", name := "mend", desc := "(II)I" } : Jvm.MethodName) ({ cls := "LinkResolver", name := "mend", desc := "(II)I" } : Jvm.MethodName)) ∈ lw_all := lw_g (lw_at lw_m3 52 rfl) rfl
theorem q561 : (Jvm.Cond.code ({ cls := "LinkResolver", name := "mend", desc := "(II)I" } : Jvm.MethodName) prog_1_method_22_code (5 : Nat) (Option.some Jvm.ClassFile.FieldType.int)) ∈ lw_all := lw_g (lw_at lw_m3 53 rfl) rfl
theorem q566 : (Jvm.Cond.instanceMethod ({ cls := "LinkResolver", name := "covers", desc := "(IIIII)Z" } : Jvm.MethodName)) ∈ lw_all := lw_g (lw_at lw_m3 58 rfl) rfl
theorem q567 : (Jvm.Cond.selects "LinkResolver" ({ cls := "LinkResolver", name := "covers", desc := "(IIIII)Z" } : Jvm.MethodName) ({ cls := "LinkResolver", name := "covers", desc := "(IIIII)Z" } : Jvm.MethodName)) ∈ lw_all := lw_g (lw_at lw_m3 59 rfl) rfl
theorem q568 : (Jvm.Cond.code ({ cls := "LinkResolver", name := "covers", desc := "(IIIII)Z" } : Jvm.MethodName) prog_1_method_23_code (7 : Nat) (Option.some Jvm.ClassFile.FieldType.boolean)) ∈ lw_all := lw_g (lw_at lw_m3 60 rfl) rfl
theorem q569 : (Jvm.Cond.methodLink "LinkResolver" (117 : Nat) ({ cls := "LinkResolver", name := "checkArticle", desc := "(III)V" } : Jvm.MethodName)) ∈ lw_all := lw_g (lw_at lw_m3 61 rfl) rfl
theorem q570 : (Jvm.Cond.privateMethod ({ cls := "LinkResolver", name := "checkArticle", desc := "(III)V" } : Jvm.MethodName)) ∈ lw_tbl := lw_at lw_m3 62 rfl
theorem q571 : (Jvm.Cond.instanceMethod ({ cls := "LinkResolver", name := "checkArticle", desc := "(III)V" } : Jvm.MethodName)) ∈ lw_all := lw_g (lw_at lw_m3 63 rfl) rfl
theorem q572 : (Jvm.Cond.code ({ cls := "LinkResolver", name := "checkArticle", desc := "(III)V" } : Jvm.MethodName) prog_1_method_9_code (4 : Nat) (Option.none : Option Jvm.ClassFile.FieldType)) ∈ lw_all := lw_g (lw_at lw_m3 64 rfl) rfl
theorem q573 : (Jvm.Cond.methodLink "LinkResolver" (58 : Nat) ({ cls := "LinkResolver", name := "checkGroup", desc := "(I)V" } : Jvm.MethodName)) ∈ lw_all := lw_g (lw_at lw_m3 65 rfl) rfl
theorem q574 : (Jvm.Cond.static ({ cls := "LinkResolver", name := "checkGroup", desc := "(I)V" } : Jvm.MethodName)) ∈ lw_all := lw_g (lw_at lw_m3 66 rfl) rfl
theorem q575 : (Jvm.Cond.code ({ cls := "LinkResolver", name := "checkGroup", desc := "(I)V" } : Jvm.MethodName) prog_1_method_8_code (1 : Nat) (Option.none : Option Jvm.ClassFile.FieldType)) ∈ lw_all := lw_g (lw_at lw_m3 67 rfl) rfl
theorem q576 : (Jvm.Cond.methodLink "LinkResolver" (120 : Nat) ({ cls := "LinkResolver$Package", name := "covers", desc := "(IIII)Z" } : Jvm.MethodName)) ∈ lw_all := lw_g (lw_at lw_m3 68 rfl) rfl
theorem q605 : (Jvm.Cond.instanceMethod ({ cls := "LinkResolver", name := "ways", desc := "(IIII)I" } : Jvm.MethodName)) ∈ lw_all := lw_g (lw_at lw_m3 97 rfl) rfl
theorem q606 : (Jvm.Cond.selects "LinkResolver" ({ cls := "LinkResolver", name := "ways", desc := "(IIII)I" } : Jvm.MethodName) ({ cls := "LinkResolver", name := "ways", desc := "(IIII)I" } : Jvm.MethodName)) ∈ lw_all := lw_g (lw_at lw_m3 98 rfl) rfl
theorem q607 : (Jvm.Cond.code ({ cls := "LinkResolver", name := "ways", desc := "(IIII)I" } : Jvm.MethodName) prog_1_method_25_code (5 : Nat) (Option.some Jvm.ClassFile.FieldType.int)) ∈ lw_all := lw_g (lw_at lw_m3 99 rfl) rfl
theorem q608 : (Jvm.Cond.methodLink "LinkResolver" (124 : Nat) ({ cls := "LinkResolver", name := "countWays", desc := "(IIII)I" } : Jvm.MethodName)) ∈ lw_all := lw_g (lw_at lw_m3 100 rfl) rfl
theorem q609 : (Jvm.Cond.privateMethod ({ cls := "LinkResolver", name := "countWays", desc := "(IIII)I" } : Jvm.MethodName)) ∈ lw_tbl := lw_at lw_m3 101 rfl
theorem q610 : (Jvm.Cond.instanceMethod ({ cls := "LinkResolver", name := "countWays", desc := "(IIII)I" } : Jvm.MethodName)) ∈ lw_all := lw_g (lw_at lw_m3 102 rfl) rfl
theorem q611 : (Jvm.Cond.code ({ cls := "LinkResolver", name := "countWays", desc := "(IIII)I" } : Jvm.MethodName) prog_1_method_24_code (7 : Nat) (Option.some Jvm.ClassFile.FieldType.int)) ∈ lw_all := lw_g (lw_at lw_m3 103 rfl) rfl
theorem q616 : (Jvm.Cond.instanceMethod ({ cls := "LinkResolver", name := "wayAt", desc := "(IIIII)I" } : Jvm.MethodName)) ∈ lw_all := lw_g (lw_at lw_m3 108 rfl) rfl
theorem q617 : (Jvm.Cond.selects "LinkResolver" ({ cls := "LinkResolver", name := "wayAt", desc := "(IIIII)I" } : Jvm.MethodName) ({ cls := "LinkResolver", name := "wayAt", desc := "(IIIII)I" } : Jvm.MethodName)) ∈ lw_all := lw_g (lw_at lw_m3 109 rfl) rfl
theorem q618 : (Jvm.Cond.code ({ cls := "LinkResolver", name := "wayAt", desc := "(IIIII)I" } : Jvm.MethodName) prog_1_method_27_code (8 : Nat) (Option.some Jvm.ClassFile.FieldType.int)) ∈ lw_all := lw_g (lw_at lw_m3 110 rfl) rfl
theorem q619 : (Jvm.Cond.methodLink "LinkResolver" (132 : Nat) ({ cls := "LinkResolver", name := "waysAhead", desc := "(LLinkResolver$Package;IIII)I" } : Jvm.MethodName)) ∈ lw_all := lw_g (lw_at lw_m3 111 rfl) rfl
theorem q620 : (Jvm.Cond.privateMethod ({ cls := "LinkResolver", name := "waysAhead", desc := "(LLinkResolver$Package;IIII)I" } : Jvm.MethodName)) ∈ lw_tbl := lw_at lw_m3 112 rfl
theorem q621 : (Jvm.Cond.instanceMethod ({ cls := "LinkResolver", name := "waysAhead", desc := "(LLinkResolver$Package;IIII)I" } : Jvm.MethodName)) ∈ lw_all := lw_g (lw_at lw_m3 113 rfl) rfl
theorem q622 : (Jvm.Cond.code ({ cls := "LinkResolver", name := "waysAhead", desc := "(LLinkResolver$Package;IIII)I" } : Jvm.MethodName) prog_1_method_26_code (9 : Nat) (Option.some Jvm.ClassFile.FieldType.int)) ∈ lw_all := lw_g (lw_at lw_m3 114 rfl) rfl
theorem q623 : (Jvm.Cond.methodLink "LinkResolver" (128 : Nat) ({ cls := "LinkResolver$Package", name := "isWayAheadOf", desc := "(LLinkResolver$Package;I)Z" } : Jvm.MethodName)) ∈ lw_all := lw_g (lw_at lw_m3 115 rfl) rfl
theorem q631 : (Jvm.Cond.instanceMethod ({ cls := "LinkResolver", name := "gap", desc := "(II)I" } : Jvm.MethodName)) ∈ lw_all := lw_g (lw_at lw_m3 123 rfl) rfl
theorem q632 : (Jvm.Cond.selects "LinkResolver" ({ cls := "LinkResolver", name := "gap", desc := "(II)I" } : Jvm.MethodName) ({ cls := "LinkResolver", name := "gap", desc := "(II)I" } : Jvm.MethodName)) ∈ lw_all := lw_g (lw_at lw_m3 124 rfl) rfl
theorem q633 : (Jvm.Cond.code ({ cls := "LinkResolver", name := "gap", desc := "(II)I" } : Jvm.MethodName) prog_1_method_29_code (5 : Nat) (Option.some Jvm.ClassFile.FieldType.int)) ∈ lw_all := lw_g (lw_at lw_m3 125 rfl) rfl
theorem q634 : (Jvm.Cond.methodLink "LinkResolver" (142 : Nat) ({ cls := "LinkResolver", name := "thisYear", desc := "()I" } : Jvm.MethodName)) ∈ lw_all := lw_g (lw_at lw_m3 126 rfl) rfl
theorem q635 : (Jvm.Cond.privateMethod ({ cls := "LinkResolver", name := "thisYear", desc := "()I" } : Jvm.MethodName)) ∈ lw_tbl := lw_at lw_m3 127 rfl
theorem q636 : (Jvm.Cond.instanceMethod ({ cls := "LinkResolver", name := "thisYear", desc := "()I" } : Jvm.MethodName)) ∈ lw_all := lw_g (lw_at lw_m3 128 rfl) rfl
theorem q637 : (Jvm.Cond.code ({ cls := "LinkResolver", name := "thisYear", desc := "()I" } : Jvm.MethodName) prog_1_method_28_code (1 : Nat) (Option.some Jvm.ClassFile.FieldType.int)) ∈ lw_all := lw_g (lw_at lw_m3 129 rfl) rfl
theorem q638 : (Jvm.Cond.methodLink "LinkResolver" (136 : Nat) ({ cls := "java/lang/Math", name := "min", desc := "(II)I" } : Jvm.MethodName)) ∈ lw_all := lw_g (lw_at lw_m3 130 rfl) rfl
theorem q643 : (Jvm.Cond.instanceMethod ({ cls := "LinkResolver", name := "doubles", desc := "(II)I" } : Jvm.MethodName)) ∈ lw_all := lw_g (lw_at lw_m3 135 rfl) rfl
theorem q644 : (Jvm.Cond.selects "LinkResolver" ({ cls := "LinkResolver", name := "doubles", desc := "(II)I" } : Jvm.MethodName) ({ cls := "LinkResolver", name := "doubles", desc := "(II)I" } : Jvm.MethodName)) ∈ lw_all := lw_g (lw_at lw_m3 136 rfl) rfl
theorem q645 : (Jvm.Cond.code ({ cls := "LinkResolver", name := "doubles", desc := "(II)I" } : Jvm.MethodName) prog_1_method_30_code (6 : Nat) (Option.some Jvm.ClassFile.FieldType.int)) ∈ lw_all := lw_g (lw_at lw_m3 137 rfl) rfl
theorem q650 : (Jvm.Cond.instanceMethod ({ cls := "LinkResolver", name := "isNeedless", desc := "(I)Z" } : Jvm.MethodName)) ∈ lw_all := lw_g (lw_at lw_m3 142 rfl) rfl
theorem q651 : (Jvm.Cond.selects "LinkResolver" ({ cls := "LinkResolver", name := "isNeedless", desc := "(I)Z" } : Jvm.MethodName) ({ cls := "LinkResolver", name := "isNeedless", desc := "(I)Z" } : Jvm.MethodName)) ∈ lw_all := lw_g (lw_at lw_m3 143 rfl) rfl
theorem q652 : (Jvm.Cond.code ({ cls := "LinkResolver", name := "isNeedless", desc := "(I)Z" } : Jvm.MethodName) prog_1_method_32_code (7 : Nat) (Option.some Jvm.ClassFile.FieldType.boolean)) ∈ lw_all := lw_g (lw_at lw_m3 144 rfl) rfl
theorem q653 : (Jvm.Cond.methodLink "LinkResolver" (149 : Nat) ({ cls := "LinkResolver", name := "wouldBeLost", desc := "(LLinkResolver$Package;III)Z" } : Jvm.MethodName)) ∈ lw_all := lw_g (lw_at lw_m3 145 rfl) rfl
theorem q654 : (Jvm.Cond.privateMethod ({ cls := "LinkResolver", name := "wouldBeLost", desc := "(LLinkResolver$Package;III)Z" } : Jvm.MethodName)) ∈ lw_tbl := lw_at lw_m3 146 rfl
theorem q655 : (Jvm.Cond.instanceMethod ({ cls := "LinkResolver", name := "wouldBeLost", desc := "(LLinkResolver$Package;III)Z" } : Jvm.MethodName)) ∈ lw_all := lw_g (lw_at lw_m3 147 rfl) rfl
theorem q656 : (Jvm.Cond.code ({ cls := "LinkResolver", name := "wouldBeLost", desc := "(LLinkResolver$Package;III)Z" } : Jvm.MethodName) prog_1_method_31_code (6 : Nat) (Option.some Jvm.ClassFile.FieldType.boolean)) ∈ lw_all := lw_g (lw_at lw_m3 148 rfl) rfl
theorem q657 : (Jvm.Cond.methodLink "LinkResolver" (145 : Nat) ({ cls := "LinkResolver$Package", name := "hasKept", desc := "(III)Z" } : Jvm.MethodName)) ∈ lw_all := lw_g (lw_at lw_m3 149 rfl) rfl
theorem q870 : (Jvm.Cond.castable "LinkResolver" "java/lang/Object") ∈ lw_tbl := lw_at lw_m4 122 rfl
theorem in_X1 : ∀ w ∈ wsX10, w ∈ lw_all := lw_in wsX10 [90, 92, 94] (by decide +kernel) (by decide +kernel)
