/-! DECODE ROWS BY BYTES: one lemma an opcode; a method's code is cut into short pieces once, and a row reads its own piece alone. -/
set_option maxRecDepth 100000
/-- the code has just these bytes from pc on -/
def DkAt (code : ByteArray) (pc : Nat) (bs : List UInt8) : Prop := ∀ (j : Nat) (b : UInt8), bs[j]? = some b → code.data.toList[pc + j]? = some b
/-- the piece W has the bytes bs from its place j on -/
def dkIn (W : List UInt8) (j : Nat) (bs : List UInt8) : Bool := decide ((W.drop j).take bs.length = bs)
theorem dk_seg {l W T : List UInt8} {o o2 : Nat} (h : l.drop o = W ++ T) (n : Nat) (hn : W.length = n) (ho : o + n = o2) : l.drop o2 = T := by
  subst ho
  rw [← List.drop_drop, h, List.drop_left' hn]
theorem dk_at {code : ByteArray} {W T bs : List UInt8} {o pc : Nat} (h : code.data.toList.drop o = W ++ T) (j : Nat) (hp : o + j = pc) (hw : dkIn W j bs = true) : DkAt code pc bs := by
  subst hp
  intro i b e
  have h1 := of_decide_eq_true hw
  have h2 : i < bs.length := (List.getElem?_eq_some_iff.mp e).1
  have h3 : W[j + i]? = some b := by
    rw [← h1, List.getElem?_take, if_pos h2, List.getElem?_drop] at e
    exact e
  have h4 : j + i < W.length := (List.getElem?_eq_some_iff.mp h3).1
  have h5 : (code.data.toList.drop o)[j + i]? = some b := by
    rw [h, List.getElem?_append_left h4]
    exact h3
  rw [List.getElem?_drop, ← Nat.add_assoc] at h5
  exact h5
theorem dk_u1 {A : ByteArray} {p : Nat} {b : UInt8} (h : A.data.toList[p]? = some b) : (Reader.u1 : Reader DecodeError Nat) A p = .ok (b.toNat, p + 1) := by
  obtain ⟨h1, h2⟩ := List.getElem?_eq_some_iff.mp h
  have h3 : p < A.size := by simpa using h1
  have h4 : A[p]'h3 = b := h2
  have e : (Reader.u1 : Reader DecodeError Nat) A p = (if h : p < A.size then .ok (A[p].toNat, p + 1) else .error (HasTruncated.truncated p)) := by
    show (do if h : p < A.size then do set (p + 1); Pure.pure A[p].toNat else MonadExcept.throw (HasTruncated.truncated p) : Reader DecodeError Nat) A p = _
    by_cases hi : p < A.size
    · rw [dif_pos hi, dif_pos hi]; rfl
    · rw [dif_neg hi, dif_neg hi]; rfl
  rw [e, dif_pos h3, h4]
theorem dk_bind {α β : Type} {r : Reader DecodeError α} {f : α → Reader DecodeError β} {A : ByteArray} {p s : Nat} {a : α} (h : r A p = .ok (a, s)) : (r >>= f) A p = f a A s := by
  show (do let (a, s) ← r A p; f a A s : Except DecodeError (β × Nat)) = _
  rw [h]
  rfl
theorem dk_map {α β : Type} {r : Reader DecodeError α} {g : α → β} {A : ByteArray} {p s : Nat} {a : α} (h : r A p = .ok (a, s)) : (g <$> r) A p = .ok (g a, s) := by
  show (do let (a, s) ← r A p; .ok (g a, s) : Except DecodeError (β × Nat)) = _
  rw [h]
  rfl
theorem dk_u2 {A : ByteArray} {p : Nat} {a b : UInt8} (h : A.data.toList[p]? = some a) (h2 : A.data.toList[p + 1]? = some b) : (Reader.u2 : Reader DecodeError Nat) A p = .ok (a.toNat * 256 + b.toNat, p + 2) := by
  show (Reader.u1 >>= fun hi => Reader.u1 >>= fun lo => Pure.pure (hi * 256 + lo) : Reader DecodeError Nat) A p = _
  rw [dk_bind (dk_u1 h), dk_bind (dk_u1 h2)]
  rfl
theorem dk_of {code : ByteArray} {pc n : Nat} {i : Instr} (h : Decoder.instr pc code pc = .ok (i, pc + n)) : decode code pc = .ok (i, n) := by
  have e : decode code pc = (match Decoder.instr pc code pc with | .error x => .error x | .ok (j, s) => .ok (j, s - pc)) := by
    show (do let (j, s) ← Decoder.instr pc code pc; Pure.pure (j, s - pc) : Except DecodeError (Instr × Nat)) = _
    cases Decoder.instr pc code pc <;> rfl
  rw [e, h]
  show Except.ok (i, pc + n - pc) = _
  rw [Nat.add_sub_cancel_left]
theorem dk_1 {code : ByteArray} {pc : Nat} (h : DkAt code pc [1]) : decode code pc = .ok (.aconst_null, 1) := dk_of ((dk_bind (dk_u1 (h 0 _ rfl))).trans rfl)
theorem dk_2 {code : ByteArray} {pc : Nat} (h : DkAt code pc [2]) : decode code pc = .ok (.iconst (-1), 1) := dk_of ((dk_bind (dk_u1 (h 0 _ rfl))).trans rfl)
theorem dk_3 {code : ByteArray} {pc : Nat} (h : DkAt code pc [3]) : decode code pc = .ok (.iconst 0, 1) := dk_of ((dk_bind (dk_u1 (h 0 _ rfl))).trans rfl)
theorem dk_4 {code : ByteArray} {pc : Nat} (h : DkAt code pc [4]) : decode code pc = .ok (.iconst 1, 1) := dk_of ((dk_bind (dk_u1 (h 0 _ rfl))).trans rfl)
theorem dk_5 {code : ByteArray} {pc : Nat} (h : DkAt code pc [5]) : decode code pc = .ok (.iconst 2, 1) := dk_of ((dk_bind (dk_u1 (h 0 _ rfl))).trans rfl)
theorem dk_6 {code : ByteArray} {pc : Nat} (h : DkAt code pc [6]) : decode code pc = .ok (.iconst 3, 1) := dk_of ((dk_bind (dk_u1 (h 0 _ rfl))).trans rfl)
theorem dk_7 {code : ByteArray} {pc : Nat} (h : DkAt code pc [7]) : decode code pc = .ok (.iconst 4, 1) := dk_of ((dk_bind (dk_u1 (h 0 _ rfl))).trans rfl)
theorem dk_8 {code : ByteArray} {pc : Nat} (h : DkAt code pc [8]) : decode code pc = .ok (.iconst 5, 1) := dk_of ((dk_bind (dk_u1 (h 0 _ rfl))).trans rfl)
theorem dk_9 {code : ByteArray} {pc : Nat} (h : DkAt code pc [9]) : decode code pc = .ok (.lconst 0, 1) := dk_of ((dk_bind (dk_u1 (h 0 _ rfl))).trans rfl)
theorem dk_10 {code : ByteArray} {pc : Nat} (h : DkAt code pc [10]) : decode code pc = .ok (.lconst 1, 1) := dk_of ((dk_bind (dk_u1 (h 0 _ rfl))).trans rfl)
theorem dk_16 {code : ByteArray} {pc : Nat} (a : UInt8) (h : DkAt code pc [16, a]) : decode code pc = .ok (.bipush (Reader.signed 8 a.toNat), 2) := dk_of ((dk_bind (dk_u1 (h 0 _ rfl))).trans ((dk_bind (dk_map (dk_u1 (h 1 _ rfl)))).trans rfl))
theorem dk_17 {code : ByteArray} {pc : Nat} (a b : UInt8) (h : DkAt code pc [17, a, b]) : decode code pc = .ok (.sipush (Reader.signed 16 (a.toNat * 256 + b.toNat)), 3) := dk_of ((dk_bind (dk_u1 (h 0 _ rfl))).trans ((dk_bind (dk_map (dk_u2 (h 1 _ rfl) (h 2 _ rfl)))).trans rfl))
theorem dk_18 {code : ByteArray} {pc : Nat} (a : UInt8) (h : DkAt code pc [18, a]) : decode code pc = .ok (.ldc a.toNat, 2) := dk_of ((dk_bind (dk_u1 (h 0 _ rfl))).trans ((dk_bind (dk_u1 (h 1 _ rfl))).trans rfl))
theorem dk_21 {code : ByteArray} {pc : Nat} (a : UInt8) (h : DkAt code pc [21, a]) : decode code pc = .ok (.iload a.toNat, 2) := dk_of ((dk_bind (dk_u1 (h 0 _ rfl))).trans ((dk_bind (dk_u1 (h 1 _ rfl))).trans rfl))
theorem dk_25 {code : ByteArray} {pc : Nat} (a : UInt8) (h : DkAt code pc [25, a]) : decode code pc = .ok (.aload a.toNat, 2) := dk_of ((dk_bind (dk_u1 (h 0 _ rfl))).trans ((dk_bind (dk_u1 (h 1 _ rfl))).trans rfl))
theorem dk_26 {code : ByteArray} {pc : Nat} (h : DkAt code pc [26]) : decode code pc = .ok (.iload_n 0, 1) := dk_of ((dk_bind (dk_u1 (h 0 _ rfl))).trans rfl)
theorem dk_27 {code : ByteArray} {pc : Nat} (h : DkAt code pc [27]) : decode code pc = .ok (.iload_n 1, 1) := dk_of ((dk_bind (dk_u1 (h 0 _ rfl))).trans rfl)
theorem dk_28 {code : ByteArray} {pc : Nat} (h : DkAt code pc [28]) : decode code pc = .ok (.iload_n 2, 1) := dk_of ((dk_bind (dk_u1 (h 0 _ rfl))).trans rfl)
theorem dk_29 {code : ByteArray} {pc : Nat} (h : DkAt code pc [29]) : decode code pc = .ok (.iload_n 3, 1) := dk_of ((dk_bind (dk_u1 (h 0 _ rfl))).trans rfl)
theorem dk_42 {code : ByteArray} {pc : Nat} (h : DkAt code pc [42]) : decode code pc = .ok (.aload_n 0, 1) := dk_of ((dk_bind (dk_u1 (h 0 _ rfl))).trans rfl)
theorem dk_43 {code : ByteArray} {pc : Nat} (h : DkAt code pc [43]) : decode code pc = .ok (.aload_n 1, 1) := dk_of ((dk_bind (dk_u1 (h 0 _ rfl))).trans rfl)
theorem dk_44 {code : ByteArray} {pc : Nat} (h : DkAt code pc [44]) : decode code pc = .ok (.aload_n 2, 1) := dk_of ((dk_bind (dk_u1 (h 0 _ rfl))).trans rfl)
theorem dk_45 {code : ByteArray} {pc : Nat} (h : DkAt code pc [45]) : decode code pc = .ok (.aload_n 3, 1) := dk_of ((dk_bind (dk_u1 (h 0 _ rfl))).trans rfl)
theorem dk_46 {code : ByteArray} {pc : Nat} (h : DkAt code pc [46]) : decode code pc = .ok (.iaload, 1) := dk_of ((dk_bind (dk_u1 (h 0 _ rfl))).trans rfl)
theorem dk_47 {code : ByteArray} {pc : Nat} (h : DkAt code pc [47]) : decode code pc = .ok (.laload, 1) := dk_of ((dk_bind (dk_u1 (h 0 _ rfl))).trans rfl)
theorem dk_50 {code : ByteArray} {pc : Nat} (h : DkAt code pc [50]) : decode code pc = .ok (.aaload, 1) := dk_of ((dk_bind (dk_u1 (h 0 _ rfl))).trans rfl)
theorem dk_51 {code : ByteArray} {pc : Nat} (h : DkAt code pc [51]) : decode code pc = .ok (.baload, 1) := dk_of ((dk_bind (dk_u1 (h 0 _ rfl))).trans rfl)
theorem dk_54 {code : ByteArray} {pc : Nat} (a : UInt8) (h : DkAt code pc [54, a]) : decode code pc = .ok (.istore a.toNat, 2) := dk_of ((dk_bind (dk_u1 (h 0 _ rfl))).trans ((dk_bind (dk_u1 (h 1 _ rfl))).trans rfl))
theorem dk_58 {code : ByteArray} {pc : Nat} (a : UInt8) (h : DkAt code pc [58, a]) : decode code pc = .ok (.astore a.toNat, 2) := dk_of ((dk_bind (dk_u1 (h 0 _ rfl))).trans ((dk_bind (dk_u1 (h 1 _ rfl))).trans rfl))
theorem dk_60 {code : ByteArray} {pc : Nat} (h : DkAt code pc [60]) : decode code pc = .ok (.istore_n 1, 1) := dk_of ((dk_bind (dk_u1 (h 0 _ rfl))).trans rfl)
theorem dk_61 {code : ByteArray} {pc : Nat} (h : DkAt code pc [61]) : decode code pc = .ok (.istore_n 2, 1) := dk_of ((dk_bind (dk_u1 (h 0 _ rfl))).trans rfl)
theorem dk_62 {code : ByteArray} {pc : Nat} (h : DkAt code pc [62]) : decode code pc = .ok (.istore_n 3, 1) := dk_of ((dk_bind (dk_u1 (h 0 _ rfl))).trans rfl)
theorem dk_76 {code : ByteArray} {pc : Nat} (h : DkAt code pc [76]) : decode code pc = .ok (.astore_n 1, 1) := dk_of ((dk_bind (dk_u1 (h 0 _ rfl))).trans rfl)
theorem dk_77 {code : ByteArray} {pc : Nat} (h : DkAt code pc [77]) : decode code pc = .ok (.astore_n 2, 1) := dk_of ((dk_bind (dk_u1 (h 0 _ rfl))).trans rfl)
theorem dk_78 {code : ByteArray} {pc : Nat} (h : DkAt code pc [78]) : decode code pc = .ok (.astore_n 3, 1) := dk_of ((dk_bind (dk_u1 (h 0 _ rfl))).trans rfl)
theorem dk_79 {code : ByteArray} {pc : Nat} (h : DkAt code pc [79]) : decode code pc = .ok (.iastore, 1) := dk_of ((dk_bind (dk_u1 (h 0 _ rfl))).trans rfl)
theorem dk_80 {code : ByteArray} {pc : Nat} (h : DkAt code pc [80]) : decode code pc = .ok (.lastore, 1) := dk_of ((dk_bind (dk_u1 (h 0 _ rfl))).trans rfl)
theorem dk_83 {code : ByteArray} {pc : Nat} (h : DkAt code pc [83]) : decode code pc = .ok (.aastore, 1) := dk_of ((dk_bind (dk_u1 (h 0 _ rfl))).trans rfl)
theorem dk_84 {code : ByteArray} {pc : Nat} (h : DkAt code pc [84]) : decode code pc = .ok (.bastore, 1) := dk_of ((dk_bind (dk_u1 (h 0 _ rfl))).trans rfl)
theorem dk_87 {code : ByteArray} {pc : Nat} (h : DkAt code pc [87]) : decode code pc = .ok (.pop, 1) := dk_of ((dk_bind (dk_u1 (h 0 _ rfl))).trans rfl)
theorem dk_89 {code : ByteArray} {pc : Nat} (h : DkAt code pc [89]) : decode code pc = .ok (.dup, 1) := dk_of ((dk_bind (dk_u1 (h 0 _ rfl))).trans rfl)
theorem dk_90 {code : ByteArray} {pc : Nat} (h : DkAt code pc [90]) : decode code pc = .ok (.dup_x1, 1) := dk_of ((dk_bind (dk_u1 (h 0 _ rfl))).trans rfl)
theorem dk_96 {code : ByteArray} {pc : Nat} (h : DkAt code pc [96]) : decode code pc = .ok (.iadd, 1) := dk_of ((dk_bind (dk_u1 (h 0 _ rfl))).trans rfl)
theorem dk_100 {code : ByteArray} {pc : Nat} (h : DkAt code pc [100]) : decode code pc = .ok (.isub, 1) := dk_of ((dk_bind (dk_u1 (h 0 _ rfl))).trans rfl)
theorem dk_104 {code : ByteArray} {pc : Nat} (h : DkAt code pc [104]) : decode code pc = .ok (.imul, 1) := dk_of ((dk_bind (dk_u1 (h 0 _ rfl))).trans rfl)
theorem dk_108 {code : ByteArray} {pc : Nat} (h : DkAt code pc [108]) : decode code pc = .ok (.idiv, 1) := dk_of ((dk_bind (dk_u1 (h 0 _ rfl))).trans rfl)
theorem dk_122 {code : ByteArray} {pc : Nat} (h : DkAt code pc [122]) : decode code pc = .ok (.ishr, 1) := dk_of ((dk_bind (dk_u1 (h 0 _ rfl))).trans rfl)
theorem dk_126 {code : ByteArray} {pc : Nat} (h : DkAt code pc [126]) : decode code pc = .ok (.iand, 1) := dk_of ((dk_bind (dk_u1 (h 0 _ rfl))).trans rfl)
theorem dk_132 {code : ByteArray} {pc : Nat} (a b : UInt8) (h : DkAt code pc [132, a, b]) : decode code pc = .ok (.iinc a.toNat (Reader.signed 8 b.toNat), 3) := dk_of ((dk_bind (dk_u1 (h 0 _ rfl))).trans ((dk_bind (dk_u1 (h 1 _ rfl))).trans ((dk_bind (dk_map (dk_u1 (h 2 _ rfl)))).trans rfl)))
theorem dk_133 {code : ByteArray} {pc : Nat} (h : DkAt code pc [133]) : decode code pc = .ok (.i2l, 1) := dk_of ((dk_bind (dk_u1 (h 0 _ rfl))).trans rfl)
theorem dk_148 {code : ByteArray} {pc : Nat} (h : DkAt code pc [148]) : decode code pc = .ok (.lcmp, 1) := dk_of ((dk_bind (dk_u1 (h 0 _ rfl))).trans rfl)
theorem dk_153 {code : ByteArray} {pc : Nat} (a b : UInt8) (h : DkAt code pc [153, a, b]) : decode code pc = .ok (.ifCond .eq (Reader.signed 16 (a.toNat * 256 + b.toNat)), 3) := dk_of ((dk_bind (dk_u1 (h 0 _ rfl))).trans ((dk_bind (dk_map (dk_u2 (h 1 _ rfl) (h 2 _ rfl)))).trans rfl))
theorem dk_154 {code : ByteArray} {pc : Nat} (a b : UInt8) (h : DkAt code pc [154, a, b]) : decode code pc = .ok (.ifCond .ne (Reader.signed 16 (a.toNat * 256 + b.toNat)), 3) := dk_of ((dk_bind (dk_u1 (h 0 _ rfl))).trans ((dk_bind (dk_map (dk_u2 (h 1 _ rfl) (h 2 _ rfl)))).trans rfl))
theorem dk_155 {code : ByteArray} {pc : Nat} (a b : UInt8) (h : DkAt code pc [155, a, b]) : decode code pc = .ok (.ifCond .lt (Reader.signed 16 (a.toNat * 256 + b.toNat)), 3) := dk_of ((dk_bind (dk_u1 (h 0 _ rfl))).trans ((dk_bind (dk_map (dk_u2 (h 1 _ rfl) (h 2 _ rfl)))).trans rfl))
theorem dk_156 {code : ByteArray} {pc : Nat} (a b : UInt8) (h : DkAt code pc [156, a, b]) : decode code pc = .ok (.ifCond .ge (Reader.signed 16 (a.toNat * 256 + b.toNat)), 3) := dk_of ((dk_bind (dk_u1 (h 0 _ rfl))).trans ((dk_bind (dk_map (dk_u2 (h 1 _ rfl) (h 2 _ rfl)))).trans rfl))
theorem dk_157 {code : ByteArray} {pc : Nat} (a b : UInt8) (h : DkAt code pc [157, a, b]) : decode code pc = .ok (.ifCond .gt (Reader.signed 16 (a.toNat * 256 + b.toNat)), 3) := dk_of ((dk_bind (dk_u1 (h 0 _ rfl))).trans ((dk_bind (dk_map (dk_u2 (h 1 _ rfl) (h 2 _ rfl)))).trans rfl))
theorem dk_158 {code : ByteArray} {pc : Nat} (a b : UInt8) (h : DkAt code pc [158, a, b]) : decode code pc = .ok (.ifCond .le (Reader.signed 16 (a.toNat * 256 + b.toNat)), 3) := dk_of ((dk_bind (dk_u1 (h 0 _ rfl))).trans ((dk_bind (dk_map (dk_u2 (h 1 _ rfl) (h 2 _ rfl)))).trans rfl))
theorem dk_159 {code : ByteArray} {pc : Nat} (a b : UInt8) (h : DkAt code pc [159, a, b]) : decode code pc = .ok (.if_icmp .eq (Reader.signed 16 (a.toNat * 256 + b.toNat)), 3) := dk_of ((dk_bind (dk_u1 (h 0 _ rfl))).trans ((dk_bind (dk_map (dk_u2 (h 1 _ rfl) (h 2 _ rfl)))).trans rfl))
theorem dk_160 {code : ByteArray} {pc : Nat} (a b : UInt8) (h : DkAt code pc [160, a, b]) : decode code pc = .ok (.if_icmp .ne (Reader.signed 16 (a.toNat * 256 + b.toNat)), 3) := dk_of ((dk_bind (dk_u1 (h 0 _ rfl))).trans ((dk_bind (dk_map (dk_u2 (h 1 _ rfl) (h 2 _ rfl)))).trans rfl))
theorem dk_161 {code : ByteArray} {pc : Nat} (a b : UInt8) (h : DkAt code pc [161, a, b]) : decode code pc = .ok (.if_icmp .lt (Reader.signed 16 (a.toNat * 256 + b.toNat)), 3) := dk_of ((dk_bind (dk_u1 (h 0 _ rfl))).trans ((dk_bind (dk_map (dk_u2 (h 1 _ rfl) (h 2 _ rfl)))).trans rfl))
theorem dk_162 {code : ByteArray} {pc : Nat} (a b : UInt8) (h : DkAt code pc [162, a, b]) : decode code pc = .ok (.if_icmp .ge (Reader.signed 16 (a.toNat * 256 + b.toNat)), 3) := dk_of ((dk_bind (dk_u1 (h 0 _ rfl))).trans ((dk_bind (dk_map (dk_u2 (h 1 _ rfl) (h 2 _ rfl)))).trans rfl))
theorem dk_163 {code : ByteArray} {pc : Nat} (a b : UInt8) (h : DkAt code pc [163, a, b]) : decode code pc = .ok (.if_icmp .gt (Reader.signed 16 (a.toNat * 256 + b.toNat)), 3) := dk_of ((dk_bind (dk_u1 (h 0 _ rfl))).trans ((dk_bind (dk_map (dk_u2 (h 1 _ rfl) (h 2 _ rfl)))).trans rfl))
theorem dk_164 {code : ByteArray} {pc : Nat} (a b : UInt8) (h : DkAt code pc [164, a, b]) : decode code pc = .ok (.if_icmp .le (Reader.signed 16 (a.toNat * 256 + b.toNat)), 3) := dk_of ((dk_bind (dk_u1 (h 0 _ rfl))).trans ((dk_bind (dk_map (dk_u2 (h 1 _ rfl) (h 2 _ rfl)))).trans rfl))
theorem dk_165 {code : ByteArray} {pc : Nat} (a b : UInt8) (h : DkAt code pc [165, a, b]) : decode code pc = .ok (.if_acmp .eq (Reader.signed 16 (a.toNat * 256 + b.toNat)), 3) := dk_of ((dk_bind (dk_u1 (h 0 _ rfl))).trans ((dk_bind (dk_map (dk_u2 (h 1 _ rfl) (h 2 _ rfl)))).trans rfl))
theorem dk_166 {code : ByteArray} {pc : Nat} (a b : UInt8) (h : DkAt code pc [166, a, b]) : decode code pc = .ok (.if_acmp .ne (Reader.signed 16 (a.toNat * 256 + b.toNat)), 3) := dk_of ((dk_bind (dk_u1 (h 0 _ rfl))).trans ((dk_bind (dk_map (dk_u2 (h 1 _ rfl) (h 2 _ rfl)))).trans rfl))
theorem dk_167 {code : ByteArray} {pc : Nat} (a b : UInt8) (h : DkAt code pc [167, a, b]) : decode code pc = .ok (.goto (Reader.signed 16 (a.toNat * 256 + b.toNat)), 3) := dk_of ((dk_bind (dk_u1 (h 0 _ rfl))).trans ((dk_bind (dk_map (dk_u2 (h 1 _ rfl) (h 2 _ rfl)))).trans rfl))
theorem dk_172 {code : ByteArray} {pc : Nat} (h : DkAt code pc [172]) : decode code pc = .ok (.ireturn, 1) := dk_of ((dk_bind (dk_u1 (h 0 _ rfl))).trans rfl)
theorem dk_176 {code : ByteArray} {pc : Nat} (h : DkAt code pc [176]) : decode code pc = .ok (.areturn, 1) := dk_of ((dk_bind (dk_u1 (h 0 _ rfl))).trans rfl)
theorem dk_177 {code : ByteArray} {pc : Nat} (h : DkAt code pc [177]) : decode code pc = .ok (.return_, 1) := dk_of ((dk_bind (dk_u1 (h 0 _ rfl))).trans rfl)
theorem dk_178 {code : ByteArray} {pc : Nat} (a b : UInt8) (h : DkAt code pc [178, a, b]) : decode code pc = .ok (.getstatic (a.toNat * 256 + b.toNat), 3) := dk_of ((dk_bind (dk_u1 (h 0 _ rfl))).trans ((dk_bind (dk_u2 (h 1 _ rfl) (h 2 _ rfl))).trans rfl))
theorem dk_180 {code : ByteArray} {pc : Nat} (a b : UInt8) (h : DkAt code pc [180, a, b]) : decode code pc = .ok (.getfield (a.toNat * 256 + b.toNat), 3) := dk_of ((dk_bind (dk_u1 (h 0 _ rfl))).trans ((dk_bind (dk_u2 (h 1 _ rfl) (h 2 _ rfl))).trans rfl))
theorem dk_181 {code : ByteArray} {pc : Nat} (a b : UInt8) (h : DkAt code pc [181, a, b]) : decode code pc = .ok (.putfield (a.toNat * 256 + b.toNat), 3) := dk_of ((dk_bind (dk_u1 (h 0 _ rfl))).trans ((dk_bind (dk_u2 (h 1 _ rfl) (h 2 _ rfl))).trans rfl))
theorem dk_182 {code : ByteArray} {pc : Nat} (a b : UInt8) (h : DkAt code pc [182, a, b]) : decode code pc = .ok (.invokevirtual (a.toNat * 256 + b.toNat), 3) := dk_of ((dk_bind (dk_u1 (h 0 _ rfl))).trans ((dk_bind (dk_u2 (h 1 _ rfl) (h 2 _ rfl))).trans rfl))
theorem dk_183 {code : ByteArray} {pc : Nat} (a b : UInt8) (h : DkAt code pc [183, a, b]) : decode code pc = .ok (.invokespecial (a.toNat * 256 + b.toNat), 3) := dk_of ((dk_bind (dk_u1 (h 0 _ rfl))).trans ((dk_bind (dk_u2 (h 1 _ rfl) (h 2 _ rfl))).trans rfl))
theorem dk_184 {code : ByteArray} {pc : Nat} (a b : UInt8) (h : DkAt code pc [184, a, b]) : decode code pc = .ok (.invokestatic (a.toNat * 256 + b.toNat), 3) := dk_of ((dk_bind (dk_u1 (h 0 _ rfl))).trans ((dk_bind (dk_u2 (h 1 _ rfl) (h 2 _ rfl))).trans rfl))
theorem dk_187 {code : ByteArray} {pc : Nat} (a b : UInt8) (h : DkAt code pc [187, a, b]) : decode code pc = .ok (.new (a.toNat * 256 + b.toNat), 3) := dk_of ((dk_bind (dk_u1 (h 0 _ rfl))).trans ((dk_bind (dk_u2 (h 1 _ rfl) (h 2 _ rfl))).trans rfl))
theorem dk_188_4 {code : ByteArray} {pc : Nat} (h : DkAt code pc [188, 4]) : decode code pc = .ok (.newarray .boolean, 2) := dk_of ((dk_bind (dk_u1 (h 0 _ rfl))).trans ((dk_bind (dk_u1 (h 1 _ rfl))).trans rfl))
theorem dk_188_10 {code : ByteArray} {pc : Nat} (h : DkAt code pc [188, 10]) : decode code pc = .ok (.newarray .int, 2) := dk_of ((dk_bind (dk_u1 (h 0 _ rfl))).trans ((dk_bind (dk_u1 (h 1 _ rfl))).trans rfl))
theorem dk_188_11 {code : ByteArray} {pc : Nat} (h : DkAt code pc [188, 11]) : decode code pc = .ok (.newarray .long, 2) := dk_of ((dk_bind (dk_u1 (h 0 _ rfl))).trans ((dk_bind (dk_u1 (h 1 _ rfl))).trans rfl))
theorem dk_189 {code : ByteArray} {pc : Nat} (a b : UInt8) (h : DkAt code pc [189, a, b]) : decode code pc = .ok (.anewarray (a.toNat * 256 + b.toNat), 3) := dk_of ((dk_bind (dk_u1 (h 0 _ rfl))).trans ((dk_bind (dk_u2 (h 1 _ rfl) (h 2 _ rfl))).trans rfl))
theorem dk_190 {code : ByteArray} {pc : Nat} (h : DkAt code pc [190]) : decode code pc = .ok (.arraylength, 1) := dk_of ((dk_bind (dk_u1 (h 0 _ rfl))).trans rfl)
theorem dk_191 {code : ByteArray} {pc : Nat} (h : DkAt code pc [191]) : decode code pc = .ok (.athrow, 1) := dk_of ((dk_bind (dk_u1 (h 0 _ rfl))).trans rfl)
theorem dk_192 {code : ByteArray} {pc : Nat} (a b : UInt8) (h : DkAt code pc [192, a, b]) : decode code pc = .ok (.checkcast (a.toNat * 256 + b.toNat), 3) := dk_of ((dk_bind (dk_u1 (h 0 _ rfl))).trans ((dk_bind (dk_u2 (h 1 _ rfl) (h 2 _ rfl))).trans rfl))
theorem dk_198 {code : ByteArray} {pc : Nat} (a b : UInt8) (h : DkAt code pc [198, a, b]) : decode code pc = .ok (.ifnull (Reader.signed 16 (a.toNat * 256 + b.toNat)), 3) := dk_of ((dk_bind (dk_u1 (h 0 _ rfl))).trans ((dk_bind (dk_map (dk_u2 (h 1 _ rfl) (h 2 _ rfl)))).trans rfl))
theorem dk_199 {code : ByteArray} {pc : Nat} (a b : UInt8) (h : DkAt code pc [199, a, b]) : decode code pc = .ok (.ifnonnull (Reader.signed 16 (a.toNat * 256 + b.toNat)), 3) := dk_of ((dk_bind (dk_u1 (h 0 _ rfl))).trans ((dk_bind (dk_map (dk_u2 (h 1 _ rfl) (h 2 _ rfl)))).trans rfl))
/-! java/util/AbstractCollection -/
set_option maxRecDepth 100000
def RJ0 : String := "java/util/AbstractCollection"
abbrev cJ0_init : ByteArray := prog_29_method_1_code
def yJ0_init : MethodName := ⟨RJ0, "<init>", "()V"⟩
theorem dJ0_init_0 : decode cJ0_init 0 = .ok (.aload_n 0, 1) := by decide +kernel
theorem dJ0_init_1 : decode cJ0_init 1 = .ok (.invokespecial 1, 3) := by decide +kernel
theorem dJ0_init_4 : decode cJ0_init 4 = .ok (.return_, 1) := by decide +kernel
theorem q37 : (Jvm.Cond.initialized "java/util/AbstractCollection") ∈ lw_all := lw_g (lw_at lw_m1 2 rfl) rfl
theorem q98 : (Jvm.Cond.instanceMethod ({ cls := "java/util/AbstractCollection", name := "<init>", desc := "()V" } : Jvm.MethodName)) ∈ lw_all := lw_g (lw_at lw_m1 63 rfl) rfl
theorem q99 : (Jvm.Cond.code ({ cls := "java/util/AbstractCollection", name := "<init>", desc := "()V" } : Jvm.MethodName) prog_29_method_1_code (1 : Nat) (Option.none : Option Jvm.ClassFile.FieldType)) ∈ lw_all := lw_g (lw_at lw_m1 64 rfl) rfl
theorem q100 : (Jvm.Cond.methodLink "java/util/AbstractCollection" (1 : Nat) ({ cls := "java/lang/Object", name := "<init>", desc := "()V" } : Jvm.MethodName)) ∈ lw_all := lw_g (lw_at lw_m1 65 rfl) rfl
/-! java/util/AbstractList -/
set_option maxRecDepth 100000
def RJ1 : String := "java/util/AbstractList"
abbrev cJ1_init : ByteArray := prog_30_method_1_code
def yJ1_init : MethodName := ⟨RJ1, "<init>", "()V"⟩
def dkwJ1_init_0 : List UInt8 := [42, 183, 0, 1, 42, 3, 181, 0, 7, 177]
abbrev dktJ1_init_0 : List UInt8 := dkwJ1_init_0 ++ []
theorem dksJ1_init_0 : cJ1_init.data.toList.drop 0 = dktJ1_init_0 := by decide +kernel
theorem dJ1_init_0 : decode cJ1_init 0 = .ok (.aload_n 0, 1) := dk_42 (dk_at dksJ1_init_0 0 rfl rfl)
theorem dJ1_init_1 : decode cJ1_init 1 = .ok (.invokespecial 1, 3) := dk_183 0 1 (dk_at dksJ1_init_0 1 rfl rfl)
theorem dJ1_init_4 : decode cJ1_init 4 = .ok (.aload_n 0, 1) := dk_42 (dk_at dksJ1_init_0 4 rfl rfl)
theorem dJ1_init_5 : decode cJ1_init 5 = .ok (.iconst 0, 1) := dk_3 (dk_at dksJ1_init_0 5 rfl rfl)
theorem dJ1_init_6 : decode cJ1_init 6 = .ok (.putfield 7, 3) := dk_181 0 7 (dk_at dksJ1_init_0 6 rfl rfl)
theorem dJ1_init_9 : decode cJ1_init 9 = .ok (.return_, 1) := dk_177 (dk_at dksJ1_init_0 9 rfl rfl)
theorem q38 : (Jvm.Cond.initialized "java/util/AbstractList") ∈ lw_all := lw_g (lw_at lw_m1 3 rfl) rfl
theorem q95 : (Jvm.Cond.instanceMethod ({ cls := "java/util/AbstractList", name := "<init>", desc := "()V" } : Jvm.MethodName)) ∈ lw_all := lw_g (lw_at lw_m1 60 rfl) rfl
theorem q96 : (Jvm.Cond.code ({ cls := "java/util/AbstractList", name := "<init>", desc := "()V" } : Jvm.MethodName) prog_30_method_1_code (1 : Nat) (Option.none : Option Jvm.ClassFile.FieldType)) ∈ lw_all := lw_g (lw_at lw_m1 61 rfl) rfl
theorem q97 : (Jvm.Cond.methodLink "java/util/AbstractList" (1 : Nat) ({ cls := "java/util/AbstractCollection", name := "<init>", desc := "()V" } : Jvm.MethodName)) ∈ lw_all := lw_g (lw_at lw_m1 62 rfl) rfl
theorem q107 : (Jvm.Cond.fieldLink "java/util/AbstractList" (7 : Nat) "java/util/AbstractList" "modCount" "I") ∈ lw_all := lw_g (lw_at lw_m1 72 rfl) rfl
theorem q116 : (Jvm.Cond.soleField "java/util/AbstractList" "modCount") ∈ lw_all := lw_g (lw_at lw_m1 81 rfl) rfl
/-! java/util/ArrayList -/
set_option maxRecDepth 100000
def RJ2 : String := "java/util/ArrayList"
def TJ2 : u_T := fun k => match k with
  | 0 => ("java/util/AbstractList", "modCount", "I", false)
  | 1 => ("java/util/ArrayList", "elementData", "[Ljava/lang/Object;", false)
  | _ => ("java/util/ArrayList", "size", "I", false)
def tyJ2 : Nat → FieldType := fun k => match k with
  | 0 => .int
  | 1 => .array (.object "java/lang/Object")
  | _ => .int
abbrev wsJ20 : List Cond := u_ws RJ2 TJ2 3
theorem nmJ2 : ∀ a, a < 3 → ∀ b, b < 3 → a ≠ b → (TJ2 a).2.1 ≠ (TJ2 b).2.1 := by decide +kernel
theorem tyJ2_ok : ∀ k, k < 3 → parseFieldDescriptor (TJ2 k).2.2.1 = some (tyJ2 k) := by decide +kernel
abbrev cJ2_init : ByteArray := prog_35_method_2_code
def yJ2_init : MethodName := ⟨RJ2, "<init>", "()V"⟩
def dkwJ2_init_0 : List UInt8 := [42, 183, 0, 1, 42, 178, 0, 39, 181, 0, 9, 177]
abbrev dktJ2_init_0 : List UInt8 := dkwJ2_init_0 ++ []
theorem dksJ2_init_0 : cJ2_init.data.toList.drop 0 = dktJ2_init_0 := by decide +kernel
theorem dJ2_init_0 : decode cJ2_init 0 = .ok (.aload_n 0, 1) := dk_42 (dk_at dksJ2_init_0 0 rfl rfl)
theorem dJ2_init_1 : decode cJ2_init 1 = .ok (.invokespecial 1, 3) := dk_183 0 1 (dk_at dksJ2_init_0 1 rfl rfl)
theorem dJ2_init_4 : decode cJ2_init 4 = .ok (.aload_n 0, 1) := dk_42 (dk_at dksJ2_init_0 4 rfl rfl)
theorem dJ2_init_5 : decode cJ2_init 5 = .ok (.getstatic 39, 3) := dk_178 0 39 (dk_at dksJ2_init_0 5 rfl rfl)
theorem dJ2_init_8 : decode cJ2_init 8 = .ok (.putfield 9, 3) := dk_181 0 9 (dk_at dksJ2_init_0 8 rfl rfl)
theorem dJ2_init_11 : decode cJ2_init 11 = .ok (.return_, 1) := dk_177 (dk_at dksJ2_init_0 11 rfl rfl)
abbrev cJ2_size : ByteArray := prog_35_method_8_code
def yJ2_size : MethodName := ⟨RJ2, "size", "()I"⟩
theorem dJ2_size_0 : decode cJ2_size 0 = .ok (.aload_n 0, 1) := by decide +kernel
theorem dJ2_size_1 : decode cJ2_size 1 = .ok (.getfield 48, 3) := by decide +kernel
theorem dJ2_size_4 : decode cJ2_size 4 = .ok (.ireturn, 1) := by decide +kernel
abbrev cJ2_add : ByteArray := prog_35_method_25_code
def yJ2_add : MethodName := ⟨RJ2, "add", "(Ljava/lang/Object;)Z"⟩
def dkwJ2_add_1 : List UInt8 := [172]
abbrev dktJ2_add_1 : List UInt8 := dkwJ2_add_1 ++ []
def dkwJ2_add_0 : List UInt8 := [42, 89, 180, 0, 63, 4, 96, 181, 0, 63, 42, 43, 42, 180, 0, 9, 42, 180, 0, 48, 182, 0, 131, 4]
abbrev dktJ2_add_0 : List UInt8 := dkwJ2_add_0 ++ dktJ2_add_1
theorem dksJ2_add_0 : cJ2_add.data.toList.drop 0 = dktJ2_add_0 := by decide +kernel
theorem dksJ2_add_1 : cJ2_add.data.toList.drop 24 = dktJ2_add_1 := dk_seg dksJ2_add_0 24 rfl rfl
theorem dJ2_add_0 : decode cJ2_add 0 = .ok (.aload_n 0, 1) := dk_42 (dk_at dksJ2_add_0 0 rfl rfl)
theorem dJ2_add_1 : decode cJ2_add 1 = .ok (.dup, 1) := dk_89 (dk_at dksJ2_add_0 1 rfl rfl)
theorem dJ2_add_2 : decode cJ2_add 2 = .ok (.getfield 63, 3) := dk_180 0 63 (dk_at dksJ2_add_0 2 rfl rfl)
theorem dJ2_add_5 : decode cJ2_add 5 = .ok (.iconst 1, 1) := dk_4 (dk_at dksJ2_add_0 5 rfl rfl)
theorem dJ2_add_6 : decode cJ2_add 6 = .ok (.iadd, 1) := dk_96 (dk_at dksJ2_add_0 6 rfl rfl)
theorem dJ2_add_7 : decode cJ2_add 7 = .ok (.putfield 63, 3) := dk_181 0 63 (dk_at dksJ2_add_0 7 rfl rfl)
theorem dJ2_add_10 : decode cJ2_add 10 = .ok (.aload_n 0, 1) := dk_42 (dk_at dksJ2_add_0 10 rfl rfl)
theorem dJ2_add_11 : decode cJ2_add 11 = .ok (.aload_n 1, 1) := dk_43 (dk_at dksJ2_add_0 11 rfl rfl)
theorem dJ2_add_12 : decode cJ2_add 12 = .ok (.aload_n 0, 1) := dk_42 (dk_at dksJ2_add_0 12 rfl rfl)
theorem dJ2_add_13 : decode cJ2_add 13 = .ok (.getfield 9, 3) := dk_180 0 9 (dk_at dksJ2_add_0 13 rfl rfl)
theorem dJ2_add_16 : decode cJ2_add 16 = .ok (.aload_n 0, 1) := dk_42 (dk_at dksJ2_add_0 16 rfl rfl)
theorem dJ2_add_17 : decode cJ2_add 17 = .ok (.getfield 48, 3) := dk_180 0 48 (dk_at dksJ2_add_0 17 rfl rfl)
theorem dJ2_add_20 : decode cJ2_add 20 = .ok (.invokevirtual 131, 3) := dk_182 0 131 (dk_at dksJ2_add_0 20 rfl rfl)
theorem dJ2_add_23 : decode cJ2_add 23 = .ok (.iconst 1, 1) := dk_4 (dk_at dksJ2_add_0 23 rfl rfl)
theorem dJ2_add_24 : decode cJ2_add 24 = .ok (.ireturn, 1) := dk_172 (dk_at dksJ2_add_1 0 rfl rfl)
abbrev cJ2_add_2 : ByteArray := prog_35_method_24_code
def yJ2_add_2 : MethodName := ⟨RJ2, "add", "(Ljava/lang/Object;[Ljava/lang/Object;I)V"⟩
def dkwJ2_add_2_0 : List UInt8 := [29, 44, 190, 160, 0, 8, 42, 182, 0, 129, 77, 44, 29, 43, 83, 42, 29, 4, 96, 181, 0, 48, 177]
abbrev dktJ2_add_2_0 : List UInt8 := dkwJ2_add_2_0 ++ []
theorem dksJ2_add_2_0 : cJ2_add_2.data.toList.drop 0 = dktJ2_add_2_0 := by decide +kernel
theorem dJ2_add_2_0 : decode cJ2_add_2 0 = .ok (.iload_n 3, 1) := dk_29 (dk_at dksJ2_add_2_0 0 rfl rfl)
theorem dJ2_add_2_1 : decode cJ2_add_2 1 = .ok (.aload_n 2, 1) := dk_44 (dk_at dksJ2_add_2_0 1 rfl rfl)
theorem dJ2_add_2_2 : decode cJ2_add_2 2 = .ok (.arraylength, 1) := dk_190 (dk_at dksJ2_add_2_0 2 rfl rfl)
theorem dJ2_add_2_3 : decode cJ2_add_2 3 = .ok (.if_icmp .ne 8, 3) := dk_160 0 8 (dk_at dksJ2_add_2_0 3 rfl rfl)
theorem dJ2_add_2_6 : decode cJ2_add_2 6 = .ok (.aload_n 0, 1) := dk_42 (dk_at dksJ2_add_2_0 6 rfl rfl)
theorem dJ2_add_2_7 : decode cJ2_add_2 7 = .ok (.invokevirtual 129, 3) := dk_182 0 129 (dk_at dksJ2_add_2_0 7 rfl rfl)
theorem dJ2_add_2_10 : decode cJ2_add_2 10 = .ok (.astore_n 2, 1) := dk_77 (dk_at dksJ2_add_2_0 10 rfl rfl)
theorem dJ2_add_2_11 : decode cJ2_add_2 11 = .ok (.aload_n 2, 1) := dk_44 (dk_at dksJ2_add_2_0 11 rfl rfl)
theorem dJ2_add_2_12 : decode cJ2_add_2 12 = .ok (.iload_n 3, 1) := dk_29 (dk_at dksJ2_add_2_0 12 rfl rfl)
theorem dJ2_add_2_13 : decode cJ2_add_2 13 = .ok (.aload_n 1, 1) := dk_43 (dk_at dksJ2_add_2_0 13 rfl rfl)
theorem dJ2_add_2_14 : decode cJ2_add_2 14 = .ok (.aastore, 1) := dk_83 (dk_at dksJ2_add_2_0 14 rfl rfl)
theorem dJ2_add_2_15 : decode cJ2_add_2 15 = .ok (.aload_n 0, 1) := dk_42 (dk_at dksJ2_add_2_0 15 rfl rfl)
theorem dJ2_add_2_16 : decode cJ2_add_2 16 = .ok (.iload_n 3, 1) := dk_29 (dk_at dksJ2_add_2_0 16 rfl rfl)
theorem dJ2_add_2_17 : decode cJ2_add_2 17 = .ok (.iconst 1, 1) := dk_4 (dk_at dksJ2_add_2_0 17 rfl rfl)
theorem dJ2_add_2_18 : decode cJ2_add_2 18 = .ok (.iadd, 1) := dk_96 (dk_at dksJ2_add_2_0 18 rfl rfl)
theorem dJ2_add_2_19 : decode cJ2_add_2 19 = .ok (.putfield 48, 3) := dk_181 0 48 (dk_at dksJ2_add_2_0 19 rfl rfl)
theorem dJ2_add_2_22 : decode cJ2_add_2 22 = .ok (.return_, 1) := dk_177 (dk_at dksJ2_add_2_0 22 rfl rfl)
abbrev cJ2_grow : ByteArray := prog_35_method_7_code
def yJ2_grow : MethodName := ⟨RJ2, "grow", "()[Ljava/lang/Object;"⟩
def dkwJ2_grow_0 : List UInt8 := [42, 42, 180, 0, 48, 4, 96, 182, 0, 69, 176]
abbrev dktJ2_grow_0 : List UInt8 := dkwJ2_grow_0 ++ []
theorem dksJ2_grow_0 : cJ2_grow.data.toList.drop 0 = dktJ2_grow_0 := by decide +kernel
theorem dJ2_grow_0 : decode cJ2_grow 0 = .ok (.aload_n 0, 1) := dk_42 (dk_at dksJ2_grow_0 0 rfl rfl)
theorem dJ2_grow_1 : decode cJ2_grow 1 = .ok (.aload_n 0, 1) := dk_42 (dk_at dksJ2_grow_0 1 rfl rfl)
theorem dJ2_grow_2 : decode cJ2_grow 2 = .ok (.getfield 48, 3) := dk_180 0 48 (dk_at dksJ2_grow_0 2 rfl rfl)
theorem dJ2_grow_5 : decode cJ2_grow 5 = .ok (.iconst 1, 1) := dk_4 (dk_at dksJ2_grow_0 5 rfl rfl)
theorem dJ2_grow_6 : decode cJ2_grow 6 = .ok (.iadd, 1) := dk_96 (dk_at dksJ2_grow_0 6 rfl rfl)
theorem dJ2_grow_7 : decode cJ2_grow 7 = .ok (.invokevirtual 69, 3) := dk_182 0 69 (dk_at dksJ2_grow_0 7 rfl rfl)
theorem dJ2_grow_10 : decode cJ2_grow 10 = .ok (.areturn, 1) := dk_176 (dk_at dksJ2_grow_0 10 rfl rfl)
abbrev cJ2_grow_2 : ByteArray := prog_35_method_6_code
def yJ2_grow_2 : MethodName := ⟨RJ2, "grow", "(I)[Ljava/lang/Object;"⟩
def dkwJ2_grow_2_2 : List UInt8 := [27, 184, 0, 79, 189, 0, 7, 90, 181, 0, 9, 176]
abbrev dktJ2_grow_2_2 : List UInt8 := dkwJ2_grow_2_2 ++ []
def dkwJ2_grow_2_1 : List UInt8 := [28, 4, 122, 184, 0, 73, 62, 42, 42, 180, 0, 9, 29, 184, 0, 66, 90, 181, 0, 9, 176, 42, 16, 10]
abbrev dktJ2_grow_2_1 : List UInt8 := dkwJ2_grow_2_1 ++ dktJ2_grow_2_2
def dkwJ2_grow_2_0 : List UInt8 := [42, 180, 0, 9, 190, 61, 28, 157, 0, 13, 42, 180, 0, 9, 178, 0, 39, 165, 0, 28, 28, 27, 28, 100]
abbrev dktJ2_grow_2_0 : List UInt8 := dkwJ2_grow_2_0 ++ dktJ2_grow_2_1
theorem dksJ2_grow_2_0 : cJ2_grow_2.data.toList.drop 0 = dktJ2_grow_2_0 := by decide +kernel
theorem dksJ2_grow_2_1 : cJ2_grow_2.data.toList.drop 24 = dktJ2_grow_2_1 := dk_seg dksJ2_grow_2_0 24 rfl rfl
theorem dksJ2_grow_2_2 : cJ2_grow_2.data.toList.drop 48 = dktJ2_grow_2_2 := dk_seg dksJ2_grow_2_1 24 rfl rfl
theorem dJ2_grow_2_0 : decode cJ2_grow_2 0 = .ok (.aload_n 0, 1) := dk_42 (dk_at dksJ2_grow_2_0 0 rfl rfl)
theorem dJ2_grow_2_1 : decode cJ2_grow_2 1 = .ok (.getfield 9, 3) := dk_180 0 9 (dk_at dksJ2_grow_2_0 1 rfl rfl)
theorem dJ2_grow_2_4 : decode cJ2_grow_2 4 = .ok (.arraylength, 1) := dk_190 (dk_at dksJ2_grow_2_0 4 rfl rfl)
theorem dJ2_grow_2_5 : decode cJ2_grow_2 5 = .ok (.istore_n 2, 1) := dk_61 (dk_at dksJ2_grow_2_0 5 rfl rfl)
theorem dJ2_grow_2_6 : decode cJ2_grow_2 6 = .ok (.iload_n 2, 1) := dk_28 (dk_at dksJ2_grow_2_0 6 rfl rfl)
theorem dJ2_grow_2_7 : decode cJ2_grow_2 7 = .ok (.ifCond .gt 13, 3) := dk_157 0 13 (dk_at dksJ2_grow_2_0 7 rfl rfl)
theorem dJ2_grow_2_10 : decode cJ2_grow_2 10 = .ok (.aload_n 0, 1) := dk_42 (dk_at dksJ2_grow_2_0 10 rfl rfl)
theorem dJ2_grow_2_11 : decode cJ2_grow_2 11 = .ok (.getfield 9, 3) := dk_180 0 9 (dk_at dksJ2_grow_2_0 11 rfl rfl)
theorem dJ2_grow_2_14 : decode cJ2_grow_2 14 = .ok (.getstatic 39, 3) := dk_178 0 39 (dk_at dksJ2_grow_2_0 14 rfl rfl)
theorem dJ2_grow_2_17 : decode cJ2_grow_2 17 = .ok (.if_acmp .eq 28, 3) := dk_165 0 28 (dk_at dksJ2_grow_2_0 17 rfl rfl)
theorem dJ2_grow_2_20 : decode cJ2_grow_2 20 = .ok (.iload_n 2, 1) := dk_28 (dk_at dksJ2_grow_2_0 20 rfl rfl)
theorem dJ2_grow_2_21 : decode cJ2_grow_2 21 = .ok (.iload_n 1, 1) := dk_27 (dk_at dksJ2_grow_2_0 21 rfl rfl)
theorem dJ2_grow_2_22 : decode cJ2_grow_2 22 = .ok (.iload_n 2, 1) := dk_28 (dk_at dksJ2_grow_2_0 22 rfl rfl)
theorem dJ2_grow_2_23 : decode cJ2_grow_2 23 = .ok (.isub, 1) := dk_100 (dk_at dksJ2_grow_2_0 23 rfl rfl)
theorem dJ2_grow_2_24 : decode cJ2_grow_2 24 = .ok (.iload_n 2, 1) := dk_28 (dk_at dksJ2_grow_2_1 0 rfl rfl)
theorem dJ2_grow_2_25 : decode cJ2_grow_2 25 = .ok (.iconst 1, 1) := dk_4 (dk_at dksJ2_grow_2_1 1 rfl rfl)
theorem dJ2_grow_2_26 : decode cJ2_grow_2 26 = .ok (.ishr, 1) := dk_122 (dk_at dksJ2_grow_2_1 2 rfl rfl)
theorem dJ2_grow_2_27 : decode cJ2_grow_2 27 = .ok (.invokestatic 73, 3) := dk_184 0 73 (dk_at dksJ2_grow_2_1 3 rfl rfl)
theorem dJ2_grow_2_30 : decode cJ2_grow_2 30 = .ok (.istore_n 3, 1) := dk_62 (dk_at dksJ2_grow_2_1 6 rfl rfl)
theorem dJ2_grow_2_31 : decode cJ2_grow_2 31 = .ok (.aload_n 0, 1) := dk_42 (dk_at dksJ2_grow_2_1 7 rfl rfl)
theorem dJ2_grow_2_32 : decode cJ2_grow_2 32 = .ok (.aload_n 0, 1) := dk_42 (dk_at dksJ2_grow_2_1 8 rfl rfl)
theorem dJ2_grow_2_33 : decode cJ2_grow_2 33 = .ok (.getfield 9, 3) := dk_180 0 9 (dk_at dksJ2_grow_2_1 9 rfl rfl)
theorem dJ2_grow_2_36 : decode cJ2_grow_2 36 = .ok (.iload_n 3, 1) := dk_29 (dk_at dksJ2_grow_2_1 12 rfl rfl)
theorem dJ2_grow_2_37 : decode cJ2_grow_2 37 = .ok (.invokestatic 66, 3) := dk_184 0 66 (dk_at dksJ2_grow_2_1 13 rfl rfl)
theorem dJ2_grow_2_40 : decode cJ2_grow_2 40 = .ok (.dup_x1, 1) := dk_90 (dk_at dksJ2_grow_2_1 16 rfl rfl)
theorem dJ2_grow_2_41 : decode cJ2_grow_2 41 = .ok (.putfield 9, 3) := dk_181 0 9 (dk_at dksJ2_grow_2_1 17 rfl rfl)
theorem dJ2_grow_2_44 : decode cJ2_grow_2 44 = .ok (.areturn, 1) := dk_176 (dk_at dksJ2_grow_2_1 20 rfl rfl)
theorem dJ2_grow_2_45 : decode cJ2_grow_2 45 = .ok (.aload_n 0, 1) := dk_42 (dk_at dksJ2_grow_2_1 21 rfl rfl)
theorem dJ2_grow_2_46 : decode cJ2_grow_2 46 = .ok (.bipush 10, 2) := dk_16 10 (dk_at dksJ2_grow_2_1 22 rfl rfl)
theorem dJ2_grow_2_48 : decode cJ2_grow_2 48 = .ok (.iload_n 1, 1) := dk_27 (dk_at dksJ2_grow_2_2 0 rfl rfl)
theorem dJ2_grow_2_49 : decode cJ2_grow_2 49 = .ok (.invokestatic 79, 3) := dk_184 0 79 (dk_at dksJ2_grow_2_2 1 rfl rfl)
theorem dJ2_grow_2_52 : decode cJ2_grow_2 52 = .ok (.anewarray 7, 3) := dk_189 0 7 (dk_at dksJ2_grow_2_2 4 rfl rfl)
theorem dJ2_grow_2_55 : decode cJ2_grow_2 55 = .ok (.dup_x1, 1) := dk_90 (dk_at dksJ2_grow_2_2 7 rfl rfl)
theorem dJ2_grow_2_56 : decode cJ2_grow_2 56 = .ok (.putfield 9, 3) := dk_181 0 9 (dk_at dksJ2_grow_2_2 8 rfl rfl)
theorem dJ2_grow_2_59 : decode cJ2_grow_2 59 = .ok (.areturn, 1) := dk_176 (dk_at dksJ2_grow_2_2 11 rfl rfl)
abbrev cJ2_get : ByteArray := prog_35_method_20_code
def yJ2_get : MethodName := ⟨RJ2, "get", "(I)Ljava/lang/Object;"⟩
def dkwJ2_get_0 : List UInt8 := [27, 42, 180, 0, 48, 184, 0, 118, 87, 42, 27, 182, 0, 123, 176]
abbrev dktJ2_get_0 : List UInt8 := dkwJ2_get_0 ++ []
theorem dksJ2_get_0 : cJ2_get.data.toList.drop 0 = dktJ2_get_0 := by decide +kernel
theorem dJ2_get_0 : decode cJ2_get 0 = .ok (.iload_n 1, 1) := dk_27 (dk_at dksJ2_get_0 0 rfl rfl)
theorem dJ2_get_1 : decode cJ2_get 1 = .ok (.aload_n 0, 1) := dk_42 (dk_at dksJ2_get_0 1 rfl rfl)
theorem dJ2_get_2 : decode cJ2_get 2 = .ok (.getfield 48, 3) := dk_180 0 48 (dk_at dksJ2_get_0 2 rfl rfl)
theorem dJ2_get_5 : decode cJ2_get 5 = .ok (.invokestatic 118, 3) := dk_184 0 118 (dk_at dksJ2_get_0 5 rfl rfl)
theorem dJ2_get_8 : decode cJ2_get 8 = .ok (.pop, 1) := dk_87 (dk_at dksJ2_get_0 8 rfl rfl)
theorem dJ2_get_9 : decode cJ2_get 9 = .ok (.aload_n 0, 1) := dk_42 (dk_at dksJ2_get_0 9 rfl rfl)
theorem dJ2_get_10 : decode cJ2_get 10 = .ok (.iload_n 1, 1) := dk_27 (dk_at dksJ2_get_0 10 rfl rfl)
theorem dJ2_get_11 : decode cJ2_get 11 = .ok (.invokevirtual 123, 3) := dk_182 0 123 (dk_at dksJ2_get_0 11 rfl rfl)
theorem dJ2_get_14 : decode cJ2_get 14 = .ok (.areturn, 1) := dk_176 (dk_at dksJ2_get_0 14 rfl rfl)
abbrev cJ2_elementData : ByteArray := prog_35_method_18_code
def yJ2_elementData : MethodName := ⟨RJ2, "elementData", "(I)Ljava/lang/Object;"⟩
def dkwJ2_elementData_0 : List UInt8 := [42, 180, 0, 9, 27, 50, 176]
abbrev dktJ2_elementData_0 : List UInt8 := dkwJ2_elementData_0 ++ []
theorem dksJ2_elementData_0 : cJ2_elementData.data.toList.drop 0 = dktJ2_elementData_0 := by decide +kernel
theorem dJ2_elementData_0 : decode cJ2_elementData 0 = .ok (.aload_n 0, 1) := dk_42 (dk_at dksJ2_elementData_0 0 rfl rfl)
theorem dJ2_elementData_1 : decode cJ2_elementData 1 = .ok (.getfield 9, 3) := dk_180 0 9 (dk_at dksJ2_elementData_0 1 rfl rfl)
theorem dJ2_elementData_4 : decode cJ2_elementData 4 = .ok (.iload_n 1, 1) := dk_27 (dk_at dksJ2_elementData_0 4 rfl rfl)
theorem dJ2_elementData_5 : decode cJ2_elementData 5 = .ok (.aaload, 1) := dk_50 (dk_at dksJ2_elementData_0 5 rfl rfl)
theorem dJ2_elementData_6 : decode cJ2_elementData 6 = .ok (.areturn, 1) := dk_176 (dk_at dksJ2_elementData_0 6 rfl rfl)
abbrev cJ2_iterator : ByteArray := prog_35_method_55_code
def yJ2_iterator : MethodName := ⟨RJ2, "iterator", "()Ljava/util/Iterator;"⟩
def dkwJ2_iterator_0 : List UInt8 := [187, 1, 11, 89, 42, 183, 1, 13, 176]
abbrev dktJ2_iterator_0 : List UInt8 := dkwJ2_iterator_0 ++ []
theorem dksJ2_iterator_0 : cJ2_iterator.data.toList.drop 0 = dktJ2_iterator_0 := by decide +kernel
theorem dJ2_iterator_0 : decode cJ2_iterator 0 = .ok (.new 267, 3) := dk_187 1 11 (dk_at dksJ2_iterator_0 0 rfl rfl)
theorem dJ2_iterator_3 : decode cJ2_iterator 3 = .ok (.dup, 1) := dk_89 (dk_at dksJ2_iterator_0 3 rfl rfl)
theorem dJ2_iterator_4 : decode cJ2_iterator 4 = .ok (.aload_n 0, 1) := dk_42 (dk_at dksJ2_iterator_0 4 rfl rfl)
theorem dJ2_iterator_5 : decode cJ2_iterator 5 = .ok (.invokespecial 269, 3) := dk_183 1 13 (dk_at dksJ2_iterator_0 5 rfl rfl)
theorem dJ2_iterator_8 : decode cJ2_iterator 8 = .ok (.areturn, 1) := dk_176 (dk_at dksJ2_iterator_0 8 rfl rfl)
theorem q39 : (Jvm.Cond.initialized "java/util/ArrayList") ∈ lw_all := lw_g (lw_at lw_m1 4 rfl) rfl
theorem q90 : (Jvm.Cond.instantiable "java/util/ArrayList" (3 : Nat)) ∈ lw_all := lw_g (lw_at lw_m1 55 rfl) rfl
theorem q92 : (Jvm.Cond.instanceMethod ({ cls := "java/util/ArrayList", name := "<init>", desc := "()V" } : Jvm.MethodName)) ∈ lw_all := lw_g (lw_at lw_m1 57 rfl) rfl
theorem q93 : (Jvm.Cond.code ({ cls := "java/util/ArrayList", name := "<init>", desc := "()V" } : Jvm.MethodName) prog_35_method_2_code (1 : Nat) (Option.none : Option Jvm.ClassFile.FieldType)) ∈ lw_all := lw_g (lw_at lw_m1 58 rfl) rfl
theorem q94 : (Jvm.Cond.methodLink "java/util/ArrayList" (1 : Nat) ({ cls := "java/util/AbstractList", name := "<init>", desc := "()V" } : Jvm.MethodName)) ∈ lw_all := lw_g (lw_at lw_m1 59 rfl) rfl
theorem q101 : (Jvm.Cond.fieldLink "java/util/ArrayList" (39 : Nat) "java/util/ArrayList" "DEFAULTCAPACITY_EMPTY_ELEMENTDATA" "[Ljava/lang/Object;") ∈ lw_all := lw_g (lw_at lw_m1 66 rfl) rfl
theorem q102 : (Jvm.Cond.laysStatic "java/util/ArrayList" "DEFAULTCAPACITY_EMPTY_ELEMENTDATA" "[Ljava/lang/Object;") ∈ lw_tbl := lw_at lw_m1 67 rfl
theorem q103 : (Jvm.Cond.fieldLink "java/util/ArrayList" (9 : Nat) "java/util/ArrayList" "elementData" "[Ljava/lang/Object;") ∈ lw_all := lw_g (lw_at lw_m1 68 rfl) rfl
theorem q106 : (Jvm.Cond.fieldLink "java/util/ArrayList" (48 : Nat) "java/util/ArrayList" "size" "I") ∈ lw_all := lw_g (lw_at lw_m1 71 rfl) rfl
theorem q109 : (Jvm.Cond.sameField "java/util/ArrayList" "java/util/AbstractList" "modCount" "I") ∈ lw_all := lw_g (lw_at lw_m1 74 rfl) rfl
theorem q110 : (Jvm.Cond.fieldLink "java/util/ArrayList" (63 : Nat) "java/util/ArrayList" "modCount" "I") ∈ lw_all := lw_g (lw_at lw_m1 75 rfl) rfl
theorem q111 : (Jvm.Cond.lays "java/util/ArrayList" "java/util/ArrayList" "elementData" "[Ljava/lang/Object;") ∈ lw_all := lw_g (lw_at lw_m1 76 rfl) rfl
theorem q112 : (Jvm.Cond.soleField "java/util/ArrayList" "elementData") ∈ lw_all := lw_g (lw_at lw_m1 77 rfl) rfl
theorem q113 : (Jvm.Cond.lays "java/util/ArrayList" "java/util/ArrayList" "size" "I") ∈ lw_all := lw_g (lw_at lw_m1 78 rfl) rfl
theorem q114 : (Jvm.Cond.soleField "java/util/ArrayList" "size") ∈ lw_all := lw_g (lw_at lw_m1 79 rfl) rfl
theorem q115 : (Jvm.Cond.lays "java/util/ArrayList" "java/util/AbstractList" "modCount" "I") ∈ lw_all := lw_g (lw_at lw_m1 80 rfl) rfl
theorem q117 : (Jvm.Cond.superclass "java/util/ArrayList" "java/util/AbstractList") ∈ lw_all := lw_g (lw_at lw_m1 82 rfl) rfl
theorem q147 : (Jvm.Cond.castable "java/util/ArrayList" "java/util/List") ∈ lw_tbl := lw_at lw_m1 112 rfl
theorem q148 : (Jvm.Cond.selects "java/util/ArrayList" ({ cls := "java/util/List", name := "size", desc := "()I" } : Jvm.MethodName) ({ cls := "java/util/ArrayList", name := "size", desc := "()I" } : Jvm.MethodName)) ∈ lw_all := lw_g (lw_at lw_m1 113 rfl) rfl
theorem q149 : (Jvm.Cond.unhidden "java/util/ArrayList" "size" "()I") ∈ lw_tbl := lw_at lw_m1 114 rfl
theorem q150 : (Jvm.Cond.instanceMethod ({ cls := "java/util/ArrayList", name := "size", desc := "()I" } : Jvm.MethodName)) ∈ lw_all := lw_g (lw_at lw_m1 115 rfl) rfl
theorem q151 : (Jvm.Cond.publicMethod ({ cls := "java/util/ArrayList", name := "size", desc := "()I" } : Jvm.MethodName)) ∈ lw_tbl := lw_at lw_m1 116 rfl
theorem q152 : (Jvm.Cond.code ({ cls := "java/util/ArrayList", name := "size", desc := "()I" } : Jvm.MethodName) prog_35_method_8_code (1 : Nat) (Option.some Jvm.ClassFile.FieldType.int)) ∈ lw_all := lw_g (lw_at lw_m1 117 rfl) rfl
theorem q308 : (Jvm.Cond.selects "java/util/ArrayList" ({ cls := "java/util/List", name := "add", desc := "(Ljava/lang/Object;)Z" } : Jvm.MethodName) ({ cls := "java/util/ArrayList", name := "add", desc := "(Ljava/lang/Object;)Z" } : Jvm.MethodName)) ∈ lw_all := lw_g (lw_at lw_m2 33 rfl) rfl
theorem q309 : (Jvm.Cond.unhidden "java/util/ArrayList" "add" "(Ljava/lang/Object;)Z") ∈ lw_tbl := lw_at lw_m2 34 rfl
theorem q310 : (Jvm.Cond.instanceMethod ({ cls := "java/util/ArrayList", name := "add", desc := "(Ljava/lang/Object;)Z" } : Jvm.MethodName)) ∈ lw_all := lw_g (lw_at lw_m2 35 rfl) rfl
theorem q311 : (Jvm.Cond.publicMethod ({ cls := "java/util/ArrayList", name := "add", desc := "(Ljava/lang/Object;)Z" } : Jvm.MethodName)) ∈ lw_tbl := lw_at lw_m2 36 rfl
theorem q312 : (Jvm.Cond.code ({ cls := "java/util/ArrayList", name := "add", desc := "(Ljava/lang/Object;)Z" } : Jvm.MethodName) prog_35_method_25_code (2 : Nat) (Option.some Jvm.ClassFile.FieldType.boolean)) ∈ lw_all := lw_g (lw_at lw_m2 37 rfl) rfl
theorem q313 : (Jvm.Cond.methodLink "java/util/ArrayList" (131 : Nat) ({ cls := "java/util/ArrayList", name := "add", desc := "(Ljava/lang/Object;[Ljava/lang/Object;I)V" } : Jvm.MethodName)) ∈ lw_all := lw_g (lw_at lw_m2 38 rfl) rfl
theorem q314 : (Jvm.Cond.privateMethod ({ cls := "java/util/ArrayList", name := "add", desc := "(Ljava/lang/Object;[Ljava/lang/Object;I)V" } : Jvm.MethodName)) ∈ lw_tbl := lw_at lw_m2 39 rfl
theorem q315 : (Jvm.Cond.instanceMethod ({ cls := "java/util/ArrayList", name := "add", desc := "(Ljava/lang/Object;[Ljava/lang/Object;I)V" } : Jvm.MethodName)) ∈ lw_all := lw_g (lw_at lw_m2 40 rfl) rfl
theorem q316 : (Jvm.Cond.code ({ cls := "java/util/ArrayList", name := "add", desc := "(Ljava/lang/Object;[Ljava/lang/Object;I)V" } : Jvm.MethodName) prog_35_method_24_code (4 : Nat) (Option.none : Option Jvm.ClassFile.FieldType)) ∈ lw_all := lw_g (lw_at lw_m2 41 rfl) rfl
theorem q317 : (Jvm.Cond.methodLink "java/util/ArrayList" (129 : Nat) ({ cls := "java/util/ArrayList", name := "grow", desc := "()[Ljava/lang/Object;" } : Jvm.MethodName)) ∈ lw_all := lw_g (lw_at lw_m2 42 rfl) rfl
theorem q318 : (Jvm.Cond.privateMethod ({ cls := "java/util/ArrayList", name := "grow", desc := "()[Ljava/lang/Object;" } : Jvm.MethodName)) ∈ lw_tbl := lw_at lw_m2 43 rfl
theorem q319 : (Jvm.Cond.instanceMethod ({ cls := "java/util/ArrayList", name := "grow", desc := "()[Ljava/lang/Object;" } : Jvm.MethodName)) ∈ lw_all := lw_g (lw_at lw_m2 44 rfl) rfl
theorem q320 : (Jvm.Cond.code ({ cls := "java/util/ArrayList", name := "grow", desc := "()[Ljava/lang/Object;" } : Jvm.MethodName) prog_35_method_7_code (1 : Nat) (Option.some (Jvm.ClassFile.FieldType.array (Jvm.ClassFile.FieldType.object "java/lang/Object")))) ∈ lw_all := lw_g (lw_at lw_m2 45 rfl) rfl
theorem q321 : (Jvm.Cond.methodLink "java/util/ArrayList" (69 : Nat) ({ cls := "java/util/ArrayList", name := "grow", desc := "(I)[Ljava/lang/Object;" } : Jvm.MethodName)) ∈ lw_all := lw_g (lw_at lw_m2 46 rfl) rfl
theorem q322 : (Jvm.Cond.privateMethod ({ cls := "java/util/ArrayList", name := "grow", desc := "(I)[Ljava/lang/Object;" } : Jvm.MethodName)) ∈ lw_tbl := lw_at lw_m2 47 rfl
theorem q323 : (Jvm.Cond.instanceMethod ({ cls := "java/util/ArrayList", name := "grow", desc := "(I)[Ljava/lang/Object;" } : Jvm.MethodName)) ∈ lw_all := lw_g (lw_at lw_m2 48 rfl) rfl
theorem q324 : (Jvm.Cond.code ({ cls := "java/util/ArrayList", name := "grow", desc := "(I)[Ljava/lang/Object;" } : Jvm.MethodName) prog_35_method_6_code (4 : Nat) (Option.some (Jvm.ClassFile.FieldType.array (Jvm.ClassFile.FieldType.object "java/lang/Object")))) ∈ lw_all := lw_g (lw_at lw_m2 49 rfl) rfl
theorem q325 : (Jvm.Cond.methodLink "java/util/ArrayList" (73 : Nat) ({ cls := "jdk/internal/util/ArraysSupport", name := "newLength", desc := "(III)I" } : Jvm.MethodName)) ∈ lw_all := lw_g (lw_at lw_m2 50 rfl) rfl
theorem q335 : (Jvm.Cond.methodLink "java/util/ArrayList" (66 : Nat) ({ cls := "java/util/Arrays", name := "copyOf", desc := "([Ljava/lang/Object;I)[Ljava/lang/Object;" } : Jvm.MethodName)) ∈ lw_all := lw_g (lw_at lw_m2 60 rfl) rfl
theorem q354 : (Jvm.Cond.selects "java/util/ArrayList" ({ cls := "java/lang/Object", name := "getClass", desc := "()Ljava/lang/Class;" } : Jvm.MethodName) ({ cls := "java/lang/Object", name := "getClass", desc := "()Ljava/lang/Class;" } : Jvm.MethodName)) ∈ lw_all := lw_g (lw_at lw_m2 79 rfl) rfl
theorem q378 : (Jvm.Cond.methodLink "java/util/ArrayList" (79 : Nat) ({ cls := "java/lang/Math", name := "max", desc := "(II)I" } : Jvm.MethodName)) ∈ lw_all := lw_g (lw_at lw_m2 103 rfl) rfl
theorem q379 : (Jvm.Cond.classLink "java/util/ArrayList" (7 : Nat) "java/lang/Object") ∈ lw_all := lw_g (lw_at lw_m2 104 rfl) rfl
theorem q479 : (Jvm.Cond.selects "java/util/ArrayList" ({ cls := "java/util/List", name := "get", desc := "(I)Ljava/lang/Object;" } : Jvm.MethodName) ({ cls := "java/util/ArrayList", name := "get", desc := "(I)Ljava/lang/Object;" } : Jvm.MethodName)) ∈ lw_all := lw_g (lw_at lw_m2 204 rfl) rfl
theorem q480 : (Jvm.Cond.unhidden "java/util/ArrayList" "get" "(I)Ljava/lang/Object;") ∈ lw_tbl := lw_at lw_m2 205 rfl
theorem q481 : (Jvm.Cond.instanceMethod ({ cls := "java/util/ArrayList", name := "get", desc := "(I)Ljava/lang/Object;" } : Jvm.MethodName)) ∈ lw_all := lw_g (lw_at lw_m2 206 rfl) rfl
theorem q482 : (Jvm.Cond.publicMethod ({ cls := "java/util/ArrayList", name := "get", desc := "(I)Ljava/lang/Object;" } : Jvm.MethodName)) ∈ lw_tbl := lw_at lw_m2 207 rfl
theorem q483 : (Jvm.Cond.code ({ cls := "java/util/ArrayList", name := "get", desc := "(I)Ljava/lang/Object;" } : Jvm.MethodName) prog_35_method_20_code (2 : Nat) (Option.some (Jvm.ClassFile.FieldType.object "java/lang/Object"))) ∈ lw_all := lw_g (lw_at lw_m2 208 rfl) rfl
theorem q484 : (Jvm.Cond.methodLink "java/util/ArrayList" (118 : Nat) ({ cls := "java/util/Objects", name := "checkIndex", desc := "(II)I" } : Jvm.MethodName)) ∈ lw_all := lw_g (lw_at lw_m2 209 rfl) rfl
theorem q490 : (Jvm.Cond.methodLink "java/util/ArrayList" (123 : Nat) ({ cls := "java/util/ArrayList", name := "elementData", desc := "(I)Ljava/lang/Object;" } : Jvm.MethodName)) ∈ lw_all := lw_g (lw_at lw_m2 215 rfl) rfl
theorem q491 : (Jvm.Cond.instanceMethod ({ cls := "java/util/ArrayList", name := "elementData", desc := "(I)Ljava/lang/Object;" } : Jvm.MethodName)) ∈ lw_all := lw_g (lw_at lw_m2 216 rfl) rfl
theorem q492 : (Jvm.Cond.selects "java/util/ArrayList" ({ cls := "java/util/ArrayList", name := "elementData", desc := "(I)Ljava/lang/Object;" } : Jvm.MethodName) ({ cls := "java/util/ArrayList", name := "elementData", desc := "(I)Ljava/lang/Object;" } : Jvm.MethodName)) ∈ lw_all := lw_g (lw_at lw_m2 217 rfl) rfl
theorem q493 : (Jvm.Cond.code ({ cls := "java/util/ArrayList", name := "elementData", desc := "(I)Ljava/lang/Object;" } : Jvm.MethodName) prog_35_method_18_code (2 : Nat) (Option.some (Jvm.ClassFile.FieldType.object "java/lang/Object"))) ∈ lw_all := lw_g (lw_at lw_m2 218 rfl) rfl
theorem q1010 : (Jvm.Cond.castable "java/util/ArrayList" "java/util/Collection") ∈ lw_tbl := lw_at lw_m5 15 rfl
theorem q1011 : (Jvm.Cond.selects "java/util/ArrayList" ({ cls := "java/util/Collection", name := "iterator", desc := "()Ljava/util/Iterator;" } : Jvm.MethodName) ({ cls := "java/util/ArrayList", name := "iterator", desc := "()Ljava/util/Iterator;" } : Jvm.MethodName)) ∈ lw_all := lw_g (lw_at lw_m5 16 rfl) rfl
theorem q1012 : (Jvm.Cond.unhidden "java/util/ArrayList" "iterator" "()Ljava/util/Iterator;") ∈ lw_tbl := lw_at lw_m5 17 rfl
theorem q1013 : (Jvm.Cond.instanceMethod ({ cls := "java/util/ArrayList", name := "iterator", desc := "()Ljava/util/Iterator;" } : Jvm.MethodName)) ∈ lw_all := lw_g (lw_at lw_m5 18 rfl) rfl
theorem q1014 : (Jvm.Cond.publicMethod ({ cls := "java/util/ArrayList", name := "iterator", desc := "()Ljava/util/Iterator;" } : Jvm.MethodName)) ∈ lw_tbl := lw_at lw_m5 19 rfl
theorem q1015 : (Jvm.Cond.code ({ cls := "java/util/ArrayList", name := "iterator", desc := "()Ljava/util/Iterator;" } : Jvm.MethodName) prog_35_method_55_code (1 : Nat) (Option.some (Jvm.ClassFile.FieldType.object "java/util/Iterator"))) ∈ lw_all := lw_g (lw_at lw_m5 20 rfl) rfl
theorem q1016 : (Jvm.Cond.classLink "java/util/ArrayList" (267 : Nat) "java/util/ArrayList$Itr") ∈ lw_all := lw_g (lw_at lw_m5 21 rfl) rfl
theorem q1018 : (Jvm.Cond.methodLink "java/util/ArrayList" (269 : Nat) ({ cls := "java/util/ArrayList$Itr", name := "<init>", desc := "(Ljava/util/ArrayList;)V" } : Jvm.MethodName)) ∈ lw_all := lw_g (lw_at lw_m5 23 rfl) rfl
theorem q1267 : (Jvm.Cond.selects "java/util/ArrayList" ({ cls := "java/util/List", name := "iterator", desc := "()Ljava/util/Iterator;" } : Jvm.MethodName) ({ cls := "java/util/ArrayList", name := "iterator", desc := "()Ljava/util/Iterator;" } : Jvm.MethodName)) ∈ lw_all := lw_g (lw_at lw_m6 32 rfl) rfl
theorem q1510 : (Jvm.Cond.castable "java/util/ArrayList" "java/lang/Object") ∈ lw_tbl := lw_at lw_m7 35 rfl
theorem in_J2 : ∀ w ∈ wsJ20, w ∈ lw_all := lw_in wsJ20 [115, 111, 113] (by decide +kernel) (by decide +kernel)
/-! java/lang/Throwable -/
set_option maxRecDepth 100000
def RJ3 : String := "java/lang/Throwable"
def TJ3 : u_T := fun k => match k with
  | 0 => ("java/lang/Throwable", "cause", "Ljava/lang/Throwable;", false)
  | 1 => ("java/lang/Throwable", "stackTrace", "[Ljava/lang/StackTraceElement;", false)
  | 2 => ("java/lang/Throwable", "suppressedExceptions", "Ljava/util/List;", false)
  | 3 => ("java/lang/Throwable", "detailMessage", "Ljava/lang/String;", false)
  | _ => ("java/lang/Throwable", "backtrace", "Ljava/lang/Object;", false)
def tyJ3 : Nat → FieldType := fun k => match k with
  | 0 => .object "java/lang/Throwable"
  | 1 => .array (.object "java/lang/StackTraceElement")
  | 2 => .object "java/util/List"
  | 3 => .object "java/lang/String"
  | _ => .object "java/lang/Object"
abbrev wsJ30 : List Cond := u_ws RJ3 TJ3 5
theorem nmJ3 : ∀ a, a < 5 → ∀ b, b < 5 → a ≠ b → (TJ3 a).2.1 ≠ (TJ3 b).2.1 := by decide +kernel
theorem tyJ3_ok : ∀ k, k < 5 → parseFieldDescriptor (TJ3 k).2.2.1 = some (tyJ3 k) := by decide +kernel
abbrev cJ3_init : ByteArray := prog_26_method_1_code
def yJ3_init : MethodName := ⟨RJ3, "<init>", "()V"⟩
def dkwJ3_init_1 : List UInt8 := [182, 0, 27, 87, 177]
abbrev dktJ3_init_1 : List UInt8 := dkwJ3_init_1 ++ []
def dkwJ3_init_0 : List UInt8 := [42, 183, 0, 1, 42, 42, 181, 0, 7, 42, 178, 0, 13, 181, 0, 17, 42, 178, 0, 20, 181, 0, 24, 42]
abbrev dktJ3_init_0 : List UInt8 := dkwJ3_init_0 ++ dktJ3_init_1
theorem dksJ3_init_0 : cJ3_init.data.toList.drop 0 = dktJ3_init_0 := by decide +kernel
theorem dksJ3_init_1 : cJ3_init.data.toList.drop 24 = dktJ3_init_1 := dk_seg dksJ3_init_0 24 rfl rfl
theorem dJ3_init_0 : decode cJ3_init 0 = .ok (.aload_n 0, 1) := dk_42 (dk_at dksJ3_init_0 0 rfl rfl)
theorem dJ3_init_1 : decode cJ3_init 1 = .ok (.invokespecial 1, 3) := dk_183 0 1 (dk_at dksJ3_init_0 1 rfl rfl)
theorem dJ3_init_4 : decode cJ3_init 4 = .ok (.aload_n 0, 1) := dk_42 (dk_at dksJ3_init_0 4 rfl rfl)
theorem dJ3_init_5 : decode cJ3_init 5 = .ok (.aload_n 0, 1) := dk_42 (dk_at dksJ3_init_0 5 rfl rfl)
theorem dJ3_init_6 : decode cJ3_init 6 = .ok (.putfield 7, 3) := dk_181 0 7 (dk_at dksJ3_init_0 6 rfl rfl)
theorem dJ3_init_9 : decode cJ3_init 9 = .ok (.aload_n 0, 1) := dk_42 (dk_at dksJ3_init_0 9 rfl rfl)
theorem dJ3_init_10 : decode cJ3_init 10 = .ok (.getstatic 13, 3) := dk_178 0 13 (dk_at dksJ3_init_0 10 rfl rfl)
theorem dJ3_init_13 : decode cJ3_init 13 = .ok (.putfield 17, 3) := dk_181 0 17 (dk_at dksJ3_init_0 13 rfl rfl)
theorem dJ3_init_16 : decode cJ3_init 16 = .ok (.aload_n 0, 1) := dk_42 (dk_at dksJ3_init_0 16 rfl rfl)
theorem dJ3_init_17 : decode cJ3_init 17 = .ok (.getstatic 20, 3) := dk_178 0 20 (dk_at dksJ3_init_0 17 rfl rfl)
theorem dJ3_init_20 : decode cJ3_init 20 = .ok (.putfield 24, 3) := dk_181 0 24 (dk_at dksJ3_init_0 20 rfl rfl)
theorem dJ3_init_23 : decode cJ3_init 23 = .ok (.aload_n 0, 1) := dk_42 (dk_at dksJ3_init_0 23 rfl rfl)
theorem dJ3_init_24 : decode cJ3_init 24 = .ok (.invokevirtual 27, 3) := dk_182 0 27 (dk_at dksJ3_init_1 0 rfl rfl)
theorem dJ3_init_27 : decode cJ3_init 27 = .ok (.pop, 1) := dk_87 (dk_at dksJ3_init_1 3 rfl rfl)
theorem dJ3_init_28 : decode cJ3_init 28 = .ok (.return_, 1) := dk_177 (dk_at dksJ3_init_1 4 rfl rfl)
abbrev cJ3_init_2 : ByteArray := prog_26_method_2_code
def yJ3_init_2 : MethodName := ⟨RJ3, "<init>", "(Ljava/lang/String;)V"⟩
def dkwJ3_init_2_1 : List UInt8 := [182, 0, 27, 87, 42, 43, 181, 0, 31, 177]
abbrev dktJ3_init_2_1 : List UInt8 := dkwJ3_init_2_1 ++ []
def dkwJ3_init_2_0 : List UInt8 := [42, 183, 0, 1, 42, 42, 181, 0, 7, 42, 178, 0, 13, 181, 0, 17, 42, 178, 0, 20, 181, 0, 24, 42]
abbrev dktJ3_init_2_0 : List UInt8 := dkwJ3_init_2_0 ++ dktJ3_init_2_1
theorem dksJ3_init_2_0 : cJ3_init_2.data.toList.drop 0 = dktJ3_init_2_0 := by decide +kernel
theorem dksJ3_init_2_1 : cJ3_init_2.data.toList.drop 24 = dktJ3_init_2_1 := dk_seg dksJ3_init_2_0 24 rfl rfl
theorem dJ3_init_2_0 : decode cJ3_init_2 0 = .ok (.aload_n 0, 1) := dk_42 (dk_at dksJ3_init_2_0 0 rfl rfl)
theorem dJ3_init_2_1 : decode cJ3_init_2 1 = .ok (.invokespecial 1, 3) := dk_183 0 1 (dk_at dksJ3_init_2_0 1 rfl rfl)
theorem dJ3_init_2_4 : decode cJ3_init_2 4 = .ok (.aload_n 0, 1) := dk_42 (dk_at dksJ3_init_2_0 4 rfl rfl)
theorem dJ3_init_2_5 : decode cJ3_init_2 5 = .ok (.aload_n 0, 1) := dk_42 (dk_at dksJ3_init_2_0 5 rfl rfl)
theorem dJ3_init_2_6 : decode cJ3_init_2 6 = .ok (.putfield 7, 3) := dk_181 0 7 (dk_at dksJ3_init_2_0 6 rfl rfl)
theorem dJ3_init_2_9 : decode cJ3_init_2 9 = .ok (.aload_n 0, 1) := dk_42 (dk_at dksJ3_init_2_0 9 rfl rfl)
theorem dJ3_init_2_10 : decode cJ3_init_2 10 = .ok (.getstatic 13, 3) := dk_178 0 13 (dk_at dksJ3_init_2_0 10 rfl rfl)
theorem dJ3_init_2_13 : decode cJ3_init_2 13 = .ok (.putfield 17, 3) := dk_181 0 17 (dk_at dksJ3_init_2_0 13 rfl rfl)
theorem dJ3_init_2_16 : decode cJ3_init_2 16 = .ok (.aload_n 0, 1) := dk_42 (dk_at dksJ3_init_2_0 16 rfl rfl)
theorem dJ3_init_2_17 : decode cJ3_init_2 17 = .ok (.getstatic 20, 3) := dk_178 0 20 (dk_at dksJ3_init_2_0 17 rfl rfl)
theorem dJ3_init_2_20 : decode cJ3_init_2 20 = .ok (.putfield 24, 3) := dk_181 0 24 (dk_at dksJ3_init_2_0 20 rfl rfl)
theorem dJ3_init_2_23 : decode cJ3_init_2 23 = .ok (.aload_n 0, 1) := dk_42 (dk_at dksJ3_init_2_0 23 rfl rfl)
theorem dJ3_init_2_24 : decode cJ3_init_2 24 = .ok (.invokevirtual 27, 3) := dk_182 0 27 (dk_at dksJ3_init_2_1 0 rfl rfl)
theorem dJ3_init_2_27 : decode cJ3_init_2 27 = .ok (.pop, 1) := dk_87 (dk_at dksJ3_init_2_1 3 rfl rfl)
theorem dJ3_init_2_28 : decode cJ3_init_2 28 = .ok (.aload_n 0, 1) := dk_42 (dk_at dksJ3_init_2_1 4 rfl rfl)
theorem dJ3_init_2_29 : decode cJ3_init_2 29 = .ok (.aload_n 1, 1) := dk_43 (dk_at dksJ3_init_2_1 5 rfl rfl)
theorem dJ3_init_2_30 : decode cJ3_init_2 30 = .ok (.putfield 31, 3) := dk_181 0 31 (dk_at dksJ3_init_2_1 6 rfl rfl)
theorem dJ3_init_2_33 : decode cJ3_init_2 33 = .ok (.return_, 1) := dk_177 (dk_at dksJ3_init_2_1 9 rfl rfl)
theorem q41 : (Jvm.Cond.initialized "java/lang/Throwable") ∈ lw_all := lw_g (lw_at lw_m1 6 rfl) rfl
theorem q172 : (Jvm.Cond.declares ({ cls := "java/lang/Throwable", name := "<init>", desc := "()V" } : Jvm.MethodName)) ∈ lw_tbl := lw_at lw_m1 137 rfl
theorem q173 : (Jvm.Cond.declares ({ cls := "java/lang/Throwable", name := "<init>", desc := "(Ljava/lang/String;)V" } : Jvm.MethodName)) ∈ lw_tbl := lw_at lw_m1 138 rfl
theorem q177 : (Jvm.Cond.lays "java/lang/Throwable" "java/lang/Throwable" "cause" "Ljava/lang/Throwable;") ∈ lw_all := lw_g (lw_at lw_m1 142 rfl) rfl
theorem q179 : (Jvm.Cond.lays "java/lang/Throwable" "java/lang/Throwable" "stackTrace" "[Ljava/lang/StackTraceElement;") ∈ lw_all := lw_g (lw_at lw_m1 144 rfl) rfl
theorem q181 : (Jvm.Cond.lays "java/lang/Throwable" "java/lang/Throwable" "suppressedExceptions" "Ljava/util/List;") ∈ lw_all := lw_g (lw_at lw_m1 146 rfl) rfl
theorem q183 : (Jvm.Cond.lays "java/lang/Throwable" "java/lang/Throwable" "detailMessage" "Ljava/lang/String;") ∈ lw_all := lw_g (lw_at lw_m1 148 rfl) rfl
theorem q185 : (Jvm.Cond.lays "java/lang/Throwable" "java/lang/Throwable" "backtrace" "Ljava/lang/Object;") ∈ lw_all := lw_g (lw_at lw_m1 150 rfl) rfl
theorem q186 : (Jvm.Cond.fieldLink "java/lang/Throwable" (198 : Nat) "java/lang/Throwable" "backtrace" "Ljava/lang/Object;") ∈ lw_all := lw_g (lw_at lw_m1 151 rfl) rfl
theorem q187 : (Jvm.Cond.superclass "java/lang/Throwable" "java/lang/Object") ∈ lw_all := lw_g (lw_at lw_m1 152 rfl) rfl
theorem q188 : (Jvm.Cond.instanceMethod ({ cls := "java/lang/Throwable", name := "<init>", desc := "()V" } : Jvm.MethodName)) ∈ lw_all := lw_g (lw_at lw_m1 153 rfl) rfl
theorem q189 : (Jvm.Cond.code ({ cls := "java/lang/Throwable", name := "<init>", desc := "()V" } : Jvm.MethodName) prog_26_method_1_code (1 : Nat) (Option.none : Option Jvm.ClassFile.FieldType)) ∈ lw_all := lw_g (lw_at lw_m1 154 rfl) rfl
theorem q190 : (Jvm.Cond.methodLink "java/lang/Throwable" (1 : Nat) ({ cls := "java/lang/Object", name := "<init>", desc := "()V" } : Jvm.MethodName)) ∈ lw_all := lw_g (lw_at lw_m1 155 rfl) rfl
theorem q191 : (Jvm.Cond.fieldLink "java/lang/Throwable" (13 : Nat) "java/lang/Throwable" "UNASSIGNED_STACK" "[Ljava/lang/StackTraceElement;") ∈ lw_all := lw_g (lw_at lw_m1 156 rfl) rfl
theorem q192 : (Jvm.Cond.laysStatic "java/lang/Throwable" "UNASSIGNED_STACK" "[Ljava/lang/StackTraceElement;") ∈ lw_tbl := lw_at lw_m1 157 rfl
theorem q193 : (Jvm.Cond.fieldLink "java/lang/Throwable" (20 : Nat) "java/lang/Throwable" "SUPPRESSED_SENTINEL" "Ljava/util/List;") ∈ lw_all := lw_g (lw_at lw_m1 158 rfl) rfl
theorem q194 : (Jvm.Cond.laysStatic "java/lang/Throwable" "SUPPRESSED_SENTINEL" "Ljava/util/List;") ∈ lw_tbl := lw_at lw_m1 159 rfl
theorem q195 : (Jvm.Cond.methodLink "java/lang/Throwable" (27 : Nat) ({ cls := "java/lang/Throwable", name := "fillInStackTrace", desc := "()Ljava/lang/Throwable;" } : Jvm.MethodName)) ∈ lw_all := lw_g (lw_at lw_m1 160 rfl) rfl
theorem q196 : (Jvm.Cond.instanceMethod ({ cls := "java/lang/Throwable", name := "fillInStackTrace", desc := "()Ljava/lang/Throwable;" } : Jvm.MethodName)) ∈ lw_all := lw_g (lw_at lw_m1 161 rfl) rfl
theorem q197 : (Jvm.Cond.sameMethod "java/lang/Throwable" "java/lang/Throwable" "fillInStackTrace" "()Ljava/lang/Throwable;") ∈ lw_all := lw_g (lw_at lw_m1 162 rfl) rfl
theorem q201 : (Jvm.Cond.codeSync ({ cls := "java/lang/Throwable", name := "fillInStackTrace", desc := "()Ljava/lang/Throwable;" } : Jvm.MethodName) prog_26_method_18_code (1 : Nat) (Option.some (Jvm.ClassFile.FieldType.object "java/lang/Throwable"))) ∈ lw_all := lw_g (lw_at lw_m1 166 rfl) rfl
theorem q202 : (Jvm.Cond.methodLink "java/lang/Throwable" (202 : Nat) ({ cls := "java/lang/Throwable", name := "fillInStackTrace", desc := "(I)Ljava/lang/Throwable;" } : Jvm.MethodName)) ∈ lw_all := lw_g (lw_at lw_m1 167 rfl) rfl
theorem q203 : (Jvm.Cond.privateMethod ({ cls := "java/lang/Throwable", name := "fillInStackTrace", desc := "(I)Ljava/lang/Throwable;" } : Jvm.MethodName)) ∈ lw_tbl := lw_at lw_m1 168 rfl
theorem q204 : (Jvm.Cond.instanceMethod ({ cls := "java/lang/Throwable", name := "fillInStackTrace", desc := "(I)Ljava/lang/Throwable;" } : Jvm.MethodName)) ∈ lw_all := lw_g (lw_at lw_m1 169 rfl) rfl
theorem q205 : (Jvm.Cond.instantiable "java/lang/Throwable" (6 : Nat)) ∈ lw_all := lw_g (lw_at lw_m1 170 rfl) rfl
theorem q206 : (Jvm.Cond.native ({ cls := "java/lang/Throwable", name := "fillInStackTrace", desc := "(I)Ljava/lang/Throwable;" } : Jvm.MethodName)) ∈ lw_all := lw_g (lw_at lw_m1 171 rfl) rfl
theorem q217 : (Jvm.Cond.fieldLink "java/lang/Throwable" (198 : Nat) "java/lang/Throwable" "backtrace" "Ljava/lang/Object;") ∈ lw_all := lw_g (lw_at lw_m1 182 rfl) rfl
theorem q218 : (Jvm.Cond.fieldLink "java/lang/Throwable" (31 : Nat) "java/lang/Throwable" "detailMessage" "Ljava/lang/String;") ∈ lw_all := lw_g (lw_at lw_m1 183 rfl) rfl
theorem q219 : (Jvm.Cond.fieldLink "java/lang/Throwable" (7 : Nat) "java/lang/Throwable" "cause" "Ljava/lang/Throwable;") ∈ lw_all := lw_g (lw_at lw_m1 184 rfl) rfl
theorem q220 : (Jvm.Cond.fieldLink "java/lang/Throwable" (17 : Nat) "java/lang/Throwable" "stackTrace" "[Ljava/lang/StackTraceElement;") ∈ lw_all := lw_g (lw_at lw_m1 185 rfl) rfl
theorem q221 : (Jvm.Cond.fieldLink "java/lang/Throwable" (24 : Nat) "java/lang/Throwable" "suppressedExceptions" "Ljava/util/List;") ∈ lw_all := lw_g (lw_at lw_m1 186 rfl) rfl
theorem q222 : (Jvm.Cond.soleField "java/lang/Throwable" "backtrace") ∈ lw_all := lw_g (lw_at lw_m1 187 rfl) rfl
theorem q223 : (Jvm.Cond.soleField "java/lang/Throwable" "detailMessage") ∈ lw_all := lw_g (lw_at lw_m1 188 rfl) rfl
theorem q224 : (Jvm.Cond.soleField "java/lang/Throwable" "cause") ∈ lw_all := lw_g (lw_at lw_m1 189 rfl) rfl
theorem q225 : (Jvm.Cond.soleField "java/lang/Throwable" "stackTrace") ∈ lw_all := lw_g (lw_at lw_m1 190 rfl) rfl
theorem q227 : (Jvm.Cond.soleField "java/lang/Throwable" "depth") ∈ lw_all := lw_g (lw_at lw_m1 192 rfl) rfl
theorem q228 : (Jvm.Cond.soleField "java/lang/Throwable" "suppressedExceptions") ∈ lw_all := lw_g (lw_at lw_m1 193 rfl) rfl
theorem q397 : (Jvm.Cond.instanceMethod ({ cls := "java/lang/Throwable", name := "<init>", desc := "(Ljava/lang/String;)V" } : Jvm.MethodName)) ∈ lw_all := lw_g (lw_at lw_m2 122 rfl) rfl
theorem q398 : (Jvm.Cond.code ({ cls := "java/lang/Throwable", name := "<init>", desc := "(Ljava/lang/String;)V" } : Jvm.MethodName) prog_26_method_2_code (2 : Nat) (Option.none : Option Jvm.ClassFile.FieldType)) ∈ lw_all := lw_g (lw_at lw_m2 123 rfl) rfl
theorem q1505 : (Jvm.Cond.sameMethod "java/lang/Throwable" "java/lang/Throwable" "fillInStackTrace" "(I)Ljava/lang/Throwable;") ∈ lw_all := lw_g (lw_at lw_m7 30 rfl) rfl
theorem q1533 : (Jvm.Cond.castable "java/lang/Throwable" "java/lang/Object") ∈ lw_tbl := lw_at lw_m7 58 rfl
theorem in_J3 : ∀ w ∈ wsJ30, w ∈ lw_all := lw_in wsJ30 [177, 179, 181, 183, 185] (by decide +kernel) (by decide +kernel)
/-! java/lang/Exception -/
set_option maxRecDepth 100000
def RJ4 : String := "java/lang/Exception"
abbrev cJ4_init : ByteArray := prog_13_method_1_code
def yJ4_init : MethodName := ⟨RJ4, "<init>", "()V"⟩
theorem dJ4_init_0 : decode cJ4_init 0 = .ok (.aload_n 0, 1) := by decide +kernel
theorem dJ4_init_1 : decode cJ4_init 1 = .ok (.invokespecial 1, 3) := by decide +kernel
theorem dJ4_init_4 : decode cJ4_init 4 = .ok (.return_, 1) := by decide +kernel
abbrev cJ4_init_2 : ByteArray := prog_13_method_2_code
def yJ4_init_2 : MethodName := ⟨RJ4, "<init>", "(Ljava/lang/String;)V"⟩
def dkwJ4_init_2_0 : List UInt8 := [42, 43, 183, 0, 7, 177]
abbrev dktJ4_init_2_0 : List UInt8 := dkwJ4_init_2_0 ++ []
theorem dksJ4_init_2_0 : cJ4_init_2.data.toList.drop 0 = dktJ4_init_2_0 := by decide +kernel
theorem dJ4_init_2_0 : decode cJ4_init_2 0 = .ok (.aload_n 0, 1) := dk_42 (dk_at dksJ4_init_2_0 0 rfl rfl)
theorem dJ4_init_2_1 : decode cJ4_init_2 1 = .ok (.aload_n 1, 1) := dk_43 (dk_at dksJ4_init_2_0 1 rfl rfl)
theorem dJ4_init_2_2 : decode cJ4_init_2 2 = .ok (.invokespecial 7, 3) := dk_183 0 7 (dk_at dksJ4_init_2_0 2 rfl rfl)
theorem dJ4_init_2_5 : decode cJ4_init_2 5 = .ok (.return_, 1) := dk_177 (dk_at dksJ4_init_2_0 5 rfl rfl)
theorem q42 : (Jvm.Cond.initialized "java/lang/Exception") ∈ lw_all := lw_g (lw_at lw_m1 7 rfl) rfl
theorem q170 : (Jvm.Cond.declares ({ cls := "java/lang/Exception", name := "<init>", desc := "()V" } : Jvm.MethodName)) ∈ lw_tbl := lw_at lw_m1 135 rfl
theorem q171 : (Jvm.Cond.declares ({ cls := "java/lang/Exception", name := "<init>", desc := "(Ljava/lang/String;)V" } : Jvm.MethodName)) ∈ lw_tbl := lw_at lw_m1 136 rfl
theorem q214 : (Jvm.Cond.instanceMethod ({ cls := "java/lang/Exception", name := "<init>", desc := "()V" } : Jvm.MethodName)) ∈ lw_all := lw_g (lw_at lw_m1 179 rfl) rfl
theorem q215 : (Jvm.Cond.code ({ cls := "java/lang/Exception", name := "<init>", desc := "()V" } : Jvm.MethodName) prog_13_method_1_code (1 : Nat) (Option.none : Option Jvm.ClassFile.FieldType)) ∈ lw_all := lw_g (lw_at lw_m1 180 rfl) rfl
theorem q216 : (Jvm.Cond.methodLink "java/lang/Exception" (1 : Nat) ({ cls := "java/lang/Throwable", name := "<init>", desc := "()V" } : Jvm.MethodName)) ∈ lw_all := lw_g (lw_at lw_m1 181 rfl) rfl
theorem q394 : (Jvm.Cond.instanceMethod ({ cls := "java/lang/Exception", name := "<init>", desc := "(Ljava/lang/String;)V" } : Jvm.MethodName)) ∈ lw_all := lw_g (lw_at lw_m2 119 rfl) rfl
theorem q395 : (Jvm.Cond.code ({ cls := "java/lang/Exception", name := "<init>", desc := "(Ljava/lang/String;)V" } : Jvm.MethodName) prog_13_method_2_code (2 : Nat) (Option.none : Option Jvm.ClassFile.FieldType)) ∈ lw_all := lw_g (lw_at lw_m2 120 rfl) rfl
theorem q396 : (Jvm.Cond.methodLink "java/lang/Exception" (7 : Nat) ({ cls := "java/lang/Throwable", name := "<init>", desc := "(Ljava/lang/String;)V" } : Jvm.MethodName)) ∈ lw_all := lw_g (lw_at lw_m2 121 rfl) rfl
/-! java/lang/RuntimeException -/
set_option maxRecDepth 100000
def RJ5 : String := "java/lang/RuntimeException"
abbrev cJ5_init : ByteArray := prog_23_method_1_code
def yJ5_init : MethodName := ⟨RJ5, "<init>", "()V"⟩
theorem dJ5_init_0 : decode cJ5_init 0 = .ok (.aload_n 0, 1) := by decide +kernel
theorem dJ5_init_1 : decode cJ5_init 1 = .ok (.invokespecial 1, 3) := by decide +kernel
theorem dJ5_init_4 : decode cJ5_init 4 = .ok (.return_, 1) := by decide +kernel
abbrev cJ5_init_2 : ByteArray := prog_23_method_2_code
def yJ5_init_2 : MethodName := ⟨RJ5, "<init>", "(Ljava/lang/String;)V"⟩
def dkwJ5_init_2_0 : List UInt8 := [42, 43, 183, 0, 7, 177]
abbrev dktJ5_init_2_0 : List UInt8 := dkwJ5_init_2_0 ++ []
theorem dksJ5_init_2_0 : cJ5_init_2.data.toList.drop 0 = dktJ5_init_2_0 := by decide +kernel
theorem dJ5_init_2_0 : decode cJ5_init_2 0 = .ok (.aload_n 0, 1) := dk_42 (dk_at dksJ5_init_2_0 0 rfl rfl)
theorem dJ5_init_2_1 : decode cJ5_init_2 1 = .ok (.aload_n 1, 1) := dk_43 (dk_at dksJ5_init_2_0 1 rfl rfl)
theorem dJ5_init_2_2 : decode cJ5_init_2 2 = .ok (.invokespecial 7, 3) := dk_183 0 7 (dk_at dksJ5_init_2_0 2 rfl rfl)
theorem dJ5_init_2_5 : decode cJ5_init_2 5 = .ok (.return_, 1) := dk_177 (dk_at dksJ5_init_2_0 5 rfl rfl)
theorem q43 : (Jvm.Cond.initialized "java/lang/RuntimeException") ∈ lw_all := lw_g (lw_at lw_m1 8 rfl) rfl
theorem q168 : (Jvm.Cond.declares ({ cls := "java/lang/RuntimeException", name := "<init>", desc := "()V" } : Jvm.MethodName)) ∈ lw_tbl := lw_at lw_m1 133 rfl
theorem q169 : (Jvm.Cond.declares ({ cls := "java/lang/RuntimeException", name := "<init>", desc := "(Ljava/lang/String;)V" } : Jvm.MethodName)) ∈ lw_tbl := lw_at lw_m1 134 rfl
theorem q211 : (Jvm.Cond.instanceMethod ({ cls := "java/lang/RuntimeException", name := "<init>", desc := "()V" } : Jvm.MethodName)) ∈ lw_all := lw_g (lw_at lw_m1 176 rfl) rfl
theorem q212 : (Jvm.Cond.code ({ cls := "java/lang/RuntimeException", name := "<init>", desc := "()V" } : Jvm.MethodName) prog_23_method_1_code (1 : Nat) (Option.none : Option Jvm.ClassFile.FieldType)) ∈ lw_all := lw_g (lw_at lw_m1 177 rfl) rfl
theorem q213 : (Jvm.Cond.methodLink "java/lang/RuntimeException" (1 : Nat) ({ cls := "java/lang/Exception", name := "<init>", desc := "()V" } : Jvm.MethodName)) ∈ lw_all := lw_g (lw_at lw_m1 178 rfl) rfl
theorem q391 : (Jvm.Cond.instanceMethod ({ cls := "java/lang/RuntimeException", name := "<init>", desc := "(Ljava/lang/String;)V" } : Jvm.MethodName)) ∈ lw_all := lw_g (lw_at lw_m2 116 rfl) rfl
theorem q392 : (Jvm.Cond.code ({ cls := "java/lang/RuntimeException", name := "<init>", desc := "(Ljava/lang/String;)V" } : Jvm.MethodName) prog_23_method_2_code (2 : Nat) (Option.none : Option Jvm.ClassFile.FieldType)) ∈ lw_all := lw_g (lw_at lw_m2 117 rfl) rfl
theorem q393 : (Jvm.Cond.methodLink "java/lang/RuntimeException" (7 : Nat) ({ cls := "java/lang/Exception", name := "<init>", desc := "(Ljava/lang/String;)V" } : Jvm.MethodName)) ∈ lw_all := lw_g (lw_at lw_m2 118 rfl) rfl
/-! java/lang/IllegalArgumentException -/
set_option maxRecDepth 100000
def RJ6 : String := "java/lang/IllegalArgumentException"
def TJ6 : u_T := fun k => match k with
  | 0 => ("java/lang/Throwable", "cause", "Ljava/lang/Throwable;", false)
  | 1 => ("java/lang/Throwable", "stackTrace", "[Ljava/lang/StackTraceElement;", false)
  | 2 => ("java/lang/Throwable", "suppressedExceptions", "Ljava/util/List;", false)
  | 3 => ("java/lang/Throwable", "detailMessage", "Ljava/lang/String;", false)
  | 4 => ("java/lang/Throwable", "backtrace", "Ljava/lang/Object;", false)
  | _ => ("java/lang/Throwable", "depth", "I", false)
def tyJ6 : Nat → FieldType := fun k => match k with
  | 0 => .object "java/lang/Throwable"
  | 1 => .array (.object "java/lang/StackTraceElement")
  | 2 => .object "java/util/List"
  | 3 => .object "java/lang/String"
  | 4 => .object "java/lang/Object"
  | _ => .int
abbrev wsJ60 : List Cond := u_ws RJ6 TJ6 6
theorem nmJ6 : ∀ a, a < 6 → ∀ b, b < 6 → a ≠ b → (TJ6 a).2.1 ≠ (TJ6 b).2.1 := by decide +kernel
theorem tyJ6_ok : ∀ k, k < 6 → parseFieldDescriptor (TJ6 k).2.2.1 = some (tyJ6 k) := by decide +kernel
abbrev cJ6_init : ByteArray := prog_14_method_1_code
def yJ6_init : MethodName := ⟨RJ6, "<init>", "()V"⟩
theorem dJ6_init_0 : decode cJ6_init 0 = .ok (.aload_n 0, 1) := by decide +kernel
theorem dJ6_init_1 : decode cJ6_init 1 = .ok (.invokespecial 1, 3) := by decide +kernel
theorem dJ6_init_4 : decode cJ6_init 4 = .ok (.return_, 1) := by decide +kernel
abbrev cJ6_init_2 : ByteArray := prog_14_method_2_code
def yJ6_init_2 : MethodName := ⟨RJ6, "<init>", "(Ljava/lang/String;)V"⟩
def dkwJ6_init_2_0 : List UInt8 := [42, 43, 183, 0, 7, 177]
abbrev dktJ6_init_2_0 : List UInt8 := dkwJ6_init_2_0 ++ []
theorem dksJ6_init_2_0 : cJ6_init_2.data.toList.drop 0 = dktJ6_init_2_0 := by decide +kernel
theorem dJ6_init_2_0 : decode cJ6_init_2 0 = .ok (.aload_n 0, 1) := dk_42 (dk_at dksJ6_init_2_0 0 rfl rfl)
theorem dJ6_init_2_1 : decode cJ6_init_2 1 = .ok (.aload_n 1, 1) := dk_43 (dk_at dksJ6_init_2_0 1 rfl rfl)
theorem dJ6_init_2_2 : decode cJ6_init_2 2 = .ok (.invokespecial 7, 3) := dk_183 0 7 (dk_at dksJ6_init_2_0 2 rfl rfl)
theorem dJ6_init_2_5 : decode cJ6_init_2 5 = .ok (.return_, 1) := dk_177 (dk_at dksJ6_init_2_0 5 rfl rfl)
theorem q44 : (Jvm.Cond.initialized "java/lang/IllegalArgumentException") ∈ lw_all := lw_g (lw_at lw_m1 9 rfl) rfl
theorem q166 : (Jvm.Cond.instantiable "java/lang/IllegalArgumentException" (6 : Nat)) ∈ lw_all := lw_g (lw_at lw_m1 131 rfl) rfl
theorem q167 : (Jvm.Cond.castable "java/lang/IllegalArgumentException" "java/lang/IllegalArgumentException") ∈ lw_tbl := lw_at lw_m1 132 rfl
theorem q174 : (Jvm.Cond.selects "java/lang/IllegalArgumentException" ({ cls := "java/lang/Throwable", name := "fillInStackTrace", desc := "(I)Ljava/lang/Throwable;" } : Jvm.MethodName) ({ cls := "java/lang/Throwable", name := "fillInStackTrace", desc := "(I)Ljava/lang/Throwable;" } : Jvm.MethodName)) ∈ lw_all := lw_g (lw_at lw_m1 139 rfl) rfl
theorem q175 : (Jvm.Cond.selects "java/lang/IllegalArgumentException" ({ cls := "java/lang/Throwable", name := "fillInStackTrace", desc := "()Ljava/lang/Throwable;" } : Jvm.MethodName) ({ cls := "java/lang/Throwable", name := "fillInStackTrace", desc := "()Ljava/lang/Throwable;" } : Jvm.MethodName)) ∈ lw_all := lw_g (lw_at lw_m1 140 rfl) rfl
theorem q176 : (Jvm.Cond.lays "java/lang/IllegalArgumentException" "java/lang/Throwable" "cause" "Ljava/lang/Throwable;") ∈ lw_all := lw_g (lw_at lw_m1 141 rfl) rfl
theorem q178 : (Jvm.Cond.lays "java/lang/IllegalArgumentException" "java/lang/Throwable" "stackTrace" "[Ljava/lang/StackTraceElement;") ∈ lw_all := lw_g (lw_at lw_m1 143 rfl) rfl
theorem q180 : (Jvm.Cond.lays "java/lang/IllegalArgumentException" "java/lang/Throwable" "suppressedExceptions" "Ljava/util/List;") ∈ lw_all := lw_g (lw_at lw_m1 145 rfl) rfl
theorem q182 : (Jvm.Cond.lays "java/lang/IllegalArgumentException" "java/lang/Throwable" "detailMessage" "Ljava/lang/String;") ∈ lw_all := lw_g (lw_at lw_m1 147 rfl) rfl
theorem q184 : (Jvm.Cond.lays "java/lang/IllegalArgumentException" "java/lang/Throwable" "backtrace" "Ljava/lang/Object;") ∈ lw_all := lw_g (lw_at lw_m1 149 rfl) rfl
theorem q208 : (Jvm.Cond.instanceMethod ({ cls := "java/lang/IllegalArgumentException", name := "<init>", desc := "()V" } : Jvm.MethodName)) ∈ lw_all := lw_g (lw_at lw_m1 173 rfl) rfl
theorem q209 : (Jvm.Cond.code ({ cls := "java/lang/IllegalArgumentException", name := "<init>", desc := "()V" } : Jvm.MethodName) prog_14_method_1_code (1 : Nat) (Option.none : Option Jvm.ClassFile.FieldType)) ∈ lw_all := lw_g (lw_at lw_m1 174 rfl) rfl
theorem q210 : (Jvm.Cond.methodLink "java/lang/IllegalArgumentException" (1 : Nat) ({ cls := "java/lang/RuntimeException", name := "<init>", desc := "()V" } : Jvm.MethodName)) ∈ lw_all := lw_g (lw_at lw_m1 175 rfl) rfl
theorem q226 : (Jvm.Cond.lays "java/lang/IllegalArgumentException" "java/lang/Throwable" "depth" "I") ∈ lw_all := lw_g (lw_at lw_m1 191 rfl) rfl
theorem q229 : (Jvm.Cond.superclass "java/lang/IllegalArgumentException" "java/lang/RuntimeException") ∈ lw_all := lw_g (lw_at lw_m1 194 rfl) rfl
theorem q348 : (Jvm.Cond.selects "java/lang/IllegalArgumentException" ({ cls := "java/lang/Object", name := "getClass", desc := "()Ljava/lang/Class;" } : Jvm.MethodName) ({ cls := "java/lang/Object", name := "getClass", desc := "()Ljava/lang/Class;" } : Jvm.MethodName)) ∈ lw_all := lw_g (lw_at lw_m2 73 rfl) rfl
theorem q776 : (Jvm.Cond.instanceMethod ({ cls := "java/lang/IllegalArgumentException", name := "<init>", desc := "(Ljava/lang/String;)V" } : Jvm.MethodName)) ∈ lw_all := lw_g (lw_at lw_m4 21 rfl) rfl
theorem q777 : (Jvm.Cond.code ({ cls := "java/lang/IllegalArgumentException", name := "<init>", desc := "(Ljava/lang/String;)V" } : Jvm.MethodName) prog_14_method_2_code (2 : Nat) (Option.none : Option Jvm.ClassFile.FieldType)) ∈ lw_all := lw_g (lw_at lw_m4 22 rfl) rfl
theorem q778 : (Jvm.Cond.methodLink "java/lang/IllegalArgumentException" (7 : Nat) ({ cls := "java/lang/RuntimeException", name := "<init>", desc := "(Ljava/lang/String;)V" } : Jvm.MethodName)) ∈ lw_all := lw_g (lw_at lw_m4 23 rfl) rfl
theorem q1512 : (Jvm.Cond.castable "java/lang/IllegalArgumentException" "java/lang/Object") ∈ lw_tbl := lw_at lw_m7 37 rfl
theorem in_J6 : ∀ w ∈ wsJ60, w ∈ lw_all := lw_in wsJ60 [176, 178, 180, 182, 184, 226] (by decide +kernel) (by decide +kernel)
/-! java/lang/IllegalStateException -/
set_option maxRecDepth 100000
def RJ7 : String := "java/lang/IllegalStateException"
def TJ7 : u_T := fun k => match k with
  | 0 => ("java/lang/Throwable", "cause", "Ljava/lang/Throwable;", false)
  | 1 => ("java/lang/Throwable", "stackTrace", "[Ljava/lang/StackTraceElement;", false)
  | 2 => ("java/lang/Throwable", "suppressedExceptions", "Ljava/util/List;", false)
  | 3 => ("java/lang/Throwable", "detailMessage", "Ljava/lang/String;", false)
  | 4 => ("java/lang/Throwable", "backtrace", "Ljava/lang/Object;", false)
  | _ => ("java/lang/Throwable", "depth", "I", false)
def tyJ7 : Nat → FieldType := fun k => match k with
  | 0 => .object "java/lang/Throwable"
  | 1 => .array (.object "java/lang/StackTraceElement")
  | 2 => .object "java/util/List"
  | 3 => .object "java/lang/String"
  | 4 => .object "java/lang/Object"
  | _ => .int
abbrev wsJ70 : List Cond := u_ws RJ7 TJ7 6
theorem nmJ7 : ∀ a, a < 6 → ∀ b, b < 6 → a ≠ b → (TJ7 a).2.1 ≠ (TJ7 b).2.1 := by decide +kernel
theorem tyJ7_ok : ∀ k, k < 6 → parseFieldDescriptor (TJ7 k).2.2.1 = some (tyJ7 k) := by decide +kernel
abbrev cJ7_init : ByteArray := prog_15_method_1_code
def yJ7_init : MethodName := ⟨RJ7, "<init>", "()V"⟩
theorem dJ7_init_0 : decode cJ7_init 0 = .ok (.aload_n 0, 1) := by decide +kernel
theorem dJ7_init_1 : decode cJ7_init 1 = .ok (.invokespecial 1, 3) := by decide +kernel
theorem dJ7_init_4 : decode cJ7_init 4 = .ok (.return_, 1) := by decide +kernel
theorem q45 : (Jvm.Cond.initialized "java/lang/IllegalStateException") ∈ lw_all := lw_g (lw_at lw_m1 10 rfl) rfl
theorem q199 : (Jvm.Cond.selects "java/lang/IllegalStateException" ({ cls := "java/lang/Throwable", name := "fillInStackTrace", desc := "()Ljava/lang/Throwable;" } : Jvm.MethodName) ({ cls := "java/lang/Throwable", name := "fillInStackTrace", desc := "()Ljava/lang/Throwable;" } : Jvm.MethodName)) ∈ lw_all := lw_g (lw_at lw_m1 164 rfl) rfl
theorem q234 : (Jvm.Cond.instantiable "java/lang/IllegalStateException" (6 : Nat)) ∈ lw_all := lw_g (lw_at lw_m1 199 rfl) rfl
theorem q235 : (Jvm.Cond.castable "java/lang/IllegalStateException" "java/lang/IllegalStateException") ∈ lw_tbl := lw_at lw_m1 200 rfl
theorem q236 : (Jvm.Cond.selects "java/lang/IllegalStateException" ({ cls := "java/lang/Throwable", name := "fillInStackTrace", desc := "(I)Ljava/lang/Throwable;" } : Jvm.MethodName) ({ cls := "java/lang/Throwable", name := "fillInStackTrace", desc := "(I)Ljava/lang/Throwable;" } : Jvm.MethodName)) ∈ lw_all := lw_g (lw_at lw_m1 201 rfl) rfl
theorem q237 : (Jvm.Cond.lays "java/lang/IllegalStateException" "java/lang/Throwable" "cause" "Ljava/lang/Throwable;") ∈ lw_all := lw_g (lw_at lw_m1 202 rfl) rfl
theorem q238 : (Jvm.Cond.lays "java/lang/IllegalStateException" "java/lang/Throwable" "stackTrace" "[Ljava/lang/StackTraceElement;") ∈ lw_all := lw_g (lw_at lw_m1 203 rfl) rfl
theorem q239 : (Jvm.Cond.lays "java/lang/IllegalStateException" "java/lang/Throwable" "suppressedExceptions" "Ljava/util/List;") ∈ lw_all := lw_g (lw_at lw_m1 204 rfl) rfl
theorem q240 : (Jvm.Cond.lays "java/lang/IllegalStateException" "java/lang/Throwable" "detailMessage" "Ljava/lang/String;") ∈ lw_all := lw_g (lw_at lw_m1 205 rfl) rfl
theorem q241 : (Jvm.Cond.lays "java/lang/IllegalStateException" "java/lang/Throwable" "backtrace" "Ljava/lang/Object;") ∈ lw_all := lw_g (lw_at lw_m1 206 rfl) rfl
theorem q243 : (Jvm.Cond.instanceMethod ({ cls := "java/lang/IllegalStateException", name := "<init>", desc := "()V" } : Jvm.MethodName)) ∈ lw_all := lw_g (lw_at lw_m1 208 rfl) rfl
theorem q244 : (Jvm.Cond.code ({ cls := "java/lang/IllegalStateException", name := "<init>", desc := "()V" } : Jvm.MethodName) prog_15_method_1_code (1 : Nat) (Option.none : Option Jvm.ClassFile.FieldType)) ∈ lw_all := lw_g (lw_at lw_m1 209 rfl) rfl
theorem q245 : (Jvm.Cond.methodLink "java/lang/IllegalStateException" (1 : Nat) ({ cls := "java/lang/RuntimeException", name := "<init>", desc := "()V" } : Jvm.MethodName)) ∈ lw_all := lw_g (lw_at lw_m1 210 rfl) rfl
theorem q246 : (Jvm.Cond.lays "java/lang/IllegalStateException" "java/lang/Throwable" "depth" "I") ∈ lw_all := lw_g (lw_at lw_m1 211 rfl) rfl
theorem q247 : (Jvm.Cond.superclass "java/lang/IllegalStateException" "java/lang/RuntimeException") ∈ lw_all := lw_g (lw_at lw_m1 212 rfl) rfl
theorem q349 : (Jvm.Cond.selects "java/lang/IllegalStateException" ({ cls := "java/lang/Object", name := "getClass", desc := "()Ljava/lang/Class;" } : Jvm.MethodName) ({ cls := "java/lang/Object", name := "getClass", desc := "()Ljava/lang/Class;" } : Jvm.MethodName)) ∈ lw_all := lw_g (lw_at lw_m2 74 rfl) rfl
theorem q1513 : (Jvm.Cond.castable "java/lang/IllegalStateException" "java/lang/Object") ∈ lw_tbl := lw_at lw_m7 38 rfl
theorem in_J7 : ∀ w ∈ wsJ70, w ∈ lw_all := lw_in wsJ70 [237, 238, 239, 240, 241, 246] (by decide +kernel) (by decide +kernel)
/-! java/util/AbstractMap -/
set_option maxRecDepth 100000
def RJ8 : String := "java/util/AbstractMap"
abbrev cJ8_init : ByteArray := prog_31_method_1_code
def yJ8_init : MethodName := ⟨RJ8, "<init>", "()V"⟩
theorem dJ8_init_0 : decode cJ8_init 0 = .ok (.aload_n 0, 1) := by decide +kernel
theorem dJ8_init_1 : decode cJ8_init 1 = .ok (.invokespecial 1, 3) := by decide +kernel
theorem dJ8_init_4 : decode cJ8_init 4 = .ok (.return_, 1) := by decide +kernel
abbrev cJ8_values : ByteArray := prog_31_method_12_code
def yJ8_values : MethodName := ⟨RJ8, "values", "()Ljava/util/Collection;"⟩
def dkwJ8_values_1 : List UInt8 := [176]
abbrev dktJ8_values_1 : List UInt8 := dkwJ8_values_1 ++ []
def dkwJ8_values_0 : List UInt8 := [42, 180, 0, 71, 76, 43, 199, 0, 17, 187, 0, 75, 89, 42, 183, 0, 77, 76, 42, 43, 181, 0, 71, 43]
abbrev dktJ8_values_0 : List UInt8 := dkwJ8_values_0 ++ dktJ8_values_1
theorem dksJ8_values_0 : cJ8_values.data.toList.drop 0 = dktJ8_values_0 := by decide +kernel
theorem dksJ8_values_1 : cJ8_values.data.toList.drop 24 = dktJ8_values_1 := dk_seg dksJ8_values_0 24 rfl rfl
theorem dJ8_values_0 : decode cJ8_values 0 = .ok (.aload_n 0, 1) := dk_42 (dk_at dksJ8_values_0 0 rfl rfl)
theorem dJ8_values_1 : decode cJ8_values 1 = .ok (.getfield 71, 3) := dk_180 0 71 (dk_at dksJ8_values_0 1 rfl rfl)
theorem dJ8_values_4 : decode cJ8_values 4 = .ok (.astore_n 1, 1) := dk_76 (dk_at dksJ8_values_0 4 rfl rfl)
theorem dJ8_values_5 : decode cJ8_values 5 = .ok (.aload_n 1, 1) := dk_43 (dk_at dksJ8_values_0 5 rfl rfl)
theorem dJ8_values_6 : decode cJ8_values 6 = .ok (.ifnonnull 17, 3) := dk_199 0 17 (dk_at dksJ8_values_0 6 rfl rfl)
theorem dJ8_values_9 : decode cJ8_values 9 = .ok (.new 75, 3) := dk_187 0 75 (dk_at dksJ8_values_0 9 rfl rfl)
theorem dJ8_values_12 : decode cJ8_values 12 = .ok (.dup, 1) := dk_89 (dk_at dksJ8_values_0 12 rfl rfl)
theorem dJ8_values_13 : decode cJ8_values 13 = .ok (.aload_n 0, 1) := dk_42 (dk_at dksJ8_values_0 13 rfl rfl)
theorem dJ8_values_14 : decode cJ8_values 14 = .ok (.invokespecial 77, 3) := dk_183 0 77 (dk_at dksJ8_values_0 14 rfl rfl)
theorem dJ8_values_17 : decode cJ8_values 17 = .ok (.astore_n 1, 1) := dk_76 (dk_at dksJ8_values_0 17 rfl rfl)
theorem dJ8_values_18 : decode cJ8_values 18 = .ok (.aload_n 0, 1) := dk_42 (dk_at dksJ8_values_0 18 rfl rfl)
theorem dJ8_values_19 : decode cJ8_values 19 = .ok (.aload_n 1, 1) := dk_43 (dk_at dksJ8_values_0 19 rfl rfl)
theorem dJ8_values_20 : decode cJ8_values 20 = .ok (.putfield 71, 3) := dk_181 0 71 (dk_at dksJ8_values_0 20 rfl rfl)
theorem dJ8_values_23 : decode cJ8_values 23 = .ok (.aload_n 1, 1) := dk_43 (dk_at dksJ8_values_0 23 rfl rfl)
theorem dJ8_values_24 : decode cJ8_values 24 = .ok (.areturn, 1) := dk_176 (dk_at dksJ8_values_1 0 rfl rfl)
theorem q47 : (Jvm.Cond.initialized "java/util/AbstractMap") ∈ lw_all := lw_g (lw_at lw_m1 12 rfl) rfl
theorem q260 : (Jvm.Cond.instanceMethod ({ cls := "java/util/AbstractMap", name := "<init>", desc := "()V" } : Jvm.MethodName)) ∈ lw_all := lw_g (lw_at lw_m1 225 rfl) rfl
theorem q261 : (Jvm.Cond.code ({ cls := "java/util/AbstractMap", name := "<init>", desc := "()V" } : Jvm.MethodName) prog_31_method_1_code (1 : Nat) (Option.none : Option Jvm.ClassFile.FieldType)) ∈ lw_all := lw_g (lw_at lw_m1 226 rfl) rfl
theorem q262 : (Jvm.Cond.methodLink "java/util/AbstractMap" (1 : Nat) ({ cls := "java/lang/Object", name := "<init>", desc := "()V" } : Jvm.MethodName)) ∈ lw_all := lw_g (lw_at lw_m1 227 rfl) rfl
theorem q270 : (Jvm.Cond.fieldLink "java/util/AbstractMap" (71 : Nat) "java/util/AbstractMap" "values" "Ljava/util/Collection;") ∈ lw_all := lw_g (lw_at lw_m1 235 rfl) rfl
theorem q288 : (Jvm.Cond.soleField "java/util/AbstractMap" "keySet") ∈ lw_all := lw_g (lw_at lw_m2 13 rfl) rfl
theorem q290 : (Jvm.Cond.soleField "java/util/AbstractMap" "values") ∈ lw_all := lw_g (lw_at lw_m2 15 rfl) rfl
theorem q835 : (Jvm.Cond.instanceMethod ({ cls := "java/util/AbstractMap", name := "values", desc := "()Ljava/util/Collection;" } : Jvm.MethodName)) ∈ lw_all := lw_g (lw_at lw_m4 80 rfl) rfl
theorem q836 : (Jvm.Cond.publicMethod ({ cls := "java/util/AbstractMap", name := "values", desc := "()Ljava/util/Collection;" } : Jvm.MethodName)) ∈ lw_tbl := lw_at lw_m4 81 rfl
theorem q837 : (Jvm.Cond.code ({ cls := "java/util/AbstractMap", name := "values", desc := "()Ljava/util/Collection;" } : Jvm.MethodName) prog_31_method_12_code (2 : Nat) (Option.some (Jvm.ClassFile.FieldType.object "java/util/Collection"))) ∈ lw_all := lw_g (lw_at lw_m4 82 rfl) rfl
theorem q838 : (Jvm.Cond.classLink "java/util/AbstractMap" (75 : Nat) "java/util/AbstractMap$2") ∈ lw_all := lw_g (lw_at lw_m4 83 rfl) rfl
theorem q840 : (Jvm.Cond.methodLink "java/util/AbstractMap" (77 : Nat) ({ cls := "java/util/AbstractMap$2", name := "<init>", desc := "(Ljava/util/AbstractMap;)V" } : Jvm.MethodName)) ∈ lw_all := lw_g (lw_at lw_m4 85 rfl) rfl
theorem q866 : (Jvm.Cond.declares ({ cls := "java/util/AbstractMap", name := "entrySet", desc := "()Ljava/util/Set;" } : Jvm.MethodName)) ∈ lw_tbl := lw_at lw_m4 111 rfl
theorem q867 : (Jvm.Cond.sameMethod "java/util/AbstractMap" "java/util/AbstractMap" "entrySet" "()Ljava/util/Set;") ∈ lw_all := lw_g (lw_at lw_m4 112 rfl) rfl
/-! jdk/internal/util/ArraysSupport -/
set_option maxRecDepth 100000
def RJ10 : String := "jdk/internal/util/ArraysSupport"
abbrev cJ10_newLength : ByteArray := prog_64_method_27_code
def yJ10_newLength : MethodName := ⟨RJ10, "newLength", "(III)I"⟩
def dkwJ10_newLength_1 : List UInt8 := [184, 0, 201, 172]
abbrev dktJ10_newLength_1 : List UInt8 := dkwJ10_newLength_1 ++ []
def dkwJ10_newLength_0 : List UInt8 := [26, 27, 28, 184, 0, 194, 96, 62, 3, 29, 162, 0, 11, 29, 18, 200, 163, 0, 5, 29, 172, 26, 27]
abbrev dktJ10_newLength_0 : List UInt8 := dkwJ10_newLength_0 ++ dktJ10_newLength_1
theorem dksJ10_newLength_0 : cJ10_newLength.data.toList.drop 0 = dktJ10_newLength_0 := by decide +kernel
theorem dksJ10_newLength_1 : cJ10_newLength.data.toList.drop 23 = dktJ10_newLength_1 := dk_seg dksJ10_newLength_0 23 rfl rfl
theorem dJ10_newLength_0 : decode cJ10_newLength 0 = .ok (.iload_n 0, 1) := dk_26 (dk_at dksJ10_newLength_0 0 rfl rfl)
theorem dJ10_newLength_1 : decode cJ10_newLength 1 = .ok (.iload_n 1, 1) := dk_27 (dk_at dksJ10_newLength_0 1 rfl rfl)
theorem dJ10_newLength_2 : decode cJ10_newLength 2 = .ok (.iload_n 2, 1) := dk_28 (dk_at dksJ10_newLength_0 2 rfl rfl)
theorem dJ10_newLength_3 : decode cJ10_newLength 3 = .ok (.invokestatic 194, 3) := dk_184 0 194 (dk_at dksJ10_newLength_0 3 rfl rfl)
theorem dJ10_newLength_6 : decode cJ10_newLength 6 = .ok (.iadd, 1) := dk_96 (dk_at dksJ10_newLength_0 6 rfl rfl)
theorem dJ10_newLength_7 : decode cJ10_newLength 7 = .ok (.istore_n 3, 1) := dk_62 (dk_at dksJ10_newLength_0 7 rfl rfl)
theorem dJ10_newLength_8 : decode cJ10_newLength 8 = .ok (.iconst 0, 1) := dk_3 (dk_at dksJ10_newLength_0 8 rfl rfl)
theorem dJ10_newLength_9 : decode cJ10_newLength 9 = .ok (.iload_n 3, 1) := dk_29 (dk_at dksJ10_newLength_0 9 rfl rfl)
theorem dJ10_newLength_10 : decode cJ10_newLength 10 = .ok (.if_icmp .ge 11, 3) := dk_162 0 11 (dk_at dksJ10_newLength_0 10 rfl rfl)
theorem dJ10_newLength_13 : decode cJ10_newLength 13 = .ok (.iload_n 3, 1) := dk_29 (dk_at dksJ10_newLength_0 13 rfl rfl)
theorem dJ10_newLength_14 : decode cJ10_newLength 14 = .ok (.ldc 200, 2) := dk_18 200 (dk_at dksJ10_newLength_0 14 rfl rfl)
theorem dJ10_newLength_16 : decode cJ10_newLength 16 = .ok (.if_icmp .gt 5, 3) := dk_163 0 5 (dk_at dksJ10_newLength_0 16 rfl rfl)
theorem dJ10_newLength_19 : decode cJ10_newLength 19 = .ok (.iload_n 3, 1) := dk_29 (dk_at dksJ10_newLength_0 19 rfl rfl)
theorem dJ10_newLength_20 : decode cJ10_newLength 20 = .ok (.ireturn, 1) := dk_172 (dk_at dksJ10_newLength_0 20 rfl rfl)
theorem dJ10_newLength_21 : decode cJ10_newLength 21 = .ok (.iload_n 0, 1) := dk_26 (dk_at dksJ10_newLength_0 21 rfl rfl)
theorem dJ10_newLength_22 : decode cJ10_newLength 22 = .ok (.iload_n 1, 1) := dk_27 (dk_at dksJ10_newLength_0 22 rfl rfl)
theorem dJ10_newLength_23 : decode cJ10_newLength 23 = .ok (.invokestatic 201, 3) := dk_184 0 201 (dk_at dksJ10_newLength_1 0 rfl rfl)
theorem dJ10_newLength_26 : decode cJ10_newLength 26 = .ok (.ireturn, 1) := dk_172 (dk_at dksJ10_newLength_1 3 rfl rfl)
abbrev cJ10_hugeLength : ByteArray := prog_64_method_28_code
def yJ10_hugeLength : MethodName := ⟨RJ10, "hugeLength", "(II)I"⟩
def dkwJ10_hugeLength_2 : List UInt8 := [191, 28, 18, 200, 163, 0, 6, 18, 200, 172, 28, 172]
abbrev dktJ10_hugeLength_2 : List UInt8 := dkwJ10_hugeLength_2 ++ []
def dkwJ10_hugeLength_1 : List UInt8 := [26, 182, 0, 98, 18, 208, 182, 0, 94, 27, 182, 0, 98, 18, 210, 182, 0, 94, 182, 0, 101, 183, 0, 212]
abbrev dktJ10_hugeLength_1 : List UInt8 := dkwJ10_hugeLength_1 ++ dktJ10_hugeLength_2
def dkwJ10_hugeLength_0 : List UInt8 := [26, 27, 96, 61, 28, 156, 0, 44, 187, 0, 204, 89, 187, 0, 89, 89, 183, 0, 91, 18, 206, 182, 0, 94]
abbrev dktJ10_hugeLength_0 : List UInt8 := dkwJ10_hugeLength_0 ++ dktJ10_hugeLength_1
theorem dksJ10_hugeLength_0 : cJ10_hugeLength.data.toList.drop 0 = dktJ10_hugeLength_0 := by decide +kernel
theorem dksJ10_hugeLength_1 : cJ10_hugeLength.data.toList.drop 24 = dktJ10_hugeLength_1 := dk_seg dksJ10_hugeLength_0 24 rfl rfl
theorem dksJ10_hugeLength_2 : cJ10_hugeLength.data.toList.drop 48 = dktJ10_hugeLength_2 := dk_seg dksJ10_hugeLength_1 24 rfl rfl
theorem dJ10_hugeLength_0 : decode cJ10_hugeLength 0 = .ok (.iload_n 0, 1) := dk_26 (dk_at dksJ10_hugeLength_0 0 rfl rfl)
theorem dJ10_hugeLength_1 : decode cJ10_hugeLength 1 = .ok (.iload_n 1, 1) := dk_27 (dk_at dksJ10_hugeLength_0 1 rfl rfl)
theorem dJ10_hugeLength_2 : decode cJ10_hugeLength 2 = .ok (.iadd, 1) := dk_96 (dk_at dksJ10_hugeLength_0 2 rfl rfl)
theorem dJ10_hugeLength_3 : decode cJ10_hugeLength 3 = .ok (.istore_n 2, 1) := dk_61 (dk_at dksJ10_hugeLength_0 3 rfl rfl)
theorem dJ10_hugeLength_4 : decode cJ10_hugeLength 4 = .ok (.iload_n 2, 1) := dk_28 (dk_at dksJ10_hugeLength_0 4 rfl rfl)
theorem dJ10_hugeLength_5 : decode cJ10_hugeLength 5 = .ok (.ifCond .ge 44, 3) := dk_156 0 44 (dk_at dksJ10_hugeLength_0 5 rfl rfl)
theorem dJ10_hugeLength_8 : decode cJ10_hugeLength 8 = .ok (.new 204, 3) := dk_187 0 204 (dk_at dksJ10_hugeLength_0 8 rfl rfl)
theorem dJ10_hugeLength_11 : decode cJ10_hugeLength 11 = .ok (.dup, 1) := dk_89 (dk_at dksJ10_hugeLength_0 11 rfl rfl)
theorem dJ10_hugeLength_12 : decode cJ10_hugeLength 12 = .ok (.new 89, 3) := dk_187 0 89 (dk_at dksJ10_hugeLength_0 12 rfl rfl)
theorem dJ10_hugeLength_15 : decode cJ10_hugeLength 15 = .ok (.dup, 1) := dk_89 (dk_at dksJ10_hugeLength_0 15 rfl rfl)
theorem dJ10_hugeLength_16 : decode cJ10_hugeLength 16 = .ok (.invokespecial 91, 3) := dk_183 0 91 (dk_at dksJ10_hugeLength_0 16 rfl rfl)
theorem dJ10_hugeLength_19 : decode cJ10_hugeLength 19 = .ok (.ldc 206, 2) := dk_18 206 (dk_at dksJ10_hugeLength_0 19 rfl rfl)
theorem dJ10_hugeLength_21 : decode cJ10_hugeLength 21 = .ok (.invokevirtual 94, 3) := dk_182 0 94 (dk_at dksJ10_hugeLength_0 21 rfl rfl)
theorem dJ10_hugeLength_24 : decode cJ10_hugeLength 24 = .ok (.iload_n 0, 1) := dk_26 (dk_at dksJ10_hugeLength_1 0 rfl rfl)
theorem dJ10_hugeLength_25 : decode cJ10_hugeLength 25 = .ok (.invokevirtual 98, 3) := dk_182 0 98 (dk_at dksJ10_hugeLength_1 1 rfl rfl)
theorem dJ10_hugeLength_28 : decode cJ10_hugeLength 28 = .ok (.ldc 208, 2) := dk_18 208 (dk_at dksJ10_hugeLength_1 4 rfl rfl)
theorem dJ10_hugeLength_30 : decode cJ10_hugeLength 30 = .ok (.invokevirtual 94, 3) := dk_182 0 94 (dk_at dksJ10_hugeLength_1 6 rfl rfl)
theorem dJ10_hugeLength_33 : decode cJ10_hugeLength 33 = .ok (.iload_n 1, 1) := dk_27 (dk_at dksJ10_hugeLength_1 9 rfl rfl)
theorem dJ10_hugeLength_34 : decode cJ10_hugeLength 34 = .ok (.invokevirtual 98, 3) := dk_182 0 98 (dk_at dksJ10_hugeLength_1 10 rfl rfl)
theorem dJ10_hugeLength_37 : decode cJ10_hugeLength 37 = .ok (.ldc 210, 2) := dk_18 210 (dk_at dksJ10_hugeLength_1 13 rfl rfl)
theorem dJ10_hugeLength_39 : decode cJ10_hugeLength 39 = .ok (.invokevirtual 94, 3) := dk_182 0 94 (dk_at dksJ10_hugeLength_1 15 rfl rfl)
theorem dJ10_hugeLength_42 : decode cJ10_hugeLength 42 = .ok (.invokevirtual 101, 3) := dk_182 0 101 (dk_at dksJ10_hugeLength_1 18 rfl rfl)
theorem dJ10_hugeLength_45 : decode cJ10_hugeLength 45 = .ok (.invokespecial 212, 3) := dk_183 0 212 (dk_at dksJ10_hugeLength_1 21 rfl rfl)
theorem dJ10_hugeLength_48 : decode cJ10_hugeLength 48 = .ok (.athrow, 1) := dk_191 (dk_at dksJ10_hugeLength_2 0 rfl rfl)
theorem dJ10_hugeLength_49 : decode cJ10_hugeLength 49 = .ok (.iload_n 2, 1) := dk_28 (dk_at dksJ10_hugeLength_2 1 rfl rfl)
theorem dJ10_hugeLength_50 : decode cJ10_hugeLength 50 = .ok (.ldc 200, 2) := dk_18 200 (dk_at dksJ10_hugeLength_2 2 rfl rfl)
theorem dJ10_hugeLength_52 : decode cJ10_hugeLength 52 = .ok (.if_icmp .gt 6, 3) := dk_163 0 6 (dk_at dksJ10_hugeLength_2 4 rfl rfl)
theorem dJ10_hugeLength_55 : decode cJ10_hugeLength 55 = .ok (.ldc 200, 2) := dk_18 200 (dk_at dksJ10_hugeLength_2 7 rfl rfl)
theorem dJ10_hugeLength_57 : decode cJ10_hugeLength 57 = .ok (.ireturn, 1) := dk_172 (dk_at dksJ10_hugeLength_2 9 rfl rfl)
theorem dJ10_hugeLength_58 : decode cJ10_hugeLength 58 = .ok (.iload_n 2, 1) := dk_28 (dk_at dksJ10_hugeLength_2 10 rfl rfl)
theorem dJ10_hugeLength_59 : decode cJ10_hugeLength 59 = .ok (.ireturn, 1) := dk_172 (dk_at dksJ10_hugeLength_2 11 rfl rfl)
theorem q49 : (Jvm.Cond.initialized "jdk/internal/util/ArraysSupport") ∈ lw_all := lw_g (lw_at lw_m1 14 rfl) rfl
theorem q326 : (Jvm.Cond.static ({ cls := "jdk/internal/util/ArraysSupport", name := "newLength", desc := "(III)I" } : Jvm.MethodName)) ∈ lw_all := lw_g (lw_at lw_m2 51 rfl) rfl
theorem q327 : (Jvm.Cond.code ({ cls := "jdk/internal/util/ArraysSupport", name := "newLength", desc := "(III)I" } : Jvm.MethodName) prog_64_method_27_code (4 : Nat) (Option.some Jvm.ClassFile.FieldType.int)) ∈ lw_all := lw_g (lw_at lw_m2 52 rfl) rfl
theorem q328 : (Jvm.Cond.methodLink "jdk/internal/util/ArraysSupport" (194 : Nat) ({ cls := "java/lang/Math", name := "max", desc := "(II)I" } : Jvm.MethodName)) ∈ lw_all := lw_g (lw_at lw_m2 53 rfl) rfl
theorem q331 : (Jvm.Cond.constant "jdk/internal/util/ArraysSupport" (200 : Nat) (2147483639 : Int32)) ∈ lw_all := lw_g (lw_at lw_m2 56 rfl) rfl
theorem q332 : (Jvm.Cond.methodLink "jdk/internal/util/ArraysSupport" (201 : Nat) ({ cls := "jdk/internal/util/ArraysSupport", name := "hugeLength", desc := "(II)I" } : Jvm.MethodName)) ∈ lw_all := lw_g (lw_at lw_m2 57 rfl) rfl
theorem q333 : (Jvm.Cond.static ({ cls := "jdk/internal/util/ArraysSupport", name := "hugeLength", desc := "(II)I" } : Jvm.MethodName)) ∈ lw_all := lw_g (lw_at lw_m2 58 rfl) rfl
theorem q334 : (Jvm.Cond.code ({ cls := "jdk/internal/util/ArraysSupport", name := "hugeLength", desc := "(II)I" } : Jvm.MethodName) prog_64_method_28_code (3 : Nat) (Option.some Jvm.ClassFile.FieldType.int)) ∈ lw_all := lw_g (lw_at lw_m2 59 rfl) rfl
/-! java/lang/Math -/
set_option maxRecDepth 100000
def RJ11 : String := "java/lang/Math"
abbrev cJ11_max : ByteArray := prog_20_method_65_code
def yJ11_max : MethodName := ⟨RJ11, "max", "(II)I"⟩
def dkwJ11_max_0 : List UInt8 := [26, 27, 161, 0, 7, 26, 167, 0, 4, 27, 172]
abbrev dktJ11_max_0 : List UInt8 := dkwJ11_max_0 ++ []
theorem dksJ11_max_0 : cJ11_max.data.toList.drop 0 = dktJ11_max_0 := by decide +kernel
theorem dJ11_max_0 : decode cJ11_max 0 = .ok (.iload_n 0, 1) := dk_26 (dk_at dksJ11_max_0 0 rfl rfl)
theorem dJ11_max_1 : decode cJ11_max 1 = .ok (.iload_n 1, 1) := dk_27 (dk_at dksJ11_max_0 1 rfl rfl)
theorem dJ11_max_2 : decode cJ11_max 2 = .ok (.if_icmp .lt 7, 3) := dk_161 0 7 (dk_at dksJ11_max_0 2 rfl rfl)
theorem dJ11_max_5 : decode cJ11_max 5 = .ok (.iload_n 0, 1) := dk_26 (dk_at dksJ11_max_0 5 rfl rfl)
theorem dJ11_max_6 : decode cJ11_max 6 = .ok (.goto 4, 3) := dk_167 0 4 (dk_at dksJ11_max_0 6 rfl rfl)
theorem dJ11_max_9 : decode cJ11_max 9 = .ok (.iload_n 1, 1) := dk_27 (dk_at dksJ11_max_0 9 rfl rfl)
theorem dJ11_max_10 : decode cJ11_max 10 = .ok (.ireturn, 1) := dk_172 (dk_at dksJ11_max_0 10 rfl rfl)
abbrev cJ11_min : ByteArray := prog_20_method_69_code
def yJ11_min : MethodName := ⟨RJ11, "min", "(II)I"⟩
def dkwJ11_min_0 : List UInt8 := [26, 27, 163, 0, 7, 26, 167, 0, 4, 27, 172]
abbrev dktJ11_min_0 : List UInt8 := dkwJ11_min_0 ++ []
theorem dksJ11_min_0 : cJ11_min.data.toList.drop 0 = dktJ11_min_0 := by decide +kernel
theorem dJ11_min_0 : decode cJ11_min 0 = .ok (.iload_n 0, 1) := dk_26 (dk_at dksJ11_min_0 0 rfl rfl)
theorem dJ11_min_1 : decode cJ11_min 1 = .ok (.iload_n 1, 1) := dk_27 (dk_at dksJ11_min_0 1 rfl rfl)
theorem dJ11_min_2 : decode cJ11_min 2 = .ok (.if_icmp .gt 7, 3) := dk_163 0 7 (dk_at dksJ11_min_0 2 rfl rfl)
theorem dJ11_min_5 : decode cJ11_min 5 = .ok (.iload_n 0, 1) := dk_26 (dk_at dksJ11_min_0 5 rfl rfl)
theorem dJ11_min_6 : decode cJ11_min 6 = .ok (.goto 4, 3) := dk_167 0 4 (dk_at dksJ11_min_0 6 rfl rfl)
theorem dJ11_min_9 : decode cJ11_min 9 = .ok (.iload_n 1, 1) := dk_27 (dk_at dksJ11_min_0 9 rfl rfl)
theorem dJ11_min_10 : decode cJ11_min 10 = .ok (.ireturn, 1) := dk_172 (dk_at dksJ11_min_0 10 rfl rfl)
theorem q50 : (Jvm.Cond.initialized "java/lang/Math") ∈ lw_all := lw_g (lw_at lw_m1 15 rfl) rfl
theorem q329 : (Jvm.Cond.static ({ cls := "java/lang/Math", name := "max", desc := "(II)I" } : Jvm.MethodName)) ∈ lw_all := lw_g (lw_at lw_m2 54 rfl) rfl
theorem q330 : (Jvm.Cond.code ({ cls := "java/lang/Math", name := "max", desc := "(II)I" } : Jvm.MethodName) prog_20_method_65_code (2 : Nat) (Option.some Jvm.ClassFile.FieldType.int)) ∈ lw_all := lw_g (lw_at lw_m2 55 rfl) rfl
theorem q373 : (Jvm.Cond.static ({ cls := "java/lang/Math", name := "min", desc := "(II)I" } : Jvm.MethodName)) ∈ lw_all := lw_g (lw_at lw_m2 98 rfl) rfl
theorem q374 : (Jvm.Cond.code ({ cls := "java/lang/Math", name := "min", desc := "(II)I" } : Jvm.MethodName) prog_20_method_69_code (2 : Nat) (Option.some Jvm.ClassFile.FieldType.int)) ∈ lw_all := lw_g (lw_at lw_m2 99 rfl) rfl
/-! java/util/Arrays -/
set_option maxRecDepth 100000
def RJ12 : String := "java/util/Arrays"
abbrev cJ12_copyOf : ByteArray := prog_37_method_119_code
def yJ12_copyOf : MethodName := ⟨RJ12, "copyOf", "([Ljava/lang/Object;I)[Ljava/lang/Object;"⟩
def dkwJ12_copyOf_0 : List UInt8 := [42, 27, 42, 182, 0, 86, 184, 1, 44, 176]
abbrev dktJ12_copyOf_0 : List UInt8 := dkwJ12_copyOf_0 ++ []
theorem dksJ12_copyOf_0 : cJ12_copyOf.data.toList.drop 0 = dktJ12_copyOf_0 := by decide +kernel
theorem dJ12_copyOf_0 : decode cJ12_copyOf 0 = .ok (.aload_n 0, 1) := dk_42 (dk_at dksJ12_copyOf_0 0 rfl rfl)
theorem dJ12_copyOf_1 : decode cJ12_copyOf 1 = .ok (.iload_n 1, 1) := dk_27 (dk_at dksJ12_copyOf_0 1 rfl rfl)
theorem dJ12_copyOf_2 : decode cJ12_copyOf 2 = .ok (.aload_n 0, 1) := dk_42 (dk_at dksJ12_copyOf_0 2 rfl rfl)
theorem dJ12_copyOf_3 : decode cJ12_copyOf 3 = .ok (.invokevirtual 86, 3) := dk_182 0 86 (dk_at dksJ12_copyOf_0 3 rfl rfl)
theorem dJ12_copyOf_6 : decode cJ12_copyOf 6 = .ok (.invokestatic 300, 3) := dk_184 1 44 (dk_at dksJ12_copyOf_0 6 rfl rfl)
theorem dJ12_copyOf_9 : decode cJ12_copyOf 9 = .ok (.areturn, 1) := dk_176 (dk_at dksJ12_copyOf_0 9 rfl rfl)
abbrev cJ12_copyOf_2 : ByteArray := prog_37_method_120_code
def yJ12_copyOf_2 : MethodName := ⟨RJ12, "copyOf", "([Ljava/lang/Object;ILjava/lang/Class;)[Ljava/lang/Object;"⟩
def dkwJ12_copyOf_2_1 : List UInt8 := [78, 42, 3, 45, 3, 42, 190, 27, 184, 1, 48, 184, 0, 150, 45, 176]
abbrev dktJ12_copyOf_2_1 : List UInt8 := dkwJ12_copyOf_2_1 ++ []
def dkwJ12_copyOf_2_0 : List UInt8 := [44, 18, 110, 166, 0, 10, 27, 189, 0, 2, 167, 0, 14, 44, 182, 0, 90, 27, 184, 0, 95, 192, 0, 110]
abbrev dktJ12_copyOf_2_0 : List UInt8 := dkwJ12_copyOf_2_0 ++ dktJ12_copyOf_2_1
theorem dksJ12_copyOf_2_0 : cJ12_copyOf_2.data.toList.drop 0 = dktJ12_copyOf_2_0 := by decide +kernel
theorem dksJ12_copyOf_2_1 : cJ12_copyOf_2.data.toList.drop 24 = dktJ12_copyOf_2_1 := dk_seg dksJ12_copyOf_2_0 24 rfl rfl
theorem dJ12_copyOf_2_0 : decode cJ12_copyOf_2 0 = .ok (.aload_n 2, 1) := dk_44 (dk_at dksJ12_copyOf_2_0 0 rfl rfl)
theorem dJ12_copyOf_2_1 : decode cJ12_copyOf_2 1 = .ok (.ldc 110, 2) := dk_18 110 (dk_at dksJ12_copyOf_2_0 1 rfl rfl)
theorem dJ12_copyOf_2_3 : decode cJ12_copyOf_2 3 = .ok (.if_acmp .ne 10, 3) := dk_166 0 10 (dk_at dksJ12_copyOf_2_0 3 rfl rfl)
theorem dJ12_copyOf_2_6 : decode cJ12_copyOf_2 6 = .ok (.iload_n 1, 1) := dk_27 (dk_at dksJ12_copyOf_2_0 6 rfl rfl)
theorem dJ12_copyOf_2_7 : decode cJ12_copyOf_2 7 = .ok (.anewarray 2, 3) := dk_189 0 2 (dk_at dksJ12_copyOf_2_0 7 rfl rfl)
theorem dJ12_copyOf_2_10 : decode cJ12_copyOf_2 10 = .ok (.goto 14, 3) := dk_167 0 14 (dk_at dksJ12_copyOf_2_0 10 rfl rfl)
theorem dJ12_copyOf_2_13 : decode cJ12_copyOf_2 13 = .ok (.aload_n 2, 1) := dk_44 (dk_at dksJ12_copyOf_2_0 13 rfl rfl)
theorem dJ12_copyOf_2_14 : decode cJ12_copyOf_2 14 = .ok (.invokevirtual 90, 3) := dk_182 0 90 (dk_at dksJ12_copyOf_2_0 14 rfl rfl)
theorem dJ12_copyOf_2_17 : decode cJ12_copyOf_2 17 = .ok (.iload_n 1, 1) := dk_27 (dk_at dksJ12_copyOf_2_0 17 rfl rfl)
theorem dJ12_copyOf_2_18 : decode cJ12_copyOf_2 18 = .ok (.invokestatic 95, 3) := dk_184 0 95 (dk_at dksJ12_copyOf_2_0 18 rfl rfl)
theorem dJ12_copyOf_2_21 : decode cJ12_copyOf_2 21 = .ok (.checkcast 110, 3) := dk_192 0 110 (dk_at dksJ12_copyOf_2_0 21 rfl rfl)
theorem dJ12_copyOf_2_24 : decode cJ12_copyOf_2 24 = .ok (.astore_n 3, 1) := dk_78 (dk_at dksJ12_copyOf_2_1 0 rfl rfl)
theorem dJ12_copyOf_2_25 : decode cJ12_copyOf_2 25 = .ok (.aload_n 0, 1) := dk_42 (dk_at dksJ12_copyOf_2_1 1 rfl rfl)
theorem dJ12_copyOf_2_26 : decode cJ12_copyOf_2 26 = .ok (.iconst 0, 1) := dk_3 (dk_at dksJ12_copyOf_2_1 2 rfl rfl)
theorem dJ12_copyOf_2_27 : decode cJ12_copyOf_2 27 = .ok (.aload_n 3, 1) := dk_45 (dk_at dksJ12_copyOf_2_1 3 rfl rfl)
theorem dJ12_copyOf_2_28 : decode cJ12_copyOf_2 28 = .ok (.iconst 0, 1) := dk_3 (dk_at dksJ12_copyOf_2_1 4 rfl rfl)
theorem dJ12_copyOf_2_29 : decode cJ12_copyOf_2 29 = .ok (.aload_n 0, 1) := dk_42 (dk_at dksJ12_copyOf_2_1 5 rfl rfl)
theorem dJ12_copyOf_2_30 : decode cJ12_copyOf_2 30 = .ok (.arraylength, 1) := dk_190 (dk_at dksJ12_copyOf_2_1 6 rfl rfl)
theorem dJ12_copyOf_2_31 : decode cJ12_copyOf_2 31 = .ok (.iload_n 1, 1) := dk_27 (dk_at dksJ12_copyOf_2_1 7 rfl rfl)
theorem dJ12_copyOf_2_32 : decode cJ12_copyOf_2 32 = .ok (.invokestatic 304, 3) := dk_184 1 48 (dk_at dksJ12_copyOf_2_1 8 rfl rfl)
theorem dJ12_copyOf_2_35 : decode cJ12_copyOf_2 35 = .ok (.invokestatic 150, 3) := dk_184 0 150 (dk_at dksJ12_copyOf_2_1 11 rfl rfl)
theorem dJ12_copyOf_2_38 : decode cJ12_copyOf_2 38 = .ok (.aload_n 3, 1) := dk_45 (dk_at dksJ12_copyOf_2_1 14 rfl rfl)
theorem dJ12_copyOf_2_39 : decode cJ12_copyOf_2 39 = .ok (.areturn, 1) := dk_176 (dk_at dksJ12_copyOf_2_1 15 rfl rfl)
theorem q51 : (Jvm.Cond.initialized "java/util/Arrays") ∈ lw_all := lw_g (lw_at lw_m1 16 rfl) rfl
theorem q336 : (Jvm.Cond.static ({ cls := "java/util/Arrays", name := "copyOf", desc := "([Ljava/lang/Object;I)[Ljava/lang/Object;" } : Jvm.MethodName)) ∈ lw_all := lw_g (lw_at lw_m2 61 rfl) rfl
theorem q337 : (Jvm.Cond.code ({ cls := "java/util/Arrays", name := "copyOf", desc := "([Ljava/lang/Object;I)[Ljava/lang/Object;" } : Jvm.MethodName) prog_37_method_119_code (2 : Nat) (Option.some (Jvm.ClassFile.FieldType.array (Jvm.ClassFile.FieldType.object "java/lang/Object")))) ∈ lw_all := lw_g (lw_at lw_m2 62 rfl) rfl
theorem q338 : (Jvm.Cond.methodLink "java/util/Arrays" (86 : Nat) ({ cls := "java/lang/Object", name := "getClass", desc := "()Ljava/lang/Class;" } : Jvm.MethodName)) ∈ lw_all := lw_g (lw_at lw_m2 63 rfl) rfl
theorem q366 : (Jvm.Cond.methodLink "java/util/Arrays" (300 : Nat) ({ cls := "java/util/Arrays", name := "copyOf", desc := "([Ljava/lang/Object;ILjava/lang/Class;)[Ljava/lang/Object;" } : Jvm.MethodName)) ∈ lw_all := lw_g (lw_at lw_m2 91 rfl) rfl
theorem q367 : (Jvm.Cond.static ({ cls := "java/util/Arrays", name := "copyOf", desc := "([Ljava/lang/Object;ILjava/lang/Class;)[Ljava/lang/Object;" } : Jvm.MethodName)) ∈ lw_all := lw_g (lw_at lw_m2 92 rfl) rfl
theorem q368 : (Jvm.Cond.code ({ cls := "java/util/Arrays", name := "copyOf", desc := "([Ljava/lang/Object;ILjava/lang/Class;)[Ljava/lang/Object;" } : Jvm.MethodName) prog_37_method_120_code (4 : Nat) (Option.some (Jvm.ClassFile.FieldType.array (Jvm.ClassFile.FieldType.object "java/lang/Object")))) ∈ lw_all := lw_g (lw_at lw_m2 93 rfl) rfl
theorem q369 : (Jvm.Cond.classLink "java/util/Arrays" (110 : Nat) "[Ljava/lang/Object;") ∈ lw_all := lw_g (lw_at lw_m2 94 rfl) rfl
theorem q371 : (Jvm.Cond.classLink "java/util/Arrays" (2 : Nat) "java/lang/Object") ∈ lw_all := lw_g (lw_at lw_m2 96 rfl) rfl
theorem q372 : (Jvm.Cond.methodLink "java/util/Arrays" (304 : Nat) ({ cls := "java/lang/Math", name := "min", desc := "(II)I" } : Jvm.MethodName)) ∈ lw_all := lw_g (lw_at lw_m2 97 rfl) rfl
theorem q375 : (Jvm.Cond.methodLink "java/util/Arrays" (150 : Nat) ({ cls := "java/lang/System", name := "arraycopy", desc := "(Ljava/lang/Object;ILjava/lang/Object;II)V" } : Jvm.MethodName)) ∈ lw_all := lw_g (lw_at lw_m2 100 rfl) rfl
/-! java/lang/IndexOutOfBoundsException -/
set_option maxRecDepth 100000
def RJ13 : String := "java/lang/IndexOutOfBoundsException"
def TJ13 : u_T := fun k => match k with
  | 0 => ("java/lang/Throwable", "cause", "Ljava/lang/Throwable;", false)
  | 1 => ("java/lang/Throwable", "stackTrace", "[Ljava/lang/StackTraceElement;", false)
  | 2 => ("java/lang/Throwable", "suppressedExceptions", "Ljava/util/List;", false)
  | 3 => ("java/lang/Throwable", "detailMessage", "Ljava/lang/String;", false)
  | 4 => ("java/lang/Throwable", "backtrace", "Ljava/lang/Object;", false)
  | _ => ("java/lang/Throwable", "depth", "I", false)
def tyJ13 : Nat → FieldType := fun k => match k with
  | 0 => .object "java/lang/Throwable"
  | 1 => .array (.object "java/lang/StackTraceElement")
  | 2 => .object "java/util/List"
  | 3 => .object "java/lang/String"
  | 4 => .object "java/lang/Object"
  | _ => .int
abbrev wsJ130 : List Cond := u_ws RJ13 TJ13 6
theorem nmJ13 : ∀ a, a < 6 → ∀ b, b < 6 → a ≠ b → (TJ13 a).2.1 ≠ (TJ13 b).2.1 := by decide +kernel
theorem tyJ13_ok : ∀ k, k < 6 → parseFieldDescriptor (TJ13 k).2.2.1 = some (tyJ13 k) := by decide +kernel
abbrev cJ13_init : ByteArray := prog_16_method_2_code
def yJ13_init : MethodName := ⟨RJ13, "<init>", "(Ljava/lang/String;)V"⟩
def dkwJ13_init_0 : List UInt8 := [42, 43, 183, 0, 7, 177]
abbrev dktJ13_init_0 : List UInt8 := dkwJ13_init_0 ++ []
theorem dksJ13_init_0 : cJ13_init.data.toList.drop 0 = dktJ13_init_0 := by decide +kernel
theorem dJ13_init_0 : decode cJ13_init 0 = .ok (.aload_n 0, 1) := dk_42 (dk_at dksJ13_init_0 0 rfl rfl)
theorem dJ13_init_1 : decode cJ13_init 1 = .ok (.aload_n 1, 1) := dk_43 (dk_at dksJ13_init_0 1 rfl rfl)
theorem dJ13_init_2 : decode cJ13_init 2 = .ok (.invokespecial 7, 3) := dk_183 0 7 (dk_at dksJ13_init_0 2 rfl rfl)
theorem dJ13_init_5 : decode cJ13_init 5 = .ok (.return_, 1) := dk_177 (dk_at dksJ13_init_0 5 rfl rfl)
abbrev cJ13_init_2 : ByteArray := prog_16_method_1_code
def yJ13_init_2 : MethodName := ⟨RJ13, "<init>", "()V"⟩
theorem dJ13_init_2_0 : decode cJ13_init_2 0 = .ok (.aload_n 0, 1) := by decide +kernel
theorem dJ13_init_2_1 : decode cJ13_init_2 1 = .ok (.invokespecial 1, 3) := by decide +kernel
theorem dJ13_init_2_4 : decode cJ13_init_2 4 = .ok (.return_, 1) := by decide +kernel
theorem q53 : (Jvm.Cond.initialized "java/lang/IndexOutOfBoundsException") ∈ lw_all := lw_g (lw_at lw_m1 18 rfl) rfl
theorem q200 : (Jvm.Cond.selects "java/lang/IndexOutOfBoundsException" ({ cls := "java/lang/Throwable", name := "fillInStackTrace", desc := "()Ljava/lang/Throwable;" } : Jvm.MethodName) ({ cls := "java/lang/Throwable", name := "fillInStackTrace", desc := "()Ljava/lang/Throwable;" } : Jvm.MethodName)) ∈ lw_all := lw_g (lw_at lw_m1 165 rfl) rfl
theorem q350 : (Jvm.Cond.selects "java/lang/IndexOutOfBoundsException" ({ cls := "java/lang/Object", name := "getClass", desc := "()Ljava/lang/Class;" } : Jvm.MethodName) ({ cls := "java/lang/Object", name := "getClass", desc := "()Ljava/lang/Class;" } : Jvm.MethodName)) ∈ lw_all := lw_g (lw_at lw_m2 75 rfl) rfl
theorem q388 : (Jvm.Cond.instanceMethod ({ cls := "java/lang/IndexOutOfBoundsException", name := "<init>", desc := "(Ljava/lang/String;)V" } : Jvm.MethodName)) ∈ lw_all := lw_g (lw_at lw_m2 113 rfl) rfl
theorem q389 : (Jvm.Cond.code ({ cls := "java/lang/IndexOutOfBoundsException", name := "<init>", desc := "(Ljava/lang/String;)V" } : Jvm.MethodName) prog_16_method_2_code (2 : Nat) (Option.none : Option Jvm.ClassFile.FieldType)) ∈ lw_all := lw_g (lw_at lw_m2 114 rfl) rfl
theorem q390 : (Jvm.Cond.methodLink "java/lang/IndexOutOfBoundsException" (7 : Nat) ({ cls := "java/lang/RuntimeException", name := "<init>", desc := "(Ljava/lang/String;)V" } : Jvm.MethodName)) ∈ lw_all := lw_g (lw_at lw_m2 115 rfl) rfl
theorem q407 : (Jvm.Cond.declares ({ cls := "java/lang/IndexOutOfBoundsException", name := "<init>", desc := "()V" } : Jvm.MethodName)) ∈ lw_tbl := lw_at lw_m2 132 rfl
theorem q408 : (Jvm.Cond.declares ({ cls := "java/lang/IndexOutOfBoundsException", name := "<init>", desc := "(Ljava/lang/String;)V" } : Jvm.MethodName)) ∈ lw_tbl := lw_at lw_m2 133 rfl
theorem q424 : (Jvm.Cond.instantiable "java/lang/IndexOutOfBoundsException" (6 : Nat)) ∈ lw_all := lw_g (lw_at lw_m2 149 rfl) rfl
theorem q425 : (Jvm.Cond.castable "java/lang/IndexOutOfBoundsException" "java/lang/IndexOutOfBoundsException") ∈ lw_tbl := lw_at lw_m2 150 rfl
theorem q426 : (Jvm.Cond.selects "java/lang/IndexOutOfBoundsException" ({ cls := "java/lang/Throwable", name := "fillInStackTrace", desc := "(I)Ljava/lang/Throwable;" } : Jvm.MethodName) ({ cls := "java/lang/Throwable", name := "fillInStackTrace", desc := "(I)Ljava/lang/Throwable;" } : Jvm.MethodName)) ∈ lw_all := lw_g (lw_at lw_m2 151 rfl) rfl
theorem q427 : (Jvm.Cond.lays "java/lang/IndexOutOfBoundsException" "java/lang/Throwable" "cause" "Ljava/lang/Throwable;") ∈ lw_all := lw_g (lw_at lw_m2 152 rfl) rfl
theorem q428 : (Jvm.Cond.lays "java/lang/IndexOutOfBoundsException" "java/lang/Throwable" "stackTrace" "[Ljava/lang/StackTraceElement;") ∈ lw_all := lw_g (lw_at lw_m2 153 rfl) rfl
theorem q429 : (Jvm.Cond.lays "java/lang/IndexOutOfBoundsException" "java/lang/Throwable" "suppressedExceptions" "Ljava/util/List;") ∈ lw_all := lw_g (lw_at lw_m2 154 rfl) rfl
theorem q430 : (Jvm.Cond.lays "java/lang/IndexOutOfBoundsException" "java/lang/Throwable" "detailMessage" "Ljava/lang/String;") ∈ lw_all := lw_g (lw_at lw_m2 155 rfl) rfl
theorem q431 : (Jvm.Cond.lays "java/lang/IndexOutOfBoundsException" "java/lang/Throwable" "backtrace" "Ljava/lang/Object;") ∈ lw_all := lw_g (lw_at lw_m2 156 rfl) rfl
theorem q433 : (Jvm.Cond.instanceMethod ({ cls := "java/lang/IndexOutOfBoundsException", name := "<init>", desc := "()V" } : Jvm.MethodName)) ∈ lw_all := lw_g (lw_at lw_m2 158 rfl) rfl
theorem q434 : (Jvm.Cond.code ({ cls := "java/lang/IndexOutOfBoundsException", name := "<init>", desc := "()V" } : Jvm.MethodName) prog_16_method_1_code (1 : Nat) (Option.none : Option Jvm.ClassFile.FieldType)) ∈ lw_all := lw_g (lw_at lw_m2 159 rfl) rfl
theorem q435 : (Jvm.Cond.methodLink "java/lang/IndexOutOfBoundsException" (1 : Nat) ({ cls := "java/lang/RuntimeException", name := "<init>", desc := "()V" } : Jvm.MethodName)) ∈ lw_all := lw_g (lw_at lw_m2 160 rfl) rfl
theorem q436 : (Jvm.Cond.lays "java/lang/IndexOutOfBoundsException" "java/lang/Throwable" "depth" "I") ∈ lw_all := lw_g (lw_at lw_m2 161 rfl) rfl
theorem q437 : (Jvm.Cond.superclass "java/lang/IndexOutOfBoundsException" "java/lang/RuntimeException") ∈ lw_all := lw_g (lw_at lw_m2 162 rfl) rfl
theorem q1517 : (Jvm.Cond.castable "java/lang/IndexOutOfBoundsException" "java/lang/Object") ∈ lw_tbl := lw_at lw_m7 42 rfl
theorem in_J13 : ∀ w ∈ wsJ130, w ∈ lw_all := lw_in wsJ130 [427, 428, 429, 430, 431, 436] (by decide +kernel) (by decide +kernel)
/-! java/lang/ArrayIndexOutOfBoundsException -/
set_option maxRecDepth 100000
def RJ14 : String := "java/lang/ArrayIndexOutOfBoundsException"
def TJ14 : u_T := fun k => match k with
  | 0 => ("java/lang/Throwable", "backtrace", "Ljava/lang/Object;", false)
  | 1 => ("java/lang/Throwable", "detailMessage", "Ljava/lang/String;", false)
  | 2 => ("java/lang/Throwable", "cause", "Ljava/lang/Throwable;", false)
  | 3 => ("java/lang/Throwable", "stackTrace", "[Ljava/lang/StackTraceElement;", false)
  | 4 => ("java/lang/Throwable", "depth", "I", false)
  | _ => ("java/lang/Throwable", "suppressedExceptions", "Ljava/util/List;", false)
def tyJ14 : Nat → FieldType := fun k => match k with
  | 0 => .object "java/lang/Object"
  | 1 => .object "java/lang/String"
  | 2 => .object "java/lang/Throwable"
  | 3 => .array (.object "java/lang/StackTraceElement")
  | 4 => .int
  | _ => .object "java/util/List"
abbrev wsJ140 : List Cond := u_ws RJ14 TJ14 6
theorem nmJ14 : ∀ a, a < 6 → ∀ b, b < 6 → a ≠ b → (TJ14 a).2.1 ≠ (TJ14 b).2.1 := by decide +kernel
theorem tyJ14_ok : ∀ k, k < 6 → parseFieldDescriptor (TJ14 k).2.2.1 = some (tyJ14 k) := by decide +kernel
abbrev cJ14_init : ByteArray := prog_10_method_2_code
def yJ14_init : MethodName := ⟨RJ14, "<init>", "(Ljava/lang/String;)V"⟩
def dkwJ14_init_0 : List UInt8 := [42, 43, 183, 0, 7, 177]
abbrev dktJ14_init_0 : List UInt8 := dkwJ14_init_0 ++ []
theorem dksJ14_init_0 : cJ14_init.data.toList.drop 0 = dktJ14_init_0 := by decide +kernel
theorem dJ14_init_0 : decode cJ14_init 0 = .ok (.aload_n 0, 1) := dk_42 (dk_at dksJ14_init_0 0 rfl rfl)
theorem dJ14_init_1 : decode cJ14_init 1 = .ok (.aload_n 1, 1) := dk_43 (dk_at dksJ14_init_0 1 rfl rfl)
theorem dJ14_init_2 : decode cJ14_init 2 = .ok (.invokespecial 7, 3) := dk_183 0 7 (dk_at dksJ14_init_0 2 rfl rfl)
theorem dJ14_init_5 : decode cJ14_init 5 = .ok (.return_, 1) := dk_177 (dk_at dksJ14_init_0 5 rfl rfl)
theorem q54 : (Jvm.Cond.initialized "java/lang/ArrayIndexOutOfBoundsException") ∈ lw_all := lw_g (lw_at lw_m1 19 rfl) rfl
theorem q198 : (Jvm.Cond.selects "java/lang/ArrayIndexOutOfBoundsException" ({ cls := "java/lang/Throwable", name := "fillInStackTrace", desc := "()Ljava/lang/Throwable;" } : Jvm.MethodName) ({ cls := "java/lang/Throwable", name := "fillInStackTrace", desc := "()Ljava/lang/Throwable;" } : Jvm.MethodName)) ∈ lw_all := lw_g (lw_at lw_m1 163 rfl) rfl
theorem q347 : (Jvm.Cond.selects "java/lang/ArrayIndexOutOfBoundsException" ({ cls := "java/lang/Object", name := "getClass", desc := "()Ljava/lang/Class;" } : Jvm.MethodName) ({ cls := "java/lang/Object", name := "getClass", desc := "()Ljava/lang/Class;" } : Jvm.MethodName)) ∈ lw_all := lw_g (lw_at lw_m2 72 rfl) rfl
theorem q384 : (Jvm.Cond.instantiable "java/lang/ArrayIndexOutOfBoundsException" (6 : Nat)) ∈ lw_all := lw_g (lw_at lw_m2 109 rfl) rfl
theorem q385 : (Jvm.Cond.instanceMethod ({ cls := "java/lang/ArrayIndexOutOfBoundsException", name := "<init>", desc := "(Ljava/lang/String;)V" } : Jvm.MethodName)) ∈ lw_all := lw_g (lw_at lw_m2 110 rfl) rfl
theorem q386 : (Jvm.Cond.code ({ cls := "java/lang/ArrayIndexOutOfBoundsException", name := "<init>", desc := "(Ljava/lang/String;)V" } : Jvm.MethodName) prog_10_method_2_code (2 : Nat) (Option.none : Option Jvm.ClassFile.FieldType)) ∈ lw_all := lw_g (lw_at lw_m2 111 rfl) rfl
theorem q387 : (Jvm.Cond.methodLink "java/lang/ArrayIndexOutOfBoundsException" (7 : Nat) ({ cls := "java/lang/IndexOutOfBoundsException", name := "<init>", desc := "(Ljava/lang/String;)V" } : Jvm.MethodName)) ∈ lw_all := lw_g (lw_at lw_m2 112 rfl) rfl
theorem q399 : (Jvm.Cond.lays "java/lang/ArrayIndexOutOfBoundsException" "java/lang/Throwable" "backtrace" "Ljava/lang/Object;") ∈ lw_all := lw_g (lw_at lw_m2 124 rfl) rfl
theorem q400 : (Jvm.Cond.lays "java/lang/ArrayIndexOutOfBoundsException" "java/lang/Throwable" "detailMessage" "Ljava/lang/String;") ∈ lw_all := lw_g (lw_at lw_m2 125 rfl) rfl
theorem q401 : (Jvm.Cond.lays "java/lang/ArrayIndexOutOfBoundsException" "java/lang/Throwable" "cause" "Ljava/lang/Throwable;") ∈ lw_all := lw_g (lw_at lw_m2 126 rfl) rfl
theorem q402 : (Jvm.Cond.lays "java/lang/ArrayIndexOutOfBoundsException" "java/lang/Throwable" "stackTrace" "[Ljava/lang/StackTraceElement;") ∈ lw_all := lw_g (lw_at lw_m2 127 rfl) rfl
theorem q403 : (Jvm.Cond.lays "java/lang/ArrayIndexOutOfBoundsException" "java/lang/Throwable" "depth" "I") ∈ lw_all := lw_g (lw_at lw_m2 128 rfl) rfl
theorem q404 : (Jvm.Cond.lays "java/lang/ArrayIndexOutOfBoundsException" "java/lang/Throwable" "suppressedExceptions" "Ljava/util/List;") ∈ lw_all := lw_g (lw_at lw_m2 129 rfl) rfl
theorem q405 : (Jvm.Cond.superclass "java/lang/ArrayIndexOutOfBoundsException" "java/lang/IndexOutOfBoundsException") ∈ lw_all := lw_g (lw_at lw_m2 130 rfl) rfl
theorem q406 : (Jvm.Cond.castable "java/lang/ArrayIndexOutOfBoundsException" "java/lang/ArrayIndexOutOfBoundsException") ∈ lw_tbl := lw_at lw_m2 131 rfl
theorem q409 : (Jvm.Cond.selects "java/lang/ArrayIndexOutOfBoundsException" ({ cls := "java/lang/Throwable", name := "fillInStackTrace", desc := "(I)Ljava/lang/Throwable;" } : Jvm.MethodName) ({ cls := "java/lang/Throwable", name := "fillInStackTrace", desc := "(I)Ljava/lang/Throwable;" } : Jvm.MethodName)) ∈ lw_all := lw_g (lw_at lw_m2 134 rfl) rfl
theorem q1508 : (Jvm.Cond.castable "java/lang/ArrayIndexOutOfBoundsException" "java/lang/IndexOutOfBoundsException") ∈ lw_tbl := lw_at lw_m7 33 rfl
theorem q1516 : (Jvm.Cond.castable "java/lang/ArrayIndexOutOfBoundsException" "java/lang/Object") ∈ lw_tbl := lw_at lw_m7 41 rfl
theorem in_J14 : ∀ w ∈ wsJ140, w ∈ lw_all := lw_in wsJ140 [399, 400, 401, 402, 403, 404] (by decide +kernel) (by decide +kernel)
/-! java/lang/String -/
set_option maxRecDepth 100000
def RJ15 : String := "java/lang/String"
def TJ15 : u_T := fun k => match k with
  | 0 => ("java/lang/String", "value", "[B", true)
  | _ => ("java/lang/String", "coder", "B", true)
def tyJ15 : Nat → FieldType := fun k => match k with
  | 0 => .array .byte
  | _ => .byte
abbrev wsJ150 : List Cond := u_ws RJ15 TJ15 2
theorem nmJ15 : ∀ a, a < 2 → ∀ b, b < 2 → a ≠ b → (TJ15 a).2.1 ≠ (TJ15 b).2.1 := by decide +kernel
theorem tyJ15_ok : ∀ k, k < 2 → parseFieldDescriptor (TJ15 k).2.2.1 = some (tyJ15 k) := by decide +kernel
abbrev cJ15_compareTo : ByteArray := prog_24_method_162_code
def yJ15_compareTo : MethodName := ⟨RJ15, "compareTo", "(Ljava/lang/Object;)I"⟩
def dkwJ15_compareTo_0 : List UInt8 := [42, 43, 192, 0, 10, 182, 4, 60, 172]
abbrev dktJ15_compareTo_0 : List UInt8 := dkwJ15_compareTo_0 ++ []
theorem dksJ15_compareTo_0 : cJ15_compareTo.data.toList.drop 0 = dktJ15_compareTo_0 := by decide +kernel
theorem dJ15_compareTo_0 : decode cJ15_compareTo 0 = .ok (.aload_n 0, 1) := dk_42 (dk_at dksJ15_compareTo_0 0 rfl rfl)
theorem dJ15_compareTo_1 : decode cJ15_compareTo 1 = .ok (.aload_n 1, 1) := dk_43 (dk_at dksJ15_compareTo_0 1 rfl rfl)
theorem dJ15_compareTo_2 : decode cJ15_compareTo 2 = .ok (.checkcast 10, 3) := dk_192 0 10 (dk_at dksJ15_compareTo_0 2 rfl rfl)
theorem dJ15_compareTo_5 : decode cJ15_compareTo 5 = .ok (.invokevirtual 1084, 3) := dk_182 4 60 (dk_at dksJ15_compareTo_0 5 rfl rfl)
theorem dJ15_compareTo_8 : decode cJ15_compareTo 8 = .ok (.ireturn, 1) := dk_172 (dk_at dksJ15_compareTo_0 8 rfl rfl)
abbrev cJ15_compareTo_2 : ByteArray := prog_24_method_71_code
def yJ15_compareTo_2 : MethodName := ⟨RJ15, "compareTo", "(Ljava/lang/String;)I"⟩
def dkwJ15_compareTo_2_2 : List UInt8 := [154, 0, 11, 44, 45, 184, 2, 79, 167, 0, 8, 44, 45, 184, 2, 82, 172]
abbrev dktJ15_compareTo_2_2 : List UInt8 := dkwJ15_compareTo_2_2 ++ []
def dkwJ15_compareTo_2_1 : List UInt8 := [160, 0, 22, 21, 4, 154, 0, 11, 44, 45, 184, 2, 74, 167, 0, 8, 44, 45, 184, 2, 78, 172, 21, 4]
abbrev dktJ15_compareTo_2_1 : List UInt8 := dkwJ15_compareTo_2_1 ++ dktJ15_compareTo_2_2
def dkwJ15_compareTo_2_0 : List UInt8 := [42, 180, 0, 9, 77, 43, 180, 0, 9, 78, 42, 182, 1, 79, 54, 4, 21, 4, 43, 182, 1, 79]
abbrev dktJ15_compareTo_2_0 : List UInt8 := dkwJ15_compareTo_2_0 ++ dktJ15_compareTo_2_1
theorem dksJ15_compareTo_2_0 : cJ15_compareTo_2.data.toList.drop 0 = dktJ15_compareTo_2_0 := by decide +kernel
theorem dksJ15_compareTo_2_1 : cJ15_compareTo_2.data.toList.drop 22 = dktJ15_compareTo_2_1 := dk_seg dksJ15_compareTo_2_0 22 rfl rfl
theorem dksJ15_compareTo_2_2 : cJ15_compareTo_2.data.toList.drop 46 = dktJ15_compareTo_2_2 := dk_seg dksJ15_compareTo_2_1 24 rfl rfl
theorem dJ15_compareTo_2_0 : decode cJ15_compareTo_2 0 = .ok (.aload_n 0, 1) := dk_42 (dk_at dksJ15_compareTo_2_0 0 rfl rfl)
theorem dJ15_compareTo_2_1 : decode cJ15_compareTo_2 1 = .ok (.getfield 9, 3) := dk_180 0 9 (dk_at dksJ15_compareTo_2_0 1 rfl rfl)
theorem dJ15_compareTo_2_4 : decode cJ15_compareTo_2 4 = .ok (.astore_n 2, 1) := dk_77 (dk_at dksJ15_compareTo_2_0 4 rfl rfl)
theorem dJ15_compareTo_2_5 : decode cJ15_compareTo_2 5 = .ok (.aload_n 1, 1) := dk_43 (dk_at dksJ15_compareTo_2_0 5 rfl rfl)
theorem dJ15_compareTo_2_6 : decode cJ15_compareTo_2 6 = .ok (.getfield 9, 3) := dk_180 0 9 (dk_at dksJ15_compareTo_2_0 6 rfl rfl)
theorem dJ15_compareTo_2_9 : decode cJ15_compareTo_2 9 = .ok (.astore_n 3, 1) := dk_78 (dk_at dksJ15_compareTo_2_0 9 rfl rfl)
theorem dJ15_compareTo_2_10 : decode cJ15_compareTo_2 10 = .ok (.aload_n 0, 1) := dk_42 (dk_at dksJ15_compareTo_2_0 10 rfl rfl)
theorem dJ15_compareTo_2_11 : decode cJ15_compareTo_2 11 = .ok (.invokevirtual 335, 3) := dk_182 1 79 (dk_at dksJ15_compareTo_2_0 11 rfl rfl)
theorem dJ15_compareTo_2_14 : decode cJ15_compareTo_2 14 = .ok (.istore 4, 2) := dk_54 4 (dk_at dksJ15_compareTo_2_0 14 rfl rfl)
theorem dJ15_compareTo_2_16 : decode cJ15_compareTo_2 16 = .ok (.iload 4, 2) := dk_21 4 (dk_at dksJ15_compareTo_2_0 16 rfl rfl)
theorem dJ15_compareTo_2_18 : decode cJ15_compareTo_2 18 = .ok (.aload_n 1, 1) := dk_43 (dk_at dksJ15_compareTo_2_0 18 rfl rfl)
theorem dJ15_compareTo_2_19 : decode cJ15_compareTo_2 19 = .ok (.invokevirtual 335, 3) := dk_182 1 79 (dk_at dksJ15_compareTo_2_0 19 rfl rfl)
theorem dJ15_compareTo_2_22 : decode cJ15_compareTo_2 22 = .ok (.if_icmp .ne 22, 3) := dk_160 0 22 (dk_at dksJ15_compareTo_2_1 0 rfl rfl)
theorem dJ15_compareTo_2_25 : decode cJ15_compareTo_2 25 = .ok (.iload 4, 2) := dk_21 4 (dk_at dksJ15_compareTo_2_1 3 rfl rfl)
theorem dJ15_compareTo_2_27 : decode cJ15_compareTo_2 27 = .ok (.ifCond .ne 11, 3) := dk_154 0 11 (dk_at dksJ15_compareTo_2_1 5 rfl rfl)
theorem dJ15_compareTo_2_30 : decode cJ15_compareTo_2 30 = .ok (.aload_n 2, 1) := dk_44 (dk_at dksJ15_compareTo_2_1 8 rfl rfl)
theorem dJ15_compareTo_2_31 : decode cJ15_compareTo_2 31 = .ok (.aload_n 3, 1) := dk_45 (dk_at dksJ15_compareTo_2_1 9 rfl rfl)
theorem dJ15_compareTo_2_32 : decode cJ15_compareTo_2 32 = .ok (.invokestatic 586, 3) := dk_184 2 74 (dk_at dksJ15_compareTo_2_1 10 rfl rfl)
theorem dJ15_compareTo_2_35 : decode cJ15_compareTo_2 35 = .ok (.goto 8, 3) := dk_167 0 8 (dk_at dksJ15_compareTo_2_1 13 rfl rfl)
theorem dJ15_compareTo_2_38 : decode cJ15_compareTo_2 38 = .ok (.aload_n 2, 1) := dk_44 (dk_at dksJ15_compareTo_2_1 16 rfl rfl)
theorem dJ15_compareTo_2_39 : decode cJ15_compareTo_2 39 = .ok (.aload_n 3, 1) := dk_45 (dk_at dksJ15_compareTo_2_1 17 rfl rfl)
theorem dJ15_compareTo_2_40 : decode cJ15_compareTo_2 40 = .ok (.invokestatic 590, 3) := dk_184 2 78 (dk_at dksJ15_compareTo_2_1 18 rfl rfl)
theorem dJ15_compareTo_2_43 : decode cJ15_compareTo_2 43 = .ok (.ireturn, 1) := dk_172 (dk_at dksJ15_compareTo_2_1 21 rfl rfl)
theorem dJ15_compareTo_2_44 : decode cJ15_compareTo_2 44 = .ok (.iload 4, 2) := dk_21 4 (dk_at dksJ15_compareTo_2_1 22 rfl rfl)
theorem dJ15_compareTo_2_46 : decode cJ15_compareTo_2 46 = .ok (.ifCond .ne 11, 3) := dk_154 0 11 (dk_at dksJ15_compareTo_2_2 0 rfl rfl)
theorem dJ15_compareTo_2_49 : decode cJ15_compareTo_2 49 = .ok (.aload_n 2, 1) := dk_44 (dk_at dksJ15_compareTo_2_2 3 rfl rfl)
theorem dJ15_compareTo_2_50 : decode cJ15_compareTo_2 50 = .ok (.aload_n 3, 1) := dk_45 (dk_at dksJ15_compareTo_2_2 4 rfl rfl)
theorem dJ15_compareTo_2_51 : decode cJ15_compareTo_2 51 = .ok (.invokestatic 591, 3) := dk_184 2 79 (dk_at dksJ15_compareTo_2_2 5 rfl rfl)
theorem dJ15_compareTo_2_54 : decode cJ15_compareTo_2 54 = .ok (.goto 8, 3) := dk_167 0 8 (dk_at dksJ15_compareTo_2_2 8 rfl rfl)
theorem dJ15_compareTo_2_57 : decode cJ15_compareTo_2 57 = .ok (.aload_n 2, 1) := dk_44 (dk_at dksJ15_compareTo_2_2 11 rfl rfl)
theorem dJ15_compareTo_2_58 : decode cJ15_compareTo_2 58 = .ok (.aload_n 3, 1) := dk_45 (dk_at dksJ15_compareTo_2_2 12 rfl rfl)
theorem dJ15_compareTo_2_59 : decode cJ15_compareTo_2 59 = .ok (.invokestatic 594, 3) := dk_184 2 82 (dk_at dksJ15_compareTo_2_2 13 rfl rfl)
theorem dJ15_compareTo_2_62 : decode cJ15_compareTo_2 62 = .ok (.ireturn, 1) := dk_172 (dk_at dksJ15_compareTo_2_2 16 rfl rfl)
abbrev cJ15_coder : ByteArray := prog_24_method_152_code
def yJ15_coder : MethodName := ⟨RJ15, "coder", "()B"⟩
def dkwJ15_coder_0 : List UInt8 := [178, 0, 38, 153, 0, 10, 42, 180, 0, 15, 167, 0, 4, 4, 172]
abbrev dktJ15_coder_0 : List UInt8 := dkwJ15_coder_0 ++ []
theorem dksJ15_coder_0 : cJ15_coder.data.toList.drop 0 = dktJ15_coder_0 := by decide +kernel
theorem dJ15_coder_0 : decode cJ15_coder 0 = .ok (.getstatic 38, 3) := dk_178 0 38 (dk_at dksJ15_coder_0 0 rfl rfl)
theorem dJ15_coder_3 : decode cJ15_coder 3 = .ok (.ifCond .eq 10, 3) := dk_153 0 10 (dk_at dksJ15_coder_0 3 rfl rfl)
theorem dJ15_coder_6 : decode cJ15_coder 6 = .ok (.aload_n 0, 1) := dk_42 (dk_at dksJ15_coder_0 6 rfl rfl)
theorem dJ15_coder_7 : decode cJ15_coder 7 = .ok (.getfield 15, 3) := dk_180 0 15 (dk_at dksJ15_coder_0 7 rfl rfl)
theorem dJ15_coder_10 : decode cJ15_coder 10 = .ok (.goto 4, 3) := dk_167 0 4 (dk_at dksJ15_coder_0 10 rfl rfl)
theorem dJ15_coder_13 : decode cJ15_coder 13 = .ok (.iconst 1, 1) := dk_4 (dk_at dksJ15_coder_0 13 rfl rfl)
theorem dJ15_coder_14 : decode cJ15_coder 14 = .ok (.ireturn, 1) := dk_172 (dk_at dksJ15_coder_0 14 rfl rfl)
theorem q55 : (Jvm.Cond.initialized "java/lang/String") ∈ lw_all := lw_g (lw_at lw_m1 20 rfl) rfl
theorem q410 : (Jvm.Cond.instantiable "java/lang/String" (4 : Nat)) ∈ lw_all := lw_g (lw_at lw_m2 135 rfl) rfl
theorem q412 : (Jvm.Cond.laysFinal "java/lang/String" "java/lang/String" "value" "[B") ∈ lw_all := lw_g (lw_at lw_m2 137 rfl) rfl
theorem q413 : (Jvm.Cond.soleField "java/lang/String" "value") ∈ lw_all := lw_g (lw_at lw_m2 138 rfl) rfl
theorem q414 : (Jvm.Cond.laysFinal "java/lang/String" "java/lang/String" "coder" "B") ∈ lw_all := lw_g (lw_at lw_m2 139 rfl) rfl
theorem q415 : (Jvm.Cond.soleField "java/lang/String" "coder") ∈ lw_all := lw_g (lw_at lw_m2 140 rfl) rfl
theorem q586 : (Jvm.Cond.castable "java/lang/String" "java/lang/Comparable") ∈ lw_tbl := lw_at lw_m3 71 rfl
theorem q587 : (Jvm.Cond.selects "java/lang/String" ({ cls := "java/lang/Comparable", name := "compareTo", desc := "(Ljava/lang/Object;)I" } : Jvm.MethodName) ({ cls := "java/lang/String", name := "compareTo", desc := "(Ljava/lang/Object;)I" } : Jvm.MethodName)) ∈ lw_all := lw_g (lw_at lw_m3 72 rfl) rfl
theorem q588 : (Jvm.Cond.unhidden "java/lang/String" "compareTo" "(Ljava/lang/Object;)I") ∈ lw_tbl := lw_at lw_m3 73 rfl
theorem q589 : (Jvm.Cond.instanceMethod ({ cls := "java/lang/String", name := "compareTo", desc := "(Ljava/lang/Object;)I" } : Jvm.MethodName)) ∈ lw_all := lw_g (lw_at lw_m3 74 rfl) rfl
theorem q590 : (Jvm.Cond.publicMethod ({ cls := "java/lang/String", name := "compareTo", desc := "(Ljava/lang/Object;)I" } : Jvm.MethodName)) ∈ lw_tbl := lw_at lw_m3 75 rfl
theorem q591 : (Jvm.Cond.code ({ cls := "java/lang/String", name := "compareTo", desc := "(Ljava/lang/Object;)I" } : Jvm.MethodName) prog_24_method_162_code (2 : Nat) (Option.some Jvm.ClassFile.FieldType.int)) ∈ lw_all := lw_g (lw_at lw_m3 76 rfl) rfl
theorem q592 : (Jvm.Cond.classLink "java/lang/String" (10 : Nat) "java/lang/String") ∈ lw_all := lw_g (lw_at lw_m3 77 rfl) rfl
theorem q593 : (Jvm.Cond.methodLink "java/lang/String" (1084 : Nat) ({ cls := "java/lang/String", name := "compareTo", desc := "(Ljava/lang/String;)I" } : Jvm.MethodName)) ∈ lw_all := lw_g (lw_at lw_m3 78 rfl) rfl
theorem q594 : (Jvm.Cond.instanceMethod ({ cls := "java/lang/String", name := "compareTo", desc := "(Ljava/lang/String;)I" } : Jvm.MethodName)) ∈ lw_all := lw_g (lw_at lw_m3 79 rfl) rfl
theorem q595 : (Jvm.Cond.selects "java/lang/String" ({ cls := "java/lang/String", name := "compareTo", desc := "(Ljava/lang/String;)I" } : Jvm.MethodName) ({ cls := "java/lang/String", name := "compareTo", desc := "(Ljava/lang/String;)I" } : Jvm.MethodName)) ∈ lw_all := lw_g (lw_at lw_m3 80 rfl) rfl
theorem q596 : (Jvm.Cond.code ({ cls := "java/lang/String", name := "compareTo", desc := "(Ljava/lang/String;)I" } : Jvm.MethodName) prog_24_method_71_code (5 : Nat) (Option.some Jvm.ClassFile.FieldType.int)) ∈ lw_all := lw_g (lw_at lw_m3 81 rfl) rfl
theorem q597 : (Jvm.Cond.methodLink "java/lang/String" (335 : Nat) ({ cls := "java/lang/String", name := "coder", desc := "()B" } : Jvm.MethodName)) ∈ lw_all := lw_g (lw_at lw_m3 82 rfl) rfl
theorem q598 : (Jvm.Cond.instanceMethod ({ cls := "java/lang/String", name := "coder", desc := "()B" } : Jvm.MethodName)) ∈ lw_all := lw_g (lw_at lw_m3 83 rfl) rfl
theorem q599 : (Jvm.Cond.selects "java/lang/String" ({ cls := "java/lang/String", name := "coder", desc := "()B" } : Jvm.MethodName) ({ cls := "java/lang/String", name := "coder", desc := "()B" } : Jvm.MethodName)) ∈ lw_all := lw_g (lw_at lw_m3 84 rfl) rfl
theorem q600 : (Jvm.Cond.code ({ cls := "java/lang/String", name := "coder", desc := "()B" } : Jvm.MethodName) prog_24_method_152_code (1 : Nat) (Option.some Jvm.ClassFile.FieldType.byte)) ∈ lw_all := lw_g (lw_at lw_m3 85 rfl) rfl
theorem q601 : (Jvm.Cond.fieldLink "java/lang/String" (38 : Nat) "java/lang/String" "COMPACT_STRINGS" "Z") ∈ lw_all := lw_g (lw_at lw_m3 86 rfl) rfl
theorem q602 : (Jvm.Cond.laysStatic "java/lang/String" "COMPACT_STRINGS" "Z") ∈ lw_tbl := lw_at lw_m3 87 rfl
theorem q1534 : (Jvm.Cond.castable "java/lang/String" "java/lang/Object") ∈ lw_tbl := lw_at lw_m7 59 rfl
theorem q1543 : (Jvm.Cond.fieldLink "java/lang/String" (9 : Nat) "java/lang/String" "value" "[B") ∈ lw_all := lw_g (lw_at lw_m7 68 rfl) rfl
theorem q1544 : (Jvm.Cond.fieldLink "java/lang/String" (15 : Nat) "java/lang/String" "coder" "B") ∈ lw_all := lw_g (lw_at lw_m7 69 rfl) rfl
theorem in_J15 : ∀ w ∈ wsJ150, w ∈ lw_all := lw_in wsJ150 [412, 414] (by decide +kernel) (by decide +kernel)
/-! java/lang/Record -/
set_option maxRecDepth 100000
def RJ16 : String := "java/lang/Record"
abbrev cJ16_init : ByteArray := prog_22_method_1_code
def yJ16_init : MethodName := ⟨RJ16, "<init>", "()V"⟩
theorem dJ16_init_0 : decode cJ16_init 0 = .ok (.aload_n 0, 1) := by decide +kernel
theorem dJ16_init_1 : decode cJ16_init 1 = .ok (.invokespecial 1, 3) := by decide +kernel
theorem dJ16_init_4 : decode cJ16_init 4 = .ok (.return_, 1) := by decide +kernel
theorem q56 : (Jvm.Cond.initialized "java/lang/Record") ∈ lw_all := lw_g (lw_at lw_m1 21 rfl) rfl
theorem q444 : (Jvm.Cond.instanceMethod ({ cls := "java/lang/Record", name := "<init>", desc := "()V" } : Jvm.MethodName)) ∈ lw_all := lw_g (lw_at lw_m2 169 rfl) rfl
theorem q445 : (Jvm.Cond.code ({ cls := "java/lang/Record", name := "<init>", desc := "()V" } : Jvm.MethodName) prog_22_method_1_code (1 : Nat) (Option.none : Option Jvm.ClassFile.FieldType)) ∈ lw_all := lw_g (lw_at lw_m2 170 rfl) rfl
theorem q446 : (Jvm.Cond.methodLink "java/lang/Record" (1 : Nat) ({ cls := "java/lang/Object", name := "<init>", desc := "()V" } : Jvm.MethodName)) ∈ lw_all := lw_g (lw_at lw_m2 171 rfl) rfl
/-! java/util/Objects -/
set_option maxRecDepth 100000
def RJ17 : String := "java/util/Objects"
abbrev cJ17_checkIndex : ByteArray := prog_45_method_17_code
def yJ17_checkIndex : MethodName := ⟨RJ17, "checkIndex", "(II)I"⟩
def dkwJ17_checkIndex_0 : List UInt8 := [26, 27, 1, 184, 0, 105, 172]
abbrev dktJ17_checkIndex_0 : List UInt8 := dkwJ17_checkIndex_0 ++ []
theorem dksJ17_checkIndex_0 : cJ17_checkIndex.data.toList.drop 0 = dktJ17_checkIndex_0 := by decide +kernel
theorem dJ17_checkIndex_0 : decode cJ17_checkIndex 0 = .ok (.iload_n 0, 1) := dk_26 (dk_at dksJ17_checkIndex_0 0 rfl rfl)
theorem dJ17_checkIndex_1 : decode cJ17_checkIndex 1 = .ok (.iload_n 1, 1) := dk_27 (dk_at dksJ17_checkIndex_0 1 rfl rfl)
theorem dJ17_checkIndex_2 : decode cJ17_checkIndex 2 = .ok (.aconst_null, 1) := dk_1 (dk_at dksJ17_checkIndex_0 2 rfl rfl)
theorem dJ17_checkIndex_3 : decode cJ17_checkIndex 3 = .ok (.invokestatic 105, 3) := dk_184 0 105 (dk_at dksJ17_checkIndex_0 3 rfl rfl)
theorem dJ17_checkIndex_6 : decode cJ17_checkIndex 6 = .ok (.ireturn, 1) := dk_172 (dk_at dksJ17_checkIndex_0 6 rfl rfl)
abbrev cJ17_requireNonNull : ByteArray := prog_45_method_10_code
def yJ17_requireNonNull : MethodName := ⟨RJ17, "requireNonNull", "(Ljava/lang/Object;)Ljava/lang/Object;"⟩
def dkwJ17_requireNonNull_0 : List UInt8 := [42, 199, 0, 11, 187, 0, 84, 89, 183, 0, 86, 191, 42, 176]
abbrev dktJ17_requireNonNull_0 : List UInt8 := dkwJ17_requireNonNull_0 ++ []
theorem dksJ17_requireNonNull_0 : cJ17_requireNonNull.data.toList.drop 0 = dktJ17_requireNonNull_0 := by decide +kernel
theorem dJ17_requireNonNull_0 : decode cJ17_requireNonNull 0 = .ok (.aload_n 0, 1) := dk_42 (dk_at dksJ17_requireNonNull_0 0 rfl rfl)
theorem dJ17_requireNonNull_1 : decode cJ17_requireNonNull 1 = .ok (.ifnonnull 11, 3) := dk_199 0 11 (dk_at dksJ17_requireNonNull_0 1 rfl rfl)
theorem dJ17_requireNonNull_4 : decode cJ17_requireNonNull 4 = .ok (.new 84, 3) := dk_187 0 84 (dk_at dksJ17_requireNonNull_0 4 rfl rfl)
theorem dJ17_requireNonNull_7 : decode cJ17_requireNonNull 7 = .ok (.dup, 1) := dk_89 (dk_at dksJ17_requireNonNull_0 7 rfl rfl)
theorem dJ17_requireNonNull_8 : decode cJ17_requireNonNull 8 = .ok (.invokespecial 86, 3) := dk_183 0 86 (dk_at dksJ17_requireNonNull_0 8 rfl rfl)
theorem dJ17_requireNonNull_11 : decode cJ17_requireNonNull 11 = .ok (.athrow, 1) := dk_191 (dk_at dksJ17_requireNonNull_0 11 rfl rfl)
theorem dJ17_requireNonNull_12 : decode cJ17_requireNonNull 12 = .ok (.aload_n 0, 1) := dk_42 (dk_at dksJ17_requireNonNull_0 12 rfl rfl)
theorem dJ17_requireNonNull_13 : decode cJ17_requireNonNull 13 = .ok (.areturn, 1) := dk_176 (dk_at dksJ17_requireNonNull_0 13 rfl rfl)
theorem q58 : (Jvm.Cond.initialized "java/util/Objects") ∈ lw_all := lw_g (lw_at lw_m1 23 rfl) rfl
theorem q485 : (Jvm.Cond.static ({ cls := "java/util/Objects", name := "checkIndex", desc := "(II)I" } : Jvm.MethodName)) ∈ lw_all := lw_g (lw_at lw_m2 210 rfl) rfl
theorem q486 : (Jvm.Cond.code ({ cls := "java/util/Objects", name := "checkIndex", desc := "(II)I" } : Jvm.MethodName) prog_45_method_17_code (2 : Nat) (Option.some Jvm.ClassFile.FieldType.int)) ∈ lw_all := lw_g (lw_at lw_m2 211 rfl) rfl
theorem q487 : (Jvm.Cond.methodLink "java/util/Objects" (105 : Nat) ({ cls := "jdk/internal/util/Preconditions", name := "checkIndex", desc := "(IILjava/util/function/BiFunction;)I" } : Jvm.MethodName)) ∈ lw_all := lw_g (lw_at lw_m2 212 rfl) rfl
theorem q640 : (Jvm.Cond.static ({ cls := "java/util/Objects", name := "requireNonNull", desc := "(Ljava/lang/Object;)Ljava/lang/Object;" } : Jvm.MethodName)) ∈ lw_all := lw_g (lw_at lw_m3 125 rfl) rfl
theorem q641 : (Jvm.Cond.code ({ cls := "java/util/Objects", name := "requireNonNull", desc := "(Ljava/lang/Object;)Ljava/lang/Object;" } : Jvm.MethodName) prog_45_method_10_code (1 : Nat) (Option.some (Jvm.ClassFile.FieldType.object "java/lang/Object"))) ∈ lw_all := lw_g (lw_at lw_m3 126 rfl) rfl
/-! jdk/internal/util/Preconditions -/
set_option maxRecDepth 100000
def RJ18 : String := "jdk/internal/util/Preconditions"
abbrev cJ18_checkIndex : ByteArray := prog_65_method_11_code
def yJ18_checkIndex : MethodName := ⟨RJ18, "checkIndex", "(IILjava/util/function/BiFunction;)I"⟩
def dkwJ18_checkIndex_0 : List UInt8 := [26, 155, 0, 8, 26, 27, 161, 0, 10, 44, 26, 27, 184, 0, 95, 191, 26, 172]
abbrev dktJ18_checkIndex_0 : List UInt8 := dkwJ18_checkIndex_0 ++ []
theorem dksJ18_checkIndex_0 : cJ18_checkIndex.data.toList.drop 0 = dktJ18_checkIndex_0 := by decide +kernel
theorem dJ18_checkIndex_0 : decode cJ18_checkIndex 0 = .ok (.iload_n 0, 1) := dk_26 (dk_at dksJ18_checkIndex_0 0 rfl rfl)
theorem dJ18_checkIndex_1 : decode cJ18_checkIndex 1 = .ok (.ifCond .lt 8, 3) := dk_155 0 8 (dk_at dksJ18_checkIndex_0 1 rfl rfl)
theorem dJ18_checkIndex_4 : decode cJ18_checkIndex 4 = .ok (.iload_n 0, 1) := dk_26 (dk_at dksJ18_checkIndex_0 4 rfl rfl)
theorem dJ18_checkIndex_5 : decode cJ18_checkIndex 5 = .ok (.iload_n 1, 1) := dk_27 (dk_at dksJ18_checkIndex_0 5 rfl rfl)
theorem dJ18_checkIndex_6 : decode cJ18_checkIndex 6 = .ok (.if_icmp .lt 10, 3) := dk_161 0 10 (dk_at dksJ18_checkIndex_0 6 rfl rfl)
theorem dJ18_checkIndex_9 : decode cJ18_checkIndex 9 = .ok (.aload_n 2, 1) := dk_44 (dk_at dksJ18_checkIndex_0 9 rfl rfl)
theorem dJ18_checkIndex_10 : decode cJ18_checkIndex 10 = .ok (.iload_n 0, 1) := dk_26 (dk_at dksJ18_checkIndex_0 10 rfl rfl)
theorem dJ18_checkIndex_11 : decode cJ18_checkIndex 11 = .ok (.iload_n 1, 1) := dk_27 (dk_at dksJ18_checkIndex_0 11 rfl rfl)
theorem dJ18_checkIndex_12 : decode cJ18_checkIndex 12 = .ok (.invokestatic 95, 3) := dk_184 0 95 (dk_at dksJ18_checkIndex_0 12 rfl rfl)
theorem dJ18_checkIndex_15 : decode cJ18_checkIndex 15 = .ok (.athrow, 1) := dk_191 (dk_at dksJ18_checkIndex_0 15 rfl rfl)
theorem dJ18_checkIndex_16 : decode cJ18_checkIndex 16 = .ok (.iload_n 0, 1) := dk_26 (dk_at dksJ18_checkIndex_0 16 rfl rfl)
theorem dJ18_checkIndex_17 : decode cJ18_checkIndex 17 = .ok (.ireturn, 1) := dk_172 (dk_at dksJ18_checkIndex_0 17 rfl rfl)
theorem q59 : (Jvm.Cond.initialized "jdk/internal/util/Preconditions") ∈ lw_all := lw_g (lw_at lw_m1 24 rfl) rfl
theorem q488 : (Jvm.Cond.static ({ cls := "jdk/internal/util/Preconditions", name := "checkIndex", desc := "(IILjava/util/function/BiFunction;)I" } : Jvm.MethodName)) ∈ lw_all := lw_g (lw_at lw_m2 213 rfl) rfl
theorem q489 : (Jvm.Cond.code ({ cls := "jdk/internal/util/Preconditions", name := "checkIndex", desc := "(IILjava/util/function/BiFunction;)I" } : Jvm.MethodName) prog_65_method_11_code (3 : Nat) (Option.some Jvm.ClassFile.FieldType.int)) ∈ lw_all := lw_g (lw_at lw_m2 214 rfl) rfl
/-! java/lang/Number -/
set_option maxRecDepth 100000
def RJ19 : String := "java/lang/Number"
abbrev cJ19_init : ByteArray := prog_21_method_1_code
def yJ19_init : MethodName := ⟨RJ19, "<init>", "()V"⟩
theorem dJ19_init_0 : decode cJ19_init 0 = .ok (.aload_n 0, 1) := by decide +kernel
theorem dJ19_init_1 : decode cJ19_init 1 = .ok (.invokespecial 1, 3) := by decide +kernel
theorem dJ19_init_4 : decode cJ19_init 4 = .ok (.return_, 1) := by decide +kernel
theorem q61 : (Jvm.Cond.initialized "java/lang/Number") ∈ lw_all := lw_g (lw_at lw_m1 26 rfl) rfl
theorem q545 : (Jvm.Cond.instanceMethod ({ cls := "java/lang/Number", name := "<init>", desc := "()V" } : Jvm.MethodName)) ∈ lw_all := lw_g (lw_at lw_m3 30 rfl) rfl
theorem q546 : (Jvm.Cond.code ({ cls := "java/lang/Number", name := "<init>", desc := "()V" } : Jvm.MethodName) prog_21_method_1_code (1 : Nat) (Option.none : Option Jvm.ClassFile.FieldType)) ∈ lw_all := lw_g (lw_at lw_m3 31 rfl) rfl
theorem q547 : (Jvm.Cond.methodLink "java/lang/Number" (1 : Nat) ({ cls := "java/lang/Object", name := "<init>", desc := "()V" } : Jvm.MethodName)) ∈ lw_all := lw_g (lw_at lw_m3 32 rfl) rfl
/-! java/lang/Integer -/
set_option maxRecDepth 100000
def RJ20 : String := "java/lang/Integer"
def TJ20 : u_T := fun k => match k with
  | _ => ("java/lang/Integer", "value", "I", true)
def tyJ20 : Nat → FieldType := fun k => match k with
  | _ => .int
abbrev wsJ200 : List Cond := u_ws RJ20 TJ20 1
theorem nmJ20 : ∀ a, a < 1 → ∀ b, b < 1 → a ≠ b → (TJ20 a).2.1 ≠ (TJ20 b).2.1 := by decide +kernel
theorem tyJ20_ok : ∀ k, k < 1 → parseFieldDescriptor (TJ20 k).2.2.1 = some (tyJ20 k) := by decide +kernel
abbrev cJ20_valueOf : ByteArray := prog_17_method_22_code
def yJ20_valueOf : MethodName := ⟨RJ20, "valueOf", "(I)Ljava/lang/Integer;"⟩
def dkwJ20_valueOf_1 : List UInt8 := [187, 0, 1, 89, 26, 183, 0, 199, 176]
abbrev dktJ20_valueOf_1 : List UInt8 := dkwJ20_valueOf_1 ++ []
def dkwJ20_valueOf_0 : List UInt8 := [26, 16, 128, 161, 0, 20, 26, 178, 0, 191, 163, 0, 13, 178, 0, 195, 26, 17, 0, 128, 96, 50, 176]
abbrev dktJ20_valueOf_0 : List UInt8 := dkwJ20_valueOf_0 ++ dktJ20_valueOf_1
theorem dksJ20_valueOf_0 : cJ20_valueOf.data.toList.drop 0 = dktJ20_valueOf_0 := by decide +kernel
theorem dksJ20_valueOf_1 : cJ20_valueOf.data.toList.drop 23 = dktJ20_valueOf_1 := dk_seg dksJ20_valueOf_0 23 rfl rfl
theorem dJ20_valueOf_0 : decode cJ20_valueOf 0 = .ok (.iload_n 0, 1) := dk_26 (dk_at dksJ20_valueOf_0 0 rfl rfl)
theorem dJ20_valueOf_1 : decode cJ20_valueOf 1 = .ok (.bipush (-128), 2) := dk_16 128 (dk_at dksJ20_valueOf_0 1 rfl rfl)
theorem dJ20_valueOf_3 : decode cJ20_valueOf 3 = .ok (.if_icmp .lt 20, 3) := dk_161 0 20 (dk_at dksJ20_valueOf_0 3 rfl rfl)
theorem dJ20_valueOf_6 : decode cJ20_valueOf 6 = .ok (.iload_n 0, 1) := dk_26 (dk_at dksJ20_valueOf_0 6 rfl rfl)
theorem dJ20_valueOf_7 : decode cJ20_valueOf 7 = .ok (.getstatic 191, 3) := dk_178 0 191 (dk_at dksJ20_valueOf_0 7 rfl rfl)
theorem dJ20_valueOf_10 : decode cJ20_valueOf 10 = .ok (.if_icmp .gt 13, 3) := dk_163 0 13 (dk_at dksJ20_valueOf_0 10 rfl rfl)
theorem dJ20_valueOf_13 : decode cJ20_valueOf 13 = .ok (.getstatic 195, 3) := dk_178 0 195 (dk_at dksJ20_valueOf_0 13 rfl rfl)
theorem dJ20_valueOf_16 : decode cJ20_valueOf 16 = .ok (.iload_n 0, 1) := dk_26 (dk_at dksJ20_valueOf_0 16 rfl rfl)
theorem dJ20_valueOf_17 : decode cJ20_valueOf 17 = .ok (.sipush 128, 3) := dk_17 0 128 (dk_at dksJ20_valueOf_0 17 rfl rfl)
theorem dJ20_valueOf_20 : decode cJ20_valueOf 20 = .ok (.iadd, 1) := dk_96 (dk_at dksJ20_valueOf_0 20 rfl rfl)
theorem dJ20_valueOf_21 : decode cJ20_valueOf 21 = .ok (.aaload, 1) := dk_50 (dk_at dksJ20_valueOf_0 21 rfl rfl)
theorem dJ20_valueOf_22 : decode cJ20_valueOf 22 = .ok (.areturn, 1) := dk_176 (dk_at dksJ20_valueOf_0 22 rfl rfl)
theorem dJ20_valueOf_23 : decode cJ20_valueOf 23 = .ok (.new 1, 3) := dk_187 0 1 (dk_at dksJ20_valueOf_1 0 rfl rfl)
theorem dJ20_valueOf_26 : decode cJ20_valueOf 26 = .ok (.dup, 1) := dk_89 (dk_at dksJ20_valueOf_1 3 rfl rfl)
theorem dJ20_valueOf_27 : decode cJ20_valueOf 27 = .ok (.iload_n 0, 1) := dk_26 (dk_at dksJ20_valueOf_1 4 rfl rfl)
theorem dJ20_valueOf_28 : decode cJ20_valueOf 28 = .ok (.invokespecial 199, 3) := dk_183 0 199 (dk_at dksJ20_valueOf_1 5 rfl rfl)
theorem dJ20_valueOf_31 : decode cJ20_valueOf 31 = .ok (.areturn, 1) := dk_176 (dk_at dksJ20_valueOf_1 8 rfl rfl)
abbrev cJ20_init : ByteArray := prog_17_method_23_code
def yJ20_init : MethodName := ⟨RJ20, "<init>", "(I)V"⟩
def dkwJ20_init_0 : List UInt8 := [42, 183, 0, 202, 42, 27, 181, 0, 205, 177]
abbrev dktJ20_init_0 : List UInt8 := dkwJ20_init_0 ++ []
theorem dksJ20_init_0 : cJ20_init.data.toList.drop 0 = dktJ20_init_0 := by decide +kernel
theorem dJ20_init_0 : decode cJ20_init 0 = .ok (.aload_n 0, 1) := dk_42 (dk_at dksJ20_init_0 0 rfl rfl)
theorem dJ20_init_1 : decode cJ20_init 1 = .ok (.invokespecial 202, 3) := dk_183 0 202 (dk_at dksJ20_init_0 1 rfl rfl)
theorem dJ20_init_4 : decode cJ20_init 4 = .ok (.aload_n 0, 1) := dk_42 (dk_at dksJ20_init_0 4 rfl rfl)
theorem dJ20_init_5 : decode cJ20_init 5 = .ok (.iload_n 1, 1) := dk_27 (dk_at dksJ20_init_0 5 rfl rfl)
theorem dJ20_init_6 : decode cJ20_init 6 = .ok (.putfield 205, 3) := dk_181 0 205 (dk_at dksJ20_init_0 6 rfl rfl)
theorem dJ20_init_9 : decode cJ20_init 9 = .ok (.return_, 1) := dk_177 (dk_at dksJ20_init_0 9 rfl rfl)
abbrev cJ20_compareTo : ByteArray := prog_17_method_63_code
def yJ20_compareTo : MethodName := ⟨RJ20, "compareTo", "(Ljava/lang/Object;)I"⟩
def dkwJ20_compareTo_0 : List UInt8 := [42, 43, 192, 0, 1, 182, 1, 28, 172]
abbrev dktJ20_compareTo_0 : List UInt8 := dkwJ20_compareTo_0 ++ []
theorem dksJ20_compareTo_0 : cJ20_compareTo.data.toList.drop 0 = dktJ20_compareTo_0 := by decide +kernel
theorem dJ20_compareTo_0 : decode cJ20_compareTo 0 = .ok (.aload_n 0, 1) := dk_42 (dk_at dksJ20_compareTo_0 0 rfl rfl)
theorem dJ20_compareTo_1 : decode cJ20_compareTo 1 = .ok (.aload_n 1, 1) := dk_43 (dk_at dksJ20_compareTo_0 1 rfl rfl)
theorem dJ20_compareTo_2 : decode cJ20_compareTo 2 = .ok (.checkcast 1, 3) := dk_192 0 1 (dk_at dksJ20_compareTo_0 2 rfl rfl)
theorem dJ20_compareTo_5 : decode cJ20_compareTo 5 = .ok (.invokevirtual 284, 3) := dk_182 1 28 (dk_at dksJ20_compareTo_0 5 rfl rfl)
theorem dJ20_compareTo_8 : decode cJ20_compareTo 8 = .ok (.ireturn, 1) := dk_172 (dk_at dksJ20_compareTo_0 8 rfl rfl)
abbrev cJ20_compareTo_2 : ByteArray := prog_17_method_39_code
def yJ20_compareTo_2 : MethodName := ⟨RJ20, "compareTo", "(Ljava/lang/Integer;)I"⟩
def dkwJ20_compareTo_2_0 : List UInt8 := [42, 180, 0, 205, 43, 180, 0, 205, 184, 1, 3, 172]
abbrev dktJ20_compareTo_2_0 : List UInt8 := dkwJ20_compareTo_2_0 ++ []
theorem dksJ20_compareTo_2_0 : cJ20_compareTo_2.data.toList.drop 0 = dktJ20_compareTo_2_0 := by decide +kernel
theorem dJ20_compareTo_2_0 : decode cJ20_compareTo_2 0 = .ok (.aload_n 0, 1) := dk_42 (dk_at dksJ20_compareTo_2_0 0 rfl rfl)
theorem dJ20_compareTo_2_1 : decode cJ20_compareTo_2 1 = .ok (.getfield 205, 3) := dk_180 0 205 (dk_at dksJ20_compareTo_2_0 1 rfl rfl)
theorem dJ20_compareTo_2_4 : decode cJ20_compareTo_2 4 = .ok (.aload_n 1, 1) := dk_43 (dk_at dksJ20_compareTo_2_0 4 rfl rfl)
theorem dJ20_compareTo_2_5 : decode cJ20_compareTo_2 5 = .ok (.getfield 205, 3) := dk_180 0 205 (dk_at dksJ20_compareTo_2_0 5 rfl rfl)
theorem dJ20_compareTo_2_8 : decode cJ20_compareTo_2 8 = .ok (.invokestatic 259, 3) := dk_184 1 3 (dk_at dksJ20_compareTo_2_0 8 rfl rfl)
theorem dJ20_compareTo_2_11 : decode cJ20_compareTo_2 11 = .ok (.ireturn, 1) := dk_172 (dk_at dksJ20_compareTo_2_0 11 rfl rfl)
abbrev cJ20_compare : ByteArray := prog_17_method_40_code
def yJ20_compare : MethodName := ⟨RJ20, "compare", "(II)I"⟩
def dkwJ20_compare_0 : List UInt8 := [26, 27, 162, 0, 7, 2, 167, 0, 13, 26, 27, 160, 0, 7, 3, 167, 0, 4, 4, 172]
abbrev dktJ20_compare_0 : List UInt8 := dkwJ20_compare_0 ++ []
theorem dksJ20_compare_0 : cJ20_compare.data.toList.drop 0 = dktJ20_compare_0 := by decide +kernel
theorem dJ20_compare_0 : decode cJ20_compare 0 = .ok (.iload_n 0, 1) := dk_26 (dk_at dksJ20_compare_0 0 rfl rfl)
theorem dJ20_compare_1 : decode cJ20_compare 1 = .ok (.iload_n 1, 1) := dk_27 (dk_at dksJ20_compare_0 1 rfl rfl)
theorem dJ20_compare_2 : decode cJ20_compare 2 = .ok (.if_icmp .ge 7, 3) := dk_162 0 7 (dk_at dksJ20_compare_0 2 rfl rfl)
theorem dJ20_compare_5 : decode cJ20_compare 5 = .ok (.iconst (-1), 1) := dk_2 (dk_at dksJ20_compare_0 5 rfl rfl)
theorem dJ20_compare_6 : decode cJ20_compare 6 = .ok (.goto 13, 3) := dk_167 0 13 (dk_at dksJ20_compare_0 6 rfl rfl)
theorem dJ20_compare_9 : decode cJ20_compare 9 = .ok (.iload_n 0, 1) := dk_26 (dk_at dksJ20_compare_0 9 rfl rfl)
theorem dJ20_compare_10 : decode cJ20_compare 10 = .ok (.iload_n 1, 1) := dk_27 (dk_at dksJ20_compare_0 10 rfl rfl)
theorem dJ20_compare_11 : decode cJ20_compare 11 = .ok (.if_icmp .ne 7, 3) := dk_160 0 7 (dk_at dksJ20_compare_0 11 rfl rfl)
theorem dJ20_compare_14 : decode cJ20_compare 14 = .ok (.iconst 0, 1) := dk_3 (dk_at dksJ20_compare_0 14 rfl rfl)
theorem dJ20_compare_15 : decode cJ20_compare 15 = .ok (.goto 4, 3) := dk_167 0 4 (dk_at dksJ20_compare_0 15 rfl rfl)
theorem dJ20_compare_18 : decode cJ20_compare 18 = .ok (.iconst 1, 1) := dk_4 (dk_at dksJ20_compare_0 18 rfl rfl)
theorem dJ20_compare_19 : decode cJ20_compare 19 = .ok (.ireturn, 1) := dk_172 (dk_at dksJ20_compare_0 19 rfl rfl)
abbrev cJ20_intValue : ByteArray := prog_17_method_27_code
def yJ20_intValue : MethodName := ⟨RJ20, "intValue", "()I"⟩
theorem dJ20_intValue_0 : decode cJ20_intValue 0 = .ok (.aload_n 0, 1) := by decide +kernel
theorem dJ20_intValue_1 : decode cJ20_intValue 1 = .ok (.getfield 205, 3) := by decide +kernel
theorem dJ20_intValue_4 : decode cJ20_intValue 4 = .ok (.ireturn, 1) := by decide +kernel
theorem q62 : (Jvm.Cond.initialized "java/lang/Integer") ∈ lw_all := lw_g (lw_at lw_m1 27 rfl) rfl
theorem q351 : (Jvm.Cond.selects "java/lang/Integer" ({ cls := "java/lang/Object", name := "getClass", desc := "()Ljava/lang/Class;" } : Jvm.MethodName) ({ cls := "java/lang/Object", name := "getClass", desc := "()Ljava/lang/Class;" } : Jvm.MethodName)) ∈ lw_all := lw_g (lw_at lw_m2 76 rfl) rfl
theorem q533 : (Jvm.Cond.static ({ cls := "java/lang/Integer", name := "valueOf", desc := "(I)Ljava/lang/Integer;" } : Jvm.MethodName)) ∈ lw_all := lw_g (lw_at lw_m3 18 rfl) rfl
theorem q534 : (Jvm.Cond.code ({ cls := "java/lang/Integer", name := "valueOf", desc := "(I)Ljava/lang/Integer;" } : Jvm.MethodName) prog_17_method_22_code (1 : Nat) (Option.some (Jvm.ClassFile.FieldType.object "java/lang/Integer"))) ∈ lw_all := lw_g (lw_at lw_m3 19 rfl) rfl
theorem q535 : (Jvm.Cond.fieldLink "java/lang/Integer" (191 : Nat) "java/lang/Integer$IntegerCache" "high" "I") ∈ lw_all := lw_g (lw_at lw_m3 20 rfl) rfl
theorem q537 : (Jvm.Cond.fieldLink "java/lang/Integer" (195 : Nat) "java/lang/Integer$IntegerCache" "cache" "[Ljava/lang/Integer;") ∈ lw_all := lw_g (lw_at lw_m3 22 rfl) rfl
theorem q539 : (Jvm.Cond.classLink "java/lang/Integer" (1 : Nat) "java/lang/Integer") ∈ lw_all := lw_g (lw_at lw_m3 24 rfl) rfl
theorem q540 : (Jvm.Cond.instantiable "java/lang/Integer" (1 : Nat)) ∈ lw_all := lw_g (lw_at lw_m3 25 rfl) rfl
theorem q541 : (Jvm.Cond.methodLink "java/lang/Integer" (199 : Nat) ({ cls := "java/lang/Integer", name := "<init>", desc := "(I)V" } : Jvm.MethodName)) ∈ lw_all := lw_g (lw_at lw_m3 26 rfl) rfl
theorem q542 : (Jvm.Cond.instanceMethod ({ cls := "java/lang/Integer", name := "<init>", desc := "(I)V" } : Jvm.MethodName)) ∈ lw_all := lw_g (lw_at lw_m3 27 rfl) rfl
theorem q543 : (Jvm.Cond.code ({ cls := "java/lang/Integer", name := "<init>", desc := "(I)V" } : Jvm.MethodName) prog_17_method_23_code (2 : Nat) (Option.none : Option Jvm.ClassFile.FieldType)) ∈ lw_all := lw_g (lw_at lw_m3 28 rfl) rfl
theorem q544 : (Jvm.Cond.methodLink "java/lang/Integer" (202 : Nat) ({ cls := "java/lang/Number", name := "<init>", desc := "()V" } : Jvm.MethodName)) ∈ lw_all := lw_g (lw_at lw_m3 29 rfl) rfl
theorem q548 : (Jvm.Cond.fieldLink "java/lang/Integer" (205 : Nat) "java/lang/Integer" "value" "I") ∈ lw_all := lw_g (lw_at lw_m3 33 rfl) rfl
theorem q549 : (Jvm.Cond.laysFinal "java/lang/Integer" "java/lang/Integer" "value" "I") ∈ lw_all := lw_g (lw_at lw_m3 34 rfl) rfl
theorem q550 : (Jvm.Cond.soleField "java/lang/Integer" "value") ∈ lw_all := lw_g (lw_at lw_m3 35 rfl) rfl
theorem q551 : (Jvm.Cond.superclass "java/lang/Integer" "java/lang/Number") ∈ lw_all := lw_g (lw_at lw_m3 36 rfl) rfl
theorem q573 : (Jvm.Cond.castable "java/lang/Integer" "java/lang/Comparable") ∈ lw_tbl := lw_at lw_m3 58 rfl
theorem q574 : (Jvm.Cond.selects "java/lang/Integer" ({ cls := "java/lang/Comparable", name := "compareTo", desc := "(Ljava/lang/Object;)I" } : Jvm.MethodName) ({ cls := "java/lang/Integer", name := "compareTo", desc := "(Ljava/lang/Object;)I" } : Jvm.MethodName)) ∈ lw_all := lw_g (lw_at lw_m3 59 rfl) rfl
theorem q575 : (Jvm.Cond.unhidden "java/lang/Integer" "compareTo" "(Ljava/lang/Object;)I") ∈ lw_tbl := lw_at lw_m3 60 rfl
theorem q576 : (Jvm.Cond.instanceMethod ({ cls := "java/lang/Integer", name := "compareTo", desc := "(Ljava/lang/Object;)I" } : Jvm.MethodName)) ∈ lw_all := lw_g (lw_at lw_m3 61 rfl) rfl
theorem q577 : (Jvm.Cond.publicMethod ({ cls := "java/lang/Integer", name := "compareTo", desc := "(Ljava/lang/Object;)I" } : Jvm.MethodName)) ∈ lw_tbl := lw_at lw_m3 62 rfl
theorem q578 : (Jvm.Cond.code ({ cls := "java/lang/Integer", name := "compareTo", desc := "(Ljava/lang/Object;)I" } : Jvm.MethodName) prog_17_method_63_code (2 : Nat) (Option.some Jvm.ClassFile.FieldType.int)) ∈ lw_all := lw_g (lw_at lw_m3 63 rfl) rfl
theorem q579 : (Jvm.Cond.methodLink "java/lang/Integer" (284 : Nat) ({ cls := "java/lang/Integer", name := "compareTo", desc := "(Ljava/lang/Integer;)I" } : Jvm.MethodName)) ∈ lw_all := lw_g (lw_at lw_m3 64 rfl) rfl
theorem q580 : (Jvm.Cond.instanceMethod ({ cls := "java/lang/Integer", name := "compareTo", desc := "(Ljava/lang/Integer;)I" } : Jvm.MethodName)) ∈ lw_all := lw_g (lw_at lw_m3 65 rfl) rfl
theorem q581 : (Jvm.Cond.selects "java/lang/Integer" ({ cls := "java/lang/Integer", name := "compareTo", desc := "(Ljava/lang/Integer;)I" } : Jvm.MethodName) ({ cls := "java/lang/Integer", name := "compareTo", desc := "(Ljava/lang/Integer;)I" } : Jvm.MethodName)) ∈ lw_all := lw_g (lw_at lw_m3 66 rfl) rfl
theorem q582 : (Jvm.Cond.code ({ cls := "java/lang/Integer", name := "compareTo", desc := "(Ljava/lang/Integer;)I" } : Jvm.MethodName) prog_17_method_39_code (2 : Nat) (Option.some Jvm.ClassFile.FieldType.int)) ∈ lw_all := lw_g (lw_at lw_m3 67 rfl) rfl
theorem q583 : (Jvm.Cond.methodLink "java/lang/Integer" (259 : Nat) ({ cls := "java/lang/Integer", name := "compare", desc := "(II)I" } : Jvm.MethodName)) ∈ lw_all := lw_g (lw_at lw_m3 68 rfl) rfl
theorem q584 : (Jvm.Cond.static ({ cls := "java/lang/Integer", name := "compare", desc := "(II)I" } : Jvm.MethodName)) ∈ lw_all := lw_g (lw_at lw_m3 69 rfl) rfl
theorem q585 : (Jvm.Cond.code ({ cls := "java/lang/Integer", name := "compare", desc := "(II)I" } : Jvm.MethodName) prog_17_method_40_code (2 : Nat) (Option.some Jvm.ClassFile.FieldType.int)) ∈ lw_all := lw_g (lw_at lw_m3 70 rfl) rfl
theorem q1234 : (Jvm.Cond.instanceMethod ({ cls := "java/lang/Integer", name := "intValue", desc := "()I" } : Jvm.MethodName)) ∈ lw_all := lw_g (lw_at lw_m5 239 rfl) rfl
theorem q1235 : (Jvm.Cond.selects "java/lang/Integer" ({ cls := "java/lang/Integer", name := "intValue", desc := "()I" } : Jvm.MethodName) ({ cls := "java/lang/Integer", name := "intValue", desc := "()I" } : Jvm.MethodName)) ∈ lw_all := lw_g (lw_at lw_m6 0 rfl) rfl
theorem q1236 : (Jvm.Cond.code ({ cls := "java/lang/Integer", name := "intValue", desc := "()I" } : Jvm.MethodName) prog_17_method_27_code (1 : Nat) (Option.some Jvm.ClassFile.FieldType.int)) ∈ lw_all := lw_g (lw_at lw_m6 1 rfl) rfl
theorem q1520 : (Jvm.Cond.castable "java/lang/Integer" "java/lang/Object") ∈ lw_tbl := lw_at lw_m7 45 rfl
theorem in_J20 : ∀ w ∈ wsJ200, w ∈ lw_all := lw_in wsJ200 [549] (by decide +kernel) (by decide +kernel)
/-! java/util/TreeMap$Entry -/
set_option maxRecDepth 100000
def RJ21 : String := "java/util/TreeMap$Entry"
def TJ21 : u_T := fun k => match k with
  | 0 => ("java/util/TreeMap$Entry", "key", "Ljava/lang/Object;", false)
  | 1 => ("java/util/TreeMap$Entry", "value", "Ljava/lang/Object;", false)
  | 2 => ("java/util/TreeMap$Entry", "left", "Ljava/util/TreeMap$Entry;", false)
  | 3 => ("java/util/TreeMap$Entry", "right", "Ljava/util/TreeMap$Entry;", false)
  | 4 => ("java/util/TreeMap$Entry", "parent", "Ljava/util/TreeMap$Entry;", false)
  | _ => ("java/util/TreeMap$Entry", "color", "Z", false)
def tyJ21 : Nat → FieldType := fun k => match k with
  | 0 => .object "java/lang/Object"
  | 1 => .object "java/lang/Object"
  | 2 => .object "java/util/TreeMap$Entry"
  | 3 => .object "java/util/TreeMap$Entry"
  | 4 => .object "java/util/TreeMap$Entry"
  | _ => .boolean
abbrev wsJ210 : List Cond := u_ws RJ21 TJ21 6
theorem nmJ21 : ∀ a, a < 6 → ∀ b, b < 6 → a ≠ b → (TJ21 a).2.1 ≠ (TJ21 b).2.1 := by decide +kernel
theorem tyJ21_ok : ∀ k, k < 6 → parseFieldDescriptor (TJ21 k).2.2.1 = some (tyJ21 k) := by decide +kernel
abbrev cJ21_init : ByteArray := prog_54_method_1_code
def yJ21_init : MethodName := ⟨RJ21, "<init>", "(Ljava/lang/Object;Ljava/lang/Object;Ljava/util/TreeMap$Entry;)V"⟩
def dkwJ21_init_1 : List UInt8 := [177]
abbrev dktJ21_init_1 : List UInt8 := dkwJ21_init_1 ++ []
def dkwJ21_init_0 : List UInt8 := [42, 183, 0, 3, 42, 4, 181, 0, 9, 42, 43, 181, 0, 15, 42, 44, 181, 0, 19, 42, 45, 181, 0, 22]
abbrev dktJ21_init_0 : List UInt8 := dkwJ21_init_0 ++ dktJ21_init_1
theorem dksJ21_init_0 : cJ21_init.data.toList.drop 0 = dktJ21_init_0 := by decide +kernel
theorem dksJ21_init_1 : cJ21_init.data.toList.drop 24 = dktJ21_init_1 := dk_seg dksJ21_init_0 24 rfl rfl
theorem dJ21_init_0 : decode cJ21_init 0 = .ok (.aload_n 0, 1) := dk_42 (dk_at dksJ21_init_0 0 rfl rfl)
theorem dJ21_init_1 : decode cJ21_init 1 = .ok (.invokespecial 3, 3) := dk_183 0 3 (dk_at dksJ21_init_0 1 rfl rfl)
theorem dJ21_init_4 : decode cJ21_init 4 = .ok (.aload_n 0, 1) := dk_42 (dk_at dksJ21_init_0 4 rfl rfl)
theorem dJ21_init_5 : decode cJ21_init 5 = .ok (.iconst 1, 1) := dk_4 (dk_at dksJ21_init_0 5 rfl rfl)
theorem dJ21_init_6 : decode cJ21_init 6 = .ok (.putfield 9, 3) := dk_181 0 9 (dk_at dksJ21_init_0 6 rfl rfl)
theorem dJ21_init_9 : decode cJ21_init 9 = .ok (.aload_n 0, 1) := dk_42 (dk_at dksJ21_init_0 9 rfl rfl)
theorem dJ21_init_10 : decode cJ21_init 10 = .ok (.aload_n 1, 1) := dk_43 (dk_at dksJ21_init_0 10 rfl rfl)
theorem dJ21_init_11 : decode cJ21_init 11 = .ok (.putfield 15, 3) := dk_181 0 15 (dk_at dksJ21_init_0 11 rfl rfl)
theorem dJ21_init_14 : decode cJ21_init 14 = .ok (.aload_n 0, 1) := dk_42 (dk_at dksJ21_init_0 14 rfl rfl)
theorem dJ21_init_15 : decode cJ21_init 15 = .ok (.aload_n 2, 1) := dk_44 (dk_at dksJ21_init_0 15 rfl rfl)
theorem dJ21_init_16 : decode cJ21_init 16 = .ok (.putfield 19, 3) := dk_181 0 19 (dk_at dksJ21_init_0 16 rfl rfl)
theorem dJ21_init_19 : decode cJ21_init 19 = .ok (.aload_n 0, 1) := dk_42 (dk_at dksJ21_init_0 19 rfl rfl)
theorem dJ21_init_20 : decode cJ21_init 20 = .ok (.aload_n 3, 1) := dk_45 (dk_at dksJ21_init_0 20 rfl rfl)
theorem dJ21_init_21 : decode cJ21_init 21 = .ok (.putfield 22, 3) := dk_181 0 22 (dk_at dksJ21_init_0 21 rfl rfl)
theorem dJ21_init_24 : decode cJ21_init 24 = .ok (.return_, 1) := dk_177 (dk_at dksJ21_init_1 0 rfl rfl)
abbrev cJ21_getValue : ByteArray := prog_54_method_3_code
def yJ21_getValue : MethodName := ⟨RJ21, "getValue", "()Ljava/lang/Object;"⟩
theorem dJ21_getValue_0 : decode cJ21_getValue 0 = .ok (.aload_n 0, 1) := by decide +kernel
theorem dJ21_getValue_1 : decode cJ21_getValue 1 = .ok (.getfield 19, 3) := by decide +kernel
theorem dJ21_getValue_4 : decode cJ21_getValue 4 = .ok (.areturn, 1) := by decide +kernel
theorem q64 : (Jvm.Cond.initialized "java/util/TreeMap$Entry") ∈ lw_all := lw_g (lw_at lw_m1 29 rfl) rfl
theorem q359 : (Jvm.Cond.selects "java/util/TreeMap$Entry" ({ cls := "java/lang/Object", name := "getClass", desc := "()Ljava/lang/Class;" } : Jvm.MethodName) ({ cls := "java/lang/Object", name := "getClass", desc := "()Ljava/lang/Class;" } : Jvm.MethodName)) ∈ lw_all := lw_g (lw_at lw_m2 84 rfl) rfl
theorem q608 : (Jvm.Cond.instantiable "java/util/TreeMap$Entry" (6 : Nat)) ∈ lw_all := lw_g (lw_at lw_m3 93 rfl) rfl
theorem q610 : (Jvm.Cond.instanceMethod ({ cls := "java/util/TreeMap$Entry", name := "<init>", desc := "(Ljava/lang/Object;Ljava/lang/Object;Ljava/util/TreeMap$Entry;)V" } : Jvm.MethodName)) ∈ lw_all := lw_g (lw_at lw_m3 95 rfl) rfl
theorem q611 : (Jvm.Cond.code ({ cls := "java/util/TreeMap$Entry", name := "<init>", desc := "(Ljava/lang/Object;Ljava/lang/Object;Ljava/util/TreeMap$Entry;)V" } : Jvm.MethodName) prog_54_method_1_code (4 : Nat) (Option.none : Option Jvm.ClassFile.FieldType)) ∈ lw_all := lw_g (lw_at lw_m3 96 rfl) rfl
theorem q612 : (Jvm.Cond.methodLink "java/util/TreeMap$Entry" (3 : Nat) ({ cls := "java/lang/Object", name := "<init>", desc := "()V" } : Jvm.MethodName)) ∈ lw_all := lw_g (lw_at lw_m3 97 rfl) rfl
theorem q613 : (Jvm.Cond.fieldLink "java/util/TreeMap$Entry" (15 : Nat) "java/util/TreeMap$Entry" "key" "Ljava/lang/Object;") ∈ lw_all := lw_g (lw_at lw_m3 98 rfl) rfl
theorem q617 : (Jvm.Cond.fieldLink "java/util/TreeMap$Entry" (19 : Nat) "java/util/TreeMap$Entry" "value" "Ljava/lang/Object;") ∈ lw_all := lw_g (lw_at lw_m3 102 rfl) rfl
theorem q622 : (Jvm.Cond.fieldLink "java/util/TreeMap$Entry" (22 : Nat) "java/util/TreeMap$Entry" "parent" "Ljava/util/TreeMap$Entry;") ∈ lw_all := lw_g (lw_at lw_m3 107 rfl) rfl
theorem q624 : (Jvm.Cond.fieldLink "java/util/TreeMap$Entry" (9 : Nat) "java/util/TreeMap$Entry" "color" "Z") ∈ lw_all := lw_g (lw_at lw_m3 109 rfl) rfl
theorem q626 : (Jvm.Cond.lays "java/util/TreeMap$Entry" "java/util/TreeMap$Entry" "key" "Ljava/lang/Object;") ∈ lw_all := lw_g (lw_at lw_m3 111 rfl) rfl
theorem q627 : (Jvm.Cond.soleField "java/util/TreeMap$Entry" "key") ∈ lw_all := lw_g (lw_at lw_m3 112 rfl) rfl
theorem q628 : (Jvm.Cond.lays "java/util/TreeMap$Entry" "java/util/TreeMap$Entry" "value" "Ljava/lang/Object;") ∈ lw_all := lw_g (lw_at lw_m3 113 rfl) rfl
theorem q629 : (Jvm.Cond.soleField "java/util/TreeMap$Entry" "value") ∈ lw_all := lw_g (lw_at lw_m3 114 rfl) rfl
theorem q630 : (Jvm.Cond.lays "java/util/TreeMap$Entry" "java/util/TreeMap$Entry" "left" "Ljava/util/TreeMap$Entry;") ∈ lw_all := lw_g (lw_at lw_m3 115 rfl) rfl
theorem q631 : (Jvm.Cond.soleField "java/util/TreeMap$Entry" "left") ∈ lw_all := lw_g (lw_at lw_m3 116 rfl) rfl
theorem q632 : (Jvm.Cond.lays "java/util/TreeMap$Entry" "java/util/TreeMap$Entry" "right" "Ljava/util/TreeMap$Entry;") ∈ lw_all := lw_g (lw_at lw_m3 117 rfl) rfl
theorem q633 : (Jvm.Cond.soleField "java/util/TreeMap$Entry" "right") ∈ lw_all := lw_g (lw_at lw_m3 118 rfl) rfl
theorem q634 : (Jvm.Cond.lays "java/util/TreeMap$Entry" "java/util/TreeMap$Entry" "parent" "Ljava/util/TreeMap$Entry;") ∈ lw_all := lw_g (lw_at lw_m3 119 rfl) rfl
theorem q635 : (Jvm.Cond.soleField "java/util/TreeMap$Entry" "parent") ∈ lw_all := lw_g (lw_at lw_m3 120 rfl) rfl
theorem q636 : (Jvm.Cond.lays "java/util/TreeMap$Entry" "java/util/TreeMap$Entry" "color" "Z") ∈ lw_all := lw_g (lw_at lw_m3 121 rfl) rfl
theorem q637 : (Jvm.Cond.soleField "java/util/TreeMap$Entry" "color") ∈ lw_all := lw_g (lw_at lw_m3 122 rfl) rfl
theorem q638 : (Jvm.Cond.superclass "java/util/TreeMap$Entry" "java/lang/Object") ∈ lw_all := lw_g (lw_at lw_m3 123 rfl) rfl
theorem q1157 : (Jvm.Cond.castable "java/util/TreeMap$Entry" "java/util/Map$Entry") ∈ lw_tbl := lw_at lw_m5 162 rfl
theorem q1158 : (Jvm.Cond.selects "java/util/TreeMap$Entry" ({ cls := "java/util/Map$Entry", name := "getValue", desc := "()Ljava/lang/Object;" } : Jvm.MethodName) ({ cls := "java/util/TreeMap$Entry", name := "getValue", desc := "()Ljava/lang/Object;" } : Jvm.MethodName)) ∈ lw_all := lw_g (lw_at lw_m5 163 rfl) rfl
theorem q1159 : (Jvm.Cond.unhidden "java/util/TreeMap$Entry" "getValue" "()Ljava/lang/Object;") ∈ lw_tbl := lw_at lw_m5 164 rfl
theorem q1160 : (Jvm.Cond.instanceMethod ({ cls := "java/util/TreeMap$Entry", name := "getValue", desc := "()Ljava/lang/Object;" } : Jvm.MethodName)) ∈ lw_all := lw_g (lw_at lw_m5 165 rfl) rfl
theorem q1161 : (Jvm.Cond.publicMethod ({ cls := "java/util/TreeMap$Entry", name := "getValue", desc := "()Ljava/lang/Object;" } : Jvm.MethodName)) ∈ lw_tbl := lw_at lw_m5 166 rfl
theorem q1162 : (Jvm.Cond.code ({ cls := "java/util/TreeMap$Entry", name := "getValue", desc := "()Ljava/lang/Object;" } : Jvm.MethodName) prog_54_method_3_code (1 : Nat) (Option.some (Jvm.ClassFile.FieldType.object "java/lang/Object"))) ∈ lw_all := lw_g (lw_at lw_m5 167 rfl) rfl
theorem q1521 : (Jvm.Cond.castable "java/util/TreeMap$Entry" "java/lang/Object") ∈ lw_tbl := lw_at lw_m7 46 rfl
theorem in_J21 : ∀ w ∈ wsJ210, w ∈ lw_all := lw_in wsJ210 [626, 628, 630, 632, 634, 636] (by decide +kernel) (by decide +kernel)
/-! java/util/TreeMap$NavigableSubMap -/
set_option maxRecDepth 100000
def RJ22 : String := "java/util/TreeMap$NavigableSubMap"
abbrev cJ22_init : ByteArray := prog_57_method_1_code
def yJ22_init : MethodName := ⟨RJ22, "<init>", "(Ljava/util/TreeMap;ZLjava/lang/Object;ZZLjava/lang/Object;Z)V"⟩
def dkwJ22_init_4 : List UInt8 := [181, 0, 43, 177]
abbrev dktJ22_init_4 : List UInt8 := dkwJ22_init_4 ++ []
def dkwJ22_init_3 : List UInt8 := [181, 0, 30, 42, 21, 4, 181, 0, 34, 42, 21, 5, 181, 0, 37, 42, 25, 6, 181, 0, 40, 42, 21, 7]
abbrev dktJ22_init_3 : List UInt8 := dkwJ22_init_3 ++ dktJ22_init_4
def dkwJ22_init_2 : List UInt8 := [154, 0, 12, 43, 25, 6, 25, 6, 182, 0, 7, 87, 42, 43, 181, 0, 20, 42, 28, 181, 0, 26, 42, 45]
abbrev dktJ22_init_2 : List UInt8 := dkwJ22_init_2 ++ dktJ22_init_3
def dkwJ22_init_1 : List UInt8 := [187, 0, 13, 89, 18, 15, 183, 0, 17, 191, 28, 154, 0, 10, 43, 45, 45, 182, 0, 7, 87, 21, 5]
abbrev dktJ22_init_1 : List UInt8 := dkwJ22_init_1 ++ dktJ22_init_2
def dkwJ22_init_0 : List UInt8 := [42, 183, 0, 1, 28, 154, 0, 28, 21, 5, 154, 0, 23, 43, 45, 25, 6, 182, 0, 7, 158, 0, 38]
abbrev dktJ22_init_0 : List UInt8 := dkwJ22_init_0 ++ dktJ22_init_1
theorem dksJ22_init_0 : cJ22_init.data.toList.drop 0 = dktJ22_init_0 := by decide +kernel
theorem dksJ22_init_1 : cJ22_init.data.toList.drop 23 = dktJ22_init_1 := dk_seg dksJ22_init_0 23 rfl rfl
theorem dksJ22_init_2 : cJ22_init.data.toList.drop 46 = dktJ22_init_2 := dk_seg dksJ22_init_1 23 rfl rfl
theorem dksJ22_init_3 : cJ22_init.data.toList.drop 70 = dktJ22_init_3 := dk_seg dksJ22_init_2 24 rfl rfl
theorem dksJ22_init_4 : cJ22_init.data.toList.drop 94 = dktJ22_init_4 := dk_seg dksJ22_init_3 24 rfl rfl
theorem dJ22_init_0 : decode cJ22_init 0 = .ok (.aload_n 0, 1) := dk_42 (dk_at dksJ22_init_0 0 rfl rfl)
theorem dJ22_init_1 : decode cJ22_init 1 = .ok (.invokespecial 1, 3) := dk_183 0 1 (dk_at dksJ22_init_0 1 rfl rfl)
theorem dJ22_init_4 : decode cJ22_init 4 = .ok (.iload_n 2, 1) := dk_28 (dk_at dksJ22_init_0 4 rfl rfl)
theorem dJ22_init_5 : decode cJ22_init 5 = .ok (.ifCond .ne 28, 3) := dk_154 0 28 (dk_at dksJ22_init_0 5 rfl rfl)
theorem dJ22_init_8 : decode cJ22_init 8 = .ok (.iload 5, 2) := dk_21 5 (dk_at dksJ22_init_0 8 rfl rfl)
theorem dJ22_init_10 : decode cJ22_init 10 = .ok (.ifCond .ne 23, 3) := dk_154 0 23 (dk_at dksJ22_init_0 10 rfl rfl)
theorem dJ22_init_13 : decode cJ22_init 13 = .ok (.aload_n 1, 1) := dk_43 (dk_at dksJ22_init_0 13 rfl rfl)
theorem dJ22_init_14 : decode cJ22_init 14 = .ok (.aload_n 3, 1) := dk_45 (dk_at dksJ22_init_0 14 rfl rfl)
theorem dJ22_init_15 : decode cJ22_init 15 = .ok (.aload 6, 2) := dk_25 6 (dk_at dksJ22_init_0 15 rfl rfl)
theorem dJ22_init_17 : decode cJ22_init 17 = .ok (.invokevirtual 7, 3) := dk_182 0 7 (dk_at dksJ22_init_0 17 rfl rfl)
theorem dJ22_init_20 : decode cJ22_init 20 = .ok (.ifCond .le 38, 3) := dk_158 0 38 (dk_at dksJ22_init_0 20 rfl rfl)
theorem dJ22_init_23 : decode cJ22_init 23 = .ok (.new 13, 3) := dk_187 0 13 (dk_at dksJ22_init_1 0 rfl rfl)
theorem dJ22_init_26 : decode cJ22_init 26 = .ok (.dup, 1) := dk_89 (dk_at dksJ22_init_1 3 rfl rfl)
theorem dJ22_init_27 : decode cJ22_init 27 = .ok (.ldc 15, 2) := dk_18 15 (dk_at dksJ22_init_1 4 rfl rfl)
theorem dJ22_init_29 : decode cJ22_init 29 = .ok (.invokespecial 17, 3) := dk_183 0 17 (dk_at dksJ22_init_1 6 rfl rfl)
theorem dJ22_init_32 : decode cJ22_init 32 = .ok (.athrow, 1) := dk_191 (dk_at dksJ22_init_1 9 rfl rfl)
theorem dJ22_init_33 : decode cJ22_init 33 = .ok (.iload_n 2, 1) := dk_28 (dk_at dksJ22_init_1 10 rfl rfl)
theorem dJ22_init_34 : decode cJ22_init 34 = .ok (.ifCond .ne 10, 3) := dk_154 0 10 (dk_at dksJ22_init_1 11 rfl rfl)
theorem dJ22_init_37 : decode cJ22_init 37 = .ok (.aload_n 1, 1) := dk_43 (dk_at dksJ22_init_1 14 rfl rfl)
theorem dJ22_init_38 : decode cJ22_init 38 = .ok (.aload_n 3, 1) := dk_45 (dk_at dksJ22_init_1 15 rfl rfl)
theorem dJ22_init_39 : decode cJ22_init 39 = .ok (.aload_n 3, 1) := dk_45 (dk_at dksJ22_init_1 16 rfl rfl)
theorem dJ22_init_40 : decode cJ22_init 40 = .ok (.invokevirtual 7, 3) := dk_182 0 7 (dk_at dksJ22_init_1 17 rfl rfl)
theorem dJ22_init_43 : decode cJ22_init 43 = .ok (.pop, 1) := dk_87 (dk_at dksJ22_init_1 20 rfl rfl)
theorem dJ22_init_44 : decode cJ22_init 44 = .ok (.iload 5, 2) := dk_21 5 (dk_at dksJ22_init_1 21 rfl rfl)
theorem dJ22_init_46 : decode cJ22_init 46 = .ok (.ifCond .ne 12, 3) := dk_154 0 12 (dk_at dksJ22_init_2 0 rfl rfl)
theorem dJ22_init_49 : decode cJ22_init 49 = .ok (.aload_n 1, 1) := dk_43 (dk_at dksJ22_init_2 3 rfl rfl)
theorem dJ22_init_50 : decode cJ22_init 50 = .ok (.aload 6, 2) := dk_25 6 (dk_at dksJ22_init_2 4 rfl rfl)
theorem dJ22_init_52 : decode cJ22_init 52 = .ok (.aload 6, 2) := dk_25 6 (dk_at dksJ22_init_2 6 rfl rfl)
theorem dJ22_init_54 : decode cJ22_init 54 = .ok (.invokevirtual 7, 3) := dk_182 0 7 (dk_at dksJ22_init_2 8 rfl rfl)
theorem dJ22_init_57 : decode cJ22_init 57 = .ok (.pop, 1) := dk_87 (dk_at dksJ22_init_2 11 rfl rfl)
theorem dJ22_init_58 : decode cJ22_init 58 = .ok (.aload_n 0, 1) := dk_42 (dk_at dksJ22_init_2 12 rfl rfl)
theorem dJ22_init_59 : decode cJ22_init 59 = .ok (.aload_n 1, 1) := dk_43 (dk_at dksJ22_init_2 13 rfl rfl)
theorem dJ22_init_60 : decode cJ22_init 60 = .ok (.putfield 20, 3) := dk_181 0 20 (dk_at dksJ22_init_2 14 rfl rfl)
theorem dJ22_init_63 : decode cJ22_init 63 = .ok (.aload_n 0, 1) := dk_42 (dk_at dksJ22_init_2 17 rfl rfl)
theorem dJ22_init_64 : decode cJ22_init 64 = .ok (.iload_n 2, 1) := dk_28 (dk_at dksJ22_init_2 18 rfl rfl)
theorem dJ22_init_65 : decode cJ22_init 65 = .ok (.putfield 26, 3) := dk_181 0 26 (dk_at dksJ22_init_2 19 rfl rfl)
theorem dJ22_init_68 : decode cJ22_init 68 = .ok (.aload_n 0, 1) := dk_42 (dk_at dksJ22_init_2 22 rfl rfl)
theorem dJ22_init_69 : decode cJ22_init 69 = .ok (.aload_n 3, 1) := dk_45 (dk_at dksJ22_init_2 23 rfl rfl)
theorem dJ22_init_70 : decode cJ22_init 70 = .ok (.putfield 30, 3) := dk_181 0 30 (dk_at dksJ22_init_3 0 rfl rfl)
theorem dJ22_init_73 : decode cJ22_init 73 = .ok (.aload_n 0, 1) := dk_42 (dk_at dksJ22_init_3 3 rfl rfl)
theorem dJ22_init_74 : decode cJ22_init 74 = .ok (.iload 4, 2) := dk_21 4 (dk_at dksJ22_init_3 4 rfl rfl)
theorem dJ22_init_76 : decode cJ22_init 76 = .ok (.putfield 34, 3) := dk_181 0 34 (dk_at dksJ22_init_3 6 rfl rfl)
theorem dJ22_init_79 : decode cJ22_init 79 = .ok (.aload_n 0, 1) := dk_42 (dk_at dksJ22_init_3 9 rfl rfl)
theorem dJ22_init_80 : decode cJ22_init 80 = .ok (.iload 5, 2) := dk_21 5 (dk_at dksJ22_init_3 10 rfl rfl)
theorem dJ22_init_82 : decode cJ22_init 82 = .ok (.putfield 37, 3) := dk_181 0 37 (dk_at dksJ22_init_3 12 rfl rfl)
theorem dJ22_init_85 : decode cJ22_init 85 = .ok (.aload_n 0, 1) := dk_42 (dk_at dksJ22_init_3 15 rfl rfl)
theorem dJ22_init_86 : decode cJ22_init 86 = .ok (.aload 6, 2) := dk_25 6 (dk_at dksJ22_init_3 16 rfl rfl)
theorem dJ22_init_88 : decode cJ22_init 88 = .ok (.putfield 40, 3) := dk_181 0 40 (dk_at dksJ22_init_3 18 rfl rfl)
theorem dJ22_init_91 : decode cJ22_init 91 = .ok (.aload_n 0, 1) := dk_42 (dk_at dksJ22_init_3 21 rfl rfl)
theorem dJ22_init_92 : decode cJ22_init 92 = .ok (.iload 7, 2) := dk_21 7 (dk_at dksJ22_init_3 22 rfl rfl)
theorem dJ22_init_94 : decode cJ22_init 94 = .ok (.putfield 43, 3) := dk_181 0 43 (dk_at dksJ22_init_4 0 rfl rfl)
theorem dJ22_init_97 : decode cJ22_init 97 = .ok (.return_, 1) := dk_177 (dk_at dksJ22_init_4 3 rfl rfl)
abbrev cJ22_absLowest : ByteArray := prog_57_method_7_code
def yJ22_absLowest : MethodName := ⟨RJ22, "absLowest", "()Ljava/util/TreeMap$Entry;"⟩
def dkwJ22_absLowest_3 : List UInt8 := [176]
abbrev dktJ22_absLowest_3 : List UInt8 := dkwJ22_absLowest_3 ++ []
def dkwJ22_absLowest_2 : List UInt8 := [182, 0, 67, 76, 43, 198, 0, 14, 42, 43, 180, 0, 70, 182, 0, 50, 153, 0, 7, 1, 167, 0, 4, 43]
abbrev dktJ22_absLowest_2 : List UInt8 := dkwJ22_absLowest_2 ++ dktJ22_absLowest_3
def dkwJ22_absLowest_1 : List UInt8 := [42, 180, 0, 20, 42, 180, 0, 30, 182, 0, 63, 167, 0, 14, 42, 180, 0, 20, 42, 180, 0, 30]
abbrev dktJ22_absLowest_1 : List UInt8 := dkwJ22_absLowest_1 ++ dktJ22_absLowest_2
def dkwJ22_absLowest_0 : List UInt8 := [42, 180, 0, 26, 153, 0, 13, 42, 180, 0, 20, 182, 0, 59, 167, 0, 35, 42, 180, 0, 34, 153, 0, 17]
abbrev dktJ22_absLowest_0 : List UInt8 := dkwJ22_absLowest_0 ++ dktJ22_absLowest_1
theorem dksJ22_absLowest_0 : cJ22_absLowest.data.toList.drop 0 = dktJ22_absLowest_0 := by decide +kernel
theorem dksJ22_absLowest_1 : cJ22_absLowest.data.toList.drop 24 = dktJ22_absLowest_1 := dk_seg dksJ22_absLowest_0 24 rfl rfl
theorem dksJ22_absLowest_2 : cJ22_absLowest.data.toList.drop 46 = dktJ22_absLowest_2 := dk_seg dksJ22_absLowest_1 22 rfl rfl
theorem dksJ22_absLowest_3 : cJ22_absLowest.data.toList.drop 70 = dktJ22_absLowest_3 := dk_seg dksJ22_absLowest_2 24 rfl rfl
theorem dJ22_absLowest_0 : decode cJ22_absLowest 0 = .ok (.aload_n 0, 1) := dk_42 (dk_at dksJ22_absLowest_0 0 rfl rfl)
theorem dJ22_absLowest_1 : decode cJ22_absLowest 1 = .ok (.getfield 26, 3) := dk_180 0 26 (dk_at dksJ22_absLowest_0 1 rfl rfl)
theorem dJ22_absLowest_4 : decode cJ22_absLowest 4 = .ok (.ifCond .eq 13, 3) := dk_153 0 13 (dk_at dksJ22_absLowest_0 4 rfl rfl)
theorem dJ22_absLowest_7 : decode cJ22_absLowest 7 = .ok (.aload_n 0, 1) := dk_42 (dk_at dksJ22_absLowest_0 7 rfl rfl)
theorem dJ22_absLowest_8 : decode cJ22_absLowest 8 = .ok (.getfield 20, 3) := dk_180 0 20 (dk_at dksJ22_absLowest_0 8 rfl rfl)
theorem dJ22_absLowest_11 : decode cJ22_absLowest 11 = .ok (.invokevirtual 59, 3) := dk_182 0 59 (dk_at dksJ22_absLowest_0 11 rfl rfl)
theorem dJ22_absLowest_14 : decode cJ22_absLowest 14 = .ok (.goto 35, 3) := dk_167 0 35 (dk_at dksJ22_absLowest_0 14 rfl rfl)
theorem dJ22_absLowest_17 : decode cJ22_absLowest 17 = .ok (.aload_n 0, 1) := dk_42 (dk_at dksJ22_absLowest_0 17 rfl rfl)
theorem dJ22_absLowest_18 : decode cJ22_absLowest 18 = .ok (.getfield 34, 3) := dk_180 0 34 (dk_at dksJ22_absLowest_0 18 rfl rfl)
theorem dJ22_absLowest_21 : decode cJ22_absLowest 21 = .ok (.ifCond .eq 17, 3) := dk_153 0 17 (dk_at dksJ22_absLowest_0 21 rfl rfl)
theorem dJ22_absLowest_24 : decode cJ22_absLowest 24 = .ok (.aload_n 0, 1) := dk_42 (dk_at dksJ22_absLowest_1 0 rfl rfl)
theorem dJ22_absLowest_25 : decode cJ22_absLowest 25 = .ok (.getfield 20, 3) := dk_180 0 20 (dk_at dksJ22_absLowest_1 1 rfl rfl)
theorem dJ22_absLowest_28 : decode cJ22_absLowest 28 = .ok (.aload_n 0, 1) := dk_42 (dk_at dksJ22_absLowest_1 4 rfl rfl)
theorem dJ22_absLowest_29 : decode cJ22_absLowest 29 = .ok (.getfield 30, 3) := dk_180 0 30 (dk_at dksJ22_absLowest_1 5 rfl rfl)
theorem dJ22_absLowest_32 : decode cJ22_absLowest 32 = .ok (.invokevirtual 63, 3) := dk_182 0 63 (dk_at dksJ22_absLowest_1 8 rfl rfl)
theorem dJ22_absLowest_35 : decode cJ22_absLowest 35 = .ok (.goto 14, 3) := dk_167 0 14 (dk_at dksJ22_absLowest_1 11 rfl rfl)
theorem dJ22_absLowest_38 : decode cJ22_absLowest 38 = .ok (.aload_n 0, 1) := dk_42 (dk_at dksJ22_absLowest_1 14 rfl rfl)
theorem dJ22_absLowest_39 : decode cJ22_absLowest 39 = .ok (.getfield 20, 3) := dk_180 0 20 (dk_at dksJ22_absLowest_1 15 rfl rfl)
theorem dJ22_absLowest_42 : decode cJ22_absLowest 42 = .ok (.aload_n 0, 1) := dk_42 (dk_at dksJ22_absLowest_1 18 rfl rfl)
theorem dJ22_absLowest_43 : decode cJ22_absLowest 43 = .ok (.getfield 30, 3) := dk_180 0 30 (dk_at dksJ22_absLowest_1 19 rfl rfl)
theorem dJ22_absLowest_46 : decode cJ22_absLowest 46 = .ok (.invokevirtual 67, 3) := dk_182 0 67 (dk_at dksJ22_absLowest_2 0 rfl rfl)
theorem dJ22_absLowest_49 : decode cJ22_absLowest 49 = .ok (.astore_n 1, 1) := dk_76 (dk_at dksJ22_absLowest_2 3 rfl rfl)
theorem dJ22_absLowest_50 : decode cJ22_absLowest 50 = .ok (.aload_n 1, 1) := dk_43 (dk_at dksJ22_absLowest_2 4 rfl rfl)
theorem dJ22_absLowest_51 : decode cJ22_absLowest 51 = .ok (.ifnull 14, 3) := dk_198 0 14 (dk_at dksJ22_absLowest_2 5 rfl rfl)
theorem dJ22_absLowest_54 : decode cJ22_absLowest 54 = .ok (.aload_n 0, 1) := dk_42 (dk_at dksJ22_absLowest_2 8 rfl rfl)
theorem dJ22_absLowest_55 : decode cJ22_absLowest 55 = .ok (.aload_n 1, 1) := dk_43 (dk_at dksJ22_absLowest_2 9 rfl rfl)
theorem dJ22_absLowest_56 : decode cJ22_absLowest 56 = .ok (.getfield 70, 3) := dk_180 0 70 (dk_at dksJ22_absLowest_2 10 rfl rfl)
theorem dJ22_absLowest_59 : decode cJ22_absLowest 59 = .ok (.invokevirtual 50, 3) := dk_182 0 50 (dk_at dksJ22_absLowest_2 13 rfl rfl)
theorem dJ22_absLowest_62 : decode cJ22_absLowest 62 = .ok (.ifCond .eq 7, 3) := dk_153 0 7 (dk_at dksJ22_absLowest_2 16 rfl rfl)
theorem dJ22_absLowest_65 : decode cJ22_absLowest 65 = .ok (.aconst_null, 1) := dk_1 (dk_at dksJ22_absLowest_2 19 rfl rfl)
theorem dJ22_absLowest_66 : decode cJ22_absLowest 66 = .ok (.goto 4, 3) := dk_167 0 4 (dk_at dksJ22_absLowest_2 20 rfl rfl)
theorem dJ22_absLowest_69 : decode cJ22_absLowest 69 = .ok (.aload_n 1, 1) := dk_43 (dk_at dksJ22_absLowest_2 23 rfl rfl)
theorem dJ22_absLowest_70 : decode cJ22_absLowest 70 = .ok (.areturn, 1) := dk_176 (dk_at dksJ22_absLowest_3 0 rfl rfl)
abbrev cJ22_tooHigh : ByteArray := prog_57_method_3_code
def yJ22_tooHigh : MethodName := ⟨RJ22, "tooHigh", "(Ljava/lang/Object;)Z"⟩
def dkwJ22_tooHigh_1 : List UInt8 := [28, 154, 0, 12, 42, 180, 0, 43, 154, 0, 5, 4, 172, 3, 172]
abbrev dktJ22_tooHigh_1 : List UInt8 := dkwJ22_tooHigh_1 ++ []
def dkwJ22_tooHigh_0 : List UInt8 := [42, 180, 0, 37, 154, 0, 33, 42, 180, 0, 20, 43, 42, 180, 0, 40, 182, 0, 7, 61, 28, 157, 0, 14]
abbrev dktJ22_tooHigh_0 : List UInt8 := dkwJ22_tooHigh_0 ++ dktJ22_tooHigh_1
theorem dksJ22_tooHigh_0 : cJ22_tooHigh.data.toList.drop 0 = dktJ22_tooHigh_0 := by decide +kernel
theorem dksJ22_tooHigh_1 : cJ22_tooHigh.data.toList.drop 24 = dktJ22_tooHigh_1 := dk_seg dksJ22_tooHigh_0 24 rfl rfl
theorem dJ22_tooHigh_0 : decode cJ22_tooHigh 0 = .ok (.aload_n 0, 1) := dk_42 (dk_at dksJ22_tooHigh_0 0 rfl rfl)
theorem dJ22_tooHigh_1 : decode cJ22_tooHigh 1 = .ok (.getfield 37, 3) := dk_180 0 37 (dk_at dksJ22_tooHigh_0 1 rfl rfl)
theorem dJ22_tooHigh_4 : decode cJ22_tooHigh 4 = .ok (.ifCond .ne 33, 3) := dk_154 0 33 (dk_at dksJ22_tooHigh_0 4 rfl rfl)
theorem dJ22_tooHigh_7 : decode cJ22_tooHigh 7 = .ok (.aload_n 0, 1) := dk_42 (dk_at dksJ22_tooHigh_0 7 rfl rfl)
theorem dJ22_tooHigh_8 : decode cJ22_tooHigh 8 = .ok (.getfield 20, 3) := dk_180 0 20 (dk_at dksJ22_tooHigh_0 8 rfl rfl)
theorem dJ22_tooHigh_11 : decode cJ22_tooHigh 11 = .ok (.aload_n 1, 1) := dk_43 (dk_at dksJ22_tooHigh_0 11 rfl rfl)
theorem dJ22_tooHigh_12 : decode cJ22_tooHigh 12 = .ok (.aload_n 0, 1) := dk_42 (dk_at dksJ22_tooHigh_0 12 rfl rfl)
theorem dJ22_tooHigh_13 : decode cJ22_tooHigh 13 = .ok (.getfield 40, 3) := dk_180 0 40 (dk_at dksJ22_tooHigh_0 13 rfl rfl)
theorem dJ22_tooHigh_16 : decode cJ22_tooHigh 16 = .ok (.invokevirtual 7, 3) := dk_182 0 7 (dk_at dksJ22_tooHigh_0 16 rfl rfl)
theorem dJ22_tooHigh_19 : decode cJ22_tooHigh 19 = .ok (.istore_n 2, 1) := dk_61 (dk_at dksJ22_tooHigh_0 19 rfl rfl)
theorem dJ22_tooHigh_20 : decode cJ22_tooHigh 20 = .ok (.iload_n 2, 1) := dk_28 (dk_at dksJ22_tooHigh_0 20 rfl rfl)
theorem dJ22_tooHigh_21 : decode cJ22_tooHigh 21 = .ok (.ifCond .gt 14, 3) := dk_157 0 14 (dk_at dksJ22_tooHigh_0 21 rfl rfl)
theorem dJ22_tooHigh_24 : decode cJ22_tooHigh 24 = .ok (.iload_n 2, 1) := dk_28 (dk_at dksJ22_tooHigh_1 0 rfl rfl)
theorem dJ22_tooHigh_25 : decode cJ22_tooHigh 25 = .ok (.ifCond .ne 12, 3) := dk_154 0 12 (dk_at dksJ22_tooHigh_1 1 rfl rfl)
theorem dJ22_tooHigh_28 : decode cJ22_tooHigh 28 = .ok (.aload_n 0, 1) := dk_42 (dk_at dksJ22_tooHigh_1 4 rfl rfl)
theorem dJ22_tooHigh_29 : decode cJ22_tooHigh 29 = .ok (.getfield 43, 3) := dk_180 0 43 (dk_at dksJ22_tooHigh_1 5 rfl rfl)
theorem dJ22_tooHigh_32 : decode cJ22_tooHigh 32 = .ok (.ifCond .ne 5, 3) := dk_154 0 5 (dk_at dksJ22_tooHigh_1 8 rfl rfl)
theorem dJ22_tooHigh_35 : decode cJ22_tooHigh 35 = .ok (.iconst 1, 1) := dk_4 (dk_at dksJ22_tooHigh_1 11 rfl rfl)
theorem dJ22_tooHigh_36 : decode cJ22_tooHigh 36 = .ok (.ireturn, 1) := dk_172 (dk_at dksJ22_tooHigh_1 12 rfl rfl)
theorem dJ22_tooHigh_37 : decode cJ22_tooHigh 37 = .ok (.iconst 0, 1) := dk_3 (dk_at dksJ22_tooHigh_1 13 rfl rfl)
theorem dJ22_tooHigh_38 : decode cJ22_tooHigh 38 = .ok (.ireturn, 1) := dk_172 (dk_at dksJ22_tooHigh_1 14 rfl rfl)
abbrev cJ22_absHighFence : ByteArray := prog_57_method_13_code
def yJ22_absHighFence : MethodName := ⟨RJ22, "absHighFence", "()Ljava/util/TreeMap$Entry;"⟩
def dkwJ22_absHighFence_1 : List UInt8 := [180, 0, 40, 182, 0, 67, 167, 0, 14, 42, 180, 0, 20, 42, 180, 0, 40, 182, 0, 63, 176]
abbrev dktJ22_absHighFence_1 : List UInt8 := dkwJ22_absHighFence_1 ++ []
def dkwJ22_absHighFence_0 : List UInt8 := [42, 180, 0, 37, 153, 0, 7, 1, 167, 0, 35, 42, 180, 0, 43, 153, 0, 17, 42, 180, 0, 20, 42]
abbrev dktJ22_absHighFence_0 : List UInt8 := dkwJ22_absHighFence_0 ++ dktJ22_absHighFence_1
theorem dksJ22_absHighFence_0 : cJ22_absHighFence.data.toList.drop 0 = dktJ22_absHighFence_0 := by decide +kernel
theorem dksJ22_absHighFence_1 : cJ22_absHighFence.data.toList.drop 23 = dktJ22_absHighFence_1 := dk_seg dksJ22_absHighFence_0 23 rfl rfl
theorem dJ22_absHighFence_0 : decode cJ22_absHighFence 0 = .ok (.aload_n 0, 1) := dk_42 (dk_at dksJ22_absHighFence_0 0 rfl rfl)
theorem dJ22_absHighFence_1 : decode cJ22_absHighFence 1 = .ok (.getfield 37, 3) := dk_180 0 37 (dk_at dksJ22_absHighFence_0 1 rfl rfl)
theorem dJ22_absHighFence_4 : decode cJ22_absHighFence 4 = .ok (.ifCond .eq 7, 3) := dk_153 0 7 (dk_at dksJ22_absHighFence_0 4 rfl rfl)
theorem dJ22_absHighFence_7 : decode cJ22_absHighFence 7 = .ok (.aconst_null, 1) := dk_1 (dk_at dksJ22_absHighFence_0 7 rfl rfl)
theorem dJ22_absHighFence_8 : decode cJ22_absHighFence 8 = .ok (.goto 35, 3) := dk_167 0 35 (dk_at dksJ22_absHighFence_0 8 rfl rfl)
theorem dJ22_absHighFence_11 : decode cJ22_absHighFence 11 = .ok (.aload_n 0, 1) := dk_42 (dk_at dksJ22_absHighFence_0 11 rfl rfl)
theorem dJ22_absHighFence_12 : decode cJ22_absHighFence 12 = .ok (.getfield 43, 3) := dk_180 0 43 (dk_at dksJ22_absHighFence_0 12 rfl rfl)
theorem dJ22_absHighFence_15 : decode cJ22_absHighFence 15 = .ok (.ifCond .eq 17, 3) := dk_153 0 17 (dk_at dksJ22_absHighFence_0 15 rfl rfl)
theorem dJ22_absHighFence_18 : decode cJ22_absHighFence 18 = .ok (.aload_n 0, 1) := dk_42 (dk_at dksJ22_absHighFence_0 18 rfl rfl)
theorem dJ22_absHighFence_19 : decode cJ22_absHighFence 19 = .ok (.getfield 20, 3) := dk_180 0 20 (dk_at dksJ22_absHighFence_0 19 rfl rfl)
theorem dJ22_absHighFence_22 : decode cJ22_absHighFence 22 = .ok (.aload_n 0, 1) := dk_42 (dk_at dksJ22_absHighFence_0 22 rfl rfl)
theorem dJ22_absHighFence_23 : decode cJ22_absHighFence 23 = .ok (.getfield 40, 3) := dk_180 0 40 (dk_at dksJ22_absHighFence_1 0 rfl rfl)
theorem dJ22_absHighFence_26 : decode cJ22_absHighFence 26 = .ok (.invokevirtual 67, 3) := dk_182 0 67 (dk_at dksJ22_absHighFence_1 3 rfl rfl)
theorem dJ22_absHighFence_29 : decode cJ22_absHighFence 29 = .ok (.goto 14, 3) := dk_167 0 14 (dk_at dksJ22_absHighFence_1 6 rfl rfl)
theorem dJ22_absHighFence_32 : decode cJ22_absHighFence 32 = .ok (.aload_n 0, 1) := dk_42 (dk_at dksJ22_absHighFence_1 9 rfl rfl)
theorem dJ22_absHighFence_33 : decode cJ22_absHighFence 33 = .ok (.getfield 20, 3) := dk_180 0 20 (dk_at dksJ22_absHighFence_1 10 rfl rfl)
theorem dJ22_absHighFence_36 : decode cJ22_absHighFence 36 = .ok (.aload_n 0, 1) := dk_42 (dk_at dksJ22_absHighFence_1 13 rfl rfl)
theorem dJ22_absHighFence_37 : decode cJ22_absHighFence 37 = .ok (.getfield 40, 3) := dk_180 0 40 (dk_at dksJ22_absHighFence_1 14 rfl rfl)
theorem dJ22_absHighFence_40 : decode cJ22_absHighFence 40 = .ok (.invokevirtual 63, 3) := dk_182 0 63 (dk_at dksJ22_absHighFence_1 17 rfl rfl)
theorem dJ22_absHighFence_43 : decode cJ22_absHighFence 43 = .ok (.areturn, 1) := dk_176 (dk_at dksJ22_absHighFence_1 20 rfl rfl)
theorem q66 : (Jvm.Cond.initialized "java/util/TreeMap$NavigableSubMap") ∈ lw_all := lw_g (lw_at lw_m1 31 rfl) rfl
theorem q615 : (Jvm.Cond.fieldLink "java/util/TreeMap$NavigableSubMap" (70 : Nat) "java/util/TreeMap$Entry" "key" "Ljava/lang/Object;") ∈ lw_all := lw_g (lw_at lw_m3 100 rfl) rfl
theorem q769 : (Jvm.Cond.instanceMethod ({ cls := "java/util/TreeMap$NavigableSubMap", name := "<init>", desc := "(Ljava/util/TreeMap;ZLjava/lang/Object;ZZLjava/lang/Object;Z)V" } : Jvm.MethodName)) ∈ lw_all := lw_g (lw_at lw_m4 14 rfl) rfl
theorem q770 : (Jvm.Cond.code ({ cls := "java/util/TreeMap$NavigableSubMap", name := "<init>", desc := "(Ljava/util/TreeMap;ZLjava/lang/Object;ZZLjava/lang/Object;Z)V" } : Jvm.MethodName) prog_57_method_1_code (8 : Nat) (Option.none : Option Jvm.ClassFile.FieldType)) ∈ lw_all := lw_g (lw_at lw_m4 15 rfl) rfl
theorem q771 : (Jvm.Cond.methodLink "java/util/TreeMap$NavigableSubMap" (1 : Nat) ({ cls := "java/util/AbstractMap", name := "<init>", desc := "()V" } : Jvm.MethodName)) ∈ lw_all := lw_g (lw_at lw_m4 16 rfl) rfl
theorem q772 : (Jvm.Cond.methodLink "java/util/TreeMap$NavigableSubMap" (7 : Nat) ({ cls := "java/util/TreeMap", name := "compare", desc := "(Ljava/lang/Object;Ljava/lang/Object;)I" } : Jvm.MethodName)) ∈ lw_all := lw_g (lw_at lw_m4 17 rfl) rfl
theorem q773 : (Jvm.Cond.classLink "java/util/TreeMap$NavigableSubMap" (13 : Nat) "java/lang/IllegalArgumentException") ∈ lw_all := lw_g (lw_at lw_m4 18 rfl) rfl
theorem q774 : (Jvm.Cond.stringRef "java/util/TreeMap$NavigableSubMap" (15 : Nat) "fromKey > toKey") ∈ lw_tbl := lw_at lw_m4 19 rfl
theorem q775 : (Jvm.Cond.methodLink "java/util/TreeMap$NavigableSubMap" (17 : Nat) ({ cls := "java/lang/IllegalArgumentException", name := "<init>", desc := "(Ljava/lang/String;)V" } : Jvm.MethodName)) ∈ lw_all := lw_g (lw_at lw_m4 20 rfl) rfl
theorem q780 : (Jvm.Cond.fieldLink "java/util/TreeMap$NavigableSubMap" (20 : Nat) "java/util/TreeMap$NavigableSubMap" "m" "Ljava/util/TreeMap;") ∈ lw_all := lw_g (lw_at lw_m4 25 rfl) rfl
theorem q781 : (Jvm.Cond.fieldLink "java/util/TreeMap$NavigableSubMap" (30 : Nat) "java/util/TreeMap$NavigableSubMap" "lo" "Ljava/lang/Object;") ∈ lw_all := lw_g (lw_at lw_m4 26 rfl) rfl
theorem q782 : (Jvm.Cond.fieldLink "java/util/TreeMap$NavigableSubMap" (40 : Nat) "java/util/TreeMap$NavigableSubMap" "hi" "Ljava/lang/Object;") ∈ lw_all := lw_g (lw_at lw_m4 27 rfl) rfl
theorem q783 : (Jvm.Cond.fieldLink "java/util/TreeMap$NavigableSubMap" (26 : Nat) "java/util/TreeMap$NavigableSubMap" "fromStart" "Z") ∈ lw_all := lw_g (lw_at lw_m4 28 rfl) rfl
theorem q784 : (Jvm.Cond.fieldLink "java/util/TreeMap$NavigableSubMap" (37 : Nat) "java/util/TreeMap$NavigableSubMap" "toEnd" "Z") ∈ lw_all := lw_g (lw_at lw_m4 29 rfl) rfl
theorem q785 : (Jvm.Cond.fieldLink "java/util/TreeMap$NavigableSubMap" (34 : Nat) "java/util/TreeMap$NavigableSubMap" "loInclusive" "Z") ∈ lw_all := lw_g (lw_at lw_m4 30 rfl) rfl
theorem q786 : (Jvm.Cond.fieldLink "java/util/TreeMap$NavigableSubMap" (43 : Nat) "java/util/TreeMap$NavigableSubMap" "hiInclusive" "Z") ∈ lw_all := lw_g (lw_at lw_m4 31 rfl) rfl
theorem q790 : (Jvm.Cond.soleField "java/util/TreeMap$NavigableSubMap" "m") ∈ lw_all := lw_g (lw_at lw_m4 35 rfl) rfl
theorem q792 : (Jvm.Cond.soleField "java/util/TreeMap$NavigableSubMap" "lo") ∈ lw_all := lw_g (lw_at lw_m4 37 rfl) rfl
theorem q794 : (Jvm.Cond.soleField "java/util/TreeMap$NavigableSubMap" "hi") ∈ lw_all := lw_g (lw_at lw_m4 39 rfl) rfl
theorem q796 : (Jvm.Cond.soleField "java/util/TreeMap$NavigableSubMap" "fromStart") ∈ lw_all := lw_g (lw_at lw_m4 41 rfl) rfl
theorem q798 : (Jvm.Cond.soleField "java/util/TreeMap$NavigableSubMap" "toEnd") ∈ lw_all := lw_g (lw_at lw_m4 43 rfl) rfl
theorem q800 : (Jvm.Cond.soleField "java/util/TreeMap$NavigableSubMap" "loInclusive") ∈ lw_all := lw_g (lw_at lw_m4 45 rfl) rfl
theorem q802 : (Jvm.Cond.soleField "java/util/TreeMap$NavigableSubMap" "hiInclusive") ∈ lw_all := lw_g (lw_at lw_m4 47 rfl) rfl
theorem q804 : (Jvm.Cond.soleField "java/util/TreeMap$NavigableSubMap" "descendingMapView") ∈ lw_all := lw_g (lw_at lw_m4 49 rfl) rfl
theorem q806 : (Jvm.Cond.soleField "java/util/TreeMap$NavigableSubMap" "entrySetView") ∈ lw_all := lw_g (lw_at lw_m4 51 rfl) rfl
theorem q808 : (Jvm.Cond.soleField "java/util/TreeMap$NavigableSubMap" "navigableKeySetView") ∈ lw_all := lw_g (lw_at lw_m4 53 rfl) rfl
theorem q922 : (Jvm.Cond.declares ({ cls := "java/util/TreeMap$NavigableSubMap", name := "absLowest", desc := "()Ljava/util/TreeMap$Entry;" } : Jvm.MethodName)) ∈ lw_tbl := lw_at lw_m4 167 rfl
theorem q924 : (Jvm.Cond.instanceMethod ({ cls := "java/util/TreeMap$NavigableSubMap", name := "absLowest", desc := "()Ljava/util/TreeMap$Entry;" } : Jvm.MethodName)) ∈ lw_all := lw_g (lw_at lw_m4 169 rfl) rfl
theorem q925 : (Jvm.Cond.code ({ cls := "java/util/TreeMap$NavigableSubMap", name := "absLowest", desc := "()Ljava/util/TreeMap$Entry;" } : Jvm.MethodName) prog_57_method_7_code (2 : Nat) (Option.some (Jvm.ClassFile.FieldType.object "java/util/TreeMap$Entry"))) ∈ lw_all := lw_g (lw_at lw_m4 170 rfl) rfl
theorem q926 : (Jvm.Cond.methodLink "java/util/TreeMap$NavigableSubMap" (59 : Nat) ({ cls := "java/util/TreeMap", name := "getFirstEntry", desc := "()Ljava/util/TreeMap$Entry;" } : Jvm.MethodName)) ∈ lw_all := lw_g (lw_at lw_m4 171 rfl) rfl
theorem q930 : (Jvm.Cond.methodLink "java/util/TreeMap$NavigableSubMap" (63 : Nat) ({ cls := "java/util/TreeMap", name := "getCeilingEntry", desc := "(Ljava/lang/Object;)Ljava/util/TreeMap$Entry;" } : Jvm.MethodName)) ∈ lw_all := lw_g (lw_at lw_m4 175 rfl) rfl
theorem q934 : (Jvm.Cond.methodLink "java/util/TreeMap$NavigableSubMap" (67 : Nat) ({ cls := "java/util/TreeMap", name := "getHigherEntry", desc := "(Ljava/lang/Object;)Ljava/util/TreeMap$Entry;" } : Jvm.MethodName)) ∈ lw_all := lw_g (lw_at lw_m4 179 rfl) rfl
theorem q938 : (Jvm.Cond.methodLink "java/util/TreeMap$NavigableSubMap" (50 : Nat) ({ cls := "java/util/TreeMap$NavigableSubMap", name := "tooHigh", desc := "(Ljava/lang/Object;)Z" } : Jvm.MethodName)) ∈ lw_all := lw_g (lw_at lw_m4 183 rfl) rfl
theorem q939 : (Jvm.Cond.instanceMethod ({ cls := "java/util/TreeMap$NavigableSubMap", name := "tooHigh", desc := "(Ljava/lang/Object;)Z" } : Jvm.MethodName)) ∈ lw_all := lw_g (lw_at lw_m4 184 rfl) rfl
theorem q940 : (Jvm.Cond.sameMethod "java/util/TreeMap$NavigableSubMap" "java/util/TreeMap$NavigableSubMap" "tooHigh" "(Ljava/lang/Object;)Z") ∈ lw_all := lw_g (lw_at lw_m4 185 rfl) rfl
theorem q942 : (Jvm.Cond.code ({ cls := "java/util/TreeMap$NavigableSubMap", name := "tooHigh", desc := "(Ljava/lang/Object;)Z" } : Jvm.MethodName) prog_57_method_3_code (3 : Nat) (Option.some Jvm.ClassFile.FieldType.boolean)) ∈ lw_all := lw_g (lw_at lw_m4 187 rfl) rfl
theorem q945 : (Jvm.Cond.declares ({ cls := "java/util/TreeMap$NavigableSubMap", name := "absHighFence", desc := "()Ljava/util/TreeMap$Entry;" } : Jvm.MethodName)) ∈ lw_tbl := lw_at lw_m4 190 rfl
theorem q947 : (Jvm.Cond.instanceMethod ({ cls := "java/util/TreeMap$NavigableSubMap", name := "absHighFence", desc := "()Ljava/util/TreeMap$Entry;" } : Jvm.MethodName)) ∈ lw_all := lw_g (lw_at lw_m4 192 rfl) rfl
theorem q948 : (Jvm.Cond.code ({ cls := "java/util/TreeMap$NavigableSubMap", name := "absHighFence", desc := "()Ljava/util/TreeMap$Entry;" } : Jvm.MethodName) prog_57_method_13_code (1 : Nat) (Option.some (Jvm.ClassFile.FieldType.object "java/util/TreeMap$Entry"))) ∈ lw_all := lw_g (lw_at lw_m4 193 rfl) rfl
/-! java/util/TreeMap$AscendingSubMap -/
set_option maxRecDepth 100000
def RJ23 : String := "java/util/TreeMap$AscendingSubMap"
def TJ23 : u_T := fun k => match k with
  | 0 => ("java/util/TreeMap$NavigableSubMap", "m", "Ljava/util/TreeMap;", true)
  | 1 => ("java/util/TreeMap$NavigableSubMap", "lo", "Ljava/lang/Object;", true)
  | 2 => ("java/util/TreeMap$NavigableSubMap", "hi", "Ljava/lang/Object;", true)
  | 3 => ("java/util/TreeMap$NavigableSubMap", "fromStart", "Z", true)
  | 4 => ("java/util/TreeMap$NavigableSubMap", "toEnd", "Z", true)
  | 5 => ("java/util/TreeMap$NavigableSubMap", "loInclusive", "Z", true)
  | 6 => ("java/util/TreeMap$NavigableSubMap", "hiInclusive", "Z", true)
  | 7 => ("java/util/TreeMap$NavigableSubMap", "descendingMapView", "Ljava/util/NavigableMap;", false)
  | 8 => ("java/util/TreeMap$NavigableSubMap", "entrySetView", "Ljava/util/TreeMap$NavigableSubMap$EntrySetView;", false)
  | 9 => ("java/util/TreeMap$NavigableSubMap", "navigableKeySetView", "Ljava/util/TreeMap$KeySet;", false)
  | 10 => ("java/util/AbstractMap", "keySet", "Ljava/util/Set;", false)
  | _ => ("java/util/AbstractMap", "values", "Ljava/util/Collection;", false)
def tyJ23 : Nat → FieldType := fun k => match k with
  | 0 => .object "java/util/TreeMap"
  | 1 => .object "java/lang/Object"
  | 2 => .object "java/lang/Object"
  | 3 => .boolean
  | 4 => .boolean
  | 5 => .boolean
  | 6 => .boolean
  | 7 => .object "java/util/NavigableMap"
  | 8 => .object "java/util/TreeMap$NavigableSubMap$EntrySetView"
  | 9 => .object "java/util/TreeMap$KeySet"
  | 10 => .object "java/util/Set"
  | _ => .object "java/util/Collection"
abbrev wsJ230 : List Cond := u_ws RJ23 TJ23 12
theorem nmJ23 : ∀ a, a < 12 → ∀ b, b < 12 → a ≠ b → (TJ23 a).2.1 ≠ (TJ23 b).2.1 := by decide +kernel
theorem tyJ23_ok : ∀ k, k < 12 → parseFieldDescriptor (TJ23 k).2.2.1 = some (tyJ23 k) := by decide +kernel
abbrev cJ23_init : ByteArray := prog_52_method_1_code
def yJ23_init : MethodName := ⟨RJ23, "<init>", "(Ljava/util/TreeMap;ZLjava/lang/Object;ZZLjava/lang/Object;Z)V"⟩
def dkwJ23_init_0 : List UInt8 := [42, 43, 28, 45, 21, 4, 21, 5, 25, 6, 21, 7, 183, 0, 1, 177]
abbrev dktJ23_init_0 : List UInt8 := dkwJ23_init_0 ++ []
theorem dksJ23_init_0 : cJ23_init.data.toList.drop 0 = dktJ23_init_0 := by decide +kernel
theorem dJ23_init_0 : decode cJ23_init 0 = .ok (.aload_n 0, 1) := dk_42 (dk_at dksJ23_init_0 0 rfl rfl)
theorem dJ23_init_1 : decode cJ23_init 1 = .ok (.aload_n 1, 1) := dk_43 (dk_at dksJ23_init_0 1 rfl rfl)
theorem dJ23_init_2 : decode cJ23_init 2 = .ok (.iload_n 2, 1) := dk_28 (dk_at dksJ23_init_0 2 rfl rfl)
theorem dJ23_init_3 : decode cJ23_init 3 = .ok (.aload_n 3, 1) := dk_45 (dk_at dksJ23_init_0 3 rfl rfl)
theorem dJ23_init_4 : decode cJ23_init 4 = .ok (.iload 4, 2) := dk_21 4 (dk_at dksJ23_init_0 4 rfl rfl)
theorem dJ23_init_6 : decode cJ23_init 6 = .ok (.iload 5, 2) := dk_21 5 (dk_at dksJ23_init_0 6 rfl rfl)
theorem dJ23_init_8 : decode cJ23_init 8 = .ok (.aload 6, 2) := dk_25 6 (dk_at dksJ23_init_0 8 rfl rfl)
theorem dJ23_init_10 : decode cJ23_init 10 = .ok (.iload 7, 2) := dk_21 7 (dk_at dksJ23_init_0 10 rfl rfl)
theorem dJ23_init_12 : decode cJ23_init 12 = .ok (.invokespecial 1, 3) := dk_183 0 1 (dk_at dksJ23_init_0 12 rfl rfl)
theorem dJ23_init_15 : decode cJ23_init 15 = .ok (.return_, 1) := dk_177 (dk_at dksJ23_init_0 15 rfl rfl)
abbrev cJ23_entrySet : ByteArray := prog_52_method_10_code
def yJ23_entrySet : MethodName := ⟨RJ23, "entrySet", "()Ljava/util/Set;"⟩
def dkwJ23_entrySet_1 : List UInt8 := [181, 0, 81, 176]
abbrev dktJ23_entrySet_1 : List UInt8 := dkwJ23_entrySet_1 ++ []
def dkwJ23_entrySet_0 : List UInt8 := [42, 180, 0, 81, 76, 43, 198, 0, 7, 43, 167, 0, 16, 42, 187, 0, 85, 89, 42, 183, 0, 87, 90]
abbrev dktJ23_entrySet_0 : List UInt8 := dkwJ23_entrySet_0 ++ dktJ23_entrySet_1
theorem dksJ23_entrySet_0 : cJ23_entrySet.data.toList.drop 0 = dktJ23_entrySet_0 := by decide +kernel
theorem dksJ23_entrySet_1 : cJ23_entrySet.data.toList.drop 23 = dktJ23_entrySet_1 := dk_seg dksJ23_entrySet_0 23 rfl rfl
theorem dJ23_entrySet_0 : decode cJ23_entrySet 0 = .ok (.aload_n 0, 1) := dk_42 (dk_at dksJ23_entrySet_0 0 rfl rfl)
theorem dJ23_entrySet_1 : decode cJ23_entrySet 1 = .ok (.getfield 81, 3) := dk_180 0 81 (dk_at dksJ23_entrySet_0 1 rfl rfl)
theorem dJ23_entrySet_4 : decode cJ23_entrySet 4 = .ok (.astore_n 1, 1) := dk_76 (dk_at dksJ23_entrySet_0 4 rfl rfl)
theorem dJ23_entrySet_5 : decode cJ23_entrySet 5 = .ok (.aload_n 1, 1) := dk_43 (dk_at dksJ23_entrySet_0 5 rfl rfl)
theorem dJ23_entrySet_6 : decode cJ23_entrySet 6 = .ok (.ifnull 7, 3) := dk_198 0 7 (dk_at dksJ23_entrySet_0 6 rfl rfl)
theorem dJ23_entrySet_9 : decode cJ23_entrySet 9 = .ok (.aload_n 1, 1) := dk_43 (dk_at dksJ23_entrySet_0 9 rfl rfl)
theorem dJ23_entrySet_10 : decode cJ23_entrySet 10 = .ok (.goto 16, 3) := dk_167 0 16 (dk_at dksJ23_entrySet_0 10 rfl rfl)
theorem dJ23_entrySet_13 : decode cJ23_entrySet 13 = .ok (.aload_n 0, 1) := dk_42 (dk_at dksJ23_entrySet_0 13 rfl rfl)
theorem dJ23_entrySet_14 : decode cJ23_entrySet 14 = .ok (.new 85, 3) := dk_187 0 85 (dk_at dksJ23_entrySet_0 14 rfl rfl)
theorem dJ23_entrySet_17 : decode cJ23_entrySet 17 = .ok (.dup, 1) := dk_89 (dk_at dksJ23_entrySet_0 17 rfl rfl)
theorem dJ23_entrySet_18 : decode cJ23_entrySet 18 = .ok (.aload_n 0, 1) := dk_42 (dk_at dksJ23_entrySet_0 18 rfl rfl)
theorem dJ23_entrySet_19 : decode cJ23_entrySet 19 = .ok (.invokespecial 87, 3) := dk_183 0 87 (dk_at dksJ23_entrySet_0 19 rfl rfl)
theorem dJ23_entrySet_22 : decode cJ23_entrySet 22 = .ok (.dup_x1, 1) := dk_90 (dk_at dksJ23_entrySet_0 22 rfl rfl)
theorem dJ23_entrySet_23 : decode cJ23_entrySet 23 = .ok (.putfield 81, 3) := dk_181 0 81 (dk_at dksJ23_entrySet_1 0 rfl rfl)
theorem dJ23_entrySet_26 : decode cJ23_entrySet 26 = .ok (.areturn, 1) := dk_176 (dk_at dksJ23_entrySet_1 3 rfl rfl)
theorem q67 : (Jvm.Cond.initialized "java/util/TreeMap$AscendingSubMap") ∈ lw_all := lw_g (lw_at lw_m1 32 rfl) rfl
theorem q357 : (Jvm.Cond.selects "java/util/TreeMap$AscendingSubMap" ({ cls := "java/lang/Object", name := "getClass", desc := "()Ljava/lang/Class;" } : Jvm.MethodName) ({ cls := "java/lang/Object", name := "getClass", desc := "()Ljava/lang/Class;" } : Jvm.MethodName)) ∈ lw_all := lw_g (lw_at lw_m2 82 rfl) rfl
theorem q764 : (Jvm.Cond.instantiable "java/util/TreeMap$AscendingSubMap" (12 : Nat)) ∈ lw_all := lw_g (lw_at lw_m4 9 rfl) rfl
theorem q766 : (Jvm.Cond.instanceMethod ({ cls := "java/util/TreeMap$AscendingSubMap", name := "<init>", desc := "(Ljava/util/TreeMap;ZLjava/lang/Object;ZZLjava/lang/Object;Z)V" } : Jvm.MethodName)) ∈ lw_all := lw_g (lw_at lw_m4 11 rfl) rfl
theorem q767 : (Jvm.Cond.code ({ cls := "java/util/TreeMap$AscendingSubMap", name := "<init>", desc := "(Ljava/util/TreeMap;ZLjava/lang/Object;ZZLjava/lang/Object;Z)V" } : Jvm.MethodName) prog_52_method_1_code (8 : Nat) (Option.none : Option Jvm.ClassFile.FieldType)) ∈ lw_all := lw_g (lw_at lw_m4 12 rfl) rfl
theorem q768 : (Jvm.Cond.methodLink "java/util/TreeMap$AscendingSubMap" (1 : Nat) ({ cls := "java/util/TreeMap$NavigableSubMap", name := "<init>", desc := "(Ljava/util/TreeMap;ZLjava/lang/Object;ZZLjava/lang/Object;Z)V" } : Jvm.MethodName)) ∈ lw_all := lw_g (lw_at lw_m4 13 rfl) rfl
theorem q787 : (Jvm.Cond.fieldLink "java/util/TreeMap$AscendingSubMap" (81 : Nat) "java/util/TreeMap$AscendingSubMap" "entrySetView" "Ljava/util/TreeMap$NavigableSubMap$EntrySetView;") ∈ lw_all := lw_g (lw_at lw_m4 32 rfl) rfl
theorem q788 : (Jvm.Cond.sameField "java/util/TreeMap$AscendingSubMap" "java/util/TreeMap$NavigableSubMap" "entrySetView" "Ljava/util/TreeMap$NavigableSubMap$EntrySetView;") ∈ lw_all := lw_g (lw_at lw_m4 33 rfl) rfl
theorem q789 : (Jvm.Cond.laysFinal "java/util/TreeMap$AscendingSubMap" "java/util/TreeMap$NavigableSubMap" "m" "Ljava/util/TreeMap;") ∈ lw_all := lw_g (lw_at lw_m4 34 rfl) rfl
theorem q791 : (Jvm.Cond.laysFinal "java/util/TreeMap$AscendingSubMap" "java/util/TreeMap$NavigableSubMap" "lo" "Ljava/lang/Object;") ∈ lw_all := lw_g (lw_at lw_m4 36 rfl) rfl
theorem q793 : (Jvm.Cond.laysFinal "java/util/TreeMap$AscendingSubMap" "java/util/TreeMap$NavigableSubMap" "hi" "Ljava/lang/Object;") ∈ lw_all := lw_g (lw_at lw_m4 38 rfl) rfl
theorem q795 : (Jvm.Cond.laysFinal "java/util/TreeMap$AscendingSubMap" "java/util/TreeMap$NavigableSubMap" "fromStart" "Z") ∈ lw_all := lw_g (lw_at lw_m4 40 rfl) rfl
theorem q797 : (Jvm.Cond.laysFinal "java/util/TreeMap$AscendingSubMap" "java/util/TreeMap$NavigableSubMap" "toEnd" "Z") ∈ lw_all := lw_g (lw_at lw_m4 42 rfl) rfl
theorem q799 : (Jvm.Cond.laysFinal "java/util/TreeMap$AscendingSubMap" "java/util/TreeMap$NavigableSubMap" "loInclusive" "Z") ∈ lw_all := lw_g (lw_at lw_m4 44 rfl) rfl
theorem q801 : (Jvm.Cond.laysFinal "java/util/TreeMap$AscendingSubMap" "java/util/TreeMap$NavigableSubMap" "hiInclusive" "Z") ∈ lw_all := lw_g (lw_at lw_m4 46 rfl) rfl
theorem q803 : (Jvm.Cond.lays "java/util/TreeMap$AscendingSubMap" "java/util/TreeMap$NavigableSubMap" "descendingMapView" "Ljava/util/NavigableMap;") ∈ lw_all := lw_g (lw_at lw_m4 48 rfl) rfl
theorem q805 : (Jvm.Cond.lays "java/util/TreeMap$AscendingSubMap" "java/util/TreeMap$NavigableSubMap" "entrySetView" "Ljava/util/TreeMap$NavigableSubMap$EntrySetView;") ∈ lw_all := lw_g (lw_at lw_m4 50 rfl) rfl
theorem q807 : (Jvm.Cond.lays "java/util/TreeMap$AscendingSubMap" "java/util/TreeMap$NavigableSubMap" "navigableKeySetView" "Ljava/util/TreeMap$KeySet;") ∈ lw_all := lw_g (lw_at lw_m4 52 rfl) rfl
theorem q809 : (Jvm.Cond.lays "java/util/TreeMap$AscendingSubMap" "java/util/AbstractMap" "keySet" "Ljava/util/Set;") ∈ lw_all := lw_g (lw_at lw_m4 54 rfl) rfl
theorem q810 : (Jvm.Cond.lays "java/util/TreeMap$AscendingSubMap" "java/util/AbstractMap" "values" "Ljava/util/Collection;") ∈ lw_all := lw_g (lw_at lw_m4 55 rfl) rfl
theorem q811 : (Jvm.Cond.superclass "java/util/TreeMap$AscendingSubMap" "java/util/TreeMap$NavigableSubMap") ∈ lw_all := lw_g (lw_at lw_m4 56 rfl) rfl
theorem q832 : (Jvm.Cond.castable "java/util/TreeMap$AscendingSubMap" "java/util/SortedMap") ∈ lw_tbl := lw_at lw_m4 77 rfl
theorem q833 : (Jvm.Cond.selects "java/util/TreeMap$AscendingSubMap" ({ cls := "java/util/SortedMap", name := "values", desc := "()Ljava/util/Collection;" } : Jvm.MethodName) ({ cls := "java/util/AbstractMap", name := "values", desc := "()Ljava/util/Collection;" } : Jvm.MethodName)) ∈ lw_all := lw_g (lw_at lw_m4 78 rfl) rfl
theorem q834 : (Jvm.Cond.unhidden "java/util/TreeMap$AscendingSubMap" "values" "()Ljava/util/Collection;") ∈ lw_tbl := lw_at lw_m4 79 rfl
theorem q884 : (Jvm.Cond.selects "java/util/TreeMap$AscendingSubMap" ({ cls := "java/util/AbstractMap", name := "entrySet", desc := "()Ljava/util/Set;" } : Jvm.MethodName) ({ cls := "java/util/TreeMap$AscendingSubMap", name := "entrySet", desc := "()Ljava/util/Set;" } : Jvm.MethodName)) ∈ lw_all := lw_g (lw_at lw_m4 129 rfl) rfl
theorem q885 : (Jvm.Cond.instanceMethod ({ cls := "java/util/TreeMap$AscendingSubMap", name := "entrySet", desc := "()Ljava/util/Set;" } : Jvm.MethodName)) ∈ lw_all := lw_g (lw_at lw_m4 130 rfl) rfl
theorem q886 : (Jvm.Cond.code ({ cls := "java/util/TreeMap$AscendingSubMap", name := "entrySet", desc := "()Ljava/util/Set;" } : Jvm.MethodName) prog_52_method_10_code (2 : Nat) (Option.some (Jvm.ClassFile.FieldType.object "java/util/Set"))) ∈ lw_all := lw_g (lw_at lw_m4 131 rfl) rfl
theorem q887 : (Jvm.Cond.classLink "java/util/TreeMap$AscendingSubMap" (85 : Nat) "java/util/TreeMap$AscendingSubMap$AscendingEntrySetView") ∈ lw_all := lw_g (lw_at lw_m4 132 rfl) rfl
theorem q889 : (Jvm.Cond.methodLink "java/util/TreeMap$AscendingSubMap" (87 : Nat) ({ cls := "java/util/TreeMap$AscendingSubMap$AscendingEntrySetView", name := "<init>", desc := "(Ljava/util/TreeMap$AscendingSubMap;)V" } : Jvm.MethodName)) ∈ lw_all := lw_g (lw_at lw_m4 134 rfl) rfl
theorem q921 : (Jvm.Cond.sameMethod "java/util/TreeMap$AscendingSubMap" "java/util/TreeMap$NavigableSubMap" "absLowest" "()Ljava/util/TreeMap$Entry;") ∈ lw_all := lw_g (lw_at lw_m4 166 rfl) rfl
theorem q923 : (Jvm.Cond.selects "java/util/TreeMap$AscendingSubMap" ({ cls := "java/util/TreeMap$AscendingSubMap", name := "absLowest", desc := "()Ljava/util/TreeMap$Entry;" } : Jvm.MethodName) ({ cls := "java/util/TreeMap$NavigableSubMap", name := "absLowest", desc := "()Ljava/util/TreeMap$Entry;" } : Jvm.MethodName)) ∈ lw_all := lw_g (lw_at lw_m4 168 rfl) rfl
theorem q941 : (Jvm.Cond.selects "java/util/TreeMap$AscendingSubMap" ({ cls := "java/util/TreeMap$NavigableSubMap", name := "tooHigh", desc := "(Ljava/lang/Object;)Z" } : Jvm.MethodName) ({ cls := "java/util/TreeMap$NavigableSubMap", name := "tooHigh", desc := "(Ljava/lang/Object;)Z" } : Jvm.MethodName)) ∈ lw_all := lw_g (lw_at lw_m4 186 rfl) rfl
theorem q944 : (Jvm.Cond.sameMethod "java/util/TreeMap$AscendingSubMap" "java/util/TreeMap$NavigableSubMap" "absHighFence" "()Ljava/util/TreeMap$Entry;") ∈ lw_all := lw_g (lw_at lw_m4 189 rfl) rfl
theorem q946 : (Jvm.Cond.selects "java/util/TreeMap$AscendingSubMap" ({ cls := "java/util/TreeMap$AscendingSubMap", name := "absHighFence", desc := "()Ljava/util/TreeMap$Entry;" } : Jvm.MethodName) ({ cls := "java/util/TreeMap$NavigableSubMap", name := "absHighFence", desc := "()Ljava/util/TreeMap$Entry;" } : Jvm.MethodName)) ∈ lw_all := lw_g (lw_at lw_m4 191 rfl) rfl
theorem q1523 : (Jvm.Cond.castable "java/util/TreeMap$AscendingSubMap" "java/lang/Object") ∈ lw_tbl := lw_at lw_m7 48 rfl
theorem in_J23 : ∀ w ∈ wsJ230, w ∈ lw_all := lw_in wsJ230 [789, 791, 793, 795, 797, 799, 801, 803, 805, 807, 809, 810] (by decide +kernel) (by decide +kernel)
/-! java/util/TreeMap$Values -/
set_option maxRecDepth 100000
def RJ24 : String := "java/util/TreeMap$Values"
def TJ24 : u_T := fun k => match k with
  | _ => ("java/util/TreeMap$Values", "this$0", "Ljava/util/TreeMap;", true)
def tyJ24 : Nat → FieldType := fun k => match k with
  | _ => .object "java/util/TreeMap"
abbrev wsJ240 : List Cond := u_ws RJ24 TJ24 1
theorem nmJ24 : ∀ a, a < 1 → ∀ b, b < 1 → a ≠ b → (TJ24 a).2.1 ≠ (TJ24 b).2.1 := by decide +kernel
theorem tyJ24_ok : ∀ k, k < 1 → parseFieldDescriptor (TJ24 k).2.2.1 = some (tyJ24 k) := by decide +kernel
abbrev cJ24_init : ByteArray := prog_63_method_1_code
def yJ24_init : MethodName := ⟨RJ24, "<init>", "(Ljava/util/TreeMap;)V"⟩
def dkwJ24_init_0 : List UInt8 := [42, 43, 181, 0, 1, 42, 183, 0, 7, 177]
abbrev dktJ24_init_0 : List UInt8 := dkwJ24_init_0 ++ []
theorem dksJ24_init_0 : cJ24_init.data.toList.drop 0 = dktJ24_init_0 := by decide +kernel
theorem dJ24_init_0 : decode cJ24_init 0 = .ok (.aload_n 0, 1) := dk_42 (dk_at dksJ24_init_0 0 rfl rfl)
theorem dJ24_init_1 : decode cJ24_init 1 = .ok (.aload_n 1, 1) := dk_43 (dk_at dksJ24_init_0 1 rfl rfl)
theorem dJ24_init_2 : decode cJ24_init 2 = .ok (.putfield 1, 3) := dk_181 0 1 (dk_at dksJ24_init_0 2 rfl rfl)
theorem dJ24_init_5 : decode cJ24_init 5 = .ok (.aload_n 0, 1) := dk_42 (dk_at dksJ24_init_0 5 rfl rfl)
theorem dJ24_init_6 : decode cJ24_init 6 = .ok (.invokespecial 7, 3) := dk_183 0 7 (dk_at dksJ24_init_0 6 rfl rfl)
theorem dJ24_init_9 : decode cJ24_init 9 = .ok (.return_, 1) := dk_177 (dk_at dksJ24_init_0 9 rfl rfl)
abbrev cJ24_iterator : ByteArray := prog_63_method_2_code
def yJ24_iterator : MethodName := ⟨RJ24, "iterator", "()Ljava/util/Iterator;"⟩
def dkwJ24_iterator_0 : List UInt8 := [187, 0, 13, 89, 42, 180, 0, 1, 42, 180, 0, 1, 182, 0, 15, 183, 0, 21, 176]
abbrev dktJ24_iterator_0 : List UInt8 := dkwJ24_iterator_0 ++ []
theorem dksJ24_iterator_0 : cJ24_iterator.data.toList.drop 0 = dktJ24_iterator_0 := by decide +kernel
theorem dJ24_iterator_0 : decode cJ24_iterator 0 = .ok (.new 13, 3) := dk_187 0 13 (dk_at dksJ24_iterator_0 0 rfl rfl)
theorem dJ24_iterator_3 : decode cJ24_iterator 3 = .ok (.dup, 1) := dk_89 (dk_at dksJ24_iterator_0 3 rfl rfl)
theorem dJ24_iterator_4 : decode cJ24_iterator 4 = .ok (.aload_n 0, 1) := dk_42 (dk_at dksJ24_iterator_0 4 rfl rfl)
theorem dJ24_iterator_5 : decode cJ24_iterator 5 = .ok (.getfield 1, 3) := dk_180 0 1 (dk_at dksJ24_iterator_0 5 rfl rfl)
theorem dJ24_iterator_8 : decode cJ24_iterator 8 = .ok (.aload_n 0, 1) := dk_42 (dk_at dksJ24_iterator_0 8 rfl rfl)
theorem dJ24_iterator_9 : decode cJ24_iterator 9 = .ok (.getfield 1, 3) := dk_180 0 1 (dk_at dksJ24_iterator_0 9 rfl rfl)
theorem dJ24_iterator_12 : decode cJ24_iterator 12 = .ok (.invokevirtual 15, 3) := dk_182 0 15 (dk_at dksJ24_iterator_0 12 rfl rfl)
theorem dJ24_iterator_15 : decode cJ24_iterator 15 = .ok (.invokespecial 21, 3) := dk_183 0 21 (dk_at dksJ24_iterator_0 15 rfl rfl)
theorem dJ24_iterator_18 : decode cJ24_iterator 18 = .ok (.areturn, 1) := dk_176 (dk_at dksJ24_iterator_0 18 rfl rfl)
theorem q68 : (Jvm.Cond.initialized "java/util/TreeMap$Values") ∈ lw_all := lw_g (lw_at lw_m1 33 rfl) rfl
theorem q364 : (Jvm.Cond.selects "java/util/TreeMap$Values" ({ cls := "java/lang/Object", name := "getClass", desc := "()Ljava/lang/Class;" } : Jvm.MethodName) ({ cls := "java/lang/Object", name := "getClass", desc := "()Ljava/lang/Class;" } : Jvm.MethodName)) ∈ lw_all := lw_g (lw_at lw_m2 89 rfl) rfl
theorem q823 : (Jvm.Cond.instantiable "java/util/TreeMap$Values" (1 : Nat)) ∈ lw_all := lw_g (lw_at lw_m4 68 rfl) rfl
theorem q825 : (Jvm.Cond.instanceMethod ({ cls := "java/util/TreeMap$Values", name := "<init>", desc := "(Ljava/util/TreeMap;)V" } : Jvm.MethodName)) ∈ lw_all := lw_g (lw_at lw_m4 70 rfl) rfl
theorem q826 : (Jvm.Cond.code ({ cls := "java/util/TreeMap$Values", name := "<init>", desc := "(Ljava/util/TreeMap;)V" } : Jvm.MethodName) prog_63_method_1_code (2 : Nat) (Option.none : Option Jvm.ClassFile.FieldType)) ∈ lw_all := lw_g (lw_at lw_m4 71 rfl) rfl
theorem q827 : (Jvm.Cond.methodLink "java/util/TreeMap$Values" (7 : Nat) ({ cls := "java/util/AbstractCollection", name := "<init>", desc := "()V" } : Jvm.MethodName)) ∈ lw_all := lw_g (lw_at lw_m4 72 rfl) rfl
theorem q828 : (Jvm.Cond.fieldLink "java/util/TreeMap$Values" (1 : Nat) "java/util/TreeMap$Values" "this$0" "Ljava/util/TreeMap;") ∈ lw_all := lw_g (lw_at lw_m4 73 rfl) rfl
theorem q829 : (Jvm.Cond.laysFinal "java/util/TreeMap$Values" "java/util/TreeMap$Values" "this$0" "Ljava/util/TreeMap;") ∈ lw_all := lw_g (lw_at lw_m4 74 rfl) rfl
theorem q830 : (Jvm.Cond.soleField "java/util/TreeMap$Values" "this$0") ∈ lw_all := lw_g (lw_at lw_m4 75 rfl) rfl
theorem q831 : (Jvm.Cond.superclass "java/util/TreeMap$Values" "java/util/AbstractCollection") ∈ lw_all := lw_g (lw_at lw_m4 76 rfl) rfl
theorem q1039 : (Jvm.Cond.castable "java/util/TreeMap$Values" "java/util/Collection") ∈ lw_tbl := lw_at lw_m5 44 rfl
theorem q1040 : (Jvm.Cond.selects "java/util/TreeMap$Values" ({ cls := "java/util/Collection", name := "iterator", desc := "()Ljava/util/Iterator;" } : Jvm.MethodName) ({ cls := "java/util/TreeMap$Values", name := "iterator", desc := "()Ljava/util/Iterator;" } : Jvm.MethodName)) ∈ lw_all := lw_g (lw_at lw_m5 45 rfl) rfl
theorem q1041 : (Jvm.Cond.unhidden "java/util/TreeMap$Values" "iterator" "()Ljava/util/Iterator;") ∈ lw_tbl := lw_at lw_m5 46 rfl
theorem q1042 : (Jvm.Cond.instanceMethod ({ cls := "java/util/TreeMap$Values", name := "iterator", desc := "()Ljava/util/Iterator;" } : Jvm.MethodName)) ∈ lw_all := lw_g (lw_at lw_m5 47 rfl) rfl
theorem q1043 : (Jvm.Cond.publicMethod ({ cls := "java/util/TreeMap$Values", name := "iterator", desc := "()Ljava/util/Iterator;" } : Jvm.MethodName)) ∈ lw_tbl := lw_at lw_m5 48 rfl
theorem q1044 : (Jvm.Cond.code ({ cls := "java/util/TreeMap$Values", name := "iterator", desc := "()Ljava/util/Iterator;" } : Jvm.MethodName) prog_63_method_2_code (1 : Nat) (Option.some (Jvm.ClassFile.FieldType.object "java/util/Iterator"))) ∈ lw_all := lw_g (lw_at lw_m5 49 rfl) rfl
theorem q1045 : (Jvm.Cond.classLink "java/util/TreeMap$Values" (13 : Nat) "java/util/TreeMap$ValueIterator") ∈ lw_all := lw_g (lw_at lw_m5 50 rfl) rfl
theorem q1047 : (Jvm.Cond.methodLink "java/util/TreeMap$Values" (15 : Nat) ({ cls := "java/util/TreeMap", name := "getFirstEntry", desc := "()Ljava/util/TreeMap$Entry;" } : Jvm.MethodName)) ∈ lw_all := lw_g (lw_at lw_m5 52 rfl) rfl
theorem q1048 : (Jvm.Cond.methodLink "java/util/TreeMap$Values" (21 : Nat) ({ cls := "java/util/TreeMap$ValueIterator", name := "<init>", desc := "(Ljava/util/TreeMap;Ljava/util/TreeMap$Entry;)V" } : Jvm.MethodName)) ∈ lw_all := lw_g (lw_at lw_m5 53 rfl) rfl
theorem q1524 : (Jvm.Cond.castable "java/util/TreeMap$Values" "java/lang/Object") ∈ lw_tbl := lw_at lw_m7 49 rfl
theorem in_J24 : ∀ w ∈ wsJ240, w ∈ lw_all := lw_in wsJ240 [829] (by decide +kernel) (by decide +kernel)
/-! java/util/AbstractMap$2 -/
set_option maxRecDepth 100000
def RJ25 : String := "java/util/AbstractMap$2"
def TJ25 : u_T := fun k => match k with
  | _ => ("java/util/AbstractMap$2", "this$0", "Ljava/util/AbstractMap;", true)
def tyJ25 : Nat → FieldType := fun k => match k with
  | _ => .object "java/util/AbstractMap"
abbrev wsJ250 : List Cond := u_ws RJ25 TJ25 1
theorem nmJ25 : ∀ a, a < 1 → ∀ b, b < 1 → a ≠ b → (TJ25 a).2.1 ≠ (TJ25 b).2.1 := by decide +kernel
theorem tyJ25_ok : ∀ k, k < 1 → parseFieldDescriptor (TJ25 k).2.2.1 = some (tyJ25 k) := by decide +kernel
abbrev cJ25_init : ByteArray := prog_32_method_1_code
def yJ25_init : MethodName := ⟨RJ25, "<init>", "(Ljava/util/AbstractMap;)V"⟩
def dkwJ25_init_0 : List UInt8 := [42, 43, 181, 0, 1, 42, 183, 0, 7, 177]
abbrev dktJ25_init_0 : List UInt8 := dkwJ25_init_0 ++ []
theorem dksJ25_init_0 : cJ25_init.data.toList.drop 0 = dktJ25_init_0 := by decide +kernel
theorem dJ25_init_0 : decode cJ25_init 0 = .ok (.aload_n 0, 1) := dk_42 (dk_at dksJ25_init_0 0 rfl rfl)
theorem dJ25_init_1 : decode cJ25_init 1 = .ok (.aload_n 1, 1) := dk_43 (dk_at dksJ25_init_0 1 rfl rfl)
theorem dJ25_init_2 : decode cJ25_init 2 = .ok (.putfield 1, 3) := dk_181 0 1 (dk_at dksJ25_init_0 2 rfl rfl)
theorem dJ25_init_5 : decode cJ25_init 5 = .ok (.aload_n 0, 1) := dk_42 (dk_at dksJ25_init_0 5 rfl rfl)
theorem dJ25_init_6 : decode cJ25_init 6 = .ok (.invokespecial 7, 3) := dk_183 0 7 (dk_at dksJ25_init_0 6 rfl rfl)
theorem dJ25_init_9 : decode cJ25_init 9 = .ok (.return_, 1) := dk_177 (dk_at dksJ25_init_0 9 rfl rfl)
abbrev cJ25_iterator : ByteArray := prog_32_method_2_code
def yJ25_iterator : MethodName := ⟨RJ25, "iterator", "()Ljava/util/Iterator;"⟩
def dkwJ25_iterator_0 : List UInt8 := [187, 0, 13, 89, 42, 183, 0, 15, 176]
abbrev dktJ25_iterator_0 : List UInt8 := dkwJ25_iterator_0 ++ []
theorem dksJ25_iterator_0 : cJ25_iterator.data.toList.drop 0 = dktJ25_iterator_0 := by decide +kernel
theorem dJ25_iterator_0 : decode cJ25_iterator 0 = .ok (.new 13, 3) := dk_187 0 13 (dk_at dksJ25_iterator_0 0 rfl rfl)
theorem dJ25_iterator_3 : decode cJ25_iterator 3 = .ok (.dup, 1) := dk_89 (dk_at dksJ25_iterator_0 3 rfl rfl)
theorem dJ25_iterator_4 : decode cJ25_iterator 4 = .ok (.aload_n 0, 1) := dk_42 (dk_at dksJ25_iterator_0 4 rfl rfl)
theorem dJ25_iterator_5 : decode cJ25_iterator 5 = .ok (.invokespecial 15, 3) := dk_183 0 15 (dk_at dksJ25_iterator_0 5 rfl rfl)
theorem dJ25_iterator_8 : decode cJ25_iterator 8 = .ok (.areturn, 1) := dk_176 (dk_at dksJ25_iterator_0 8 rfl rfl)
theorem q69 : (Jvm.Cond.initialized "java/util/AbstractMap$2") ∈ lw_all := lw_g (lw_at lw_m1 34 rfl) rfl
theorem q352 : (Jvm.Cond.selects "java/util/AbstractMap$2" ({ cls := "java/lang/Object", name := "getClass", desc := "()Ljava/lang/Class;" } : Jvm.MethodName) ({ cls := "java/lang/Object", name := "getClass", desc := "()Ljava/lang/Class;" } : Jvm.MethodName)) ∈ lw_all := lw_g (lw_at lw_m2 77 rfl) rfl
theorem q839 : (Jvm.Cond.instantiable "java/util/AbstractMap$2" (1 : Nat)) ∈ lw_all := lw_g (lw_at lw_m4 84 rfl) rfl
theorem q841 : (Jvm.Cond.instanceMethod ({ cls := "java/util/AbstractMap$2", name := "<init>", desc := "(Ljava/util/AbstractMap;)V" } : Jvm.MethodName)) ∈ lw_all := lw_g (lw_at lw_m4 86 rfl) rfl
theorem q842 : (Jvm.Cond.code ({ cls := "java/util/AbstractMap$2", name := "<init>", desc := "(Ljava/util/AbstractMap;)V" } : Jvm.MethodName) prog_32_method_1_code (2 : Nat) (Option.none : Option Jvm.ClassFile.FieldType)) ∈ lw_all := lw_g (lw_at lw_m4 87 rfl) rfl
theorem q843 : (Jvm.Cond.methodLink "java/util/AbstractMap$2" (7 : Nat) ({ cls := "java/util/AbstractCollection", name := "<init>", desc := "()V" } : Jvm.MethodName)) ∈ lw_all := lw_g (lw_at lw_m4 88 rfl) rfl
theorem q844 : (Jvm.Cond.fieldLink "java/util/AbstractMap$2" (1 : Nat) "java/util/AbstractMap$2" "this$0" "Ljava/util/AbstractMap;") ∈ lw_all := lw_g (lw_at lw_m4 89 rfl) rfl
theorem q846 : (Jvm.Cond.laysFinal "java/util/AbstractMap$2" "java/util/AbstractMap$2" "this$0" "Ljava/util/AbstractMap;") ∈ lw_all := lw_g (lw_at lw_m4 91 rfl) rfl
theorem q847 : (Jvm.Cond.soleField "java/util/AbstractMap$2" "this$0") ∈ lw_all := lw_g (lw_at lw_m4 92 rfl) rfl
theorem q848 : (Jvm.Cond.superclass "java/util/AbstractMap$2" "java/util/AbstractCollection") ∈ lw_all := lw_g (lw_at lw_m4 93 rfl) rfl
theorem q853 : (Jvm.Cond.castable "java/util/AbstractMap$2" "java/util/Collection") ∈ lw_tbl := lw_at lw_m4 98 rfl
theorem q854 : (Jvm.Cond.selects "java/util/AbstractMap$2" ({ cls := "java/util/Collection", name := "iterator", desc := "()Ljava/util/Iterator;" } : Jvm.MethodName) ({ cls := "java/util/AbstractMap$2", name := "iterator", desc := "()Ljava/util/Iterator;" } : Jvm.MethodName)) ∈ lw_all := lw_g (lw_at lw_m4 99 rfl) rfl
theorem q855 : (Jvm.Cond.unhidden "java/util/AbstractMap$2" "iterator" "()Ljava/util/Iterator;") ∈ lw_tbl := lw_at lw_m4 100 rfl
theorem q856 : (Jvm.Cond.instanceMethod ({ cls := "java/util/AbstractMap$2", name := "iterator", desc := "()Ljava/util/Iterator;" } : Jvm.MethodName)) ∈ lw_all := lw_g (lw_at lw_m4 101 rfl) rfl
theorem q857 : (Jvm.Cond.publicMethod ({ cls := "java/util/AbstractMap$2", name := "iterator", desc := "()Ljava/util/Iterator;" } : Jvm.MethodName)) ∈ lw_tbl := lw_at lw_m4 102 rfl
theorem q858 : (Jvm.Cond.code ({ cls := "java/util/AbstractMap$2", name := "iterator", desc := "()Ljava/util/Iterator;" } : Jvm.MethodName) prog_32_method_2_code (1 : Nat) (Option.some (Jvm.ClassFile.FieldType.object "java/util/Iterator"))) ∈ lw_all := lw_g (lw_at lw_m4 103 rfl) rfl
theorem q859 : (Jvm.Cond.classLink "java/util/AbstractMap$2" (13 : Nat) "java/util/AbstractMap$2$1") ∈ lw_all := lw_g (lw_at lw_m4 104 rfl) rfl
theorem q861 : (Jvm.Cond.methodLink "java/util/AbstractMap$2" (15 : Nat) ({ cls := "java/util/AbstractMap$2$1", name := "<init>", desc := "(Ljava/util/AbstractMap$2;)V" } : Jvm.MethodName)) ∈ lw_all := lw_g (lw_at lw_m4 106 rfl) rfl
theorem q1525 : (Jvm.Cond.castable "java/util/AbstractMap$2" "java/lang/Object") ∈ lw_tbl := lw_at lw_m7 50 rfl
theorem in_J25 : ∀ w ∈ wsJ250, w ∈ lw_all := lw_in wsJ250 [846] (by decide +kernel) (by decide +kernel)
/-! java/util/AbstractMap$2$1 -/
set_option maxRecDepth 100000
def RJ26 : String := "java/util/AbstractMap$2$1"
def TJ26 : u_T := fun k => match k with
  | 0 => ("java/util/AbstractMap$2$1", "i", "Ljava/util/Iterator;", false)
  | _ => ("java/util/AbstractMap$2$1", "this$1", "Ljava/util/AbstractMap$2;", true)
def tyJ26 : Nat → FieldType := fun k => match k with
  | 0 => .object "java/util/Iterator"
  | _ => .object "java/util/AbstractMap$2"
abbrev wsJ260 : List Cond := u_ws RJ26 TJ26 2
theorem nmJ26 : ∀ a, a < 2 → ∀ b, b < 2 → a ≠ b → (TJ26 a).2.1 ≠ (TJ26 b).2.1 := by decide +kernel
theorem tyJ26_ok : ∀ k, k < 2 → parseFieldDescriptor (TJ26 k).2.2.1 = some (tyJ26 k) := by decide +kernel
abbrev cJ26_init : ByteArray := prog_33_method_1_code
def yJ26_init : MethodName := ⟨RJ26, "<init>", "(Ljava/util/AbstractMap$2;)V"⟩
def dkwJ26_init_1 : List UInt8 := [185, 0, 25, 1, 0, 181, 0, 31, 177]
abbrev dktJ26_init_1 : List UInt8 := dkwJ26_init_1 ++ []
def dkwJ26_init_0 : List UInt8 := [42, 43, 181, 0, 1, 42, 183, 0, 7, 42, 42, 180, 0, 1, 180, 0, 13, 182, 0, 19]
abbrev dktJ26_init_0 : List UInt8 := dkwJ26_init_0 ++ dktJ26_init_1
theorem dksJ26_init_0 : cJ26_init.data.toList.drop 0 = dktJ26_init_0 := by decide +kernel
theorem dksJ26_init_1 : cJ26_init.data.toList.drop 20 = dktJ26_init_1 := dk_seg dksJ26_init_0 20 rfl rfl
theorem dJ26_init_0 : decode cJ26_init 0 = .ok (.aload_n 0, 1) := dk_42 (dk_at dksJ26_init_0 0 rfl rfl)
theorem dJ26_init_1 : decode cJ26_init 1 = .ok (.aload_n 1, 1) := dk_43 (dk_at dksJ26_init_0 1 rfl rfl)
theorem dJ26_init_2 : decode cJ26_init 2 = .ok (.putfield 1, 3) := dk_181 0 1 (dk_at dksJ26_init_0 2 rfl rfl)
theorem dJ26_init_5 : decode cJ26_init 5 = .ok (.aload_n 0, 1) := dk_42 (dk_at dksJ26_init_0 5 rfl rfl)
theorem dJ26_init_6 : decode cJ26_init 6 = .ok (.invokespecial 7, 3) := dk_183 0 7 (dk_at dksJ26_init_0 6 rfl rfl)
theorem dJ26_init_9 : decode cJ26_init 9 = .ok (.aload_n 0, 1) := dk_42 (dk_at dksJ26_init_0 9 rfl rfl)
theorem dJ26_init_10 : decode cJ26_init 10 = .ok (.aload_n 0, 1) := dk_42 (dk_at dksJ26_init_0 10 rfl rfl)
theorem dJ26_init_11 : decode cJ26_init 11 = .ok (.getfield 1, 3) := dk_180 0 1 (dk_at dksJ26_init_0 11 rfl rfl)
theorem dJ26_init_14 : decode cJ26_init 14 = .ok (.getfield 13, 3) := dk_180 0 13 (dk_at dksJ26_init_0 14 rfl rfl)
theorem dJ26_init_17 : decode cJ26_init 17 = .ok (.invokevirtual 19, 3) := dk_182 0 19 (dk_at dksJ26_init_0 17 rfl rfl)
theorem dJ26_init_20 : decode cJ26_init 20 = .ok (.invokeinterface 25 1, 5) := by decide +kernel
theorem dJ26_init_25 : decode cJ26_init 25 = .ok (.putfield 31, 3) := dk_181 0 31 (dk_at dksJ26_init_1 5 rfl rfl)
theorem dJ26_init_28 : decode cJ26_init 28 = .ok (.return_, 1) := dk_177 (dk_at dksJ26_init_1 8 rfl rfl)
abbrev cJ26_hasNext : ByteArray := prog_33_method_2_code
def yJ26_hasNext : MethodName := ⟨RJ26, "hasNext", "()Z"⟩
def dkwJ26_hasNext_0 : List UInt8 := [42, 180, 0, 31, 185, 0, 35, 1, 0, 172]
abbrev dktJ26_hasNext_0 : List UInt8 := dkwJ26_hasNext_0 ++ []
theorem dksJ26_hasNext_0 : cJ26_hasNext.data.toList.drop 0 = dktJ26_hasNext_0 := by decide +kernel
theorem dJ26_hasNext_0 : decode cJ26_hasNext 0 = .ok (.aload_n 0, 1) := dk_42 (dk_at dksJ26_hasNext_0 0 rfl rfl)
theorem dJ26_hasNext_1 : decode cJ26_hasNext 1 = .ok (.getfield 31, 3) := dk_180 0 31 (dk_at dksJ26_hasNext_0 1 rfl rfl)
theorem dJ26_hasNext_4 : decode cJ26_hasNext 4 = .ok (.invokeinterface 35 1, 5) := by decide +kernel
theorem dJ26_hasNext_9 : decode cJ26_hasNext 9 = .ok (.ireturn, 1) := dk_172 (dk_at dksJ26_hasNext_0 9 rfl rfl)
abbrev cJ26_next : ByteArray := prog_33_method_3_code
def yJ26_next : MethodName := ⟨RJ26, "next", "()Ljava/lang/Object;"⟩
def dkwJ26_next_0 : List UInt8 := [42, 180, 0, 31, 185, 0, 41, 1, 0, 192, 0, 45, 185, 0, 47, 1, 0, 176]
abbrev dktJ26_next_0 : List UInt8 := dkwJ26_next_0 ++ []
theorem dksJ26_next_0 : cJ26_next.data.toList.drop 0 = dktJ26_next_0 := by decide +kernel
theorem dJ26_next_0 : decode cJ26_next 0 = .ok (.aload_n 0, 1) := dk_42 (dk_at dksJ26_next_0 0 rfl rfl)
theorem dJ26_next_1 : decode cJ26_next 1 = .ok (.getfield 31, 3) := dk_180 0 31 (dk_at dksJ26_next_0 1 rfl rfl)
theorem dJ26_next_4 : decode cJ26_next 4 = .ok (.invokeinterface 41 1, 5) := by decide +kernel
theorem dJ26_next_9 : decode cJ26_next 9 = .ok (.checkcast 45, 3) := dk_192 0 45 (dk_at dksJ26_next_0 9 rfl rfl)
theorem dJ26_next_12 : decode cJ26_next 12 = .ok (.invokeinterface 47 1, 5) := by decide +kernel
theorem dJ26_next_17 : decode cJ26_next 17 = .ok (.areturn, 1) := dk_176 (dk_at dksJ26_next_0 17 rfl rfl)
theorem q70 : (Jvm.Cond.initialized "java/util/AbstractMap$2$1") ∈ lw_all := lw_g (lw_at lw_m1 35 rfl) rfl
theorem q353 : (Jvm.Cond.selects "java/util/AbstractMap$2$1" ({ cls := "java/lang/Object", name := "getClass", desc := "()Ljava/lang/Class;" } : Jvm.MethodName) ({ cls := "java/lang/Object", name := "getClass", desc := "()Ljava/lang/Class;" } : Jvm.MethodName)) ∈ lw_all := lw_g (lw_at lw_m2 78 rfl) rfl
theorem q845 : (Jvm.Cond.fieldLink "java/util/AbstractMap$2$1" (13 : Nat) "java/util/AbstractMap$2" "this$0" "Ljava/util/AbstractMap;") ∈ lw_all := lw_g (lw_at lw_m4 90 rfl) rfl
theorem q860 : (Jvm.Cond.instantiable "java/util/AbstractMap$2$1" (2 : Nat)) ∈ lw_all := lw_g (lw_at lw_m4 105 rfl) rfl
theorem q862 : (Jvm.Cond.instanceMethod ({ cls := "java/util/AbstractMap$2$1", name := "<init>", desc := "(Ljava/util/AbstractMap$2;)V" } : Jvm.MethodName)) ∈ lw_all := lw_g (lw_at lw_m4 107 rfl) rfl
theorem q863 : (Jvm.Cond.code ({ cls := "java/util/AbstractMap$2$1", name := "<init>", desc := "(Ljava/util/AbstractMap$2;)V" } : Jvm.MethodName) prog_33_method_1_code (2 : Nat) (Option.none : Option Jvm.ClassFile.FieldType)) ∈ lw_all := lw_g (lw_at lw_m4 108 rfl) rfl
theorem q864 : (Jvm.Cond.methodLink "java/util/AbstractMap$2$1" (7 : Nat) ({ cls := "java/lang/Object", name := "<init>", desc := "()V" } : Jvm.MethodName)) ∈ lw_all := lw_g (lw_at lw_m4 109 rfl) rfl
theorem q865 : (Jvm.Cond.methodLink "java/util/AbstractMap$2$1" (19 : Nat) ({ cls := "java/util/AbstractMap", name := "entrySet", desc := "()Ljava/util/Set;" } : Jvm.MethodName)) ∈ lw_all := lw_g (lw_at lw_m4 110 rfl) rfl
theorem q908 : (Jvm.Cond.interfaceEntry "java/util/AbstractMap$2$1" (25 : Nat)) ∈ lw_tbl := lw_at lw_m4 153 rfl
theorem q909 : (Jvm.Cond.methodLink "java/util/AbstractMap$2$1" (25 : Nat) ({ cls := "java/util/Set", name := "iterator", desc := "()Ljava/util/Iterator;" } : Jvm.MethodName)) ∈ lw_all := lw_g (lw_at lw_m4 154 rfl) rfl
theorem q1003 : (Jvm.Cond.fieldLink "java/util/AbstractMap$2$1" (31 : Nat) "java/util/AbstractMap$2$1" "i" "Ljava/util/Iterator;") ∈ lw_all := lw_g (lw_at lw_m5 8 rfl) rfl
theorem q1004 : (Jvm.Cond.fieldLink "java/util/AbstractMap$2$1" (1 : Nat) "java/util/AbstractMap$2$1" "this$1" "Ljava/util/AbstractMap$2;") ∈ lw_all := lw_g (lw_at lw_m5 9 rfl) rfl
theorem q1005 : (Jvm.Cond.lays "java/util/AbstractMap$2$1" "java/util/AbstractMap$2$1" "i" "Ljava/util/Iterator;") ∈ lw_all := lw_g (lw_at lw_m5 10 rfl) rfl
theorem q1006 : (Jvm.Cond.soleField "java/util/AbstractMap$2$1" "i") ∈ lw_all := lw_g (lw_at lw_m5 11 rfl) rfl
theorem q1007 : (Jvm.Cond.laysFinal "java/util/AbstractMap$2$1" "java/util/AbstractMap$2$1" "this$1" "Ljava/util/AbstractMap$2;") ∈ lw_all := lw_g (lw_at lw_m5 12 rfl) rfl
theorem q1008 : (Jvm.Cond.soleField "java/util/AbstractMap$2$1" "this$1") ∈ lw_all := lw_g (lw_at lw_m5 13 rfl) rfl
theorem q1009 : (Jvm.Cond.superclass "java/util/AbstractMap$2$1" "java/lang/Object") ∈ lw_all := lw_g (lw_at lw_m5 14 rfl) rfl
theorem q1061 : (Jvm.Cond.castable "java/util/AbstractMap$2$1" "java/util/Iterator") ∈ lw_tbl := lw_at lw_m5 66 rfl
theorem q1062 : (Jvm.Cond.selects "java/util/AbstractMap$2$1" ({ cls := "java/util/Iterator", name := "hasNext", desc := "()Z" } : Jvm.MethodName) ({ cls := "java/util/AbstractMap$2$1", name := "hasNext", desc := "()Z" } : Jvm.MethodName)) ∈ lw_all := lw_g (lw_at lw_m5 67 rfl) rfl
theorem q1063 : (Jvm.Cond.unhidden "java/util/AbstractMap$2$1" "hasNext" "()Z") ∈ lw_tbl := lw_at lw_m5 68 rfl
theorem q1064 : (Jvm.Cond.instanceMethod ({ cls := "java/util/AbstractMap$2$1", name := "hasNext", desc := "()Z" } : Jvm.MethodName)) ∈ lw_all := lw_g (lw_at lw_m5 69 rfl) rfl
theorem q1065 : (Jvm.Cond.publicMethod ({ cls := "java/util/AbstractMap$2$1", name := "hasNext", desc := "()Z" } : Jvm.MethodName)) ∈ lw_tbl := lw_at lw_m5 70 rfl
theorem q1066 : (Jvm.Cond.code ({ cls := "java/util/AbstractMap$2$1", name := "hasNext", desc := "()Z" } : Jvm.MethodName) prog_33_method_2_code (1 : Nat) (Option.some Jvm.ClassFile.FieldType.boolean)) ∈ lw_all := lw_g (lw_at lw_m5 71 rfl) rfl
theorem q1067 : (Jvm.Cond.interfaceEntry "java/util/AbstractMap$2$1" (35 : Nat)) ∈ lw_tbl := lw_at lw_m5 72 rfl
theorem q1068 : (Jvm.Cond.methodLink "java/util/AbstractMap$2$1" (35 : Nat) ({ cls := "java/util/Iterator", name := "hasNext", desc := "()Z" } : Jvm.MethodName)) ∈ lw_all := lw_g (lw_at lw_m5 73 rfl) rfl
theorem q1094 : (Jvm.Cond.selects "java/util/AbstractMap$2$1" ({ cls := "java/util/Iterator", name := "next", desc := "()Ljava/lang/Object;" } : Jvm.MethodName) ({ cls := "java/util/AbstractMap$2$1", name := "next", desc := "()Ljava/lang/Object;" } : Jvm.MethodName)) ∈ lw_all := lw_g (lw_at lw_m5 99 rfl) rfl
theorem q1095 : (Jvm.Cond.unhidden "java/util/AbstractMap$2$1" "next" "()Ljava/lang/Object;") ∈ lw_tbl := lw_at lw_m5 100 rfl
theorem q1096 : (Jvm.Cond.instanceMethod ({ cls := "java/util/AbstractMap$2$1", name := "next", desc := "()Ljava/lang/Object;" } : Jvm.MethodName)) ∈ lw_all := lw_g (lw_at lw_m5 101 rfl) rfl
theorem q1097 : (Jvm.Cond.publicMethod ({ cls := "java/util/AbstractMap$2$1", name := "next", desc := "()Ljava/lang/Object;" } : Jvm.MethodName)) ∈ lw_tbl := lw_at lw_m5 102 rfl
theorem q1098 : (Jvm.Cond.code ({ cls := "java/util/AbstractMap$2$1", name := "next", desc := "()Ljava/lang/Object;" } : Jvm.MethodName) prog_33_method_3_code (1 : Nat) (Option.some (Jvm.ClassFile.FieldType.object "java/lang/Object"))) ∈ lw_all := lw_g (lw_at lw_m5 103 rfl) rfl
theorem q1099 : (Jvm.Cond.interfaceEntry "java/util/AbstractMap$2$1" (41 : Nat)) ∈ lw_tbl := lw_at lw_m5 104 rfl
theorem q1100 : (Jvm.Cond.methodLink "java/util/AbstractMap$2$1" (41 : Nat) ({ cls := "java/util/Iterator", name := "next", desc := "()Ljava/lang/Object;" } : Jvm.MethodName)) ∈ lw_all := lw_g (lw_at lw_m5 105 rfl) rfl
theorem q1152 : (Jvm.Cond.classLink "java/util/AbstractMap$2$1" (45 : Nat) "java/util/Map$Entry") ∈ lw_all := lw_g (lw_at lw_m5 157 rfl) rfl
theorem q1153 : (Jvm.Cond.interfaceEntry "java/util/AbstractMap$2$1" (47 : Nat)) ∈ lw_tbl := lw_at lw_m5 158 rfl
theorem q1154 : (Jvm.Cond.methodLink "java/util/AbstractMap$2$1" (47 : Nat) ({ cls := "java/util/Map$Entry", name := "getValue", desc := "()Ljava/lang/Object;" } : Jvm.MethodName)) ∈ lw_all := lw_g (lw_at lw_m5 159 rfl) rfl
theorem q1526 : (Jvm.Cond.castable "java/util/AbstractMap$2$1" "java/lang/Object") ∈ lw_tbl := lw_at lw_m7 51 rfl
theorem in_J26 : ∀ w ∈ wsJ260, w ∈ lw_all := lw_in wsJ260 [1005, 1007] (by decide +kernel) (by decide +kernel)
/-! java/util/AbstractSet -/
set_option maxRecDepth 100000
def RJ27 : String := "java/util/AbstractSet"
abbrev cJ27_init : ByteArray := prog_34_method_1_code
def yJ27_init : MethodName := ⟨RJ27, "<init>", "()V"⟩
theorem dJ27_init_0 : decode cJ27_init 0 = .ok (.aload_n 0, 1) := by decide +kernel
theorem dJ27_init_1 : decode cJ27_init 1 = .ok (.invokespecial 1, 3) := by decide +kernel
theorem dJ27_init_4 : decode cJ27_init 4 = .ok (.return_, 1) := by decide +kernel
theorem q71 : (Jvm.Cond.initialized "java/util/AbstractSet") ∈ lw_all := lw_g (lw_at lw_m1 36 rfl) rfl
theorem q877 : (Jvm.Cond.instanceMethod ({ cls := "java/util/AbstractSet", name := "<init>", desc := "()V" } : Jvm.MethodName)) ∈ lw_all := lw_g (lw_at lw_m4 122 rfl) rfl
theorem q878 : (Jvm.Cond.code ({ cls := "java/util/AbstractSet", name := "<init>", desc := "()V" } : Jvm.MethodName) prog_34_method_1_code (1 : Nat) (Option.none : Option Jvm.ClassFile.FieldType)) ∈ lw_all := lw_g (lw_at lw_m4 123 rfl) rfl
theorem q879 : (Jvm.Cond.methodLink "java/util/AbstractSet" (1 : Nat) ({ cls := "java/util/AbstractCollection", name := "<init>", desc := "()V" } : Jvm.MethodName)) ∈ lw_all := lw_g (lw_at lw_m4 124 rfl) rfl
/-! java/util/TreeMap$EntrySet -/
set_option maxRecDepth 100000
def RJ28 : String := "java/util/TreeMap$EntrySet"
def TJ28 : u_T := fun k => match k with
  | _ => ("java/util/TreeMap$EntrySet", "this$0", "Ljava/util/TreeMap;", true)
def tyJ28 : Nat → FieldType := fun k => match k with
  | _ => .object "java/util/TreeMap"
abbrev wsJ280 : List Cond := u_ws RJ28 TJ28 1
theorem nmJ28 : ∀ a, a < 1 → ∀ b, b < 1 → a ≠ b → (TJ28 a).2.1 ≠ (TJ28 b).2.1 := by decide +kernel
theorem tyJ28_ok : ∀ k, k < 1 → parseFieldDescriptor (TJ28 k).2.2.1 = some (tyJ28 k) := by decide +kernel
abbrev cJ28_init : ByteArray := prog_56_method_1_code
def yJ28_init : MethodName := ⟨RJ28, "<init>", "(Ljava/util/TreeMap;)V"⟩
def dkwJ28_init_0 : List UInt8 := [42, 43, 181, 0, 1, 42, 183, 0, 7, 177]
abbrev dktJ28_init_0 : List UInt8 := dkwJ28_init_0 ++ []
theorem dksJ28_init_0 : cJ28_init.data.toList.drop 0 = dktJ28_init_0 := by decide +kernel
theorem dJ28_init_0 : decode cJ28_init 0 = .ok (.aload_n 0, 1) := dk_42 (dk_at dksJ28_init_0 0 rfl rfl)
theorem dJ28_init_1 : decode cJ28_init 1 = .ok (.aload_n 1, 1) := dk_43 (dk_at dksJ28_init_0 1 rfl rfl)
theorem dJ28_init_2 : decode cJ28_init 2 = .ok (.putfield 1, 3) := dk_181 0 1 (dk_at dksJ28_init_0 2 rfl rfl)
theorem dJ28_init_5 : decode cJ28_init 5 = .ok (.aload_n 0, 1) := dk_42 (dk_at dksJ28_init_0 5 rfl rfl)
theorem dJ28_init_6 : decode cJ28_init 6 = .ok (.invokespecial 7, 3) := dk_183 0 7 (dk_at dksJ28_init_0 6 rfl rfl)
theorem dJ28_init_9 : decode cJ28_init 9 = .ok (.return_, 1) := dk_177 (dk_at dksJ28_init_0 9 rfl rfl)
abbrev cJ28_iterator : ByteArray := prog_56_method_2_code
def yJ28_iterator : MethodName := ⟨RJ28, "iterator", "()Ljava/util/Iterator;"⟩
def dkwJ28_iterator_0 : List UInt8 := [187, 0, 13, 89, 42, 180, 0, 1, 42, 180, 0, 1, 182, 0, 15, 183, 0, 21, 176]
abbrev dktJ28_iterator_0 : List UInt8 := dkwJ28_iterator_0 ++ []
theorem dksJ28_iterator_0 : cJ28_iterator.data.toList.drop 0 = dktJ28_iterator_0 := by decide +kernel
theorem dJ28_iterator_0 : decode cJ28_iterator 0 = .ok (.new 13, 3) := dk_187 0 13 (dk_at dksJ28_iterator_0 0 rfl rfl)
theorem dJ28_iterator_3 : decode cJ28_iterator 3 = .ok (.dup, 1) := dk_89 (dk_at dksJ28_iterator_0 3 rfl rfl)
theorem dJ28_iterator_4 : decode cJ28_iterator 4 = .ok (.aload_n 0, 1) := dk_42 (dk_at dksJ28_iterator_0 4 rfl rfl)
theorem dJ28_iterator_5 : decode cJ28_iterator 5 = .ok (.getfield 1, 3) := dk_180 0 1 (dk_at dksJ28_iterator_0 5 rfl rfl)
theorem dJ28_iterator_8 : decode cJ28_iterator 8 = .ok (.aload_n 0, 1) := dk_42 (dk_at dksJ28_iterator_0 8 rfl rfl)
theorem dJ28_iterator_9 : decode cJ28_iterator 9 = .ok (.getfield 1, 3) := dk_180 0 1 (dk_at dksJ28_iterator_0 9 rfl rfl)
theorem dJ28_iterator_12 : decode cJ28_iterator 12 = .ok (.invokevirtual 15, 3) := dk_182 0 15 (dk_at dksJ28_iterator_0 12 rfl rfl)
theorem dJ28_iterator_15 : decode cJ28_iterator 15 = .ok (.invokespecial 21, 3) := dk_183 0 21 (dk_at dksJ28_iterator_0 15 rfl rfl)
theorem dJ28_iterator_18 : decode cJ28_iterator 18 = .ok (.areturn, 1) := dk_176 (dk_at dksJ28_iterator_0 18 rfl rfl)
theorem q72 : (Jvm.Cond.initialized "java/util/TreeMap$EntrySet") ∈ lw_all := lw_g (lw_at lw_m1 37 rfl) rfl
theorem q361 : (Jvm.Cond.selects "java/util/TreeMap$EntrySet" ({ cls := "java/lang/Object", name := "getClass", desc := "()Ljava/lang/Class;" } : Jvm.MethodName) ({ cls := "java/lang/Object", name := "getClass", desc := "()Ljava/lang/Class;" } : Jvm.MethodName)) ∈ lw_all := lw_g (lw_at lw_m2 86 rfl) rfl
theorem q872 : (Jvm.Cond.instantiable "java/util/TreeMap$EntrySet" (1 : Nat)) ∈ lw_all := lw_g (lw_at lw_m4 117 rfl) rfl
theorem q874 : (Jvm.Cond.instanceMethod ({ cls := "java/util/TreeMap$EntrySet", name := "<init>", desc := "(Ljava/util/TreeMap;)V" } : Jvm.MethodName)) ∈ lw_all := lw_g (lw_at lw_m4 119 rfl) rfl
theorem q875 : (Jvm.Cond.code ({ cls := "java/util/TreeMap$EntrySet", name := "<init>", desc := "(Ljava/util/TreeMap;)V" } : Jvm.MethodName) prog_56_method_1_code (2 : Nat) (Option.none : Option Jvm.ClassFile.FieldType)) ∈ lw_all := lw_g (lw_at lw_m4 120 rfl) rfl
theorem q876 : (Jvm.Cond.methodLink "java/util/TreeMap$EntrySet" (7 : Nat) ({ cls := "java/util/AbstractSet", name := "<init>", desc := "()V" } : Jvm.MethodName)) ∈ lw_all := lw_g (lw_at lw_m4 121 rfl) rfl
theorem q880 : (Jvm.Cond.fieldLink "java/util/TreeMap$EntrySet" (1 : Nat) "java/util/TreeMap$EntrySet" "this$0" "Ljava/util/TreeMap;") ∈ lw_all := lw_g (lw_at lw_m4 125 rfl) rfl
theorem q881 : (Jvm.Cond.laysFinal "java/util/TreeMap$EntrySet" "java/util/TreeMap$EntrySet" "this$0" "Ljava/util/TreeMap;") ∈ lw_all := lw_g (lw_at lw_m4 126 rfl) rfl
theorem q882 : (Jvm.Cond.soleField "java/util/TreeMap$EntrySet" "this$0") ∈ lw_all := lw_g (lw_at lw_m4 127 rfl) rfl
theorem q883 : (Jvm.Cond.superclass "java/util/TreeMap$EntrySet" "java/util/AbstractSet") ∈ lw_all := lw_g (lw_at lw_m4 128 rfl) rfl
theorem q974 : (Jvm.Cond.castable "java/util/TreeMap$EntrySet" "java/util/Set") ∈ lw_tbl := lw_at lw_m4 219 rfl
theorem q975 : (Jvm.Cond.selects "java/util/TreeMap$EntrySet" ({ cls := "java/util/Set", name := "iterator", desc := "()Ljava/util/Iterator;" } : Jvm.MethodName) ({ cls := "java/util/TreeMap$EntrySet", name := "iterator", desc := "()Ljava/util/Iterator;" } : Jvm.MethodName)) ∈ lw_all := lw_g (lw_at lw_m4 220 rfl) rfl
theorem q976 : (Jvm.Cond.unhidden "java/util/TreeMap$EntrySet" "iterator" "()Ljava/util/Iterator;") ∈ lw_tbl := lw_at lw_m4 221 rfl
theorem q977 : (Jvm.Cond.instanceMethod ({ cls := "java/util/TreeMap$EntrySet", name := "iterator", desc := "()Ljava/util/Iterator;" } : Jvm.MethodName)) ∈ lw_all := lw_g (lw_at lw_m4 222 rfl) rfl
theorem q978 : (Jvm.Cond.publicMethod ({ cls := "java/util/TreeMap$EntrySet", name := "iterator", desc := "()Ljava/util/Iterator;" } : Jvm.MethodName)) ∈ lw_tbl := lw_at lw_m4 223 rfl
theorem q979 : (Jvm.Cond.code ({ cls := "java/util/TreeMap$EntrySet", name := "iterator", desc := "()Ljava/util/Iterator;" } : Jvm.MethodName) prog_56_method_2_code (1 : Nat) (Option.some (Jvm.ClassFile.FieldType.object "java/util/Iterator"))) ∈ lw_all := lw_g (lw_at lw_m4 224 rfl) rfl
theorem q980 : (Jvm.Cond.classLink "java/util/TreeMap$EntrySet" (13 : Nat) "java/util/TreeMap$EntryIterator") ∈ lw_all := lw_g (lw_at lw_m4 225 rfl) rfl
theorem q982 : (Jvm.Cond.methodLink "java/util/TreeMap$EntrySet" (15 : Nat) ({ cls := "java/util/TreeMap", name := "getFirstEntry", desc := "()Ljava/util/TreeMap$Entry;" } : Jvm.MethodName)) ∈ lw_all := lw_g (lw_at lw_m4 227 rfl) rfl
theorem q983 : (Jvm.Cond.methodLink "java/util/TreeMap$EntrySet" (21 : Nat) ({ cls := "java/util/TreeMap$EntryIterator", name := "<init>", desc := "(Ljava/util/TreeMap;Ljava/util/TreeMap$Entry;)V" } : Jvm.MethodName)) ∈ lw_all := lw_g (lw_at lw_m4 228 rfl) rfl
theorem q1037 : (Jvm.Cond.castable "java/util/TreeMap$EntrySet" "java/util/Collection") ∈ lw_tbl := lw_at lw_m5 42 rfl
theorem q1038 : (Jvm.Cond.selects "java/util/TreeMap$EntrySet" ({ cls := "java/util/Collection", name := "iterator", desc := "()Ljava/util/Iterator;" } : Jvm.MethodName) ({ cls := "java/util/TreeMap$EntrySet", name := "iterator", desc := "()Ljava/util/Iterator;" } : Jvm.MethodName)) ∈ lw_all := lw_g (lw_at lw_m5 43 rfl) rfl
theorem q1527 : (Jvm.Cond.castable "java/util/TreeMap$EntrySet" "java/lang/Object") ∈ lw_tbl := lw_at lw_m7 52 rfl
theorem in_J28 : ∀ w ∈ wsJ280, w ∈ lw_all := lw_in wsJ280 [881] (by decide +kernel) (by decide +kernel)
/-! java/util/TreeMap$NavigableSubMap$EntrySetView -/
set_option maxRecDepth 100000
def RJ29 : String := "java/util/TreeMap$NavigableSubMap$EntrySetView"
abbrev cJ29_init : ByteArray := prog_58_method_1_code
def yJ29_init : MethodName := ⟨RJ29, "<init>", "(Ljava/util/TreeMap$NavigableSubMap;)V"⟩
def dkwJ29_init_0 : List UInt8 := [42, 43, 181, 0, 1, 42, 183, 0, 7, 42, 2, 181, 0, 13, 177]
abbrev dktJ29_init_0 : List UInt8 := dkwJ29_init_0 ++ []
theorem dksJ29_init_0 : cJ29_init.data.toList.drop 0 = dktJ29_init_0 := by decide +kernel
theorem dJ29_init_0 : decode cJ29_init 0 = .ok (.aload_n 0, 1) := dk_42 (dk_at dksJ29_init_0 0 rfl rfl)
theorem dJ29_init_1 : decode cJ29_init 1 = .ok (.aload_n 1, 1) := dk_43 (dk_at dksJ29_init_0 1 rfl rfl)
theorem dJ29_init_2 : decode cJ29_init 2 = .ok (.putfield 1, 3) := dk_181 0 1 (dk_at dksJ29_init_0 2 rfl rfl)
theorem dJ29_init_5 : decode cJ29_init 5 = .ok (.aload_n 0, 1) := dk_42 (dk_at dksJ29_init_0 5 rfl rfl)
theorem dJ29_init_6 : decode cJ29_init 6 = .ok (.invokespecial 7, 3) := dk_183 0 7 (dk_at dksJ29_init_0 6 rfl rfl)
theorem dJ29_init_9 : decode cJ29_init 9 = .ok (.aload_n 0, 1) := dk_42 (dk_at dksJ29_init_0 9 rfl rfl)
theorem dJ29_init_10 : decode cJ29_init 10 = .ok (.iconst (-1), 1) := dk_2 (dk_at dksJ29_init_0 10 rfl rfl)
theorem dJ29_init_11 : decode cJ29_init 11 = .ok (.putfield 13, 3) := dk_181 0 13 (dk_at dksJ29_init_0 11 rfl rfl)
theorem dJ29_init_14 : decode cJ29_init 14 = .ok (.return_, 1) := dk_177 (dk_at dksJ29_init_0 14 rfl rfl)
theorem q73 : (Jvm.Cond.initialized "java/util/TreeMap$NavigableSubMap$EntrySetView") ∈ lw_all := lw_g (lw_at lw_m1 38 rfl) rfl
theorem q893 : (Jvm.Cond.instanceMethod ({ cls := "java/util/TreeMap$NavigableSubMap$EntrySetView", name := "<init>", desc := "(Ljava/util/TreeMap$NavigableSubMap;)V" } : Jvm.MethodName)) ∈ lw_all := lw_g (lw_at lw_m4 138 rfl) rfl
theorem q894 : (Jvm.Cond.code ({ cls := "java/util/TreeMap$NavigableSubMap$EntrySetView", name := "<init>", desc := "(Ljava/util/TreeMap$NavigableSubMap;)V" } : Jvm.MethodName) prog_58_method_1_code (2 : Nat) (Option.none : Option Jvm.ClassFile.FieldType)) ∈ lw_all := lw_g (lw_at lw_m4 139 rfl) rfl
theorem q895 : (Jvm.Cond.methodLink "java/util/TreeMap$NavigableSubMap$EntrySetView" (7 : Nat) ({ cls := "java/util/AbstractSet", name := "<init>", desc := "()V" } : Jvm.MethodName)) ∈ lw_all := lw_g (lw_at lw_m4 140 rfl) rfl
theorem q897 : (Jvm.Cond.fieldLink "java/util/TreeMap$NavigableSubMap$EntrySetView" (13 : Nat) "java/util/TreeMap$NavigableSubMap$EntrySetView" "size" "I") ∈ lw_all := lw_g (lw_at lw_m4 142 rfl) rfl
theorem q898 : (Jvm.Cond.fieldLink "java/util/TreeMap$NavigableSubMap$EntrySetView" (1 : Nat) "java/util/TreeMap$NavigableSubMap$EntrySetView" "this$0" "Ljava/util/TreeMap$NavigableSubMap;") ∈ lw_all := lw_g (lw_at lw_m4 143 rfl) rfl
theorem q902 : (Jvm.Cond.soleField "java/util/TreeMap$NavigableSubMap$EntrySetView" "size") ∈ lw_all := lw_g (lw_at lw_m4 147 rfl) rfl
theorem q904 : (Jvm.Cond.soleField "java/util/TreeMap$NavigableSubMap$EntrySetView" "sizeModCount") ∈ lw_all := lw_g (lw_at lw_m4 149 rfl) rfl
theorem q906 : (Jvm.Cond.soleField "java/util/TreeMap$NavigableSubMap$EntrySetView" "this$0") ∈ lw_all := lw_g (lw_at lw_m4 151 rfl) rfl
/-! java/util/TreeMap$AscendingSubMap$AscendingEntrySetView -/
set_option maxRecDepth 100000
def RJ30 : String := "java/util/TreeMap$AscendingSubMap$AscendingEntrySetView"
def TJ30 : u_T := fun k => match k with
  | 0 => ("java/util/TreeMap$NavigableSubMap$EntrySetView", "size", "I", false)
  | 1 => ("java/util/TreeMap$NavigableSubMap$EntrySetView", "sizeModCount", "I", false)
  | 2 => ("java/util/TreeMap$NavigableSubMap$EntrySetView", "this$0", "Ljava/util/TreeMap$NavigableSubMap;", true)
  | _ => ("java/util/TreeMap$AscendingSubMap$AscendingEntrySetView", "this$0", "Ljava/util/TreeMap$AscendingSubMap;", true)
def tyJ30 : Nat → FieldType := fun k => match k with
  | 0 => .int
  | 1 => .int
  | 2 => .object "java/util/TreeMap$NavigableSubMap"
  | _ => .object "java/util/TreeMap$AscendingSubMap"
abbrev wsJ300 : List Cond := u_ws RJ30 TJ30 4
-- two fields of one name: no nmJ30
theorem tyJ30_ok : ∀ k, k < 4 → parseFieldDescriptor (TJ30 k).2.2.1 = some (tyJ30 k) := by decide +kernel
abbrev cJ30_init : ByteArray := prog_53_method_1_code
def yJ30_init : MethodName := ⟨RJ30, "<init>", "(Ljava/util/TreeMap$AscendingSubMap;)V"⟩
def dkwJ30_init_0 : List UInt8 := [42, 43, 181, 0, 1, 42, 43, 183, 0, 7, 177]
abbrev dktJ30_init_0 : List UInt8 := dkwJ30_init_0 ++ []
theorem dksJ30_init_0 : cJ30_init.data.toList.drop 0 = dktJ30_init_0 := by decide +kernel
theorem dJ30_init_0 : decode cJ30_init 0 = .ok (.aload_n 0, 1) := dk_42 (dk_at dksJ30_init_0 0 rfl rfl)
theorem dJ30_init_1 : decode cJ30_init 1 = .ok (.aload_n 1, 1) := dk_43 (dk_at dksJ30_init_0 1 rfl rfl)
theorem dJ30_init_2 : decode cJ30_init 2 = .ok (.putfield 1, 3) := dk_181 0 1 (dk_at dksJ30_init_0 2 rfl rfl)
theorem dJ30_init_5 : decode cJ30_init 5 = .ok (.aload_n 0, 1) := dk_42 (dk_at dksJ30_init_0 5 rfl rfl)
theorem dJ30_init_6 : decode cJ30_init 6 = .ok (.aload_n 1, 1) := dk_43 (dk_at dksJ30_init_0 6 rfl rfl)
theorem dJ30_init_7 : decode cJ30_init 7 = .ok (.invokespecial 7, 3) := dk_183 0 7 (dk_at dksJ30_init_0 7 rfl rfl)
theorem dJ30_init_10 : decode cJ30_init 10 = .ok (.return_, 1) := dk_177 (dk_at dksJ30_init_0 10 rfl rfl)
abbrev cJ30_iterator : ByteArray := prog_53_method_2_code
def yJ30_iterator : MethodName := ⟨RJ30, "iterator", "()Ljava/util/Iterator;"⟩
def dkwJ30_iterator_1 : List UInt8 := [183, 0, 24, 176]
abbrev dktJ30_iterator_1 : List UInt8 := dkwJ30_iterator_1 ++ []
def dkwJ30_iterator_0 : List UInt8 := [187, 0, 13, 89, 42, 180, 0, 1, 42, 180, 0, 1, 182, 0, 15, 42, 180, 0, 1, 182, 0, 21]
abbrev dktJ30_iterator_0 : List UInt8 := dkwJ30_iterator_0 ++ dktJ30_iterator_1
theorem dksJ30_iterator_0 : cJ30_iterator.data.toList.drop 0 = dktJ30_iterator_0 := by decide +kernel
theorem dksJ30_iterator_1 : cJ30_iterator.data.toList.drop 22 = dktJ30_iterator_1 := dk_seg dksJ30_iterator_0 22 rfl rfl
theorem dJ30_iterator_0 : decode cJ30_iterator 0 = .ok (.new 13, 3) := dk_187 0 13 (dk_at dksJ30_iterator_0 0 rfl rfl)
theorem dJ30_iterator_3 : decode cJ30_iterator 3 = .ok (.dup, 1) := dk_89 (dk_at dksJ30_iterator_0 3 rfl rfl)
theorem dJ30_iterator_4 : decode cJ30_iterator 4 = .ok (.aload_n 0, 1) := dk_42 (dk_at dksJ30_iterator_0 4 rfl rfl)
theorem dJ30_iterator_5 : decode cJ30_iterator 5 = .ok (.getfield 1, 3) := dk_180 0 1 (dk_at dksJ30_iterator_0 5 rfl rfl)
theorem dJ30_iterator_8 : decode cJ30_iterator 8 = .ok (.aload_n 0, 1) := dk_42 (dk_at dksJ30_iterator_0 8 rfl rfl)
theorem dJ30_iterator_9 : decode cJ30_iterator 9 = .ok (.getfield 1, 3) := dk_180 0 1 (dk_at dksJ30_iterator_0 9 rfl rfl)
theorem dJ30_iterator_12 : decode cJ30_iterator 12 = .ok (.invokevirtual 15, 3) := dk_182 0 15 (dk_at dksJ30_iterator_0 12 rfl rfl)
theorem dJ30_iterator_15 : decode cJ30_iterator 15 = .ok (.aload_n 0, 1) := dk_42 (dk_at dksJ30_iterator_0 15 rfl rfl)
theorem dJ30_iterator_16 : decode cJ30_iterator 16 = .ok (.getfield 1, 3) := dk_180 0 1 (dk_at dksJ30_iterator_0 16 rfl rfl)
theorem dJ30_iterator_19 : decode cJ30_iterator 19 = .ok (.invokevirtual 21, 3) := dk_182 0 21 (dk_at dksJ30_iterator_0 19 rfl rfl)
theorem dJ30_iterator_22 : decode cJ30_iterator 22 = .ok (.invokespecial 24, 3) := dk_183 0 24 (dk_at dksJ30_iterator_1 0 rfl rfl)
theorem dJ30_iterator_25 : decode cJ30_iterator 25 = .ok (.areturn, 1) := dk_176 (dk_at dksJ30_iterator_1 3 rfl rfl)
theorem q74 : (Jvm.Cond.initialized "java/util/TreeMap$AscendingSubMap$AscendingEntrySetView") ∈ lw_all := lw_g (lw_at lw_m1 39 rfl) rfl
theorem q358 : (Jvm.Cond.selects "java/util/TreeMap$AscendingSubMap$AscendingEntrySetView" ({ cls := "java/lang/Object", name := "getClass", desc := "()Ljava/lang/Class;" } : Jvm.MethodName) ({ cls := "java/lang/Object", name := "getClass", desc := "()Ljava/lang/Class;" } : Jvm.MethodName)) ∈ lw_all := lw_g (lw_at lw_m2 83 rfl) rfl
theorem q888 : (Jvm.Cond.instantiable "java/util/TreeMap$AscendingSubMap$AscendingEntrySetView" (4 : Nat)) ∈ lw_all := lw_g (lw_at lw_m4 133 rfl) rfl
theorem q890 : (Jvm.Cond.instanceMethod ({ cls := "java/util/TreeMap$AscendingSubMap$AscendingEntrySetView", name := "<init>", desc := "(Ljava/util/TreeMap$AscendingSubMap;)V" } : Jvm.MethodName)) ∈ lw_all := lw_g (lw_at lw_m4 135 rfl) rfl
theorem q891 : (Jvm.Cond.code ({ cls := "java/util/TreeMap$AscendingSubMap$AscendingEntrySetView", name := "<init>", desc := "(Ljava/util/TreeMap$AscendingSubMap;)V" } : Jvm.MethodName) prog_53_method_1_code (2 : Nat) (Option.none : Option Jvm.ClassFile.FieldType)) ∈ lw_all := lw_g (lw_at lw_m4 136 rfl) rfl
theorem q892 : (Jvm.Cond.methodLink "java/util/TreeMap$AscendingSubMap$AscendingEntrySetView" (7 : Nat) ({ cls := "java/util/TreeMap$NavigableSubMap$EntrySetView", name := "<init>", desc := "(Ljava/util/TreeMap$NavigableSubMap;)V" } : Jvm.MethodName)) ∈ lw_all := lw_g (lw_at lw_m4 137 rfl) rfl
theorem q896 : (Jvm.Cond.fieldLink "java/util/TreeMap$AscendingSubMap$AscendingEntrySetView" (1 : Nat) "java/util/TreeMap$AscendingSubMap$AscendingEntrySetView" "this$0" "Ljava/util/TreeMap$AscendingSubMap;") ∈ lw_all := lw_g (lw_at lw_m4 141 rfl) rfl
theorem q899 : (Jvm.Cond.laysFinal "java/util/TreeMap$AscendingSubMap$AscendingEntrySetView" "java/util/TreeMap$AscendingSubMap$AscendingEntrySetView" "this$0" "Ljava/util/TreeMap$AscendingSubMap;") ∈ lw_all := lw_g (lw_at lw_m4 144 rfl) rfl
theorem q900 : (Jvm.Cond.soleField "java/util/TreeMap$AscendingSubMap$AscendingEntrySetView" "this$0") ∈ lw_all := lw_g (lw_at lw_m4 145 rfl) rfl
theorem q901 : (Jvm.Cond.lays "java/util/TreeMap$AscendingSubMap$AscendingEntrySetView" "java/util/TreeMap$NavigableSubMap$EntrySetView" "size" "I") ∈ lw_all := lw_g (lw_at lw_m4 146 rfl) rfl
theorem q903 : (Jvm.Cond.lays "java/util/TreeMap$AscendingSubMap$AscendingEntrySetView" "java/util/TreeMap$NavigableSubMap$EntrySetView" "sizeModCount" "I") ∈ lw_all := lw_g (lw_at lw_m4 148 rfl) rfl
theorem q905 : (Jvm.Cond.laysFinal "java/util/TreeMap$AscendingSubMap$AscendingEntrySetView" "java/util/TreeMap$NavigableSubMap$EntrySetView" "this$0" "Ljava/util/TreeMap$NavigableSubMap;") ∈ lw_all := lw_g (lw_at lw_m4 150 rfl) rfl
theorem q907 : (Jvm.Cond.superclass "java/util/TreeMap$AscendingSubMap$AscendingEntrySetView" "java/util/TreeMap$NavigableSubMap$EntrySetView") ∈ lw_all := lw_g (lw_at lw_m4 152 rfl) rfl
theorem q912 : (Jvm.Cond.castable "java/util/TreeMap$AscendingSubMap$AscendingEntrySetView" "java/util/Set") ∈ lw_tbl := lw_at lw_m4 157 rfl
theorem q913 : (Jvm.Cond.selects "java/util/TreeMap$AscendingSubMap$AscendingEntrySetView" ({ cls := "java/util/Set", name := "iterator", desc := "()Ljava/util/Iterator;" } : Jvm.MethodName) ({ cls := "java/util/TreeMap$AscendingSubMap$AscendingEntrySetView", name := "iterator", desc := "()Ljava/util/Iterator;" } : Jvm.MethodName)) ∈ lw_all := lw_g (lw_at lw_m4 158 rfl) rfl
theorem q914 : (Jvm.Cond.unhidden "java/util/TreeMap$AscendingSubMap$AscendingEntrySetView" "iterator" "()Ljava/util/Iterator;") ∈ lw_tbl := lw_at lw_m4 159 rfl
theorem q915 : (Jvm.Cond.instanceMethod ({ cls := "java/util/TreeMap$AscendingSubMap$AscendingEntrySetView", name := "iterator", desc := "()Ljava/util/Iterator;" } : Jvm.MethodName)) ∈ lw_all := lw_g (lw_at lw_m4 160 rfl) rfl
theorem q916 : (Jvm.Cond.publicMethod ({ cls := "java/util/TreeMap$AscendingSubMap$AscendingEntrySetView", name := "iterator", desc := "()Ljava/util/Iterator;" } : Jvm.MethodName)) ∈ lw_tbl := lw_at lw_m4 161 rfl
theorem q917 : (Jvm.Cond.code ({ cls := "java/util/TreeMap$AscendingSubMap$AscendingEntrySetView", name := "iterator", desc := "()Ljava/util/Iterator;" } : Jvm.MethodName) prog_53_method_2_code (1 : Nat) (Option.some (Jvm.ClassFile.FieldType.object "java/util/Iterator"))) ∈ lw_all := lw_g (lw_at lw_m4 162 rfl) rfl
theorem q918 : (Jvm.Cond.classLink "java/util/TreeMap$AscendingSubMap$AscendingEntrySetView" (13 : Nat) "java/util/TreeMap$NavigableSubMap$SubMapEntryIterator") ∈ lw_all := lw_g (lw_at lw_m4 163 rfl) rfl
theorem q920 : (Jvm.Cond.methodLink "java/util/TreeMap$AscendingSubMap$AscendingEntrySetView" (15 : Nat) ({ cls := "java/util/TreeMap$AscendingSubMap", name := "absLowest", desc := "()Ljava/util/TreeMap$Entry;" } : Jvm.MethodName)) ∈ lw_all := lw_g (lw_at lw_m4 165 rfl) rfl
theorem q943 : (Jvm.Cond.methodLink "java/util/TreeMap$AscendingSubMap$AscendingEntrySetView" (21 : Nat) ({ cls := "java/util/TreeMap$AscendingSubMap", name := "absHighFence", desc := "()Ljava/util/TreeMap$Entry;" } : Jvm.MethodName)) ∈ lw_all := lw_g (lw_at lw_m4 188 rfl) rfl
theorem q949 : (Jvm.Cond.methodLink "java/util/TreeMap$AscendingSubMap$AscendingEntrySetView" (24 : Nat) ({ cls := "java/util/TreeMap$NavigableSubMap$SubMapEntryIterator", name := "<init>", desc := "(Ljava/util/TreeMap$NavigableSubMap;Ljava/util/TreeMap$Entry;Ljava/util/TreeMap$Entry;)V" } : Jvm.MethodName)) ∈ lw_all := lw_g (lw_at lw_m4 194 rfl) rfl
theorem q1035 : (Jvm.Cond.castable "java/util/TreeMap$AscendingSubMap$AscendingEntrySetView" "java/util/Collection") ∈ lw_tbl := lw_at lw_m5 40 rfl
theorem q1036 : (Jvm.Cond.selects "java/util/TreeMap$AscendingSubMap$AscendingEntrySetView" ({ cls := "java/util/Collection", name := "iterator", desc := "()Ljava/util/Iterator;" } : Jvm.MethodName) ({ cls := "java/util/TreeMap$AscendingSubMap$AscendingEntrySetView", name := "iterator", desc := "()Ljava/util/Iterator;" } : Jvm.MethodName)) ∈ lw_all := lw_g (lw_at lw_m5 41 rfl) rfl
theorem q1528 : (Jvm.Cond.castable "java/util/TreeMap$AscendingSubMap$AscendingEntrySetView" "java/lang/Object") ∈ lw_tbl := lw_at lw_m7 53 rfl
theorem in_J30 : ∀ w ∈ wsJ300, w ∈ lw_all := lw_in wsJ300 [901, 903, 905, 899] (by decide +kernel) (by decide +kernel)
/-! java/util/TreeMap$NavigableSubMap$SubMapIterator -/
set_option maxRecDepth 100000
def RJ31 : String := "java/util/TreeMap$NavigableSubMap$SubMapIterator"
abbrev cJ31_init : ByteArray := prog_60_method_1_code
def yJ31_init : MethodName := ⟨RJ31, "<init>", "(Ljava/util/TreeMap$NavigableSubMap;Ljava/util/TreeMap$Entry;Ljava/util/TreeMap$Entry;)V"⟩
def dkwJ31_init_2 : List UInt8 := [181, 0, 44, 177]
abbrev dktJ31_init_2 : List UInt8 := dkwJ31_init_2 ++ []
def dkwJ31_init_1 : List UInt8 := [181, 0, 28, 42, 44, 181, 0, 32, 42, 45, 199, 0, 9, 178, 0, 35, 167, 0, 7, 45, 180, 0, 39]
abbrev dktJ31_init_1 : List UInt8 := dkwJ31_init_1 ++ dktJ31_init_2
def dkwJ31_init_0 : List UInt8 := [42, 43, 181, 0, 1, 42, 183, 0, 7, 42, 43, 180, 0, 13, 180, 0, 19, 181, 0, 25, 42, 1]
abbrev dktJ31_init_0 : List UInt8 := dkwJ31_init_0 ++ dktJ31_init_1
theorem dksJ31_init_0 : cJ31_init.data.toList.drop 0 = dktJ31_init_0 := by decide +kernel
theorem dksJ31_init_1 : cJ31_init.data.toList.drop 22 = dktJ31_init_1 := dk_seg dksJ31_init_0 22 rfl rfl
theorem dksJ31_init_2 : cJ31_init.data.toList.drop 45 = dktJ31_init_2 := dk_seg dksJ31_init_1 23 rfl rfl
theorem dJ31_init_0 : decode cJ31_init 0 = .ok (.aload_n 0, 1) := dk_42 (dk_at dksJ31_init_0 0 rfl rfl)
theorem dJ31_init_1 : decode cJ31_init 1 = .ok (.aload_n 1, 1) := dk_43 (dk_at dksJ31_init_0 1 rfl rfl)
theorem dJ31_init_2 : decode cJ31_init 2 = .ok (.putfield 1, 3) := dk_181 0 1 (dk_at dksJ31_init_0 2 rfl rfl)
theorem dJ31_init_5 : decode cJ31_init 5 = .ok (.aload_n 0, 1) := dk_42 (dk_at dksJ31_init_0 5 rfl rfl)
theorem dJ31_init_6 : decode cJ31_init 6 = .ok (.invokespecial 7, 3) := dk_183 0 7 (dk_at dksJ31_init_0 6 rfl rfl)
theorem dJ31_init_9 : decode cJ31_init 9 = .ok (.aload_n 0, 1) := dk_42 (dk_at dksJ31_init_0 9 rfl rfl)
theorem dJ31_init_10 : decode cJ31_init 10 = .ok (.aload_n 1, 1) := dk_43 (dk_at dksJ31_init_0 10 rfl rfl)
theorem dJ31_init_11 : decode cJ31_init 11 = .ok (.getfield 13, 3) := dk_180 0 13 (dk_at dksJ31_init_0 11 rfl rfl)
theorem dJ31_init_14 : decode cJ31_init 14 = .ok (.getfield 19, 3) := dk_180 0 19 (dk_at dksJ31_init_0 14 rfl rfl)
theorem dJ31_init_17 : decode cJ31_init 17 = .ok (.putfield 25, 3) := dk_181 0 25 (dk_at dksJ31_init_0 17 rfl rfl)
theorem dJ31_init_20 : decode cJ31_init 20 = .ok (.aload_n 0, 1) := dk_42 (dk_at dksJ31_init_0 20 rfl rfl)
theorem dJ31_init_21 : decode cJ31_init 21 = .ok (.aconst_null, 1) := dk_1 (dk_at dksJ31_init_0 21 rfl rfl)
theorem dJ31_init_22 : decode cJ31_init 22 = .ok (.putfield 28, 3) := dk_181 0 28 (dk_at dksJ31_init_1 0 rfl rfl)
theorem dJ31_init_25 : decode cJ31_init 25 = .ok (.aload_n 0, 1) := dk_42 (dk_at dksJ31_init_1 3 rfl rfl)
theorem dJ31_init_26 : decode cJ31_init 26 = .ok (.aload_n 2, 1) := dk_44 (dk_at dksJ31_init_1 4 rfl rfl)
theorem dJ31_init_27 : decode cJ31_init 27 = .ok (.putfield 32, 3) := dk_181 0 32 (dk_at dksJ31_init_1 5 rfl rfl)
theorem dJ31_init_30 : decode cJ31_init 30 = .ok (.aload_n 0, 1) := dk_42 (dk_at dksJ31_init_1 8 rfl rfl)
theorem dJ31_init_31 : decode cJ31_init 31 = .ok (.aload_n 3, 1) := dk_45 (dk_at dksJ31_init_1 9 rfl rfl)
theorem dJ31_init_32 : decode cJ31_init 32 = .ok (.ifnonnull 9, 3) := dk_199 0 9 (dk_at dksJ31_init_1 10 rfl rfl)
theorem dJ31_init_35 : decode cJ31_init 35 = .ok (.getstatic 35, 3) := dk_178 0 35 (dk_at dksJ31_init_1 13 rfl rfl)
theorem dJ31_init_38 : decode cJ31_init 38 = .ok (.goto 7, 3) := dk_167 0 7 (dk_at dksJ31_init_1 16 rfl rfl)
theorem dJ31_init_41 : decode cJ31_init 41 = .ok (.aload_n 3, 1) := dk_45 (dk_at dksJ31_init_1 19 rfl rfl)
theorem dJ31_init_42 : decode cJ31_init 42 = .ok (.getfield 39, 3) := dk_180 0 39 (dk_at dksJ31_init_1 20 rfl rfl)
theorem dJ31_init_45 : decode cJ31_init 45 = .ok (.putfield 44, 3) := dk_181 0 44 (dk_at dksJ31_init_2 0 rfl rfl)
theorem dJ31_init_48 : decode cJ31_init 48 = .ok (.return_, 1) := dk_177 (dk_at dksJ31_init_2 3 rfl rfl)
abbrev cJ31_hasNext : ByteArray := prog_60_method_2_code
def yJ31_hasNext : MethodName := ⟨RJ31, "hasNext", "()Z"⟩
def dkwJ31_hasNext_1 : List UInt8 := [167, 0, 4, 3, 172]
abbrev dktJ31_hasNext_1 : List UInt8 := dkwJ31_hasNext_1 ++ []
def dkwJ31_hasNext_0 : List UInt8 := [42, 180, 0, 32, 198, 0, 21, 42, 180, 0, 32, 180, 0, 39, 42, 180, 0, 44, 165, 0, 7, 4]
abbrev dktJ31_hasNext_0 : List UInt8 := dkwJ31_hasNext_0 ++ dktJ31_hasNext_1
theorem dksJ31_hasNext_0 : cJ31_hasNext.data.toList.drop 0 = dktJ31_hasNext_0 := by decide +kernel
theorem dksJ31_hasNext_1 : cJ31_hasNext.data.toList.drop 22 = dktJ31_hasNext_1 := dk_seg dksJ31_hasNext_0 22 rfl rfl
theorem dJ31_hasNext_0 : decode cJ31_hasNext 0 = .ok (.aload_n 0, 1) := dk_42 (dk_at dksJ31_hasNext_0 0 rfl rfl)
theorem dJ31_hasNext_1 : decode cJ31_hasNext 1 = .ok (.getfield 32, 3) := dk_180 0 32 (dk_at dksJ31_hasNext_0 1 rfl rfl)
theorem dJ31_hasNext_4 : decode cJ31_hasNext 4 = .ok (.ifnull 21, 3) := dk_198 0 21 (dk_at dksJ31_hasNext_0 4 rfl rfl)
theorem dJ31_hasNext_7 : decode cJ31_hasNext 7 = .ok (.aload_n 0, 1) := dk_42 (dk_at dksJ31_hasNext_0 7 rfl rfl)
theorem dJ31_hasNext_8 : decode cJ31_hasNext 8 = .ok (.getfield 32, 3) := dk_180 0 32 (dk_at dksJ31_hasNext_0 8 rfl rfl)
theorem dJ31_hasNext_11 : decode cJ31_hasNext 11 = .ok (.getfield 39, 3) := dk_180 0 39 (dk_at dksJ31_hasNext_0 11 rfl rfl)
theorem dJ31_hasNext_14 : decode cJ31_hasNext 14 = .ok (.aload_n 0, 1) := dk_42 (dk_at dksJ31_hasNext_0 14 rfl rfl)
theorem dJ31_hasNext_15 : decode cJ31_hasNext 15 = .ok (.getfield 44, 3) := dk_180 0 44 (dk_at dksJ31_hasNext_0 15 rfl rfl)
theorem dJ31_hasNext_18 : decode cJ31_hasNext 18 = .ok (.if_acmp .eq 7, 3) := dk_165 0 7 (dk_at dksJ31_hasNext_0 18 rfl rfl)
theorem dJ31_hasNext_21 : decode cJ31_hasNext 21 = .ok (.iconst 1, 1) := dk_4 (dk_at dksJ31_hasNext_0 21 rfl rfl)
theorem dJ31_hasNext_22 : decode cJ31_hasNext 22 = .ok (.goto 4, 3) := dk_167 0 4 (dk_at dksJ31_hasNext_1 0 rfl rfl)
theorem dJ31_hasNext_25 : decode cJ31_hasNext 25 = .ok (.iconst 0, 1) := dk_3 (dk_at dksJ31_hasNext_1 3 rfl rfl)
theorem dJ31_hasNext_26 : decode cJ31_hasNext 26 = .ok (.ireturn, 1) := dk_172 (dk_at dksJ31_hasNext_1 4 rfl rfl)
abbrev cJ31_nextEntry : ByteArray := prog_60_method_3_code
def yJ31_nextEntry : MethodName := ⟨RJ31, "nextEntry", "()Ljava/util/TreeMap$Entry;"⟩
def dkwJ31_nextEntry_2 : List UInt8 := [89, 183, 0, 52, 191, 42, 43, 184, 0, 53, 181, 0, 32, 42, 43, 181, 0, 28, 43, 176]
abbrev dktJ31_nextEntry_2 : List UInt8 := dkwJ31_nextEntry_2 ++ []
def dkwJ31_nextEntry_1 : List UInt8 := [183, 0, 49, 191, 42, 180, 0, 1, 180, 0, 13, 180, 0, 19, 42, 180, 0, 25, 159, 0, 11, 187, 0, 50]
abbrev dktJ31_nextEntry_1 : List UInt8 := dkwJ31_nextEntry_1 ++ dktJ31_nextEntry_2
def dkwJ31_nextEntry_0 : List UInt8 := [42, 180, 0, 32, 76, 43, 198, 0, 14, 43, 180, 0, 39, 42, 180, 0, 44, 166, 0, 11, 187, 0, 47, 89]
abbrev dktJ31_nextEntry_0 : List UInt8 := dkwJ31_nextEntry_0 ++ dktJ31_nextEntry_1
theorem dksJ31_nextEntry_0 : cJ31_nextEntry.data.toList.drop 0 = dktJ31_nextEntry_0 := by decide +kernel
theorem dksJ31_nextEntry_1 : cJ31_nextEntry.data.toList.drop 24 = dktJ31_nextEntry_1 := dk_seg dksJ31_nextEntry_0 24 rfl rfl
theorem dksJ31_nextEntry_2 : cJ31_nextEntry.data.toList.drop 48 = dktJ31_nextEntry_2 := dk_seg dksJ31_nextEntry_1 24 rfl rfl
theorem dJ31_nextEntry_0 : decode cJ31_nextEntry 0 = .ok (.aload_n 0, 1) := dk_42 (dk_at dksJ31_nextEntry_0 0 rfl rfl)
theorem dJ31_nextEntry_1 : decode cJ31_nextEntry 1 = .ok (.getfield 32, 3) := dk_180 0 32 (dk_at dksJ31_nextEntry_0 1 rfl rfl)
theorem dJ31_nextEntry_4 : decode cJ31_nextEntry 4 = .ok (.astore_n 1, 1) := dk_76 (dk_at dksJ31_nextEntry_0 4 rfl rfl)
theorem dJ31_nextEntry_5 : decode cJ31_nextEntry 5 = .ok (.aload_n 1, 1) := dk_43 (dk_at dksJ31_nextEntry_0 5 rfl rfl)
theorem dJ31_nextEntry_6 : decode cJ31_nextEntry 6 = .ok (.ifnull 14, 3) := dk_198 0 14 (dk_at dksJ31_nextEntry_0 6 rfl rfl)
theorem dJ31_nextEntry_9 : decode cJ31_nextEntry 9 = .ok (.aload_n 1, 1) := dk_43 (dk_at dksJ31_nextEntry_0 9 rfl rfl)
theorem dJ31_nextEntry_10 : decode cJ31_nextEntry 10 = .ok (.getfield 39, 3) := dk_180 0 39 (dk_at dksJ31_nextEntry_0 10 rfl rfl)
theorem dJ31_nextEntry_13 : decode cJ31_nextEntry 13 = .ok (.aload_n 0, 1) := dk_42 (dk_at dksJ31_nextEntry_0 13 rfl rfl)
theorem dJ31_nextEntry_14 : decode cJ31_nextEntry 14 = .ok (.getfield 44, 3) := dk_180 0 44 (dk_at dksJ31_nextEntry_0 14 rfl rfl)
theorem dJ31_nextEntry_17 : decode cJ31_nextEntry 17 = .ok (.if_acmp .ne 11, 3) := dk_166 0 11 (dk_at dksJ31_nextEntry_0 17 rfl rfl)
theorem dJ31_nextEntry_20 : decode cJ31_nextEntry 20 = .ok (.new 47, 3) := dk_187 0 47 (dk_at dksJ31_nextEntry_0 20 rfl rfl)
theorem dJ31_nextEntry_23 : decode cJ31_nextEntry 23 = .ok (.dup, 1) := dk_89 (dk_at dksJ31_nextEntry_0 23 rfl rfl)
theorem dJ31_nextEntry_24 : decode cJ31_nextEntry 24 = .ok (.invokespecial 49, 3) := dk_183 0 49 (dk_at dksJ31_nextEntry_1 0 rfl rfl)
theorem dJ31_nextEntry_27 : decode cJ31_nextEntry 27 = .ok (.athrow, 1) := dk_191 (dk_at dksJ31_nextEntry_1 3 rfl rfl)
theorem dJ31_nextEntry_28 : decode cJ31_nextEntry 28 = .ok (.aload_n 0, 1) := dk_42 (dk_at dksJ31_nextEntry_1 4 rfl rfl)
theorem dJ31_nextEntry_29 : decode cJ31_nextEntry 29 = .ok (.getfield 1, 3) := dk_180 0 1 (dk_at dksJ31_nextEntry_1 5 rfl rfl)
theorem dJ31_nextEntry_32 : decode cJ31_nextEntry 32 = .ok (.getfield 13, 3) := dk_180 0 13 (dk_at dksJ31_nextEntry_1 8 rfl rfl)
theorem dJ31_nextEntry_35 : decode cJ31_nextEntry 35 = .ok (.getfield 19, 3) := dk_180 0 19 (dk_at dksJ31_nextEntry_1 11 rfl rfl)
theorem dJ31_nextEntry_38 : decode cJ31_nextEntry 38 = .ok (.aload_n 0, 1) := dk_42 (dk_at dksJ31_nextEntry_1 14 rfl rfl)
theorem dJ31_nextEntry_39 : decode cJ31_nextEntry 39 = .ok (.getfield 25, 3) := dk_180 0 25 (dk_at dksJ31_nextEntry_1 15 rfl rfl)
theorem dJ31_nextEntry_42 : decode cJ31_nextEntry 42 = .ok (.if_icmp .eq 11, 3) := dk_159 0 11 (dk_at dksJ31_nextEntry_1 18 rfl rfl)
theorem dJ31_nextEntry_45 : decode cJ31_nextEntry 45 = .ok (.new 50, 3) := dk_187 0 50 (dk_at dksJ31_nextEntry_1 21 rfl rfl)
theorem dJ31_nextEntry_48 : decode cJ31_nextEntry 48 = .ok (.dup, 1) := dk_89 (dk_at dksJ31_nextEntry_2 0 rfl rfl)
theorem dJ31_nextEntry_49 : decode cJ31_nextEntry 49 = .ok (.invokespecial 52, 3) := dk_183 0 52 (dk_at dksJ31_nextEntry_2 1 rfl rfl)
theorem dJ31_nextEntry_52 : decode cJ31_nextEntry 52 = .ok (.athrow, 1) := dk_191 (dk_at dksJ31_nextEntry_2 4 rfl rfl)
theorem dJ31_nextEntry_53 : decode cJ31_nextEntry 53 = .ok (.aload_n 0, 1) := dk_42 (dk_at dksJ31_nextEntry_2 5 rfl rfl)
theorem dJ31_nextEntry_54 : decode cJ31_nextEntry 54 = .ok (.aload_n 1, 1) := dk_43 (dk_at dksJ31_nextEntry_2 6 rfl rfl)
theorem dJ31_nextEntry_55 : decode cJ31_nextEntry 55 = .ok (.invokestatic 53, 3) := dk_184 0 53 (dk_at dksJ31_nextEntry_2 7 rfl rfl)
theorem dJ31_nextEntry_58 : decode cJ31_nextEntry 58 = .ok (.putfield 32, 3) := dk_181 0 32 (dk_at dksJ31_nextEntry_2 10 rfl rfl)
theorem dJ31_nextEntry_61 : decode cJ31_nextEntry 61 = .ok (.aload_n 0, 1) := dk_42 (dk_at dksJ31_nextEntry_2 13 rfl rfl)
theorem dJ31_nextEntry_62 : decode cJ31_nextEntry 62 = .ok (.aload_n 1, 1) := dk_43 (dk_at dksJ31_nextEntry_2 14 rfl rfl)
theorem dJ31_nextEntry_63 : decode cJ31_nextEntry 63 = .ok (.putfield 28, 3) := dk_181 0 28 (dk_at dksJ31_nextEntry_2 15 rfl rfl)
theorem dJ31_nextEntry_66 : decode cJ31_nextEntry 66 = .ok (.aload_n 1, 1) := dk_43 (dk_at dksJ31_nextEntry_2 18 rfl rfl)
theorem dJ31_nextEntry_67 : decode cJ31_nextEntry 67 = .ok (.areturn, 1) := dk_176 (dk_at dksJ31_nextEntry_2 19 rfl rfl)
theorem q75 : (Jvm.Cond.initialized "java/util/TreeMap$NavigableSubMap$SubMapIterator") ∈ lw_all := lw_g (lw_at lw_m1 40 rfl) rfl
theorem q268 : (Jvm.Cond.fieldLinkNest "java/util/TreeMap$NavigableSubMap$SubMapIterator" (19 : Nat) "java/util/TreeMap" "modCount" "I" "java/util/TreeMap") ∈ lw_tbl := lw_at lw_m1 233 rfl
theorem q614 : (Jvm.Cond.fieldLink "java/util/TreeMap$NavigableSubMap$SubMapIterator" (39 : Nat) "java/util/TreeMap$Entry" "key" "Ljava/lang/Object;") ∈ lw_all := lw_g (lw_at lw_m3 99 rfl) rfl
theorem q779 : (Jvm.Cond.fieldLink "java/util/TreeMap$NavigableSubMap$SubMapIterator" (13 : Nat) "java/util/TreeMap$NavigableSubMap" "m" "Ljava/util/TreeMap;") ∈ lw_all := lw_g (lw_at lw_m4 24 rfl) rfl
theorem q953 : (Jvm.Cond.instanceMethod ({ cls := "java/util/TreeMap$NavigableSubMap$SubMapIterator", name := "<init>", desc := "(Ljava/util/TreeMap$NavigableSubMap;Ljava/util/TreeMap$Entry;Ljava/util/TreeMap$Entry;)V" } : Jvm.MethodName)) ∈ lw_all := lw_g (lw_at lw_m4 198 rfl) rfl
theorem q954 : (Jvm.Cond.code ({ cls := "java/util/TreeMap$NavigableSubMap$SubMapIterator", name := "<init>", desc := "(Ljava/util/TreeMap$NavigableSubMap;Ljava/util/TreeMap$Entry;Ljava/util/TreeMap$Entry;)V" } : Jvm.MethodName) prog_60_method_1_code (4 : Nat) (Option.none : Option Jvm.ClassFile.FieldType)) ∈ lw_all := lw_g (lw_at lw_m4 199 rfl) rfl
theorem q955 : (Jvm.Cond.methodLink "java/util/TreeMap$NavigableSubMap$SubMapIterator" (7 : Nat) ({ cls := "java/lang/Object", name := "<init>", desc := "()V" } : Jvm.MethodName)) ∈ lw_all := lw_g (lw_at lw_m4 200 rfl) rfl
theorem q956 : (Jvm.Cond.fieldLinkNest "java/util/TreeMap$NavigableSubMap$SubMapIterator" (35 : Nat) "java/util/TreeMap" "UNBOUNDED" "Ljava/lang/Object;" "java/util/TreeMap") ∈ lw_tbl := lw_at lw_m4 201 rfl
theorem q958 : (Jvm.Cond.fieldLink "java/util/TreeMap$NavigableSubMap$SubMapIterator" (28 : Nat) "java/util/TreeMap$NavigableSubMap$SubMapIterator" "lastReturned" "Ljava/util/TreeMap$Entry;") ∈ lw_all := lw_g (lw_at lw_m4 203 rfl) rfl
theorem q959 : (Jvm.Cond.fieldLink "java/util/TreeMap$NavigableSubMap$SubMapIterator" (32 : Nat) "java/util/TreeMap$NavigableSubMap$SubMapIterator" "next" "Ljava/util/TreeMap$Entry;") ∈ lw_all := lw_g (lw_at lw_m4 204 rfl) rfl
theorem q960 : (Jvm.Cond.fieldLink "java/util/TreeMap$NavigableSubMap$SubMapIterator" (44 : Nat) "java/util/TreeMap$NavigableSubMap$SubMapIterator" "fenceKey" "Ljava/lang/Object;") ∈ lw_all := lw_g (lw_at lw_m4 205 rfl) rfl
theorem q961 : (Jvm.Cond.fieldLink "java/util/TreeMap$NavigableSubMap$SubMapIterator" (25 : Nat) "java/util/TreeMap$NavigableSubMap$SubMapIterator" "expectedModCount" "I") ∈ lw_all := lw_g (lw_at lw_m4 206 rfl) rfl
theorem q962 : (Jvm.Cond.fieldLink "java/util/TreeMap$NavigableSubMap$SubMapIterator" (1 : Nat) "java/util/TreeMap$NavigableSubMap$SubMapIterator" "this$0" "Ljava/util/TreeMap$NavigableSubMap;") ∈ lw_all := lw_g (lw_at lw_m4 207 rfl) rfl
theorem q964 : (Jvm.Cond.soleField "java/util/TreeMap$NavigableSubMap$SubMapIterator" "lastReturned") ∈ lw_all := lw_g (lw_at lw_m4 209 rfl) rfl
theorem q966 : (Jvm.Cond.soleField "java/util/TreeMap$NavigableSubMap$SubMapIterator" "next") ∈ lw_all := lw_g (lw_at lw_m4 211 rfl) rfl
theorem q968 : (Jvm.Cond.soleField "java/util/TreeMap$NavigableSubMap$SubMapIterator" "fenceKey") ∈ lw_all := lw_g (lw_at lw_m4 213 rfl) rfl
theorem q970 : (Jvm.Cond.soleField "java/util/TreeMap$NavigableSubMap$SubMapIterator" "expectedModCount") ∈ lw_all := lw_g (lw_at lw_m4 215 rfl) rfl
theorem q972 : (Jvm.Cond.soleField "java/util/TreeMap$NavigableSubMap$SubMapIterator" "this$0") ∈ lw_all := lw_g (lw_at lw_m4 217 rfl) rfl
theorem q1084 : (Jvm.Cond.instanceMethod ({ cls := "java/util/TreeMap$NavigableSubMap$SubMapIterator", name := "hasNext", desc := "()Z" } : Jvm.MethodName)) ∈ lw_all := lw_g (lw_at lw_m5 89 rfl) rfl
theorem q1085 : (Jvm.Cond.publicMethod ({ cls := "java/util/TreeMap$NavigableSubMap$SubMapIterator", name := "hasNext", desc := "()Z" } : Jvm.MethodName)) ∈ lw_tbl := lw_at lw_m5 90 rfl
theorem q1086 : (Jvm.Cond.code ({ cls := "java/util/TreeMap$NavigableSubMap$SubMapIterator", name := "hasNext", desc := "()Z" } : Jvm.MethodName) prog_60_method_2_code (1 : Nat) (Option.some Jvm.ClassFile.FieldType.boolean)) ∈ lw_all := lw_g (lw_at lw_m5 91 rfl) rfl
theorem q1139 : (Jvm.Cond.declares ({ cls := "java/util/TreeMap$NavigableSubMap$SubMapIterator", name := "nextEntry", desc := "()Ljava/util/TreeMap$Entry;" } : Jvm.MethodName)) ∈ lw_tbl := lw_at lw_m5 144 rfl
theorem q1141 : (Jvm.Cond.instanceMethod ({ cls := "java/util/TreeMap$NavigableSubMap$SubMapIterator", name := "nextEntry", desc := "()Ljava/util/TreeMap$Entry;" } : Jvm.MethodName)) ∈ lw_all := lw_g (lw_at lw_m5 146 rfl) rfl
theorem q1142 : (Jvm.Cond.code ({ cls := "java/util/TreeMap$NavigableSubMap$SubMapIterator", name := "nextEntry", desc := "()Ljava/util/TreeMap$Entry;" } : Jvm.MethodName) prog_60_method_3_code (2 : Nat) (Option.some (Jvm.ClassFile.FieldType.object "java/util/TreeMap$Entry"))) ∈ lw_all := lw_g (lw_at lw_m5 147 rfl) rfl
theorem q1143 : (Jvm.Cond.methodLink "java/util/TreeMap$NavigableSubMap$SubMapIterator" (53 : Nat) ({ cls := "java/util/TreeMap", name := "successor", desc := "(Ljava/util/TreeMap$Entry;)Ljava/util/TreeMap$Entry;" } : Jvm.MethodName)) ∈ lw_all := lw_g (lw_at lw_m5 148 rfl) rfl
/-! java/util/TreeMap$NavigableSubMap$SubMapEntryIterator -/
set_option maxRecDepth 100000
def RJ32 : String := "java/util/TreeMap$NavigableSubMap$SubMapEntryIterator"
def TJ32 : u_T := fun k => match k with
  | 0 => ("java/util/TreeMap$NavigableSubMap$SubMapIterator", "lastReturned", "Ljava/util/TreeMap$Entry;", false)
  | 1 => ("java/util/TreeMap$NavigableSubMap$SubMapIterator", "next", "Ljava/util/TreeMap$Entry;", false)
  | 2 => ("java/util/TreeMap$NavigableSubMap$SubMapIterator", "fenceKey", "Ljava/lang/Object;", true)
  | 3 => ("java/util/TreeMap$NavigableSubMap$SubMapIterator", "expectedModCount", "I", false)
  | _ => ("java/util/TreeMap$NavigableSubMap$SubMapIterator", "this$0", "Ljava/util/TreeMap$NavigableSubMap;", true)
def tyJ32 : Nat → FieldType := fun k => match k with
  | 0 => .object "java/util/TreeMap$Entry"
  | 1 => .object "java/util/TreeMap$Entry"
  | 2 => .object "java/lang/Object"
  | 3 => .int
  | _ => .object "java/util/TreeMap$NavigableSubMap"
abbrev wsJ320 : List Cond := u_ws RJ32 TJ32 5
theorem nmJ32 : ∀ a, a < 5 → ∀ b, b < 5 → a ≠ b → (TJ32 a).2.1 ≠ (TJ32 b).2.1 := by decide +kernel
theorem tyJ32_ok : ∀ k, k < 5 → parseFieldDescriptor (TJ32 k).2.2.1 = some (tyJ32 k) := by decide +kernel
abbrev cJ32_init : ByteArray := prog_59_method_1_code
def yJ32_init : MethodName := ⟨RJ32, "<init>", "(Ljava/util/TreeMap$NavigableSubMap;Ljava/util/TreeMap$Entry;Ljava/util/TreeMap$Entry;)V"⟩
def dkwJ32_init_0 : List UInt8 := [42, 43, 44, 45, 183, 0, 1, 177]
abbrev dktJ32_init_0 : List UInt8 := dkwJ32_init_0 ++ []
theorem dksJ32_init_0 : cJ32_init.data.toList.drop 0 = dktJ32_init_0 := by decide +kernel
theorem dJ32_init_0 : decode cJ32_init 0 = .ok (.aload_n 0, 1) := dk_42 (dk_at dksJ32_init_0 0 rfl rfl)
theorem dJ32_init_1 : decode cJ32_init 1 = .ok (.aload_n 1, 1) := dk_43 (dk_at dksJ32_init_0 1 rfl rfl)
theorem dJ32_init_2 : decode cJ32_init 2 = .ok (.aload_n 2, 1) := dk_44 (dk_at dksJ32_init_0 2 rfl rfl)
theorem dJ32_init_3 : decode cJ32_init 3 = .ok (.aload_n 3, 1) := dk_45 (dk_at dksJ32_init_0 3 rfl rfl)
theorem dJ32_init_4 : decode cJ32_init 4 = .ok (.invokespecial 1, 3) := dk_183 0 1 (dk_at dksJ32_init_0 4 rfl rfl)
theorem dJ32_init_7 : decode cJ32_init 7 = .ok (.return_, 1) := dk_177 (dk_at dksJ32_init_0 7 rfl rfl)
abbrev cJ32_next : ByteArray := prog_59_method_4_code
def yJ32_next : MethodName := ⟨RJ32, "next", "()Ljava/lang/Object;"⟩
theorem dJ32_next_0 : decode cJ32_next 0 = .ok (.aload_n 0, 1) := by decide +kernel
theorem dJ32_next_1 : decode cJ32_next 1 = .ok (.invokevirtual 17, 3) := by decide +kernel
theorem dJ32_next_4 : decode cJ32_next 4 = .ok (.areturn, 1) := by decide +kernel
abbrev cJ32_next_2 : ByteArray := prog_59_method_2_code
def yJ32_next_2 : MethodName := ⟨RJ32, "next", "()Ljava/util/Map$Entry;"⟩
theorem dJ32_next_2_0 : decode cJ32_next_2 0 = .ok (.aload_n 0, 1) := by decide +kernel
theorem dJ32_next_2_1 : decode cJ32_next_2 1 = .ok (.invokevirtual 7, 3) := by decide +kernel
theorem dJ32_next_2_4 : decode cJ32_next_2 4 = .ok (.areturn, 1) := by decide +kernel
theorem q76 : (Jvm.Cond.initialized "java/util/TreeMap$NavigableSubMap$SubMapEntryIterator") ∈ lw_all := lw_g (lw_at lw_m1 41 rfl) rfl
theorem q362 : (Jvm.Cond.selects "java/util/TreeMap$NavigableSubMap$SubMapEntryIterator" ({ cls := "java/lang/Object", name := "getClass", desc := "()Ljava/lang/Class;" } : Jvm.MethodName) ({ cls := "java/lang/Object", name := "getClass", desc := "()Ljava/lang/Class;" } : Jvm.MethodName)) ∈ lw_all := lw_g (lw_at lw_m2 87 rfl) rfl
theorem q919 : (Jvm.Cond.instantiable "java/util/TreeMap$NavigableSubMap$SubMapEntryIterator" (5 : Nat)) ∈ lw_all := lw_g (lw_at lw_m4 164 rfl) rfl
theorem q950 : (Jvm.Cond.instanceMethod ({ cls := "java/util/TreeMap$NavigableSubMap$SubMapEntryIterator", name := "<init>", desc := "(Ljava/util/TreeMap$NavigableSubMap;Ljava/util/TreeMap$Entry;Ljava/util/TreeMap$Entry;)V" } : Jvm.MethodName)) ∈ lw_all := lw_g (lw_at lw_m4 195 rfl) rfl
theorem q951 : (Jvm.Cond.code ({ cls := "java/util/TreeMap$NavigableSubMap$SubMapEntryIterator", name := "<init>", desc := "(Ljava/util/TreeMap$NavigableSubMap;Ljava/util/TreeMap$Entry;Ljava/util/TreeMap$Entry;)V" } : Jvm.MethodName) prog_59_method_1_code (4 : Nat) (Option.none : Option Jvm.ClassFile.FieldType)) ∈ lw_all := lw_g (lw_at lw_m4 196 rfl) rfl
theorem q952 : (Jvm.Cond.methodLink "java/util/TreeMap$NavigableSubMap$SubMapEntryIterator" (1 : Nat) ({ cls := "java/util/TreeMap$NavigableSubMap$SubMapIterator", name := "<init>", desc := "(Ljava/util/TreeMap$NavigableSubMap;Ljava/util/TreeMap$Entry;Ljava/util/TreeMap$Entry;)V" } : Jvm.MethodName)) ∈ lw_all := lw_g (lw_at lw_m4 197 rfl) rfl
theorem q963 : (Jvm.Cond.lays "java/util/TreeMap$NavigableSubMap$SubMapEntryIterator" "java/util/TreeMap$NavigableSubMap$SubMapIterator" "lastReturned" "Ljava/util/TreeMap$Entry;") ∈ lw_all := lw_g (lw_at lw_m4 208 rfl) rfl
theorem q965 : (Jvm.Cond.lays "java/util/TreeMap$NavigableSubMap$SubMapEntryIterator" "java/util/TreeMap$NavigableSubMap$SubMapIterator" "next" "Ljava/util/TreeMap$Entry;") ∈ lw_all := lw_g (lw_at lw_m4 210 rfl) rfl
theorem q967 : (Jvm.Cond.laysFinal "java/util/TreeMap$NavigableSubMap$SubMapEntryIterator" "java/util/TreeMap$NavigableSubMap$SubMapIterator" "fenceKey" "Ljava/lang/Object;") ∈ lw_all := lw_g (lw_at lw_m4 212 rfl) rfl
theorem q969 : (Jvm.Cond.lays "java/util/TreeMap$NavigableSubMap$SubMapEntryIterator" "java/util/TreeMap$NavigableSubMap$SubMapIterator" "expectedModCount" "I") ∈ lw_all := lw_g (lw_at lw_m4 214 rfl) rfl
theorem q971 : (Jvm.Cond.laysFinal "java/util/TreeMap$NavigableSubMap$SubMapEntryIterator" "java/util/TreeMap$NavigableSubMap$SubMapIterator" "this$0" "Ljava/util/TreeMap$NavigableSubMap;") ∈ lw_all := lw_g (lw_at lw_m4 216 rfl) rfl
theorem q973 : (Jvm.Cond.superclass "java/util/TreeMap$NavigableSubMap$SubMapEntryIterator" "java/util/TreeMap$NavigableSubMap$SubMapIterator") ∈ lw_all := lw_g (lw_at lw_m4 218 rfl) rfl
theorem q1081 : (Jvm.Cond.castable "java/util/TreeMap$NavigableSubMap$SubMapEntryIterator" "java/util/Iterator") ∈ lw_tbl := lw_at lw_m5 86 rfl
theorem q1082 : (Jvm.Cond.selects "java/util/TreeMap$NavigableSubMap$SubMapEntryIterator" ({ cls := "java/util/Iterator", name := "hasNext", desc := "()Z" } : Jvm.MethodName) ({ cls := "java/util/TreeMap$NavigableSubMap$SubMapIterator", name := "hasNext", desc := "()Z" } : Jvm.MethodName)) ∈ lw_all := lw_g (lw_at lw_m5 87 rfl) rfl
theorem q1083 : (Jvm.Cond.unhidden "java/util/TreeMap$NavigableSubMap$SubMapEntryIterator" "hasNext" "()Z") ∈ lw_tbl := lw_at lw_m5 88 rfl
theorem q1128 : (Jvm.Cond.selects "java/util/TreeMap$NavigableSubMap$SubMapEntryIterator" ({ cls := "java/util/Iterator", name := "next", desc := "()Ljava/lang/Object;" } : Jvm.MethodName) ({ cls := "java/util/TreeMap$NavigableSubMap$SubMapEntryIterator", name := "next", desc := "()Ljava/lang/Object;" } : Jvm.MethodName)) ∈ lw_all := lw_g (lw_at lw_m5 133 rfl) rfl
theorem q1129 : (Jvm.Cond.unhidden "java/util/TreeMap$NavigableSubMap$SubMapEntryIterator" "next" "()Ljava/lang/Object;") ∈ lw_tbl := lw_at lw_m5 134 rfl
theorem q1130 : (Jvm.Cond.instanceMethod ({ cls := "java/util/TreeMap$NavigableSubMap$SubMapEntryIterator", name := "next", desc := "()Ljava/lang/Object;" } : Jvm.MethodName)) ∈ lw_all := lw_g (lw_at lw_m5 135 rfl) rfl
theorem q1131 : (Jvm.Cond.publicMethod ({ cls := "java/util/TreeMap$NavigableSubMap$SubMapEntryIterator", name := "next", desc := "()Ljava/lang/Object;" } : Jvm.MethodName)) ∈ lw_tbl := lw_at lw_m5 136 rfl
theorem q1132 : (Jvm.Cond.code ({ cls := "java/util/TreeMap$NavigableSubMap$SubMapEntryIterator", name := "next", desc := "()Ljava/lang/Object;" } : Jvm.MethodName) prog_59_method_4_code (1 : Nat) (Option.some (Jvm.ClassFile.FieldType.object "java/lang/Object"))) ∈ lw_all := lw_g (lw_at lw_m5 137 rfl) rfl
theorem q1133 : (Jvm.Cond.methodLink "java/util/TreeMap$NavigableSubMap$SubMapEntryIterator" (17 : Nat) ({ cls := "java/util/TreeMap$NavigableSubMap$SubMapEntryIterator", name := "next", desc := "()Ljava/util/Map$Entry;" } : Jvm.MethodName)) ∈ lw_all := lw_g (lw_at lw_m5 138 rfl) rfl
theorem q1134 : (Jvm.Cond.instanceMethod ({ cls := "java/util/TreeMap$NavigableSubMap$SubMapEntryIterator", name := "next", desc := "()Ljava/util/Map$Entry;" } : Jvm.MethodName)) ∈ lw_all := lw_g (lw_at lw_m5 139 rfl) rfl
theorem q1135 : (Jvm.Cond.selects "java/util/TreeMap$NavigableSubMap$SubMapEntryIterator" ({ cls := "java/util/TreeMap$NavigableSubMap$SubMapEntryIterator", name := "next", desc := "()Ljava/util/Map$Entry;" } : Jvm.MethodName) ({ cls := "java/util/TreeMap$NavigableSubMap$SubMapEntryIterator", name := "next", desc := "()Ljava/util/Map$Entry;" } : Jvm.MethodName)) ∈ lw_all := lw_g (lw_at lw_m5 140 rfl) rfl
theorem q1136 : (Jvm.Cond.code ({ cls := "java/util/TreeMap$NavigableSubMap$SubMapEntryIterator", name := "next", desc := "()Ljava/util/Map$Entry;" } : Jvm.MethodName) prog_59_method_2_code (1 : Nat) (Option.some (Jvm.ClassFile.FieldType.object "java/util/Map$Entry"))) ∈ lw_all := lw_g (lw_at lw_m5 141 rfl) rfl
theorem q1137 : (Jvm.Cond.methodLink "java/util/TreeMap$NavigableSubMap$SubMapEntryIterator" (7 : Nat) ({ cls := "java/util/TreeMap$NavigableSubMap$SubMapEntryIterator", name := "nextEntry", desc := "()Ljava/util/TreeMap$Entry;" } : Jvm.MethodName)) ∈ lw_all := lw_g (lw_at lw_m5 142 rfl) rfl
theorem q1138 : (Jvm.Cond.sameMethod "java/util/TreeMap$NavigableSubMap$SubMapEntryIterator" "java/util/TreeMap$NavigableSubMap$SubMapIterator" "nextEntry" "()Ljava/util/TreeMap$Entry;") ∈ lw_all := lw_g (lw_at lw_m5 143 rfl) rfl
theorem q1140 : (Jvm.Cond.selects "java/util/TreeMap$NavigableSubMap$SubMapEntryIterator" ({ cls := "java/util/TreeMap$NavigableSubMap$SubMapEntryIterator", name := "nextEntry", desc := "()Ljava/util/TreeMap$Entry;" } : Jvm.MethodName) ({ cls := "java/util/TreeMap$NavigableSubMap$SubMapIterator", name := "nextEntry", desc := "()Ljava/util/TreeMap$Entry;" } : Jvm.MethodName)) ∈ lw_all := lw_g (lw_at lw_m5 145 rfl) rfl
theorem q1529 : (Jvm.Cond.castable "java/util/TreeMap$NavigableSubMap$SubMapEntryIterator" "java/lang/Object") ∈ lw_tbl := lw_at lw_m7 54 rfl
theorem in_J32 : ∀ w ∈ wsJ320, w ∈ lw_all := lw_in wsJ320 [963, 965, 967, 969, 971] (by decide +kernel) (by decide +kernel)
/-! java/util/TreeMap$PrivateEntryIterator -/
set_option maxRecDepth 100000
def RJ33 : String := "java/util/TreeMap$PrivateEntryIterator"
abbrev cJ33_init : ByteArray := prog_61_method_1_code
def yJ33_init : MethodName := ⟨RJ33, "<init>", "(Ljava/util/TreeMap;Ljava/util/TreeMap$Entry;)V"⟩
def dkwJ33_init_1 : List UInt8 := [181, 0, 26, 177]
abbrev dktJ33_init_1 : List UInt8 := dkwJ33_init_1 ++ []
def dkwJ33_init_0 : List UInt8 := [42, 43, 181, 0, 1, 42, 183, 0, 7, 42, 43, 180, 0, 13, 181, 0, 19, 42, 1, 181, 0, 22, 42, 44]
abbrev dktJ33_init_0 : List UInt8 := dkwJ33_init_0 ++ dktJ33_init_1
theorem dksJ33_init_0 : cJ33_init.data.toList.drop 0 = dktJ33_init_0 := by decide +kernel
theorem dksJ33_init_1 : cJ33_init.data.toList.drop 24 = dktJ33_init_1 := dk_seg dksJ33_init_0 24 rfl rfl
theorem dJ33_init_0 : decode cJ33_init 0 = .ok (.aload_n 0, 1) := dk_42 (dk_at dksJ33_init_0 0 rfl rfl)
theorem dJ33_init_1 : decode cJ33_init 1 = .ok (.aload_n 1, 1) := dk_43 (dk_at dksJ33_init_0 1 rfl rfl)
theorem dJ33_init_2 : decode cJ33_init 2 = .ok (.putfield 1, 3) := dk_181 0 1 (dk_at dksJ33_init_0 2 rfl rfl)
theorem dJ33_init_5 : decode cJ33_init 5 = .ok (.aload_n 0, 1) := dk_42 (dk_at dksJ33_init_0 5 rfl rfl)
theorem dJ33_init_6 : decode cJ33_init 6 = .ok (.invokespecial 7, 3) := dk_183 0 7 (dk_at dksJ33_init_0 6 rfl rfl)
theorem dJ33_init_9 : decode cJ33_init 9 = .ok (.aload_n 0, 1) := dk_42 (dk_at dksJ33_init_0 9 rfl rfl)
theorem dJ33_init_10 : decode cJ33_init 10 = .ok (.aload_n 1, 1) := dk_43 (dk_at dksJ33_init_0 10 rfl rfl)
theorem dJ33_init_11 : decode cJ33_init 11 = .ok (.getfield 13, 3) := dk_180 0 13 (dk_at dksJ33_init_0 11 rfl rfl)
theorem dJ33_init_14 : decode cJ33_init 14 = .ok (.putfield 19, 3) := dk_181 0 19 (dk_at dksJ33_init_0 14 rfl rfl)
theorem dJ33_init_17 : decode cJ33_init 17 = .ok (.aload_n 0, 1) := dk_42 (dk_at dksJ33_init_0 17 rfl rfl)
theorem dJ33_init_18 : decode cJ33_init 18 = .ok (.aconst_null, 1) := dk_1 (dk_at dksJ33_init_0 18 rfl rfl)
theorem dJ33_init_19 : decode cJ33_init 19 = .ok (.putfield 22, 3) := dk_181 0 22 (dk_at dksJ33_init_0 19 rfl rfl)
theorem dJ33_init_22 : decode cJ33_init 22 = .ok (.aload_n 0, 1) := dk_42 (dk_at dksJ33_init_0 22 rfl rfl)
theorem dJ33_init_23 : decode cJ33_init 23 = .ok (.aload_n 2, 1) := dk_44 (dk_at dksJ33_init_0 23 rfl rfl)
theorem dJ33_init_24 : decode cJ33_init 24 = .ok (.putfield 26, 3) := dk_181 0 26 (dk_at dksJ33_init_1 0 rfl rfl)
theorem dJ33_init_27 : decode cJ33_init 27 = .ok (.return_, 1) := dk_177 (dk_at dksJ33_init_1 3 rfl rfl)
abbrev cJ33_hasNext : ByteArray := prog_61_method_2_code
def yJ33_hasNext : MethodName := ⟨RJ33, "hasNext", "()Z"⟩
def dkwJ33_hasNext_0 : List UInt8 := [42, 180, 0, 26, 198, 0, 7, 4, 167, 0, 4, 3, 172]
abbrev dktJ33_hasNext_0 : List UInt8 := dkwJ33_hasNext_0 ++ []
theorem dksJ33_hasNext_0 : cJ33_hasNext.data.toList.drop 0 = dktJ33_hasNext_0 := by decide +kernel
theorem dJ33_hasNext_0 : decode cJ33_hasNext 0 = .ok (.aload_n 0, 1) := dk_42 (dk_at dksJ33_hasNext_0 0 rfl rfl)
theorem dJ33_hasNext_1 : decode cJ33_hasNext 1 = .ok (.getfield 26, 3) := dk_180 0 26 (dk_at dksJ33_hasNext_0 1 rfl rfl)
theorem dJ33_hasNext_4 : decode cJ33_hasNext 4 = .ok (.ifnull 7, 3) := dk_198 0 7 (dk_at dksJ33_hasNext_0 4 rfl rfl)
theorem dJ33_hasNext_7 : decode cJ33_hasNext 7 = .ok (.iconst 1, 1) := dk_4 (dk_at dksJ33_hasNext_0 7 rfl rfl)
theorem dJ33_hasNext_8 : decode cJ33_hasNext 8 = .ok (.goto 4, 3) := dk_167 0 4 (dk_at dksJ33_hasNext_0 8 rfl rfl)
theorem dJ33_hasNext_11 : decode cJ33_hasNext 11 = .ok (.iconst 0, 1) := dk_3 (dk_at dksJ33_hasNext_0 11 rfl rfl)
theorem dJ33_hasNext_12 : decode cJ33_hasNext 12 = .ok (.ireturn, 1) := dk_172 (dk_at dksJ33_hasNext_0 12 rfl rfl)
abbrev cJ33_nextEntry : ByteArray := prog_61_method_3_code
def yJ33_nextEntry : MethodName := ⟨RJ33, "nextEntry", "()Ljava/util/TreeMap$Entry;"⟩
def dkwJ33_nextEntry_2 : List UInt8 := [43, 181, 0, 22, 43, 176]
abbrev dktJ33_nextEntry_2 : List UInt8 := dkwJ33_nextEntry_2 ++ []
def dkwJ33_nextEntry_1 : List UInt8 := [42, 180, 0, 19, 159, 0, 11, 187, 0, 32, 89, 183, 0, 34, 191, 42, 43, 184, 0, 35, 181, 0, 26, 42]
abbrev dktJ33_nextEntry_1 : List UInt8 := dkwJ33_nextEntry_1 ++ dktJ33_nextEntry_2
def dkwJ33_nextEntry_0 : List UInt8 := [42, 180, 0, 26, 76, 43, 199, 0, 11, 187, 0, 29, 89, 183, 0, 31, 191, 42, 180, 0, 1, 180, 0, 13]
abbrev dktJ33_nextEntry_0 : List UInt8 := dkwJ33_nextEntry_0 ++ dktJ33_nextEntry_1
theorem dksJ33_nextEntry_0 : cJ33_nextEntry.data.toList.drop 0 = dktJ33_nextEntry_0 := by decide +kernel
theorem dksJ33_nextEntry_1 : cJ33_nextEntry.data.toList.drop 24 = dktJ33_nextEntry_1 := dk_seg dksJ33_nextEntry_0 24 rfl rfl
theorem dksJ33_nextEntry_2 : cJ33_nextEntry.data.toList.drop 48 = dktJ33_nextEntry_2 := dk_seg dksJ33_nextEntry_1 24 rfl rfl
theorem dJ33_nextEntry_0 : decode cJ33_nextEntry 0 = .ok (.aload_n 0, 1) := dk_42 (dk_at dksJ33_nextEntry_0 0 rfl rfl)
theorem dJ33_nextEntry_1 : decode cJ33_nextEntry 1 = .ok (.getfield 26, 3) := dk_180 0 26 (dk_at dksJ33_nextEntry_0 1 rfl rfl)
theorem dJ33_nextEntry_4 : decode cJ33_nextEntry 4 = .ok (.astore_n 1, 1) := dk_76 (dk_at dksJ33_nextEntry_0 4 rfl rfl)
theorem dJ33_nextEntry_5 : decode cJ33_nextEntry 5 = .ok (.aload_n 1, 1) := dk_43 (dk_at dksJ33_nextEntry_0 5 rfl rfl)
theorem dJ33_nextEntry_6 : decode cJ33_nextEntry 6 = .ok (.ifnonnull 11, 3) := dk_199 0 11 (dk_at dksJ33_nextEntry_0 6 rfl rfl)
theorem dJ33_nextEntry_9 : decode cJ33_nextEntry 9 = .ok (.new 29, 3) := dk_187 0 29 (dk_at dksJ33_nextEntry_0 9 rfl rfl)
theorem dJ33_nextEntry_12 : decode cJ33_nextEntry 12 = .ok (.dup, 1) := dk_89 (dk_at dksJ33_nextEntry_0 12 rfl rfl)
theorem dJ33_nextEntry_13 : decode cJ33_nextEntry 13 = .ok (.invokespecial 31, 3) := dk_183 0 31 (dk_at dksJ33_nextEntry_0 13 rfl rfl)
theorem dJ33_nextEntry_16 : decode cJ33_nextEntry 16 = .ok (.athrow, 1) := dk_191 (dk_at dksJ33_nextEntry_0 16 rfl rfl)
theorem dJ33_nextEntry_17 : decode cJ33_nextEntry 17 = .ok (.aload_n 0, 1) := dk_42 (dk_at dksJ33_nextEntry_0 17 rfl rfl)
theorem dJ33_nextEntry_18 : decode cJ33_nextEntry 18 = .ok (.getfield 1, 3) := dk_180 0 1 (dk_at dksJ33_nextEntry_0 18 rfl rfl)
theorem dJ33_nextEntry_21 : decode cJ33_nextEntry 21 = .ok (.getfield 13, 3) := dk_180 0 13 (dk_at dksJ33_nextEntry_0 21 rfl rfl)
theorem dJ33_nextEntry_24 : decode cJ33_nextEntry 24 = .ok (.aload_n 0, 1) := dk_42 (dk_at dksJ33_nextEntry_1 0 rfl rfl)
theorem dJ33_nextEntry_25 : decode cJ33_nextEntry 25 = .ok (.getfield 19, 3) := dk_180 0 19 (dk_at dksJ33_nextEntry_1 1 rfl rfl)
theorem dJ33_nextEntry_28 : decode cJ33_nextEntry 28 = .ok (.if_icmp .eq 11, 3) := dk_159 0 11 (dk_at dksJ33_nextEntry_1 4 rfl rfl)
theorem dJ33_nextEntry_31 : decode cJ33_nextEntry 31 = .ok (.new 32, 3) := dk_187 0 32 (dk_at dksJ33_nextEntry_1 7 rfl rfl)
theorem dJ33_nextEntry_34 : decode cJ33_nextEntry 34 = .ok (.dup, 1) := dk_89 (dk_at dksJ33_nextEntry_1 10 rfl rfl)
theorem dJ33_nextEntry_35 : decode cJ33_nextEntry 35 = .ok (.invokespecial 34, 3) := dk_183 0 34 (dk_at dksJ33_nextEntry_1 11 rfl rfl)
theorem dJ33_nextEntry_38 : decode cJ33_nextEntry 38 = .ok (.athrow, 1) := dk_191 (dk_at dksJ33_nextEntry_1 14 rfl rfl)
theorem dJ33_nextEntry_39 : decode cJ33_nextEntry 39 = .ok (.aload_n 0, 1) := dk_42 (dk_at dksJ33_nextEntry_1 15 rfl rfl)
theorem dJ33_nextEntry_40 : decode cJ33_nextEntry 40 = .ok (.aload_n 1, 1) := dk_43 (dk_at dksJ33_nextEntry_1 16 rfl rfl)
theorem dJ33_nextEntry_41 : decode cJ33_nextEntry 41 = .ok (.invokestatic 35, 3) := dk_184 0 35 (dk_at dksJ33_nextEntry_1 17 rfl rfl)
theorem dJ33_nextEntry_44 : decode cJ33_nextEntry 44 = .ok (.putfield 26, 3) := dk_181 0 26 (dk_at dksJ33_nextEntry_1 20 rfl rfl)
theorem dJ33_nextEntry_47 : decode cJ33_nextEntry 47 = .ok (.aload_n 0, 1) := dk_42 (dk_at dksJ33_nextEntry_1 23 rfl rfl)
theorem dJ33_nextEntry_48 : decode cJ33_nextEntry 48 = .ok (.aload_n 1, 1) := dk_43 (dk_at dksJ33_nextEntry_2 0 rfl rfl)
theorem dJ33_nextEntry_49 : decode cJ33_nextEntry 49 = .ok (.putfield 22, 3) := dk_181 0 22 (dk_at dksJ33_nextEntry_2 1 rfl rfl)
theorem dJ33_nextEntry_52 : decode cJ33_nextEntry 52 = .ok (.aload_n 1, 1) := dk_43 (dk_at dksJ33_nextEntry_2 4 rfl rfl)
theorem dJ33_nextEntry_53 : decode cJ33_nextEntry 53 = .ok (.areturn, 1) := dk_176 (dk_at dksJ33_nextEntry_2 5 rfl rfl)
theorem q77 : (Jvm.Cond.initialized "java/util/TreeMap$PrivateEntryIterator") ∈ lw_all := lw_g (lw_at lw_m1 42 rfl) rfl
theorem q267 : (Jvm.Cond.fieldLinkNest "java/util/TreeMap$PrivateEntryIterator" (13 : Nat) "java/util/TreeMap" "modCount" "I" "java/util/TreeMap") ∈ lw_tbl := lw_at lw_m1 232 rfl
theorem q987 : (Jvm.Cond.instanceMethod ({ cls := "java/util/TreeMap$PrivateEntryIterator", name := "<init>", desc := "(Ljava/util/TreeMap;Ljava/util/TreeMap$Entry;)V" } : Jvm.MethodName)) ∈ lw_all := lw_g (lw_at lw_m4 232 rfl) rfl
theorem q988 : (Jvm.Cond.code ({ cls := "java/util/TreeMap$PrivateEntryIterator", name := "<init>", desc := "(Ljava/util/TreeMap;Ljava/util/TreeMap$Entry;)V" } : Jvm.MethodName) prog_61_method_1_code (3 : Nat) (Option.none : Option Jvm.ClassFile.FieldType)) ∈ lw_all := lw_g (lw_at lw_m4 233 rfl) rfl
theorem q989 : (Jvm.Cond.methodLink "java/util/TreeMap$PrivateEntryIterator" (7 : Nat) ({ cls := "java/lang/Object", name := "<init>", desc := "()V" } : Jvm.MethodName)) ∈ lw_all := lw_g (lw_at lw_m4 234 rfl) rfl
theorem q990 : (Jvm.Cond.fieldLink "java/util/TreeMap$PrivateEntryIterator" (26 : Nat) "java/util/TreeMap$PrivateEntryIterator" "next" "Ljava/util/TreeMap$Entry;") ∈ lw_all := lw_g (lw_at lw_m4 235 rfl) rfl
theorem q991 : (Jvm.Cond.fieldLink "java/util/TreeMap$PrivateEntryIterator" (22 : Nat) "java/util/TreeMap$PrivateEntryIterator" "lastReturned" "Ljava/util/TreeMap$Entry;") ∈ lw_all := lw_g (lw_at lw_m4 236 rfl) rfl
theorem q992 : (Jvm.Cond.fieldLink "java/util/TreeMap$PrivateEntryIterator" (19 : Nat) "java/util/TreeMap$PrivateEntryIterator" "expectedModCount" "I") ∈ lw_all := lw_g (lw_at lw_m4 237 rfl) rfl
theorem q993 : (Jvm.Cond.fieldLink "java/util/TreeMap$PrivateEntryIterator" (1 : Nat) "java/util/TreeMap$PrivateEntryIterator" "this$0" "Ljava/util/TreeMap;") ∈ lw_all := lw_g (lw_at lw_m4 238 rfl) rfl
theorem q995 : (Jvm.Cond.soleField "java/util/TreeMap$PrivateEntryIterator" "next") ∈ lw_all := lw_g (lw_at lw_m5 0 rfl) rfl
theorem q997 : (Jvm.Cond.soleField "java/util/TreeMap$PrivateEntryIterator" "lastReturned") ∈ lw_all := lw_g (lw_at lw_m5 2 rfl) rfl
theorem q999 : (Jvm.Cond.soleField "java/util/TreeMap$PrivateEntryIterator" "expectedModCount") ∈ lw_all := lw_g (lw_at lw_m5 4 rfl) rfl
theorem q1001 : (Jvm.Cond.soleField "java/util/TreeMap$PrivateEntryIterator" "this$0") ∈ lw_all := lw_g (lw_at lw_m5 6 rfl) rfl
theorem q1078 : (Jvm.Cond.instanceMethod ({ cls := "java/util/TreeMap$PrivateEntryIterator", name := "hasNext", desc := "()Z" } : Jvm.MethodName)) ∈ lw_all := lw_g (lw_at lw_m5 83 rfl) rfl
theorem q1079 : (Jvm.Cond.publicMethod ({ cls := "java/util/TreeMap$PrivateEntryIterator", name := "hasNext", desc := "()Z" } : Jvm.MethodName)) ∈ lw_tbl := lw_at lw_m5 84 rfl
theorem q1080 : (Jvm.Cond.code ({ cls := "java/util/TreeMap$PrivateEntryIterator", name := "hasNext", desc := "()Z" } : Jvm.MethodName) prog_61_method_2_code (1 : Nat) (Option.some Jvm.ClassFile.FieldType.boolean)) ∈ lw_all := lw_g (lw_at lw_m5 85 rfl) rfl
theorem q1121 : (Jvm.Cond.declares ({ cls := "java/util/TreeMap$PrivateEntryIterator", name := "nextEntry", desc := "()Ljava/util/TreeMap$Entry;" } : Jvm.MethodName)) ∈ lw_tbl := lw_at lw_m5 126 rfl
theorem q1123 : (Jvm.Cond.instanceMethod ({ cls := "java/util/TreeMap$PrivateEntryIterator", name := "nextEntry", desc := "()Ljava/util/TreeMap$Entry;" } : Jvm.MethodName)) ∈ lw_all := lw_g (lw_at lw_m5 128 rfl) rfl
theorem q1124 : (Jvm.Cond.code ({ cls := "java/util/TreeMap$PrivateEntryIterator", name := "nextEntry", desc := "()Ljava/util/TreeMap$Entry;" } : Jvm.MethodName) prog_61_method_3_code (2 : Nat) (Option.some (Jvm.ClassFile.FieldType.object "java/util/TreeMap$Entry"))) ∈ lw_all := lw_g (lw_at lw_m5 129 rfl) rfl
theorem q1125 : (Jvm.Cond.methodLink "java/util/TreeMap$PrivateEntryIterator" (35 : Nat) ({ cls := "java/util/TreeMap", name := "successor", desc := "(Ljava/util/TreeMap$Entry;)Ljava/util/TreeMap$Entry;" } : Jvm.MethodName)) ∈ lw_all := lw_g (lw_at lw_m5 130 rfl) rfl
/-! java/util/TreeMap$EntryIterator -/
set_option maxRecDepth 100000
def RJ34 : String := "java/util/TreeMap$EntryIterator"
def TJ34 : u_T := fun k => match k with
  | 0 => ("java/util/TreeMap$PrivateEntryIterator", "next", "Ljava/util/TreeMap$Entry;", false)
  | 1 => ("java/util/TreeMap$PrivateEntryIterator", "lastReturned", "Ljava/util/TreeMap$Entry;", false)
  | 2 => ("java/util/TreeMap$PrivateEntryIterator", "expectedModCount", "I", false)
  | _ => ("java/util/TreeMap$PrivateEntryIterator", "this$0", "Ljava/util/TreeMap;", true)
def tyJ34 : Nat → FieldType := fun k => match k with
  | 0 => .object "java/util/TreeMap$Entry"
  | 1 => .object "java/util/TreeMap$Entry"
  | 2 => .int
  | _ => .object "java/util/TreeMap"
abbrev wsJ340 : List Cond := u_ws RJ34 TJ34 4
theorem nmJ34 : ∀ a, a < 4 → ∀ b, b < 4 → a ≠ b → (TJ34 a).2.1 ≠ (TJ34 b).2.1 := by decide +kernel
theorem tyJ34_ok : ∀ k, k < 4 → parseFieldDescriptor (TJ34 k).2.2.1 = some (tyJ34 k) := by decide +kernel
abbrev cJ34_init : ByteArray := prog_55_method_1_code
def yJ34_init : MethodName := ⟨RJ34, "<init>", "(Ljava/util/TreeMap;Ljava/util/TreeMap$Entry;)V"⟩
def dkwJ34_init_0 : List UInt8 := [42, 43, 44, 183, 0, 1, 177]
abbrev dktJ34_init_0 : List UInt8 := dkwJ34_init_0 ++ []
theorem dksJ34_init_0 : cJ34_init.data.toList.drop 0 = dktJ34_init_0 := by decide +kernel
theorem dJ34_init_0 : decode cJ34_init 0 = .ok (.aload_n 0, 1) := dk_42 (dk_at dksJ34_init_0 0 rfl rfl)
theorem dJ34_init_1 : decode cJ34_init 1 = .ok (.aload_n 1, 1) := dk_43 (dk_at dksJ34_init_0 1 rfl rfl)
theorem dJ34_init_2 : decode cJ34_init 2 = .ok (.aload_n 2, 1) := dk_44 (dk_at dksJ34_init_0 2 rfl rfl)
theorem dJ34_init_3 : decode cJ34_init 3 = .ok (.invokespecial 1, 3) := dk_183 0 1 (dk_at dksJ34_init_0 3 rfl rfl)
theorem dJ34_init_6 : decode cJ34_init 6 = .ok (.return_, 1) := dk_177 (dk_at dksJ34_init_0 6 rfl rfl)
abbrev cJ34_next : ByteArray := prog_55_method_3_code
def yJ34_next : MethodName := ⟨RJ34, "next", "()Ljava/lang/Object;"⟩
theorem dJ34_next_0 : decode cJ34_next 0 = .ok (.aload_n 0, 1) := by decide +kernel
theorem dJ34_next_1 : decode cJ34_next 1 = .ok (.invokevirtual 13, 3) := by decide +kernel
theorem dJ34_next_4 : decode cJ34_next 4 = .ok (.areturn, 1) := by decide +kernel
abbrev cJ34_next_2 : ByteArray := prog_55_method_2_code
def yJ34_next_2 : MethodName := ⟨RJ34, "next", "()Ljava/util/Map$Entry;"⟩
theorem dJ34_next_2_0 : decode cJ34_next_2 0 = .ok (.aload_n 0, 1) := by decide +kernel
theorem dJ34_next_2_1 : decode cJ34_next_2 1 = .ok (.invokevirtual 7, 3) := by decide +kernel
theorem dJ34_next_2_4 : decode cJ34_next_2 4 = .ok (.areturn, 1) := by decide +kernel
theorem q78 : (Jvm.Cond.initialized "java/util/TreeMap$EntryIterator") ∈ lw_all := lw_g (lw_at lw_m1 43 rfl) rfl
theorem q360 : (Jvm.Cond.selects "java/util/TreeMap$EntryIterator" ({ cls := "java/lang/Object", name := "getClass", desc := "()Ljava/lang/Class;" } : Jvm.MethodName) ({ cls := "java/lang/Object", name := "getClass", desc := "()Ljava/lang/Class;" } : Jvm.MethodName)) ∈ lw_all := lw_g (lw_at lw_m2 85 rfl) rfl
theorem q981 : (Jvm.Cond.instantiable "java/util/TreeMap$EntryIterator" (4 : Nat)) ∈ lw_all := lw_g (lw_at lw_m4 226 rfl) rfl
theorem q984 : (Jvm.Cond.instanceMethod ({ cls := "java/util/TreeMap$EntryIterator", name := "<init>", desc := "(Ljava/util/TreeMap;Ljava/util/TreeMap$Entry;)V" } : Jvm.MethodName)) ∈ lw_all := lw_g (lw_at lw_m4 229 rfl) rfl
theorem q985 : (Jvm.Cond.code ({ cls := "java/util/TreeMap$EntryIterator", name := "<init>", desc := "(Ljava/util/TreeMap;Ljava/util/TreeMap$Entry;)V" } : Jvm.MethodName) prog_55_method_1_code (3 : Nat) (Option.none : Option Jvm.ClassFile.FieldType)) ∈ lw_all := lw_g (lw_at lw_m4 230 rfl) rfl
theorem q986 : (Jvm.Cond.methodLink "java/util/TreeMap$EntryIterator" (1 : Nat) ({ cls := "java/util/TreeMap$PrivateEntryIterator", name := "<init>", desc := "(Ljava/util/TreeMap;Ljava/util/TreeMap$Entry;)V" } : Jvm.MethodName)) ∈ lw_all := lw_g (lw_at lw_m4 231 rfl) rfl
theorem q994 : (Jvm.Cond.lays "java/util/TreeMap$EntryIterator" "java/util/TreeMap$PrivateEntryIterator" "next" "Ljava/util/TreeMap$Entry;") ∈ lw_all := lw_g (lw_at lw_m4 239 rfl) rfl
theorem q996 : (Jvm.Cond.lays "java/util/TreeMap$EntryIterator" "java/util/TreeMap$PrivateEntryIterator" "lastReturned" "Ljava/util/TreeMap$Entry;") ∈ lw_all := lw_g (lw_at lw_m5 1 rfl) rfl
theorem q998 : (Jvm.Cond.lays "java/util/TreeMap$EntryIterator" "java/util/TreeMap$PrivateEntryIterator" "expectedModCount" "I") ∈ lw_all := lw_g (lw_at lw_m5 3 rfl) rfl
theorem q1000 : (Jvm.Cond.laysFinal "java/util/TreeMap$EntryIterator" "java/util/TreeMap$PrivateEntryIterator" "this$0" "Ljava/util/TreeMap;") ∈ lw_all := lw_g (lw_at lw_m5 5 rfl) rfl
theorem q1002 : (Jvm.Cond.superclass "java/util/TreeMap$EntryIterator" "java/util/TreeMap$PrivateEntryIterator") ∈ lw_all := lw_g (lw_at lw_m5 7 rfl) rfl
theorem q1075 : (Jvm.Cond.castable "java/util/TreeMap$EntryIterator" "java/util/Iterator") ∈ lw_tbl := lw_at lw_m5 80 rfl
theorem q1076 : (Jvm.Cond.selects "java/util/TreeMap$EntryIterator" ({ cls := "java/util/Iterator", name := "hasNext", desc := "()Z" } : Jvm.MethodName) ({ cls := "java/util/TreeMap$PrivateEntryIterator", name := "hasNext", desc := "()Z" } : Jvm.MethodName)) ∈ lw_all := lw_g (lw_at lw_m5 81 rfl) rfl
theorem q1077 : (Jvm.Cond.unhidden "java/util/TreeMap$EntryIterator" "hasNext" "()Z") ∈ lw_tbl := lw_at lw_m5 82 rfl
theorem q1110 : (Jvm.Cond.selects "java/util/TreeMap$EntryIterator" ({ cls := "java/util/Iterator", name := "next", desc := "()Ljava/lang/Object;" } : Jvm.MethodName) ({ cls := "java/util/TreeMap$EntryIterator", name := "next", desc := "()Ljava/lang/Object;" } : Jvm.MethodName)) ∈ lw_all := lw_g (lw_at lw_m5 115 rfl) rfl
theorem q1111 : (Jvm.Cond.unhidden "java/util/TreeMap$EntryIterator" "next" "()Ljava/lang/Object;") ∈ lw_tbl := lw_at lw_m5 116 rfl
theorem q1112 : (Jvm.Cond.instanceMethod ({ cls := "java/util/TreeMap$EntryIterator", name := "next", desc := "()Ljava/lang/Object;" } : Jvm.MethodName)) ∈ lw_all := lw_g (lw_at lw_m5 117 rfl) rfl
theorem q1113 : (Jvm.Cond.publicMethod ({ cls := "java/util/TreeMap$EntryIterator", name := "next", desc := "()Ljava/lang/Object;" } : Jvm.MethodName)) ∈ lw_tbl := lw_at lw_m5 118 rfl
theorem q1114 : (Jvm.Cond.code ({ cls := "java/util/TreeMap$EntryIterator", name := "next", desc := "()Ljava/lang/Object;" } : Jvm.MethodName) prog_55_method_3_code (1 : Nat) (Option.some (Jvm.ClassFile.FieldType.object "java/lang/Object"))) ∈ lw_all := lw_g (lw_at lw_m5 119 rfl) rfl
theorem q1115 : (Jvm.Cond.methodLink "java/util/TreeMap$EntryIterator" (13 : Nat) ({ cls := "java/util/TreeMap$EntryIterator", name := "next", desc := "()Ljava/util/Map$Entry;" } : Jvm.MethodName)) ∈ lw_all := lw_g (lw_at lw_m5 120 rfl) rfl
theorem q1116 : (Jvm.Cond.instanceMethod ({ cls := "java/util/TreeMap$EntryIterator", name := "next", desc := "()Ljava/util/Map$Entry;" } : Jvm.MethodName)) ∈ lw_all := lw_g (lw_at lw_m5 121 rfl) rfl
theorem q1117 : (Jvm.Cond.selects "java/util/TreeMap$EntryIterator" ({ cls := "java/util/TreeMap$EntryIterator", name := "next", desc := "()Ljava/util/Map$Entry;" } : Jvm.MethodName) ({ cls := "java/util/TreeMap$EntryIterator", name := "next", desc := "()Ljava/util/Map$Entry;" } : Jvm.MethodName)) ∈ lw_all := lw_g (lw_at lw_m5 122 rfl) rfl
theorem q1118 : (Jvm.Cond.code ({ cls := "java/util/TreeMap$EntryIterator", name := "next", desc := "()Ljava/util/Map$Entry;" } : Jvm.MethodName) prog_55_method_2_code (1 : Nat) (Option.some (Jvm.ClassFile.FieldType.object "java/util/Map$Entry"))) ∈ lw_all := lw_g (lw_at lw_m5 123 rfl) rfl
theorem q1119 : (Jvm.Cond.methodLink "java/util/TreeMap$EntryIterator" (7 : Nat) ({ cls := "java/util/TreeMap$EntryIterator", name := "nextEntry", desc := "()Ljava/util/TreeMap$Entry;" } : Jvm.MethodName)) ∈ lw_all := lw_g (lw_at lw_m5 124 rfl) rfl
theorem q1120 : (Jvm.Cond.sameMethod "java/util/TreeMap$EntryIterator" "java/util/TreeMap$PrivateEntryIterator" "nextEntry" "()Ljava/util/TreeMap$Entry;") ∈ lw_all := lw_g (lw_at lw_m5 125 rfl) rfl
theorem q1122 : (Jvm.Cond.selects "java/util/TreeMap$EntryIterator" ({ cls := "java/util/TreeMap$EntryIterator", name := "nextEntry", desc := "()Ljava/util/TreeMap$Entry;" } : Jvm.MethodName) ({ cls := "java/util/TreeMap$PrivateEntryIterator", name := "nextEntry", desc := "()Ljava/util/TreeMap$Entry;" } : Jvm.MethodName)) ∈ lw_all := lw_g (lw_at lw_m5 127 rfl) rfl
theorem q1530 : (Jvm.Cond.castable "java/util/TreeMap$EntryIterator" "java/lang/Object") ∈ lw_tbl := lw_at lw_m7 55 rfl
theorem in_J34 : ∀ w ∈ wsJ340, w ∈ lw_all := lw_in wsJ340 [994, 996, 998, 1000] (by decide +kernel) (by decide +kernel)
/-! java/util/ArrayList$Itr -/
set_option maxRecDepth 100000
def RJ35 : String := "java/util/ArrayList$Itr"
def TJ35 : u_T := fun k => match k with
  | 0 => ("java/util/ArrayList$Itr", "cursor", "I", false)
  | 1 => ("java/util/ArrayList$Itr", "lastRet", "I", false)
  | 2 => ("java/util/ArrayList$Itr", "expectedModCount", "I", false)
  | _ => ("java/util/ArrayList$Itr", "this$0", "Ljava/util/ArrayList;", true)
def tyJ35 : Nat → FieldType := fun k => match k with
  | 0 => .int
  | 1 => .int
  | 2 => .int
  | _ => .object "java/util/ArrayList"
abbrev wsJ350 : List Cond := u_ws RJ35 TJ35 4
theorem nmJ35 : ∀ a, a < 4 → ∀ b, b < 4 → a ≠ b → (TJ35 a).2.1 ≠ (TJ35 b).2.1 := by decide +kernel
theorem tyJ35_ok : ∀ k, k < 4 → parseFieldDescriptor (TJ35 k).2.2.1 = some (tyJ35 k) := by decide +kernel
abbrev cJ35_init : ByteArray := prog_36_method_1_code
def yJ35_init : MethodName := ⟨RJ35, "<init>", "(Ljava/util/ArrayList;)V"⟩
def dkwJ35_init_1 : List UInt8 := [181, 0, 22, 177]
abbrev dktJ35_init_1 : List UInt8 := dkwJ35_init_1 ++ []
def dkwJ35_init_0 : List UInt8 := [42, 43, 181, 0, 1, 42, 183, 0, 7, 42, 2, 181, 0, 13, 42, 42, 180, 0, 1, 180, 0, 17]
abbrev dktJ35_init_0 : List UInt8 := dkwJ35_init_0 ++ dktJ35_init_1
theorem dksJ35_init_0 : cJ35_init.data.toList.drop 0 = dktJ35_init_0 := by decide +kernel
theorem dksJ35_init_1 : cJ35_init.data.toList.drop 22 = dktJ35_init_1 := dk_seg dksJ35_init_0 22 rfl rfl
theorem dJ35_init_0 : decode cJ35_init 0 = .ok (.aload_n 0, 1) := dk_42 (dk_at dksJ35_init_0 0 rfl rfl)
theorem dJ35_init_1 : decode cJ35_init 1 = .ok (.aload_n 1, 1) := dk_43 (dk_at dksJ35_init_0 1 rfl rfl)
theorem dJ35_init_2 : decode cJ35_init 2 = .ok (.putfield 1, 3) := dk_181 0 1 (dk_at dksJ35_init_0 2 rfl rfl)
theorem dJ35_init_5 : decode cJ35_init 5 = .ok (.aload_n 0, 1) := dk_42 (dk_at dksJ35_init_0 5 rfl rfl)
theorem dJ35_init_6 : decode cJ35_init 6 = .ok (.invokespecial 7, 3) := dk_183 0 7 (dk_at dksJ35_init_0 6 rfl rfl)
theorem dJ35_init_9 : decode cJ35_init 9 = .ok (.aload_n 0, 1) := dk_42 (dk_at dksJ35_init_0 9 rfl rfl)
theorem dJ35_init_10 : decode cJ35_init 10 = .ok (.iconst (-1), 1) := dk_2 (dk_at dksJ35_init_0 10 rfl rfl)
theorem dJ35_init_11 : decode cJ35_init 11 = .ok (.putfield 13, 3) := dk_181 0 13 (dk_at dksJ35_init_0 11 rfl rfl)
theorem dJ35_init_14 : decode cJ35_init 14 = .ok (.aload_n 0, 1) := dk_42 (dk_at dksJ35_init_0 14 rfl rfl)
theorem dJ35_init_15 : decode cJ35_init 15 = .ok (.aload_n 0, 1) := dk_42 (dk_at dksJ35_init_0 15 rfl rfl)
theorem dJ35_init_16 : decode cJ35_init 16 = .ok (.getfield 1, 3) := dk_180 0 1 (dk_at dksJ35_init_0 16 rfl rfl)
theorem dJ35_init_19 : decode cJ35_init 19 = .ok (.getfield 17, 3) := dk_180 0 17 (dk_at dksJ35_init_0 19 rfl rfl)
theorem dJ35_init_22 : decode cJ35_init 22 = .ok (.putfield 22, 3) := dk_181 0 22 (dk_at dksJ35_init_1 0 rfl rfl)
theorem dJ35_init_25 : decode cJ35_init 25 = .ok (.return_, 1) := dk_177 (dk_at dksJ35_init_1 3 rfl rfl)
abbrev cJ35_hasNext : ByteArray := prog_36_method_2_code
def yJ35_hasNext : MethodName := ⟨RJ35, "hasNext", "()Z"⟩
def dkwJ35_hasNext_0 : List UInt8 := [42, 180, 0, 25, 42, 180, 0, 1, 180, 0, 28, 159, 0, 7, 4, 167, 0, 4, 3, 172]
abbrev dktJ35_hasNext_0 : List UInt8 := dkwJ35_hasNext_0 ++ []
theorem dksJ35_hasNext_0 : cJ35_hasNext.data.toList.drop 0 = dktJ35_hasNext_0 := by decide +kernel
theorem dJ35_hasNext_0 : decode cJ35_hasNext 0 = .ok (.aload_n 0, 1) := dk_42 (dk_at dksJ35_hasNext_0 0 rfl rfl)
theorem dJ35_hasNext_1 : decode cJ35_hasNext 1 = .ok (.getfield 25, 3) := dk_180 0 25 (dk_at dksJ35_hasNext_0 1 rfl rfl)
theorem dJ35_hasNext_4 : decode cJ35_hasNext 4 = .ok (.aload_n 0, 1) := dk_42 (dk_at dksJ35_hasNext_0 4 rfl rfl)
theorem dJ35_hasNext_5 : decode cJ35_hasNext 5 = .ok (.getfield 1, 3) := dk_180 0 1 (dk_at dksJ35_hasNext_0 5 rfl rfl)
theorem dJ35_hasNext_8 : decode cJ35_hasNext 8 = .ok (.getfield 28, 3) := dk_180 0 28 (dk_at dksJ35_hasNext_0 8 rfl rfl)
theorem dJ35_hasNext_11 : decode cJ35_hasNext 11 = .ok (.if_icmp .eq 7, 3) := dk_159 0 7 (dk_at dksJ35_hasNext_0 11 rfl rfl)
theorem dJ35_hasNext_14 : decode cJ35_hasNext 14 = .ok (.iconst 1, 1) := dk_4 (dk_at dksJ35_hasNext_0 14 rfl rfl)
theorem dJ35_hasNext_15 : decode cJ35_hasNext 15 = .ok (.goto 4, 3) := dk_167 0 4 (dk_at dksJ35_hasNext_0 15 rfl rfl)
theorem dJ35_hasNext_18 : decode cJ35_hasNext 18 = .ok (.iconst 0, 1) := dk_3 (dk_at dksJ35_hasNext_0 18 rfl rfl)
theorem dJ35_hasNext_19 : decode cJ35_hasNext 19 = .ok (.ireturn, 1) := dk_172 (dk_at dksJ35_hasNext_0 19 rfl rfl)
abbrev cJ35_next : ByteArray := prog_36_method_3_code
def yJ35_next : MethodName := ⟨RJ35, "next", "()Ljava/lang/Object;"⟩
def dkwJ35_next_2 : List UInt8 := [183, 0, 43, 191, 42, 27, 4, 96, 181, 0, 25, 44, 42, 27, 90, 181, 0, 13, 50, 176]
abbrev dktJ35_next_2 : List UInt8 := dkwJ35_next_2 ++ []
def dkwJ35_next_1 : List UInt8 := [183, 0, 36, 191, 42, 180, 0, 1, 180, 0, 37, 77, 27, 44, 190, 161, 0, 11, 187, 0, 41, 89]
abbrev dktJ35_next_1 : List UInt8 := dkwJ35_next_1 ++ dktJ35_next_2
def dkwJ35_next_0 : List UInt8 := [42, 182, 0, 31, 42, 180, 0, 25, 60, 27, 42, 180, 0, 1, 180, 0, 28, 161, 0, 11, 187, 0, 34, 89]
abbrev dktJ35_next_0 : List UInt8 := dkwJ35_next_0 ++ dktJ35_next_1
theorem dksJ35_next_0 : cJ35_next.data.toList.drop 0 = dktJ35_next_0 := by decide +kernel
theorem dksJ35_next_1 : cJ35_next.data.toList.drop 24 = dktJ35_next_1 := dk_seg dksJ35_next_0 24 rfl rfl
theorem dksJ35_next_2 : cJ35_next.data.toList.drop 46 = dktJ35_next_2 := dk_seg dksJ35_next_1 22 rfl rfl
theorem dJ35_next_0 : decode cJ35_next 0 = .ok (.aload_n 0, 1) := dk_42 (dk_at dksJ35_next_0 0 rfl rfl)
theorem dJ35_next_1 : decode cJ35_next 1 = .ok (.invokevirtual 31, 3) := dk_182 0 31 (dk_at dksJ35_next_0 1 rfl rfl)
theorem dJ35_next_4 : decode cJ35_next 4 = .ok (.aload_n 0, 1) := dk_42 (dk_at dksJ35_next_0 4 rfl rfl)
theorem dJ35_next_5 : decode cJ35_next 5 = .ok (.getfield 25, 3) := dk_180 0 25 (dk_at dksJ35_next_0 5 rfl rfl)
theorem dJ35_next_8 : decode cJ35_next 8 = .ok (.istore_n 1, 1) := dk_60 (dk_at dksJ35_next_0 8 rfl rfl)
theorem dJ35_next_9 : decode cJ35_next 9 = .ok (.iload_n 1, 1) := dk_27 (dk_at dksJ35_next_0 9 rfl rfl)
theorem dJ35_next_10 : decode cJ35_next 10 = .ok (.aload_n 0, 1) := dk_42 (dk_at dksJ35_next_0 10 rfl rfl)
theorem dJ35_next_11 : decode cJ35_next 11 = .ok (.getfield 1, 3) := dk_180 0 1 (dk_at dksJ35_next_0 11 rfl rfl)
theorem dJ35_next_14 : decode cJ35_next 14 = .ok (.getfield 28, 3) := dk_180 0 28 (dk_at dksJ35_next_0 14 rfl rfl)
theorem dJ35_next_17 : decode cJ35_next 17 = .ok (.if_icmp .lt 11, 3) := dk_161 0 11 (dk_at dksJ35_next_0 17 rfl rfl)
theorem dJ35_next_20 : decode cJ35_next 20 = .ok (.new 34, 3) := dk_187 0 34 (dk_at dksJ35_next_0 20 rfl rfl)
theorem dJ35_next_23 : decode cJ35_next 23 = .ok (.dup, 1) := dk_89 (dk_at dksJ35_next_0 23 rfl rfl)
theorem dJ35_next_24 : decode cJ35_next 24 = .ok (.invokespecial 36, 3) := dk_183 0 36 (dk_at dksJ35_next_1 0 rfl rfl)
theorem dJ35_next_27 : decode cJ35_next 27 = .ok (.athrow, 1) := dk_191 (dk_at dksJ35_next_1 3 rfl rfl)
theorem dJ35_next_28 : decode cJ35_next 28 = .ok (.aload_n 0, 1) := dk_42 (dk_at dksJ35_next_1 4 rfl rfl)
theorem dJ35_next_29 : decode cJ35_next 29 = .ok (.getfield 1, 3) := dk_180 0 1 (dk_at dksJ35_next_1 5 rfl rfl)
theorem dJ35_next_32 : decode cJ35_next 32 = .ok (.getfield 37, 3) := dk_180 0 37 (dk_at dksJ35_next_1 8 rfl rfl)
theorem dJ35_next_35 : decode cJ35_next 35 = .ok (.astore_n 2, 1) := dk_77 (dk_at dksJ35_next_1 11 rfl rfl)
theorem dJ35_next_36 : decode cJ35_next 36 = .ok (.iload_n 1, 1) := dk_27 (dk_at dksJ35_next_1 12 rfl rfl)
theorem dJ35_next_37 : decode cJ35_next 37 = .ok (.aload_n 2, 1) := dk_44 (dk_at dksJ35_next_1 13 rfl rfl)
theorem dJ35_next_38 : decode cJ35_next 38 = .ok (.arraylength, 1) := dk_190 (dk_at dksJ35_next_1 14 rfl rfl)
theorem dJ35_next_39 : decode cJ35_next 39 = .ok (.if_icmp .lt 11, 3) := dk_161 0 11 (dk_at dksJ35_next_1 15 rfl rfl)
theorem dJ35_next_42 : decode cJ35_next 42 = .ok (.new 41, 3) := dk_187 0 41 (dk_at dksJ35_next_1 18 rfl rfl)
theorem dJ35_next_45 : decode cJ35_next 45 = .ok (.dup, 1) := dk_89 (dk_at dksJ35_next_1 21 rfl rfl)
theorem dJ35_next_46 : decode cJ35_next 46 = .ok (.invokespecial 43, 3) := dk_183 0 43 (dk_at dksJ35_next_2 0 rfl rfl)
theorem dJ35_next_49 : decode cJ35_next 49 = .ok (.athrow, 1) := dk_191 (dk_at dksJ35_next_2 3 rfl rfl)
theorem dJ35_next_50 : decode cJ35_next 50 = .ok (.aload_n 0, 1) := dk_42 (dk_at dksJ35_next_2 4 rfl rfl)
theorem dJ35_next_51 : decode cJ35_next 51 = .ok (.iload_n 1, 1) := dk_27 (dk_at dksJ35_next_2 5 rfl rfl)
theorem dJ35_next_52 : decode cJ35_next 52 = .ok (.iconst 1, 1) := dk_4 (dk_at dksJ35_next_2 6 rfl rfl)
theorem dJ35_next_53 : decode cJ35_next 53 = .ok (.iadd, 1) := dk_96 (dk_at dksJ35_next_2 7 rfl rfl)
theorem dJ35_next_54 : decode cJ35_next 54 = .ok (.putfield 25, 3) := dk_181 0 25 (dk_at dksJ35_next_2 8 rfl rfl)
theorem dJ35_next_57 : decode cJ35_next 57 = .ok (.aload_n 2, 1) := dk_44 (dk_at dksJ35_next_2 11 rfl rfl)
theorem dJ35_next_58 : decode cJ35_next 58 = .ok (.aload_n 0, 1) := dk_42 (dk_at dksJ35_next_2 12 rfl rfl)
theorem dJ35_next_59 : decode cJ35_next 59 = .ok (.iload_n 1, 1) := dk_27 (dk_at dksJ35_next_2 13 rfl rfl)
theorem dJ35_next_60 : decode cJ35_next 60 = .ok (.dup_x1, 1) := dk_90 (dk_at dksJ35_next_2 14 rfl rfl)
theorem dJ35_next_61 : decode cJ35_next 61 = .ok (.putfield 13, 3) := dk_181 0 13 (dk_at dksJ35_next_2 15 rfl rfl)
theorem dJ35_next_64 : decode cJ35_next 64 = .ok (.aaload, 1) := dk_50 (dk_at dksJ35_next_2 18 rfl rfl)
theorem dJ35_next_65 : decode cJ35_next 65 = .ok (.areturn, 1) := dk_176 (dk_at dksJ35_next_2 19 rfl rfl)
abbrev cJ35_checkForComodification : ByteArray := prog_36_method_6_code
def yJ35_checkForComodification : MethodName := ⟨RJ35, "checkForComodification", "()V"⟩
def dkwJ35_checkForComodification_0 : List UInt8 := [42, 180, 0, 1, 180, 0, 17, 42, 180, 0, 22, 159, 0, 11, 187, 0, 41, 89, 183, 0, 43, 191, 177]
abbrev dktJ35_checkForComodification_0 : List UInt8 := dkwJ35_checkForComodification_0 ++ []
theorem dksJ35_checkForComodification_0 : cJ35_checkForComodification.data.toList.drop 0 = dktJ35_checkForComodification_0 := by decide +kernel
theorem dJ35_checkForComodification_0 : decode cJ35_checkForComodification 0 = .ok (.aload_n 0, 1) := dk_42 (dk_at dksJ35_checkForComodification_0 0 rfl rfl)
theorem dJ35_checkForComodification_1 : decode cJ35_checkForComodification 1 = .ok (.getfield 1, 3) := dk_180 0 1 (dk_at dksJ35_checkForComodification_0 1 rfl rfl)
theorem dJ35_checkForComodification_4 : decode cJ35_checkForComodification 4 = .ok (.getfield 17, 3) := dk_180 0 17 (dk_at dksJ35_checkForComodification_0 4 rfl rfl)
theorem dJ35_checkForComodification_7 : decode cJ35_checkForComodification 7 = .ok (.aload_n 0, 1) := dk_42 (dk_at dksJ35_checkForComodification_0 7 rfl rfl)
theorem dJ35_checkForComodification_8 : decode cJ35_checkForComodification 8 = .ok (.getfield 22, 3) := dk_180 0 22 (dk_at dksJ35_checkForComodification_0 8 rfl rfl)
theorem dJ35_checkForComodification_11 : decode cJ35_checkForComodification 11 = .ok (.if_icmp .eq 11, 3) := dk_159 0 11 (dk_at dksJ35_checkForComodification_0 11 rfl rfl)
theorem dJ35_checkForComodification_14 : decode cJ35_checkForComodification 14 = .ok (.new 41, 3) := dk_187 0 41 (dk_at dksJ35_checkForComodification_0 14 rfl rfl)
theorem dJ35_checkForComodification_17 : decode cJ35_checkForComodification 17 = .ok (.dup, 1) := dk_89 (dk_at dksJ35_checkForComodification_0 17 rfl rfl)
theorem dJ35_checkForComodification_18 : decode cJ35_checkForComodification 18 = .ok (.invokespecial 43, 3) := dk_183 0 43 (dk_at dksJ35_checkForComodification_0 18 rfl rfl)
theorem dJ35_checkForComodification_21 : decode cJ35_checkForComodification 21 = .ok (.athrow, 1) := dk_191 (dk_at dksJ35_checkForComodification_0 21 rfl rfl)
theorem dJ35_checkForComodification_22 : decode cJ35_checkForComodification 22 = .ok (.return_, 1) := dk_177 (dk_at dksJ35_checkForComodification_0 22 rfl rfl)
theorem q79 : (Jvm.Cond.initialized "java/util/ArrayList$Itr") ∈ lw_all := lw_g (lw_at lw_m1 44 rfl) rfl
theorem q104 : (Jvm.Cond.fieldLink "java/util/ArrayList$Itr" (37 : Nat) "java/util/ArrayList" "elementData" "[Ljava/lang/Object;") ∈ lw_all := lw_g (lw_at lw_m1 69 rfl) rfl
theorem q105 : (Jvm.Cond.fieldLinkNest "java/util/ArrayList$Itr" (28 : Nat) "java/util/ArrayList" "size" "I" "java/util/ArrayList") ∈ lw_tbl := lw_at lw_m1 70 rfl
theorem q108 : (Jvm.Cond.fieldLink "java/util/ArrayList$Itr" (17 : Nat) "java/util/ArrayList" "modCount" "I") ∈ lw_all := lw_g (lw_at lw_m1 73 rfl) rfl
theorem q355 : (Jvm.Cond.selects "java/util/ArrayList$Itr" ({ cls := "java/lang/Object", name := "getClass", desc := "()Ljava/lang/Class;" } : Jvm.MethodName) ({ cls := "java/lang/Object", name := "getClass", desc := "()Ljava/lang/Class;" } : Jvm.MethodName)) ∈ lw_all := lw_g (lw_at lw_m2 80 rfl) rfl
theorem q1017 : (Jvm.Cond.instantiable "java/util/ArrayList$Itr" (4 : Nat)) ∈ lw_all := lw_g (lw_at lw_m5 22 rfl) rfl
theorem q1019 : (Jvm.Cond.instanceMethod ({ cls := "java/util/ArrayList$Itr", name := "<init>", desc := "(Ljava/util/ArrayList;)V" } : Jvm.MethodName)) ∈ lw_all := lw_g (lw_at lw_m5 24 rfl) rfl
theorem q1020 : (Jvm.Cond.code ({ cls := "java/util/ArrayList$Itr", name := "<init>", desc := "(Ljava/util/ArrayList;)V" } : Jvm.MethodName) prog_36_method_1_code (2 : Nat) (Option.none : Option Jvm.ClassFile.FieldType)) ∈ lw_all := lw_g (lw_at lw_m5 25 rfl) rfl
theorem q1021 : (Jvm.Cond.methodLink "java/util/ArrayList$Itr" (7 : Nat) ({ cls := "java/lang/Object", name := "<init>", desc := "()V" } : Jvm.MethodName)) ∈ lw_all := lw_g (lw_at lw_m5 26 rfl) rfl
theorem q1022 : (Jvm.Cond.fieldLink "java/util/ArrayList$Itr" (25 : Nat) "java/util/ArrayList$Itr" "cursor" "I") ∈ lw_all := lw_g (lw_at lw_m5 27 rfl) rfl
theorem q1023 : (Jvm.Cond.fieldLink "java/util/ArrayList$Itr" (13 : Nat) "java/util/ArrayList$Itr" "lastRet" "I") ∈ lw_all := lw_g (lw_at lw_m5 28 rfl) rfl
theorem q1024 : (Jvm.Cond.fieldLink "java/util/ArrayList$Itr" (22 : Nat) "java/util/ArrayList$Itr" "expectedModCount" "I") ∈ lw_all := lw_g (lw_at lw_m5 29 rfl) rfl
theorem q1025 : (Jvm.Cond.fieldLink "java/util/ArrayList$Itr" (1 : Nat) "java/util/ArrayList$Itr" "this$0" "Ljava/util/ArrayList;") ∈ lw_all := lw_g (lw_at lw_m5 30 rfl) rfl
theorem q1026 : (Jvm.Cond.lays "java/util/ArrayList$Itr" "java/util/ArrayList$Itr" "cursor" "I") ∈ lw_all := lw_g (lw_at lw_m5 31 rfl) rfl
theorem q1027 : (Jvm.Cond.soleField "java/util/ArrayList$Itr" "cursor") ∈ lw_all := lw_g (lw_at lw_m5 32 rfl) rfl
theorem q1028 : (Jvm.Cond.lays "java/util/ArrayList$Itr" "java/util/ArrayList$Itr" "lastRet" "I") ∈ lw_all := lw_g (lw_at lw_m5 33 rfl) rfl
theorem q1029 : (Jvm.Cond.soleField "java/util/ArrayList$Itr" "lastRet") ∈ lw_all := lw_g (lw_at lw_m5 34 rfl) rfl
theorem q1030 : (Jvm.Cond.lays "java/util/ArrayList$Itr" "java/util/ArrayList$Itr" "expectedModCount" "I") ∈ lw_all := lw_g (lw_at lw_m5 35 rfl) rfl
theorem q1031 : (Jvm.Cond.soleField "java/util/ArrayList$Itr" "expectedModCount") ∈ lw_all := lw_g (lw_at lw_m5 36 rfl) rfl
theorem q1032 : (Jvm.Cond.laysFinal "java/util/ArrayList$Itr" "java/util/ArrayList$Itr" "this$0" "Ljava/util/ArrayList;") ∈ lw_all := lw_g (lw_at lw_m5 37 rfl) rfl
theorem q1033 : (Jvm.Cond.soleField "java/util/ArrayList$Itr" "this$0") ∈ lw_all := lw_g (lw_at lw_m5 38 rfl) rfl
theorem q1034 : (Jvm.Cond.superclass "java/util/ArrayList$Itr" "java/lang/Object") ∈ lw_all := lw_g (lw_at lw_m5 39 rfl) rfl
theorem q1069 : (Jvm.Cond.castable "java/util/ArrayList$Itr" "java/util/Iterator") ∈ lw_tbl := lw_at lw_m5 74 rfl
theorem q1070 : (Jvm.Cond.selects "java/util/ArrayList$Itr" ({ cls := "java/util/Iterator", name := "hasNext", desc := "()Z" } : Jvm.MethodName) ({ cls := "java/util/ArrayList$Itr", name := "hasNext", desc := "()Z" } : Jvm.MethodName)) ∈ lw_all := lw_g (lw_at lw_m5 75 rfl) rfl
theorem q1071 : (Jvm.Cond.unhidden "java/util/ArrayList$Itr" "hasNext" "()Z") ∈ lw_tbl := lw_at lw_m5 76 rfl
theorem q1072 : (Jvm.Cond.instanceMethod ({ cls := "java/util/ArrayList$Itr", name := "hasNext", desc := "()Z" } : Jvm.MethodName)) ∈ lw_all := lw_g (lw_at lw_m5 77 rfl) rfl
theorem q1073 : (Jvm.Cond.publicMethod ({ cls := "java/util/ArrayList$Itr", name := "hasNext", desc := "()Z" } : Jvm.MethodName)) ∈ lw_tbl := lw_at lw_m5 78 rfl
theorem q1074 : (Jvm.Cond.code ({ cls := "java/util/ArrayList$Itr", name := "hasNext", desc := "()Z" } : Jvm.MethodName) prog_36_method_2_code (1 : Nat) (Option.some Jvm.ClassFile.FieldType.boolean)) ∈ lw_all := lw_g (lw_at lw_m5 79 rfl) rfl
theorem q1101 : (Jvm.Cond.selects "java/util/ArrayList$Itr" ({ cls := "java/util/Iterator", name := "next", desc := "()Ljava/lang/Object;" } : Jvm.MethodName) ({ cls := "java/util/ArrayList$Itr", name := "next", desc := "()Ljava/lang/Object;" } : Jvm.MethodName)) ∈ lw_all := lw_g (lw_at lw_m5 106 rfl) rfl
theorem q1102 : (Jvm.Cond.unhidden "java/util/ArrayList$Itr" "next" "()Ljava/lang/Object;") ∈ lw_tbl := lw_at lw_m5 107 rfl
theorem q1103 : (Jvm.Cond.instanceMethod ({ cls := "java/util/ArrayList$Itr", name := "next", desc := "()Ljava/lang/Object;" } : Jvm.MethodName)) ∈ lw_all := lw_g (lw_at lw_m5 108 rfl) rfl
theorem q1104 : (Jvm.Cond.publicMethod ({ cls := "java/util/ArrayList$Itr", name := "next", desc := "()Ljava/lang/Object;" } : Jvm.MethodName)) ∈ lw_tbl := lw_at lw_m5 109 rfl
theorem q1105 : (Jvm.Cond.code ({ cls := "java/util/ArrayList$Itr", name := "next", desc := "()Ljava/lang/Object;" } : Jvm.MethodName) prog_36_method_3_code (3 : Nat) (Option.some (Jvm.ClassFile.FieldType.object "java/lang/Object"))) ∈ lw_all := lw_g (lw_at lw_m5 110 rfl) rfl
theorem q1106 : (Jvm.Cond.methodLink "java/util/ArrayList$Itr" (31 : Nat) ({ cls := "java/util/ArrayList$Itr", name := "checkForComodification", desc := "()V" } : Jvm.MethodName)) ∈ lw_all := lw_g (lw_at lw_m5 111 rfl) rfl
theorem q1107 : (Jvm.Cond.instanceMethod ({ cls := "java/util/ArrayList$Itr", name := "checkForComodification", desc := "()V" } : Jvm.MethodName)) ∈ lw_all := lw_g (lw_at lw_m5 112 rfl) rfl
theorem q1108 : (Jvm.Cond.selects "java/util/ArrayList$Itr" ({ cls := "java/util/ArrayList$Itr", name := "checkForComodification", desc := "()V" } : Jvm.MethodName) ({ cls := "java/util/ArrayList$Itr", name := "checkForComodification", desc := "()V" } : Jvm.MethodName)) ∈ lw_all := lw_g (lw_at lw_m5 113 rfl) rfl
theorem q1109 : (Jvm.Cond.code ({ cls := "java/util/ArrayList$Itr", name := "checkForComodification", desc := "()V" } : Jvm.MethodName) prog_36_method_6_code (1 : Nat) (Option.none : Option Jvm.ClassFile.FieldType)) ∈ lw_all := lw_g (lw_at lw_m5 114 rfl) rfl
theorem q1531 : (Jvm.Cond.castable "java/util/ArrayList$Itr" "java/lang/Object") ∈ lw_tbl := lw_at lw_m7 56 rfl
theorem in_J35 : ∀ w ∈ wsJ350, w ∈ lw_all := lw_in wsJ350 [1026, 1028, 1030, 1032] (by decide +kernel) (by decide +kernel)
/-! java/util/TreeMap$ValueIterator -/
set_option maxRecDepth 100000
def RJ36 : String := "java/util/TreeMap$ValueIterator"
def TJ36 : u_T := fun k => match k with
  | 0 => ("java/util/TreeMap$PrivateEntryIterator", "next", "Ljava/util/TreeMap$Entry;", false)
  | 1 => ("java/util/TreeMap$PrivateEntryIterator", "lastReturned", "Ljava/util/TreeMap$Entry;", false)
  | 2 => ("java/util/TreeMap$PrivateEntryIterator", "expectedModCount", "I", false)
  | _ => ("java/util/TreeMap$PrivateEntryIterator", "this$0", "Ljava/util/TreeMap;", true)
def tyJ36 : Nat → FieldType := fun k => match k with
  | 0 => .object "java/util/TreeMap$Entry"
  | 1 => .object "java/util/TreeMap$Entry"
  | 2 => .int
  | _ => .object "java/util/TreeMap"
abbrev wsJ360 : List Cond := u_ws RJ36 TJ36 4
theorem nmJ36 : ∀ a, a < 4 → ∀ b, b < 4 → a ≠ b → (TJ36 a).2.1 ≠ (TJ36 b).2.1 := by decide +kernel
theorem tyJ36_ok : ∀ k, k < 4 → parseFieldDescriptor (TJ36 k).2.2.1 = some (tyJ36 k) := by decide +kernel
abbrev cJ36_init : ByteArray := prog_62_method_1_code
def yJ36_init : MethodName := ⟨RJ36, "<init>", "(Ljava/util/TreeMap;Ljava/util/TreeMap$Entry;)V"⟩
def dkwJ36_init_0 : List UInt8 := [42, 43, 44, 183, 0, 1, 177]
abbrev dktJ36_init_0 : List UInt8 := dkwJ36_init_0 ++ []
theorem dksJ36_init_0 : cJ36_init.data.toList.drop 0 = dktJ36_init_0 := by decide +kernel
theorem dJ36_init_0 : decode cJ36_init 0 = .ok (.aload_n 0, 1) := dk_42 (dk_at dksJ36_init_0 0 rfl rfl)
theorem dJ36_init_1 : decode cJ36_init 1 = .ok (.aload_n 1, 1) := dk_43 (dk_at dksJ36_init_0 1 rfl rfl)
theorem dJ36_init_2 : decode cJ36_init 2 = .ok (.aload_n 2, 1) := dk_44 (dk_at dksJ36_init_0 2 rfl rfl)
theorem dJ36_init_3 : decode cJ36_init 3 = .ok (.invokespecial 1, 3) := dk_183 0 1 (dk_at dksJ36_init_0 3 rfl rfl)
theorem dJ36_init_6 : decode cJ36_init 6 = .ok (.return_, 1) := dk_177 (dk_at dksJ36_init_0 6 rfl rfl)
abbrev cJ36_next : ByteArray := prog_62_method_2_code
def yJ36_next : MethodName := ⟨RJ36, "next", "()Ljava/lang/Object;"⟩
def dkwJ36_next_0 : List UInt8 := [42, 182, 0, 7, 180, 0, 13, 176]
abbrev dktJ36_next_0 : List UInt8 := dkwJ36_next_0 ++ []
theorem dksJ36_next_0 : cJ36_next.data.toList.drop 0 = dktJ36_next_0 := by decide +kernel
theorem dJ36_next_0 : decode cJ36_next 0 = .ok (.aload_n 0, 1) := dk_42 (dk_at dksJ36_next_0 0 rfl rfl)
theorem dJ36_next_1 : decode cJ36_next 1 = .ok (.invokevirtual 7, 3) := dk_182 0 7 (dk_at dksJ36_next_0 1 rfl rfl)
theorem dJ36_next_4 : decode cJ36_next 4 = .ok (.getfield 13, 3) := dk_180 0 13 (dk_at dksJ36_next_0 4 rfl rfl)
theorem dJ36_next_7 : decode cJ36_next 7 = .ok (.areturn, 1) := dk_176 (dk_at dksJ36_next_0 7 rfl rfl)
theorem q80 : (Jvm.Cond.initialized "java/util/TreeMap$ValueIterator") ∈ lw_all := lw_g (lw_at lw_m1 45 rfl) rfl
theorem q363 : (Jvm.Cond.selects "java/util/TreeMap$ValueIterator" ({ cls := "java/lang/Object", name := "getClass", desc := "()Ljava/lang/Class;" } : Jvm.MethodName) ({ cls := "java/lang/Object", name := "getClass", desc := "()Ljava/lang/Class;" } : Jvm.MethodName)) ∈ lw_all := lw_g (lw_at lw_m2 88 rfl) rfl
theorem q618 : (Jvm.Cond.fieldLink "java/util/TreeMap$ValueIterator" (13 : Nat) "java/util/TreeMap$Entry" "value" "Ljava/lang/Object;") ∈ lw_all := lw_g (lw_at lw_m3 103 rfl) rfl
theorem q1046 : (Jvm.Cond.instantiable "java/util/TreeMap$ValueIterator" (4 : Nat)) ∈ lw_all := lw_g (lw_at lw_m5 51 rfl) rfl
theorem q1049 : (Jvm.Cond.instanceMethod ({ cls := "java/util/TreeMap$ValueIterator", name := "<init>", desc := "(Ljava/util/TreeMap;Ljava/util/TreeMap$Entry;)V" } : Jvm.MethodName)) ∈ lw_all := lw_g (lw_at lw_m5 54 rfl) rfl
theorem q1050 : (Jvm.Cond.code ({ cls := "java/util/TreeMap$ValueIterator", name := "<init>", desc := "(Ljava/util/TreeMap;Ljava/util/TreeMap$Entry;)V" } : Jvm.MethodName) prog_62_method_1_code (3 : Nat) (Option.none : Option Jvm.ClassFile.FieldType)) ∈ lw_all := lw_g (lw_at lw_m5 55 rfl) rfl
theorem q1051 : (Jvm.Cond.methodLink "java/util/TreeMap$ValueIterator" (1 : Nat) ({ cls := "java/util/TreeMap$PrivateEntryIterator", name := "<init>", desc := "(Ljava/util/TreeMap;Ljava/util/TreeMap$Entry;)V" } : Jvm.MethodName)) ∈ lw_all := lw_g (lw_at lw_m5 56 rfl) rfl
theorem q1052 : (Jvm.Cond.lays "java/util/TreeMap$ValueIterator" "java/util/TreeMap$PrivateEntryIterator" "next" "Ljava/util/TreeMap$Entry;") ∈ lw_all := lw_g (lw_at lw_m5 57 rfl) rfl
theorem q1053 : (Jvm.Cond.lays "java/util/TreeMap$ValueIterator" "java/util/TreeMap$PrivateEntryIterator" "lastReturned" "Ljava/util/TreeMap$Entry;") ∈ lw_all := lw_g (lw_at lw_m5 58 rfl) rfl
theorem q1054 : (Jvm.Cond.lays "java/util/TreeMap$ValueIterator" "java/util/TreeMap$PrivateEntryIterator" "expectedModCount" "I") ∈ lw_all := lw_g (lw_at lw_m5 59 rfl) rfl
theorem q1055 : (Jvm.Cond.laysFinal "java/util/TreeMap$ValueIterator" "java/util/TreeMap$PrivateEntryIterator" "this$0" "Ljava/util/TreeMap;") ∈ lw_all := lw_g (lw_at lw_m5 60 rfl) rfl
theorem q1056 : (Jvm.Cond.superclass "java/util/TreeMap$ValueIterator" "java/util/TreeMap$PrivateEntryIterator") ∈ lw_all := lw_g (lw_at lw_m5 61 rfl) rfl
theorem q1087 : (Jvm.Cond.castable "java/util/TreeMap$ValueIterator" "java/util/Iterator") ∈ lw_tbl := lw_at lw_m5 92 rfl
theorem q1088 : (Jvm.Cond.selects "java/util/TreeMap$ValueIterator" ({ cls := "java/util/Iterator", name := "hasNext", desc := "()Z" } : Jvm.MethodName) ({ cls := "java/util/TreeMap$PrivateEntryIterator", name := "hasNext", desc := "()Z" } : Jvm.MethodName)) ∈ lw_all := lw_g (lw_at lw_m5 93 rfl) rfl
theorem q1089 : (Jvm.Cond.unhidden "java/util/TreeMap$ValueIterator" "hasNext" "()Z") ∈ lw_tbl := lw_at lw_m5 94 rfl
theorem q1144 : (Jvm.Cond.selects "java/util/TreeMap$ValueIterator" ({ cls := "java/util/Iterator", name := "next", desc := "()Ljava/lang/Object;" } : Jvm.MethodName) ({ cls := "java/util/TreeMap$ValueIterator", name := "next", desc := "()Ljava/lang/Object;" } : Jvm.MethodName)) ∈ lw_all := lw_g (lw_at lw_m5 149 rfl) rfl
theorem q1145 : (Jvm.Cond.unhidden "java/util/TreeMap$ValueIterator" "next" "()Ljava/lang/Object;") ∈ lw_tbl := lw_at lw_m5 150 rfl
theorem q1146 : (Jvm.Cond.instanceMethod ({ cls := "java/util/TreeMap$ValueIterator", name := "next", desc := "()Ljava/lang/Object;" } : Jvm.MethodName)) ∈ lw_all := lw_g (lw_at lw_m5 151 rfl) rfl
theorem q1147 : (Jvm.Cond.publicMethod ({ cls := "java/util/TreeMap$ValueIterator", name := "next", desc := "()Ljava/lang/Object;" } : Jvm.MethodName)) ∈ lw_tbl := lw_at lw_m5 152 rfl
theorem q1148 : (Jvm.Cond.code ({ cls := "java/util/TreeMap$ValueIterator", name := "next", desc := "()Ljava/lang/Object;" } : Jvm.MethodName) prog_62_method_2_code (1 : Nat) (Option.some (Jvm.ClassFile.FieldType.object "java/lang/Object"))) ∈ lw_all := lw_g (lw_at lw_m5 153 rfl) rfl
theorem q1149 : (Jvm.Cond.methodLink "java/util/TreeMap$ValueIterator" (7 : Nat) ({ cls := "java/util/TreeMap$ValueIterator", name := "nextEntry", desc := "()Ljava/util/TreeMap$Entry;" } : Jvm.MethodName)) ∈ lw_all := lw_g (lw_at lw_m5 154 rfl) rfl
theorem q1150 : (Jvm.Cond.sameMethod "java/util/TreeMap$ValueIterator" "java/util/TreeMap$PrivateEntryIterator" "nextEntry" "()Ljava/util/TreeMap$Entry;") ∈ lw_all := lw_g (lw_at lw_m5 155 rfl) rfl
theorem q1151 : (Jvm.Cond.selects "java/util/TreeMap$ValueIterator" ({ cls := "java/util/TreeMap$ValueIterator", name := "nextEntry", desc := "()Ljava/util/TreeMap$Entry;" } : Jvm.MethodName) ({ cls := "java/util/TreeMap$PrivateEntryIterator", name := "nextEntry", desc := "()Ljava/util/TreeMap$Entry;" } : Jvm.MethodName)) ∈ lw_all := lw_g (lw_at lw_m5 156 rfl) rfl
theorem q1532 : (Jvm.Cond.castable "java/util/TreeMap$ValueIterator" "java/lang/Object") ∈ lw_tbl := lw_at lw_m7 57 rfl
theorem in_J36 : ∀ w ∈ wsJ360, w ∈ lw_all := lw_in wsJ360 [1052, 1053, 1054, 1055] (by decide +kernel) (by decide +kernel)
/-! java/lang/Object -/
set_option maxRecDepth 100000
def RJ37 : String := "java/lang/Object"
abbrev cJ37_init : ByteArray := object_method_1_code
def yJ37_init : MethodName := ⟨RJ37, "<init>", "()V"⟩
theorem dJ37_init_0 : decode cJ37_init 0 = .ok (.return_, 1) := by decide +kernel
theorem q87 : (Jvm.Cond.instanceMethod ({ cls := "java/lang/Object", name := "<init>", desc := "()V" } : Jvm.MethodName)) ∈ lw_all := lw_g (lw_at lw_m1 52 rfl) rfl
theorem q88 : (Jvm.Cond.code ({ cls := "java/lang/Object", name := "<init>", desc := "()V" } : Jvm.MethodName) object_method_1_code (1 : Nat) (Option.none : Option Jvm.ClassFile.FieldType)) ∈ lw_all := lw_g (lw_at lw_m1 53 rfl) rfl
theorem q339 : (Jvm.Cond.instanceMethod ({ cls := "java/lang/Object", name := "getClass", desc := "()Ljava/lang/Class;" } : Jvm.MethodName)) ∈ lw_all := lw_g (lw_at lw_m2 64 rfl) rfl
theorem q340 : (Jvm.Cond.sameMethod "java/lang/Object" "java/lang/Object" "getClass" "()Ljava/lang/Class;") ∈ lw_all := lw_g (lw_at lw_m2 65 rfl) rfl
theorem q365 : (Jvm.Cond.native ({ cls := "java/lang/Object", name := "getClass", desc := "()Ljava/lang/Class;" } : Jvm.MethodName)) ∈ lw_all := lw_g (lw_at lw_m2 90 rfl) rfl
theorem q1507 : (Jvm.Cond.initialized "java/lang/Object") ∈ lw_all := lw_g (lw_at lw_m7 32 rfl) rfl
theorem q1537 : (Jvm.Cond.declares ({ cls := "java/lang/Object", name := "getClass", desc := "()Ljava/lang/Class;" } : Jvm.MethodName)) ∈ lw_tbl := lw_at lw_m7 62 rfl
theorem q1545 : (Jvm.Cond.instantiable "java/lang/Object" (0 : Nat)) ∈ lw_all := lw_g (lw_at lw_m7 70 rfl) rfl
