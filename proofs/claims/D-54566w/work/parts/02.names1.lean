/-! DECODE ROWS BY BYTES: one lemma an opcode; a method's code is cut into short pieces once, and a row reads its own piece alone. -/
set_option maxRecDepth 100000
/-- the code has just these bytes from pc on -/
def DkAt (code : ByteArray) (pc : Nat) (bs : List UInt8) : Prop := ∀ (j : Nat) (b : UInt8), bs[j]? = some b → code.data.toList[pc + j]? = some b
/-- the piece W has the bytes bs from its place j on -/
def dkIn (W : List UInt8) (j : Nat) (bs : List UInt8) : Bool := decide ((W.drop j).take bs.length = bs)
theorem dk_seg {l W T : List UInt8} {o o2 : Nat} (h : l.drop o = W ++ T) (n : Nat) (hn : W.length = n) (ho : o + n = o2) : l.drop o2 = T := by
  subst ho
  rw [← List.drop_drop, h, List.drop_left' hn]
theorem dk_at {code : ByteArray} {W T bs : List UInt8} {o pc : Nat} (h : code.data.toList.drop o = W ++ T) (j : Nat) (hp : o + j = pc) (hw : dkIn W j bs = true) : DkAt code pc bs := by
  subst hp
  intro i b e
  have h1 := of_decide_eq_true hw
  have h2 : i < bs.length := (List.getElem?_eq_some_iff.mp e).1
  have h3 : W[j + i]? = some b := by
    rw [← h1, List.getElem?_take, if_pos h2, List.getElem?_drop] at e
    exact e
  have h4 : j + i < W.length := (List.getElem?_eq_some_iff.mp h3).1
  have h5 : (code.data.toList.drop o)[j + i]? = some b := by
    rw [h, List.getElem?_append_left h4]
    exact h3
  rw [List.getElem?_drop, ← Nat.add_assoc] at h5
  exact h5
theorem dk_u1 {A : ByteArray} {p : Nat} {b : UInt8} (h : A.data.toList[p]? = some b) : (Reader.u1 : Reader DecodeError Nat) A p = .ok (b.toNat, p + 1) := by
  obtain ⟨h1, h2⟩ := List.getElem?_eq_some_iff.mp h
  have h3 : p < A.size := by simpa using h1
  have h4 : A[p]'h3 = b := h2
  have e : (Reader.u1 : Reader DecodeError Nat) A p = (if h : p < A.size then .ok (A[p].toNat, p + 1) else .error (HasTruncated.truncated p)) := by
    show (do if h : p < A.size then do set (p + 1); Pure.pure A[p].toNat else MonadExcept.throw (HasTruncated.truncated p) : Reader DecodeError Nat) A p = _
    by_cases hi : p < A.size
    · rw [dif_pos hi, dif_pos hi]; rfl
    · rw [dif_neg hi, dif_neg hi]; rfl
  rw [e, dif_pos h3, h4]
theorem dk_bind {α β : Type} {r : Reader DecodeError α} {f : α → Reader DecodeError β} {A : ByteArray} {p s : Nat} {a : α} (h : r A p = .ok (a, s)) : (r >>= f) A p = f a A s := by
  show (do let (a, s) ← r A p; f a A s : Except DecodeError (β × Nat)) = _
  rw [h]
  rfl
theorem dk_map {α β : Type} {r : Reader DecodeError α} {g : α → β} {A : ByteArray} {p s : Nat} {a : α} (h : r A p = .ok (a, s)) : (g <$> r) A p = .ok (g a, s) := by
  show (do let (a, s) ← r A p; .ok (g a, s) : Except DecodeError (β × Nat)) = _
  rw [h]
  rfl
theorem dk_u2 {A : ByteArray} {p : Nat} {a b : UInt8} (h : A.data.toList[p]? = some a) (h2 : A.data.toList[p + 1]? = some b) : (Reader.u2 : Reader DecodeError Nat) A p = .ok (a.toNat * 256 + b.toNat, p + 2) := by
  show (Reader.u1 >>= fun hi => Reader.u1 >>= fun lo => Pure.pure (hi * 256 + lo) : Reader DecodeError Nat) A p = _
  rw [dk_bind (dk_u1 h), dk_bind (dk_u1 h2)]
  rfl
theorem dk_of {code : ByteArray} {pc n : Nat} {i : Instr} (h : Decoder.instr pc code pc = .ok (i, pc + n)) : decode code pc = .ok (i, n) := by
  have e : decode code pc = (match Decoder.instr pc code pc with | .error x => .error x | .ok (j, s) => .ok (j, s - pc)) := by
    show (do let (j, s) ← Decoder.instr pc code pc; Pure.pure (j, s - pc) : Except DecodeError (Instr × Nat)) = _
    cases Decoder.instr pc code pc <;> rfl
  rw [e, h]
  show Except.ok (i, pc + n - pc) = _
  rw [Nat.add_sub_cancel_left]
theorem dk_1 {code : ByteArray} {pc : Nat} (h : DkAt code pc [1]) : decode code pc = .ok (.aconst_null, 1) := dk_of ((dk_bind (dk_u1 (h 0 _ rfl))).trans rfl)
theorem dk_2 {code : ByteArray} {pc : Nat} (h : DkAt code pc [2]) : decode code pc = .ok (.iconst (-1), 1) := dk_of ((dk_bind (dk_u1 (h 0 _ rfl))).trans rfl)
theorem dk_3 {code : ByteArray} {pc : Nat} (h : DkAt code pc [3]) : decode code pc = .ok (.iconst 0, 1) := dk_of ((dk_bind (dk_u1 (h 0 _ rfl))).trans rfl)
theorem dk_4 {code : ByteArray} {pc : Nat} (h : DkAt code pc [4]) : decode code pc = .ok (.iconst 1, 1) := dk_of ((dk_bind (dk_u1 (h 0 _ rfl))).trans rfl)
theorem dk_5 {code : ByteArray} {pc : Nat} (h : DkAt code pc [5]) : decode code pc = .ok (.iconst 2, 1) := dk_of ((dk_bind (dk_u1 (h 0 _ rfl))).trans rfl)
theorem dk_6 {code : ByteArray} {pc : Nat} (h : DkAt code pc [6]) : decode code pc = .ok (.iconst 3, 1) := dk_of ((dk_bind (dk_u1 (h 0 _ rfl))).trans rfl)
theorem dk_7 {code : ByteArray} {pc : Nat} (h : DkAt code pc [7]) : decode code pc = .ok (.iconst 4, 1) := dk_of ((dk_bind (dk_u1 (h 0 _ rfl))).trans rfl)
theorem dk_8 {code : ByteArray} {pc : Nat} (h : DkAt code pc [8]) : decode code pc = .ok (.iconst 5, 1) := dk_of ((dk_bind (dk_u1 (h 0 _ rfl))).trans rfl)
theorem dk_16 {code : ByteArray} {pc : Nat} (a : UInt8) (h : DkAt code pc [16, a]) : decode code pc = .ok (.bipush (Reader.signed 8 a.toNat), 2) := dk_of ((dk_bind (dk_u1 (h 0 _ rfl))).trans ((dk_bind (dk_map (dk_u1 (h 1 _ rfl)))).trans rfl))
theorem dk_17 {code : ByteArray} {pc : Nat} (a b : UInt8) (h : DkAt code pc [17, a, b]) : decode code pc = .ok (.sipush (Reader.signed 16 (a.toNat * 256 + b.toNat)), 3) := dk_of ((dk_bind (dk_u1 (h 0 _ rfl))).trans ((dk_bind (dk_map (dk_u2 (h 1 _ rfl) (h 2 _ rfl)))).trans rfl))
theorem dk_18 {code : ByteArray} {pc : Nat} (a : UInt8) (h : DkAt code pc [18, a]) : decode code pc = .ok (.ldc a.toNat, 2) := dk_of ((dk_bind (dk_u1 (h 0 _ rfl))).trans ((dk_bind (dk_u1 (h 1 _ rfl))).trans rfl))
theorem dk_21 {code : ByteArray} {pc : Nat} (a : UInt8) (h : DkAt code pc [21, a]) : decode code pc = .ok (.iload a.toNat, 2) := dk_of ((dk_bind (dk_u1 (h 0 _ rfl))).trans ((dk_bind (dk_u1 (h 1 _ rfl))).trans rfl))
theorem dk_25 {code : ByteArray} {pc : Nat} (a : UInt8) (h : DkAt code pc [25, a]) : decode code pc = .ok (.aload a.toNat, 2) := dk_of ((dk_bind (dk_u1 (h 0 _ rfl))).trans ((dk_bind (dk_u1 (h 1 _ rfl))).trans rfl))
theorem dk_26 {code : ByteArray} {pc : Nat} (h : DkAt code pc [26]) : decode code pc = .ok (.iload_n 0, 1) := dk_of ((dk_bind (dk_u1 (h 0 _ rfl))).trans rfl)
theorem dk_27 {code : ByteArray} {pc : Nat} (h : DkAt code pc [27]) : decode code pc = .ok (.iload_n 1, 1) := dk_of ((dk_bind (dk_u1 (h 0 _ rfl))).trans rfl)
theorem dk_28 {code : ByteArray} {pc : Nat} (h : DkAt code pc [28]) : decode code pc = .ok (.iload_n 2, 1) := dk_of ((dk_bind (dk_u1 (h 0 _ rfl))).trans rfl)
theorem dk_29 {code : ByteArray} {pc : Nat} (h : DkAt code pc [29]) : decode code pc = .ok (.iload_n 3, 1) := dk_of ((dk_bind (dk_u1 (h 0 _ rfl))).trans rfl)
theorem dk_42 {code : ByteArray} {pc : Nat} (h : DkAt code pc [42]) : decode code pc = .ok (.aload_n 0, 1) := dk_of ((dk_bind (dk_u1 (h 0 _ rfl))).trans rfl)
theorem dk_43 {code : ByteArray} {pc : Nat} (h : DkAt code pc [43]) : decode code pc = .ok (.aload_n 1, 1) := dk_of ((dk_bind (dk_u1 (h 0 _ rfl))).trans rfl)
theorem dk_44 {code : ByteArray} {pc : Nat} (h : DkAt code pc [44]) : decode code pc = .ok (.aload_n 2, 1) := dk_of ((dk_bind (dk_u1 (h 0 _ rfl))).trans rfl)
theorem dk_45 {code : ByteArray} {pc : Nat} (h : DkAt code pc [45]) : decode code pc = .ok (.aload_n 3, 1) := dk_of ((dk_bind (dk_u1 (h 0 _ rfl))).trans rfl)
theorem dk_46 {code : ByteArray} {pc : Nat} (h : DkAt code pc [46]) : decode code pc = .ok (.iaload, 1) := dk_of ((dk_bind (dk_u1 (h 0 _ rfl))).trans rfl)
theorem dk_50 {code : ByteArray} {pc : Nat} (h : DkAt code pc [50]) : decode code pc = .ok (.aaload, 1) := dk_of ((dk_bind (dk_u1 (h 0 _ rfl))).trans rfl)
theorem dk_51 {code : ByteArray} {pc : Nat} (h : DkAt code pc [51]) : decode code pc = .ok (.baload, 1) := dk_of ((dk_bind (dk_u1 (h 0 _ rfl))).trans rfl)
theorem dk_54 {code : ByteArray} {pc : Nat} (a : UInt8) (h : DkAt code pc [54, a]) : decode code pc = .ok (.istore a.toNat, 2) := dk_of ((dk_bind (dk_u1 (h 0 _ rfl))).trans ((dk_bind (dk_u1 (h 1 _ rfl))).trans rfl))
theorem dk_58 {code : ByteArray} {pc : Nat} (a : UInt8) (h : DkAt code pc [58, a]) : decode code pc = .ok (.astore a.toNat, 2) := dk_of ((dk_bind (dk_u1 (h 0 _ rfl))).trans ((dk_bind (dk_u1 (h 1 _ rfl))).trans rfl))
theorem dk_60 {code : ByteArray} {pc : Nat} (h : DkAt code pc [60]) : decode code pc = .ok (.istore_n 1, 1) := dk_of ((dk_bind (dk_u1 (h 0 _ rfl))).trans rfl)
theorem dk_61 {code : ByteArray} {pc : Nat} (h : DkAt code pc [61]) : decode code pc = .ok (.istore_n 2, 1) := dk_of ((dk_bind (dk_u1 (h 0 _ rfl))).trans rfl)
theorem dk_62 {code : ByteArray} {pc : Nat} (h : DkAt code pc [62]) : decode code pc = .ok (.istore_n 3, 1) := dk_of ((dk_bind (dk_u1 (h 0 _ rfl))).trans rfl)
theorem dk_76 {code : ByteArray} {pc : Nat} (h : DkAt code pc [76]) : decode code pc = .ok (.astore_n 1, 1) := dk_of ((dk_bind (dk_u1 (h 0 _ rfl))).trans rfl)
theorem dk_77 {code : ByteArray} {pc : Nat} (h : DkAt code pc [77]) : decode code pc = .ok (.astore_n 2, 1) := dk_of ((dk_bind (dk_u1 (h 0 _ rfl))).trans rfl)
theorem dk_78 {code : ByteArray} {pc : Nat} (h : DkAt code pc [78]) : decode code pc = .ok (.astore_n 3, 1) := dk_of ((dk_bind (dk_u1 (h 0 _ rfl))).trans rfl)
theorem dk_79 {code : ByteArray} {pc : Nat} (h : DkAt code pc [79]) : decode code pc = .ok (.iastore, 1) := dk_of ((dk_bind (dk_u1 (h 0 _ rfl))).trans rfl)
theorem dk_83 {code : ByteArray} {pc : Nat} (h : DkAt code pc [83]) : decode code pc = .ok (.aastore, 1) := dk_of ((dk_bind (dk_u1 (h 0 _ rfl))).trans rfl)
theorem dk_84 {code : ByteArray} {pc : Nat} (h : DkAt code pc [84]) : decode code pc = .ok (.bastore, 1) := dk_of ((dk_bind (dk_u1 (h 0 _ rfl))).trans rfl)
theorem dk_87 {code : ByteArray} {pc : Nat} (h : DkAt code pc [87]) : decode code pc = .ok (.pop, 1) := dk_of ((dk_bind (dk_u1 (h 0 _ rfl))).trans rfl)
theorem dk_89 {code : ByteArray} {pc : Nat} (h : DkAt code pc [89]) : decode code pc = .ok (.dup, 1) := dk_of ((dk_bind (dk_u1 (h 0 _ rfl))).trans rfl)
theorem dk_90 {code : ByteArray} {pc : Nat} (h : DkAt code pc [90]) : decode code pc = .ok (.dup_x1, 1) := dk_of ((dk_bind (dk_u1 (h 0 _ rfl))).trans rfl)
theorem dk_92 {code : ByteArray} {pc : Nat} (h : DkAt code pc [92]) : decode code pc = .ok (.dup2, 1) := dk_of ((dk_bind (dk_u1 (h 0 _ rfl))).trans rfl)
theorem dk_96 {code : ByteArray} {pc : Nat} (h : DkAt code pc [96]) : decode code pc = .ok (.iadd, 1) := dk_of ((dk_bind (dk_u1 (h 0 _ rfl))).trans rfl)
theorem dk_100 {code : ByteArray} {pc : Nat} (h : DkAt code pc [100]) : decode code pc = .ok (.isub, 1) := dk_of ((dk_bind (dk_u1 (h 0 _ rfl))).trans rfl)
theorem dk_104 {code : ByteArray} {pc : Nat} (h : DkAt code pc [104]) : decode code pc = .ok (.imul, 1) := dk_of ((dk_bind (dk_u1 (h 0 _ rfl))).trans rfl)
theorem dk_108 {code : ByteArray} {pc : Nat} (h : DkAt code pc [108]) : decode code pc = .ok (.idiv, 1) := dk_of ((dk_bind (dk_u1 (h 0 _ rfl))).trans rfl)
theorem dk_112 {code : ByteArray} {pc : Nat} (h : DkAt code pc [112]) : decode code pc = .ok (.irem, 1) := dk_of ((dk_bind (dk_u1 (h 0 _ rfl))).trans rfl)
theorem dk_116 {code : ByteArray} {pc : Nat} (h : DkAt code pc [116]) : decode code pc = .ok (.ineg, 1) := dk_of ((dk_bind (dk_u1 (h 0 _ rfl))).trans rfl)
theorem dk_120 {code : ByteArray} {pc : Nat} (h : DkAt code pc [120]) : decode code pc = .ok (.ishl, 1) := dk_of ((dk_bind (dk_u1 (h 0 _ rfl))).trans rfl)
theorem dk_122 {code : ByteArray} {pc : Nat} (h : DkAt code pc [122]) : decode code pc = .ok (.ishr, 1) := dk_of ((dk_bind (dk_u1 (h 0 _ rfl))).trans rfl)
theorem dk_124 {code : ByteArray} {pc : Nat} (h : DkAt code pc [124]) : decode code pc = .ok (.iushr, 1) := dk_of ((dk_bind (dk_u1 (h 0 _ rfl))).trans rfl)
theorem dk_126 {code : ByteArray} {pc : Nat} (h : DkAt code pc [126]) : decode code pc = .ok (.iand, 1) := dk_of ((dk_bind (dk_u1 (h 0 _ rfl))).trans rfl)
theorem dk_128 {code : ByteArray} {pc : Nat} (h : DkAt code pc [128]) : decode code pc = .ok (.ior, 1) := dk_of ((dk_bind (dk_u1 (h 0 _ rfl))).trans rfl)
theorem dk_132 {code : ByteArray} {pc : Nat} (a b : UInt8) (h : DkAt code pc [132, a, b]) : decode code pc = .ok (.iinc a.toNat (Reader.signed 8 b.toNat), 3) := dk_of ((dk_bind (dk_u1 (h 0 _ rfl))).trans ((dk_bind (dk_u1 (h 1 _ rfl))).trans ((dk_bind (dk_map (dk_u1 (h 2 _ rfl)))).trans rfl)))
theorem dk_145 {code : ByteArray} {pc : Nat} (h : DkAt code pc [145]) : decode code pc = .ok (.i2b, 1) := dk_of ((dk_bind (dk_u1 (h 0 _ rfl))).trans rfl)
theorem dk_146 {code : ByteArray} {pc : Nat} (h : DkAt code pc [146]) : decode code pc = .ok (.i2c, 1) := dk_of ((dk_bind (dk_u1 (h 0 _ rfl))).trans rfl)
theorem dk_153 {code : ByteArray} {pc : Nat} (a b : UInt8) (h : DkAt code pc [153, a, b]) : decode code pc = .ok (.ifCond .eq (Reader.signed 16 (a.toNat * 256 + b.toNat)), 3) := dk_of ((dk_bind (dk_u1 (h 0 _ rfl))).trans ((dk_bind (dk_map (dk_u2 (h 1 _ rfl) (h 2 _ rfl)))).trans rfl))
theorem dk_154 {code : ByteArray} {pc : Nat} (a b : UInt8) (h : DkAt code pc [154, a, b]) : decode code pc = .ok (.ifCond .ne (Reader.signed 16 (a.toNat * 256 + b.toNat)), 3) := dk_of ((dk_bind (dk_u1 (h 0 _ rfl))).trans ((dk_bind (dk_map (dk_u2 (h 1 _ rfl) (h 2 _ rfl)))).trans rfl))
theorem dk_155 {code : ByteArray} {pc : Nat} (a b : UInt8) (h : DkAt code pc [155, a, b]) : decode code pc = .ok (.ifCond .lt (Reader.signed 16 (a.toNat * 256 + b.toNat)), 3) := dk_of ((dk_bind (dk_u1 (h 0 _ rfl))).trans ((dk_bind (dk_map (dk_u2 (h 1 _ rfl) (h 2 _ rfl)))).trans rfl))
theorem dk_156 {code : ByteArray} {pc : Nat} (a b : UInt8) (h : DkAt code pc [156, a, b]) : decode code pc = .ok (.ifCond .ge (Reader.signed 16 (a.toNat * 256 + b.toNat)), 3) := dk_of ((dk_bind (dk_u1 (h 0 _ rfl))).trans ((dk_bind (dk_map (dk_u2 (h 1 _ rfl) (h 2 _ rfl)))).trans rfl))
theorem dk_157 {code : ByteArray} {pc : Nat} (a b : UInt8) (h : DkAt code pc [157, a, b]) : decode code pc = .ok (.ifCond .gt (Reader.signed 16 (a.toNat * 256 + b.toNat)), 3) := dk_of ((dk_bind (dk_u1 (h 0 _ rfl))).trans ((dk_bind (dk_map (dk_u2 (h 1 _ rfl) (h 2 _ rfl)))).trans rfl))
theorem dk_158 {code : ByteArray} {pc : Nat} (a b : UInt8) (h : DkAt code pc [158, a, b]) : decode code pc = .ok (.ifCond .le (Reader.signed 16 (a.toNat * 256 + b.toNat)), 3) := dk_of ((dk_bind (dk_u1 (h 0 _ rfl))).trans ((dk_bind (dk_map (dk_u2 (h 1 _ rfl) (h 2 _ rfl)))).trans rfl))
theorem dk_159 {code : ByteArray} {pc : Nat} (a b : UInt8) (h : DkAt code pc [159, a, b]) : decode code pc = .ok (.if_icmp .eq (Reader.signed 16 (a.toNat * 256 + b.toNat)), 3) := dk_of ((dk_bind (dk_u1 (h 0 _ rfl))).trans ((dk_bind (dk_map (dk_u2 (h 1 _ rfl) (h 2 _ rfl)))).trans rfl))
theorem dk_160 {code : ByteArray} {pc : Nat} (a b : UInt8) (h : DkAt code pc [160, a, b]) : decode code pc = .ok (.if_icmp .ne (Reader.signed 16 (a.toNat * 256 + b.toNat)), 3) := dk_of ((dk_bind (dk_u1 (h 0 _ rfl))).trans ((dk_bind (dk_map (dk_u2 (h 1 _ rfl) (h 2 _ rfl)))).trans rfl))
theorem dk_161 {code : ByteArray} {pc : Nat} (a b : UInt8) (h : DkAt code pc [161, a, b]) : decode code pc = .ok (.if_icmp .lt (Reader.signed 16 (a.toNat * 256 + b.toNat)), 3) := dk_of ((dk_bind (dk_u1 (h 0 _ rfl))).trans ((dk_bind (dk_map (dk_u2 (h 1 _ rfl) (h 2 _ rfl)))).trans rfl))
theorem dk_162 {code : ByteArray} {pc : Nat} (a b : UInt8) (h : DkAt code pc [162, a, b]) : decode code pc = .ok (.if_icmp .ge (Reader.signed 16 (a.toNat * 256 + b.toNat)), 3) := dk_of ((dk_bind (dk_u1 (h 0 _ rfl))).trans ((dk_bind (dk_map (dk_u2 (h 1 _ rfl) (h 2 _ rfl)))).trans rfl))
theorem dk_163 {code : ByteArray} {pc : Nat} (a b : UInt8) (h : DkAt code pc [163, a, b]) : decode code pc = .ok (.if_icmp .gt (Reader.signed 16 (a.toNat * 256 + b.toNat)), 3) := dk_of ((dk_bind (dk_u1 (h 0 _ rfl))).trans ((dk_bind (dk_map (dk_u2 (h 1 _ rfl) (h 2 _ rfl)))).trans rfl))
theorem dk_164 {code : ByteArray} {pc : Nat} (a b : UInt8) (h : DkAt code pc [164, a, b]) : decode code pc = .ok (.if_icmp .le (Reader.signed 16 (a.toNat * 256 + b.toNat)), 3) := dk_of ((dk_bind (dk_u1 (h 0 _ rfl))).trans ((dk_bind (dk_map (dk_u2 (h 1 _ rfl) (h 2 _ rfl)))).trans rfl))
theorem dk_165 {code : ByteArray} {pc : Nat} (a b : UInt8) (h : DkAt code pc [165, a, b]) : decode code pc = .ok (.if_acmp .eq (Reader.signed 16 (a.toNat * 256 + b.toNat)), 3) := dk_of ((dk_bind (dk_u1 (h 0 _ rfl))).trans ((dk_bind (dk_map (dk_u2 (h 1 _ rfl) (h 2 _ rfl)))).trans rfl))
theorem dk_166 {code : ByteArray} {pc : Nat} (a b : UInt8) (h : DkAt code pc [166, a, b]) : decode code pc = .ok (.if_acmp .ne (Reader.signed 16 (a.toNat * 256 + b.toNat)), 3) := dk_of ((dk_bind (dk_u1 (h 0 _ rfl))).trans ((dk_bind (dk_map (dk_u2 (h 1 _ rfl) (h 2 _ rfl)))).trans rfl))
theorem dk_167 {code : ByteArray} {pc : Nat} (a b : UInt8) (h : DkAt code pc [167, a, b]) : decode code pc = .ok (.goto (Reader.signed 16 (a.toNat * 256 + b.toNat)), 3) := dk_of ((dk_bind (dk_u1 (h 0 _ rfl))).trans ((dk_bind (dk_map (dk_u2 (h 1 _ rfl) (h 2 _ rfl)))).trans rfl))
theorem dk_172 {code : ByteArray} {pc : Nat} (h : DkAt code pc [172]) : decode code pc = .ok (.ireturn, 1) := dk_of ((dk_bind (dk_u1 (h 0 _ rfl))).trans rfl)
theorem dk_176 {code : ByteArray} {pc : Nat} (h : DkAt code pc [176]) : decode code pc = .ok (.areturn, 1) := dk_of ((dk_bind (dk_u1 (h 0 _ rfl))).trans rfl)
theorem dk_177 {code : ByteArray} {pc : Nat} (h : DkAt code pc [177]) : decode code pc = .ok (.return_, 1) := dk_of ((dk_bind (dk_u1 (h 0 _ rfl))).trans rfl)
theorem dk_178 {code : ByteArray} {pc : Nat} (a b : UInt8) (h : DkAt code pc [178, a, b]) : decode code pc = .ok (.getstatic (a.toNat * 256 + b.toNat), 3) := dk_of ((dk_bind (dk_u1 (h 0 _ rfl))).trans ((dk_bind (dk_u2 (h 1 _ rfl) (h 2 _ rfl))).trans rfl))
theorem dk_180 {code : ByteArray} {pc : Nat} (a b : UInt8) (h : DkAt code pc [180, a, b]) : decode code pc = .ok (.getfield (a.toNat * 256 + b.toNat), 3) := dk_of ((dk_bind (dk_u1 (h 0 _ rfl))).trans ((dk_bind (dk_u2 (h 1 _ rfl) (h 2 _ rfl))).trans rfl))
theorem dk_181 {code : ByteArray} {pc : Nat} (a b : UInt8) (h : DkAt code pc [181, a, b]) : decode code pc = .ok (.putfield (a.toNat * 256 + b.toNat), 3) := dk_of ((dk_bind (dk_u1 (h 0 _ rfl))).trans ((dk_bind (dk_u2 (h 1 _ rfl) (h 2 _ rfl))).trans rfl))
theorem dk_182 {code : ByteArray} {pc : Nat} (a b : UInt8) (h : DkAt code pc [182, a, b]) : decode code pc = .ok (.invokevirtual (a.toNat * 256 + b.toNat), 3) := dk_of ((dk_bind (dk_u1 (h 0 _ rfl))).trans ((dk_bind (dk_u2 (h 1 _ rfl) (h 2 _ rfl))).trans rfl))
theorem dk_183 {code : ByteArray} {pc : Nat} (a b : UInt8) (h : DkAt code pc [183, a, b]) : decode code pc = .ok (.invokespecial (a.toNat * 256 + b.toNat), 3) := dk_of ((dk_bind (dk_u1 (h 0 _ rfl))).trans ((dk_bind (dk_u2 (h 1 _ rfl) (h 2 _ rfl))).trans rfl))
theorem dk_184 {code : ByteArray} {pc : Nat} (a b : UInt8) (h : DkAt code pc [184, a, b]) : decode code pc = .ok (.invokestatic (a.toNat * 256 + b.toNat), 3) := dk_of ((dk_bind (dk_u1 (h 0 _ rfl))).trans ((dk_bind (dk_u2 (h 1 _ rfl) (h 2 _ rfl))).trans rfl))
theorem dk_187 {code : ByteArray} {pc : Nat} (a b : UInt8) (h : DkAt code pc [187, a, b]) : decode code pc = .ok (.new (a.toNat * 256 + b.toNat), 3) := dk_of ((dk_bind (dk_u1 (h 0 _ rfl))).trans ((dk_bind (dk_u2 (h 1 _ rfl) (h 2 _ rfl))).trans rfl))
theorem dk_188_8 {code : ByteArray} {pc : Nat} (h : DkAt code pc [188, 8]) : decode code pc = .ok (.newarray .byte, 2) := dk_of ((dk_bind (dk_u1 (h 0 _ rfl))).trans ((dk_bind (dk_u1 (h 1 _ rfl))).trans rfl))
theorem dk_188_10 {code : ByteArray} {pc : Nat} (h : DkAt code pc [188, 10]) : decode code pc = .ok (.newarray .int, 2) := dk_of ((dk_bind (dk_u1 (h 0 _ rfl))).trans ((dk_bind (dk_u1 (h 1 _ rfl))).trans rfl))
theorem dk_189 {code : ByteArray} {pc : Nat} (a b : UInt8) (h : DkAt code pc [189, a, b]) : decode code pc = .ok (.anewarray (a.toNat * 256 + b.toNat), 3) := dk_of ((dk_bind (dk_u1 (h 0 _ rfl))).trans ((dk_bind (dk_u2 (h 1 _ rfl) (h 2 _ rfl))).trans rfl))
theorem dk_190 {code : ByteArray} {pc : Nat} (h : DkAt code pc [190]) : decode code pc = .ok (.arraylength, 1) := dk_of ((dk_bind (dk_u1 (h 0 _ rfl))).trans rfl)
theorem dk_191 {code : ByteArray} {pc : Nat} (h : DkAt code pc [191]) : decode code pc = .ok (.athrow, 1) := dk_of ((dk_bind (dk_u1 (h 0 _ rfl))).trans rfl)
theorem dk_192 {code : ByteArray} {pc : Nat} (a b : UInt8) (h : DkAt code pc [192, a, b]) : decode code pc = .ok (.checkcast (a.toNat * 256 + b.toNat), 3) := dk_of ((dk_bind (dk_u1 (h 0 _ rfl))).trans ((dk_bind (dk_u2 (h 1 _ rfl) (h 2 _ rfl))).trans rfl))
theorem dk_198 {code : ByteArray} {pc : Nat} (a b : UInt8) (h : DkAt code pc [198, a, b]) : decode code pc = .ok (.ifnull (Reader.signed 16 (a.toNat * 256 + b.toNat)), 3) := dk_of ((dk_bind (dk_u1 (h 0 _ rfl))).trans ((dk_bind (dk_map (dk_u2 (h 1 _ rfl) (h 2 _ rfl)))).trans rfl))
theorem dk_199 {code : ByteArray} {pc : Nat} (a b : UInt8) (h : DkAt code pc [199, a, b]) : decode code pc = .ok (.ifnonnull (Reader.signed 16 (a.toNat * 256 + b.toNat)), 3) := dk_of ((dk_bind (dk_u1 (h 0 _ rfl))).trans ((dk_bind (dk_map (dk_u2 (h 1 _ rfl) (h 2 _ rfl)))).trans rfl))
/-! BarnPictures -/
set_option maxRecDepth 100000
def RX0 : String := "BarnPictures"
def TX0 : u_T := fun k => match k with
  | 0 => ("BarnPictures", "tour", "LBarnPictures$Tour;", false)
  | 1 => ("BarnPictures", "snapshot", "LBarnPictures$Tour;", false)
  | 2 => ("BarnPictures", "history", "Ljava/util/List;", true)
  | 3 => ("BarnPictures", "text", "Ljava/lang/StringBuilder;", true)
  | _ => ("BarnPictures", "stop", "LBarnPictures$Stop;", false)
def tyX0 : Nat → FieldType := fun k => match k with
  | 0 => .object "BarnPictures$Tour"
  | 1 => .object "BarnPictures$Tour"
  | 2 => .object "java/util/List"
  | 3 => .object "java/lang/StringBuilder"
  | _ => .object "BarnPictures$Stop"
abbrev wsX00 : List Cond := u_ws RX0 TX0 5
theorem nmX0 : ∀ a, a < 5 → ∀ b, b < 5 → a ≠ b → (TX0 a).2.1 ≠ (TX0 b).2.1 := by decide +kernel
theorem tyX0_ok : ∀ k, k < 5 → parseFieldDescriptor (TX0 k).2.2.1 = some (tyX0 k) := by decide +kernel
abbrev cX0_init : ByteArray := prog_1_method_6_code
def yX0_init : MethodName := ⟨RX0, "<init>", "()V"⟩
def dkwX0_init_1 : List UInt8 := [181, 0, 29, 42, 187, 0, 33, 89, 183, 0, 35, 181, 0, 36, 177]
abbrev dktX0_init_1 : List UInt8 := dkwX0_init_1 ++ []
def dkwX0_init_0 : List UInt8 := [42, 183, 0, 14, 42, 187, 0, 19, 89, 183, 0, 21, 181, 0, 22, 42, 187, 0, 26, 89, 183, 0, 28]
abbrev dktX0_init_0 : List UInt8 := dkwX0_init_0 ++ dktX0_init_1
theorem dksX0_init_0 : cX0_init.data.toList.drop 0 = dktX0_init_0 := by decide +kernel
theorem dksX0_init_1 : cX0_init.data.toList.drop 23 = dktX0_init_1 := dk_seg dksX0_init_0 23 rfl rfl
theorem dX0_init_0 : decode cX0_init 0 = .ok (.aload_n 0, 1) := dk_42 (dk_at dksX0_init_0 0 rfl rfl)
theorem dX0_init_1 : decode cX0_init 1 = .ok (.invokespecial 14, 3) := dk_183 0 14 (dk_at dksX0_init_0 1 rfl rfl)
theorem dX0_init_4 : decode cX0_init 4 = .ok (.aload_n 0, 1) := dk_42 (dk_at dksX0_init_0 4 rfl rfl)
theorem dX0_init_5 : decode cX0_init 5 = .ok (.new 19, 3) := dk_187 0 19 (dk_at dksX0_init_0 5 rfl rfl)
theorem dX0_init_8 : decode cX0_init 8 = .ok (.dup, 1) := dk_89 (dk_at dksX0_init_0 8 rfl rfl)
theorem dX0_init_9 : decode cX0_init 9 = .ok (.invokespecial 21, 3) := dk_183 0 21 (dk_at dksX0_init_0 9 rfl rfl)
theorem dX0_init_12 : decode cX0_init 12 = .ok (.putfield 22, 3) := dk_181 0 22 (dk_at dksX0_init_0 12 rfl rfl)
theorem dX0_init_15 : decode cX0_init 15 = .ok (.aload_n 0, 1) := dk_42 (dk_at dksX0_init_0 15 rfl rfl)
theorem dX0_init_16 : decode cX0_init 16 = .ok (.new 26, 3) := dk_187 0 26 (dk_at dksX0_init_0 16 rfl rfl)
theorem dX0_init_19 : decode cX0_init 19 = .ok (.dup, 1) := dk_89 (dk_at dksX0_init_0 19 rfl rfl)
theorem dX0_init_20 : decode cX0_init 20 = .ok (.invokespecial 28, 3) := dk_183 0 28 (dk_at dksX0_init_0 20 rfl rfl)
theorem dX0_init_23 : decode cX0_init 23 = .ok (.putfield 29, 3) := dk_181 0 29 (dk_at dksX0_init_1 0 rfl rfl)
theorem dX0_init_26 : decode cX0_init 26 = .ok (.aload_n 0, 1) := dk_42 (dk_at dksX0_init_1 3 rfl rfl)
theorem dX0_init_27 : decode cX0_init 27 = .ok (.new 33, 3) := dk_187 0 33 (dk_at dksX0_init_1 4 rfl rfl)
theorem dX0_init_30 : decode cX0_init 30 = .ok (.dup, 1) := dk_89 (dk_at dksX0_init_1 7 rfl rfl)
theorem dX0_init_31 : decode cX0_init 31 = .ok (.invokespecial 35, 3) := dk_183 0 35 (dk_at dksX0_init_1 8 rfl rfl)
theorem dX0_init_34 : decode cX0_init 34 = .ok (.putfield 36, 3) := dk_181 0 36 (dk_at dksX0_init_1 11 rfl rfl)
theorem dX0_init_37 : decode cX0_init 37 = .ok (.return_, 1) := dk_177 (dk_at dksX0_init_1 14 rfl rfl)
abbrev cX0_drive : ByteArray := prog_1_method_9_code
def yX0_drive : MethodName := ⟨RX0, "drive", "(I)I"⟩
def dkwX0_drive_1 : List UInt8 := [45, 182, 0, 70, 172]
abbrev dktX0_drive_1 : List UInt8 := dkwX0_drive_1 ++ []
def dkwX0_drive_0 : List UInt8 := [187, 0, 19, 89, 42, 180, 0, 22, 183, 0, 59, 77, 42, 44, 44, 27, 182, 0, 62, 182, 0, 66, 172, 78]
abbrev dktX0_drive_0 : List UInt8 := dkwX0_drive_0 ++ dktX0_drive_1
theorem dksX0_drive_0 : cX0_drive.data.toList.drop 0 = dktX0_drive_0 := by decide +kernel
theorem dksX0_drive_1 : cX0_drive.data.toList.drop 24 = dktX0_drive_1 := dk_seg dksX0_drive_0 24 rfl rfl
theorem dX0_drive_0 : decode cX0_drive 0 = .ok (.new 19, 3) := dk_187 0 19 (dk_at dksX0_drive_0 0 rfl rfl)
theorem dX0_drive_3 : decode cX0_drive 3 = .ok (.dup, 1) := dk_89 (dk_at dksX0_drive_0 3 rfl rfl)
theorem dX0_drive_4 : decode cX0_drive 4 = .ok (.aload_n 0, 1) := dk_42 (dk_at dksX0_drive_0 4 rfl rfl)
theorem dX0_drive_5 : decode cX0_drive 5 = .ok (.getfield 22, 3) := dk_180 0 22 (dk_at dksX0_drive_0 5 rfl rfl)
theorem dX0_drive_8 : decode cX0_drive 8 = .ok (.invokespecial 59, 3) := dk_183 0 59 (dk_at dksX0_drive_0 8 rfl rfl)
theorem dX0_drive_11 : decode cX0_drive 11 = .ok (.astore_n 2, 1) := dk_77 (dk_at dksX0_drive_0 11 rfl rfl)
theorem dX0_drive_12 : decode cX0_drive 12 = .ok (.aload_n 0, 1) := dk_42 (dk_at dksX0_drive_0 12 rfl rfl)
theorem dX0_drive_13 : decode cX0_drive 13 = .ok (.aload_n 2, 1) := dk_44 (dk_at dksX0_drive_0 13 rfl rfl)
theorem dX0_drive_14 : decode cX0_drive 14 = .ok (.aload_n 2, 1) := dk_44 (dk_at dksX0_drive_0 14 rfl rfl)
theorem dX0_drive_15 : decode cX0_drive 15 = .ok (.iload_n 1, 1) := dk_27 (dk_at dksX0_drive_0 15 rfl rfl)
theorem dX0_drive_16 : decode cX0_drive 16 = .ok (.invokevirtual 62, 3) := dk_182 0 62 (dk_at dksX0_drive_0 16 rfl rfl)
theorem dX0_drive_19 : decode cX0_drive 19 = .ok (.invokevirtual 66, 3) := dk_182 0 66 (dk_at dksX0_drive_0 19 rfl rfl)
theorem dX0_drive_22 : decode cX0_drive 22 = .ok (.ireturn, 1) := dk_172 (dk_at dksX0_drive_0 22 rfl rfl)
theorem dX0_drive_23 : decode cX0_drive 23 = .ok (.astore_n 3, 1) := dk_78 (dk_at dksX0_drive_0 23 rfl rfl)
theorem dX0_drive_24 : decode cX0_drive 24 = .ok (.aload_n 3, 1) := dk_45 (dk_at dksX0_drive_1 0 rfl rfl)
theorem dX0_drive_25 : decode cX0_drive 25 = .ok (.invokevirtual 70, 3) := dk_182 0 70 (dk_at dksX0_drive_1 1 rfl rfl)
theorem dX0_drive_28 : decode cX0_drive 28 = .ok (.ireturn, 1) := dk_172 (dk_at dksX0_drive_1 4 rfl rfl)
abbrev cX0_inRange : ByteArray := prog_1_method_1_code
def yX0_inRange : MethodName := ⟨RX0, "inRange", "(III)Z"⟩
def dkwX0_inRange_0 : List UInt8 := [26, 27, 161, 0, 12, 26, 28, 163, 0, 7, 4, 167, 0, 4, 3, 172]
abbrev dktX0_inRange_0 : List UInt8 := dkwX0_inRange_0 ++ []
theorem dksX0_inRange_0 : cX0_inRange.data.toList.drop 0 = dktX0_inRange_0 := by decide +kernel
theorem dX0_inRange_0 : decode cX0_inRange 0 = .ok (.iload_n 0, 1) := dk_26 (dk_at dksX0_inRange_0 0 rfl rfl)
theorem dX0_inRange_1 : decode cX0_inRange 1 = .ok (.iload_n 1, 1) := dk_27 (dk_at dksX0_inRange_0 1 rfl rfl)
theorem dX0_inRange_2 : decode cX0_inRange 2 = .ok (.if_icmp .lt 12, 3) := dk_161 0 12 (dk_at dksX0_inRange_0 2 rfl rfl)
theorem dX0_inRange_5 : decode cX0_inRange 5 = .ok (.iload_n 0, 1) := dk_26 (dk_at dksX0_inRange_0 5 rfl rfl)
theorem dX0_inRange_6 : decode cX0_inRange 6 = .ok (.iload_n 2, 1) := dk_28 (dk_at dksX0_inRange_0 6 rfl rfl)
theorem dX0_inRange_7 : decode cX0_inRange 7 = .ok (.if_icmp .gt 7, 3) := dk_163 0 7 (dk_at dksX0_inRange_0 7 rfl rfl)
theorem dX0_inRange_10 : decode cX0_inRange 10 = .ok (.iconst 1, 1) := dk_4 (dk_at dksX0_inRange_0 10 rfl rfl)
theorem dX0_inRange_11 : decode cX0_inRange 11 = .ok (.goto 4, 3) := dk_167 0 4 (dk_at dksX0_inRange_0 11 rfl rfl)
theorem dX0_inRange_14 : decode cX0_inRange 14 = .ok (.iconst 0, 1) := dk_3 (dk_at dksX0_inRange_0 14 rfl rfl)
theorem dX0_inRange_15 : decode cX0_inRange 15 = .ok (.ireturn, 1) := dk_172 (dk_at dksX0_inRange_0 15 rfl rfl)
abbrev cX0_check : ByteArray := prog_1_method_5_code
def yX0_check : MethodName := ⟨RX0, "check", "(ZI)V"⟩
def dkwX0_check_0 : List UInt8 := [26, 154, 0, 12, 187, 0, 8, 89, 27, 183, 0, 10, 191, 177]
abbrev dktX0_check_0 : List UInt8 := dkwX0_check_0 ++ []
theorem dksX0_check_0 : cX0_check.data.toList.drop 0 = dktX0_check_0 := by decide +kernel
theorem dX0_check_0 : decode cX0_check 0 = .ok (.iload_n 0, 1) := dk_26 (dk_at dksX0_check_0 0 rfl rfl)
theorem dX0_check_1 : decode cX0_check 1 = .ok (.ifCond .ne 12, 3) := dk_154 0 12 (dk_at dksX0_check_0 1 rfl rfl)
theorem dX0_check_4 : decode cX0_check 4 = .ok (.new 8, 3) := dk_187 0 8 (dk_at dksX0_check_0 4 rfl rfl)
theorem dX0_check_7 : decode cX0_check 7 = .ok (.dup, 1) := dk_89 (dk_at dksX0_check_0 7 rfl rfl)
theorem dX0_check_8 : decode cX0_check 8 = .ok (.iload_n 1, 1) := dk_27 (dk_at dksX0_check_0 8 rfl rfl)
theorem dX0_check_9 : decode cX0_check 9 = .ok (.invokespecial 10, 3) := dk_183 0 10 (dk_at dksX0_check_0 9 rfl rfl)
theorem dX0_check_12 : decode cX0_check 12 = .ok (.athrow, 1) := dk_191 (dk_at dksX0_check_0 12 rfl rfl)
theorem dX0_check_13 : decode cX0_check 13 = .ok (.return_, 1) := dk_177 (dk_at dksX0_check_0 13 rfl rfl)
abbrev cX0_mileOf : ByteArray := prog_1_method_3_code
def yX0_mileOf : MethodName := ⟨RX0, "mileOf", "(I)I"⟩
def dkwX0_mileOf_1 : List UInt8 := [7, 16, 45, 79, 184, 0, 4, 172]
abbrev dktX0_mileOf_1 : List UInt8 := dkwX0_mileOf_1 ++ []
def dkwX0_mileOf_0 : List UInt8 := [26, 8, 188, 10, 89, 3, 3, 79, 89, 4, 16, 8, 79, 89, 5, 16, 20, 79, 89, 6, 16, 26, 79, 89]
abbrev dktX0_mileOf_0 : List UInt8 := dkwX0_mileOf_0 ++ dktX0_mileOf_1
theorem dksX0_mileOf_0 : cX0_mileOf.data.toList.drop 0 = dktX0_mileOf_0 := by decide +kernel
theorem dksX0_mileOf_1 : cX0_mileOf.data.toList.drop 24 = dktX0_mileOf_1 := dk_seg dksX0_mileOf_0 24 rfl rfl
theorem dX0_mileOf_0 : decode cX0_mileOf 0 = .ok (.iload_n 0, 1) := dk_26 (dk_at dksX0_mileOf_0 0 rfl rfl)
theorem dX0_mileOf_1 : decode cX0_mileOf 1 = .ok (.iconst 5, 1) := dk_8 (dk_at dksX0_mileOf_0 1 rfl rfl)
theorem dX0_mileOf_2 : decode cX0_mileOf 2 = .ok (.newarray .int, 2) := dk_188_10 (dk_at dksX0_mileOf_0 2 rfl rfl)
theorem dX0_mileOf_4 : decode cX0_mileOf 4 = .ok (.dup, 1) := dk_89 (dk_at dksX0_mileOf_0 4 rfl rfl)
theorem dX0_mileOf_5 : decode cX0_mileOf 5 = .ok (.iconst 0, 1) := dk_3 (dk_at dksX0_mileOf_0 5 rfl rfl)
theorem dX0_mileOf_6 : decode cX0_mileOf 6 = .ok (.iconst 0, 1) := dk_3 (dk_at dksX0_mileOf_0 6 rfl rfl)
theorem dX0_mileOf_7 : decode cX0_mileOf 7 = .ok (.iastore, 1) := dk_79 (dk_at dksX0_mileOf_0 7 rfl rfl)
theorem dX0_mileOf_8 : decode cX0_mileOf 8 = .ok (.dup, 1) := dk_89 (dk_at dksX0_mileOf_0 8 rfl rfl)
theorem dX0_mileOf_9 : decode cX0_mileOf 9 = .ok (.iconst 1, 1) := dk_4 (dk_at dksX0_mileOf_0 9 rfl rfl)
theorem dX0_mileOf_10 : decode cX0_mileOf 10 = .ok (.bipush 8, 2) := dk_16 8 (dk_at dksX0_mileOf_0 10 rfl rfl)
theorem dX0_mileOf_12 : decode cX0_mileOf 12 = .ok (.iastore, 1) := dk_79 (dk_at dksX0_mileOf_0 12 rfl rfl)
theorem dX0_mileOf_13 : decode cX0_mileOf 13 = .ok (.dup, 1) := dk_89 (dk_at dksX0_mileOf_0 13 rfl rfl)
theorem dX0_mileOf_14 : decode cX0_mileOf 14 = .ok (.iconst 2, 1) := dk_5 (dk_at dksX0_mileOf_0 14 rfl rfl)
theorem dX0_mileOf_15 : decode cX0_mileOf 15 = .ok (.bipush 20, 2) := dk_16 20 (dk_at dksX0_mileOf_0 15 rfl rfl)
theorem dX0_mileOf_17 : decode cX0_mileOf 17 = .ok (.iastore, 1) := dk_79 (dk_at dksX0_mileOf_0 17 rfl rfl)
theorem dX0_mileOf_18 : decode cX0_mileOf 18 = .ok (.dup, 1) := dk_89 (dk_at dksX0_mileOf_0 18 rfl rfl)
theorem dX0_mileOf_19 : decode cX0_mileOf 19 = .ok (.iconst 3, 1) := dk_6 (dk_at dksX0_mileOf_0 19 rfl rfl)
theorem dX0_mileOf_20 : decode cX0_mileOf 20 = .ok (.bipush 26, 2) := dk_16 26 (dk_at dksX0_mileOf_0 20 rfl rfl)
theorem dX0_mileOf_22 : decode cX0_mileOf 22 = .ok (.iastore, 1) := dk_79 (dk_at dksX0_mileOf_0 22 rfl rfl)
theorem dX0_mileOf_23 : decode cX0_mileOf 23 = .ok (.dup, 1) := dk_89 (dk_at dksX0_mileOf_0 23 rfl rfl)
theorem dX0_mileOf_24 : decode cX0_mileOf 24 = .ok (.iconst 4, 1) := dk_7 (dk_at dksX0_mileOf_1 0 rfl rfl)
theorem dX0_mileOf_25 : decode cX0_mileOf 25 = .ok (.bipush 45, 2) := dk_16 45 (dk_at dksX0_mileOf_1 1 rfl rfl)
theorem dX0_mileOf_27 : decode cX0_mileOf 27 = .ok (.iastore, 1) := dk_79 (dk_at dksX0_mileOf_1 3 rfl rfl)
theorem dX0_mileOf_28 : decode cX0_mileOf 28 = .ok (.invokestatic 4, 3) := dk_184 0 4 (dk_at dksX0_mileOf_1 4 rfl rfl)
theorem dX0_mileOf_31 : decode cX0_mileOf 31 = .ok (.ireturn, 1) := dk_172 (dk_at dksX0_mileOf_1 7 rfl rfl)
abbrev cX0_pick : ByteArray := prog_1_method_2_code
def yX0_pick : MethodName := ⟨RX0, "pick", "(I[I)I"⟩
def dkwX0_pick_0 : List UInt8 := [26, 155, 0, 15, 26, 43, 190, 162, 0, 9, 43, 26, 46, 167, 0, 5, 18, 3, 172]
abbrev dktX0_pick_0 : List UInt8 := dkwX0_pick_0 ++ []
theorem dksX0_pick_0 : cX0_pick.data.toList.drop 0 = dktX0_pick_0 := by decide +kernel
theorem dX0_pick_0 : decode cX0_pick 0 = .ok (.iload_n 0, 1) := dk_26 (dk_at dksX0_pick_0 0 rfl rfl)
theorem dX0_pick_1 : decode cX0_pick 1 = .ok (.ifCond .lt 15, 3) := dk_155 0 15 (dk_at dksX0_pick_0 1 rfl rfl)
theorem dX0_pick_4 : decode cX0_pick 4 = .ok (.iload_n 0, 1) := dk_26 (dk_at dksX0_pick_0 4 rfl rfl)
theorem dX0_pick_5 : decode cX0_pick 5 = .ok (.aload_n 1, 1) := dk_43 (dk_at dksX0_pick_0 5 rfl rfl)
theorem dX0_pick_6 : decode cX0_pick 6 = .ok (.arraylength, 1) := dk_190 (dk_at dksX0_pick_0 6 rfl rfl)
theorem dX0_pick_7 : decode cX0_pick 7 = .ok (.if_icmp .ge 9, 3) := dk_162 0 9 (dk_at dksX0_pick_0 7 rfl rfl)
theorem dX0_pick_10 : decode cX0_pick 10 = .ok (.aload_n 1, 1) := dk_43 (dk_at dksX0_pick_0 10 rfl rfl)
theorem dX0_pick_11 : decode cX0_pick 11 = .ok (.iload_n 0, 1) := dk_26 (dk_at dksX0_pick_0 11 rfl rfl)
theorem dX0_pick_12 : decode cX0_pick 12 = .ok (.iaload, 1) := dk_46 (dk_at dksX0_pick_0 12 rfl rfl)
theorem dX0_pick_13 : decode cX0_pick 13 = .ok (.goto 5, 3) := dk_167 0 5 (dk_at dksX0_pick_0 13 rfl rfl)
theorem dX0_pick_16 : decode cX0_pick 16 = .ok (.ldc 3, 2) := dk_18 3 (dk_at dksX0_pick_0 16 rfl rfl)
theorem dX0_pick_18 : decode cX0_pick 18 = .ok (.ireturn, 1) := dk_172 (dk_at dksX0_pick_0 18 rfl rfl)
abbrev cX0_accept : ByteArray := prog_1_method_7_code
def yX0_accept : MethodName := ⟨RX0, "accept", "(LBarnPictures$Tour;I)I"⟩
def dkwX0_accept_2 : List UInt8 := [42, 43, 181, 0, 22, 28, 172]
abbrev dktX0_accept_2 : List UInt8 := dkwX0_accept_2 ++ []
def dkwX0_accept_1 : List UInt8 := [180, 0, 29, 3, 185, 0, 47, 2, 0, 87, 42, 180, 0, 29, 42, 180, 0, 22, 185, 0, 51, 2, 0, 87]
abbrev dktX0_accept_1 : List UInt8 := dkwX0_accept_1 ++ dktX0_accept_2
def dkwX0_accept_0 : List UInt8 := [28, 18, 40, 160, 0, 6, 18, 40, 172, 42, 180, 0, 29, 185, 0, 41, 1, 0, 7, 160, 0, 14, 42]
abbrev dktX0_accept_0 : List UInt8 := dkwX0_accept_0 ++ dktX0_accept_1
theorem dksX0_accept_0 : cX0_accept.data.toList.drop 0 = dktX0_accept_0 := by decide +kernel
theorem dksX0_accept_1 : cX0_accept.data.toList.drop 23 = dktX0_accept_1 := dk_seg dksX0_accept_0 23 rfl rfl
theorem dksX0_accept_2 : cX0_accept.data.toList.drop 47 = dktX0_accept_2 := dk_seg dksX0_accept_1 24 rfl rfl
theorem dX0_accept_0 : decode cX0_accept 0 = .ok (.iload_n 2, 1) := dk_28 (dk_at dksX0_accept_0 0 rfl rfl)
theorem dX0_accept_1 : decode cX0_accept 1 = .ok (.ldc 40, 2) := dk_18 40 (dk_at dksX0_accept_0 1 rfl rfl)
theorem dX0_accept_3 : decode cX0_accept 3 = .ok (.if_icmp .ne 6, 3) := dk_160 0 6 (dk_at dksX0_accept_0 3 rfl rfl)
theorem dX0_accept_6 : decode cX0_accept 6 = .ok (.ldc 40, 2) := dk_18 40 (dk_at dksX0_accept_0 6 rfl rfl)
theorem dX0_accept_8 : decode cX0_accept 8 = .ok (.ireturn, 1) := dk_172 (dk_at dksX0_accept_0 8 rfl rfl)
theorem dX0_accept_9 : decode cX0_accept 9 = .ok (.aload_n 0, 1) := dk_42 (dk_at dksX0_accept_0 9 rfl rfl)
theorem dX0_accept_10 : decode cX0_accept 10 = .ok (.getfield 29, 3) := dk_180 0 29 (dk_at dksX0_accept_0 10 rfl rfl)
theorem dX0_accept_13 : decode cX0_accept 13 = .ok (.invokeinterface 41 1, 5) := by decide +kernel
theorem dX0_accept_18 : decode cX0_accept 18 = .ok (.iconst 4, 1) := dk_7 (dk_at dksX0_accept_0 18 rfl rfl)
theorem dX0_accept_19 : decode cX0_accept 19 = .ok (.if_icmp .ne 14, 3) := dk_160 0 14 (dk_at dksX0_accept_0 19 rfl rfl)
theorem dX0_accept_22 : decode cX0_accept 22 = .ok (.aload_n 0, 1) := dk_42 (dk_at dksX0_accept_0 22 rfl rfl)
theorem dX0_accept_23 : decode cX0_accept 23 = .ok (.getfield 29, 3) := dk_180 0 29 (dk_at dksX0_accept_1 0 rfl rfl)
theorem dX0_accept_26 : decode cX0_accept 26 = .ok (.iconst 0, 1) := dk_3 (dk_at dksX0_accept_1 3 rfl rfl)
theorem dX0_accept_27 : decode cX0_accept 27 = .ok (.invokeinterface 47 2, 5) := by decide +kernel
theorem dX0_accept_32 : decode cX0_accept 32 = .ok (.pop, 1) := dk_87 (dk_at dksX0_accept_1 9 rfl rfl)
theorem dX0_accept_33 : decode cX0_accept 33 = .ok (.aload_n 0, 1) := dk_42 (dk_at dksX0_accept_1 10 rfl rfl)
theorem dX0_accept_34 : decode cX0_accept 34 = .ok (.getfield 29, 3) := dk_180 0 29 (dk_at dksX0_accept_1 11 rfl rfl)
theorem dX0_accept_37 : decode cX0_accept 37 = .ok (.aload_n 0, 1) := dk_42 (dk_at dksX0_accept_1 14 rfl rfl)
theorem dX0_accept_38 : decode cX0_accept 38 = .ok (.getfield 22, 3) := dk_180 0 22 (dk_at dksX0_accept_1 15 rfl rfl)
theorem dX0_accept_41 : decode cX0_accept 41 = .ok (.invokeinterface 51 2, 5) := by decide +kernel
theorem dX0_accept_46 : decode cX0_accept 46 = .ok (.pop, 1) := dk_87 (dk_at dksX0_accept_1 23 rfl rfl)
theorem dX0_accept_47 : decode cX0_accept 47 = .ok (.aload_n 0, 1) := dk_42 (dk_at dksX0_accept_2 0 rfl rfl)
theorem dX0_accept_48 : decode cX0_accept 48 = .ok (.aload_n 1, 1) := dk_43 (dk_at dksX0_accept_2 1 rfl rfl)
theorem dX0_accept_49 : decode cX0_accept 49 = .ok (.putfield 22, 3) := dk_181 0 22 (dk_at dksX0_accept_2 2 rfl rfl)
theorem dX0_accept_52 : decode cX0_accept 52 = .ok (.iload_n 2, 1) := dk_28 (dk_at dksX0_accept_2 5 rfl rfl)
theorem dX0_accept_53 : decode cX0_accept 53 = .ok (.ireturn, 1) := dk_172 (dk_at dksX0_accept_2 6 rfl rfl)
abbrev cX0_moveReel : ByteArray := prog_1_method_10_code
def yX0_moveReel : MethodName := ⟨RX0, "moveReel", "(IZ)I"⟩
def dkwX0_moveReel_1 : List UInt8 := [58, 4, 25, 4, 182, 0, 70, 172]
abbrev dktX0_moveReel_1 : List UInt8 := dkwX0_moveReel_1 ++ []
def dkwX0_moveReel_0 : List UInt8 := [187, 0, 19, 89, 42, 180, 0, 22, 183, 0, 59, 78, 42, 45, 45, 27, 28, 182, 0, 73, 182, 0, 66, 172]
abbrev dktX0_moveReel_0 : List UInt8 := dkwX0_moveReel_0 ++ dktX0_moveReel_1
theorem dksX0_moveReel_0 : cX0_moveReel.data.toList.drop 0 = dktX0_moveReel_0 := by decide +kernel
theorem dksX0_moveReel_1 : cX0_moveReel.data.toList.drop 24 = dktX0_moveReel_1 := dk_seg dksX0_moveReel_0 24 rfl rfl
theorem dX0_moveReel_0 : decode cX0_moveReel 0 = .ok (.new 19, 3) := dk_187 0 19 (dk_at dksX0_moveReel_0 0 rfl rfl)
theorem dX0_moveReel_3 : decode cX0_moveReel 3 = .ok (.dup, 1) := dk_89 (dk_at dksX0_moveReel_0 3 rfl rfl)
theorem dX0_moveReel_4 : decode cX0_moveReel 4 = .ok (.aload_n 0, 1) := dk_42 (dk_at dksX0_moveReel_0 4 rfl rfl)
theorem dX0_moveReel_5 : decode cX0_moveReel 5 = .ok (.getfield 22, 3) := dk_180 0 22 (dk_at dksX0_moveReel_0 5 rfl rfl)
theorem dX0_moveReel_8 : decode cX0_moveReel 8 = .ok (.invokespecial 59, 3) := dk_183 0 59 (dk_at dksX0_moveReel_0 8 rfl rfl)
theorem dX0_moveReel_11 : decode cX0_moveReel 11 = .ok (.astore_n 3, 1) := dk_78 (dk_at dksX0_moveReel_0 11 rfl rfl)
theorem dX0_moveReel_12 : decode cX0_moveReel 12 = .ok (.aload_n 0, 1) := dk_42 (dk_at dksX0_moveReel_0 12 rfl rfl)
theorem dX0_moveReel_13 : decode cX0_moveReel 13 = .ok (.aload_n 3, 1) := dk_45 (dk_at dksX0_moveReel_0 13 rfl rfl)
theorem dX0_moveReel_14 : decode cX0_moveReel 14 = .ok (.aload_n 3, 1) := dk_45 (dk_at dksX0_moveReel_0 14 rfl rfl)
theorem dX0_moveReel_15 : decode cX0_moveReel 15 = .ok (.iload_n 1, 1) := dk_27 (dk_at dksX0_moveReel_0 15 rfl rfl)
theorem dX0_moveReel_16 : decode cX0_moveReel 16 = .ok (.iload_n 2, 1) := dk_28 (dk_at dksX0_moveReel_0 16 rfl rfl)
theorem dX0_moveReel_17 : decode cX0_moveReel 17 = .ok (.invokevirtual 73, 3) := dk_182 0 73 (dk_at dksX0_moveReel_0 17 rfl rfl)
theorem dX0_moveReel_20 : decode cX0_moveReel 20 = .ok (.invokevirtual 66, 3) := dk_182 0 66 (dk_at dksX0_moveReel_0 20 rfl rfl)
theorem dX0_moveReel_23 : decode cX0_moveReel 23 = .ok (.ireturn, 1) := dk_172 (dk_at dksX0_moveReel_0 23 rfl rfl)
theorem dX0_moveReel_24 : decode cX0_moveReel 24 = .ok (.astore 4, 2) := dk_58 4 (dk_at dksX0_moveReel_1 0 rfl rfl)
theorem dX0_moveReel_26 : decode cX0_moveReel 26 = .ok (.aload 4, 2) := dk_25 4 (dk_at dksX0_moveReel_1 2 rfl rfl)
theorem dX0_moveReel_28 : decode cX0_moveReel 28 = .ok (.invokevirtual 70, 3) := dk_182 0 70 (dk_at dksX0_moveReel_1 4 rfl rfl)
theorem dX0_moveReel_31 : decode cX0_moveReel 31 = .ok (.ireturn, 1) := dk_172 (dk_at dksX0_moveReel_1 7 rfl rfl)
abbrev cX0_moveGenerator : ByteArray := prog_1_method_11_code
def yX0_moveGenerator : MethodName := ⟨RX0, "moveGenerator", "(IZ)I"⟩
def dkwX0_moveGenerator_1 : List UInt8 := [58, 4, 25, 4, 182, 0, 70, 172]
abbrev dktX0_moveGenerator_1 : List UInt8 := dkwX0_moveGenerator_1 ++ []
def dkwX0_moveGenerator_0 : List UInt8 := [187, 0, 19, 89, 42, 180, 0, 22, 183, 0, 59, 78, 42, 45, 45, 27, 28, 182, 0, 77, 182, 0, 66, 172]
abbrev dktX0_moveGenerator_0 : List UInt8 := dkwX0_moveGenerator_0 ++ dktX0_moveGenerator_1
theorem dksX0_moveGenerator_0 : cX0_moveGenerator.data.toList.drop 0 = dktX0_moveGenerator_0 := by decide +kernel
theorem dksX0_moveGenerator_1 : cX0_moveGenerator.data.toList.drop 24 = dktX0_moveGenerator_1 := dk_seg dksX0_moveGenerator_0 24 rfl rfl
theorem dX0_moveGenerator_0 : decode cX0_moveGenerator 0 = .ok (.new 19, 3) := dk_187 0 19 (dk_at dksX0_moveGenerator_0 0 rfl rfl)
theorem dX0_moveGenerator_3 : decode cX0_moveGenerator 3 = .ok (.dup, 1) := dk_89 (dk_at dksX0_moveGenerator_0 3 rfl rfl)
theorem dX0_moveGenerator_4 : decode cX0_moveGenerator 4 = .ok (.aload_n 0, 1) := dk_42 (dk_at dksX0_moveGenerator_0 4 rfl rfl)
theorem dX0_moveGenerator_5 : decode cX0_moveGenerator 5 = .ok (.getfield 22, 3) := dk_180 0 22 (dk_at dksX0_moveGenerator_0 5 rfl rfl)
theorem dX0_moveGenerator_8 : decode cX0_moveGenerator 8 = .ok (.invokespecial 59, 3) := dk_183 0 59 (dk_at dksX0_moveGenerator_0 8 rfl rfl)
theorem dX0_moveGenerator_11 : decode cX0_moveGenerator 11 = .ok (.astore_n 3, 1) := dk_78 (dk_at dksX0_moveGenerator_0 11 rfl rfl)
theorem dX0_moveGenerator_12 : decode cX0_moveGenerator 12 = .ok (.aload_n 0, 1) := dk_42 (dk_at dksX0_moveGenerator_0 12 rfl rfl)
theorem dX0_moveGenerator_13 : decode cX0_moveGenerator 13 = .ok (.aload_n 3, 1) := dk_45 (dk_at dksX0_moveGenerator_0 13 rfl rfl)
theorem dX0_moveGenerator_14 : decode cX0_moveGenerator 14 = .ok (.aload_n 3, 1) := dk_45 (dk_at dksX0_moveGenerator_0 14 rfl rfl)
theorem dX0_moveGenerator_15 : decode cX0_moveGenerator 15 = .ok (.iload_n 1, 1) := dk_27 (dk_at dksX0_moveGenerator_0 15 rfl rfl)
theorem dX0_moveGenerator_16 : decode cX0_moveGenerator 16 = .ok (.iload_n 2, 1) := dk_28 (dk_at dksX0_moveGenerator_0 16 rfl rfl)
theorem dX0_moveGenerator_17 : decode cX0_moveGenerator 17 = .ok (.invokevirtual 77, 3) := dk_182 0 77 (dk_at dksX0_moveGenerator_0 17 rfl rfl)
theorem dX0_moveGenerator_20 : decode cX0_moveGenerator 20 = .ok (.invokevirtual 66, 3) := dk_182 0 66 (dk_at dksX0_moveGenerator_0 20 rfl rfl)
theorem dX0_moveGenerator_23 : decode cX0_moveGenerator 23 = .ok (.ireturn, 1) := dk_172 (dk_at dksX0_moveGenerator_0 23 rfl rfl)
theorem dX0_moveGenerator_24 : decode cX0_moveGenerator 24 = .ok (.astore 4, 2) := dk_58 4 (dk_at dksX0_moveGenerator_1 0 rfl rfl)
theorem dX0_moveGenerator_26 : decode cX0_moveGenerator 26 = .ok (.aload 4, 2) := dk_25 4 (dk_at dksX0_moveGenerator_1 2 rfl rfl)
theorem dX0_moveGenerator_28 : decode cX0_moveGenerator 28 = .ok (.invokevirtual 70, 3) := dk_182 0 70 (dk_at dksX0_moveGenerator_1 4 rfl rfl)
theorem dX0_moveGenerator_31 : decode cX0_moveGenerator 31 = .ok (.ireturn, 1) := dk_172 (dk_at dksX0_moveGenerator_1 7 rfl rfl)
abbrev cX0_fuel : ByteArray := prog_1_method_12_code
def yX0_fuel : MethodName := ⟨RX0, "fuel", "(II)I"⟩
def dkwX0_fuel_1 : List UInt8 := [58, 4, 25, 4, 182, 0, 70, 172]
abbrev dktX0_fuel_1 : List UInt8 := dkwX0_fuel_1 ++ []
def dkwX0_fuel_0 : List UInt8 := [187, 0, 19, 89, 42, 180, 0, 22, 183, 0, 59, 78, 42, 45, 45, 27, 28, 182, 0, 80, 182, 0, 66, 172]
abbrev dktX0_fuel_0 : List UInt8 := dkwX0_fuel_0 ++ dktX0_fuel_1
theorem dksX0_fuel_0 : cX0_fuel.data.toList.drop 0 = dktX0_fuel_0 := by decide +kernel
theorem dksX0_fuel_1 : cX0_fuel.data.toList.drop 24 = dktX0_fuel_1 := dk_seg dksX0_fuel_0 24 rfl rfl
theorem dX0_fuel_0 : decode cX0_fuel 0 = .ok (.new 19, 3) := dk_187 0 19 (dk_at dksX0_fuel_0 0 rfl rfl)
theorem dX0_fuel_3 : decode cX0_fuel 3 = .ok (.dup, 1) := dk_89 (dk_at dksX0_fuel_0 3 rfl rfl)
theorem dX0_fuel_4 : decode cX0_fuel 4 = .ok (.aload_n 0, 1) := dk_42 (dk_at dksX0_fuel_0 4 rfl rfl)
theorem dX0_fuel_5 : decode cX0_fuel 5 = .ok (.getfield 22, 3) := dk_180 0 22 (dk_at dksX0_fuel_0 5 rfl rfl)
theorem dX0_fuel_8 : decode cX0_fuel 8 = .ok (.invokespecial 59, 3) := dk_183 0 59 (dk_at dksX0_fuel_0 8 rfl rfl)
theorem dX0_fuel_11 : decode cX0_fuel 11 = .ok (.astore_n 3, 1) := dk_78 (dk_at dksX0_fuel_0 11 rfl rfl)
theorem dX0_fuel_12 : decode cX0_fuel 12 = .ok (.aload_n 0, 1) := dk_42 (dk_at dksX0_fuel_0 12 rfl rfl)
theorem dX0_fuel_13 : decode cX0_fuel 13 = .ok (.aload_n 3, 1) := dk_45 (dk_at dksX0_fuel_0 13 rfl rfl)
theorem dX0_fuel_14 : decode cX0_fuel 14 = .ok (.aload_n 3, 1) := dk_45 (dk_at dksX0_fuel_0 14 rfl rfl)
theorem dX0_fuel_15 : decode cX0_fuel 15 = .ok (.iload_n 1, 1) := dk_27 (dk_at dksX0_fuel_0 15 rfl rfl)
theorem dX0_fuel_16 : decode cX0_fuel 16 = .ok (.iload_n 2, 1) := dk_28 (dk_at dksX0_fuel_0 16 rfl rfl)
theorem dX0_fuel_17 : decode cX0_fuel 17 = .ok (.invokevirtual 80, 3) := dk_182 0 80 (dk_at dksX0_fuel_0 17 rfl rfl)
theorem dX0_fuel_20 : decode cX0_fuel 20 = .ok (.invokevirtual 66, 3) := dk_182 0 66 (dk_at dksX0_fuel_0 20 rfl rfl)
theorem dX0_fuel_23 : decode cX0_fuel 23 = .ok (.ireturn, 1) := dk_172 (dk_at dksX0_fuel_0 23 rfl rfl)
theorem dX0_fuel_24 : decode cX0_fuel 24 = .ok (.astore 4, 2) := dk_58 4 (dk_at dksX0_fuel_1 0 rfl rfl)
theorem dX0_fuel_26 : decode cX0_fuel 26 = .ok (.aload 4, 2) := dk_25 4 (dk_at dksX0_fuel_1 2 rfl rfl)
theorem dX0_fuel_28 : decode cX0_fuel 28 = .ok (.invokevirtual 70, 3) := dk_182 0 70 (dk_at dksX0_fuel_1 4 rfl rfl)
theorem dX0_fuel_31 : decode cX0_fuel 31 = .ok (.ireturn, 1) := dk_172 (dk_at dksX0_fuel_1 7 rfl rfl)
abbrev cX0_renew : ByteArray := prog_1_method_13_code
def yX0_renew : MethodName := ⟨RX0, "renew", "(I)I"⟩
def dkwX0_renew_1 : List UInt8 := [45, 182, 0, 70, 172]
abbrev dktX0_renew_1 : List UInt8 := dkwX0_renew_1 ++ []
def dkwX0_renew_0 : List UInt8 := [187, 0, 19, 89, 42, 180, 0, 22, 183, 0, 59, 77, 42, 44, 44, 27, 182, 0, 84, 182, 0, 66, 172, 78]
abbrev dktX0_renew_0 : List UInt8 := dkwX0_renew_0 ++ dktX0_renew_1
theorem dksX0_renew_0 : cX0_renew.data.toList.drop 0 = dktX0_renew_0 := by decide +kernel
theorem dksX0_renew_1 : cX0_renew.data.toList.drop 24 = dktX0_renew_1 := dk_seg dksX0_renew_0 24 rfl rfl
theorem dX0_renew_0 : decode cX0_renew 0 = .ok (.new 19, 3) := dk_187 0 19 (dk_at dksX0_renew_0 0 rfl rfl)
theorem dX0_renew_3 : decode cX0_renew 3 = .ok (.dup, 1) := dk_89 (dk_at dksX0_renew_0 3 rfl rfl)
theorem dX0_renew_4 : decode cX0_renew 4 = .ok (.aload_n 0, 1) := dk_42 (dk_at dksX0_renew_0 4 rfl rfl)
theorem dX0_renew_5 : decode cX0_renew 5 = .ok (.getfield 22, 3) := dk_180 0 22 (dk_at dksX0_renew_0 5 rfl rfl)
theorem dX0_renew_8 : decode cX0_renew 8 = .ok (.invokespecial 59, 3) := dk_183 0 59 (dk_at dksX0_renew_0 8 rfl rfl)
theorem dX0_renew_11 : decode cX0_renew 11 = .ok (.astore_n 2, 1) := dk_77 (dk_at dksX0_renew_0 11 rfl rfl)
theorem dX0_renew_12 : decode cX0_renew 12 = .ok (.aload_n 0, 1) := dk_42 (dk_at dksX0_renew_0 12 rfl rfl)
theorem dX0_renew_13 : decode cX0_renew 13 = .ok (.aload_n 2, 1) := dk_44 (dk_at dksX0_renew_0 13 rfl rfl)
theorem dX0_renew_14 : decode cX0_renew 14 = .ok (.aload_n 2, 1) := dk_44 (dk_at dksX0_renew_0 14 rfl rfl)
theorem dX0_renew_15 : decode cX0_renew 15 = .ok (.iload_n 1, 1) := dk_27 (dk_at dksX0_renew_0 15 rfl rfl)
theorem dX0_renew_16 : decode cX0_renew 16 = .ok (.invokevirtual 84, 3) := dk_182 0 84 (dk_at dksX0_renew_0 16 rfl rfl)
theorem dX0_renew_19 : decode cX0_renew 19 = .ok (.invokevirtual 66, 3) := dk_182 0 66 (dk_at dksX0_renew_0 19 rfl rfl)
theorem dX0_renew_22 : decode cX0_renew 22 = .ok (.ireturn, 1) := dk_172 (dk_at dksX0_renew_0 22 rfl rfl)
theorem dX0_renew_23 : decode cX0_renew 23 = .ok (.astore_n 3, 1) := dk_78 (dk_at dksX0_renew_0 23 rfl rfl)
theorem dX0_renew_24 : decode cX0_renew 24 = .ok (.aload_n 3, 1) := dk_45 (dk_at dksX0_renew_1 0 rfl rfl)
theorem dX0_renew_25 : decode cX0_renew 25 = .ok (.invokevirtual 70, 3) := dk_182 0 70 (dk_at dksX0_renew_1 1 rfl rfl)
theorem dX0_renew_28 : decode cX0_renew 28 = .ok (.ireturn, 1) := dk_172 (dk_at dksX0_renew_1 4 rfl rfl)
abbrev cX0_setPrice : ByteArray := prog_1_method_14_code
def yX0_setPrice : MethodName := ⟨RX0, "setPrice", "(I)I"⟩
def dkwX0_setPrice_2 : List UInt8 := [45, 28, 182, 0, 66, 172]
abbrev dktX0_setPrice_2 : List UInt8 := dkwX0_setPrice_2 ++ []
def dkwX0_setPrice_1 : List UInt8 := [160, 0, 6, 18, 40, 172, 187, 0, 19, 89, 42, 180, 0, 22, 183, 0, 59, 78, 45, 27, 181, 0, 87, 42]
abbrev dktX0_setPrice_1 : List UInt8 := dkwX0_setPrice_1 ++ dktX0_setPrice_2
def dkwX0_setPrice_0 : List UInt8 := [27, 4, 16, 99, 184, 0, 55, 154, 0, 6, 18, 3, 172, 42, 180, 0, 22, 180, 0, 87, 61, 28, 27]
abbrev dktX0_setPrice_0 : List UInt8 := dkwX0_setPrice_0 ++ dktX0_setPrice_1
theorem dksX0_setPrice_0 : cX0_setPrice.data.toList.drop 0 = dktX0_setPrice_0 := by decide +kernel
theorem dksX0_setPrice_1 : cX0_setPrice.data.toList.drop 23 = dktX0_setPrice_1 := dk_seg dksX0_setPrice_0 23 rfl rfl
theorem dksX0_setPrice_2 : cX0_setPrice.data.toList.drop 47 = dktX0_setPrice_2 := dk_seg dksX0_setPrice_1 24 rfl rfl
theorem dX0_setPrice_0 : decode cX0_setPrice 0 = .ok (.iload_n 1, 1) := dk_27 (dk_at dksX0_setPrice_0 0 rfl rfl)
theorem dX0_setPrice_1 : decode cX0_setPrice 1 = .ok (.iconst 1, 1) := dk_4 (dk_at dksX0_setPrice_0 1 rfl rfl)
theorem dX0_setPrice_2 : decode cX0_setPrice 2 = .ok (.bipush 99, 2) := dk_16 99 (dk_at dksX0_setPrice_0 2 rfl rfl)
theorem dX0_setPrice_4 : decode cX0_setPrice 4 = .ok (.invokestatic 55, 3) := dk_184 0 55 (dk_at dksX0_setPrice_0 4 rfl rfl)
theorem dX0_setPrice_7 : decode cX0_setPrice 7 = .ok (.ifCond .ne 6, 3) := dk_154 0 6 (dk_at dksX0_setPrice_0 7 rfl rfl)
theorem dX0_setPrice_10 : decode cX0_setPrice 10 = .ok (.ldc 3, 2) := dk_18 3 (dk_at dksX0_setPrice_0 10 rfl rfl)
theorem dX0_setPrice_12 : decode cX0_setPrice 12 = .ok (.ireturn, 1) := dk_172 (dk_at dksX0_setPrice_0 12 rfl rfl)
theorem dX0_setPrice_13 : decode cX0_setPrice 13 = .ok (.aload_n 0, 1) := dk_42 (dk_at dksX0_setPrice_0 13 rfl rfl)
theorem dX0_setPrice_14 : decode cX0_setPrice 14 = .ok (.getfield 22, 3) := dk_180 0 22 (dk_at dksX0_setPrice_0 14 rfl rfl)
theorem dX0_setPrice_17 : decode cX0_setPrice 17 = .ok (.getfield 87, 3) := dk_180 0 87 (dk_at dksX0_setPrice_0 17 rfl rfl)
theorem dX0_setPrice_20 : decode cX0_setPrice 20 = .ok (.istore_n 2, 1) := dk_61 (dk_at dksX0_setPrice_0 20 rfl rfl)
theorem dX0_setPrice_21 : decode cX0_setPrice 21 = .ok (.iload_n 2, 1) := dk_28 (dk_at dksX0_setPrice_0 21 rfl rfl)
theorem dX0_setPrice_22 : decode cX0_setPrice 22 = .ok (.iload_n 1, 1) := dk_27 (dk_at dksX0_setPrice_0 22 rfl rfl)
theorem dX0_setPrice_23 : decode cX0_setPrice 23 = .ok (.if_icmp .ne 6, 3) := dk_160 0 6 (dk_at dksX0_setPrice_1 0 rfl rfl)
theorem dX0_setPrice_26 : decode cX0_setPrice 26 = .ok (.ldc 40, 2) := dk_18 40 (dk_at dksX0_setPrice_1 3 rfl rfl)
theorem dX0_setPrice_28 : decode cX0_setPrice 28 = .ok (.ireturn, 1) := dk_172 (dk_at dksX0_setPrice_1 5 rfl rfl)
theorem dX0_setPrice_29 : decode cX0_setPrice 29 = .ok (.new 19, 3) := dk_187 0 19 (dk_at dksX0_setPrice_1 6 rfl rfl)
theorem dX0_setPrice_32 : decode cX0_setPrice 32 = .ok (.dup, 1) := dk_89 (dk_at dksX0_setPrice_1 9 rfl rfl)
theorem dX0_setPrice_33 : decode cX0_setPrice 33 = .ok (.aload_n 0, 1) := dk_42 (dk_at dksX0_setPrice_1 10 rfl rfl)
theorem dX0_setPrice_34 : decode cX0_setPrice 34 = .ok (.getfield 22, 3) := dk_180 0 22 (dk_at dksX0_setPrice_1 11 rfl rfl)
theorem dX0_setPrice_37 : decode cX0_setPrice 37 = .ok (.invokespecial 59, 3) := dk_183 0 59 (dk_at dksX0_setPrice_1 14 rfl rfl)
theorem dX0_setPrice_40 : decode cX0_setPrice 40 = .ok (.astore_n 3, 1) := dk_78 (dk_at dksX0_setPrice_1 17 rfl rfl)
theorem dX0_setPrice_41 : decode cX0_setPrice 41 = .ok (.aload_n 3, 1) := dk_45 (dk_at dksX0_setPrice_1 18 rfl rfl)
theorem dX0_setPrice_42 : decode cX0_setPrice 42 = .ok (.iload_n 1, 1) := dk_27 (dk_at dksX0_setPrice_1 19 rfl rfl)
theorem dX0_setPrice_43 : decode cX0_setPrice 43 = .ok (.putfield 87, 3) := dk_181 0 87 (dk_at dksX0_setPrice_1 20 rfl rfl)
theorem dX0_setPrice_46 : decode cX0_setPrice 46 = .ok (.aload_n 0, 1) := dk_42 (dk_at dksX0_setPrice_1 23 rfl rfl)
theorem dX0_setPrice_47 : decode cX0_setPrice 47 = .ok (.aload_n 3, 1) := dk_45 (dk_at dksX0_setPrice_2 0 rfl rfl)
theorem dX0_setPrice_48 : decode cX0_setPrice 48 = .ok (.iload_n 2, 1) := dk_28 (dk_at dksX0_setPrice_2 1 rfl rfl)
theorem dX0_setPrice_49 : decode cX0_setPrice 49 = .ok (.invokevirtual 66, 3) := dk_182 0 66 (dk_at dksX0_setPrice_2 2 rfl rfl)
theorem dX0_setPrice_52 : decode cX0_setPrice 52 = .ok (.ireturn, 1) := dk_172 (dk_at dksX0_setPrice_2 5 rfl rfl)
abbrev cX0_show : ByteArray := prog_1_method_15_code
def yX0_show : MethodName := ⟨RX0, "show", "(I)I"⟩
def dkwX0_show_1 : List UInt8 := [45, 182, 0, 96, 172]
abbrev dktX0_show_1 : List UInt8 := dkwX0_show_1 ++ []
def dkwX0_show_0 : List UInt8 := [187, 0, 19, 89, 42, 180, 0, 22, 183, 0, 59, 77, 42, 44, 44, 27, 182, 0, 91, 182, 0, 66, 172, 78]
abbrev dktX0_show_0 : List UInt8 := dkwX0_show_0 ++ dktX0_show_1
theorem dksX0_show_0 : cX0_show.data.toList.drop 0 = dktX0_show_0 := by decide +kernel
theorem dksX0_show_1 : cX0_show.data.toList.drop 24 = dktX0_show_1 := dk_seg dksX0_show_0 24 rfl rfl
theorem dX0_show_0 : decode cX0_show 0 = .ok (.new 19, 3) := dk_187 0 19 (dk_at dksX0_show_0 0 rfl rfl)
theorem dX0_show_3 : decode cX0_show 3 = .ok (.dup, 1) := dk_89 (dk_at dksX0_show_0 3 rfl rfl)
theorem dX0_show_4 : decode cX0_show 4 = .ok (.aload_n 0, 1) := dk_42 (dk_at dksX0_show_0 4 rfl rfl)
theorem dX0_show_5 : decode cX0_show 5 = .ok (.getfield 22, 3) := dk_180 0 22 (dk_at dksX0_show_0 5 rfl rfl)
theorem dX0_show_8 : decode cX0_show 8 = .ok (.invokespecial 59, 3) := dk_183 0 59 (dk_at dksX0_show_0 8 rfl rfl)
theorem dX0_show_11 : decode cX0_show 11 = .ok (.astore_n 2, 1) := dk_77 (dk_at dksX0_show_0 11 rfl rfl)
theorem dX0_show_12 : decode cX0_show 12 = .ok (.aload_n 0, 1) := dk_42 (dk_at dksX0_show_0 12 rfl rfl)
theorem dX0_show_13 : decode cX0_show 13 = .ok (.aload_n 2, 1) := dk_44 (dk_at dksX0_show_0 13 rfl rfl)
theorem dX0_show_14 : decode cX0_show 14 = .ok (.aload_n 2, 1) := dk_44 (dk_at dksX0_show_0 14 rfl rfl)
theorem dX0_show_15 : decode cX0_show 15 = .ok (.iload_n 1, 1) := dk_27 (dk_at dksX0_show_0 15 rfl rfl)
theorem dX0_show_16 : decode cX0_show 16 = .ok (.invokevirtual 91, 3) := dk_182 0 91 (dk_at dksX0_show_0 16 rfl rfl)
theorem dX0_show_19 : decode cX0_show 19 = .ok (.invokevirtual 66, 3) := dk_182 0 66 (dk_at dksX0_show_0 19 rfl rfl)
theorem dX0_show_22 : decode cX0_show 22 = .ok (.ireturn, 1) := dk_172 (dk_at dksX0_show_0 22 rfl rfl)
theorem dX0_show_23 : decode cX0_show 23 = .ok (.astore_n 3, 1) := dk_78 (dk_at dksX0_show_0 23 rfl rfl)
theorem dX0_show_24 : decode cX0_show 24 = .ok (.aload_n 3, 1) := dk_45 (dk_at dksX0_show_1 0 rfl rfl)
theorem dX0_show_25 : decode cX0_show 25 = .ok (.invokevirtual 96, 3) := dk_182 0 96 (dk_at dksX0_show_1 1 rfl rfl)
theorem dX0_show_28 : decode cX0_show 28 = .ok (.ireturn, 1) := dk_172 (dk_at dksX0_show_1 4 rfl rfl)
abbrev cX0_seatsOf : ByteArray := prog_1_method_4_code
def yX0_seatsOf : MethodName := ⟨RX0, "seatsOf", "(I)I"⟩
def dkwX0_seatsOf_1 : List UInt8 := [89, 7, 16, 30, 79, 184, 0, 4, 172]
abbrev dktX0_seatsOf_1 : List UInt8 := dkwX0_seatsOf_1 ++ []
def dkwX0_seatsOf_0 : List UInt8 := [26, 8, 188, 10, 89, 3, 16, 40, 79, 89, 4, 16, 60, 79, 89, 5, 16, 80, 79, 89, 6, 16, 50, 79]
abbrev dktX0_seatsOf_0 : List UInt8 := dkwX0_seatsOf_0 ++ dktX0_seatsOf_1
theorem dksX0_seatsOf_0 : cX0_seatsOf.data.toList.drop 0 = dktX0_seatsOf_0 := by decide +kernel
theorem dksX0_seatsOf_1 : cX0_seatsOf.data.toList.drop 24 = dktX0_seatsOf_1 := dk_seg dksX0_seatsOf_0 24 rfl rfl
theorem dX0_seatsOf_0 : decode cX0_seatsOf 0 = .ok (.iload_n 0, 1) := dk_26 (dk_at dksX0_seatsOf_0 0 rfl rfl)
theorem dX0_seatsOf_1 : decode cX0_seatsOf 1 = .ok (.iconst 5, 1) := dk_8 (dk_at dksX0_seatsOf_0 1 rfl rfl)
theorem dX0_seatsOf_2 : decode cX0_seatsOf 2 = .ok (.newarray .int, 2) := dk_188_10 (dk_at dksX0_seatsOf_0 2 rfl rfl)
theorem dX0_seatsOf_4 : decode cX0_seatsOf 4 = .ok (.dup, 1) := dk_89 (dk_at dksX0_seatsOf_0 4 rfl rfl)
theorem dX0_seatsOf_5 : decode cX0_seatsOf 5 = .ok (.iconst 0, 1) := dk_3 (dk_at dksX0_seatsOf_0 5 rfl rfl)
theorem dX0_seatsOf_6 : decode cX0_seatsOf 6 = .ok (.bipush 40, 2) := dk_16 40 (dk_at dksX0_seatsOf_0 6 rfl rfl)
theorem dX0_seatsOf_8 : decode cX0_seatsOf 8 = .ok (.iastore, 1) := dk_79 (dk_at dksX0_seatsOf_0 8 rfl rfl)
theorem dX0_seatsOf_9 : decode cX0_seatsOf 9 = .ok (.dup, 1) := dk_89 (dk_at dksX0_seatsOf_0 9 rfl rfl)
theorem dX0_seatsOf_10 : decode cX0_seatsOf 10 = .ok (.iconst 1, 1) := dk_4 (dk_at dksX0_seatsOf_0 10 rfl rfl)
theorem dX0_seatsOf_11 : decode cX0_seatsOf 11 = .ok (.bipush 60, 2) := dk_16 60 (dk_at dksX0_seatsOf_0 11 rfl rfl)
theorem dX0_seatsOf_13 : decode cX0_seatsOf 13 = .ok (.iastore, 1) := dk_79 (dk_at dksX0_seatsOf_0 13 rfl rfl)
theorem dX0_seatsOf_14 : decode cX0_seatsOf 14 = .ok (.dup, 1) := dk_89 (dk_at dksX0_seatsOf_0 14 rfl rfl)
theorem dX0_seatsOf_15 : decode cX0_seatsOf 15 = .ok (.iconst 2, 1) := dk_5 (dk_at dksX0_seatsOf_0 15 rfl rfl)
theorem dX0_seatsOf_16 : decode cX0_seatsOf 16 = .ok (.bipush 80, 2) := dk_16 80 (dk_at dksX0_seatsOf_0 16 rfl rfl)
theorem dX0_seatsOf_18 : decode cX0_seatsOf 18 = .ok (.iastore, 1) := dk_79 (dk_at dksX0_seatsOf_0 18 rfl rfl)
theorem dX0_seatsOf_19 : decode cX0_seatsOf 19 = .ok (.dup, 1) := dk_89 (dk_at dksX0_seatsOf_0 19 rfl rfl)
theorem dX0_seatsOf_20 : decode cX0_seatsOf 20 = .ok (.iconst 3, 1) := dk_6 (dk_at dksX0_seatsOf_0 20 rfl rfl)
theorem dX0_seatsOf_21 : decode cX0_seatsOf 21 = .ok (.bipush 50, 2) := dk_16 50 (dk_at dksX0_seatsOf_0 21 rfl rfl)
theorem dX0_seatsOf_23 : decode cX0_seatsOf 23 = .ok (.iastore, 1) := dk_79 (dk_at dksX0_seatsOf_0 23 rfl rfl)
theorem dX0_seatsOf_24 : decode cX0_seatsOf 24 = .ok (.dup, 1) := dk_89 (dk_at dksX0_seatsOf_1 0 rfl rfl)
theorem dX0_seatsOf_25 : decode cX0_seatsOf 25 = .ok (.iconst 4, 1) := dk_7 (dk_at dksX0_seatsOf_1 1 rfl rfl)
theorem dX0_seatsOf_26 : decode cX0_seatsOf 26 = .ok (.bipush 30, 2) := dk_16 30 (dk_at dksX0_seatsOf_1 2 rfl rfl)
theorem dX0_seatsOf_28 : decode cX0_seatsOf 28 = .ok (.iastore, 1) := dk_79 (dk_at dksX0_seatsOf_1 4 rfl rfl)
theorem dX0_seatsOf_29 : decode cX0_seatsOf 29 = .ok (.invokestatic 4, 3) := dk_184 0 4 (dk_at dksX0_seatsOf_1 5 rfl rfl)
theorem dX0_seatsOf_32 : decode cX0_seatsOf 32 = .ok (.ireturn, 1) := dk_172 (dk_at dksX0_seatsOf_1 8 rfl rfl)
abbrev cX0_nextDay : ByteArray := prog_1_method_16_code
def yX0_nextDay : MethodName := ⟨RX0, "nextDay", "()I"⟩
def dkwX0_nextDay_1 : List UInt8 := [182, 0, 70, 172]
abbrev dktX0_nextDay_1 : List UInt8 := dkwX0_nextDay_1 ++ []
def dkwX0_nextDay_0 : List UInt8 := [187, 0, 19, 89, 42, 180, 0, 22, 183, 0, 59, 76, 42, 43, 43, 182, 0, 99, 182, 0, 66, 172, 77, 44]
abbrev dktX0_nextDay_0 : List UInt8 := dkwX0_nextDay_0 ++ dktX0_nextDay_1
theorem dksX0_nextDay_0 : cX0_nextDay.data.toList.drop 0 = dktX0_nextDay_0 := by decide +kernel
theorem dksX0_nextDay_1 : cX0_nextDay.data.toList.drop 24 = dktX0_nextDay_1 := dk_seg dksX0_nextDay_0 24 rfl rfl
theorem dX0_nextDay_0 : decode cX0_nextDay 0 = .ok (.new 19, 3) := dk_187 0 19 (dk_at dksX0_nextDay_0 0 rfl rfl)
theorem dX0_nextDay_3 : decode cX0_nextDay 3 = .ok (.dup, 1) := dk_89 (dk_at dksX0_nextDay_0 3 rfl rfl)
theorem dX0_nextDay_4 : decode cX0_nextDay 4 = .ok (.aload_n 0, 1) := dk_42 (dk_at dksX0_nextDay_0 4 rfl rfl)
theorem dX0_nextDay_5 : decode cX0_nextDay 5 = .ok (.getfield 22, 3) := dk_180 0 22 (dk_at dksX0_nextDay_0 5 rfl rfl)
theorem dX0_nextDay_8 : decode cX0_nextDay 8 = .ok (.invokespecial 59, 3) := dk_183 0 59 (dk_at dksX0_nextDay_0 8 rfl rfl)
theorem dX0_nextDay_11 : decode cX0_nextDay 11 = .ok (.astore_n 1, 1) := dk_76 (dk_at dksX0_nextDay_0 11 rfl rfl)
theorem dX0_nextDay_12 : decode cX0_nextDay 12 = .ok (.aload_n 0, 1) := dk_42 (dk_at dksX0_nextDay_0 12 rfl rfl)
theorem dX0_nextDay_13 : decode cX0_nextDay 13 = .ok (.aload_n 1, 1) := dk_43 (dk_at dksX0_nextDay_0 13 rfl rfl)
theorem dX0_nextDay_14 : decode cX0_nextDay 14 = .ok (.aload_n 1, 1) := dk_43 (dk_at dksX0_nextDay_0 14 rfl rfl)
theorem dX0_nextDay_15 : decode cX0_nextDay 15 = .ok (.invokevirtual 99, 3) := dk_182 0 99 (dk_at dksX0_nextDay_0 15 rfl rfl)
theorem dX0_nextDay_18 : decode cX0_nextDay 18 = .ok (.invokevirtual 66, 3) := dk_182 0 66 (dk_at dksX0_nextDay_0 18 rfl rfl)
theorem dX0_nextDay_21 : decode cX0_nextDay 21 = .ok (.ireturn, 1) := dk_172 (dk_at dksX0_nextDay_0 21 rfl rfl)
theorem dX0_nextDay_22 : decode cX0_nextDay 22 = .ok (.astore_n 2, 1) := dk_77 (dk_at dksX0_nextDay_0 22 rfl rfl)
theorem dX0_nextDay_23 : decode cX0_nextDay 23 = .ok (.aload_n 2, 1) := dk_44 (dk_at dksX0_nextDay_0 23 rfl rfl)
theorem dX0_nextDay_24 : decode cX0_nextDay 24 = .ok (.invokevirtual 70, 3) := dk_182 0 70 (dk_at dksX0_nextDay_1 0 rfl rfl)
theorem dX0_nextDay_27 : decode cX0_nextDay 27 = .ok (.ireturn, 1) := dk_172 (dk_at dksX0_nextDay_1 3 rfl rfl)
abbrev cX0_type : ByteArray := prog_1_method_17_code
def yX0_type : MethodName := ⟨RX0, "type", "(C)I"⟩
def dkwX0_type_1 : List UInt8 := [42, 180, 0, 36, 182, 0, 102, 172]
abbrev dktX0_type_1 : List UInt8 := dkwX0_type_1 ++ []
def dkwX0_type_0 : List UInt8 := [42, 180, 0, 36, 182, 0, 102, 16, 80, 160, 0, 6, 18, 105, 172, 42, 180, 0, 36, 27, 182, 0, 106, 87]
abbrev dktX0_type_0 : List UInt8 := dkwX0_type_0 ++ dktX0_type_1
theorem dksX0_type_0 : cX0_type.data.toList.drop 0 = dktX0_type_0 := by decide +kernel
theorem dksX0_type_1 : cX0_type.data.toList.drop 24 = dktX0_type_1 := dk_seg dksX0_type_0 24 rfl rfl
theorem dX0_type_0 : decode cX0_type 0 = .ok (.aload_n 0, 1) := dk_42 (dk_at dksX0_type_0 0 rfl rfl)
theorem dX0_type_1 : decode cX0_type 1 = .ok (.getfield 36, 3) := dk_180 0 36 (dk_at dksX0_type_0 1 rfl rfl)
theorem dX0_type_4 : decode cX0_type 4 = .ok (.invokevirtual 102, 3) := dk_182 0 102 (dk_at dksX0_type_0 4 rfl rfl)
theorem dX0_type_7 : decode cX0_type 7 = .ok (.bipush 80, 2) := dk_16 80 (dk_at dksX0_type_0 7 rfl rfl)
theorem dX0_type_9 : decode cX0_type 9 = .ok (.if_icmp .ne 6, 3) := dk_160 0 6 (dk_at dksX0_type_0 9 rfl rfl)
theorem dX0_type_12 : decode cX0_type 12 = .ok (.ldc 105, 2) := dk_18 105 (dk_at dksX0_type_0 12 rfl rfl)
theorem dX0_type_14 : decode cX0_type 14 = .ok (.ireturn, 1) := dk_172 (dk_at dksX0_type_0 14 rfl rfl)
theorem dX0_type_15 : decode cX0_type 15 = .ok (.aload_n 0, 1) := dk_42 (dk_at dksX0_type_0 15 rfl rfl)
theorem dX0_type_16 : decode cX0_type 16 = .ok (.getfield 36, 3) := dk_180 0 36 (dk_at dksX0_type_0 16 rfl rfl)
theorem dX0_type_19 : decode cX0_type 19 = .ok (.iload_n 1, 1) := dk_27 (dk_at dksX0_type_0 19 rfl rfl)
theorem dX0_type_20 : decode cX0_type 20 = .ok (.invokevirtual 106, 3) := dk_182 0 106 (dk_at dksX0_type_0 20 rfl rfl)
theorem dX0_type_23 : decode cX0_type 23 = .ok (.pop, 1) := dk_87 (dk_at dksX0_type_0 23 rfl rfl)
theorem dX0_type_24 : decode cX0_type 24 = .ok (.aload_n 0, 1) := dk_42 (dk_at dksX0_type_1 0 rfl rfl)
theorem dX0_type_25 : decode cX0_type 25 = .ok (.getfield 36, 3) := dk_180 0 36 (dk_at dksX0_type_1 1 rfl rfl)
theorem dX0_type_28 : decode cX0_type 28 = .ok (.invokevirtual 102, 3) := dk_182 0 102 (dk_at dksX0_type_1 4 rfl rfl)
theorem dX0_type_31 : decode cX0_type 31 = .ok (.ireturn, 1) := dk_172 (dk_at dksX0_type_1 7 rfl rfl)
abbrev cX0_clearText : ByteArray := prog_1_method_18_code
def yX0_clearText : MethodName := ⟨RX0, "clearText", "()I"⟩
def dkwX0_clearText_0 : List UInt8 := [42, 180, 0, 36, 182, 0, 102, 60, 42, 180, 0, 36, 3, 182, 0, 110, 27, 172]
abbrev dktX0_clearText_0 : List UInt8 := dkwX0_clearText_0 ++ []
theorem dksX0_clearText_0 : cX0_clearText.data.toList.drop 0 = dktX0_clearText_0 := by decide +kernel
theorem dX0_clearText_0 : decode cX0_clearText 0 = .ok (.aload_n 0, 1) := dk_42 (dk_at dksX0_clearText_0 0 rfl rfl)
theorem dX0_clearText_1 : decode cX0_clearText 1 = .ok (.getfield 36, 3) := dk_180 0 36 (dk_at dksX0_clearText_0 1 rfl rfl)
theorem dX0_clearText_4 : decode cX0_clearText 4 = .ok (.invokevirtual 102, 3) := dk_182 0 102 (dk_at dksX0_clearText_0 4 rfl rfl)
theorem dX0_clearText_7 : decode cX0_clearText 7 = .ok (.istore_n 1, 1) := dk_60 (dk_at dksX0_clearText_0 7 rfl rfl)
theorem dX0_clearText_8 : decode cX0_clearText 8 = .ok (.aload_n 0, 1) := dk_42 (dk_at dksX0_clearText_0 8 rfl rfl)
theorem dX0_clearText_9 : decode cX0_clearText 9 = .ok (.getfield 36, 3) := dk_180 0 36 (dk_at dksX0_clearText_0 9 rfl rfl)
theorem dX0_clearText_12 : decode cX0_clearText 12 = .ok (.iconst 0, 1) := dk_3 (dk_at dksX0_clearText_0 12 rfl rfl)
theorem dX0_clearText_13 : decode cX0_clearText 13 = .ok (.invokevirtual 110, 3) := dk_182 0 110 (dk_at dksX0_clearText_0 13 rfl rfl)
theorem dX0_clearText_16 : decode cX0_clearText 16 = .ok (.iload_n 1, 1) := dk_27 (dk_at dksX0_clearText_0 16 rfl rfl)
theorem dX0_clearText_17 : decode cX0_clearText 17 = .ok (.ireturn, 1) := dk_172 (dk_at dksX0_clearText_0 17 rfl rfl)
abbrev cX0_perform : ByteArray := prog_1_method_19_code
def yX0_perform : MethodName := ⟨RX0, "perform", "()I"⟩
def dkwX0_perform_4 : List UInt8 := [181, 0, 141, 18, 145, 172]
abbrev dktX0_perform_4 : List UInt8 := dkwX0_perform_4 ++ []
def dkwX0_perform_3 : List UInt8 := [180, 0, 121, 185, 0, 41, 1, 0, 182, 0, 66, 172, 78, 18, 135, 45, 180, 0, 136, 100, 172, 78, 42, 45]
abbrev dktX0_perform_3 : List UInt8 := dkwX0_perform_3 ++ dktX0_perform_4
def dkwX0_perform_2 : List UInt8 := [185, 0, 124, 2, 0, 192, 0, 127, 44, 29, 182, 0, 129, 132, 3, 1, 167, 255, 222, 42, 44, 43]
abbrev dktX0_perform_2 : List UInt8 := dkwX0_perform_2 ++ dktX0_perform_3
def dkwX0_perform_1 : List UInt8 := [43, 182, 0, 118, 3, 62, 29, 43, 180, 0, 121, 185, 0, 41, 1, 0, 162, 0, 27, 43, 180, 0, 121, 29]
abbrev dktX0_perform_1 : List UInt8 := dkwX0_perform_1 ++ dktX0_perform_2
def dkwX0_perform_0 : List UInt8 := [187, 0, 113, 89, 42, 180, 0, 36, 183, 0, 115, 76, 187, 0, 19, 89, 42, 180, 0, 22, 183, 0, 59, 77]
abbrev dktX0_perform_0 : List UInt8 := dkwX0_perform_0 ++ dktX0_perform_1
theorem dksX0_perform_0 : cX0_perform.data.toList.drop 0 = dktX0_perform_0 := by decide +kernel
theorem dksX0_perform_1 : cX0_perform.data.toList.drop 24 = dktX0_perform_1 := dk_seg dksX0_perform_0 24 rfl rfl
theorem dksX0_perform_2 : cX0_perform.data.toList.drop 48 = dktX0_perform_2 := dk_seg dksX0_perform_1 24 rfl rfl
theorem dksX0_perform_3 : cX0_perform.data.toList.drop 70 = dktX0_perform_3 := dk_seg dksX0_perform_2 22 rfl rfl
theorem dksX0_perform_4 : cX0_perform.data.toList.drop 94 = dktX0_perform_4 := dk_seg dksX0_perform_3 24 rfl rfl
theorem dX0_perform_0 : decode cX0_perform 0 = .ok (.new 113, 3) := dk_187 0 113 (dk_at dksX0_perform_0 0 rfl rfl)
theorem dX0_perform_3 : decode cX0_perform 3 = .ok (.dup, 1) := dk_89 (dk_at dksX0_perform_0 3 rfl rfl)
theorem dX0_perform_4 : decode cX0_perform 4 = .ok (.aload_n 0, 1) := dk_42 (dk_at dksX0_perform_0 4 rfl rfl)
theorem dX0_perform_5 : decode cX0_perform 5 = .ok (.getfield 36, 3) := dk_180 0 36 (dk_at dksX0_perform_0 5 rfl rfl)
theorem dX0_perform_8 : decode cX0_perform 8 = .ok (.invokespecial 115, 3) := dk_183 0 115 (dk_at dksX0_perform_0 8 rfl rfl)
theorem dX0_perform_11 : decode cX0_perform 11 = .ok (.astore_n 1, 1) := dk_76 (dk_at dksX0_perform_0 11 rfl rfl)
theorem dX0_perform_12 : decode cX0_perform 12 = .ok (.new 19, 3) := dk_187 0 19 (dk_at dksX0_perform_0 12 rfl rfl)
theorem dX0_perform_15 : decode cX0_perform 15 = .ok (.dup, 1) := dk_89 (dk_at dksX0_perform_0 15 rfl rfl)
theorem dX0_perform_16 : decode cX0_perform 16 = .ok (.aload_n 0, 1) := dk_42 (dk_at dksX0_perform_0 16 rfl rfl)
theorem dX0_perform_17 : decode cX0_perform 17 = .ok (.getfield 22, 3) := dk_180 0 22 (dk_at dksX0_perform_0 17 rfl rfl)
theorem dX0_perform_20 : decode cX0_perform 20 = .ok (.invokespecial 59, 3) := dk_183 0 59 (dk_at dksX0_perform_0 20 rfl rfl)
theorem dX0_perform_23 : decode cX0_perform 23 = .ok (.astore_n 2, 1) := dk_77 (dk_at dksX0_perform_0 23 rfl rfl)
theorem dX0_perform_24 : decode cX0_perform 24 = .ok (.aload_n 1, 1) := dk_43 (dk_at dksX0_perform_1 0 rfl rfl)
theorem dX0_perform_25 : decode cX0_perform 25 = .ok (.invokevirtual 118, 3) := dk_182 0 118 (dk_at dksX0_perform_1 1 rfl rfl)
theorem dX0_perform_28 : decode cX0_perform 28 = .ok (.iconst 0, 1) := dk_3 (dk_at dksX0_perform_1 4 rfl rfl)
theorem dX0_perform_29 : decode cX0_perform 29 = .ok (.istore_n 3, 1) := dk_62 (dk_at dksX0_perform_1 5 rfl rfl)
theorem dX0_perform_30 : decode cX0_perform 30 = .ok (.iload_n 3, 1) := dk_29 (dk_at dksX0_perform_1 6 rfl rfl)
theorem dX0_perform_31 : decode cX0_perform 31 = .ok (.aload_n 1, 1) := dk_43 (dk_at dksX0_perform_1 7 rfl rfl)
theorem dX0_perform_32 : decode cX0_perform 32 = .ok (.getfield 121, 3) := dk_180 0 121 (dk_at dksX0_perform_1 8 rfl rfl)
theorem dX0_perform_35 : decode cX0_perform 35 = .ok (.invokeinterface 41 1, 5) := by decide +kernel
theorem dX0_perform_40 : decode cX0_perform 40 = .ok (.if_icmp .ge 27, 3) := dk_162 0 27 (dk_at dksX0_perform_1 16 rfl rfl)
theorem dX0_perform_43 : decode cX0_perform 43 = .ok (.aload_n 1, 1) := dk_43 (dk_at dksX0_perform_1 19 rfl rfl)
theorem dX0_perform_44 : decode cX0_perform 44 = .ok (.getfield 121, 3) := dk_180 0 121 (dk_at dksX0_perform_1 20 rfl rfl)
theorem dX0_perform_47 : decode cX0_perform 47 = .ok (.iload_n 3, 1) := dk_29 (dk_at dksX0_perform_1 23 rfl rfl)
theorem dX0_perform_48 : decode cX0_perform 48 = .ok (.invokeinterface 124 2, 5) := by decide +kernel
theorem dX0_perform_53 : decode cX0_perform 53 = .ok (.checkcast 127, 3) := dk_192 0 127 (dk_at dksX0_perform_2 5 rfl rfl)
theorem dX0_perform_56 : decode cX0_perform 56 = .ok (.aload_n 2, 1) := dk_44 (dk_at dksX0_perform_2 8 rfl rfl)
theorem dX0_perform_57 : decode cX0_perform 57 = .ok (.iload_n 3, 1) := dk_29 (dk_at dksX0_perform_2 9 rfl rfl)
theorem dX0_perform_58 : decode cX0_perform 58 = .ok (.invokevirtual 129, 3) := dk_182 0 129 (dk_at dksX0_perform_2 10 rfl rfl)
theorem dX0_perform_61 : decode cX0_perform 61 = .ok (.iinc 3 1, 3) := dk_132 3 1 (dk_at dksX0_perform_2 13 rfl rfl)
theorem dX0_perform_64 : decode cX0_perform 64 = .ok (.goto (-34), 3) := dk_167 255 222 (dk_at dksX0_perform_2 16 rfl rfl)
theorem dX0_perform_67 : decode cX0_perform 67 = .ok (.aload_n 0, 1) := dk_42 (dk_at dksX0_perform_2 19 rfl rfl)
theorem dX0_perform_68 : decode cX0_perform 68 = .ok (.aload_n 2, 1) := dk_44 (dk_at dksX0_perform_2 20 rfl rfl)
theorem dX0_perform_69 : decode cX0_perform 69 = .ok (.aload_n 1, 1) := dk_43 (dk_at dksX0_perform_2 21 rfl rfl)
theorem dX0_perform_70 : decode cX0_perform 70 = .ok (.getfield 121, 3) := dk_180 0 121 (dk_at dksX0_perform_3 0 rfl rfl)
theorem dX0_perform_73 : decode cX0_perform 73 = .ok (.invokeinterface 41 1, 5) := by decide +kernel
theorem dX0_perform_78 : decode cX0_perform 78 = .ok (.invokevirtual 66, 3) := dk_182 0 66 (dk_at dksX0_perform_3 8 rfl rfl)
theorem dX0_perform_81 : decode cX0_perform 81 = .ok (.ireturn, 1) := dk_172 (dk_at dksX0_perform_3 11 rfl rfl)
theorem dX0_perform_82 : decode cX0_perform 82 = .ok (.astore_n 3, 1) := dk_78 (dk_at dksX0_perform_3 12 rfl rfl)
theorem dX0_perform_83 : decode cX0_perform 83 = .ok (.ldc 135, 2) := dk_18 135 (dk_at dksX0_perform_3 13 rfl rfl)
theorem dX0_perform_85 : decode cX0_perform 85 = .ok (.aload_n 3, 1) := dk_45 (dk_at dksX0_perform_3 15 rfl rfl)
theorem dX0_perform_86 : decode cX0_perform 86 = .ok (.getfield 136, 3) := dk_180 0 136 (dk_at dksX0_perform_3 16 rfl rfl)
theorem dX0_perform_89 : decode cX0_perform 89 = .ok (.isub, 1) := dk_100 (dk_at dksX0_perform_3 19 rfl rfl)
theorem dX0_perform_90 : decode cX0_perform 90 = .ok (.ireturn, 1) := dk_172 (dk_at dksX0_perform_3 20 rfl rfl)
theorem dX0_perform_91 : decode cX0_perform 91 = .ok (.astore_n 3, 1) := dk_78 (dk_at dksX0_perform_3 21 rfl rfl)
theorem dX0_perform_92 : decode cX0_perform 92 = .ok (.aload_n 0, 1) := dk_42 (dk_at dksX0_perform_3 22 rfl rfl)
theorem dX0_perform_93 : decode cX0_perform 93 = .ok (.aload_n 3, 1) := dk_45 (dk_at dksX0_perform_3 23 rfl rfl)
theorem dX0_perform_94 : decode cX0_perform 94 = .ok (.putfield 141, 3) := dk_181 0 141 (dk_at dksX0_perform_4 0 rfl rfl)
theorem dX0_perform_97 : decode cX0_perform 97 = .ok (.ldc 145, 2) := dk_18 145 (dk_at dksX0_perform_4 3 rfl rfl)
theorem dX0_perform_99 : decode cX0_perform 99 = .ok (.ireturn, 1) := dk_172 (dk_at dksX0_perform_4 5 rfl rfl)
abbrev cX0_stopped : ByteArray := prog_1_method_20_code
def yX0_stopped : MethodName := ⟨RX0, "stopped", "(I)I"⟩
def dkwX0_stopped_1 : List UInt8 := [42, 180, 0, 141, 27, 182, 0, 146, 172]
abbrev dktX0_stopped_1 : List UInt8 := dkwX0_stopped_1 ++ []
def dkwX0_stopped_0 : List UInt8 := [27, 3, 4, 184, 0, 55, 154, 0, 6, 18, 3, 172, 42, 180, 0, 141, 199, 0, 8, 18, 40, 167, 0, 11]
abbrev dktX0_stopped_0 : List UInt8 := dkwX0_stopped_0 ++ dktX0_stopped_1
theorem dksX0_stopped_0 : cX0_stopped.data.toList.drop 0 = dktX0_stopped_0 := by decide +kernel
theorem dksX0_stopped_1 : cX0_stopped.data.toList.drop 24 = dktX0_stopped_1 := dk_seg dksX0_stopped_0 24 rfl rfl
theorem dX0_stopped_0 : decode cX0_stopped 0 = .ok (.iload_n 1, 1) := dk_27 (dk_at dksX0_stopped_0 0 rfl rfl)
theorem dX0_stopped_1 : decode cX0_stopped 1 = .ok (.iconst 0, 1) := dk_3 (dk_at dksX0_stopped_0 1 rfl rfl)
theorem dX0_stopped_2 : decode cX0_stopped 2 = .ok (.iconst 1, 1) := dk_4 (dk_at dksX0_stopped_0 2 rfl rfl)
theorem dX0_stopped_3 : decode cX0_stopped 3 = .ok (.invokestatic 55, 3) := dk_184 0 55 (dk_at dksX0_stopped_0 3 rfl rfl)
theorem dX0_stopped_6 : decode cX0_stopped 6 = .ok (.ifCond .ne 6, 3) := dk_154 0 6 (dk_at dksX0_stopped_0 6 rfl rfl)
theorem dX0_stopped_9 : decode cX0_stopped 9 = .ok (.ldc 3, 2) := dk_18 3 (dk_at dksX0_stopped_0 9 rfl rfl)
theorem dX0_stopped_11 : decode cX0_stopped 11 = .ok (.ireturn, 1) := dk_172 (dk_at dksX0_stopped_0 11 rfl rfl)
theorem dX0_stopped_12 : decode cX0_stopped 12 = .ok (.aload_n 0, 1) := dk_42 (dk_at dksX0_stopped_0 12 rfl rfl)
theorem dX0_stopped_13 : decode cX0_stopped 13 = .ok (.getfield 141, 3) := dk_180 0 141 (dk_at dksX0_stopped_0 13 rfl rfl)
theorem dX0_stopped_16 : decode cX0_stopped 16 = .ok (.ifnonnull 8, 3) := dk_199 0 8 (dk_at dksX0_stopped_0 16 rfl rfl)
theorem dX0_stopped_19 : decode cX0_stopped 19 = .ok (.ldc 40, 2) := dk_18 40 (dk_at dksX0_stopped_0 19 rfl rfl)
theorem dX0_stopped_21 : decode cX0_stopped 21 = .ok (.goto 11, 3) := dk_167 0 11 (dk_at dksX0_stopped_0 21 rfl rfl)
theorem dX0_stopped_24 : decode cX0_stopped 24 = .ok (.aload_n 0, 1) := dk_42 (dk_at dksX0_stopped_1 0 rfl rfl)
theorem dX0_stopped_25 : decode cX0_stopped 25 = .ok (.getfield 141, 3) := dk_180 0 141 (dk_at dksX0_stopped_1 1 rfl rfl)
theorem dX0_stopped_28 : decode cX0_stopped 28 = .ok (.iload_n 1, 1) := dk_27 (dk_at dksX0_stopped_1 4 rfl rfl)
theorem dX0_stopped_29 : decode cX0_stopped 29 = .ok (.invokevirtual 146, 3) := dk_182 0 146 (dk_at dksX0_stopped_1 5 rfl rfl)
theorem dX0_stopped_32 : decode cX0_stopped 32 = .ok (.ireturn, 1) := dk_172 (dk_at dksX0_stopped_1 8 rfl rfl)
abbrev cX0_undo : ByteArray := prog_1_method_21_code
def yX0_undo : MethodName := ⟨RX0, "undo", "()I"⟩
def dkwX0_undo_2 : List UInt8 := [185, 0, 41, 1, 0, 172]
abbrev dktX0_undo_2 : List UInt8 := dkwX0_undo_2 ++ []
def dkwX0_undo_1 : List UInt8 := [185, 0, 41, 1, 0, 4, 100, 185, 0, 47, 2, 0, 192, 0, 19, 181, 0, 22, 42, 180, 0, 29]
abbrev dktX0_undo_1 : List UInt8 := dkwX0_undo_1 ++ dktX0_undo_2
def dkwX0_undo_0 : List UInt8 := [42, 180, 0, 29, 185, 0, 149, 1, 0, 153, 0, 6, 18, 40, 172, 42, 42, 180, 0, 29, 42, 180, 0, 29]
abbrev dktX0_undo_0 : List UInt8 := dkwX0_undo_0 ++ dktX0_undo_1
theorem dksX0_undo_0 : cX0_undo.data.toList.drop 0 = dktX0_undo_0 := by decide +kernel
theorem dksX0_undo_1 : cX0_undo.data.toList.drop 24 = dktX0_undo_1 := dk_seg dksX0_undo_0 24 rfl rfl
theorem dksX0_undo_2 : cX0_undo.data.toList.drop 46 = dktX0_undo_2 := dk_seg dksX0_undo_1 22 rfl rfl
theorem dX0_undo_0 : decode cX0_undo 0 = .ok (.aload_n 0, 1) := dk_42 (dk_at dksX0_undo_0 0 rfl rfl)
theorem dX0_undo_1 : decode cX0_undo 1 = .ok (.getfield 29, 3) := dk_180 0 29 (dk_at dksX0_undo_0 1 rfl rfl)
theorem dX0_undo_4 : decode cX0_undo 4 = .ok (.invokeinterface 149 1, 5) := by decide +kernel
theorem dX0_undo_9 : decode cX0_undo 9 = .ok (.ifCond .eq 6, 3) := dk_153 0 6 (dk_at dksX0_undo_0 9 rfl rfl)
theorem dX0_undo_12 : decode cX0_undo 12 = .ok (.ldc 40, 2) := dk_18 40 (dk_at dksX0_undo_0 12 rfl rfl)
theorem dX0_undo_14 : decode cX0_undo 14 = .ok (.ireturn, 1) := dk_172 (dk_at dksX0_undo_0 14 rfl rfl)
theorem dX0_undo_15 : decode cX0_undo 15 = .ok (.aload_n 0, 1) := dk_42 (dk_at dksX0_undo_0 15 rfl rfl)
theorem dX0_undo_16 : decode cX0_undo 16 = .ok (.aload_n 0, 1) := dk_42 (dk_at dksX0_undo_0 16 rfl rfl)
theorem dX0_undo_17 : decode cX0_undo 17 = .ok (.getfield 29, 3) := dk_180 0 29 (dk_at dksX0_undo_0 17 rfl rfl)
theorem dX0_undo_20 : decode cX0_undo 20 = .ok (.aload_n 0, 1) := dk_42 (dk_at dksX0_undo_0 20 rfl rfl)
theorem dX0_undo_21 : decode cX0_undo 21 = .ok (.getfield 29, 3) := dk_180 0 29 (dk_at dksX0_undo_0 21 rfl rfl)
theorem dX0_undo_24 : decode cX0_undo 24 = .ok (.invokeinterface 41 1, 5) := by decide +kernel
theorem dX0_undo_29 : decode cX0_undo 29 = .ok (.iconst 1, 1) := dk_4 (dk_at dksX0_undo_1 5 rfl rfl)
theorem dX0_undo_30 : decode cX0_undo 30 = .ok (.isub, 1) := dk_100 (dk_at dksX0_undo_1 6 rfl rfl)
theorem dX0_undo_31 : decode cX0_undo 31 = .ok (.invokeinterface 47 2, 5) := by decide +kernel
theorem dX0_undo_36 : decode cX0_undo 36 = .ok (.checkcast 19, 3) := dk_192 0 19 (dk_at dksX0_undo_1 12 rfl rfl)
theorem dX0_undo_39 : decode cX0_undo 39 = .ok (.putfield 22, 3) := dk_181 0 22 (dk_at dksX0_undo_1 15 rfl rfl)
theorem dX0_undo_42 : decode cX0_undo 42 = .ok (.aload_n 0, 1) := dk_42 (dk_at dksX0_undo_1 18 rfl rfl)
theorem dX0_undo_43 : decode cX0_undo 43 = .ok (.getfield 29, 3) := dk_180 0 29 (dk_at dksX0_undo_1 19 rfl rfl)
theorem dX0_undo_46 : decode cX0_undo 46 = .ok (.invokeinterface 41 1, 5) := by decide +kernel
theorem dX0_undo_51 : decode cX0_undo 51 = .ok (.ireturn, 1) := dk_172 (dk_at dksX0_undo_2 5 rfl rfl)
abbrev cX0_keep : ByteArray := prog_1_method_22_code
def yX0_keep : MethodName := ⟨RX0, "keep", "()I"⟩
def dkwX0_keep_0 : List UInt8 := [42, 187, 0, 19, 89, 42, 180, 0, 22, 183, 0, 59, 181, 0, 153, 42, 180, 0, 22, 180, 0, 156, 172]
abbrev dktX0_keep_0 : List UInt8 := dkwX0_keep_0 ++ []
theorem dksX0_keep_0 : cX0_keep.data.toList.drop 0 = dktX0_keep_0 := by decide +kernel
theorem dX0_keep_0 : decode cX0_keep 0 = .ok (.aload_n 0, 1) := dk_42 (dk_at dksX0_keep_0 0 rfl rfl)
theorem dX0_keep_1 : decode cX0_keep 1 = .ok (.new 19, 3) := dk_187 0 19 (dk_at dksX0_keep_0 1 rfl rfl)
theorem dX0_keep_4 : decode cX0_keep 4 = .ok (.dup, 1) := dk_89 (dk_at dksX0_keep_0 4 rfl rfl)
theorem dX0_keep_5 : decode cX0_keep 5 = .ok (.aload_n 0, 1) := dk_42 (dk_at dksX0_keep_0 5 rfl rfl)
theorem dX0_keep_6 : decode cX0_keep 6 = .ok (.getfield 22, 3) := dk_180 0 22 (dk_at dksX0_keep_0 6 rfl rfl)
theorem dX0_keep_9 : decode cX0_keep 9 = .ok (.invokespecial 59, 3) := dk_183 0 59 (dk_at dksX0_keep_0 9 rfl rfl)
theorem dX0_keep_12 : decode cX0_keep 12 = .ok (.putfield 153, 3) := dk_181 0 153 (dk_at dksX0_keep_0 12 rfl rfl)
theorem dX0_keep_15 : decode cX0_keep 15 = .ok (.aload_n 0, 1) := dk_42 (dk_at dksX0_keep_0 15 rfl rfl)
theorem dX0_keep_16 : decode cX0_keep 16 = .ok (.getfield 22, 3) := dk_180 0 22 (dk_at dksX0_keep_0 16 rfl rfl)
theorem dX0_keep_19 : decode cX0_keep 19 = .ok (.getfield 156, 3) := dk_180 0 156 (dk_at dksX0_keep_0 19 rfl rfl)
theorem dX0_keep_22 : decode cX0_keep 22 = .ok (.ireturn, 1) := dk_172 (dk_at dksX0_keep_0 22 rfl rfl)
abbrev cX0_restore : ByteArray := prog_1_method_23_code
def yX0_restore : MethodName := ⟨RX0, "restore", "()I"⟩
def dkwX0_restore_1 : List UInt8 := [42, 180, 0, 153, 180, 0, 156, 182, 0, 66, 172]
abbrev dktX0_restore_1 : List UInt8 := dkwX0_restore_1 ++ []
def dkwX0_restore_0 : List UInt8 := [42, 180, 0, 153, 199, 0, 8, 18, 40, 167, 0, 25, 42, 187, 0, 19, 89, 42, 180, 0, 153, 183, 0, 59]
abbrev dktX0_restore_0 : List UInt8 := dkwX0_restore_0 ++ dktX0_restore_1
theorem dksX0_restore_0 : cX0_restore.data.toList.drop 0 = dktX0_restore_0 := by decide +kernel
theorem dksX0_restore_1 : cX0_restore.data.toList.drop 24 = dktX0_restore_1 := dk_seg dksX0_restore_0 24 rfl rfl
theorem dX0_restore_0 : decode cX0_restore 0 = .ok (.aload_n 0, 1) := dk_42 (dk_at dksX0_restore_0 0 rfl rfl)
theorem dX0_restore_1 : decode cX0_restore 1 = .ok (.getfield 153, 3) := dk_180 0 153 (dk_at dksX0_restore_0 1 rfl rfl)
theorem dX0_restore_4 : decode cX0_restore 4 = .ok (.ifnonnull 8, 3) := dk_199 0 8 (dk_at dksX0_restore_0 4 rfl rfl)
theorem dX0_restore_7 : decode cX0_restore 7 = .ok (.ldc 40, 2) := dk_18 40 (dk_at dksX0_restore_0 7 rfl rfl)
theorem dX0_restore_9 : decode cX0_restore 9 = .ok (.goto 25, 3) := dk_167 0 25 (dk_at dksX0_restore_0 9 rfl rfl)
theorem dX0_restore_12 : decode cX0_restore 12 = .ok (.aload_n 0, 1) := dk_42 (dk_at dksX0_restore_0 12 rfl rfl)
theorem dX0_restore_13 : decode cX0_restore 13 = .ok (.new 19, 3) := dk_187 0 19 (dk_at dksX0_restore_0 13 rfl rfl)
theorem dX0_restore_16 : decode cX0_restore 16 = .ok (.dup, 1) := dk_89 (dk_at dksX0_restore_0 16 rfl rfl)
theorem dX0_restore_17 : decode cX0_restore 17 = .ok (.aload_n 0, 1) := dk_42 (dk_at dksX0_restore_0 17 rfl rfl)
theorem dX0_restore_18 : decode cX0_restore 18 = .ok (.getfield 153, 3) := dk_180 0 153 (dk_at dksX0_restore_0 18 rfl rfl)
theorem dX0_restore_21 : decode cX0_restore 21 = .ok (.invokespecial 59, 3) := dk_183 0 59 (dk_at dksX0_restore_0 21 rfl rfl)
theorem dX0_restore_24 : decode cX0_restore 24 = .ok (.aload_n 0, 1) := dk_42 (dk_at dksX0_restore_1 0 rfl rfl)
theorem dX0_restore_25 : decode cX0_restore 25 = .ok (.getfield 153, 3) := dk_180 0 153 (dk_at dksX0_restore_1 1 rfl rfl)
theorem dX0_restore_28 : decode cX0_restore 28 = .ok (.getfield 156, 3) := dk_180 0 156 (dk_at dksX0_restore_1 4 rfl rfl)
theorem dX0_restore_31 : decode cX0_restore 31 = .ok (.invokevirtual 66, 3) := dk_182 0 66 (dk_at dksX0_restore_1 7 rfl rfl)
theorem dX0_restore_34 : decode cX0_restore 34 = .ok (.ireturn, 1) := dk_172 (dk_at dksX0_restore_1 10 rfl rfl)
abbrev cX0_reel : ByteArray := prog_1_method_24_code
def yX0_reel : MethodName := ⟨RX0, "reel", "(II)I"⟩
def dkwX0_reel_3 : List UInt8 := [79, 184, 0, 4, 172]
abbrev dktX0_reel_3 : List UInt8 := dkwX0_reel_3 ++ []
def dkwX0_reel_2 : List UInt8 := [180, 0, 178, 79, 89, 6, 45, 180, 0, 181, 79, 89, 7, 45, 180, 0, 184, 79, 89, 8, 45, 182, 0, 187]
abbrev dktX0_reel_2 : List UInt8 := dkwX0_reel_2 ++ dktX0_reel_3
def dkwX0_reel_1 : List UInt8 := [28, 16, 6, 188, 10, 89, 3, 45, 180, 0, 168, 79, 89, 4, 45, 180, 0, 173, 79, 89, 5, 45]
abbrev dktX0_reel_1 : List UInt8 := dkwX0_reel_1 ++ dktX0_reel_2
def dkwX0_reel_0 : List UInt8 := [42, 180, 0, 22, 27, 182, 0, 159, 154, 0, 6, 18, 163, 172, 42, 180, 0, 22, 180, 0, 164, 27, 50, 78]
abbrev dktX0_reel_0 : List UInt8 := dkwX0_reel_0 ++ dktX0_reel_1
theorem dksX0_reel_0 : cX0_reel.data.toList.drop 0 = dktX0_reel_0 := by decide +kernel
theorem dksX0_reel_1 : cX0_reel.data.toList.drop 24 = dktX0_reel_1 := dk_seg dksX0_reel_0 24 rfl rfl
theorem dksX0_reel_2 : cX0_reel.data.toList.drop 46 = dktX0_reel_2 := dk_seg dksX0_reel_1 22 rfl rfl
theorem dksX0_reel_3 : cX0_reel.data.toList.drop 70 = dktX0_reel_3 := dk_seg dksX0_reel_2 24 rfl rfl
theorem dX0_reel_0 : decode cX0_reel 0 = .ok (.aload_n 0, 1) := dk_42 (dk_at dksX0_reel_0 0 rfl rfl)
theorem dX0_reel_1 : decode cX0_reel 1 = .ok (.getfield 22, 3) := dk_180 0 22 (dk_at dksX0_reel_0 1 rfl rfl)
theorem dX0_reel_4 : decode cX0_reel 4 = .ok (.iload_n 1, 1) := dk_27 (dk_at dksX0_reel_0 4 rfl rfl)
theorem dX0_reel_5 : decode cX0_reel 5 = .ok (.invokevirtual 159, 3) := dk_182 0 159 (dk_at dksX0_reel_0 5 rfl rfl)
theorem dX0_reel_8 : decode cX0_reel 8 = .ok (.ifCond .ne 6, 3) := dk_154 0 6 (dk_at dksX0_reel_0 8 rfl rfl)
theorem dX0_reel_11 : decode cX0_reel 11 = .ok (.ldc 163, 2) := dk_18 163 (dk_at dksX0_reel_0 11 rfl rfl)
theorem dX0_reel_13 : decode cX0_reel 13 = .ok (.ireturn, 1) := dk_172 (dk_at dksX0_reel_0 13 rfl rfl)
theorem dX0_reel_14 : decode cX0_reel 14 = .ok (.aload_n 0, 1) := dk_42 (dk_at dksX0_reel_0 14 rfl rfl)
theorem dX0_reel_15 : decode cX0_reel 15 = .ok (.getfield 22, 3) := dk_180 0 22 (dk_at dksX0_reel_0 15 rfl rfl)
theorem dX0_reel_18 : decode cX0_reel 18 = .ok (.getfield 164, 3) := dk_180 0 164 (dk_at dksX0_reel_0 18 rfl rfl)
theorem dX0_reel_21 : decode cX0_reel 21 = .ok (.iload_n 1, 1) := dk_27 (dk_at dksX0_reel_0 21 rfl rfl)
theorem dX0_reel_22 : decode cX0_reel 22 = .ok (.aaload, 1) := dk_50 (dk_at dksX0_reel_0 22 rfl rfl)
theorem dX0_reel_23 : decode cX0_reel 23 = .ok (.astore_n 3, 1) := dk_78 (dk_at dksX0_reel_0 23 rfl rfl)
theorem dX0_reel_24 : decode cX0_reel 24 = .ok (.iload_n 2, 1) := dk_28 (dk_at dksX0_reel_1 0 rfl rfl)
theorem dX0_reel_25 : decode cX0_reel 25 = .ok (.bipush 6, 2) := dk_16 6 (dk_at dksX0_reel_1 1 rfl rfl)
theorem dX0_reel_27 : decode cX0_reel 27 = .ok (.newarray .int, 2) := dk_188_10 (dk_at dksX0_reel_1 3 rfl rfl)
theorem dX0_reel_29 : decode cX0_reel 29 = .ok (.dup, 1) := dk_89 (dk_at dksX0_reel_1 5 rfl rfl)
theorem dX0_reel_30 : decode cX0_reel 30 = .ok (.iconst 0, 1) := dk_3 (dk_at dksX0_reel_1 6 rfl rfl)
theorem dX0_reel_31 : decode cX0_reel 31 = .ok (.aload_n 3, 1) := dk_45 (dk_at dksX0_reel_1 7 rfl rfl)
theorem dX0_reel_32 : decode cX0_reel 32 = .ok (.getfield 168, 3) := dk_180 0 168 (dk_at dksX0_reel_1 8 rfl rfl)
theorem dX0_reel_35 : decode cX0_reel 35 = .ok (.iastore, 1) := dk_79 (dk_at dksX0_reel_1 11 rfl rfl)
theorem dX0_reel_36 : decode cX0_reel 36 = .ok (.dup, 1) := dk_89 (dk_at dksX0_reel_1 12 rfl rfl)
theorem dX0_reel_37 : decode cX0_reel 37 = .ok (.iconst 1, 1) := dk_4 (dk_at dksX0_reel_1 13 rfl rfl)
theorem dX0_reel_38 : decode cX0_reel 38 = .ok (.aload_n 3, 1) := dk_45 (dk_at dksX0_reel_1 14 rfl rfl)
theorem dX0_reel_39 : decode cX0_reel 39 = .ok (.getfield 173, 3) := dk_180 0 173 (dk_at dksX0_reel_1 15 rfl rfl)
theorem dX0_reel_42 : decode cX0_reel 42 = .ok (.iastore, 1) := dk_79 (dk_at dksX0_reel_1 18 rfl rfl)
theorem dX0_reel_43 : decode cX0_reel 43 = .ok (.dup, 1) := dk_89 (dk_at dksX0_reel_1 19 rfl rfl)
theorem dX0_reel_44 : decode cX0_reel 44 = .ok (.iconst 2, 1) := dk_5 (dk_at dksX0_reel_1 20 rfl rfl)
theorem dX0_reel_45 : decode cX0_reel 45 = .ok (.aload_n 3, 1) := dk_45 (dk_at dksX0_reel_1 21 rfl rfl)
theorem dX0_reel_46 : decode cX0_reel 46 = .ok (.getfield 178, 3) := dk_180 0 178 (dk_at dksX0_reel_2 0 rfl rfl)
theorem dX0_reel_49 : decode cX0_reel 49 = .ok (.iastore, 1) := dk_79 (dk_at dksX0_reel_2 3 rfl rfl)
theorem dX0_reel_50 : decode cX0_reel 50 = .ok (.dup, 1) := dk_89 (dk_at dksX0_reel_2 4 rfl rfl)
theorem dX0_reel_51 : decode cX0_reel 51 = .ok (.iconst 3, 1) := dk_6 (dk_at dksX0_reel_2 5 rfl rfl)
theorem dX0_reel_52 : decode cX0_reel 52 = .ok (.aload_n 3, 1) := dk_45 (dk_at dksX0_reel_2 6 rfl rfl)
theorem dX0_reel_53 : decode cX0_reel 53 = .ok (.getfield 181, 3) := dk_180 0 181 (dk_at dksX0_reel_2 7 rfl rfl)
theorem dX0_reel_56 : decode cX0_reel 56 = .ok (.iastore, 1) := dk_79 (dk_at dksX0_reel_2 10 rfl rfl)
theorem dX0_reel_57 : decode cX0_reel 57 = .ok (.dup, 1) := dk_89 (dk_at dksX0_reel_2 11 rfl rfl)
theorem dX0_reel_58 : decode cX0_reel 58 = .ok (.iconst 4, 1) := dk_7 (dk_at dksX0_reel_2 12 rfl rfl)
theorem dX0_reel_59 : decode cX0_reel 59 = .ok (.aload_n 3, 1) := dk_45 (dk_at dksX0_reel_2 13 rfl rfl)
theorem dX0_reel_60 : decode cX0_reel 60 = .ok (.getfield 184, 3) := dk_180 0 184 (dk_at dksX0_reel_2 14 rfl rfl)
theorem dX0_reel_63 : decode cX0_reel 63 = .ok (.iastore, 1) := dk_79 (dk_at dksX0_reel_2 17 rfl rfl)
theorem dX0_reel_64 : decode cX0_reel 64 = .ok (.dup, 1) := dk_89 (dk_at dksX0_reel_2 18 rfl rfl)
theorem dX0_reel_65 : decode cX0_reel 65 = .ok (.iconst 5, 1) := dk_8 (dk_at dksX0_reel_2 19 rfl rfl)
theorem dX0_reel_66 : decode cX0_reel 66 = .ok (.aload_n 3, 1) := dk_45 (dk_at dksX0_reel_2 20 rfl rfl)
theorem dX0_reel_67 : decode cX0_reel 67 = .ok (.invokevirtual 187, 3) := dk_182 0 187 (dk_at dksX0_reel_2 21 rfl rfl)
theorem dX0_reel_70 : decode cX0_reel 70 = .ok (.iastore, 1) := dk_79 (dk_at dksX0_reel_3 0 rfl rfl)
theorem dX0_reel_71 : decode cX0_reel 71 = .ok (.invokestatic 4, 3) := dk_184 0 4 (dk_at dksX0_reel_3 1 rfl rfl)
theorem dX0_reel_74 : decode cX0_reel 74 = .ok (.ireturn, 1) := dk_172 (dk_at dksX0_reel_3 4 rfl rfl)
abbrev cX0_generator : ByteArray := prog_1_method_25_code
def yX0_generator : MethodName := ⟨RX0, "generator", "(II)I"⟩
def dkwX0_generator_2 : List UInt8 := [184, 0, 4, 172]
abbrev dktX0_generator_2 : List UInt8 := dkwX0_generator_2 ++ []
def dkwX0_generator_1 : List UInt8 := [180, 0, 190, 27, 50, 180, 0, 168, 79, 89, 4, 42, 180, 0, 22, 180, 0, 190, 27, 50, 180, 0, 194, 79]
abbrev dktX0_generator_1 : List UInt8 := dkwX0_generator_1 ++ dktX0_generator_2
def dkwX0_generator_0 : List UInt8 := [27, 3, 4, 184, 0, 55, 154, 0, 6, 18, 163, 172, 28, 5, 188, 10, 89, 3, 42, 180, 0, 22]
abbrev dktX0_generator_0 : List UInt8 := dkwX0_generator_0 ++ dktX0_generator_1
theorem dksX0_generator_0 : cX0_generator.data.toList.drop 0 = dktX0_generator_0 := by decide +kernel
theorem dksX0_generator_1 : cX0_generator.data.toList.drop 22 = dktX0_generator_1 := dk_seg dksX0_generator_0 22 rfl rfl
theorem dksX0_generator_2 : cX0_generator.data.toList.drop 46 = dktX0_generator_2 := dk_seg dksX0_generator_1 24 rfl rfl
theorem dX0_generator_0 : decode cX0_generator 0 = .ok (.iload_n 1, 1) := dk_27 (dk_at dksX0_generator_0 0 rfl rfl)
theorem dX0_generator_1 : decode cX0_generator 1 = .ok (.iconst 0, 1) := dk_3 (dk_at dksX0_generator_0 1 rfl rfl)
theorem dX0_generator_2 : decode cX0_generator 2 = .ok (.iconst 1, 1) := dk_4 (dk_at dksX0_generator_0 2 rfl rfl)
theorem dX0_generator_3 : decode cX0_generator 3 = .ok (.invokestatic 55, 3) := dk_184 0 55 (dk_at dksX0_generator_0 3 rfl rfl)
theorem dX0_generator_6 : decode cX0_generator 6 = .ok (.ifCond .ne 6, 3) := dk_154 0 6 (dk_at dksX0_generator_0 6 rfl rfl)
theorem dX0_generator_9 : decode cX0_generator 9 = .ok (.ldc 163, 2) := dk_18 163 (dk_at dksX0_generator_0 9 rfl rfl)
theorem dX0_generator_11 : decode cX0_generator 11 = .ok (.ireturn, 1) := dk_172 (dk_at dksX0_generator_0 11 rfl rfl)
theorem dX0_generator_12 : decode cX0_generator 12 = .ok (.iload_n 2, 1) := dk_28 (dk_at dksX0_generator_0 12 rfl rfl)
theorem dX0_generator_13 : decode cX0_generator 13 = .ok (.iconst 2, 1) := dk_5 (dk_at dksX0_generator_0 13 rfl rfl)
theorem dX0_generator_14 : decode cX0_generator 14 = .ok (.newarray .int, 2) := dk_188_10 (dk_at dksX0_generator_0 14 rfl rfl)
theorem dX0_generator_16 : decode cX0_generator 16 = .ok (.dup, 1) := dk_89 (dk_at dksX0_generator_0 16 rfl rfl)
theorem dX0_generator_17 : decode cX0_generator 17 = .ok (.iconst 0, 1) := dk_3 (dk_at dksX0_generator_0 17 rfl rfl)
theorem dX0_generator_18 : decode cX0_generator 18 = .ok (.aload_n 0, 1) := dk_42 (dk_at dksX0_generator_0 18 rfl rfl)
theorem dX0_generator_19 : decode cX0_generator 19 = .ok (.getfield 22, 3) := dk_180 0 22 (dk_at dksX0_generator_0 19 rfl rfl)
theorem dX0_generator_22 : decode cX0_generator 22 = .ok (.getfield 190, 3) := dk_180 0 190 (dk_at dksX0_generator_1 0 rfl rfl)
theorem dX0_generator_25 : decode cX0_generator 25 = .ok (.iload_n 1, 1) := dk_27 (dk_at dksX0_generator_1 3 rfl rfl)
theorem dX0_generator_26 : decode cX0_generator 26 = .ok (.aaload, 1) := dk_50 (dk_at dksX0_generator_1 4 rfl rfl)
theorem dX0_generator_27 : decode cX0_generator 27 = .ok (.getfield 168, 3) := dk_180 0 168 (dk_at dksX0_generator_1 5 rfl rfl)
theorem dX0_generator_30 : decode cX0_generator 30 = .ok (.iastore, 1) := dk_79 (dk_at dksX0_generator_1 8 rfl rfl)
theorem dX0_generator_31 : decode cX0_generator 31 = .ok (.dup, 1) := dk_89 (dk_at dksX0_generator_1 9 rfl rfl)
theorem dX0_generator_32 : decode cX0_generator 32 = .ok (.iconst 1, 1) := dk_4 (dk_at dksX0_generator_1 10 rfl rfl)
theorem dX0_generator_33 : decode cX0_generator 33 = .ok (.aload_n 0, 1) := dk_42 (dk_at dksX0_generator_1 11 rfl rfl)
theorem dX0_generator_34 : decode cX0_generator 34 = .ok (.getfield 22, 3) := dk_180 0 22 (dk_at dksX0_generator_1 12 rfl rfl)
theorem dX0_generator_37 : decode cX0_generator 37 = .ok (.getfield 190, 3) := dk_180 0 190 (dk_at dksX0_generator_1 15 rfl rfl)
theorem dX0_generator_40 : decode cX0_generator 40 = .ok (.iload_n 1, 1) := dk_27 (dk_at dksX0_generator_1 18 rfl rfl)
theorem dX0_generator_41 : decode cX0_generator 41 = .ok (.aaload, 1) := dk_50 (dk_at dksX0_generator_1 19 rfl rfl)
theorem dX0_generator_42 : decode cX0_generator 42 = .ok (.getfield 194, 3) := dk_180 0 194 (dk_at dksX0_generator_1 20 rfl rfl)
theorem dX0_generator_45 : decode cX0_generator 45 = .ok (.iastore, 1) := dk_79 (dk_at dksX0_generator_1 23 rfl rfl)
theorem dX0_generator_46 : decode cX0_generator 46 = .ok (.invokestatic 4, 3) := dk_184 0 4 (dk_at dksX0_generator_2 0 rfl rfl)
theorem dX0_generator_49 : decode cX0_generator 49 = .ok (.ireturn, 1) := dk_172 (dk_at dksX0_generator_2 3 rfl rfl)
abbrev cX0_barn : ByteArray := prog_1_method_26_code
def yX0_barn : MethodName := ⟨RX0, "barn", "(II)I"⟩
def dkwX0_barn_4 : List UInt8 := [42, 180, 0, 22, 180, 0, 222, 27, 46, 79, 184, 0, 4, 172]
abbrev dktX0_barn_4 : List UInt8 := dkwX0_barn_4 ++ []
def dkwX0_barn_3 : List UInt8 := [180, 0, 22, 27, 182, 0, 215, 79, 89, 16, 7, 42, 180, 0, 22, 180, 0, 218, 27, 46, 79, 89, 16, 8]
abbrev dktX0_barn_3 : List UInt8 := dkwX0_barn_3 ++ dktX0_barn_4
def dkwX0_barn_2 : List UInt8 := [42, 180, 0, 22, 27, 182, 0, 209, 79, 89, 8, 42, 180, 0, 22, 27, 182, 0, 212, 79, 89, 16, 6, 42]
abbrev dktX0_barn_2 : List UInt8 := dkwX0_barn_2 ++ dktX0_barn_3
def dkwX0_barn_1 : List UInt8 := [27, 184, 0, 203, 79, 89, 5, 27, 6, 112, 79, 89, 6, 42, 180, 0, 22, 27, 182, 0, 206, 79, 89, 7]
abbrev dktX0_barn_1 : List UInt8 := dkwX0_barn_1 ++ dktX0_barn_2
def dkwX0_barn_0 : List UInt8 := [27, 184, 0, 197, 154, 0, 6, 18, 163, 172, 28, 16, 9, 188, 10, 89, 3, 27, 184, 0, 200, 79, 89, 4]
abbrev dktX0_barn_0 : List UInt8 := dkwX0_barn_0 ++ dktX0_barn_1
theorem dksX0_barn_0 : cX0_barn.data.toList.drop 0 = dktX0_barn_0 := by decide +kernel
theorem dksX0_barn_1 : cX0_barn.data.toList.drop 24 = dktX0_barn_1 := dk_seg dksX0_barn_0 24 rfl rfl
theorem dksX0_barn_2 : cX0_barn.data.toList.drop 48 = dktX0_barn_2 := dk_seg dksX0_barn_1 24 rfl rfl
theorem dksX0_barn_3 : cX0_barn.data.toList.drop 72 = dktX0_barn_3 := dk_seg dksX0_barn_2 24 rfl rfl
theorem dksX0_barn_4 : cX0_barn.data.toList.drop 96 = dktX0_barn_4 := dk_seg dksX0_barn_3 24 rfl rfl
theorem dX0_barn_0 : decode cX0_barn 0 = .ok (.iload_n 1, 1) := dk_27 (dk_at dksX0_barn_0 0 rfl rfl)
theorem dX0_barn_1 : decode cX0_barn 1 = .ok (.invokestatic 197, 3) := dk_184 0 197 (dk_at dksX0_barn_0 1 rfl rfl)
theorem dX0_barn_4 : decode cX0_barn 4 = .ok (.ifCond .ne 6, 3) := dk_154 0 6 (dk_at dksX0_barn_0 4 rfl rfl)
theorem dX0_barn_7 : decode cX0_barn 7 = .ok (.ldc 163, 2) := dk_18 163 (dk_at dksX0_barn_0 7 rfl rfl)
theorem dX0_barn_9 : decode cX0_barn 9 = .ok (.ireturn, 1) := dk_172 (dk_at dksX0_barn_0 9 rfl rfl)
theorem dX0_barn_10 : decode cX0_barn 10 = .ok (.iload_n 2, 1) := dk_28 (dk_at dksX0_barn_0 10 rfl rfl)
theorem dX0_barn_11 : decode cX0_barn 11 = .ok (.bipush 9, 2) := dk_16 9 (dk_at dksX0_barn_0 11 rfl rfl)
theorem dX0_barn_13 : decode cX0_barn 13 = .ok (.newarray .int, 2) := dk_188_10 (dk_at dksX0_barn_0 13 rfl rfl)
theorem dX0_barn_15 : decode cX0_barn 15 = .ok (.dup, 1) := dk_89 (dk_at dksX0_barn_0 15 rfl rfl)
theorem dX0_barn_16 : decode cX0_barn 16 = .ok (.iconst 0, 1) := dk_3 (dk_at dksX0_barn_0 16 rfl rfl)
theorem dX0_barn_17 : decode cX0_barn 17 = .ok (.iload_n 1, 1) := dk_27 (dk_at dksX0_barn_0 17 rfl rfl)
theorem dX0_barn_18 : decode cX0_barn 18 = .ok (.invokestatic 200, 3) := dk_184 0 200 (dk_at dksX0_barn_0 18 rfl rfl)
theorem dX0_barn_21 : decode cX0_barn 21 = .ok (.iastore, 1) := dk_79 (dk_at dksX0_barn_0 21 rfl rfl)
theorem dX0_barn_22 : decode cX0_barn 22 = .ok (.dup, 1) := dk_89 (dk_at dksX0_barn_0 22 rfl rfl)
theorem dX0_barn_23 : decode cX0_barn 23 = .ok (.iconst 1, 1) := dk_4 (dk_at dksX0_barn_0 23 rfl rfl)
theorem dX0_barn_24 : decode cX0_barn 24 = .ok (.iload_n 1, 1) := dk_27 (dk_at dksX0_barn_1 0 rfl rfl)
theorem dX0_barn_25 : decode cX0_barn 25 = .ok (.invokestatic 203, 3) := dk_184 0 203 (dk_at dksX0_barn_1 1 rfl rfl)
theorem dX0_barn_28 : decode cX0_barn 28 = .ok (.iastore, 1) := dk_79 (dk_at dksX0_barn_1 4 rfl rfl)
theorem dX0_barn_29 : decode cX0_barn 29 = .ok (.dup, 1) := dk_89 (dk_at dksX0_barn_1 5 rfl rfl)
theorem dX0_barn_30 : decode cX0_barn 30 = .ok (.iconst 2, 1) := dk_5 (dk_at dksX0_barn_1 6 rfl rfl)
theorem dX0_barn_31 : decode cX0_barn 31 = .ok (.iload_n 1, 1) := dk_27 (dk_at dksX0_barn_1 7 rfl rfl)
theorem dX0_barn_32 : decode cX0_barn 32 = .ok (.iconst 3, 1) := dk_6 (dk_at dksX0_barn_1 8 rfl rfl)
theorem dX0_barn_33 : decode cX0_barn 33 = .ok (.irem, 1) := dk_112 (dk_at dksX0_barn_1 9 rfl rfl)
theorem dX0_barn_34 : decode cX0_barn 34 = .ok (.iastore, 1) := dk_79 (dk_at dksX0_barn_1 10 rfl rfl)
theorem dX0_barn_35 : decode cX0_barn 35 = .ok (.dup, 1) := dk_89 (dk_at dksX0_barn_1 11 rfl rfl)
theorem dX0_barn_36 : decode cX0_barn 36 = .ok (.iconst 3, 1) := dk_6 (dk_at dksX0_barn_1 12 rfl rfl)
theorem dX0_barn_37 : decode cX0_barn 37 = .ok (.aload_n 0, 1) := dk_42 (dk_at dksX0_barn_1 13 rfl rfl)
theorem dX0_barn_38 : decode cX0_barn 38 = .ok (.getfield 22, 3) := dk_180 0 22 (dk_at dksX0_barn_1 14 rfl rfl)
theorem dX0_barn_41 : decode cX0_barn 41 = .ok (.iload_n 1, 1) := dk_27 (dk_at dksX0_barn_1 17 rfl rfl)
theorem dX0_barn_42 : decode cX0_barn 42 = .ok (.invokevirtual 206, 3) := dk_182 0 206 (dk_at dksX0_barn_1 18 rfl rfl)
theorem dX0_barn_45 : decode cX0_barn 45 = .ok (.iastore, 1) := dk_79 (dk_at dksX0_barn_1 21 rfl rfl)
theorem dX0_barn_46 : decode cX0_barn 46 = .ok (.dup, 1) := dk_89 (dk_at dksX0_barn_1 22 rfl rfl)
theorem dX0_barn_47 : decode cX0_barn 47 = .ok (.iconst 4, 1) := dk_7 (dk_at dksX0_barn_1 23 rfl rfl)
theorem dX0_barn_48 : decode cX0_barn 48 = .ok (.aload_n 0, 1) := dk_42 (dk_at dksX0_barn_2 0 rfl rfl)
theorem dX0_barn_49 : decode cX0_barn 49 = .ok (.getfield 22, 3) := dk_180 0 22 (dk_at dksX0_barn_2 1 rfl rfl)
theorem dX0_barn_52 : decode cX0_barn 52 = .ok (.iload_n 1, 1) := dk_27 (dk_at dksX0_barn_2 4 rfl rfl)
theorem dX0_barn_53 : decode cX0_barn 53 = .ok (.invokevirtual 209, 3) := dk_182 0 209 (dk_at dksX0_barn_2 5 rfl rfl)
theorem dX0_barn_56 : decode cX0_barn 56 = .ok (.iastore, 1) := dk_79 (dk_at dksX0_barn_2 8 rfl rfl)
theorem dX0_barn_57 : decode cX0_barn 57 = .ok (.dup, 1) := dk_89 (dk_at dksX0_barn_2 9 rfl rfl)
theorem dX0_barn_58 : decode cX0_barn 58 = .ok (.iconst 5, 1) := dk_8 (dk_at dksX0_barn_2 10 rfl rfl)
theorem dX0_barn_59 : decode cX0_barn 59 = .ok (.aload_n 0, 1) := dk_42 (dk_at dksX0_barn_2 11 rfl rfl)
theorem dX0_barn_60 : decode cX0_barn 60 = .ok (.getfield 22, 3) := dk_180 0 22 (dk_at dksX0_barn_2 12 rfl rfl)
theorem dX0_barn_63 : decode cX0_barn 63 = .ok (.iload_n 1, 1) := dk_27 (dk_at dksX0_barn_2 15 rfl rfl)
theorem dX0_barn_64 : decode cX0_barn 64 = .ok (.invokevirtual 212, 3) := dk_182 0 212 (dk_at dksX0_barn_2 16 rfl rfl)
theorem dX0_barn_67 : decode cX0_barn 67 = .ok (.iastore, 1) := dk_79 (dk_at dksX0_barn_2 19 rfl rfl)
theorem dX0_barn_68 : decode cX0_barn 68 = .ok (.dup, 1) := dk_89 (dk_at dksX0_barn_2 20 rfl rfl)
theorem dX0_barn_69 : decode cX0_barn 69 = .ok (.bipush 6, 2) := dk_16 6 (dk_at dksX0_barn_2 21 rfl rfl)
theorem dX0_barn_71 : decode cX0_barn 71 = .ok (.aload_n 0, 1) := dk_42 (dk_at dksX0_barn_2 23 rfl rfl)
theorem dX0_barn_72 : decode cX0_barn 72 = .ok (.getfield 22, 3) := dk_180 0 22 (dk_at dksX0_barn_3 0 rfl rfl)
theorem dX0_barn_75 : decode cX0_barn 75 = .ok (.iload_n 1, 1) := dk_27 (dk_at dksX0_barn_3 3 rfl rfl)
theorem dX0_barn_76 : decode cX0_barn 76 = .ok (.invokevirtual 215, 3) := dk_182 0 215 (dk_at dksX0_barn_3 4 rfl rfl)
theorem dX0_barn_79 : decode cX0_barn 79 = .ok (.iastore, 1) := dk_79 (dk_at dksX0_barn_3 7 rfl rfl)
theorem dX0_barn_80 : decode cX0_barn 80 = .ok (.dup, 1) := dk_89 (dk_at dksX0_barn_3 8 rfl rfl)
theorem dX0_barn_81 : decode cX0_barn 81 = .ok (.bipush 7, 2) := dk_16 7 (dk_at dksX0_barn_3 9 rfl rfl)
theorem dX0_barn_83 : decode cX0_barn 83 = .ok (.aload_n 0, 1) := dk_42 (dk_at dksX0_barn_3 11 rfl rfl)
theorem dX0_barn_84 : decode cX0_barn 84 = .ok (.getfield 22, 3) := dk_180 0 22 (dk_at dksX0_barn_3 12 rfl rfl)
theorem dX0_barn_87 : decode cX0_barn 87 = .ok (.getfield 218, 3) := dk_180 0 218 (dk_at dksX0_barn_3 15 rfl rfl)
theorem dX0_barn_90 : decode cX0_barn 90 = .ok (.iload_n 1, 1) := dk_27 (dk_at dksX0_barn_3 18 rfl rfl)
theorem dX0_barn_91 : decode cX0_barn 91 = .ok (.iaload, 1) := dk_46 (dk_at dksX0_barn_3 19 rfl rfl)
theorem dX0_barn_92 : decode cX0_barn 92 = .ok (.iastore, 1) := dk_79 (dk_at dksX0_barn_3 20 rfl rfl)
theorem dX0_barn_93 : decode cX0_barn 93 = .ok (.dup, 1) := dk_89 (dk_at dksX0_barn_3 21 rfl rfl)
theorem dX0_barn_94 : decode cX0_barn 94 = .ok (.bipush 8, 2) := dk_16 8 (dk_at dksX0_barn_3 22 rfl rfl)
theorem dX0_barn_96 : decode cX0_barn 96 = .ok (.aload_n 0, 1) := dk_42 (dk_at dksX0_barn_4 0 rfl rfl)
theorem dX0_barn_97 : decode cX0_barn 97 = .ok (.getfield 22, 3) := dk_180 0 22 (dk_at dksX0_barn_4 1 rfl rfl)
theorem dX0_barn_100 : decode cX0_barn 100 = .ok (.getfield 222, 3) := dk_180 0 222 (dk_at dksX0_barn_4 4 rfl rfl)
theorem dX0_barn_103 : decode cX0_barn 103 = .ok (.iload_n 1, 1) := dk_27 (dk_at dksX0_barn_4 7 rfl rfl)
theorem dX0_barn_104 : decode cX0_barn 104 = .ok (.iaload, 1) := dk_46 (dk_at dksX0_barn_4 8 rfl rfl)
theorem dX0_barn_105 : decode cX0_barn 105 = .ok (.iastore, 1) := dk_79 (dk_at dksX0_barn_4 9 rfl rfl)
theorem dX0_barn_106 : decode cX0_barn 106 = .ok (.invokestatic 4, 3) := dk_184 0 4 (dk_at dksX0_barn_4 10 rfl rfl)
theorem dX0_barn_109 : decode cX0_barn 109 = .ok (.ireturn, 1) := dk_172 (dk_at dksX0_barn_4 13 rfl rfl)
abbrev cX0_isBarn : ByteArray := prog_1_method_8_code
def yX0_isBarn : MethodName := ⟨RX0, "isBarn", "(I)Z"⟩
def dkwX0_isBarn_0 : List UInt8 := [26, 3, 7, 184, 0, 55, 172]
abbrev dktX0_isBarn_0 : List UInt8 := dkwX0_isBarn_0 ++ []
theorem dksX0_isBarn_0 : cX0_isBarn.data.toList.drop 0 = dktX0_isBarn_0 := by decide +kernel
theorem dX0_isBarn_0 : decode cX0_isBarn 0 = .ok (.iload_n 0, 1) := dk_26 (dk_at dksX0_isBarn_0 0 rfl rfl)
theorem dX0_isBarn_1 : decode cX0_isBarn 1 = .ok (.iconst 0, 1) := dk_3 (dk_at dksX0_isBarn_0 1 rfl rfl)
theorem dX0_isBarn_2 : decode cX0_isBarn 2 = .ok (.iconst 4, 1) := dk_7 (dk_at dksX0_isBarn_0 2 rfl rfl)
theorem dX0_isBarn_3 : decode cX0_isBarn 3 = .ok (.invokestatic 55, 3) := dk_184 0 55 (dk_at dksX0_isBarn_0 3 rfl rfl)
theorem dX0_isBarn_6 : decode cX0_isBarn 6 = .ok (.ireturn, 1) := dk_172 (dk_at dksX0_isBarn_0 6 rfl rfl)
abbrev cX0_bestBarn : ByteArray := prog_1_method_27_code
def yX0_bestBarn : MethodName := ⟨RX0, "bestBarn", "()I"⟩
def dkwX0_bestBarn_2 : List UInt8 := [164, 0, 5, 28, 60, 132, 2, 1, 167, 255, 207, 27, 172]
abbrev dktX0_bestBarn_2 : List UInt8 := dkwX0_bestBarn_2 ++ []
def dkwX0_bestBarn_1 : List UInt8 := [27, 18, 40, 159, 0, 22, 42, 180, 0, 22, 28, 182, 0, 212, 42, 180, 0, 22, 27, 182, 0, 212]
abbrev dktX0_bestBarn_1 : List UInt8 := dkwX0_bestBarn_1 ++ dktX0_bestBarn_2
def dkwX0_bestBarn_0 : List UInt8 := [18, 40, 60, 3, 61, 28, 8, 162, 0, 50, 42, 180, 0, 22, 28, 182, 0, 215, 158, 0, 6, 167, 0, 30]
abbrev dktX0_bestBarn_0 : List UInt8 := dkwX0_bestBarn_0 ++ dktX0_bestBarn_1
theorem dksX0_bestBarn_0 : cX0_bestBarn.data.toList.drop 0 = dktX0_bestBarn_0 := by decide +kernel
theorem dksX0_bestBarn_1 : cX0_bestBarn.data.toList.drop 24 = dktX0_bestBarn_1 := dk_seg dksX0_bestBarn_0 24 rfl rfl
theorem dksX0_bestBarn_2 : cX0_bestBarn.data.toList.drop 46 = dktX0_bestBarn_2 := dk_seg dksX0_bestBarn_1 22 rfl rfl
theorem dX0_bestBarn_0 : decode cX0_bestBarn 0 = .ok (.ldc 40, 2) := dk_18 40 (dk_at dksX0_bestBarn_0 0 rfl rfl)
theorem dX0_bestBarn_2 : decode cX0_bestBarn 2 = .ok (.istore_n 1, 1) := dk_60 (dk_at dksX0_bestBarn_0 2 rfl rfl)
theorem dX0_bestBarn_3 : decode cX0_bestBarn 3 = .ok (.iconst 0, 1) := dk_3 (dk_at dksX0_bestBarn_0 3 rfl rfl)
theorem dX0_bestBarn_4 : decode cX0_bestBarn 4 = .ok (.istore_n 2, 1) := dk_61 (dk_at dksX0_bestBarn_0 4 rfl rfl)
theorem dX0_bestBarn_5 : decode cX0_bestBarn 5 = .ok (.iload_n 2, 1) := dk_28 (dk_at dksX0_bestBarn_0 5 rfl rfl)
theorem dX0_bestBarn_6 : decode cX0_bestBarn 6 = .ok (.iconst 5, 1) := dk_8 (dk_at dksX0_bestBarn_0 6 rfl rfl)
theorem dX0_bestBarn_7 : decode cX0_bestBarn 7 = .ok (.if_icmp .ge 50, 3) := dk_162 0 50 (dk_at dksX0_bestBarn_0 7 rfl rfl)
theorem dX0_bestBarn_10 : decode cX0_bestBarn 10 = .ok (.aload_n 0, 1) := dk_42 (dk_at dksX0_bestBarn_0 10 rfl rfl)
theorem dX0_bestBarn_11 : decode cX0_bestBarn 11 = .ok (.getfield 22, 3) := dk_180 0 22 (dk_at dksX0_bestBarn_0 11 rfl rfl)
theorem dX0_bestBarn_14 : decode cX0_bestBarn 14 = .ok (.iload_n 2, 1) := dk_28 (dk_at dksX0_bestBarn_0 14 rfl rfl)
theorem dX0_bestBarn_15 : decode cX0_bestBarn 15 = .ok (.invokevirtual 215, 3) := dk_182 0 215 (dk_at dksX0_bestBarn_0 15 rfl rfl)
theorem dX0_bestBarn_18 : decode cX0_bestBarn 18 = .ok (.ifCond .le 6, 3) := dk_158 0 6 (dk_at dksX0_bestBarn_0 18 rfl rfl)
theorem dX0_bestBarn_21 : decode cX0_bestBarn 21 = .ok (.goto 30, 3) := dk_167 0 30 (dk_at dksX0_bestBarn_0 21 rfl rfl)
theorem dX0_bestBarn_24 : decode cX0_bestBarn 24 = .ok (.iload_n 1, 1) := dk_27 (dk_at dksX0_bestBarn_1 0 rfl rfl)
theorem dX0_bestBarn_25 : decode cX0_bestBarn 25 = .ok (.ldc 40, 2) := dk_18 40 (dk_at dksX0_bestBarn_1 1 rfl rfl)
theorem dX0_bestBarn_27 : decode cX0_bestBarn 27 = .ok (.if_icmp .eq 22, 3) := dk_159 0 22 (dk_at dksX0_bestBarn_1 3 rfl rfl)
theorem dX0_bestBarn_30 : decode cX0_bestBarn 30 = .ok (.aload_n 0, 1) := dk_42 (dk_at dksX0_bestBarn_1 6 rfl rfl)
theorem dX0_bestBarn_31 : decode cX0_bestBarn 31 = .ok (.getfield 22, 3) := dk_180 0 22 (dk_at dksX0_bestBarn_1 7 rfl rfl)
theorem dX0_bestBarn_34 : decode cX0_bestBarn 34 = .ok (.iload_n 2, 1) := dk_28 (dk_at dksX0_bestBarn_1 10 rfl rfl)
theorem dX0_bestBarn_35 : decode cX0_bestBarn 35 = .ok (.invokevirtual 212, 3) := dk_182 0 212 (dk_at dksX0_bestBarn_1 11 rfl rfl)
theorem dX0_bestBarn_38 : decode cX0_bestBarn 38 = .ok (.aload_n 0, 1) := dk_42 (dk_at dksX0_bestBarn_1 14 rfl rfl)
theorem dX0_bestBarn_39 : decode cX0_bestBarn 39 = .ok (.getfield 22, 3) := dk_180 0 22 (dk_at dksX0_bestBarn_1 15 rfl rfl)
theorem dX0_bestBarn_42 : decode cX0_bestBarn 42 = .ok (.iload_n 1, 1) := dk_27 (dk_at dksX0_bestBarn_1 18 rfl rfl)
theorem dX0_bestBarn_43 : decode cX0_bestBarn 43 = .ok (.invokevirtual 212, 3) := dk_182 0 212 (dk_at dksX0_bestBarn_1 19 rfl rfl)
theorem dX0_bestBarn_46 : decode cX0_bestBarn 46 = .ok (.if_icmp .le 5, 3) := dk_164 0 5 (dk_at dksX0_bestBarn_2 0 rfl rfl)
theorem dX0_bestBarn_49 : decode cX0_bestBarn 49 = .ok (.iload_n 2, 1) := dk_28 (dk_at dksX0_bestBarn_2 3 rfl rfl)
theorem dX0_bestBarn_50 : decode cX0_bestBarn 50 = .ok (.istore_n 1, 1) := dk_60 (dk_at dksX0_bestBarn_2 4 rfl rfl)
theorem dX0_bestBarn_51 : decode cX0_bestBarn 51 = .ok (.iinc 2 1, 3) := dk_132 2 1 (dk_at dksX0_bestBarn_2 5 rfl rfl)
theorem dX0_bestBarn_54 : decode cX0_bestBarn 54 = .ok (.goto (-49), 3) := dk_167 255 207 (dk_at dksX0_bestBarn_2 8 rfl rfl)
theorem dX0_bestBarn_57 : decode cX0_bestBarn 57 = .ok (.iload_n 1, 1) := dk_27 (dk_at dksX0_bestBarn_2 11 rfl rfl)
theorem dX0_bestBarn_58 : decode cX0_bestBarn 58 = .ok (.ireturn, 1) := dk_172 (dk_at dksX0_bestBarn_2 12 rfl rfl)
abbrev cX0_ifPrice : ByteArray := prog_1_method_28_code
def yX0_ifPrice : MethodName := ⟨RX0, "ifPrice", "(II)I"⟩
def dkwX0_ifPrice_1 : List UInt8 := [27, 182, 0, 212, 28, 104, 167, 0, 5, 18, 3, 172]
abbrev dktX0_ifPrice_1 : List UInt8 := dkwX0_ifPrice_1 ++ []
def dkwX0_ifPrice_0 : List UInt8 := [27, 184, 0, 197, 154, 0, 6, 18, 163, 172, 28, 4, 16, 99, 184, 0, 55, 153, 0, 16, 42, 180, 0, 22]
abbrev dktX0_ifPrice_0 : List UInt8 := dkwX0_ifPrice_0 ++ dktX0_ifPrice_1
theorem dksX0_ifPrice_0 : cX0_ifPrice.data.toList.drop 0 = dktX0_ifPrice_0 := by decide +kernel
theorem dksX0_ifPrice_1 : cX0_ifPrice.data.toList.drop 24 = dktX0_ifPrice_1 := dk_seg dksX0_ifPrice_0 24 rfl rfl
theorem dX0_ifPrice_0 : decode cX0_ifPrice 0 = .ok (.iload_n 1, 1) := dk_27 (dk_at dksX0_ifPrice_0 0 rfl rfl)
theorem dX0_ifPrice_1 : decode cX0_ifPrice 1 = .ok (.invokestatic 197, 3) := dk_184 0 197 (dk_at dksX0_ifPrice_0 1 rfl rfl)
theorem dX0_ifPrice_4 : decode cX0_ifPrice 4 = .ok (.ifCond .ne 6, 3) := dk_154 0 6 (dk_at dksX0_ifPrice_0 4 rfl rfl)
theorem dX0_ifPrice_7 : decode cX0_ifPrice 7 = .ok (.ldc 163, 2) := dk_18 163 (dk_at dksX0_ifPrice_0 7 rfl rfl)
theorem dX0_ifPrice_9 : decode cX0_ifPrice 9 = .ok (.ireturn, 1) := dk_172 (dk_at dksX0_ifPrice_0 9 rfl rfl)
theorem dX0_ifPrice_10 : decode cX0_ifPrice 10 = .ok (.iload_n 2, 1) := dk_28 (dk_at dksX0_ifPrice_0 10 rfl rfl)
theorem dX0_ifPrice_11 : decode cX0_ifPrice 11 = .ok (.iconst 1, 1) := dk_4 (dk_at dksX0_ifPrice_0 11 rfl rfl)
theorem dX0_ifPrice_12 : decode cX0_ifPrice 12 = .ok (.bipush 99, 2) := dk_16 99 (dk_at dksX0_ifPrice_0 12 rfl rfl)
theorem dX0_ifPrice_14 : decode cX0_ifPrice 14 = .ok (.invokestatic 55, 3) := dk_184 0 55 (dk_at dksX0_ifPrice_0 14 rfl rfl)
theorem dX0_ifPrice_17 : decode cX0_ifPrice 17 = .ok (.ifCond .eq 16, 3) := dk_153 0 16 (dk_at dksX0_ifPrice_0 17 rfl rfl)
theorem dX0_ifPrice_20 : decode cX0_ifPrice 20 = .ok (.aload_n 0, 1) := dk_42 (dk_at dksX0_ifPrice_0 20 rfl rfl)
theorem dX0_ifPrice_21 : decode cX0_ifPrice 21 = .ok (.getfield 22, 3) := dk_180 0 22 (dk_at dksX0_ifPrice_0 21 rfl rfl)
theorem dX0_ifPrice_24 : decode cX0_ifPrice 24 = .ok (.iload_n 1, 1) := dk_27 (dk_at dksX0_ifPrice_1 0 rfl rfl)
theorem dX0_ifPrice_25 : decode cX0_ifPrice 25 = .ok (.invokevirtual 212, 3) := dk_182 0 212 (dk_at dksX0_ifPrice_1 1 rfl rfl)
theorem dX0_ifPrice_28 : decode cX0_ifPrice 28 = .ok (.iload_n 2, 1) := dk_28 (dk_at dksX0_ifPrice_1 4 rfl rfl)
theorem dX0_ifPrice_29 : decode cX0_ifPrice 29 = .ok (.imul, 1) := dk_104 (dk_at dksX0_ifPrice_1 5 rfl rfl)
theorem dX0_ifPrice_30 : decode cX0_ifPrice 30 = .ok (.goto 5, 3) := dk_167 0 5 (dk_at dksX0_ifPrice_1 6 rfl rfl)
theorem dX0_ifPrice_33 : decode cX0_ifPrice 33 = .ok (.ldc 3, 2) := dk_18 3 (dk_at dksX0_ifPrice_1 9 rfl rfl)
theorem dX0_ifPrice_35 : decode cX0_ifPrice 35 = .ok (.ireturn, 1) := dk_172 (dk_at dksX0_ifPrice_1 11 rfl rfl)
abbrev cX0_showOf : ByteArray := prog_1_method_29_code
def yX0_showOf : MethodName := ⟨RX0, "showOf", "(II)I"⟩
def dkwX0_showOf_2 : List UInt8 := [46, 167, 0, 5, 18, 40, 172]
abbrev dktX0_showOf_2 : List UInt8 := dkwX0_showOf_2 ++ []
def dkwX0_showOf_1 : List UInt8 := [180, 0, 218, 184, 0, 225, 184, 0, 229, 162, 0, 19, 42, 180, 0, 22, 180, 0, 234, 8, 27, 104, 28, 96]
abbrev dktX0_showOf_1 : List UInt8 := dkwX0_showOf_1 ++ dktX0_showOf_2
def dkwX0_showOf_0 : List UInt8 := [27, 155, 0, 12, 28, 3, 7, 184, 0, 55, 154, 0, 6, 18, 3, 172, 27, 16, 6, 42, 180, 0, 22]
abbrev dktX0_showOf_0 : List UInt8 := dkwX0_showOf_0 ++ dktX0_showOf_1
theorem dksX0_showOf_0 : cX0_showOf.data.toList.drop 0 = dktX0_showOf_0 := by decide +kernel
theorem dksX0_showOf_1 : cX0_showOf.data.toList.drop 23 = dktX0_showOf_1 := dk_seg dksX0_showOf_0 23 rfl rfl
theorem dksX0_showOf_2 : cX0_showOf.data.toList.drop 47 = dktX0_showOf_2 := dk_seg dksX0_showOf_1 24 rfl rfl
theorem dX0_showOf_0 : decode cX0_showOf 0 = .ok (.iload_n 1, 1) := dk_27 (dk_at dksX0_showOf_0 0 rfl rfl)
theorem dX0_showOf_1 : decode cX0_showOf 1 = .ok (.ifCond .lt 12, 3) := dk_155 0 12 (dk_at dksX0_showOf_0 1 rfl rfl)
theorem dX0_showOf_4 : decode cX0_showOf 4 = .ok (.iload_n 2, 1) := dk_28 (dk_at dksX0_showOf_0 4 rfl rfl)
theorem dX0_showOf_5 : decode cX0_showOf 5 = .ok (.iconst 0, 1) := dk_3 (dk_at dksX0_showOf_0 5 rfl rfl)
theorem dX0_showOf_6 : decode cX0_showOf 6 = .ok (.iconst 4, 1) := dk_7 (dk_at dksX0_showOf_0 6 rfl rfl)
theorem dX0_showOf_7 : decode cX0_showOf 7 = .ok (.invokestatic 55, 3) := dk_184 0 55 (dk_at dksX0_showOf_0 7 rfl rfl)
theorem dX0_showOf_10 : decode cX0_showOf 10 = .ok (.ifCond .ne 6, 3) := dk_154 0 6 (dk_at dksX0_showOf_0 10 rfl rfl)
theorem dX0_showOf_13 : decode cX0_showOf 13 = .ok (.ldc 3, 2) := dk_18 3 (dk_at dksX0_showOf_0 13 rfl rfl)
theorem dX0_showOf_15 : decode cX0_showOf 15 = .ok (.ireturn, 1) := dk_172 (dk_at dksX0_showOf_0 15 rfl rfl)
theorem dX0_showOf_16 : decode cX0_showOf 16 = .ok (.iload_n 1, 1) := dk_27 (dk_at dksX0_showOf_0 16 rfl rfl)
theorem dX0_showOf_17 : decode cX0_showOf 17 = .ok (.bipush 6, 2) := dk_16 6 (dk_at dksX0_showOf_0 17 rfl rfl)
theorem dX0_showOf_19 : decode cX0_showOf 19 = .ok (.aload_n 0, 1) := dk_42 (dk_at dksX0_showOf_0 19 rfl rfl)
theorem dX0_showOf_20 : decode cX0_showOf 20 = .ok (.getfield 22, 3) := dk_180 0 22 (dk_at dksX0_showOf_0 20 rfl rfl)
theorem dX0_showOf_23 : decode cX0_showOf 23 = .ok (.getfield 218, 3) := dk_180 0 218 (dk_at dksX0_showOf_1 0 rfl rfl)
theorem dX0_showOf_26 : decode cX0_showOf 26 = .ok (.invokestatic 225, 3) := dk_184 0 225 (dk_at dksX0_showOf_1 3 rfl rfl)
theorem dX0_showOf_29 : decode cX0_showOf 29 = .ok (.invokestatic 229, 3) := dk_184 0 229 (dk_at dksX0_showOf_1 6 rfl rfl)
theorem dX0_showOf_32 : decode cX0_showOf 32 = .ok (.if_icmp .ge 19, 3) := dk_162 0 19 (dk_at dksX0_showOf_1 9 rfl rfl)
theorem dX0_showOf_35 : decode cX0_showOf 35 = .ok (.aload_n 0, 1) := dk_42 (dk_at dksX0_showOf_1 12 rfl rfl)
theorem dX0_showOf_36 : decode cX0_showOf 36 = .ok (.getfield 22, 3) := dk_180 0 22 (dk_at dksX0_showOf_1 13 rfl rfl)
theorem dX0_showOf_39 : decode cX0_showOf 39 = .ok (.getfield 234, 3) := dk_180 0 234 (dk_at dksX0_showOf_1 16 rfl rfl)
theorem dX0_showOf_42 : decode cX0_showOf 42 = .ok (.iconst 5, 1) := dk_8 (dk_at dksX0_showOf_1 19 rfl rfl)
theorem dX0_showOf_43 : decode cX0_showOf 43 = .ok (.iload_n 1, 1) := dk_27 (dk_at dksX0_showOf_1 20 rfl rfl)
theorem dX0_showOf_44 : decode cX0_showOf 44 = .ok (.imul, 1) := dk_104 (dk_at dksX0_showOf_1 21 rfl rfl)
theorem dX0_showOf_45 : decode cX0_showOf 45 = .ok (.iload_n 2, 1) := dk_28 (dk_at dksX0_showOf_1 22 rfl rfl)
theorem dX0_showOf_46 : decode cX0_showOf 46 = .ok (.iadd, 1) := dk_96 (dk_at dksX0_showOf_1 23 rfl rfl)
theorem dX0_showOf_47 : decode cX0_showOf 47 = .ok (.iaload, 1) := dk_46 (dk_at dksX0_showOf_2 0 rfl rfl)
theorem dX0_showOf_48 : decode cX0_showOf 48 = .ok (.goto 5, 3) := dk_167 0 5 (dk_at dksX0_showOf_2 1 rfl rfl)
theorem dX0_showOf_51 : decode cX0_showOf 51 = .ok (.ldc 40, 2) := dk_18 40 (dk_at dksX0_showOf_2 4 rfl rfl)
theorem dX0_showOf_53 : decode cX0_showOf 53 = .ok (.ireturn, 1) := dk_172 (dk_at dksX0_showOf_2 6 rfl rfl)
abbrev cX0_count : ByteArray := prog_1_method_30_code
def yX0_count : MethodName := ⟨RX0, "count", "(I)I"⟩
def dkwX0_count_8 : List UInt8 := [180, 0, 36, 182, 0, 102, 79, 184, 0, 4, 172]
abbrev dktX0_count_8 : List UInt8 := dkwX0_count_8 ++ []
def dkwX0_count_7 : List UInt8 := [180, 0, 22, 180, 1, 1, 79, 89, 16, 13, 42, 180, 0, 29, 185, 0, 41, 1, 0, 79, 89, 16, 14, 42]
abbrev dktX0_count_7 : List UInt8 := dkwX0_count_7 ++ dktX0_count_8
def dkwX0_count_6 : List UInt8 := [180, 0, 22, 180, 0, 254, 79, 89, 16, 11, 42, 180, 0, 22, 180, 0, 87, 79, 89, 16, 12, 42]
abbrev dktX0_count_6 : List UInt8 := dkwX0_count_6 ++ dktX0_count_7
def dkwX0_count_5 : List UInt8 := [180, 0, 251, 100, 79, 89, 16, 9, 42, 180, 0, 22, 180, 0, 218, 184, 0, 225, 79, 89, 16, 10, 42]
abbrev dktX0_count_5 : List UInt8 := dkwX0_count_5 ++ dktX0_count_6
def dkwX0_count_4 : List UInt8 := [16, 8, 28, 42, 180, 0, 22, 180, 0, 246, 100, 42, 180, 0, 22, 180, 0, 249, 100, 42, 180, 0, 22]
abbrev dktX0_count_4 : List UInt8 := dkwX0_count_4 ++ dktX0_count_5
def dkwX0_count_3 : List UInt8 := [89, 16, 6, 42, 180, 0, 22, 180, 0, 249, 79, 89, 16, 7, 42, 180, 0, 22, 180, 0, 251, 79, 89]
abbrev dktX0_count_3 : List UInt8 := dkwX0_count_3 ++ dktX0_count_4
def dkwX0_count_2 : List UInt8 := [89, 6, 42, 180, 0, 22, 182, 0, 243, 79, 89, 7, 28, 79, 89, 8, 42, 180, 0, 22, 180, 0, 246, 79]
abbrev dktX0_count_2 : List UInt8 := dkwX0_count_2 ++ dktX0_count_3
def dkwX0_count_1 : List UInt8 := [180, 0, 156, 79, 89, 4, 42, 180, 0, 22, 180, 0, 237, 79, 89, 5, 42, 180, 0, 22, 182, 0, 240, 79]
abbrev dktX0_count_1 : List UInt8 := dkwX0_count_1 ++ dktX0_count_2
def dkwX0_count_0 : List UInt8 := [42, 180, 0, 22, 180, 0, 222, 184, 0, 225, 61, 27, 16, 15, 188, 10, 89, 3, 42, 180, 0, 22]
abbrev dktX0_count_0 : List UInt8 := dkwX0_count_0 ++ dktX0_count_1
theorem dksX0_count_0 : cX0_count.data.toList.drop 0 = dktX0_count_0 := by decide +kernel
theorem dksX0_count_1 : cX0_count.data.toList.drop 22 = dktX0_count_1 := dk_seg dksX0_count_0 22 rfl rfl
theorem dksX0_count_2 : cX0_count.data.toList.drop 46 = dktX0_count_2 := dk_seg dksX0_count_1 24 rfl rfl
theorem dksX0_count_3 : cX0_count.data.toList.drop 70 = dktX0_count_3 := dk_seg dksX0_count_2 24 rfl rfl
theorem dksX0_count_4 : cX0_count.data.toList.drop 93 = dktX0_count_4 := dk_seg dksX0_count_3 23 rfl rfl
theorem dksX0_count_5 : cX0_count.data.toList.drop 116 = dktX0_count_5 := dk_seg dksX0_count_4 23 rfl rfl
theorem dksX0_count_6 : cX0_count.data.toList.drop 139 = dktX0_count_6 := dk_seg dksX0_count_5 23 rfl rfl
theorem dksX0_count_7 : cX0_count.data.toList.drop 161 = dktX0_count_7 := dk_seg dksX0_count_6 22 rfl rfl
theorem dksX0_count_8 : cX0_count.data.toList.drop 185 = dktX0_count_8 := dk_seg dksX0_count_7 24 rfl rfl
theorem dX0_count_0 : decode cX0_count 0 = .ok (.aload_n 0, 1) := dk_42 (dk_at dksX0_count_0 0 rfl rfl)
theorem dX0_count_1 : decode cX0_count 1 = .ok (.getfield 22, 3) := dk_180 0 22 (dk_at dksX0_count_0 1 rfl rfl)
theorem dX0_count_4 : decode cX0_count 4 = .ok (.getfield 222, 3) := dk_180 0 222 (dk_at dksX0_count_0 4 rfl rfl)
theorem dX0_count_7 : decode cX0_count 7 = .ok (.invokestatic 225, 3) := dk_184 0 225 (dk_at dksX0_count_0 7 rfl rfl)
theorem dX0_count_10 : decode cX0_count 10 = .ok (.istore_n 2, 1) := dk_61 (dk_at dksX0_count_0 10 rfl rfl)
theorem dX0_count_11 : decode cX0_count 11 = .ok (.iload_n 1, 1) := dk_27 (dk_at dksX0_count_0 11 rfl rfl)
theorem dX0_count_12 : decode cX0_count 12 = .ok (.bipush 15, 2) := dk_16 15 (dk_at dksX0_count_0 12 rfl rfl)
theorem dX0_count_14 : decode cX0_count 14 = .ok (.newarray .int, 2) := dk_188_10 (dk_at dksX0_count_0 14 rfl rfl)
theorem dX0_count_16 : decode cX0_count 16 = .ok (.dup, 1) := dk_89 (dk_at dksX0_count_0 16 rfl rfl)
theorem dX0_count_17 : decode cX0_count 17 = .ok (.iconst 0, 1) := dk_3 (dk_at dksX0_count_0 17 rfl rfl)
theorem dX0_count_18 : decode cX0_count 18 = .ok (.aload_n 0, 1) := dk_42 (dk_at dksX0_count_0 18 rfl rfl)
theorem dX0_count_19 : decode cX0_count 19 = .ok (.getfield 22, 3) := dk_180 0 22 (dk_at dksX0_count_0 19 rfl rfl)
theorem dX0_count_22 : decode cX0_count 22 = .ok (.getfield 156, 3) := dk_180 0 156 (dk_at dksX0_count_1 0 rfl rfl)
theorem dX0_count_25 : decode cX0_count 25 = .ok (.iastore, 1) := dk_79 (dk_at dksX0_count_1 3 rfl rfl)
theorem dX0_count_26 : decode cX0_count 26 = .ok (.dup, 1) := dk_89 (dk_at dksX0_count_1 4 rfl rfl)
theorem dX0_count_27 : decode cX0_count 27 = .ok (.iconst 1, 1) := dk_4 (dk_at dksX0_count_1 5 rfl rfl)
theorem dX0_count_28 : decode cX0_count 28 = .ok (.aload_n 0, 1) := dk_42 (dk_at dksX0_count_1 6 rfl rfl)
theorem dX0_count_29 : decode cX0_count 29 = .ok (.getfield 22, 3) := dk_180 0 22 (dk_at dksX0_count_1 7 rfl rfl)
theorem dX0_count_32 : decode cX0_count 32 = .ok (.getfield 237, 3) := dk_180 0 237 (dk_at dksX0_count_1 10 rfl rfl)
theorem dX0_count_35 : decode cX0_count 35 = .ok (.iastore, 1) := dk_79 (dk_at dksX0_count_1 13 rfl rfl)
theorem dX0_count_36 : decode cX0_count 36 = .ok (.dup, 1) := dk_89 (dk_at dksX0_count_1 14 rfl rfl)
theorem dX0_count_37 : decode cX0_count 37 = .ok (.iconst 2, 1) := dk_5 (dk_at dksX0_count_1 15 rfl rfl)
theorem dX0_count_38 : decode cX0_count 38 = .ok (.aload_n 0, 1) := dk_42 (dk_at dksX0_count_1 16 rfl rfl)
theorem dX0_count_39 : decode cX0_count 39 = .ok (.getfield 22, 3) := dk_180 0 22 (dk_at dksX0_count_1 17 rfl rfl)
theorem dX0_count_42 : decode cX0_count 42 = .ok (.invokevirtual 240, 3) := dk_182 0 240 (dk_at dksX0_count_1 20 rfl rfl)
theorem dX0_count_45 : decode cX0_count 45 = .ok (.iastore, 1) := dk_79 (dk_at dksX0_count_1 23 rfl rfl)
theorem dX0_count_46 : decode cX0_count 46 = .ok (.dup, 1) := dk_89 (dk_at dksX0_count_2 0 rfl rfl)
theorem dX0_count_47 : decode cX0_count 47 = .ok (.iconst 3, 1) := dk_6 (dk_at dksX0_count_2 1 rfl rfl)
theorem dX0_count_48 : decode cX0_count 48 = .ok (.aload_n 0, 1) := dk_42 (dk_at dksX0_count_2 2 rfl rfl)
theorem dX0_count_49 : decode cX0_count 49 = .ok (.getfield 22, 3) := dk_180 0 22 (dk_at dksX0_count_2 3 rfl rfl)
theorem dX0_count_52 : decode cX0_count 52 = .ok (.invokevirtual 243, 3) := dk_182 0 243 (dk_at dksX0_count_2 6 rfl rfl)
theorem dX0_count_55 : decode cX0_count 55 = .ok (.iastore, 1) := dk_79 (dk_at dksX0_count_2 9 rfl rfl)
theorem dX0_count_56 : decode cX0_count 56 = .ok (.dup, 1) := dk_89 (dk_at dksX0_count_2 10 rfl rfl)
theorem dX0_count_57 : decode cX0_count 57 = .ok (.iconst 4, 1) := dk_7 (dk_at dksX0_count_2 11 rfl rfl)
theorem dX0_count_58 : decode cX0_count 58 = .ok (.iload_n 2, 1) := dk_28 (dk_at dksX0_count_2 12 rfl rfl)
theorem dX0_count_59 : decode cX0_count 59 = .ok (.iastore, 1) := dk_79 (dk_at dksX0_count_2 13 rfl rfl)
theorem dX0_count_60 : decode cX0_count 60 = .ok (.dup, 1) := dk_89 (dk_at dksX0_count_2 14 rfl rfl)
theorem dX0_count_61 : decode cX0_count 61 = .ok (.iconst 5, 1) := dk_8 (dk_at dksX0_count_2 15 rfl rfl)
theorem dX0_count_62 : decode cX0_count 62 = .ok (.aload_n 0, 1) := dk_42 (dk_at dksX0_count_2 16 rfl rfl)
theorem dX0_count_63 : decode cX0_count 63 = .ok (.getfield 22, 3) := dk_180 0 22 (dk_at dksX0_count_2 17 rfl rfl)
theorem dX0_count_66 : decode cX0_count 66 = .ok (.getfield 246, 3) := dk_180 0 246 (dk_at dksX0_count_2 20 rfl rfl)
theorem dX0_count_69 : decode cX0_count 69 = .ok (.iastore, 1) := dk_79 (dk_at dksX0_count_2 23 rfl rfl)
theorem dX0_count_70 : decode cX0_count 70 = .ok (.dup, 1) := dk_89 (dk_at dksX0_count_3 0 rfl rfl)
theorem dX0_count_71 : decode cX0_count 71 = .ok (.bipush 6, 2) := dk_16 6 (dk_at dksX0_count_3 1 rfl rfl)
theorem dX0_count_73 : decode cX0_count 73 = .ok (.aload_n 0, 1) := dk_42 (dk_at dksX0_count_3 3 rfl rfl)
theorem dX0_count_74 : decode cX0_count 74 = .ok (.getfield 22, 3) := dk_180 0 22 (dk_at dksX0_count_3 4 rfl rfl)
theorem dX0_count_77 : decode cX0_count 77 = .ok (.getfield 249, 3) := dk_180 0 249 (dk_at dksX0_count_3 7 rfl rfl)
theorem dX0_count_80 : decode cX0_count 80 = .ok (.iastore, 1) := dk_79 (dk_at dksX0_count_3 10 rfl rfl)
theorem dX0_count_81 : decode cX0_count 81 = .ok (.dup, 1) := dk_89 (dk_at dksX0_count_3 11 rfl rfl)
theorem dX0_count_82 : decode cX0_count 82 = .ok (.bipush 7, 2) := dk_16 7 (dk_at dksX0_count_3 12 rfl rfl)
theorem dX0_count_84 : decode cX0_count 84 = .ok (.aload_n 0, 1) := dk_42 (dk_at dksX0_count_3 14 rfl rfl)
theorem dX0_count_85 : decode cX0_count 85 = .ok (.getfield 22, 3) := dk_180 0 22 (dk_at dksX0_count_3 15 rfl rfl)
theorem dX0_count_88 : decode cX0_count 88 = .ok (.getfield 251, 3) := dk_180 0 251 (dk_at dksX0_count_3 18 rfl rfl)
theorem dX0_count_91 : decode cX0_count 91 = .ok (.iastore, 1) := dk_79 (dk_at dksX0_count_3 21 rfl rfl)
theorem dX0_count_92 : decode cX0_count 92 = .ok (.dup, 1) := dk_89 (dk_at dksX0_count_3 22 rfl rfl)
theorem dX0_count_93 : decode cX0_count 93 = .ok (.bipush 8, 2) := dk_16 8 (dk_at dksX0_count_4 0 rfl rfl)
theorem dX0_count_95 : decode cX0_count 95 = .ok (.iload_n 2, 1) := dk_28 (dk_at dksX0_count_4 2 rfl rfl)
theorem dX0_count_96 : decode cX0_count 96 = .ok (.aload_n 0, 1) := dk_42 (dk_at dksX0_count_4 3 rfl rfl)
theorem dX0_count_97 : decode cX0_count 97 = .ok (.getfield 22, 3) := dk_180 0 22 (dk_at dksX0_count_4 4 rfl rfl)
theorem dX0_count_100 : decode cX0_count 100 = .ok (.getfield 246, 3) := dk_180 0 246 (dk_at dksX0_count_4 7 rfl rfl)
theorem dX0_count_103 : decode cX0_count 103 = .ok (.isub, 1) := dk_100 (dk_at dksX0_count_4 10 rfl rfl)
theorem dX0_count_104 : decode cX0_count 104 = .ok (.aload_n 0, 1) := dk_42 (dk_at dksX0_count_4 11 rfl rfl)
theorem dX0_count_105 : decode cX0_count 105 = .ok (.getfield 22, 3) := dk_180 0 22 (dk_at dksX0_count_4 12 rfl rfl)
theorem dX0_count_108 : decode cX0_count 108 = .ok (.getfield 249, 3) := dk_180 0 249 (dk_at dksX0_count_4 15 rfl rfl)
theorem dX0_count_111 : decode cX0_count 111 = .ok (.isub, 1) := dk_100 (dk_at dksX0_count_4 18 rfl rfl)
theorem dX0_count_112 : decode cX0_count 112 = .ok (.aload_n 0, 1) := dk_42 (dk_at dksX0_count_4 19 rfl rfl)
theorem dX0_count_113 : decode cX0_count 113 = .ok (.getfield 22, 3) := dk_180 0 22 (dk_at dksX0_count_4 20 rfl rfl)
theorem dX0_count_116 : decode cX0_count 116 = .ok (.getfield 251, 3) := dk_180 0 251 (dk_at dksX0_count_5 0 rfl rfl)
theorem dX0_count_119 : decode cX0_count 119 = .ok (.isub, 1) := dk_100 (dk_at dksX0_count_5 3 rfl rfl)
theorem dX0_count_120 : decode cX0_count 120 = .ok (.iastore, 1) := dk_79 (dk_at dksX0_count_5 4 rfl rfl)
theorem dX0_count_121 : decode cX0_count 121 = .ok (.dup, 1) := dk_89 (dk_at dksX0_count_5 5 rfl rfl)
theorem dX0_count_122 : decode cX0_count 122 = .ok (.bipush 9, 2) := dk_16 9 (dk_at dksX0_count_5 6 rfl rfl)
theorem dX0_count_124 : decode cX0_count 124 = .ok (.aload_n 0, 1) := dk_42 (dk_at dksX0_count_5 8 rfl rfl)
theorem dX0_count_125 : decode cX0_count 125 = .ok (.getfield 22, 3) := dk_180 0 22 (dk_at dksX0_count_5 9 rfl rfl)
theorem dX0_count_128 : decode cX0_count 128 = .ok (.getfield 218, 3) := dk_180 0 218 (dk_at dksX0_count_5 12 rfl rfl)
theorem dX0_count_131 : decode cX0_count 131 = .ok (.invokestatic 225, 3) := dk_184 0 225 (dk_at dksX0_count_5 15 rfl rfl)
theorem dX0_count_134 : decode cX0_count 134 = .ok (.iastore, 1) := dk_79 (dk_at dksX0_count_5 18 rfl rfl)
theorem dX0_count_135 : decode cX0_count 135 = .ok (.dup, 1) := dk_89 (dk_at dksX0_count_5 19 rfl rfl)
theorem dX0_count_136 : decode cX0_count 136 = .ok (.bipush 10, 2) := dk_16 10 (dk_at dksX0_count_5 20 rfl rfl)
theorem dX0_count_138 : decode cX0_count 138 = .ok (.aload_n 0, 1) := dk_42 (dk_at dksX0_count_5 22 rfl rfl)
theorem dX0_count_139 : decode cX0_count 139 = .ok (.getfield 22, 3) := dk_180 0 22 (dk_at dksX0_count_6 0 rfl rfl)
theorem dX0_count_142 : decode cX0_count 142 = .ok (.getfield 254, 3) := dk_180 0 254 (dk_at dksX0_count_6 3 rfl rfl)
theorem dX0_count_145 : decode cX0_count 145 = .ok (.iastore, 1) := dk_79 (dk_at dksX0_count_6 6 rfl rfl)
theorem dX0_count_146 : decode cX0_count 146 = .ok (.dup, 1) := dk_89 (dk_at dksX0_count_6 7 rfl rfl)
theorem dX0_count_147 : decode cX0_count 147 = .ok (.bipush 11, 2) := dk_16 11 (dk_at dksX0_count_6 8 rfl rfl)
theorem dX0_count_149 : decode cX0_count 149 = .ok (.aload_n 0, 1) := dk_42 (dk_at dksX0_count_6 10 rfl rfl)
theorem dX0_count_150 : decode cX0_count 150 = .ok (.getfield 22, 3) := dk_180 0 22 (dk_at dksX0_count_6 11 rfl rfl)
theorem dX0_count_153 : decode cX0_count 153 = .ok (.getfield 87, 3) := dk_180 0 87 (dk_at dksX0_count_6 14 rfl rfl)
theorem dX0_count_156 : decode cX0_count 156 = .ok (.iastore, 1) := dk_79 (dk_at dksX0_count_6 17 rfl rfl)
theorem dX0_count_157 : decode cX0_count 157 = .ok (.dup, 1) := dk_89 (dk_at dksX0_count_6 18 rfl rfl)
theorem dX0_count_158 : decode cX0_count 158 = .ok (.bipush 12, 2) := dk_16 12 (dk_at dksX0_count_6 19 rfl rfl)
theorem dX0_count_160 : decode cX0_count 160 = .ok (.aload_n 0, 1) := dk_42 (dk_at dksX0_count_6 21 rfl rfl)
theorem dX0_count_161 : decode cX0_count 161 = .ok (.getfield 22, 3) := dk_180 0 22 (dk_at dksX0_count_7 0 rfl rfl)
theorem dX0_count_164 : decode cX0_count 164 = .ok (.getfield 257, 3) := dk_180 1 1 (dk_at dksX0_count_7 3 rfl rfl)
theorem dX0_count_167 : decode cX0_count 167 = .ok (.iastore, 1) := dk_79 (dk_at dksX0_count_7 6 rfl rfl)
theorem dX0_count_168 : decode cX0_count 168 = .ok (.dup, 1) := dk_89 (dk_at dksX0_count_7 7 rfl rfl)
theorem dX0_count_169 : decode cX0_count 169 = .ok (.bipush 13, 2) := dk_16 13 (dk_at dksX0_count_7 8 rfl rfl)
theorem dX0_count_171 : decode cX0_count 171 = .ok (.aload_n 0, 1) := dk_42 (dk_at dksX0_count_7 10 rfl rfl)
theorem dX0_count_172 : decode cX0_count 172 = .ok (.getfield 29, 3) := dk_180 0 29 (dk_at dksX0_count_7 11 rfl rfl)
theorem dX0_count_175 : decode cX0_count 175 = .ok (.invokeinterface 41 1, 5) := by decide +kernel
theorem dX0_count_180 : decode cX0_count 180 = .ok (.iastore, 1) := dk_79 (dk_at dksX0_count_7 19 rfl rfl)
theorem dX0_count_181 : decode cX0_count 181 = .ok (.dup, 1) := dk_89 (dk_at dksX0_count_7 20 rfl rfl)
theorem dX0_count_182 : decode cX0_count 182 = .ok (.bipush 14, 2) := dk_16 14 (dk_at dksX0_count_7 21 rfl rfl)
theorem dX0_count_184 : decode cX0_count 184 = .ok (.aload_n 0, 1) := dk_42 (dk_at dksX0_count_7 23 rfl rfl)
theorem dX0_count_185 : decode cX0_count 185 = .ok (.getfield 36, 3) := dk_180 0 36 (dk_at dksX0_count_8 0 rfl rfl)
theorem dX0_count_188 : decode cX0_count 188 = .ok (.invokevirtual 102, 3) := dk_182 0 102 (dk_at dksX0_count_8 3 rfl rfl)
theorem dX0_count_191 : decode cX0_count 191 = .ok (.iastore, 1) := dk_79 (dk_at dksX0_count_8 6 rfl rfl)
theorem dX0_count_192 : decode cX0_count 192 = .ok (.invokestatic 4, 3) := dk_184 0 4 (dk_at dksX0_count_8 7 rfl rfl)
theorem dX0_count_195 : decode cX0_count 195 = .ok (.ireturn, 1) := dk_172 (dk_at dksX0_count_8 10 rfl rfl)
theorem q46 : (Jvm.Cond.initialized "BarnPictures") ∈ lw_all := lw_g (lw_at lw_m1 1 rfl) rfl
theorem q77 : (Jvm.Cond.instantiable "BarnPictures" (5 : Nat)) ∈ lw_all := lw_g (lw_at lw_m1 32 rfl) rfl
theorem q79 : (Jvm.Cond.instanceMethod ({ cls := "BarnPictures", name := "<init>", desc := "()V" } : Jvm.MethodName)) ∈ lw_all := lw_g (lw_at lw_m1 34 rfl) rfl
theorem q80 : (Jvm.Cond.code ({ cls := "BarnPictures", name := "<init>", desc := "()V" } : Jvm.MethodName) prog_1_method_6_code (1 : Nat) (Option.none : Option Jvm.ClassFile.FieldType)) ∈ lw_all := lw_g (lw_at lw_m1 35 rfl) rfl
theorem q81 : (Jvm.Cond.methodLink "BarnPictures" (14 : Nat) ({ cls := "java/lang/Object", name := "<init>", desc := "()V" } : Jvm.MethodName)) ∈ lw_all := lw_g (lw_at lw_m1 36 rfl) rfl
theorem q84 : (Jvm.Cond.classLink "BarnPictures" (19 : Nat) "BarnPictures$Tour") ∈ lw_all := lw_g (lw_at lw_m1 39 rfl) rfl
theorem q86 : (Jvm.Cond.methodLink "BarnPictures" (21 : Nat) ({ cls := "BarnPictures$Tour", name := "<init>", desc := "()V" } : Jvm.MethodName)) ∈ lw_all := lw_g (lw_at lw_m1 41 rfl) rfl
theorem q106 : (Jvm.Cond.fieldLinkNest "BarnPictures" (173 : Nat) "BarnPictures$Reel" "minutes" "I" "BarnPictures") ∈ lw_tbl := lw_at lw_m1 61 rfl
theorem q109 : (Jvm.Cond.fieldLinkNest "BarnPictures" (178 : Nat) "BarnPictures$Reel" "wear" "I" "BarnPictures") ∈ lw_tbl := lw_at lw_m1 64 rfl
theorem q111 : (Jvm.Cond.fieldLinkNest "BarnPictures" (181 : Nat) "BarnPictures$Reel" "splices" "I" "BarnPictures") ∈ lw_tbl := lw_at lw_m1 66 rfl
theorem q114 : (Jvm.Cond.fieldLinkNest "BarnPictures" (184 : Nat) "BarnPictures$Reel" "played" "I" "BarnPictures") ∈ lw_tbl := lw_at lw_m1 69 rfl
theorem q119 : (Jvm.Cond.fieldLinkNest "BarnPictures" (168 : Nat) "BarnPictures$Thing" "barn" "I" "BarnPictures") ∈ lw_tbl := lw_at lw_m1 74 rfl
theorem q141 : (Jvm.Cond.fieldLinkNest "BarnPictures" (194 : Nat) "BarnPictures$Generator" "minutes" "I" "BarnPictures") ∈ lw_tbl := lw_at lw_m1 96 rfl
theorem q148 : (Jvm.Cond.fieldLinkNest "BarnPictures" (164 : Nat) "BarnPictures$Tour" "reels" "[LBarnPictures$Reel;" "BarnPictures") ∈ lw_tbl := lw_at lw_m1 103 rfl
theorem q151 : (Jvm.Cond.fieldLinkNest "BarnPictures" (190 : Nat) "BarnPictures$Tour" "generators" "[LBarnPictures$Generator;" "BarnPictures") ∈ lw_tbl := lw_at lw_m1 106 rfl
theorem q154 : (Jvm.Cond.fieldLinkNest "BarnPictures" (218 : Nat) "BarnPictures$Tour" "shows" "[I" "BarnPictures") ∈ lw_tbl := lw_at lw_m1 109 rfl
theorem q156 : (Jvm.Cond.fieldLinkNest "BarnPictures" (222 : Nat) "BarnPictures$Tour" "takings" "[I" "BarnPictures") ∈ lw_tbl := lw_at lw_m1 111 rfl
theorem q158 : (Jvm.Cond.fieldLinkNest "BarnPictures" (234 : Nat) "BarnPictures$Tour" "log" "[I" "BarnPictures") ∈ lw_tbl := lw_at lw_m1 113 rfl
theorem q161 : (Jvm.Cond.fieldLinkNest "BarnPictures" (237 : Nat) "BarnPictures$Tour" "van" "I" "BarnPictures") ∈ lw_tbl := lw_at lw_m1 116 rfl
theorem q163 : (Jvm.Cond.fieldLinkNest "BarnPictures" (156 : Nat) "BarnPictures$Tour" "day" "I" "BarnPictures") ∈ lw_tbl := lw_at lw_m1 118 rfl
theorem q165 : (Jvm.Cond.fieldLinkNest "BarnPictures" (87 : Nat) "BarnPictures$Tour" "price" "I" "BarnPictures") ∈ lw_tbl := lw_at lw_m1 120 rfl
theorem q167 : (Jvm.Cond.fieldLinkNest "BarnPictures" (246 : Nat) "BarnPictures$Tour" "driving" "I" "BarnPictures") ∈ lw_tbl := lw_at lw_m1 122 rfl
theorem q169 : (Jvm.Cond.fieldLinkNest "BarnPictures" (249 : Nat) "BarnPictures$Tour" "fuel" "I" "BarnPictures") ∈ lw_tbl := lw_at lw_m1 124 rfl
theorem q171 : (Jvm.Cond.fieldLinkNest "BarnPictures" (251 : Nat) "BarnPictures$Tour" "renewing" "I" "BarnPictures") ∈ lw_tbl := lw_at lw_m1 126 rfl
theorem q173 : (Jvm.Cond.fieldLinkNest "BarnPictures" (254 : Nat) "BarnPictures$Tour" "people" "I" "BarnPictures") ∈ lw_tbl := lw_at lw_m1 128 rfl
theorem q175 : (Jvm.Cond.fieldLinkNest "BarnPictures" (257 : Nat) "BarnPictures$Tour" "splices" "I" "BarnPictures") ∈ lw_tbl := lw_at lw_m1 130 rfl
theorem q205 : (Jvm.Cond.classLink "BarnPictures" (26 : Nat) "java/util/ArrayList") ∈ lw_all := lw_g (lw_at lw_m1 160 rfl) rfl
theorem q207 : (Jvm.Cond.methodLink "BarnPictures" (28 : Nat) ({ cls := "java/util/ArrayList", name := "<init>", desc := "()V" } : Jvm.MethodName)) ∈ lw_all := lw_g (lw_at lw_m1 162 rfl) rfl
theorem q231 : (Jvm.Cond.classLink "BarnPictures" (33 : Nat) "java/lang/StringBuilder") ∈ lw_all := lw_g (lw_at lw_m1 186 rfl) rfl
theorem q233 : (Jvm.Cond.methodLink "BarnPictures" (35 : Nat) ({ cls := "java/lang/StringBuilder", name := "<init>", desc := "()V" } : Jvm.MethodName)) ∈ lw_all := lw_g (lw_at lw_m1 188 rfl) rfl
theorem q263 : (Jvm.Cond.fieldLink "BarnPictures" (22 : Nat) "BarnPictures" "tour" "LBarnPictures$Tour;") ∈ lw_all := lw_g (lw_at lw_m1 218 rfl) rfl
theorem q264 : (Jvm.Cond.fieldLink "BarnPictures" (153 : Nat) "BarnPictures" "snapshot" "LBarnPictures$Tour;") ∈ lw_all := lw_g (lw_at lw_m1 219 rfl) rfl
theorem q265 : (Jvm.Cond.fieldLink "BarnPictures" (29 : Nat) "BarnPictures" "history" "Ljava/util/List;") ∈ lw_all := lw_g (lw_at lw_m1 220 rfl) rfl
theorem q266 : (Jvm.Cond.fieldLink "BarnPictures" (36 : Nat) "BarnPictures" "text" "Ljava/lang/StringBuilder;") ∈ lw_all := lw_g (lw_at lw_m1 221 rfl) rfl
theorem q267 : (Jvm.Cond.fieldLink "BarnPictures" (141 : Nat) "BarnPictures" "stop" "LBarnPictures$Stop;") ∈ lw_all := lw_g (lw_at lw_m1 222 rfl) rfl
theorem q268 : (Jvm.Cond.lays "BarnPictures" "BarnPictures" "tour" "LBarnPictures$Tour;") ∈ lw_all := lw_g (lw_at lw_m1 223 rfl) rfl
theorem q269 : (Jvm.Cond.soleField "BarnPictures" "tour") ∈ lw_all := lw_g (lw_at lw_m1 224 rfl) rfl
theorem q270 : (Jvm.Cond.lays "BarnPictures" "BarnPictures" "snapshot" "LBarnPictures$Tour;") ∈ lw_all := lw_g (lw_at lw_m1 225 rfl) rfl
theorem q271 : (Jvm.Cond.soleField "BarnPictures" "snapshot") ∈ lw_all := lw_g (lw_at lw_m1 226 rfl) rfl
theorem q272 : (Jvm.Cond.laysFinal "BarnPictures" "BarnPictures" "history" "Ljava/util/List;") ∈ lw_all := lw_g (lw_at lw_m1 227 rfl) rfl
theorem q273 : (Jvm.Cond.soleField "BarnPictures" "history") ∈ lw_all := lw_g (lw_at lw_m1 228 rfl) rfl
theorem q274 : (Jvm.Cond.laysFinal "BarnPictures" "BarnPictures" "text" "Ljava/lang/StringBuilder;") ∈ lw_all := lw_g (lw_at lw_m1 229 rfl) rfl
theorem q275 : (Jvm.Cond.soleField "BarnPictures" "text") ∈ lw_all := lw_g (lw_at lw_m1 230 rfl) rfl
theorem q276 : (Jvm.Cond.lays "BarnPictures" "BarnPictures" "stop" "LBarnPictures$Stop;") ∈ lw_all := lw_g (lw_at lw_m1 231 rfl) rfl
theorem q277 : (Jvm.Cond.soleField "BarnPictures" "stop") ∈ lw_all := lw_g (lw_at lw_m1 232 rfl) rfl
theorem q278 : (Jvm.Cond.superclass "BarnPictures" "java/lang/Object") ∈ lw_all := lw_g (lw_at lw_m1 233 rfl) rfl
theorem q280 : (Jvm.Cond.instanceMethod ({ cls := "BarnPictures", name := "drive", desc := "(I)I" } : Jvm.MethodName)) ∈ lw_all := lw_g (lw_at lw_m1 235 rfl) rfl
theorem q281 : (Jvm.Cond.selects "BarnPictures" ({ cls := "BarnPictures", name := "drive", desc := "(I)I" } : Jvm.MethodName) ({ cls := "BarnPictures", name := "drive", desc := "(I)I" } : Jvm.MethodName)) ∈ lw_all := lw_g (lw_at lw_m1 236 rfl) rfl
theorem q282 : (Jvm.Cond.codeWith ({ cls := "BarnPictures", name := "drive", desc := "(I)I" } : Jvm.MethodName) prog_1_method_9_code (4 : Nat) (Option.some Jvm.ClassFile.FieldType.int) [((12 : Nat), (22 : Nat), (23 : Nat), (8 : Nat))]) ∈ lw_all := lw_g (lw_at lw_m1 237 rfl) rfl
theorem q283 : (Jvm.Cond.classLink "BarnPictures" (8 : Nat) "BarnPictures$Wrong") ∈ lw_all := lw_g (lw_at lw_m1 238 rfl) rfl
theorem q284 : (Jvm.Cond.methodLink "BarnPictures" (59 : Nat) ({ cls := "BarnPictures$Tour", name := "<init>", desc := "(LBarnPictures$Tour;)V" } : Jvm.MethodName)) ∈ lw_all := lw_g (lw_at lw_m1 239 rfl) rfl
theorem q302 : (Jvm.Cond.methodLink "BarnPictures" (62 : Nat) ({ cls := "BarnPictures$Tour", name := "drive", desc := "(I)I" } : Jvm.MethodName)) ∈ lw_all := lw_g (lw_at lw_m2 17 rfl) rfl
theorem q307 : (Jvm.Cond.static ({ cls := "BarnPictures", name := "inRange", desc := "(III)Z" } : Jvm.MethodName)) ∈ lw_all := lw_g (lw_at lw_m2 22 rfl) rfl
theorem q308 : (Jvm.Cond.code ({ cls := "BarnPictures", name := "inRange", desc := "(III)Z" } : Jvm.MethodName) prog_1_method_1_code (3 : Nat) (Option.some Jvm.ClassFile.FieldType.boolean)) ∈ lw_all := lw_g (lw_at lw_m2 23 rfl) rfl
theorem q311 : (Jvm.Cond.static ({ cls := "BarnPictures", name := "check", desc := "(ZI)V" } : Jvm.MethodName)) ∈ lw_all := lw_g (lw_at lw_m2 26 rfl) rfl
theorem q312 : (Jvm.Cond.code ({ cls := "BarnPictures", name := "check", desc := "(ZI)V" } : Jvm.MethodName) prog_1_method_5_code (2 : Nat) (Option.none : Option Jvm.ClassFile.FieldType)) ∈ lw_all := lw_g (lw_at lw_m2 27 rfl) rfl
theorem q353 : (Jvm.Cond.methodLink "BarnPictures" (10 : Nat) ({ cls := "BarnPictures$Wrong", name := "<init>", desc := "(I)V" } : Jvm.MethodName)) ∈ lw_all := lw_g (lw_at lw_m2 68 rfl) rfl
theorem q379 : (Jvm.Cond.static ({ cls := "BarnPictures", name := "mileOf", desc := "(I)I" } : Jvm.MethodName)) ∈ lw_all := lw_g (lw_at lw_m2 94 rfl) rfl
theorem q380 : (Jvm.Cond.code ({ cls := "BarnPictures", name := "mileOf", desc := "(I)I" } : Jvm.MethodName) prog_1_method_3_code (1 : Nat) (Option.some Jvm.ClassFile.FieldType.int)) ∈ lw_all := lw_g (lw_at lw_m2 95 rfl) rfl
theorem q381 : (Jvm.Cond.methodLink "BarnPictures" (4 : Nat) ({ cls := "BarnPictures", name := "pick", desc := "(I[I)I" } : Jvm.MethodName)) ∈ lw_all := lw_g (lw_at lw_m2 96 rfl) rfl
theorem q382 : (Jvm.Cond.static ({ cls := "BarnPictures", name := "pick", desc := "(I[I)I" } : Jvm.MethodName)) ∈ lw_all := lw_g (lw_at lw_m2 97 rfl) rfl
theorem q383 : (Jvm.Cond.code ({ cls := "BarnPictures", name := "pick", desc := "(I[I)I" } : Jvm.MethodName) prog_1_method_2_code (2 : Nat) (Option.some Jvm.ClassFile.FieldType.int)) ∈ lw_all := lw_g (lw_at lw_m2 98 rfl) rfl
theorem q384 : (Jvm.Cond.constant "BarnPictures" (3 : Nat) (-10000002 : Int32)) ∈ lw_all := lw_g (lw_at lw_m2 99 rfl) rfl
theorem q388 : (Jvm.Cond.methodLink "BarnPictures" (66 : Nat) ({ cls := "BarnPictures", name := "accept", desc := "(LBarnPictures$Tour;I)I" } : Jvm.MethodName)) ∈ lw_all := lw_g (lw_at lw_m2 103 rfl) rfl
theorem q389 : (Jvm.Cond.privateMethod ({ cls := "BarnPictures", name := "accept", desc := "(LBarnPictures$Tour;I)I" } : Jvm.MethodName)) ∈ lw_tbl := lw_at lw_m2 104 rfl
theorem q390 : (Jvm.Cond.instanceMethod ({ cls := "BarnPictures", name := "accept", desc := "(LBarnPictures$Tour;I)I" } : Jvm.MethodName)) ∈ lw_all := lw_g (lw_at lw_m2 105 rfl) rfl
theorem q391 : (Jvm.Cond.code ({ cls := "BarnPictures", name := "accept", desc := "(LBarnPictures$Tour;I)I" } : Jvm.MethodName) prog_1_method_7_code (3 : Nat) (Option.some Jvm.ClassFile.FieldType.int)) ∈ lw_all := lw_g (lw_at lw_m2 106 rfl) rfl
theorem q392 : (Jvm.Cond.constant "BarnPictures" (40 : Nat) (-10000005 : Int32)) ∈ lw_all := lw_g (lw_at lw_m2 107 rfl) rfl
theorem q393 : (Jvm.Cond.interfaceEntry "BarnPictures" (41 : Nat)) ∈ lw_tbl := lw_at lw_m2 108 rfl
theorem q394 : (Jvm.Cond.methodLink "BarnPictures" (41 : Nat) ({ cls := "java/util/List", name := "size", desc := "()I" } : Jvm.MethodName)) ∈ lw_all := lw_g (lw_at lw_m2 109 rfl) rfl
theorem q403 : (Jvm.Cond.interfaceEntry "BarnPictures" (47 : Nat)) ∈ lw_tbl := lw_at lw_m2 118 rfl
theorem q404 : (Jvm.Cond.methodLink "BarnPictures" (47 : Nat) ({ cls := "java/util/List", name := "remove", desc := "(I)Ljava/lang/Object;" } : Jvm.MethodName)) ∈ lw_all := lw_g (lw_at lw_m2 119 rfl) rfl
theorem q423 : (Jvm.Cond.interfaceEntry "BarnPictures" (51 : Nat)) ∈ lw_tbl := lw_at lw_m2 138 rfl
theorem q424 : (Jvm.Cond.methodLink "BarnPictures" (51 : Nat) ({ cls := "java/util/List", name := "add", desc := "(Ljava/lang/Object;)Z" } : Jvm.MethodName)) ∈ lw_all := lw_g (lw_at lw_m2 139 rfl) rfl
theorem q460 : (Jvm.Cond.selects "BarnPictures" ({ cls := "java/lang/Object", name := "getClass", desc := "()Ljava/lang/Class;" } : Jvm.MethodName) ({ cls := "java/lang/Object", name := "getClass", desc := "()Ljava/lang/Class;" } : Jvm.MethodName)) ∈ lw_all := lw_g (lw_at lw_m2 175 rfl) rfl
theorem q486 : (Jvm.Cond.methodLink "BarnPictures" (70 : Nat) ({ cls := "BarnPictures$Wrong", name := "code", desc := "()I" } : Jvm.MethodName)) ∈ lw_all := lw_g (lw_at lw_m2 201 rfl) rfl
theorem q491 : (Jvm.Cond.instanceMethod ({ cls := "BarnPictures", name := "moveReel", desc := "(IZ)I" } : Jvm.MethodName)) ∈ lw_all := lw_g (lw_at lw_m2 206 rfl) rfl
theorem q492 : (Jvm.Cond.selects "BarnPictures" ({ cls := "BarnPictures", name := "moveReel", desc := "(IZ)I" } : Jvm.MethodName) ({ cls := "BarnPictures", name := "moveReel", desc := "(IZ)I" } : Jvm.MethodName)) ∈ lw_all := lw_g (lw_at lw_m2 207 rfl) rfl
theorem q493 : (Jvm.Cond.codeWith ({ cls := "BarnPictures", name := "moveReel", desc := "(IZ)I" } : Jvm.MethodName) prog_1_method_10_code (5 : Nat) (Option.some Jvm.ClassFile.FieldType.int) [((12 : Nat), (23 : Nat), (24 : Nat), (8 : Nat))]) ∈ lw_all := lw_g (lw_at lw_m2 208 rfl) rfl
theorem q494 : (Jvm.Cond.methodLink "BarnPictures" (73 : Nat) ({ cls := "BarnPictures$Tour", name := "moveReel", desc := "(IZ)I" } : Jvm.MethodName)) ∈ lw_all := lw_g (lw_at lw_m2 209 rfl) rfl
theorem q531 : (Jvm.Cond.instanceMethod ({ cls := "BarnPictures", name := "moveGenerator", desc := "(IZ)I" } : Jvm.MethodName)) ∈ lw_all := lw_g (lw_at lw_m3 6 rfl) rfl
theorem q532 : (Jvm.Cond.selects "BarnPictures" ({ cls := "BarnPictures", name := "moveGenerator", desc := "(IZ)I" } : Jvm.MethodName) ({ cls := "BarnPictures", name := "moveGenerator", desc := "(IZ)I" } : Jvm.MethodName)) ∈ lw_all := lw_g (lw_at lw_m3 7 rfl) rfl
theorem q533 : (Jvm.Cond.codeWith ({ cls := "BarnPictures", name := "moveGenerator", desc := "(IZ)I" } : Jvm.MethodName) prog_1_method_11_code (5 : Nat) (Option.some Jvm.ClassFile.FieldType.int) [((12 : Nat), (23 : Nat), (24 : Nat), (8 : Nat))]) ∈ lw_all := lw_g (lw_at lw_m3 8 rfl) rfl
theorem q534 : (Jvm.Cond.methodLink "BarnPictures" (77 : Nat) ({ cls := "BarnPictures$Tour", name := "moveGenerator", desc := "(IZ)I" } : Jvm.MethodName)) ∈ lw_all := lw_g (lw_at lw_m3 9 rfl) rfl
theorem q539 : (Jvm.Cond.instanceMethod ({ cls := "BarnPictures", name := "fuel", desc := "(II)I" } : Jvm.MethodName)) ∈ lw_all := lw_g (lw_at lw_m3 14 rfl) rfl
theorem q540 : (Jvm.Cond.selects "BarnPictures" ({ cls := "BarnPictures", name := "fuel", desc := "(II)I" } : Jvm.MethodName) ({ cls := "BarnPictures", name := "fuel", desc := "(II)I" } : Jvm.MethodName)) ∈ lw_all := lw_g (lw_at lw_m3 15 rfl) rfl
theorem q541 : (Jvm.Cond.codeWith ({ cls := "BarnPictures", name := "fuel", desc := "(II)I" } : Jvm.MethodName) prog_1_method_12_code (5 : Nat) (Option.some Jvm.ClassFile.FieldType.int) [((12 : Nat), (23 : Nat), (24 : Nat), (8 : Nat))]) ∈ lw_all := lw_g (lw_at lw_m3 16 rfl) rfl
theorem q542 : (Jvm.Cond.methodLink "BarnPictures" (80 : Nat) ({ cls := "BarnPictures$Tour", name := "fuel", desc := "(II)I" } : Jvm.MethodName)) ∈ lw_all := lw_g (lw_at lw_m3 17 rfl) rfl
theorem q550 : (Jvm.Cond.instanceMethod ({ cls := "BarnPictures", name := "renew", desc := "(I)I" } : Jvm.MethodName)) ∈ lw_all := lw_g (lw_at lw_m3 25 rfl) rfl
theorem q551 : (Jvm.Cond.selects "BarnPictures" ({ cls := "BarnPictures", name := "renew", desc := "(I)I" } : Jvm.MethodName) ({ cls := "BarnPictures", name := "renew", desc := "(I)I" } : Jvm.MethodName)) ∈ lw_all := lw_g (lw_at lw_m3 26 rfl) rfl
theorem q552 : (Jvm.Cond.codeWith ({ cls := "BarnPictures", name := "renew", desc := "(I)I" } : Jvm.MethodName) prog_1_method_13_code (4 : Nat) (Option.some Jvm.ClassFile.FieldType.int) [((12 : Nat), (22 : Nat), (23 : Nat), (8 : Nat))]) ∈ lw_all := lw_g (lw_at lw_m3 27 rfl) rfl
theorem q553 : (Jvm.Cond.methodLink "BarnPictures" (84 : Nat) ({ cls := "BarnPictures$Tour", name := "renew", desc := "(I)I" } : Jvm.MethodName)) ∈ lw_all := lw_g (lw_at lw_m3 28 rfl) rfl
theorem q565 : (Jvm.Cond.instanceMethod ({ cls := "BarnPictures", name := "setPrice", desc := "(I)I" } : Jvm.MethodName)) ∈ lw_all := lw_g (lw_at lw_m3 40 rfl) rfl
theorem q566 : (Jvm.Cond.selects "BarnPictures" ({ cls := "BarnPictures", name := "setPrice", desc := "(I)I" } : Jvm.MethodName) ({ cls := "BarnPictures", name := "setPrice", desc := "(I)I" } : Jvm.MethodName)) ∈ lw_all := lw_g (lw_at lw_m3 41 rfl) rfl
theorem q567 : (Jvm.Cond.code ({ cls := "BarnPictures", name := "setPrice", desc := "(I)I" } : Jvm.MethodName) prog_1_method_14_code (4 : Nat) (Option.some Jvm.ClassFile.FieldType.int)) ∈ lw_all := lw_g (lw_at lw_m3 42 rfl) rfl
theorem q568 : (Jvm.Cond.methodLink "BarnPictures" (55 : Nat) ({ cls := "BarnPictures", name := "inRange", desc := "(III)Z" } : Jvm.MethodName)) ∈ lw_all := lw_g (lw_at lw_m3 43 rfl) rfl
theorem q570 : (Jvm.Cond.instanceMethod ({ cls := "BarnPictures", name := "show", desc := "(I)I" } : Jvm.MethodName)) ∈ lw_all := lw_g (lw_at lw_m3 45 rfl) rfl
theorem q571 : (Jvm.Cond.selects "BarnPictures" ({ cls := "BarnPictures", name := "show", desc := "(I)I" } : Jvm.MethodName) ({ cls := "BarnPictures", name := "show", desc := "(I)I" } : Jvm.MethodName)) ∈ lw_all := lw_g (lw_at lw_m3 46 rfl) rfl
theorem q572 : (Jvm.Cond.codeWith ({ cls := "BarnPictures", name := "show", desc := "(I)I" } : Jvm.MethodName) prog_1_method_15_code (4 : Nat) (Option.some Jvm.ClassFile.FieldType.int) [((12 : Nat), (22 : Nat), (23 : Nat), (8 : Nat)), ((12 : Nat), (22 : Nat), (23 : Nat), (94 : Nat))]) ∈ lw_all := lw_g (lw_at lw_m3 47 rfl) rfl
theorem q573 : (Jvm.Cond.classLink "BarnPictures" (94 : Nat) "BarnPictures$NoShow") ∈ lw_all := lw_g (lw_at lw_m3 48 rfl) rfl
theorem q574 : (Jvm.Cond.methodLink "BarnPictures" (91 : Nat) ({ cls := "BarnPictures$Tour", name := "show", desc := "(I)I" } : Jvm.MethodName)) ∈ lw_all := lw_g (lw_at lw_m3 49 rfl) rfl
theorem q622 : (Jvm.Cond.static ({ cls := "BarnPictures", name := "seatsOf", desc := "(I)I" } : Jvm.MethodName)) ∈ lw_all := lw_g (lw_at lw_m3 97 rfl) rfl
theorem q623 : (Jvm.Cond.code ({ cls := "BarnPictures", name := "seatsOf", desc := "(I)I" } : Jvm.MethodName) prog_1_method_4_code (1 : Nat) (Option.some Jvm.ClassFile.FieldType.int)) ∈ lw_all := lw_g (lw_at lw_m3 98 rfl) rfl
theorem q636 : (Jvm.Cond.methodLink "BarnPictures" (96 : Nat) ({ cls := "BarnPictures$Refusal", name := "code", desc := "()I" } : Jvm.MethodName)) ∈ lw_all := lw_g (lw_at lw_m3 111 rfl) rfl
theorem q645 : (Jvm.Cond.instanceMethod ({ cls := "BarnPictures", name := "nextDay", desc := "()I" } : Jvm.MethodName)) ∈ lw_all := lw_g (lw_at lw_m3 120 rfl) rfl
theorem q646 : (Jvm.Cond.selects "BarnPictures" ({ cls := "BarnPictures", name := "nextDay", desc := "()I" } : Jvm.MethodName) ({ cls := "BarnPictures", name := "nextDay", desc := "()I" } : Jvm.MethodName)) ∈ lw_all := lw_g (lw_at lw_m3 121 rfl) rfl
theorem q647 : (Jvm.Cond.codeWith ({ cls := "BarnPictures", name := "nextDay", desc := "()I" } : Jvm.MethodName) prog_1_method_16_code (3 : Nat) (Option.some Jvm.ClassFile.FieldType.int) [((12 : Nat), (21 : Nat), (22 : Nat), (8 : Nat))]) ∈ lw_all := lw_g (lw_at lw_m3 122 rfl) rfl
theorem q648 : (Jvm.Cond.methodLink "BarnPictures" (99 : Nat) ({ cls := "BarnPictures$Tour", name := "nextDay", desc := "()I" } : Jvm.MethodName)) ∈ lw_all := lw_g (lw_at lw_m3 123 rfl) rfl
theorem q653 : (Jvm.Cond.instanceMethod ({ cls := "BarnPictures", name := "type", desc := "(C)I" } : Jvm.MethodName)) ∈ lw_all := lw_g (lw_at lw_m3 128 rfl) rfl
theorem q654 : (Jvm.Cond.selects "BarnPictures" ({ cls := "BarnPictures", name := "type", desc := "(C)I" } : Jvm.MethodName) ({ cls := "BarnPictures", name := "type", desc := "(C)I" } : Jvm.MethodName)) ∈ lw_all := lw_g (lw_at lw_m3 129 rfl) rfl
theorem q655 : (Jvm.Cond.code ({ cls := "BarnPictures", name := "type", desc := "(C)I" } : Jvm.MethodName) prog_1_method_17_code (2 : Nat) (Option.some Jvm.ClassFile.FieldType.int)) ∈ lw_all := lw_g (lw_at lw_m3 130 rfl) rfl
theorem q656 : (Jvm.Cond.methodLink "BarnPictures" (102 : Nat) ({ cls := "java/lang/StringBuilder", name := "length", desc := "()I" } : Jvm.MethodName)) ∈ lw_all := lw_g (lw_at lw_m3 131 rfl) rfl
theorem q663 : (Jvm.Cond.constant "BarnPictures" (105 : Nat) (-10000003 : Int32)) ∈ lw_all := lw_g (lw_at lw_m3 138 rfl) rfl
theorem q664 : (Jvm.Cond.methodLink "BarnPictures" (106 : Nat) ({ cls := "java/lang/StringBuilder", name := "append", desc := "(C)Ljava/lang/StringBuilder;" } : Jvm.MethodName)) ∈ lw_all := lw_g (lw_at lw_m3 139 rfl) rfl
theorem q743 : (Jvm.Cond.instanceMethod ({ cls := "BarnPictures", name := "clearText", desc := "()I" } : Jvm.MethodName)) ∈ lw_all := lw_g (lw_at lw_m3 218 rfl) rfl
theorem q744 : (Jvm.Cond.selects "BarnPictures" ({ cls := "BarnPictures", name := "clearText", desc := "()I" } : Jvm.MethodName) ({ cls := "BarnPictures", name := "clearText", desc := "()I" } : Jvm.MethodName)) ∈ lw_all := lw_g (lw_at lw_m3 219 rfl) rfl
theorem q745 : (Jvm.Cond.code ({ cls := "BarnPictures", name := "clearText", desc := "()I" } : Jvm.MethodName) prog_1_method_18_code (2 : Nat) (Option.some Jvm.ClassFile.FieldType.int)) ∈ lw_all := lw_g (lw_at lw_m3 220 rfl) rfl
theorem q746 : (Jvm.Cond.methodLink "BarnPictures" (110 : Nat) ({ cls := "java/lang/StringBuilder", name := "setLength", desc := "(I)V" } : Jvm.MethodName)) ∈ lw_all := lw_g (lw_at lw_m3 221 rfl) rfl
theorem q767 : (Jvm.Cond.instanceMethod ({ cls := "BarnPictures", name := "perform", desc := "()I" } : Jvm.MethodName)) ∈ lw_all := lw_g (lw_at lw_m4 2 rfl) rfl
theorem q768 : (Jvm.Cond.selects "BarnPictures" ({ cls := "BarnPictures", name := "perform", desc := "()I" } : Jvm.MethodName) ({ cls := "BarnPictures", name := "perform", desc := "()I" } : Jvm.MethodName)) ∈ lw_all := lw_g (lw_at lw_m4 3 rfl) rfl
theorem q769 : (Jvm.Cond.codeWith ({ cls := "BarnPictures", name := "perform", desc := "()I" } : Jvm.MethodName) prog_1_method_19_code (4 : Nat) (Option.some Jvm.ClassFile.FieldType.int) [((24 : Nat), (81 : Nat), (82 : Nat), (133 : Nat)), ((24 : Nat), (81 : Nat), (91 : Nat), (139 : Nat))]) ∈ lw_all := lw_g (lw_at lw_m4 4 rfl) rfl
theorem q770 : (Jvm.Cond.classLink "BarnPictures" (133 : Nat) "BarnPictures$TextFault") ∈ lw_all := lw_g (lw_at lw_m4 5 rfl) rfl
theorem q771 : (Jvm.Cond.classLink "BarnPictures" (139 : Nat) "BarnPictures$Stop") ∈ lw_all := lw_g (lw_at lw_m4 6 rfl) rfl
theorem q772 : (Jvm.Cond.classLink "BarnPictures" (113 : Nat) "BarnPictures$Reader") ∈ lw_all := lw_g (lw_at lw_m4 7 rfl) rfl
theorem q774 : (Jvm.Cond.methodLink "BarnPictures" (115 : Nat) ({ cls := "BarnPictures$Reader", name := "<init>", desc := "(Ljava/lang/CharSequence;)V" } : Jvm.MethodName)) ∈ lw_all := lw_g (lw_at lw_m4 9 rfl) rfl
theorem q782 : (Jvm.Cond.fieldLinkNest "BarnPictures" (121 : Nat) "BarnPictures$Reader" "commands" "Ljava/util/List;" "BarnPictures") ∈ lw_tbl := lw_at lw_m4 17 rfl
theorem q791 : (Jvm.Cond.methodLink "BarnPictures" (118 : Nat) ({ cls := "BarnPictures$Reader", name := "read", desc := "()V" } : Jvm.MethodName)) ∈ lw_all := lw_g (lw_at lw_m4 26 rfl) rfl
theorem q907 : (Jvm.Cond.fieldLinkNest "BarnPictures" (136 : Nat) "BarnPictures$TextFault" "place" "I" "BarnPictures") ∈ lw_tbl := lw_at lw_m4 142 rfl
theorem q947 : (Jvm.Cond.interfaceEntry "BarnPictures" (124 : Nat)) ∈ lw_tbl := lw_at lw_m4 182 rfl
theorem q948 : (Jvm.Cond.methodLink "BarnPictures" (124 : Nat) ({ cls := "java/util/List", name := "get", desc := "(I)Ljava/lang/Object;" } : Jvm.MethodName)) ∈ lw_all := lw_g (lw_at lw_m4 183 rfl) rfl
theorem q960 : (Jvm.Cond.classLink "BarnPictures" (127 : Nat) "BarnPictures$Command") ∈ lw_all := lw_g (lw_at lw_m4 195 rfl) rfl
theorem q961 : (Jvm.Cond.methodLink "BarnPictures" (129 : Nat) ({ cls := "BarnPictures$Command", name := "act", desc := "(LBarnPictures$Tour;I)V" } : Jvm.MethodName)) ∈ lw_all := lw_g (lw_at lw_m4 196 rfl) rfl
theorem q999 : (Jvm.Cond.constant "BarnPictures" (135 : Nat) (-10000200 : Int32)) ∈ lw_all := lw_g (lw_at lw_m4 234 rfl) rfl
theorem q1000 : (Jvm.Cond.constant "BarnPictures" (145 : Nat) (-10000004 : Int32)) ∈ lw_all := lw_g (lw_at lw_m4 235 rfl) rfl
theorem q1002 : (Jvm.Cond.instanceMethod ({ cls := "BarnPictures", name := "stopped", desc := "(I)I" } : Jvm.MethodName)) ∈ lw_all := lw_g (lw_at lw_m4 237 rfl) rfl
theorem q1003 : (Jvm.Cond.selects "BarnPictures" ({ cls := "BarnPictures", name := "stopped", desc := "(I)I" } : Jvm.MethodName) ({ cls := "BarnPictures", name := "stopped", desc := "(I)I" } : Jvm.MethodName)) ∈ lw_all := lw_g (lw_at lw_m4 238 rfl) rfl
theorem q1004 : (Jvm.Cond.code ({ cls := "BarnPictures", name := "stopped", desc := "(I)I" } : Jvm.MethodName) prog_1_method_20_code (2 : Nat) (Option.some Jvm.ClassFile.FieldType.int)) ∈ lw_all := lw_g (lw_at lw_m4 239 rfl) rfl
theorem q1005 : (Jvm.Cond.methodLink "BarnPictures" (146 : Nat) ({ cls := "BarnPictures$Stop", name := "told", desc := "(I)I" } : Jvm.MethodName)) ∈ lw_all := lw_g (lw_at lw_m5 0 rfl) rfl
theorem q1011 : (Jvm.Cond.instanceMethod ({ cls := "BarnPictures", name := "undo", desc := "()I" } : Jvm.MethodName)) ∈ lw_all := lw_g (lw_at lw_m5 6 rfl) rfl
theorem q1012 : (Jvm.Cond.selects "BarnPictures" ({ cls := "BarnPictures", name := "undo", desc := "()I" } : Jvm.MethodName) ({ cls := "BarnPictures", name := "undo", desc := "()I" } : Jvm.MethodName)) ∈ lw_all := lw_g (lw_at lw_m5 7 rfl) rfl
theorem q1013 : (Jvm.Cond.code ({ cls := "BarnPictures", name := "undo", desc := "()I" } : Jvm.MethodName) prog_1_method_21_code (1 : Nat) (Option.some Jvm.ClassFile.FieldType.int)) ∈ lw_all := lw_g (lw_at lw_m5 8 rfl) rfl
theorem q1014 : (Jvm.Cond.interfaceEntry "BarnPictures" (149 : Nat)) ∈ lw_tbl := lw_at lw_m5 9 rfl
theorem q1015 : (Jvm.Cond.methodLink "BarnPictures" (149 : Nat) ({ cls := "java/util/List", name := "isEmpty", desc := "()Z" } : Jvm.MethodName)) ∈ lw_all := lw_g (lw_at lw_m5 10 rfl) rfl
theorem q1024 : (Jvm.Cond.instanceMethod ({ cls := "BarnPictures", name := "keep", desc := "()I" } : Jvm.MethodName)) ∈ lw_all := lw_g (lw_at lw_m5 19 rfl) rfl
theorem q1025 : (Jvm.Cond.selects "BarnPictures" ({ cls := "BarnPictures", name := "keep", desc := "()I" } : Jvm.MethodName) ({ cls := "BarnPictures", name := "keep", desc := "()I" } : Jvm.MethodName)) ∈ lw_all := lw_g (lw_at lw_m5 20 rfl) rfl
theorem q1026 : (Jvm.Cond.code ({ cls := "BarnPictures", name := "keep", desc := "()I" } : Jvm.MethodName) prog_1_method_22_code (1 : Nat) (Option.some Jvm.ClassFile.FieldType.int)) ∈ lw_all := lw_g (lw_at lw_m5 21 rfl) rfl
theorem q1028 : (Jvm.Cond.instanceMethod ({ cls := "BarnPictures", name := "restore", desc := "()I" } : Jvm.MethodName)) ∈ lw_all := lw_g (lw_at lw_m5 23 rfl) rfl
theorem q1029 : (Jvm.Cond.selects "BarnPictures" ({ cls := "BarnPictures", name := "restore", desc := "()I" } : Jvm.MethodName) ({ cls := "BarnPictures", name := "restore", desc := "()I" } : Jvm.MethodName)) ∈ lw_all := lw_g (lw_at lw_m5 24 rfl) rfl
theorem q1030 : (Jvm.Cond.code ({ cls := "BarnPictures", name := "restore", desc := "()I" } : Jvm.MethodName) prog_1_method_23_code (1 : Nat) (Option.some Jvm.ClassFile.FieldType.int)) ∈ lw_all := lw_g (lw_at lw_m5 25 rfl) rfl
theorem q1032 : (Jvm.Cond.instanceMethod ({ cls := "BarnPictures", name := "reel", desc := "(II)I" } : Jvm.MethodName)) ∈ lw_all := lw_g (lw_at lw_m5 27 rfl) rfl
theorem q1033 : (Jvm.Cond.selects "BarnPictures" ({ cls := "BarnPictures", name := "reel", desc := "(II)I" } : Jvm.MethodName) ({ cls := "BarnPictures", name := "reel", desc := "(II)I" } : Jvm.MethodName)) ∈ lw_all := lw_g (lw_at lw_m5 28 rfl) rfl
theorem q1034 : (Jvm.Cond.code ({ cls := "BarnPictures", name := "reel", desc := "(II)I" } : Jvm.MethodName) prog_1_method_24_code (4 : Nat) (Option.some Jvm.ClassFile.FieldType.int)) ∈ lw_all := lw_g (lw_at lw_m5 29 rfl) rfl
theorem q1035 : (Jvm.Cond.methodLink "BarnPictures" (159 : Nat) ({ cls := "BarnPictures$Tour", name := "isReel", desc := "(I)Z" } : Jvm.MethodName)) ∈ lw_all := lw_g (lw_at lw_m5 30 rfl) rfl
theorem q1036 : (Jvm.Cond.constant "BarnPictures" (163 : Nat) (-10000001 : Int32)) ∈ lw_all := lw_g (lw_at lw_m5 31 rfl) rfl
theorem q1037 : (Jvm.Cond.methodLink "BarnPictures" (187 : Nat) ({ cls := "BarnPictures$Reel", name := "bears", desc := "()I" } : Jvm.MethodName)) ∈ lw_all := lw_g (lw_at lw_m5 32 rfl) rfl
theorem q1045 : (Jvm.Cond.instanceMethod ({ cls := "BarnPictures", name := "generator", desc := "(II)I" } : Jvm.MethodName)) ∈ lw_all := lw_g (lw_at lw_m5 40 rfl) rfl
theorem q1046 : (Jvm.Cond.selects "BarnPictures" ({ cls := "BarnPictures", name := "generator", desc := "(II)I" } : Jvm.MethodName) ({ cls := "BarnPictures", name := "generator", desc := "(II)I" } : Jvm.MethodName)) ∈ lw_all := lw_g (lw_at lw_m5 41 rfl) rfl
theorem q1047 : (Jvm.Cond.code ({ cls := "BarnPictures", name := "generator", desc := "(II)I" } : Jvm.MethodName) prog_1_method_25_code (3 : Nat) (Option.some Jvm.ClassFile.FieldType.int)) ∈ lw_all := lw_g (lw_at lw_m5 42 rfl) rfl
theorem q1049 : (Jvm.Cond.instanceMethod ({ cls := "BarnPictures", name := "barn", desc := "(II)I" } : Jvm.MethodName)) ∈ lw_all := lw_g (lw_at lw_m5 44 rfl) rfl
theorem q1050 : (Jvm.Cond.selects "BarnPictures" ({ cls := "BarnPictures", name := "barn", desc := "(II)I" } : Jvm.MethodName) ({ cls := "BarnPictures", name := "barn", desc := "(II)I" } : Jvm.MethodName)) ∈ lw_all := lw_g (lw_at lw_m5 45 rfl) rfl
theorem q1051 : (Jvm.Cond.code ({ cls := "BarnPictures", name := "barn", desc := "(II)I" } : Jvm.MethodName) prog_1_method_26_code (3 : Nat) (Option.some Jvm.ClassFile.FieldType.int)) ∈ lw_all := lw_g (lw_at lw_m5 46 rfl) rfl
theorem q1052 : (Jvm.Cond.methodLink "BarnPictures" (197 : Nat) ({ cls := "BarnPictures", name := "isBarn", desc := "(I)Z" } : Jvm.MethodName)) ∈ lw_all := lw_g (lw_at lw_m5 47 rfl) rfl
theorem q1053 : (Jvm.Cond.static ({ cls := "BarnPictures", name := "isBarn", desc := "(I)Z" } : Jvm.MethodName)) ∈ lw_all := lw_g (lw_at lw_m5 48 rfl) rfl
theorem q1054 : (Jvm.Cond.code ({ cls := "BarnPictures", name := "isBarn", desc := "(I)Z" } : Jvm.MethodName) prog_1_method_8_code (1 : Nat) (Option.some Jvm.ClassFile.FieldType.boolean)) ∈ lw_all := lw_g (lw_at lw_m5 49 rfl) rfl
theorem q1055 : (Jvm.Cond.methodLink "BarnPictures" (200 : Nat) ({ cls := "BarnPictures", name := "mileOf", desc := "(I)I" } : Jvm.MethodName)) ∈ lw_all := lw_g (lw_at lw_m5 50 rfl) rfl
theorem q1056 : (Jvm.Cond.methodLink "BarnPictures" (203 : Nat) ({ cls := "BarnPictures", name := "seatsOf", desc := "(I)I" } : Jvm.MethodName)) ∈ lw_all := lw_g (lw_at lw_m5 51 rfl) rfl
theorem q1057 : (Jvm.Cond.methodLink "BarnPictures" (206 : Nat) ({ cls := "BarnPictures$Tour", name := "reelsIn", desc := "(I)I" } : Jvm.MethodName)) ∈ lw_all := lw_g (lw_at lw_m5 52 rfl) rfl
theorem q1058 : (Jvm.Cond.methodLink "BarnPictures" (209 : Nat) ({ cls := "BarnPictures$Tour", name := "minutesIn", desc := "(I)I" } : Jvm.MethodName)) ∈ lw_all := lw_g (lw_at lw_m5 53 rfl) rfl
theorem q1059 : (Jvm.Cond.methodLink "BarnPictures" (212 : Nat) ({ cls := "BarnPictures$Tour", name := "peopleFor", desc := "(I)I" } : Jvm.MethodName)) ∈ lw_all := lw_g (lw_at lw_m5 54 rfl) rfl
theorem q1060 : (Jvm.Cond.methodLink "BarnPictures" (215 : Nat) ({ cls := "BarnPictures$Tour", name := "reason", desc := "(I)I" } : Jvm.MethodName)) ∈ lw_all := lw_g (lw_at lw_m5 55 rfl) rfl
theorem q1062 : (Jvm.Cond.instanceMethod ({ cls := "BarnPictures", name := "bestBarn", desc := "()I" } : Jvm.MethodName)) ∈ lw_all := lw_g (lw_at lw_m5 57 rfl) rfl
theorem q1063 : (Jvm.Cond.selects "BarnPictures" ({ cls := "BarnPictures", name := "bestBarn", desc := "()I" } : Jvm.MethodName) ({ cls := "BarnPictures", name := "bestBarn", desc := "()I" } : Jvm.MethodName)) ∈ lw_all := lw_g (lw_at lw_m5 58 rfl) rfl
theorem q1064 : (Jvm.Cond.code ({ cls := "BarnPictures", name := "bestBarn", desc := "()I" } : Jvm.MethodName) prog_1_method_27_code (3 : Nat) (Option.some Jvm.ClassFile.FieldType.int)) ∈ lw_all := lw_g (lw_at lw_m5 59 rfl) rfl
theorem q1066 : (Jvm.Cond.instanceMethod ({ cls := "BarnPictures", name := "ifPrice", desc := "(II)I" } : Jvm.MethodName)) ∈ lw_all := lw_g (lw_at lw_m5 61 rfl) rfl
theorem q1067 : (Jvm.Cond.selects "BarnPictures" ({ cls := "BarnPictures", name := "ifPrice", desc := "(II)I" } : Jvm.MethodName) ({ cls := "BarnPictures", name := "ifPrice", desc := "(II)I" } : Jvm.MethodName)) ∈ lw_all := lw_g (lw_at lw_m5 62 rfl) rfl
theorem q1068 : (Jvm.Cond.code ({ cls := "BarnPictures", name := "ifPrice", desc := "(II)I" } : Jvm.MethodName) prog_1_method_28_code (3 : Nat) (Option.some Jvm.ClassFile.FieldType.int)) ∈ lw_all := lw_g (lw_at lw_m5 63 rfl) rfl
theorem q1070 : (Jvm.Cond.instanceMethod ({ cls := "BarnPictures", name := "showOf", desc := "(II)I" } : Jvm.MethodName)) ∈ lw_all := lw_g (lw_at lw_m5 65 rfl) rfl
theorem q1071 : (Jvm.Cond.selects "BarnPictures" ({ cls := "BarnPictures", name := "showOf", desc := "(II)I" } : Jvm.MethodName) ({ cls := "BarnPictures", name := "showOf", desc := "(II)I" } : Jvm.MethodName)) ∈ lw_all := lw_g (lw_at lw_m5 66 rfl) rfl
theorem q1072 : (Jvm.Cond.code ({ cls := "BarnPictures", name := "showOf", desc := "(II)I" } : Jvm.MethodName) prog_1_method_29_code (3 : Nat) (Option.some Jvm.ClassFile.FieldType.int)) ∈ lw_all := lw_g (lw_at lw_m5 67 rfl) rfl
theorem q1073 : (Jvm.Cond.methodLink "BarnPictures" (225 : Nat) ({ cls := "BarnPictures$Tour", name := "sum", desc := "([I)I" } : Jvm.MethodName)) ∈ lw_all := lw_g (lw_at lw_m5 68 rfl) rfl
theorem q1076 : (Jvm.Cond.methodLink "BarnPictures" (229 : Nat) ({ cls := "java/lang/Math", name := "min", desc := "(II)I" } : Jvm.MethodName)) ∈ lw_all := lw_g (lw_at lw_m5 71 rfl) rfl
theorem q1078 : (Jvm.Cond.instanceMethod ({ cls := "BarnPictures", name := "count", desc := "(I)I" } : Jvm.MethodName)) ∈ lw_all := lw_g (lw_at lw_m5 73 rfl) rfl
theorem q1079 : (Jvm.Cond.selects "BarnPictures" ({ cls := "BarnPictures", name := "count", desc := "(I)I" } : Jvm.MethodName) ({ cls := "BarnPictures", name := "count", desc := "(I)I" } : Jvm.MethodName)) ∈ lw_all := lw_g (lw_at lw_m5 74 rfl) rfl
theorem q1080 : (Jvm.Cond.code ({ cls := "BarnPictures", name := "count", desc := "(I)I" } : Jvm.MethodName) prog_1_method_30_code (3 : Nat) (Option.some Jvm.ClassFile.FieldType.int)) ∈ lw_all := lw_g (lw_at lw_m5 75 rfl) rfl
theorem q1081 : (Jvm.Cond.methodLink "BarnPictures" (240 : Nat) ({ cls := "BarnPictures$Tour", name := "things", desc := "()I" } : Jvm.MethodName)) ∈ lw_all := lw_g (lw_at lw_m5 76 rfl) rfl
theorem q1082 : (Jvm.Cond.methodLink "BarnPictures" (243 : Nat) ({ cls := "BarnPictures$Tour", name := "gone", desc := "()I" } : Jvm.MethodName)) ∈ lw_all := lw_g (lw_at lw_m5 77 rfl) rfl
theorem q1384 : (Jvm.Cond.castable "BarnPictures" "java/lang/Object") ∈ lw_tbl := lw_at lw_m6 139 rfl
theorem in_X0 : ∀ w ∈ wsX00, w ∈ lw_all := lw_in wsX00 [268, 270, 272, 274, 276] (by decide +kernel) (by decide +kernel)
/-! BarnPictures$Tour -/
set_option maxRecDepth 100000
def RX1 : String := "BarnPictures$Tour"
def TX1 : u_T := fun k => match k with
  | 0 => ("BarnPictures$Tour", "reels", "[LBarnPictures$Reel;", true)
  | 1 => ("BarnPictures$Tour", "generators", "[LBarnPictures$Generator;", true)
  | 2 => ("BarnPictures$Tour", "lastShow", "[I", true)
  | 3 => ("BarnPictures$Tour", "shows", "[I", true)
  | 4 => ("BarnPictures$Tour", "takings", "[I", true)
  | 5 => ("BarnPictures$Tour", "log", "[I", true)
  | 6 => ("BarnPictures$Tour", "van", "I", false)
  | 7 => ("BarnPictures$Tour", "day", "I", false)
  | 8 => ("BarnPictures$Tour", "price", "I", false)
  | 9 => ("BarnPictures$Tour", "driving", "I", false)
  | 10 => ("BarnPictures$Tour", "fuel", "I", false)
  | 11 => ("BarnPictures$Tour", "renewing", "I", false)
  | 12 => ("BarnPictures$Tour", "people", "I", false)
  | _ => ("BarnPictures$Tour", "splices", "I", false)
def tyX1 : Nat → FieldType := fun k => match k with
  | 0 => .array (.object "BarnPictures$Reel")
  | 1 => .array (.object "BarnPictures$Generator")
  | 2 => .array .int
  | 3 => .array .int
  | 4 => .array .int
  | 5 => .array .int
  | 6 => .int
  | 7 => .int
  | 8 => .int
  | 9 => .int
  | 10 => .int
  | 11 => .int
  | 12 => .int
  | _ => .int
abbrev wsX10 : List Cond := u_ws RX1 TX1 14
set_option maxRecDepth 100000 in
theorem nmX1 : ∀ a, a < 14 → ∀ b, b < 14 → a ≠ b → (TX1 a).2.1 ≠ (TX1 b).2.1 := by decide +kernel
set_option maxRecDepth 100000 in
theorem tyX1_ok : ∀ k, k < 14 → parseFieldDescriptor (TX1 k).2.2.1 = some (tyX1 k) := by decide +kernel
abbrev cX1_init : ByteArray := prog_11_method_1_code
def yX1_init : MethodName := ⟨RX1, "<init>", "()V"⟩
def dkwX1_init_5 : List UInt8 := [180, 0, 23, 27, 18, 44, 79, 132, 1, 1, 167, 255, 240, 177]
abbrev dktX1_init_5 : List UInt8 := dkwX1_init_5 ++ []
def dkwX1_init_4 : List UInt8 := [187, 0, 17, 89, 183, 0, 43, 83, 132, 1, 1, 167, 255, 235, 3, 60, 27, 8, 162, 0, 17, 42]
abbrev dktX1_init_4 : List UInt8 := dkwX1_init_4 ++ dktX1_init_5
def dkwX1_init_3 : List UInt8 := [89, 27, 183, 0, 40, 83, 132, 1, 1, 167, 255, 233, 3, 60, 27, 5, 162, 0, 22, 42, 180, 0, 19, 27]
abbrev dktX1_init_3 : List UInt8 := dkwX1_init_3 ++ dktX1_init_4
def dkwX1_init_2 : List UInt8 := [181, 0, 33, 42, 7, 181, 0, 36, 3, 60, 27, 16, 10, 162, 0, 23, 42, 180, 0, 11, 27, 187, 0, 9]
abbrev dktX1_init_2 : List UInt8 := dkwX1_init_2 ++ dktX1_init_3
def dkwX1_init_1 : List UInt8 := [188, 10, 181, 0, 23, 42, 8, 188, 10, 181, 0, 27, 42, 8, 188, 10, 181, 0, 30, 42, 16, 30, 188, 10]
abbrev dktX1_init_1 : List UInt8 := dkwX1_init_1 ++ dktX1_init_2
def dkwX1_init_0 : List UInt8 := [42, 183, 0, 3, 42, 16, 10, 189, 0, 9, 181, 0, 11, 42, 5, 189, 0, 17, 181, 0, 19, 42, 8]
abbrev dktX1_init_0 : List UInt8 := dkwX1_init_0 ++ dktX1_init_1
theorem dksX1_init_0 : cX1_init.data.toList.drop 0 = dktX1_init_0 := by decide +kernel
theorem dksX1_init_1 : cX1_init.data.toList.drop 23 = dktX1_init_1 := dk_seg dksX1_init_0 23 rfl rfl
theorem dksX1_init_2 : cX1_init.data.toList.drop 47 = dktX1_init_2 := dk_seg dksX1_init_1 24 rfl rfl
theorem dksX1_init_3 : cX1_init.data.toList.drop 71 = dktX1_init_3 := dk_seg dksX1_init_2 24 rfl rfl
theorem dksX1_init_4 : cX1_init.data.toList.drop 95 = dktX1_init_4 := dk_seg dksX1_init_3 24 rfl rfl
theorem dksX1_init_5 : cX1_init.data.toList.drop 117 = dktX1_init_5 := dk_seg dksX1_init_4 22 rfl rfl
theorem dX1_init_0 : decode cX1_init 0 = .ok (.aload_n 0, 1) := dk_42 (dk_at dksX1_init_0 0 rfl rfl)
theorem dX1_init_1 : decode cX1_init 1 = .ok (.invokespecial 3, 3) := dk_183 0 3 (dk_at dksX1_init_0 1 rfl rfl)
theorem dX1_init_4 : decode cX1_init 4 = .ok (.aload_n 0, 1) := dk_42 (dk_at dksX1_init_0 4 rfl rfl)
theorem dX1_init_5 : decode cX1_init 5 = .ok (.bipush 10, 2) := dk_16 10 (dk_at dksX1_init_0 5 rfl rfl)
theorem dX1_init_7 : decode cX1_init 7 = .ok (.anewarray 9, 3) := dk_189 0 9 (dk_at dksX1_init_0 7 rfl rfl)
theorem dX1_init_10 : decode cX1_init 10 = .ok (.putfield 11, 3) := dk_181 0 11 (dk_at dksX1_init_0 10 rfl rfl)
theorem dX1_init_13 : decode cX1_init 13 = .ok (.aload_n 0, 1) := dk_42 (dk_at dksX1_init_0 13 rfl rfl)
theorem dX1_init_14 : decode cX1_init 14 = .ok (.iconst 2, 1) := dk_5 (dk_at dksX1_init_0 14 rfl rfl)
theorem dX1_init_15 : decode cX1_init 15 = .ok (.anewarray 17, 3) := dk_189 0 17 (dk_at dksX1_init_0 15 rfl rfl)
theorem dX1_init_18 : decode cX1_init 18 = .ok (.putfield 19, 3) := dk_181 0 19 (dk_at dksX1_init_0 18 rfl rfl)
theorem dX1_init_21 : decode cX1_init 21 = .ok (.aload_n 0, 1) := dk_42 (dk_at dksX1_init_0 21 rfl rfl)
theorem dX1_init_22 : decode cX1_init 22 = .ok (.iconst 5, 1) := dk_8 (dk_at dksX1_init_0 22 rfl rfl)
theorem dX1_init_23 : decode cX1_init 23 = .ok (.newarray .int, 2) := dk_188_10 (dk_at dksX1_init_1 0 rfl rfl)
theorem dX1_init_25 : decode cX1_init 25 = .ok (.putfield 23, 3) := dk_181 0 23 (dk_at dksX1_init_1 2 rfl rfl)
theorem dX1_init_28 : decode cX1_init 28 = .ok (.aload_n 0, 1) := dk_42 (dk_at dksX1_init_1 5 rfl rfl)
theorem dX1_init_29 : decode cX1_init 29 = .ok (.iconst 5, 1) := dk_8 (dk_at dksX1_init_1 6 rfl rfl)
theorem dX1_init_30 : decode cX1_init 30 = .ok (.newarray .int, 2) := dk_188_10 (dk_at dksX1_init_1 7 rfl rfl)
theorem dX1_init_32 : decode cX1_init 32 = .ok (.putfield 27, 3) := dk_181 0 27 (dk_at dksX1_init_1 9 rfl rfl)
theorem dX1_init_35 : decode cX1_init 35 = .ok (.aload_n 0, 1) := dk_42 (dk_at dksX1_init_1 12 rfl rfl)
theorem dX1_init_36 : decode cX1_init 36 = .ok (.iconst 5, 1) := dk_8 (dk_at dksX1_init_1 13 rfl rfl)
theorem dX1_init_37 : decode cX1_init 37 = .ok (.newarray .int, 2) := dk_188_10 (dk_at dksX1_init_1 14 rfl rfl)
theorem dX1_init_39 : decode cX1_init 39 = .ok (.putfield 30, 3) := dk_181 0 30 (dk_at dksX1_init_1 16 rfl rfl)
theorem dX1_init_42 : decode cX1_init 42 = .ok (.aload_n 0, 1) := dk_42 (dk_at dksX1_init_1 19 rfl rfl)
theorem dX1_init_43 : decode cX1_init 43 = .ok (.bipush 30, 2) := dk_16 30 (dk_at dksX1_init_1 20 rfl rfl)
theorem dX1_init_45 : decode cX1_init 45 = .ok (.newarray .int, 2) := dk_188_10 (dk_at dksX1_init_1 22 rfl rfl)
theorem dX1_init_47 : decode cX1_init 47 = .ok (.putfield 33, 3) := dk_181 0 33 (dk_at dksX1_init_2 0 rfl rfl)
theorem dX1_init_50 : decode cX1_init 50 = .ok (.aload_n 0, 1) := dk_42 (dk_at dksX1_init_2 3 rfl rfl)
theorem dX1_init_51 : decode cX1_init 51 = .ok (.iconst 4, 1) := dk_7 (dk_at dksX1_init_2 4 rfl rfl)
theorem dX1_init_52 : decode cX1_init 52 = .ok (.putfield 36, 3) := dk_181 0 36 (dk_at dksX1_init_2 5 rfl rfl)
theorem dX1_init_55 : decode cX1_init 55 = .ok (.iconst 0, 1) := dk_3 (dk_at dksX1_init_2 8 rfl rfl)
theorem dX1_init_56 : decode cX1_init 56 = .ok (.istore_n 1, 1) := dk_60 (dk_at dksX1_init_2 9 rfl rfl)
theorem dX1_init_57 : decode cX1_init 57 = .ok (.iload_n 1, 1) := dk_27 (dk_at dksX1_init_2 10 rfl rfl)
theorem dX1_init_58 : decode cX1_init 58 = .ok (.bipush 10, 2) := dk_16 10 (dk_at dksX1_init_2 11 rfl rfl)
theorem dX1_init_60 : decode cX1_init 60 = .ok (.if_icmp .ge 23, 3) := dk_162 0 23 (dk_at dksX1_init_2 13 rfl rfl)
theorem dX1_init_63 : decode cX1_init 63 = .ok (.aload_n 0, 1) := dk_42 (dk_at dksX1_init_2 16 rfl rfl)
theorem dX1_init_64 : decode cX1_init 64 = .ok (.getfield 11, 3) := dk_180 0 11 (dk_at dksX1_init_2 17 rfl rfl)
theorem dX1_init_67 : decode cX1_init 67 = .ok (.iload_n 1, 1) := dk_27 (dk_at dksX1_init_2 20 rfl rfl)
theorem dX1_init_68 : decode cX1_init 68 = .ok (.new 9, 3) := dk_187 0 9 (dk_at dksX1_init_2 21 rfl rfl)
theorem dX1_init_71 : decode cX1_init 71 = .ok (.dup, 1) := dk_89 (dk_at dksX1_init_3 0 rfl rfl)
theorem dX1_init_72 : decode cX1_init 72 = .ok (.iload_n 1, 1) := dk_27 (dk_at dksX1_init_3 1 rfl rfl)
theorem dX1_init_73 : decode cX1_init 73 = .ok (.invokespecial 40, 3) := dk_183 0 40 (dk_at dksX1_init_3 2 rfl rfl)
theorem dX1_init_76 : decode cX1_init 76 = .ok (.aastore, 1) := dk_83 (dk_at dksX1_init_3 5 rfl rfl)
theorem dX1_init_77 : decode cX1_init 77 = .ok (.iinc 1 1, 3) := dk_132 1 1 (dk_at dksX1_init_3 6 rfl rfl)
theorem dX1_init_80 : decode cX1_init 80 = .ok (.goto (-23), 3) := dk_167 255 233 (dk_at dksX1_init_3 9 rfl rfl)
theorem dX1_init_83 : decode cX1_init 83 = .ok (.iconst 0, 1) := dk_3 (dk_at dksX1_init_3 12 rfl rfl)
theorem dX1_init_84 : decode cX1_init 84 = .ok (.istore_n 1, 1) := dk_60 (dk_at dksX1_init_3 13 rfl rfl)
theorem dX1_init_85 : decode cX1_init 85 = .ok (.iload_n 1, 1) := dk_27 (dk_at dksX1_init_3 14 rfl rfl)
theorem dX1_init_86 : decode cX1_init 86 = .ok (.iconst 2, 1) := dk_5 (dk_at dksX1_init_3 15 rfl rfl)
theorem dX1_init_87 : decode cX1_init 87 = .ok (.if_icmp .ge 22, 3) := dk_162 0 22 (dk_at dksX1_init_3 16 rfl rfl)
theorem dX1_init_90 : decode cX1_init 90 = .ok (.aload_n 0, 1) := dk_42 (dk_at dksX1_init_3 19 rfl rfl)
theorem dX1_init_91 : decode cX1_init 91 = .ok (.getfield 19, 3) := dk_180 0 19 (dk_at dksX1_init_3 20 rfl rfl)
theorem dX1_init_94 : decode cX1_init 94 = .ok (.iload_n 1, 1) := dk_27 (dk_at dksX1_init_3 23 rfl rfl)
theorem dX1_init_95 : decode cX1_init 95 = .ok (.new 17, 3) := dk_187 0 17 (dk_at dksX1_init_4 0 rfl rfl)
theorem dX1_init_98 : decode cX1_init 98 = .ok (.dup, 1) := dk_89 (dk_at dksX1_init_4 3 rfl rfl)
theorem dX1_init_99 : decode cX1_init 99 = .ok (.invokespecial 43, 3) := dk_183 0 43 (dk_at dksX1_init_4 4 rfl rfl)
theorem dX1_init_102 : decode cX1_init 102 = .ok (.aastore, 1) := dk_83 (dk_at dksX1_init_4 7 rfl rfl)
theorem dX1_init_103 : decode cX1_init 103 = .ok (.iinc 1 1, 3) := dk_132 1 1 (dk_at dksX1_init_4 8 rfl rfl)
theorem dX1_init_106 : decode cX1_init 106 = .ok (.goto (-21), 3) := dk_167 255 235 (dk_at dksX1_init_4 11 rfl rfl)
theorem dX1_init_109 : decode cX1_init 109 = .ok (.iconst 0, 1) := dk_3 (dk_at dksX1_init_4 14 rfl rfl)
theorem dX1_init_110 : decode cX1_init 110 = .ok (.istore_n 1, 1) := dk_60 (dk_at dksX1_init_4 15 rfl rfl)
theorem dX1_init_111 : decode cX1_init 111 = .ok (.iload_n 1, 1) := dk_27 (dk_at dksX1_init_4 16 rfl rfl)
theorem dX1_init_112 : decode cX1_init 112 = .ok (.iconst 5, 1) := dk_8 (dk_at dksX1_init_4 17 rfl rfl)
theorem dX1_init_113 : decode cX1_init 113 = .ok (.if_icmp .ge 17, 3) := dk_162 0 17 (dk_at dksX1_init_4 18 rfl rfl)
theorem dX1_init_116 : decode cX1_init 116 = .ok (.aload_n 0, 1) := dk_42 (dk_at dksX1_init_4 21 rfl rfl)
theorem dX1_init_117 : decode cX1_init 117 = .ok (.getfield 23, 3) := dk_180 0 23 (dk_at dksX1_init_5 0 rfl rfl)
theorem dX1_init_120 : decode cX1_init 120 = .ok (.iload_n 1, 1) := dk_27 (dk_at dksX1_init_5 3 rfl rfl)
theorem dX1_init_121 : decode cX1_init 121 = .ok (.ldc 44, 2) := dk_18 44 (dk_at dksX1_init_5 4 rfl rfl)
theorem dX1_init_123 : decode cX1_init 123 = .ok (.iastore, 1) := dk_79 (dk_at dksX1_init_5 6 rfl rfl)
theorem dX1_init_124 : decode cX1_init 124 = .ok (.iinc 1 1, 3) := dk_132 1 1 (dk_at dksX1_init_5 7 rfl rfl)
theorem dX1_init_127 : decode cX1_init 127 = .ok (.goto (-16), 3) := dk_167 255 240 (dk_at dksX1_init_5 10 rfl rfl)
theorem dX1_init_130 : decode cX1_init 130 = .ok (.return_, 1) := dk_177 (dk_at dksX1_init_5 13 rfl rfl)
abbrev cX1_init_2 : ByteArray := prog_11_method_2_code
def yX1_init_2 : MethodName := ⟨RX1, "<init>", "(LBarnPictures$Tour;)V"⟩
def dkwX1_init_2_10 : List UInt8 := [180, 0, 73, 181, 0, 73, 42, 43, 180, 0, 76, 181, 0, 76, 177]
abbrev dktX1_init_2_10 : List UInt8 := dkwX1_init_2_10 ++ []
def dkwX1_init_2_9 : List UInt8 := [180, 0, 64, 181, 0, 64, 42, 43, 180, 0, 67, 181, 0, 67, 42, 43, 180, 0, 70, 181, 0, 70, 42, 43]
abbrev dktX1_init_2_9 : List UInt8 := dkwX1_init_2_9 ++ dktX1_init_2_10
def dkwX1_init_2_8 : List UInt8 := [180, 0, 58, 181, 0, 58, 42, 43, 180, 0, 61, 181, 0, 61, 42, 43, 180, 0, 36, 181, 0, 36, 42, 43]
abbrev dktX1_init_2_8 : List UInt8 := dkwX1_init_2_8 ++ dktX1_init_2_9
def dkwX1_init_2_7 : List UInt8 := [8, 184, 0, 52, 43, 180, 0, 33, 3, 42, 180, 0, 33, 3, 42, 180, 0, 33, 190, 184, 0, 52, 42, 43]
abbrev dktX1_init_2_7 : List UInt8 := dkwX1_init_2_7 ++ dktX1_init_2_8
def dkwX1_init_2_6 : List UInt8 := [43, 180, 0, 27, 3, 42, 180, 0, 27, 3, 8, 184, 0, 52, 43, 180, 0, 30, 3, 42, 180, 0, 30, 3]
abbrev dktX1_init_2_6 : List UInt8 := dkwX1_init_2_6 ++ dktX1_init_2_7
def dkwX1_init_2_5 : List UInt8 := [182, 0, 49, 83, 132, 2, 1, 167, 255, 233, 43, 180, 0, 23, 3, 42, 180, 0, 23, 3, 8, 184, 0, 52]
abbrev dktX1_init_2_5 : List UInt8 := dkwX1_init_2_5 ++ dktX1_init_2_6
def dkwX1_init_2_4 : List UInt8 := [132, 2, 1, 167, 255, 219, 3, 61, 28, 5, 162, 0, 24, 42, 180, 0, 19, 28, 43, 180, 0, 19, 28, 50]
abbrev dktX1_init_2_4 : List UInt8 := dkwX1_init_2_4 ++ dktX1_init_2_5
def dkwX1_init_2_3 : List UInt8 := [180, 0, 11, 28, 50, 199, 0, 7, 1, 167, 0, 12, 43, 180, 0, 11, 28, 50, 182, 0, 45, 83]
abbrev dktX1_init_2_3 : List UInt8 := dkwX1_init_2_3 ++ dktX1_init_2_4
def dkwX1_init_2_2 : List UInt8 := [181, 0, 33, 42, 7, 181, 0, 36, 3, 61, 28, 16, 10, 162, 0, 37, 42, 180, 0, 11, 28, 43]
abbrev dktX1_init_2_2 : List UInt8 := dkwX1_init_2_2 ++ dktX1_init_2_3
def dkwX1_init_2_1 : List UInt8 := [188, 10, 181, 0, 23, 42, 8, 188, 10, 181, 0, 27, 42, 8, 188, 10, 181, 0, 30, 42, 16, 30, 188, 10]
abbrev dktX1_init_2_1 : List UInt8 := dkwX1_init_2_1 ++ dktX1_init_2_2
def dkwX1_init_2_0 : List UInt8 := [42, 183, 0, 3, 42, 16, 10, 189, 0, 9, 181, 0, 11, 42, 5, 189, 0, 17, 181, 0, 19, 42, 8]
abbrev dktX1_init_2_0 : List UInt8 := dkwX1_init_2_0 ++ dktX1_init_2_1
theorem dksX1_init_2_0 : cX1_init_2.data.toList.drop 0 = dktX1_init_2_0 := by decide +kernel
theorem dksX1_init_2_1 : cX1_init_2.data.toList.drop 23 = dktX1_init_2_1 := dk_seg dksX1_init_2_0 23 rfl rfl
theorem dksX1_init_2_2 : cX1_init_2.data.toList.drop 47 = dktX1_init_2_2 := dk_seg dksX1_init_2_1 24 rfl rfl
theorem dksX1_init_2_3 : cX1_init_2.data.toList.drop 69 = dktX1_init_2_3 := dk_seg dksX1_init_2_2 22 rfl rfl
theorem dksX1_init_2_4 : cX1_init_2.data.toList.drop 91 = dktX1_init_2_4 := dk_seg dksX1_init_2_3 22 rfl rfl
theorem dksX1_init_2_5 : cX1_init_2.data.toList.drop 115 = dktX1_init_2_5 := dk_seg dksX1_init_2_4 24 rfl rfl
theorem dksX1_init_2_6 : cX1_init_2.data.toList.drop 139 = dktX1_init_2_6 := dk_seg dksX1_init_2_5 24 rfl rfl
theorem dksX1_init_2_7 : cX1_init_2.data.toList.drop 163 = dktX1_init_2_7 := dk_seg dksX1_init_2_6 24 rfl rfl
theorem dksX1_init_2_8 : cX1_init_2.data.toList.drop 187 = dktX1_init_2_8 := dk_seg dksX1_init_2_7 24 rfl rfl
theorem dksX1_init_2_9 : cX1_init_2.data.toList.drop 211 = dktX1_init_2_9 := dk_seg dksX1_init_2_8 24 rfl rfl
theorem dksX1_init_2_10 : cX1_init_2.data.toList.drop 235 = dktX1_init_2_10 := dk_seg dksX1_init_2_9 24 rfl rfl
theorem dX1_init_2_0 : decode cX1_init_2 0 = .ok (.aload_n 0, 1) := dk_42 (dk_at dksX1_init_2_0 0 rfl rfl)
theorem dX1_init_2_1 : decode cX1_init_2 1 = .ok (.invokespecial 3, 3) := dk_183 0 3 (dk_at dksX1_init_2_0 1 rfl rfl)
theorem dX1_init_2_4 : decode cX1_init_2 4 = .ok (.aload_n 0, 1) := dk_42 (dk_at dksX1_init_2_0 4 rfl rfl)
theorem dX1_init_2_5 : decode cX1_init_2 5 = .ok (.bipush 10, 2) := dk_16 10 (dk_at dksX1_init_2_0 5 rfl rfl)
theorem dX1_init_2_7 : decode cX1_init_2 7 = .ok (.anewarray 9, 3) := dk_189 0 9 (dk_at dksX1_init_2_0 7 rfl rfl)
theorem dX1_init_2_10 : decode cX1_init_2 10 = .ok (.putfield 11, 3) := dk_181 0 11 (dk_at dksX1_init_2_0 10 rfl rfl)
theorem dX1_init_2_13 : decode cX1_init_2 13 = .ok (.aload_n 0, 1) := dk_42 (dk_at dksX1_init_2_0 13 rfl rfl)
theorem dX1_init_2_14 : decode cX1_init_2 14 = .ok (.iconst 2, 1) := dk_5 (dk_at dksX1_init_2_0 14 rfl rfl)
theorem dX1_init_2_15 : decode cX1_init_2 15 = .ok (.anewarray 17, 3) := dk_189 0 17 (dk_at dksX1_init_2_0 15 rfl rfl)
theorem dX1_init_2_18 : decode cX1_init_2 18 = .ok (.putfield 19, 3) := dk_181 0 19 (dk_at dksX1_init_2_0 18 rfl rfl)
theorem dX1_init_2_21 : decode cX1_init_2 21 = .ok (.aload_n 0, 1) := dk_42 (dk_at dksX1_init_2_0 21 rfl rfl)
theorem dX1_init_2_22 : decode cX1_init_2 22 = .ok (.iconst 5, 1) := dk_8 (dk_at dksX1_init_2_0 22 rfl rfl)
theorem dX1_init_2_23 : decode cX1_init_2 23 = .ok (.newarray .int, 2) := dk_188_10 (dk_at dksX1_init_2_1 0 rfl rfl)
theorem dX1_init_2_25 : decode cX1_init_2 25 = .ok (.putfield 23, 3) := dk_181 0 23 (dk_at dksX1_init_2_1 2 rfl rfl)
theorem dX1_init_2_28 : decode cX1_init_2 28 = .ok (.aload_n 0, 1) := dk_42 (dk_at dksX1_init_2_1 5 rfl rfl)
theorem dX1_init_2_29 : decode cX1_init_2 29 = .ok (.iconst 5, 1) := dk_8 (dk_at dksX1_init_2_1 6 rfl rfl)
theorem dX1_init_2_30 : decode cX1_init_2 30 = .ok (.newarray .int, 2) := dk_188_10 (dk_at dksX1_init_2_1 7 rfl rfl)
theorem dX1_init_2_32 : decode cX1_init_2 32 = .ok (.putfield 27, 3) := dk_181 0 27 (dk_at dksX1_init_2_1 9 rfl rfl)
theorem dX1_init_2_35 : decode cX1_init_2 35 = .ok (.aload_n 0, 1) := dk_42 (dk_at dksX1_init_2_1 12 rfl rfl)
theorem dX1_init_2_36 : decode cX1_init_2 36 = .ok (.iconst 5, 1) := dk_8 (dk_at dksX1_init_2_1 13 rfl rfl)
theorem dX1_init_2_37 : decode cX1_init_2 37 = .ok (.newarray .int, 2) := dk_188_10 (dk_at dksX1_init_2_1 14 rfl rfl)
theorem dX1_init_2_39 : decode cX1_init_2 39 = .ok (.putfield 30, 3) := dk_181 0 30 (dk_at dksX1_init_2_1 16 rfl rfl)
theorem dX1_init_2_42 : decode cX1_init_2 42 = .ok (.aload_n 0, 1) := dk_42 (dk_at dksX1_init_2_1 19 rfl rfl)
theorem dX1_init_2_43 : decode cX1_init_2 43 = .ok (.bipush 30, 2) := dk_16 30 (dk_at dksX1_init_2_1 20 rfl rfl)
theorem dX1_init_2_45 : decode cX1_init_2 45 = .ok (.newarray .int, 2) := dk_188_10 (dk_at dksX1_init_2_1 22 rfl rfl)
theorem dX1_init_2_47 : decode cX1_init_2 47 = .ok (.putfield 33, 3) := dk_181 0 33 (dk_at dksX1_init_2_2 0 rfl rfl)
theorem dX1_init_2_50 : decode cX1_init_2 50 = .ok (.aload_n 0, 1) := dk_42 (dk_at dksX1_init_2_2 3 rfl rfl)
theorem dX1_init_2_51 : decode cX1_init_2 51 = .ok (.iconst 4, 1) := dk_7 (dk_at dksX1_init_2_2 4 rfl rfl)
theorem dX1_init_2_52 : decode cX1_init_2 52 = .ok (.putfield 36, 3) := dk_181 0 36 (dk_at dksX1_init_2_2 5 rfl rfl)
theorem dX1_init_2_55 : decode cX1_init_2 55 = .ok (.iconst 0, 1) := dk_3 (dk_at dksX1_init_2_2 8 rfl rfl)
theorem dX1_init_2_56 : decode cX1_init_2 56 = .ok (.istore_n 2, 1) := dk_61 (dk_at dksX1_init_2_2 9 rfl rfl)
theorem dX1_init_2_57 : decode cX1_init_2 57 = .ok (.iload_n 2, 1) := dk_28 (dk_at dksX1_init_2_2 10 rfl rfl)
theorem dX1_init_2_58 : decode cX1_init_2 58 = .ok (.bipush 10, 2) := dk_16 10 (dk_at dksX1_init_2_2 11 rfl rfl)
theorem dX1_init_2_60 : decode cX1_init_2 60 = .ok (.if_icmp .ge 37, 3) := dk_162 0 37 (dk_at dksX1_init_2_2 13 rfl rfl)
theorem dX1_init_2_63 : decode cX1_init_2 63 = .ok (.aload_n 0, 1) := dk_42 (dk_at dksX1_init_2_2 16 rfl rfl)
theorem dX1_init_2_64 : decode cX1_init_2 64 = .ok (.getfield 11, 3) := dk_180 0 11 (dk_at dksX1_init_2_2 17 rfl rfl)
theorem dX1_init_2_67 : decode cX1_init_2 67 = .ok (.iload_n 2, 1) := dk_28 (dk_at dksX1_init_2_2 20 rfl rfl)
theorem dX1_init_2_68 : decode cX1_init_2 68 = .ok (.aload_n 1, 1) := dk_43 (dk_at dksX1_init_2_2 21 rfl rfl)
theorem dX1_init_2_69 : decode cX1_init_2 69 = .ok (.getfield 11, 3) := dk_180 0 11 (dk_at dksX1_init_2_3 0 rfl rfl)
theorem dX1_init_2_72 : decode cX1_init_2 72 = .ok (.iload_n 2, 1) := dk_28 (dk_at dksX1_init_2_3 3 rfl rfl)
theorem dX1_init_2_73 : decode cX1_init_2 73 = .ok (.aaload, 1) := dk_50 (dk_at dksX1_init_2_3 4 rfl rfl)
theorem dX1_init_2_74 : decode cX1_init_2 74 = .ok (.ifnonnull 7, 3) := dk_199 0 7 (dk_at dksX1_init_2_3 5 rfl rfl)
theorem dX1_init_2_77 : decode cX1_init_2 77 = .ok (.aconst_null, 1) := dk_1 (dk_at dksX1_init_2_3 8 rfl rfl)
theorem dX1_init_2_78 : decode cX1_init_2 78 = .ok (.goto 12, 3) := dk_167 0 12 (dk_at dksX1_init_2_3 9 rfl rfl)
theorem dX1_init_2_81 : decode cX1_init_2 81 = .ok (.aload_n 1, 1) := dk_43 (dk_at dksX1_init_2_3 12 rfl rfl)
theorem dX1_init_2_82 : decode cX1_init_2 82 = .ok (.getfield 11, 3) := dk_180 0 11 (dk_at dksX1_init_2_3 13 rfl rfl)
theorem dX1_init_2_85 : decode cX1_init_2 85 = .ok (.iload_n 2, 1) := dk_28 (dk_at dksX1_init_2_3 16 rfl rfl)
theorem dX1_init_2_86 : decode cX1_init_2 86 = .ok (.aaload, 1) := dk_50 (dk_at dksX1_init_2_3 17 rfl rfl)
theorem dX1_init_2_87 : decode cX1_init_2 87 = .ok (.invokevirtual 45, 3) := dk_182 0 45 (dk_at dksX1_init_2_3 18 rfl rfl)
theorem dX1_init_2_90 : decode cX1_init_2 90 = .ok (.aastore, 1) := dk_83 (dk_at dksX1_init_2_3 21 rfl rfl)
theorem dX1_init_2_91 : decode cX1_init_2 91 = .ok (.iinc 2 1, 3) := dk_132 2 1 (dk_at dksX1_init_2_4 0 rfl rfl)
theorem dX1_init_2_94 : decode cX1_init_2 94 = .ok (.goto (-37), 3) := dk_167 255 219 (dk_at dksX1_init_2_4 3 rfl rfl)
theorem dX1_init_2_97 : decode cX1_init_2 97 = .ok (.iconst 0, 1) := dk_3 (dk_at dksX1_init_2_4 6 rfl rfl)
theorem dX1_init_2_98 : decode cX1_init_2 98 = .ok (.istore_n 2, 1) := dk_61 (dk_at dksX1_init_2_4 7 rfl rfl)
theorem dX1_init_2_99 : decode cX1_init_2 99 = .ok (.iload_n 2, 1) := dk_28 (dk_at dksX1_init_2_4 8 rfl rfl)
theorem dX1_init_2_100 : decode cX1_init_2 100 = .ok (.iconst 2, 1) := dk_5 (dk_at dksX1_init_2_4 9 rfl rfl)
theorem dX1_init_2_101 : decode cX1_init_2 101 = .ok (.if_icmp .ge 24, 3) := dk_162 0 24 (dk_at dksX1_init_2_4 10 rfl rfl)
theorem dX1_init_2_104 : decode cX1_init_2 104 = .ok (.aload_n 0, 1) := dk_42 (dk_at dksX1_init_2_4 13 rfl rfl)
theorem dX1_init_2_105 : decode cX1_init_2 105 = .ok (.getfield 19, 3) := dk_180 0 19 (dk_at dksX1_init_2_4 14 rfl rfl)
theorem dX1_init_2_108 : decode cX1_init_2 108 = .ok (.iload_n 2, 1) := dk_28 (dk_at dksX1_init_2_4 17 rfl rfl)
theorem dX1_init_2_109 : decode cX1_init_2 109 = .ok (.aload_n 1, 1) := dk_43 (dk_at dksX1_init_2_4 18 rfl rfl)
theorem dX1_init_2_110 : decode cX1_init_2 110 = .ok (.getfield 19, 3) := dk_180 0 19 (dk_at dksX1_init_2_4 19 rfl rfl)
theorem dX1_init_2_113 : decode cX1_init_2 113 = .ok (.iload_n 2, 1) := dk_28 (dk_at dksX1_init_2_4 22 rfl rfl)
theorem dX1_init_2_114 : decode cX1_init_2 114 = .ok (.aaload, 1) := dk_50 (dk_at dksX1_init_2_4 23 rfl rfl)
theorem dX1_init_2_115 : decode cX1_init_2 115 = .ok (.invokevirtual 49, 3) := dk_182 0 49 (dk_at dksX1_init_2_5 0 rfl rfl)
theorem dX1_init_2_118 : decode cX1_init_2 118 = .ok (.aastore, 1) := dk_83 (dk_at dksX1_init_2_5 3 rfl rfl)
theorem dX1_init_2_119 : decode cX1_init_2 119 = .ok (.iinc 2 1, 3) := dk_132 2 1 (dk_at dksX1_init_2_5 4 rfl rfl)
theorem dX1_init_2_122 : decode cX1_init_2 122 = .ok (.goto (-23), 3) := dk_167 255 233 (dk_at dksX1_init_2_5 7 rfl rfl)
theorem dX1_init_2_125 : decode cX1_init_2 125 = .ok (.aload_n 1, 1) := dk_43 (dk_at dksX1_init_2_5 10 rfl rfl)
theorem dX1_init_2_126 : decode cX1_init_2 126 = .ok (.getfield 23, 3) := dk_180 0 23 (dk_at dksX1_init_2_5 11 rfl rfl)
theorem dX1_init_2_129 : decode cX1_init_2 129 = .ok (.iconst 0, 1) := dk_3 (dk_at dksX1_init_2_5 14 rfl rfl)
theorem dX1_init_2_130 : decode cX1_init_2 130 = .ok (.aload_n 0, 1) := dk_42 (dk_at dksX1_init_2_5 15 rfl rfl)
theorem dX1_init_2_131 : decode cX1_init_2 131 = .ok (.getfield 23, 3) := dk_180 0 23 (dk_at dksX1_init_2_5 16 rfl rfl)
theorem dX1_init_2_134 : decode cX1_init_2 134 = .ok (.iconst 0, 1) := dk_3 (dk_at dksX1_init_2_5 19 rfl rfl)
theorem dX1_init_2_135 : decode cX1_init_2 135 = .ok (.iconst 5, 1) := dk_8 (dk_at dksX1_init_2_5 20 rfl rfl)
theorem dX1_init_2_136 : decode cX1_init_2 136 = .ok (.invokestatic 52, 3) := dk_184 0 52 (dk_at dksX1_init_2_5 21 rfl rfl)
theorem dX1_init_2_139 : decode cX1_init_2 139 = .ok (.aload_n 1, 1) := dk_43 (dk_at dksX1_init_2_6 0 rfl rfl)
theorem dX1_init_2_140 : decode cX1_init_2 140 = .ok (.getfield 27, 3) := dk_180 0 27 (dk_at dksX1_init_2_6 1 rfl rfl)
theorem dX1_init_2_143 : decode cX1_init_2 143 = .ok (.iconst 0, 1) := dk_3 (dk_at dksX1_init_2_6 4 rfl rfl)
theorem dX1_init_2_144 : decode cX1_init_2 144 = .ok (.aload_n 0, 1) := dk_42 (dk_at dksX1_init_2_6 5 rfl rfl)
theorem dX1_init_2_145 : decode cX1_init_2 145 = .ok (.getfield 27, 3) := dk_180 0 27 (dk_at dksX1_init_2_6 6 rfl rfl)
theorem dX1_init_2_148 : decode cX1_init_2 148 = .ok (.iconst 0, 1) := dk_3 (dk_at dksX1_init_2_6 9 rfl rfl)
theorem dX1_init_2_149 : decode cX1_init_2 149 = .ok (.iconst 5, 1) := dk_8 (dk_at dksX1_init_2_6 10 rfl rfl)
theorem dX1_init_2_150 : decode cX1_init_2 150 = .ok (.invokestatic 52, 3) := dk_184 0 52 (dk_at dksX1_init_2_6 11 rfl rfl)
theorem dX1_init_2_153 : decode cX1_init_2 153 = .ok (.aload_n 1, 1) := dk_43 (dk_at dksX1_init_2_6 14 rfl rfl)
theorem dX1_init_2_154 : decode cX1_init_2 154 = .ok (.getfield 30, 3) := dk_180 0 30 (dk_at dksX1_init_2_6 15 rfl rfl)
theorem dX1_init_2_157 : decode cX1_init_2 157 = .ok (.iconst 0, 1) := dk_3 (dk_at dksX1_init_2_6 18 rfl rfl)
theorem dX1_init_2_158 : decode cX1_init_2 158 = .ok (.aload_n 0, 1) := dk_42 (dk_at dksX1_init_2_6 19 rfl rfl)
theorem dX1_init_2_159 : decode cX1_init_2 159 = .ok (.getfield 30, 3) := dk_180 0 30 (dk_at dksX1_init_2_6 20 rfl rfl)
theorem dX1_init_2_162 : decode cX1_init_2 162 = .ok (.iconst 0, 1) := dk_3 (dk_at dksX1_init_2_6 23 rfl rfl)
theorem dX1_init_2_163 : decode cX1_init_2 163 = .ok (.iconst 5, 1) := dk_8 (dk_at dksX1_init_2_7 0 rfl rfl)
theorem dX1_init_2_164 : decode cX1_init_2 164 = .ok (.invokestatic 52, 3) := dk_184 0 52 (dk_at dksX1_init_2_7 1 rfl rfl)
theorem dX1_init_2_167 : decode cX1_init_2 167 = .ok (.aload_n 1, 1) := dk_43 (dk_at dksX1_init_2_7 4 rfl rfl)
theorem dX1_init_2_168 : decode cX1_init_2 168 = .ok (.getfield 33, 3) := dk_180 0 33 (dk_at dksX1_init_2_7 5 rfl rfl)
theorem dX1_init_2_171 : decode cX1_init_2 171 = .ok (.iconst 0, 1) := dk_3 (dk_at dksX1_init_2_7 8 rfl rfl)
theorem dX1_init_2_172 : decode cX1_init_2 172 = .ok (.aload_n 0, 1) := dk_42 (dk_at dksX1_init_2_7 9 rfl rfl)
theorem dX1_init_2_173 : decode cX1_init_2 173 = .ok (.getfield 33, 3) := dk_180 0 33 (dk_at dksX1_init_2_7 10 rfl rfl)
theorem dX1_init_2_176 : decode cX1_init_2 176 = .ok (.iconst 0, 1) := dk_3 (dk_at dksX1_init_2_7 13 rfl rfl)
theorem dX1_init_2_177 : decode cX1_init_2 177 = .ok (.aload_n 0, 1) := dk_42 (dk_at dksX1_init_2_7 14 rfl rfl)
theorem dX1_init_2_178 : decode cX1_init_2 178 = .ok (.getfield 33, 3) := dk_180 0 33 (dk_at dksX1_init_2_7 15 rfl rfl)
theorem dX1_init_2_181 : decode cX1_init_2 181 = .ok (.arraylength, 1) := dk_190 (dk_at dksX1_init_2_7 18 rfl rfl)
theorem dX1_init_2_182 : decode cX1_init_2 182 = .ok (.invokestatic 52, 3) := dk_184 0 52 (dk_at dksX1_init_2_7 19 rfl rfl)
theorem dX1_init_2_185 : decode cX1_init_2 185 = .ok (.aload_n 0, 1) := dk_42 (dk_at dksX1_init_2_7 22 rfl rfl)
theorem dX1_init_2_186 : decode cX1_init_2 186 = .ok (.aload_n 1, 1) := dk_43 (dk_at dksX1_init_2_7 23 rfl rfl)
theorem dX1_init_2_187 : decode cX1_init_2 187 = .ok (.getfield 58, 3) := dk_180 0 58 (dk_at dksX1_init_2_8 0 rfl rfl)
theorem dX1_init_2_190 : decode cX1_init_2 190 = .ok (.putfield 58, 3) := dk_181 0 58 (dk_at dksX1_init_2_8 3 rfl rfl)
theorem dX1_init_2_193 : decode cX1_init_2 193 = .ok (.aload_n 0, 1) := dk_42 (dk_at dksX1_init_2_8 6 rfl rfl)
theorem dX1_init_2_194 : decode cX1_init_2 194 = .ok (.aload_n 1, 1) := dk_43 (dk_at dksX1_init_2_8 7 rfl rfl)
theorem dX1_init_2_195 : decode cX1_init_2 195 = .ok (.getfield 61, 3) := dk_180 0 61 (dk_at dksX1_init_2_8 8 rfl rfl)
theorem dX1_init_2_198 : decode cX1_init_2 198 = .ok (.putfield 61, 3) := dk_181 0 61 (dk_at dksX1_init_2_8 11 rfl rfl)
theorem dX1_init_2_201 : decode cX1_init_2 201 = .ok (.aload_n 0, 1) := dk_42 (dk_at dksX1_init_2_8 14 rfl rfl)
theorem dX1_init_2_202 : decode cX1_init_2 202 = .ok (.aload_n 1, 1) := dk_43 (dk_at dksX1_init_2_8 15 rfl rfl)
theorem dX1_init_2_203 : decode cX1_init_2 203 = .ok (.getfield 36, 3) := dk_180 0 36 (dk_at dksX1_init_2_8 16 rfl rfl)
theorem dX1_init_2_206 : decode cX1_init_2 206 = .ok (.putfield 36, 3) := dk_181 0 36 (dk_at dksX1_init_2_8 19 rfl rfl)
theorem dX1_init_2_209 : decode cX1_init_2 209 = .ok (.aload_n 0, 1) := dk_42 (dk_at dksX1_init_2_8 22 rfl rfl)
theorem dX1_init_2_210 : decode cX1_init_2 210 = .ok (.aload_n 1, 1) := dk_43 (dk_at dksX1_init_2_8 23 rfl rfl)
theorem dX1_init_2_211 : decode cX1_init_2 211 = .ok (.getfield 64, 3) := dk_180 0 64 (dk_at dksX1_init_2_9 0 rfl rfl)
theorem dX1_init_2_214 : decode cX1_init_2 214 = .ok (.putfield 64, 3) := dk_181 0 64 (dk_at dksX1_init_2_9 3 rfl rfl)
theorem dX1_init_2_217 : decode cX1_init_2 217 = .ok (.aload_n 0, 1) := dk_42 (dk_at dksX1_init_2_9 6 rfl rfl)
theorem dX1_init_2_218 : decode cX1_init_2 218 = .ok (.aload_n 1, 1) := dk_43 (dk_at dksX1_init_2_9 7 rfl rfl)
theorem dX1_init_2_219 : decode cX1_init_2 219 = .ok (.getfield 67, 3) := dk_180 0 67 (dk_at dksX1_init_2_9 8 rfl rfl)
theorem dX1_init_2_222 : decode cX1_init_2 222 = .ok (.putfield 67, 3) := dk_181 0 67 (dk_at dksX1_init_2_9 11 rfl rfl)
theorem dX1_init_2_225 : decode cX1_init_2 225 = .ok (.aload_n 0, 1) := dk_42 (dk_at dksX1_init_2_9 14 rfl rfl)
theorem dX1_init_2_226 : decode cX1_init_2 226 = .ok (.aload_n 1, 1) := dk_43 (dk_at dksX1_init_2_9 15 rfl rfl)
theorem dX1_init_2_227 : decode cX1_init_2 227 = .ok (.getfield 70, 3) := dk_180 0 70 (dk_at dksX1_init_2_9 16 rfl rfl)
theorem dX1_init_2_230 : decode cX1_init_2 230 = .ok (.putfield 70, 3) := dk_181 0 70 (dk_at dksX1_init_2_9 19 rfl rfl)
theorem dX1_init_2_233 : decode cX1_init_2 233 = .ok (.aload_n 0, 1) := dk_42 (dk_at dksX1_init_2_9 22 rfl rfl)
theorem dX1_init_2_234 : decode cX1_init_2 234 = .ok (.aload_n 1, 1) := dk_43 (dk_at dksX1_init_2_9 23 rfl rfl)
theorem dX1_init_2_235 : decode cX1_init_2 235 = .ok (.getfield 73, 3) := dk_180 0 73 (dk_at dksX1_init_2_10 0 rfl rfl)
theorem dX1_init_2_238 : decode cX1_init_2 238 = .ok (.putfield 73, 3) := dk_181 0 73 (dk_at dksX1_init_2_10 3 rfl rfl)
theorem dX1_init_2_241 : decode cX1_init_2 241 = .ok (.aload_n 0, 1) := dk_42 (dk_at dksX1_init_2_10 6 rfl rfl)
theorem dX1_init_2_242 : decode cX1_init_2 242 = .ok (.aload_n 1, 1) := dk_43 (dk_at dksX1_init_2_10 7 rfl rfl)
theorem dX1_init_2_243 : decode cX1_init_2 243 = .ok (.getfield 76, 3) := dk_180 0 76 (dk_at dksX1_init_2_10 8 rfl rfl)
theorem dX1_init_2_246 : decode cX1_init_2 246 = .ok (.putfield 76, 3) := dk_181 0 76 (dk_at dksX1_init_2_10 11 rfl rfl)
theorem dX1_init_2_249 : decode cX1_init_2 249 = .ok (.return_, 1) := dk_177 (dk_at dksX1_init_2_10 14 rfl rfl)
abbrev cX1_drive : ByteArray := prog_11_method_12_code
def yX1_drive : MethodName := ⟨RX1, "drive", "(I)I"⟩
def dkwX1_drive_2 : List UInt8 := [180, 0, 64, 28, 96, 181, 0, 64, 28, 172]
abbrev dktX1_drive_2 : List UInt8 := dkwX1_drive_2 ++ []
def dkwX1_drive_1 : List UInt8 := [184, 0, 134, 61, 27, 42, 180, 0, 58, 160, 0, 6, 18, 44, 172, 42, 27, 181, 0, 58, 42, 89]
abbrev dktX1_drive_1 : List UInt8 := dkwX1_drive_1 ++ dktX1_drive_2
def dkwX1_drive_0 : List UInt8 := [27, 3, 7, 184, 0, 79, 18, 126, 184, 0, 127, 27, 184, 0, 131, 42, 180, 0, 58, 184, 0, 131, 100]
abbrev dktX1_drive_0 : List UInt8 := dkwX1_drive_0 ++ dktX1_drive_1
theorem dksX1_drive_0 : cX1_drive.data.toList.drop 0 = dktX1_drive_0 := by decide +kernel
theorem dksX1_drive_1 : cX1_drive.data.toList.drop 23 = dktX1_drive_1 := dk_seg dksX1_drive_0 23 rfl rfl
theorem dksX1_drive_2 : cX1_drive.data.toList.drop 45 = dktX1_drive_2 := dk_seg dksX1_drive_1 22 rfl rfl
theorem dX1_drive_0 : decode cX1_drive 0 = .ok (.iload_n 1, 1) := dk_27 (dk_at dksX1_drive_0 0 rfl rfl)
theorem dX1_drive_1 : decode cX1_drive 1 = .ok (.iconst 0, 1) := dk_3 (dk_at dksX1_drive_0 1 rfl rfl)
theorem dX1_drive_2 : decode cX1_drive 2 = .ok (.iconst 4, 1) := dk_7 (dk_at dksX1_drive_0 2 rfl rfl)
theorem dX1_drive_3 : decode cX1_drive 3 = .ok (.invokestatic 79, 3) := dk_184 0 79 (dk_at dksX1_drive_0 3 rfl rfl)
theorem dX1_drive_6 : decode cX1_drive 6 = .ok (.ldc 126, 2) := dk_18 126 (dk_at dksX1_drive_0 6 rfl rfl)
theorem dX1_drive_8 : decode cX1_drive 8 = .ok (.invokestatic 127, 3) := dk_184 0 127 (dk_at dksX1_drive_0 8 rfl rfl)
theorem dX1_drive_11 : decode cX1_drive 11 = .ok (.iload_n 1, 1) := dk_27 (dk_at dksX1_drive_0 11 rfl rfl)
theorem dX1_drive_12 : decode cX1_drive 12 = .ok (.invokestatic 131, 3) := dk_184 0 131 (dk_at dksX1_drive_0 12 rfl rfl)
theorem dX1_drive_15 : decode cX1_drive 15 = .ok (.aload_n 0, 1) := dk_42 (dk_at dksX1_drive_0 15 rfl rfl)
theorem dX1_drive_16 : decode cX1_drive 16 = .ok (.getfield 58, 3) := dk_180 0 58 (dk_at dksX1_drive_0 16 rfl rfl)
theorem dX1_drive_19 : decode cX1_drive 19 = .ok (.invokestatic 131, 3) := dk_184 0 131 (dk_at dksX1_drive_0 19 rfl rfl)
theorem dX1_drive_22 : decode cX1_drive 22 = .ok (.isub, 1) := dk_100 (dk_at dksX1_drive_0 22 rfl rfl)
theorem dX1_drive_23 : decode cX1_drive 23 = .ok (.invokestatic 134, 3) := dk_184 0 134 (dk_at dksX1_drive_1 0 rfl rfl)
theorem dX1_drive_26 : decode cX1_drive 26 = .ok (.istore_n 2, 1) := dk_61 (dk_at dksX1_drive_1 3 rfl rfl)
theorem dX1_drive_27 : decode cX1_drive 27 = .ok (.iload_n 1, 1) := dk_27 (dk_at dksX1_drive_1 4 rfl rfl)
theorem dX1_drive_28 : decode cX1_drive 28 = .ok (.aload_n 0, 1) := dk_42 (dk_at dksX1_drive_1 5 rfl rfl)
theorem dX1_drive_29 : decode cX1_drive 29 = .ok (.getfield 58, 3) := dk_180 0 58 (dk_at dksX1_drive_1 6 rfl rfl)
theorem dX1_drive_32 : decode cX1_drive 32 = .ok (.if_icmp .ne 6, 3) := dk_160 0 6 (dk_at dksX1_drive_1 9 rfl rfl)
theorem dX1_drive_35 : decode cX1_drive 35 = .ok (.ldc 44, 2) := dk_18 44 (dk_at dksX1_drive_1 12 rfl rfl)
theorem dX1_drive_37 : decode cX1_drive 37 = .ok (.ireturn, 1) := dk_172 (dk_at dksX1_drive_1 14 rfl rfl)
theorem dX1_drive_38 : decode cX1_drive 38 = .ok (.aload_n 0, 1) := dk_42 (dk_at dksX1_drive_1 15 rfl rfl)
theorem dX1_drive_39 : decode cX1_drive 39 = .ok (.iload_n 1, 1) := dk_27 (dk_at dksX1_drive_1 16 rfl rfl)
theorem dX1_drive_40 : decode cX1_drive 40 = .ok (.putfield 58, 3) := dk_181 0 58 (dk_at dksX1_drive_1 17 rfl rfl)
theorem dX1_drive_43 : decode cX1_drive 43 = .ok (.aload_n 0, 1) := dk_42 (dk_at dksX1_drive_1 20 rfl rfl)
theorem dX1_drive_44 : decode cX1_drive 44 = .ok (.dup, 1) := dk_89 (dk_at dksX1_drive_1 21 rfl rfl)
theorem dX1_drive_45 : decode cX1_drive 45 = .ok (.getfield 64, 3) := dk_180 0 64 (dk_at dksX1_drive_2 0 rfl rfl)
theorem dX1_drive_48 : decode cX1_drive 48 = .ok (.iload_n 2, 1) := dk_28 (dk_at dksX1_drive_2 3 rfl rfl)
theorem dX1_drive_49 : decode cX1_drive 49 = .ok (.iadd, 1) := dk_96 (dk_at dksX1_drive_2 4 rfl rfl)
theorem dX1_drive_50 : decode cX1_drive 50 = .ok (.putfield 64, 3) := dk_181 0 64 (dk_at dksX1_drive_2 5 rfl rfl)
theorem dX1_drive_53 : decode cX1_drive 53 = .ok (.iload_n 2, 1) := dk_28 (dk_at dksX1_drive_2 8 rfl rfl)
theorem dX1_drive_54 : decode cX1_drive 54 = .ok (.ireturn, 1) := dk_172 (dk_at dksX1_drive_2 9 rfl rfl)
abbrev cX1_moveReel : ByteArray := prog_11_method_14_code
def yX1_moveReel : MethodName := ⟨RX1, "moveReel", "(IZ)I"⟩
def dkwX1_moveReel_0 : List UInt8 := [42, 27, 182, 0, 145, 18, 126, 184, 0, 127, 42, 42, 180, 0, 11, 27, 50, 28, 182, 0, 148, 172]
abbrev dktX1_moveReel_0 : List UInt8 := dkwX1_moveReel_0 ++ []
theorem dksX1_moveReel_0 : cX1_moveReel.data.toList.drop 0 = dktX1_moveReel_0 := by decide +kernel
theorem dX1_moveReel_0 : decode cX1_moveReel 0 = .ok (.aload_n 0, 1) := dk_42 (dk_at dksX1_moveReel_0 0 rfl rfl)
theorem dX1_moveReel_1 : decode cX1_moveReel 1 = .ok (.iload_n 1, 1) := dk_27 (dk_at dksX1_moveReel_0 1 rfl rfl)
theorem dX1_moveReel_2 : decode cX1_moveReel 2 = .ok (.invokevirtual 145, 3) := dk_182 0 145 (dk_at dksX1_moveReel_0 2 rfl rfl)
theorem dX1_moveReel_5 : decode cX1_moveReel 5 = .ok (.ldc 126, 2) := dk_18 126 (dk_at dksX1_moveReel_0 5 rfl rfl)
theorem dX1_moveReel_7 : decode cX1_moveReel 7 = .ok (.invokestatic 127, 3) := dk_184 0 127 (dk_at dksX1_moveReel_0 7 rfl rfl)
theorem dX1_moveReel_10 : decode cX1_moveReel 10 = .ok (.aload_n 0, 1) := dk_42 (dk_at dksX1_moveReel_0 10 rfl rfl)
theorem dX1_moveReel_11 : decode cX1_moveReel 11 = .ok (.aload_n 0, 1) := dk_42 (dk_at dksX1_moveReel_0 11 rfl rfl)
theorem dX1_moveReel_12 : decode cX1_moveReel 12 = .ok (.getfield 11, 3) := dk_180 0 11 (dk_at dksX1_moveReel_0 12 rfl rfl)
theorem dX1_moveReel_15 : decode cX1_moveReel 15 = .ok (.iload_n 1, 1) := dk_27 (dk_at dksX1_moveReel_0 15 rfl rfl)
theorem dX1_moveReel_16 : decode cX1_moveReel 16 = .ok (.aaload, 1) := dk_50 (dk_at dksX1_moveReel_0 16 rfl rfl)
theorem dX1_moveReel_17 : decode cX1_moveReel 17 = .ok (.iload_n 2, 1) := dk_28 (dk_at dksX1_moveReel_0 17 rfl rfl)
theorem dX1_moveReel_18 : decode cX1_moveReel 18 = .ok (.invokevirtual 148, 3) := dk_182 0 148 (dk_at dksX1_moveReel_0 18 rfl rfl)
theorem dX1_moveReel_21 : decode cX1_moveReel 21 = .ok (.ireturn, 1) := dk_172 (dk_at dksX1_moveReel_0 21 rfl rfl)
abbrev cX1_isReel : ByteArray := prog_11_method_3_code
def yX1_isReel : MethodName := ⟨RX1, "isReel", "(I)Z"⟩
def dkwX1_isReel_1 : List UInt8 := [172]
abbrev dktX1_isReel_1 : List UInt8 := dkwX1_isReel_1 ++ []
def dkwX1_isReel_0 : List UInt8 := [27, 3, 16, 9, 184, 0, 79, 153, 0, 16, 42, 180, 0, 11, 27, 50, 198, 0, 7, 4, 167, 0, 4, 3]
abbrev dktX1_isReel_0 : List UInt8 := dkwX1_isReel_0 ++ dktX1_isReel_1
theorem dksX1_isReel_0 : cX1_isReel.data.toList.drop 0 = dktX1_isReel_0 := by decide +kernel
theorem dksX1_isReel_1 : cX1_isReel.data.toList.drop 24 = dktX1_isReel_1 := dk_seg dksX1_isReel_0 24 rfl rfl
theorem dX1_isReel_0 : decode cX1_isReel 0 = .ok (.iload_n 1, 1) := dk_27 (dk_at dksX1_isReel_0 0 rfl rfl)
theorem dX1_isReel_1 : decode cX1_isReel 1 = .ok (.iconst 0, 1) := dk_3 (dk_at dksX1_isReel_0 1 rfl rfl)
theorem dX1_isReel_2 : decode cX1_isReel 2 = .ok (.bipush 9, 2) := dk_16 9 (dk_at dksX1_isReel_0 2 rfl rfl)
theorem dX1_isReel_4 : decode cX1_isReel 4 = .ok (.invokestatic 79, 3) := dk_184 0 79 (dk_at dksX1_isReel_0 4 rfl rfl)
theorem dX1_isReel_7 : decode cX1_isReel 7 = .ok (.ifCond .eq 16, 3) := dk_153 0 16 (dk_at dksX1_isReel_0 7 rfl rfl)
theorem dX1_isReel_10 : decode cX1_isReel 10 = .ok (.aload_n 0, 1) := dk_42 (dk_at dksX1_isReel_0 10 rfl rfl)
theorem dX1_isReel_11 : decode cX1_isReel 11 = .ok (.getfield 11, 3) := dk_180 0 11 (dk_at dksX1_isReel_0 11 rfl rfl)
theorem dX1_isReel_14 : decode cX1_isReel 14 = .ok (.iload_n 1, 1) := dk_27 (dk_at dksX1_isReel_0 14 rfl rfl)
theorem dX1_isReel_15 : decode cX1_isReel 15 = .ok (.aaload, 1) := dk_50 (dk_at dksX1_isReel_0 15 rfl rfl)
theorem dX1_isReel_16 : decode cX1_isReel 16 = .ok (.ifnull 7, 3) := dk_198 0 7 (dk_at dksX1_isReel_0 16 rfl rfl)
theorem dX1_isReel_19 : decode cX1_isReel 19 = .ok (.iconst 1, 1) := dk_4 (dk_at dksX1_isReel_0 19 rfl rfl)
theorem dX1_isReel_20 : decode cX1_isReel 20 = .ok (.goto 4, 3) := dk_167 0 4 (dk_at dksX1_isReel_0 20 rfl rfl)
theorem dX1_isReel_23 : decode cX1_isReel 23 = .ok (.iconst 0, 1) := dk_3 (dk_at dksX1_isReel_0 23 rfl rfl)
theorem dX1_isReel_24 : decode cX1_isReel 24 = .ok (.ireturn, 1) := dk_172 (dk_at dksX1_isReel_1 0 rfl rfl)
abbrev cX1_move : ByteArray := prog_11_method_13_code
def yX1_move : MethodName := ⟨RX1, "move", "(LBarnPictures$Thing;Z)I"⟩
def dkwX1_move_1 : List UInt8 := [167, 0, 5, 18, 44, 172]
abbrev dktX1_move_1 : List UInt8 := dkwX1_move_1 ++ []
def dkwX1_move_0 : List UInt8 := [43, 28, 42, 180, 0, 58, 16, 8, 42, 182, 0, 137, 100, 182, 0, 141, 153, 0, 10, 42, 182, 0, 137]
abbrev dktX1_move_0 : List UInt8 := dkwX1_move_0 ++ dktX1_move_1
theorem dksX1_move_0 : cX1_move.data.toList.drop 0 = dktX1_move_0 := by decide +kernel
theorem dksX1_move_1 : cX1_move.data.toList.drop 23 = dktX1_move_1 := dk_seg dksX1_move_0 23 rfl rfl
theorem dX1_move_0 : decode cX1_move 0 = .ok (.aload_n 1, 1) := dk_43 (dk_at dksX1_move_0 0 rfl rfl)
theorem dX1_move_1 : decode cX1_move 1 = .ok (.iload_n 2, 1) := dk_28 (dk_at dksX1_move_0 1 rfl rfl)
theorem dX1_move_2 : decode cX1_move 2 = .ok (.aload_n 0, 1) := dk_42 (dk_at dksX1_move_0 2 rfl rfl)
theorem dX1_move_3 : decode cX1_move 3 = .ok (.getfield 58, 3) := dk_180 0 58 (dk_at dksX1_move_0 3 rfl rfl)
theorem dX1_move_6 : decode cX1_move 6 = .ok (.bipush 8, 2) := dk_16 8 (dk_at dksX1_move_0 6 rfl rfl)
theorem dX1_move_8 : decode cX1_move 8 = .ok (.aload_n 0, 1) := dk_42 (dk_at dksX1_move_0 8 rfl rfl)
theorem dX1_move_9 : decode cX1_move 9 = .ok (.invokevirtual 137, 3) := dk_182 0 137 (dk_at dksX1_move_0 9 rfl rfl)
theorem dX1_move_12 : decode cX1_move 12 = .ok (.isub, 1) := dk_100 (dk_at dksX1_move_0 12 rfl rfl)
theorem dX1_move_13 : decode cX1_move 13 = .ok (.invokevirtual 141, 3) := dk_182 0 141 (dk_at dksX1_move_0 13 rfl rfl)
theorem dX1_move_16 : decode cX1_move 16 = .ok (.ifCond .eq 10, 3) := dk_153 0 10 (dk_at dksX1_move_0 16 rfl rfl)
theorem dX1_move_19 : decode cX1_move 19 = .ok (.aload_n 0, 1) := dk_42 (dk_at dksX1_move_0 19 rfl rfl)
theorem dX1_move_20 : decode cX1_move 20 = .ok (.invokevirtual 137, 3) := dk_182 0 137 (dk_at dksX1_move_0 20 rfl rfl)
theorem dX1_move_23 : decode cX1_move 23 = .ok (.goto 5, 3) := dk_167 0 5 (dk_at dksX1_move_1 0 rfl rfl)
theorem dX1_move_26 : decode cX1_move 26 = .ok (.ldc 44, 2) := dk_18 44 (dk_at dksX1_move_1 3 rfl rfl)
theorem dX1_move_28 : decode cX1_move 28 = .ok (.ireturn, 1) := dk_172 (dk_at dksX1_move_1 5 rfl rfl)
abbrev cX1_things : ByteArray := prog_11_method_5_code
def yX1_things : MethodName := ⟨RX1, "things", "()I"⟩
def dkwX1_things_2 : List UInt8 := [28, 50, 182, 0, 92, 153, 0, 7, 4, 167, 0, 4, 3, 96, 60, 132, 2, 1, 167, 255, 228, 27, 172]
abbrev dktX1_things_2 : List UInt8 := dkwX1_things_2 ++ []
def dkwX1_things_1 : List UInt8 := [167, 0, 4, 3, 96, 60, 132, 2, 1, 167, 255, 229, 3, 61, 28, 5, 162, 0, 29, 27, 42, 180, 0, 19]
abbrev dktX1_things_1 : List UInt8 := dkwX1_things_1 ++ dktX1_things_2
def dkwX1_things_0 : List UInt8 := [3, 60, 3, 61, 28, 16, 10, 162, 0, 27, 27, 42, 28, 18, 44, 182, 0, 88, 153, 0, 7, 4]
abbrev dktX1_things_0 : List UInt8 := dkwX1_things_0 ++ dktX1_things_1
theorem dksX1_things_0 : cX1_things.data.toList.drop 0 = dktX1_things_0 := by decide +kernel
theorem dksX1_things_1 : cX1_things.data.toList.drop 22 = dktX1_things_1 := dk_seg dksX1_things_0 22 rfl rfl
theorem dksX1_things_2 : cX1_things.data.toList.drop 46 = dktX1_things_2 := dk_seg dksX1_things_1 24 rfl rfl
theorem dX1_things_0 : decode cX1_things 0 = .ok (.iconst 0, 1) := dk_3 (dk_at dksX1_things_0 0 rfl rfl)
theorem dX1_things_1 : decode cX1_things 1 = .ok (.istore_n 1, 1) := dk_60 (dk_at dksX1_things_0 1 rfl rfl)
theorem dX1_things_2 : decode cX1_things 2 = .ok (.iconst 0, 1) := dk_3 (dk_at dksX1_things_0 2 rfl rfl)
theorem dX1_things_3 : decode cX1_things 3 = .ok (.istore_n 2, 1) := dk_61 (dk_at dksX1_things_0 3 rfl rfl)
theorem dX1_things_4 : decode cX1_things 4 = .ok (.iload_n 2, 1) := dk_28 (dk_at dksX1_things_0 4 rfl rfl)
theorem dX1_things_5 : decode cX1_things 5 = .ok (.bipush 10, 2) := dk_16 10 (dk_at dksX1_things_0 5 rfl rfl)
theorem dX1_things_7 : decode cX1_things 7 = .ok (.if_icmp .ge 27, 3) := dk_162 0 27 (dk_at dksX1_things_0 7 rfl rfl)
theorem dX1_things_10 : decode cX1_things 10 = .ok (.iload_n 1, 1) := dk_27 (dk_at dksX1_things_0 10 rfl rfl)
theorem dX1_things_11 : decode cX1_things 11 = .ok (.aload_n 0, 1) := dk_42 (dk_at dksX1_things_0 11 rfl rfl)
theorem dX1_things_12 : decode cX1_things 12 = .ok (.iload_n 2, 1) := dk_28 (dk_at dksX1_things_0 12 rfl rfl)
theorem dX1_things_13 : decode cX1_things 13 = .ok (.ldc 44, 2) := dk_18 44 (dk_at dksX1_things_0 13 rfl rfl)
theorem dX1_things_15 : decode cX1_things 15 = .ok (.invokevirtual 88, 3) := dk_182 0 88 (dk_at dksX1_things_0 15 rfl rfl)
theorem dX1_things_18 : decode cX1_things 18 = .ok (.ifCond .eq 7, 3) := dk_153 0 7 (dk_at dksX1_things_0 18 rfl rfl)
theorem dX1_things_21 : decode cX1_things 21 = .ok (.iconst 1, 1) := dk_4 (dk_at dksX1_things_0 21 rfl rfl)
theorem dX1_things_22 : decode cX1_things 22 = .ok (.goto 4, 3) := dk_167 0 4 (dk_at dksX1_things_1 0 rfl rfl)
theorem dX1_things_25 : decode cX1_things 25 = .ok (.iconst 0, 1) := dk_3 (dk_at dksX1_things_1 3 rfl rfl)
theorem dX1_things_26 : decode cX1_things 26 = .ok (.iadd, 1) := dk_96 (dk_at dksX1_things_1 4 rfl rfl)
theorem dX1_things_27 : decode cX1_things 27 = .ok (.istore_n 1, 1) := dk_60 (dk_at dksX1_things_1 5 rfl rfl)
theorem dX1_things_28 : decode cX1_things 28 = .ok (.iinc 2 1, 3) := dk_132 2 1 (dk_at dksX1_things_1 6 rfl rfl)
theorem dX1_things_31 : decode cX1_things 31 = .ok (.goto (-27), 3) := dk_167 255 229 (dk_at dksX1_things_1 9 rfl rfl)
theorem dX1_things_34 : decode cX1_things 34 = .ok (.iconst 0, 1) := dk_3 (dk_at dksX1_things_1 12 rfl rfl)
theorem dX1_things_35 : decode cX1_things 35 = .ok (.istore_n 2, 1) := dk_61 (dk_at dksX1_things_1 13 rfl rfl)
theorem dX1_things_36 : decode cX1_things 36 = .ok (.iload_n 2, 1) := dk_28 (dk_at dksX1_things_1 14 rfl rfl)
theorem dX1_things_37 : decode cX1_things 37 = .ok (.iconst 2, 1) := dk_5 (dk_at dksX1_things_1 15 rfl rfl)
theorem dX1_things_38 : decode cX1_things 38 = .ok (.if_icmp .ge 29, 3) := dk_162 0 29 (dk_at dksX1_things_1 16 rfl rfl)
theorem dX1_things_41 : decode cX1_things 41 = .ok (.iload_n 1, 1) := dk_27 (dk_at dksX1_things_1 19 rfl rfl)
theorem dX1_things_42 : decode cX1_things 42 = .ok (.aload_n 0, 1) := dk_42 (dk_at dksX1_things_1 20 rfl rfl)
theorem dX1_things_43 : decode cX1_things 43 = .ok (.getfield 19, 3) := dk_180 0 19 (dk_at dksX1_things_1 21 rfl rfl)
theorem dX1_things_46 : decode cX1_things 46 = .ok (.iload_n 2, 1) := dk_28 (dk_at dksX1_things_2 0 rfl rfl)
theorem dX1_things_47 : decode cX1_things 47 = .ok (.aaload, 1) := dk_50 (dk_at dksX1_things_2 1 rfl rfl)
theorem dX1_things_48 : decode cX1_things 48 = .ok (.invokevirtual 92, 3) := dk_182 0 92 (dk_at dksX1_things_2 2 rfl rfl)
theorem dX1_things_51 : decode cX1_things 51 = .ok (.ifCond .eq 7, 3) := dk_153 0 7 (dk_at dksX1_things_2 5 rfl rfl)
theorem dX1_things_54 : decode cX1_things 54 = .ok (.iconst 1, 1) := dk_4 (dk_at dksX1_things_2 8 rfl rfl)
theorem dX1_things_55 : decode cX1_things 55 = .ok (.goto 4, 3) := dk_167 0 4 (dk_at dksX1_things_2 9 rfl rfl)
theorem dX1_things_58 : decode cX1_things 58 = .ok (.iconst 0, 1) := dk_3 (dk_at dksX1_things_2 12 rfl rfl)
theorem dX1_things_59 : decode cX1_things 59 = .ok (.iadd, 1) := dk_96 (dk_at dksX1_things_2 13 rfl rfl)
theorem dX1_things_60 : decode cX1_things 60 = .ok (.istore_n 1, 1) := dk_60 (dk_at dksX1_things_2 14 rfl rfl)
theorem dX1_things_61 : decode cX1_things 61 = .ok (.iinc 2 1, 3) := dk_132 2 1 (dk_at dksX1_things_2 15 rfl rfl)
theorem dX1_things_64 : decode cX1_things 64 = .ok (.goto (-28), 3) := dk_167 255 228 (dk_at dksX1_things_2 18 rfl rfl)
theorem dX1_things_67 : decode cX1_things 67 = .ok (.iload_n 1, 1) := dk_27 (dk_at dksX1_things_2 21 rfl rfl)
theorem dX1_things_68 : decode cX1_things 68 = .ok (.ireturn, 1) := dk_172 (dk_at dksX1_things_2 22 rfl rfl)
abbrev cX1_isIn : ByteArray := prog_11_method_4_code
def yX1_isIn : MethodName := ⟨RX1, "isIn", "(II)Z"⟩
def dkwX1_isIn_1 : List UInt8 := [167, 0, 4, 3, 172]
abbrev dktX1_isIn_1 : List UInt8 := dkwX1_isIn_1 ++ []
def dkwX1_isIn_0 : List UInt8 := [42, 180, 0, 11, 27, 50, 198, 0, 20, 42, 180, 0, 11, 27, 50, 180, 0, 83, 28, 160, 0, 7, 4]
abbrev dktX1_isIn_0 : List UInt8 := dkwX1_isIn_0 ++ dktX1_isIn_1
theorem dksX1_isIn_0 : cX1_isIn.data.toList.drop 0 = dktX1_isIn_0 := by decide +kernel
theorem dksX1_isIn_1 : cX1_isIn.data.toList.drop 23 = dktX1_isIn_1 := dk_seg dksX1_isIn_0 23 rfl rfl
theorem dX1_isIn_0 : decode cX1_isIn 0 = .ok (.aload_n 0, 1) := dk_42 (dk_at dksX1_isIn_0 0 rfl rfl)
theorem dX1_isIn_1 : decode cX1_isIn 1 = .ok (.getfield 11, 3) := dk_180 0 11 (dk_at dksX1_isIn_0 1 rfl rfl)
theorem dX1_isIn_4 : decode cX1_isIn 4 = .ok (.iload_n 1, 1) := dk_27 (dk_at dksX1_isIn_0 4 rfl rfl)
theorem dX1_isIn_5 : decode cX1_isIn 5 = .ok (.aaload, 1) := dk_50 (dk_at dksX1_isIn_0 5 rfl rfl)
theorem dX1_isIn_6 : decode cX1_isIn 6 = .ok (.ifnull 20, 3) := dk_198 0 20 (dk_at dksX1_isIn_0 6 rfl rfl)
theorem dX1_isIn_9 : decode cX1_isIn 9 = .ok (.aload_n 0, 1) := dk_42 (dk_at dksX1_isIn_0 9 rfl rfl)
theorem dX1_isIn_10 : decode cX1_isIn 10 = .ok (.getfield 11, 3) := dk_180 0 11 (dk_at dksX1_isIn_0 10 rfl rfl)
theorem dX1_isIn_13 : decode cX1_isIn 13 = .ok (.iload_n 1, 1) := dk_27 (dk_at dksX1_isIn_0 13 rfl rfl)
theorem dX1_isIn_14 : decode cX1_isIn 14 = .ok (.aaload, 1) := dk_50 (dk_at dksX1_isIn_0 14 rfl rfl)
theorem dX1_isIn_15 : decode cX1_isIn 15 = .ok (.getfield 83, 3) := dk_180 0 83 (dk_at dksX1_isIn_0 15 rfl rfl)
theorem dX1_isIn_18 : decode cX1_isIn 18 = .ok (.iload_n 2, 1) := dk_28 (dk_at dksX1_isIn_0 18 rfl rfl)
theorem dX1_isIn_19 : decode cX1_isIn 19 = .ok (.if_icmp .ne 7, 3) := dk_160 0 7 (dk_at dksX1_isIn_0 19 rfl rfl)
theorem dX1_isIn_22 : decode cX1_isIn 22 = .ok (.iconst 1, 1) := dk_4 (dk_at dksX1_isIn_0 22 rfl rfl)
theorem dX1_isIn_23 : decode cX1_isIn 23 = .ok (.goto 4, 3) := dk_167 0 4 (dk_at dksX1_isIn_1 0 rfl rfl)
theorem dX1_isIn_26 : decode cX1_isIn 26 = .ok (.iconst 0, 1) := dk_3 (dk_at dksX1_isIn_1 3 rfl rfl)
theorem dX1_isIn_27 : decode cX1_isIn 27 = .ok (.ireturn, 1) := dk_172 (dk_at dksX1_isIn_1 4 rfl rfl)
abbrev cX1_moveGenerator : ByteArray := prog_11_method_15_code
def yX1_moveGenerator : MethodName := ⟨RX1, "moveGenerator", "(IZ)I"⟩
def dkwX1_moveGenerator_0 : List UInt8 := [27, 3, 4, 184, 0, 79, 18, 126, 184, 0, 127, 42, 42, 180, 0, 19, 27, 50, 28, 182, 0, 148, 172]
abbrev dktX1_moveGenerator_0 : List UInt8 := dkwX1_moveGenerator_0 ++ []
theorem dksX1_moveGenerator_0 : cX1_moveGenerator.data.toList.drop 0 = dktX1_moveGenerator_0 := by decide +kernel
theorem dX1_moveGenerator_0 : decode cX1_moveGenerator 0 = .ok (.iload_n 1, 1) := dk_27 (dk_at dksX1_moveGenerator_0 0 rfl rfl)
theorem dX1_moveGenerator_1 : decode cX1_moveGenerator 1 = .ok (.iconst 0, 1) := dk_3 (dk_at dksX1_moveGenerator_0 1 rfl rfl)
theorem dX1_moveGenerator_2 : decode cX1_moveGenerator 2 = .ok (.iconst 1, 1) := dk_4 (dk_at dksX1_moveGenerator_0 2 rfl rfl)
theorem dX1_moveGenerator_3 : decode cX1_moveGenerator 3 = .ok (.invokestatic 79, 3) := dk_184 0 79 (dk_at dksX1_moveGenerator_0 3 rfl rfl)
theorem dX1_moveGenerator_6 : decode cX1_moveGenerator 6 = .ok (.ldc 126, 2) := dk_18 126 (dk_at dksX1_moveGenerator_0 6 rfl rfl)
theorem dX1_moveGenerator_8 : decode cX1_moveGenerator 8 = .ok (.invokestatic 127, 3) := dk_184 0 127 (dk_at dksX1_moveGenerator_0 8 rfl rfl)
theorem dX1_moveGenerator_11 : decode cX1_moveGenerator 11 = .ok (.aload_n 0, 1) := dk_42 (dk_at dksX1_moveGenerator_0 11 rfl rfl)
theorem dX1_moveGenerator_12 : decode cX1_moveGenerator 12 = .ok (.aload_n 0, 1) := dk_42 (dk_at dksX1_moveGenerator_0 12 rfl rfl)
theorem dX1_moveGenerator_13 : decode cX1_moveGenerator 13 = .ok (.getfield 19, 3) := dk_180 0 19 (dk_at dksX1_moveGenerator_0 13 rfl rfl)
theorem dX1_moveGenerator_16 : decode cX1_moveGenerator 16 = .ok (.iload_n 1, 1) := dk_27 (dk_at dksX1_moveGenerator_0 16 rfl rfl)
theorem dX1_moveGenerator_17 : decode cX1_moveGenerator 17 = .ok (.aaload, 1) := dk_50 (dk_at dksX1_moveGenerator_0 17 rfl rfl)
theorem dX1_moveGenerator_18 : decode cX1_moveGenerator 18 = .ok (.iload_n 2, 1) := dk_28 (dk_at dksX1_moveGenerator_0 18 rfl rfl)
theorem dX1_moveGenerator_19 : decode cX1_moveGenerator 19 = .ok (.invokevirtual 148, 3) := dk_182 0 148 (dk_at dksX1_moveGenerator_0 19 rfl rfl)
theorem dX1_moveGenerator_22 : decode cX1_moveGenerator 22 = .ok (.ireturn, 1) := dk_172 (dk_at dksX1_moveGenerator_0 22 rfl rfl)
abbrev cX1_fuel : ByteArray := prog_11_method_16_code
def yX1_fuel : MethodName := ⟨RX1, "fuel", "(II)I"⟩
def dkwX1_fuel_4 : List UInt8 := [42, 89, 180, 0, 67, 28, 8, 108, 96, 181, 0, 67, 42, 180, 0, 19, 27, 50, 180, 0, 119, 172]
abbrev dktX1_fuel_4 : List UInt8 := dkwX1_fuel_4 ++ []
def dkwX1_fuel_3 : List UInt8 := [167, 0, 4, 3, 18, 154, 184, 0, 127, 42, 180, 0, 19, 27, 50, 89, 180, 0, 119, 28, 96, 181, 0, 119]
abbrev dktX1_fuel_3 : List UInt8 := dkwX1_fuel_3 ++ dktX1_fuel_4
def dkwX1_fuel_2 : List UInt8 := [18, 153, 184, 0, 127, 42, 180, 0, 19, 27, 50, 180, 0, 119, 28, 96, 17, 1, 244, 163, 0, 7, 4]
abbrev dktX1_fuel_2 : List UInt8 := dkwX1_fuel_2 ++ dktX1_fuel_3
def dkwX1_fuel_1 : List UInt8 := [112, 154, 0, 7, 4, 167, 0, 4, 3, 18, 152, 184, 0, 127, 42, 180, 0, 19, 27, 50, 182, 0, 92]
abbrev dktX1_fuel_1 : List UInt8 := dkwX1_fuel_1 ++ dktX1_fuel_2
def dkwX1_fuel_0 : List UInt8 := [27, 3, 4, 184, 0, 79, 18, 126, 184, 0, 127, 28, 8, 17, 1, 244, 184, 0, 79, 153, 0, 13, 28, 8]
abbrev dktX1_fuel_0 : List UInt8 := dkwX1_fuel_0 ++ dktX1_fuel_1
theorem dksX1_fuel_0 : cX1_fuel.data.toList.drop 0 = dktX1_fuel_0 := by decide +kernel
theorem dksX1_fuel_1 : cX1_fuel.data.toList.drop 24 = dktX1_fuel_1 := dk_seg dksX1_fuel_0 24 rfl rfl
theorem dksX1_fuel_2 : cX1_fuel.data.toList.drop 47 = dktX1_fuel_2 := dk_seg dksX1_fuel_1 23 rfl rfl
theorem dksX1_fuel_3 : cX1_fuel.data.toList.drop 70 = dktX1_fuel_3 := dk_seg dksX1_fuel_2 23 rfl rfl
theorem dksX1_fuel_4 : cX1_fuel.data.toList.drop 94 = dktX1_fuel_4 := dk_seg dksX1_fuel_3 24 rfl rfl
theorem dX1_fuel_0 : decode cX1_fuel 0 = .ok (.iload_n 1, 1) := dk_27 (dk_at dksX1_fuel_0 0 rfl rfl)
theorem dX1_fuel_1 : decode cX1_fuel 1 = .ok (.iconst 0, 1) := dk_3 (dk_at dksX1_fuel_0 1 rfl rfl)
theorem dX1_fuel_2 : decode cX1_fuel 2 = .ok (.iconst 1, 1) := dk_4 (dk_at dksX1_fuel_0 2 rfl rfl)
theorem dX1_fuel_3 : decode cX1_fuel 3 = .ok (.invokestatic 79, 3) := dk_184 0 79 (dk_at dksX1_fuel_0 3 rfl rfl)
theorem dX1_fuel_6 : decode cX1_fuel 6 = .ok (.ldc 126, 2) := dk_18 126 (dk_at dksX1_fuel_0 6 rfl rfl)
theorem dX1_fuel_8 : decode cX1_fuel 8 = .ok (.invokestatic 127, 3) := dk_184 0 127 (dk_at dksX1_fuel_0 8 rfl rfl)
theorem dX1_fuel_11 : decode cX1_fuel 11 = .ok (.iload_n 2, 1) := dk_28 (dk_at dksX1_fuel_0 11 rfl rfl)
theorem dX1_fuel_12 : decode cX1_fuel 12 = .ok (.iconst 5, 1) := dk_8 (dk_at dksX1_fuel_0 12 rfl rfl)
theorem dX1_fuel_13 : decode cX1_fuel 13 = .ok (.sipush 500, 3) := dk_17 1 244 (dk_at dksX1_fuel_0 13 rfl rfl)
theorem dX1_fuel_16 : decode cX1_fuel 16 = .ok (.invokestatic 79, 3) := dk_184 0 79 (dk_at dksX1_fuel_0 16 rfl rfl)
theorem dX1_fuel_19 : decode cX1_fuel 19 = .ok (.ifCond .eq 13, 3) := dk_153 0 13 (dk_at dksX1_fuel_0 19 rfl rfl)
theorem dX1_fuel_22 : decode cX1_fuel 22 = .ok (.iload_n 2, 1) := dk_28 (dk_at dksX1_fuel_0 22 rfl rfl)
theorem dX1_fuel_23 : decode cX1_fuel 23 = .ok (.iconst 5, 1) := dk_8 (dk_at dksX1_fuel_0 23 rfl rfl)
theorem dX1_fuel_24 : decode cX1_fuel 24 = .ok (.irem, 1) := dk_112 (dk_at dksX1_fuel_1 0 rfl rfl)
theorem dX1_fuel_25 : decode cX1_fuel 25 = .ok (.ifCond .ne 7, 3) := dk_154 0 7 (dk_at dksX1_fuel_1 1 rfl rfl)
theorem dX1_fuel_28 : decode cX1_fuel 28 = .ok (.iconst 1, 1) := dk_4 (dk_at dksX1_fuel_1 4 rfl rfl)
theorem dX1_fuel_29 : decode cX1_fuel 29 = .ok (.goto 4, 3) := dk_167 0 4 (dk_at dksX1_fuel_1 5 rfl rfl)
theorem dX1_fuel_32 : decode cX1_fuel 32 = .ok (.iconst 0, 1) := dk_3 (dk_at dksX1_fuel_1 8 rfl rfl)
theorem dX1_fuel_33 : decode cX1_fuel 33 = .ok (.ldc 152, 2) := dk_18 152 (dk_at dksX1_fuel_1 9 rfl rfl)
theorem dX1_fuel_35 : decode cX1_fuel 35 = .ok (.invokestatic 127, 3) := dk_184 0 127 (dk_at dksX1_fuel_1 11 rfl rfl)
theorem dX1_fuel_38 : decode cX1_fuel 38 = .ok (.aload_n 0, 1) := dk_42 (dk_at dksX1_fuel_1 14 rfl rfl)
theorem dX1_fuel_39 : decode cX1_fuel 39 = .ok (.getfield 19, 3) := dk_180 0 19 (dk_at dksX1_fuel_1 15 rfl rfl)
theorem dX1_fuel_42 : decode cX1_fuel 42 = .ok (.iload_n 1, 1) := dk_27 (dk_at dksX1_fuel_1 18 rfl rfl)
theorem dX1_fuel_43 : decode cX1_fuel 43 = .ok (.aaload, 1) := dk_50 (dk_at dksX1_fuel_1 19 rfl rfl)
theorem dX1_fuel_44 : decode cX1_fuel 44 = .ok (.invokevirtual 92, 3) := dk_182 0 92 (dk_at dksX1_fuel_1 20 rfl rfl)
theorem dX1_fuel_47 : decode cX1_fuel 47 = .ok (.ldc 153, 2) := dk_18 153 (dk_at dksX1_fuel_2 0 rfl rfl)
theorem dX1_fuel_49 : decode cX1_fuel 49 = .ok (.invokestatic 127, 3) := dk_184 0 127 (dk_at dksX1_fuel_2 2 rfl rfl)
theorem dX1_fuel_52 : decode cX1_fuel 52 = .ok (.aload_n 0, 1) := dk_42 (dk_at dksX1_fuel_2 5 rfl rfl)
theorem dX1_fuel_53 : decode cX1_fuel 53 = .ok (.getfield 19, 3) := dk_180 0 19 (dk_at dksX1_fuel_2 6 rfl rfl)
theorem dX1_fuel_56 : decode cX1_fuel 56 = .ok (.iload_n 1, 1) := dk_27 (dk_at dksX1_fuel_2 9 rfl rfl)
theorem dX1_fuel_57 : decode cX1_fuel 57 = .ok (.aaload, 1) := dk_50 (dk_at dksX1_fuel_2 10 rfl rfl)
theorem dX1_fuel_58 : decode cX1_fuel 58 = .ok (.getfield 119, 3) := dk_180 0 119 (dk_at dksX1_fuel_2 11 rfl rfl)
theorem dX1_fuel_61 : decode cX1_fuel 61 = .ok (.iload_n 2, 1) := dk_28 (dk_at dksX1_fuel_2 14 rfl rfl)
theorem dX1_fuel_62 : decode cX1_fuel 62 = .ok (.iadd, 1) := dk_96 (dk_at dksX1_fuel_2 15 rfl rfl)
theorem dX1_fuel_63 : decode cX1_fuel 63 = .ok (.sipush 500, 3) := dk_17 1 244 (dk_at dksX1_fuel_2 16 rfl rfl)
theorem dX1_fuel_66 : decode cX1_fuel 66 = .ok (.if_icmp .gt 7, 3) := dk_163 0 7 (dk_at dksX1_fuel_2 19 rfl rfl)
theorem dX1_fuel_69 : decode cX1_fuel 69 = .ok (.iconst 1, 1) := dk_4 (dk_at dksX1_fuel_2 22 rfl rfl)
theorem dX1_fuel_70 : decode cX1_fuel 70 = .ok (.goto 4, 3) := dk_167 0 4 (dk_at dksX1_fuel_3 0 rfl rfl)
theorem dX1_fuel_73 : decode cX1_fuel 73 = .ok (.iconst 0, 1) := dk_3 (dk_at dksX1_fuel_3 3 rfl rfl)
theorem dX1_fuel_74 : decode cX1_fuel 74 = .ok (.ldc 154, 2) := dk_18 154 (dk_at dksX1_fuel_3 4 rfl rfl)
theorem dX1_fuel_76 : decode cX1_fuel 76 = .ok (.invokestatic 127, 3) := dk_184 0 127 (dk_at dksX1_fuel_3 6 rfl rfl)
theorem dX1_fuel_79 : decode cX1_fuel 79 = .ok (.aload_n 0, 1) := dk_42 (dk_at dksX1_fuel_3 9 rfl rfl)
theorem dX1_fuel_80 : decode cX1_fuel 80 = .ok (.getfield 19, 3) := dk_180 0 19 (dk_at dksX1_fuel_3 10 rfl rfl)
theorem dX1_fuel_83 : decode cX1_fuel 83 = .ok (.iload_n 1, 1) := dk_27 (dk_at dksX1_fuel_3 13 rfl rfl)
theorem dX1_fuel_84 : decode cX1_fuel 84 = .ok (.aaload, 1) := dk_50 (dk_at dksX1_fuel_3 14 rfl rfl)
theorem dX1_fuel_85 : decode cX1_fuel 85 = .ok (.dup, 1) := dk_89 (dk_at dksX1_fuel_3 15 rfl rfl)
theorem dX1_fuel_86 : decode cX1_fuel 86 = .ok (.getfield 119, 3) := dk_180 0 119 (dk_at dksX1_fuel_3 16 rfl rfl)
theorem dX1_fuel_89 : decode cX1_fuel 89 = .ok (.iload_n 2, 1) := dk_28 (dk_at dksX1_fuel_3 19 rfl rfl)
theorem dX1_fuel_90 : decode cX1_fuel 90 = .ok (.iadd, 1) := dk_96 (dk_at dksX1_fuel_3 20 rfl rfl)
theorem dX1_fuel_91 : decode cX1_fuel 91 = .ok (.putfield 119, 3) := dk_181 0 119 (dk_at dksX1_fuel_3 21 rfl rfl)
theorem dX1_fuel_94 : decode cX1_fuel 94 = .ok (.aload_n 0, 1) := dk_42 (dk_at dksX1_fuel_4 0 rfl rfl)
theorem dX1_fuel_95 : decode cX1_fuel 95 = .ok (.dup, 1) := dk_89 (dk_at dksX1_fuel_4 1 rfl rfl)
theorem dX1_fuel_96 : decode cX1_fuel 96 = .ok (.getfield 67, 3) := dk_180 0 67 (dk_at dksX1_fuel_4 2 rfl rfl)
theorem dX1_fuel_99 : decode cX1_fuel 99 = .ok (.iload_n 2, 1) := dk_28 (dk_at dksX1_fuel_4 5 rfl rfl)
theorem dX1_fuel_100 : decode cX1_fuel 100 = .ok (.iconst 5, 1) := dk_8 (dk_at dksX1_fuel_4 6 rfl rfl)
theorem dX1_fuel_101 : decode cX1_fuel 101 = .ok (.idiv, 1) := dk_108 (dk_at dksX1_fuel_4 7 rfl rfl)
theorem dX1_fuel_102 : decode cX1_fuel 102 = .ok (.iadd, 1) := dk_96 (dk_at dksX1_fuel_4 8 rfl rfl)
theorem dX1_fuel_103 : decode cX1_fuel 103 = .ok (.putfield 67, 3) := dk_181 0 67 (dk_at dksX1_fuel_4 9 rfl rfl)
theorem dX1_fuel_106 : decode cX1_fuel 106 = .ok (.aload_n 0, 1) := dk_42 (dk_at dksX1_fuel_4 12 rfl rfl)
theorem dX1_fuel_107 : decode cX1_fuel 107 = .ok (.getfield 19, 3) := dk_180 0 19 (dk_at dksX1_fuel_4 13 rfl rfl)
theorem dX1_fuel_110 : decode cX1_fuel 110 = .ok (.iload_n 1, 1) := dk_27 (dk_at dksX1_fuel_4 16 rfl rfl)
theorem dX1_fuel_111 : decode cX1_fuel 111 = .ok (.aaload, 1) := dk_50 (dk_at dksX1_fuel_4 17 rfl rfl)
theorem dX1_fuel_112 : decode cX1_fuel 112 = .ok (.getfield 119, 3) := dk_180 0 119 (dk_at dksX1_fuel_4 18 rfl rfl)
theorem dX1_fuel_115 : decode cX1_fuel 115 = .ok (.ireturn, 1) := dk_172 (dk_at dksX1_fuel_4 21 rfl rfl)
abbrev cX1_renew : ByteArray := prog_11_method_17_code
def yX1_renew : MethodName := ⟨RX1, "renew", "(I)I"⟩
def dkwX1_renew_2 : List UInt8 := [27, 50, 180, 0, 96, 172]
abbrev dktX1_renew_2 : List UInt8 := dkwX1_renew_2 ++ []
def dkwX1_renew_1 : List UInt8 := [42, 180, 0, 11, 27, 50, 182, 0, 156, 42, 89, 180, 0, 70, 16, 30, 96, 181, 0, 70, 42, 180, 0, 11]
abbrev dktX1_renew_1 : List UInt8 := dkwX1_renew_1 ++ dktX1_renew_2
def dkwX1_renew_0 : List UInt8 := [42, 27, 182, 0, 145, 18, 126, 184, 0, 127, 42, 180, 0, 11, 27, 50, 182, 0, 155, 18, 153, 184, 0, 127]
abbrev dktX1_renew_0 : List UInt8 := dkwX1_renew_0 ++ dktX1_renew_1
theorem dksX1_renew_0 : cX1_renew.data.toList.drop 0 = dktX1_renew_0 := by decide +kernel
theorem dksX1_renew_1 : cX1_renew.data.toList.drop 24 = dktX1_renew_1 := dk_seg dksX1_renew_0 24 rfl rfl
theorem dksX1_renew_2 : cX1_renew.data.toList.drop 48 = dktX1_renew_2 := dk_seg dksX1_renew_1 24 rfl rfl
theorem dX1_renew_0 : decode cX1_renew 0 = .ok (.aload_n 0, 1) := dk_42 (dk_at dksX1_renew_0 0 rfl rfl)
theorem dX1_renew_1 : decode cX1_renew 1 = .ok (.iload_n 1, 1) := dk_27 (dk_at dksX1_renew_0 1 rfl rfl)
theorem dX1_renew_2 : decode cX1_renew 2 = .ok (.invokevirtual 145, 3) := dk_182 0 145 (dk_at dksX1_renew_0 2 rfl rfl)
theorem dX1_renew_5 : decode cX1_renew 5 = .ok (.ldc 126, 2) := dk_18 126 (dk_at dksX1_renew_0 5 rfl rfl)
theorem dX1_renew_7 : decode cX1_renew 7 = .ok (.invokestatic 127, 3) := dk_184 0 127 (dk_at dksX1_renew_0 7 rfl rfl)
theorem dX1_renew_10 : decode cX1_renew 10 = .ok (.aload_n 0, 1) := dk_42 (dk_at dksX1_renew_0 10 rfl rfl)
theorem dX1_renew_11 : decode cX1_renew 11 = .ok (.getfield 11, 3) := dk_180 0 11 (dk_at dksX1_renew_0 11 rfl rfl)
theorem dX1_renew_14 : decode cX1_renew 14 = .ok (.iload_n 1, 1) := dk_27 (dk_at dksX1_renew_0 14 rfl rfl)
theorem dX1_renew_15 : decode cX1_renew 15 = .ok (.aaload, 1) := dk_50 (dk_at dksX1_renew_0 15 rfl rfl)
theorem dX1_renew_16 : decode cX1_renew 16 = .ok (.invokevirtual 155, 3) := dk_182 0 155 (dk_at dksX1_renew_0 16 rfl rfl)
theorem dX1_renew_19 : decode cX1_renew 19 = .ok (.ldc 153, 2) := dk_18 153 (dk_at dksX1_renew_0 19 rfl rfl)
theorem dX1_renew_21 : decode cX1_renew 21 = .ok (.invokestatic 127, 3) := dk_184 0 127 (dk_at dksX1_renew_0 21 rfl rfl)
theorem dX1_renew_24 : decode cX1_renew 24 = .ok (.aload_n 0, 1) := dk_42 (dk_at dksX1_renew_1 0 rfl rfl)
theorem dX1_renew_25 : decode cX1_renew 25 = .ok (.getfield 11, 3) := dk_180 0 11 (dk_at dksX1_renew_1 1 rfl rfl)
theorem dX1_renew_28 : decode cX1_renew 28 = .ok (.iload_n 1, 1) := dk_27 (dk_at dksX1_renew_1 4 rfl rfl)
theorem dX1_renew_29 : decode cX1_renew 29 = .ok (.aaload, 1) := dk_50 (dk_at dksX1_renew_1 5 rfl rfl)
theorem dX1_renew_30 : decode cX1_renew 30 = .ok (.invokevirtual 156, 3) := dk_182 0 156 (dk_at dksX1_renew_1 6 rfl rfl)
theorem dX1_renew_33 : decode cX1_renew 33 = .ok (.aload_n 0, 1) := dk_42 (dk_at dksX1_renew_1 9 rfl rfl)
theorem dX1_renew_34 : decode cX1_renew 34 = .ok (.dup, 1) := dk_89 (dk_at dksX1_renew_1 10 rfl rfl)
theorem dX1_renew_35 : decode cX1_renew 35 = .ok (.getfield 70, 3) := dk_180 0 70 (dk_at dksX1_renew_1 11 rfl rfl)
theorem dX1_renew_38 : decode cX1_renew 38 = .ok (.bipush 30, 2) := dk_16 30 (dk_at dksX1_renew_1 14 rfl rfl)
theorem dX1_renew_40 : decode cX1_renew 40 = .ok (.iadd, 1) := dk_96 (dk_at dksX1_renew_1 16 rfl rfl)
theorem dX1_renew_41 : decode cX1_renew 41 = .ok (.putfield 70, 3) := dk_181 0 70 (dk_at dksX1_renew_1 17 rfl rfl)
theorem dX1_renew_44 : decode cX1_renew 44 = .ok (.aload_n 0, 1) := dk_42 (dk_at dksX1_renew_1 20 rfl rfl)
theorem dX1_renew_45 : decode cX1_renew 45 = .ok (.getfield 11, 3) := dk_180 0 11 (dk_at dksX1_renew_1 21 rfl rfl)
theorem dX1_renew_48 : decode cX1_renew 48 = .ok (.iload_n 1, 1) := dk_27 (dk_at dksX1_renew_2 0 rfl rfl)
theorem dX1_renew_49 : decode cX1_renew 49 = .ok (.aaload, 1) := dk_50 (dk_at dksX1_renew_2 1 rfl rfl)
theorem dX1_renew_50 : decode cX1_renew 50 = .ok (.getfield 96, 3) := dk_180 0 96 (dk_at dksX1_renew_2 2 rfl rfl)
theorem dX1_renew_53 : decode cX1_renew 53 = .ok (.ireturn, 1) := dk_172 (dk_at dksX1_renew_2 5 rfl rfl)
abbrev cX1_show : ByteArray := prog_11_method_18_code
def yX1_show : MethodName := ⟨RX1, "show", "(I)I"⟩
def dkwX1_show_9 : List UInt8 := [42, 180, 0, 36, 104, 172]
abbrev dktX1_show_9 : List UInt8 := dkwX1_show_9 ++ []
def dkwX1_show_8 : List UInt8 := [92, 46, 21, 4, 42, 180, 0, 36, 104, 96, 79, 42, 89, 180, 0, 73, 21, 4, 96, 181, 0, 73, 21, 4]
abbrev dktX1_show_8 : List UInt8 := dkwX1_show_8 ++ dktX1_show_9
def dkwX1_show_7 : List UInt8 := [180, 0, 23, 27, 42, 180, 0, 61, 79, 42, 180, 0, 27, 27, 92, 46, 4, 96, 79, 42, 180, 0, 30, 27]
abbrev dktX1_show_7 : List UInt8 := dkwX1_show_7 ++ dktX1_show_8
def dkwX1_show_6 : List UInt8 := [21, 5, 27, 182, 0, 88, 153, 0, 10, 42, 21, 5, 27, 182, 0, 168, 132, 5, 1, 167, 255, 229, 42]
abbrev dktX1_show_6 : List UInt8 := dkwX1_show_6 ++ dktX1_show_7
def dkwX1_show_5 : List UInt8 := [180, 0, 36, 104, 79, 42, 180, 0, 33, 7, 29, 79, 3, 54, 5, 21, 5, 16, 10, 162, 0, 26, 42]
abbrev dktX1_show_5 : List UInt8 := dkwX1_show_5 ++ dktX1_show_6
def dkwX1_show_4 : List UInt8 := [180, 0, 33, 4, 27, 79, 42, 180, 0, 33, 5, 21, 4, 79, 42, 180, 0, 33, 6, 21, 4, 42]
abbrev dktX1_show_4 : List UInt8 := dkwX1_show_4 ++ dktX1_show_5
def dkwX1_show_3 : List UInt8 := [8, 42, 180, 0, 33, 190, 8, 100, 184, 0, 52, 42, 180, 0, 33, 3, 42, 180, 0, 61, 79, 42]
abbrev dktX1_show_3 : List UInt8 := dkwX1_show_3 ++ dktX1_show_4
def dkwX1_show_2 : List UInt8 := [27, 29, 182, 0, 120, 50, 89, 180, 0, 119, 29, 100, 181, 0, 119, 42, 180, 0, 33, 3, 42, 180, 0, 33]
abbrev dktX1_show_2 : List UInt8 := dkwX1_show_2 ++ dktX1_show_3
def dkwX1_show_1 : List UInt8 := [89, 28, 183, 0, 164, 191, 42, 27, 182, 0, 123, 62, 42, 27, 182, 0, 165, 54, 4, 42, 180, 0, 19, 42]
abbrev dktX1_show_1 : List UInt8 := dkwX1_show_1 ++ dktX1_show_2
def dkwX1_show_0 : List UInt8 := [27, 3, 7, 184, 0, 79, 18, 126, 184, 0, 127, 42, 27, 182, 0, 159, 61, 28, 158, 0, 12, 187, 0, 162]
abbrev dktX1_show_0 : List UInt8 := dkwX1_show_0 ++ dktX1_show_1
theorem dksX1_show_0 : cX1_show.data.toList.drop 0 = dktX1_show_0 := by decide +kernel
theorem dksX1_show_1 : cX1_show.data.toList.drop 24 = dktX1_show_1 := dk_seg dksX1_show_0 24 rfl rfl
theorem dksX1_show_2 : cX1_show.data.toList.drop 48 = dktX1_show_2 := dk_seg dksX1_show_1 24 rfl rfl
theorem dksX1_show_3 : cX1_show.data.toList.drop 72 = dktX1_show_3 := dk_seg dksX1_show_2 24 rfl rfl
theorem dksX1_show_4 : cX1_show.data.toList.drop 94 = dktX1_show_4 := dk_seg dksX1_show_3 22 rfl rfl
theorem dksX1_show_5 : cX1_show.data.toList.drop 116 = dktX1_show_5 := dk_seg dksX1_show_4 22 rfl rfl
theorem dksX1_show_6 : cX1_show.data.toList.drop 139 = dktX1_show_6 := dk_seg dksX1_show_5 23 rfl rfl
theorem dksX1_show_7 : cX1_show.data.toList.drop 162 = dktX1_show_7 := dk_seg dksX1_show_6 23 rfl rfl
theorem dksX1_show_8 : cX1_show.data.toList.drop 186 = dktX1_show_8 := dk_seg dksX1_show_7 24 rfl rfl
theorem dksX1_show_9 : cX1_show.data.toList.drop 210 = dktX1_show_9 := dk_seg dksX1_show_8 24 rfl rfl
theorem dX1_show_0 : decode cX1_show 0 = .ok (.iload_n 1, 1) := dk_27 (dk_at dksX1_show_0 0 rfl rfl)
theorem dX1_show_1 : decode cX1_show 1 = .ok (.iconst 0, 1) := dk_3 (dk_at dksX1_show_0 1 rfl rfl)
theorem dX1_show_2 : decode cX1_show 2 = .ok (.iconst 4, 1) := dk_7 (dk_at dksX1_show_0 2 rfl rfl)
theorem dX1_show_3 : decode cX1_show 3 = .ok (.invokestatic 79, 3) := dk_184 0 79 (dk_at dksX1_show_0 3 rfl rfl)
theorem dX1_show_6 : decode cX1_show 6 = .ok (.ldc 126, 2) := dk_18 126 (dk_at dksX1_show_0 6 rfl rfl)
theorem dX1_show_8 : decode cX1_show 8 = .ok (.invokestatic 127, 3) := dk_184 0 127 (dk_at dksX1_show_0 8 rfl rfl)
theorem dX1_show_11 : decode cX1_show 11 = .ok (.aload_n 0, 1) := dk_42 (dk_at dksX1_show_0 11 rfl rfl)
theorem dX1_show_12 : decode cX1_show 12 = .ok (.iload_n 1, 1) := dk_27 (dk_at dksX1_show_0 12 rfl rfl)
theorem dX1_show_13 : decode cX1_show 13 = .ok (.invokevirtual 159, 3) := dk_182 0 159 (dk_at dksX1_show_0 13 rfl rfl)
theorem dX1_show_16 : decode cX1_show 16 = .ok (.istore_n 2, 1) := dk_61 (dk_at dksX1_show_0 16 rfl rfl)
theorem dX1_show_17 : decode cX1_show 17 = .ok (.iload_n 2, 1) := dk_28 (dk_at dksX1_show_0 17 rfl rfl)
theorem dX1_show_18 : decode cX1_show 18 = .ok (.ifCond .le 12, 3) := dk_158 0 12 (dk_at dksX1_show_0 18 rfl rfl)
theorem dX1_show_21 : decode cX1_show 21 = .ok (.new 162, 3) := dk_187 0 162 (dk_at dksX1_show_0 21 rfl rfl)
theorem dX1_show_24 : decode cX1_show 24 = .ok (.dup, 1) := dk_89 (dk_at dksX1_show_1 0 rfl rfl)
theorem dX1_show_25 : decode cX1_show 25 = .ok (.iload_n 2, 1) := dk_28 (dk_at dksX1_show_1 1 rfl rfl)
theorem dX1_show_26 : decode cX1_show 26 = .ok (.invokespecial 164, 3) := dk_183 0 164 (dk_at dksX1_show_1 2 rfl rfl)
theorem dX1_show_29 : decode cX1_show 29 = .ok (.athrow, 1) := dk_191 (dk_at dksX1_show_1 5 rfl rfl)
theorem dX1_show_30 : decode cX1_show 30 = .ok (.aload_n 0, 1) := dk_42 (dk_at dksX1_show_1 6 rfl rfl)
theorem dX1_show_31 : decode cX1_show 31 = .ok (.iload_n 1, 1) := dk_27 (dk_at dksX1_show_1 7 rfl rfl)
theorem dX1_show_32 : decode cX1_show 32 = .ok (.invokevirtual 123, 3) := dk_182 0 123 (dk_at dksX1_show_1 8 rfl rfl)
theorem dX1_show_35 : decode cX1_show 35 = .ok (.istore_n 3, 1) := dk_62 (dk_at dksX1_show_1 11 rfl rfl)
theorem dX1_show_36 : decode cX1_show 36 = .ok (.aload_n 0, 1) := dk_42 (dk_at dksX1_show_1 12 rfl rfl)
theorem dX1_show_37 : decode cX1_show 37 = .ok (.iload_n 1, 1) := dk_27 (dk_at dksX1_show_1 13 rfl rfl)
theorem dX1_show_38 : decode cX1_show 38 = .ok (.invokevirtual 165, 3) := dk_182 0 165 (dk_at dksX1_show_1 14 rfl rfl)
theorem dX1_show_41 : decode cX1_show 41 = .ok (.istore 4, 2) := dk_54 4 (dk_at dksX1_show_1 17 rfl rfl)
theorem dX1_show_43 : decode cX1_show 43 = .ok (.aload_n 0, 1) := dk_42 (dk_at dksX1_show_1 19 rfl rfl)
theorem dX1_show_44 : decode cX1_show 44 = .ok (.getfield 19, 3) := dk_180 0 19 (dk_at dksX1_show_1 20 rfl rfl)
theorem dX1_show_47 : decode cX1_show 47 = .ok (.aload_n 0, 1) := dk_42 (dk_at dksX1_show_1 23 rfl rfl)
theorem dX1_show_48 : decode cX1_show 48 = .ok (.iload_n 1, 1) := dk_27 (dk_at dksX1_show_2 0 rfl rfl)
theorem dX1_show_49 : decode cX1_show 49 = .ok (.iload_n 3, 1) := dk_29 (dk_at dksX1_show_2 1 rfl rfl)
theorem dX1_show_50 : decode cX1_show 50 = .ok (.invokevirtual 120, 3) := dk_182 0 120 (dk_at dksX1_show_2 2 rfl rfl)
theorem dX1_show_53 : decode cX1_show 53 = .ok (.aaload, 1) := dk_50 (dk_at dksX1_show_2 5 rfl rfl)
theorem dX1_show_54 : decode cX1_show 54 = .ok (.dup, 1) := dk_89 (dk_at dksX1_show_2 6 rfl rfl)
theorem dX1_show_55 : decode cX1_show 55 = .ok (.getfield 119, 3) := dk_180 0 119 (dk_at dksX1_show_2 7 rfl rfl)
theorem dX1_show_58 : decode cX1_show 58 = .ok (.iload_n 3, 1) := dk_29 (dk_at dksX1_show_2 10 rfl rfl)
theorem dX1_show_59 : decode cX1_show 59 = .ok (.isub, 1) := dk_100 (dk_at dksX1_show_2 11 rfl rfl)
theorem dX1_show_60 : decode cX1_show 60 = .ok (.putfield 119, 3) := dk_181 0 119 (dk_at dksX1_show_2 12 rfl rfl)
theorem dX1_show_63 : decode cX1_show 63 = .ok (.aload_n 0, 1) := dk_42 (dk_at dksX1_show_2 15 rfl rfl)
theorem dX1_show_64 : decode cX1_show 64 = .ok (.getfield 33, 3) := dk_180 0 33 (dk_at dksX1_show_2 16 rfl rfl)
theorem dX1_show_67 : decode cX1_show 67 = .ok (.iconst 0, 1) := dk_3 (dk_at dksX1_show_2 19 rfl rfl)
theorem dX1_show_68 : decode cX1_show 68 = .ok (.aload_n 0, 1) := dk_42 (dk_at dksX1_show_2 20 rfl rfl)
theorem dX1_show_69 : decode cX1_show 69 = .ok (.getfield 33, 3) := dk_180 0 33 (dk_at dksX1_show_2 21 rfl rfl)
theorem dX1_show_72 : decode cX1_show 72 = .ok (.iconst 5, 1) := dk_8 (dk_at dksX1_show_3 0 rfl rfl)
theorem dX1_show_73 : decode cX1_show 73 = .ok (.aload_n 0, 1) := dk_42 (dk_at dksX1_show_3 1 rfl rfl)
theorem dX1_show_74 : decode cX1_show 74 = .ok (.getfield 33, 3) := dk_180 0 33 (dk_at dksX1_show_3 2 rfl rfl)
theorem dX1_show_77 : decode cX1_show 77 = .ok (.arraylength, 1) := dk_190 (dk_at dksX1_show_3 5 rfl rfl)
theorem dX1_show_78 : decode cX1_show 78 = .ok (.iconst 5, 1) := dk_8 (dk_at dksX1_show_3 6 rfl rfl)
theorem dX1_show_79 : decode cX1_show 79 = .ok (.isub, 1) := dk_100 (dk_at dksX1_show_3 7 rfl rfl)
theorem dX1_show_80 : decode cX1_show 80 = .ok (.invokestatic 52, 3) := dk_184 0 52 (dk_at dksX1_show_3 8 rfl rfl)
theorem dX1_show_83 : decode cX1_show 83 = .ok (.aload_n 0, 1) := dk_42 (dk_at dksX1_show_3 11 rfl rfl)
theorem dX1_show_84 : decode cX1_show 84 = .ok (.getfield 33, 3) := dk_180 0 33 (dk_at dksX1_show_3 12 rfl rfl)
theorem dX1_show_87 : decode cX1_show 87 = .ok (.iconst 0, 1) := dk_3 (dk_at dksX1_show_3 15 rfl rfl)
theorem dX1_show_88 : decode cX1_show 88 = .ok (.aload_n 0, 1) := dk_42 (dk_at dksX1_show_3 16 rfl rfl)
theorem dX1_show_89 : decode cX1_show 89 = .ok (.getfield 61, 3) := dk_180 0 61 (dk_at dksX1_show_3 17 rfl rfl)
theorem dX1_show_92 : decode cX1_show 92 = .ok (.iastore, 1) := dk_79 (dk_at dksX1_show_3 20 rfl rfl)
theorem dX1_show_93 : decode cX1_show 93 = .ok (.aload_n 0, 1) := dk_42 (dk_at dksX1_show_3 21 rfl rfl)
theorem dX1_show_94 : decode cX1_show 94 = .ok (.getfield 33, 3) := dk_180 0 33 (dk_at dksX1_show_4 0 rfl rfl)
theorem dX1_show_97 : decode cX1_show 97 = .ok (.iconst 1, 1) := dk_4 (dk_at dksX1_show_4 3 rfl rfl)
theorem dX1_show_98 : decode cX1_show 98 = .ok (.iload_n 1, 1) := dk_27 (dk_at dksX1_show_4 4 rfl rfl)
theorem dX1_show_99 : decode cX1_show 99 = .ok (.iastore, 1) := dk_79 (dk_at dksX1_show_4 5 rfl rfl)
theorem dX1_show_100 : decode cX1_show 100 = .ok (.aload_n 0, 1) := dk_42 (dk_at dksX1_show_4 6 rfl rfl)
theorem dX1_show_101 : decode cX1_show 101 = .ok (.getfield 33, 3) := dk_180 0 33 (dk_at dksX1_show_4 7 rfl rfl)
theorem dX1_show_104 : decode cX1_show 104 = .ok (.iconst 2, 1) := dk_5 (dk_at dksX1_show_4 10 rfl rfl)
theorem dX1_show_105 : decode cX1_show 105 = .ok (.iload 4, 2) := dk_21 4 (dk_at dksX1_show_4 11 rfl rfl)
theorem dX1_show_107 : decode cX1_show 107 = .ok (.iastore, 1) := dk_79 (dk_at dksX1_show_4 13 rfl rfl)
theorem dX1_show_108 : decode cX1_show 108 = .ok (.aload_n 0, 1) := dk_42 (dk_at dksX1_show_4 14 rfl rfl)
theorem dX1_show_109 : decode cX1_show 109 = .ok (.getfield 33, 3) := dk_180 0 33 (dk_at dksX1_show_4 15 rfl rfl)
theorem dX1_show_112 : decode cX1_show 112 = .ok (.iconst 3, 1) := dk_6 (dk_at dksX1_show_4 18 rfl rfl)
theorem dX1_show_113 : decode cX1_show 113 = .ok (.iload 4, 2) := dk_21 4 (dk_at dksX1_show_4 19 rfl rfl)
theorem dX1_show_115 : decode cX1_show 115 = .ok (.aload_n 0, 1) := dk_42 (dk_at dksX1_show_4 21 rfl rfl)
theorem dX1_show_116 : decode cX1_show 116 = .ok (.getfield 36, 3) := dk_180 0 36 (dk_at dksX1_show_5 0 rfl rfl)
theorem dX1_show_119 : decode cX1_show 119 = .ok (.imul, 1) := dk_104 (dk_at dksX1_show_5 3 rfl rfl)
theorem dX1_show_120 : decode cX1_show 120 = .ok (.iastore, 1) := dk_79 (dk_at dksX1_show_5 4 rfl rfl)
theorem dX1_show_121 : decode cX1_show 121 = .ok (.aload_n 0, 1) := dk_42 (dk_at dksX1_show_5 5 rfl rfl)
theorem dX1_show_122 : decode cX1_show 122 = .ok (.getfield 33, 3) := dk_180 0 33 (dk_at dksX1_show_5 6 rfl rfl)
theorem dX1_show_125 : decode cX1_show 125 = .ok (.iconst 4, 1) := dk_7 (dk_at dksX1_show_5 9 rfl rfl)
theorem dX1_show_126 : decode cX1_show 126 = .ok (.iload_n 3, 1) := dk_29 (dk_at dksX1_show_5 10 rfl rfl)
theorem dX1_show_127 : decode cX1_show 127 = .ok (.iastore, 1) := dk_79 (dk_at dksX1_show_5 11 rfl rfl)
theorem dX1_show_128 : decode cX1_show 128 = .ok (.iconst 0, 1) := dk_3 (dk_at dksX1_show_5 12 rfl rfl)
theorem dX1_show_129 : decode cX1_show 129 = .ok (.istore 5, 2) := dk_54 5 (dk_at dksX1_show_5 13 rfl rfl)
theorem dX1_show_131 : decode cX1_show 131 = .ok (.iload 5, 2) := dk_21 5 (dk_at dksX1_show_5 15 rfl rfl)
theorem dX1_show_133 : decode cX1_show 133 = .ok (.bipush 10, 2) := dk_16 10 (dk_at dksX1_show_5 17 rfl rfl)
theorem dX1_show_135 : decode cX1_show 135 = .ok (.if_icmp .ge 26, 3) := dk_162 0 26 (dk_at dksX1_show_5 19 rfl rfl)
theorem dX1_show_138 : decode cX1_show 138 = .ok (.aload_n 0, 1) := dk_42 (dk_at dksX1_show_5 22 rfl rfl)
theorem dX1_show_139 : decode cX1_show 139 = .ok (.iload 5, 2) := dk_21 5 (dk_at dksX1_show_6 0 rfl rfl)
theorem dX1_show_141 : decode cX1_show 141 = .ok (.iload_n 1, 1) := dk_27 (dk_at dksX1_show_6 2 rfl rfl)
theorem dX1_show_142 : decode cX1_show 142 = .ok (.invokevirtual 88, 3) := dk_182 0 88 (dk_at dksX1_show_6 3 rfl rfl)
theorem dX1_show_145 : decode cX1_show 145 = .ok (.ifCond .eq 10, 3) := dk_153 0 10 (dk_at dksX1_show_6 6 rfl rfl)
theorem dX1_show_148 : decode cX1_show 148 = .ok (.aload_n 0, 1) := dk_42 (dk_at dksX1_show_6 9 rfl rfl)
theorem dX1_show_149 : decode cX1_show 149 = .ok (.iload 5, 2) := dk_21 5 (dk_at dksX1_show_6 10 rfl rfl)
theorem dX1_show_151 : decode cX1_show 151 = .ok (.iload_n 1, 1) := dk_27 (dk_at dksX1_show_6 12 rfl rfl)
theorem dX1_show_152 : decode cX1_show 152 = .ok (.invokevirtual 168, 3) := dk_182 0 168 (dk_at dksX1_show_6 13 rfl rfl)
theorem dX1_show_155 : decode cX1_show 155 = .ok (.iinc 5 1, 3) := dk_132 5 1 (dk_at dksX1_show_6 16 rfl rfl)
theorem dX1_show_158 : decode cX1_show 158 = .ok (.goto (-27), 3) := dk_167 255 229 (dk_at dksX1_show_6 19 rfl rfl)
theorem dX1_show_161 : decode cX1_show 161 = .ok (.aload_n 0, 1) := dk_42 (dk_at dksX1_show_6 22 rfl rfl)
theorem dX1_show_162 : decode cX1_show 162 = .ok (.getfield 23, 3) := dk_180 0 23 (dk_at dksX1_show_7 0 rfl rfl)
theorem dX1_show_165 : decode cX1_show 165 = .ok (.iload_n 1, 1) := dk_27 (dk_at dksX1_show_7 3 rfl rfl)
theorem dX1_show_166 : decode cX1_show 166 = .ok (.aload_n 0, 1) := dk_42 (dk_at dksX1_show_7 4 rfl rfl)
theorem dX1_show_167 : decode cX1_show 167 = .ok (.getfield 61, 3) := dk_180 0 61 (dk_at dksX1_show_7 5 rfl rfl)
theorem dX1_show_170 : decode cX1_show 170 = .ok (.iastore, 1) := dk_79 (dk_at dksX1_show_7 8 rfl rfl)
theorem dX1_show_171 : decode cX1_show 171 = .ok (.aload_n 0, 1) := dk_42 (dk_at dksX1_show_7 9 rfl rfl)
theorem dX1_show_172 : decode cX1_show 172 = .ok (.getfield 27, 3) := dk_180 0 27 (dk_at dksX1_show_7 10 rfl rfl)
theorem dX1_show_175 : decode cX1_show 175 = .ok (.iload_n 1, 1) := dk_27 (dk_at dksX1_show_7 13 rfl rfl)
theorem dX1_show_176 : decode cX1_show 176 = .ok (.dup2, 1) := dk_92 (dk_at dksX1_show_7 14 rfl rfl)
theorem dX1_show_177 : decode cX1_show 177 = .ok (.iaload, 1) := dk_46 (dk_at dksX1_show_7 15 rfl rfl)
theorem dX1_show_178 : decode cX1_show 178 = .ok (.iconst 1, 1) := dk_4 (dk_at dksX1_show_7 16 rfl rfl)
theorem dX1_show_179 : decode cX1_show 179 = .ok (.iadd, 1) := dk_96 (dk_at dksX1_show_7 17 rfl rfl)
theorem dX1_show_180 : decode cX1_show 180 = .ok (.iastore, 1) := dk_79 (dk_at dksX1_show_7 18 rfl rfl)
theorem dX1_show_181 : decode cX1_show 181 = .ok (.aload_n 0, 1) := dk_42 (dk_at dksX1_show_7 19 rfl rfl)
theorem dX1_show_182 : decode cX1_show 182 = .ok (.getfield 30, 3) := dk_180 0 30 (dk_at dksX1_show_7 20 rfl rfl)
theorem dX1_show_185 : decode cX1_show 185 = .ok (.iload_n 1, 1) := dk_27 (dk_at dksX1_show_7 23 rfl rfl)
theorem dX1_show_186 : decode cX1_show 186 = .ok (.dup2, 1) := dk_92 (dk_at dksX1_show_8 0 rfl rfl)
theorem dX1_show_187 : decode cX1_show 187 = .ok (.iaload, 1) := dk_46 (dk_at dksX1_show_8 1 rfl rfl)
theorem dX1_show_188 : decode cX1_show 188 = .ok (.iload 4, 2) := dk_21 4 (dk_at dksX1_show_8 2 rfl rfl)
theorem dX1_show_190 : decode cX1_show 190 = .ok (.aload_n 0, 1) := dk_42 (dk_at dksX1_show_8 4 rfl rfl)
theorem dX1_show_191 : decode cX1_show 191 = .ok (.getfield 36, 3) := dk_180 0 36 (dk_at dksX1_show_8 5 rfl rfl)
theorem dX1_show_194 : decode cX1_show 194 = .ok (.imul, 1) := dk_104 (dk_at dksX1_show_8 8 rfl rfl)
theorem dX1_show_195 : decode cX1_show 195 = .ok (.iadd, 1) := dk_96 (dk_at dksX1_show_8 9 rfl rfl)
theorem dX1_show_196 : decode cX1_show 196 = .ok (.iastore, 1) := dk_79 (dk_at dksX1_show_8 10 rfl rfl)
theorem dX1_show_197 : decode cX1_show 197 = .ok (.aload_n 0, 1) := dk_42 (dk_at dksX1_show_8 11 rfl rfl)
theorem dX1_show_198 : decode cX1_show 198 = .ok (.dup, 1) := dk_89 (dk_at dksX1_show_8 12 rfl rfl)
theorem dX1_show_199 : decode cX1_show 199 = .ok (.getfield 73, 3) := dk_180 0 73 (dk_at dksX1_show_8 13 rfl rfl)
theorem dX1_show_202 : decode cX1_show 202 = .ok (.iload 4, 2) := dk_21 4 (dk_at dksX1_show_8 16 rfl rfl)
theorem dX1_show_204 : decode cX1_show 204 = .ok (.iadd, 1) := dk_96 (dk_at dksX1_show_8 18 rfl rfl)
theorem dX1_show_205 : decode cX1_show 205 = .ok (.putfield 73, 3) := dk_181 0 73 (dk_at dksX1_show_8 19 rfl rfl)
theorem dX1_show_208 : decode cX1_show 208 = .ok (.iload 4, 2) := dk_21 4 (dk_at dksX1_show_8 22 rfl rfl)
theorem dX1_show_210 : decode cX1_show 210 = .ok (.aload_n 0, 1) := dk_42 (dk_at dksX1_show_9 0 rfl rfl)
theorem dX1_show_211 : decode cX1_show 211 = .ok (.getfield 36, 3) := dk_180 0 36 (dk_at dksX1_show_9 1 rfl rfl)
theorem dX1_show_214 : decode cX1_show 214 = .ok (.imul, 1) := dk_104 (dk_at dksX1_show_9 4 rfl rfl)
theorem dX1_show_215 : decode cX1_show 215 = .ok (.ireturn, 1) := dk_172 (dk_at dksX1_show_9 5 rfl rfl)
abbrev cX1_reason : ByteArray := prog_11_method_11_code
def yX1_reason : MethodName := ⟨RX1, "reason", "(I)I"⟩
def dkwX1_reason_2 : List UInt8 := [18, 44, 160, 0, 7, 7, 167, 0, 4, 3, 172]
abbrev dktX1_reason_2 : List UInt8 := dkwX1_reason_2 ++ []
def dkwX1_reason_1 : List UInt8 := [172, 42, 27, 3, 182, 0, 120, 18, 44, 160, 0, 5, 6, 172, 42, 27, 42, 27, 182, 0, 123, 182, 0, 120]
abbrev dktX1_reason_1 : List UInt8 := dkwX1_reason_1 ++ dktX1_reason_2
def dkwX1_reason_0 : List UInt8 := [42, 180, 0, 23, 27, 46, 42, 180, 0, 61, 160, 0, 5, 4, 172, 42, 27, 182, 0, 116, 154, 0, 5, 5]
abbrev dktX1_reason_0 : List UInt8 := dkwX1_reason_0 ++ dktX1_reason_1
theorem dksX1_reason_0 : cX1_reason.data.toList.drop 0 = dktX1_reason_0 := by decide +kernel
theorem dksX1_reason_1 : cX1_reason.data.toList.drop 24 = dktX1_reason_1 := dk_seg dksX1_reason_0 24 rfl rfl
theorem dksX1_reason_2 : cX1_reason.data.toList.drop 48 = dktX1_reason_2 := dk_seg dksX1_reason_1 24 rfl rfl
theorem dX1_reason_0 : decode cX1_reason 0 = .ok (.aload_n 0, 1) := dk_42 (dk_at dksX1_reason_0 0 rfl rfl)
theorem dX1_reason_1 : decode cX1_reason 1 = .ok (.getfield 23, 3) := dk_180 0 23 (dk_at dksX1_reason_0 1 rfl rfl)
theorem dX1_reason_4 : decode cX1_reason 4 = .ok (.iload_n 1, 1) := dk_27 (dk_at dksX1_reason_0 4 rfl rfl)
theorem dX1_reason_5 : decode cX1_reason 5 = .ok (.iaload, 1) := dk_46 (dk_at dksX1_reason_0 5 rfl rfl)
theorem dX1_reason_6 : decode cX1_reason 6 = .ok (.aload_n 0, 1) := dk_42 (dk_at dksX1_reason_0 6 rfl rfl)
theorem dX1_reason_7 : decode cX1_reason 7 = .ok (.getfield 61, 3) := dk_180 0 61 (dk_at dksX1_reason_0 7 rfl rfl)
theorem dX1_reason_10 : decode cX1_reason 10 = .ok (.if_icmp .ne 5, 3) := dk_160 0 5 (dk_at dksX1_reason_0 10 rfl rfl)
theorem dX1_reason_13 : decode cX1_reason 13 = .ok (.iconst 1, 1) := dk_4 (dk_at dksX1_reason_0 13 rfl rfl)
theorem dX1_reason_14 : decode cX1_reason 14 = .ok (.ireturn, 1) := dk_172 (dk_at dksX1_reason_0 14 rfl rfl)
theorem dX1_reason_15 : decode cX1_reason 15 = .ok (.aload_n 0, 1) := dk_42 (dk_at dksX1_reason_0 15 rfl rfl)
theorem dX1_reason_16 : decode cX1_reason 16 = .ok (.iload_n 1, 1) := dk_27 (dk_at dksX1_reason_0 16 rfl rfl)
theorem dX1_reason_17 : decode cX1_reason 17 = .ok (.invokevirtual 116, 3) := dk_182 0 116 (dk_at dksX1_reason_0 17 rfl rfl)
theorem dX1_reason_20 : decode cX1_reason 20 = .ok (.ifCond .ne 5, 3) := dk_154 0 5 (dk_at dksX1_reason_0 20 rfl rfl)
theorem dX1_reason_23 : decode cX1_reason 23 = .ok (.iconst 2, 1) := dk_5 (dk_at dksX1_reason_0 23 rfl rfl)
theorem dX1_reason_24 : decode cX1_reason 24 = .ok (.ireturn, 1) := dk_172 (dk_at dksX1_reason_1 0 rfl rfl)
theorem dX1_reason_25 : decode cX1_reason 25 = .ok (.aload_n 0, 1) := dk_42 (dk_at dksX1_reason_1 1 rfl rfl)
theorem dX1_reason_26 : decode cX1_reason 26 = .ok (.iload_n 1, 1) := dk_27 (dk_at dksX1_reason_1 2 rfl rfl)
theorem dX1_reason_27 : decode cX1_reason 27 = .ok (.iconst 0, 1) := dk_3 (dk_at dksX1_reason_1 3 rfl rfl)
theorem dX1_reason_28 : decode cX1_reason 28 = .ok (.invokevirtual 120, 3) := dk_182 0 120 (dk_at dksX1_reason_1 4 rfl rfl)
theorem dX1_reason_31 : decode cX1_reason 31 = .ok (.ldc 44, 2) := dk_18 44 (dk_at dksX1_reason_1 7 rfl rfl)
theorem dX1_reason_33 : decode cX1_reason 33 = .ok (.if_icmp .ne 5, 3) := dk_160 0 5 (dk_at dksX1_reason_1 9 rfl rfl)
theorem dX1_reason_36 : decode cX1_reason 36 = .ok (.iconst 3, 1) := dk_6 (dk_at dksX1_reason_1 12 rfl rfl)
theorem dX1_reason_37 : decode cX1_reason 37 = .ok (.ireturn, 1) := dk_172 (dk_at dksX1_reason_1 13 rfl rfl)
theorem dX1_reason_38 : decode cX1_reason 38 = .ok (.aload_n 0, 1) := dk_42 (dk_at dksX1_reason_1 14 rfl rfl)
theorem dX1_reason_39 : decode cX1_reason 39 = .ok (.iload_n 1, 1) := dk_27 (dk_at dksX1_reason_1 15 rfl rfl)
theorem dX1_reason_40 : decode cX1_reason 40 = .ok (.aload_n 0, 1) := dk_42 (dk_at dksX1_reason_1 16 rfl rfl)
theorem dX1_reason_41 : decode cX1_reason 41 = .ok (.iload_n 1, 1) := dk_27 (dk_at dksX1_reason_1 17 rfl rfl)
theorem dX1_reason_42 : decode cX1_reason 42 = .ok (.invokevirtual 123, 3) := dk_182 0 123 (dk_at dksX1_reason_1 18 rfl rfl)
theorem dX1_reason_45 : decode cX1_reason 45 = .ok (.invokevirtual 120, 3) := dk_182 0 120 (dk_at dksX1_reason_1 21 rfl rfl)
theorem dX1_reason_48 : decode cX1_reason 48 = .ok (.ldc 44, 2) := dk_18 44 (dk_at dksX1_reason_2 0 rfl rfl)
theorem dX1_reason_50 : decode cX1_reason 50 = .ok (.if_icmp .ne 7, 3) := dk_160 0 7 (dk_at dksX1_reason_2 2 rfl rfl)
theorem dX1_reason_53 : decode cX1_reason 53 = .ok (.iconst 4, 1) := dk_7 (dk_at dksX1_reason_2 5 rfl rfl)
theorem dX1_reason_54 : decode cX1_reason 54 = .ok (.goto 4, 3) := dk_167 0 4 (dk_at dksX1_reason_2 6 rfl rfl)
theorem dX1_reason_57 : decode cX1_reason 57 = .ok (.iconst 0, 1) := dk_3 (dk_at dksX1_reason_2 9 rfl rfl)
theorem dX1_reason_58 : decode cX1_reason 58 = .ok (.ireturn, 1) := dk_172 (dk_at dksX1_reason_2 10 rfl rfl)
abbrev cX1_reelsIn : ByteArray := prog_11_method_7_code
def yX1_reelsIn : MethodName := ⟨RX1, "reelsIn", "(I)I"⟩
def dkwX1_reelsIn_1 : List UInt8 := [3, 96, 61, 132, 3, 1, 167, 255, 230, 28, 172]
abbrev dktX1_reelsIn_1 : List UInt8 := dkwX1_reelsIn_1 ++ []
def dkwX1_reelsIn_0 : List UInt8 := [3, 61, 3, 62, 29, 16, 10, 162, 0, 26, 28, 42, 29, 27, 182, 0, 88, 153, 0, 7, 4, 167, 0, 4]
abbrev dktX1_reelsIn_0 : List UInt8 := dkwX1_reelsIn_0 ++ dktX1_reelsIn_1
theorem dksX1_reelsIn_0 : cX1_reelsIn.data.toList.drop 0 = dktX1_reelsIn_0 := by decide +kernel
theorem dksX1_reelsIn_1 : cX1_reelsIn.data.toList.drop 24 = dktX1_reelsIn_1 := dk_seg dksX1_reelsIn_0 24 rfl rfl
theorem dX1_reelsIn_0 : decode cX1_reelsIn 0 = .ok (.iconst 0, 1) := dk_3 (dk_at dksX1_reelsIn_0 0 rfl rfl)
theorem dX1_reelsIn_1 : decode cX1_reelsIn 1 = .ok (.istore_n 2, 1) := dk_61 (dk_at dksX1_reelsIn_0 1 rfl rfl)
theorem dX1_reelsIn_2 : decode cX1_reelsIn 2 = .ok (.iconst 0, 1) := dk_3 (dk_at dksX1_reelsIn_0 2 rfl rfl)
theorem dX1_reelsIn_3 : decode cX1_reelsIn 3 = .ok (.istore_n 3, 1) := dk_62 (dk_at dksX1_reelsIn_0 3 rfl rfl)
theorem dX1_reelsIn_4 : decode cX1_reelsIn 4 = .ok (.iload_n 3, 1) := dk_29 (dk_at dksX1_reelsIn_0 4 rfl rfl)
theorem dX1_reelsIn_5 : decode cX1_reelsIn 5 = .ok (.bipush 10, 2) := dk_16 10 (dk_at dksX1_reelsIn_0 5 rfl rfl)
theorem dX1_reelsIn_7 : decode cX1_reelsIn 7 = .ok (.if_icmp .ge 26, 3) := dk_162 0 26 (dk_at dksX1_reelsIn_0 7 rfl rfl)
theorem dX1_reelsIn_10 : decode cX1_reelsIn 10 = .ok (.iload_n 2, 1) := dk_28 (dk_at dksX1_reelsIn_0 10 rfl rfl)
theorem dX1_reelsIn_11 : decode cX1_reelsIn 11 = .ok (.aload_n 0, 1) := dk_42 (dk_at dksX1_reelsIn_0 11 rfl rfl)
theorem dX1_reelsIn_12 : decode cX1_reelsIn 12 = .ok (.iload_n 3, 1) := dk_29 (dk_at dksX1_reelsIn_0 12 rfl rfl)
theorem dX1_reelsIn_13 : decode cX1_reelsIn 13 = .ok (.iload_n 1, 1) := dk_27 (dk_at dksX1_reelsIn_0 13 rfl rfl)
theorem dX1_reelsIn_14 : decode cX1_reelsIn 14 = .ok (.invokevirtual 88, 3) := dk_182 0 88 (dk_at dksX1_reelsIn_0 14 rfl rfl)
theorem dX1_reelsIn_17 : decode cX1_reelsIn 17 = .ok (.ifCond .eq 7, 3) := dk_153 0 7 (dk_at dksX1_reelsIn_0 17 rfl rfl)
theorem dX1_reelsIn_20 : decode cX1_reelsIn 20 = .ok (.iconst 1, 1) := dk_4 (dk_at dksX1_reelsIn_0 20 rfl rfl)
theorem dX1_reelsIn_21 : decode cX1_reelsIn 21 = .ok (.goto 4, 3) := dk_167 0 4 (dk_at dksX1_reelsIn_0 21 rfl rfl)
theorem dX1_reelsIn_24 : decode cX1_reelsIn 24 = .ok (.iconst 0, 1) := dk_3 (dk_at dksX1_reelsIn_1 0 rfl rfl)
theorem dX1_reelsIn_25 : decode cX1_reelsIn 25 = .ok (.iadd, 1) := dk_96 (dk_at dksX1_reelsIn_1 1 rfl rfl)
theorem dX1_reelsIn_26 : decode cX1_reelsIn 26 = .ok (.istore_n 2, 1) := dk_61 (dk_at dksX1_reelsIn_1 2 rfl rfl)
theorem dX1_reelsIn_27 : decode cX1_reelsIn 27 = .ok (.iinc 3 1, 3) := dk_132 3 1 (dk_at dksX1_reelsIn_1 3 rfl rfl)
theorem dX1_reelsIn_30 : decode cX1_reelsIn 30 = .ok (.goto (-26), 3) := dk_167 255 230 (dk_at dksX1_reelsIn_1 6 rfl rfl)
theorem dX1_reelsIn_33 : decode cX1_reelsIn 33 = .ok (.iload_n 2, 1) := dk_28 (dk_at dksX1_reelsIn_1 9 rfl rfl)
theorem dX1_reelsIn_34 : decode cX1_reelsIn 34 = .ok (.ireturn, 1) := dk_172 (dk_at dksX1_reelsIn_1 10 rfl rfl)
abbrev cX1_generatorFor : ByteArray := prog_11_method_10_code
def yX1_generatorFor : MethodName := ⟨RX1, "generatorFor", "(II)I"⟩
def dkwX1_generatorFor_1 : List UInt8 := [29, 50, 180, 0, 119, 28, 161, 0, 5, 29, 172, 132, 3, 1, 167, 255, 220, 18, 44, 172]
abbrev dktX1_generatorFor_1 : List UInt8 := dkwX1_generatorFor_1 ++ []
def dkwX1_generatorFor_0 : List UInt8 := [3, 62, 29, 5, 162, 0, 37, 42, 180, 0, 19, 29, 50, 180, 0, 83, 27, 160, 0, 18, 42, 180, 0, 19]
abbrev dktX1_generatorFor_0 : List UInt8 := dkwX1_generatorFor_0 ++ dktX1_generatorFor_1
theorem dksX1_generatorFor_0 : cX1_generatorFor.data.toList.drop 0 = dktX1_generatorFor_0 := by decide +kernel
theorem dksX1_generatorFor_1 : cX1_generatorFor.data.toList.drop 24 = dktX1_generatorFor_1 := dk_seg dksX1_generatorFor_0 24 rfl rfl
theorem dX1_generatorFor_0 : decode cX1_generatorFor 0 = .ok (.iconst 0, 1) := dk_3 (dk_at dksX1_generatorFor_0 0 rfl rfl)
theorem dX1_generatorFor_1 : decode cX1_generatorFor 1 = .ok (.istore_n 3, 1) := dk_62 (dk_at dksX1_generatorFor_0 1 rfl rfl)
theorem dX1_generatorFor_2 : decode cX1_generatorFor 2 = .ok (.iload_n 3, 1) := dk_29 (dk_at dksX1_generatorFor_0 2 rfl rfl)
theorem dX1_generatorFor_3 : decode cX1_generatorFor 3 = .ok (.iconst 2, 1) := dk_5 (dk_at dksX1_generatorFor_0 3 rfl rfl)
theorem dX1_generatorFor_4 : decode cX1_generatorFor 4 = .ok (.if_icmp .ge 37, 3) := dk_162 0 37 (dk_at dksX1_generatorFor_0 4 rfl rfl)
theorem dX1_generatorFor_7 : decode cX1_generatorFor 7 = .ok (.aload_n 0, 1) := dk_42 (dk_at dksX1_generatorFor_0 7 rfl rfl)
theorem dX1_generatorFor_8 : decode cX1_generatorFor 8 = .ok (.getfield 19, 3) := dk_180 0 19 (dk_at dksX1_generatorFor_0 8 rfl rfl)
theorem dX1_generatorFor_11 : decode cX1_generatorFor 11 = .ok (.iload_n 3, 1) := dk_29 (dk_at dksX1_generatorFor_0 11 rfl rfl)
theorem dX1_generatorFor_12 : decode cX1_generatorFor 12 = .ok (.aaload, 1) := dk_50 (dk_at dksX1_generatorFor_0 12 rfl rfl)
theorem dX1_generatorFor_13 : decode cX1_generatorFor 13 = .ok (.getfield 83, 3) := dk_180 0 83 (dk_at dksX1_generatorFor_0 13 rfl rfl)
theorem dX1_generatorFor_16 : decode cX1_generatorFor 16 = .ok (.iload_n 1, 1) := dk_27 (dk_at dksX1_generatorFor_0 16 rfl rfl)
theorem dX1_generatorFor_17 : decode cX1_generatorFor 17 = .ok (.if_icmp .ne 18, 3) := dk_160 0 18 (dk_at dksX1_generatorFor_0 17 rfl rfl)
theorem dX1_generatorFor_20 : decode cX1_generatorFor 20 = .ok (.aload_n 0, 1) := dk_42 (dk_at dksX1_generatorFor_0 20 rfl rfl)
theorem dX1_generatorFor_21 : decode cX1_generatorFor 21 = .ok (.getfield 19, 3) := dk_180 0 19 (dk_at dksX1_generatorFor_0 21 rfl rfl)
theorem dX1_generatorFor_24 : decode cX1_generatorFor 24 = .ok (.iload_n 3, 1) := dk_29 (dk_at dksX1_generatorFor_1 0 rfl rfl)
theorem dX1_generatorFor_25 : decode cX1_generatorFor 25 = .ok (.aaload, 1) := dk_50 (dk_at dksX1_generatorFor_1 1 rfl rfl)
theorem dX1_generatorFor_26 : decode cX1_generatorFor 26 = .ok (.getfield 119, 3) := dk_180 0 119 (dk_at dksX1_generatorFor_1 2 rfl rfl)
theorem dX1_generatorFor_29 : decode cX1_generatorFor 29 = .ok (.iload_n 2, 1) := dk_28 (dk_at dksX1_generatorFor_1 5 rfl rfl)
theorem dX1_generatorFor_30 : decode cX1_generatorFor 30 = .ok (.if_icmp .lt 5, 3) := dk_161 0 5 (dk_at dksX1_generatorFor_1 6 rfl rfl)
theorem dX1_generatorFor_33 : decode cX1_generatorFor 33 = .ok (.iload_n 3, 1) := dk_29 (dk_at dksX1_generatorFor_1 9 rfl rfl)
theorem dX1_generatorFor_34 : decode cX1_generatorFor 34 = .ok (.ireturn, 1) := dk_172 (dk_at dksX1_generatorFor_1 10 rfl rfl)
theorem dX1_generatorFor_35 : decode cX1_generatorFor 35 = .ok (.iinc 3 1, 3) := dk_132 3 1 (dk_at dksX1_generatorFor_1 11 rfl rfl)
theorem dX1_generatorFor_38 : decode cX1_generatorFor 38 = .ok (.goto (-36), 3) := dk_167 255 220 (dk_at dksX1_generatorFor_1 14 rfl rfl)
theorem dX1_generatorFor_41 : decode cX1_generatorFor 41 = .ok (.ldc 44, 2) := dk_18 44 (dk_at dksX1_generatorFor_1 17 rfl rfl)
theorem dX1_generatorFor_43 : decode cX1_generatorFor 43 = .ok (.ireturn, 1) := dk_172 (dk_at dksX1_generatorFor_1 19 rfl rfl)
abbrev cX1_minutesIn : ByteArray := prog_11_method_8_code
def yX1_minutesIn : MethodName := ⟨RX1, "minutesIn", "(I)I"⟩
def dkwX1_minutesIn_1 : List UInt8 := [29, 50, 180, 0, 96, 167, 0, 4, 3, 96, 61, 132, 3, 1, 167, 255, 222, 28, 172]
abbrev dktX1_minutesIn_1 : List UInt8 := dkwX1_minutesIn_1 ++ []
def dkwX1_minutesIn_0 : List UInt8 := [3, 61, 3, 62, 29, 16, 10, 162, 0, 34, 28, 42, 29, 27, 182, 0, 88, 153, 0, 15, 42, 180, 0, 11]
abbrev dktX1_minutesIn_0 : List UInt8 := dkwX1_minutesIn_0 ++ dktX1_minutesIn_1
theorem dksX1_minutesIn_0 : cX1_minutesIn.data.toList.drop 0 = dktX1_minutesIn_0 := by decide +kernel
theorem dksX1_minutesIn_1 : cX1_minutesIn.data.toList.drop 24 = dktX1_minutesIn_1 := dk_seg dksX1_minutesIn_0 24 rfl rfl
theorem dX1_minutesIn_0 : decode cX1_minutesIn 0 = .ok (.iconst 0, 1) := dk_3 (dk_at dksX1_minutesIn_0 0 rfl rfl)
theorem dX1_minutesIn_1 : decode cX1_minutesIn 1 = .ok (.istore_n 2, 1) := dk_61 (dk_at dksX1_minutesIn_0 1 rfl rfl)
theorem dX1_minutesIn_2 : decode cX1_minutesIn 2 = .ok (.iconst 0, 1) := dk_3 (dk_at dksX1_minutesIn_0 2 rfl rfl)
theorem dX1_minutesIn_3 : decode cX1_minutesIn 3 = .ok (.istore_n 3, 1) := dk_62 (dk_at dksX1_minutesIn_0 3 rfl rfl)
theorem dX1_minutesIn_4 : decode cX1_minutesIn 4 = .ok (.iload_n 3, 1) := dk_29 (dk_at dksX1_minutesIn_0 4 rfl rfl)
theorem dX1_minutesIn_5 : decode cX1_minutesIn 5 = .ok (.bipush 10, 2) := dk_16 10 (dk_at dksX1_minutesIn_0 5 rfl rfl)
theorem dX1_minutesIn_7 : decode cX1_minutesIn 7 = .ok (.if_icmp .ge 34, 3) := dk_162 0 34 (dk_at dksX1_minutesIn_0 7 rfl rfl)
theorem dX1_minutesIn_10 : decode cX1_minutesIn 10 = .ok (.iload_n 2, 1) := dk_28 (dk_at dksX1_minutesIn_0 10 rfl rfl)
theorem dX1_minutesIn_11 : decode cX1_minutesIn 11 = .ok (.aload_n 0, 1) := dk_42 (dk_at dksX1_minutesIn_0 11 rfl rfl)
theorem dX1_minutesIn_12 : decode cX1_minutesIn 12 = .ok (.iload_n 3, 1) := dk_29 (dk_at dksX1_minutesIn_0 12 rfl rfl)
theorem dX1_minutesIn_13 : decode cX1_minutesIn 13 = .ok (.iload_n 1, 1) := dk_27 (dk_at dksX1_minutesIn_0 13 rfl rfl)
theorem dX1_minutesIn_14 : decode cX1_minutesIn 14 = .ok (.invokevirtual 88, 3) := dk_182 0 88 (dk_at dksX1_minutesIn_0 14 rfl rfl)
theorem dX1_minutesIn_17 : decode cX1_minutesIn 17 = .ok (.ifCond .eq 15, 3) := dk_153 0 15 (dk_at dksX1_minutesIn_0 17 rfl rfl)
theorem dX1_minutesIn_20 : decode cX1_minutesIn 20 = .ok (.aload_n 0, 1) := dk_42 (dk_at dksX1_minutesIn_0 20 rfl rfl)
theorem dX1_minutesIn_21 : decode cX1_minutesIn 21 = .ok (.getfield 11, 3) := dk_180 0 11 (dk_at dksX1_minutesIn_0 21 rfl rfl)
theorem dX1_minutesIn_24 : decode cX1_minutesIn 24 = .ok (.iload_n 3, 1) := dk_29 (dk_at dksX1_minutesIn_1 0 rfl rfl)
theorem dX1_minutesIn_25 : decode cX1_minutesIn 25 = .ok (.aaload, 1) := dk_50 (dk_at dksX1_minutesIn_1 1 rfl rfl)
theorem dX1_minutesIn_26 : decode cX1_minutesIn 26 = .ok (.getfield 96, 3) := dk_180 0 96 (dk_at dksX1_minutesIn_1 2 rfl rfl)
theorem dX1_minutesIn_29 : decode cX1_minutesIn 29 = .ok (.goto 4, 3) := dk_167 0 4 (dk_at dksX1_minutesIn_1 5 rfl rfl)
theorem dX1_minutesIn_32 : decode cX1_minutesIn 32 = .ok (.iconst 0, 1) := dk_3 (dk_at dksX1_minutesIn_1 8 rfl rfl)
theorem dX1_minutesIn_33 : decode cX1_minutesIn 33 = .ok (.iadd, 1) := dk_96 (dk_at dksX1_minutesIn_1 9 rfl rfl)
theorem dX1_minutesIn_34 : decode cX1_minutesIn 34 = .ok (.istore_n 2, 1) := dk_61 (dk_at dksX1_minutesIn_1 10 rfl rfl)
theorem dX1_minutesIn_35 : decode cX1_minutesIn 35 = .ok (.iinc 3 1, 3) := dk_132 3 1 (dk_at dksX1_minutesIn_1 11 rfl rfl)
theorem dX1_minutesIn_38 : decode cX1_minutesIn 38 = .ok (.goto (-34), 3) := dk_167 255 222 (dk_at dksX1_minutesIn_1 14 rfl rfl)
theorem dX1_minutesIn_41 : decode cX1_minutesIn 41 = .ok (.iload_n 2, 1) := dk_28 (dk_at dksX1_minutesIn_1 17 rfl rfl)
theorem dX1_minutesIn_42 : decode cX1_minutesIn 42 = .ok (.ireturn, 1) := dk_172 (dk_at dksX1_minutesIn_1 18 rfl rfl)
abbrev cX1_peopleFor : ByteArray := prog_11_method_9_code
def yX1_peopleFor : MethodName := ⟨RX1, "peopleFor", "(I)I"⟩
def dkwX1_peopleFor_4 : List UInt8 := [100, 184, 0, 106, 172]
abbrev dktX1_peopleFor_4 : List UInt8 := dkwX1_peopleFor_4 ++ []
def dkwX1_peopleFor_3 : List UInt8 := [154, 0, 7, 3, 167, 0, 24, 3, 27, 184, 0, 112, 28, 104, 42, 27, 182, 0, 116, 108, 29, 16, 10, 108]
abbrev dktX1_peopleFor_3 : List UInt8 := dkwX1_peopleFor_3 ++ dktX1_peopleFor_4
def dkwX1_peopleFor_2 : List UInt8 := [61, 29, 42, 180, 0, 11, 21, 4, 50, 180, 0, 103, 184, 0, 106, 62, 132, 4, 1, 167, 255, 196, 28]
abbrev dktX1_peopleFor_2 : List UInt8 := dkwX1_peopleFor_2 ++ dktX1_peopleFor_3
def dkwX1_peopleFor_1 : List UInt8 := [167, 0, 40, 28, 42, 180, 0, 11, 21, 4, 50, 27, 182, 0, 99, 153, 0, 7, 4, 167, 0, 4, 3, 96]
abbrev dktX1_peopleFor_1 : List UInt8 := dkwX1_peopleFor_1 ++ dktX1_peopleFor_2
def dkwX1_peopleFor_0 : List UInt8 := [3, 61, 3, 62, 3, 54, 4, 21, 4, 16, 10, 162, 0, 59, 42, 21, 4, 27, 182, 0, 88, 154, 0, 6]
abbrev dktX1_peopleFor_0 : List UInt8 := dkwX1_peopleFor_0 ++ dktX1_peopleFor_1
theorem dksX1_peopleFor_0 : cX1_peopleFor.data.toList.drop 0 = dktX1_peopleFor_0 := by decide +kernel
theorem dksX1_peopleFor_1 : cX1_peopleFor.data.toList.drop 24 = dktX1_peopleFor_1 := dk_seg dksX1_peopleFor_0 24 rfl rfl
theorem dksX1_peopleFor_2 : cX1_peopleFor.data.toList.drop 48 = dktX1_peopleFor_2 := dk_seg dksX1_peopleFor_1 24 rfl rfl
theorem dksX1_peopleFor_3 : cX1_peopleFor.data.toList.drop 71 = dktX1_peopleFor_3 := dk_seg dksX1_peopleFor_2 23 rfl rfl
theorem dksX1_peopleFor_4 : cX1_peopleFor.data.toList.drop 95 = dktX1_peopleFor_4 := dk_seg dksX1_peopleFor_3 24 rfl rfl
theorem dX1_peopleFor_0 : decode cX1_peopleFor 0 = .ok (.iconst 0, 1) := dk_3 (dk_at dksX1_peopleFor_0 0 rfl rfl)
theorem dX1_peopleFor_1 : decode cX1_peopleFor 1 = .ok (.istore_n 2, 1) := dk_61 (dk_at dksX1_peopleFor_0 1 rfl rfl)
theorem dX1_peopleFor_2 : decode cX1_peopleFor 2 = .ok (.iconst 0, 1) := dk_3 (dk_at dksX1_peopleFor_0 2 rfl rfl)
theorem dX1_peopleFor_3 : decode cX1_peopleFor 3 = .ok (.istore_n 3, 1) := dk_62 (dk_at dksX1_peopleFor_0 3 rfl rfl)
theorem dX1_peopleFor_4 : decode cX1_peopleFor 4 = .ok (.iconst 0, 1) := dk_3 (dk_at dksX1_peopleFor_0 4 rfl rfl)
theorem dX1_peopleFor_5 : decode cX1_peopleFor 5 = .ok (.istore 4, 2) := dk_54 4 (dk_at dksX1_peopleFor_0 5 rfl rfl)
theorem dX1_peopleFor_7 : decode cX1_peopleFor 7 = .ok (.iload 4, 2) := dk_21 4 (dk_at dksX1_peopleFor_0 7 rfl rfl)
theorem dX1_peopleFor_9 : decode cX1_peopleFor 9 = .ok (.bipush 10, 2) := dk_16 10 (dk_at dksX1_peopleFor_0 9 rfl rfl)
theorem dX1_peopleFor_11 : decode cX1_peopleFor 11 = .ok (.if_icmp .ge 59, 3) := dk_162 0 59 (dk_at dksX1_peopleFor_0 11 rfl rfl)
theorem dX1_peopleFor_14 : decode cX1_peopleFor 14 = .ok (.aload_n 0, 1) := dk_42 (dk_at dksX1_peopleFor_0 14 rfl rfl)
theorem dX1_peopleFor_15 : decode cX1_peopleFor 15 = .ok (.iload 4, 2) := dk_21 4 (dk_at dksX1_peopleFor_0 15 rfl rfl)
theorem dX1_peopleFor_17 : decode cX1_peopleFor 17 = .ok (.iload_n 1, 1) := dk_27 (dk_at dksX1_peopleFor_0 17 rfl rfl)
theorem dX1_peopleFor_18 : decode cX1_peopleFor 18 = .ok (.invokevirtual 88, 3) := dk_182 0 88 (dk_at dksX1_peopleFor_0 18 rfl rfl)
theorem dX1_peopleFor_21 : decode cX1_peopleFor 21 = .ok (.ifCond .ne 6, 3) := dk_154 0 6 (dk_at dksX1_peopleFor_0 21 rfl rfl)
theorem dX1_peopleFor_24 : decode cX1_peopleFor 24 = .ok (.goto 40, 3) := dk_167 0 40 (dk_at dksX1_peopleFor_1 0 rfl rfl)
theorem dX1_peopleFor_27 : decode cX1_peopleFor 27 = .ok (.iload_n 2, 1) := dk_28 (dk_at dksX1_peopleFor_1 3 rfl rfl)
theorem dX1_peopleFor_28 : decode cX1_peopleFor 28 = .ok (.aload_n 0, 1) := dk_42 (dk_at dksX1_peopleFor_1 4 rfl rfl)
theorem dX1_peopleFor_29 : decode cX1_peopleFor 29 = .ok (.getfield 11, 3) := dk_180 0 11 (dk_at dksX1_peopleFor_1 5 rfl rfl)
theorem dX1_peopleFor_32 : decode cX1_peopleFor 32 = .ok (.iload 4, 2) := dk_21 4 (dk_at dksX1_peopleFor_1 8 rfl rfl)
theorem dX1_peopleFor_34 : decode cX1_peopleFor 34 = .ok (.aaload, 1) := dk_50 (dk_at dksX1_peopleFor_1 10 rfl rfl)
theorem dX1_peopleFor_35 : decode cX1_peopleFor 35 = .ok (.iload_n 1, 1) := dk_27 (dk_at dksX1_peopleFor_1 11 rfl rfl)
theorem dX1_peopleFor_36 : decode cX1_peopleFor 36 = .ok (.invokevirtual 99, 3) := dk_182 0 99 (dk_at dksX1_peopleFor_1 12 rfl rfl)
theorem dX1_peopleFor_39 : decode cX1_peopleFor 39 = .ok (.ifCond .eq 7, 3) := dk_153 0 7 (dk_at dksX1_peopleFor_1 15 rfl rfl)
theorem dX1_peopleFor_42 : decode cX1_peopleFor 42 = .ok (.iconst 1, 1) := dk_4 (dk_at dksX1_peopleFor_1 18 rfl rfl)
theorem dX1_peopleFor_43 : decode cX1_peopleFor 43 = .ok (.goto 4, 3) := dk_167 0 4 (dk_at dksX1_peopleFor_1 19 rfl rfl)
theorem dX1_peopleFor_46 : decode cX1_peopleFor 46 = .ok (.iconst 0, 1) := dk_3 (dk_at dksX1_peopleFor_1 22 rfl rfl)
theorem dX1_peopleFor_47 : decode cX1_peopleFor 47 = .ok (.iadd, 1) := dk_96 (dk_at dksX1_peopleFor_1 23 rfl rfl)
theorem dX1_peopleFor_48 : decode cX1_peopleFor 48 = .ok (.istore_n 2, 1) := dk_61 (dk_at dksX1_peopleFor_2 0 rfl rfl)
theorem dX1_peopleFor_49 : decode cX1_peopleFor 49 = .ok (.iload_n 3, 1) := dk_29 (dk_at dksX1_peopleFor_2 1 rfl rfl)
theorem dX1_peopleFor_50 : decode cX1_peopleFor 50 = .ok (.aload_n 0, 1) := dk_42 (dk_at dksX1_peopleFor_2 2 rfl rfl)
theorem dX1_peopleFor_51 : decode cX1_peopleFor 51 = .ok (.getfield 11, 3) := dk_180 0 11 (dk_at dksX1_peopleFor_2 3 rfl rfl)
theorem dX1_peopleFor_54 : decode cX1_peopleFor 54 = .ok (.iload 4, 2) := dk_21 4 (dk_at dksX1_peopleFor_2 6 rfl rfl)
theorem dX1_peopleFor_56 : decode cX1_peopleFor 56 = .ok (.aaload, 1) := dk_50 (dk_at dksX1_peopleFor_2 8 rfl rfl)
theorem dX1_peopleFor_57 : decode cX1_peopleFor 57 = .ok (.getfield 103, 3) := dk_180 0 103 (dk_at dksX1_peopleFor_2 9 rfl rfl)
theorem dX1_peopleFor_60 : decode cX1_peopleFor 60 = .ok (.invokestatic 106, 3) := dk_184 0 106 (dk_at dksX1_peopleFor_2 12 rfl rfl)
theorem dX1_peopleFor_63 : decode cX1_peopleFor 63 = .ok (.istore_n 3, 1) := dk_62 (dk_at dksX1_peopleFor_2 15 rfl rfl)
theorem dX1_peopleFor_64 : decode cX1_peopleFor 64 = .ok (.iinc 4 1, 3) := dk_132 4 1 (dk_at dksX1_peopleFor_2 16 rfl rfl)
theorem dX1_peopleFor_67 : decode cX1_peopleFor 67 = .ok (.goto (-60), 3) := dk_167 255 196 (dk_at dksX1_peopleFor_2 19 rfl rfl)
theorem dX1_peopleFor_70 : decode cX1_peopleFor 70 = .ok (.iload_n 2, 1) := dk_28 (dk_at dksX1_peopleFor_2 22 rfl rfl)
theorem dX1_peopleFor_71 : decode cX1_peopleFor 71 = .ok (.ifCond .ne 7, 3) := dk_154 0 7 (dk_at dksX1_peopleFor_3 0 rfl rfl)
theorem dX1_peopleFor_74 : decode cX1_peopleFor 74 = .ok (.iconst 0, 1) := dk_3 (dk_at dksX1_peopleFor_3 3 rfl rfl)
theorem dX1_peopleFor_75 : decode cX1_peopleFor 75 = .ok (.goto 24, 3) := dk_167 0 24 (dk_at dksX1_peopleFor_3 4 rfl rfl)
theorem dX1_peopleFor_78 : decode cX1_peopleFor 78 = .ok (.iconst 0, 1) := dk_3 (dk_at dksX1_peopleFor_3 7 rfl rfl)
theorem dX1_peopleFor_79 : decode cX1_peopleFor 79 = .ok (.iload_n 1, 1) := dk_27 (dk_at dksX1_peopleFor_3 8 rfl rfl)
theorem dX1_peopleFor_80 : decode cX1_peopleFor 80 = .ok (.invokestatic 112, 3) := dk_184 0 112 (dk_at dksX1_peopleFor_3 9 rfl rfl)
theorem dX1_peopleFor_83 : decode cX1_peopleFor 83 = .ok (.iload_n 2, 1) := dk_28 (dk_at dksX1_peopleFor_3 12 rfl rfl)
theorem dX1_peopleFor_84 : decode cX1_peopleFor 84 = .ok (.imul, 1) := dk_104 (dk_at dksX1_peopleFor_3 13 rfl rfl)
theorem dX1_peopleFor_85 : decode cX1_peopleFor 85 = .ok (.aload_n 0, 1) := dk_42 (dk_at dksX1_peopleFor_3 14 rfl rfl)
theorem dX1_peopleFor_86 : decode cX1_peopleFor 86 = .ok (.iload_n 1, 1) := dk_27 (dk_at dksX1_peopleFor_3 15 rfl rfl)
theorem dX1_peopleFor_87 : decode cX1_peopleFor 87 = .ok (.invokevirtual 116, 3) := dk_182 0 116 (dk_at dksX1_peopleFor_3 16 rfl rfl)
theorem dX1_peopleFor_90 : decode cX1_peopleFor 90 = .ok (.idiv, 1) := dk_108 (dk_at dksX1_peopleFor_3 19 rfl rfl)
theorem dX1_peopleFor_91 : decode cX1_peopleFor 91 = .ok (.iload_n 3, 1) := dk_29 (dk_at dksX1_peopleFor_3 20 rfl rfl)
theorem dX1_peopleFor_92 : decode cX1_peopleFor 92 = .ok (.bipush 10, 2) := dk_16 10 (dk_at dksX1_peopleFor_3 21 rfl rfl)
theorem dX1_peopleFor_94 : decode cX1_peopleFor 94 = .ok (.idiv, 1) := dk_108 (dk_at dksX1_peopleFor_3 23 rfl rfl)
theorem dX1_peopleFor_95 : decode cX1_peopleFor 95 = .ok (.isub, 1) := dk_100 (dk_at dksX1_peopleFor_4 0 rfl rfl)
theorem dX1_peopleFor_96 : decode cX1_peopleFor 96 = .ok (.invokestatic 106, 3) := dk_184 0 106 (dk_at dksX1_peopleFor_4 1 rfl rfl)
theorem dX1_peopleFor_99 : decode cX1_peopleFor 99 = .ok (.ireturn, 1) := dk_172 (dk_at dksX1_peopleFor_4 4 rfl rfl)
abbrev cX1_play : ByteArray := prog_11_method_19_code
def yX1_play : MethodName := ⟨RX1, "play", "(II)V"⟩
def dkwX1_play_2 : List UInt8 := [153, 0, 10, 42, 180, 0, 11, 27, 1, 83, 177]
abbrev dktX1_play_2 : List UInt8 := dkwX1_play_2 ++ []
def dkwX1_play_1 : List UInt8 := [180, 0, 11, 27, 50, 28, 6, 112, 182, 0, 175, 96, 181, 0, 76, 42, 180, 0, 11, 27, 50, 182, 0, 178]
abbrev dktX1_play_1 : List UInt8 := dkwX1_play_1 ++ dktX1_play_2
def dkwX1_play_0 : List UInt8 := [42, 180, 0, 11, 27, 50, 89, 180, 0, 172, 4, 28, 120, 128, 181, 0, 172, 42, 89, 180, 0, 76, 42]
abbrev dktX1_play_0 : List UInt8 := dkwX1_play_0 ++ dktX1_play_1
theorem dksX1_play_0 : cX1_play.data.toList.drop 0 = dktX1_play_0 := by decide +kernel
theorem dksX1_play_1 : cX1_play.data.toList.drop 23 = dktX1_play_1 := dk_seg dksX1_play_0 23 rfl rfl
theorem dksX1_play_2 : cX1_play.data.toList.drop 47 = dktX1_play_2 := dk_seg dksX1_play_1 24 rfl rfl
theorem dX1_play_0 : decode cX1_play 0 = .ok (.aload_n 0, 1) := dk_42 (dk_at dksX1_play_0 0 rfl rfl)
theorem dX1_play_1 : decode cX1_play 1 = .ok (.getfield 11, 3) := dk_180 0 11 (dk_at dksX1_play_0 1 rfl rfl)
theorem dX1_play_4 : decode cX1_play 4 = .ok (.iload_n 1, 1) := dk_27 (dk_at dksX1_play_0 4 rfl rfl)
theorem dX1_play_5 : decode cX1_play 5 = .ok (.aaload, 1) := dk_50 (dk_at dksX1_play_0 5 rfl rfl)
theorem dX1_play_6 : decode cX1_play 6 = .ok (.dup, 1) := dk_89 (dk_at dksX1_play_0 6 rfl rfl)
theorem dX1_play_7 : decode cX1_play 7 = .ok (.getfield 172, 3) := dk_180 0 172 (dk_at dksX1_play_0 7 rfl rfl)
theorem dX1_play_10 : decode cX1_play 10 = .ok (.iconst 1, 1) := dk_4 (dk_at dksX1_play_0 10 rfl rfl)
theorem dX1_play_11 : decode cX1_play 11 = .ok (.iload_n 2, 1) := dk_28 (dk_at dksX1_play_0 11 rfl rfl)
theorem dX1_play_12 : decode cX1_play 12 = .ok (.ishl, 1) := dk_120 (dk_at dksX1_play_0 12 rfl rfl)
theorem dX1_play_13 : decode cX1_play 13 = .ok (.ior, 1) := dk_128 (dk_at dksX1_play_0 13 rfl rfl)
theorem dX1_play_14 : decode cX1_play 14 = .ok (.putfield 172, 3) := dk_181 0 172 (dk_at dksX1_play_0 14 rfl rfl)
theorem dX1_play_17 : decode cX1_play 17 = .ok (.aload_n 0, 1) := dk_42 (dk_at dksX1_play_0 17 rfl rfl)
theorem dX1_play_18 : decode cX1_play 18 = .ok (.dup, 1) := dk_89 (dk_at dksX1_play_0 18 rfl rfl)
theorem dX1_play_19 : decode cX1_play 19 = .ok (.getfield 76, 3) := dk_180 0 76 (dk_at dksX1_play_0 19 rfl rfl)
theorem dX1_play_22 : decode cX1_play 22 = .ok (.aload_n 0, 1) := dk_42 (dk_at dksX1_play_0 22 rfl rfl)
theorem dX1_play_23 : decode cX1_play 23 = .ok (.getfield 11, 3) := dk_180 0 11 (dk_at dksX1_play_1 0 rfl rfl)
theorem dX1_play_26 : decode cX1_play 26 = .ok (.iload_n 1, 1) := dk_27 (dk_at dksX1_play_1 3 rfl rfl)
theorem dX1_play_27 : decode cX1_play 27 = .ok (.aaload, 1) := dk_50 (dk_at dksX1_play_1 4 rfl rfl)
theorem dX1_play_28 : decode cX1_play 28 = .ok (.iload_n 2, 1) := dk_28 (dk_at dksX1_play_1 5 rfl rfl)
theorem dX1_play_29 : decode cX1_play 29 = .ok (.iconst 3, 1) := dk_6 (dk_at dksX1_play_1 6 rfl rfl)
theorem dX1_play_30 : decode cX1_play 30 = .ok (.irem, 1) := dk_112 (dk_at dksX1_play_1 7 rfl rfl)
theorem dX1_play_31 : decode cX1_play 31 = .ok (.invokevirtual 175, 3) := dk_182 0 175 (dk_at dksX1_play_1 8 rfl rfl)
theorem dX1_play_34 : decode cX1_play 34 = .ok (.iadd, 1) := dk_96 (dk_at dksX1_play_1 11 rfl rfl)
theorem dX1_play_35 : decode cX1_play 35 = .ok (.putfield 76, 3) := dk_181 0 76 (dk_at dksX1_play_1 12 rfl rfl)
theorem dX1_play_38 : decode cX1_play 38 = .ok (.aload_n 0, 1) := dk_42 (dk_at dksX1_play_1 15 rfl rfl)
theorem dX1_play_39 : decode cX1_play 39 = .ok (.getfield 11, 3) := dk_180 0 11 (dk_at dksX1_play_1 16 rfl rfl)
theorem dX1_play_42 : decode cX1_play 42 = .ok (.iload_n 1, 1) := dk_27 (dk_at dksX1_play_1 19 rfl rfl)
theorem dX1_play_43 : decode cX1_play 43 = .ok (.aaload, 1) := dk_50 (dk_at dksX1_play_1 20 rfl rfl)
theorem dX1_play_44 : decode cX1_play 44 = .ok (.invokevirtual 178, 3) := dk_182 0 178 (dk_at dksX1_play_1 21 rfl rfl)
theorem dX1_play_47 : decode cX1_play 47 = .ok (.ifCond .eq 10, 3) := dk_153 0 10 (dk_at dksX1_play_2 0 rfl rfl)
theorem dX1_play_50 : decode cX1_play 50 = .ok (.aload_n 0, 1) := dk_42 (dk_at dksX1_play_2 3 rfl rfl)
theorem dX1_play_51 : decode cX1_play 51 = .ok (.getfield 11, 3) := dk_180 0 11 (dk_at dksX1_play_2 4 rfl rfl)
theorem dX1_play_54 : decode cX1_play 54 = .ok (.iload_n 1, 1) := dk_27 (dk_at dksX1_play_2 7 rfl rfl)
theorem dX1_play_55 : decode cX1_play 55 = .ok (.aconst_null, 1) := dk_1 (dk_at dksX1_play_2 8 rfl rfl)
theorem dX1_play_56 : decode cX1_play 56 = .ok (.aastore, 1) := dk_83 (dk_at dksX1_play_2 9 rfl rfl)
theorem dX1_play_57 : decode cX1_play 57 = .ok (.return_, 1) := dk_177 (dk_at dksX1_play_2 10 rfl rfl)
abbrev cX1_nextDay : ByteArray := prog_11_method_20_code
def yX1_nextDay : MethodName := ⟨RX1, "nextDay", "()I"⟩
def dkwX1_nextDay_1 : List UInt8 := [180, 0, 61, 4, 96, 181, 0, 61, 42, 180, 0, 61, 172]
abbrev dktX1_nextDay_1 : List UInt8 := dkwX1_nextDay_1 ++ []
def dkwX1_nextDay_0 : List UInt8 := [42, 180, 0, 61, 17, 39, 15, 162, 0, 7, 4, 167, 0, 4, 3, 18, 154, 184, 0, 127, 42, 89]
abbrev dktX1_nextDay_0 : List UInt8 := dkwX1_nextDay_0 ++ dktX1_nextDay_1
theorem dksX1_nextDay_0 : cX1_nextDay.data.toList.drop 0 = dktX1_nextDay_0 := by decide +kernel
theorem dksX1_nextDay_1 : cX1_nextDay.data.toList.drop 22 = dktX1_nextDay_1 := dk_seg dksX1_nextDay_0 22 rfl rfl
theorem dX1_nextDay_0 : decode cX1_nextDay 0 = .ok (.aload_n 0, 1) := dk_42 (dk_at dksX1_nextDay_0 0 rfl rfl)
theorem dX1_nextDay_1 : decode cX1_nextDay 1 = .ok (.getfield 61, 3) := dk_180 0 61 (dk_at dksX1_nextDay_0 1 rfl rfl)
theorem dX1_nextDay_4 : decode cX1_nextDay 4 = .ok (.sipush 9999, 3) := dk_17 39 15 (dk_at dksX1_nextDay_0 4 rfl rfl)
theorem dX1_nextDay_7 : decode cX1_nextDay 7 = .ok (.if_icmp .ge 7, 3) := dk_162 0 7 (dk_at dksX1_nextDay_0 7 rfl rfl)
theorem dX1_nextDay_10 : decode cX1_nextDay 10 = .ok (.iconst 1, 1) := dk_4 (dk_at dksX1_nextDay_0 10 rfl rfl)
theorem dX1_nextDay_11 : decode cX1_nextDay 11 = .ok (.goto 4, 3) := dk_167 0 4 (dk_at dksX1_nextDay_0 11 rfl rfl)
theorem dX1_nextDay_14 : decode cX1_nextDay 14 = .ok (.iconst 0, 1) := dk_3 (dk_at dksX1_nextDay_0 14 rfl rfl)
theorem dX1_nextDay_15 : decode cX1_nextDay 15 = .ok (.ldc 154, 2) := dk_18 154 (dk_at dksX1_nextDay_0 15 rfl rfl)
theorem dX1_nextDay_17 : decode cX1_nextDay 17 = .ok (.invokestatic 127, 3) := dk_184 0 127 (dk_at dksX1_nextDay_0 17 rfl rfl)
theorem dX1_nextDay_20 : decode cX1_nextDay 20 = .ok (.aload_n 0, 1) := dk_42 (dk_at dksX1_nextDay_0 20 rfl rfl)
theorem dX1_nextDay_21 : decode cX1_nextDay 21 = .ok (.dup, 1) := dk_89 (dk_at dksX1_nextDay_0 21 rfl rfl)
theorem dX1_nextDay_22 : decode cX1_nextDay 22 = .ok (.getfield 61, 3) := dk_180 0 61 (dk_at dksX1_nextDay_1 0 rfl rfl)
theorem dX1_nextDay_25 : decode cX1_nextDay 25 = .ok (.iconst 1, 1) := dk_4 (dk_at dksX1_nextDay_1 3 rfl rfl)
theorem dX1_nextDay_26 : decode cX1_nextDay 26 = .ok (.iadd, 1) := dk_96 (dk_at dksX1_nextDay_1 4 rfl rfl)
theorem dX1_nextDay_27 : decode cX1_nextDay 27 = .ok (.putfield 61, 3) := dk_181 0 61 (dk_at dksX1_nextDay_1 5 rfl rfl)
theorem dX1_nextDay_30 : decode cX1_nextDay 30 = .ok (.aload_n 0, 1) := dk_42 (dk_at dksX1_nextDay_1 8 rfl rfl)
theorem dX1_nextDay_31 : decode cX1_nextDay 31 = .ok (.getfield 61, 3) := dk_180 0 61 (dk_at dksX1_nextDay_1 9 rfl rfl)
theorem dX1_nextDay_34 : decode cX1_nextDay 34 = .ok (.ireturn, 1) := dk_172 (dk_at dksX1_nextDay_1 12 rfl rfl)
abbrev cX1_sum : ByteArray := prog_11_method_21_code
def yX1_sum : MethodName := ⟨RX1, "sum", "([I)I"⟩
def dkwX1_sum_0 : List UInt8 := [3, 60, 3, 61, 28, 42, 190, 162, 0, 15, 27, 42, 28, 46, 96, 60, 132, 2, 1, 167, 255, 241, 27, 172]
abbrev dktX1_sum_0 : List UInt8 := dkwX1_sum_0 ++ []
theorem dksX1_sum_0 : cX1_sum.data.toList.drop 0 = dktX1_sum_0 := by decide +kernel
theorem dX1_sum_0 : decode cX1_sum 0 = .ok (.iconst 0, 1) := dk_3 (dk_at dksX1_sum_0 0 rfl rfl)
theorem dX1_sum_1 : decode cX1_sum 1 = .ok (.istore_n 1, 1) := dk_60 (dk_at dksX1_sum_0 1 rfl rfl)
theorem dX1_sum_2 : decode cX1_sum 2 = .ok (.iconst 0, 1) := dk_3 (dk_at dksX1_sum_0 2 rfl rfl)
theorem dX1_sum_3 : decode cX1_sum 3 = .ok (.istore_n 2, 1) := dk_61 (dk_at dksX1_sum_0 3 rfl rfl)
theorem dX1_sum_4 : decode cX1_sum 4 = .ok (.iload_n 2, 1) := dk_28 (dk_at dksX1_sum_0 4 rfl rfl)
theorem dX1_sum_5 : decode cX1_sum 5 = .ok (.aload_n 0, 1) := dk_42 (dk_at dksX1_sum_0 5 rfl rfl)
theorem dX1_sum_6 : decode cX1_sum 6 = .ok (.arraylength, 1) := dk_190 (dk_at dksX1_sum_0 6 rfl rfl)
theorem dX1_sum_7 : decode cX1_sum 7 = .ok (.if_icmp .ge 15, 3) := dk_162 0 15 (dk_at dksX1_sum_0 7 rfl rfl)
theorem dX1_sum_10 : decode cX1_sum 10 = .ok (.iload_n 1, 1) := dk_27 (dk_at dksX1_sum_0 10 rfl rfl)
theorem dX1_sum_11 : decode cX1_sum 11 = .ok (.aload_n 0, 1) := dk_42 (dk_at dksX1_sum_0 11 rfl rfl)
theorem dX1_sum_12 : decode cX1_sum 12 = .ok (.iload_n 2, 1) := dk_28 (dk_at dksX1_sum_0 12 rfl rfl)
theorem dX1_sum_13 : decode cX1_sum 13 = .ok (.iaload, 1) := dk_46 (dk_at dksX1_sum_0 13 rfl rfl)
theorem dX1_sum_14 : decode cX1_sum 14 = .ok (.iadd, 1) := dk_96 (dk_at dksX1_sum_0 14 rfl rfl)
theorem dX1_sum_15 : decode cX1_sum 15 = .ok (.istore_n 1, 1) := dk_60 (dk_at dksX1_sum_0 15 rfl rfl)
theorem dX1_sum_16 : decode cX1_sum 16 = .ok (.iinc 2 1, 3) := dk_132 2 1 (dk_at dksX1_sum_0 16 rfl rfl)
theorem dX1_sum_19 : decode cX1_sum 19 = .ok (.goto (-15), 3) := dk_167 255 241 (dk_at dksX1_sum_0 19 rfl rfl)
theorem dX1_sum_22 : decode cX1_sum 22 = .ok (.iload_n 1, 1) := dk_27 (dk_at dksX1_sum_0 22 rfl rfl)
theorem dX1_sum_23 : decode cX1_sum 23 = .ok (.ireturn, 1) := dk_172 (dk_at dksX1_sum_0 23 rfl rfl)
abbrev cX1_gone : ByteArray := prog_11_method_6_code
def yX1_gone : MethodName := ⟨RX1, "gone", "()I"⟩
def dkwX1_gone_1 : List UInt8 := [3, 96, 60, 132, 2, 1, 167, 255, 230, 27, 172]
abbrev dktX1_gone_1 : List UInt8 := dkwX1_gone_1 ++ []
def dkwX1_gone_0 : List UInt8 := [3, 60, 3, 61, 28, 16, 10, 162, 0, 26, 27, 42, 180, 0, 11, 28, 50, 199, 0, 7, 4, 167, 0, 4]
abbrev dktX1_gone_0 : List UInt8 := dkwX1_gone_0 ++ dktX1_gone_1
theorem dksX1_gone_0 : cX1_gone.data.toList.drop 0 = dktX1_gone_0 := by decide +kernel
theorem dksX1_gone_1 : cX1_gone.data.toList.drop 24 = dktX1_gone_1 := dk_seg dksX1_gone_0 24 rfl rfl
theorem dX1_gone_0 : decode cX1_gone 0 = .ok (.iconst 0, 1) := dk_3 (dk_at dksX1_gone_0 0 rfl rfl)
theorem dX1_gone_1 : decode cX1_gone 1 = .ok (.istore_n 1, 1) := dk_60 (dk_at dksX1_gone_0 1 rfl rfl)
theorem dX1_gone_2 : decode cX1_gone 2 = .ok (.iconst 0, 1) := dk_3 (dk_at dksX1_gone_0 2 rfl rfl)
theorem dX1_gone_3 : decode cX1_gone 3 = .ok (.istore_n 2, 1) := dk_61 (dk_at dksX1_gone_0 3 rfl rfl)
theorem dX1_gone_4 : decode cX1_gone 4 = .ok (.iload_n 2, 1) := dk_28 (dk_at dksX1_gone_0 4 rfl rfl)
theorem dX1_gone_5 : decode cX1_gone 5 = .ok (.bipush 10, 2) := dk_16 10 (dk_at dksX1_gone_0 5 rfl rfl)
theorem dX1_gone_7 : decode cX1_gone 7 = .ok (.if_icmp .ge 26, 3) := dk_162 0 26 (dk_at dksX1_gone_0 7 rfl rfl)
theorem dX1_gone_10 : decode cX1_gone 10 = .ok (.iload_n 1, 1) := dk_27 (dk_at dksX1_gone_0 10 rfl rfl)
theorem dX1_gone_11 : decode cX1_gone 11 = .ok (.aload_n 0, 1) := dk_42 (dk_at dksX1_gone_0 11 rfl rfl)
theorem dX1_gone_12 : decode cX1_gone 12 = .ok (.getfield 11, 3) := dk_180 0 11 (dk_at dksX1_gone_0 12 rfl rfl)
theorem dX1_gone_15 : decode cX1_gone 15 = .ok (.iload_n 2, 1) := dk_28 (dk_at dksX1_gone_0 15 rfl rfl)
theorem dX1_gone_16 : decode cX1_gone 16 = .ok (.aaload, 1) := dk_50 (dk_at dksX1_gone_0 16 rfl rfl)
theorem dX1_gone_17 : decode cX1_gone 17 = .ok (.ifnonnull 7, 3) := dk_199 0 7 (dk_at dksX1_gone_0 17 rfl rfl)
theorem dX1_gone_20 : decode cX1_gone 20 = .ok (.iconst 1, 1) := dk_4 (dk_at dksX1_gone_0 20 rfl rfl)
theorem dX1_gone_21 : decode cX1_gone 21 = .ok (.goto 4, 3) := dk_167 0 4 (dk_at dksX1_gone_0 21 rfl rfl)
theorem dX1_gone_24 : decode cX1_gone 24 = .ok (.iconst 0, 1) := dk_3 (dk_at dksX1_gone_1 0 rfl rfl)
theorem dX1_gone_25 : decode cX1_gone 25 = .ok (.iadd, 1) := dk_96 (dk_at dksX1_gone_1 1 rfl rfl)
theorem dX1_gone_26 : decode cX1_gone 26 = .ok (.istore_n 1, 1) := dk_60 (dk_at dksX1_gone_1 2 rfl rfl)
theorem dX1_gone_27 : decode cX1_gone 27 = .ok (.iinc 2 1, 3) := dk_132 2 1 (dk_at dksX1_gone_1 3 rfl rfl)
theorem dX1_gone_30 : decode cX1_gone 30 = .ok (.goto (-26), 3) := dk_167 255 230 (dk_at dksX1_gone_1 6 rfl rfl)
theorem dX1_gone_33 : decode cX1_gone 33 = .ok (.iload_n 1, 1) := dk_27 (dk_at dksX1_gone_1 9 rfl rfl)
theorem dX1_gone_34 : decode cX1_gone 34 = .ok (.ireturn, 1) := dk_172 (dk_at dksX1_gone_1 10 rfl rfl)
theorem q47 : (Jvm.Cond.initialized "BarnPictures$Tour") ∈ lw_all := lw_g (lw_at lw_m1 2 rfl) rfl
theorem q85 : (Jvm.Cond.instantiable "BarnPictures$Tour" (14 : Nat)) ∈ lw_all := lw_g (lw_at lw_m1 40 rfl) rfl
theorem q87 : (Jvm.Cond.instanceMethod ({ cls := "BarnPictures$Tour", name := "<init>", desc := "()V" } : Jvm.MethodName)) ∈ lw_all := lw_g (lw_at lw_m1 42 rfl) rfl
theorem q88 : (Jvm.Cond.code ({ cls := "BarnPictures$Tour", name := "<init>", desc := "()V" } : Jvm.MethodName) prog_11_method_1_code (2 : Nat) (Option.none : Option Jvm.ClassFile.FieldType)) ∈ lw_all := lw_g (lw_at lw_m1 43 rfl) rfl
theorem q89 : (Jvm.Cond.methodLink "BarnPictures$Tour" (3 : Nat) ({ cls := "java/lang/Object", name := "<init>", desc := "()V" } : Jvm.MethodName)) ∈ lw_all := lw_g (lw_at lw_m1 44 rfl) rfl
theorem q90 : (Jvm.Cond.classLink "BarnPictures$Tour" (9 : Nat) "BarnPictures$Reel") ∈ lw_all := lw_g (lw_at lw_m1 45 rfl) rfl
theorem q92 : (Jvm.Cond.classLink "BarnPictures$Tour" (17 : Nat) "BarnPictures$Generator") ∈ lw_all := lw_g (lw_at lw_m1 47 rfl) rfl
theorem q95 : (Jvm.Cond.methodLink "BarnPictures$Tour" (40 : Nat) ({ cls := "BarnPictures$Reel", name := "<init>", desc := "(I)V" } : Jvm.MethodName)) ∈ lw_all := lw_g (lw_at lw_m1 50 rfl) rfl
theorem q105 : (Jvm.Cond.fieldLinkNest "BarnPictures$Tour" (96 : Nat) "BarnPictures$Reel" "minutes" "I" "BarnPictures") ∈ lw_tbl := lw_at lw_m1 60 rfl
theorem q108 : (Jvm.Cond.fieldLinkNest "BarnPictures$Tour" (103 : Nat) "BarnPictures$Reel" "wear" "I" "BarnPictures") ∈ lw_tbl := lw_at lw_m1 63 rfl
theorem q113 : (Jvm.Cond.fieldLinkNest "BarnPictures$Tour" (172 : Nat) "BarnPictures$Reel" "played" "I" "BarnPictures") ∈ lw_tbl := lw_at lw_m1 68 rfl
theorem q118 : (Jvm.Cond.fieldLinkNest "BarnPictures$Tour" (83 : Nat) "BarnPictures$Thing" "barn" "I" "BarnPictures") ∈ lw_tbl := lw_at lw_m1 73 rfl
theorem q135 : (Jvm.Cond.methodLinkNest "BarnPictures$Tour" (43 : Nat) ({ cls := "BarnPictures$Generator", name := "<init>", desc := "()V" } : Jvm.MethodName) "BarnPictures") ∈ lw_tbl := lw_at lw_m1 90 rfl
theorem q140 : (Jvm.Cond.fieldLinkNest "BarnPictures$Tour" (119 : Nat) "BarnPictures$Generator" "minutes" "I" "BarnPictures") ∈ lw_tbl := lw_at lw_m1 95 rfl
theorem q146 : (Jvm.Cond.constant "BarnPictures$Tour" (44 : Nat) (-10000005 : Int32)) ∈ lw_all := lw_g (lw_at lw_m1 101 rfl) rfl
theorem q147 : (Jvm.Cond.fieldLink "BarnPictures$Tour" (11 : Nat) "BarnPictures$Tour" "reels" "[LBarnPictures$Reel;") ∈ lw_all := lw_g (lw_at lw_m1 102 rfl) rfl
theorem q149 : (Jvm.Cond.fieldLink "BarnPictures$Tour" (19 : Nat) "BarnPictures$Tour" "generators" "[LBarnPictures$Generator;") ∈ lw_all := lw_g (lw_at lw_m1 104 rfl) rfl
theorem q152 : (Jvm.Cond.fieldLink "BarnPictures$Tour" (23 : Nat) "BarnPictures$Tour" "lastShow" "[I") ∈ lw_all := lw_g (lw_at lw_m1 107 rfl) rfl
theorem q153 : (Jvm.Cond.fieldLink "BarnPictures$Tour" (27 : Nat) "BarnPictures$Tour" "shows" "[I") ∈ lw_all := lw_g (lw_at lw_m1 108 rfl) rfl
theorem q155 : (Jvm.Cond.fieldLink "BarnPictures$Tour" (30 : Nat) "BarnPictures$Tour" "takings" "[I") ∈ lw_all := lw_g (lw_at lw_m1 110 rfl) rfl
theorem q157 : (Jvm.Cond.fieldLink "BarnPictures$Tour" (33 : Nat) "BarnPictures$Tour" "log" "[I") ∈ lw_all := lw_g (lw_at lw_m1 112 rfl) rfl
theorem q160 : (Jvm.Cond.fieldLink "BarnPictures$Tour" (58 : Nat) "BarnPictures$Tour" "van" "I") ∈ lw_all := lw_g (lw_at lw_m1 115 rfl) rfl
theorem q162 : (Jvm.Cond.fieldLink "BarnPictures$Tour" (61 : Nat) "BarnPictures$Tour" "day" "I") ∈ lw_all := lw_g (lw_at lw_m1 117 rfl) rfl
theorem q164 : (Jvm.Cond.fieldLink "BarnPictures$Tour" (36 : Nat) "BarnPictures$Tour" "price" "I") ∈ lw_all := lw_g (lw_at lw_m1 119 rfl) rfl
theorem q166 : (Jvm.Cond.fieldLink "BarnPictures$Tour" (64 : Nat) "BarnPictures$Tour" "driving" "I") ∈ lw_all := lw_g (lw_at lw_m1 121 rfl) rfl
theorem q168 : (Jvm.Cond.fieldLink "BarnPictures$Tour" (67 : Nat) "BarnPictures$Tour" "fuel" "I") ∈ lw_all := lw_g (lw_at lw_m1 123 rfl) rfl
theorem q170 : (Jvm.Cond.fieldLink "BarnPictures$Tour" (70 : Nat) "BarnPictures$Tour" "renewing" "I") ∈ lw_all := lw_g (lw_at lw_m1 125 rfl) rfl
theorem q172 : (Jvm.Cond.fieldLink "BarnPictures$Tour" (73 : Nat) "BarnPictures$Tour" "people" "I") ∈ lw_all := lw_g (lw_at lw_m1 127 rfl) rfl
theorem q174 : (Jvm.Cond.fieldLink "BarnPictures$Tour" (76 : Nat) "BarnPictures$Tour" "splices" "I") ∈ lw_all := lw_g (lw_at lw_m1 129 rfl) rfl
theorem q176 : (Jvm.Cond.laysFinal "BarnPictures$Tour" "BarnPictures$Tour" "reels" "[LBarnPictures$Reel;") ∈ lw_all := lw_g (lw_at lw_m1 131 rfl) rfl
theorem q177 : (Jvm.Cond.soleField "BarnPictures$Tour" "reels") ∈ lw_all := lw_g (lw_at lw_m1 132 rfl) rfl
theorem q178 : (Jvm.Cond.laysFinal "BarnPictures$Tour" "BarnPictures$Tour" "generators" "[LBarnPictures$Generator;") ∈ lw_all := lw_g (lw_at lw_m1 133 rfl) rfl
theorem q179 : (Jvm.Cond.soleField "BarnPictures$Tour" "generators") ∈ lw_all := lw_g (lw_at lw_m1 134 rfl) rfl
theorem q180 : (Jvm.Cond.laysFinal "BarnPictures$Tour" "BarnPictures$Tour" "lastShow" "[I") ∈ lw_all := lw_g (lw_at lw_m1 135 rfl) rfl
theorem q181 : (Jvm.Cond.soleField "BarnPictures$Tour" "lastShow") ∈ lw_all := lw_g (lw_at lw_m1 136 rfl) rfl
theorem q182 : (Jvm.Cond.laysFinal "BarnPictures$Tour" "BarnPictures$Tour" "shows" "[I") ∈ lw_all := lw_g (lw_at lw_m1 137 rfl) rfl
theorem q183 : (Jvm.Cond.soleField "BarnPictures$Tour" "shows") ∈ lw_all := lw_g (lw_at lw_m1 138 rfl) rfl
theorem q184 : (Jvm.Cond.laysFinal "BarnPictures$Tour" "BarnPictures$Tour" "takings" "[I") ∈ lw_all := lw_g (lw_at lw_m1 139 rfl) rfl
theorem q185 : (Jvm.Cond.soleField "BarnPictures$Tour" "takings") ∈ lw_all := lw_g (lw_at lw_m1 140 rfl) rfl
theorem q186 : (Jvm.Cond.laysFinal "BarnPictures$Tour" "BarnPictures$Tour" "log" "[I") ∈ lw_all := lw_g (lw_at lw_m1 141 rfl) rfl
theorem q187 : (Jvm.Cond.soleField "BarnPictures$Tour" "log") ∈ lw_all := lw_g (lw_at lw_m1 142 rfl) rfl
theorem q188 : (Jvm.Cond.lays "BarnPictures$Tour" "BarnPictures$Tour" "van" "I") ∈ lw_all := lw_g (lw_at lw_m1 143 rfl) rfl
theorem q189 : (Jvm.Cond.soleField "BarnPictures$Tour" "van") ∈ lw_all := lw_g (lw_at lw_m1 144 rfl) rfl
theorem q190 : (Jvm.Cond.lays "BarnPictures$Tour" "BarnPictures$Tour" "day" "I") ∈ lw_all := lw_g (lw_at lw_m1 145 rfl) rfl
theorem q191 : (Jvm.Cond.soleField "BarnPictures$Tour" "day") ∈ lw_all := lw_g (lw_at lw_m1 146 rfl) rfl
theorem q192 : (Jvm.Cond.lays "BarnPictures$Tour" "BarnPictures$Tour" "price" "I") ∈ lw_all := lw_g (lw_at lw_m1 147 rfl) rfl
theorem q193 : (Jvm.Cond.soleField "BarnPictures$Tour" "price") ∈ lw_all := lw_g (lw_at lw_m1 148 rfl) rfl
theorem q194 : (Jvm.Cond.lays "BarnPictures$Tour" "BarnPictures$Tour" "driving" "I") ∈ lw_all := lw_g (lw_at lw_m1 149 rfl) rfl
theorem q195 : (Jvm.Cond.soleField "BarnPictures$Tour" "driving") ∈ lw_all := lw_g (lw_at lw_m1 150 rfl) rfl
theorem q196 : (Jvm.Cond.lays "BarnPictures$Tour" "BarnPictures$Tour" "fuel" "I") ∈ lw_all := lw_g (lw_at lw_m1 151 rfl) rfl
theorem q197 : (Jvm.Cond.soleField "BarnPictures$Tour" "fuel") ∈ lw_all := lw_g (lw_at lw_m1 152 rfl) rfl
theorem q198 : (Jvm.Cond.lays "BarnPictures$Tour" "BarnPictures$Tour" "renewing" "I") ∈ lw_all := lw_g (lw_at lw_m1 153 rfl) rfl
theorem q199 : (Jvm.Cond.soleField "BarnPictures$Tour" "renewing") ∈ lw_all := lw_g (lw_at lw_m1 154 rfl) rfl
theorem q200 : (Jvm.Cond.lays "BarnPictures$Tour" "BarnPictures$Tour" "people" "I") ∈ lw_all := lw_g (lw_at lw_m1 155 rfl) rfl
theorem q201 : (Jvm.Cond.soleField "BarnPictures$Tour" "people") ∈ lw_all := lw_g (lw_at lw_m1 156 rfl) rfl
theorem q202 : (Jvm.Cond.lays "BarnPictures$Tour" "BarnPictures$Tour" "splices" "I") ∈ lw_all := lw_g (lw_at lw_m1 157 rfl) rfl
theorem q203 : (Jvm.Cond.soleField "BarnPictures$Tour" "splices") ∈ lw_all := lw_g (lw_at lw_m1 158 rfl) rfl
theorem q204 : (Jvm.Cond.superclass "BarnPictures$Tour" "java/lang/Object") ∈ lw_all := lw_g (lw_at lw_m1 159 rfl) rfl
theorem q285 : (Jvm.Cond.instanceMethod ({ cls := "BarnPictures$Tour", name := "<init>", desc := "(LBarnPictures$Tour;)V" } : Jvm.MethodName)) ∈ lw_all := lw_g (lw_at lw_m2 0 rfl) rfl
theorem q286 : (Jvm.Cond.code ({ cls := "BarnPictures$Tour", name := "<init>", desc := "(LBarnPictures$Tour;)V" } : Jvm.MethodName) prog_11_method_2_code (3 : Nat) (Option.none : Option Jvm.ClassFile.FieldType)) ∈ lw_all := lw_g (lw_at lw_m2 1 rfl) rfl
theorem q287 : (Jvm.Cond.methodLink "BarnPictures$Tour" (45 : Nat) ({ cls := "BarnPictures$Reel", name := "copy", desc := "()LBarnPictures$Reel;" } : Jvm.MethodName)) ∈ lw_all := lw_g (lw_at lw_m2 2 rfl) rfl
theorem q293 : (Jvm.Cond.methodLink "BarnPictures$Tour" (49 : Nat) ({ cls := "BarnPictures$Generator", name := "copy", desc := "()LBarnPictures$Generator;" } : Jvm.MethodName)) ∈ lw_all := lw_g (lw_at lw_m2 8 rfl) rfl
theorem q299 : (Jvm.Cond.methodLink "BarnPictures$Tour" (52 : Nat) ({ cls := "java/lang/System", name := "arraycopy", desc := "(Ljava/lang/Object;ILjava/lang/Object;II)V" } : Jvm.MethodName)) ∈ lw_all := lw_g (lw_at lw_m2 14 rfl) rfl
theorem q303 : (Jvm.Cond.instanceMethod ({ cls := "BarnPictures$Tour", name := "drive", desc := "(I)I" } : Jvm.MethodName)) ∈ lw_all := lw_g (lw_at lw_m2 18 rfl) rfl
theorem q304 : (Jvm.Cond.selects "BarnPictures$Tour" ({ cls := "BarnPictures$Tour", name := "drive", desc := "(I)I" } : Jvm.MethodName) ({ cls := "BarnPictures$Tour", name := "drive", desc := "(I)I" } : Jvm.MethodName)) ∈ lw_all := lw_g (lw_at lw_m2 19 rfl) rfl
theorem q305 : (Jvm.Cond.code ({ cls := "BarnPictures$Tour", name := "drive", desc := "(I)I" } : Jvm.MethodName) prog_11_method_12_code (3 : Nat) (Option.some Jvm.ClassFile.FieldType.int)) ∈ lw_all := lw_g (lw_at lw_m2 20 rfl) rfl
theorem q306 : (Jvm.Cond.methodLinkNest "BarnPictures$Tour" (79 : Nat) ({ cls := "BarnPictures", name := "inRange", desc := "(III)Z" } : Jvm.MethodName) "BarnPictures") ∈ lw_tbl := lw_at lw_m2 21 rfl
theorem q309 : (Jvm.Cond.constant "BarnPictures$Tour" (126 : Nat) (-10000001 : Int32)) ∈ lw_all := lw_g (lw_at lw_m2 24 rfl) rfl
theorem q310 : (Jvm.Cond.methodLinkNest "BarnPictures$Tour" (127 : Nat) ({ cls := "BarnPictures", name := "check", desc := "(ZI)V" } : Jvm.MethodName) "BarnPictures") ∈ lw_tbl := lw_at lw_m2 25 rfl
theorem q378 : (Jvm.Cond.methodLinkNest "BarnPictures$Tour" (131 : Nat) ({ cls := "BarnPictures", name := "mileOf", desc := "(I)I" } : Jvm.MethodName) "BarnPictures") ∈ lw_tbl := lw_at lw_m2 93 rfl
theorem q385 : (Jvm.Cond.methodLink "BarnPictures$Tour" (134 : Nat) ({ cls := "java/lang/Math", name := "abs", desc := "(I)I" } : Jvm.MethodName)) ∈ lw_all := lw_g (lw_at lw_m2 100 rfl) rfl
theorem q468 : (Jvm.Cond.selects "BarnPictures$Tour" ({ cls := "java/lang/Object", name := "getClass", desc := "()Ljava/lang/Class;" } : Jvm.MethodName) ({ cls := "java/lang/Object", name := "getClass", desc := "()Ljava/lang/Class;" } : Jvm.MethodName)) ∈ lw_all := lw_g (lw_at lw_m2 183 rfl) rfl
theorem q495 : (Jvm.Cond.instanceMethod ({ cls := "BarnPictures$Tour", name := "moveReel", desc := "(IZ)I" } : Jvm.MethodName)) ∈ lw_all := lw_g (lw_at lw_m2 210 rfl) rfl
theorem q496 : (Jvm.Cond.selects "BarnPictures$Tour" ({ cls := "BarnPictures$Tour", name := "moveReel", desc := "(IZ)I" } : Jvm.MethodName) ({ cls := "BarnPictures$Tour", name := "moveReel", desc := "(IZ)I" } : Jvm.MethodName)) ∈ lw_all := lw_g (lw_at lw_m2 211 rfl) rfl
theorem q497 : (Jvm.Cond.code ({ cls := "BarnPictures$Tour", name := "moveReel", desc := "(IZ)I" } : Jvm.MethodName) prog_11_method_14_code (3 : Nat) (Option.some Jvm.ClassFile.FieldType.int)) ∈ lw_all := lw_g (lw_at lw_m2 212 rfl) rfl
theorem q498 : (Jvm.Cond.methodLink "BarnPictures$Tour" (145 : Nat) ({ cls := "BarnPictures$Tour", name := "isReel", desc := "(I)Z" } : Jvm.MethodName)) ∈ lw_all := lw_g (lw_at lw_m2 213 rfl) rfl
theorem q499 : (Jvm.Cond.instanceMethod ({ cls := "BarnPictures$Tour", name := "isReel", desc := "(I)Z" } : Jvm.MethodName)) ∈ lw_all := lw_g (lw_at lw_m2 214 rfl) rfl
theorem q500 : (Jvm.Cond.selects "BarnPictures$Tour" ({ cls := "BarnPictures$Tour", name := "isReel", desc := "(I)Z" } : Jvm.MethodName) ({ cls := "BarnPictures$Tour", name := "isReel", desc := "(I)Z" } : Jvm.MethodName)) ∈ lw_all := lw_g (lw_at lw_m2 215 rfl) rfl
theorem q501 : (Jvm.Cond.code ({ cls := "BarnPictures$Tour", name := "isReel", desc := "(I)Z" } : Jvm.MethodName) prog_11_method_3_code (2 : Nat) (Option.some Jvm.ClassFile.FieldType.boolean)) ∈ lw_all := lw_g (lw_at lw_m2 216 rfl) rfl
theorem q502 : (Jvm.Cond.methodLink "BarnPictures$Tour" (148 : Nat) ({ cls := "BarnPictures$Tour", name := "move", desc := "(LBarnPictures$Thing;Z)I" } : Jvm.MethodName)) ∈ lw_all := lw_g (lw_at lw_m2 217 rfl) rfl
theorem q503 : (Jvm.Cond.privateMethod ({ cls := "BarnPictures$Tour", name := "move", desc := "(LBarnPictures$Thing;Z)I" } : Jvm.MethodName)) ∈ lw_tbl := lw_at lw_m2 218 rfl
theorem q504 : (Jvm.Cond.instanceMethod ({ cls := "BarnPictures$Tour", name := "move", desc := "(LBarnPictures$Thing;Z)I" } : Jvm.MethodName)) ∈ lw_all := lw_g (lw_at lw_m2 219 rfl) rfl
theorem q505 : (Jvm.Cond.code ({ cls := "BarnPictures$Tour", name := "move", desc := "(LBarnPictures$Thing;Z)I" } : Jvm.MethodName) prog_11_method_13_code (3 : Nat) (Option.some Jvm.ClassFile.FieldType.int)) ∈ lw_all := lw_g (lw_at lw_m2 220 rfl) rfl
theorem q506 : (Jvm.Cond.methodLink "BarnPictures$Tour" (137 : Nat) ({ cls := "BarnPictures$Tour", name := "things", desc := "()I" } : Jvm.MethodName)) ∈ lw_all := lw_g (lw_at lw_m2 221 rfl) rfl
theorem q507 : (Jvm.Cond.instanceMethod ({ cls := "BarnPictures$Tour", name := "things", desc := "()I" } : Jvm.MethodName)) ∈ lw_all := lw_g (lw_at lw_m2 222 rfl) rfl
theorem q508 : (Jvm.Cond.selects "BarnPictures$Tour" ({ cls := "BarnPictures$Tour", name := "things", desc := "()I" } : Jvm.MethodName) ({ cls := "BarnPictures$Tour", name := "things", desc := "()I" } : Jvm.MethodName)) ∈ lw_all := lw_g (lw_at lw_m2 223 rfl) rfl
theorem q509 : (Jvm.Cond.code ({ cls := "BarnPictures$Tour", name := "things", desc := "()I" } : Jvm.MethodName) prog_11_method_5_code (3 : Nat) (Option.some Jvm.ClassFile.FieldType.int)) ∈ lw_all := lw_g (lw_at lw_m2 224 rfl) rfl
theorem q510 : (Jvm.Cond.methodLink "BarnPictures$Tour" (88 : Nat) ({ cls := "BarnPictures$Tour", name := "isIn", desc := "(II)Z" } : Jvm.MethodName)) ∈ lw_all := lw_g (lw_at lw_m2 225 rfl) rfl
theorem q511 : (Jvm.Cond.privateMethod ({ cls := "BarnPictures$Tour", name := "isIn", desc := "(II)Z" } : Jvm.MethodName)) ∈ lw_tbl := lw_at lw_m2 226 rfl
theorem q512 : (Jvm.Cond.instanceMethod ({ cls := "BarnPictures$Tour", name := "isIn", desc := "(II)Z" } : Jvm.MethodName)) ∈ lw_all := lw_g (lw_at lw_m2 227 rfl) rfl
theorem q513 : (Jvm.Cond.code ({ cls := "BarnPictures$Tour", name := "isIn", desc := "(II)Z" } : Jvm.MethodName) prog_11_method_4_code (3 : Nat) (Option.some Jvm.ClassFile.FieldType.boolean)) ∈ lw_all := lw_g (lw_at lw_m2 228 rfl) rfl
theorem q514 : (Jvm.Cond.methodLink "BarnPictures$Tour" (92 : Nat) ({ cls := "BarnPictures$Generator", name := "isInVan", desc := "()Z" } : Jvm.MethodName)) ∈ lw_all := lw_g (lw_at lw_m2 229 rfl) rfl
theorem q520 : (Jvm.Cond.methodLink "BarnPictures$Tour" (141 : Nat) ({ cls := "BarnPictures$Thing", name := "moves", desc := "(ZII)Z" } : Jvm.MethodName)) ∈ lw_all := lw_g (lw_at lw_m2 235 rfl) rfl
theorem q535 : (Jvm.Cond.instanceMethod ({ cls := "BarnPictures$Tour", name := "moveGenerator", desc := "(IZ)I" } : Jvm.MethodName)) ∈ lw_all := lw_g (lw_at lw_m3 10 rfl) rfl
theorem q536 : (Jvm.Cond.selects "BarnPictures$Tour" ({ cls := "BarnPictures$Tour", name := "moveGenerator", desc := "(IZ)I" } : Jvm.MethodName) ({ cls := "BarnPictures$Tour", name := "moveGenerator", desc := "(IZ)I" } : Jvm.MethodName)) ∈ lw_all := lw_g (lw_at lw_m3 11 rfl) rfl
theorem q537 : (Jvm.Cond.code ({ cls := "BarnPictures$Tour", name := "moveGenerator", desc := "(IZ)I" } : Jvm.MethodName) prog_11_method_15_code (3 : Nat) (Option.some Jvm.ClassFile.FieldType.int)) ∈ lw_all := lw_g (lw_at lw_m3 12 rfl) rfl
theorem q543 : (Jvm.Cond.instanceMethod ({ cls := "BarnPictures$Tour", name := "fuel", desc := "(II)I" } : Jvm.MethodName)) ∈ lw_all := lw_g (lw_at lw_m3 18 rfl) rfl
theorem q544 : (Jvm.Cond.selects "BarnPictures$Tour" ({ cls := "BarnPictures$Tour", name := "fuel", desc := "(II)I" } : Jvm.MethodName) ({ cls := "BarnPictures$Tour", name := "fuel", desc := "(II)I" } : Jvm.MethodName)) ∈ lw_all := lw_g (lw_at lw_m3 19 rfl) rfl
theorem q545 : (Jvm.Cond.code ({ cls := "BarnPictures$Tour", name := "fuel", desc := "(II)I" } : Jvm.MethodName) prog_11_method_16_code (3 : Nat) (Option.some Jvm.ClassFile.FieldType.int)) ∈ lw_all := lw_g (lw_at lw_m3 20 rfl) rfl
theorem q546 : (Jvm.Cond.constant "BarnPictures$Tour" (152 : Nat) (-10000002 : Int32)) ∈ lw_all := lw_g (lw_at lw_m3 21 rfl) rfl
theorem q547 : (Jvm.Cond.constant "BarnPictures$Tour" (153 : Nat) (-10000004 : Int32)) ∈ lw_all := lw_g (lw_at lw_m3 22 rfl) rfl
theorem q548 : (Jvm.Cond.constant "BarnPictures$Tour" (154 : Nat) (-10000003 : Int32)) ∈ lw_all := lw_g (lw_at lw_m3 23 rfl) rfl
theorem q554 : (Jvm.Cond.instanceMethod ({ cls := "BarnPictures$Tour", name := "renew", desc := "(I)I" } : Jvm.MethodName)) ∈ lw_all := lw_g (lw_at lw_m3 29 rfl) rfl
theorem q555 : (Jvm.Cond.selects "BarnPictures$Tour" ({ cls := "BarnPictures$Tour", name := "renew", desc := "(I)I" } : Jvm.MethodName) ({ cls := "BarnPictures$Tour", name := "renew", desc := "(I)I" } : Jvm.MethodName)) ∈ lw_all := lw_g (lw_at lw_m3 30 rfl) rfl
theorem q556 : (Jvm.Cond.code ({ cls := "BarnPictures$Tour", name := "renew", desc := "(I)I" } : Jvm.MethodName) prog_11_method_17_code (2 : Nat) (Option.some Jvm.ClassFile.FieldType.int)) ∈ lw_all := lw_g (lw_at lw_m3 31 rfl) rfl
theorem q557 : (Jvm.Cond.methodLink "BarnPictures$Tour" (155 : Nat) ({ cls := "BarnPictures$Reel", name := "isInVan", desc := "()Z" } : Jvm.MethodName)) ∈ lw_all := lw_g (lw_at lw_m3 32 rfl) rfl
theorem q560 : (Jvm.Cond.methodLink "BarnPictures$Tour" (156 : Nat) ({ cls := "BarnPictures$Reel", name := "renew", desc := "()V" } : Jvm.MethodName)) ∈ lw_all := lw_g (lw_at lw_m3 35 rfl) rfl
theorem q575 : (Jvm.Cond.instanceMethod ({ cls := "BarnPictures$Tour", name := "show", desc := "(I)I" } : Jvm.MethodName)) ∈ lw_all := lw_g (lw_at lw_m3 50 rfl) rfl
theorem q576 : (Jvm.Cond.selects "BarnPictures$Tour" ({ cls := "BarnPictures$Tour", name := "show", desc := "(I)I" } : Jvm.MethodName) ({ cls := "BarnPictures$Tour", name := "show", desc := "(I)I" } : Jvm.MethodName)) ∈ lw_all := lw_g (lw_at lw_m3 51 rfl) rfl
theorem q577 : (Jvm.Cond.code ({ cls := "BarnPictures$Tour", name := "show", desc := "(I)I" } : Jvm.MethodName) prog_11_method_18_code (6 : Nat) (Option.some Jvm.ClassFile.FieldType.int)) ∈ lw_all := lw_g (lw_at lw_m3 52 rfl) rfl
theorem q578 : (Jvm.Cond.methodLink "BarnPictures$Tour" (159 : Nat) ({ cls := "BarnPictures$Tour", name := "reason", desc := "(I)I" } : Jvm.MethodName)) ∈ lw_all := lw_g (lw_at lw_m3 53 rfl) rfl
theorem q579 : (Jvm.Cond.instanceMethod ({ cls := "BarnPictures$Tour", name := "reason", desc := "(I)I" } : Jvm.MethodName)) ∈ lw_all := lw_g (lw_at lw_m3 54 rfl) rfl
theorem q580 : (Jvm.Cond.selects "BarnPictures$Tour" ({ cls := "BarnPictures$Tour", name := "reason", desc := "(I)I" } : Jvm.MethodName) ({ cls := "BarnPictures$Tour", name := "reason", desc := "(I)I" } : Jvm.MethodName)) ∈ lw_all := lw_g (lw_at lw_m3 55 rfl) rfl
theorem q581 : (Jvm.Cond.code ({ cls := "BarnPictures$Tour", name := "reason", desc := "(I)I" } : Jvm.MethodName) prog_11_method_11_code (2 : Nat) (Option.some Jvm.ClassFile.FieldType.int)) ∈ lw_all := lw_g (lw_at lw_m3 56 rfl) rfl
theorem q582 : (Jvm.Cond.methodLink "BarnPictures$Tour" (116 : Nat) ({ cls := "BarnPictures$Tour", name := "reelsIn", desc := "(I)I" } : Jvm.MethodName)) ∈ lw_all := lw_g (lw_at lw_m3 57 rfl) rfl
theorem q583 : (Jvm.Cond.instanceMethod ({ cls := "BarnPictures$Tour", name := "reelsIn", desc := "(I)I" } : Jvm.MethodName)) ∈ lw_all := lw_g (lw_at lw_m3 58 rfl) rfl
theorem q584 : (Jvm.Cond.selects "BarnPictures$Tour" ({ cls := "BarnPictures$Tour", name := "reelsIn", desc := "(I)I" } : Jvm.MethodName) ({ cls := "BarnPictures$Tour", name := "reelsIn", desc := "(I)I" } : Jvm.MethodName)) ∈ lw_all := lw_g (lw_at lw_m3 59 rfl) rfl
theorem q585 : (Jvm.Cond.code ({ cls := "BarnPictures$Tour", name := "reelsIn", desc := "(I)I" } : Jvm.MethodName) prog_11_method_7_code (4 : Nat) (Option.some Jvm.ClassFile.FieldType.int)) ∈ lw_all := lw_g (lw_at lw_m3 60 rfl) rfl
theorem q586 : (Jvm.Cond.methodLink "BarnPictures$Tour" (120 : Nat) ({ cls := "BarnPictures$Tour", name := "generatorFor", desc := "(II)I" } : Jvm.MethodName)) ∈ lw_all := lw_g (lw_at lw_m3 61 rfl) rfl
theorem q587 : (Jvm.Cond.privateMethod ({ cls := "BarnPictures$Tour", name := "generatorFor", desc := "(II)I" } : Jvm.MethodName)) ∈ lw_tbl := lw_at lw_m3 62 rfl
theorem q588 : (Jvm.Cond.instanceMethod ({ cls := "BarnPictures$Tour", name := "generatorFor", desc := "(II)I" } : Jvm.MethodName)) ∈ lw_all := lw_g (lw_at lw_m3 63 rfl) rfl
theorem q589 : (Jvm.Cond.code ({ cls := "BarnPictures$Tour", name := "generatorFor", desc := "(II)I" } : Jvm.MethodName) prog_11_method_10_code (4 : Nat) (Option.some Jvm.ClassFile.FieldType.int)) ∈ lw_all := lw_g (lw_at lw_m3 64 rfl) rfl
theorem q590 : (Jvm.Cond.methodLink "BarnPictures$Tour" (123 : Nat) ({ cls := "BarnPictures$Tour", name := "minutesIn", desc := "(I)I" } : Jvm.MethodName)) ∈ lw_all := lw_g (lw_at lw_m3 65 rfl) rfl
theorem q591 : (Jvm.Cond.instanceMethod ({ cls := "BarnPictures$Tour", name := "minutesIn", desc := "(I)I" } : Jvm.MethodName)) ∈ lw_all := lw_g (lw_at lw_m3 66 rfl) rfl
theorem q592 : (Jvm.Cond.selects "BarnPictures$Tour" ({ cls := "BarnPictures$Tour", name := "minutesIn", desc := "(I)I" } : Jvm.MethodName) ({ cls := "BarnPictures$Tour", name := "minutesIn", desc := "(I)I" } : Jvm.MethodName)) ∈ lw_all := lw_g (lw_at lw_m3 67 rfl) rfl
theorem q593 : (Jvm.Cond.code ({ cls := "BarnPictures$Tour", name := "minutesIn", desc := "(I)I" } : Jvm.MethodName) prog_11_method_8_code (4 : Nat) (Option.some Jvm.ClassFile.FieldType.int)) ∈ lw_all := lw_g (lw_at lw_m3 68 rfl) rfl
theorem q594 : (Jvm.Cond.classLink "BarnPictures$Tour" (162 : Nat) "BarnPictures$NoShow") ∈ lw_all := lw_g (lw_at lw_m3 69 rfl) rfl
theorem q603 : (Jvm.Cond.methodLink "BarnPictures$Tour" (164 : Nat) ({ cls := "BarnPictures$NoShow", name := "<init>", desc := "(I)V" } : Jvm.MethodName)) ∈ lw_all := lw_g (lw_at lw_m3 78 rfl) rfl
theorem q612 : (Jvm.Cond.methodLink "BarnPictures$Tour" (165 : Nat) ({ cls := "BarnPictures$Tour", name := "peopleFor", desc := "(I)I" } : Jvm.MethodName)) ∈ lw_all := lw_g (lw_at lw_m3 87 rfl) rfl
theorem q613 : (Jvm.Cond.instanceMethod ({ cls := "BarnPictures$Tour", name := "peopleFor", desc := "(I)I" } : Jvm.MethodName)) ∈ lw_all := lw_g (lw_at lw_m3 88 rfl) rfl
theorem q614 : (Jvm.Cond.selects "BarnPictures$Tour" ({ cls := "BarnPictures$Tour", name := "peopleFor", desc := "(I)I" } : Jvm.MethodName) ({ cls := "BarnPictures$Tour", name := "peopleFor", desc := "(I)I" } : Jvm.MethodName)) ∈ lw_all := lw_g (lw_at lw_m3 89 rfl) rfl
theorem q615 : (Jvm.Cond.code ({ cls := "BarnPictures$Tour", name := "peopleFor", desc := "(I)I" } : Jvm.MethodName) prog_11_method_9_code (5 : Nat) (Option.some Jvm.ClassFile.FieldType.int)) ∈ lw_all := lw_g (lw_at lw_m3 90 rfl) rfl
theorem q616 : (Jvm.Cond.methodLink "BarnPictures$Tour" (99 : Nat) ({ cls := "BarnPictures$Reel", name := "isFresh", desc := "(I)Z" } : Jvm.MethodName)) ∈ lw_all := lw_g (lw_at lw_m3 91 rfl) rfl
theorem q620 : (Jvm.Cond.methodLink "BarnPictures$Tour" (106 : Nat) ({ cls := "java/lang/Math", name := "max", desc := "(II)I" } : Jvm.MethodName)) ∈ lw_all := lw_g (lw_at lw_m3 95 rfl) rfl
theorem q621 : (Jvm.Cond.methodLinkNest "BarnPictures$Tour" (112 : Nat) ({ cls := "BarnPictures", name := "seatsOf", desc := "(I)I" } : Jvm.MethodName) "BarnPictures") ∈ lw_tbl := lw_at lw_m3 96 rfl
theorem q624 : (Jvm.Cond.methodLink "BarnPictures$Tour" (168 : Nat) ({ cls := "BarnPictures$Tour", name := "play", desc := "(II)V" } : Jvm.MethodName)) ∈ lw_all := lw_g (lw_at lw_m3 99 rfl) rfl
theorem q625 : (Jvm.Cond.privateMethod ({ cls := "BarnPictures$Tour", name := "play", desc := "(II)V" } : Jvm.MethodName)) ∈ lw_tbl := lw_at lw_m3 100 rfl
theorem q626 : (Jvm.Cond.instanceMethod ({ cls := "BarnPictures$Tour", name := "play", desc := "(II)V" } : Jvm.MethodName)) ∈ lw_all := lw_g (lw_at lw_m3 101 rfl) rfl
theorem q627 : (Jvm.Cond.code ({ cls := "BarnPictures$Tour", name := "play", desc := "(II)V" } : Jvm.MethodName) prog_11_method_19_code (3 : Nat) (Option.none : Option Jvm.ClassFile.FieldType)) ∈ lw_all := lw_g (lw_at lw_m3 102 rfl) rfl
theorem q628 : (Jvm.Cond.methodLink "BarnPictures$Tour" (175 : Nat) ({ cls := "BarnPictures$Reel", name := "wears", desc := "(I)I" } : Jvm.MethodName)) ∈ lw_all := lw_g (lw_at lw_m3 103 rfl) rfl
theorem q632 : (Jvm.Cond.methodLink "BarnPictures$Tour" (178 : Nat) ({ cls := "BarnPictures$Reel", name := "isGone", desc := "()Z" } : Jvm.MethodName)) ∈ lw_all := lw_g (lw_at lw_m3 107 rfl) rfl
theorem q649 : (Jvm.Cond.instanceMethod ({ cls := "BarnPictures$Tour", name := "nextDay", desc := "()I" } : Jvm.MethodName)) ∈ lw_all := lw_g (lw_at lw_m3 124 rfl) rfl
theorem q650 : (Jvm.Cond.selects "BarnPictures$Tour" ({ cls := "BarnPictures$Tour", name := "nextDay", desc := "()I" } : Jvm.MethodName) ({ cls := "BarnPictures$Tour", name := "nextDay", desc := "()I" } : Jvm.MethodName)) ∈ lw_all := lw_g (lw_at lw_m3 125 rfl) rfl
theorem q651 : (Jvm.Cond.code ({ cls := "BarnPictures$Tour", name := "nextDay", desc := "()I" } : Jvm.MethodName) prog_11_method_20_code (1 : Nat) (Option.some Jvm.ClassFile.FieldType.int)) ∈ lw_all := lw_g (lw_at lw_m3 126 rfl) rfl
theorem q1074 : (Jvm.Cond.static ({ cls := "BarnPictures$Tour", name := "sum", desc := "([I)I" } : Jvm.MethodName)) ∈ lw_all := lw_g (lw_at lw_m5 69 rfl) rfl
theorem q1075 : (Jvm.Cond.code ({ cls := "BarnPictures$Tour", name := "sum", desc := "([I)I" } : Jvm.MethodName) prog_11_method_21_code (3 : Nat) (Option.some Jvm.ClassFile.FieldType.int)) ∈ lw_all := lw_g (lw_at lw_m5 70 rfl) rfl
theorem q1083 : (Jvm.Cond.instanceMethod ({ cls := "BarnPictures$Tour", name := "gone", desc := "()I" } : Jvm.MethodName)) ∈ lw_all := lw_g (lw_at lw_m5 78 rfl) rfl
theorem q1084 : (Jvm.Cond.selects "BarnPictures$Tour" ({ cls := "BarnPictures$Tour", name := "gone", desc := "()I" } : Jvm.MethodName) ({ cls := "BarnPictures$Tour", name := "gone", desc := "()I" } : Jvm.MethodName)) ∈ lw_all := lw_g (lw_at lw_m5 79 rfl) rfl
theorem q1085 : (Jvm.Cond.code ({ cls := "BarnPictures$Tour", name := "gone", desc := "()I" } : Jvm.MethodName) prog_11_method_6_code (3 : Nat) (Option.some Jvm.ClassFile.FieldType.int)) ∈ lw_all := lw_g (lw_at lw_m5 80 rfl) rfl
theorem q1385 : (Jvm.Cond.castable "BarnPictures$Tour" "java/lang/Object") ∈ lw_tbl := lw_at lw_m6 140 rfl
theorem in_X1 : ∀ w ∈ wsX10, w ∈ lw_all := lw_in wsX10 [176, 178, 180, 182, 184, 186, 188, 190, 192, 194, 196, 198, 200, 202] (by decide +kernel) (by decide +kernel)
/-! BarnPictures$Thing -/
set_option maxRecDepth 100000
def RX2 : String := "BarnPictures$Thing"
abbrev cX2_init : ByteArray := prog_10_method_1_code
def yX2_init : MethodName := ⟨RX2, "<init>", "()V"⟩
def dkwX2_init_0 : List UInt8 := [42, 183, 0, 3, 42, 18, 9, 181, 0, 10, 177]
abbrev dktX2_init_0 : List UInt8 := dkwX2_init_0 ++ []
theorem dksX2_init_0 : cX2_init.data.toList.drop 0 = dktX2_init_0 := by decide +kernel
theorem dX2_init_0 : decode cX2_init 0 = .ok (.aload_n 0, 1) := dk_42 (dk_at dksX2_init_0 0 rfl rfl)
theorem dX2_init_1 : decode cX2_init 1 = .ok (.invokespecial 3, 3) := dk_183 0 3 (dk_at dksX2_init_0 1 rfl rfl)
theorem dX2_init_4 : decode cX2_init 4 = .ok (.aload_n 0, 1) := dk_42 (dk_at dksX2_init_0 4 rfl rfl)
theorem dX2_init_5 : decode cX2_init 5 = .ok (.ldc 9, 2) := dk_18 9 (dk_at dksX2_init_0 5 rfl rfl)
theorem dX2_init_7 : decode cX2_init 7 = .ok (.putfield 10, 3) := dk_181 0 10 (dk_at dksX2_init_0 7 rfl rfl)
theorem dX2_init_10 : decode cX2_init 10 = .ok (.return_, 1) := dk_177 (dk_at dksX2_init_0 10 rfl rfl)
abbrev cX2_isInVan : ByteArray := prog_10_method_2_code
def yX2_isInVan : MethodName := ⟨RX2, "isInVan", "()Z"⟩
def dkwX2_isInVan_0 : List UInt8 := [42, 180, 0, 10, 18, 9, 160, 0, 7, 4, 167, 0, 4, 3, 172]
abbrev dktX2_isInVan_0 : List UInt8 := dkwX2_isInVan_0 ++ []
theorem dksX2_isInVan_0 : cX2_isInVan.data.toList.drop 0 = dktX2_isInVan_0 := by decide +kernel
theorem dX2_isInVan_0 : decode cX2_isInVan 0 = .ok (.aload_n 0, 1) := dk_42 (dk_at dksX2_isInVan_0 0 rfl rfl)
theorem dX2_isInVan_1 : decode cX2_isInVan 1 = .ok (.getfield 10, 3) := dk_180 0 10 (dk_at dksX2_isInVan_0 1 rfl rfl)
theorem dX2_isInVan_4 : decode cX2_isInVan 4 = .ok (.ldc 9, 2) := dk_18 9 (dk_at dksX2_isInVan_0 4 rfl rfl)
theorem dX2_isInVan_6 : decode cX2_isInVan 6 = .ok (.if_icmp .ne 7, 3) := dk_160 0 7 (dk_at dksX2_isInVan_0 6 rfl rfl)
theorem dX2_isInVan_9 : decode cX2_isInVan 9 = .ok (.iconst 1, 1) := dk_4 (dk_at dksX2_isInVan_0 9 rfl rfl)
theorem dX2_isInVan_10 : decode cX2_isInVan 10 = .ok (.goto 4, 3) := dk_167 0 4 (dk_at dksX2_isInVan_0 10 rfl rfl)
theorem dX2_isInVan_13 : decode cX2_isInVan 13 = .ok (.iconst 0, 1) := dk_3 (dk_at dksX2_isInVan_0 13 rfl rfl)
theorem dX2_isInVan_14 : decode cX2_isInVan 14 = .ok (.ireturn, 1) := dk_172 (dk_at dksX2_isInVan_0 14 rfl rfl)
abbrev cX2_moves : ByteArray := prog_10_method_3_code
def yX2_moves : MethodName := ⟨RX2, "moves", "(ZII)Z"⟩
def dkwX2_moves_3 : List UInt8 := [172]
abbrev dktX2_moves_3 : List UInt8 := dkwX2_moves_3 ++ []
def dkwX2_moves_2 : List UInt8 := [167, 0, 4, 3, 18, 25, 184, 0, 17, 42, 27, 153, 0, 8, 18, 9, 167, 0, 4, 28, 181, 0, 10, 4]
abbrev dktX2_moves_2 : List UInt8 := dkwX2_moves_2 ++ dktX2_moves_3
def dkwX2_moves_1 : List UInt8 := [184, 0, 17, 42, 182, 0, 21, 27, 160, 0, 5, 3, 172, 27, 153, 0, 7, 29, 158, 0, 7, 4]
abbrev dktX2_moves_1 : List UInt8 := dkwX2_moves_1 ++ dktX2_moves_2
def dkwX2_moves_0 : List UInt8 := [42, 180, 0, 10, 18, 9, 159, 0, 11, 42, 180, 0, 10, 28, 160, 0, 7, 4, 167, 0, 4, 3, 18, 16]
abbrev dktX2_moves_0 : List UInt8 := dkwX2_moves_0 ++ dktX2_moves_1
theorem dksX2_moves_0 : cX2_moves.data.toList.drop 0 = dktX2_moves_0 := by decide +kernel
theorem dksX2_moves_1 : cX2_moves.data.toList.drop 24 = dktX2_moves_1 := dk_seg dksX2_moves_0 24 rfl rfl
theorem dksX2_moves_2 : cX2_moves.data.toList.drop 46 = dktX2_moves_2 := dk_seg dksX2_moves_1 22 rfl rfl
theorem dksX2_moves_3 : cX2_moves.data.toList.drop 70 = dktX2_moves_3 := dk_seg dksX2_moves_2 24 rfl rfl
theorem dX2_moves_0 : decode cX2_moves 0 = .ok (.aload_n 0, 1) := dk_42 (dk_at dksX2_moves_0 0 rfl rfl)
theorem dX2_moves_1 : decode cX2_moves 1 = .ok (.getfield 10, 3) := dk_180 0 10 (dk_at dksX2_moves_0 1 rfl rfl)
theorem dX2_moves_4 : decode cX2_moves 4 = .ok (.ldc 9, 2) := dk_18 9 (dk_at dksX2_moves_0 4 rfl rfl)
theorem dX2_moves_6 : decode cX2_moves 6 = .ok (.if_icmp .eq 11, 3) := dk_159 0 11 (dk_at dksX2_moves_0 6 rfl rfl)
theorem dX2_moves_9 : decode cX2_moves 9 = .ok (.aload_n 0, 1) := dk_42 (dk_at dksX2_moves_0 9 rfl rfl)
theorem dX2_moves_10 : decode cX2_moves 10 = .ok (.getfield 10, 3) := dk_180 0 10 (dk_at dksX2_moves_0 10 rfl rfl)
theorem dX2_moves_13 : decode cX2_moves 13 = .ok (.iload_n 2, 1) := dk_28 (dk_at dksX2_moves_0 13 rfl rfl)
theorem dX2_moves_14 : decode cX2_moves 14 = .ok (.if_icmp .ne 7, 3) := dk_160 0 7 (dk_at dksX2_moves_0 14 rfl rfl)
theorem dX2_moves_17 : decode cX2_moves 17 = .ok (.iconst 1, 1) := dk_4 (dk_at dksX2_moves_0 17 rfl rfl)
theorem dX2_moves_18 : decode cX2_moves 18 = .ok (.goto 4, 3) := dk_167 0 4 (dk_at dksX2_moves_0 18 rfl rfl)
theorem dX2_moves_21 : decode cX2_moves 21 = .ok (.iconst 0, 1) := dk_3 (dk_at dksX2_moves_0 21 rfl rfl)
theorem dX2_moves_22 : decode cX2_moves 22 = .ok (.ldc 16, 2) := dk_18 16 (dk_at dksX2_moves_0 22 rfl rfl)
theorem dX2_moves_24 : decode cX2_moves 24 = .ok (.invokestatic 17, 3) := dk_184 0 17 (dk_at dksX2_moves_1 0 rfl rfl)
theorem dX2_moves_27 : decode cX2_moves 27 = .ok (.aload_n 0, 1) := dk_42 (dk_at dksX2_moves_1 3 rfl rfl)
theorem dX2_moves_28 : decode cX2_moves 28 = .ok (.invokevirtual 21, 3) := dk_182 0 21 (dk_at dksX2_moves_1 4 rfl rfl)
theorem dX2_moves_31 : decode cX2_moves 31 = .ok (.iload_n 1, 1) := dk_27 (dk_at dksX2_moves_1 7 rfl rfl)
theorem dX2_moves_32 : decode cX2_moves 32 = .ok (.if_icmp .ne 5, 3) := dk_160 0 5 (dk_at dksX2_moves_1 8 rfl rfl)
theorem dX2_moves_35 : decode cX2_moves 35 = .ok (.iconst 0, 1) := dk_3 (dk_at dksX2_moves_1 11 rfl rfl)
theorem dX2_moves_36 : decode cX2_moves 36 = .ok (.ireturn, 1) := dk_172 (dk_at dksX2_moves_1 12 rfl rfl)
theorem dX2_moves_37 : decode cX2_moves 37 = .ok (.iload_n 1, 1) := dk_27 (dk_at dksX2_moves_1 13 rfl rfl)
theorem dX2_moves_38 : decode cX2_moves 38 = .ok (.ifCond .eq 7, 3) := dk_153 0 7 (dk_at dksX2_moves_1 14 rfl rfl)
theorem dX2_moves_41 : decode cX2_moves 41 = .ok (.iload_n 3, 1) := dk_29 (dk_at dksX2_moves_1 17 rfl rfl)
theorem dX2_moves_42 : decode cX2_moves 42 = .ok (.ifCond .le 7, 3) := dk_158 0 7 (dk_at dksX2_moves_1 18 rfl rfl)
theorem dX2_moves_45 : decode cX2_moves 45 = .ok (.iconst 1, 1) := dk_4 (dk_at dksX2_moves_1 21 rfl rfl)
theorem dX2_moves_46 : decode cX2_moves 46 = .ok (.goto 4, 3) := dk_167 0 4 (dk_at dksX2_moves_2 0 rfl rfl)
theorem dX2_moves_49 : decode cX2_moves 49 = .ok (.iconst 0, 1) := dk_3 (dk_at dksX2_moves_2 3 rfl rfl)
theorem dX2_moves_50 : decode cX2_moves 50 = .ok (.ldc 25, 2) := dk_18 25 (dk_at dksX2_moves_2 4 rfl rfl)
theorem dX2_moves_52 : decode cX2_moves 52 = .ok (.invokestatic 17, 3) := dk_184 0 17 (dk_at dksX2_moves_2 6 rfl rfl)
theorem dX2_moves_55 : decode cX2_moves 55 = .ok (.aload_n 0, 1) := dk_42 (dk_at dksX2_moves_2 9 rfl rfl)
theorem dX2_moves_56 : decode cX2_moves 56 = .ok (.iload_n 1, 1) := dk_27 (dk_at dksX2_moves_2 10 rfl rfl)
theorem dX2_moves_57 : decode cX2_moves 57 = .ok (.ifCond .eq 8, 3) := dk_153 0 8 (dk_at dksX2_moves_2 11 rfl rfl)
theorem dX2_moves_60 : decode cX2_moves 60 = .ok (.ldc 9, 2) := dk_18 9 (dk_at dksX2_moves_2 14 rfl rfl)
theorem dX2_moves_62 : decode cX2_moves 62 = .ok (.goto 4, 3) := dk_167 0 4 (dk_at dksX2_moves_2 16 rfl rfl)
theorem dX2_moves_65 : decode cX2_moves 65 = .ok (.iload_n 2, 1) := dk_28 (dk_at dksX2_moves_2 19 rfl rfl)
theorem dX2_moves_66 : decode cX2_moves 66 = .ok (.putfield 10, 3) := dk_181 0 10 (dk_at dksX2_moves_2 20 rfl rfl)
theorem dX2_moves_69 : decode cX2_moves 69 = .ok (.iconst 1, 1) := dk_4 (dk_at dksX2_moves_2 23 rfl rfl)
theorem dX2_moves_70 : decode cX2_moves 70 = .ok (.ireturn, 1) := dk_172 (dk_at dksX2_moves_3 0 rfl rfl)
theorem q48 : (Jvm.Cond.initialized "BarnPictures$Thing") ∈ lw_all := lw_g (lw_at lw_m1 3 rfl) rfl
theorem q99 : (Jvm.Cond.instanceMethod ({ cls := "BarnPictures$Thing", name := "<init>", desc := "()V" } : Jvm.MethodName)) ∈ lw_all := lw_g (lw_at lw_m1 54 rfl) rfl
theorem q100 : (Jvm.Cond.code ({ cls := "BarnPictures$Thing", name := "<init>", desc := "()V" } : Jvm.MethodName) prog_10_method_1_code (1 : Nat) (Option.none : Option Jvm.ClassFile.FieldType)) ∈ lw_all := lw_g (lw_at lw_m1 55 rfl) rfl
theorem q101 : (Jvm.Cond.methodLink "BarnPictures$Thing" (3 : Nat) ({ cls := "java/lang/Object", name := "<init>", desc := "()V" } : Jvm.MethodName)) ∈ lw_all := lw_g (lw_at lw_m1 56 rfl) rfl
theorem q102 : (Jvm.Cond.constant "BarnPictures$Thing" (9 : Nat) (-10000005 : Int32)) ∈ lw_all := lw_g (lw_at lw_m1 57 rfl) rfl
theorem q115 : (Jvm.Cond.fieldLink "BarnPictures$Thing" (10 : Nat) "BarnPictures$Thing" "barn" "I") ∈ lw_all := lw_g (lw_at lw_m1 70 rfl) rfl
theorem q131 : (Jvm.Cond.soleField "BarnPictures$Thing" "barn") ∈ lw_all := lw_g (lw_at lw_m1 86 rfl) rfl
theorem q516 : (Jvm.Cond.declares ({ cls := "BarnPictures$Thing", name := "isInVan", desc := "()Z" } : Jvm.MethodName)) ∈ lw_tbl := lw_at lw_m2 231 rfl
theorem q518 : (Jvm.Cond.instanceMethod ({ cls := "BarnPictures$Thing", name := "isInVan", desc := "()Z" } : Jvm.MethodName)) ∈ lw_all := lw_g (lw_at lw_m2 233 rfl) rfl
theorem q519 : (Jvm.Cond.code ({ cls := "BarnPictures$Thing", name := "isInVan", desc := "()Z" } : Jvm.MethodName) prog_10_method_2_code (1 : Nat) (Option.some Jvm.ClassFile.FieldType.boolean)) ∈ lw_all := lw_g (lw_at lw_m2 234 rfl) rfl
theorem q521 : (Jvm.Cond.instanceMethod ({ cls := "BarnPictures$Thing", name := "moves", desc := "(ZII)Z" } : Jvm.MethodName)) ∈ lw_all := lw_g (lw_at lw_m2 236 rfl) rfl
theorem q522 : (Jvm.Cond.sameMethod "BarnPictures$Thing" "BarnPictures$Thing" "moves" "(ZII)Z") ∈ lw_all := lw_g (lw_at lw_m2 237 rfl) rfl
theorem q525 : (Jvm.Cond.code ({ cls := "BarnPictures$Thing", name := "moves", desc := "(ZII)Z" } : Jvm.MethodName) prog_10_method_3_code (4 : Nat) (Option.some Jvm.ClassFile.FieldType.boolean)) ∈ lw_all := lw_g (lw_at lw_m3 0 rfl) rfl
theorem q526 : (Jvm.Cond.constant "BarnPictures$Thing" (16 : Nat) (-10000004 : Int32)) ∈ lw_all := lw_g (lw_at lw_m3 1 rfl) rfl
theorem q527 : (Jvm.Cond.methodLinkNest "BarnPictures$Thing" (17 : Nat) ({ cls := "BarnPictures", name := "check", desc := "(ZI)V" } : Jvm.MethodName) "BarnPictures") ∈ lw_tbl := lw_at lw_m3 2 rfl
theorem q528 : (Jvm.Cond.methodLink "BarnPictures$Thing" (21 : Nat) ({ cls := "BarnPictures$Thing", name := "isInVan", desc := "()Z" } : Jvm.MethodName)) ∈ lw_all := lw_g (lw_at lw_m3 3 rfl) rfl
theorem q529 : (Jvm.Cond.constant "BarnPictures$Thing" (25 : Nat) (-10000003 : Int32)) ∈ lw_all := lw_g (lw_at lw_m3 4 rfl) rfl
theorem q1371 : (Jvm.Cond.sameMethod "BarnPictures$Thing" "BarnPictures$Thing" "isInVan" "()Z") ∈ lw_all := lw_g (lw_at lw_m6 126 rfl) rfl
/-! BarnPictures$Reel -/
set_option maxRecDepth 100000
def RX3 : String := "BarnPictures$Reel"
def TX3 : u_T := fun k => match k with
  | 0 => ("BarnPictures$Thing", "barn", "I", false)
  | 1 => ("BarnPictures$Reel", "number", "I", true)
  | 2 => ("BarnPictures$Reel", "minutes", "I", false)
  | 3 => ("BarnPictures$Reel", "wear", "I", false)
  | 4 => ("BarnPictures$Reel", "splices", "I", false)
  | _ => ("BarnPictures$Reel", "played", "I", false)
def tyX3 : Nat → FieldType := fun k => match k with
  | 0 => .int
  | 1 => .int
  | 2 => .int
  | 3 => .int
  | 4 => .int
  | _ => .int
abbrev wsX30 : List Cond := u_ws RX3 TX3 6
theorem nmX3 : ∀ a, a < 6 → ∀ b, b < 6 → a ≠ b → (TX3 a).2.1 ≠ (TX3 b).2.1 := by decide +kernel
theorem tyX3_ok : ∀ k, k < 6 → parseFieldDescriptor (TX3 k).2.2.1 = some (tyX3 k) := by decide +kernel
abbrev cX3_init : ByteArray := prog_6_method_1_code
def yX3_init : MethodName := ⟨RX3, "<init>", "(I)V"⟩
def dkwX3_init_0 : List UInt8 := [42, 183, 0, 3, 42, 27, 181, 0, 9, 42, 16, 8, 27, 96, 181, 0, 15, 177]
abbrev dktX3_init_0 : List UInt8 := dkwX3_init_0 ++ []
theorem dksX3_init_0 : cX3_init.data.toList.drop 0 = dktX3_init_0 := by decide +kernel
theorem dX3_init_0 : decode cX3_init 0 = .ok (.aload_n 0, 1) := dk_42 (dk_at dksX3_init_0 0 rfl rfl)
theorem dX3_init_1 : decode cX3_init 1 = .ok (.invokespecial 3, 3) := dk_183 0 3 (dk_at dksX3_init_0 1 rfl rfl)
theorem dX3_init_4 : decode cX3_init 4 = .ok (.aload_n 0, 1) := dk_42 (dk_at dksX3_init_0 4 rfl rfl)
theorem dX3_init_5 : decode cX3_init 5 = .ok (.iload_n 1, 1) := dk_27 (dk_at dksX3_init_0 5 rfl rfl)
theorem dX3_init_6 : decode cX3_init 6 = .ok (.putfield 9, 3) := dk_181 0 9 (dk_at dksX3_init_0 6 rfl rfl)
theorem dX3_init_9 : decode cX3_init 9 = .ok (.aload_n 0, 1) := dk_42 (dk_at dksX3_init_0 9 rfl rfl)
theorem dX3_init_10 : decode cX3_init 10 = .ok (.bipush 8, 2) := dk_16 8 (dk_at dksX3_init_0 10 rfl rfl)
theorem dX3_init_12 : decode cX3_init 12 = .ok (.iload_n 1, 1) := dk_27 (dk_at dksX3_init_0 12 rfl rfl)
theorem dX3_init_13 : decode cX3_init 13 = .ok (.iadd, 1) := dk_96 (dk_at dksX3_init_0 13 rfl rfl)
theorem dX3_init_14 : decode cX3_init 14 = .ok (.putfield 15, 3) := dk_181 0 15 (dk_at dksX3_init_0 14 rfl rfl)
theorem dX3_init_17 : decode cX3_init 17 = .ok (.return_, 1) := dk_177 (dk_at dksX3_init_0 17 rfl rfl)
abbrev cX3_copy : ByteArray := prog_6_method_2_code
def yX3_copy : MethodName := ⟨RX3, "copy", "()LBarnPictures$Reel;"⟩
def dkwX3_copy_2 : List UInt8 := [180, 0, 30, 181, 0, 30, 43, 176]
abbrev dktX3_copy_2 : List UInt8 := dkwX3_copy_2 ++ []
def dkwX3_copy_1 : List UInt8 := [180, 0, 15, 181, 0, 15, 43, 42, 180, 0, 24, 181, 0, 24, 43, 42, 180, 0, 27, 181, 0, 27, 43, 42]
abbrev dktX3_copy_1 : List UInt8 := dkwX3_copy_1 ++ dktX3_copy_2
def dkwX3_copy_0 : List UInt8 := [187, 0, 10, 89, 42, 180, 0, 9, 183, 0, 18, 76, 43, 42, 180, 0, 21, 181, 0, 21, 43, 42]
abbrev dktX3_copy_0 : List UInt8 := dkwX3_copy_0 ++ dktX3_copy_1
theorem dksX3_copy_0 : cX3_copy.data.toList.drop 0 = dktX3_copy_0 := by decide +kernel
theorem dksX3_copy_1 : cX3_copy.data.toList.drop 22 = dktX3_copy_1 := dk_seg dksX3_copy_0 22 rfl rfl
theorem dksX3_copy_2 : cX3_copy.data.toList.drop 46 = dktX3_copy_2 := dk_seg dksX3_copy_1 24 rfl rfl
theorem dX3_copy_0 : decode cX3_copy 0 = .ok (.new 10, 3) := dk_187 0 10 (dk_at dksX3_copy_0 0 rfl rfl)
theorem dX3_copy_3 : decode cX3_copy 3 = .ok (.dup, 1) := dk_89 (dk_at dksX3_copy_0 3 rfl rfl)
theorem dX3_copy_4 : decode cX3_copy 4 = .ok (.aload_n 0, 1) := dk_42 (dk_at dksX3_copy_0 4 rfl rfl)
theorem dX3_copy_5 : decode cX3_copy 5 = .ok (.getfield 9, 3) := dk_180 0 9 (dk_at dksX3_copy_0 5 rfl rfl)
theorem dX3_copy_8 : decode cX3_copy 8 = .ok (.invokespecial 18, 3) := dk_183 0 18 (dk_at dksX3_copy_0 8 rfl rfl)
theorem dX3_copy_11 : decode cX3_copy 11 = .ok (.astore_n 1, 1) := dk_76 (dk_at dksX3_copy_0 11 rfl rfl)
theorem dX3_copy_12 : decode cX3_copy 12 = .ok (.aload_n 1, 1) := dk_43 (dk_at dksX3_copy_0 12 rfl rfl)
theorem dX3_copy_13 : decode cX3_copy 13 = .ok (.aload_n 0, 1) := dk_42 (dk_at dksX3_copy_0 13 rfl rfl)
theorem dX3_copy_14 : decode cX3_copy 14 = .ok (.getfield 21, 3) := dk_180 0 21 (dk_at dksX3_copy_0 14 rfl rfl)
theorem dX3_copy_17 : decode cX3_copy 17 = .ok (.putfield 21, 3) := dk_181 0 21 (dk_at dksX3_copy_0 17 rfl rfl)
theorem dX3_copy_20 : decode cX3_copy 20 = .ok (.aload_n 1, 1) := dk_43 (dk_at dksX3_copy_0 20 rfl rfl)
theorem dX3_copy_21 : decode cX3_copy 21 = .ok (.aload_n 0, 1) := dk_42 (dk_at dksX3_copy_0 21 rfl rfl)
theorem dX3_copy_22 : decode cX3_copy 22 = .ok (.getfield 15, 3) := dk_180 0 15 (dk_at dksX3_copy_1 0 rfl rfl)
theorem dX3_copy_25 : decode cX3_copy 25 = .ok (.putfield 15, 3) := dk_181 0 15 (dk_at dksX3_copy_1 3 rfl rfl)
theorem dX3_copy_28 : decode cX3_copy 28 = .ok (.aload_n 1, 1) := dk_43 (dk_at dksX3_copy_1 6 rfl rfl)
theorem dX3_copy_29 : decode cX3_copy 29 = .ok (.aload_n 0, 1) := dk_42 (dk_at dksX3_copy_1 7 rfl rfl)
theorem dX3_copy_30 : decode cX3_copy 30 = .ok (.getfield 24, 3) := dk_180 0 24 (dk_at dksX3_copy_1 8 rfl rfl)
theorem dX3_copy_33 : decode cX3_copy 33 = .ok (.putfield 24, 3) := dk_181 0 24 (dk_at dksX3_copy_1 11 rfl rfl)
theorem dX3_copy_36 : decode cX3_copy 36 = .ok (.aload_n 1, 1) := dk_43 (dk_at dksX3_copy_1 14 rfl rfl)
theorem dX3_copy_37 : decode cX3_copy 37 = .ok (.aload_n 0, 1) := dk_42 (dk_at dksX3_copy_1 15 rfl rfl)
theorem dX3_copy_38 : decode cX3_copy 38 = .ok (.getfield 27, 3) := dk_180 0 27 (dk_at dksX3_copy_1 16 rfl rfl)
theorem dX3_copy_41 : decode cX3_copy 41 = .ok (.putfield 27, 3) := dk_181 0 27 (dk_at dksX3_copy_1 19 rfl rfl)
theorem dX3_copy_44 : decode cX3_copy 44 = .ok (.aload_n 1, 1) := dk_43 (dk_at dksX3_copy_1 22 rfl rfl)
theorem dX3_copy_45 : decode cX3_copy 45 = .ok (.aload_n 0, 1) := dk_42 (dk_at dksX3_copy_1 23 rfl rfl)
theorem dX3_copy_46 : decode cX3_copy 46 = .ok (.getfield 30, 3) := dk_180 0 30 (dk_at dksX3_copy_2 0 rfl rfl)
theorem dX3_copy_49 : decode cX3_copy 49 = .ok (.putfield 30, 3) := dk_181 0 30 (dk_at dksX3_copy_2 3 rfl rfl)
theorem dX3_copy_52 : decode cX3_copy 52 = .ok (.aload_n 1, 1) := dk_43 (dk_at dksX3_copy_2 6 rfl rfl)
theorem dX3_copy_53 : decode cX3_copy 53 = .ok (.areturn, 1) := dk_176 (dk_at dksX3_copy_2 7 rfl rfl)
abbrev cX3_renew : ByteArray := prog_6_method_6_code
def yX3_renew : MethodName := ⟨RX3, "renew", "()V"⟩
def dkwX3_renew_1 : List UInt8 := [181, 0, 30, 177]
abbrev dktX3_renew_1 : List UInt8 := dkwX3_renew_1 ++ []
def dkwX3_renew_0 : List UInt8 := [42, 16, 8, 42, 180, 0, 9, 96, 181, 0, 15, 42, 3, 181, 0, 24, 42, 3, 181, 0, 27, 42, 3]
abbrev dktX3_renew_0 : List UInt8 := dkwX3_renew_0 ++ dktX3_renew_1
theorem dksX3_renew_0 : cX3_renew.data.toList.drop 0 = dktX3_renew_0 := by decide +kernel
theorem dksX3_renew_1 : cX3_renew.data.toList.drop 23 = dktX3_renew_1 := dk_seg dksX3_renew_0 23 rfl rfl
theorem dX3_renew_0 : decode cX3_renew 0 = .ok (.aload_n 0, 1) := dk_42 (dk_at dksX3_renew_0 0 rfl rfl)
theorem dX3_renew_1 : decode cX3_renew 1 = .ok (.bipush 8, 2) := dk_16 8 (dk_at dksX3_renew_0 1 rfl rfl)
theorem dX3_renew_3 : decode cX3_renew 3 = .ok (.aload_n 0, 1) := dk_42 (dk_at dksX3_renew_0 3 rfl rfl)
theorem dX3_renew_4 : decode cX3_renew 4 = .ok (.getfield 9, 3) := dk_180 0 9 (dk_at dksX3_renew_0 4 rfl rfl)
theorem dX3_renew_7 : decode cX3_renew 7 = .ok (.iadd, 1) := dk_96 (dk_at dksX3_renew_0 7 rfl rfl)
theorem dX3_renew_8 : decode cX3_renew 8 = .ok (.putfield 15, 3) := dk_181 0 15 (dk_at dksX3_renew_0 8 rfl rfl)
theorem dX3_renew_11 : decode cX3_renew 11 = .ok (.aload_n 0, 1) := dk_42 (dk_at dksX3_renew_0 11 rfl rfl)
theorem dX3_renew_12 : decode cX3_renew 12 = .ok (.iconst 0, 1) := dk_3 (dk_at dksX3_renew_0 12 rfl rfl)
theorem dX3_renew_13 : decode cX3_renew 13 = .ok (.putfield 24, 3) := dk_181 0 24 (dk_at dksX3_renew_0 13 rfl rfl)
theorem dX3_renew_16 : decode cX3_renew 16 = .ok (.aload_n 0, 1) := dk_42 (dk_at dksX3_renew_0 16 rfl rfl)
theorem dX3_renew_17 : decode cX3_renew 17 = .ok (.iconst 0, 1) := dk_3 (dk_at dksX3_renew_0 17 rfl rfl)
theorem dX3_renew_18 : decode cX3_renew 18 = .ok (.putfield 27, 3) := dk_181 0 27 (dk_at dksX3_renew_0 18 rfl rfl)
theorem dX3_renew_21 : decode cX3_renew 21 = .ok (.aload_n 0, 1) := dk_42 (dk_at dksX3_renew_0 21 rfl rfl)
theorem dX3_renew_22 : decode cX3_renew 22 = .ok (.iconst 0, 1) := dk_3 (dk_at dksX3_renew_0 22 rfl rfl)
theorem dX3_renew_23 : decode cX3_renew 23 = .ok (.putfield 30, 3) := dk_181 0 30 (dk_at dksX3_renew_1 0 rfl rfl)
theorem dX3_renew_26 : decode cX3_renew 26 = .ok (.return_, 1) := dk_177 (dk_at dksX3_renew_1 3 rfl rfl)
abbrev cX3_isFresh : ByteArray := prog_6_method_3_code
def yX3_isFresh : MethodName := ⟨RX3, "isFresh", "(I)Z"⟩
def dkwX3_isFresh_0 : List UInt8 := [42, 180, 0, 30, 27, 122, 4, 126, 154, 0, 7, 4, 167, 0, 4, 3, 172]
abbrev dktX3_isFresh_0 : List UInt8 := dkwX3_isFresh_0 ++ []
theorem dksX3_isFresh_0 : cX3_isFresh.data.toList.drop 0 = dktX3_isFresh_0 := by decide +kernel
theorem dX3_isFresh_0 : decode cX3_isFresh 0 = .ok (.aload_n 0, 1) := dk_42 (dk_at dksX3_isFresh_0 0 rfl rfl)
theorem dX3_isFresh_1 : decode cX3_isFresh 1 = .ok (.getfield 30, 3) := dk_180 0 30 (dk_at dksX3_isFresh_0 1 rfl rfl)
theorem dX3_isFresh_4 : decode cX3_isFresh 4 = .ok (.iload_n 1, 1) := dk_27 (dk_at dksX3_isFresh_0 4 rfl rfl)
theorem dX3_isFresh_5 : decode cX3_isFresh 5 = .ok (.ishr, 1) := dk_122 (dk_at dksX3_isFresh_0 5 rfl rfl)
theorem dX3_isFresh_6 : decode cX3_isFresh 6 = .ok (.iconst 1, 1) := dk_4 (dk_at dksX3_isFresh_0 6 rfl rfl)
theorem dX3_isFresh_7 : decode cX3_isFresh 7 = .ok (.iand, 1) := dk_126 (dk_at dksX3_isFresh_0 7 rfl rfl)
theorem dX3_isFresh_8 : decode cX3_isFresh 8 = .ok (.ifCond .ne 7, 3) := dk_154 0 7 (dk_at dksX3_isFresh_0 8 rfl rfl)
theorem dX3_isFresh_11 : decode cX3_isFresh 11 = .ok (.iconst 1, 1) := dk_4 (dk_at dksX3_isFresh_0 11 rfl rfl)
theorem dX3_isFresh_12 : decode cX3_isFresh 12 = .ok (.goto 4, 3) := dk_167 0 4 (dk_at dksX3_isFresh_0 12 rfl rfl)
theorem dX3_isFresh_15 : decode cX3_isFresh 15 = .ok (.iconst 0, 1) := dk_3 (dk_at dksX3_isFresh_0 15 rfl rfl)
theorem dX3_isFresh_16 : decode cX3_isFresh 16 = .ok (.ireturn, 1) := dk_172 (dk_at dksX3_isFresh_0 16 rfl rfl)
abbrev cX3_wears : ByteArray := prog_6_method_5_code
def yX3_wears : MethodName := ⟨RX3, "wears", "(I)I"⟩
def dkwX3_wears_2 : List UInt8 := [42, 89, 180, 0, 27, 4, 96, 181, 0, 27, 167, 255, 216, 42, 180, 0, 27, 28, 100, 172]
abbrev dktX3_wears_2 : List UInt8 := dkwX3_wears_2 ++ []
def dkwX3_wears_1 : List UInt8 := [161, 0, 37, 42, 89, 180, 0, 24, 16, 20, 100, 181, 0, 24, 42, 89, 180, 0, 15, 4, 100, 181, 0, 15]
abbrev dktX3_wears_1 : List UInt8 := dkwX3_wears_1 ++ dktX3_wears_2
def dkwX3_wears_0 : List UInt8 := [42, 180, 0, 27, 61, 42, 89, 180, 0, 24, 8, 27, 96, 96, 181, 0, 24, 42, 180, 0, 24, 16, 40]
abbrev dktX3_wears_0 : List UInt8 := dkwX3_wears_0 ++ dktX3_wears_1
theorem dksX3_wears_0 : cX3_wears.data.toList.drop 0 = dktX3_wears_0 := by decide +kernel
theorem dksX3_wears_1 : cX3_wears.data.toList.drop 23 = dktX3_wears_1 := dk_seg dksX3_wears_0 23 rfl rfl
theorem dksX3_wears_2 : cX3_wears.data.toList.drop 47 = dktX3_wears_2 := dk_seg dksX3_wears_1 24 rfl rfl
theorem dX3_wears_0 : decode cX3_wears 0 = .ok (.aload_n 0, 1) := dk_42 (dk_at dksX3_wears_0 0 rfl rfl)
theorem dX3_wears_1 : decode cX3_wears 1 = .ok (.getfield 27, 3) := dk_180 0 27 (dk_at dksX3_wears_0 1 rfl rfl)
theorem dX3_wears_4 : decode cX3_wears 4 = .ok (.istore_n 2, 1) := dk_61 (dk_at dksX3_wears_0 4 rfl rfl)
theorem dX3_wears_5 : decode cX3_wears 5 = .ok (.aload_n 0, 1) := dk_42 (dk_at dksX3_wears_0 5 rfl rfl)
theorem dX3_wears_6 : decode cX3_wears 6 = .ok (.dup, 1) := dk_89 (dk_at dksX3_wears_0 6 rfl rfl)
theorem dX3_wears_7 : decode cX3_wears 7 = .ok (.getfield 24, 3) := dk_180 0 24 (dk_at dksX3_wears_0 7 rfl rfl)
theorem dX3_wears_10 : decode cX3_wears 10 = .ok (.iconst 5, 1) := dk_8 (dk_at dksX3_wears_0 10 rfl rfl)
theorem dX3_wears_11 : decode cX3_wears 11 = .ok (.iload_n 1, 1) := dk_27 (dk_at dksX3_wears_0 11 rfl rfl)
theorem dX3_wears_12 : decode cX3_wears 12 = .ok (.iadd, 1) := dk_96 (dk_at dksX3_wears_0 12 rfl rfl)
theorem dX3_wears_13 : decode cX3_wears 13 = .ok (.iadd, 1) := dk_96 (dk_at dksX3_wears_0 13 rfl rfl)
theorem dX3_wears_14 : decode cX3_wears 14 = .ok (.putfield 24, 3) := dk_181 0 24 (dk_at dksX3_wears_0 14 rfl rfl)
theorem dX3_wears_17 : decode cX3_wears 17 = .ok (.aload_n 0, 1) := dk_42 (dk_at dksX3_wears_0 17 rfl rfl)
theorem dX3_wears_18 : decode cX3_wears 18 = .ok (.getfield 24, 3) := dk_180 0 24 (dk_at dksX3_wears_0 18 rfl rfl)
theorem dX3_wears_21 : decode cX3_wears 21 = .ok (.bipush 40, 2) := dk_16 40 (dk_at dksX3_wears_0 21 rfl rfl)
theorem dX3_wears_23 : decode cX3_wears 23 = .ok (.if_icmp .lt 37, 3) := dk_161 0 37 (dk_at dksX3_wears_1 0 rfl rfl)
theorem dX3_wears_26 : decode cX3_wears 26 = .ok (.aload_n 0, 1) := dk_42 (dk_at dksX3_wears_1 3 rfl rfl)
theorem dX3_wears_27 : decode cX3_wears 27 = .ok (.dup, 1) := dk_89 (dk_at dksX3_wears_1 4 rfl rfl)
theorem dX3_wears_28 : decode cX3_wears 28 = .ok (.getfield 24, 3) := dk_180 0 24 (dk_at dksX3_wears_1 5 rfl rfl)
theorem dX3_wears_31 : decode cX3_wears 31 = .ok (.bipush 20, 2) := dk_16 20 (dk_at dksX3_wears_1 8 rfl rfl)
theorem dX3_wears_33 : decode cX3_wears 33 = .ok (.isub, 1) := dk_100 (dk_at dksX3_wears_1 10 rfl rfl)
theorem dX3_wears_34 : decode cX3_wears 34 = .ok (.putfield 24, 3) := dk_181 0 24 (dk_at dksX3_wears_1 11 rfl rfl)
theorem dX3_wears_37 : decode cX3_wears 37 = .ok (.aload_n 0, 1) := dk_42 (dk_at dksX3_wears_1 14 rfl rfl)
theorem dX3_wears_38 : decode cX3_wears 38 = .ok (.dup, 1) := dk_89 (dk_at dksX3_wears_1 15 rfl rfl)
theorem dX3_wears_39 : decode cX3_wears 39 = .ok (.getfield 15, 3) := dk_180 0 15 (dk_at dksX3_wears_1 16 rfl rfl)
theorem dX3_wears_42 : decode cX3_wears 42 = .ok (.iconst 1, 1) := dk_4 (dk_at dksX3_wears_1 19 rfl rfl)
theorem dX3_wears_43 : decode cX3_wears 43 = .ok (.isub, 1) := dk_100 (dk_at dksX3_wears_1 20 rfl rfl)
theorem dX3_wears_44 : decode cX3_wears 44 = .ok (.putfield 15, 3) := dk_181 0 15 (dk_at dksX3_wears_1 21 rfl rfl)
theorem dX3_wears_47 : decode cX3_wears 47 = .ok (.aload_n 0, 1) := dk_42 (dk_at dksX3_wears_2 0 rfl rfl)
theorem dX3_wears_48 : decode cX3_wears 48 = .ok (.dup, 1) := dk_89 (dk_at dksX3_wears_2 1 rfl rfl)
theorem dX3_wears_49 : decode cX3_wears 49 = .ok (.getfield 27, 3) := dk_180 0 27 (dk_at dksX3_wears_2 2 rfl rfl)
theorem dX3_wears_52 : decode cX3_wears 52 = .ok (.iconst 1, 1) := dk_4 (dk_at dksX3_wears_2 5 rfl rfl)
theorem dX3_wears_53 : decode cX3_wears 53 = .ok (.iadd, 1) := dk_96 (dk_at dksX3_wears_2 6 rfl rfl)
theorem dX3_wears_54 : decode cX3_wears 54 = .ok (.putfield 27, 3) := dk_181 0 27 (dk_at dksX3_wears_2 7 rfl rfl)
theorem dX3_wears_57 : decode cX3_wears 57 = .ok (.goto (-40), 3) := dk_167 255 216 (dk_at dksX3_wears_2 10 rfl rfl)
theorem dX3_wears_60 : decode cX3_wears 60 = .ok (.aload_n 0, 1) := dk_42 (dk_at dksX3_wears_2 13 rfl rfl)
theorem dX3_wears_61 : decode cX3_wears 61 = .ok (.getfield 27, 3) := dk_180 0 27 (dk_at dksX3_wears_2 14 rfl rfl)
theorem dX3_wears_64 : decode cX3_wears 64 = .ok (.iload_n 2, 1) := dk_28 (dk_at dksX3_wears_2 17 rfl rfl)
theorem dX3_wears_65 : decode cX3_wears 65 = .ok (.isub, 1) := dk_100 (dk_at dksX3_wears_2 18 rfl rfl)
theorem dX3_wears_66 : decode cX3_wears 66 = .ok (.ireturn, 1) := dk_172 (dk_at dksX3_wears_2 19 rfl rfl)
abbrev cX3_isGone : ByteArray := prog_6_method_4_code
def yX3_isGone : MethodName := ⟨RX3, "isGone", "()Z"⟩
def dkwX3_isGone_0 : List UInt8 := [42, 180, 0, 15, 6, 162, 0, 7, 4, 167, 0, 4, 3, 172]
abbrev dktX3_isGone_0 : List UInt8 := dkwX3_isGone_0 ++ []
theorem dksX3_isGone_0 : cX3_isGone.data.toList.drop 0 = dktX3_isGone_0 := by decide +kernel
theorem dX3_isGone_0 : decode cX3_isGone 0 = .ok (.aload_n 0, 1) := dk_42 (dk_at dksX3_isGone_0 0 rfl rfl)
theorem dX3_isGone_1 : decode cX3_isGone 1 = .ok (.getfield 15, 3) := dk_180 0 15 (dk_at dksX3_isGone_0 1 rfl rfl)
theorem dX3_isGone_4 : decode cX3_isGone 4 = .ok (.iconst 3, 1) := dk_6 (dk_at dksX3_isGone_0 4 rfl rfl)
theorem dX3_isGone_5 : decode cX3_isGone 5 = .ok (.if_icmp .ge 7, 3) := dk_162 0 7 (dk_at dksX3_isGone_0 5 rfl rfl)
theorem dX3_isGone_8 : decode cX3_isGone 8 = .ok (.iconst 1, 1) := dk_4 (dk_at dksX3_isGone_0 8 rfl rfl)
theorem dX3_isGone_9 : decode cX3_isGone 9 = .ok (.goto 4, 3) := dk_167 0 4 (dk_at dksX3_isGone_0 9 rfl rfl)
theorem dX3_isGone_12 : decode cX3_isGone 12 = .ok (.iconst 0, 1) := dk_3 (dk_at dksX3_isGone_0 12 rfl rfl)
theorem dX3_isGone_13 : decode cX3_isGone 13 = .ok (.ireturn, 1) := dk_172 (dk_at dksX3_isGone_0 13 rfl rfl)
abbrev cX3_bears : ByteArray := prog_6_method_7_code
def yX3_bears : MethodName := ⟨RX3, "bears", "()I"⟩
def dkwX3_bears_1 : List UInt8 := [167, 255, 240, 28, 172]
abbrev dktX3_bears_1 : List UInt8 := dkwX3_bears_1 ++ []
def dkwX3_bears_0 : List UInt8 := [42, 182, 0, 33, 76, 3, 61, 43, 182, 0, 37, 154, 0, 15, 43, 3, 182, 0, 41, 87, 132, 2, 1]
abbrev dktX3_bears_0 : List UInt8 := dkwX3_bears_0 ++ dktX3_bears_1
theorem dksX3_bears_0 : cX3_bears.data.toList.drop 0 = dktX3_bears_0 := by decide +kernel
theorem dksX3_bears_1 : cX3_bears.data.toList.drop 23 = dktX3_bears_1 := dk_seg dksX3_bears_0 23 rfl rfl
theorem dX3_bears_0 : decode cX3_bears 0 = .ok (.aload_n 0, 1) := dk_42 (dk_at dksX3_bears_0 0 rfl rfl)
theorem dX3_bears_1 : decode cX3_bears 1 = .ok (.invokevirtual 33, 3) := dk_182 0 33 (dk_at dksX3_bears_0 1 rfl rfl)
theorem dX3_bears_4 : decode cX3_bears 4 = .ok (.astore_n 1, 1) := dk_76 (dk_at dksX3_bears_0 4 rfl rfl)
theorem dX3_bears_5 : decode cX3_bears 5 = .ok (.iconst 0, 1) := dk_3 (dk_at dksX3_bears_0 5 rfl rfl)
theorem dX3_bears_6 : decode cX3_bears 6 = .ok (.istore_n 2, 1) := dk_61 (dk_at dksX3_bears_0 6 rfl rfl)
theorem dX3_bears_7 : decode cX3_bears 7 = .ok (.aload_n 1, 1) := dk_43 (dk_at dksX3_bears_0 7 rfl rfl)
theorem dX3_bears_8 : decode cX3_bears 8 = .ok (.invokevirtual 37, 3) := dk_182 0 37 (dk_at dksX3_bears_0 8 rfl rfl)
theorem dX3_bears_11 : decode cX3_bears 11 = .ok (.ifCond .ne 15, 3) := dk_154 0 15 (dk_at dksX3_bears_0 11 rfl rfl)
theorem dX3_bears_14 : decode cX3_bears 14 = .ok (.aload_n 1, 1) := dk_43 (dk_at dksX3_bears_0 14 rfl rfl)
theorem dX3_bears_15 : decode cX3_bears 15 = .ok (.iconst 0, 1) := dk_3 (dk_at dksX3_bears_0 15 rfl rfl)
theorem dX3_bears_16 : decode cX3_bears 16 = .ok (.invokevirtual 41, 3) := dk_182 0 41 (dk_at dksX3_bears_0 16 rfl rfl)
theorem dX3_bears_19 : decode cX3_bears 19 = .ok (.pop, 1) := dk_87 (dk_at dksX3_bears_0 19 rfl rfl)
theorem dX3_bears_20 : decode cX3_bears 20 = .ok (.iinc 2 1, 3) := dk_132 2 1 (dk_at dksX3_bears_0 20 rfl rfl)
theorem dX3_bears_23 : decode cX3_bears 23 = .ok (.goto (-16), 3) := dk_167 255 240 (dk_at dksX3_bears_1 0 rfl rfl)
theorem dX3_bears_26 : decode cX3_bears 26 = .ok (.iload_n 2, 1) := dk_28 (dk_at dksX3_bears_1 3 rfl rfl)
theorem dX3_bears_27 : decode cX3_bears 27 = .ok (.ireturn, 1) := dk_172 (dk_at dksX3_bears_1 4 rfl rfl)
theorem q49 : (Jvm.Cond.initialized "BarnPictures$Reel") ∈ lw_all := lw_g (lw_at lw_m1 4 rfl) rfl
theorem q94 : (Jvm.Cond.instantiable "BarnPictures$Reel" (6 : Nat)) ∈ lw_all := lw_g (lw_at lw_m1 49 rfl) rfl
theorem q96 : (Jvm.Cond.instanceMethod ({ cls := "BarnPictures$Reel", name := "<init>", desc := "(I)V" } : Jvm.MethodName)) ∈ lw_all := lw_g (lw_at lw_m1 51 rfl) rfl
theorem q97 : (Jvm.Cond.code ({ cls := "BarnPictures$Reel", name := "<init>", desc := "(I)V" } : Jvm.MethodName) prog_6_method_1_code (2 : Nat) (Option.none : Option Jvm.ClassFile.FieldType)) ∈ lw_all := lw_g (lw_at lw_m1 52 rfl) rfl
theorem q98 : (Jvm.Cond.methodLinkNest "BarnPictures$Reel" (3 : Nat) ({ cls := "BarnPictures$Thing", name := "<init>", desc := "()V" } : Jvm.MethodName) "BarnPictures") ∈ lw_tbl := lw_at lw_m1 53 rfl
theorem q103 : (Jvm.Cond.fieldLink "BarnPictures$Reel" (9 : Nat) "BarnPictures$Reel" "number" "I") ∈ lw_all := lw_g (lw_at lw_m1 58 rfl) rfl
theorem q104 : (Jvm.Cond.fieldLink "BarnPictures$Reel" (15 : Nat) "BarnPictures$Reel" "minutes" "I") ∈ lw_all := lw_g (lw_at lw_m1 59 rfl) rfl
theorem q107 : (Jvm.Cond.fieldLink "BarnPictures$Reel" (24 : Nat) "BarnPictures$Reel" "wear" "I") ∈ lw_all := lw_g (lw_at lw_m1 62 rfl) rfl
theorem q110 : (Jvm.Cond.fieldLink "BarnPictures$Reel" (27 : Nat) "BarnPictures$Reel" "splices" "I") ∈ lw_all := lw_g (lw_at lw_m1 65 rfl) rfl
theorem q112 : (Jvm.Cond.fieldLink "BarnPictures$Reel" (30 : Nat) "BarnPictures$Reel" "played" "I") ∈ lw_all := lw_g (lw_at lw_m1 67 rfl) rfl
theorem q117 : (Jvm.Cond.fieldLinkNest "BarnPictures$Reel" (21 : Nat) "BarnPictures$Thing" "barn" "I" "BarnPictures") ∈ lw_tbl := lw_at lw_m1 72 rfl
theorem q120 : (Jvm.Cond.laysFinal "BarnPictures$Reel" "BarnPictures$Reel" "number" "I") ∈ lw_all := lw_g (lw_at lw_m1 75 rfl) rfl
theorem q121 : (Jvm.Cond.soleField "BarnPictures$Reel" "number") ∈ lw_all := lw_g (lw_at lw_m1 76 rfl) rfl
theorem q122 : (Jvm.Cond.lays "BarnPictures$Reel" "BarnPictures$Reel" "minutes" "I") ∈ lw_all := lw_g (lw_at lw_m1 77 rfl) rfl
theorem q123 : (Jvm.Cond.soleField "BarnPictures$Reel" "minutes") ∈ lw_all := lw_g (lw_at lw_m1 78 rfl) rfl
theorem q124 : (Jvm.Cond.lays "BarnPictures$Reel" "BarnPictures$Reel" "wear" "I") ∈ lw_all := lw_g (lw_at lw_m1 79 rfl) rfl
theorem q125 : (Jvm.Cond.soleField "BarnPictures$Reel" "wear") ∈ lw_all := lw_g (lw_at lw_m1 80 rfl) rfl
theorem q126 : (Jvm.Cond.lays "BarnPictures$Reel" "BarnPictures$Reel" "splices" "I") ∈ lw_all := lw_g (lw_at lw_m1 81 rfl) rfl
theorem q127 : (Jvm.Cond.soleField "BarnPictures$Reel" "splices") ∈ lw_all := lw_g (lw_at lw_m1 82 rfl) rfl
theorem q128 : (Jvm.Cond.lays "BarnPictures$Reel" "BarnPictures$Reel" "played" "I") ∈ lw_all := lw_g (lw_at lw_m1 83 rfl) rfl
theorem q129 : (Jvm.Cond.soleField "BarnPictures$Reel" "played") ∈ lw_all := lw_g (lw_at lw_m1 84 rfl) rfl
theorem q130 : (Jvm.Cond.lays "BarnPictures$Reel" "BarnPictures$Thing" "barn" "I") ∈ lw_all := lw_g (lw_at lw_m1 85 rfl) rfl
theorem q132 : (Jvm.Cond.superclass "BarnPictures$Reel" "BarnPictures$Thing") ∈ lw_all := lw_g (lw_at lw_m1 87 rfl) rfl
theorem q288 : (Jvm.Cond.instanceMethod ({ cls := "BarnPictures$Reel", name := "copy", desc := "()LBarnPictures$Reel;" } : Jvm.MethodName)) ∈ lw_all := lw_g (lw_at lw_m2 3 rfl) rfl
theorem q289 : (Jvm.Cond.selects "BarnPictures$Reel" ({ cls := "BarnPictures$Reel", name := "copy", desc := "()LBarnPictures$Reel;" } : Jvm.MethodName) ({ cls := "BarnPictures$Reel", name := "copy", desc := "()LBarnPictures$Reel;" } : Jvm.MethodName)) ∈ lw_all := lw_g (lw_at lw_m2 4 rfl) rfl
theorem q290 : (Jvm.Cond.code ({ cls := "BarnPictures$Reel", name := "copy", desc := "()LBarnPictures$Reel;" } : Jvm.MethodName) prog_6_method_2_code (2 : Nat) (Option.some (Jvm.ClassFile.FieldType.object "BarnPictures$Reel"))) ∈ lw_all := lw_g (lw_at lw_m2 5 rfl) rfl
theorem q291 : (Jvm.Cond.classLink "BarnPictures$Reel" (10 : Nat) "BarnPictures$Reel") ∈ lw_all := lw_g (lw_at lw_m2 6 rfl) rfl
theorem q292 : (Jvm.Cond.methodLink "BarnPictures$Reel" (18 : Nat) ({ cls := "BarnPictures$Reel", name := "<init>", desc := "(I)V" } : Jvm.MethodName)) ∈ lw_all := lw_g (lw_at lw_m2 7 rfl) rfl
theorem q465 : (Jvm.Cond.selects "BarnPictures$Reel" ({ cls := "java/lang/Object", name := "getClass", desc := "()Ljava/lang/Class;" } : Jvm.MethodName) ({ cls := "java/lang/Object", name := "getClass", desc := "()Ljava/lang/Class;" } : Jvm.MethodName)) ∈ lw_all := lw_g (lw_at lw_m2 180 rfl) rfl
theorem q524 : (Jvm.Cond.selects "BarnPictures$Reel" ({ cls := "BarnPictures$Thing", name := "moves", desc := "(ZII)Z" } : Jvm.MethodName) ({ cls := "BarnPictures$Thing", name := "moves", desc := "(ZII)Z" } : Jvm.MethodName)) ∈ lw_all := lw_g (lw_at lw_m2 239 rfl) rfl
theorem q558 : (Jvm.Cond.sameMethod "BarnPictures$Reel" "BarnPictures$Thing" "isInVan" "()Z") ∈ lw_all := lw_g (lw_at lw_m3 33 rfl) rfl
theorem q559 : (Jvm.Cond.selects "BarnPictures$Reel" ({ cls := "BarnPictures$Reel", name := "isInVan", desc := "()Z" } : Jvm.MethodName) ({ cls := "BarnPictures$Thing", name := "isInVan", desc := "()Z" } : Jvm.MethodName)) ∈ lw_all := lw_g (lw_at lw_m3 34 rfl) rfl
theorem q561 : (Jvm.Cond.instanceMethod ({ cls := "BarnPictures$Reel", name := "renew", desc := "()V" } : Jvm.MethodName)) ∈ lw_all := lw_g (lw_at lw_m3 36 rfl) rfl
theorem q562 : (Jvm.Cond.selects "BarnPictures$Reel" ({ cls := "BarnPictures$Reel", name := "renew", desc := "()V" } : Jvm.MethodName) ({ cls := "BarnPictures$Reel", name := "renew", desc := "()V" } : Jvm.MethodName)) ∈ lw_all := lw_g (lw_at lw_m3 37 rfl) rfl
theorem q563 : (Jvm.Cond.code ({ cls := "BarnPictures$Reel", name := "renew", desc := "()V" } : Jvm.MethodName) prog_6_method_6_code (1 : Nat) (Option.none : Option Jvm.ClassFile.FieldType)) ∈ lw_all := lw_g (lw_at lw_m3 38 rfl) rfl
theorem q617 : (Jvm.Cond.instanceMethod ({ cls := "BarnPictures$Reel", name := "isFresh", desc := "(I)Z" } : Jvm.MethodName)) ∈ lw_all := lw_g (lw_at lw_m3 92 rfl) rfl
theorem q618 : (Jvm.Cond.selects "BarnPictures$Reel" ({ cls := "BarnPictures$Reel", name := "isFresh", desc := "(I)Z" } : Jvm.MethodName) ({ cls := "BarnPictures$Reel", name := "isFresh", desc := "(I)Z" } : Jvm.MethodName)) ∈ lw_all := lw_g (lw_at lw_m3 93 rfl) rfl
theorem q619 : (Jvm.Cond.code ({ cls := "BarnPictures$Reel", name := "isFresh", desc := "(I)Z" } : Jvm.MethodName) prog_6_method_3_code (2 : Nat) (Option.some Jvm.ClassFile.FieldType.boolean)) ∈ lw_all := lw_g (lw_at lw_m3 94 rfl) rfl
theorem q629 : (Jvm.Cond.instanceMethod ({ cls := "BarnPictures$Reel", name := "wears", desc := "(I)I" } : Jvm.MethodName)) ∈ lw_all := lw_g (lw_at lw_m3 104 rfl) rfl
theorem q630 : (Jvm.Cond.selects "BarnPictures$Reel" ({ cls := "BarnPictures$Reel", name := "wears", desc := "(I)I" } : Jvm.MethodName) ({ cls := "BarnPictures$Reel", name := "wears", desc := "(I)I" } : Jvm.MethodName)) ∈ lw_all := lw_g (lw_at lw_m3 105 rfl) rfl
theorem q631 : (Jvm.Cond.code ({ cls := "BarnPictures$Reel", name := "wears", desc := "(I)I" } : Jvm.MethodName) prog_6_method_5_code (3 : Nat) (Option.some Jvm.ClassFile.FieldType.int)) ∈ lw_all := lw_g (lw_at lw_m3 106 rfl) rfl
theorem q633 : (Jvm.Cond.instanceMethod ({ cls := "BarnPictures$Reel", name := "isGone", desc := "()Z" } : Jvm.MethodName)) ∈ lw_all := lw_g (lw_at lw_m3 108 rfl) rfl
theorem q634 : (Jvm.Cond.selects "BarnPictures$Reel" ({ cls := "BarnPictures$Reel", name := "isGone", desc := "()Z" } : Jvm.MethodName) ({ cls := "BarnPictures$Reel", name := "isGone", desc := "()Z" } : Jvm.MethodName)) ∈ lw_all := lw_g (lw_at lw_m3 109 rfl) rfl
theorem q635 : (Jvm.Cond.code ({ cls := "BarnPictures$Reel", name := "isGone", desc := "()Z" } : Jvm.MethodName) prog_6_method_4_code (1 : Nat) (Option.some Jvm.ClassFile.FieldType.boolean)) ∈ lw_all := lw_g (lw_at lw_m3 110 rfl) rfl
theorem q1038 : (Jvm.Cond.instanceMethod ({ cls := "BarnPictures$Reel", name := "bears", desc := "()I" } : Jvm.MethodName)) ∈ lw_all := lw_g (lw_at lw_m5 33 rfl) rfl
theorem q1039 : (Jvm.Cond.selects "BarnPictures$Reel" ({ cls := "BarnPictures$Reel", name := "bears", desc := "()I" } : Jvm.MethodName) ({ cls := "BarnPictures$Reel", name := "bears", desc := "()I" } : Jvm.MethodName)) ∈ lw_all := lw_g (lw_at lw_m5 34 rfl) rfl
theorem q1040 : (Jvm.Cond.code ({ cls := "BarnPictures$Reel", name := "bears", desc := "()I" } : Jvm.MethodName) prog_6_method_7_code (3 : Nat) (Option.some Jvm.ClassFile.FieldType.int)) ∈ lw_all := lw_g (lw_at lw_m5 35 rfl) rfl
theorem q1041 : (Jvm.Cond.methodLink "BarnPictures$Reel" (33 : Nat) ({ cls := "BarnPictures$Reel", name := "copy", desc := "()LBarnPictures$Reel;" } : Jvm.MethodName)) ∈ lw_all := lw_g (lw_at lw_m5 36 rfl) rfl
theorem q1042 : (Jvm.Cond.methodLink "BarnPictures$Reel" (37 : Nat) ({ cls := "BarnPictures$Reel", name := "isGone", desc := "()Z" } : Jvm.MethodName)) ∈ lw_all := lw_g (lw_at lw_m5 37 rfl) rfl
theorem q1043 : (Jvm.Cond.methodLink "BarnPictures$Reel" (41 : Nat) ({ cls := "BarnPictures$Reel", name := "wears", desc := "(I)I" } : Jvm.MethodName)) ∈ lw_all := lw_g (lw_at lw_m5 38 rfl) rfl
theorem q1373 : (Jvm.Cond.selects "BarnPictures$Reel" ({ cls := "BarnPictures$Thing", name := "isInVan", desc := "()Z" } : Jvm.MethodName) ({ cls := "BarnPictures$Thing", name := "isInVan", desc := "()Z" } : Jvm.MethodName)) ∈ lw_all := lw_g (lw_at lw_m6 128 rfl) rfl
theorem q1382 : (Jvm.Cond.castable "BarnPictures$Reel" "java/lang/Object") ∈ lw_tbl := lw_at lw_m6 137 rfl
theorem in_X3 : ∀ w ∈ wsX30, w ∈ lw_all := lw_in wsX30 [130, 120, 122, 124, 126, 128] (by decide +kernel) (by decide +kernel)
/-! BarnPictures$Generator -/
set_option maxRecDepth 100000
def RX4 : String := "BarnPictures$Generator"
def TX4 : u_T := fun k => match k with
  | 0 => ("BarnPictures$Thing", "barn", "I", false)
  | _ => ("BarnPictures$Generator", "minutes", "I", false)
def tyX4 : Nat → FieldType := fun k => match k with
  | 0 => .int
  | _ => .int
abbrev wsX40 : List Cond := u_ws RX4 TX4 2
theorem nmX4 : ∀ a, a < 2 → ∀ b, b < 2 → a ≠ b → (TX4 a).2.1 ≠ (TX4 b).2.1 := by decide +kernel
theorem tyX4_ok : ∀ k, k < 2 → parseFieldDescriptor (TX4 k).2.2.1 = some (tyX4 k) := by decide +kernel
abbrev cX4_init : ByteArray := prog_3_method_1_code
def yX4_init : MethodName := ⟨RX4, "<init>", "()V"⟩
def dkwX4_init_0 : List UInt8 := [42, 183, 0, 3, 42, 16, 60, 181, 0, 9, 177]
abbrev dktX4_init_0 : List UInt8 := dkwX4_init_0 ++ []
theorem dksX4_init_0 : cX4_init.data.toList.drop 0 = dktX4_init_0 := by decide +kernel
theorem dX4_init_0 : decode cX4_init 0 = .ok (.aload_n 0, 1) := dk_42 (dk_at dksX4_init_0 0 rfl rfl)
theorem dX4_init_1 : decode cX4_init 1 = .ok (.invokespecial 3, 3) := dk_183 0 3 (dk_at dksX4_init_0 1 rfl rfl)
theorem dX4_init_4 : decode cX4_init 4 = .ok (.aload_n 0, 1) := dk_42 (dk_at dksX4_init_0 4 rfl rfl)
theorem dX4_init_5 : decode cX4_init 5 = .ok (.bipush 60, 2) := dk_16 60 (dk_at dksX4_init_0 5 rfl rfl)
theorem dX4_init_7 : decode cX4_init 7 = .ok (.putfield 9, 3) := dk_181 0 9 (dk_at dksX4_init_0 7 rfl rfl)
theorem dX4_init_10 : decode cX4_init 10 = .ok (.return_, 1) := dk_177 (dk_at dksX4_init_0 10 rfl rfl)
abbrev cX4_copy : ByteArray := prog_3_method_2_code
def yX4_copy : MethodName := ⟨RX4, "copy", "()LBarnPictures$Generator;"⟩
def dkwX4_copy_1 : List UInt8 := [43, 176]
abbrev dktX4_copy_1 : List UInt8 := dkwX4_copy_1 ++ []
def dkwX4_copy_0 : List UInt8 := [187, 0, 10, 89, 183, 0, 15, 76, 43, 42, 180, 0, 16, 181, 0, 16, 43, 42, 180, 0, 9, 181, 0, 9]
abbrev dktX4_copy_0 : List UInt8 := dkwX4_copy_0 ++ dktX4_copy_1
theorem dksX4_copy_0 : cX4_copy.data.toList.drop 0 = dktX4_copy_0 := by decide +kernel
theorem dksX4_copy_1 : cX4_copy.data.toList.drop 24 = dktX4_copy_1 := dk_seg dksX4_copy_0 24 rfl rfl
theorem dX4_copy_0 : decode cX4_copy 0 = .ok (.new 10, 3) := dk_187 0 10 (dk_at dksX4_copy_0 0 rfl rfl)
theorem dX4_copy_3 : decode cX4_copy 3 = .ok (.dup, 1) := dk_89 (dk_at dksX4_copy_0 3 rfl rfl)
theorem dX4_copy_4 : decode cX4_copy 4 = .ok (.invokespecial 15, 3) := dk_183 0 15 (dk_at dksX4_copy_0 4 rfl rfl)
theorem dX4_copy_7 : decode cX4_copy 7 = .ok (.astore_n 1, 1) := dk_76 (dk_at dksX4_copy_0 7 rfl rfl)
theorem dX4_copy_8 : decode cX4_copy 8 = .ok (.aload_n 1, 1) := dk_43 (dk_at dksX4_copy_0 8 rfl rfl)
theorem dX4_copy_9 : decode cX4_copy 9 = .ok (.aload_n 0, 1) := dk_42 (dk_at dksX4_copy_0 9 rfl rfl)
theorem dX4_copy_10 : decode cX4_copy 10 = .ok (.getfield 16, 3) := dk_180 0 16 (dk_at dksX4_copy_0 10 rfl rfl)
theorem dX4_copy_13 : decode cX4_copy 13 = .ok (.putfield 16, 3) := dk_181 0 16 (dk_at dksX4_copy_0 13 rfl rfl)
theorem dX4_copy_16 : decode cX4_copy 16 = .ok (.aload_n 1, 1) := dk_43 (dk_at dksX4_copy_0 16 rfl rfl)
theorem dX4_copy_17 : decode cX4_copy 17 = .ok (.aload_n 0, 1) := dk_42 (dk_at dksX4_copy_0 17 rfl rfl)
theorem dX4_copy_18 : decode cX4_copy 18 = .ok (.getfield 9, 3) := dk_180 0 9 (dk_at dksX4_copy_0 18 rfl rfl)
theorem dX4_copy_21 : decode cX4_copy 21 = .ok (.putfield 9, 3) := dk_181 0 9 (dk_at dksX4_copy_0 21 rfl rfl)
theorem dX4_copy_24 : decode cX4_copy 24 = .ok (.aload_n 1, 1) := dk_43 (dk_at dksX4_copy_1 0 rfl rfl)
theorem dX4_copy_25 : decode cX4_copy 25 = .ok (.areturn, 1) := dk_176 (dk_at dksX4_copy_1 1 rfl rfl)
theorem q50 : (Jvm.Cond.initialized "BarnPictures$Generator") ∈ lw_all := lw_g (lw_at lw_m1 5 rfl) rfl
theorem q116 : (Jvm.Cond.fieldLinkNest "BarnPictures$Generator" (16 : Nat) "BarnPictures$Thing" "barn" "I" "BarnPictures") ∈ lw_tbl := lw_at lw_m1 71 rfl
theorem q134 : (Jvm.Cond.instantiable "BarnPictures$Generator" (2 : Nat)) ∈ lw_all := lw_g (lw_at lw_m1 89 rfl) rfl
theorem q136 : (Jvm.Cond.instanceMethod ({ cls := "BarnPictures$Generator", name := "<init>", desc := "()V" } : Jvm.MethodName)) ∈ lw_all := lw_g (lw_at lw_m1 91 rfl) rfl
theorem q137 : (Jvm.Cond.code ({ cls := "BarnPictures$Generator", name := "<init>", desc := "()V" } : Jvm.MethodName) prog_3_method_1_code (1 : Nat) (Option.none : Option Jvm.ClassFile.FieldType)) ∈ lw_all := lw_g (lw_at lw_m1 92 rfl) rfl
theorem q138 : (Jvm.Cond.methodLinkNest "BarnPictures$Generator" (3 : Nat) ({ cls := "BarnPictures$Thing", name := "<init>", desc := "()V" } : Jvm.MethodName) "BarnPictures") ∈ lw_tbl := lw_at lw_m1 93 rfl
theorem q139 : (Jvm.Cond.fieldLink "BarnPictures$Generator" (9 : Nat) "BarnPictures$Generator" "minutes" "I") ∈ lw_all := lw_g (lw_at lw_m1 94 rfl) rfl
theorem q142 : (Jvm.Cond.lays "BarnPictures$Generator" "BarnPictures$Generator" "minutes" "I") ∈ lw_all := lw_g (lw_at lw_m1 97 rfl) rfl
theorem q143 : (Jvm.Cond.soleField "BarnPictures$Generator" "minutes") ∈ lw_all := lw_g (lw_at lw_m1 98 rfl) rfl
theorem q144 : (Jvm.Cond.lays "BarnPictures$Generator" "BarnPictures$Thing" "barn" "I") ∈ lw_all := lw_g (lw_at lw_m1 99 rfl) rfl
theorem q145 : (Jvm.Cond.superclass "BarnPictures$Generator" "BarnPictures$Thing") ∈ lw_all := lw_g (lw_at lw_m1 100 rfl) rfl
theorem q294 : (Jvm.Cond.instanceMethod ({ cls := "BarnPictures$Generator", name := "copy", desc := "()LBarnPictures$Generator;" } : Jvm.MethodName)) ∈ lw_all := lw_g (lw_at lw_m2 9 rfl) rfl
theorem q295 : (Jvm.Cond.selects "BarnPictures$Generator" ({ cls := "BarnPictures$Generator", name := "copy", desc := "()LBarnPictures$Generator;" } : Jvm.MethodName) ({ cls := "BarnPictures$Generator", name := "copy", desc := "()LBarnPictures$Generator;" } : Jvm.MethodName)) ∈ lw_all := lw_g (lw_at lw_m2 10 rfl) rfl
theorem q296 : (Jvm.Cond.code ({ cls := "BarnPictures$Generator", name := "copy", desc := "()LBarnPictures$Generator;" } : Jvm.MethodName) prog_3_method_2_code (2 : Nat) (Option.some (Jvm.ClassFile.FieldType.object "BarnPictures$Generator"))) ∈ lw_all := lw_g (lw_at lw_m2 11 rfl) rfl
theorem q297 : (Jvm.Cond.classLink "BarnPictures$Generator" (10 : Nat) "BarnPictures$Generator") ∈ lw_all := lw_g (lw_at lw_m2 12 rfl) rfl
theorem q298 : (Jvm.Cond.methodLink "BarnPictures$Generator" (15 : Nat) ({ cls := "BarnPictures$Generator", name := "<init>", desc := "()V" } : Jvm.MethodName)) ∈ lw_all := lw_g (lw_at lw_m2 13 rfl) rfl
theorem q462 : (Jvm.Cond.selects "BarnPictures$Generator" ({ cls := "java/lang/Object", name := "getClass", desc := "()Ljava/lang/Class;" } : Jvm.MethodName) ({ cls := "java/lang/Object", name := "getClass", desc := "()Ljava/lang/Class;" } : Jvm.MethodName)) ∈ lw_all := lw_g (lw_at lw_m2 177 rfl) rfl
theorem q515 : (Jvm.Cond.sameMethod "BarnPictures$Generator" "BarnPictures$Thing" "isInVan" "()Z") ∈ lw_all := lw_g (lw_at lw_m2 230 rfl) rfl
theorem q517 : (Jvm.Cond.selects "BarnPictures$Generator" ({ cls := "BarnPictures$Generator", name := "isInVan", desc := "()Z" } : Jvm.MethodName) ({ cls := "BarnPictures$Thing", name := "isInVan", desc := "()Z" } : Jvm.MethodName)) ∈ lw_all := lw_g (lw_at lw_m2 232 rfl) rfl
theorem q523 : (Jvm.Cond.selects "BarnPictures$Generator" ({ cls := "BarnPictures$Thing", name := "moves", desc := "(ZII)Z" } : Jvm.MethodName) ({ cls := "BarnPictures$Thing", name := "moves", desc := "(ZII)Z" } : Jvm.MethodName)) ∈ lw_all := lw_g (lw_at lw_m2 238 rfl) rfl
theorem q1372 : (Jvm.Cond.selects "BarnPictures$Generator" ({ cls := "BarnPictures$Thing", name := "isInVan", desc := "()Z" } : Jvm.MethodName) ({ cls := "BarnPictures$Thing", name := "isInVan", desc := "()Z" } : Jvm.MethodName)) ∈ lw_all := lw_g (lw_at lw_m6 127 rfl) rfl
theorem q1383 : (Jvm.Cond.castable "BarnPictures$Generator" "java/lang/Object") ∈ lw_tbl := lw_at lw_m6 138 rfl
theorem in_X4 : ∀ w ∈ wsX40, w ∈ lw_all := lw_in wsX40 [144, 142] (by decide +kernel) (by decide +kernel)
/-! BarnPictures$Refusal -/
set_option maxRecDepth 100000
def RX6 : String := "BarnPictures$Refusal"
abbrev cX6_init : ByteArray := prog_7_method_1_code
def yX6_init : MethodName := ⟨RX6, "<init>", "()V"⟩
theorem dX6_init_0 : decode cX6_init 0 = .ok (.aload_n 0, 1) := by decide +kernel
theorem dX6_init_1 : decode cX6_init 1 = .ok (.invokespecial 1, 3) := by decide +kernel
theorem dX6_init_4 : decode cX6_init 4 = .ok (.return_, 1) := by decide +kernel
theorem q62 : (Jvm.Cond.initialized "BarnPictures$Refusal") ∈ lw_all := lw_g (lw_at lw_m1 17 rfl) rfl
theorem q315 : (Jvm.Cond.declares ({ cls := "BarnPictures$Refusal", name := "<init>", desc := "()V" } : Jvm.MethodName)) ∈ lw_tbl := lw_at lw_m2 30 rfl
theorem q357 : (Jvm.Cond.instanceMethod ({ cls := "BarnPictures$Refusal", name := "<init>", desc := "()V" } : Jvm.MethodName)) ∈ lw_all := lw_g (lw_at lw_m2 72 rfl) rfl
theorem q358 : (Jvm.Cond.code ({ cls := "BarnPictures$Refusal", name := "<init>", desc := "()V" } : Jvm.MethodName) prog_7_method_1_code (1 : Nat) (Option.none : Option Jvm.ClassFile.FieldType)) ∈ lw_all := lw_g (lw_at lw_m2 73 rfl) rfl
theorem q359 : (Jvm.Cond.methodLink "BarnPictures$Refusal" (1 : Nat) ({ cls := "java/lang/Exception", name := "<init>", desc := "()V" } : Jvm.MethodName)) ∈ lw_all := lw_g (lw_at lw_m2 74 rfl) rfl
theorem q637 : (Jvm.Cond.declares ({ cls := "BarnPictures$Refusal", name := "code", desc := "()I" } : Jvm.MethodName)) ∈ lw_tbl := lw_at lw_m3 112 rfl
theorem q638 : (Jvm.Cond.sameMethod "BarnPictures$Refusal" "BarnPictures$Refusal" "code" "()I") ∈ lw_all := lw_g (lw_at lw_m3 113 rfl) rfl
/-! BarnPictures$Wrong -/
set_option maxRecDepth 100000
def RX7 : String := "BarnPictures$Wrong"
def TX7 : u_T := fun k => match k with
  | 0 => ("java/lang/Throwable", "cause", "Ljava/lang/Throwable;", false)
  | 1 => ("java/lang/Throwable", "stackTrace", "[Ljava/lang/StackTraceElement;", false)
  | 2 => ("java/lang/Throwable", "suppressedExceptions", "Ljava/util/List;", false)
  | 3 => ("java/lang/Throwable", "detailMessage", "Ljava/lang/String;", false)
  | 4 => ("java/lang/Throwable", "backtrace", "Ljava/lang/Object;", false)
  | 5 => ("java/lang/Throwable", "depth", "I", false)
  | _ => ("BarnPictures$Wrong", "code", "I", true)
def tyX7 : Nat → FieldType := fun k => match k with
  | 0 => .object "java/lang/Throwable"
  | 1 => .array (.object "java/lang/StackTraceElement")
  | 2 => .object "java/util/List"
  | 3 => .object "java/lang/String"
  | 4 => .object "java/lang/Object"
  | 5 => .int
  | _ => .int
abbrev wsX70 : List Cond := u_ws RX7 TX7 7
theorem nmX7 : ∀ a, a < 7 → ∀ b, b < 7 → a ≠ b → (TX7 a).2.1 ≠ (TX7 b).2.1 := by decide +kernel
theorem tyX7_ok : ∀ k, k < 7 → parseFieldDescriptor (TX7 k).2.2.1 = some (tyX7 k) := by decide +kernel
abbrev cX7_init : ByteArray := prog_12_method_1_code
def yX7_init : MethodName := ⟨RX7, "<init>", "(I)V"⟩
def dkwX7_init_0 : List UInt8 := [42, 183, 0, 1, 42, 27, 181, 0, 7, 177]
abbrev dktX7_init_0 : List UInt8 := dkwX7_init_0 ++ []
theorem dksX7_init_0 : cX7_init.data.toList.drop 0 = dktX7_init_0 := by decide +kernel
theorem dX7_init_0 : decode cX7_init 0 = .ok (.aload_n 0, 1) := dk_42 (dk_at dksX7_init_0 0 rfl rfl)
theorem dX7_init_1 : decode cX7_init 1 = .ok (.invokespecial 1, 3) := dk_183 0 1 (dk_at dksX7_init_0 1 rfl rfl)
theorem dX7_init_4 : decode cX7_init 4 = .ok (.aload_n 0, 1) := dk_42 (dk_at dksX7_init_0 4 rfl rfl)
theorem dX7_init_5 : decode cX7_init 5 = .ok (.iload_n 1, 1) := dk_27 (dk_at dksX7_init_0 5 rfl rfl)
theorem dX7_init_6 : decode cX7_init 6 = .ok (.putfield 7, 3) := dk_181 0 7 (dk_at dksX7_init_0 6 rfl rfl)
theorem dX7_init_9 : decode cX7_init 9 = .ok (.return_, 1) := dk_177 (dk_at dksX7_init_0 9 rfl rfl)
abbrev cX7_code : ByteArray := prog_12_method_2_code
def yX7_code : MethodName := ⟨RX7, "code", "()I"⟩
theorem dX7_code_0 : decode cX7_code 0 = .ok (.aload_n 0, 1) := by decide +kernel
theorem dX7_code_1 : decode cX7_code 1 = .ok (.getfield 7, 3) := by decide +kernel
theorem dX7_code_4 : decode cX7_code 4 = .ok (.ireturn, 1) := by decide +kernel
theorem q63 : (Jvm.Cond.initialized "BarnPictures$Wrong") ∈ lw_all := lw_g (lw_at lw_m1 18 rfl) rfl
theorem q313 : (Jvm.Cond.instantiable "BarnPictures$Wrong" (7 : Nat)) ∈ lw_all := lw_g (lw_at lw_m2 28 rfl) rfl
theorem q314 : (Jvm.Cond.castable "BarnPictures$Wrong" "BarnPictures$Wrong") ∈ lw_tbl := lw_at lw_m2 29 rfl
theorem q320 : (Jvm.Cond.selects "BarnPictures$Wrong" ({ cls := "java/lang/Throwable", name := "fillInStackTrace", desc := "(I)Ljava/lang/Throwable;" } : Jvm.MethodName) ({ cls := "java/lang/Throwable", name := "fillInStackTrace", desc := "(I)Ljava/lang/Throwable;" } : Jvm.MethodName)) ∈ lw_all := lw_g (lw_at lw_m2 35 rfl) rfl
theorem q321 : (Jvm.Cond.selects "BarnPictures$Wrong" ({ cls := "java/lang/Throwable", name := "fillInStackTrace", desc := "()Ljava/lang/Throwable;" } : Jvm.MethodName) ({ cls := "java/lang/Throwable", name := "fillInStackTrace", desc := "()Ljava/lang/Throwable;" } : Jvm.MethodName)) ∈ lw_all := lw_g (lw_at lw_m2 36 rfl) rfl
theorem q322 : (Jvm.Cond.lays "BarnPictures$Wrong" "java/lang/Throwable" "cause" "Ljava/lang/Throwable;") ∈ lw_all := lw_g (lw_at lw_m2 37 rfl) rfl
theorem q324 : (Jvm.Cond.lays "BarnPictures$Wrong" "java/lang/Throwable" "stackTrace" "[Ljava/lang/StackTraceElement;") ∈ lw_all := lw_g (lw_at lw_m2 39 rfl) rfl
theorem q326 : (Jvm.Cond.lays "BarnPictures$Wrong" "java/lang/Throwable" "suppressedExceptions" "Ljava/util/List;") ∈ lw_all := lw_g (lw_at lw_m2 41 rfl) rfl
theorem q328 : (Jvm.Cond.lays "BarnPictures$Wrong" "java/lang/Throwable" "detailMessage" "Ljava/lang/String;") ∈ lw_all := lw_g (lw_at lw_m2 43 rfl) rfl
theorem q330 : (Jvm.Cond.lays "BarnPictures$Wrong" "java/lang/Throwable" "backtrace" "Ljava/lang/Object;") ∈ lw_all := lw_g (lw_at lw_m2 45 rfl) rfl
theorem q354 : (Jvm.Cond.instanceMethod ({ cls := "BarnPictures$Wrong", name := "<init>", desc := "(I)V" } : Jvm.MethodName)) ∈ lw_all := lw_g (lw_at lw_m2 69 rfl) rfl
theorem q355 : (Jvm.Cond.code ({ cls := "BarnPictures$Wrong", name := "<init>", desc := "(I)V" } : Jvm.MethodName) prog_12_method_1_code (2 : Nat) (Option.none : Option Jvm.ClassFile.FieldType)) ∈ lw_all := lw_g (lw_at lw_m2 70 rfl) rfl
theorem q356 : (Jvm.Cond.methodLinkNest "BarnPictures$Wrong" (1 : Nat) ({ cls := "BarnPictures$Refusal", name := "<init>", desc := "()V" } : Jvm.MethodName) "BarnPictures") ∈ lw_tbl := lw_at lw_m2 71 rfl
theorem q363 : (Jvm.Cond.fieldLink "BarnPictures$Wrong" (7 : Nat) "BarnPictures$Wrong" "code" "I") ∈ lw_all := lw_g (lw_at lw_m2 78 rfl) rfl
theorem q368 : (Jvm.Cond.laysFinal "BarnPictures$Wrong" "BarnPictures$Wrong" "code" "I") ∈ lw_all := lw_g (lw_at lw_m2 83 rfl) rfl
theorem q369 : (Jvm.Cond.soleField "BarnPictures$Wrong" "code") ∈ lw_all := lw_g (lw_at lw_m2 84 rfl) rfl
theorem q374 : (Jvm.Cond.lays "BarnPictures$Wrong" "java/lang/Throwable" "depth" "I") ∈ lw_all := lw_g (lw_at lw_m2 89 rfl) rfl
theorem q377 : (Jvm.Cond.superclass "BarnPictures$Wrong" "BarnPictures$Refusal") ∈ lw_all := lw_g (lw_at lw_m2 92 rfl) rfl
theorem q469 : (Jvm.Cond.selects "BarnPictures$Wrong" ({ cls := "java/lang/Object", name := "getClass", desc := "()Ljava/lang/Class;" } : Jvm.MethodName) ({ cls := "java/lang/Object", name := "getClass", desc := "()Ljava/lang/Class;" } : Jvm.MethodName)) ∈ lw_all := lw_g (lw_at lw_m2 184 rfl) rfl
theorem q487 : (Jvm.Cond.instanceMethod ({ cls := "BarnPictures$Wrong", name := "code", desc := "()I" } : Jvm.MethodName)) ∈ lw_all := lw_g (lw_at lw_m2 202 rfl) rfl
theorem q488 : (Jvm.Cond.selects "BarnPictures$Wrong" ({ cls := "BarnPictures$Wrong", name := "code", desc := "()I" } : Jvm.MethodName) ({ cls := "BarnPictures$Wrong", name := "code", desc := "()I" } : Jvm.MethodName)) ∈ lw_all := lw_g (lw_at lw_m2 203 rfl) rfl
theorem q489 : (Jvm.Cond.code ({ cls := "BarnPictures$Wrong", name := "code", desc := "()I" } : Jvm.MethodName) prog_12_method_2_code (1 : Nat) (Option.some Jvm.ClassFile.FieldType.int)) ∈ lw_all := lw_g (lw_at lw_m2 204 rfl) rfl
theorem q643 : (Jvm.Cond.selects "BarnPictures$Wrong" ({ cls := "BarnPictures$Refusal", name := "code", desc := "()I" } : Jvm.MethodName) ({ cls := "BarnPictures$Wrong", name := "code", desc := "()I" } : Jvm.MethodName)) ∈ lw_all := lw_g (lw_at lw_m3 118 rfl) rfl
theorem q1389 : (Jvm.Cond.castable "BarnPictures$Wrong" "java/lang/Object") ∈ lw_tbl := lw_at lw_m6 144 rfl
theorem in_X7 : ∀ w ∈ wsX70, w ∈ lw_all := lw_in wsX70 [322, 324, 326, 328, 330, 374, 368] (by decide +kernel) (by decide +kernel)
/-! BarnPictures$NoShow -/
set_option maxRecDepth 100000
def RX8 : String := "BarnPictures$NoShow"
def TX8 : u_T := fun k => match k with
  | 0 => ("java/lang/Throwable", "cause", "Ljava/lang/Throwable;", false)
  | 1 => ("java/lang/Throwable", "stackTrace", "[Ljava/lang/StackTraceElement;", false)
  | 2 => ("java/lang/Throwable", "suppressedExceptions", "Ljava/util/List;", false)
  | 3 => ("java/lang/Throwable", "detailMessage", "Ljava/lang/String;", false)
  | 4 => ("java/lang/Throwable", "backtrace", "Ljava/lang/Object;", false)
  | 5 => ("java/lang/Throwable", "depth", "I", false)
  | _ => ("BarnPictures$NoShow", "reason", "I", true)
def tyX8 : Nat → FieldType := fun k => match k with
  | 0 => .object "java/lang/Throwable"
  | 1 => .array (.object "java/lang/StackTraceElement")
  | 2 => .object "java/util/List"
  | 3 => .object "java/lang/String"
  | 4 => .object "java/lang/Object"
  | 5 => .int
  | _ => .int
abbrev wsX80 : List Cond := u_ws RX8 TX8 7
theorem nmX8 : ∀ a, a < 7 → ∀ b, b < 7 → a ≠ b → (TX8 a).2.1 ≠ (TX8 b).2.1 := by decide +kernel
theorem tyX8_ok : ∀ k, k < 7 → parseFieldDescriptor (TX8 k).2.2.1 = some (tyX8 k) := by decide +kernel
abbrev cX8_init : ByteArray := prog_4_method_1_code
def yX8_init : MethodName := ⟨RX8, "<init>", "(I)V"⟩
def dkwX8_init_0 : List UInt8 := [42, 183, 0, 3, 42, 27, 181, 0, 9, 177]
abbrev dktX8_init_0 : List UInt8 := dkwX8_init_0 ++ []
theorem dksX8_init_0 : cX8_init.data.toList.drop 0 = dktX8_init_0 := by decide +kernel
theorem dX8_init_0 : decode cX8_init 0 = .ok (.aload_n 0, 1) := dk_42 (dk_at dksX8_init_0 0 rfl rfl)
theorem dX8_init_1 : decode cX8_init 1 = .ok (.invokespecial 3, 3) := dk_183 0 3 (dk_at dksX8_init_0 1 rfl rfl)
theorem dX8_init_4 : decode cX8_init 4 = .ok (.aload_n 0, 1) := dk_42 (dk_at dksX8_init_0 4 rfl rfl)
theorem dX8_init_5 : decode cX8_init 5 = .ok (.iload_n 1, 1) := dk_27 (dk_at dksX8_init_0 5 rfl rfl)
theorem dX8_init_6 : decode cX8_init 6 = .ok (.putfield 9, 3) := dk_181 0 9 (dk_at dksX8_init_0 6 rfl rfl)
theorem dX8_init_9 : decode cX8_init 9 = .ok (.return_, 1) := dk_177 (dk_at dksX8_init_0 9 rfl rfl)
abbrev cX8_code : ByteArray := prog_4_method_2_code
def yX8_code : MethodName := ⟨RX8, "code", "()I"⟩
def dkwX8_code_0 : List UInt8 := [18, 15, 42, 180, 0, 9, 100, 172]
abbrev dktX8_code_0 : List UInt8 := dkwX8_code_0 ++ []
theorem dksX8_code_0 : cX8_code.data.toList.drop 0 = dktX8_code_0 := by decide +kernel
theorem dX8_code_0 : decode cX8_code 0 = .ok (.ldc 15, 2) := dk_18 15 (dk_at dksX8_code_0 0 rfl rfl)
theorem dX8_code_2 : decode cX8_code 2 = .ok (.aload_n 0, 1) := dk_42 (dk_at dksX8_code_0 2 rfl rfl)
theorem dX8_code_3 : decode cX8_code 3 = .ok (.getfield 9, 3) := dk_180 0 9 (dk_at dksX8_code_0 3 rfl rfl)
theorem dX8_code_6 : decode cX8_code 6 = .ok (.isub, 1) := dk_100 (dk_at dksX8_code_0 6 rfl rfl)
theorem dX8_code_7 : decode cX8_code 7 = .ok (.ireturn, 1) := dk_172 (dk_at dksX8_code_0 7 rfl rfl)
theorem q69 : (Jvm.Cond.initialized "BarnPictures$NoShow") ∈ lw_all := lw_g (lw_at lw_m1 24 rfl) rfl
theorem q344 : (Jvm.Cond.selects "BarnPictures$NoShow" ({ cls := "java/lang/Throwable", name := "fillInStackTrace", desc := "()Ljava/lang/Throwable;" } : Jvm.MethodName) ({ cls := "java/lang/Throwable", name := "fillInStackTrace", desc := "()Ljava/lang/Throwable;" } : Jvm.MethodName)) ∈ lw_all := lw_g (lw_at lw_m2 59 rfl) rfl
theorem q463 : (Jvm.Cond.selects "BarnPictures$NoShow" ({ cls := "java/lang/Object", name := "getClass", desc := "()Ljava/lang/Class;" } : Jvm.MethodName) ({ cls := "java/lang/Object", name := "getClass", desc := "()Ljava/lang/Class;" } : Jvm.MethodName)) ∈ lw_all := lw_g (lw_at lw_m2 178 rfl) rfl
theorem q595 : (Jvm.Cond.instantiable "BarnPictures$NoShow" (7 : Nat)) ∈ lw_all := lw_g (lw_at lw_m3 70 rfl) rfl
theorem q596 : (Jvm.Cond.castable "BarnPictures$NoShow" "BarnPictures$NoShow") ∈ lw_tbl := lw_at lw_m3 71 rfl
theorem q597 : (Jvm.Cond.selects "BarnPictures$NoShow" ({ cls := "java/lang/Throwable", name := "fillInStackTrace", desc := "(I)Ljava/lang/Throwable;" } : Jvm.MethodName) ({ cls := "java/lang/Throwable", name := "fillInStackTrace", desc := "(I)Ljava/lang/Throwable;" } : Jvm.MethodName)) ∈ lw_all := lw_g (lw_at lw_m3 72 rfl) rfl
theorem q598 : (Jvm.Cond.lays "BarnPictures$NoShow" "java/lang/Throwable" "cause" "Ljava/lang/Throwable;") ∈ lw_all := lw_g (lw_at lw_m3 73 rfl) rfl
theorem q599 : (Jvm.Cond.lays "BarnPictures$NoShow" "java/lang/Throwable" "stackTrace" "[Ljava/lang/StackTraceElement;") ∈ lw_all := lw_g (lw_at lw_m3 74 rfl) rfl
theorem q600 : (Jvm.Cond.lays "BarnPictures$NoShow" "java/lang/Throwable" "suppressedExceptions" "Ljava/util/List;") ∈ lw_all := lw_g (lw_at lw_m3 75 rfl) rfl
theorem q601 : (Jvm.Cond.lays "BarnPictures$NoShow" "java/lang/Throwable" "detailMessage" "Ljava/lang/String;") ∈ lw_all := lw_g (lw_at lw_m3 76 rfl) rfl
theorem q602 : (Jvm.Cond.lays "BarnPictures$NoShow" "java/lang/Throwable" "backtrace" "Ljava/lang/Object;") ∈ lw_all := lw_g (lw_at lw_m3 77 rfl) rfl
theorem q604 : (Jvm.Cond.instanceMethod ({ cls := "BarnPictures$NoShow", name := "<init>", desc := "(I)V" } : Jvm.MethodName)) ∈ lw_all := lw_g (lw_at lw_m3 79 rfl) rfl
theorem q605 : (Jvm.Cond.code ({ cls := "BarnPictures$NoShow", name := "<init>", desc := "(I)V" } : Jvm.MethodName) prog_4_method_1_code (2 : Nat) (Option.none : Option Jvm.ClassFile.FieldType)) ∈ lw_all := lw_g (lw_at lw_m3 80 rfl) rfl
theorem q606 : (Jvm.Cond.methodLinkNest "BarnPictures$NoShow" (3 : Nat) ({ cls := "BarnPictures$Refusal", name := "<init>", desc := "()V" } : Jvm.MethodName) "BarnPictures") ∈ lw_tbl := lw_at lw_m3 81 rfl
theorem q607 : (Jvm.Cond.fieldLink "BarnPictures$NoShow" (9 : Nat) "BarnPictures$NoShow" "reason" "I") ∈ lw_all := lw_g (lw_at lw_m3 82 rfl) rfl
theorem q608 : (Jvm.Cond.laysFinal "BarnPictures$NoShow" "BarnPictures$NoShow" "reason" "I") ∈ lw_all := lw_g (lw_at lw_m3 83 rfl) rfl
theorem q609 : (Jvm.Cond.soleField "BarnPictures$NoShow" "reason") ∈ lw_all := lw_g (lw_at lw_m3 84 rfl) rfl
theorem q610 : (Jvm.Cond.lays "BarnPictures$NoShow" "java/lang/Throwable" "depth" "I") ∈ lw_all := lw_g (lw_at lw_m3 85 rfl) rfl
theorem q611 : (Jvm.Cond.superclass "BarnPictures$NoShow" "BarnPictures$Refusal") ∈ lw_all := lw_g (lw_at lw_m3 86 rfl) rfl
theorem q639 : (Jvm.Cond.selects "BarnPictures$NoShow" ({ cls := "BarnPictures$Refusal", name := "code", desc := "()I" } : Jvm.MethodName) ({ cls := "BarnPictures$NoShow", name := "code", desc := "()I" } : Jvm.MethodName)) ∈ lw_all := lw_g (lw_at lw_m3 114 rfl) rfl
theorem q640 : (Jvm.Cond.instanceMethod ({ cls := "BarnPictures$NoShow", name := "code", desc := "()I" } : Jvm.MethodName)) ∈ lw_all := lw_g (lw_at lw_m3 115 rfl) rfl
theorem q641 : (Jvm.Cond.code ({ cls := "BarnPictures$NoShow", name := "code", desc := "()I" } : Jvm.MethodName) prog_4_method_2_code (1 : Nat) (Option.some Jvm.ClassFile.FieldType.int)) ∈ lw_all := lw_g (lw_at lw_m3 116 rfl) rfl
theorem q642 : (Jvm.Cond.constant "BarnPictures$NoShow" (15 : Nat) (-10000010 : Int32)) ∈ lw_all := lw_g (lw_at lw_m3 117 rfl) rfl
theorem q1390 : (Jvm.Cond.castable "BarnPictures$NoShow" "java/lang/Object") ∈ lw_tbl := lw_at lw_m6 145 rfl
theorem in_X8 : ∀ w ∈ wsX80, w ∈ lw_all := lw_in wsX80 [598, 599, 600, 601, 602, 610, 608] (by decide +kernel) (by decide +kernel)
/-! BarnPictures$Reader -/
set_option maxRecDepth 100000
def RX9 : String := "BarnPictures$Reader"
def TX9 : u_T := fun k => match k with
  | 0 => ("BarnPictures$Reader", "signs", "Ljava/lang/CharSequence;", true)
  | 1 => ("BarnPictures$Reader", "commands", "Ljava/util/List;", true)
  | _ => ("BarnPictures$Reader", "place", "I", false)
def tyX9 : Nat → FieldType := fun k => match k with
  | 0 => .object "java/lang/CharSequence"
  | 1 => .object "java/util/List"
  | _ => .int
abbrev wsX90 : List Cond := u_ws RX9 TX9 3
theorem nmX9 : ∀ a, a < 3 → ∀ b, b < 3 → a ≠ b → (TX9 a).2.1 ≠ (TX9 b).2.1 := by decide +kernel
theorem tyX9_ok : ∀ k, k < 3 → parseFieldDescriptor (TX9 k).2.2.1 = some (tyX9 k) := by decide +kernel
abbrev cX9_init : ByteArray := prog_5_method_1_code
def yX9_init : MethodName := ⟨RX9, "<init>", "(Ljava/lang/CharSequence;)V"⟩
def dkwX9_init_0 : List UInt8 := [42, 183, 0, 3, 42, 187, 0, 9, 89, 183, 0, 11, 181, 0, 12, 42, 43, 181, 0, 18, 177]
abbrev dktX9_init_0 : List UInt8 := dkwX9_init_0 ++ []
theorem dksX9_init_0 : cX9_init.data.toList.drop 0 = dktX9_init_0 := by decide +kernel
theorem dX9_init_0 : decode cX9_init 0 = .ok (.aload_n 0, 1) := dk_42 (dk_at dksX9_init_0 0 rfl rfl)
theorem dX9_init_1 : decode cX9_init 1 = .ok (.invokespecial 3, 3) := dk_183 0 3 (dk_at dksX9_init_0 1 rfl rfl)
theorem dX9_init_4 : decode cX9_init 4 = .ok (.aload_n 0, 1) := dk_42 (dk_at dksX9_init_0 4 rfl rfl)
theorem dX9_init_5 : decode cX9_init 5 = .ok (.new 9, 3) := dk_187 0 9 (dk_at dksX9_init_0 5 rfl rfl)
theorem dX9_init_8 : decode cX9_init 8 = .ok (.dup, 1) := dk_89 (dk_at dksX9_init_0 8 rfl rfl)
theorem dX9_init_9 : decode cX9_init 9 = .ok (.invokespecial 11, 3) := dk_183 0 11 (dk_at dksX9_init_0 9 rfl rfl)
theorem dX9_init_12 : decode cX9_init 12 = .ok (.putfield 12, 3) := dk_181 0 12 (dk_at dksX9_init_0 12 rfl rfl)
theorem dX9_init_15 : decode cX9_init 15 = .ok (.aload_n 0, 1) := dk_42 (dk_at dksX9_init_0 15 rfl rfl)
theorem dX9_init_16 : decode cX9_init 16 = .ok (.aload_n 1, 1) := dk_43 (dk_at dksX9_init_0 16 rfl rfl)
theorem dX9_init_17 : decode cX9_init 17 = .ok (.putfield 18, 3) := dk_181 0 18 (dk_at dksX9_init_0 17 rfl rfl)
theorem dX9_init_20 : decode cX9_init 20 = .ok (.return_, 1) := dk_177 (dk_at dksX9_init_0 20 rfl rfl)
abbrev cX9_read : ByteArray := prog_5_method_7_code
def yX9_read : MethodName := ⟨RX9, "read", "()V"⟩
def dkwX9_read_2 : List UInt8 := [185, 0, 76, 2, 0, 87, 167, 255, 220, 177]
abbrev dktX9_read_2 : List UInt8 := dkwX9_read_2 ++ []
def dkwX9_read_1 : List UInt8 := [185, 0, 26, 1, 0, 162, 0, 26, 42, 16, 44, 182, 0, 65, 42, 180, 0, 12, 42, 182, 0, 72]
abbrev dktX9_read_1 : List UInt8 := dkwX9_read_1 ++ dktX9_read_2
def dkwX9_read_0 : List UInt8 := [42, 180, 0, 12, 42, 182, 0, 72, 185, 0, 76, 2, 0, 87, 42, 180, 0, 22, 42, 180, 0, 18]
abbrev dktX9_read_0 : List UInt8 := dkwX9_read_0 ++ dktX9_read_1
theorem dksX9_read_0 : cX9_read.data.toList.drop 0 = dktX9_read_0 := by decide +kernel
theorem dksX9_read_1 : cX9_read.data.toList.drop 22 = dktX9_read_1 := dk_seg dksX9_read_0 22 rfl rfl
theorem dksX9_read_2 : cX9_read.data.toList.drop 44 = dktX9_read_2 := dk_seg dksX9_read_1 22 rfl rfl
theorem dX9_read_0 : decode cX9_read 0 = .ok (.aload_n 0, 1) := dk_42 (dk_at dksX9_read_0 0 rfl rfl)
theorem dX9_read_1 : decode cX9_read 1 = .ok (.getfield 12, 3) := dk_180 0 12 (dk_at dksX9_read_0 1 rfl rfl)
theorem dX9_read_4 : decode cX9_read 4 = .ok (.aload_n 0, 1) := dk_42 (dk_at dksX9_read_0 4 rfl rfl)
theorem dX9_read_5 : decode cX9_read 5 = .ok (.invokevirtual 72, 3) := dk_182 0 72 (dk_at dksX9_read_0 5 rfl rfl)
theorem dX9_read_8 : decode cX9_read 8 = .ok (.invokeinterface 76 2, 5) := by decide +kernel
theorem dX9_read_13 : decode cX9_read 13 = .ok (.pop, 1) := dk_87 (dk_at dksX9_read_0 13 rfl rfl)
theorem dX9_read_14 : decode cX9_read 14 = .ok (.aload_n 0, 1) := dk_42 (dk_at dksX9_read_0 14 rfl rfl)
theorem dX9_read_15 : decode cX9_read 15 = .ok (.getfield 22, 3) := dk_180 0 22 (dk_at dksX9_read_0 15 rfl rfl)
theorem dX9_read_18 : decode cX9_read 18 = .ok (.aload_n 0, 1) := dk_42 (dk_at dksX9_read_0 18 rfl rfl)
theorem dX9_read_19 : decode cX9_read 19 = .ok (.getfield 18, 3) := dk_180 0 18 (dk_at dksX9_read_0 19 rfl rfl)
theorem dX9_read_22 : decode cX9_read 22 = .ok (.invokeinterface 26 1, 5) := by decide +kernel
theorem dX9_read_27 : decode cX9_read 27 = .ok (.if_icmp .ge 26, 3) := dk_162 0 26 (dk_at dksX9_read_1 5 rfl rfl)
theorem dX9_read_30 : decode cX9_read 30 = .ok (.aload_n 0, 1) := dk_42 (dk_at dksX9_read_1 8 rfl rfl)
theorem dX9_read_31 : decode cX9_read 31 = .ok (.bipush 44, 2) := dk_16 44 (dk_at dksX9_read_1 9 rfl rfl)
theorem dX9_read_33 : decode cX9_read 33 = .ok (.invokevirtual 65, 3) := dk_182 0 65 (dk_at dksX9_read_1 11 rfl rfl)
theorem dX9_read_36 : decode cX9_read 36 = .ok (.aload_n 0, 1) := dk_42 (dk_at dksX9_read_1 14 rfl rfl)
theorem dX9_read_37 : decode cX9_read 37 = .ok (.getfield 12, 3) := dk_180 0 12 (dk_at dksX9_read_1 15 rfl rfl)
theorem dX9_read_40 : decode cX9_read 40 = .ok (.aload_n 0, 1) := dk_42 (dk_at dksX9_read_1 18 rfl rfl)
theorem dX9_read_41 : decode cX9_read 41 = .ok (.invokevirtual 72, 3) := dk_182 0 72 (dk_at dksX9_read_1 19 rfl rfl)
theorem dX9_read_44 : decode cX9_read 44 = .ok (.invokeinterface 76 2, 5) := by decide +kernel
theorem dX9_read_49 : decode cX9_read 49 = .ok (.pop, 1) := dk_87 (dk_at dksX9_read_2 5 rfl rfl)
theorem dX9_read_50 : decode cX9_read 50 = .ok (.goto (-36), 3) := dk_167 255 220 (dk_at dksX9_read_2 6 rfl rfl)
theorem dX9_read_53 : decode cX9_read 53 = .ok (.return_, 1) := dk_177 (dk_at dksX9_read_2 9 rfl rfl)
abbrev cX9_command : ByteArray := prog_5_method_6_code
def yX9_command : MethodName := ⟨RX9, "command", "()LBarnPictures$Command;"⟩
def dkwX9_command_6 : List UInt8 := [27, 28, 42, 182, 0, 69, 183, 0, 62, 176]
abbrev dktX9_command_6 : List UInt8 := dkwX9_command_6 ++ []
def dkwX9_command_5 : List UInt8 := [159, 0, 14, 187, 0, 60, 89, 27, 28, 3, 183, 0, 62, 176, 42, 16, 58, 182, 0, 65, 187, 0, 60, 89]
abbrev dktX9_command_5 : List UInt8 := dkwX9_command_5 ++ dktX9_command_6
def dkwX9_command_4 : List UInt8 := [159, 0, 9, 27, 16, 102, 160, 0, 7, 4, 167, 0, 5, 16, 9, 182, 0, 49, 61, 27, 16, 102]
abbrev dktX9_command_4 : List UInt8 := dkwX9_command_4 ++ dktX9_command_5
def dkwX9_command_3 : List UInt8 := [27, 16, 100, 160, 0, 7, 3, 167, 0, 35, 42, 27, 16, 118, 160, 0, 7, 7, 167, 0, 21, 27, 16, 103]
abbrev dktX9_command_3 : List UInt8 := dkwX9_command_3 ++ dktX9_command_4
def dkwX9_command_2 : List UInt8 := [42, 180, 0, 22, 183, 0, 46, 191, 42, 89, 180, 0, 22, 4, 96, 181, 0, 22, 27, 16, 115, 159, 0, 9]
abbrev dktX9_command_2 : List UInt8 := dkwX9_command_2 ++ dktX9_command_3
def dkwX9_command_1 : List UInt8 := [185, 0, 32, 2, 0, 167, 0, 5, 16, 32, 60, 18, 53, 27, 182, 0, 55, 156, 0, 15, 187, 0, 44, 89]
abbrev dktX9_command_1 : List UInt8 := dkwX9_command_1 ++ dktX9_command_2
def dkwX9_command_0 : List UInt8 := [42, 180, 0, 22, 42, 180, 0, 18, 185, 0, 26, 1, 0, 162, 0, 19, 42, 180, 0, 18, 42, 180, 0, 22]
abbrev dktX9_command_0 : List UInt8 := dkwX9_command_0 ++ dktX9_command_1
theorem dksX9_command_0 : cX9_command.data.toList.drop 0 = dktX9_command_0 := by decide +kernel
theorem dksX9_command_1 : cX9_command.data.toList.drop 24 = dktX9_command_1 := dk_seg dksX9_command_0 24 rfl rfl
theorem dksX9_command_2 : cX9_command.data.toList.drop 48 = dktX9_command_2 := dk_seg dksX9_command_1 24 rfl rfl
theorem dksX9_command_3 : cX9_command.data.toList.drop 72 = dktX9_command_3 := dk_seg dksX9_command_2 24 rfl rfl
theorem dksX9_command_4 : cX9_command.data.toList.drop 96 = dktX9_command_4 := dk_seg dksX9_command_3 24 rfl rfl
theorem dksX9_command_5 : cX9_command.data.toList.drop 118 = dktX9_command_5 := dk_seg dksX9_command_4 22 rfl rfl
theorem dksX9_command_6 : cX9_command.data.toList.drop 142 = dktX9_command_6 := dk_seg dksX9_command_5 24 rfl rfl
theorem dX9_command_0 : decode cX9_command 0 = .ok (.aload_n 0, 1) := dk_42 (dk_at dksX9_command_0 0 rfl rfl)
theorem dX9_command_1 : decode cX9_command 1 = .ok (.getfield 22, 3) := dk_180 0 22 (dk_at dksX9_command_0 1 rfl rfl)
theorem dX9_command_4 : decode cX9_command 4 = .ok (.aload_n 0, 1) := dk_42 (dk_at dksX9_command_0 4 rfl rfl)
theorem dX9_command_5 : decode cX9_command 5 = .ok (.getfield 18, 3) := dk_180 0 18 (dk_at dksX9_command_0 5 rfl rfl)
theorem dX9_command_8 : decode cX9_command 8 = .ok (.invokeinterface 26 1, 5) := by decide +kernel
theorem dX9_command_13 : decode cX9_command 13 = .ok (.if_icmp .ge 19, 3) := dk_162 0 19 (dk_at dksX9_command_0 13 rfl rfl)
theorem dX9_command_16 : decode cX9_command 16 = .ok (.aload_n 0, 1) := dk_42 (dk_at dksX9_command_0 16 rfl rfl)
theorem dX9_command_17 : decode cX9_command 17 = .ok (.getfield 18, 3) := dk_180 0 18 (dk_at dksX9_command_0 17 rfl rfl)
theorem dX9_command_20 : decode cX9_command 20 = .ok (.aload_n 0, 1) := dk_42 (dk_at dksX9_command_0 20 rfl rfl)
theorem dX9_command_21 : decode cX9_command 21 = .ok (.getfield 22, 3) := dk_180 0 22 (dk_at dksX9_command_0 21 rfl rfl)
theorem dX9_command_24 : decode cX9_command 24 = .ok (.invokeinterface 32 2, 5) := by decide +kernel
theorem dX9_command_29 : decode cX9_command 29 = .ok (.goto 5, 3) := dk_167 0 5 (dk_at dksX9_command_1 5 rfl rfl)
theorem dX9_command_32 : decode cX9_command 32 = .ok (.bipush 32, 2) := dk_16 32 (dk_at dksX9_command_1 8 rfl rfl)
theorem dX9_command_34 : decode cX9_command 34 = .ok (.istore_n 1, 1) := dk_60 (dk_at dksX9_command_1 10 rfl rfl)
theorem dX9_command_35 : decode cX9_command 35 = .ok (.ldc 53, 2) := dk_18 53 (dk_at dksX9_command_1 11 rfl rfl)
theorem dX9_command_37 : decode cX9_command 37 = .ok (.iload_n 1, 1) := dk_27 (dk_at dksX9_command_1 13 rfl rfl)
theorem dX9_command_38 : decode cX9_command 38 = .ok (.invokevirtual 55, 3) := dk_182 0 55 (dk_at dksX9_command_1 14 rfl rfl)
theorem dX9_command_41 : decode cX9_command 41 = .ok (.ifCond .ge 15, 3) := dk_156 0 15 (dk_at dksX9_command_1 17 rfl rfl)
theorem dX9_command_44 : decode cX9_command 44 = .ok (.new 44, 3) := dk_187 0 44 (dk_at dksX9_command_1 20 rfl rfl)
theorem dX9_command_47 : decode cX9_command 47 = .ok (.dup, 1) := dk_89 (dk_at dksX9_command_1 23 rfl rfl)
theorem dX9_command_48 : decode cX9_command 48 = .ok (.aload_n 0, 1) := dk_42 (dk_at dksX9_command_2 0 rfl rfl)
theorem dX9_command_49 : decode cX9_command 49 = .ok (.getfield 22, 3) := dk_180 0 22 (dk_at dksX9_command_2 1 rfl rfl)
theorem dX9_command_52 : decode cX9_command 52 = .ok (.invokespecial 46, 3) := dk_183 0 46 (dk_at dksX9_command_2 4 rfl rfl)
theorem dX9_command_55 : decode cX9_command 55 = .ok (.athrow, 1) := dk_191 (dk_at dksX9_command_2 7 rfl rfl)
theorem dX9_command_56 : decode cX9_command 56 = .ok (.aload_n 0, 1) := dk_42 (dk_at dksX9_command_2 8 rfl rfl)
theorem dX9_command_57 : decode cX9_command 57 = .ok (.dup, 1) := dk_89 (dk_at dksX9_command_2 9 rfl rfl)
theorem dX9_command_58 : decode cX9_command 58 = .ok (.getfield 22, 3) := dk_180 0 22 (dk_at dksX9_command_2 10 rfl rfl)
theorem dX9_command_61 : decode cX9_command 61 = .ok (.iconst 1, 1) := dk_4 (dk_at dksX9_command_2 13 rfl rfl)
theorem dX9_command_62 : decode cX9_command 62 = .ok (.iadd, 1) := dk_96 (dk_at dksX9_command_2 14 rfl rfl)
theorem dX9_command_63 : decode cX9_command 63 = .ok (.putfield 22, 3) := dk_181 0 22 (dk_at dksX9_command_2 15 rfl rfl)
theorem dX9_command_66 : decode cX9_command 66 = .ok (.iload_n 1, 1) := dk_27 (dk_at dksX9_command_2 18 rfl rfl)
theorem dX9_command_67 : decode cX9_command 67 = .ok (.bipush 115, 2) := dk_16 115 (dk_at dksX9_command_2 19 rfl rfl)
theorem dX9_command_69 : decode cX9_command 69 = .ok (.if_icmp .eq 9, 3) := dk_159 0 9 (dk_at dksX9_command_2 21 rfl rfl)
theorem dX9_command_72 : decode cX9_command 72 = .ok (.iload_n 1, 1) := dk_27 (dk_at dksX9_command_3 0 rfl rfl)
theorem dX9_command_73 : decode cX9_command 73 = .ok (.bipush 100, 2) := dk_16 100 (dk_at dksX9_command_3 1 rfl rfl)
theorem dX9_command_75 : decode cX9_command 75 = .ok (.if_icmp .ne 7, 3) := dk_160 0 7 (dk_at dksX9_command_3 3 rfl rfl)
theorem dX9_command_78 : decode cX9_command 78 = .ok (.iconst 0, 1) := dk_3 (dk_at dksX9_command_3 6 rfl rfl)
theorem dX9_command_79 : decode cX9_command 79 = .ok (.goto 35, 3) := dk_167 0 35 (dk_at dksX9_command_3 7 rfl rfl)
theorem dX9_command_82 : decode cX9_command 82 = .ok (.aload_n 0, 1) := dk_42 (dk_at dksX9_command_3 10 rfl rfl)
theorem dX9_command_83 : decode cX9_command 83 = .ok (.iload_n 1, 1) := dk_27 (dk_at dksX9_command_3 11 rfl rfl)
theorem dX9_command_84 : decode cX9_command 84 = .ok (.bipush 118, 2) := dk_16 118 (dk_at dksX9_command_3 12 rfl rfl)
theorem dX9_command_86 : decode cX9_command 86 = .ok (.if_icmp .ne 7, 3) := dk_160 0 7 (dk_at dksX9_command_3 14 rfl rfl)
theorem dX9_command_89 : decode cX9_command 89 = .ok (.iconst 4, 1) := dk_7 (dk_at dksX9_command_3 17 rfl rfl)
theorem dX9_command_90 : decode cX9_command 90 = .ok (.goto 21, 3) := dk_167 0 21 (dk_at dksX9_command_3 18 rfl rfl)
theorem dX9_command_93 : decode cX9_command 93 = .ok (.iload_n 1, 1) := dk_27 (dk_at dksX9_command_3 21 rfl rfl)
theorem dX9_command_94 : decode cX9_command 94 = .ok (.bipush 103, 2) := dk_16 103 (dk_at dksX9_command_3 22 rfl rfl)
theorem dX9_command_96 : decode cX9_command 96 = .ok (.if_icmp .eq 9, 3) := dk_159 0 9 (dk_at dksX9_command_4 0 rfl rfl)
theorem dX9_command_99 : decode cX9_command 99 = .ok (.iload_n 1, 1) := dk_27 (dk_at dksX9_command_4 3 rfl rfl)
theorem dX9_command_100 : decode cX9_command 100 = .ok (.bipush 102, 2) := dk_16 102 (dk_at dksX9_command_4 4 rfl rfl)
theorem dX9_command_102 : decode cX9_command 102 = .ok (.if_icmp .ne 7, 3) := dk_160 0 7 (dk_at dksX9_command_4 6 rfl rfl)
theorem dX9_command_105 : decode cX9_command 105 = .ok (.iconst 1, 1) := dk_4 (dk_at dksX9_command_4 9 rfl rfl)
theorem dX9_command_106 : decode cX9_command 106 = .ok (.goto 5, 3) := dk_167 0 5 (dk_at dksX9_command_4 10 rfl rfl)
theorem dX9_command_109 : decode cX9_command 109 = .ok (.bipush 9, 2) := dk_16 9 (dk_at dksX9_command_4 13 rfl rfl)
theorem dX9_command_111 : decode cX9_command 111 = .ok (.invokevirtual 49, 3) := dk_182 0 49 (dk_at dksX9_command_4 15 rfl rfl)
theorem dX9_command_114 : decode cX9_command 114 = .ok (.istore_n 2, 1) := dk_61 (dk_at dksX9_command_4 18 rfl rfl)
theorem dX9_command_115 : decode cX9_command 115 = .ok (.iload_n 1, 1) := dk_27 (dk_at dksX9_command_4 19 rfl rfl)
theorem dX9_command_116 : decode cX9_command 116 = .ok (.bipush 102, 2) := dk_16 102 (dk_at dksX9_command_4 20 rfl rfl)
theorem dX9_command_118 : decode cX9_command 118 = .ok (.if_icmp .eq 14, 3) := dk_159 0 14 (dk_at dksX9_command_5 0 rfl rfl)
theorem dX9_command_121 : decode cX9_command 121 = .ok (.new 60, 3) := dk_187 0 60 (dk_at dksX9_command_5 3 rfl rfl)
theorem dX9_command_124 : decode cX9_command 124 = .ok (.dup, 1) := dk_89 (dk_at dksX9_command_5 6 rfl rfl)
theorem dX9_command_125 : decode cX9_command 125 = .ok (.iload_n 1, 1) := dk_27 (dk_at dksX9_command_5 7 rfl rfl)
theorem dX9_command_126 : decode cX9_command 126 = .ok (.iload_n 2, 1) := dk_28 (dk_at dksX9_command_5 8 rfl rfl)
theorem dX9_command_127 : decode cX9_command 127 = .ok (.iconst 0, 1) := dk_3 (dk_at dksX9_command_5 9 rfl rfl)
theorem dX9_command_128 : decode cX9_command 128 = .ok (.invokespecial 62, 3) := dk_183 0 62 (dk_at dksX9_command_5 10 rfl rfl)
theorem dX9_command_131 : decode cX9_command 131 = .ok (.areturn, 1) := dk_176 (dk_at dksX9_command_5 13 rfl rfl)
theorem dX9_command_132 : decode cX9_command 132 = .ok (.aload_n 0, 1) := dk_42 (dk_at dksX9_command_5 14 rfl rfl)
theorem dX9_command_133 : decode cX9_command 133 = .ok (.bipush 58, 2) := dk_16 58 (dk_at dksX9_command_5 15 rfl rfl)
theorem dX9_command_135 : decode cX9_command 135 = .ok (.invokevirtual 65, 3) := dk_182 0 65 (dk_at dksX9_command_5 17 rfl rfl)
theorem dX9_command_138 : decode cX9_command 138 = .ok (.new 60, 3) := dk_187 0 60 (dk_at dksX9_command_5 20 rfl rfl)
theorem dX9_command_141 : decode cX9_command 141 = .ok (.dup, 1) := dk_89 (dk_at dksX9_command_5 23 rfl rfl)
theorem dX9_command_142 : decode cX9_command 142 = .ok (.iload_n 1, 1) := dk_27 (dk_at dksX9_command_6 0 rfl rfl)
theorem dX9_command_143 : decode cX9_command 143 = .ok (.iload_n 2, 1) := dk_28 (dk_at dksX9_command_6 1 rfl rfl)
theorem dX9_command_144 : decode cX9_command 144 = .ok (.aload_n 0, 1) := dk_42 (dk_at dksX9_command_6 2 rfl rfl)
theorem dX9_command_145 : decode cX9_command 145 = .ok (.invokevirtual 69, 3) := dk_182 0 69 (dk_at dksX9_command_6 3 rfl rfl)
theorem dX9_command_148 : decode cX9_command 148 = .ok (.invokespecial 62, 3) := dk_183 0 62 (dk_at dksX9_command_6 6 rfl rfl)
theorem dX9_command_151 : decode cX9_command 151 = .ok (.areturn, 1) := dk_176 (dk_at dksX9_command_6 9 rfl rfl)
abbrev cX9_digit : ByteArray := prog_5_method_4_code
def yX9_digit : MethodName := ⟨RX9, "digit", "(I)I"⟩
def dkwX9_digit_2 : List UInt8 := [16, 48, 100, 172]
abbrev dktX9_digit_2 : List UInt8 := dkwX9_digit_2 ++ []
def dkwX9_digit_1 : List UInt8 := [183, 0, 46, 191, 42, 180, 0, 18, 42, 89, 180, 0, 22, 90, 4, 96, 181, 0, 22, 185, 0, 32, 2, 0]
abbrev dktX9_digit_1 : List UInt8 := dkwX9_digit_1 ++ dktX9_digit_2
def dkwX9_digit_0 : List UInt8 := [42, 16, 48, 16, 48, 27, 96, 146, 182, 0, 40, 154, 0, 15, 187, 0, 44, 89, 42, 180, 0, 22]
abbrev dktX9_digit_0 : List UInt8 := dkwX9_digit_0 ++ dktX9_digit_1
theorem dksX9_digit_0 : cX9_digit.data.toList.drop 0 = dktX9_digit_0 := by decide +kernel
theorem dksX9_digit_1 : cX9_digit.data.toList.drop 22 = dktX9_digit_1 := dk_seg dksX9_digit_0 22 rfl rfl
theorem dksX9_digit_2 : cX9_digit.data.toList.drop 46 = dktX9_digit_2 := dk_seg dksX9_digit_1 24 rfl rfl
theorem dX9_digit_0 : decode cX9_digit 0 = .ok (.aload_n 0, 1) := dk_42 (dk_at dksX9_digit_0 0 rfl rfl)
theorem dX9_digit_1 : decode cX9_digit 1 = .ok (.bipush 48, 2) := dk_16 48 (dk_at dksX9_digit_0 1 rfl rfl)
theorem dX9_digit_3 : decode cX9_digit 3 = .ok (.bipush 48, 2) := dk_16 48 (dk_at dksX9_digit_0 3 rfl rfl)
theorem dX9_digit_5 : decode cX9_digit 5 = .ok (.iload_n 1, 1) := dk_27 (dk_at dksX9_digit_0 5 rfl rfl)
theorem dX9_digit_6 : decode cX9_digit 6 = .ok (.iadd, 1) := dk_96 (dk_at dksX9_digit_0 6 rfl rfl)
theorem dX9_digit_7 : decode cX9_digit 7 = .ok (.i2c, 1) := dk_146 (dk_at dksX9_digit_0 7 rfl rfl)
theorem dX9_digit_8 : decode cX9_digit 8 = .ok (.invokevirtual 40, 3) := dk_182 0 40 (dk_at dksX9_digit_0 8 rfl rfl)
theorem dX9_digit_11 : decode cX9_digit 11 = .ok (.ifCond .ne 15, 3) := dk_154 0 15 (dk_at dksX9_digit_0 11 rfl rfl)
theorem dX9_digit_14 : decode cX9_digit 14 = .ok (.new 44, 3) := dk_187 0 44 (dk_at dksX9_digit_0 14 rfl rfl)
theorem dX9_digit_17 : decode cX9_digit 17 = .ok (.dup, 1) := dk_89 (dk_at dksX9_digit_0 17 rfl rfl)
theorem dX9_digit_18 : decode cX9_digit 18 = .ok (.aload_n 0, 1) := dk_42 (dk_at dksX9_digit_0 18 rfl rfl)
theorem dX9_digit_19 : decode cX9_digit 19 = .ok (.getfield 22, 3) := dk_180 0 22 (dk_at dksX9_digit_0 19 rfl rfl)
theorem dX9_digit_22 : decode cX9_digit 22 = .ok (.invokespecial 46, 3) := dk_183 0 46 (dk_at dksX9_digit_1 0 rfl rfl)
theorem dX9_digit_25 : decode cX9_digit 25 = .ok (.athrow, 1) := dk_191 (dk_at dksX9_digit_1 3 rfl rfl)
theorem dX9_digit_26 : decode cX9_digit 26 = .ok (.aload_n 0, 1) := dk_42 (dk_at dksX9_digit_1 4 rfl rfl)
theorem dX9_digit_27 : decode cX9_digit 27 = .ok (.getfield 18, 3) := dk_180 0 18 (dk_at dksX9_digit_1 5 rfl rfl)
theorem dX9_digit_30 : decode cX9_digit 30 = .ok (.aload_n 0, 1) := dk_42 (dk_at dksX9_digit_1 8 rfl rfl)
theorem dX9_digit_31 : decode cX9_digit 31 = .ok (.dup, 1) := dk_89 (dk_at dksX9_digit_1 9 rfl rfl)
theorem dX9_digit_32 : decode cX9_digit 32 = .ok (.getfield 22, 3) := dk_180 0 22 (dk_at dksX9_digit_1 10 rfl rfl)
theorem dX9_digit_35 : decode cX9_digit 35 = .ok (.dup_x1, 1) := dk_90 (dk_at dksX9_digit_1 13 rfl rfl)
theorem dX9_digit_36 : decode cX9_digit 36 = .ok (.iconst 1, 1) := dk_4 (dk_at dksX9_digit_1 14 rfl rfl)
theorem dX9_digit_37 : decode cX9_digit 37 = .ok (.iadd, 1) := dk_96 (dk_at dksX9_digit_1 15 rfl rfl)
theorem dX9_digit_38 : decode cX9_digit 38 = .ok (.putfield 22, 3) := dk_181 0 22 (dk_at dksX9_digit_1 16 rfl rfl)
theorem dX9_digit_41 : decode cX9_digit 41 = .ok (.invokeinterface 32 2, 5) := by decide +kernel
theorem dX9_digit_46 : decode cX9_digit 46 = .ok (.bipush 48, 2) := dk_16 48 (dk_at dksX9_digit_2 0 rfl rfl)
theorem dX9_digit_48 : decode cX9_digit 48 = .ok (.isub, 1) := dk_100 (dk_at dksX9_digit_2 2 rfl rfl)
theorem dX9_digit_49 : decode cX9_digit 49 = .ok (.ireturn, 1) := dk_172 (dk_at dksX9_digit_2 3 rfl rfl)
abbrev cX9_isNext : ByteArray := prog_5_method_2_code
def yX9_isNext : MethodName := ⟨RX9, "isNext", "(CC)Z"⟩
def dkwX9_isNext_1 : List UInt8 := [185, 0, 32, 2, 0, 27, 28, 184, 0, 36, 153, 0, 7, 4, 167, 0, 4, 3, 172]
abbrev dktX9_isNext_1 : List UInt8 := dkwX9_isNext_1 ++ []
def dkwX9_isNext_0 : List UInt8 := [42, 180, 0, 22, 42, 180, 0, 18, 185, 0, 26, 1, 0, 162, 0, 28, 42, 180, 0, 18, 42, 180, 0, 22]
abbrev dktX9_isNext_0 : List UInt8 := dkwX9_isNext_0 ++ dktX9_isNext_1
theorem dksX9_isNext_0 : cX9_isNext.data.toList.drop 0 = dktX9_isNext_0 := by decide +kernel
theorem dksX9_isNext_1 : cX9_isNext.data.toList.drop 24 = dktX9_isNext_1 := dk_seg dksX9_isNext_0 24 rfl rfl
theorem dX9_isNext_0 : decode cX9_isNext 0 = .ok (.aload_n 0, 1) := dk_42 (dk_at dksX9_isNext_0 0 rfl rfl)
theorem dX9_isNext_1 : decode cX9_isNext 1 = .ok (.getfield 22, 3) := dk_180 0 22 (dk_at dksX9_isNext_0 1 rfl rfl)
theorem dX9_isNext_4 : decode cX9_isNext 4 = .ok (.aload_n 0, 1) := dk_42 (dk_at dksX9_isNext_0 4 rfl rfl)
theorem dX9_isNext_5 : decode cX9_isNext 5 = .ok (.getfield 18, 3) := dk_180 0 18 (dk_at dksX9_isNext_0 5 rfl rfl)
theorem dX9_isNext_8 : decode cX9_isNext 8 = .ok (.invokeinterface 26 1, 5) := by decide +kernel
theorem dX9_isNext_13 : decode cX9_isNext 13 = .ok (.if_icmp .ge 28, 3) := dk_162 0 28 (dk_at dksX9_isNext_0 13 rfl rfl)
theorem dX9_isNext_16 : decode cX9_isNext 16 = .ok (.aload_n 0, 1) := dk_42 (dk_at dksX9_isNext_0 16 rfl rfl)
theorem dX9_isNext_17 : decode cX9_isNext 17 = .ok (.getfield 18, 3) := dk_180 0 18 (dk_at dksX9_isNext_0 17 rfl rfl)
theorem dX9_isNext_20 : decode cX9_isNext 20 = .ok (.aload_n 0, 1) := dk_42 (dk_at dksX9_isNext_0 20 rfl rfl)
theorem dX9_isNext_21 : decode cX9_isNext 21 = .ok (.getfield 22, 3) := dk_180 0 22 (dk_at dksX9_isNext_0 21 rfl rfl)
theorem dX9_isNext_24 : decode cX9_isNext 24 = .ok (.invokeinterface 32 2, 5) := by decide +kernel
theorem dX9_isNext_29 : decode cX9_isNext 29 = .ok (.iload_n 1, 1) := dk_27 (dk_at dksX9_isNext_1 5 rfl rfl)
theorem dX9_isNext_30 : decode cX9_isNext 30 = .ok (.iload_n 2, 1) := dk_28 (dk_at dksX9_isNext_1 6 rfl rfl)
theorem dX9_isNext_31 : decode cX9_isNext 31 = .ok (.invokestatic 36, 3) := dk_184 0 36 (dk_at dksX9_isNext_1 7 rfl rfl)
theorem dX9_isNext_34 : decode cX9_isNext 34 = .ok (.ifCond .eq 7, 3) := dk_153 0 7 (dk_at dksX9_isNext_1 10 rfl rfl)
theorem dX9_isNext_37 : decode cX9_isNext 37 = .ok (.iconst 1, 1) := dk_4 (dk_at dksX9_isNext_1 13 rfl rfl)
theorem dX9_isNext_38 : decode cX9_isNext 38 = .ok (.goto 4, 3) := dk_167 0 4 (dk_at dksX9_isNext_1 14 rfl rfl)
theorem dX9_isNext_41 : decode cX9_isNext 41 = .ok (.iconst 0, 1) := dk_3 (dk_at dksX9_isNext_1 17 rfl rfl)
theorem dX9_isNext_42 : decode cX9_isNext 42 = .ok (.ireturn, 1) := dk_172 (dk_at dksX9_isNext_1 18 rfl rfl)
abbrev cX9_take : ByteArray := prog_5_method_3_code
def yX9_take : MethodName := ⟨RX9, "take", "(C)V"⟩
def dkwX9_take_1 : List UInt8 := [180, 0, 22, 4, 96, 181, 0, 22, 177]
abbrev dktX9_take_1 : List UInt8 := dkwX9_take_1 ++ []
def dkwX9_take_0 : List UInt8 := [42, 27, 27, 182, 0, 40, 154, 0, 15, 187, 0, 44, 89, 42, 180, 0, 22, 183, 0, 46, 191, 42, 89]
abbrev dktX9_take_0 : List UInt8 := dkwX9_take_0 ++ dktX9_take_1
theorem dksX9_take_0 : cX9_take.data.toList.drop 0 = dktX9_take_0 := by decide +kernel
theorem dksX9_take_1 : cX9_take.data.toList.drop 23 = dktX9_take_1 := dk_seg dksX9_take_0 23 rfl rfl
theorem dX9_take_0 : decode cX9_take 0 = .ok (.aload_n 0, 1) := dk_42 (dk_at dksX9_take_0 0 rfl rfl)
theorem dX9_take_1 : decode cX9_take 1 = .ok (.iload_n 1, 1) := dk_27 (dk_at dksX9_take_0 1 rfl rfl)
theorem dX9_take_2 : decode cX9_take 2 = .ok (.iload_n 1, 1) := dk_27 (dk_at dksX9_take_0 2 rfl rfl)
theorem dX9_take_3 : decode cX9_take 3 = .ok (.invokevirtual 40, 3) := dk_182 0 40 (dk_at dksX9_take_0 3 rfl rfl)
theorem dX9_take_6 : decode cX9_take 6 = .ok (.ifCond .ne 15, 3) := dk_154 0 15 (dk_at dksX9_take_0 6 rfl rfl)
theorem dX9_take_9 : decode cX9_take 9 = .ok (.new 44, 3) := dk_187 0 44 (dk_at dksX9_take_0 9 rfl rfl)
theorem dX9_take_12 : decode cX9_take 12 = .ok (.dup, 1) := dk_89 (dk_at dksX9_take_0 12 rfl rfl)
theorem dX9_take_13 : decode cX9_take 13 = .ok (.aload_n 0, 1) := dk_42 (dk_at dksX9_take_0 13 rfl rfl)
theorem dX9_take_14 : decode cX9_take 14 = .ok (.getfield 22, 3) := dk_180 0 22 (dk_at dksX9_take_0 14 rfl rfl)
theorem dX9_take_17 : decode cX9_take 17 = .ok (.invokespecial 46, 3) := dk_183 0 46 (dk_at dksX9_take_0 17 rfl rfl)
theorem dX9_take_20 : decode cX9_take 20 = .ok (.athrow, 1) := dk_191 (dk_at dksX9_take_0 20 rfl rfl)
theorem dX9_take_21 : decode cX9_take 21 = .ok (.aload_n 0, 1) := dk_42 (dk_at dksX9_take_0 21 rfl rfl)
theorem dX9_take_22 : decode cX9_take 22 = .ok (.dup, 1) := dk_89 (dk_at dksX9_take_0 22 rfl rfl)
theorem dX9_take_23 : decode cX9_take 23 = .ok (.getfield 22, 3) := dk_180 0 22 (dk_at dksX9_take_1 0 rfl rfl)
theorem dX9_take_26 : decode cX9_take 26 = .ok (.iconst 1, 1) := dk_4 (dk_at dksX9_take_1 3 rfl rfl)
theorem dX9_take_27 : decode cX9_take 27 = .ok (.iadd, 1) := dk_96 (dk_at dksX9_take_1 4 rfl rfl)
theorem dX9_take_28 : decode cX9_take 28 = .ok (.putfield 22, 3) := dk_181 0 22 (dk_at dksX9_take_1 5 rfl rfl)
theorem dX9_take_31 : decode cX9_take 31 = .ok (.return_, 1) := dk_177 (dk_at dksX9_take_1 8 rfl rfl)
abbrev cX9_minutes : ByteArray := prog_5_method_5_code
def yX9_minutes : MethodName := ⟨RX9, "minutes", "()I"⟩
def dkwX9_minutes_4 : List UInt8 := [180, 0, 22, 183, 0, 46, 191, 27, 172]
abbrev dktX9_minutes_4 : List UInt8 := dkwX9_minutes_4 ++ []
def dkwX9_minutes_3 : List UInt8 := [27, 104, 42, 16, 9, 182, 0, 49, 96, 60, 167, 255, 206, 27, 8, 112, 158, 0, 15, 187, 0, 44, 89, 42]
abbrev dktX9_minutes_3 : List UInt8 := dkwX9_minutes_3 ++ dktX9_minutes_4
def dkwX9_minutes_2 : List UInt8 := [180, 0, 18, 42, 180, 0, 22, 185, 0, 32, 2, 0, 96, 16, 48, 100, 17, 1, 244, 163, 0, 18, 16, 10]
abbrev dktX9_minutes_2 : List UInt8 := dkwX9_minutes_2 ++ dktX9_minutes_3
def dkwX9_minutes_1 : List UInt8 := [16, 9, 182, 0, 49, 60, 42, 16, 48, 16, 57, 182, 0, 40, 153, 0, 45, 16, 10, 27, 104, 42]
abbrev dktX9_minutes_1 : List UInt8 := dkwX9_minutes_1 ++ dktX9_minutes_2
def dkwX9_minutes_0 : List UInt8 := [42, 16, 49, 16, 57, 182, 0, 40, 154, 0, 15, 187, 0, 44, 89, 42, 180, 0, 22, 183, 0, 46, 191, 42]
abbrev dktX9_minutes_0 : List UInt8 := dkwX9_minutes_0 ++ dktX9_minutes_1
theorem dksX9_minutes_0 : cX9_minutes.data.toList.drop 0 = dktX9_minutes_0 := by decide +kernel
theorem dksX9_minutes_1 : cX9_minutes.data.toList.drop 24 = dktX9_minutes_1 := dk_seg dksX9_minutes_0 24 rfl rfl
theorem dksX9_minutes_2 : cX9_minutes.data.toList.drop 46 = dktX9_minutes_2 := dk_seg dksX9_minutes_1 22 rfl rfl
theorem dksX9_minutes_3 : cX9_minutes.data.toList.drop 70 = dktX9_minutes_3 := dk_seg dksX9_minutes_2 24 rfl rfl
theorem dksX9_minutes_4 : cX9_minutes.data.toList.drop 94 = dktX9_minutes_4 := dk_seg dksX9_minutes_3 24 rfl rfl
theorem dX9_minutes_0 : decode cX9_minutes 0 = .ok (.aload_n 0, 1) := dk_42 (dk_at dksX9_minutes_0 0 rfl rfl)
theorem dX9_minutes_1 : decode cX9_minutes 1 = .ok (.bipush 49, 2) := dk_16 49 (dk_at dksX9_minutes_0 1 rfl rfl)
theorem dX9_minutes_3 : decode cX9_minutes 3 = .ok (.bipush 57, 2) := dk_16 57 (dk_at dksX9_minutes_0 3 rfl rfl)
theorem dX9_minutes_5 : decode cX9_minutes 5 = .ok (.invokevirtual 40, 3) := dk_182 0 40 (dk_at dksX9_minutes_0 5 rfl rfl)
theorem dX9_minutes_8 : decode cX9_minutes 8 = .ok (.ifCond .ne 15, 3) := dk_154 0 15 (dk_at dksX9_minutes_0 8 rfl rfl)
theorem dX9_minutes_11 : decode cX9_minutes 11 = .ok (.new 44, 3) := dk_187 0 44 (dk_at dksX9_minutes_0 11 rfl rfl)
theorem dX9_minutes_14 : decode cX9_minutes 14 = .ok (.dup, 1) := dk_89 (dk_at dksX9_minutes_0 14 rfl rfl)
theorem dX9_minutes_15 : decode cX9_minutes 15 = .ok (.aload_n 0, 1) := dk_42 (dk_at dksX9_minutes_0 15 rfl rfl)
theorem dX9_minutes_16 : decode cX9_minutes 16 = .ok (.getfield 22, 3) := dk_180 0 22 (dk_at dksX9_minutes_0 16 rfl rfl)
theorem dX9_minutes_19 : decode cX9_minutes 19 = .ok (.invokespecial 46, 3) := dk_183 0 46 (dk_at dksX9_minutes_0 19 rfl rfl)
theorem dX9_minutes_22 : decode cX9_minutes 22 = .ok (.athrow, 1) := dk_191 (dk_at dksX9_minutes_0 22 rfl rfl)
theorem dX9_minutes_23 : decode cX9_minutes 23 = .ok (.aload_n 0, 1) := dk_42 (dk_at dksX9_minutes_0 23 rfl rfl)
theorem dX9_minutes_24 : decode cX9_minutes 24 = .ok (.bipush 9, 2) := dk_16 9 (dk_at dksX9_minutes_1 0 rfl rfl)
theorem dX9_minutes_26 : decode cX9_minutes 26 = .ok (.invokevirtual 49, 3) := dk_182 0 49 (dk_at dksX9_minutes_1 2 rfl rfl)
theorem dX9_minutes_29 : decode cX9_minutes 29 = .ok (.istore_n 1, 1) := dk_60 (dk_at dksX9_minutes_1 5 rfl rfl)
theorem dX9_minutes_30 : decode cX9_minutes 30 = .ok (.aload_n 0, 1) := dk_42 (dk_at dksX9_minutes_1 6 rfl rfl)
theorem dX9_minutes_31 : decode cX9_minutes 31 = .ok (.bipush 48, 2) := dk_16 48 (dk_at dksX9_minutes_1 7 rfl rfl)
theorem dX9_minutes_33 : decode cX9_minutes 33 = .ok (.bipush 57, 2) := dk_16 57 (dk_at dksX9_minutes_1 9 rfl rfl)
theorem dX9_minutes_35 : decode cX9_minutes 35 = .ok (.invokevirtual 40, 3) := dk_182 0 40 (dk_at dksX9_minutes_1 11 rfl rfl)
theorem dX9_minutes_38 : decode cX9_minutes 38 = .ok (.ifCond .eq 45, 3) := dk_153 0 45 (dk_at dksX9_minutes_1 14 rfl rfl)
theorem dX9_minutes_41 : decode cX9_minutes 41 = .ok (.bipush 10, 2) := dk_16 10 (dk_at dksX9_minutes_1 17 rfl rfl)
theorem dX9_minutes_43 : decode cX9_minutes 43 = .ok (.iload_n 1, 1) := dk_27 (dk_at dksX9_minutes_1 19 rfl rfl)
theorem dX9_minutes_44 : decode cX9_minutes 44 = .ok (.imul, 1) := dk_104 (dk_at dksX9_minutes_1 20 rfl rfl)
theorem dX9_minutes_45 : decode cX9_minutes 45 = .ok (.aload_n 0, 1) := dk_42 (dk_at dksX9_minutes_1 21 rfl rfl)
theorem dX9_minutes_46 : decode cX9_minutes 46 = .ok (.getfield 18, 3) := dk_180 0 18 (dk_at dksX9_minutes_2 0 rfl rfl)
theorem dX9_minutes_49 : decode cX9_minutes 49 = .ok (.aload_n 0, 1) := dk_42 (dk_at dksX9_minutes_2 3 rfl rfl)
theorem dX9_minutes_50 : decode cX9_minutes 50 = .ok (.getfield 22, 3) := dk_180 0 22 (dk_at dksX9_minutes_2 4 rfl rfl)
theorem dX9_minutes_53 : decode cX9_minutes 53 = .ok (.invokeinterface 32 2, 5) := by decide +kernel
theorem dX9_minutes_58 : decode cX9_minutes 58 = .ok (.iadd, 1) := dk_96 (dk_at dksX9_minutes_2 12 rfl rfl)
theorem dX9_minutes_59 : decode cX9_minutes 59 = .ok (.bipush 48, 2) := dk_16 48 (dk_at dksX9_minutes_2 13 rfl rfl)
theorem dX9_minutes_61 : decode cX9_minutes 61 = .ok (.isub, 1) := dk_100 (dk_at dksX9_minutes_2 15 rfl rfl)
theorem dX9_minutes_62 : decode cX9_minutes 62 = .ok (.sipush 500, 3) := dk_17 1 244 (dk_at dksX9_minutes_2 16 rfl rfl)
theorem dX9_minutes_65 : decode cX9_minutes 65 = .ok (.if_icmp .gt 18, 3) := dk_163 0 18 (dk_at dksX9_minutes_2 19 rfl rfl)
theorem dX9_minutes_68 : decode cX9_minutes 68 = .ok (.bipush 10, 2) := dk_16 10 (dk_at dksX9_minutes_2 22 rfl rfl)
theorem dX9_minutes_70 : decode cX9_minutes 70 = .ok (.iload_n 1, 1) := dk_27 (dk_at dksX9_minutes_3 0 rfl rfl)
theorem dX9_minutes_71 : decode cX9_minutes 71 = .ok (.imul, 1) := dk_104 (dk_at dksX9_minutes_3 1 rfl rfl)
theorem dX9_minutes_72 : decode cX9_minutes 72 = .ok (.aload_n 0, 1) := dk_42 (dk_at dksX9_minutes_3 2 rfl rfl)
theorem dX9_minutes_73 : decode cX9_minutes 73 = .ok (.bipush 9, 2) := dk_16 9 (dk_at dksX9_minutes_3 3 rfl rfl)
theorem dX9_minutes_75 : decode cX9_minutes 75 = .ok (.invokevirtual 49, 3) := dk_182 0 49 (dk_at dksX9_minutes_3 5 rfl rfl)
theorem dX9_minutes_78 : decode cX9_minutes 78 = .ok (.iadd, 1) := dk_96 (dk_at dksX9_minutes_3 8 rfl rfl)
theorem dX9_minutes_79 : decode cX9_minutes 79 = .ok (.istore_n 1, 1) := dk_60 (dk_at dksX9_minutes_3 9 rfl rfl)
theorem dX9_minutes_80 : decode cX9_minutes 80 = .ok (.goto (-50), 3) := dk_167 255 206 (dk_at dksX9_minutes_3 10 rfl rfl)
theorem dX9_minutes_83 : decode cX9_minutes 83 = .ok (.iload_n 1, 1) := dk_27 (dk_at dksX9_minutes_3 13 rfl rfl)
theorem dX9_minutes_84 : decode cX9_minutes 84 = .ok (.iconst 5, 1) := dk_8 (dk_at dksX9_minutes_3 14 rfl rfl)
theorem dX9_minutes_85 : decode cX9_minutes 85 = .ok (.irem, 1) := dk_112 (dk_at dksX9_minutes_3 15 rfl rfl)
theorem dX9_minutes_86 : decode cX9_minutes 86 = .ok (.ifCond .le 15, 3) := dk_158 0 15 (dk_at dksX9_minutes_3 16 rfl rfl)
theorem dX9_minutes_89 : decode cX9_minutes 89 = .ok (.new 44, 3) := dk_187 0 44 (dk_at dksX9_minutes_3 19 rfl rfl)
theorem dX9_minutes_92 : decode cX9_minutes 92 = .ok (.dup, 1) := dk_89 (dk_at dksX9_minutes_3 22 rfl rfl)
theorem dX9_minutes_93 : decode cX9_minutes 93 = .ok (.aload_n 0, 1) := dk_42 (dk_at dksX9_minutes_3 23 rfl rfl)
theorem dX9_minutes_94 : decode cX9_minutes 94 = .ok (.getfield 22, 3) := dk_180 0 22 (dk_at dksX9_minutes_4 0 rfl rfl)
theorem dX9_minutes_97 : decode cX9_minutes 97 = .ok (.invokespecial 46, 3) := dk_183 0 46 (dk_at dksX9_minutes_4 3 rfl rfl)
theorem dX9_minutes_100 : decode cX9_minutes 100 = .ok (.athrow, 1) := dk_191 (dk_at dksX9_minutes_4 6 rfl rfl)
theorem dX9_minutes_101 : decode cX9_minutes 101 = .ok (.iload_n 1, 1) := dk_27 (dk_at dksX9_minutes_4 7 rfl rfl)
theorem dX9_minutes_102 : decode cX9_minutes 102 = .ok (.ireturn, 1) := dk_172 (dk_at dksX9_minutes_4 8 rfl rfl)
theorem q71 : (Jvm.Cond.initialized "BarnPictures$Reader") ∈ lw_all := lw_g (lw_at lw_m1 26 rfl) rfl
theorem q464 : (Jvm.Cond.selects "BarnPictures$Reader" ({ cls := "java/lang/Object", name := "getClass", desc := "()Ljava/lang/Class;" } : Jvm.MethodName) ({ cls := "java/lang/Object", name := "getClass", desc := "()Ljava/lang/Class;" } : Jvm.MethodName)) ∈ lw_all := lw_g (lw_at lw_m2 179 rfl) rfl
theorem q773 : (Jvm.Cond.instantiable "BarnPictures$Reader" (3 : Nat)) ∈ lw_all := lw_g (lw_at lw_m4 8 rfl) rfl
theorem q775 : (Jvm.Cond.instanceMethod ({ cls := "BarnPictures$Reader", name := "<init>", desc := "(Ljava/lang/CharSequence;)V" } : Jvm.MethodName)) ∈ lw_all := lw_g (lw_at lw_m4 10 rfl) rfl
theorem q776 : (Jvm.Cond.code ({ cls := "BarnPictures$Reader", name := "<init>", desc := "(Ljava/lang/CharSequence;)V" } : Jvm.MethodName) prog_5_method_1_code (2 : Nat) (Option.none : Option Jvm.ClassFile.FieldType)) ∈ lw_all := lw_g (lw_at lw_m4 11 rfl) rfl
theorem q777 : (Jvm.Cond.methodLink "BarnPictures$Reader" (3 : Nat) ({ cls := "java/lang/Object", name := "<init>", desc := "()V" } : Jvm.MethodName)) ∈ lw_all := lw_g (lw_at lw_m4 12 rfl) rfl
theorem q778 : (Jvm.Cond.classLink "BarnPictures$Reader" (9 : Nat) "java/util/ArrayList") ∈ lw_all := lw_g (lw_at lw_m4 13 rfl) rfl
theorem q779 : (Jvm.Cond.methodLink "BarnPictures$Reader" (11 : Nat) ({ cls := "java/util/ArrayList", name := "<init>", desc := "()V" } : Jvm.MethodName)) ∈ lw_all := lw_g (lw_at lw_m4 14 rfl) rfl
theorem q780 : (Jvm.Cond.fieldLink "BarnPictures$Reader" (18 : Nat) "BarnPictures$Reader" "signs" "Ljava/lang/CharSequence;") ∈ lw_all := lw_g (lw_at lw_m4 15 rfl) rfl
theorem q781 : (Jvm.Cond.fieldLink "BarnPictures$Reader" (12 : Nat) "BarnPictures$Reader" "commands" "Ljava/util/List;") ∈ lw_all := lw_g (lw_at lw_m4 16 rfl) rfl
theorem q783 : (Jvm.Cond.fieldLink "BarnPictures$Reader" (22 : Nat) "BarnPictures$Reader" "place" "I") ∈ lw_all := lw_g (lw_at lw_m4 18 rfl) rfl
theorem q784 : (Jvm.Cond.laysFinal "BarnPictures$Reader" "BarnPictures$Reader" "signs" "Ljava/lang/CharSequence;") ∈ lw_all := lw_g (lw_at lw_m4 19 rfl) rfl
theorem q785 : (Jvm.Cond.soleField "BarnPictures$Reader" "signs") ∈ lw_all := lw_g (lw_at lw_m4 20 rfl) rfl
theorem q786 : (Jvm.Cond.laysFinal "BarnPictures$Reader" "BarnPictures$Reader" "commands" "Ljava/util/List;") ∈ lw_all := lw_g (lw_at lw_m4 21 rfl) rfl
theorem q787 : (Jvm.Cond.soleField "BarnPictures$Reader" "commands") ∈ lw_all := lw_g (lw_at lw_m4 22 rfl) rfl
theorem q788 : (Jvm.Cond.lays "BarnPictures$Reader" "BarnPictures$Reader" "place" "I") ∈ lw_all := lw_g (lw_at lw_m4 23 rfl) rfl
theorem q789 : (Jvm.Cond.soleField "BarnPictures$Reader" "place") ∈ lw_all := lw_g (lw_at lw_m4 24 rfl) rfl
theorem q790 : (Jvm.Cond.superclass "BarnPictures$Reader" "java/lang/Object") ∈ lw_all := lw_g (lw_at lw_m4 25 rfl) rfl
theorem q792 : (Jvm.Cond.instanceMethod ({ cls := "BarnPictures$Reader", name := "read", desc := "()V" } : Jvm.MethodName)) ∈ lw_all := lw_g (lw_at lw_m4 27 rfl) rfl
theorem q793 : (Jvm.Cond.selects "BarnPictures$Reader" ({ cls := "BarnPictures$Reader", name := "read", desc := "()V" } : Jvm.MethodName) ({ cls := "BarnPictures$Reader", name := "read", desc := "()V" } : Jvm.MethodName)) ∈ lw_all := lw_g (lw_at lw_m4 28 rfl) rfl
theorem q794 : (Jvm.Cond.code ({ cls := "BarnPictures$Reader", name := "read", desc := "()V" } : Jvm.MethodName) prog_5_method_7_code (1 : Nat) (Option.none : Option Jvm.ClassFile.FieldType)) ∈ lw_all := lw_g (lw_at lw_m4 29 rfl) rfl
theorem q795 : (Jvm.Cond.methodLink "BarnPictures$Reader" (72 : Nat) ({ cls := "BarnPictures$Reader", name := "command", desc := "()LBarnPictures$Command;" } : Jvm.MethodName)) ∈ lw_all := lw_g (lw_at lw_m4 30 rfl) rfl
theorem q796 : (Jvm.Cond.privateMethod ({ cls := "BarnPictures$Reader", name := "command", desc := "()LBarnPictures$Command;" } : Jvm.MethodName)) ∈ lw_tbl := lw_at lw_m4 31 rfl
theorem q797 : (Jvm.Cond.instanceMethod ({ cls := "BarnPictures$Reader", name := "command", desc := "()LBarnPictures$Command;" } : Jvm.MethodName)) ∈ lw_all := lw_g (lw_at lw_m4 32 rfl) rfl
theorem q798 : (Jvm.Cond.code ({ cls := "BarnPictures$Reader", name := "command", desc := "()LBarnPictures$Command;" } : Jvm.MethodName) prog_5_method_6_code (3 : Nat) (Option.some (Jvm.ClassFile.FieldType.object "BarnPictures$Command"))) ∈ lw_all := lw_g (lw_at lw_m4 33 rfl) rfl
theorem q799 : (Jvm.Cond.interfaceEntry "BarnPictures$Reader" (26 : Nat)) ∈ lw_tbl := lw_at lw_m4 34 rfl
theorem q800 : (Jvm.Cond.methodLink "BarnPictures$Reader" (26 : Nat) ({ cls := "java/lang/CharSequence", name := "length", desc := "()I" } : Jvm.MethodName)) ∈ lw_all := lw_g (lw_at lw_m4 35 rfl) rfl
theorem q807 : (Jvm.Cond.interfaceEntry "BarnPictures$Reader" (32 : Nat)) ∈ lw_tbl := lw_at lw_m4 42 rfl
theorem q808 : (Jvm.Cond.methodLink "BarnPictures$Reader" (32 : Nat) ({ cls := "java/lang/CharSequence", name := "charAt", desc := "(I)C" } : Jvm.MethodName)) ∈ lw_all := lw_g (lw_at lw_m4 43 rfl) rfl
theorem q824 : (Jvm.Cond.stringRef "BarnPictures$Reader" (53 : Nat) "v+-gfsd") ∈ lw_tbl := lw_at lw_m4 59 rfl
theorem q825 : (Jvm.Cond.methodLink "BarnPictures$Reader" (55 : Nat) ({ cls := "java/lang/String", name := "indexOf", desc := "(I)I" } : Jvm.MethodName)) ∈ lw_all := lw_g (lw_at lw_m4 60 rfl) rfl
theorem q893 : (Jvm.Cond.classLink "BarnPictures$Reader" (44 : Nat) "BarnPictures$TextFault") ∈ lw_all := lw_g (lw_at lw_m4 128 rfl) rfl
theorem q902 : (Jvm.Cond.methodLink "BarnPictures$Reader" (46 : Nat) ({ cls := "BarnPictures$TextFault", name := "<init>", desc := "(I)V" } : Jvm.MethodName)) ∈ lw_all := lw_g (lw_at lw_m4 137 rfl) rfl
theorem q912 : (Jvm.Cond.methodLink "BarnPictures$Reader" (49 : Nat) ({ cls := "BarnPictures$Reader", name := "digit", desc := "(I)I" } : Jvm.MethodName)) ∈ lw_all := lw_g (lw_at lw_m4 147 rfl) rfl
theorem q913 : (Jvm.Cond.privateMethod ({ cls := "BarnPictures$Reader", name := "digit", desc := "(I)I" } : Jvm.MethodName)) ∈ lw_tbl := lw_at lw_m4 148 rfl
theorem q914 : (Jvm.Cond.instanceMethod ({ cls := "BarnPictures$Reader", name := "digit", desc := "(I)I" } : Jvm.MethodName)) ∈ lw_all := lw_g (lw_at lw_m4 149 rfl) rfl
theorem q915 : (Jvm.Cond.code ({ cls := "BarnPictures$Reader", name := "digit", desc := "(I)I" } : Jvm.MethodName) prog_5_method_4_code (2 : Nat) (Option.some Jvm.ClassFile.FieldType.int)) ∈ lw_all := lw_g (lw_at lw_m4 150 rfl) rfl
theorem q916 : (Jvm.Cond.methodLink "BarnPictures$Reader" (40 : Nat) ({ cls := "BarnPictures$Reader", name := "isNext", desc := "(CC)Z" } : Jvm.MethodName)) ∈ lw_all := lw_g (lw_at lw_m4 151 rfl) rfl
theorem q917 : (Jvm.Cond.privateMethod ({ cls := "BarnPictures$Reader", name := "isNext", desc := "(CC)Z" } : Jvm.MethodName)) ∈ lw_tbl := lw_at lw_m4 152 rfl
theorem q918 : (Jvm.Cond.instanceMethod ({ cls := "BarnPictures$Reader", name := "isNext", desc := "(CC)Z" } : Jvm.MethodName)) ∈ lw_all := lw_g (lw_at lw_m4 153 rfl) rfl
theorem q919 : (Jvm.Cond.code ({ cls := "BarnPictures$Reader", name := "isNext", desc := "(CC)Z" } : Jvm.MethodName) prog_5_method_2_code (3 : Nat) (Option.some Jvm.ClassFile.FieldType.boolean)) ∈ lw_all := lw_g (lw_at lw_m4 154 rfl) rfl
theorem q920 : (Jvm.Cond.methodLinkNest "BarnPictures$Reader" (36 : Nat) ({ cls := "BarnPictures", name := "inRange", desc := "(III)Z" } : Jvm.MethodName) "BarnPictures") ∈ lw_tbl := lw_at lw_m4 155 rfl
theorem q921 : (Jvm.Cond.classLink "BarnPictures$Reader" (60 : Nat) "BarnPictures$Command") ∈ lw_all := lw_g (lw_at lw_m4 156 rfl) rfl
theorem q923 : (Jvm.Cond.methodLink "BarnPictures$Reader" (62 : Nat) ({ cls := "BarnPictures$Command", name := "<init>", desc := "(CII)V" } : Jvm.MethodName)) ∈ lw_all := lw_g (lw_at lw_m4 158 rfl) rfl
theorem q937 : (Jvm.Cond.methodLink "BarnPictures$Reader" (65 : Nat) ({ cls := "BarnPictures$Reader", name := "take", desc := "(C)V" } : Jvm.MethodName)) ∈ lw_all := lw_g (lw_at lw_m4 172 rfl) rfl
theorem q938 : (Jvm.Cond.privateMethod ({ cls := "BarnPictures$Reader", name := "take", desc := "(C)V" } : Jvm.MethodName)) ∈ lw_tbl := lw_at lw_m4 173 rfl
theorem q939 : (Jvm.Cond.instanceMethod ({ cls := "BarnPictures$Reader", name := "take", desc := "(C)V" } : Jvm.MethodName)) ∈ lw_all := lw_g (lw_at lw_m4 174 rfl) rfl
theorem q940 : (Jvm.Cond.code ({ cls := "BarnPictures$Reader", name := "take", desc := "(C)V" } : Jvm.MethodName) prog_5_method_3_code (2 : Nat) (Option.none : Option Jvm.ClassFile.FieldType)) ∈ lw_all := lw_g (lw_at lw_m4 175 rfl) rfl
theorem q941 : (Jvm.Cond.methodLink "BarnPictures$Reader" (69 : Nat) ({ cls := "BarnPictures$Reader", name := "minutes", desc := "()I" } : Jvm.MethodName)) ∈ lw_all := lw_g (lw_at lw_m4 176 rfl) rfl
theorem q942 : (Jvm.Cond.privateMethod ({ cls := "BarnPictures$Reader", name := "minutes", desc := "()I" } : Jvm.MethodName)) ∈ lw_tbl := lw_at lw_m4 177 rfl
theorem q943 : (Jvm.Cond.instanceMethod ({ cls := "BarnPictures$Reader", name := "minutes", desc := "()I" } : Jvm.MethodName)) ∈ lw_all := lw_g (lw_at lw_m4 178 rfl) rfl
theorem q944 : (Jvm.Cond.code ({ cls := "BarnPictures$Reader", name := "minutes", desc := "()I" } : Jvm.MethodName) prog_5_method_5_code (2 : Nat) (Option.some Jvm.ClassFile.FieldType.int)) ∈ lw_all := lw_g (lw_at lw_m4 179 rfl) rfl
theorem q945 : (Jvm.Cond.interfaceEntry "BarnPictures$Reader" (76 : Nat)) ∈ lw_tbl := lw_at lw_m4 180 rfl
theorem q946 : (Jvm.Cond.methodLink "BarnPictures$Reader" (76 : Nat) ({ cls := "java/util/List", name := "add", desc := "(Ljava/lang/Object;)Z" } : Jvm.MethodName)) ∈ lw_all := lw_g (lw_at lw_m4 181 rfl) rfl
theorem q1391 : (Jvm.Cond.castable "BarnPictures$Reader" "java/lang/Object") ∈ lw_tbl := lw_at lw_m6 146 rfl
theorem in_X9 : ∀ w ∈ wsX90, w ∈ lw_all := lw_in wsX90 [784, 786, 788] (by decide +kernel) (by decide +kernel)
/-! BarnPictures$TextFault -/
set_option maxRecDepth 100000
def RX10 : String := "BarnPictures$TextFault"
def TX10 : u_T := fun k => match k with
  | 0 => ("java/lang/Throwable", "cause", "Ljava/lang/Throwable;", false)
  | 1 => ("java/lang/Throwable", "stackTrace", "[Ljava/lang/StackTraceElement;", false)
  | 2 => ("java/lang/Throwable", "suppressedExceptions", "Ljava/util/List;", false)
  | 3 => ("java/lang/Throwable", "detailMessage", "Ljava/lang/String;", false)
  | 4 => ("java/lang/Throwable", "backtrace", "Ljava/lang/Object;", false)
  | 5 => ("java/lang/Throwable", "depth", "I", false)
  | _ => ("BarnPictures$TextFault", "place", "I", true)
def tyX10 : Nat → FieldType := fun k => match k with
  | 0 => .object "java/lang/Throwable"
  | 1 => .array (.object "java/lang/StackTraceElement")
  | 2 => .object "java/util/List"
  | 3 => .object "java/lang/String"
  | 4 => .object "java/lang/Object"
  | 5 => .int
  | _ => .int
abbrev wsX100 : List Cond := u_ws RX10 TX10 7
theorem nmX10 : ∀ a, a < 7 → ∀ b, b < 7 → a ≠ b → (TX10 a).2.1 ≠ (TX10 b).2.1 := by decide +kernel
theorem tyX10_ok : ∀ k, k < 7 → parseFieldDescriptor (TX10 k).2.2.1 = some (tyX10 k) := by decide +kernel
abbrev cX10_init : ByteArray := prog_9_method_1_code
def yX10_init : MethodName := ⟨RX10, "<init>", "(I)V"⟩
def dkwX10_init_0 : List UInt8 := [42, 183, 0, 1, 42, 27, 181, 0, 7, 177]
abbrev dktX10_init_0 : List UInt8 := dkwX10_init_0 ++ []
theorem dksX10_init_0 : cX10_init.data.toList.drop 0 = dktX10_init_0 := by decide +kernel
theorem dX10_init_0 : decode cX10_init 0 = .ok (.aload_n 0, 1) := dk_42 (dk_at dksX10_init_0 0 rfl rfl)
theorem dX10_init_1 : decode cX10_init 1 = .ok (.invokespecial 1, 3) := dk_183 0 1 (dk_at dksX10_init_0 1 rfl rfl)
theorem dX10_init_4 : decode cX10_init 4 = .ok (.aload_n 0, 1) := dk_42 (dk_at dksX10_init_0 4 rfl rfl)
theorem dX10_init_5 : decode cX10_init 5 = .ok (.iload_n 1, 1) := dk_27 (dk_at dksX10_init_0 5 rfl rfl)
theorem dX10_init_6 : decode cX10_init 6 = .ok (.putfield 7, 3) := dk_181 0 7 (dk_at dksX10_init_0 6 rfl rfl)
theorem dX10_init_9 : decode cX10_init 9 = .ok (.return_, 1) := dk_177 (dk_at dksX10_init_0 9 rfl rfl)
theorem q73 : (Jvm.Cond.initialized "BarnPictures$TextFault") ∈ lw_all := lw_g (lw_at lw_m1 28 rfl) rfl
theorem q346 : (Jvm.Cond.selects "BarnPictures$TextFault" ({ cls := "java/lang/Throwable", name := "fillInStackTrace", desc := "()Ljava/lang/Throwable;" } : Jvm.MethodName) ({ cls := "java/lang/Throwable", name := "fillInStackTrace", desc := "()Ljava/lang/Throwable;" } : Jvm.MethodName)) ∈ lw_all := lw_g (lw_at lw_m2 61 rfl) rfl
theorem q467 : (Jvm.Cond.selects "BarnPictures$TextFault" ({ cls := "java/lang/Object", name := "getClass", desc := "()Ljava/lang/Class;" } : Jvm.MethodName) ({ cls := "java/lang/Object", name := "getClass", desc := "()Ljava/lang/Class;" } : Jvm.MethodName)) ∈ lw_all := lw_g (lw_at lw_m2 182 rfl) rfl
theorem q894 : (Jvm.Cond.instantiable "BarnPictures$TextFault" (7 : Nat)) ∈ lw_all := lw_g (lw_at lw_m4 129 rfl) rfl
theorem q895 : (Jvm.Cond.castable "BarnPictures$TextFault" "BarnPictures$TextFault") ∈ lw_tbl := lw_at lw_m4 130 rfl
theorem q896 : (Jvm.Cond.selects "BarnPictures$TextFault" ({ cls := "java/lang/Throwable", name := "fillInStackTrace", desc := "(I)Ljava/lang/Throwable;" } : Jvm.MethodName) ({ cls := "java/lang/Throwable", name := "fillInStackTrace", desc := "(I)Ljava/lang/Throwable;" } : Jvm.MethodName)) ∈ lw_all := lw_g (lw_at lw_m4 131 rfl) rfl
theorem q897 : (Jvm.Cond.lays "BarnPictures$TextFault" "java/lang/Throwable" "cause" "Ljava/lang/Throwable;") ∈ lw_all := lw_g (lw_at lw_m4 132 rfl) rfl
theorem q898 : (Jvm.Cond.lays "BarnPictures$TextFault" "java/lang/Throwable" "stackTrace" "[Ljava/lang/StackTraceElement;") ∈ lw_all := lw_g (lw_at lw_m4 133 rfl) rfl
theorem q899 : (Jvm.Cond.lays "BarnPictures$TextFault" "java/lang/Throwable" "suppressedExceptions" "Ljava/util/List;") ∈ lw_all := lw_g (lw_at lw_m4 134 rfl) rfl
theorem q900 : (Jvm.Cond.lays "BarnPictures$TextFault" "java/lang/Throwable" "detailMessage" "Ljava/lang/String;") ∈ lw_all := lw_g (lw_at lw_m4 135 rfl) rfl
theorem q901 : (Jvm.Cond.lays "BarnPictures$TextFault" "java/lang/Throwable" "backtrace" "Ljava/lang/Object;") ∈ lw_all := lw_g (lw_at lw_m4 136 rfl) rfl
theorem q903 : (Jvm.Cond.instanceMethod ({ cls := "BarnPictures$TextFault", name := "<init>", desc := "(I)V" } : Jvm.MethodName)) ∈ lw_all := lw_g (lw_at lw_m4 138 rfl) rfl
theorem q904 : (Jvm.Cond.code ({ cls := "BarnPictures$TextFault", name := "<init>", desc := "(I)V" } : Jvm.MethodName) prog_9_method_1_code (2 : Nat) (Option.none : Option Jvm.ClassFile.FieldType)) ∈ lw_all := lw_g (lw_at lw_m4 139 rfl) rfl
theorem q905 : (Jvm.Cond.methodLink "BarnPictures$TextFault" (1 : Nat) ({ cls := "java/lang/Exception", name := "<init>", desc := "()V" } : Jvm.MethodName)) ∈ lw_all := lw_g (lw_at lw_m4 140 rfl) rfl
theorem q906 : (Jvm.Cond.fieldLink "BarnPictures$TextFault" (7 : Nat) "BarnPictures$TextFault" "place" "I") ∈ lw_all := lw_g (lw_at lw_m4 141 rfl) rfl
theorem q908 : (Jvm.Cond.laysFinal "BarnPictures$TextFault" "BarnPictures$TextFault" "place" "I") ∈ lw_all := lw_g (lw_at lw_m4 143 rfl) rfl
theorem q909 : (Jvm.Cond.soleField "BarnPictures$TextFault" "place") ∈ lw_all := lw_g (lw_at lw_m4 144 rfl) rfl
theorem q910 : (Jvm.Cond.lays "BarnPictures$TextFault" "java/lang/Throwable" "depth" "I") ∈ lw_all := lw_g (lw_at lw_m4 145 rfl) rfl
theorem q911 : (Jvm.Cond.superclass "BarnPictures$TextFault" "java/lang/Exception") ∈ lw_all := lw_g (lw_at lw_m4 146 rfl) rfl
theorem q1392 : (Jvm.Cond.castable "BarnPictures$TextFault" "java/lang/Object") ∈ lw_tbl := lw_at lw_m6 147 rfl
theorem in_X10 : ∀ w ∈ wsX100, w ∈ lw_all := lw_in wsX100 [897, 898, 899, 900, 901, 910, 908] (by decide +kernel) (by decide +kernel)
/-! BarnPictures$Command -/
set_option maxRecDepth 100000
def RX11 : String := "BarnPictures$Command"
def TX11 : u_T := fun k => match k with
  | 0 => ("BarnPictures$Command", "sign", "C", true)
  | 1 => ("BarnPictures$Command", "first", "I", true)
  | _ => ("BarnPictures$Command", "second", "I", true)
def tyX11 : Nat → FieldType := fun k => match k with
  | 0 => .char
  | 1 => .int
  | _ => .int
abbrev wsX110 : List Cond := u_ws RX11 TX11 3
theorem nmX11 : ∀ a, a < 3 → ∀ b, b < 3 → a ≠ b → (TX11 a).2.1 ≠ (TX11 b).2.1 := by decide +kernel
theorem tyX11_ok : ∀ k, k < 3 → parseFieldDescriptor (TX11 k).2.2.1 = some (tyX11 k) := by decide +kernel
abbrev cX11_init : ByteArray := prog_2_method_1_code
def yX11_init : MethodName := ⟨RX11, "<init>", "(CII)V"⟩
def dkwX11_init_0 : List UInt8 := [42, 183, 0, 1, 42, 27, 181, 0, 7, 42, 28, 181, 0, 13, 42, 29, 181, 0, 17, 177]
abbrev dktX11_init_0 : List UInt8 := dkwX11_init_0 ++ []
theorem dksX11_init_0 : cX11_init.data.toList.drop 0 = dktX11_init_0 := by decide +kernel
theorem dX11_init_0 : decode cX11_init 0 = .ok (.aload_n 0, 1) := dk_42 (dk_at dksX11_init_0 0 rfl rfl)
theorem dX11_init_1 : decode cX11_init 1 = .ok (.invokespecial 1, 3) := dk_183 0 1 (dk_at dksX11_init_0 1 rfl rfl)
theorem dX11_init_4 : decode cX11_init 4 = .ok (.aload_n 0, 1) := dk_42 (dk_at dksX11_init_0 4 rfl rfl)
theorem dX11_init_5 : decode cX11_init 5 = .ok (.iload_n 1, 1) := dk_27 (dk_at dksX11_init_0 5 rfl rfl)
theorem dX11_init_6 : decode cX11_init 6 = .ok (.putfield 7, 3) := dk_181 0 7 (dk_at dksX11_init_0 6 rfl rfl)
theorem dX11_init_9 : decode cX11_init 9 = .ok (.aload_n 0, 1) := dk_42 (dk_at dksX11_init_0 9 rfl rfl)
theorem dX11_init_10 : decode cX11_init 10 = .ok (.iload_n 2, 1) := dk_28 (dk_at dksX11_init_0 10 rfl rfl)
theorem dX11_init_11 : decode cX11_init 11 = .ok (.putfield 13, 3) := dk_181 0 13 (dk_at dksX11_init_0 11 rfl rfl)
theorem dX11_init_14 : decode cX11_init 14 = .ok (.aload_n 0, 1) := dk_42 (dk_at dksX11_init_0 14 rfl rfl)
theorem dX11_init_15 : decode cX11_init 15 = .ok (.iload_n 3, 1) := dk_29 (dk_at dksX11_init_0 15 rfl rfl)
theorem dX11_init_16 : decode cX11_init 16 = .ok (.putfield 17, 3) := dk_181 0 17 (dk_at dksX11_init_0 16 rfl rfl)
theorem dX11_init_19 : decode cX11_init 19 = .ok (.return_, 1) := dk_177 (dk_at dksX11_init_0 19 rfl rfl)
abbrev cX11_act : ByteArray := prog_2_method_3_code
def yX11_act : MethodName := ⟨RX11, "act", "(LBarnPictures$Tour;I)V"⟩
def dkwX11_act_0 : List UInt8 := [42, 43, 182, 0, 57, 167, 0, 14, 78, 187, 0, 65, 89, 28, 45, 183, 0, 67, 191, 177]
abbrev dktX11_act_0 : List UInt8 := dkwX11_act_0 ++ []
theorem dksX11_act_0 : cX11_act.data.toList.drop 0 = dktX11_act_0 := by decide +kernel
theorem dX11_act_0 : decode cX11_act 0 = .ok (.aload_n 0, 1) := dk_42 (dk_at dksX11_act_0 0 rfl rfl)
theorem dX11_act_1 : decode cX11_act 1 = .ok (.aload_n 1, 1) := dk_43 (dk_at dksX11_act_0 1 rfl rfl)
theorem dX11_act_2 : decode cX11_act 2 = .ok (.invokevirtual 57, 3) := dk_182 0 57 (dk_at dksX11_act_0 2 rfl rfl)
theorem dX11_act_5 : decode cX11_act 5 = .ok (.goto 14, 3) := dk_167 0 14 (dk_at dksX11_act_0 5 rfl rfl)
theorem dX11_act_8 : decode cX11_act 8 = .ok (.astore_n 3, 1) := dk_78 (dk_at dksX11_act_0 8 rfl rfl)
theorem dX11_act_9 : decode cX11_act 9 = .ok (.new 65, 3) := dk_187 0 65 (dk_at dksX11_act_0 9 rfl rfl)
theorem dX11_act_12 : decode cX11_act 12 = .ok (.dup, 1) := dk_89 (dk_at dksX11_act_0 12 rfl rfl)
theorem dX11_act_13 : decode cX11_act 13 = .ok (.iload_n 2, 1) := dk_28 (dk_at dksX11_act_0 13 rfl rfl)
theorem dX11_act_14 : decode cX11_act 14 = .ok (.aload_n 3, 1) := dk_45 (dk_at dksX11_act_0 14 rfl rfl)
theorem dX11_act_15 : decode cX11_act 15 = .ok (.invokespecial 67, 3) := dk_183 0 67 (dk_at dksX11_act_0 15 rfl rfl)
theorem dX11_act_18 : decode cX11_act 18 = .ok (.athrow, 1) := dk_191 (dk_at dksX11_act_0 18 rfl rfl)
theorem dX11_act_19 : decode cX11_act 19 = .ok (.return_, 1) := dk_177 (dk_at dksX11_act_0 19 rfl rfl)
abbrev cX11_act_2 : ByteArray := prog_2_method_2_code
def yX11_act_2 : MethodName := ⟨RX11, "act", "(LBarnPictures$Tour;)V"⟩
def dkwX11_act_2_6 : List UInt8 := [167, 0, 8, 43, 182, 0, 53, 87, 177]
abbrev dktX11_act_2_6 : List UInt8 := dkwX11_act_2_6 ++ []
def dkwX11_act_2_5 : List UInt8 := [42, 180, 0, 13, 42, 180, 0, 17, 182, 0, 43, 87, 167, 0, 20, 43, 43, 180, 0, 47, 182, 0, 50, 87]
abbrev dktX11_act_2_5 : List UInt8 := dkwX11_act_2_5 ++ dktX11_act_2_6
def dkwX11_act_2_4 : List UInt8 := [42, 180, 0, 13, 50, 182, 0, 34, 154, 0, 7, 4, 167, 0, 4, 3, 182, 0, 40, 87, 167, 0, 36, 43]
abbrev dktX11_act_2_4 : List UInt8 := dkwX11_act_2_4 ++ dktX11_act_2_5
def dkwX11_act_2_3 : List UInt8 := [160, 0, 7, 4, 167, 0, 4, 3, 182, 0, 26, 87, 167, 0, 68, 43, 42, 180, 0, 13, 43, 180, 0, 30]
abbrev dktX11_act_2_3 : List UInt8 := dkwX11_act_2_3 ++ dktX11_act_2_4
def dkwX11_act_2_2 : List UInt8 := [43, 42, 180, 0, 13, 182, 0, 20, 87, 167, 0, 94, 43, 42, 180, 0, 13, 42, 180, 0, 7, 16, 43]
abbrev dktX11_act_2_2 : List UInt8 := dkwX11_act_2_2 ++ dktX11_act_2_3
def dkwX11_act_2_1 : List UInt8 := [171, 0, 0, 0, 0, 0, 0, 158, 0, 0, 0, 6, 0, 0, 0, 43, 0, 0, 0, 72, 0, 0, 0, 45, 0, 0, 0, 72, 0, 0, 0, 102, 0, 0, 0, 130, 0, 0, 0, 103, 0, 0, 0, 98, 0, 0, 0, 115, 0, 0, 0, 146, 0, 0, 0, 118, 0, 0, 0, 60]
abbrev dktX11_act_2_1 : List UInt8 := dkwX11_act_2_1 ++ dktX11_act_2_2
def dkwX11_act_2_0 : List UInt8 := [42, 180, 0, 7]
abbrev dktX11_act_2_0 : List UInt8 := dkwX11_act_2_0 ++ dktX11_act_2_1
theorem dksX11_act_2_0 : cX11_act_2.data.toList.drop 0 = dktX11_act_2_0 := by decide +kernel
theorem dksX11_act_2_1 : cX11_act_2.data.toList.drop 4 = dktX11_act_2_1 := dk_seg dksX11_act_2_0 4 rfl rfl
theorem dksX11_act_2_2 : cX11_act_2.data.toList.drop 64 = dktX11_act_2_2 := dk_seg dksX11_act_2_1 60 rfl rfl
theorem dksX11_act_2_3 : cX11_act_2.data.toList.drop 87 = dktX11_act_2_3 := dk_seg dksX11_act_2_2 23 rfl rfl
theorem dksX11_act_2_4 : cX11_act_2.data.toList.drop 111 = dktX11_act_2_4 := dk_seg dksX11_act_2_3 24 rfl rfl
theorem dksX11_act_2_5 : cX11_act_2.data.toList.drop 135 = dktX11_act_2_5 := dk_seg dksX11_act_2_4 24 rfl rfl
theorem dksX11_act_2_6 : cX11_act_2.data.toList.drop 159 = dktX11_act_2_6 := dk_seg dksX11_act_2_5 24 rfl rfl
theorem dX11_act_2_0 : decode cX11_act_2 0 = .ok (.aload_n 0, 1) := dk_42 (dk_at dksX11_act_2_0 0 rfl rfl)
theorem dX11_act_2_1 : decode cX11_act_2 1 = .ok (.getfield 7, 3) := dk_180 0 7 (dk_at dksX11_act_2_0 1 rfl rfl)
theorem dX11_act_2_4 : decode cX11_act_2 4 = .ok (.lookupswitch 158 #[(43, 72), (45, 72), (102, 130), (103, 98), (115, 146), (118, 60)], 60) := by decide +kernel
theorem dX11_act_2_64 : decode cX11_act_2 64 = .ok (.aload_n 1, 1) := dk_43 (dk_at dksX11_act_2_2 0 rfl rfl)
theorem dX11_act_2_65 : decode cX11_act_2 65 = .ok (.aload_n 0, 1) := dk_42 (dk_at dksX11_act_2_2 1 rfl rfl)
theorem dX11_act_2_66 : decode cX11_act_2 66 = .ok (.getfield 13, 3) := dk_180 0 13 (dk_at dksX11_act_2_2 2 rfl rfl)
theorem dX11_act_2_69 : decode cX11_act_2 69 = .ok (.invokevirtual 20, 3) := dk_182 0 20 (dk_at dksX11_act_2_2 5 rfl rfl)
theorem dX11_act_2_72 : decode cX11_act_2 72 = .ok (.pop, 1) := dk_87 (dk_at dksX11_act_2_2 8 rfl rfl)
theorem dX11_act_2_73 : decode cX11_act_2 73 = .ok (.goto 94, 3) := dk_167 0 94 (dk_at dksX11_act_2_2 9 rfl rfl)
theorem dX11_act_2_76 : decode cX11_act_2 76 = .ok (.aload_n 1, 1) := dk_43 (dk_at dksX11_act_2_2 12 rfl rfl)
theorem dX11_act_2_77 : decode cX11_act_2 77 = .ok (.aload_n 0, 1) := dk_42 (dk_at dksX11_act_2_2 13 rfl rfl)
theorem dX11_act_2_78 : decode cX11_act_2 78 = .ok (.getfield 13, 3) := dk_180 0 13 (dk_at dksX11_act_2_2 14 rfl rfl)
theorem dX11_act_2_81 : decode cX11_act_2 81 = .ok (.aload_n 0, 1) := dk_42 (dk_at dksX11_act_2_2 17 rfl rfl)
theorem dX11_act_2_82 : decode cX11_act_2 82 = .ok (.getfield 7, 3) := dk_180 0 7 (dk_at dksX11_act_2_2 18 rfl rfl)
theorem dX11_act_2_85 : decode cX11_act_2 85 = .ok (.bipush 43, 2) := dk_16 43 (dk_at dksX11_act_2_2 21 rfl rfl)
theorem dX11_act_2_87 : decode cX11_act_2 87 = .ok (.if_icmp .ne 7, 3) := dk_160 0 7 (dk_at dksX11_act_2_3 0 rfl rfl)
theorem dX11_act_2_90 : decode cX11_act_2 90 = .ok (.iconst 1, 1) := dk_4 (dk_at dksX11_act_2_3 3 rfl rfl)
theorem dX11_act_2_91 : decode cX11_act_2 91 = .ok (.goto 4, 3) := dk_167 0 4 (dk_at dksX11_act_2_3 4 rfl rfl)
theorem dX11_act_2_94 : decode cX11_act_2 94 = .ok (.iconst 0, 1) := dk_3 (dk_at dksX11_act_2_3 7 rfl rfl)
theorem dX11_act_2_95 : decode cX11_act_2 95 = .ok (.invokevirtual 26, 3) := dk_182 0 26 (dk_at dksX11_act_2_3 8 rfl rfl)
theorem dX11_act_2_98 : decode cX11_act_2 98 = .ok (.pop, 1) := dk_87 (dk_at dksX11_act_2_3 11 rfl rfl)
theorem dX11_act_2_99 : decode cX11_act_2 99 = .ok (.goto 68, 3) := dk_167 0 68 (dk_at dksX11_act_2_3 12 rfl rfl)
theorem dX11_act_2_102 : decode cX11_act_2 102 = .ok (.aload_n 1, 1) := dk_43 (dk_at dksX11_act_2_3 15 rfl rfl)
theorem dX11_act_2_103 : decode cX11_act_2 103 = .ok (.aload_n 0, 1) := dk_42 (dk_at dksX11_act_2_3 16 rfl rfl)
theorem dX11_act_2_104 : decode cX11_act_2 104 = .ok (.getfield 13, 3) := dk_180 0 13 (dk_at dksX11_act_2_3 17 rfl rfl)
theorem dX11_act_2_107 : decode cX11_act_2 107 = .ok (.aload_n 1, 1) := dk_43 (dk_at dksX11_act_2_3 20 rfl rfl)
theorem dX11_act_2_108 : decode cX11_act_2 108 = .ok (.getfield 30, 3) := dk_180 0 30 (dk_at dksX11_act_2_3 21 rfl rfl)
theorem dX11_act_2_111 : decode cX11_act_2 111 = .ok (.aload_n 0, 1) := dk_42 (dk_at dksX11_act_2_4 0 rfl rfl)
theorem dX11_act_2_112 : decode cX11_act_2 112 = .ok (.getfield 13, 3) := dk_180 0 13 (dk_at dksX11_act_2_4 1 rfl rfl)
theorem dX11_act_2_115 : decode cX11_act_2 115 = .ok (.aaload, 1) := dk_50 (dk_at dksX11_act_2_4 4 rfl rfl)
theorem dX11_act_2_116 : decode cX11_act_2 116 = .ok (.invokevirtual 34, 3) := dk_182 0 34 (dk_at dksX11_act_2_4 5 rfl rfl)
theorem dX11_act_2_119 : decode cX11_act_2 119 = .ok (.ifCond .ne 7, 3) := dk_154 0 7 (dk_at dksX11_act_2_4 8 rfl rfl)
theorem dX11_act_2_122 : decode cX11_act_2 122 = .ok (.iconst 1, 1) := dk_4 (dk_at dksX11_act_2_4 11 rfl rfl)
theorem dX11_act_2_123 : decode cX11_act_2 123 = .ok (.goto 4, 3) := dk_167 0 4 (dk_at dksX11_act_2_4 12 rfl rfl)
theorem dX11_act_2_126 : decode cX11_act_2 126 = .ok (.iconst 0, 1) := dk_3 (dk_at dksX11_act_2_4 15 rfl rfl)
theorem dX11_act_2_127 : decode cX11_act_2 127 = .ok (.invokevirtual 40, 3) := dk_182 0 40 (dk_at dksX11_act_2_4 16 rfl rfl)
theorem dX11_act_2_130 : decode cX11_act_2 130 = .ok (.pop, 1) := dk_87 (dk_at dksX11_act_2_4 19 rfl rfl)
theorem dX11_act_2_131 : decode cX11_act_2 131 = .ok (.goto 36, 3) := dk_167 0 36 (dk_at dksX11_act_2_4 20 rfl rfl)
theorem dX11_act_2_134 : decode cX11_act_2 134 = .ok (.aload_n 1, 1) := dk_43 (dk_at dksX11_act_2_4 23 rfl rfl)
theorem dX11_act_2_135 : decode cX11_act_2 135 = .ok (.aload_n 0, 1) := dk_42 (dk_at dksX11_act_2_5 0 rfl rfl)
theorem dX11_act_2_136 : decode cX11_act_2 136 = .ok (.getfield 13, 3) := dk_180 0 13 (dk_at dksX11_act_2_5 1 rfl rfl)
theorem dX11_act_2_139 : decode cX11_act_2 139 = .ok (.aload_n 0, 1) := dk_42 (dk_at dksX11_act_2_5 4 rfl rfl)
theorem dX11_act_2_140 : decode cX11_act_2 140 = .ok (.getfield 17, 3) := dk_180 0 17 (dk_at dksX11_act_2_5 5 rfl rfl)
theorem dX11_act_2_143 : decode cX11_act_2 143 = .ok (.invokevirtual 43, 3) := dk_182 0 43 (dk_at dksX11_act_2_5 8 rfl rfl)
theorem dX11_act_2_146 : decode cX11_act_2 146 = .ok (.pop, 1) := dk_87 (dk_at dksX11_act_2_5 11 rfl rfl)
theorem dX11_act_2_147 : decode cX11_act_2 147 = .ok (.goto 20, 3) := dk_167 0 20 (dk_at dksX11_act_2_5 12 rfl rfl)
theorem dX11_act_2_150 : decode cX11_act_2 150 = .ok (.aload_n 1, 1) := dk_43 (dk_at dksX11_act_2_5 15 rfl rfl)
theorem dX11_act_2_151 : decode cX11_act_2 151 = .ok (.aload_n 1, 1) := dk_43 (dk_at dksX11_act_2_5 16 rfl rfl)
theorem dX11_act_2_152 : decode cX11_act_2 152 = .ok (.getfield 47, 3) := dk_180 0 47 (dk_at dksX11_act_2_5 17 rfl rfl)
theorem dX11_act_2_155 : decode cX11_act_2 155 = .ok (.invokevirtual 50, 3) := dk_182 0 50 (dk_at dksX11_act_2_5 20 rfl rfl)
theorem dX11_act_2_158 : decode cX11_act_2 158 = .ok (.pop, 1) := dk_87 (dk_at dksX11_act_2_5 23 rfl rfl)
theorem dX11_act_2_159 : decode cX11_act_2 159 = .ok (.goto 8, 3) := dk_167 0 8 (dk_at dksX11_act_2_6 0 rfl rfl)
theorem dX11_act_2_162 : decode cX11_act_2 162 = .ok (.aload_n 1, 1) := dk_43 (dk_at dksX11_act_2_6 3 rfl rfl)
theorem dX11_act_2_163 : decode cX11_act_2 163 = .ok (.invokevirtual 53, 3) := dk_182 0 53 (dk_at dksX11_act_2_6 4 rfl rfl)
theorem dX11_act_2_166 : decode cX11_act_2 166 = .ok (.pop, 1) := dk_87 (dk_at dksX11_act_2_6 7 rfl rfl)
theorem dX11_act_2_167 : decode cX11_act_2 167 = .ok (.return_, 1) := dk_177 (dk_at dksX11_act_2_6 8 rfl rfl)
theorem q74 : (Jvm.Cond.initialized "BarnPictures$Command") ∈ lw_all := lw_g (lw_at lw_m1 29 rfl) rfl
theorem q150 : (Jvm.Cond.fieldLinkNest "BarnPictures$Command" (30 : Nat) "BarnPictures$Tour" "generators" "[LBarnPictures$Generator;" "BarnPictures") ∈ lw_tbl := lw_at lw_m1 105 rfl
theorem q159 : (Jvm.Cond.fieldLinkNest "BarnPictures$Command" (47 : Nat) "BarnPictures$Tour" "van" "I" "BarnPictures") ∈ lw_tbl := lw_at lw_m1 114 rfl
theorem q461 : (Jvm.Cond.selects "BarnPictures$Command" ({ cls := "java/lang/Object", name := "getClass", desc := "()Ljava/lang/Class;" } : Jvm.MethodName) ({ cls := "java/lang/Object", name := "getClass", desc := "()Ljava/lang/Class;" } : Jvm.MethodName)) ∈ lw_all := lw_g (lw_at lw_m2 176 rfl) rfl
theorem q922 : (Jvm.Cond.instantiable "BarnPictures$Command" (3 : Nat)) ∈ lw_all := lw_g (lw_at lw_m4 157 rfl) rfl
theorem q924 : (Jvm.Cond.instanceMethod ({ cls := "BarnPictures$Command", name := "<init>", desc := "(CII)V" } : Jvm.MethodName)) ∈ lw_all := lw_g (lw_at lw_m4 159 rfl) rfl
theorem q925 : (Jvm.Cond.code ({ cls := "BarnPictures$Command", name := "<init>", desc := "(CII)V" } : Jvm.MethodName) prog_2_method_1_code (4 : Nat) (Option.none : Option Jvm.ClassFile.FieldType)) ∈ lw_all := lw_g (lw_at lw_m4 160 rfl) rfl
theorem q926 : (Jvm.Cond.methodLink "BarnPictures$Command" (1 : Nat) ({ cls := "java/lang/Object", name := "<init>", desc := "()V" } : Jvm.MethodName)) ∈ lw_all := lw_g (lw_at lw_m4 161 rfl) rfl
theorem q927 : (Jvm.Cond.fieldLink "BarnPictures$Command" (7 : Nat) "BarnPictures$Command" "sign" "C") ∈ lw_all := lw_g (lw_at lw_m4 162 rfl) rfl
theorem q928 : (Jvm.Cond.fieldLink "BarnPictures$Command" (13 : Nat) "BarnPictures$Command" "first" "I") ∈ lw_all := lw_g (lw_at lw_m4 163 rfl) rfl
theorem q929 : (Jvm.Cond.fieldLink "BarnPictures$Command" (17 : Nat) "BarnPictures$Command" "second" "I") ∈ lw_all := lw_g (lw_at lw_m4 164 rfl) rfl
theorem q930 : (Jvm.Cond.laysFinal "BarnPictures$Command" "BarnPictures$Command" "sign" "C") ∈ lw_all := lw_g (lw_at lw_m4 165 rfl) rfl
theorem q931 : (Jvm.Cond.soleField "BarnPictures$Command" "sign") ∈ lw_all := lw_g (lw_at lw_m4 166 rfl) rfl
theorem q932 : (Jvm.Cond.laysFinal "BarnPictures$Command" "BarnPictures$Command" "first" "I") ∈ lw_all := lw_g (lw_at lw_m4 167 rfl) rfl
theorem q933 : (Jvm.Cond.soleField "BarnPictures$Command" "first") ∈ lw_all := lw_g (lw_at lw_m4 168 rfl) rfl
theorem q934 : (Jvm.Cond.laysFinal "BarnPictures$Command" "BarnPictures$Command" "second" "I") ∈ lw_all := lw_g (lw_at lw_m4 169 rfl) rfl
theorem q935 : (Jvm.Cond.soleField "BarnPictures$Command" "second") ∈ lw_all := lw_g (lw_at lw_m4 170 rfl) rfl
theorem q936 : (Jvm.Cond.superclass "BarnPictures$Command" "java/lang/Object") ∈ lw_all := lw_g (lw_at lw_m4 171 rfl) rfl
theorem q962 : (Jvm.Cond.instanceMethod ({ cls := "BarnPictures$Command", name := "act", desc := "(LBarnPictures$Tour;I)V" } : Jvm.MethodName)) ∈ lw_all := lw_g (lw_at lw_m4 197 rfl) rfl
theorem q963 : (Jvm.Cond.selects "BarnPictures$Command" ({ cls := "BarnPictures$Command", name := "act", desc := "(LBarnPictures$Tour;I)V" } : Jvm.MethodName) ({ cls := "BarnPictures$Command", name := "act", desc := "(LBarnPictures$Tour;I)V" } : Jvm.MethodName)) ∈ lw_all := lw_g (lw_at lw_m4 198 rfl) rfl
theorem q964 : (Jvm.Cond.codeWith ({ cls := "BarnPictures$Command", name := "act", desc := "(LBarnPictures$Tour;I)V" } : Jvm.MethodName) prog_2_method_3_code (4 : Nat) (Option.none : Option Jvm.ClassFile.FieldType) [((0 : Nat), (5 : Nat), (8 : Nat), (61 : Nat)), ((0 : Nat), (5 : Nat), (8 : Nat), (63 : Nat))]) ∈ lw_all := lw_g (lw_at lw_m4 199 rfl) rfl
theorem q965 : (Jvm.Cond.classLink "BarnPictures$Command" (61 : Nat) "BarnPictures$Wrong") ∈ lw_all := lw_g (lw_at lw_m4 200 rfl) rfl
theorem q966 : (Jvm.Cond.classLink "BarnPictures$Command" (63 : Nat) "BarnPictures$NoShow") ∈ lw_all := lw_g (lw_at lw_m4 201 rfl) rfl
theorem q967 : (Jvm.Cond.methodLink "BarnPictures$Command" (57 : Nat) ({ cls := "BarnPictures$Command", name := "act", desc := "(LBarnPictures$Tour;)V" } : Jvm.MethodName)) ∈ lw_all := lw_g (lw_at lw_m4 202 rfl) rfl
theorem q968 : (Jvm.Cond.privateMethod ({ cls := "BarnPictures$Command", name := "act", desc := "(LBarnPictures$Tour;)V" } : Jvm.MethodName)) ∈ lw_tbl := lw_at lw_m4 203 rfl
theorem q969 : (Jvm.Cond.instanceMethod ({ cls := "BarnPictures$Command", name := "act", desc := "(LBarnPictures$Tour;)V" } : Jvm.MethodName)) ∈ lw_all := lw_g (lw_at lw_m4 204 rfl) rfl
theorem q970 : (Jvm.Cond.code ({ cls := "BarnPictures$Command", name := "act", desc := "(LBarnPictures$Tour;)V" } : Jvm.MethodName) prog_2_method_2_code (2 : Nat) (Option.none : Option Jvm.ClassFile.FieldType)) ∈ lw_all := lw_g (lw_at lw_m4 205 rfl) rfl
theorem q971 : (Jvm.Cond.methodLink "BarnPictures$Command" (20 : Nat) ({ cls := "BarnPictures$Tour", name := "drive", desc := "(I)I" } : Jvm.MethodName)) ∈ lw_all := lw_g (lw_at lw_m4 206 rfl) rfl
theorem q972 : (Jvm.Cond.methodLink "BarnPictures$Command" (26 : Nat) ({ cls := "BarnPictures$Tour", name := "moveReel", desc := "(IZ)I" } : Jvm.MethodName)) ∈ lw_all := lw_g (lw_at lw_m4 207 rfl) rfl
theorem q973 : (Jvm.Cond.methodLink "BarnPictures$Command" (34 : Nat) ({ cls := "BarnPictures$Generator", name := "isInVan", desc := "()Z" } : Jvm.MethodName)) ∈ lw_all := lw_g (lw_at lw_m4 208 rfl) rfl
theorem q974 : (Jvm.Cond.methodLink "BarnPictures$Command" (40 : Nat) ({ cls := "BarnPictures$Tour", name := "moveGenerator", desc := "(IZ)I" } : Jvm.MethodName)) ∈ lw_all := lw_g (lw_at lw_m4 209 rfl) rfl
theorem q975 : (Jvm.Cond.methodLink "BarnPictures$Command" (43 : Nat) ({ cls := "BarnPictures$Tour", name := "fuel", desc := "(II)I" } : Jvm.MethodName)) ∈ lw_all := lw_g (lw_at lw_m4 210 rfl) rfl
theorem q976 : (Jvm.Cond.methodLink "BarnPictures$Command" (50 : Nat) ({ cls := "BarnPictures$Tour", name := "show", desc := "(I)I" } : Jvm.MethodName)) ∈ lw_all := lw_g (lw_at lw_m4 211 rfl) rfl
theorem q977 : (Jvm.Cond.methodLink "BarnPictures$Command" (53 : Nat) ({ cls := "BarnPictures$Tour", name := "nextDay", desc := "()I" } : Jvm.MethodName)) ∈ lw_all := lw_g (lw_at lw_m4 212 rfl) rfl
theorem q978 : (Jvm.Cond.classLink "BarnPictures$Command" (65 : Nat) "BarnPictures$Stop") ∈ lw_all := lw_g (lw_at lw_m4 213 rfl) rfl
theorem q987 : (Jvm.Cond.methodLink "BarnPictures$Command" (67 : Nat) ({ cls := "BarnPictures$Stop", name := "<init>", desc := "(ILBarnPictures$Refusal;)V" } : Jvm.MethodName)) ∈ lw_all := lw_g (lw_at lw_m4 222 rfl) rfl
theorem q1393 : (Jvm.Cond.castable "BarnPictures$Command" "java/lang/Object") ∈ lw_tbl := lw_at lw_m6 148 rfl
theorem in_X11 : ∀ w ∈ wsX110, w ∈ lw_all := lw_in wsX110 [930, 932, 934] (by decide +kernel) (by decide +kernel)
/-! BarnPictures$Stop -/
set_option maxRecDepth 100000
def RX12 : String := "BarnPictures$Stop"
def TX12 : u_T := fun k => match k with
  | 0 => ("java/lang/Throwable", "cause", "Ljava/lang/Throwable;", false)
  | 1 => ("java/lang/Throwable", "stackTrace", "[Ljava/lang/StackTraceElement;", false)
  | 2 => ("java/lang/Throwable", "suppressedExceptions", "Ljava/util/List;", false)
  | 3 => ("java/lang/Throwable", "detailMessage", "Ljava/lang/String;", false)
  | 4 => ("java/lang/Throwable", "backtrace", "Ljava/lang/Object;", false)
  | 5 => ("java/lang/Throwable", "depth", "I", false)
  | 6 => ("BarnPictures$Stop", "number", "I", true)
  | _ => ("BarnPictures$Stop", "reason", "LBarnPictures$Refusal;", true)
def tyX12 : Nat → FieldType := fun k => match k with
  | 0 => .object "java/lang/Throwable"
  | 1 => .array (.object "java/lang/StackTraceElement")
  | 2 => .object "java/util/List"
  | 3 => .object "java/lang/String"
  | 4 => .object "java/lang/Object"
  | 5 => .int
  | 6 => .int
  | _ => .object "BarnPictures$Refusal"
abbrev wsX120 : List Cond := u_ws RX12 TX12 8
theorem nmX12 : ∀ a, a < 8 → ∀ b, b < 8 → a ≠ b → (TX12 a).2.1 ≠ (TX12 b).2.1 := by decide +kernel
theorem tyX12_ok : ∀ k, k < 8 → parseFieldDescriptor (TX12 k).2.2.1 = some (tyX12 k) := by decide +kernel
abbrev cX12_init : ByteArray := prog_8_method_1_code
def yX12_init : MethodName := ⟨RX12, "<init>", "(ILBarnPictures$Refusal;)V"⟩
def dkwX12_init_0 : List UInt8 := [42, 183, 0, 1, 42, 27, 181, 0, 7, 42, 44, 181, 0, 13, 177]
abbrev dktX12_init_0 : List UInt8 := dkwX12_init_0 ++ []
theorem dksX12_init_0 : cX12_init.data.toList.drop 0 = dktX12_init_0 := by decide +kernel
theorem dX12_init_0 : decode cX12_init 0 = .ok (.aload_n 0, 1) := dk_42 (dk_at dksX12_init_0 0 rfl rfl)
theorem dX12_init_1 : decode cX12_init 1 = .ok (.invokespecial 1, 3) := dk_183 0 1 (dk_at dksX12_init_0 1 rfl rfl)
theorem dX12_init_4 : decode cX12_init 4 = .ok (.aload_n 0, 1) := dk_42 (dk_at dksX12_init_0 4 rfl rfl)
theorem dX12_init_5 : decode cX12_init 5 = .ok (.iload_n 1, 1) := dk_27 (dk_at dksX12_init_0 5 rfl rfl)
theorem dX12_init_6 : decode cX12_init 6 = .ok (.putfield 7, 3) := dk_181 0 7 (dk_at dksX12_init_0 6 rfl rfl)
theorem dX12_init_9 : decode cX12_init 9 = .ok (.aload_n 0, 1) := dk_42 (dk_at dksX12_init_0 9 rfl rfl)
theorem dX12_init_10 : decode cX12_init 10 = .ok (.aload_n 2, 1) := dk_44 (dk_at dksX12_init_0 10 rfl rfl)
theorem dX12_init_11 : decode cX12_init 11 = .ok (.putfield 13, 3) := dk_181 0 13 (dk_at dksX12_init_0 11 rfl rfl)
theorem dX12_init_14 : decode cX12_init 14 = .ok (.return_, 1) := dk_177 (dk_at dksX12_init_0 14 rfl rfl)
abbrev cX12_told : ByteArray := prog_8_method_2_code
def yX12_told : MethodName := ⟨RX12, "told", "(I)I"⟩
def dkwX12_told_0 : List UInt8 := [27, 154, 0, 10, 42, 180, 0, 7, 167, 0, 10, 42, 180, 0, 13, 182, 0, 17, 172]
abbrev dktX12_told_0 : List UInt8 := dkwX12_told_0 ++ []
theorem dksX12_told_0 : cX12_told.data.toList.drop 0 = dktX12_told_0 := by decide +kernel
theorem dX12_told_0 : decode cX12_told 0 = .ok (.iload_n 1, 1) := dk_27 (dk_at dksX12_told_0 0 rfl rfl)
theorem dX12_told_1 : decode cX12_told 1 = .ok (.ifCond .ne 10, 3) := dk_154 0 10 (dk_at dksX12_told_0 1 rfl rfl)
theorem dX12_told_4 : decode cX12_told 4 = .ok (.aload_n 0, 1) := dk_42 (dk_at dksX12_told_0 4 rfl rfl)
theorem dX12_told_5 : decode cX12_told 5 = .ok (.getfield 7, 3) := dk_180 0 7 (dk_at dksX12_told_0 5 rfl rfl)
theorem dX12_told_8 : decode cX12_told 8 = .ok (.goto 10, 3) := dk_167 0 10 (dk_at dksX12_told_0 8 rfl rfl)
theorem dX12_told_11 : decode cX12_told 11 = .ok (.aload_n 0, 1) := dk_42 (dk_at dksX12_told_0 11 rfl rfl)
theorem dX12_told_12 : decode cX12_told 12 = .ok (.getfield 13, 3) := dk_180 0 13 (dk_at dksX12_told_0 12 rfl rfl)
theorem dX12_told_15 : decode cX12_told 15 = .ok (.invokevirtual 17, 3) := dk_182 0 17 (dk_at dksX12_told_0 15 rfl rfl)
theorem dX12_told_18 : decode cX12_told 18 = .ok (.ireturn, 1) := dk_172 (dk_at dksX12_told_0 18 rfl rfl)
theorem q75 : (Jvm.Cond.initialized "BarnPictures$Stop") ∈ lw_all := lw_g (lw_at lw_m1 30 rfl) rfl
theorem q345 : (Jvm.Cond.selects "BarnPictures$Stop" ({ cls := "java/lang/Throwable", name := "fillInStackTrace", desc := "()Ljava/lang/Throwable;" } : Jvm.MethodName) ({ cls := "java/lang/Throwable", name := "fillInStackTrace", desc := "()Ljava/lang/Throwable;" } : Jvm.MethodName)) ∈ lw_all := lw_g (lw_at lw_m2 60 rfl) rfl
theorem q466 : (Jvm.Cond.selects "BarnPictures$Stop" ({ cls := "java/lang/Object", name := "getClass", desc := "()Ljava/lang/Class;" } : Jvm.MethodName) ({ cls := "java/lang/Object", name := "getClass", desc := "()Ljava/lang/Class;" } : Jvm.MethodName)) ∈ lw_all := lw_g (lw_at lw_m2 181 rfl) rfl
theorem q979 : (Jvm.Cond.instantiable "BarnPictures$Stop" (8 : Nat)) ∈ lw_all := lw_g (lw_at lw_m4 214 rfl) rfl
theorem q980 : (Jvm.Cond.castable "BarnPictures$Stop" "BarnPictures$Stop") ∈ lw_tbl := lw_at lw_m4 215 rfl
theorem q981 : (Jvm.Cond.selects "BarnPictures$Stop" ({ cls := "java/lang/Throwable", name := "fillInStackTrace", desc := "(I)Ljava/lang/Throwable;" } : Jvm.MethodName) ({ cls := "java/lang/Throwable", name := "fillInStackTrace", desc := "(I)Ljava/lang/Throwable;" } : Jvm.MethodName)) ∈ lw_all := lw_g (lw_at lw_m4 216 rfl) rfl
theorem q982 : (Jvm.Cond.lays "BarnPictures$Stop" "java/lang/Throwable" "cause" "Ljava/lang/Throwable;") ∈ lw_all := lw_g (lw_at lw_m4 217 rfl) rfl
theorem q983 : (Jvm.Cond.lays "BarnPictures$Stop" "java/lang/Throwable" "stackTrace" "[Ljava/lang/StackTraceElement;") ∈ lw_all := lw_g (lw_at lw_m4 218 rfl) rfl
theorem q984 : (Jvm.Cond.lays "BarnPictures$Stop" "java/lang/Throwable" "suppressedExceptions" "Ljava/util/List;") ∈ lw_all := lw_g (lw_at lw_m4 219 rfl) rfl
theorem q985 : (Jvm.Cond.lays "BarnPictures$Stop" "java/lang/Throwable" "detailMessage" "Ljava/lang/String;") ∈ lw_all := lw_g (lw_at lw_m4 220 rfl) rfl
theorem q986 : (Jvm.Cond.lays "BarnPictures$Stop" "java/lang/Throwable" "backtrace" "Ljava/lang/Object;") ∈ lw_all := lw_g (lw_at lw_m4 221 rfl) rfl
theorem q988 : (Jvm.Cond.instanceMethod ({ cls := "BarnPictures$Stop", name := "<init>", desc := "(ILBarnPictures$Refusal;)V" } : Jvm.MethodName)) ∈ lw_all := lw_g (lw_at lw_m4 223 rfl) rfl
theorem q989 : (Jvm.Cond.code ({ cls := "BarnPictures$Stop", name := "<init>", desc := "(ILBarnPictures$Refusal;)V" } : Jvm.MethodName) prog_8_method_1_code (3 : Nat) (Option.none : Option Jvm.ClassFile.FieldType)) ∈ lw_all := lw_g (lw_at lw_m4 224 rfl) rfl
theorem q990 : (Jvm.Cond.methodLink "BarnPictures$Stop" (1 : Nat) ({ cls := "java/lang/Exception", name := "<init>", desc := "()V" } : Jvm.MethodName)) ∈ lw_all := lw_g (lw_at lw_m4 225 rfl) rfl
theorem q991 : (Jvm.Cond.fieldLink "BarnPictures$Stop" (7 : Nat) "BarnPictures$Stop" "number" "I") ∈ lw_all := lw_g (lw_at lw_m4 226 rfl) rfl
theorem q992 : (Jvm.Cond.fieldLink "BarnPictures$Stop" (13 : Nat) "BarnPictures$Stop" "reason" "LBarnPictures$Refusal;") ∈ lw_all := lw_g (lw_at lw_m4 227 rfl) rfl
theorem q993 : (Jvm.Cond.laysFinal "BarnPictures$Stop" "BarnPictures$Stop" "number" "I") ∈ lw_all := lw_g (lw_at lw_m4 228 rfl) rfl
theorem q994 : (Jvm.Cond.soleField "BarnPictures$Stop" "number") ∈ lw_all := lw_g (lw_at lw_m4 229 rfl) rfl
theorem q995 : (Jvm.Cond.laysFinal "BarnPictures$Stop" "BarnPictures$Stop" "reason" "LBarnPictures$Refusal;") ∈ lw_all := lw_g (lw_at lw_m4 230 rfl) rfl
theorem q996 : (Jvm.Cond.soleField "BarnPictures$Stop" "reason") ∈ lw_all := lw_g (lw_at lw_m4 231 rfl) rfl
theorem q997 : (Jvm.Cond.lays "BarnPictures$Stop" "java/lang/Throwable" "depth" "I") ∈ lw_all := lw_g (lw_at lw_m4 232 rfl) rfl
theorem q998 : (Jvm.Cond.superclass "BarnPictures$Stop" "java/lang/Exception") ∈ lw_all := lw_g (lw_at lw_m4 233 rfl) rfl
theorem q1006 : (Jvm.Cond.instanceMethod ({ cls := "BarnPictures$Stop", name := "told", desc := "(I)I" } : Jvm.MethodName)) ∈ lw_all := lw_g (lw_at lw_m5 1 rfl) rfl
theorem q1007 : (Jvm.Cond.selects "BarnPictures$Stop" ({ cls := "BarnPictures$Stop", name := "told", desc := "(I)I" } : Jvm.MethodName) ({ cls := "BarnPictures$Stop", name := "told", desc := "(I)I" } : Jvm.MethodName)) ∈ lw_all := lw_g (lw_at lw_m5 2 rfl) rfl
theorem q1008 : (Jvm.Cond.code ({ cls := "BarnPictures$Stop", name := "told", desc := "(I)I" } : Jvm.MethodName) prog_8_method_2_code (2 : Nat) (Option.some Jvm.ClassFile.FieldType.int)) ∈ lw_all := lw_g (lw_at lw_m5 3 rfl) rfl
theorem q1009 : (Jvm.Cond.methodLink "BarnPictures$Stop" (17 : Nat) ({ cls := "BarnPictures$Refusal", name := "code", desc := "()I" } : Jvm.MethodName)) ∈ lw_all := lw_g (lw_at lw_m5 4 rfl) rfl
theorem q1394 : (Jvm.Cond.castable "BarnPictures$Stop" "java/lang/Object") ∈ lw_tbl := lw_at lw_m6 149 rfl
theorem in_X12 : ∀ w ∈ wsX120, w ∈ lw_all := lw_in wsX120 [982, 983, 984, 985, 986, 997, 993, 995] (by decide +kernel) (by decide +kernel)
