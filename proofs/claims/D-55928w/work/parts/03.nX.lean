/-! DECODE ROWS BY BYTES: one lemma an opcode; a method's code is cut into short pieces once, and a row reads its own piece alone. -/
set_option maxRecDepth 100000
/-- the code has just these bytes from pc on -/
def DkAt (code : ByteArray) (pc : Nat) (bs : List UInt8) : Prop := ∀ (j : Nat) (b : UInt8), bs[j]? = some b → code.data.toList[pc + j]? = some b
/-- the piece W has the bytes bs from its place j on -/
def dkIn (W : List UInt8) (j : Nat) (bs : List UInt8) : Bool := decide ((W.drop j).take bs.length = bs)
theorem dk_seg {l W T : List UInt8} {o o2 : Nat} (h : l.drop o = W ++ T) (n : Nat) (hn : W.length = n) (ho : o + n = o2) : l.drop o2 = T := by
  subst ho
  rw [← List.drop_drop, h, List.drop_left' hn]
theorem dk_at {code : ByteArray} {W T bs : List UInt8} {o pc : Nat} (h : code.data.toList.drop o = W ++ T) (j : Nat) (hp : o + j = pc) (hw : dkIn W j bs = true) : DkAt code pc bs := by
  subst hp
  intro i b e
  have h1 := of_decide_eq_true hw
  have h2 : i < bs.length := (List.getElem?_eq_some_iff.mp e).1
  have h3 : W[j + i]? = some b := by
    rw [← h1, List.getElem?_take, if_pos h2, List.getElem?_drop] at e
    exact e
  have h4 : j + i < W.length := (List.getElem?_eq_some_iff.mp h3).1
  have h5 : (code.data.toList.drop o)[j + i]? = some b := by
    rw [h, List.getElem?_append_left h4]
    exact h3
  rw [List.getElem?_drop, ← Nat.add_assoc] at h5
  exact h5
theorem dk_u1 {A : ByteArray} {p : Nat} {b : UInt8} (h : A.data.toList[p]? = some b) : (Reader.u1 : Reader DecodeError Nat) A p = .ok (b.toNat, p + 1) := by
  obtain ⟨h1, h2⟩ := List.getElem?_eq_some_iff.mp h
  have h3 : p < A.size := by simpa using h1
  have h4 : A[p]'h3 = b := h2
  have e : (Reader.u1 : Reader DecodeError Nat) A p = (if h : p < A.size then .ok (A[p].toNat, p + 1) else .error (HasTruncated.truncated p)) := by
    show (do if h : p < A.size then do set (p + 1); Pure.pure A[p].toNat else MonadExcept.throw (HasTruncated.truncated p) : Reader DecodeError Nat) A p = _
    by_cases hi : p < A.size
    · rw [dif_pos hi, dif_pos hi]; rfl
    · rw [dif_neg hi, dif_neg hi]; rfl
  rw [e, dif_pos h3, h4]
theorem dk_bind {α β : Type} {r : Reader DecodeError α} {f : α → Reader DecodeError β} {A : ByteArray} {p s : Nat} {a : α} (h : r A p = .ok (a, s)) : (r >>= f) A p = f a A s := by
  show (do let (a, s) ← r A p; f a A s : Except DecodeError (β × Nat)) = _
  rw [h]
  rfl
theorem dk_map {α β : Type} {r : Reader DecodeError α} {g : α → β} {A : ByteArray} {p s : Nat} {a : α} (h : r A p = .ok (a, s)) : (g <$> r) A p = .ok (g a, s) := by
  show (do let (a, s) ← r A p; .ok (g a, s) : Except DecodeError (β × Nat)) = _
  rw [h]
  rfl
theorem dk_u2 {A : ByteArray} {p : Nat} {a b : UInt8} (h : A.data.toList[p]? = some a) (h2 : A.data.toList[p + 1]? = some b) : (Reader.u2 : Reader DecodeError Nat) A p = .ok (a.toNat * 256 + b.toNat, p + 2) := by
  show (Reader.u1 >>= fun hi => Reader.u1 >>= fun lo => Pure.pure (hi * 256 + lo) : Reader DecodeError Nat) A p = _
  rw [dk_bind (dk_u1 h), dk_bind (dk_u1 h2)]
  rfl
theorem dk_of {code : ByteArray} {pc n : Nat} {i : Instr} (h : Decoder.instr pc code pc = .ok (i, pc + n)) : decode code pc = .ok (i, n) := by
  have e : decode code pc = (match Decoder.instr pc code pc with | .error x => .error x | .ok (j, s) => .ok (j, s - pc)) := by
    show (do let (j, s) ← Decoder.instr pc code pc; Pure.pure (j, s - pc) : Except DecodeError (Instr × Nat)) = _
    cases Decoder.instr pc code pc <;> rfl
  rw [e, h]
  show Except.ok (i, pc + n - pc) = _
  rw [Nat.add_sub_cancel_left]
theorem dk_1 {code : ByteArray} {pc : Nat} (h : DkAt code pc [1]) : decode code pc = .ok (.aconst_null, 1) := dk_of ((dk_bind (dk_u1 (h 0 _ rfl))).trans rfl)
theorem dk_2 {code : ByteArray} {pc : Nat} (h : DkAt code pc [2]) : decode code pc = .ok (.iconst (-1), 1) := dk_of ((dk_bind (dk_u1 (h 0 _ rfl))).trans rfl)
theorem dk_3 {code : ByteArray} {pc : Nat} (h : DkAt code pc [3]) : decode code pc = .ok (.iconst 0, 1) := dk_of ((dk_bind (dk_u1 (h 0 _ rfl))).trans rfl)
theorem dk_4 {code : ByteArray} {pc : Nat} (h : DkAt code pc [4]) : decode code pc = .ok (.iconst 1, 1) := dk_of ((dk_bind (dk_u1 (h 0 _ rfl))).trans rfl)
theorem dk_5 {code : ByteArray} {pc : Nat} (h : DkAt code pc [5]) : decode code pc = .ok (.iconst 2, 1) := dk_of ((dk_bind (dk_u1 (h 0 _ rfl))).trans rfl)
theorem dk_6 {code : ByteArray} {pc : Nat} (h : DkAt code pc [6]) : decode code pc = .ok (.iconst 3, 1) := dk_of ((dk_bind (dk_u1 (h 0 _ rfl))).trans rfl)
theorem dk_7 {code : ByteArray} {pc : Nat} (h : DkAt code pc [7]) : decode code pc = .ok (.iconst 4, 1) := dk_of ((dk_bind (dk_u1 (h 0 _ rfl))).trans rfl)
theorem dk_8 {code : ByteArray} {pc : Nat} (h : DkAt code pc [8]) : decode code pc = .ok (.iconst 5, 1) := dk_of ((dk_bind (dk_u1 (h 0 _ rfl))).trans rfl)
theorem dk_11 {code : ByteArray} {pc : Nat} (h : DkAt code pc [11]) : decode code pc = .ok (.fconst 0, 1) := dk_of ((dk_bind (dk_u1 (h 0 _ rfl))).trans rfl)
theorem dk_14 {code : ByteArray} {pc : Nat} (h : DkAt code pc [14]) : decode code pc = .ok (.dconst 0, 1) := dk_of ((dk_bind (dk_u1 (h 0 _ rfl))).trans rfl)
theorem dk_16 {code : ByteArray} {pc : Nat} (a : UInt8) (h : DkAt code pc [16, a]) : decode code pc = .ok (.bipush (Reader.signed 8 a.toNat), 2) := dk_of ((dk_bind (dk_u1 (h 0 _ rfl))).trans ((dk_bind (dk_map (dk_u1 (h 1 _ rfl)))).trans rfl))
theorem dk_17 {code : ByteArray} {pc : Nat} (a b : UInt8) (h : DkAt code pc [17, a, b]) : decode code pc = .ok (.sipush (Reader.signed 16 (a.toNat * 256 + b.toNat)), 3) := dk_of ((dk_bind (dk_u1 (h 0 _ rfl))).trans ((dk_bind (dk_map (dk_u2 (h 1 _ rfl) (h 2 _ rfl)))).trans rfl))
theorem dk_18 {code : ByteArray} {pc : Nat} (a : UInt8) (h : DkAt code pc [18, a]) : decode code pc = .ok (.ldc a.toNat, 2) := dk_of ((dk_bind (dk_u1 (h 0 _ rfl))).trans ((dk_bind (dk_u1 (h 1 _ rfl))).trans rfl))
theorem dk_19 {code : ByteArray} {pc : Nat} (a b : UInt8) (h : DkAt code pc [19, a, b]) : decode code pc = .ok (.ldc_w (a.toNat * 256 + b.toNat), 3) := dk_of ((dk_bind (dk_u1 (h 0 _ rfl))).trans ((dk_bind (dk_u2 (h 1 _ rfl) (h 2 _ rfl))).trans rfl))
theorem dk_21 {code : ByteArray} {pc : Nat} (a : UInt8) (h : DkAt code pc [21, a]) : decode code pc = .ok (.iload a.toNat, 2) := dk_of ((dk_bind (dk_u1 (h 0 _ rfl))).trans ((dk_bind (dk_u1 (h 1 _ rfl))).trans rfl))
theorem dk_24 {code : ByteArray} {pc : Nat} (a : UInt8) (h : DkAt code pc [24, a]) : decode code pc = .ok (.dload a.toNat, 2) := dk_of ((dk_bind (dk_u1 (h 0 _ rfl))).trans ((dk_bind (dk_u1 (h 1 _ rfl))).trans rfl))
theorem dk_25 {code : ByteArray} {pc : Nat} (a : UInt8) (h : DkAt code pc [25, a]) : decode code pc = .ok (.aload a.toNat, 2) := dk_of ((dk_bind (dk_u1 (h 0 _ rfl))).trans ((dk_bind (dk_u1 (h 1 _ rfl))).trans rfl))
theorem dk_26 {code : ByteArray} {pc : Nat} (h : DkAt code pc [26]) : decode code pc = .ok (.iload_n 0, 1) := dk_of ((dk_bind (dk_u1 (h 0 _ rfl))).trans rfl)
theorem dk_27 {code : ByteArray} {pc : Nat} (h : DkAt code pc [27]) : decode code pc = .ok (.iload_n 1, 1) := dk_of ((dk_bind (dk_u1 (h 0 _ rfl))).trans rfl)
theorem dk_28 {code : ByteArray} {pc : Nat} (h : DkAt code pc [28]) : decode code pc = .ok (.iload_n 2, 1) := dk_of ((dk_bind (dk_u1 (h 0 _ rfl))).trans rfl)
theorem dk_29 {code : ByteArray} {pc : Nat} (h : DkAt code pc [29]) : decode code pc = .ok (.iload_n 3, 1) := dk_of ((dk_bind (dk_u1 (h 0 _ rfl))).trans rfl)
theorem dk_42 {code : ByteArray} {pc : Nat} (h : DkAt code pc [42]) : decode code pc = .ok (.aload_n 0, 1) := dk_of ((dk_bind (dk_u1 (h 0 _ rfl))).trans rfl)
theorem dk_43 {code : ByteArray} {pc : Nat} (h : DkAt code pc [43]) : decode code pc = .ok (.aload_n 1, 1) := dk_of ((dk_bind (dk_u1 (h 0 _ rfl))).trans rfl)
theorem dk_44 {code : ByteArray} {pc : Nat} (h : DkAt code pc [44]) : decode code pc = .ok (.aload_n 2, 1) := dk_of ((dk_bind (dk_u1 (h 0 _ rfl))).trans rfl)
theorem dk_45 {code : ByteArray} {pc : Nat} (h : DkAt code pc [45]) : decode code pc = .ok (.aload_n 3, 1) := dk_of ((dk_bind (dk_u1 (h 0 _ rfl))).trans rfl)
theorem dk_46 {code : ByteArray} {pc : Nat} (h : DkAt code pc [46]) : decode code pc = .ok (.iaload, 1) := dk_of ((dk_bind (dk_u1 (h 0 _ rfl))).trans rfl)
theorem dk_50 {code : ByteArray} {pc : Nat} (h : DkAt code pc [50]) : decode code pc = .ok (.aaload, 1) := dk_of ((dk_bind (dk_u1 (h 0 _ rfl))).trans rfl)
theorem dk_51 {code : ByteArray} {pc : Nat} (h : DkAt code pc [51]) : decode code pc = .ok (.baload, 1) := dk_of ((dk_bind (dk_u1 (h 0 _ rfl))).trans rfl)
theorem dk_54 {code : ByteArray} {pc : Nat} (a : UInt8) (h : DkAt code pc [54, a]) : decode code pc = .ok (.istore a.toNat, 2) := dk_of ((dk_bind (dk_u1 (h 0 _ rfl))).trans ((dk_bind (dk_u1 (h 1 _ rfl))).trans rfl))
theorem dk_57 {code : ByteArray} {pc : Nat} (a : UInt8) (h : DkAt code pc [57, a]) : decode code pc = .ok (.dstore a.toNat, 2) := dk_of ((dk_bind (dk_u1 (h 0 _ rfl))).trans ((dk_bind (dk_u1 (h 1 _ rfl))).trans rfl))
theorem dk_58 {code : ByteArray} {pc : Nat} (a : UInt8) (h : DkAt code pc [58, a]) : decode code pc = .ok (.astore a.toNat, 2) := dk_of ((dk_bind (dk_u1 (h 0 _ rfl))).trans ((dk_bind (dk_u1 (h 1 _ rfl))).trans rfl))
theorem dk_59 {code : ByteArray} {pc : Nat} (h : DkAt code pc [59]) : decode code pc = .ok (.istore_n 0, 1) := dk_of ((dk_bind (dk_u1 (h 0 _ rfl))).trans rfl)
theorem dk_60 {code : ByteArray} {pc : Nat} (h : DkAt code pc [60]) : decode code pc = .ok (.istore_n 1, 1) := dk_of ((dk_bind (dk_u1 (h 0 _ rfl))).trans rfl)
theorem dk_61 {code : ByteArray} {pc : Nat} (h : DkAt code pc [61]) : decode code pc = .ok (.istore_n 2, 1) := dk_of ((dk_bind (dk_u1 (h 0 _ rfl))).trans rfl)
theorem dk_62 {code : ByteArray} {pc : Nat} (h : DkAt code pc [62]) : decode code pc = .ok (.istore_n 3, 1) := dk_of ((dk_bind (dk_u1 (h 0 _ rfl))).trans rfl)
theorem dk_76 {code : ByteArray} {pc : Nat} (h : DkAt code pc [76]) : decode code pc = .ok (.astore_n 1, 1) := dk_of ((dk_bind (dk_u1 (h 0 _ rfl))).trans rfl)
theorem dk_77 {code : ByteArray} {pc : Nat} (h : DkAt code pc [77]) : decode code pc = .ok (.astore_n 2, 1) := dk_of ((dk_bind (dk_u1 (h 0 _ rfl))).trans rfl)
theorem dk_78 {code : ByteArray} {pc : Nat} (h : DkAt code pc [78]) : decode code pc = .ok (.astore_n 3, 1) := dk_of ((dk_bind (dk_u1 (h 0 _ rfl))).trans rfl)
theorem dk_79 {code : ByteArray} {pc : Nat} (h : DkAt code pc [79]) : decode code pc = .ok (.iastore, 1) := dk_of ((dk_bind (dk_u1 (h 0 _ rfl))).trans rfl)
theorem dk_83 {code : ByteArray} {pc : Nat} (h : DkAt code pc [83]) : decode code pc = .ok (.aastore, 1) := dk_of ((dk_bind (dk_u1 (h 0 _ rfl))).trans rfl)
theorem dk_84 {code : ByteArray} {pc : Nat} (h : DkAt code pc [84]) : decode code pc = .ok (.bastore, 1) := dk_of ((dk_bind (dk_u1 (h 0 _ rfl))).trans rfl)
theorem dk_87 {code : ByteArray} {pc : Nat} (h : DkAt code pc [87]) : decode code pc = .ok (.pop, 1) := dk_of ((dk_bind (dk_u1 (h 0 _ rfl))).trans rfl)
theorem dk_89 {code : ByteArray} {pc : Nat} (h : DkAt code pc [89]) : decode code pc = .ok (.dup, 1) := dk_of ((dk_bind (dk_u1 (h 0 _ rfl))).trans rfl)
theorem dk_90 {code : ByteArray} {pc : Nat} (h : DkAt code pc [90]) : decode code pc = .ok (.dup_x1, 1) := dk_of ((dk_bind (dk_u1 (h 0 _ rfl))).trans rfl)
theorem dk_92 {code : ByteArray} {pc : Nat} (h : DkAt code pc [92]) : decode code pc = .ok (.dup2, 1) := dk_of ((dk_bind (dk_u1 (h 0 _ rfl))).trans rfl)
theorem dk_96 {code : ByteArray} {pc : Nat} (h : DkAt code pc [96]) : decode code pc = .ok (.iadd, 1) := dk_of ((dk_bind (dk_u1 (h 0 _ rfl))).trans rfl)
theorem dk_100 {code : ByteArray} {pc : Nat} (h : DkAt code pc [100]) : decode code pc = .ok (.isub, 1) := dk_of ((dk_bind (dk_u1 (h 0 _ rfl))).trans rfl)
theorem dk_104 {code : ByteArray} {pc : Nat} (h : DkAt code pc [104]) : decode code pc = .ok (.imul, 1) := dk_of ((dk_bind (dk_u1 (h 0 _ rfl))).trans rfl)
theorem dk_108 {code : ByteArray} {pc : Nat} (h : DkAt code pc [108]) : decode code pc = .ok (.idiv, 1) := dk_of ((dk_bind (dk_u1 (h 0 _ rfl))).trans rfl)
theorem dk_110 {code : ByteArray} {pc : Nat} (h : DkAt code pc [110]) : decode code pc = .ok (.fdiv, 1) := dk_of ((dk_bind (dk_u1 (h 0 _ rfl))).trans rfl)
theorem dk_111 {code : ByteArray} {pc : Nat} (h : DkAt code pc [111]) : decode code pc = .ok (.ddiv, 1) := dk_of ((dk_bind (dk_u1 (h 0 _ rfl))).trans rfl)
theorem dk_112 {code : ByteArray} {pc : Nat} (h : DkAt code pc [112]) : decode code pc = .ok (.irem, 1) := dk_of ((dk_bind (dk_u1 (h 0 _ rfl))).trans rfl)
theorem dk_116 {code : ByteArray} {pc : Nat} (h : DkAt code pc [116]) : decode code pc = .ok (.ineg, 1) := dk_of ((dk_bind (dk_u1 (h 0 _ rfl))).trans rfl)
theorem dk_120 {code : ByteArray} {pc : Nat} (h : DkAt code pc [120]) : decode code pc = .ok (.ishl, 1) := dk_of ((dk_bind (dk_u1 (h 0 _ rfl))).trans rfl)
theorem dk_122 {code : ByteArray} {pc : Nat} (h : DkAt code pc [122]) : decode code pc = .ok (.ishr, 1) := dk_of ((dk_bind (dk_u1 (h 0 _ rfl))).trans rfl)
theorem dk_124 {code : ByteArray} {pc : Nat} (h : DkAt code pc [124]) : decode code pc = .ok (.iushr, 1) := dk_of ((dk_bind (dk_u1 (h 0 _ rfl))).trans rfl)
theorem dk_126 {code : ByteArray} {pc : Nat} (h : DkAt code pc [126]) : decode code pc = .ok (.iand, 1) := dk_of ((dk_bind (dk_u1 (h 0 _ rfl))).trans rfl)
theorem dk_128 {code : ByteArray} {pc : Nat} (h : DkAt code pc [128]) : decode code pc = .ok (.ior, 1) := dk_of ((dk_bind (dk_u1 (h 0 _ rfl))).trans rfl)
theorem dk_132 {code : ByteArray} {pc : Nat} (a b : UInt8) (h : DkAt code pc [132, a, b]) : decode code pc = .ok (.iinc a.toNat (Reader.signed 8 b.toNat), 3) := dk_of ((dk_bind (dk_u1 (h 0 _ rfl))).trans ((dk_bind (dk_u1 (h 1 _ rfl))).trans ((dk_bind (dk_map (dk_u1 (h 2 _ rfl)))).trans rfl)))
theorem dk_134 {code : ByteArray} {pc : Nat} (h : DkAt code pc [134]) : decode code pc = .ok (.i2f, 1) := dk_of ((dk_bind (dk_u1 (h 0 _ rfl))).trans rfl)
theorem dk_135 {code : ByteArray} {pc : Nat} (h : DkAt code pc [135]) : decode code pc = .ok (.i2d, 1) := dk_of ((dk_bind (dk_u1 (h 0 _ rfl))).trans rfl)
theorem dk_141 {code : ByteArray} {pc : Nat} (h : DkAt code pc [141]) : decode code pc = .ok (.f2d, 1) := dk_of ((dk_bind (dk_u1 (h 0 _ rfl))).trans rfl)
theorem dk_145 {code : ByteArray} {pc : Nat} (h : DkAt code pc [145]) : decode code pc = .ok (.i2b, 1) := dk_of ((dk_bind (dk_u1 (h 0 _ rfl))).trans rfl)
theorem dk_146 {code : ByteArray} {pc : Nat} (h : DkAt code pc [146]) : decode code pc = .ok (.i2c, 1) := dk_of ((dk_bind (dk_u1 (h 0 _ rfl))).trans rfl)
theorem dk_151 {code : ByteArray} {pc : Nat} (h : DkAt code pc [151]) : decode code pc = .ok (.dcmp .l, 1) := dk_of ((dk_bind (dk_u1 (h 0 _ rfl))).trans rfl)
theorem dk_153 {code : ByteArray} {pc : Nat} (a b : UInt8) (h : DkAt code pc [153, a, b]) : decode code pc = .ok (.ifCond .eq (Reader.signed 16 (a.toNat * 256 + b.toNat)), 3) := dk_of ((dk_bind (dk_u1 (h 0 _ rfl))).trans ((dk_bind (dk_map (dk_u2 (h 1 _ rfl) (h 2 _ rfl)))).trans rfl))
theorem dk_154 {code : ByteArray} {pc : Nat} (a b : UInt8) (h : DkAt code pc [154, a, b]) : decode code pc = .ok (.ifCond .ne (Reader.signed 16 (a.toNat * 256 + b.toNat)), 3) := dk_of ((dk_bind (dk_u1 (h 0 _ rfl))).trans ((dk_bind (dk_map (dk_u2 (h 1 _ rfl) (h 2 _ rfl)))).trans rfl))
theorem dk_155 {code : ByteArray} {pc : Nat} (a b : UInt8) (h : DkAt code pc [155, a, b]) : decode code pc = .ok (.ifCond .lt (Reader.signed 16 (a.toNat * 256 + b.toNat)), 3) := dk_of ((dk_bind (dk_u1 (h 0 _ rfl))).trans ((dk_bind (dk_map (dk_u2 (h 1 _ rfl) (h 2 _ rfl)))).trans rfl))
theorem dk_156 {code : ByteArray} {pc : Nat} (a b : UInt8) (h : DkAt code pc [156, a, b]) : decode code pc = .ok (.ifCond .ge (Reader.signed 16 (a.toNat * 256 + b.toNat)), 3) := dk_of ((dk_bind (dk_u1 (h 0 _ rfl))).trans ((dk_bind (dk_map (dk_u2 (h 1 _ rfl) (h 2 _ rfl)))).trans rfl))
theorem dk_157 {code : ByteArray} {pc : Nat} (a b : UInt8) (h : DkAt code pc [157, a, b]) : decode code pc = .ok (.ifCond .gt (Reader.signed 16 (a.toNat * 256 + b.toNat)), 3) := dk_of ((dk_bind (dk_u1 (h 0 _ rfl))).trans ((dk_bind (dk_map (dk_u2 (h 1 _ rfl) (h 2 _ rfl)))).trans rfl))
theorem dk_158 {code : ByteArray} {pc : Nat} (a b : UInt8) (h : DkAt code pc [158, a, b]) : decode code pc = .ok (.ifCond .le (Reader.signed 16 (a.toNat * 256 + b.toNat)), 3) := dk_of ((dk_bind (dk_u1 (h 0 _ rfl))).trans ((dk_bind (dk_map (dk_u2 (h 1 _ rfl) (h 2 _ rfl)))).trans rfl))
theorem dk_159 {code : ByteArray} {pc : Nat} (a b : UInt8) (h : DkAt code pc [159, a, b]) : decode code pc = .ok (.if_icmp .eq (Reader.signed 16 (a.toNat * 256 + b.toNat)), 3) := dk_of ((dk_bind (dk_u1 (h 0 _ rfl))).trans ((dk_bind (dk_map (dk_u2 (h 1 _ rfl) (h 2 _ rfl)))).trans rfl))
theorem dk_160 {code : ByteArray} {pc : Nat} (a b : UInt8) (h : DkAt code pc [160, a, b]) : decode code pc = .ok (.if_icmp .ne (Reader.signed 16 (a.toNat * 256 + b.toNat)), 3) := dk_of ((dk_bind (dk_u1 (h 0 _ rfl))).trans ((dk_bind (dk_map (dk_u2 (h 1 _ rfl) (h 2 _ rfl)))).trans rfl))
theorem dk_161 {code : ByteArray} {pc : Nat} (a b : UInt8) (h : DkAt code pc [161, a, b]) : decode code pc = .ok (.if_icmp .lt (Reader.signed 16 (a.toNat * 256 + b.toNat)), 3) := dk_of ((dk_bind (dk_u1 (h 0 _ rfl))).trans ((dk_bind (dk_map (dk_u2 (h 1 _ rfl) (h 2 _ rfl)))).trans rfl))
theorem dk_162 {code : ByteArray} {pc : Nat} (a b : UInt8) (h : DkAt code pc [162, a, b]) : decode code pc = .ok (.if_icmp .ge (Reader.signed 16 (a.toNat * 256 + b.toNat)), 3) := dk_of ((dk_bind (dk_u1 (h 0 _ rfl))).trans ((dk_bind (dk_map (dk_u2 (h 1 _ rfl) (h 2 _ rfl)))).trans rfl))
theorem dk_163 {code : ByteArray} {pc : Nat} (a b : UInt8) (h : DkAt code pc [163, a, b]) : decode code pc = .ok (.if_icmp .gt (Reader.signed 16 (a.toNat * 256 + b.toNat)), 3) := dk_of ((dk_bind (dk_u1 (h 0 _ rfl))).trans ((dk_bind (dk_map (dk_u2 (h 1 _ rfl) (h 2 _ rfl)))).trans rfl))
theorem dk_164 {code : ByteArray} {pc : Nat} (a b : UInt8) (h : DkAt code pc [164, a, b]) : decode code pc = .ok (.if_icmp .le (Reader.signed 16 (a.toNat * 256 + b.toNat)), 3) := dk_of ((dk_bind (dk_u1 (h 0 _ rfl))).trans ((dk_bind (dk_map (dk_u2 (h 1 _ rfl) (h 2 _ rfl)))).trans rfl))
theorem dk_165 {code : ByteArray} {pc : Nat} (a b : UInt8) (h : DkAt code pc [165, a, b]) : decode code pc = .ok (.if_acmp .eq (Reader.signed 16 (a.toNat * 256 + b.toNat)), 3) := dk_of ((dk_bind (dk_u1 (h 0 _ rfl))).trans ((dk_bind (dk_map (dk_u2 (h 1 _ rfl) (h 2 _ rfl)))).trans rfl))
theorem dk_166 {code : ByteArray} {pc : Nat} (a b : UInt8) (h : DkAt code pc [166, a, b]) : decode code pc = .ok (.if_acmp .ne (Reader.signed 16 (a.toNat * 256 + b.toNat)), 3) := dk_of ((dk_bind (dk_u1 (h 0 _ rfl))).trans ((dk_bind (dk_map (dk_u2 (h 1 _ rfl) (h 2 _ rfl)))).trans rfl))
theorem dk_167 {code : ByteArray} {pc : Nat} (a b : UInt8) (h : DkAt code pc [167, a, b]) : decode code pc = .ok (.goto (Reader.signed 16 (a.toNat * 256 + b.toNat)), 3) := dk_of ((dk_bind (dk_u1 (h 0 _ rfl))).trans ((dk_bind (dk_map (dk_u2 (h 1 _ rfl) (h 2 _ rfl)))).trans rfl))
theorem dk_172 {code : ByteArray} {pc : Nat} (h : DkAt code pc [172]) : decode code pc = .ok (.ireturn, 1) := dk_of ((dk_bind (dk_u1 (h 0 _ rfl))).trans rfl)
theorem dk_174 {code : ByteArray} {pc : Nat} (h : DkAt code pc [174]) : decode code pc = .ok (.freturn, 1) := dk_of ((dk_bind (dk_u1 (h 0 _ rfl))).trans rfl)
theorem dk_175 {code : ByteArray} {pc : Nat} (h : DkAt code pc [175]) : decode code pc = .ok (.dreturn, 1) := dk_of ((dk_bind (dk_u1 (h 0 _ rfl))).trans rfl)
theorem dk_176 {code : ByteArray} {pc : Nat} (h : DkAt code pc [176]) : decode code pc = .ok (.areturn, 1) := dk_of ((dk_bind (dk_u1 (h 0 _ rfl))).trans rfl)
theorem dk_177 {code : ByteArray} {pc : Nat} (h : DkAt code pc [177]) : decode code pc = .ok (.return_, 1) := dk_of ((dk_bind (dk_u1 (h 0 _ rfl))).trans rfl)
theorem dk_178 {code : ByteArray} {pc : Nat} (a b : UInt8) (h : DkAt code pc [178, a, b]) : decode code pc = .ok (.getstatic (a.toNat * 256 + b.toNat), 3) := dk_of ((dk_bind (dk_u1 (h 0 _ rfl))).trans ((dk_bind (dk_u2 (h 1 _ rfl) (h 2 _ rfl))).trans rfl))
theorem dk_180 {code : ByteArray} {pc : Nat} (a b : UInt8) (h : DkAt code pc [180, a, b]) : decode code pc = .ok (.getfield (a.toNat * 256 + b.toNat), 3) := dk_of ((dk_bind (dk_u1 (h 0 _ rfl))).trans ((dk_bind (dk_u2 (h 1 _ rfl) (h 2 _ rfl))).trans rfl))
theorem dk_181 {code : ByteArray} {pc : Nat} (a b : UInt8) (h : DkAt code pc [181, a, b]) : decode code pc = .ok (.putfield (a.toNat * 256 + b.toNat), 3) := dk_of ((dk_bind (dk_u1 (h 0 _ rfl))).trans ((dk_bind (dk_u2 (h 1 _ rfl) (h 2 _ rfl))).trans rfl))
theorem dk_182 {code : ByteArray} {pc : Nat} (a b : UInt8) (h : DkAt code pc [182, a, b]) : decode code pc = .ok (.invokevirtual (a.toNat * 256 + b.toNat), 3) := dk_of ((dk_bind (dk_u1 (h 0 _ rfl))).trans ((dk_bind (dk_u2 (h 1 _ rfl) (h 2 _ rfl))).trans rfl))
theorem dk_183 {code : ByteArray} {pc : Nat} (a b : UInt8) (h : DkAt code pc [183, a, b]) : decode code pc = .ok (.invokespecial (a.toNat * 256 + b.toNat), 3) := dk_of ((dk_bind (dk_u1 (h 0 _ rfl))).trans ((dk_bind (dk_u2 (h 1 _ rfl) (h 2 _ rfl))).trans rfl))
theorem dk_184 {code : ByteArray} {pc : Nat} (a b : UInt8) (h : DkAt code pc [184, a, b]) : decode code pc = .ok (.invokestatic (a.toNat * 256 + b.toNat), 3) := dk_of ((dk_bind (dk_u1 (h 0 _ rfl))).trans ((dk_bind (dk_u2 (h 1 _ rfl) (h 2 _ rfl))).trans rfl))
theorem dk_187 {code : ByteArray} {pc : Nat} (a b : UInt8) (h : DkAt code pc [187, a, b]) : decode code pc = .ok (.new (a.toNat * 256 + b.toNat), 3) := dk_of ((dk_bind (dk_u1 (h 0 _ rfl))).trans ((dk_bind (dk_u2 (h 1 _ rfl) (h 2 _ rfl))).trans rfl))
theorem dk_188_4 {code : ByteArray} {pc : Nat} (h : DkAt code pc [188, 4]) : decode code pc = .ok (.newarray .boolean, 2) := dk_of ((dk_bind (dk_u1 (h 0 _ rfl))).trans ((dk_bind (dk_u1 (h 1 _ rfl))).trans rfl))
theorem dk_188_8 {code : ByteArray} {pc : Nat} (h : DkAt code pc [188, 8]) : decode code pc = .ok (.newarray .byte, 2) := dk_of ((dk_bind (dk_u1 (h 0 _ rfl))).trans ((dk_bind (dk_u1 (h 1 _ rfl))).trans rfl))
theorem dk_188_10 {code : ByteArray} {pc : Nat} (h : DkAt code pc [188, 10]) : decode code pc = .ok (.newarray .int, 2) := dk_of ((dk_bind (dk_u1 (h 0 _ rfl))).trans ((dk_bind (dk_u1 (h 1 _ rfl))).trans rfl))
theorem dk_189 {code : ByteArray} {pc : Nat} (a b : UInt8) (h : DkAt code pc [189, a, b]) : decode code pc = .ok (.anewarray (a.toNat * 256 + b.toNat), 3) := dk_of ((dk_bind (dk_u1 (h 0 _ rfl))).trans ((dk_bind (dk_u2 (h 1 _ rfl) (h 2 _ rfl))).trans rfl))
theorem dk_190 {code : ByteArray} {pc : Nat} (h : DkAt code pc [190]) : decode code pc = .ok (.arraylength, 1) := dk_of ((dk_bind (dk_u1 (h 0 _ rfl))).trans rfl)
theorem dk_191 {code : ByteArray} {pc : Nat} (h : DkAt code pc [191]) : decode code pc = .ok (.athrow, 1) := dk_of ((dk_bind (dk_u1 (h 0 _ rfl))).trans rfl)
theorem dk_192 {code : ByteArray} {pc : Nat} (a b : UInt8) (h : DkAt code pc [192, a, b]) : decode code pc = .ok (.checkcast (a.toNat * 256 + b.toNat), 3) := dk_of ((dk_bind (dk_u1 (h 0 _ rfl))).trans ((dk_bind (dk_u2 (h 1 _ rfl) (h 2 _ rfl))).trans rfl))
theorem dk_193 {code : ByteArray} {pc : Nat} (a b : UInt8) (h : DkAt code pc [193, a, b]) : decode code pc = .ok (.instanceof (a.toNat * 256 + b.toNat), 3) := dk_of ((dk_bind (dk_u1 (h 0 _ rfl))).trans ((dk_bind (dk_u2 (h 1 _ rfl) (h 2 _ rfl))).trans rfl))
theorem dk_198 {code : ByteArray} {pc : Nat} (a b : UInt8) (h : DkAt code pc [198, a, b]) : decode code pc = .ok (.ifnull (Reader.signed 16 (a.toNat * 256 + b.toNat)), 3) := dk_of ((dk_bind (dk_u1 (h 0 _ rfl))).trans ((dk_bind (dk_map (dk_u2 (h 1 _ rfl) (h 2 _ rfl)))).trans rfl))
theorem dk_199 {code : ByteArray} {pc : Nat} (a b : UInt8) (h : DkAt code pc [199, a, b]) : decode code pc = .ok (.ifnonnull (Reader.signed 16 (a.toNat * 256 + b.toNat)), 3) := dk_of ((dk_bind (dk_u1 (h 0 _ rfl))).trans ((dk_bind (dk_map (dk_u2 (h 1 _ rfl) (h 2 _ rfl)))).trans rfl))

/-! CandleStatute -/
set_option maxRecDepth 100000
def RX0 : String := "CandleStatute"
def TX0 : u_T := fun k => match k with
  | 0 => ("CandleStatute", "statute", "LCandleStatute$Statute;", false)
  | 1 => ("CandleStatute", "saved", "LCandleStatute$Statute;", false)
  | 2 => ("CandleStatute", "past", "Ljava/util/ArrayDeque;", true)
  | 3 => ("CandleStatute", "reasons", "[I", true)
  | 4 => ("CandleStatute", "details", "[I", true)
  | 5 => ("CandleStatute", "text", "Ljava/lang/StringBuilder;", true)
  | _ => ("CandleStatute", "line", "Ljava/lang/String;", false)
def tyX0 : Nat → FieldType := fun k => match k with
  | 0 => .object "CandleStatute$Statute"
  | 1 => .object "CandleStatute$Statute"
  | 2 => .object "java/util/ArrayDeque"
  | 3 => .array .int
  | 4 => .array .int
  | 5 => .object "java/lang/StringBuilder"
  | _ => .object "java/lang/String"
abbrev wsX00 : List Cond := u_ws RX0 TX0 7
theorem nmX0 : ∀ a, a < 7 → ∀ b, b < 7 → a ≠ b → (TX0 a).2.1 ≠ (TX0 b).2.1 := by decide +kernel
theorem tyX0_ok : ∀ k, k < 7 → parseFieldDescriptor (TX0 k).2.2.1 = some (tyX0 k) := by decide +kernel
abbrev cX0_init : ByteArray := prog_1_method_1_code
def yX0_init : MethodName := ⟨RX0, "<init>", "()V"⟩
def dkwX0_init_2 : List UInt8 := [183, 0, 32, 181, 0, 33, 42, 18, 37, 181, 0, 39, 177]
abbrev dktX0_init_2 : List UInt8 := dkwX0_init_2 ++ []
def dkwX0_init_1 : List UInt8 := [181, 0, 19, 42, 6, 188, 10, 181, 0, 23, 42, 6, 188, 10, 181, 0, 27, 42, 187, 0, 30, 89]
abbrev dktX0_init_1 : List UInt8 := dkwX0_init_1 ++ dktX0_init_2
def dkwX0_init_0 : List UInt8 := [42, 183, 0, 1, 42, 187, 0, 7, 89, 183, 0, 9, 181, 0, 10, 42, 187, 0, 16, 89, 183, 0, 18]
abbrev dktX0_init_0 : List UInt8 := dkwX0_init_0 ++ dktX0_init_1
theorem dksX0_init_0 : cX0_init.data.toList.drop 0 = dktX0_init_0 := by decide +kernel
theorem dksX0_init_1 : cX0_init.data.toList.drop 23 = dktX0_init_1 := dk_seg dksX0_init_0 23 rfl rfl
theorem dksX0_init_2 : cX0_init.data.toList.drop 45 = dktX0_init_2 := dk_seg dksX0_init_1 22 rfl rfl
theorem dX0_init_0 : decode cX0_init 0 = .ok (.aload_n 0, 1) := dk_42 (dk_at dksX0_init_0 0 rfl rfl)
theorem dX0_init_1 : decode cX0_init 1 = .ok (.invokespecial 1, 3) := dk_183 0 1 (dk_at dksX0_init_0 1 rfl rfl)
theorem dX0_init_4 : decode cX0_init 4 = .ok (.aload_n 0, 1) := dk_42 (dk_at dksX0_init_0 4 rfl rfl)
theorem dX0_init_5 : decode cX0_init 5 = .ok (.new 7, 3) := dk_187 0 7 (dk_at dksX0_init_0 5 rfl rfl)
theorem dX0_init_8 : decode cX0_init 8 = .ok (.dup, 1) := dk_89 (dk_at dksX0_init_0 8 rfl rfl)
theorem dX0_init_9 : decode cX0_init 9 = .ok (.invokespecial 9, 3) := dk_183 0 9 (dk_at dksX0_init_0 9 rfl rfl)
theorem dX0_init_12 : decode cX0_init 12 = .ok (.putfield 10, 3) := dk_181 0 10 (dk_at dksX0_init_0 12 rfl rfl)
theorem dX0_init_15 : decode cX0_init 15 = .ok (.aload_n 0, 1) := dk_42 (dk_at dksX0_init_0 15 rfl rfl)
theorem dX0_init_16 : decode cX0_init 16 = .ok (.new 16, 3) := dk_187 0 16 (dk_at dksX0_init_0 16 rfl rfl)
theorem dX0_init_19 : decode cX0_init 19 = .ok (.dup, 1) := dk_89 (dk_at dksX0_init_0 19 rfl rfl)
theorem dX0_init_20 : decode cX0_init 20 = .ok (.invokespecial 18, 3) := dk_183 0 18 (dk_at dksX0_init_0 20 rfl rfl)
theorem dX0_init_23 : decode cX0_init 23 = .ok (.putfield 19, 3) := dk_181 0 19 (dk_at dksX0_init_1 0 rfl rfl)
theorem dX0_init_26 : decode cX0_init 26 = .ok (.aload_n 0, 1) := dk_42 (dk_at dksX0_init_1 3 rfl rfl)
theorem dX0_init_27 : decode cX0_init 27 = .ok (.iconst 3, 1) := dk_6 (dk_at dksX0_init_1 4 rfl rfl)
theorem dX0_init_28 : decode cX0_init 28 = .ok (.newarray .int, 2) := dk_188_10 (dk_at dksX0_init_1 5 rfl rfl)
theorem dX0_init_30 : decode cX0_init 30 = .ok (.putfield 23, 3) := dk_181 0 23 (dk_at dksX0_init_1 7 rfl rfl)
theorem dX0_init_33 : decode cX0_init 33 = .ok (.aload_n 0, 1) := dk_42 (dk_at dksX0_init_1 10 rfl rfl)
theorem dX0_init_34 : decode cX0_init 34 = .ok (.iconst 3, 1) := dk_6 (dk_at dksX0_init_1 11 rfl rfl)
theorem dX0_init_35 : decode cX0_init 35 = .ok (.newarray .int, 2) := dk_188_10 (dk_at dksX0_init_1 12 rfl rfl)
theorem dX0_init_37 : decode cX0_init 37 = .ok (.putfield 27, 3) := dk_181 0 27 (dk_at dksX0_init_1 14 rfl rfl)
theorem dX0_init_40 : decode cX0_init 40 = .ok (.aload_n 0, 1) := dk_42 (dk_at dksX0_init_1 17 rfl rfl)
theorem dX0_init_41 : decode cX0_init 41 = .ok (.new 30, 3) := dk_187 0 30 (dk_at dksX0_init_1 18 rfl rfl)
theorem dX0_init_44 : decode cX0_init 44 = .ok (.dup, 1) := dk_89 (dk_at dksX0_init_1 21 rfl rfl)
theorem dX0_init_45 : decode cX0_init 45 = .ok (.invokespecial 32, 3) := dk_183 0 32 (dk_at dksX0_init_2 0 rfl rfl)
theorem dX0_init_48 : decode cX0_init 48 = .ok (.putfield 33, 3) := dk_181 0 33 (dk_at dksX0_init_2 3 rfl rfl)
theorem dX0_init_51 : decode cX0_init 51 = .ok (.aload_n 0, 1) := dk_42 (dk_at dksX0_init_2 6 rfl rfl)
theorem dX0_init_52 : decode cX0_init 52 = .ok (.ldc 37, 2) := dk_18 37 (dk_at dksX0_init_2 7 rfl rfl)
theorem dX0_init_54 : decode cX0_init 54 = .ok (.putfield 39, 3) := dk_181 0 39 (dk_at dksX0_init_2 9 rfl rfl)
theorem dX0_init_57 : decode cX0_init 57 = .ok (.return_, 1) := dk_177 (dk_at dksX0_init_2 12 rfl rfl)
abbrev cX0_stub : ByteArray := prog_1_method_13_code
def yX0_stub : MethodName := ⟨RX0, "stub", "(III)I"⟩
def dkwX0_stub_3 : List UInt8 := [182, 0, 119, 172]
abbrev dktX0_stub_3 : List UInt8 := dkwX0_stub_3 ++ []
def dkwX0_stub_2 : List UInt8 := [187, 0, 106, 89, 27, 28, 29, 183, 0, 108, 182, 0, 111, 182, 0, 115, 172, 58, 5, 42, 25, 5]
abbrev dktX0_stub_2 : List UInt8 := dkwX0_stub_2 ++ dktX0_stub_3
def dkwX0_stub_1 : List UInt8 := [154, 0, 7, 17, 252, 12, 172, 42, 180, 0, 10, 182, 0, 102, 58, 4, 42, 25, 4, 42, 180, 0, 10]
abbrev dktX0_stub_1 : List UInt8 := dkwX0_stub_1 ++ dktX0_stub_2
def dkwX0_stub_0 : List UInt8 := [27, 184, 0, 92, 154, 0, 7, 17, 252, 13, 172, 28, 184, 0, 96, 153, 0, 10, 29, 184, 0, 99]
abbrev dktX0_stub_0 : List UInt8 := dkwX0_stub_0 ++ dktX0_stub_1
theorem dksX0_stub_0 : cX0_stub.data.toList.drop 0 = dktX0_stub_0 := by decide +kernel
theorem dksX0_stub_1 : cX0_stub.data.toList.drop 22 = dktX0_stub_1 := dk_seg dksX0_stub_0 22 rfl rfl
theorem dksX0_stub_2 : cX0_stub.data.toList.drop 45 = dktX0_stub_2 := dk_seg dksX0_stub_1 23 rfl rfl
theorem dksX0_stub_3 : cX0_stub.data.toList.drop 67 = dktX0_stub_3 := dk_seg dksX0_stub_2 22 rfl rfl
theorem dX0_stub_0 : decode cX0_stub 0 = .ok (.iload_n 1, 1) := dk_27 (dk_at dksX0_stub_0 0 rfl rfl)
theorem dX0_stub_1 : decode cX0_stub 1 = .ok (.invokestatic 92, 3) := dk_184 0 92 (dk_at dksX0_stub_0 1 rfl rfl)
theorem dX0_stub_4 : decode cX0_stub 4 = .ok (.ifCond .ne 7, 3) := dk_154 0 7 (dk_at dksX0_stub_0 4 rfl rfl)
theorem dX0_stub_7 : decode cX0_stub 7 = .ok (.sipush (-1011), 3) := dk_17 252 13 (dk_at dksX0_stub_0 7 rfl rfl)
theorem dX0_stub_10 : decode cX0_stub 10 = .ok (.ireturn, 1) := dk_172 (dk_at dksX0_stub_0 10 rfl rfl)
theorem dX0_stub_11 : decode cX0_stub 11 = .ok (.iload_n 2, 1) := dk_28 (dk_at dksX0_stub_0 11 rfl rfl)
theorem dX0_stub_12 : decode cX0_stub 12 = .ok (.invokestatic 96, 3) := dk_184 0 96 (dk_at dksX0_stub_0 12 rfl rfl)
theorem dX0_stub_15 : decode cX0_stub 15 = .ok (.ifCond .eq 10, 3) := dk_153 0 10 (dk_at dksX0_stub_0 15 rfl rfl)
theorem dX0_stub_18 : decode cX0_stub 18 = .ok (.iload_n 3, 1) := dk_29 (dk_at dksX0_stub_0 18 rfl rfl)
theorem dX0_stub_19 : decode cX0_stub 19 = .ok (.invokestatic 99, 3) := dk_184 0 99 (dk_at dksX0_stub_0 19 rfl rfl)
theorem dX0_stub_22 : decode cX0_stub 22 = .ok (.ifCond .ne 7, 3) := dk_154 0 7 (dk_at dksX0_stub_1 0 rfl rfl)
theorem dX0_stub_25 : decode cX0_stub 25 = .ok (.sipush (-1012), 3) := dk_17 252 12 (dk_at dksX0_stub_1 3 rfl rfl)
theorem dX0_stub_28 : decode cX0_stub 28 = .ok (.ireturn, 1) := dk_172 (dk_at dksX0_stub_1 6 rfl rfl)
theorem dX0_stub_29 : decode cX0_stub 29 = .ok (.aload_n 0, 1) := dk_42 (dk_at dksX0_stub_1 7 rfl rfl)
theorem dX0_stub_30 : decode cX0_stub 30 = .ok (.getfield 10, 3) := dk_180 0 10 (dk_at dksX0_stub_1 8 rfl rfl)
theorem dX0_stub_33 : decode cX0_stub 33 = .ok (.invokevirtual 102, 3) := dk_182 0 102 (dk_at dksX0_stub_1 11 rfl rfl)
theorem dX0_stub_36 : decode cX0_stub 36 = .ok (.astore 4, 2) := dk_58 4 (dk_at dksX0_stub_1 14 rfl rfl)
theorem dX0_stub_38 : decode cX0_stub 38 = .ok (.aload_n 0, 1) := dk_42 (dk_at dksX0_stub_1 16 rfl rfl)
theorem dX0_stub_39 : decode cX0_stub 39 = .ok (.aload 4, 2) := dk_25 4 (dk_at dksX0_stub_1 17 rfl rfl)
theorem dX0_stub_41 : decode cX0_stub 41 = .ok (.aload_n 0, 1) := dk_42 (dk_at dksX0_stub_1 19 rfl rfl)
theorem dX0_stub_42 : decode cX0_stub 42 = .ok (.getfield 10, 3) := dk_180 0 10 (dk_at dksX0_stub_1 20 rfl rfl)
theorem dX0_stub_45 : decode cX0_stub 45 = .ok (.new 106, 3) := dk_187 0 106 (dk_at dksX0_stub_2 0 rfl rfl)
theorem dX0_stub_48 : decode cX0_stub 48 = .ok (.dup, 1) := dk_89 (dk_at dksX0_stub_2 3 rfl rfl)
theorem dX0_stub_49 : decode cX0_stub 49 = .ok (.iload_n 1, 1) := dk_27 (dk_at dksX0_stub_2 4 rfl rfl)
theorem dX0_stub_50 : decode cX0_stub 50 = .ok (.iload_n 2, 1) := dk_28 (dk_at dksX0_stub_2 5 rfl rfl)
theorem dX0_stub_51 : decode cX0_stub 51 = .ok (.iload_n 3, 1) := dk_29 (dk_at dksX0_stub_2 6 rfl rfl)
theorem dX0_stub_52 : decode cX0_stub 52 = .ok (.invokespecial 108, 3) := dk_183 0 108 (dk_at dksX0_stub_2 7 rfl rfl)
theorem dX0_stub_55 : decode cX0_stub 55 = .ok (.invokevirtual 111, 3) := dk_182 0 111 (dk_at dksX0_stub_2 10 rfl rfl)
theorem dX0_stub_58 : decode cX0_stub 58 = .ok (.invokevirtual 115, 3) := dk_182 0 115 (dk_at dksX0_stub_2 13 rfl rfl)
theorem dX0_stub_61 : decode cX0_stub 61 = .ok (.ireturn, 1) := dk_172 (dk_at dksX0_stub_2 16 rfl rfl)
theorem dX0_stub_62 : decode cX0_stub 62 = .ok (.astore 5, 2) := dk_58 5 (dk_at dksX0_stub_2 17 rfl rfl)
theorem dX0_stub_64 : decode cX0_stub 64 = .ok (.aload_n 0, 1) := dk_42 (dk_at dksX0_stub_2 19 rfl rfl)
theorem dX0_stub_65 : decode cX0_stub 65 = .ok (.aload 5, 2) := dk_25 5 (dk_at dksX0_stub_2 20 rfl rfl)
theorem dX0_stub_67 : decode cX0_stub 67 = .ok (.invokevirtual 119, 3) := dk_182 0 119 (dk_at dksX0_stub_3 0 rfl rfl)
theorem dX0_stub_70 : decode cX0_stub 70 = .ok (.ireturn, 1) := dk_172 (dk_at dksX0_stub_3 3 rfl rfl)
abbrev cX0_isHouse : ByteArray := prog_1_method_3_code
def yX0_isHouse : MethodName := ⟨RX0, "isHouse", "(I)Z"⟩
def dkwX0_isHouse_0 : List UInt8 := [26, 3, 8, 184, 0, 43, 172]
abbrev dktX0_isHouse_0 : List UInt8 := dkwX0_isHouse_0 ++ []
theorem dksX0_isHouse_0 : cX0_isHouse.data.toList.drop 0 = dktX0_isHouse_0 := by decide +kernel
theorem dX0_isHouse_0 : decode cX0_isHouse 0 = .ok (.iload_n 0, 1) := dk_26 (dk_at dksX0_isHouse_0 0 rfl rfl)
theorem dX0_isHouse_1 : decode cX0_isHouse 1 = .ok (.iconst 0, 1) := dk_3 (dk_at dksX0_isHouse_0 1 rfl rfl)
theorem dX0_isHouse_2 : decode cX0_isHouse 2 = .ok (.iconst 5, 1) := dk_8 (dk_at dksX0_isHouse_0 2 rfl rfl)
theorem dX0_isHouse_3 : decode cX0_isHouse 3 = .ok (.invokestatic 43, 3) := dk_184 0 43 (dk_at dksX0_isHouse_0 3 rfl rfl)
theorem dX0_isHouse_6 : decode cX0_isHouse 6 = .ok (.ireturn, 1) := dk_172 (dk_at dksX0_isHouse_0 6 rfl rfl)
abbrev cX0_isIn : ByteArray := prog_1_method_2_code
def yX0_isIn : MethodName := ⟨RX0, "isIn", "(III)Z"⟩
def dkwX0_isIn_0 : List UInt8 := [26, 27, 161, 0, 12, 26, 28, 163, 0, 7, 4, 167, 0, 4, 3, 172]
abbrev dktX0_isIn_0 : List UInt8 := dkwX0_isIn_0 ++ []
theorem dksX0_isIn_0 : cX0_isIn.data.toList.drop 0 = dktX0_isIn_0 := by decide +kernel
theorem dX0_isIn_0 : decode cX0_isIn 0 = .ok (.iload_n 0, 1) := dk_26 (dk_at dksX0_isIn_0 0 rfl rfl)
theorem dX0_isIn_1 : decode cX0_isIn 1 = .ok (.iload_n 1, 1) := dk_27 (dk_at dksX0_isIn_0 1 rfl rfl)
theorem dX0_isIn_2 : decode cX0_isIn 2 = .ok (.if_icmp .lt 12, 3) := dk_161 0 12 (dk_at dksX0_isIn_0 2 rfl rfl)
theorem dX0_isIn_5 : decode cX0_isIn 5 = .ok (.iload_n 0, 1) := dk_26 (dk_at dksX0_isIn_0 5 rfl rfl)
theorem dX0_isIn_6 : decode cX0_isIn 6 = .ok (.iload_n 2, 1) := dk_28 (dk_at dksX0_isIn_0 6 rfl rfl)
theorem dX0_isIn_7 : decode cX0_isIn 7 = .ok (.if_icmp .gt 7, 3) := dk_163 0 7 (dk_at dksX0_isIn_0 7 rfl rfl)
theorem dX0_isIn_10 : decode cX0_isIn 10 = .ok (.iconst 1, 1) := dk_4 (dk_at dksX0_isIn_0 10 rfl rfl)
theorem dX0_isIn_11 : decode cX0_isIn 11 = .ok (.goto 4, 3) := dk_167 0 4 (dk_at dksX0_isIn_0 11 rfl rfl)
theorem dX0_isIn_14 : decode cX0_isIn 14 = .ok (.iconst 0, 1) := dk_3 (dk_at dksX0_isIn_0 14 rfl rfl)
theorem dX0_isIn_15 : decode cX0_isIn 15 = .ok (.ireturn, 1) := dk_172 (dk_at dksX0_isIn_0 15 rfl rfl)
abbrev cX0_isWax : ByteArray := prog_1_method_4_code
def yX0_isWax : MethodName := ⟨RX0, "isWax", "(I)Z"⟩
def dkwX0_isWax_0 : List UInt8 := [26, 4, 16, 30, 184, 0, 43, 172]
abbrev dktX0_isWax_0 : List UInt8 := dkwX0_isWax_0 ++ []
theorem dksX0_isWax_0 : cX0_isWax.data.toList.drop 0 = dktX0_isWax_0 := by decide +kernel
theorem dX0_isWax_0 : decode cX0_isWax 0 = .ok (.iload_n 0, 1) := dk_26 (dk_at dksX0_isWax_0 0 rfl rfl)
theorem dX0_isWax_1 : decode cX0_isWax 1 = .ok (.iconst 1, 1) := dk_4 (dk_at dksX0_isWax_0 1 rfl rfl)
theorem dX0_isWax_2 : decode cX0_isWax 2 = .ok (.bipush 30, 2) := dk_16 30 (dk_at dksX0_isWax_0 2 rfl rfl)
theorem dX0_isWax_4 : decode cX0_isWax 4 = .ok (.invokestatic 43, 3) := dk_184 0 43 (dk_at dksX0_isWax_0 4 rfl rfl)
theorem dX0_isWax_7 : decode cX0_isWax 7 = .ok (.ireturn, 1) := dk_172 (dk_at dksX0_isWax_0 7 rfl rfl)
abbrev cX0_isWick : ByteArray := prog_1_method_5_code
def yX0_isWick : MethodName := ⟨RX0, "isWick", "(I)Z"⟩
def dkwX0_isWick_0 : List UInt8 := [26, 4, 16, 9, 184, 0, 43, 172]
abbrev dktX0_isWick_0 : List UInt8 := dkwX0_isWick_0 ++ []
theorem dksX0_isWick_0 : cX0_isWick.data.toList.drop 0 = dktX0_isWick_0 := by decide +kernel
theorem dX0_isWick_0 : decode cX0_isWick 0 = .ok (.iload_n 0, 1) := dk_26 (dk_at dksX0_isWick_0 0 rfl rfl)
theorem dX0_isWick_1 : decode cX0_isWick 1 = .ok (.iconst 1, 1) := dk_4 (dk_at dksX0_isWick_0 1 rfl rfl)
theorem dX0_isWick_2 : decode cX0_isWick 2 = .ok (.bipush 9, 2) := dk_16 9 (dk_at dksX0_isWick_0 2 rfl rfl)
theorem dX0_isWick_4 : decode cX0_isWick 4 = .ok (.invokestatic 43, 3) := dk_184 0 43 (dk_at dksX0_isWick_0 4 rfl rfl)
theorem dX0_isWick_7 : decode cX0_isWick 7 = .ok (.ireturn, 1) := dk_172 (dk_at dksX0_isWick_0 7 rfl rfl)
abbrev cX0_refuse : ByteArray := prog_1_method_9_code
def yX0_refuse : MethodName := ⟨RX0, "refuse", "(ZII)V"⟩
def dkwX0_refuse_0 : List UInt8 := [26, 153, 0, 13, 187, 0, 47, 89, 27, 28, 183, 0, 49, 191, 177]
abbrev dktX0_refuse_0 : List UInt8 := dkwX0_refuse_0 ++ []
theorem dksX0_refuse_0 : cX0_refuse.data.toList.drop 0 = dktX0_refuse_0 := by decide +kernel
theorem dX0_refuse_0 : decode cX0_refuse 0 = .ok (.iload_n 0, 1) := dk_26 (dk_at dksX0_refuse_0 0 rfl rfl)
theorem dX0_refuse_1 : decode cX0_refuse 1 = .ok (.ifCond .eq 13, 3) := dk_153 0 13 (dk_at dksX0_refuse_0 1 rfl rfl)
theorem dX0_refuse_4 : decode cX0_refuse 4 = .ok (.new 47, 3) := dk_187 0 47 (dk_at dksX0_refuse_0 4 rfl rfl)
theorem dX0_refuse_7 : decode cX0_refuse 7 = .ok (.dup, 1) := dk_89 (dk_at dksX0_refuse_0 7 rfl rfl)
theorem dX0_refuse_8 : decode cX0_refuse 8 = .ok (.iload_n 1, 1) := dk_27 (dk_at dksX0_refuse_0 8 rfl rfl)
theorem dX0_refuse_9 : decode cX0_refuse 9 = .ok (.iload_n 2, 1) := dk_28 (dk_at dksX0_refuse_0 9 rfl rfl)
theorem dX0_refuse_10 : decode cX0_refuse 10 = .ok (.invokespecial 49, 3) := dk_183 0 49 (dk_at dksX0_refuse_0 10 rfl rfl)
theorem dX0_refuse_13 : decode cX0_refuse 13 = .ok (.athrow, 1) := dk_191 (dk_at dksX0_refuse_0 13 rfl rfl)
theorem dX0_refuse_14 : decode cX0_refuse 14 = .ok (.return_, 1) := dk_177 (dk_at dksX0_refuse_0 14 rfl rfl)
abbrev cX0_changed : ByteArray := prog_1_method_12_code
def yX0_changed : MethodName := ⟨RX0, "changed", "(LCandleStatute$Statute;I)I"⟩
def dkwX0_changed_1 : List UInt8 := [182, 0, 88, 87, 28, 172]
abbrev dktX0_changed_1 : List UInt8 := dkwX0_changed_1 ++ []
def dkwX0_changed_0 : List UInt8 := [42, 180, 0, 19, 43, 182, 0, 81, 42, 180, 0, 19, 182, 0, 85, 16, 8, 164, 0, 11, 42, 180, 0, 19]
abbrev dktX0_changed_0 : List UInt8 := dkwX0_changed_0 ++ dktX0_changed_1
theorem dksX0_changed_0 : cX0_changed.data.toList.drop 0 = dktX0_changed_0 := by decide +kernel
theorem dksX0_changed_1 : cX0_changed.data.toList.drop 24 = dktX0_changed_1 := dk_seg dksX0_changed_0 24 rfl rfl
theorem dX0_changed_0 : decode cX0_changed 0 = .ok (.aload_n 0, 1) := dk_42 (dk_at dksX0_changed_0 0 rfl rfl)
theorem dX0_changed_1 : decode cX0_changed 1 = .ok (.getfield 19, 3) := dk_180 0 19 (dk_at dksX0_changed_0 1 rfl rfl)
theorem dX0_changed_4 : decode cX0_changed 4 = .ok (.aload_n 1, 1) := dk_43 (dk_at dksX0_changed_0 4 rfl rfl)
theorem dX0_changed_5 : decode cX0_changed 5 = .ok (.invokevirtual 81, 3) := dk_182 0 81 (dk_at dksX0_changed_0 5 rfl rfl)
theorem dX0_changed_8 : decode cX0_changed 8 = .ok (.aload_n 0, 1) := dk_42 (dk_at dksX0_changed_0 8 rfl rfl)
theorem dX0_changed_9 : decode cX0_changed 9 = .ok (.getfield 19, 3) := dk_180 0 19 (dk_at dksX0_changed_0 9 rfl rfl)
theorem dX0_changed_12 : decode cX0_changed 12 = .ok (.invokevirtual 85, 3) := dk_182 0 85 (dk_at dksX0_changed_0 12 rfl rfl)
theorem dX0_changed_15 : decode cX0_changed 15 = .ok (.bipush 8, 2) := dk_16 8 (dk_at dksX0_changed_0 15 rfl rfl)
theorem dX0_changed_17 : decode cX0_changed 17 = .ok (.if_icmp .le 11, 3) := dk_164 0 11 (dk_at dksX0_changed_0 17 rfl rfl)
theorem dX0_changed_20 : decode cX0_changed 20 = .ok (.aload_n 0, 1) := dk_42 (dk_at dksX0_changed_0 20 rfl rfl)
theorem dX0_changed_21 : decode cX0_changed 21 = .ok (.getfield 19, 3) := dk_180 0 19 (dk_at dksX0_changed_0 21 rfl rfl)
theorem dX0_changed_24 : decode cX0_changed 24 = .ok (.invokevirtual 88, 3) := dk_182 0 88 (dk_at dksX0_changed_1 0 rfl rfl)
theorem dX0_changed_27 : decode cX0_changed 27 = .ok (.pop, 1) := dk_87 (dk_at dksX0_changed_1 3 rfl rfl)
theorem dX0_changed_28 : decode cX0_changed 28 = .ok (.iload_n 2, 1) := dk_28 (dk_at dksX0_changed_1 4 rfl rfl)
theorem dX0_changed_29 : decode cX0_changed 29 = .ok (.ireturn, 1) := dk_172 (dk_at dksX0_changed_1 5 rfl rfl)
abbrev cX0_refused : ByteArray := prog_1_method_10_code
def yX0_refused : MethodName := ⟨RX0, "refused", "(LCandleStatute$Refused;)I"⟩
def dkwX0_refused_3 : List UInt8 := [167, 0, 7, 44, 182, 0, 59, 77, 132, 3, 1, 167, 255, 179, 17, 252, 10, 172]
abbrev dktX0_refused_3 : List UInt8 := dkwX0_refused_3 ++ []
def dkwX0_refused_2 : List UInt8 := [153, 0, 17, 44, 192, 0, 47, 58, 4, 25, 4, 180, 0, 56, 167, 0, 4, 3, 79, 44, 199, 0, 7, 1]
abbrev dktX0_refused_2 : List UInt8 := dkwX0_refused_2 ++ dktX0_refused_3
def dkwX0_refused_1 : List UInt8 := [192, 0, 47, 58, 4, 25, 4, 180, 0, 52, 167, 0, 4, 3, 79, 42, 180, 0, 27, 29, 44, 193, 0, 47]
abbrev dktX0_refused_1 : List UInt8 := dkwX0_refused_1 ++ dktX0_refused_2
def dkwX0_refused_0 : List UInt8 := [43, 77, 3, 62, 29, 6, 162, 0, 78, 42, 180, 0, 23, 29, 44, 193, 0, 47, 153, 0, 17, 44]
abbrev dktX0_refused_0 : List UInt8 := dkwX0_refused_0 ++ dktX0_refused_1
theorem dksX0_refused_0 : cX0_refused.data.toList.drop 0 = dktX0_refused_0 := by decide +kernel
theorem dksX0_refused_1 : cX0_refused.data.toList.drop 22 = dktX0_refused_1 := dk_seg dksX0_refused_0 22 rfl rfl
theorem dksX0_refused_2 : cX0_refused.data.toList.drop 46 = dktX0_refused_2 := dk_seg dksX0_refused_1 24 rfl rfl
theorem dksX0_refused_3 : cX0_refused.data.toList.drop 70 = dktX0_refused_3 := dk_seg dksX0_refused_2 24 rfl rfl
theorem dX0_refused_0 : decode cX0_refused 0 = .ok (.aload_n 1, 1) := dk_43 (dk_at dksX0_refused_0 0 rfl rfl)
theorem dX0_refused_1 : decode cX0_refused 1 = .ok (.astore_n 2, 1) := dk_77 (dk_at dksX0_refused_0 1 rfl rfl)
theorem dX0_refused_2 : decode cX0_refused 2 = .ok (.iconst 0, 1) := dk_3 (dk_at dksX0_refused_0 2 rfl rfl)
theorem dX0_refused_3 : decode cX0_refused 3 = .ok (.istore_n 3, 1) := dk_62 (dk_at dksX0_refused_0 3 rfl rfl)
theorem dX0_refused_4 : decode cX0_refused 4 = .ok (.iload_n 3, 1) := dk_29 (dk_at dksX0_refused_0 4 rfl rfl)
theorem dX0_refused_5 : decode cX0_refused 5 = .ok (.iconst 3, 1) := dk_6 (dk_at dksX0_refused_0 5 rfl rfl)
theorem dX0_refused_6 : decode cX0_refused 6 = .ok (.if_icmp .ge 78, 3) := dk_162 0 78 (dk_at dksX0_refused_0 6 rfl rfl)
theorem dX0_refused_9 : decode cX0_refused 9 = .ok (.aload_n 0, 1) := dk_42 (dk_at dksX0_refused_0 9 rfl rfl)
theorem dX0_refused_10 : decode cX0_refused 10 = .ok (.getfield 23, 3) := dk_180 0 23 (dk_at dksX0_refused_0 10 rfl rfl)
theorem dX0_refused_13 : decode cX0_refused 13 = .ok (.iload_n 3, 1) := dk_29 (dk_at dksX0_refused_0 13 rfl rfl)
theorem dX0_refused_14 : decode cX0_refused 14 = .ok (.aload_n 2, 1) := dk_44 (dk_at dksX0_refused_0 14 rfl rfl)
theorem dX0_refused_15 : decode cX0_refused 15 = .ok (.instanceof 47, 3) := dk_193 0 47 (dk_at dksX0_refused_0 15 rfl rfl)
theorem dX0_refused_18 : decode cX0_refused 18 = .ok (.ifCond .eq 17, 3) := dk_153 0 17 (dk_at dksX0_refused_0 18 rfl rfl)
theorem dX0_refused_21 : decode cX0_refused 21 = .ok (.aload_n 2, 1) := dk_44 (dk_at dksX0_refused_0 21 rfl rfl)
theorem dX0_refused_22 : decode cX0_refused 22 = .ok (.checkcast 47, 3) := dk_192 0 47 (dk_at dksX0_refused_1 0 rfl rfl)
theorem dX0_refused_25 : decode cX0_refused 25 = .ok (.astore 4, 2) := dk_58 4 (dk_at dksX0_refused_1 3 rfl rfl)
theorem dX0_refused_27 : decode cX0_refused 27 = .ok (.aload 4, 2) := dk_25 4 (dk_at dksX0_refused_1 5 rfl rfl)
theorem dX0_refused_29 : decode cX0_refused 29 = .ok (.getfield 52, 3) := dk_180 0 52 (dk_at dksX0_refused_1 7 rfl rfl)
theorem dX0_refused_32 : decode cX0_refused 32 = .ok (.goto 4, 3) := dk_167 0 4 (dk_at dksX0_refused_1 10 rfl rfl)
theorem dX0_refused_35 : decode cX0_refused 35 = .ok (.iconst 0, 1) := dk_3 (dk_at dksX0_refused_1 13 rfl rfl)
theorem dX0_refused_36 : decode cX0_refused 36 = .ok (.iastore, 1) := dk_79 (dk_at dksX0_refused_1 14 rfl rfl)
theorem dX0_refused_37 : decode cX0_refused 37 = .ok (.aload_n 0, 1) := dk_42 (dk_at dksX0_refused_1 15 rfl rfl)
theorem dX0_refused_38 : decode cX0_refused 38 = .ok (.getfield 27, 3) := dk_180 0 27 (dk_at dksX0_refused_1 16 rfl rfl)
theorem dX0_refused_41 : decode cX0_refused 41 = .ok (.iload_n 3, 1) := dk_29 (dk_at dksX0_refused_1 19 rfl rfl)
theorem dX0_refused_42 : decode cX0_refused 42 = .ok (.aload_n 2, 1) := dk_44 (dk_at dksX0_refused_1 20 rfl rfl)
theorem dX0_refused_43 : decode cX0_refused 43 = .ok (.instanceof 47, 3) := dk_193 0 47 (dk_at dksX0_refused_1 21 rfl rfl)
theorem dX0_refused_46 : decode cX0_refused 46 = .ok (.ifCond .eq 17, 3) := dk_153 0 17 (dk_at dksX0_refused_2 0 rfl rfl)
theorem dX0_refused_49 : decode cX0_refused 49 = .ok (.aload_n 2, 1) := dk_44 (dk_at dksX0_refused_2 3 rfl rfl)
theorem dX0_refused_50 : decode cX0_refused 50 = .ok (.checkcast 47, 3) := dk_192 0 47 (dk_at dksX0_refused_2 4 rfl rfl)
theorem dX0_refused_53 : decode cX0_refused 53 = .ok (.astore 4, 2) := dk_58 4 (dk_at dksX0_refused_2 7 rfl rfl)
theorem dX0_refused_55 : decode cX0_refused 55 = .ok (.aload 4, 2) := dk_25 4 (dk_at dksX0_refused_2 9 rfl rfl)
theorem dX0_refused_57 : decode cX0_refused 57 = .ok (.getfield 56, 3) := dk_180 0 56 (dk_at dksX0_refused_2 11 rfl rfl)
theorem dX0_refused_60 : decode cX0_refused 60 = .ok (.goto 4, 3) := dk_167 0 4 (dk_at dksX0_refused_2 14 rfl rfl)
theorem dX0_refused_63 : decode cX0_refused 63 = .ok (.iconst 0, 1) := dk_3 (dk_at dksX0_refused_2 17 rfl rfl)
theorem dX0_refused_64 : decode cX0_refused 64 = .ok (.iastore, 1) := dk_79 (dk_at dksX0_refused_2 18 rfl rfl)
theorem dX0_refused_65 : decode cX0_refused 65 = .ok (.aload_n 2, 1) := dk_44 (dk_at dksX0_refused_2 19 rfl rfl)
theorem dX0_refused_66 : decode cX0_refused 66 = .ok (.ifnonnull 7, 3) := dk_199 0 7 (dk_at dksX0_refused_2 20 rfl rfl)
theorem dX0_refused_69 : decode cX0_refused 69 = .ok (.aconst_null, 1) := dk_1 (dk_at dksX0_refused_2 23 rfl rfl)
theorem dX0_refused_70 : decode cX0_refused 70 = .ok (.goto 7, 3) := dk_167 0 7 (dk_at dksX0_refused_3 0 rfl rfl)
theorem dX0_refused_73 : decode cX0_refused 73 = .ok (.aload_n 2, 1) := dk_44 (dk_at dksX0_refused_3 3 rfl rfl)
theorem dX0_refused_74 : decode cX0_refused 74 = .ok (.invokevirtual 59, 3) := dk_182 0 59 (dk_at dksX0_refused_3 4 rfl rfl)
theorem dX0_refused_77 : decode cX0_refused 77 = .ok (.astore_n 2, 1) := dk_77 (dk_at dksX0_refused_3 7 rfl rfl)
theorem dX0_refused_78 : decode cX0_refused 78 = .ok (.iinc 3 1, 3) := dk_132 3 1 (dk_at dksX0_refused_3 8 rfl rfl)
theorem dX0_refused_81 : decode cX0_refused 81 = .ok (.goto (-77), 3) := dk_167 255 179 (dk_at dksX0_refused_3 11 rfl rfl)
theorem dX0_refused_84 : decode cX0_refused 84 = .ok (.sipush (-1014), 3) := dk_17 252 10 (dk_at dksX0_refused_3 14 rfl rfl)
theorem dX0_refused_87 : decode cX0_refused 87 = .ok (.ireturn, 1) := dk_172 (dk_at dksX0_refused_3 17 rfl rfl)
abbrev cX0_burn : ByteArray := prog_1_method_14_code
def yX0_burn : MethodName := ⟨RX0, "burn", "(II)I"⟩
def dkwX0_burn_2 : List UInt8 := [182, 0, 133, 182, 0, 115, 172, 58, 4, 42, 25, 4, 182, 0, 119, 172]
abbrev dktX0_burn_2 : List UInt8 := dkwX0_burn_2 ++ []
def dkwX0_burn_1 : List UInt8 := [154, 0, 7, 17, 252, 12, 172, 42, 180, 0, 10, 182, 0, 102, 78, 42, 45, 42, 180, 0, 10, 27, 28]
abbrev dktX0_burn_1 : List UInt8 := dkwX0_burn_1 ++ dktX0_burn_2
def dkwX0_burn_0 : List UInt8 := [42, 180, 0, 10, 180, 0, 123, 27, 182, 0, 127, 154, 0, 7, 17, 252, 13, 172, 28, 184, 0, 130]
abbrev dktX0_burn_0 : List UInt8 := dkwX0_burn_0 ++ dktX0_burn_1
theorem dksX0_burn_0 : cX0_burn.data.toList.drop 0 = dktX0_burn_0 := by decide +kernel
theorem dksX0_burn_1 : cX0_burn.data.toList.drop 22 = dktX0_burn_1 := dk_seg dksX0_burn_0 22 rfl rfl
theorem dksX0_burn_2 : cX0_burn.data.toList.drop 45 = dktX0_burn_2 := dk_seg dksX0_burn_1 23 rfl rfl
theorem dX0_burn_0 : decode cX0_burn 0 = .ok (.aload_n 0, 1) := dk_42 (dk_at dksX0_burn_0 0 rfl rfl)
theorem dX0_burn_1 : decode cX0_burn 1 = .ok (.getfield 10, 3) := dk_180 0 10 (dk_at dksX0_burn_0 1 rfl rfl)
theorem dX0_burn_4 : decode cX0_burn 4 = .ok (.getfield 123, 3) := dk_180 0 123 (dk_at dksX0_burn_0 4 rfl rfl)
theorem dX0_burn_7 : decode cX0_burn 7 = .ok (.iload_n 1, 1) := dk_27 (dk_at dksX0_burn_0 7 rfl rfl)
theorem dX0_burn_8 : decode cX0_burn 8 = .ok (.invokevirtual 127, 3) := dk_182 0 127 (dk_at dksX0_burn_0 8 rfl rfl)
theorem dX0_burn_11 : decode cX0_burn 11 = .ok (.ifCond .ne 7, 3) := dk_154 0 7 (dk_at dksX0_burn_0 11 rfl rfl)
theorem dX0_burn_14 : decode cX0_burn 14 = .ok (.sipush (-1011), 3) := dk_17 252 13 (dk_at dksX0_burn_0 14 rfl rfl)
theorem dX0_burn_17 : decode cX0_burn 17 = .ok (.ireturn, 1) := dk_172 (dk_at dksX0_burn_0 17 rfl rfl)
theorem dX0_burn_18 : decode cX0_burn 18 = .ok (.iload_n 2, 1) := dk_28 (dk_at dksX0_burn_0 18 rfl rfl)
theorem dX0_burn_19 : decode cX0_burn 19 = .ok (.invokestatic 130, 3) := dk_184 0 130 (dk_at dksX0_burn_0 19 rfl rfl)
theorem dX0_burn_22 : decode cX0_burn 22 = .ok (.ifCond .ne 7, 3) := dk_154 0 7 (dk_at dksX0_burn_1 0 rfl rfl)
theorem dX0_burn_25 : decode cX0_burn 25 = .ok (.sipush (-1012), 3) := dk_17 252 12 (dk_at dksX0_burn_1 3 rfl rfl)
theorem dX0_burn_28 : decode cX0_burn 28 = .ok (.ireturn, 1) := dk_172 (dk_at dksX0_burn_1 6 rfl rfl)
theorem dX0_burn_29 : decode cX0_burn 29 = .ok (.aload_n 0, 1) := dk_42 (dk_at dksX0_burn_1 7 rfl rfl)
theorem dX0_burn_30 : decode cX0_burn 30 = .ok (.getfield 10, 3) := dk_180 0 10 (dk_at dksX0_burn_1 8 rfl rfl)
theorem dX0_burn_33 : decode cX0_burn 33 = .ok (.invokevirtual 102, 3) := dk_182 0 102 (dk_at dksX0_burn_1 11 rfl rfl)
theorem dX0_burn_36 : decode cX0_burn 36 = .ok (.astore_n 3, 1) := dk_78 (dk_at dksX0_burn_1 14 rfl rfl)
theorem dX0_burn_37 : decode cX0_burn 37 = .ok (.aload_n 0, 1) := dk_42 (dk_at dksX0_burn_1 15 rfl rfl)
theorem dX0_burn_38 : decode cX0_burn 38 = .ok (.aload_n 3, 1) := dk_45 (dk_at dksX0_burn_1 16 rfl rfl)
theorem dX0_burn_39 : decode cX0_burn 39 = .ok (.aload_n 0, 1) := dk_42 (dk_at dksX0_burn_1 17 rfl rfl)
theorem dX0_burn_40 : decode cX0_burn 40 = .ok (.getfield 10, 3) := dk_180 0 10 (dk_at dksX0_burn_1 18 rfl rfl)
theorem dX0_burn_43 : decode cX0_burn 43 = .ok (.iload_n 1, 1) := dk_27 (dk_at dksX0_burn_1 21 rfl rfl)
theorem dX0_burn_44 : decode cX0_burn 44 = .ok (.iload_n 2, 1) := dk_28 (dk_at dksX0_burn_1 22 rfl rfl)
theorem dX0_burn_45 : decode cX0_burn 45 = .ok (.invokevirtual 133, 3) := dk_182 0 133 (dk_at dksX0_burn_2 0 rfl rfl)
theorem dX0_burn_48 : decode cX0_burn 48 = .ok (.invokevirtual 115, 3) := dk_182 0 115 (dk_at dksX0_burn_2 3 rfl rfl)
theorem dX0_burn_51 : decode cX0_burn 51 = .ok (.ireturn, 1) := dk_172 (dk_at dksX0_burn_2 6 rfl rfl)
theorem dX0_burn_52 : decode cX0_burn 52 = .ok (.astore 4, 2) := dk_58 4 (dk_at dksX0_burn_2 7 rfl rfl)
theorem dX0_burn_54 : decode cX0_burn 54 = .ok (.aload_n 0, 1) := dk_42 (dk_at dksX0_burn_2 9 rfl rfl)
theorem dX0_burn_55 : decode cX0_burn 55 = .ok (.aload 4, 2) := dk_25 4 (dk_at dksX0_burn_2 10 rfl rfl)
theorem dX0_burn_57 : decode cX0_burn 57 = .ok (.invokevirtual 119, 3) := dk_182 0 119 (dk_at dksX0_burn_2 12 rfl rfl)
theorem dX0_burn_60 : decode cX0_burn 60 = .ok (.ireturn, 1) := dk_172 (dk_at dksX0_burn_2 15 rfl rfl)
abbrev cX0_isBurning : ByteArray := prog_1_method_6_code
def yX0_isBurning : MethodName := ⟨RX0, "isBurning", "(I)Z"⟩
def dkwX0_isBurning_0 : List UInt8 := [26, 4, 16, 30, 184, 0, 43, 172]
abbrev dktX0_isBurning_0 : List UInt8 := dkwX0_isBurning_0 ++ []
theorem dksX0_isBurning_0 : cX0_isBurning.data.toList.drop 0 = dktX0_isBurning_0 := by decide +kernel
theorem dX0_isBurning_0 : decode cX0_isBurning 0 = .ok (.iload_n 0, 1) := dk_26 (dk_at dksX0_isBurning_0 0 rfl rfl)
theorem dX0_isBurning_1 : decode cX0_isBurning 1 = .ok (.iconst 1, 1) := dk_4 (dk_at dksX0_isBurning_0 1 rfl rfl)
theorem dX0_isBurning_2 : decode cX0_isBurning 2 = .ok (.bipush 30, 2) := dk_16 30 (dk_at dksX0_isBurning_0 2 rfl rfl)
theorem dX0_isBurning_4 : decode cX0_isBurning 4 = .ok (.invokestatic 43, 3) := dk_184 0 43 (dk_at dksX0_isBurning_0 4 rfl rfl)
theorem dX0_isBurning_7 : decode cX0_isBurning 7 = .ok (.ireturn, 1) := dk_172 (dk_at dksX0_isBurning_0 7 rfl rfl)
abbrev cX0_owe : ByteArray := prog_1_method_15_code
def yX0_owe : MethodName := ⟨RX0, "owe", "(III)I"⟩
def dkwX0_owe_2 : List UInt8 := [42, 180, 0, 10, 27, 28, 29, 182, 0, 140, 182, 0, 115, 172, 58, 5, 42, 25, 5, 182, 0, 119, 172]
abbrev dktX0_owe_2 : List UInt8 := dkwX0_owe_2 ++ []
def dkwX0_owe_1 : List UInt8 := [172, 29, 184, 0, 137, 154, 0, 7, 17, 252, 12, 172, 42, 180, 0, 10, 182, 0, 102, 58, 4, 42, 25, 4]
abbrev dktX0_owe_1 : List UInt8 := dkwX0_owe_1 ++ dktX0_owe_2
def dkwX0_owe_0 : List UInt8 := [42, 180, 0, 10, 180, 0, 123, 27, 182, 0, 127, 153, 0, 10, 28, 184, 0, 92, 154, 0, 7, 17, 252, 13]
abbrev dktX0_owe_0 : List UInt8 := dkwX0_owe_0 ++ dktX0_owe_1
theorem dksX0_owe_0 : cX0_owe.data.toList.drop 0 = dktX0_owe_0 := by decide +kernel
theorem dksX0_owe_1 : cX0_owe.data.toList.drop 24 = dktX0_owe_1 := dk_seg dksX0_owe_0 24 rfl rfl
theorem dksX0_owe_2 : cX0_owe.data.toList.drop 48 = dktX0_owe_2 := dk_seg dksX0_owe_1 24 rfl rfl
theorem dX0_owe_0 : decode cX0_owe 0 = .ok (.aload_n 0, 1) := dk_42 (dk_at dksX0_owe_0 0 rfl rfl)
theorem dX0_owe_1 : decode cX0_owe 1 = .ok (.getfield 10, 3) := dk_180 0 10 (dk_at dksX0_owe_0 1 rfl rfl)
theorem dX0_owe_4 : decode cX0_owe 4 = .ok (.getfield 123, 3) := dk_180 0 123 (dk_at dksX0_owe_0 4 rfl rfl)
theorem dX0_owe_7 : decode cX0_owe 7 = .ok (.iload_n 1, 1) := dk_27 (dk_at dksX0_owe_0 7 rfl rfl)
theorem dX0_owe_8 : decode cX0_owe 8 = .ok (.invokevirtual 127, 3) := dk_182 0 127 (dk_at dksX0_owe_0 8 rfl rfl)
theorem dX0_owe_11 : decode cX0_owe 11 = .ok (.ifCond .eq 10, 3) := dk_153 0 10 (dk_at dksX0_owe_0 11 rfl rfl)
theorem dX0_owe_14 : decode cX0_owe 14 = .ok (.iload_n 2, 1) := dk_28 (dk_at dksX0_owe_0 14 rfl rfl)
theorem dX0_owe_15 : decode cX0_owe 15 = .ok (.invokestatic 92, 3) := dk_184 0 92 (dk_at dksX0_owe_0 15 rfl rfl)
theorem dX0_owe_18 : decode cX0_owe 18 = .ok (.ifCond .ne 7, 3) := dk_154 0 7 (dk_at dksX0_owe_0 18 rfl rfl)
theorem dX0_owe_21 : decode cX0_owe 21 = .ok (.sipush (-1011), 3) := dk_17 252 13 (dk_at dksX0_owe_0 21 rfl rfl)
theorem dX0_owe_24 : decode cX0_owe 24 = .ok (.ireturn, 1) := dk_172 (dk_at dksX0_owe_1 0 rfl rfl)
theorem dX0_owe_25 : decode cX0_owe 25 = .ok (.iload_n 3, 1) := dk_29 (dk_at dksX0_owe_1 1 rfl rfl)
theorem dX0_owe_26 : decode cX0_owe 26 = .ok (.invokestatic 137, 3) := dk_184 0 137 (dk_at dksX0_owe_1 2 rfl rfl)
theorem dX0_owe_29 : decode cX0_owe 29 = .ok (.ifCond .ne 7, 3) := dk_154 0 7 (dk_at dksX0_owe_1 5 rfl rfl)
theorem dX0_owe_32 : decode cX0_owe 32 = .ok (.sipush (-1012), 3) := dk_17 252 12 (dk_at dksX0_owe_1 8 rfl rfl)
theorem dX0_owe_35 : decode cX0_owe 35 = .ok (.ireturn, 1) := dk_172 (dk_at dksX0_owe_1 11 rfl rfl)
theorem dX0_owe_36 : decode cX0_owe 36 = .ok (.aload_n 0, 1) := dk_42 (dk_at dksX0_owe_1 12 rfl rfl)
theorem dX0_owe_37 : decode cX0_owe 37 = .ok (.getfield 10, 3) := dk_180 0 10 (dk_at dksX0_owe_1 13 rfl rfl)
theorem dX0_owe_40 : decode cX0_owe 40 = .ok (.invokevirtual 102, 3) := dk_182 0 102 (dk_at dksX0_owe_1 16 rfl rfl)
theorem dX0_owe_43 : decode cX0_owe 43 = .ok (.astore 4, 2) := dk_58 4 (dk_at dksX0_owe_1 19 rfl rfl)
theorem dX0_owe_45 : decode cX0_owe 45 = .ok (.aload_n 0, 1) := dk_42 (dk_at dksX0_owe_1 21 rfl rfl)
theorem dX0_owe_46 : decode cX0_owe 46 = .ok (.aload 4, 2) := dk_25 4 (dk_at dksX0_owe_1 22 rfl rfl)
theorem dX0_owe_48 : decode cX0_owe 48 = .ok (.aload_n 0, 1) := dk_42 (dk_at dksX0_owe_2 0 rfl rfl)
theorem dX0_owe_49 : decode cX0_owe 49 = .ok (.getfield 10, 3) := dk_180 0 10 (dk_at dksX0_owe_2 1 rfl rfl)
theorem dX0_owe_52 : decode cX0_owe 52 = .ok (.iload_n 1, 1) := dk_27 (dk_at dksX0_owe_2 4 rfl rfl)
theorem dX0_owe_53 : decode cX0_owe 53 = .ok (.iload_n 2, 1) := dk_28 (dk_at dksX0_owe_2 5 rfl rfl)
theorem dX0_owe_54 : decode cX0_owe 54 = .ok (.iload_n 3, 1) := dk_29 (dk_at dksX0_owe_2 6 rfl rfl)
theorem dX0_owe_55 : decode cX0_owe 55 = .ok (.invokevirtual 140, 3) := dk_182 0 140 (dk_at dksX0_owe_2 7 rfl rfl)
theorem dX0_owe_58 : decode cX0_owe 58 = .ok (.invokevirtual 115, 3) := dk_182 0 115 (dk_at dksX0_owe_2 10 rfl rfl)
theorem dX0_owe_61 : decode cX0_owe 61 = .ok (.ireturn, 1) := dk_172 (dk_at dksX0_owe_2 13 rfl rfl)
theorem dX0_owe_62 : decode cX0_owe 62 = .ok (.astore 5, 2) := dk_58 5 (dk_at dksX0_owe_2 14 rfl rfl)
theorem dX0_owe_64 : decode cX0_owe 64 = .ok (.aload_n 0, 1) := dk_42 (dk_at dksX0_owe_2 16 rfl rfl)
theorem dX0_owe_65 : decode cX0_owe 65 = .ok (.aload 5, 2) := dk_25 5 (dk_at dksX0_owe_2 17 rfl rfl)
theorem dX0_owe_67 : decode cX0_owe 67 = .ok (.invokevirtual 119, 3) := dk_182 0 119 (dk_at dksX0_owe_2 19 rfl rfl)
theorem dX0_owe_70 : decode cX0_owe 70 = .ok (.ireturn, 1) := dk_172 (dk_at dksX0_owe_2 22 rfl rfl)
abbrev cX0_isLight : ByteArray := prog_1_method_7_code
def yX0_isLight : MethodName := ⟨RX0, "isLight", "(I)Z"⟩
def dkwX0_isLight_0 : List UInt8 := [26, 4, 16, 90, 184, 0, 43, 172]
abbrev dktX0_isLight_0 : List UInt8 := dkwX0_isLight_0 ++ []
theorem dksX0_isLight_0 : cX0_isLight.data.toList.drop 0 = dktX0_isLight_0 := by decide +kernel
theorem dX0_isLight_0 : decode cX0_isLight 0 = .ok (.iload_n 0, 1) := dk_26 (dk_at dksX0_isLight_0 0 rfl rfl)
theorem dX0_isLight_1 : decode cX0_isLight 1 = .ok (.iconst 1, 1) := dk_4 (dk_at dksX0_isLight_0 1 rfl rfl)
theorem dX0_isLight_2 : decode cX0_isLight 2 = .ok (.bipush 90, 2) := dk_16 90 (dk_at dksX0_isLight_0 2 rfl rfl)
theorem dX0_isLight_4 : decode cX0_isLight 4 = .ok (.invokestatic 43, 3) := dk_184 0 43 (dk_at dksX0_isLight_0 4 rfl rfl)
theorem dX0_isLight_7 : decode cX0_isLight 7 = .ok (.ireturn, 1) := dk_172 (dk_at dksX0_isLight_0 7 rfl rfl)
abbrev cX0_writ : ByteArray := prog_1_method_16_code
def yX0_writ : MethodName := ⟨RX0, "writ", "(III)I"⟩
def dkwX0_writ_2 : List UInt8 := [42, 180, 0, 10, 27, 28, 29, 182, 0, 147, 182, 0, 115, 172, 58, 5, 42, 25, 5, 182, 0, 119, 172]
abbrev dktX0_writ_2 : List UInt8 := dkwX0_writ_2 ++ []
def dkwX0_writ_1 : List UInt8 := [172, 29, 184, 0, 144, 154, 0, 7, 17, 252, 12, 172, 42, 180, 0, 10, 182, 0, 102, 58, 4, 42, 25, 4]
abbrev dktX0_writ_1 : List UInt8 := dkwX0_writ_1 ++ dktX0_writ_2
def dkwX0_writ_0 : List UInt8 := [27, 184, 0, 92, 153, 0, 17, 42, 180, 0, 10, 180, 0, 123, 28, 182, 0, 127, 154, 0, 7, 17, 252, 13]
abbrev dktX0_writ_0 : List UInt8 := dkwX0_writ_0 ++ dktX0_writ_1
theorem dksX0_writ_0 : cX0_writ.data.toList.drop 0 = dktX0_writ_0 := by decide +kernel
theorem dksX0_writ_1 : cX0_writ.data.toList.drop 24 = dktX0_writ_1 := dk_seg dksX0_writ_0 24 rfl rfl
theorem dksX0_writ_2 : cX0_writ.data.toList.drop 48 = dktX0_writ_2 := dk_seg dksX0_writ_1 24 rfl rfl
theorem dX0_writ_0 : decode cX0_writ 0 = .ok (.iload_n 1, 1) := dk_27 (dk_at dksX0_writ_0 0 rfl rfl)
theorem dX0_writ_1 : decode cX0_writ 1 = .ok (.invokestatic 92, 3) := dk_184 0 92 (dk_at dksX0_writ_0 1 rfl rfl)
theorem dX0_writ_4 : decode cX0_writ 4 = .ok (.ifCond .eq 17, 3) := dk_153 0 17 (dk_at dksX0_writ_0 4 rfl rfl)
theorem dX0_writ_7 : decode cX0_writ 7 = .ok (.aload_n 0, 1) := dk_42 (dk_at dksX0_writ_0 7 rfl rfl)
theorem dX0_writ_8 : decode cX0_writ 8 = .ok (.getfield 10, 3) := dk_180 0 10 (dk_at dksX0_writ_0 8 rfl rfl)
theorem dX0_writ_11 : decode cX0_writ 11 = .ok (.getfield 123, 3) := dk_180 0 123 (dk_at dksX0_writ_0 11 rfl rfl)
theorem dX0_writ_14 : decode cX0_writ 14 = .ok (.iload_n 2, 1) := dk_28 (dk_at dksX0_writ_0 14 rfl rfl)
theorem dX0_writ_15 : decode cX0_writ 15 = .ok (.invokevirtual 127, 3) := dk_182 0 127 (dk_at dksX0_writ_0 15 rfl rfl)
theorem dX0_writ_18 : decode cX0_writ 18 = .ok (.ifCond .ne 7, 3) := dk_154 0 7 (dk_at dksX0_writ_0 18 rfl rfl)
theorem dX0_writ_21 : decode cX0_writ 21 = .ok (.sipush (-1011), 3) := dk_17 252 13 (dk_at dksX0_writ_0 21 rfl rfl)
theorem dX0_writ_24 : decode cX0_writ 24 = .ok (.ireturn, 1) := dk_172 (dk_at dksX0_writ_1 0 rfl rfl)
theorem dX0_writ_25 : decode cX0_writ 25 = .ok (.iload_n 3, 1) := dk_29 (dk_at dksX0_writ_1 1 rfl rfl)
theorem dX0_writ_26 : decode cX0_writ 26 = .ok (.invokestatic 144, 3) := dk_184 0 144 (dk_at dksX0_writ_1 2 rfl rfl)
theorem dX0_writ_29 : decode cX0_writ 29 = .ok (.ifCond .ne 7, 3) := dk_154 0 7 (dk_at dksX0_writ_1 5 rfl rfl)
theorem dX0_writ_32 : decode cX0_writ 32 = .ok (.sipush (-1012), 3) := dk_17 252 12 (dk_at dksX0_writ_1 8 rfl rfl)
theorem dX0_writ_35 : decode cX0_writ 35 = .ok (.ireturn, 1) := dk_172 (dk_at dksX0_writ_1 11 rfl rfl)
theorem dX0_writ_36 : decode cX0_writ 36 = .ok (.aload_n 0, 1) := dk_42 (dk_at dksX0_writ_1 12 rfl rfl)
theorem dX0_writ_37 : decode cX0_writ 37 = .ok (.getfield 10, 3) := dk_180 0 10 (dk_at dksX0_writ_1 13 rfl rfl)
theorem dX0_writ_40 : decode cX0_writ 40 = .ok (.invokevirtual 102, 3) := dk_182 0 102 (dk_at dksX0_writ_1 16 rfl rfl)
theorem dX0_writ_43 : decode cX0_writ 43 = .ok (.astore 4, 2) := dk_58 4 (dk_at dksX0_writ_1 19 rfl rfl)
theorem dX0_writ_45 : decode cX0_writ 45 = .ok (.aload_n 0, 1) := dk_42 (dk_at dksX0_writ_1 21 rfl rfl)
theorem dX0_writ_46 : decode cX0_writ 46 = .ok (.aload 4, 2) := dk_25 4 (dk_at dksX0_writ_1 22 rfl rfl)
theorem dX0_writ_48 : decode cX0_writ 48 = .ok (.aload_n 0, 1) := dk_42 (dk_at dksX0_writ_2 0 rfl rfl)
theorem dX0_writ_49 : decode cX0_writ 49 = .ok (.getfield 10, 3) := dk_180 0 10 (dk_at dksX0_writ_2 1 rfl rfl)
theorem dX0_writ_52 : decode cX0_writ 52 = .ok (.iload_n 1, 1) := dk_27 (dk_at dksX0_writ_2 4 rfl rfl)
theorem dX0_writ_53 : decode cX0_writ 53 = .ok (.iload_n 2, 1) := dk_28 (dk_at dksX0_writ_2 5 rfl rfl)
theorem dX0_writ_54 : decode cX0_writ 54 = .ok (.iload_n 3, 1) := dk_29 (dk_at dksX0_writ_2 6 rfl rfl)
theorem dX0_writ_55 : decode cX0_writ 55 = .ok (.invokevirtual 147, 3) := dk_182 0 147 (dk_at dksX0_writ_2 7 rfl rfl)
theorem dX0_writ_58 : decode cX0_writ 58 = .ok (.invokevirtual 115, 3) := dk_182 0 115 (dk_at dksX0_writ_2 10 rfl rfl)
theorem dX0_writ_61 : decode cX0_writ 61 = .ok (.ireturn, 1) := dk_172 (dk_at dksX0_writ_2 13 rfl rfl)
theorem dX0_writ_62 : decode cX0_writ 62 = .ok (.astore 5, 2) := dk_58 5 (dk_at dksX0_writ_2 14 rfl rfl)
theorem dX0_writ_64 : decode cX0_writ 64 = .ok (.aload_n 0, 1) := dk_42 (dk_at dksX0_writ_2 16 rfl rfl)
theorem dX0_writ_65 : decode cX0_writ 65 = .ok (.aload 5, 2) := dk_25 5 (dk_at dksX0_writ_2 17 rfl rfl)
theorem dX0_writ_67 : decode cX0_writ 67 = .ok (.invokevirtual 119, 3) := dk_182 0 119 (dk_at dksX0_writ_2 19 rfl rfl)
theorem dX0_writ_70 : decode cX0_writ 70 = .ok (.ireturn, 1) := dk_172 (dk_at dksX0_writ_2 22 rfl rfl)
abbrev cX0_isTime : ByteArray := prog_1_method_8_code
def yX0_isTime : MethodName := ⟨RX0, "isTime", "(I)Z"⟩
def dkwX0_isTime_0 : List UInt8 := [26, 4, 16, 24, 184, 0, 43, 172]
abbrev dktX0_isTime_0 : List UInt8 := dkwX0_isTime_0 ++ []
theorem dksX0_isTime_0 : cX0_isTime.data.toList.drop 0 = dktX0_isTime_0 := by decide +kernel
theorem dX0_isTime_0 : decode cX0_isTime 0 = .ok (.iload_n 0, 1) := dk_26 (dk_at dksX0_isTime_0 0 rfl rfl)
theorem dX0_isTime_1 : decode cX0_isTime 1 = .ok (.iconst 1, 1) := dk_4 (dk_at dksX0_isTime_0 1 rfl rfl)
theorem dX0_isTime_2 : decode cX0_isTime 2 = .ok (.bipush 24, 2) := dk_16 24 (dk_at dksX0_isTime_0 2 rfl rfl)
theorem dX0_isTime_4 : decode cX0_isTime 4 = .ok (.invokestatic 43, 3) := dk_184 0 43 (dk_at dksX0_isTime_0 4 rfl rfl)
theorem dX0_isTime_7 : decode cX0_isTime 7 = .ok (.ireturn, 1) := dk_172 (dk_at dksX0_isTime_0 7 rfl rfl)
abbrev cX0_stubOf : ByteArray := prog_1_method_17_code
def yX0_stubOf : MethodName := ⟨RX0, "stubOf", "(II)I"⟩
def dkwX0_stubOf_1 : List UInt8 := [167, 0, 6, 17, 252, 13, 172]
abbrev dktX0_stubOf_1 : List UInt8 := dkwX0_stubOf_1 ++ []
def dkwX0_stubOf_0 : List UInt8 := [42, 180, 0, 10, 180, 0, 123, 27, 182, 0, 127, 153, 0, 15, 42, 180, 0, 10, 27, 28, 182, 0, 150]
abbrev dktX0_stubOf_0 : List UInt8 := dkwX0_stubOf_0 ++ dktX0_stubOf_1
theorem dksX0_stubOf_0 : cX0_stubOf.data.toList.drop 0 = dktX0_stubOf_0 := by decide +kernel
theorem dksX0_stubOf_1 : cX0_stubOf.data.toList.drop 23 = dktX0_stubOf_1 := dk_seg dksX0_stubOf_0 23 rfl rfl
theorem dX0_stubOf_0 : decode cX0_stubOf 0 = .ok (.aload_n 0, 1) := dk_42 (dk_at dksX0_stubOf_0 0 rfl rfl)
theorem dX0_stubOf_1 : decode cX0_stubOf 1 = .ok (.getfield 10, 3) := dk_180 0 10 (dk_at dksX0_stubOf_0 1 rfl rfl)
theorem dX0_stubOf_4 : decode cX0_stubOf 4 = .ok (.getfield 123, 3) := dk_180 0 123 (dk_at dksX0_stubOf_0 4 rfl rfl)
theorem dX0_stubOf_7 : decode cX0_stubOf 7 = .ok (.iload_n 1, 1) := dk_27 (dk_at dksX0_stubOf_0 7 rfl rfl)
theorem dX0_stubOf_8 : decode cX0_stubOf 8 = .ok (.invokevirtual 127, 3) := dk_182 0 127 (dk_at dksX0_stubOf_0 8 rfl rfl)
theorem dX0_stubOf_11 : decode cX0_stubOf 11 = .ok (.ifCond .eq 15, 3) := dk_153 0 15 (dk_at dksX0_stubOf_0 11 rfl rfl)
theorem dX0_stubOf_14 : decode cX0_stubOf 14 = .ok (.aload_n 0, 1) := dk_42 (dk_at dksX0_stubOf_0 14 rfl rfl)
theorem dX0_stubOf_15 : decode cX0_stubOf 15 = .ok (.getfield 10, 3) := dk_180 0 10 (dk_at dksX0_stubOf_0 15 rfl rfl)
theorem dX0_stubOf_18 : decode cX0_stubOf 18 = .ok (.iload_n 1, 1) := dk_27 (dk_at dksX0_stubOf_0 18 rfl rfl)
theorem dX0_stubOf_19 : decode cX0_stubOf 19 = .ok (.iload_n 2, 1) := dk_28 (dk_at dksX0_stubOf_0 19 rfl rfl)
theorem dX0_stubOf_20 : decode cX0_stubOf 20 = .ok (.invokevirtual 150, 3) := dk_182 0 150 (dk_at dksX0_stubOf_0 20 rfl rfl)
theorem dX0_stubOf_23 : decode cX0_stubOf 23 = .ok (.goto 6, 3) := dk_167 0 6 (dk_at dksX0_stubOf_1 0 rfl rfl)
theorem dX0_stubOf_26 : decode cX0_stubOf 26 = .ok (.sipush (-1011), 3) := dk_17 252 13 (dk_at dksX0_stubOf_1 3 rfl rfl)
theorem dX0_stubOf_29 : decode cX0_stubOf 29 = .ok (.ireturn, 1) := dk_172 (dk_at dksX0_stubOf_1 6 rfl rfl)
abbrev cX0_pool : ByteArray := prog_1_method_18_code
def yX0_pool : MethodName := ⟨RX0, "pool", "(II)I"⟩
def dkwX0_pool_2 : List UInt8 := [182, 0, 153, 182, 0, 115, 172, 58, 4, 42, 25, 4, 182, 0, 119, 172]
abbrev dktX0_pool_2 : List UInt8 := dkwX0_pool_2 ++ []
def dkwX0_pool_1 : List UInt8 := [154, 0, 7, 17, 252, 12, 172, 42, 180, 0, 10, 182, 0, 102, 78, 42, 45, 42, 180, 0, 10, 27, 28]
abbrev dktX0_pool_1 : List UInt8 := dkwX0_pool_1 ++ dktX0_pool_2
def dkwX0_pool_0 : List UInt8 := [42, 180, 0, 10, 180, 0, 123, 27, 182, 0, 127, 154, 0, 7, 17, 252, 13, 172, 28, 184, 0, 96]
abbrev dktX0_pool_0 : List UInt8 := dkwX0_pool_0 ++ dktX0_pool_1
theorem dksX0_pool_0 : cX0_pool.data.toList.drop 0 = dktX0_pool_0 := by decide +kernel
theorem dksX0_pool_1 : cX0_pool.data.toList.drop 22 = dktX0_pool_1 := dk_seg dksX0_pool_0 22 rfl rfl
theorem dksX0_pool_2 : cX0_pool.data.toList.drop 45 = dktX0_pool_2 := dk_seg dksX0_pool_1 23 rfl rfl
theorem dX0_pool_0 : decode cX0_pool 0 = .ok (.aload_n 0, 1) := dk_42 (dk_at dksX0_pool_0 0 rfl rfl)
theorem dX0_pool_1 : decode cX0_pool 1 = .ok (.getfield 10, 3) := dk_180 0 10 (dk_at dksX0_pool_0 1 rfl rfl)
theorem dX0_pool_4 : decode cX0_pool 4 = .ok (.getfield 123, 3) := dk_180 0 123 (dk_at dksX0_pool_0 4 rfl rfl)
theorem dX0_pool_7 : decode cX0_pool 7 = .ok (.iload_n 1, 1) := dk_27 (dk_at dksX0_pool_0 7 rfl rfl)
theorem dX0_pool_8 : decode cX0_pool 8 = .ok (.invokevirtual 127, 3) := dk_182 0 127 (dk_at dksX0_pool_0 8 rfl rfl)
theorem dX0_pool_11 : decode cX0_pool 11 = .ok (.ifCond .ne 7, 3) := dk_154 0 7 (dk_at dksX0_pool_0 11 rfl rfl)
theorem dX0_pool_14 : decode cX0_pool 14 = .ok (.sipush (-1011), 3) := dk_17 252 13 (dk_at dksX0_pool_0 14 rfl rfl)
theorem dX0_pool_17 : decode cX0_pool 17 = .ok (.ireturn, 1) := dk_172 (dk_at dksX0_pool_0 17 rfl rfl)
theorem dX0_pool_18 : decode cX0_pool 18 = .ok (.iload_n 2, 1) := dk_28 (dk_at dksX0_pool_0 18 rfl rfl)
theorem dX0_pool_19 : decode cX0_pool 19 = .ok (.invokestatic 96, 3) := dk_184 0 96 (dk_at dksX0_pool_0 19 rfl rfl)
theorem dX0_pool_22 : decode cX0_pool 22 = .ok (.ifCond .ne 7, 3) := dk_154 0 7 (dk_at dksX0_pool_1 0 rfl rfl)
theorem dX0_pool_25 : decode cX0_pool 25 = .ok (.sipush (-1012), 3) := dk_17 252 12 (dk_at dksX0_pool_1 3 rfl rfl)
theorem dX0_pool_28 : decode cX0_pool 28 = .ok (.ireturn, 1) := dk_172 (dk_at dksX0_pool_1 6 rfl rfl)
theorem dX0_pool_29 : decode cX0_pool 29 = .ok (.aload_n 0, 1) := dk_42 (dk_at dksX0_pool_1 7 rfl rfl)
theorem dX0_pool_30 : decode cX0_pool 30 = .ok (.getfield 10, 3) := dk_180 0 10 (dk_at dksX0_pool_1 8 rfl rfl)
theorem dX0_pool_33 : decode cX0_pool 33 = .ok (.invokevirtual 102, 3) := dk_182 0 102 (dk_at dksX0_pool_1 11 rfl rfl)
theorem dX0_pool_36 : decode cX0_pool 36 = .ok (.astore_n 3, 1) := dk_78 (dk_at dksX0_pool_1 14 rfl rfl)
theorem dX0_pool_37 : decode cX0_pool 37 = .ok (.aload_n 0, 1) := dk_42 (dk_at dksX0_pool_1 15 rfl rfl)
theorem dX0_pool_38 : decode cX0_pool 38 = .ok (.aload_n 3, 1) := dk_45 (dk_at dksX0_pool_1 16 rfl rfl)
theorem dX0_pool_39 : decode cX0_pool 39 = .ok (.aload_n 0, 1) := dk_42 (dk_at dksX0_pool_1 17 rfl rfl)
theorem dX0_pool_40 : decode cX0_pool 40 = .ok (.getfield 10, 3) := dk_180 0 10 (dk_at dksX0_pool_1 18 rfl rfl)
theorem dX0_pool_43 : decode cX0_pool 43 = .ok (.iload_n 1, 1) := dk_27 (dk_at dksX0_pool_1 21 rfl rfl)
theorem dX0_pool_44 : decode cX0_pool 44 = .ok (.iload_n 2, 1) := dk_28 (dk_at dksX0_pool_1 22 rfl rfl)
theorem dX0_pool_45 : decode cX0_pool 45 = .ok (.invokevirtual 153, 3) := dk_182 0 153 (dk_at dksX0_pool_2 0 rfl rfl)
theorem dX0_pool_48 : decode cX0_pool 48 = .ok (.invokevirtual 115, 3) := dk_182 0 115 (dk_at dksX0_pool_2 3 rfl rfl)
theorem dX0_pool_51 : decode cX0_pool 51 = .ok (.ireturn, 1) := dk_172 (dk_at dksX0_pool_2 6 rfl rfl)
theorem dX0_pool_52 : decode cX0_pool 52 = .ok (.astore 4, 2) := dk_58 4 (dk_at dksX0_pool_2 7 rfl rfl)
theorem dX0_pool_54 : decode cX0_pool 54 = .ok (.aload_n 0, 1) := dk_42 (dk_at dksX0_pool_2 9 rfl rfl)
theorem dX0_pool_55 : decode cX0_pool 55 = .ok (.aload 4, 2) := dk_25 4 (dk_at dksX0_pool_2 10 rfl rfl)
theorem dX0_pool_57 : decode cX0_pool 57 = .ok (.invokevirtual 119, 3) := dk_182 0 119 (dk_at dksX0_pool_2 12 rfl rfl)
theorem dX0_pool_60 : decode cX0_pool 60 = .ok (.ireturn, 1) := dk_172 (dk_at dksX0_pool_2 15 rfl rfl)
abbrev cX0_share : ByteArray := prog_1_method_19_code
def yX0_share : MethodName := ⟨RX0, "share", "()I"⟩
def dkwX0_share_1 : List UInt8 := [182, 0, 119, 172]
abbrev dktX0_share_1 : List UInt8 := dkwX0_share_1 ++ []
def dkwX0_share_0 : List UInt8 := [42, 180, 0, 10, 182, 0, 102, 76, 42, 43, 42, 180, 0, 10, 182, 0, 156, 182, 0, 115, 172, 77, 42, 44]
abbrev dktX0_share_0 : List UInt8 := dkwX0_share_0 ++ dktX0_share_1
theorem dksX0_share_0 : cX0_share.data.toList.drop 0 = dktX0_share_0 := by decide +kernel
theorem dksX0_share_1 : cX0_share.data.toList.drop 24 = dktX0_share_1 := dk_seg dksX0_share_0 24 rfl rfl
theorem dX0_share_0 : decode cX0_share 0 = .ok (.aload_n 0, 1) := dk_42 (dk_at dksX0_share_0 0 rfl rfl)
theorem dX0_share_1 : decode cX0_share 1 = .ok (.getfield 10, 3) := dk_180 0 10 (dk_at dksX0_share_0 1 rfl rfl)
theorem dX0_share_4 : decode cX0_share 4 = .ok (.invokevirtual 102, 3) := dk_182 0 102 (dk_at dksX0_share_0 4 rfl rfl)
theorem dX0_share_7 : decode cX0_share 7 = .ok (.astore_n 1, 1) := dk_76 (dk_at dksX0_share_0 7 rfl rfl)
theorem dX0_share_8 : decode cX0_share 8 = .ok (.aload_n 0, 1) := dk_42 (dk_at dksX0_share_0 8 rfl rfl)
theorem dX0_share_9 : decode cX0_share 9 = .ok (.aload_n 1, 1) := dk_43 (dk_at dksX0_share_0 9 rfl rfl)
theorem dX0_share_10 : decode cX0_share 10 = .ok (.aload_n 0, 1) := dk_42 (dk_at dksX0_share_0 10 rfl rfl)
theorem dX0_share_11 : decode cX0_share 11 = .ok (.getfield 10, 3) := dk_180 0 10 (dk_at dksX0_share_0 11 rfl rfl)
theorem dX0_share_14 : decode cX0_share 14 = .ok (.invokevirtual 156, 3) := dk_182 0 156 (dk_at dksX0_share_0 14 rfl rfl)
theorem dX0_share_17 : decode cX0_share 17 = .ok (.invokevirtual 115, 3) := dk_182 0 115 (dk_at dksX0_share_0 17 rfl rfl)
theorem dX0_share_20 : decode cX0_share 20 = .ok (.ireturn, 1) := dk_172 (dk_at dksX0_share_0 20 rfl rfl)
theorem dX0_share_21 : decode cX0_share 21 = .ok (.astore_n 2, 1) := dk_77 (dk_at dksX0_share_0 21 rfl rfl)
theorem dX0_share_22 : decode cX0_share 22 = .ok (.aload_n 0, 1) := dk_42 (dk_at dksX0_share_0 22 rfl rfl)
theorem dX0_share_23 : decode cX0_share 23 = .ok (.aload_n 2, 1) := dk_44 (dk_at dksX0_share_0 23 rfl rfl)
theorem dX0_share_24 : decode cX0_share 24 = .ok (.invokevirtual 119, 3) := dk_182 0 119 (dk_at dksX0_share_1 0 rfl rfl)
theorem dX0_share_27 : decode cX0_share 27 = .ok (.ireturn, 1) := dk_172 (dk_at dksX0_share_1 3 rfl rfl)
abbrev cX0_part : ByteArray := prog_1_method_20_code
def yX0_part : MethodName := ⟨RX0, "part", "(I)I"⟩
def dkwX0_part_0 : List UInt8 := [27, 184, 0, 92, 153, 0, 15, 42, 180, 0, 10, 182, 0, 159, 27, 46, 167, 0, 6, 17, 252, 13, 172]
abbrev dktX0_part_0 : List UInt8 := dkwX0_part_0 ++ []
theorem dksX0_part_0 : cX0_part.data.toList.drop 0 = dktX0_part_0 := by decide +kernel
theorem dX0_part_0 : decode cX0_part 0 = .ok (.iload_n 1, 1) := dk_27 (dk_at dksX0_part_0 0 rfl rfl)
theorem dX0_part_1 : decode cX0_part 1 = .ok (.invokestatic 92, 3) := dk_184 0 92 (dk_at dksX0_part_0 1 rfl rfl)
theorem dX0_part_4 : decode cX0_part 4 = .ok (.ifCond .eq 15, 3) := dk_153 0 15 (dk_at dksX0_part_0 4 rfl rfl)
theorem dX0_part_7 : decode cX0_part 7 = .ok (.aload_n 0, 1) := dk_42 (dk_at dksX0_part_0 7 rfl rfl)
theorem dX0_part_8 : decode cX0_part 8 = .ok (.getfield 10, 3) := dk_180 0 10 (dk_at dksX0_part_0 8 rfl rfl)
theorem dX0_part_11 : decode cX0_part 11 = .ok (.invokevirtual 159, 3) := dk_182 0 159 (dk_at dksX0_part_0 11 rfl rfl)
theorem dX0_part_14 : decode cX0_part 14 = .ok (.iload_n 1, 1) := dk_27 (dk_at dksX0_part_0 14 rfl rfl)
theorem dX0_part_15 : decode cX0_part 15 = .ok (.iaload, 1) := dk_46 (dk_at dksX0_part_0 15 rfl rfl)
theorem dX0_part_16 : decode cX0_part 16 = .ok (.goto 6, 3) := dk_167 0 6 (dk_at dksX0_part_0 16 rfl rfl)
theorem dX0_part_19 : decode cX0_part 19 = .ok (.sipush (-1011), 3) := dk_17 252 13 (dk_at dksX0_part_0 19 rfl rfl)
theorem dX0_part_22 : decode cX0_part 22 = .ok (.ireturn, 1) := dk_172 (dk_at dksX0_part_0 22 rfl rfl)
abbrev cX0_partAgain : ByteArray := prog_1_method_21_code
def yX0_partAgain : MethodName := ⟨RX0, "partAgain", "(I)I"⟩
def dkwX0_partAgain_0 : List UInt8 := [27, 184, 0, 92, 153, 0, 15, 42, 180, 0, 10, 182, 0, 163, 27, 46, 167, 0, 6, 17, 252, 13, 172]
abbrev dktX0_partAgain_0 : List UInt8 := dkwX0_partAgain_0 ++ []
theorem dksX0_partAgain_0 : cX0_partAgain.data.toList.drop 0 = dktX0_partAgain_0 := by decide +kernel
theorem dX0_partAgain_0 : decode cX0_partAgain 0 = .ok (.iload_n 1, 1) := dk_27 (dk_at dksX0_partAgain_0 0 rfl rfl)
theorem dX0_partAgain_1 : decode cX0_partAgain 1 = .ok (.invokestatic 92, 3) := dk_184 0 92 (dk_at dksX0_partAgain_0 1 rfl rfl)
theorem dX0_partAgain_4 : decode cX0_partAgain 4 = .ok (.ifCond .eq 15, 3) := dk_153 0 15 (dk_at dksX0_partAgain_0 4 rfl rfl)
theorem dX0_partAgain_7 : decode cX0_partAgain 7 = .ok (.aload_n 0, 1) := dk_42 (dk_at dksX0_partAgain_0 7 rfl rfl)
theorem dX0_partAgain_8 : decode cX0_partAgain 8 = .ok (.getfield 10, 3) := dk_180 0 10 (dk_at dksX0_partAgain_0 8 rfl rfl)
theorem dX0_partAgain_11 : decode cX0_partAgain 11 = .ok (.invokevirtual 163, 3) := dk_182 0 163 (dk_at dksX0_partAgain_0 11 rfl rfl)
theorem dX0_partAgain_14 : decode cX0_partAgain 14 = .ok (.iload_n 1, 1) := dk_27 (dk_at dksX0_partAgain_0 14 rfl rfl)
theorem dX0_partAgain_15 : decode cX0_partAgain 15 = .ok (.iaload, 1) := dk_46 (dk_at dksX0_partAgain_0 15 rfl rfl)
theorem dX0_partAgain_16 : decode cX0_partAgain 16 = .ok (.goto 6, 3) := dk_167 0 6 (dk_at dksX0_partAgain_0 16 rfl rfl)
theorem dX0_partAgain_19 : decode cX0_partAgain 19 = .ok (.sipush (-1011), 3) := dk_17 252 13 (dk_at dksX0_partAgain_0 19 rfl rfl)
theorem dX0_partAgain_22 : decode cX0_partAgain 22 = .ok (.ireturn, 1) := dk_172 (dk_at dksX0_partAgain_0 22 rfl rfl)
abbrev cX0_mould : ByteArray := prog_1_method_22_code
def yX0_mould : MethodName := ⟨RX0, "mould", "(III)I"⟩
def dkwX0_mould_3 : List UInt8 := [182, 0, 119, 172]
abbrev dktX0_mould_3 : List UInt8 := dkwX0_mould_3 ++ []
def dkwX0_mould_2 : List UInt8 := [187, 0, 106, 89, 27, 28, 29, 183, 0, 108, 182, 0, 166, 182, 0, 115, 172, 58, 5, 42, 25, 5]
abbrev dktX0_mould_2 : List UInt8 := dkwX0_mould_2 ++ dktX0_mould_3
def dkwX0_mould_1 : List UInt8 := [154, 0, 7, 17, 252, 12, 172, 42, 180, 0, 10, 182, 0, 102, 58, 4, 42, 25, 4, 42, 180, 0, 10]
abbrev dktX0_mould_1 : List UInt8 := dkwX0_mould_1 ++ dktX0_mould_2
def dkwX0_mould_0 : List UInt8 := [27, 184, 0, 92, 154, 0, 7, 17, 252, 13, 172, 28, 184, 0, 96, 153, 0, 10, 29, 184, 0, 99]
abbrev dktX0_mould_0 : List UInt8 := dkwX0_mould_0 ++ dktX0_mould_1
theorem dksX0_mould_0 : cX0_mould.data.toList.drop 0 = dktX0_mould_0 := by decide +kernel
theorem dksX0_mould_1 : cX0_mould.data.toList.drop 22 = dktX0_mould_1 := dk_seg dksX0_mould_0 22 rfl rfl
theorem dksX0_mould_2 : cX0_mould.data.toList.drop 45 = dktX0_mould_2 := dk_seg dksX0_mould_1 23 rfl rfl
theorem dksX0_mould_3 : cX0_mould.data.toList.drop 67 = dktX0_mould_3 := dk_seg dksX0_mould_2 22 rfl rfl
theorem dX0_mould_0 : decode cX0_mould 0 = .ok (.iload_n 1, 1) := dk_27 (dk_at dksX0_mould_0 0 rfl rfl)
theorem dX0_mould_1 : decode cX0_mould 1 = .ok (.invokestatic 92, 3) := dk_184 0 92 (dk_at dksX0_mould_0 1 rfl rfl)
theorem dX0_mould_4 : decode cX0_mould 4 = .ok (.ifCond .ne 7, 3) := dk_154 0 7 (dk_at dksX0_mould_0 4 rfl rfl)
theorem dX0_mould_7 : decode cX0_mould 7 = .ok (.sipush (-1011), 3) := dk_17 252 13 (dk_at dksX0_mould_0 7 rfl rfl)
theorem dX0_mould_10 : decode cX0_mould 10 = .ok (.ireturn, 1) := dk_172 (dk_at dksX0_mould_0 10 rfl rfl)
theorem dX0_mould_11 : decode cX0_mould 11 = .ok (.iload_n 2, 1) := dk_28 (dk_at dksX0_mould_0 11 rfl rfl)
theorem dX0_mould_12 : decode cX0_mould 12 = .ok (.invokestatic 96, 3) := dk_184 0 96 (dk_at dksX0_mould_0 12 rfl rfl)
theorem dX0_mould_15 : decode cX0_mould 15 = .ok (.ifCond .eq 10, 3) := dk_153 0 10 (dk_at dksX0_mould_0 15 rfl rfl)
theorem dX0_mould_18 : decode cX0_mould 18 = .ok (.iload_n 3, 1) := dk_29 (dk_at dksX0_mould_0 18 rfl rfl)
theorem dX0_mould_19 : decode cX0_mould 19 = .ok (.invokestatic 99, 3) := dk_184 0 99 (dk_at dksX0_mould_0 19 rfl rfl)
theorem dX0_mould_22 : decode cX0_mould 22 = .ok (.ifCond .ne 7, 3) := dk_154 0 7 (dk_at dksX0_mould_1 0 rfl rfl)
theorem dX0_mould_25 : decode cX0_mould 25 = .ok (.sipush (-1012), 3) := dk_17 252 12 (dk_at dksX0_mould_1 3 rfl rfl)
theorem dX0_mould_28 : decode cX0_mould 28 = .ok (.ireturn, 1) := dk_172 (dk_at dksX0_mould_1 6 rfl rfl)
theorem dX0_mould_29 : decode cX0_mould 29 = .ok (.aload_n 0, 1) := dk_42 (dk_at dksX0_mould_1 7 rfl rfl)
theorem dX0_mould_30 : decode cX0_mould 30 = .ok (.getfield 10, 3) := dk_180 0 10 (dk_at dksX0_mould_1 8 rfl rfl)
theorem dX0_mould_33 : decode cX0_mould 33 = .ok (.invokevirtual 102, 3) := dk_182 0 102 (dk_at dksX0_mould_1 11 rfl rfl)
theorem dX0_mould_36 : decode cX0_mould 36 = .ok (.astore 4, 2) := dk_58 4 (dk_at dksX0_mould_1 14 rfl rfl)
theorem dX0_mould_38 : decode cX0_mould 38 = .ok (.aload_n 0, 1) := dk_42 (dk_at dksX0_mould_1 16 rfl rfl)
theorem dX0_mould_39 : decode cX0_mould 39 = .ok (.aload 4, 2) := dk_25 4 (dk_at dksX0_mould_1 17 rfl rfl)
theorem dX0_mould_41 : decode cX0_mould 41 = .ok (.aload_n 0, 1) := dk_42 (dk_at dksX0_mould_1 19 rfl rfl)
theorem dX0_mould_42 : decode cX0_mould 42 = .ok (.getfield 10, 3) := dk_180 0 10 (dk_at dksX0_mould_1 20 rfl rfl)
theorem dX0_mould_45 : decode cX0_mould 45 = .ok (.new 106, 3) := dk_187 0 106 (dk_at dksX0_mould_2 0 rfl rfl)
theorem dX0_mould_48 : decode cX0_mould 48 = .ok (.dup, 1) := dk_89 (dk_at dksX0_mould_2 3 rfl rfl)
theorem dX0_mould_49 : decode cX0_mould 49 = .ok (.iload_n 1, 1) := dk_27 (dk_at dksX0_mould_2 4 rfl rfl)
theorem dX0_mould_50 : decode cX0_mould 50 = .ok (.iload_n 2, 1) := dk_28 (dk_at dksX0_mould_2 5 rfl rfl)
theorem dX0_mould_51 : decode cX0_mould 51 = .ok (.iload_n 3, 1) := dk_29 (dk_at dksX0_mould_2 6 rfl rfl)
theorem dX0_mould_52 : decode cX0_mould 52 = .ok (.invokespecial 108, 3) := dk_183 0 108 (dk_at dksX0_mould_2 7 rfl rfl)
theorem dX0_mould_55 : decode cX0_mould 55 = .ok (.invokevirtual 166, 3) := dk_182 0 166 (dk_at dksX0_mould_2 10 rfl rfl)
theorem dX0_mould_58 : decode cX0_mould 58 = .ok (.invokevirtual 115, 3) := dk_182 0 115 (dk_at dksX0_mould_2 13 rfl rfl)
theorem dX0_mould_61 : decode cX0_mould 61 = .ok (.ireturn, 1) := dk_172 (dk_at dksX0_mould_2 16 rfl rfl)
theorem dX0_mould_62 : decode cX0_mould 62 = .ok (.astore 5, 2) := dk_58 5 (dk_at dksX0_mould_2 17 rfl rfl)
theorem dX0_mould_64 : decode cX0_mould 64 = .ok (.aload_n 0, 1) := dk_42 (dk_at dksX0_mould_2 19 rfl rfl)
theorem dX0_mould_65 : decode cX0_mould 65 = .ok (.aload 5, 2) := dk_25 5 (dk_at dksX0_mould_2 20 rfl rfl)
theorem dX0_mould_67 : decode cX0_mould 67 = .ok (.invokevirtual 119, 3) := dk_182 0 119 (dk_at dksX0_mould_3 0 rfl rfl)
theorem dX0_mould_70 : decode cX0_mould 70 = .ok (.ireturn, 1) := dk_172 (dk_at dksX0_mould_3 3 rfl rfl)
abbrev cX0_heir : ByteArray := prog_1_method_23_code
def yX0_heir : MethodName := ⟨RX0, "heir", "(II)I"⟩
def dkwX0_heir_2 : List UInt8 := [182, 0, 119, 172]
abbrev dktX0_heir_2 : List UInt8 := dkwX0_heir_2 ++ []
def dkwX0_heir_1 : List UInt8 := [182, 0, 102, 78, 42, 45, 42, 180, 0, 10, 27, 28, 182, 0, 169, 182, 0, 115, 172, 58, 4, 42, 25, 4]
abbrev dktX0_heir_1 : List UInt8 := dkwX0_heir_1 ++ dktX0_heir_2
def dkwX0_heir_0 : List UInt8 := [27, 184, 0, 92, 153, 0, 10, 28, 184, 0, 92, 154, 0, 7, 17, 252, 13, 172, 42, 180, 0, 10]
abbrev dktX0_heir_0 : List UInt8 := dkwX0_heir_0 ++ dktX0_heir_1
theorem dksX0_heir_0 : cX0_heir.data.toList.drop 0 = dktX0_heir_0 := by decide +kernel
theorem dksX0_heir_1 : cX0_heir.data.toList.drop 22 = dktX0_heir_1 := dk_seg dksX0_heir_0 22 rfl rfl
theorem dksX0_heir_2 : cX0_heir.data.toList.drop 46 = dktX0_heir_2 := dk_seg dksX0_heir_1 24 rfl rfl
theorem dX0_heir_0 : decode cX0_heir 0 = .ok (.iload_n 1, 1) := dk_27 (dk_at dksX0_heir_0 0 rfl rfl)
theorem dX0_heir_1 : decode cX0_heir 1 = .ok (.invokestatic 92, 3) := dk_184 0 92 (dk_at dksX0_heir_0 1 rfl rfl)
theorem dX0_heir_4 : decode cX0_heir 4 = .ok (.ifCond .eq 10, 3) := dk_153 0 10 (dk_at dksX0_heir_0 4 rfl rfl)
theorem dX0_heir_7 : decode cX0_heir 7 = .ok (.iload_n 2, 1) := dk_28 (dk_at dksX0_heir_0 7 rfl rfl)
theorem dX0_heir_8 : decode cX0_heir 8 = .ok (.invokestatic 92, 3) := dk_184 0 92 (dk_at dksX0_heir_0 8 rfl rfl)
theorem dX0_heir_11 : decode cX0_heir 11 = .ok (.ifCond .ne 7, 3) := dk_154 0 7 (dk_at dksX0_heir_0 11 rfl rfl)
theorem dX0_heir_14 : decode cX0_heir 14 = .ok (.sipush (-1011), 3) := dk_17 252 13 (dk_at dksX0_heir_0 14 rfl rfl)
theorem dX0_heir_17 : decode cX0_heir 17 = .ok (.ireturn, 1) := dk_172 (dk_at dksX0_heir_0 17 rfl rfl)
theorem dX0_heir_18 : decode cX0_heir 18 = .ok (.aload_n 0, 1) := dk_42 (dk_at dksX0_heir_0 18 rfl rfl)
theorem dX0_heir_19 : decode cX0_heir 19 = .ok (.getfield 10, 3) := dk_180 0 10 (dk_at dksX0_heir_0 19 rfl rfl)
theorem dX0_heir_22 : decode cX0_heir 22 = .ok (.invokevirtual 102, 3) := dk_182 0 102 (dk_at dksX0_heir_1 0 rfl rfl)
theorem dX0_heir_25 : decode cX0_heir 25 = .ok (.astore_n 3, 1) := dk_78 (dk_at dksX0_heir_1 3 rfl rfl)
theorem dX0_heir_26 : decode cX0_heir 26 = .ok (.aload_n 0, 1) := dk_42 (dk_at dksX0_heir_1 4 rfl rfl)
theorem dX0_heir_27 : decode cX0_heir 27 = .ok (.aload_n 3, 1) := dk_45 (dk_at dksX0_heir_1 5 rfl rfl)
theorem dX0_heir_28 : decode cX0_heir 28 = .ok (.aload_n 0, 1) := dk_42 (dk_at dksX0_heir_1 6 rfl rfl)
theorem dX0_heir_29 : decode cX0_heir 29 = .ok (.getfield 10, 3) := dk_180 0 10 (dk_at dksX0_heir_1 7 rfl rfl)
theorem dX0_heir_32 : decode cX0_heir 32 = .ok (.iload_n 1, 1) := dk_27 (dk_at dksX0_heir_1 10 rfl rfl)
theorem dX0_heir_33 : decode cX0_heir 33 = .ok (.iload_n 2, 1) := dk_28 (dk_at dksX0_heir_1 11 rfl rfl)
theorem dX0_heir_34 : decode cX0_heir 34 = .ok (.invokevirtual 169, 3) := dk_182 0 169 (dk_at dksX0_heir_1 12 rfl rfl)
theorem dX0_heir_37 : decode cX0_heir 37 = .ok (.invokevirtual 115, 3) := dk_182 0 115 (dk_at dksX0_heir_1 15 rfl rfl)
theorem dX0_heir_40 : decode cX0_heir 40 = .ok (.ireturn, 1) := dk_172 (dk_at dksX0_heir_1 18 rfl rfl)
theorem dX0_heir_41 : decode cX0_heir 41 = .ok (.astore 4, 2) := dk_58 4 (dk_at dksX0_heir_1 19 rfl rfl)
theorem dX0_heir_43 : decode cX0_heir 43 = .ok (.aload_n 0, 1) := dk_42 (dk_at dksX0_heir_1 21 rfl rfl)
theorem dX0_heir_44 : decode cX0_heir 44 = .ok (.aload 4, 2) := dk_25 4 (dk_at dksX0_heir_1 22 rfl rfl)
theorem dX0_heir_46 : decode cX0_heir 46 = .ok (.invokevirtual 119, 3) := dk_182 0 119 (dk_at dksX0_heir_2 0 rfl rfl)
theorem dX0_heir_49 : decode cX0_heir 49 = .ok (.ireturn, 1) := dk_172 (dk_at dksX0_heir_2 3 rfl rfl)
abbrev cX0_end : ByteArray := prog_1_method_24_code
def yX0_end : MethodName := ⟨RX0, "end", "(I)I"⟩
def dkwX0_end_1 : List UInt8 := [180, 0, 10, 27, 182, 0, 172, 182, 0, 115, 172, 78, 42, 45, 182, 0, 119, 172]
abbrev dktX0_end_1 : List UInt8 := dkwX0_end_1 ++ []
def dkwX0_end_0 : List UInt8 := [27, 184, 0, 92, 154, 0, 7, 17, 252, 13, 172, 42, 180, 0, 10, 182, 0, 102, 77, 42, 44, 42]
abbrev dktX0_end_0 : List UInt8 := dkwX0_end_0 ++ dktX0_end_1
theorem dksX0_end_0 : cX0_end.data.toList.drop 0 = dktX0_end_0 := by decide +kernel
theorem dksX0_end_1 : cX0_end.data.toList.drop 22 = dktX0_end_1 := dk_seg dksX0_end_0 22 rfl rfl
theorem dX0_end_0 : decode cX0_end 0 = .ok (.iload_n 1, 1) := dk_27 (dk_at dksX0_end_0 0 rfl rfl)
theorem dX0_end_1 : decode cX0_end 1 = .ok (.invokestatic 92, 3) := dk_184 0 92 (dk_at dksX0_end_0 1 rfl rfl)
theorem dX0_end_4 : decode cX0_end 4 = .ok (.ifCond .ne 7, 3) := dk_154 0 7 (dk_at dksX0_end_0 4 rfl rfl)
theorem dX0_end_7 : decode cX0_end 7 = .ok (.sipush (-1011), 3) := dk_17 252 13 (dk_at dksX0_end_0 7 rfl rfl)
theorem dX0_end_10 : decode cX0_end 10 = .ok (.ireturn, 1) := dk_172 (dk_at dksX0_end_0 10 rfl rfl)
theorem dX0_end_11 : decode cX0_end 11 = .ok (.aload_n 0, 1) := dk_42 (dk_at dksX0_end_0 11 rfl rfl)
theorem dX0_end_12 : decode cX0_end 12 = .ok (.getfield 10, 3) := dk_180 0 10 (dk_at dksX0_end_0 12 rfl rfl)
theorem dX0_end_15 : decode cX0_end 15 = .ok (.invokevirtual 102, 3) := dk_182 0 102 (dk_at dksX0_end_0 15 rfl rfl)
theorem dX0_end_18 : decode cX0_end 18 = .ok (.astore_n 2, 1) := dk_77 (dk_at dksX0_end_0 18 rfl rfl)
theorem dX0_end_19 : decode cX0_end 19 = .ok (.aload_n 0, 1) := dk_42 (dk_at dksX0_end_0 19 rfl rfl)
theorem dX0_end_20 : decode cX0_end 20 = .ok (.aload_n 2, 1) := dk_44 (dk_at dksX0_end_0 20 rfl rfl)
theorem dX0_end_21 : decode cX0_end 21 = .ok (.aload_n 0, 1) := dk_42 (dk_at dksX0_end_0 21 rfl rfl)
theorem dX0_end_22 : decode cX0_end 22 = .ok (.getfield 10, 3) := dk_180 0 10 (dk_at dksX0_end_1 0 rfl rfl)
theorem dX0_end_25 : decode cX0_end 25 = .ok (.iload_n 1, 1) := dk_27 (dk_at dksX0_end_1 3 rfl rfl)
theorem dX0_end_26 : decode cX0_end 26 = .ok (.invokevirtual 172, 3) := dk_182 0 172 (dk_at dksX0_end_1 4 rfl rfl)
theorem dX0_end_29 : decode cX0_end 29 = .ok (.invokevirtual 115, 3) := dk_182 0 115 (dk_at dksX0_end_1 7 rfl rfl)
theorem dX0_end_32 : decode cX0_end 32 = .ok (.ireturn, 1) := dk_172 (dk_at dksX0_end_1 10 rfl rfl)
theorem dX0_end_33 : decode cX0_end 33 = .ok (.astore_n 3, 1) := dk_78 (dk_at dksX0_end_1 11 rfl rfl)
theorem dX0_end_34 : decode cX0_end 34 = .ok (.aload_n 0, 1) := dk_42 (dk_at dksX0_end_1 12 rfl rfl)
theorem dX0_end_35 : decode cX0_end 35 = .ok (.aload_n 3, 1) := dk_45 (dk_at dksX0_end_1 13 rfl rfl)
theorem dX0_end_36 : decode cX0_end 36 = .ok (.invokevirtual 119, 3) := dk_182 0 119 (dk_at dksX0_end_1 14 rfl rfl)
theorem dX0_end_39 : decode cX0_end 39 = .ok (.ireturn, 1) := dk_172 (dk_at dksX0_end_1 17 rfl rfl)
abbrev cX0_pass : ByteArray := prog_1_method_25_code
def yX0_pass : MethodName := ⟨RX0, "pass", "(I)I"⟩
def dkwX0_pass_1 : List UInt8 := [180, 0, 10, 27, 182, 0, 176, 182, 0, 115, 172]
abbrev dktX0_pass_1 : List UInt8 := dkwX0_pass_1 ++ []
def dkwX0_pass_0 : List UInt8 := [27, 184, 0, 144, 154, 0, 7, 17, 252, 12, 172, 42, 180, 0, 10, 182, 0, 102, 77, 42, 44, 42]
abbrev dktX0_pass_0 : List UInt8 := dkwX0_pass_0 ++ dktX0_pass_1
theorem dksX0_pass_0 : cX0_pass.data.toList.drop 0 = dktX0_pass_0 := by decide +kernel
theorem dksX0_pass_1 : cX0_pass.data.toList.drop 22 = dktX0_pass_1 := dk_seg dksX0_pass_0 22 rfl rfl
theorem dX0_pass_0 : decode cX0_pass 0 = .ok (.iload_n 1, 1) := dk_27 (dk_at dksX0_pass_0 0 rfl rfl)
theorem dX0_pass_1 : decode cX0_pass 1 = .ok (.invokestatic 144, 3) := dk_184 0 144 (dk_at dksX0_pass_0 1 rfl rfl)
theorem dX0_pass_4 : decode cX0_pass 4 = .ok (.ifCond .ne 7, 3) := dk_154 0 7 (dk_at dksX0_pass_0 4 rfl rfl)
theorem dX0_pass_7 : decode cX0_pass 7 = .ok (.sipush (-1012), 3) := dk_17 252 12 (dk_at dksX0_pass_0 7 rfl rfl)
theorem dX0_pass_10 : decode cX0_pass 10 = .ok (.ireturn, 1) := dk_172 (dk_at dksX0_pass_0 10 rfl rfl)
theorem dX0_pass_11 : decode cX0_pass 11 = .ok (.aload_n 0, 1) := dk_42 (dk_at dksX0_pass_0 11 rfl rfl)
theorem dX0_pass_12 : decode cX0_pass 12 = .ok (.getfield 10, 3) := dk_180 0 10 (dk_at dksX0_pass_0 12 rfl rfl)
theorem dX0_pass_15 : decode cX0_pass 15 = .ok (.invokevirtual 102, 3) := dk_182 0 102 (dk_at dksX0_pass_0 15 rfl rfl)
theorem dX0_pass_18 : decode cX0_pass 18 = .ok (.astore_n 2, 1) := dk_77 (dk_at dksX0_pass_0 18 rfl rfl)
theorem dX0_pass_19 : decode cX0_pass 19 = .ok (.aload_n 0, 1) := dk_42 (dk_at dksX0_pass_0 19 rfl rfl)
theorem dX0_pass_20 : decode cX0_pass 20 = .ok (.aload_n 2, 1) := dk_44 (dk_at dksX0_pass_0 20 rfl rfl)
theorem dX0_pass_21 : decode cX0_pass 21 = .ok (.aload_n 0, 1) := dk_42 (dk_at dksX0_pass_0 21 rfl rfl)
theorem dX0_pass_22 : decode cX0_pass 22 = .ok (.getfield 10, 3) := dk_180 0 10 (dk_at dksX0_pass_1 0 rfl rfl)
theorem dX0_pass_25 : decode cX0_pass 25 = .ok (.iload_n 1, 1) := dk_27 (dk_at dksX0_pass_1 3 rfl rfl)
theorem dX0_pass_26 : decode cX0_pass 26 = .ok (.invokevirtual 176, 3) := dk_182 0 176 (dk_at dksX0_pass_1 4 rfl rfl)
theorem dX0_pass_29 : decode cX0_pass 29 = .ok (.invokevirtual 115, 3) := dk_182 0 115 (dk_at dksX0_pass_1 7 rfl rfl)
theorem dX0_pass_32 : decode cX0_pass 32 = .ok (.ireturn, 1) := dk_172 (dk_at dksX0_pass_1 10 rfl rfl)
abbrev cX0_houseOf : ByteArray := prog_1_method_26_code
def yX0_houseOf : MethodName := ⟨RX0, "houseOf", "(II)I"⟩
def dkwX0_houseOf_0 : List UInt8 := [27, 184, 0, 92, 153, 0, 15, 42, 180, 0, 10, 27, 28, 182, 0, 179, 167, 0, 6, 17, 252, 13, 172]
abbrev dktX0_houseOf_0 : List UInt8 := dkwX0_houseOf_0 ++ []
theorem dksX0_houseOf_0 : cX0_houseOf.data.toList.drop 0 = dktX0_houseOf_0 := by decide +kernel
theorem dX0_houseOf_0 : decode cX0_houseOf 0 = .ok (.iload_n 1, 1) := dk_27 (dk_at dksX0_houseOf_0 0 rfl rfl)
theorem dX0_houseOf_1 : decode cX0_houseOf 1 = .ok (.invokestatic 92, 3) := dk_184 0 92 (dk_at dksX0_houseOf_0 1 rfl rfl)
theorem dX0_houseOf_4 : decode cX0_houseOf 4 = .ok (.ifCond .eq 15, 3) := dk_153 0 15 (dk_at dksX0_houseOf_0 4 rfl rfl)
theorem dX0_houseOf_7 : decode cX0_houseOf 7 = .ok (.aload_n 0, 1) := dk_42 (dk_at dksX0_houseOf_0 7 rfl rfl)
theorem dX0_houseOf_8 : decode cX0_houseOf 8 = .ok (.getfield 10, 3) := dk_180 0 10 (dk_at dksX0_houseOf_0 8 rfl rfl)
theorem dX0_houseOf_11 : decode cX0_houseOf 11 = .ok (.iload_n 1, 1) := dk_27 (dk_at dksX0_houseOf_0 11 rfl rfl)
theorem dX0_houseOf_12 : decode cX0_houseOf 12 = .ok (.iload_n 2, 1) := dk_28 (dk_at dksX0_houseOf_0 12 rfl rfl)
theorem dX0_houseOf_13 : decode cX0_houseOf 13 = .ok (.invokevirtual 179, 3) := dk_182 0 179 (dk_at dksX0_houseOf_0 13 rfl rfl)
theorem dX0_houseOf_16 : decode cX0_houseOf 16 = .ok (.goto 6, 3) := dk_167 0 6 (dk_at dksX0_houseOf_0 16 rfl rfl)
theorem dX0_houseOf_19 : decode cX0_houseOf 19 = .ok (.sipush (-1011), 3) := dk_17 252 13 (dk_at dksX0_houseOf_0 19 rfl rfl)
theorem dX0_houseOf_22 : decode cX0_houseOf 22 = .ok (.ireturn, 1) := dk_172 (dk_at dksX0_houseOf_0 22 rfl rfl)
abbrev cX0_inherits : ByteArray := prog_1_method_27_code
def yX0_inherits : MethodName := ⟨RX0, "inherits", "(I)I"⟩
def dkwX0_inherits_0 : List UInt8 := [27, 184, 0, 92, 153, 0, 14, 42, 180, 0, 10, 27, 182, 0, 182, 167, 0, 6, 17, 252, 13, 172]
abbrev dktX0_inherits_0 : List UInt8 := dkwX0_inherits_0 ++ []
theorem dksX0_inherits_0 : cX0_inherits.data.toList.drop 0 = dktX0_inherits_0 := by decide +kernel
theorem dX0_inherits_0 : decode cX0_inherits 0 = .ok (.iload_n 1, 1) := dk_27 (dk_at dksX0_inherits_0 0 rfl rfl)
theorem dX0_inherits_1 : decode cX0_inherits 1 = .ok (.invokestatic 92, 3) := dk_184 0 92 (dk_at dksX0_inherits_0 1 rfl rfl)
theorem dX0_inherits_4 : decode cX0_inherits 4 = .ok (.ifCond .eq 14, 3) := dk_153 0 14 (dk_at dksX0_inherits_0 4 rfl rfl)
theorem dX0_inherits_7 : decode cX0_inherits 7 = .ok (.aload_n 0, 1) := dk_42 (dk_at dksX0_inherits_0 7 rfl rfl)
theorem dX0_inherits_8 : decode cX0_inherits 8 = .ok (.getfield 10, 3) := dk_180 0 10 (dk_at dksX0_inherits_0 8 rfl rfl)
theorem dX0_inherits_11 : decode cX0_inherits 11 = .ok (.iload_n 1, 1) := dk_27 (dk_at dksX0_inherits_0 11 rfl rfl)
theorem dX0_inherits_12 : decode cX0_inherits 12 = .ok (.invokevirtual 182, 3) := dk_182 0 182 (dk_at dksX0_inherits_0 12 rfl rfl)
theorem dX0_inherits_15 : decode cX0_inherits 15 = .ok (.goto 6, 3) := dk_167 0 6 (dk_at dksX0_inherits_0 15 rfl rfl)
theorem dX0_inherits_18 : decode cX0_inherits 18 = .ok (.sipush (-1011), 3) := dk_17 252 13 (dk_at dksX0_inherits_0 18 rfl rfl)
theorem dX0_inherits_21 : decode cX0_inherits 21 = .ok (.ireturn, 1) := dk_172 (dk_at dksX0_inherits_0 21 rfl rfl)
abbrev cX0_wouldMelt : ByteArray := prog_1_method_28_code
def yX0_wouldMelt : MethodName := ⟨RX0, "wouldMelt", "(I)I"⟩
def dkwX0_wouldMelt_0 : List UInt8 := [27, 184, 0, 92, 153, 0, 14, 42, 180, 0, 10, 27, 182, 0, 185, 167, 0, 6, 17, 252, 13, 172]
abbrev dktX0_wouldMelt_0 : List UInt8 := dkwX0_wouldMelt_0 ++ []
theorem dksX0_wouldMelt_0 : cX0_wouldMelt.data.toList.drop 0 = dktX0_wouldMelt_0 := by decide +kernel
theorem dX0_wouldMelt_0 : decode cX0_wouldMelt 0 = .ok (.iload_n 1, 1) := dk_27 (dk_at dksX0_wouldMelt_0 0 rfl rfl)
theorem dX0_wouldMelt_1 : decode cX0_wouldMelt 1 = .ok (.invokestatic 92, 3) := dk_184 0 92 (dk_at dksX0_wouldMelt_0 1 rfl rfl)
theorem dX0_wouldMelt_4 : decode cX0_wouldMelt 4 = .ok (.ifCond .eq 14, 3) := dk_153 0 14 (dk_at dksX0_wouldMelt_0 4 rfl rfl)
theorem dX0_wouldMelt_7 : decode cX0_wouldMelt 7 = .ok (.aload_n 0, 1) := dk_42 (dk_at dksX0_wouldMelt_0 7 rfl rfl)
theorem dX0_wouldMelt_8 : decode cX0_wouldMelt 8 = .ok (.getfield 10, 3) := dk_180 0 10 (dk_at dksX0_wouldMelt_0 8 rfl rfl)
theorem dX0_wouldMelt_11 : decode cX0_wouldMelt 11 = .ok (.iload_n 1, 1) := dk_27 (dk_at dksX0_wouldMelt_0 11 rfl rfl)
theorem dX0_wouldMelt_12 : decode cX0_wouldMelt 12 = .ok (.invokevirtual 185, 3) := dk_182 0 185 (dk_at dksX0_wouldMelt_0 12 rfl rfl)
theorem dX0_wouldMelt_15 : decode cX0_wouldMelt 15 = .ok (.goto 6, 3) := dk_167 0 6 (dk_at dksX0_wouldMelt_0 15 rfl rfl)
theorem dX0_wouldMelt_18 : decode cX0_wouldMelt 18 = .ok (.sipush (-1011), 3) := dk_17 252 13 (dk_at dksX0_wouldMelt_0 18 rfl rfl)
theorem dX0_wouldMelt_21 : decode cX0_wouldMelt 21 = .ok (.ireturn, 1) := dk_172 (dk_at dksX0_wouldMelt_0 21 rfl rfl)
abbrev cX0_weight : ByteArray := prog_1_method_29_code
def yX0_weight : MethodName := ⟨RX0, "weight", "(I)I"⟩
def dkwX0_weight_0 : List UInt8 := [27, 184, 0, 92, 153, 0, 14, 42, 180, 0, 10, 27, 182, 0, 188, 167, 0, 6, 17, 252, 13, 172]
abbrev dktX0_weight_0 : List UInt8 := dkwX0_weight_0 ++ []
theorem dksX0_weight_0 : cX0_weight.data.toList.drop 0 = dktX0_weight_0 := by decide +kernel
theorem dX0_weight_0 : decode cX0_weight 0 = .ok (.iload_n 1, 1) := dk_27 (dk_at dksX0_weight_0 0 rfl rfl)
theorem dX0_weight_1 : decode cX0_weight 1 = .ok (.invokestatic 92, 3) := dk_184 0 92 (dk_at dksX0_weight_0 1 rfl rfl)
theorem dX0_weight_4 : decode cX0_weight 4 = .ok (.ifCond .eq 14, 3) := dk_153 0 14 (dk_at dksX0_weight_0 4 rfl rfl)
theorem dX0_weight_7 : decode cX0_weight 7 = .ok (.aload_n 0, 1) := dk_42 (dk_at dksX0_weight_0 7 rfl rfl)
theorem dX0_weight_8 : decode cX0_weight 8 = .ok (.getfield 10, 3) := dk_180 0 10 (dk_at dksX0_weight_0 8 rfl rfl)
theorem dX0_weight_11 : decode cX0_weight 11 = .ok (.iload_n 1, 1) := dk_27 (dk_at dksX0_weight_0 11 rfl rfl)
theorem dX0_weight_12 : decode cX0_weight 12 = .ok (.invokevirtual 188, 3) := dk_182 0 188 (dk_at dksX0_weight_0 12 rfl rfl)
theorem dX0_weight_15 : decode cX0_weight 15 = .ok (.goto 6, 3) := dk_167 0 6 (dk_at dksX0_weight_0 15 rfl rfl)
theorem dX0_weight_18 : decode cX0_weight 18 = .ok (.sipush (-1011), 3) := dk_17 252 13 (dk_at dksX0_weight_0 18 rfl rfl)
theorem dX0_weight_21 : decode cX0_weight 21 = .ok (.ireturn, 1) := dk_172 (dk_at dksX0_weight_0 21 rfl rfl)
abbrev cX0_weightAgain : ByteArray := prog_1_method_30_code
def yX0_weightAgain : MethodName := ⟨RX0, "weightAgain", "(I)I"⟩
def dkwX0_weightAgain_0 : List UInt8 := [27, 184, 0, 92, 153, 0, 14, 42, 180, 0, 10, 27, 182, 0, 191, 167, 0, 6, 17, 252, 13, 172]
abbrev dktX0_weightAgain_0 : List UInt8 := dkwX0_weightAgain_0 ++ []
theorem dksX0_weightAgain_0 : cX0_weightAgain.data.toList.drop 0 = dktX0_weightAgain_0 := by decide +kernel
theorem dX0_weightAgain_0 : decode cX0_weightAgain 0 = .ok (.iload_n 1, 1) := dk_27 (dk_at dksX0_weightAgain_0 0 rfl rfl)
theorem dX0_weightAgain_1 : decode cX0_weightAgain 1 = .ok (.invokestatic 92, 3) := dk_184 0 92 (dk_at dksX0_weightAgain_0 1 rfl rfl)
theorem dX0_weightAgain_4 : decode cX0_weightAgain 4 = .ok (.ifCond .eq 14, 3) := dk_153 0 14 (dk_at dksX0_weightAgain_0 4 rfl rfl)
theorem dX0_weightAgain_7 : decode cX0_weightAgain 7 = .ok (.aload_n 0, 1) := dk_42 (dk_at dksX0_weightAgain_0 7 rfl rfl)
theorem dX0_weightAgain_8 : decode cX0_weightAgain 8 = .ok (.getfield 10, 3) := dk_180 0 10 (dk_at dksX0_weightAgain_0 8 rfl rfl)
theorem dX0_weightAgain_11 : decode cX0_weightAgain 11 = .ok (.iload_n 1, 1) := dk_27 (dk_at dksX0_weightAgain_0 11 rfl rfl)
theorem dX0_weightAgain_12 : decode cX0_weightAgain 12 = .ok (.invokevirtual 191, 3) := dk_182 0 191 (dk_at dksX0_weightAgain_0 12 rfl rfl)
theorem dX0_weightAgain_15 : decode cX0_weightAgain 15 = .ok (.goto 6, 3) := dk_167 0 6 (dk_at dksX0_weightAgain_0 15 rfl rfl)
theorem dX0_weightAgain_18 : decode cX0_weightAgain 18 = .ok (.sipush (-1011), 3) := dk_17 252 13 (dk_at dksX0_weightAgain_0 18 rfl rfl)
theorem dX0_weightAgain_21 : decode cX0_weightAgain 21 = .ok (.ireturn, 1) := dk_172 (dk_at dksX0_weightAgain_0 21 rfl rfl)
abbrev cX0_ranked : ByteArray := prog_1_method_31_code
def yX0_ranked : MethodName := ⟨RX0, "ranked", "(I)I"⟩
def dkwX0_ranked_0 : List UInt8 := [42, 180, 0, 10, 27, 182, 0, 194, 172]
abbrev dktX0_ranked_0 : List UInt8 := dkwX0_ranked_0 ++ []
theorem dksX0_ranked_0 : cX0_ranked.data.toList.drop 0 = dktX0_ranked_0 := by decide +kernel
theorem dX0_ranked_0 : decode cX0_ranked 0 = .ok (.aload_n 0, 1) := dk_42 (dk_at dksX0_ranked_0 0 rfl rfl)
theorem dX0_ranked_1 : decode cX0_ranked 1 = .ok (.getfield 10, 3) := dk_180 0 10 (dk_at dksX0_ranked_0 1 rfl rfl)
theorem dX0_ranked_4 : decode cX0_ranked 4 = .ok (.iload_n 1, 1) := dk_27 (dk_at dksX0_ranked_0 4 rfl rfl)
theorem dX0_ranked_5 : decode cX0_ranked 5 = .ok (.invokevirtual 194, 3) := dk_182 0 194 (dk_at dksX0_ranked_0 5 rfl rfl)
theorem dX0_ranked_8 : decode cX0_ranked 8 = .ok (.ireturn, 1) := dk_172 (dk_at dksX0_ranked_0 8 rfl rfl)
abbrev cX0_ranked_2 : ByteArray := prog_1_method_11_code
def yX0_ranked_2 : MethodName := ⟨RX0, "ranked", "(LCandleStatute$Row;I)I"⟩
def dkwX0_ranked_2_3 : List UInt8 := [167, 255, 199, 29, 27, 160, 0, 5, 28, 172, 132, 2, 1, 167, 255, 173, 17, 252, 13, 172]
abbrev dktX0_ranked_2_3 : List UInt8 := dkwX0_ranked_2_3 ++ []
def dkwX0_ranked_2_2 : List UInt8 := [157, 0, 14, 21, 5, 154, 0, 13, 21, 4, 28, 162, 0, 7, 4, 167, 0, 4, 3, 96, 62, 132, 4, 1]
abbrev dktX0_ranked_2_2 : List UInt8 := dkwX0_ranked_2_2 ++ dktX0_ranked_2_3
def dkwX0_ranked_2_1 : List UInt8 := [42, 21, 4, 182, 0, 71, 192, 0, 75, 42, 28, 182, 0, 71, 185, 0, 77, 2, 0, 54, 5, 29, 21, 5]
abbrev dktX0_ranked_2_1 : List UInt8 := dkwX0_ranked_2_1 ++ dktX0_ranked_2_2
def dkwX0_ranked_2_0 : List UInt8 := [3, 61, 28, 42, 182, 0, 65, 162, 0, 81, 3, 62, 3, 54, 4, 21, 4, 42, 182, 0, 65, 162, 0, 54]
abbrev dktX0_ranked_2_0 : List UInt8 := dkwX0_ranked_2_0 ++ dktX0_ranked_2_1
theorem dksX0_ranked_2_0 : cX0_ranked_2.data.toList.drop 0 = dktX0_ranked_2_0 := by decide +kernel
theorem dksX0_ranked_2_1 : cX0_ranked_2.data.toList.drop 24 = dktX0_ranked_2_1 := dk_seg dksX0_ranked_2_0 24 rfl rfl
theorem dksX0_ranked_2_2 : cX0_ranked_2.data.toList.drop 48 = dktX0_ranked_2_2 := dk_seg dksX0_ranked_2_1 24 rfl rfl
theorem dksX0_ranked_2_3 : cX0_ranked_2.data.toList.drop 72 = dktX0_ranked_2_3 := dk_seg dksX0_ranked_2_2 24 rfl rfl
theorem dX0_ranked_2_0 : decode cX0_ranked_2 0 = .ok (.iconst 0, 1) := dk_3 (dk_at dksX0_ranked_2_0 0 rfl rfl)
theorem dX0_ranked_2_1 : decode cX0_ranked_2 1 = .ok (.istore_n 2, 1) := dk_61 (dk_at dksX0_ranked_2_0 1 rfl rfl)
theorem dX0_ranked_2_2 : decode cX0_ranked_2 2 = .ok (.iload_n 2, 1) := dk_28 (dk_at dksX0_ranked_2_0 2 rfl rfl)
theorem dX0_ranked_2_3 : decode cX0_ranked_2 3 = .ok (.aload_n 0, 1) := dk_42 (dk_at dksX0_ranked_2_0 3 rfl rfl)
theorem dX0_ranked_2_4 : decode cX0_ranked_2 4 = .ok (.invokevirtual 65, 3) := dk_182 0 65 (dk_at dksX0_ranked_2_0 4 rfl rfl)
theorem dX0_ranked_2_7 : decode cX0_ranked_2 7 = .ok (.if_icmp .ge 81, 3) := dk_162 0 81 (dk_at dksX0_ranked_2_0 7 rfl rfl)
theorem dX0_ranked_2_10 : decode cX0_ranked_2 10 = .ok (.iconst 0, 1) := dk_3 (dk_at dksX0_ranked_2_0 10 rfl rfl)
theorem dX0_ranked_2_11 : decode cX0_ranked_2 11 = .ok (.istore_n 3, 1) := dk_62 (dk_at dksX0_ranked_2_0 11 rfl rfl)
theorem dX0_ranked_2_12 : decode cX0_ranked_2 12 = .ok (.iconst 0, 1) := dk_3 (dk_at dksX0_ranked_2_0 12 rfl rfl)
theorem dX0_ranked_2_13 : decode cX0_ranked_2 13 = .ok (.istore 4, 2) := dk_54 4 (dk_at dksX0_ranked_2_0 13 rfl rfl)
theorem dX0_ranked_2_15 : decode cX0_ranked_2 15 = .ok (.iload 4, 2) := dk_21 4 (dk_at dksX0_ranked_2_0 15 rfl rfl)
theorem dX0_ranked_2_17 : decode cX0_ranked_2 17 = .ok (.aload_n 0, 1) := dk_42 (dk_at dksX0_ranked_2_0 17 rfl rfl)
theorem dX0_ranked_2_18 : decode cX0_ranked_2 18 = .ok (.invokevirtual 65, 3) := dk_182 0 65 (dk_at dksX0_ranked_2_0 18 rfl rfl)
theorem dX0_ranked_2_21 : decode cX0_ranked_2 21 = .ok (.if_icmp .ge 54, 3) := dk_162 0 54 (dk_at dksX0_ranked_2_0 21 rfl rfl)
theorem dX0_ranked_2_24 : decode cX0_ranked_2 24 = .ok (.aload_n 0, 1) := dk_42 (dk_at dksX0_ranked_2_1 0 rfl rfl)
theorem dX0_ranked_2_25 : decode cX0_ranked_2 25 = .ok (.iload 4, 2) := dk_21 4 (dk_at dksX0_ranked_2_1 1 rfl rfl)
theorem dX0_ranked_2_27 : decode cX0_ranked_2 27 = .ok (.invokevirtual 71, 3) := dk_182 0 71 (dk_at dksX0_ranked_2_1 3 rfl rfl)
theorem dX0_ranked_2_30 : decode cX0_ranked_2 30 = .ok (.checkcast 75, 3) := dk_192 0 75 (dk_at dksX0_ranked_2_1 6 rfl rfl)
theorem dX0_ranked_2_33 : decode cX0_ranked_2 33 = .ok (.aload_n 0, 1) := dk_42 (dk_at dksX0_ranked_2_1 9 rfl rfl)
theorem dX0_ranked_2_34 : decode cX0_ranked_2 34 = .ok (.iload_n 2, 1) := dk_28 (dk_at dksX0_ranked_2_1 10 rfl rfl)
theorem dX0_ranked_2_35 : decode cX0_ranked_2 35 = .ok (.invokevirtual 71, 3) := dk_182 0 71 (dk_at dksX0_ranked_2_1 11 rfl rfl)
theorem dX0_ranked_2_38 : decode cX0_ranked_2 38 = .ok (.invokeinterface 77 2, 5) := by decide +kernel
theorem dX0_ranked_2_43 : decode cX0_ranked_2 43 = .ok (.istore 5, 2) := dk_54 5 (dk_at dksX0_ranked_2_1 19 rfl rfl)
theorem dX0_ranked_2_45 : decode cX0_ranked_2 45 = .ok (.iload_n 3, 1) := dk_29 (dk_at dksX0_ranked_2_1 21 rfl rfl)
theorem dX0_ranked_2_46 : decode cX0_ranked_2 46 = .ok (.iload 5, 2) := dk_21 5 (dk_at dksX0_ranked_2_1 22 rfl rfl)
theorem dX0_ranked_2_48 : decode cX0_ranked_2 48 = .ok (.ifCond .gt 14, 3) := dk_157 0 14 (dk_at dksX0_ranked_2_2 0 rfl rfl)
theorem dX0_ranked_2_51 : decode cX0_ranked_2 51 = .ok (.iload 5, 2) := dk_21 5 (dk_at dksX0_ranked_2_2 3 rfl rfl)
theorem dX0_ranked_2_53 : decode cX0_ranked_2 53 = .ok (.ifCond .ne 13, 3) := dk_154 0 13 (dk_at dksX0_ranked_2_2 5 rfl rfl)
theorem dX0_ranked_2_56 : decode cX0_ranked_2 56 = .ok (.iload 4, 2) := dk_21 4 (dk_at dksX0_ranked_2_2 8 rfl rfl)
theorem dX0_ranked_2_58 : decode cX0_ranked_2 58 = .ok (.iload_n 2, 1) := dk_28 (dk_at dksX0_ranked_2_2 10 rfl rfl)
theorem dX0_ranked_2_59 : decode cX0_ranked_2 59 = .ok (.if_icmp .ge 7, 3) := dk_162 0 7 (dk_at dksX0_ranked_2_2 11 rfl rfl)
theorem dX0_ranked_2_62 : decode cX0_ranked_2 62 = .ok (.iconst 1, 1) := dk_4 (dk_at dksX0_ranked_2_2 14 rfl rfl)
theorem dX0_ranked_2_63 : decode cX0_ranked_2 63 = .ok (.goto 4, 3) := dk_167 0 4 (dk_at dksX0_ranked_2_2 15 rfl rfl)
theorem dX0_ranked_2_66 : decode cX0_ranked_2 66 = .ok (.iconst 0, 1) := dk_3 (dk_at dksX0_ranked_2_2 18 rfl rfl)
theorem dX0_ranked_2_67 : decode cX0_ranked_2 67 = .ok (.iadd, 1) := dk_96 (dk_at dksX0_ranked_2_2 19 rfl rfl)
theorem dX0_ranked_2_68 : decode cX0_ranked_2 68 = .ok (.istore_n 3, 1) := dk_62 (dk_at dksX0_ranked_2_2 20 rfl rfl)
theorem dX0_ranked_2_69 : decode cX0_ranked_2 69 = .ok (.iinc 4 1, 3) := dk_132 4 1 (dk_at dksX0_ranked_2_2 21 rfl rfl)
theorem dX0_ranked_2_72 : decode cX0_ranked_2 72 = .ok (.goto (-57), 3) := dk_167 255 199 (dk_at dksX0_ranked_2_3 0 rfl rfl)
theorem dX0_ranked_2_75 : decode cX0_ranked_2 75 = .ok (.iload_n 3, 1) := dk_29 (dk_at dksX0_ranked_2_3 3 rfl rfl)
theorem dX0_ranked_2_76 : decode cX0_ranked_2 76 = .ok (.iload_n 1, 1) := dk_27 (dk_at dksX0_ranked_2_3 4 rfl rfl)
theorem dX0_ranked_2_77 : decode cX0_ranked_2 77 = .ok (.if_icmp .ne 5, 3) := dk_160 0 5 (dk_at dksX0_ranked_2_3 5 rfl rfl)
theorem dX0_ranked_2_80 : decode cX0_ranked_2 80 = .ok (.iload_n 2, 1) := dk_28 (dk_at dksX0_ranked_2_3 8 rfl rfl)
theorem dX0_ranked_2_81 : decode cX0_ranked_2 81 = .ok (.ireturn, 1) := dk_172 (dk_at dksX0_ranked_2_3 9 rfl rfl)
theorem dX0_ranked_2_82 : decode cX0_ranked_2 82 = .ok (.iinc 2 1, 3) := dk_132 2 1 (dk_at dksX0_ranked_2_3 10 rfl rfl)
theorem dX0_ranked_2_85 : decode cX0_ranked_2 85 = .ok (.goto (-83), 3) := dk_167 255 173 (dk_at dksX0_ranked_2_3 13 rfl rfl)
theorem dX0_ranked_2_88 : decode cX0_ranked_2 88 = .ok (.sipush (-1011), 3) := dk_17 252 13 (dk_at dksX0_ranked_2_3 16 rfl rfl)
theorem dX0_ranked_2_91 : decode cX0_ranked_2 91 = .ok (.ireturn, 1) := dk_172 (dk_at dksX0_ranked_2_3 19 rfl rfl)
abbrev cX0_brightest : ByteArray := prog_1_method_32_code
def yX0_brightest : MethodName := ⟨RX0, "brightest", "(I)I"⟩
def dkwX0_brightest_0 : List UInt8 := [42, 180, 0, 10, 180, 0, 123, 27, 184, 0, 197, 172]
abbrev dktX0_brightest_0 : List UInt8 := dkwX0_brightest_0 ++ []
theorem dksX0_brightest_0 : cX0_brightest.data.toList.drop 0 = dktX0_brightest_0 := by decide +kernel
theorem dX0_brightest_0 : decode cX0_brightest 0 = .ok (.aload_n 0, 1) := dk_42 (dk_at dksX0_brightest_0 0 rfl rfl)
theorem dX0_brightest_1 : decode cX0_brightest 1 = .ok (.getfield 10, 3) := dk_180 0 10 (dk_at dksX0_brightest_0 1 rfl rfl)
theorem dX0_brightest_4 : decode cX0_brightest 4 = .ok (.getfield 123, 3) := dk_180 0 123 (dk_at dksX0_brightest_0 4 rfl rfl)
theorem dX0_brightest_7 : decode cX0_brightest 7 = .ok (.iload_n 1, 1) := dk_27 (dk_at dksX0_brightest_0 7 rfl rfl)
theorem dX0_brightest_8 : decode cX0_brightest 8 = .ok (.invokestatic 197, 3) := dk_184 0 197 (dk_at dksX0_brightest_0 8 rfl rfl)
theorem dX0_brightest_11 : decode cX0_brightest 11 = .ok (.ireturn, 1) := dk_172 (dk_at dksX0_brightest_0 11 rfl rfl)
abbrev cX0_append : ByteArray := prog_1_method_33_code
def yX0_append : MethodName := ⟨RX0, "append", "(I)I"⟩
def dkwX0_append_2 : List UInt8 := [172]
abbrev dktX0_append_2 : List UInt8 := dkwX0_append_2 ++ []
def dkwX0_append_1 : List UInt8 := [160, 0, 7, 17, 252, 11, 172, 42, 180, 0, 33, 27, 146, 182, 0, 204, 87, 42, 180, 0, 33, 182, 0, 201]
abbrev dktX0_append_1 : List UInt8 := dkwX0_append_1 ++ dktX0_append_2
def dkwX0_append_0 : List UInt8 := [27, 16, 32, 16, 126, 184, 0, 43, 154, 0, 7, 17, 252, 12, 172, 42, 180, 0, 33, 182, 0, 201, 16, 60]
abbrev dktX0_append_0 : List UInt8 := dkwX0_append_0 ++ dktX0_append_1
theorem dksX0_append_0 : cX0_append.data.toList.drop 0 = dktX0_append_0 := by decide +kernel
theorem dksX0_append_1 : cX0_append.data.toList.drop 24 = dktX0_append_1 := dk_seg dksX0_append_0 24 rfl rfl
theorem dksX0_append_2 : cX0_append.data.toList.drop 48 = dktX0_append_2 := dk_seg dksX0_append_1 24 rfl rfl
theorem dX0_append_0 : decode cX0_append 0 = .ok (.iload_n 1, 1) := dk_27 (dk_at dksX0_append_0 0 rfl rfl)
theorem dX0_append_1 : decode cX0_append 1 = .ok (.bipush 32, 2) := dk_16 32 (dk_at dksX0_append_0 1 rfl rfl)
theorem dX0_append_3 : decode cX0_append 3 = .ok (.bipush 126, 2) := dk_16 126 (dk_at dksX0_append_0 3 rfl rfl)
theorem dX0_append_5 : decode cX0_append 5 = .ok (.invokestatic 43, 3) := dk_184 0 43 (dk_at dksX0_append_0 5 rfl rfl)
theorem dX0_append_8 : decode cX0_append 8 = .ok (.ifCond .ne 7, 3) := dk_154 0 7 (dk_at dksX0_append_0 8 rfl rfl)
theorem dX0_append_11 : decode cX0_append 11 = .ok (.sipush (-1012), 3) := dk_17 252 12 (dk_at dksX0_append_0 11 rfl rfl)
theorem dX0_append_14 : decode cX0_append 14 = .ok (.ireturn, 1) := dk_172 (dk_at dksX0_append_0 14 rfl rfl)
theorem dX0_append_15 : decode cX0_append 15 = .ok (.aload_n 0, 1) := dk_42 (dk_at dksX0_append_0 15 rfl rfl)
theorem dX0_append_16 : decode cX0_append 16 = .ok (.getfield 33, 3) := dk_180 0 33 (dk_at dksX0_append_0 16 rfl rfl)
theorem dX0_append_19 : decode cX0_append 19 = .ok (.invokevirtual 201, 3) := dk_182 0 201 (dk_at dksX0_append_0 19 rfl rfl)
theorem dX0_append_22 : decode cX0_append 22 = .ok (.bipush 60, 2) := dk_16 60 (dk_at dksX0_append_0 22 rfl rfl)
theorem dX0_append_24 : decode cX0_append 24 = .ok (.if_icmp .ne 7, 3) := dk_160 0 7 (dk_at dksX0_append_1 0 rfl rfl)
theorem dX0_append_27 : decode cX0_append 27 = .ok (.sipush (-1013), 3) := dk_17 252 11 (dk_at dksX0_append_1 3 rfl rfl)
theorem dX0_append_30 : decode cX0_append 30 = .ok (.ireturn, 1) := dk_172 (dk_at dksX0_append_1 6 rfl rfl)
theorem dX0_append_31 : decode cX0_append 31 = .ok (.aload_n 0, 1) := dk_42 (dk_at dksX0_append_1 7 rfl rfl)
theorem dX0_append_32 : decode cX0_append 32 = .ok (.getfield 33, 3) := dk_180 0 33 (dk_at dksX0_append_1 8 rfl rfl)
theorem dX0_append_35 : decode cX0_append 35 = .ok (.iload_n 1, 1) := dk_27 (dk_at dksX0_append_1 11 rfl rfl)
theorem dX0_append_36 : decode cX0_append 36 = .ok (.i2c, 1) := dk_146 (dk_at dksX0_append_1 12 rfl rfl)
theorem dX0_append_37 : decode cX0_append 37 = .ok (.invokevirtual 204, 3) := dk_182 0 204 (dk_at dksX0_append_1 13 rfl rfl)
theorem dX0_append_40 : decode cX0_append 40 = .ok (.pop, 1) := dk_87 (dk_at dksX0_append_1 16 rfl rfl)
theorem dX0_append_41 : decode cX0_append 41 = .ok (.aload_n 0, 1) := dk_42 (dk_at dksX0_append_1 17 rfl rfl)
theorem dX0_append_42 : decode cX0_append 42 = .ok (.getfield 33, 3) := dk_180 0 33 (dk_at dksX0_append_1 18 rfl rfl)
theorem dX0_append_45 : decode cX0_append 45 = .ok (.invokevirtual 201, 3) := dk_182 0 201 (dk_at dksX0_append_1 21 rfl rfl)
theorem dX0_append_48 : decode cX0_append 48 = .ok (.ireturn, 1) := dk_172 (dk_at dksX0_append_2 0 rfl rfl)
abbrev cX0_run : ByteArray := prog_1_method_34_code
def yX0_run : MethodName := ⟨RX0, "run", "()I"⟩
def dkwX0_run_5 : List UInt8 := [42, 180, 0, 33, 3, 182, 0, 230, 25, 6, 191]
abbrev dktX0_run_5 : List UInt8 := dkwX0_run_5 ++ []
def dkwX0_run_4 : List UInt8 := [182, 0, 230, 28, 172, 76, 42, 43, 182, 0, 119, 61, 42, 180, 0, 33, 3, 182, 0, 230, 28, 172, 58, 6]
abbrev dktX0_run_4 : List UInt8 := dkwX0_run_4 ++ dktX0_run_5
def dkwX0_run_3 : List UInt8 := [3, 182, 0, 230, 21, 5, 172, 76, 17, 248, 48, 43, 180, 0, 236, 100, 61, 42, 180, 0, 33, 3]
abbrev dktX0_run_3 : List UInt8 := dkwX0_run_3 ++ dktX0_run_4
def dkwX0_run_2 : List UInt8 := [42, 180, 0, 10, 58, 4, 42, 44, 181, 0, 10, 42, 25, 4, 29, 182, 0, 115, 54, 5, 42, 180, 0, 33]
abbrev dktX0_run_2 : List UInt8 := dkwX0_run_2 ++ dktX0_run_3
def dkwX0_run_1 : List UInt8 := [182, 0, 217, 154, 0, 21, 43, 182, 0, 223, 192, 0, 224, 44, 29, 182, 0, 226, 132, 3, 1, 167, 255, 234]
abbrev dktX0_run_1 : List UInt8 := dkwX0_run_1 ++ dktX0_run_2
def dkwX0_run_0 : List UInt8 := [187, 0, 208, 89, 42, 183, 0, 210, 182, 0, 213, 76, 42, 180, 0, 10, 182, 0, 102, 77, 3, 62, 43]
abbrev dktX0_run_0 : List UInt8 := dkwX0_run_0 ++ dktX0_run_1
theorem dksX0_run_0 : cX0_run.data.toList.drop 0 = dktX0_run_0 := by decide +kernel
theorem dksX0_run_1 : cX0_run.data.toList.drop 23 = dktX0_run_1 := dk_seg dksX0_run_0 23 rfl rfl
theorem dksX0_run_2 : cX0_run.data.toList.drop 47 = dktX0_run_2 := dk_seg dksX0_run_1 24 rfl rfl
theorem dksX0_run_3 : cX0_run.data.toList.drop 71 = dktX0_run_3 := dk_seg dksX0_run_2 24 rfl rfl
theorem dksX0_run_4 : cX0_run.data.toList.drop 93 = dktX0_run_4 := dk_seg dksX0_run_3 22 rfl rfl
theorem dksX0_run_5 : cX0_run.data.toList.drop 117 = dktX0_run_5 := dk_seg dksX0_run_4 24 rfl rfl
theorem dX0_run_0 : decode cX0_run 0 = .ok (.new 208, 3) := dk_187 0 208 (dk_at dksX0_run_0 0 rfl rfl)
theorem dX0_run_3 : decode cX0_run 3 = .ok (.dup, 1) := dk_89 (dk_at dksX0_run_0 3 rfl rfl)
theorem dX0_run_4 : decode cX0_run 4 = .ok (.aload_n 0, 1) := dk_42 (dk_at dksX0_run_0 4 rfl rfl)
theorem dX0_run_5 : decode cX0_run 5 = .ok (.invokespecial 210, 3) := dk_183 0 210 (dk_at dksX0_run_0 5 rfl rfl)
theorem dX0_run_8 : decode cX0_run 8 = .ok (.invokevirtual 213, 3) := dk_182 0 213 (dk_at dksX0_run_0 8 rfl rfl)
theorem dX0_run_11 : decode cX0_run 11 = .ok (.astore_n 1, 1) := dk_76 (dk_at dksX0_run_0 11 rfl rfl)
theorem dX0_run_12 : decode cX0_run 12 = .ok (.aload_n 0, 1) := dk_42 (dk_at dksX0_run_0 12 rfl rfl)
theorem dX0_run_13 : decode cX0_run 13 = .ok (.getfield 10, 3) := dk_180 0 10 (dk_at dksX0_run_0 13 rfl rfl)
theorem dX0_run_16 : decode cX0_run 16 = .ok (.invokevirtual 102, 3) := dk_182 0 102 (dk_at dksX0_run_0 16 rfl rfl)
theorem dX0_run_19 : decode cX0_run 19 = .ok (.astore_n 2, 1) := dk_77 (dk_at dksX0_run_0 19 rfl rfl)
theorem dX0_run_20 : decode cX0_run 20 = .ok (.iconst 0, 1) := dk_3 (dk_at dksX0_run_0 20 rfl rfl)
theorem dX0_run_21 : decode cX0_run 21 = .ok (.istore_n 3, 1) := dk_62 (dk_at dksX0_run_0 21 rfl rfl)
theorem dX0_run_22 : decode cX0_run 22 = .ok (.aload_n 1, 1) := dk_43 (dk_at dksX0_run_0 22 rfl rfl)
theorem dX0_run_23 : decode cX0_run 23 = .ok (.invokevirtual 217, 3) := dk_182 0 217 (dk_at dksX0_run_1 0 rfl rfl)
theorem dX0_run_26 : decode cX0_run 26 = .ok (.ifCond .ne 21, 3) := dk_154 0 21 (dk_at dksX0_run_1 3 rfl rfl)
theorem dX0_run_29 : decode cX0_run 29 = .ok (.aload_n 1, 1) := dk_43 (dk_at dksX0_run_1 6 rfl rfl)
theorem dX0_run_30 : decode cX0_run 30 = .ok (.invokevirtual 223, 3) := dk_182 0 223 (dk_at dksX0_run_1 7 rfl rfl)
theorem dX0_run_33 : decode cX0_run 33 = .ok (.checkcast 224, 3) := dk_192 0 224 (dk_at dksX0_run_1 10 rfl rfl)
theorem dX0_run_36 : decode cX0_run 36 = .ok (.aload_n 2, 1) := dk_44 (dk_at dksX0_run_1 13 rfl rfl)
theorem dX0_run_37 : decode cX0_run 37 = .ok (.iload_n 3, 1) := dk_29 (dk_at dksX0_run_1 14 rfl rfl)
theorem dX0_run_38 : decode cX0_run 38 = .ok (.invokevirtual 226, 3) := dk_182 0 226 (dk_at dksX0_run_1 15 rfl rfl)
theorem dX0_run_41 : decode cX0_run 41 = .ok (.iinc 3 1, 3) := dk_132 3 1 (dk_at dksX0_run_1 18 rfl rfl)
theorem dX0_run_44 : decode cX0_run 44 = .ok (.goto (-22), 3) := dk_167 255 234 (dk_at dksX0_run_1 21 rfl rfl)
theorem dX0_run_47 : decode cX0_run 47 = .ok (.aload_n 0, 1) := dk_42 (dk_at dksX0_run_2 0 rfl rfl)
theorem dX0_run_48 : decode cX0_run 48 = .ok (.getfield 10, 3) := dk_180 0 10 (dk_at dksX0_run_2 1 rfl rfl)
theorem dX0_run_51 : decode cX0_run 51 = .ok (.astore 4, 2) := dk_58 4 (dk_at dksX0_run_2 4 rfl rfl)
theorem dX0_run_53 : decode cX0_run 53 = .ok (.aload_n 0, 1) := dk_42 (dk_at dksX0_run_2 6 rfl rfl)
theorem dX0_run_54 : decode cX0_run 54 = .ok (.aload_n 2, 1) := dk_44 (dk_at dksX0_run_2 7 rfl rfl)
theorem dX0_run_55 : decode cX0_run 55 = .ok (.putfield 10, 3) := dk_181 0 10 (dk_at dksX0_run_2 8 rfl rfl)
theorem dX0_run_58 : decode cX0_run 58 = .ok (.aload_n 0, 1) := dk_42 (dk_at dksX0_run_2 11 rfl rfl)
theorem dX0_run_59 : decode cX0_run 59 = .ok (.aload 4, 2) := dk_25 4 (dk_at dksX0_run_2 12 rfl rfl)
theorem dX0_run_61 : decode cX0_run 61 = .ok (.iload_n 3, 1) := dk_29 (dk_at dksX0_run_2 14 rfl rfl)
theorem dX0_run_62 : decode cX0_run 62 = .ok (.invokevirtual 115, 3) := dk_182 0 115 (dk_at dksX0_run_2 15 rfl rfl)
theorem dX0_run_65 : decode cX0_run 65 = .ok (.istore 5, 2) := dk_54 5 (dk_at dksX0_run_2 18 rfl rfl)
theorem dX0_run_67 : decode cX0_run 67 = .ok (.aload_n 0, 1) := dk_42 (dk_at dksX0_run_2 20 rfl rfl)
theorem dX0_run_68 : decode cX0_run 68 = .ok (.getfield 33, 3) := dk_180 0 33 (dk_at dksX0_run_2 21 rfl rfl)
theorem dX0_run_71 : decode cX0_run 71 = .ok (.iconst 0, 1) := dk_3 (dk_at dksX0_run_3 0 rfl rfl)
theorem dX0_run_72 : decode cX0_run 72 = .ok (.invokevirtual 230, 3) := dk_182 0 230 (dk_at dksX0_run_3 1 rfl rfl)
theorem dX0_run_75 : decode cX0_run 75 = .ok (.iload 5, 2) := dk_21 5 (dk_at dksX0_run_3 4 rfl rfl)
theorem dX0_run_77 : decode cX0_run 77 = .ok (.ireturn, 1) := dk_172 (dk_at dksX0_run_3 6 rfl rfl)
theorem dX0_run_78 : decode cX0_run 78 = .ok (.astore_n 1, 1) := dk_76 (dk_at dksX0_run_3 7 rfl rfl)
theorem dX0_run_79 : decode cX0_run 79 = .ok (.sipush (-2000), 3) := dk_17 248 48 (dk_at dksX0_run_3 8 rfl rfl)
theorem dX0_run_82 : decode cX0_run 82 = .ok (.aload_n 1, 1) := dk_43 (dk_at dksX0_run_3 11 rfl rfl)
theorem dX0_run_83 : decode cX0_run 83 = .ok (.getfield 236, 3) := dk_180 0 236 (dk_at dksX0_run_3 12 rfl rfl)
theorem dX0_run_86 : decode cX0_run 86 = .ok (.isub, 1) := dk_100 (dk_at dksX0_run_3 15 rfl rfl)
theorem dX0_run_87 : decode cX0_run 87 = .ok (.istore_n 2, 1) := dk_61 (dk_at dksX0_run_3 16 rfl rfl)
theorem dX0_run_88 : decode cX0_run 88 = .ok (.aload_n 0, 1) := dk_42 (dk_at dksX0_run_3 17 rfl rfl)
theorem dX0_run_89 : decode cX0_run 89 = .ok (.getfield 33, 3) := dk_180 0 33 (dk_at dksX0_run_3 18 rfl rfl)
theorem dX0_run_92 : decode cX0_run 92 = .ok (.iconst 0, 1) := dk_3 (dk_at dksX0_run_3 21 rfl rfl)
theorem dX0_run_93 : decode cX0_run 93 = .ok (.invokevirtual 230, 3) := dk_182 0 230 (dk_at dksX0_run_4 0 rfl rfl)
theorem dX0_run_96 : decode cX0_run 96 = .ok (.iload_n 2, 1) := dk_28 (dk_at dksX0_run_4 3 rfl rfl)
theorem dX0_run_97 : decode cX0_run 97 = .ok (.ireturn, 1) := dk_172 (dk_at dksX0_run_4 4 rfl rfl)
theorem dX0_run_98 : decode cX0_run 98 = .ok (.astore_n 1, 1) := dk_76 (dk_at dksX0_run_4 5 rfl rfl)
theorem dX0_run_99 : decode cX0_run 99 = .ok (.aload_n 0, 1) := dk_42 (dk_at dksX0_run_4 6 rfl rfl)
theorem dX0_run_100 : decode cX0_run 100 = .ok (.aload_n 1, 1) := dk_43 (dk_at dksX0_run_4 7 rfl rfl)
theorem dX0_run_101 : decode cX0_run 101 = .ok (.invokevirtual 119, 3) := dk_182 0 119 (dk_at dksX0_run_4 8 rfl rfl)
theorem dX0_run_104 : decode cX0_run 104 = .ok (.istore_n 2, 1) := dk_61 (dk_at dksX0_run_4 11 rfl rfl)
theorem dX0_run_105 : decode cX0_run 105 = .ok (.aload_n 0, 1) := dk_42 (dk_at dksX0_run_4 12 rfl rfl)
theorem dX0_run_106 : decode cX0_run 106 = .ok (.getfield 33, 3) := dk_180 0 33 (dk_at dksX0_run_4 13 rfl rfl)
theorem dX0_run_109 : decode cX0_run 109 = .ok (.iconst 0, 1) := dk_3 (dk_at dksX0_run_4 16 rfl rfl)
theorem dX0_run_110 : decode cX0_run 110 = .ok (.invokevirtual 230, 3) := dk_182 0 230 (dk_at dksX0_run_4 17 rfl rfl)
theorem dX0_run_113 : decode cX0_run 113 = .ok (.iload_n 2, 1) := dk_28 (dk_at dksX0_run_4 20 rfl rfl)
theorem dX0_run_114 : decode cX0_run 114 = .ok (.ireturn, 1) := dk_172 (dk_at dksX0_run_4 21 rfl rfl)
theorem dX0_run_115 : decode cX0_run 115 = .ok (.astore 6, 2) := dk_58 6 (dk_at dksX0_run_4 22 rfl rfl)
theorem dX0_run_117 : decode cX0_run 117 = .ok (.aload_n 0, 1) := dk_42 (dk_at dksX0_run_5 0 rfl rfl)
theorem dX0_run_118 : decode cX0_run 118 = .ok (.getfield 33, 3) := dk_180 0 33 (dk_at dksX0_run_5 1 rfl rfl)
theorem dX0_run_121 : decode cX0_run 121 = .ok (.iconst 0, 1) := dk_3 (dk_at dksX0_run_5 4 rfl rfl)
theorem dX0_run_122 : decode cX0_run 122 = .ok (.invokevirtual 230, 3) := dk_182 0 230 (dk_at dksX0_run_5 5 rfl rfl)
theorem dX0_run_125 : decode cX0_run 125 = .ok (.aload 6, 2) := dk_25 6 (dk_at dksX0_run_5 8 rfl rfl)
theorem dX0_run_127 : decode cX0_run 127 = .ok (.athrow, 1) := dk_191 (dk_at dksX0_run_5 10 rfl rfl)
abbrev cX0_tell : ByteArray := prog_1_method_35_code
def yX0_tell : MethodName := ⟨RX0, "tell", "(I)I"⟩
def dkwX0_tell_2 : List UInt8 := [172]
abbrev dktX0_tell_2 : List UInt8 := dkwX0_tell_2 ++ []
def dkwX0_tell_1 : List UInt8 := [180, 0, 123, 27, 182, 0, 71, 192, 0, 106, 27, 182, 0, 239, 181, 0, 39, 42, 180, 0, 39, 182, 0, 242]
abbrev dktX0_tell_1 : List UInt8 := dkwX0_tell_1 ++ dktX0_tell_2
def dkwX0_tell_0 : List UInt8 := [42, 180, 0, 10, 180, 0, 123, 27, 182, 0, 127, 154, 0, 7, 17, 252, 13, 172, 42, 42, 180, 0, 10]
abbrev dktX0_tell_0 : List UInt8 := dkwX0_tell_0 ++ dktX0_tell_1
theorem dksX0_tell_0 : cX0_tell.data.toList.drop 0 = dktX0_tell_0 := by decide +kernel
theorem dksX0_tell_1 : cX0_tell.data.toList.drop 23 = dktX0_tell_1 := dk_seg dksX0_tell_0 23 rfl rfl
theorem dksX0_tell_2 : cX0_tell.data.toList.drop 47 = dktX0_tell_2 := dk_seg dksX0_tell_1 24 rfl rfl
theorem dX0_tell_0 : decode cX0_tell 0 = .ok (.aload_n 0, 1) := dk_42 (dk_at dksX0_tell_0 0 rfl rfl)
theorem dX0_tell_1 : decode cX0_tell 1 = .ok (.getfield 10, 3) := dk_180 0 10 (dk_at dksX0_tell_0 1 rfl rfl)
theorem dX0_tell_4 : decode cX0_tell 4 = .ok (.getfield 123, 3) := dk_180 0 123 (dk_at dksX0_tell_0 4 rfl rfl)
theorem dX0_tell_7 : decode cX0_tell 7 = .ok (.iload_n 1, 1) := dk_27 (dk_at dksX0_tell_0 7 rfl rfl)
theorem dX0_tell_8 : decode cX0_tell 8 = .ok (.invokevirtual 127, 3) := dk_182 0 127 (dk_at dksX0_tell_0 8 rfl rfl)
theorem dX0_tell_11 : decode cX0_tell 11 = .ok (.ifCond .ne 7, 3) := dk_154 0 7 (dk_at dksX0_tell_0 11 rfl rfl)
theorem dX0_tell_14 : decode cX0_tell 14 = .ok (.sipush (-1011), 3) := dk_17 252 13 (dk_at dksX0_tell_0 14 rfl rfl)
theorem dX0_tell_17 : decode cX0_tell 17 = .ok (.ireturn, 1) := dk_172 (dk_at dksX0_tell_0 17 rfl rfl)
theorem dX0_tell_18 : decode cX0_tell 18 = .ok (.aload_n 0, 1) := dk_42 (dk_at dksX0_tell_0 18 rfl rfl)
theorem dX0_tell_19 : decode cX0_tell 19 = .ok (.aload_n 0, 1) := dk_42 (dk_at dksX0_tell_0 19 rfl rfl)
theorem dX0_tell_20 : decode cX0_tell 20 = .ok (.getfield 10, 3) := dk_180 0 10 (dk_at dksX0_tell_0 20 rfl rfl)
theorem dX0_tell_23 : decode cX0_tell 23 = .ok (.getfield 123, 3) := dk_180 0 123 (dk_at dksX0_tell_1 0 rfl rfl)
theorem dX0_tell_26 : decode cX0_tell 26 = .ok (.iload_n 1, 1) := dk_27 (dk_at dksX0_tell_1 3 rfl rfl)
theorem dX0_tell_27 : decode cX0_tell 27 = .ok (.invokevirtual 71, 3) := dk_182 0 71 (dk_at dksX0_tell_1 4 rfl rfl)
theorem dX0_tell_30 : decode cX0_tell 30 = .ok (.checkcast 106, 3) := dk_192 0 106 (dk_at dksX0_tell_1 7 rfl rfl)
theorem dX0_tell_33 : decode cX0_tell 33 = .ok (.iload_n 1, 1) := dk_27 (dk_at dksX0_tell_1 10 rfl rfl)
theorem dX0_tell_34 : decode cX0_tell 34 = .ok (.invokevirtual 239, 3) := dk_182 0 239 (dk_at dksX0_tell_1 11 rfl rfl)
theorem dX0_tell_37 : decode cX0_tell 37 = .ok (.putfield 39, 3) := dk_181 0 39 (dk_at dksX0_tell_1 14 rfl rfl)
theorem dX0_tell_40 : decode cX0_tell 40 = .ok (.aload_n 0, 1) := dk_42 (dk_at dksX0_tell_1 17 rfl rfl)
theorem dX0_tell_41 : decode cX0_tell 41 = .ok (.getfield 39, 3) := dk_180 0 39 (dk_at dksX0_tell_1 18 rfl rfl)
theorem dX0_tell_44 : decode cX0_tell 44 = .ok (.invokevirtual 242, 3) := dk_182 0 242 (dk_at dksX0_tell_1 21 rfl rfl)
theorem dX0_tell_47 : decode cX0_tell 47 = .ok (.ireturn, 1) := dk_172 (dk_at dksX0_tell_2 0 rfl rfl)
abbrev cX0_tellHouses : ByteArray := prog_1_method_36_code
def yX0_tellHouses : MethodName := ⟨RX0, "tellHouses", "()I"⟩
def dkwX0_tellHouses_0 : List UInt8 := [42, 42, 180, 0, 10, 182, 0, 245, 181, 0, 39, 42, 180, 0, 39, 182, 0, 242, 172]
abbrev dktX0_tellHouses_0 : List UInt8 := dkwX0_tellHouses_0 ++ []
theorem dksX0_tellHouses_0 : cX0_tellHouses.data.toList.drop 0 = dktX0_tellHouses_0 := by decide +kernel
theorem dX0_tellHouses_0 : decode cX0_tellHouses 0 = .ok (.aload_n 0, 1) := dk_42 (dk_at dksX0_tellHouses_0 0 rfl rfl)
theorem dX0_tellHouses_1 : decode cX0_tellHouses 1 = .ok (.aload_n 0, 1) := dk_42 (dk_at dksX0_tellHouses_0 1 rfl rfl)
theorem dX0_tellHouses_2 : decode cX0_tellHouses 2 = .ok (.getfield 10, 3) := dk_180 0 10 (dk_at dksX0_tellHouses_0 2 rfl rfl)
theorem dX0_tellHouses_5 : decode cX0_tellHouses 5 = .ok (.invokevirtual 245, 3) := dk_182 0 245 (dk_at dksX0_tellHouses_0 5 rfl rfl)
theorem dX0_tellHouses_8 : decode cX0_tellHouses 8 = .ok (.putfield 39, 3) := dk_181 0 39 (dk_at dksX0_tellHouses_0 8 rfl rfl)
theorem dX0_tellHouses_11 : decode cX0_tellHouses 11 = .ok (.aload_n 0, 1) := dk_42 (dk_at dksX0_tellHouses_0 11 rfl rfl)
theorem dX0_tellHouses_12 : decode cX0_tellHouses 12 = .ok (.getfield 39, 3) := dk_180 0 39 (dk_at dksX0_tellHouses_0 12 rfl rfl)
theorem dX0_tellHouses_15 : decode cX0_tellHouses 15 = .ok (.invokevirtual 242, 3) := dk_182 0 242 (dk_at dksX0_tellHouses_0 15 rfl rfl)
theorem dX0_tellHouses_18 : decode cX0_tellHouses 18 = .ok (.ireturn, 1) := dk_172 (dk_at dksX0_tellHouses_0 18 rfl rfl)
abbrev cX0_character : ByteArray := prog_1_method_37_code
def yX0_character : MethodName := ⟨RX0, "character", "(I)I"⟩
def dkwX0_character_1 : List UInt8 := [182, 0, 249, 167, 0, 6, 17, 252, 13, 172]
abbrev dktX0_character_1 : List UInt8 := dkwX0_character_1 ++ []
def dkwX0_character_0 : List UInt8 := [27, 3, 42, 180, 0, 39, 182, 0, 242, 4, 100, 184, 0, 43, 153, 0, 14, 42, 180, 0, 39, 27]
abbrev dktX0_character_0 : List UInt8 := dkwX0_character_0 ++ dktX0_character_1
theorem dksX0_character_0 : cX0_character.data.toList.drop 0 = dktX0_character_0 := by decide +kernel
theorem dksX0_character_1 : cX0_character.data.toList.drop 22 = dktX0_character_1 := dk_seg dksX0_character_0 22 rfl rfl
theorem dX0_character_0 : decode cX0_character 0 = .ok (.iload_n 1, 1) := dk_27 (dk_at dksX0_character_0 0 rfl rfl)
theorem dX0_character_1 : decode cX0_character 1 = .ok (.iconst 0, 1) := dk_3 (dk_at dksX0_character_0 1 rfl rfl)
theorem dX0_character_2 : decode cX0_character 2 = .ok (.aload_n 0, 1) := dk_42 (dk_at dksX0_character_0 2 rfl rfl)
theorem dX0_character_3 : decode cX0_character 3 = .ok (.getfield 39, 3) := dk_180 0 39 (dk_at dksX0_character_0 3 rfl rfl)
theorem dX0_character_6 : decode cX0_character 6 = .ok (.invokevirtual 242, 3) := dk_182 0 242 (dk_at dksX0_character_0 6 rfl rfl)
theorem dX0_character_9 : decode cX0_character 9 = .ok (.iconst 1, 1) := dk_4 (dk_at dksX0_character_0 9 rfl rfl)
theorem dX0_character_10 : decode cX0_character 10 = .ok (.isub, 1) := dk_100 (dk_at dksX0_character_0 10 rfl rfl)
theorem dX0_character_11 : decode cX0_character 11 = .ok (.invokestatic 43, 3) := dk_184 0 43 (dk_at dksX0_character_0 11 rfl rfl)
theorem dX0_character_14 : decode cX0_character 14 = .ok (.ifCond .eq 14, 3) := dk_153 0 14 (dk_at dksX0_character_0 14 rfl rfl)
theorem dX0_character_17 : decode cX0_character 17 = .ok (.aload_n 0, 1) := dk_42 (dk_at dksX0_character_0 17 rfl rfl)
theorem dX0_character_18 : decode cX0_character 18 = .ok (.getfield 39, 3) := dk_180 0 39 (dk_at dksX0_character_0 18 rfl rfl)
theorem dX0_character_21 : decode cX0_character 21 = .ok (.iload_n 1, 1) := dk_27 (dk_at dksX0_character_0 21 rfl rfl)
theorem dX0_character_22 : decode cX0_character 22 = .ok (.invokevirtual 249, 3) := dk_182 0 249 (dk_at dksX0_character_1 0 rfl rfl)
theorem dX0_character_25 : decode cX0_character 25 = .ok (.goto 6, 3) := dk_167 0 6 (dk_at dksX0_character_1 3 rfl rfl)
theorem dX0_character_28 : decode cX0_character 28 = .ok (.sipush (-1011), 3) := dk_17 252 13 (dk_at dksX0_character_1 6 rfl rfl)
theorem dX0_character_31 : decode cX0_character 31 = .ok (.ireturn, 1) := dk_172 (dk_at dksX0_character_1 9 rfl rfl)
abbrev cX0_reason : ByteArray := prog_1_method_38_code
def yX0_reason : MethodName := ⟨RX0, "reason", "(IZ)I"⟩
def dkwX0_reason_2 : List UInt8 := [46, 172]
abbrev dktX0_reason_2 : List UInt8 := dkwX0_reason_2 ++ []
def dkwX0_reason_1 : List UInt8 := [17, 252, 9, 167, 0, 22, 28, 153, 0, 12, 42, 180, 0, 27, 27, 46, 167, 0, 9, 42, 180, 0, 23, 27]
abbrev dktX0_reason_1 : List UInt8 := dkwX0_reason_1 ++ dktX0_reason_2
def dkwX0_reason_0 : List UInt8 := [27, 3, 5, 184, 0, 43, 154, 0, 7, 17, 252, 12, 172, 42, 180, 0, 23, 27, 46, 154, 0, 9]
abbrev dktX0_reason_0 : List UInt8 := dkwX0_reason_0 ++ dktX0_reason_1
theorem dksX0_reason_0 : cX0_reason.data.toList.drop 0 = dktX0_reason_0 := by decide +kernel
theorem dksX0_reason_1 : cX0_reason.data.toList.drop 22 = dktX0_reason_1 := dk_seg dksX0_reason_0 22 rfl rfl
theorem dksX0_reason_2 : cX0_reason.data.toList.drop 46 = dktX0_reason_2 := dk_seg dksX0_reason_1 24 rfl rfl
theorem dX0_reason_0 : decode cX0_reason 0 = .ok (.iload_n 1, 1) := dk_27 (dk_at dksX0_reason_0 0 rfl rfl)
theorem dX0_reason_1 : decode cX0_reason 1 = .ok (.iconst 0, 1) := dk_3 (dk_at dksX0_reason_0 1 rfl rfl)
theorem dX0_reason_2 : decode cX0_reason 2 = .ok (.iconst 2, 1) := dk_5 (dk_at dksX0_reason_0 2 rfl rfl)
theorem dX0_reason_3 : decode cX0_reason 3 = .ok (.invokestatic 43, 3) := dk_184 0 43 (dk_at dksX0_reason_0 3 rfl rfl)
theorem dX0_reason_6 : decode cX0_reason 6 = .ok (.ifCond .ne 7, 3) := dk_154 0 7 (dk_at dksX0_reason_0 6 rfl rfl)
theorem dX0_reason_9 : decode cX0_reason 9 = .ok (.sipush (-1012), 3) := dk_17 252 12 (dk_at dksX0_reason_0 9 rfl rfl)
theorem dX0_reason_12 : decode cX0_reason 12 = .ok (.ireturn, 1) := dk_172 (dk_at dksX0_reason_0 12 rfl rfl)
theorem dX0_reason_13 : decode cX0_reason 13 = .ok (.aload_n 0, 1) := dk_42 (dk_at dksX0_reason_0 13 rfl rfl)
theorem dX0_reason_14 : decode cX0_reason 14 = .ok (.getfield 23, 3) := dk_180 0 23 (dk_at dksX0_reason_0 14 rfl rfl)
theorem dX0_reason_17 : decode cX0_reason 17 = .ok (.iload_n 1, 1) := dk_27 (dk_at dksX0_reason_0 17 rfl rfl)
theorem dX0_reason_18 : decode cX0_reason 18 = .ok (.iaload, 1) := dk_46 (dk_at dksX0_reason_0 18 rfl rfl)
theorem dX0_reason_19 : decode cX0_reason 19 = .ok (.ifCond .ne 9, 3) := dk_154 0 9 (dk_at dksX0_reason_0 19 rfl rfl)
theorem dX0_reason_22 : decode cX0_reason 22 = .ok (.sipush (-1015), 3) := dk_17 252 9 (dk_at dksX0_reason_1 0 rfl rfl)
theorem dX0_reason_25 : decode cX0_reason 25 = .ok (.goto 22, 3) := dk_167 0 22 (dk_at dksX0_reason_1 3 rfl rfl)
theorem dX0_reason_28 : decode cX0_reason 28 = .ok (.iload_n 2, 1) := dk_28 (dk_at dksX0_reason_1 6 rfl rfl)
theorem dX0_reason_29 : decode cX0_reason 29 = .ok (.ifCond .eq 12, 3) := dk_153 0 12 (dk_at dksX0_reason_1 7 rfl rfl)
theorem dX0_reason_32 : decode cX0_reason 32 = .ok (.aload_n 0, 1) := dk_42 (dk_at dksX0_reason_1 10 rfl rfl)
theorem dX0_reason_33 : decode cX0_reason 33 = .ok (.getfield 27, 3) := dk_180 0 27 (dk_at dksX0_reason_1 11 rfl rfl)
theorem dX0_reason_36 : decode cX0_reason 36 = .ok (.iload_n 1, 1) := dk_27 (dk_at dksX0_reason_1 14 rfl rfl)
theorem dX0_reason_37 : decode cX0_reason 37 = .ok (.iaload, 1) := dk_46 (dk_at dksX0_reason_1 15 rfl rfl)
theorem dX0_reason_38 : decode cX0_reason 38 = .ok (.goto 9, 3) := dk_167 0 9 (dk_at dksX0_reason_1 16 rfl rfl)
theorem dX0_reason_41 : decode cX0_reason 41 = .ok (.aload_n 0, 1) := dk_42 (dk_at dksX0_reason_1 19 rfl rfl)
theorem dX0_reason_42 : decode cX0_reason 42 = .ok (.getfield 23, 3) := dk_180 0 23 (dk_at dksX0_reason_1 20 rfl rfl)
theorem dX0_reason_45 : decode cX0_reason 45 = .ok (.iload_n 1, 1) := dk_27 (dk_at dksX0_reason_1 23 rfl rfl)
theorem dX0_reason_46 : decode cX0_reason 46 = .ok (.iaload, 1) := dk_46 (dk_at dksX0_reason_2 0 rfl rfl)
theorem dX0_reason_47 : decode cX0_reason 47 = .ok (.ireturn, 1) := dk_172 (dk_at dksX0_reason_2 1 rfl rfl)
abbrev cX0_account : ByteArray := prog_1_method_39_code
def yX0_account : MethodName := ⟨RX0, "account", "(I)I"⟩
def dkwX0_account_8 : List UInt8 := [167, 0, 6, 17, 252, 12, 172]
abbrev dktX0_account_8 : List UInt8 := dkwX0_account_8 ++ []
def dkwX0_account_7 : List UInt8 := [180, 1, 27, 167, 0, 26, 42, 180, 0, 33, 182, 0, 201, 167, 0, 16, 42, 180, 0, 19, 182, 0, 85]
abbrev dktX0_account_7 : List UInt8 := dkwX0_account_7 ++ dktX0_account_8
def dkwX0_account_6 : List UInt8 := [180, 0, 10, 180, 1, 21, 167, 0, 46, 42, 180, 0, 10, 182, 1, 24, 167, 0, 36, 42, 180, 0, 10]
abbrev dktX0_account_6 : List UInt8 := dkwX0_account_6 ++ dktX0_account_7
def dkwX0_account_5 : List UInt8 := [167, 0, 76, 42, 180, 0, 10, 180, 1, 15, 167, 0, 66, 42, 180, 0, 10, 180, 1, 18, 167, 0, 56, 42]
abbrev dktX0_account_5 : List UInt8 := dkwX0_account_5 ++ dktX0_account_6
def dkwX0_account_4 : List UInt8 := [182, 1, 6, 167, 0, 96, 42, 180, 0, 10, 182, 1, 9, 167, 0, 86, 42, 180, 0, 10, 180, 1, 12]
abbrev dktX0_account_4 : List UInt8 := dkwX0_account_4 ++ dktX0_account_5
def dkwX0_account_3 : List UInt8 := [180, 0, 10, 182, 1, 0, 167, 0, 116, 42, 180, 0, 10, 182, 1, 3, 167, 0, 106, 42, 180, 0, 10]
abbrev dktX0_account_3 : List UInt8 := dkwX0_account_3 ++ dktX0_account_4
def dkwX0_account_2 : List UInt8 := [42, 180, 0, 10, 180, 0, 123, 182, 0, 65, 167, 0, 136, 42, 180, 0, 10, 182, 0, 253, 167, 0, 126, 42]
abbrev dktX0_account_2 : List UInt8 := dkwX0_account_2 ++ dktX0_account_3
def dkwX0_account_1 : List UInt8 := [170, 0, 0, 0, 0, 0, 214, 0, 0, 0, 0, 0, 0, 0, 13, 0, 0, 0, 71, 0, 0, 0, 84, 0, 0, 0, 94, 0, 0, 0, 104, 0, 0, 0, 114, 0, 0, 0, 124, 0, 0, 0, 134, 0, 0, 0, 144, 0, 0, 0, 154, 0, 0, 0, 164, 0, 0, 0, 174, 0, 0, 0, 184, 0, 0, 0, 194, 0, 0, 0, 204]
abbrev dktX0_account_1 : List UInt8 := dkwX0_account_1 ++ dktX0_account_2
def dkwX0_account_0 : List UInt8 := [27]
abbrev dktX0_account_0 : List UInt8 := dkwX0_account_0 ++ dktX0_account_1
theorem dksX0_account_0 : cX0_account.data.toList.drop 0 = dktX0_account_0 := by decide +kernel
theorem dksX0_account_1 : cX0_account.data.toList.drop 1 = dktX0_account_1 := dk_seg dksX0_account_0 1 rfl rfl
theorem dksX0_account_2 : cX0_account.data.toList.drop 72 = dktX0_account_2 := dk_seg dksX0_account_1 71 rfl rfl
theorem dksX0_account_3 : cX0_account.data.toList.drop 96 = dktX0_account_3 := dk_seg dksX0_account_2 24 rfl rfl
theorem dksX0_account_4 : cX0_account.data.toList.drop 119 = dktX0_account_4 := dk_seg dksX0_account_3 23 rfl rfl
theorem dksX0_account_5 : cX0_account.data.toList.drop 142 = dktX0_account_5 := dk_seg dksX0_account_4 23 rfl rfl
theorem dksX0_account_6 : cX0_account.data.toList.drop 166 = dktX0_account_6 := dk_seg dksX0_account_5 24 rfl rfl
theorem dksX0_account_7 : cX0_account.data.toList.drop 189 = dktX0_account_7 := dk_seg dksX0_account_6 23 rfl rfl
theorem dksX0_account_8 : cX0_account.data.toList.drop 212 = dktX0_account_8 := dk_seg dksX0_account_7 23 rfl rfl
theorem dX0_account_0 : decode cX0_account 0 = .ok (.iload_n 1, 1) := dk_27 (dk_at dksX0_account_0 0 rfl rfl)
theorem dX0_account_1 : decode cX0_account 1 = .ok (.tableswitch 214 0 13 #[71, 84, 94, 104, 114, 124, 134, 144, 154, 164, 174, 184, 194, 204], 71) := by decide +kernel
theorem dX0_account_72 : decode cX0_account 72 = .ok (.aload_n 0, 1) := dk_42 (dk_at dksX0_account_2 0 rfl rfl)
theorem dX0_account_73 : decode cX0_account 73 = .ok (.getfield 10, 3) := dk_180 0 10 (dk_at dksX0_account_2 1 rfl rfl)
theorem dX0_account_76 : decode cX0_account 76 = .ok (.getfield 123, 3) := dk_180 0 123 (dk_at dksX0_account_2 4 rfl rfl)
theorem dX0_account_79 : decode cX0_account 79 = .ok (.invokevirtual 65, 3) := dk_182 0 65 (dk_at dksX0_account_2 7 rfl rfl)
theorem dX0_account_82 : decode cX0_account 82 = .ok (.goto 136, 3) := dk_167 0 136 (dk_at dksX0_account_2 10 rfl rfl)
theorem dX0_account_85 : decode cX0_account 85 = .ok (.aload_n 0, 1) := dk_42 (dk_at dksX0_account_2 13 rfl rfl)
theorem dX0_account_86 : decode cX0_account 86 = .ok (.getfield 10, 3) := dk_180 0 10 (dk_at dksX0_account_2 14 rfl rfl)
theorem dX0_account_89 : decode cX0_account 89 = .ok (.invokevirtual 253, 3) := dk_182 0 253 (dk_at dksX0_account_2 17 rfl rfl)
theorem dX0_account_92 : decode cX0_account 92 = .ok (.goto 126, 3) := dk_167 0 126 (dk_at dksX0_account_2 20 rfl rfl)
theorem dX0_account_95 : decode cX0_account 95 = .ok (.aload_n 0, 1) := dk_42 (dk_at dksX0_account_2 23 rfl rfl)
theorem dX0_account_96 : decode cX0_account 96 = .ok (.getfield 10, 3) := dk_180 0 10 (dk_at dksX0_account_3 0 rfl rfl)
theorem dX0_account_99 : decode cX0_account 99 = .ok (.invokevirtual 256, 3) := dk_182 1 0 (dk_at dksX0_account_3 3 rfl rfl)
theorem dX0_account_102 : decode cX0_account 102 = .ok (.goto 116, 3) := dk_167 0 116 (dk_at dksX0_account_3 6 rfl rfl)
theorem dX0_account_105 : decode cX0_account 105 = .ok (.aload_n 0, 1) := dk_42 (dk_at dksX0_account_3 9 rfl rfl)
theorem dX0_account_106 : decode cX0_account 106 = .ok (.getfield 10, 3) := dk_180 0 10 (dk_at dksX0_account_3 10 rfl rfl)
theorem dX0_account_109 : decode cX0_account 109 = .ok (.invokevirtual 259, 3) := dk_182 1 3 (dk_at dksX0_account_3 13 rfl rfl)
theorem dX0_account_112 : decode cX0_account 112 = .ok (.goto 106, 3) := dk_167 0 106 (dk_at dksX0_account_3 16 rfl rfl)
theorem dX0_account_115 : decode cX0_account 115 = .ok (.aload_n 0, 1) := dk_42 (dk_at dksX0_account_3 19 rfl rfl)
theorem dX0_account_116 : decode cX0_account 116 = .ok (.getfield 10, 3) := dk_180 0 10 (dk_at dksX0_account_3 20 rfl rfl)
theorem dX0_account_119 : decode cX0_account 119 = .ok (.invokevirtual 262, 3) := dk_182 1 6 (dk_at dksX0_account_4 0 rfl rfl)
theorem dX0_account_122 : decode cX0_account 122 = .ok (.goto 96, 3) := dk_167 0 96 (dk_at dksX0_account_4 3 rfl rfl)
theorem dX0_account_125 : decode cX0_account 125 = .ok (.aload_n 0, 1) := dk_42 (dk_at dksX0_account_4 6 rfl rfl)
theorem dX0_account_126 : decode cX0_account 126 = .ok (.getfield 10, 3) := dk_180 0 10 (dk_at dksX0_account_4 7 rfl rfl)
theorem dX0_account_129 : decode cX0_account 129 = .ok (.invokevirtual 265, 3) := dk_182 1 9 (dk_at dksX0_account_4 10 rfl rfl)
theorem dX0_account_132 : decode cX0_account 132 = .ok (.goto 86, 3) := dk_167 0 86 (dk_at dksX0_account_4 13 rfl rfl)
theorem dX0_account_135 : decode cX0_account 135 = .ok (.aload_n 0, 1) := dk_42 (dk_at dksX0_account_4 16 rfl rfl)
theorem dX0_account_136 : decode cX0_account 136 = .ok (.getfield 10, 3) := dk_180 0 10 (dk_at dksX0_account_4 17 rfl rfl)
theorem dX0_account_139 : decode cX0_account 139 = .ok (.getfield 268, 3) := dk_180 1 12 (dk_at dksX0_account_4 20 rfl rfl)
theorem dX0_account_142 : decode cX0_account 142 = .ok (.goto 76, 3) := dk_167 0 76 (dk_at dksX0_account_5 0 rfl rfl)
theorem dX0_account_145 : decode cX0_account 145 = .ok (.aload_n 0, 1) := dk_42 (dk_at dksX0_account_5 3 rfl rfl)
theorem dX0_account_146 : decode cX0_account 146 = .ok (.getfield 10, 3) := dk_180 0 10 (dk_at dksX0_account_5 4 rfl rfl)
theorem dX0_account_149 : decode cX0_account 149 = .ok (.getfield 271, 3) := dk_180 1 15 (dk_at dksX0_account_5 7 rfl rfl)
theorem dX0_account_152 : decode cX0_account 152 = .ok (.goto 66, 3) := dk_167 0 66 (dk_at dksX0_account_5 10 rfl rfl)
theorem dX0_account_155 : decode cX0_account 155 = .ok (.aload_n 0, 1) := dk_42 (dk_at dksX0_account_5 13 rfl rfl)
theorem dX0_account_156 : decode cX0_account 156 = .ok (.getfield 10, 3) := dk_180 0 10 (dk_at dksX0_account_5 14 rfl rfl)
theorem dX0_account_159 : decode cX0_account 159 = .ok (.getfield 274, 3) := dk_180 1 18 (dk_at dksX0_account_5 17 rfl rfl)
theorem dX0_account_162 : decode cX0_account 162 = .ok (.goto 56, 3) := dk_167 0 56 (dk_at dksX0_account_5 20 rfl rfl)
theorem dX0_account_165 : decode cX0_account 165 = .ok (.aload_n 0, 1) := dk_42 (dk_at dksX0_account_5 23 rfl rfl)
theorem dX0_account_166 : decode cX0_account 166 = .ok (.getfield 10, 3) := dk_180 0 10 (dk_at dksX0_account_6 0 rfl rfl)
theorem dX0_account_169 : decode cX0_account 169 = .ok (.getfield 277, 3) := dk_180 1 21 (dk_at dksX0_account_6 3 rfl rfl)
theorem dX0_account_172 : decode cX0_account 172 = .ok (.goto 46, 3) := dk_167 0 46 (dk_at dksX0_account_6 6 rfl rfl)
theorem dX0_account_175 : decode cX0_account 175 = .ok (.aload_n 0, 1) := dk_42 (dk_at dksX0_account_6 9 rfl rfl)
theorem dX0_account_176 : decode cX0_account 176 = .ok (.getfield 10, 3) := dk_180 0 10 (dk_at dksX0_account_6 10 rfl rfl)
theorem dX0_account_179 : decode cX0_account 179 = .ok (.invokevirtual 280, 3) := dk_182 1 24 (dk_at dksX0_account_6 13 rfl rfl)
theorem dX0_account_182 : decode cX0_account 182 = .ok (.goto 36, 3) := dk_167 0 36 (dk_at dksX0_account_6 16 rfl rfl)
theorem dX0_account_185 : decode cX0_account 185 = .ok (.aload_n 0, 1) := dk_42 (dk_at dksX0_account_6 19 rfl rfl)
theorem dX0_account_186 : decode cX0_account 186 = .ok (.getfield 10, 3) := dk_180 0 10 (dk_at dksX0_account_6 20 rfl rfl)
theorem dX0_account_189 : decode cX0_account 189 = .ok (.getfield 283, 3) := dk_180 1 27 (dk_at dksX0_account_7 0 rfl rfl)
theorem dX0_account_192 : decode cX0_account 192 = .ok (.goto 26, 3) := dk_167 0 26 (dk_at dksX0_account_7 3 rfl rfl)
theorem dX0_account_195 : decode cX0_account 195 = .ok (.aload_n 0, 1) := dk_42 (dk_at dksX0_account_7 6 rfl rfl)
theorem dX0_account_196 : decode cX0_account 196 = .ok (.getfield 33, 3) := dk_180 0 33 (dk_at dksX0_account_7 7 rfl rfl)
theorem dX0_account_199 : decode cX0_account 199 = .ok (.invokevirtual 201, 3) := dk_182 0 201 (dk_at dksX0_account_7 10 rfl rfl)
theorem dX0_account_202 : decode cX0_account 202 = .ok (.goto 16, 3) := dk_167 0 16 (dk_at dksX0_account_7 13 rfl rfl)
theorem dX0_account_205 : decode cX0_account 205 = .ok (.aload_n 0, 1) := dk_42 (dk_at dksX0_account_7 16 rfl rfl)
theorem dX0_account_206 : decode cX0_account 206 = .ok (.getfield 19, 3) := dk_180 0 19 (dk_at dksX0_account_7 17 rfl rfl)
theorem dX0_account_209 : decode cX0_account 209 = .ok (.invokevirtual 85, 3) := dk_182 0 85 (dk_at dksX0_account_7 20 rfl rfl)
theorem dX0_account_212 : decode cX0_account 212 = .ok (.goto 6, 3) := dk_167 0 6 (dk_at dksX0_account_8 0 rfl rfl)
theorem dX0_account_215 : decode cX0_account 215 = .ok (.sipush (-1012), 3) := dk_17 252 12 (dk_at dksX0_account_8 3 rfl rfl)
theorem dX0_account_218 : decode cX0_account 218 = .ok (.ireturn, 1) := dk_172 (dk_at dksX0_account_8 6 rfl rfl)
abbrev cX0_isBalanced : ByteArray := prog_1_method_40_code
def yX0_isBalanced : MethodName := ⟨RX0, "isBalanced", "()I"⟩
def dkwX0_isBalanced_0 : List UInt8 := [42, 180, 0, 10, 182, 1, 30, 153, 0, 7, 4, 167, 0, 4, 3, 172]
abbrev dktX0_isBalanced_0 : List UInt8 := dkwX0_isBalanced_0 ++ []
theorem dksX0_isBalanced_0 : cX0_isBalanced.data.toList.drop 0 = dktX0_isBalanced_0 := by decide +kernel
theorem dX0_isBalanced_0 : decode cX0_isBalanced 0 = .ok (.aload_n 0, 1) := dk_42 (dk_at dksX0_isBalanced_0 0 rfl rfl)
theorem dX0_isBalanced_1 : decode cX0_isBalanced 1 = .ok (.getfield 10, 3) := dk_180 0 10 (dk_at dksX0_isBalanced_0 1 rfl rfl)
theorem dX0_isBalanced_4 : decode cX0_isBalanced 4 = .ok (.invokevirtual 286, 3) := dk_182 1 30 (dk_at dksX0_isBalanced_0 4 rfl rfl)
theorem dX0_isBalanced_7 : decode cX0_isBalanced 7 = .ok (.ifCond .eq 7, 3) := dk_153 0 7 (dk_at dksX0_isBalanced_0 7 rfl rfl)
theorem dX0_isBalanced_10 : decode cX0_isBalanced 10 = .ok (.iconst 1, 1) := dk_4 (dk_at dksX0_isBalanced_0 10 rfl rfl)
theorem dX0_isBalanced_11 : decode cX0_isBalanced 11 = .ok (.goto 4, 3) := dk_167 0 4 (dk_at dksX0_isBalanced_0 11 rfl rfl)
theorem dX0_isBalanced_14 : decode cX0_isBalanced 14 = .ok (.iconst 0, 1) := dk_3 (dk_at dksX0_isBalanced_0 14 rfl rfl)
theorem dX0_isBalanced_15 : decode cX0_isBalanced 15 = .ok (.ireturn, 1) := dk_172 (dk_at dksX0_isBalanced_0 15 rfl rfl)
abbrev cX0_meanWax : ByteArray := prog_1_method_41_code
def yX0_meanWax : MethodName := ⟨RX0, "meanWax", "()D"⟩
def dkwX0_meanWax_1 : List UInt8 := [182, 1, 3, 135, 27, 135, 111, 175]
abbrev dktX0_meanWax_1 : List UInt8 := dkwX0_meanWax_1 ++ []
def dkwX0_meanWax_0 : List UInt8 := [42, 180, 0, 10, 180, 0, 123, 182, 0, 65, 60, 27, 154, 0, 7, 14, 167, 0, 14, 42, 180, 0, 10]
abbrev dktX0_meanWax_0 : List UInt8 := dkwX0_meanWax_0 ++ dktX0_meanWax_1
theorem dksX0_meanWax_0 : cX0_meanWax.data.toList.drop 0 = dktX0_meanWax_0 := by decide +kernel
theorem dksX0_meanWax_1 : cX0_meanWax.data.toList.drop 23 = dktX0_meanWax_1 := dk_seg dksX0_meanWax_0 23 rfl rfl
theorem dX0_meanWax_0 : decode cX0_meanWax 0 = .ok (.aload_n 0, 1) := dk_42 (dk_at dksX0_meanWax_0 0 rfl rfl)
theorem dX0_meanWax_1 : decode cX0_meanWax 1 = .ok (.getfield 10, 3) := dk_180 0 10 (dk_at dksX0_meanWax_0 1 rfl rfl)
theorem dX0_meanWax_4 : decode cX0_meanWax 4 = .ok (.getfield 123, 3) := dk_180 0 123 (dk_at dksX0_meanWax_0 4 rfl rfl)
theorem dX0_meanWax_7 : decode cX0_meanWax 7 = .ok (.invokevirtual 65, 3) := dk_182 0 65 (dk_at dksX0_meanWax_0 7 rfl rfl)
theorem dX0_meanWax_10 : decode cX0_meanWax 10 = .ok (.istore_n 1, 1) := dk_60 (dk_at dksX0_meanWax_0 10 rfl rfl)
theorem dX0_meanWax_11 : decode cX0_meanWax 11 = .ok (.iload_n 1, 1) := dk_27 (dk_at dksX0_meanWax_0 11 rfl rfl)
theorem dX0_meanWax_12 : decode cX0_meanWax 12 = .ok (.ifCond .ne 7, 3) := dk_154 0 7 (dk_at dksX0_meanWax_0 12 rfl rfl)
theorem dX0_meanWax_15 : decode cX0_meanWax 15 = .ok (.dconst 0, 1) := dk_14 (dk_at dksX0_meanWax_0 15 rfl rfl)
theorem dX0_meanWax_16 : decode cX0_meanWax 16 = .ok (.goto 14, 3) := dk_167 0 14 (dk_at dksX0_meanWax_0 16 rfl rfl)
theorem dX0_meanWax_19 : decode cX0_meanWax 19 = .ok (.aload_n 0, 1) := dk_42 (dk_at dksX0_meanWax_0 19 rfl rfl)
theorem dX0_meanWax_20 : decode cX0_meanWax 20 = .ok (.getfield 10, 3) := dk_180 0 10 (dk_at dksX0_meanWax_0 20 rfl rfl)
theorem dX0_meanWax_23 : decode cX0_meanWax 23 = .ok (.invokevirtual 259, 3) := dk_182 1 3 (dk_at dksX0_meanWax_1 0 rfl rfl)
theorem dX0_meanWax_26 : decode cX0_meanWax 26 = .ok (.i2d, 1) := dk_135 (dk_at dksX0_meanWax_1 3 rfl rfl)
theorem dX0_meanWax_27 : decode cX0_meanWax 27 = .ok (.iload_n 1, 1) := dk_27 (dk_at dksX0_meanWax_1 4 rfl rfl)
theorem dX0_meanWax_28 : decode cX0_meanWax 28 = .ok (.i2d, 1) := dk_135 (dk_at dksX0_meanWax_1 5 rfl rfl)
theorem dX0_meanWax_29 : decode cX0_meanWax 29 = .ok (.ddiv, 1) := dk_111 (dk_at dksX0_meanWax_1 6 rfl rfl)
theorem dX0_meanWax_30 : decode cX0_meanWax 30 = .ok (.dreturn, 1) := dk_175 (dk_at dksX0_meanWax_1 7 rfl rfl)
abbrev cX0_snuffedShare : ByteArray := prog_1_method_42_code
def yX0_snuffedShare : MethodName := ⟨RX0, "snuffedShare", "()F"⟩
def dkwX0_snuffedShare_1 : List UInt8 := [182, 1, 0, 134, 27, 134, 110, 174]
abbrev dktX0_snuffedShare_1 : List UInt8 := dkwX0_snuffedShare_1 ++ []
def dkwX0_snuffedShare_0 : List UInt8 := [42, 180, 0, 10, 180, 0, 123, 182, 0, 65, 60, 27, 154, 0, 7, 11, 167, 0, 14, 42, 180, 0, 10]
abbrev dktX0_snuffedShare_0 : List UInt8 := dkwX0_snuffedShare_0 ++ dktX0_snuffedShare_1
theorem dksX0_snuffedShare_0 : cX0_snuffedShare.data.toList.drop 0 = dktX0_snuffedShare_0 := by decide +kernel
theorem dksX0_snuffedShare_1 : cX0_snuffedShare.data.toList.drop 23 = dktX0_snuffedShare_1 := dk_seg dksX0_snuffedShare_0 23 rfl rfl
theorem dX0_snuffedShare_0 : decode cX0_snuffedShare 0 = .ok (.aload_n 0, 1) := dk_42 (dk_at dksX0_snuffedShare_0 0 rfl rfl)
theorem dX0_snuffedShare_1 : decode cX0_snuffedShare 1 = .ok (.getfield 10, 3) := dk_180 0 10 (dk_at dksX0_snuffedShare_0 1 rfl rfl)
theorem dX0_snuffedShare_4 : decode cX0_snuffedShare 4 = .ok (.getfield 123, 3) := dk_180 0 123 (dk_at dksX0_snuffedShare_0 4 rfl rfl)
theorem dX0_snuffedShare_7 : decode cX0_snuffedShare 7 = .ok (.invokevirtual 65, 3) := dk_182 0 65 (dk_at dksX0_snuffedShare_0 7 rfl rfl)
theorem dX0_snuffedShare_10 : decode cX0_snuffedShare 10 = .ok (.istore_n 1, 1) := dk_60 (dk_at dksX0_snuffedShare_0 10 rfl rfl)
theorem dX0_snuffedShare_11 : decode cX0_snuffedShare 11 = .ok (.iload_n 1, 1) := dk_27 (dk_at dksX0_snuffedShare_0 11 rfl rfl)
theorem dX0_snuffedShare_12 : decode cX0_snuffedShare 12 = .ok (.ifCond .ne 7, 3) := dk_154 0 7 (dk_at dksX0_snuffedShare_0 12 rfl rfl)
theorem dX0_snuffedShare_15 : decode cX0_snuffedShare 15 = .ok (.fconst 0, 1) := dk_11 (dk_at dksX0_snuffedShare_0 15 rfl rfl)
theorem dX0_snuffedShare_16 : decode cX0_snuffedShare 16 = .ok (.goto 14, 3) := dk_167 0 14 (dk_at dksX0_snuffedShare_0 16 rfl rfl)
theorem dX0_snuffedShare_19 : decode cX0_snuffedShare 19 = .ok (.aload_n 0, 1) := dk_42 (dk_at dksX0_snuffedShare_0 19 rfl rfl)
theorem dX0_snuffedShare_20 : decode cX0_snuffedShare 20 = .ok (.getfield 10, 3) := dk_180 0 10 (dk_at dksX0_snuffedShare_0 20 rfl rfl)
theorem dX0_snuffedShare_23 : decode cX0_snuffedShare 23 = .ok (.invokevirtual 256, 3) := dk_182 1 0 (dk_at dksX0_snuffedShare_1 0 rfl rfl)
theorem dX0_snuffedShare_26 : decode cX0_snuffedShare 26 = .ok (.i2f, 1) := dk_134 (dk_at dksX0_snuffedShare_1 3 rfl rfl)
theorem dX0_snuffedShare_27 : decode cX0_snuffedShare 27 = .ok (.iload_n 1, 1) := dk_27 (dk_at dksX0_snuffedShare_1 4 rfl rfl)
theorem dX0_snuffedShare_28 : decode cX0_snuffedShare 28 = .ok (.i2f, 1) := dk_134 (dk_at dksX0_snuffedShare_1 5 rfl rfl)
theorem dX0_snuffedShare_29 : decode cX0_snuffedShare 29 = .ok (.fdiv, 1) := dk_110 (dk_at dksX0_snuffedShare_1 6 rfl rfl)
theorem dX0_snuffedShare_30 : decode cX0_snuffedShare 30 = .ok (.freturn, 1) := dk_174 (dk_at dksX0_snuffedShare_1 7 rfl rfl)
abbrev cX0_undo : ByteArray := prog_1_method_43_code
def yX0_undo : MethodName := ⟨RX0, "undo", "()I"⟩
def dkwX0_undo_1 : List UInt8 := [192, 0, 7, 181, 0, 10, 42, 180, 0, 19, 182, 0, 85, 172]
abbrev dktX0_undo_1 : List UInt8 := dkwX0_undo_1 ++ []
def dkwX0_undo_0 : List UInt8 := [42, 180, 0, 19, 182, 1, 33, 153, 0, 7, 17, 252, 9, 172, 42, 42, 180, 0, 19, 182, 1, 34]
abbrev dktX0_undo_0 : List UInt8 := dkwX0_undo_0 ++ dktX0_undo_1
theorem dksX0_undo_0 : cX0_undo.data.toList.drop 0 = dktX0_undo_0 := by decide +kernel
theorem dksX0_undo_1 : cX0_undo.data.toList.drop 22 = dktX0_undo_1 := dk_seg dksX0_undo_0 22 rfl rfl
theorem dX0_undo_0 : decode cX0_undo 0 = .ok (.aload_n 0, 1) := dk_42 (dk_at dksX0_undo_0 0 rfl rfl)
theorem dX0_undo_1 : decode cX0_undo 1 = .ok (.getfield 19, 3) := dk_180 0 19 (dk_at dksX0_undo_0 1 rfl rfl)
theorem dX0_undo_4 : decode cX0_undo 4 = .ok (.invokevirtual 289, 3) := dk_182 1 33 (dk_at dksX0_undo_0 4 rfl rfl)
theorem dX0_undo_7 : decode cX0_undo 7 = .ok (.ifCond .eq 7, 3) := dk_153 0 7 (dk_at dksX0_undo_0 7 rfl rfl)
theorem dX0_undo_10 : decode cX0_undo 10 = .ok (.sipush (-1015), 3) := dk_17 252 9 (dk_at dksX0_undo_0 10 rfl rfl)
theorem dX0_undo_13 : decode cX0_undo 13 = .ok (.ireturn, 1) := dk_172 (dk_at dksX0_undo_0 13 rfl rfl)
theorem dX0_undo_14 : decode cX0_undo 14 = .ok (.aload_n 0, 1) := dk_42 (dk_at dksX0_undo_0 14 rfl rfl)
theorem dX0_undo_15 : decode cX0_undo 15 = .ok (.aload_n 0, 1) := dk_42 (dk_at dksX0_undo_0 15 rfl rfl)
theorem dX0_undo_16 : decode cX0_undo 16 = .ok (.getfield 19, 3) := dk_180 0 19 (dk_at dksX0_undo_0 16 rfl rfl)
theorem dX0_undo_19 : decode cX0_undo 19 = .ok (.invokevirtual 290, 3) := dk_182 1 34 (dk_at dksX0_undo_0 19 rfl rfl)
theorem dX0_undo_22 : decode cX0_undo 22 = .ok (.checkcast 7, 3) := dk_192 0 7 (dk_at dksX0_undo_1 0 rfl rfl)
theorem dX0_undo_25 : decode cX0_undo 25 = .ok (.putfield 10, 3) := dk_181 0 10 (dk_at dksX0_undo_1 3 rfl rfl)
theorem dX0_undo_28 : decode cX0_undo 28 = .ok (.aload_n 0, 1) := dk_42 (dk_at dksX0_undo_1 6 rfl rfl)
theorem dX0_undo_29 : decode cX0_undo 29 = .ok (.getfield 19, 3) := dk_180 0 19 (dk_at dksX0_undo_1 7 rfl rfl)
theorem dX0_undo_32 : decode cX0_undo 32 = .ok (.invokevirtual 85, 3) := dk_182 0 85 (dk_at dksX0_undo_1 10 rfl rfl)
theorem dX0_undo_35 : decode cX0_undo 35 = .ok (.ireturn, 1) := dk_172 (dk_at dksX0_undo_1 13 rfl rfl)
abbrev cX0_save : ByteArray := prog_1_method_44_code
def yX0_save : MethodName := ⟨RX0, "save", "()I"⟩
def dkwX0_save_0 : List UInt8 := [42, 42, 180, 0, 10, 182, 0, 102, 181, 1, 37, 42, 180, 1, 37, 180, 0, 123, 182, 0, 65, 172]
abbrev dktX0_save_0 : List UInt8 := dkwX0_save_0 ++ []
theorem dksX0_save_0 : cX0_save.data.toList.drop 0 = dktX0_save_0 := by decide +kernel
theorem dX0_save_0 : decode cX0_save 0 = .ok (.aload_n 0, 1) := dk_42 (dk_at dksX0_save_0 0 rfl rfl)
theorem dX0_save_1 : decode cX0_save 1 = .ok (.aload_n 0, 1) := dk_42 (dk_at dksX0_save_0 1 rfl rfl)
theorem dX0_save_2 : decode cX0_save 2 = .ok (.getfield 10, 3) := dk_180 0 10 (dk_at dksX0_save_0 2 rfl rfl)
theorem dX0_save_5 : decode cX0_save 5 = .ok (.invokevirtual 102, 3) := dk_182 0 102 (dk_at dksX0_save_0 5 rfl rfl)
theorem dX0_save_8 : decode cX0_save 8 = .ok (.putfield 293, 3) := dk_181 1 37 (dk_at dksX0_save_0 8 rfl rfl)
theorem dX0_save_11 : decode cX0_save 11 = .ok (.aload_n 0, 1) := dk_42 (dk_at dksX0_save_0 11 rfl rfl)
theorem dX0_save_12 : decode cX0_save 12 = .ok (.getfield 293, 3) := dk_180 1 37 (dk_at dksX0_save_0 12 rfl rfl)
theorem dX0_save_15 : decode cX0_save 15 = .ok (.getfield 123, 3) := dk_180 0 123 (dk_at dksX0_save_0 15 rfl rfl)
theorem dX0_save_18 : decode cX0_save 18 = .ok (.invokevirtual 65, 3) := dk_182 0 65 (dk_at dksX0_save_0 18 rfl rfl)
theorem dX0_save_21 : decode cX0_save 21 = .ok (.ireturn, 1) := dk_172 (dk_at dksX0_save_0 21 rfl rfl)
abbrev cX0_restore : ByteArray := prog_1_method_45_code
def yX0_restore : MethodName := ⟨RX0, "restore", "()I"⟩
def dkwX0_restore_1 : List UInt8 := [180, 0, 19, 182, 1, 40, 42, 180, 0, 10, 180, 0, 123, 182, 0, 65, 172]
abbrev dktX0_restore_1 : List UInt8 := dkwX0_restore_1 ++ []
def dkwX0_restore_0 : List UInt8 := [42, 180, 1, 37, 199, 0, 7, 17, 252, 9, 172, 42, 42, 180, 1, 37, 182, 0, 102, 181, 0, 10, 42]
abbrev dktX0_restore_0 : List UInt8 := dkwX0_restore_0 ++ dktX0_restore_1
theorem dksX0_restore_0 : cX0_restore.data.toList.drop 0 = dktX0_restore_0 := by decide +kernel
theorem dksX0_restore_1 : cX0_restore.data.toList.drop 23 = dktX0_restore_1 := dk_seg dksX0_restore_0 23 rfl rfl
theorem dX0_restore_0 : decode cX0_restore 0 = .ok (.aload_n 0, 1) := dk_42 (dk_at dksX0_restore_0 0 rfl rfl)
theorem dX0_restore_1 : decode cX0_restore 1 = .ok (.getfield 293, 3) := dk_180 1 37 (dk_at dksX0_restore_0 1 rfl rfl)
theorem dX0_restore_4 : decode cX0_restore 4 = .ok (.ifnonnull 7, 3) := dk_199 0 7 (dk_at dksX0_restore_0 4 rfl rfl)
theorem dX0_restore_7 : decode cX0_restore 7 = .ok (.sipush (-1015), 3) := dk_17 252 9 (dk_at dksX0_restore_0 7 rfl rfl)
theorem dX0_restore_10 : decode cX0_restore 10 = .ok (.ireturn, 1) := dk_172 (dk_at dksX0_restore_0 10 rfl rfl)
theorem dX0_restore_11 : decode cX0_restore 11 = .ok (.aload_n 0, 1) := dk_42 (dk_at dksX0_restore_0 11 rfl rfl)
theorem dX0_restore_12 : decode cX0_restore 12 = .ok (.aload_n 0, 1) := dk_42 (dk_at dksX0_restore_0 12 rfl rfl)
theorem dX0_restore_13 : decode cX0_restore 13 = .ok (.getfield 293, 3) := dk_180 1 37 (dk_at dksX0_restore_0 13 rfl rfl)
theorem dX0_restore_16 : decode cX0_restore 16 = .ok (.invokevirtual 102, 3) := dk_182 0 102 (dk_at dksX0_restore_0 16 rfl rfl)
theorem dX0_restore_19 : decode cX0_restore 19 = .ok (.putfield 10, 3) := dk_181 0 10 (dk_at dksX0_restore_0 19 rfl rfl)
theorem dX0_restore_22 : decode cX0_restore 22 = .ok (.aload_n 0, 1) := dk_42 (dk_at dksX0_restore_0 22 rfl rfl)
theorem dX0_restore_23 : decode cX0_restore 23 = .ok (.getfield 19, 3) := dk_180 0 19 (dk_at dksX0_restore_1 0 rfl rfl)
theorem dX0_restore_26 : decode cX0_restore 26 = .ok (.invokevirtual 296, 3) := dk_182 1 40 (dk_at dksX0_restore_1 3 rfl rfl)
theorem dX0_restore_29 : decode cX0_restore 29 = .ok (.aload_n 0, 1) := dk_42 (dk_at dksX0_restore_1 6 rfl rfl)
theorem dX0_restore_30 : decode cX0_restore 30 = .ok (.getfield 10, 3) := dk_180 0 10 (dk_at dksX0_restore_1 7 rfl rfl)
theorem dX0_restore_33 : decode cX0_restore 33 = .ok (.getfield 123, 3) := dk_180 0 123 (dk_at dksX0_restore_1 10 rfl rfl)
theorem dX0_restore_36 : decode cX0_restore 36 = .ok (.invokevirtual 65, 3) := dk_182 0 65 (dk_at dksX0_restore_1 13 rfl rfl)
theorem dX0_restore_39 : decode cX0_restore 39 = .ok (.ireturn, 1) := dk_172 (dk_at dksX0_restore_1 16 rfl rfl)
theorem q79 : (Jvm.Cond.initialized "CandleStatute") ∈ lw_all := lw_g (lw_at lw_m1 1 rfl) rfl
theorem q116 : (Jvm.Cond.instantiable "CandleStatute" (7 : Nat)) ∈ lw_all := lw_g (lw_at lw_m1 38 rfl) rfl
theorem q118 : (Jvm.Cond.instanceMethod ({ cls := "CandleStatute", name := "<init>", desc := "()V" } : Jvm.MethodName)) ∈ lw_all := lw_g (lw_at lw_m1 40 rfl) rfl
theorem q119 : (Jvm.Cond.code ({ cls := "CandleStatute", name := "<init>", desc := "()V" } : Jvm.MethodName) prog_1_method_1_code (1 : Nat) (Option.none : Option Jvm.ClassFile.FieldType)) ∈ lw_all := lw_g (lw_at lw_m1 41 rfl) rfl
theorem q120 : (Jvm.Cond.methodLink "CandleStatute" (1 : Nat) ({ cls := "java/lang/Object", name := "<init>", desc := "()V" } : Jvm.MethodName)) ∈ lw_all := lw_g (lw_at lw_m1 42 rfl) rfl
theorem q123 : (Jvm.Cond.classLink "CandleStatute" (7 : Nat) "CandleStatute$Statute") ∈ lw_all := lw_g (lw_at lw_m1 45 rfl) rfl
theorem q125 : (Jvm.Cond.methodLink "CandleStatute" (9 : Nat) ({ cls := "CandleStatute$Statute", name := "<init>", desc := "()V" } : Jvm.MethodName)) ∈ lw_all := lw_g (lw_at lw_m1 47 rfl) rfl
theorem q181 : (Jvm.Cond.fieldLinkNest "CandleStatute" (123 : Nat) "CandleStatute$Statute" "stubs" "LCandleStatute$Row;" "CandleStatute") ∈ lw_tbl := lw_at lw_m1 103 rfl
theorem q183 : (Jvm.Cond.fieldLinkNest "CandleStatute" (268 : Nat) "CandleStatute$Statute" "brought" "I" "CandleStatute") ∈ lw_tbl := lw_at lw_m1 105 rfl
theorem q185 : (Jvm.Cond.fieldLinkNest "CandleStatute" (271 : Nat) "CandleStatute$Statute" "burnt" "I" "CandleStatute") ∈ lw_tbl := lw_at lw_m1 107 rfl
theorem q187 : (Jvm.Cond.fieldLinkNest "CandleStatute" (274 : Nat) "CandleStatute$Statute" "given" "I" "CandleStatute") ∈ lw_tbl := lw_at lw_m1 109 rfl
theorem q189 : (Jvm.Cond.fieldLinkNest "CandleStatute" (277 : Nat) "CandleStatute$Statute" "paid" "I" "CandleStatute") ∈ lw_tbl := lw_at lw_m1 111 rfl
theorem q191 : (Jvm.Cond.fieldLinkNest "CandleStatute" (283 : Nat) "CandleStatute$Statute" "hours" "I" "CandleStatute") ∈ lw_tbl := lw_at lw_m1 113 rfl
theorem q268 : (Jvm.Cond.selects "CandleStatute" ({ cls := "java/lang/Object", name := "getClass", desc := "()Ljava/lang/Class;" } : Jvm.MethodName) ({ cls := "java/lang/Object", name := "getClass", desc := "()Ljava/lang/Class;" } : Jvm.MethodName)) ∈ lw_all := lw_g (lw_at lw_m1 190 rfl) rfl
theorem q309 : (Jvm.Cond.classLink "CandleStatute" (16 : Nat) "java/util/ArrayDeque") ∈ lw_all := lw_g (lw_at lw_m1 231 rfl) rfl
theorem q311 : (Jvm.Cond.methodLink "CandleStatute" (18 : Nat) ({ cls := "java/util/ArrayDeque", name := "<init>", desc := "()V" } : Jvm.MethodName)) ∈ lw_all := lw_g (lw_at lw_m1 233 rfl) rfl
theorem q326 : (Jvm.Cond.classLink "CandleStatute" (30 : Nat) "java/lang/StringBuilder") ∈ lw_all := lw_g (lw_at lw_m2 8 rfl) rfl
theorem q328 : (Jvm.Cond.methodLink "CandleStatute" (32 : Nat) ({ cls := "java/lang/StringBuilder", name := "<init>", desc := "()V" } : Jvm.MethodName)) ∈ lw_all := lw_g (lw_at lw_m2 10 rfl) rfl
theorem q360 : (Jvm.Cond.stringRef "CandleStatute" (37 : Nat) "") ∈ lw_tbl := lw_at lw_m2 42 rfl
theorem q361 : (Jvm.Cond.fieldLink "CandleStatute" (10 : Nat) "CandleStatute" "statute" "LCandleStatute$Statute;") ∈ lw_all := lw_g (lw_at lw_m2 43 rfl) rfl
theorem q362 : (Jvm.Cond.fieldLink "CandleStatute" (293 : Nat) "CandleStatute" "saved" "LCandleStatute$Statute;") ∈ lw_all := lw_g (lw_at lw_m2 44 rfl) rfl
theorem q363 : (Jvm.Cond.fieldLink "CandleStatute" (19 : Nat) "CandleStatute" "past" "Ljava/util/ArrayDeque;") ∈ lw_all := lw_g (lw_at lw_m2 45 rfl) rfl
theorem q364 : (Jvm.Cond.fieldLink "CandleStatute" (23 : Nat) "CandleStatute" "reasons" "[I") ∈ lw_all := lw_g (lw_at lw_m2 46 rfl) rfl
theorem q365 : (Jvm.Cond.fieldLink "CandleStatute" (27 : Nat) "CandleStatute" "details" "[I") ∈ lw_all := lw_g (lw_at lw_m2 47 rfl) rfl
theorem q366 : (Jvm.Cond.fieldLink "CandleStatute" (33 : Nat) "CandleStatute" "text" "Ljava/lang/StringBuilder;") ∈ lw_all := lw_g (lw_at lw_m2 48 rfl) rfl
theorem q368 : (Jvm.Cond.fieldLink "CandleStatute" (39 : Nat) "CandleStatute" "line" "Ljava/lang/String;") ∈ lw_all := lw_g (lw_at lw_m2 50 rfl) rfl
theorem q369 : (Jvm.Cond.lays "CandleStatute" "CandleStatute" "statute" "LCandleStatute$Statute;") ∈ lw_all := lw_g (lw_at lw_m2 51 rfl) rfl
theorem q370 : (Jvm.Cond.soleField "CandleStatute" "statute") ∈ lw_all := lw_g (lw_at lw_m2 52 rfl) rfl
theorem q371 : (Jvm.Cond.lays "CandleStatute" "CandleStatute" "saved" "LCandleStatute$Statute;") ∈ lw_all := lw_g (lw_at lw_m2 53 rfl) rfl
theorem q372 : (Jvm.Cond.soleField "CandleStatute" "saved") ∈ lw_all := lw_g (lw_at lw_m2 54 rfl) rfl
theorem q373 : (Jvm.Cond.laysFinal "CandleStatute" "CandleStatute" "past" "Ljava/util/ArrayDeque;") ∈ lw_all := lw_g (lw_at lw_m2 55 rfl) rfl
theorem q374 : (Jvm.Cond.soleField "CandleStatute" "past") ∈ lw_all := lw_g (lw_at lw_m2 56 rfl) rfl
theorem q375 : (Jvm.Cond.laysFinal "CandleStatute" "CandleStatute" "reasons" "[I") ∈ lw_all := lw_g (lw_at lw_m2 57 rfl) rfl
theorem q376 : (Jvm.Cond.soleField "CandleStatute" "reasons") ∈ lw_all := lw_g (lw_at lw_m2 58 rfl) rfl
theorem q377 : (Jvm.Cond.laysFinal "CandleStatute" "CandleStatute" "details" "[I") ∈ lw_all := lw_g (lw_at lw_m2 59 rfl) rfl
theorem q378 : (Jvm.Cond.soleField "CandleStatute" "details") ∈ lw_all := lw_g (lw_at lw_m2 60 rfl) rfl
theorem q379 : (Jvm.Cond.laysFinal "CandleStatute" "CandleStatute" "text" "Ljava/lang/StringBuilder;") ∈ lw_all := lw_g (lw_at lw_m2 61 rfl) rfl
theorem q380 : (Jvm.Cond.soleField "CandleStatute" "text") ∈ lw_all := lw_g (lw_at lw_m2 62 rfl) rfl
theorem q381 : (Jvm.Cond.lays "CandleStatute" "CandleStatute" "line" "Ljava/lang/String;") ∈ lw_all := lw_g (lw_at lw_m2 63 rfl) rfl
theorem q382 : (Jvm.Cond.soleField "CandleStatute" "line") ∈ lw_all := lw_g (lw_at lw_m2 64 rfl) rfl
theorem q383 : (Jvm.Cond.superclass "CandleStatute" "java/lang/Object") ∈ lw_all := lw_g (lw_at lw_m2 65 rfl) rfl
theorem q385 : (Jvm.Cond.instanceMethod ({ cls := "CandleStatute", name := "stub", desc := "(III)I" } : Jvm.MethodName)) ∈ lw_all := lw_g (lw_at lw_m2 67 rfl) rfl
theorem q386 : (Jvm.Cond.selects "CandleStatute" ({ cls := "CandleStatute", name := "stub", desc := "(III)I" } : Jvm.MethodName) ({ cls := "CandleStatute", name := "stub", desc := "(III)I" } : Jvm.MethodName)) ∈ lw_all := lw_g (lw_at lw_m2 68 rfl) rfl
theorem q387 : (Jvm.Cond.codeWith ({ cls := "CandleStatute", name := "stub", desc := "(III)I" } : Jvm.MethodName) prog_1_method_13_code (6 : Nat) (Option.some Jvm.ClassFile.FieldType.int) [((38 : Nat), (61 : Nat), (62 : Nat), (47 : Nat))]) ∈ lw_all := lw_g (lw_at lw_m2 69 rfl) rfl
theorem q388 : (Jvm.Cond.classLink "CandleStatute" (47 : Nat) "CandleStatute$Refused") ∈ lw_all := lw_g (lw_at lw_m2 70 rfl) rfl
theorem q389 : (Jvm.Cond.methodLink "CandleStatute" (92 : Nat) ({ cls := "CandleStatute", name := "isHouse", desc := "(I)Z" } : Jvm.MethodName)) ∈ lw_all := lw_g (lw_at lw_m2 71 rfl) rfl
theorem q390 : (Jvm.Cond.static ({ cls := "CandleStatute", name := "isHouse", desc := "(I)Z" } : Jvm.MethodName)) ∈ lw_all := lw_g (lw_at lw_m2 72 rfl) rfl
theorem q391 : (Jvm.Cond.code ({ cls := "CandleStatute", name := "isHouse", desc := "(I)Z" } : Jvm.MethodName) prog_1_method_3_code (1 : Nat) (Option.some Jvm.ClassFile.FieldType.boolean)) ∈ lw_all := lw_g (lw_at lw_m2 73 rfl) rfl
theorem q392 : (Jvm.Cond.methodLink "CandleStatute" (43 : Nat) ({ cls := "CandleStatute", name := "isIn", desc := "(III)Z" } : Jvm.MethodName)) ∈ lw_all := lw_g (lw_at lw_m2 74 rfl) rfl
theorem q393 : (Jvm.Cond.static ({ cls := "CandleStatute", name := "isIn", desc := "(III)Z" } : Jvm.MethodName)) ∈ lw_all := lw_g (lw_at lw_m2 75 rfl) rfl
theorem q394 : (Jvm.Cond.code ({ cls := "CandleStatute", name := "isIn", desc := "(III)Z" } : Jvm.MethodName) prog_1_method_2_code (3 : Nat) (Option.some Jvm.ClassFile.FieldType.boolean)) ∈ lw_all := lw_g (lw_at lw_m2 76 rfl) rfl
theorem q395 : (Jvm.Cond.methodLink "CandleStatute" (96 : Nat) ({ cls := "CandleStatute", name := "isWax", desc := "(I)Z" } : Jvm.MethodName)) ∈ lw_all := lw_g (lw_at lw_m2 77 rfl) rfl
theorem q396 : (Jvm.Cond.static ({ cls := "CandleStatute", name := "isWax", desc := "(I)Z" } : Jvm.MethodName)) ∈ lw_all := lw_g (lw_at lw_m2 78 rfl) rfl
theorem q397 : (Jvm.Cond.code ({ cls := "CandleStatute", name := "isWax", desc := "(I)Z" } : Jvm.MethodName) prog_1_method_4_code (1 : Nat) (Option.some Jvm.ClassFile.FieldType.boolean)) ∈ lw_all := lw_g (lw_at lw_m2 79 rfl) rfl
theorem q398 : (Jvm.Cond.methodLink "CandleStatute" (99 : Nat) ({ cls := "CandleStatute", name := "isWick", desc := "(I)Z" } : Jvm.MethodName)) ∈ lw_all := lw_g (lw_at lw_m2 80 rfl) rfl
theorem q399 : (Jvm.Cond.static ({ cls := "CandleStatute", name := "isWick", desc := "(I)Z" } : Jvm.MethodName)) ∈ lw_all := lw_g (lw_at lw_m2 81 rfl) rfl
theorem q400 : (Jvm.Cond.code ({ cls := "CandleStatute", name := "isWick", desc := "(I)Z" } : Jvm.MethodName) prog_1_method_5_code (1 : Nat) (Option.some Jvm.ClassFile.FieldType.boolean)) ∈ lw_all := lw_g (lw_at lw_m2 82 rfl) rfl
theorem q401 : (Jvm.Cond.methodLink "CandleStatute" (102 : Nat) ({ cls := "CandleStatute$Statute", name := "copy", desc := "()LCandleStatute$Statute;" } : Jvm.MethodName)) ∈ lw_all := lw_g (lw_at lw_m2 83 rfl) rfl
theorem q548 : (Jvm.Cond.classLink "CandleStatute" (106 : Nat) "CandleStatute$Stub") ∈ lw_all := lw_g (lw_at lw_m2 230 rfl) rfl
theorem q549 : (Jvm.Cond.methodLink "CandleStatute" (108 : Nat) ({ cls := "CandleStatute$Stub", name := "<init>", desc := "(III)V" } : Jvm.MethodName)) ∈ lw_all := lw_g (lw_at lw_m2 231 rfl) rfl
theorem q550 : (Jvm.Cond.methodLink "CandleStatute" (111 : Nat) ({ cls := "CandleStatute$Statute", name := "brings", desc := "(LCandleStatute$Stub;)I" } : Jvm.MethodName)) ∈ lw_all := lw_g (lw_at lw_m2 232 rfl) rfl
theorem q577 : (Jvm.Cond.static ({ cls := "CandleStatute", name := "refuse", desc := "(ZII)V" } : Jvm.MethodName)) ∈ lw_all := lw_g (lw_at lw_m3 19 rfl) rfl
theorem q578 : (Jvm.Cond.code ({ cls := "CandleStatute", name := "refuse", desc := "(ZII)V" } : Jvm.MethodName) prog_1_method_9_code (3 : Nat) (Option.none : Option Jvm.ClassFile.FieldType)) ∈ lw_all := lw_g (lw_at lw_m3 20 rfl) rfl
theorem q618 : (Jvm.Cond.methodLink "CandleStatute" (49 : Nat) ({ cls := "CandleStatute$Refused", name := "<init>", desc := "(II)V" } : Jvm.MethodName)) ∈ lw_all := lw_g (lw_at lw_m3 60 rfl) rfl
theorem q631 : (Jvm.Cond.fieldLinkNest "CandleStatute" (52 : Nat) "CandleStatute$Refused" "reason" "I" "CandleStatute") ∈ lw_tbl := lw_at lw_m3 73 rfl
theorem q633 : (Jvm.Cond.fieldLinkNest "CandleStatute" (56 : Nat) "CandleStatute$Refused" "detail" "I" "CandleStatute") ∈ lw_tbl := lw_at lw_m3 75 rfl
theorem q677 : (Jvm.Cond.methodLink "CandleStatute" (115 : Nat) ({ cls := "CandleStatute", name := "changed", desc := "(LCandleStatute$Statute;I)I" } : Jvm.MethodName)) ∈ lw_all := lw_g (lw_at lw_m3 119 rfl) rfl
theorem q678 : (Jvm.Cond.privateMethod ({ cls := "CandleStatute", name := "changed", desc := "(LCandleStatute$Statute;I)I" } : Jvm.MethodName)) ∈ lw_tbl := lw_at lw_m3 120 rfl
theorem q679 : (Jvm.Cond.instanceMethod ({ cls := "CandleStatute", name := "changed", desc := "(LCandleStatute$Statute;I)I" } : Jvm.MethodName)) ∈ lw_all := lw_g (lw_at lw_m3 121 rfl) rfl
theorem q680 : (Jvm.Cond.code ({ cls := "CandleStatute", name := "changed", desc := "(LCandleStatute$Statute;I)I" } : Jvm.MethodName) prog_1_method_12_code (3 : Nat) (Option.some Jvm.ClassFile.FieldType.int)) ∈ lw_all := lw_g (lw_at lw_m3 122 rfl) rfl
theorem q681 : (Jvm.Cond.methodLink "CandleStatute" (81 : Nat) ({ cls := "java/util/ArrayDeque", name := "addLast", desc := "(Ljava/lang/Object;)V" } : Jvm.MethodName)) ∈ lw_all := lw_g (lw_at lw_m3 123 rfl) rfl
theorem q700 : (Jvm.Cond.methodLink "CandleStatute" (85 : Nat) ({ cls := "java/util/ArrayDeque", name := "size", desc := "()I" } : Jvm.MethodName)) ∈ lw_all := lw_g (lw_at lw_m3 142 rfl) rfl
theorem q707 : (Jvm.Cond.methodLink "CandleStatute" (88 : Nat) ({ cls := "java/util/ArrayDeque", name := "removeFirst", desc := "()Ljava/lang/Object;" } : Jvm.MethodName)) ∈ lw_all := lw_g (lw_at lw_m3 149 rfl) rfl
theorem q718 : (Jvm.Cond.methodLink "CandleStatute" (119 : Nat) ({ cls := "CandleStatute", name := "refused", desc := "(LCandleStatute$Refused;)I" } : Jvm.MethodName)) ∈ lw_all := lw_g (lw_at lw_m3 160 rfl) rfl
theorem q719 : (Jvm.Cond.privateMethod ({ cls := "CandleStatute", name := "refused", desc := "(LCandleStatute$Refused;)I" } : Jvm.MethodName)) ∈ lw_tbl := lw_at lw_m3 161 rfl
theorem q720 : (Jvm.Cond.instanceMethod ({ cls := "CandleStatute", name := "refused", desc := "(LCandleStatute$Refused;)I" } : Jvm.MethodName)) ∈ lw_all := lw_g (lw_at lw_m3 162 rfl) rfl
theorem q721 : (Jvm.Cond.code ({ cls := "CandleStatute", name := "refused", desc := "(LCandleStatute$Refused;)I" } : Jvm.MethodName) prog_1_method_10_code (5 : Nat) (Option.some Jvm.ClassFile.FieldType.int)) ∈ lw_all := lw_g (lw_at lw_m3 163 rfl) rfl
theorem q722 : (Jvm.Cond.methodLink "CandleStatute" (59 : Nat) ({ cls := "java/lang/Throwable", name := "getCause", desc := "()Ljava/lang/Throwable;" } : Jvm.MethodName)) ∈ lw_all := lw_g (lw_at lw_m3 164 rfl) rfl
theorem q731 : (Jvm.Cond.instanceMethod ({ cls := "CandleStatute", name := "burn", desc := "(II)I" } : Jvm.MethodName)) ∈ lw_all := lw_g (lw_at lw_m3 173 rfl) rfl
theorem q732 : (Jvm.Cond.selects "CandleStatute" ({ cls := "CandleStatute", name := "burn", desc := "(II)I" } : Jvm.MethodName) ({ cls := "CandleStatute", name := "burn", desc := "(II)I" } : Jvm.MethodName)) ∈ lw_all := lw_g (lw_at lw_m3 174 rfl) rfl
theorem q733 : (Jvm.Cond.codeWith ({ cls := "CandleStatute", name := "burn", desc := "(II)I" } : Jvm.MethodName) prog_1_method_14_code (5 : Nat) (Option.some Jvm.ClassFile.FieldType.int) [((37 : Nat), (51 : Nat), (52 : Nat), (47 : Nat))]) ∈ lw_all := lw_g (lw_at lw_m3 175 rfl) rfl
theorem q734 : (Jvm.Cond.methodLink "CandleStatute" (127 : Nat) ({ cls := "CandleStatute$Row", name := "has", desc := "(I)Z" } : Jvm.MethodName)) ∈ lw_all := lw_g (lw_at lw_m3 176 rfl) rfl
theorem q739 : (Jvm.Cond.methodLink "CandleStatute" (130 : Nat) ({ cls := "CandleStatute", name := "isBurning", desc := "(I)Z" } : Jvm.MethodName)) ∈ lw_all := lw_g (lw_at lw_m3 181 rfl) rfl
theorem q740 : (Jvm.Cond.static ({ cls := "CandleStatute", name := "isBurning", desc := "(I)Z" } : Jvm.MethodName)) ∈ lw_all := lw_g (lw_at lw_m3 182 rfl) rfl
theorem q741 : (Jvm.Cond.code ({ cls := "CandleStatute", name := "isBurning", desc := "(I)Z" } : Jvm.MethodName) prog_1_method_6_code (1 : Nat) (Option.some Jvm.ClassFile.FieldType.boolean)) ∈ lw_all := lw_g (lw_at lw_m3 183 rfl) rfl
theorem q742 : (Jvm.Cond.methodLink "CandleStatute" (133 : Nat) ({ cls := "CandleStatute$Statute", name := "burns", desc := "(II)I" } : Jvm.MethodName)) ∈ lw_all := lw_g (lw_at lw_m3 184 rfl) rfl
theorem q813 : (Jvm.Cond.instanceMethod ({ cls := "CandleStatute", name := "owe", desc := "(III)I" } : Jvm.MethodName)) ∈ lw_all := lw_g (lw_at lw_m4 15 rfl) rfl
theorem q814 : (Jvm.Cond.selects "CandleStatute" ({ cls := "CandleStatute", name := "owe", desc := "(III)I" } : Jvm.MethodName) ({ cls := "CandleStatute", name := "owe", desc := "(III)I" } : Jvm.MethodName)) ∈ lw_all := lw_g (lw_at lw_m4 16 rfl) rfl
theorem q815 : (Jvm.Cond.codeWith ({ cls := "CandleStatute", name := "owe", desc := "(III)I" } : Jvm.MethodName) prog_1_method_15_code (6 : Nat) (Option.some Jvm.ClassFile.FieldType.int) [((45 : Nat), (61 : Nat), (62 : Nat), (47 : Nat))]) ∈ lw_all := lw_g (lw_at lw_m4 17 rfl) rfl
theorem q816 : (Jvm.Cond.methodLink "CandleStatute" (137 : Nat) ({ cls := "CandleStatute", name := "isLight", desc := "(I)Z" } : Jvm.MethodName)) ∈ lw_all := lw_g (lw_at lw_m4 18 rfl) rfl
theorem q817 : (Jvm.Cond.static ({ cls := "CandleStatute", name := "isLight", desc := "(I)Z" } : Jvm.MethodName)) ∈ lw_all := lw_g (lw_at lw_m4 19 rfl) rfl
theorem q818 : (Jvm.Cond.code ({ cls := "CandleStatute", name := "isLight", desc := "(I)Z" } : Jvm.MethodName) prog_1_method_7_code (1 : Nat) (Option.some Jvm.ClassFile.FieldType.boolean)) ∈ lw_all := lw_g (lw_at lw_m4 20 rfl) rfl
theorem q819 : (Jvm.Cond.methodLink "CandleStatute" (140 : Nat) ({ cls := "CandleStatute$Statute", name := "owes", desc := "(III)I" } : Jvm.MethodName)) ∈ lw_all := lw_g (lw_at lw_m4 21 rfl) rfl
theorem q828 : (Jvm.Cond.instanceMethod ({ cls := "CandleStatute", name := "writ", desc := "(III)I" } : Jvm.MethodName)) ∈ lw_all := lw_g (lw_at lw_m4 30 rfl) rfl
theorem q829 : (Jvm.Cond.selects "CandleStatute" ({ cls := "CandleStatute", name := "writ", desc := "(III)I" } : Jvm.MethodName) ({ cls := "CandleStatute", name := "writ", desc := "(III)I" } : Jvm.MethodName)) ∈ lw_all := lw_g (lw_at lw_m4 31 rfl) rfl
theorem q830 : (Jvm.Cond.codeWith ({ cls := "CandleStatute", name := "writ", desc := "(III)I" } : Jvm.MethodName) prog_1_method_16_code (6 : Nat) (Option.some Jvm.ClassFile.FieldType.int) [((45 : Nat), (61 : Nat), (62 : Nat), (47 : Nat))]) ∈ lw_all := lw_g (lw_at lw_m4 32 rfl) rfl
theorem q831 : (Jvm.Cond.methodLink "CandleStatute" (144 : Nat) ({ cls := "CandleStatute", name := "isTime", desc := "(I)Z" } : Jvm.MethodName)) ∈ lw_all := lw_g (lw_at lw_m4 33 rfl) rfl
theorem q832 : (Jvm.Cond.static ({ cls := "CandleStatute", name := "isTime", desc := "(I)Z" } : Jvm.MethodName)) ∈ lw_all := lw_g (lw_at lw_m4 34 rfl) rfl
theorem q833 : (Jvm.Cond.code ({ cls := "CandleStatute", name := "isTime", desc := "(I)Z" } : Jvm.MethodName) prog_1_method_8_code (1 : Nat) (Option.some Jvm.ClassFile.FieldType.boolean)) ∈ lw_all := lw_g (lw_at lw_m4 35 rfl) rfl
theorem q834 : (Jvm.Cond.methodLink "CandleStatute" (147 : Nat) ({ cls := "CandleStatute$Statute", name := "snuffs", desc := "(III)I" } : Jvm.MethodName)) ∈ lw_all := lw_g (lw_at lw_m4 36 rfl) rfl
theorem q847 : (Jvm.Cond.instanceMethod ({ cls := "CandleStatute", name := "stubOf", desc := "(II)I" } : Jvm.MethodName)) ∈ lw_all := lw_g (lw_at lw_m4 49 rfl) rfl
theorem q848 : (Jvm.Cond.selects "CandleStatute" ({ cls := "CandleStatute", name := "stubOf", desc := "(II)I" } : Jvm.MethodName) ({ cls := "CandleStatute", name := "stubOf", desc := "(II)I" } : Jvm.MethodName)) ∈ lw_all := lw_g (lw_at lw_m4 50 rfl) rfl
theorem q849 : (Jvm.Cond.code ({ cls := "CandleStatute", name := "stubOf", desc := "(II)I" } : Jvm.MethodName) prog_1_method_17_code (3 : Nat) (Option.some Jvm.ClassFile.FieldType.int)) ∈ lw_all := lw_g (lw_at lw_m4 51 rfl) rfl
theorem q850 : (Jvm.Cond.methodLink "CandleStatute" (150 : Nat) ({ cls := "CandleStatute$Statute", name := "ofStub", desc := "(II)I" } : Jvm.MethodName)) ∈ lw_all := lw_g (lw_at lw_m4 52 rfl) rfl
theorem q855 : (Jvm.Cond.instanceMethod ({ cls := "CandleStatute", name := "pool", desc := "(II)I" } : Jvm.MethodName)) ∈ lw_all := lw_g (lw_at lw_m4 57 rfl) rfl
theorem q856 : (Jvm.Cond.selects "CandleStatute" ({ cls := "CandleStatute", name := "pool", desc := "(II)I" } : Jvm.MethodName) ({ cls := "CandleStatute", name := "pool", desc := "(II)I" } : Jvm.MethodName)) ∈ lw_all := lw_g (lw_at lw_m4 58 rfl) rfl
theorem q857 : (Jvm.Cond.codeWith ({ cls := "CandleStatute", name := "pool", desc := "(II)I" } : Jvm.MethodName) prog_1_method_18_code (5 : Nat) (Option.some Jvm.ClassFile.FieldType.int) [((37 : Nat), (51 : Nat), (52 : Nat), (47 : Nat))]) ∈ lw_all := lw_g (lw_at lw_m4 59 rfl) rfl
theorem q858 : (Jvm.Cond.methodLink "CandleStatute" (153 : Nat) ({ cls := "CandleStatute$Statute", name := "pools", desc := "(II)I" } : Jvm.MethodName)) ∈ lw_all := lw_g (lw_at lw_m4 60 rfl) rfl
theorem q867 : (Jvm.Cond.instanceMethod ({ cls := "CandleStatute", name := "share", desc := "()I" } : Jvm.MethodName)) ∈ lw_all := lw_g (lw_at lw_m4 69 rfl) rfl
theorem q868 : (Jvm.Cond.selects "CandleStatute" ({ cls := "CandleStatute", name := "share", desc := "()I" } : Jvm.MethodName) ({ cls := "CandleStatute", name := "share", desc := "()I" } : Jvm.MethodName)) ∈ lw_all := lw_g (lw_at lw_m4 70 rfl) rfl
theorem q869 : (Jvm.Cond.codeWith ({ cls := "CandleStatute", name := "share", desc := "()I" } : Jvm.MethodName) prog_1_method_19_code (3 : Nat) (Option.some Jvm.ClassFile.FieldType.int) [((8 : Nat), (20 : Nat), (21 : Nat), (47 : Nat))]) ∈ lw_all := lw_g (lw_at lw_m4 71 rfl) rfl
theorem q870 : (Jvm.Cond.methodLink "CandleStatute" (156 : Nat) ({ cls := "CandleStatute$Statute", name := "shares", desc := "()I" } : Jvm.MethodName)) ∈ lw_all := lw_g (lw_at lw_m4 72 rfl) rfl
theorem q893 : (Jvm.Cond.instanceMethod ({ cls := "CandleStatute", name := "part", desc := "(I)I" } : Jvm.MethodName)) ∈ lw_all := lw_g (lw_at lw_m4 95 rfl) rfl
theorem q894 : (Jvm.Cond.selects "CandleStatute" ({ cls := "CandleStatute", name := "part", desc := "(I)I" } : Jvm.MethodName) ({ cls := "CandleStatute", name := "part", desc := "(I)I" } : Jvm.MethodName)) ∈ lw_all := lw_g (lw_at lw_m4 96 rfl) rfl
theorem q895 : (Jvm.Cond.code ({ cls := "CandleStatute", name := "part", desc := "(I)I" } : Jvm.MethodName) prog_1_method_20_code (2 : Nat) (Option.some Jvm.ClassFile.FieldType.int)) ∈ lw_all := lw_g (lw_at lw_m4 97 rfl) rfl
theorem q896 : (Jvm.Cond.methodLink "CandleStatute" (159 : Nat) ({ cls := "CandleStatute$Statute", name := "parts", desc := "()[I" } : Jvm.MethodName)) ∈ lw_all := lw_g (lw_at lw_m4 98 rfl) rfl
theorem q898 : (Jvm.Cond.instanceMethod ({ cls := "CandleStatute", name := "partAgain", desc := "(I)I" } : Jvm.MethodName)) ∈ lw_all := lw_g (lw_at lw_m4 100 rfl) rfl
theorem q899 : (Jvm.Cond.selects "CandleStatute" ({ cls := "CandleStatute", name := "partAgain", desc := "(I)I" } : Jvm.MethodName) ({ cls := "CandleStatute", name := "partAgain", desc := "(I)I" } : Jvm.MethodName)) ∈ lw_all := lw_g (lw_at lw_m4 101 rfl) rfl
theorem q900 : (Jvm.Cond.code ({ cls := "CandleStatute", name := "partAgain", desc := "(I)I" } : Jvm.MethodName) prog_1_method_21_code (2 : Nat) (Option.some Jvm.ClassFile.FieldType.int)) ∈ lw_all := lw_g (lw_at lw_m4 102 rfl) rfl
theorem q901 : (Jvm.Cond.methodLink "CandleStatute" (163 : Nat) ({ cls := "CandleStatute$Statute", name := "partsAgain", desc := "()[I" } : Jvm.MethodName)) ∈ lw_all := lw_g (lw_at lw_m4 103 rfl) rfl
theorem q906 : (Jvm.Cond.instanceMethod ({ cls := "CandleStatute", name := "mould", desc := "(III)I" } : Jvm.MethodName)) ∈ lw_all := lw_g (lw_at lw_m4 108 rfl) rfl
theorem q907 : (Jvm.Cond.selects "CandleStatute" ({ cls := "CandleStatute", name := "mould", desc := "(III)I" } : Jvm.MethodName) ({ cls := "CandleStatute", name := "mould", desc := "(III)I" } : Jvm.MethodName)) ∈ lw_all := lw_g (lw_at lw_m4 109 rfl) rfl
theorem q908 : (Jvm.Cond.codeWith ({ cls := "CandleStatute", name := "mould", desc := "(III)I" } : Jvm.MethodName) prog_1_method_22_code (6 : Nat) (Option.some Jvm.ClassFile.FieldType.int) [((38 : Nat), (61 : Nat), (62 : Nat), (47 : Nat))]) ∈ lw_all := lw_g (lw_at lw_m4 110 rfl) rfl
theorem q909 : (Jvm.Cond.methodLink "CandleStatute" (166 : Nat) ({ cls := "CandleStatute$Statute", name := "moulds", desc := "(LCandleStatute$Stub;)I" } : Jvm.MethodName)) ∈ lw_all := lw_g (lw_at lw_m4 111 rfl) rfl
theorem q914 : (Jvm.Cond.instanceMethod ({ cls := "CandleStatute", name := "heir", desc := "(II)I" } : Jvm.MethodName)) ∈ lw_all := lw_g (lw_at lw_m4 116 rfl) rfl
theorem q915 : (Jvm.Cond.selects "CandleStatute" ({ cls := "CandleStatute", name := "heir", desc := "(II)I" } : Jvm.MethodName) ({ cls := "CandleStatute", name := "heir", desc := "(II)I" } : Jvm.MethodName)) ∈ lw_all := lw_g (lw_at lw_m4 117 rfl) rfl
theorem q916 : (Jvm.Cond.codeWith ({ cls := "CandleStatute", name := "heir", desc := "(II)I" } : Jvm.MethodName) prog_1_method_23_code (5 : Nat) (Option.some Jvm.ClassFile.FieldType.int) [((26 : Nat), (40 : Nat), (41 : Nat), (47 : Nat))]) ∈ lw_all := lw_g (lw_at lw_m4 118 rfl) rfl
theorem q917 : (Jvm.Cond.methodLink "CandleStatute" (169 : Nat) ({ cls := "CandleStatute$Statute", name := "tellsHeir", desc := "(II)I" } : Jvm.MethodName)) ∈ lw_all := lw_g (lw_at lw_m4 119 rfl) rfl
theorem q922 : (Jvm.Cond.instanceMethod ({ cls := "CandleStatute", name := "end", desc := "(I)I" } : Jvm.MethodName)) ∈ lw_all := lw_g (lw_at lw_m4 124 rfl) rfl
theorem q923 : (Jvm.Cond.selects "CandleStatute" ({ cls := "CandleStatute", name := "end", desc := "(I)I" } : Jvm.MethodName) ({ cls := "CandleStatute", name := "end", desc := "(I)I" } : Jvm.MethodName)) ∈ lw_all := lw_g (lw_at lw_m4 125 rfl) rfl
theorem q924 : (Jvm.Cond.codeWith ({ cls := "CandleStatute", name := "end", desc := "(I)I" } : Jvm.MethodName) prog_1_method_24_code (4 : Nat) (Option.some Jvm.ClassFile.FieldType.int) [((19 : Nat), (32 : Nat), (33 : Nat), (47 : Nat))]) ∈ lw_all := lw_g (lw_at lw_m4 126 rfl) rfl
theorem q925 : (Jvm.Cond.methodLink "CandleStatute" (172 : Nat) ({ cls := "CandleStatute$Statute", name := "ends", desc := "(I)I" } : Jvm.MethodName)) ∈ lw_all := lw_g (lw_at lw_m4 127 rfl) rfl
theorem q964 : (Jvm.Cond.instanceMethod ({ cls := "CandleStatute", name := "pass", desc := "(I)I" } : Jvm.MethodName)) ∈ lw_all := lw_g (lw_at lw_m4 166 rfl) rfl
theorem q965 : (Jvm.Cond.selects "CandleStatute" ({ cls := "CandleStatute", name := "pass", desc := "(I)I" } : Jvm.MethodName) ({ cls := "CandleStatute", name := "pass", desc := "(I)I" } : Jvm.MethodName)) ∈ lw_all := lw_g (lw_at lw_m4 167 rfl) rfl
theorem q966 : (Jvm.Cond.code ({ cls := "CandleStatute", name := "pass", desc := "(I)I" } : Jvm.MethodName) prog_1_method_25_code (3 : Nat) (Option.some Jvm.ClassFile.FieldType.int)) ∈ lw_all := lw_g (lw_at lw_m4 168 rfl) rfl
theorem q967 : (Jvm.Cond.methodLink "CandleStatute" (176 : Nat) ({ cls := "CandleStatute$Statute", name := "passes", desc := "(I)I" } : Jvm.MethodName)) ∈ lw_all := lw_g (lw_at lw_m4 169 rfl) rfl
theorem q976 : (Jvm.Cond.instanceMethod ({ cls := "CandleStatute", name := "houseOf", desc := "(II)I" } : Jvm.MethodName)) ∈ lw_all := lw_g (lw_at lw_m4 178 rfl) rfl
theorem q977 : (Jvm.Cond.selects "CandleStatute" ({ cls := "CandleStatute", name := "houseOf", desc := "(II)I" } : Jvm.MethodName) ({ cls := "CandleStatute", name := "houseOf", desc := "(II)I" } : Jvm.MethodName)) ∈ lw_all := lw_g (lw_at lw_m4 179 rfl) rfl
theorem q978 : (Jvm.Cond.code ({ cls := "CandleStatute", name := "houseOf", desc := "(II)I" } : Jvm.MethodName) prog_1_method_26_code (3 : Nat) (Option.some Jvm.ClassFile.FieldType.int)) ∈ lw_all := lw_g (lw_at lw_m4 180 rfl) rfl
theorem q979 : (Jvm.Cond.methodLink "CandleStatute" (179 : Nat) ({ cls := "CandleStatute$Statute", name := "ofHouse", desc := "(II)I" } : Jvm.MethodName)) ∈ lw_all := lw_g (lw_at lw_m4 181 rfl) rfl
theorem q992 : (Jvm.Cond.instanceMethod ({ cls := "CandleStatute", name := "inherits", desc := "(I)I" } : Jvm.MethodName)) ∈ lw_all := lw_g (lw_at lw_m4 194 rfl) rfl
theorem q993 : (Jvm.Cond.selects "CandleStatute" ({ cls := "CandleStatute", name := "inherits", desc := "(I)I" } : Jvm.MethodName) ({ cls := "CandleStatute", name := "inherits", desc := "(I)I" } : Jvm.MethodName)) ∈ lw_all := lw_g (lw_at lw_m4 195 rfl) rfl
theorem q994 : (Jvm.Cond.code ({ cls := "CandleStatute", name := "inherits", desc := "(I)I" } : Jvm.MethodName) prog_1_method_27_code (2 : Nat) (Option.some Jvm.ClassFile.FieldType.int)) ∈ lw_all := lw_g (lw_at lw_m4 196 rfl) rfl
theorem q995 : (Jvm.Cond.methodLink "CandleStatute" (182 : Nat) ({ cls := "CandleStatute$Statute", name := "inherits", desc := "(I)I" } : Jvm.MethodName)) ∈ lw_all := lw_g (lw_at lw_m4 197 rfl) rfl
theorem q1000 : (Jvm.Cond.instanceMethod ({ cls := "CandleStatute", name := "wouldMelt", desc := "(I)I" } : Jvm.MethodName)) ∈ lw_all := lw_g (lw_at lw_m4 202 rfl) rfl
theorem q1001 : (Jvm.Cond.selects "CandleStatute" ({ cls := "CandleStatute", name := "wouldMelt", desc := "(I)I" } : Jvm.MethodName) ({ cls := "CandleStatute", name := "wouldMelt", desc := "(I)I" } : Jvm.MethodName)) ∈ lw_all := lw_g (lw_at lw_m4 203 rfl) rfl
theorem q1002 : (Jvm.Cond.code ({ cls := "CandleStatute", name := "wouldMelt", desc := "(I)I" } : Jvm.MethodName) prog_1_method_28_code (2 : Nat) (Option.some Jvm.ClassFile.FieldType.int)) ∈ lw_all := lw_g (lw_at lw_m4 204 rfl) rfl
theorem q1003 : (Jvm.Cond.methodLink "CandleStatute" (185 : Nat) ({ cls := "CandleStatute$Statute", name := "wouldMelt", desc := "(I)I" } : Jvm.MethodName)) ∈ lw_all := lw_g (lw_at lw_m4 205 rfl) rfl
theorem q1011 : (Jvm.Cond.instanceMethod ({ cls := "CandleStatute", name := "weight", desc := "(I)I" } : Jvm.MethodName)) ∈ lw_all := lw_g (lw_at lw_m4 213 rfl) rfl
theorem q1012 : (Jvm.Cond.selects "CandleStatute" ({ cls := "CandleStatute", name := "weight", desc := "(I)I" } : Jvm.MethodName) ({ cls := "CandleStatute", name := "weight", desc := "(I)I" } : Jvm.MethodName)) ∈ lw_all := lw_g (lw_at lw_m4 214 rfl) rfl
theorem q1013 : (Jvm.Cond.code ({ cls := "CandleStatute", name := "weight", desc := "(I)I" } : Jvm.MethodName) prog_1_method_29_code (2 : Nat) (Option.some Jvm.ClassFile.FieldType.int)) ∈ lw_all := lw_g (lw_at lw_m4 215 rfl) rfl
theorem q1014 : (Jvm.Cond.methodLink "CandleStatute" (188 : Nat) ({ cls := "CandleStatute$Statute", name := "weight", desc := "(I)I" } : Jvm.MethodName)) ∈ lw_all := lw_g (lw_at lw_m4 216 rfl) rfl
theorem q1016 : (Jvm.Cond.instanceMethod ({ cls := "CandleStatute", name := "weightAgain", desc := "(I)I" } : Jvm.MethodName)) ∈ lw_all := lw_g (lw_at lw_m4 218 rfl) rfl
theorem q1017 : (Jvm.Cond.selects "CandleStatute" ({ cls := "CandleStatute", name := "weightAgain", desc := "(I)I" } : Jvm.MethodName) ({ cls := "CandleStatute", name := "weightAgain", desc := "(I)I" } : Jvm.MethodName)) ∈ lw_all := lw_g (lw_at lw_m4 219 rfl) rfl
theorem q1018 : (Jvm.Cond.code ({ cls := "CandleStatute", name := "weightAgain", desc := "(I)I" } : Jvm.MethodName) prog_1_method_30_code (2 : Nat) (Option.some Jvm.ClassFile.FieldType.int)) ∈ lw_all := lw_g (lw_at lw_m4 220 rfl) rfl
theorem q1019 : (Jvm.Cond.methodLink "CandleStatute" (191 : Nat) ({ cls := "CandleStatute$Statute", name := "weightAgain", desc := "(I)I" } : Jvm.MethodName)) ∈ lw_all := lw_g (lw_at lw_m4 221 rfl) rfl
theorem q1024 : (Jvm.Cond.instanceMethod ({ cls := "CandleStatute", name := "ranked", desc := "(I)I" } : Jvm.MethodName)) ∈ lw_all := lw_g (lw_at lw_m4 226 rfl) rfl
theorem q1025 : (Jvm.Cond.selects "CandleStatute" ({ cls := "CandleStatute", name := "ranked", desc := "(I)I" } : Jvm.MethodName) ({ cls := "CandleStatute", name := "ranked", desc := "(I)I" } : Jvm.MethodName)) ∈ lw_all := lw_g (lw_at lw_m4 227 rfl) rfl
theorem q1026 : (Jvm.Cond.code ({ cls := "CandleStatute", name := "ranked", desc := "(I)I" } : Jvm.MethodName) prog_1_method_31_code (2 : Nat) (Option.some Jvm.ClassFile.FieldType.int)) ∈ lw_all := lw_g (lw_at lw_m4 228 rfl) rfl
theorem q1027 : (Jvm.Cond.methodLink "CandleStatute" (194 : Nat) ({ cls := "CandleStatute$Statute", name := "rankedHouse", desc := "(I)I" } : Jvm.MethodName)) ∈ lw_all := lw_g (lw_at lw_m4 229 rfl) rfl
theorem q1034 : (Jvm.Cond.static ({ cls := "CandleStatute", name := "ranked", desc := "(LCandleStatute$Row;I)I" } : Jvm.MethodName)) ∈ lw_all := lw_g (lw_at lw_m4 236 rfl) rfl
theorem q1035 : (Jvm.Cond.code ({ cls := "CandleStatute", name := "ranked", desc := "(LCandleStatute$Row;I)I" } : Jvm.MethodName) prog_1_method_11_code (6 : Nat) (Option.some Jvm.ClassFile.FieldType.int)) ∈ lw_all := lw_g (lw_at lw_m4 237 rfl) rfl
theorem q1036 : (Jvm.Cond.methodLink "CandleStatute" (65 : Nat) ({ cls := "CandleStatute$Row", name := "many", desc := "()I" } : Jvm.MethodName)) ∈ lw_all := lw_g (lw_at lw_m4 238 rfl) rfl
theorem q1037 : (Jvm.Cond.methodLink "CandleStatute" (71 : Nat) ({ cls := "CandleStatute$Row", name := "get", desc := "(I)LCandleStatute$Copied;" } : Jvm.MethodName)) ∈ lw_all := lw_g (lw_at lw_m4 239 rfl) rfl
theorem q1038 : (Jvm.Cond.classLink "CandleStatute" (75 : Nat) "CandleStatute$Ordered") ∈ lw_all := lw_g (lw_at lw_m5 0 rfl) rfl
theorem q1039 : (Jvm.Cond.interfaceEntry "CandleStatute" (77 : Nat)) ∈ lw_tbl := lw_at lw_m5 1 rfl
theorem q1040 : (Jvm.Cond.methodLink "CandleStatute" (77 : Nat) ({ cls := "CandleStatute$Ordered", name := "aheadOf", desc := "(Ljava/lang/Object;)I" } : Jvm.MethodName)) ∈ lw_all := lw_g (lw_at lw_m5 2 rfl) rfl
theorem q1064 : (Jvm.Cond.instanceMethod ({ cls := "CandleStatute", name := "brightest", desc := "(I)I" } : Jvm.MethodName)) ∈ lw_all := lw_g (lw_at lw_m5 26 rfl) rfl
theorem q1065 : (Jvm.Cond.selects "CandleStatute" ({ cls := "CandleStatute", name := "brightest", desc := "(I)I" } : Jvm.MethodName) ({ cls := "CandleStatute", name := "brightest", desc := "(I)I" } : Jvm.MethodName)) ∈ lw_all := lw_g (lw_at lw_m5 27 rfl) rfl
theorem q1066 : (Jvm.Cond.code ({ cls := "CandleStatute", name := "brightest", desc := "(I)I" } : Jvm.MethodName) prog_1_method_32_code (2 : Nat) (Option.some Jvm.ClassFile.FieldType.int)) ∈ lw_all := lw_g (lw_at lw_m5 28 rfl) rfl
theorem q1067 : (Jvm.Cond.methodLink "CandleStatute" (197 : Nat) ({ cls := "CandleStatute", name := "ranked", desc := "(LCandleStatute$Row;I)I" } : Jvm.MethodName)) ∈ lw_all := lw_g (lw_at lw_m5 29 rfl) rfl
theorem q1069 : (Jvm.Cond.instanceMethod ({ cls := "CandleStatute", name := "append", desc := "(I)I" } : Jvm.MethodName)) ∈ lw_all := lw_g (lw_at lw_m5 31 rfl) rfl
theorem q1070 : (Jvm.Cond.selects "CandleStatute" ({ cls := "CandleStatute", name := "append", desc := "(I)I" } : Jvm.MethodName) ({ cls := "CandleStatute", name := "append", desc := "(I)I" } : Jvm.MethodName)) ∈ lw_all := lw_g (lw_at lw_m5 32 rfl) rfl
theorem q1071 : (Jvm.Cond.code ({ cls := "CandleStatute", name := "append", desc := "(I)I" } : Jvm.MethodName) prog_1_method_33_code (2 : Nat) (Option.some Jvm.ClassFile.FieldType.int)) ∈ lw_all := lw_g (lw_at lw_m5 33 rfl) rfl
theorem q1072 : (Jvm.Cond.methodLink "CandleStatute" (201 : Nat) ({ cls := "java/lang/StringBuilder", name := "length", desc := "()I" } : Jvm.MethodName)) ∈ lw_all := lw_g (lw_at lw_m5 34 rfl) rfl
theorem q1079 : (Jvm.Cond.methodLink "CandleStatute" (204 : Nat) ({ cls := "java/lang/StringBuilder", name := "append", desc := "(C)Ljava/lang/StringBuilder;" } : Jvm.MethodName)) ∈ lw_all := lw_g (lw_at lw_m5 41 rfl) rfl
theorem q1158 : (Jvm.Cond.instanceMethod ({ cls := "CandleStatute", name := "run", desc := "()I" } : Jvm.MethodName)) ∈ lw_all := lw_g (lw_at lw_m5 120 rfl) rfl
theorem q1159 : (Jvm.Cond.selects "CandleStatute" ({ cls := "CandleStatute", name := "run", desc := "()I" } : Jvm.MethodName) ({ cls := "CandleStatute", name := "run", desc := "()I" } : Jvm.MethodName)) ∈ lw_all := lw_g (lw_at lw_m5 121 rfl) rfl
theorem q1160 : (Jvm.Cond.codeWith ({ cls := "CandleStatute", name := "run", desc := "()I" } : Jvm.MethodName) prog_1_method_34_code (7 : Nat) (Option.some Jvm.ClassFile.FieldType.int) [((0 : Nat), (67 : Nat), (78 : Nat), (234 : Nat)), ((0 : Nat), (67 : Nat), (98 : Nat), (47 : Nat)), ((0 : Nat), (67 : Nat), (115 : Nat), (0 : Nat)), ((78 : Nat), (88 : Nat), (115 : Nat), (0 : Nat)), ((98 : Nat), (105 : Nat), (115 : Nat), (0 : Nat)), ((115 : Nat), (117 : Nat), (115 : Nat), (0 : Nat))]) ∈ lw_all := lw_g (lw_at lw_m5 122 rfl) rfl
theorem q1161 : (Jvm.Cond.classLink "CandleStatute" (234 : Nat) "CandleStatute$Wrong") ∈ lw_all := lw_g (lw_at lw_m5 123 rfl) rfl
theorem q1162 : (Jvm.Cond.classLink "CandleStatute" (208 : Nat) "CandleStatute$Reader") ∈ lw_all := lw_g (lw_at lw_m5 124 rfl) rfl
theorem q1164 : (Jvm.Cond.methodLinkNest "CandleStatute" (210 : Nat) ({ cls := "CandleStatute$Reader", name := "<init>", desc := "(LCandleStatute;)V" } : Jvm.MethodName) "CandleStatute") ∈ lw_tbl := lw_at lw_m5 126 rfl
theorem q1175 : (Jvm.Cond.methodLink "CandleStatute" (213 : Nat) ({ cls := "CandleStatute$Reader", name := "commands", desc := "()Ljava/util/LinkedList;" } : Jvm.MethodName)) ∈ lw_all := lw_g (lw_at lw_m5 137 rfl) rfl
theorem q1242 : (Jvm.Cond.fieldLinkNest "CandleStatute" (236 : Nat) "CandleStatute$Wrong" "at" "I" "CandleStatute") ∈ lw_tbl := lw_at lw_m5 204 rfl
theorem q1314 : (Jvm.Cond.methodLink "CandleStatute" (217 : Nat) ({ cls := "java/util/LinkedList", name := "isEmpty", desc := "()Z" } : Jvm.MethodName)) ∈ lw_all := lw_g (lw_at lw_m6 36 rfl) rfl
theorem q1328 : (Jvm.Cond.methodLink "CandleStatute" (223 : Nat) ({ cls := "java/util/LinkedList", name := "removeFirst", desc := "()Ljava/lang/Object;" } : Jvm.MethodName)) ∈ lw_all := lw_g (lw_at lw_m6 50 rfl) rfl
theorem q1336 : (Jvm.Cond.classLink "CandleStatute" (224 : Nat) "CandleStatute$Command") ∈ lw_all := lw_g (lw_at lw_m6 58 rfl) rfl
theorem q1337 : (Jvm.Cond.methodLink "CandleStatute" (226 : Nat) ({ cls := "CandleStatute$Command", name := "carryOut", desc := "(LCandleStatute$Statute;I)V" } : Jvm.MethodName)) ∈ lw_all := lw_g (lw_at lw_m6 59 rfl) rfl
theorem q1375 : (Jvm.Cond.methodLink "CandleStatute" (230 : Nat) ({ cls := "java/lang/StringBuilder", name := "setLength", desc := "(I)V" } : Jvm.MethodName)) ∈ lw_all := lw_g (lw_at lw_m6 97 rfl) rfl
theorem q1396 : (Jvm.Cond.instanceMethod ({ cls := "CandleStatute", name := "tell", desc := "(I)I" } : Jvm.MethodName)) ∈ lw_all := lw_g (lw_at lw_m6 118 rfl) rfl
theorem q1397 : (Jvm.Cond.selects "CandleStatute" ({ cls := "CandleStatute", name := "tell", desc := "(I)I" } : Jvm.MethodName) ({ cls := "CandleStatute", name := "tell", desc := "(I)I" } : Jvm.MethodName)) ∈ lw_all := lw_g (lw_at lw_m6 119 rfl) rfl
theorem q1398 : (Jvm.Cond.code ({ cls := "CandleStatute", name := "tell", desc := "(I)I" } : Jvm.MethodName) prog_1_method_35_code (2 : Nat) (Option.some Jvm.ClassFile.FieldType.int)) ∈ lw_all := lw_g (lw_at lw_m6 120 rfl) rfl
theorem q1399 : (Jvm.Cond.methodLink "CandleStatute" (239 : Nat) ({ cls := "CandleStatute$Stub", name := "text", desc := "(I)Ljava/lang/String;" } : Jvm.MethodName)) ∈ lw_all := lw_g (lw_at lw_m6 121 rfl) rfl
theorem q1533 : (Jvm.Cond.methodLink "CandleStatute" (242 : Nat) ({ cls := "java/lang/String", name := "length", desc := "()I" } : Jvm.MethodName)) ∈ lw_all := lw_g (lw_at lw_m7 15 rfl) rfl
theorem q1535 : (Jvm.Cond.instanceMethod ({ cls := "CandleStatute", name := "tellHouses", desc := "()I" } : Jvm.MethodName)) ∈ lw_all := lw_g (lw_at lw_m7 17 rfl) rfl
theorem q1536 : (Jvm.Cond.selects "CandleStatute" ({ cls := "CandleStatute", name := "tellHouses", desc := "()I" } : Jvm.MethodName) ({ cls := "CandleStatute", name := "tellHouses", desc := "()I" } : Jvm.MethodName)) ∈ lw_all := lw_g (lw_at lw_m7 18 rfl) rfl
theorem q1537 : (Jvm.Cond.code ({ cls := "CandleStatute", name := "tellHouses", desc := "()I" } : Jvm.MethodName) prog_1_method_36_code (1 : Nat) (Option.some Jvm.ClassFile.FieldType.int)) ∈ lw_all := lw_g (lw_at lw_m7 19 rfl) rfl
theorem q1538 : (Jvm.Cond.methodLink "CandleStatute" (245 : Nat) ({ cls := "CandleStatute$Statute", name := "houseText", desc := "()Ljava/lang/String;" } : Jvm.MethodName)) ∈ lw_all := lw_g (lw_at lw_m7 20 rfl) rfl
theorem q1562 : (Jvm.Cond.instanceMethod ({ cls := "CandleStatute", name := "character", desc := "(I)I" } : Jvm.MethodName)) ∈ lw_all := lw_g (lw_at lw_m7 44 rfl) rfl
theorem q1563 : (Jvm.Cond.selects "CandleStatute" ({ cls := "CandleStatute", name := "character", desc := "(I)I" } : Jvm.MethodName) ({ cls := "CandleStatute", name := "character", desc := "(I)I" } : Jvm.MethodName)) ∈ lw_all := lw_g (lw_at lw_m7 45 rfl) rfl
theorem q1564 : (Jvm.Cond.code ({ cls := "CandleStatute", name := "character", desc := "(I)I" } : Jvm.MethodName) prog_1_method_37_code (2 : Nat) (Option.some Jvm.ClassFile.FieldType.int)) ∈ lw_all := lw_g (lw_at lw_m7 46 rfl) rfl
theorem q1565 : (Jvm.Cond.methodLink "CandleStatute" (249 : Nat) ({ cls := "java/lang/String", name := "charAt", desc := "(I)C" } : Jvm.MethodName)) ∈ lw_all := lw_g (lw_at lw_m7 47 rfl) rfl
theorem q1581 : (Jvm.Cond.instanceMethod ({ cls := "CandleStatute", name := "reason", desc := "(IZ)I" } : Jvm.MethodName)) ∈ lw_all := lw_g (lw_at lw_m7 63 rfl) rfl
theorem q1582 : (Jvm.Cond.selects "CandleStatute" ({ cls := "CandleStatute", name := "reason", desc := "(IZ)I" } : Jvm.MethodName) ({ cls := "CandleStatute", name := "reason", desc := "(IZ)I" } : Jvm.MethodName)) ∈ lw_all := lw_g (lw_at lw_m7 64 rfl) rfl
theorem q1583 : (Jvm.Cond.code ({ cls := "CandleStatute", name := "reason", desc := "(IZ)I" } : Jvm.MethodName) prog_1_method_38_code (3 : Nat) (Option.some Jvm.ClassFile.FieldType.int)) ∈ lw_all := lw_g (lw_at lw_m7 65 rfl) rfl
theorem q1585 : (Jvm.Cond.instanceMethod ({ cls := "CandleStatute", name := "account", desc := "(I)I" } : Jvm.MethodName)) ∈ lw_all := lw_g (lw_at lw_m7 67 rfl) rfl
theorem q1586 : (Jvm.Cond.selects "CandleStatute" ({ cls := "CandleStatute", name := "account", desc := "(I)I" } : Jvm.MethodName) ({ cls := "CandleStatute", name := "account", desc := "(I)I" } : Jvm.MethodName)) ∈ lw_all := lw_g (lw_at lw_m7 68 rfl) rfl
theorem q1587 : (Jvm.Cond.code ({ cls := "CandleStatute", name := "account", desc := "(I)I" } : Jvm.MethodName) prog_1_method_39_code (2 : Nat) (Option.some Jvm.ClassFile.FieldType.int)) ∈ lw_all := lw_g (lw_at lw_m7 69 rfl) rfl
theorem q1588 : (Jvm.Cond.methodLink "CandleStatute" (253 : Nat) ({ cls := "CandleStatute$Statute", name := "openMany", desc := "()I" } : Jvm.MethodName)) ∈ lw_all := lw_g (lw_at lw_m7 70 rfl) rfl
theorem q1589 : (Jvm.Cond.methodLink "CandleStatute" (256 : Nat) ({ cls := "CandleStatute$Statute", name := "writs", desc := "()I" } : Jvm.MethodName)) ∈ lw_all := lw_g (lw_at lw_m7 71 rfl) rfl
theorem q1590 : (Jvm.Cond.methodLink "CandleStatute" (259 : Nat) ({ cls := "CandleStatute$Statute", name := "wax", desc := "()I" } : Jvm.MethodName)) ∈ lw_all := lw_g (lw_at lw_m7 72 rfl) rfl
theorem q1594 : (Jvm.Cond.methodLink "CandleStatute" (262 : Nat) ({ cls := "CandleStatute$Statute", name := "stores", desc := "()I" } : Jvm.MethodName)) ∈ lw_all := lw_g (lw_at lw_m7 76 rfl) rfl
theorem q1598 : (Jvm.Cond.methodLink "CandleStatute" (265 : Nat) ({ cls := "CandleStatute$Statute", name := "pool", desc := "()I" } : Jvm.MethodName)) ∈ lw_all := lw_g (lw_at lw_m7 80 rfl) rfl
theorem q1599 : (Jvm.Cond.methodLink "CandleStatute" (280 : Nat) ({ cls := "CandleStatute$Statute", name := "owed", desc := "()I" } : Jvm.MethodName)) ∈ lw_all := lw_g (lw_at lw_m7 81 rfl) rfl
theorem q1604 : (Jvm.Cond.instanceMethod ({ cls := "CandleStatute", name := "isBalanced", desc := "()I" } : Jvm.MethodName)) ∈ lw_all := lw_g (lw_at lw_m7 86 rfl) rfl
theorem q1605 : (Jvm.Cond.selects "CandleStatute" ({ cls := "CandleStatute", name := "isBalanced", desc := "()I" } : Jvm.MethodName) ({ cls := "CandleStatute", name := "isBalanced", desc := "()I" } : Jvm.MethodName)) ∈ lw_all := lw_g (lw_at lw_m7 87 rfl) rfl
theorem q1606 : (Jvm.Cond.code ({ cls := "CandleStatute", name := "isBalanced", desc := "()I" } : Jvm.MethodName) prog_1_method_40_code (1 : Nat) (Option.some Jvm.ClassFile.FieldType.int)) ∈ lw_all := lw_g (lw_at lw_m7 88 rfl) rfl
theorem q1607 : (Jvm.Cond.methodLink "CandleStatute" (286 : Nat) ({ cls := "CandleStatute$Statute", name := "isBalanced", desc := "()Z" } : Jvm.MethodName)) ∈ lw_all := lw_g (lw_at lw_m7 89 rfl) rfl
theorem q1620 : (Jvm.Cond.instanceMethod ({ cls := "CandleStatute", name := "meanWax", desc := "()D" } : Jvm.MethodName)) ∈ lw_all := lw_g (lw_at lw_m7 102 rfl) rfl
theorem q1621 : (Jvm.Cond.selects "CandleStatute" ({ cls := "CandleStatute", name := "meanWax", desc := "()D" } : Jvm.MethodName) ({ cls := "CandleStatute", name := "meanWax", desc := "()D" } : Jvm.MethodName)) ∈ lw_all := lw_g (lw_at lw_m7 103 rfl) rfl
theorem q1622 : (Jvm.Cond.code ({ cls := "CandleStatute", name := "meanWax", desc := "()D" } : Jvm.MethodName) prog_1_method_41_code (2 : Nat) (Option.some Jvm.ClassFile.FieldType.double)) ∈ lw_all := lw_g (lw_at lw_m7 104 rfl) rfl
theorem q1624 : (Jvm.Cond.instanceMethod ({ cls := "CandleStatute", name := "snuffedShare", desc := "()F" } : Jvm.MethodName)) ∈ lw_all := lw_g (lw_at lw_m7 106 rfl) rfl
theorem q1625 : (Jvm.Cond.selects "CandleStatute" ({ cls := "CandleStatute", name := "snuffedShare", desc := "()F" } : Jvm.MethodName) ({ cls := "CandleStatute", name := "snuffedShare", desc := "()F" } : Jvm.MethodName)) ∈ lw_all := lw_g (lw_at lw_m7 107 rfl) rfl
theorem q1626 : (Jvm.Cond.code ({ cls := "CandleStatute", name := "snuffedShare", desc := "()F" } : Jvm.MethodName) prog_1_method_42_code (2 : Nat) (Option.some Jvm.ClassFile.FieldType.float)) ∈ lw_all := lw_g (lw_at lw_m7 108 rfl) rfl
theorem q1628 : (Jvm.Cond.instanceMethod ({ cls := "CandleStatute", name := "undo", desc := "()I" } : Jvm.MethodName)) ∈ lw_all := lw_g (lw_at lw_m7 110 rfl) rfl
theorem q1629 : (Jvm.Cond.selects "CandleStatute" ({ cls := "CandleStatute", name := "undo", desc := "()I" } : Jvm.MethodName) ({ cls := "CandleStatute", name := "undo", desc := "()I" } : Jvm.MethodName)) ∈ lw_all := lw_g (lw_at lw_m7 111 rfl) rfl
theorem q1630 : (Jvm.Cond.code ({ cls := "CandleStatute", name := "undo", desc := "()I" } : Jvm.MethodName) prog_1_method_43_code (1 : Nat) (Option.some Jvm.ClassFile.FieldType.int)) ∈ lw_all := lw_g (lw_at lw_m7 112 rfl) rfl
theorem q1631 : (Jvm.Cond.methodLink "CandleStatute" (289 : Nat) ({ cls := "java/util/ArrayDeque", name := "isEmpty", desc := "()Z" } : Jvm.MethodName)) ∈ lw_all := lw_g (lw_at lw_m7 113 rfl) rfl
theorem q1635 : (Jvm.Cond.methodLink "CandleStatute" (290 : Nat) ({ cls := "java/util/ArrayDeque", name := "removeLast", desc := "()Ljava/lang/Object;" } : Jvm.MethodName)) ∈ lw_all := lw_g (lw_at lw_m7 117 rfl) rfl
theorem q1647 : (Jvm.Cond.instanceMethod ({ cls := "CandleStatute", name := "save", desc := "()I" } : Jvm.MethodName)) ∈ lw_all := lw_g (lw_at lw_m7 129 rfl) rfl
theorem q1648 : (Jvm.Cond.selects "CandleStatute" ({ cls := "CandleStatute", name := "save", desc := "()I" } : Jvm.MethodName) ({ cls := "CandleStatute", name := "save", desc := "()I" } : Jvm.MethodName)) ∈ lw_all := lw_g (lw_at lw_m7 130 rfl) rfl
theorem q1649 : (Jvm.Cond.code ({ cls := "CandleStatute", name := "save", desc := "()I" } : Jvm.MethodName) prog_1_method_44_code (1 : Nat) (Option.some Jvm.ClassFile.FieldType.int)) ∈ lw_all := lw_g (lw_at lw_m7 131 rfl) rfl
theorem q1651 : (Jvm.Cond.instanceMethod ({ cls := "CandleStatute", name := "restore", desc := "()I" } : Jvm.MethodName)) ∈ lw_all := lw_g (lw_at lw_m7 133 rfl) rfl
theorem q1652 : (Jvm.Cond.selects "CandleStatute" ({ cls := "CandleStatute", name := "restore", desc := "()I" } : Jvm.MethodName) ({ cls := "CandleStatute", name := "restore", desc := "()I" } : Jvm.MethodName)) ∈ lw_all := lw_g (lw_at lw_m7 134 rfl) rfl
theorem q1653 : (Jvm.Cond.code ({ cls := "CandleStatute", name := "restore", desc := "()I" } : Jvm.MethodName) prog_1_method_45_code (1 : Nat) (Option.some Jvm.ClassFile.FieldType.int)) ∈ lw_all := lw_g (lw_at lw_m7 135 rfl) rfl
theorem q1654 : (Jvm.Cond.methodLink "CandleStatute" (296 : Nat) ({ cls := "java/util/ArrayDeque", name := "clear", desc := "()V" } : Jvm.MethodName)) ∈ lw_all := lw_g (lw_at lw_m7 136 rfl) rfl
theorem q2087 : (Jvm.Cond.castable "CandleStatute" "java/lang/Object") ∈ lw_tbl := lw_at lw_m9 89 rfl
theorem in_X0 : ∀ w ∈ wsX00, w ∈ lw_all := lw_in wsX00 [369, 371, 373, 375, 377, 379, 381] (by decide +kernel) (by decide +kernel)

/-! CandleStatute$Statute -/
set_option maxRecDepth 100000
def RX1 : String := "CandleStatute$Statute"
def TX1 : u_T := fun k => match k with
  | 0 => ("CandleStatute$Statute", "houses", "LCandleStatute$Row;", true)
  | 1 => ("CandleStatute$Statute", "stubs", "LCandleStatute$Row;", true)
  | 2 => ("CandleStatute$Statute", "brought", "I", false)
  | 3 => ("CandleStatute$Statute", "burnt", "I", false)
  | 4 => ("CandleStatute$Statute", "given", "I", false)
  | 5 => ("CandleStatute$Statute", "paid", "I", false)
  | _ => ("CandleStatute$Statute", "hours", "I", false)
def tyX1 : Nat → FieldType := fun k => match k with
  | 0 => .object "CandleStatute$Row"
  | 1 => .object "CandleStatute$Row"
  | 2 => .int
  | 3 => .int
  | 4 => .int
  | 5 => .int
  | _ => .int
abbrev wsX10 : List Cond := u_ws RX1 TX1 7
theorem nmX1 : ∀ a, a < 7 → ∀ b, b < 7 → a ≠ b → (TX1 a).2.1 ≠ (TX1 b).2.1 := by decide +kernel
theorem tyX1_ok : ∀ k, k < 7 → parseFieldDescriptor (TX1 k).2.2.1 = some (tyX1 k) := by decide +kernel
abbrev cX1_init : ByteArray := prog_11_method_1_code
def yX1_init : MethodName := ⟨RX1, "<init>", "()V"⟩
def dkwX1_init_2 : List UInt8 := [182, 0, 21, 61, 132, 1, 1, 167, 255, 226, 177]
abbrev dktX1_init_2 : List UInt8 := dkwX1_init_2 ++ []
def dkwX1_init_1 : List UInt8 := [27, 16, 6, 162, 0, 30, 42, 180, 0, 14, 187, 0, 18, 89, 27, 4, 96, 16, 6, 112, 183, 0, 20]
abbrev dktX1_init_1 : List UInt8 := dkwX1_init_1 ++ dktX1_init_2
def dkwX1_init_0 : List UInt8 := [42, 187, 0, 3, 89, 16, 6, 183, 0, 5, 187, 0, 3, 89, 16, 12, 183, 0, 5, 183, 0, 9, 3, 60]
abbrev dktX1_init_0 : List UInt8 := dkwX1_init_0 ++ dktX1_init_1
theorem dksX1_init_0 : cX1_init.data.toList.drop 0 = dktX1_init_0 := by decide +kernel
theorem dksX1_init_1 : cX1_init.data.toList.drop 24 = dktX1_init_1 := dk_seg dksX1_init_0 24 rfl rfl
theorem dksX1_init_2 : cX1_init.data.toList.drop 47 = dktX1_init_2 := dk_seg dksX1_init_1 23 rfl rfl
theorem dX1_init_0 : decode cX1_init 0 = .ok (.aload_n 0, 1) := dk_42 (dk_at dksX1_init_0 0 rfl rfl)
theorem dX1_init_1 : decode cX1_init 1 = .ok (.new 3, 3) := dk_187 0 3 (dk_at dksX1_init_0 1 rfl rfl)
theorem dX1_init_4 : decode cX1_init 4 = .ok (.dup, 1) := dk_89 (dk_at dksX1_init_0 4 rfl rfl)
theorem dX1_init_5 : decode cX1_init 5 = .ok (.bipush 6, 2) := dk_16 6 (dk_at dksX1_init_0 5 rfl rfl)
theorem dX1_init_7 : decode cX1_init 7 = .ok (.invokespecial 5, 3) := dk_183 0 5 (dk_at dksX1_init_0 7 rfl rfl)
theorem dX1_init_10 : decode cX1_init 10 = .ok (.new 3, 3) := dk_187 0 3 (dk_at dksX1_init_0 10 rfl rfl)
theorem dX1_init_13 : decode cX1_init 13 = .ok (.dup, 1) := dk_89 (dk_at dksX1_init_0 13 rfl rfl)
theorem dX1_init_14 : decode cX1_init 14 = .ok (.bipush 12, 2) := dk_16 12 (dk_at dksX1_init_0 14 rfl rfl)
theorem dX1_init_16 : decode cX1_init 16 = .ok (.invokespecial 5, 3) := dk_183 0 5 (dk_at dksX1_init_0 16 rfl rfl)
theorem dX1_init_19 : decode cX1_init 19 = .ok (.invokespecial 9, 3) := dk_183 0 9 (dk_at dksX1_init_0 19 rfl rfl)
theorem dX1_init_22 : decode cX1_init 22 = .ok (.iconst 0, 1) := dk_3 (dk_at dksX1_init_0 22 rfl rfl)
theorem dX1_init_23 : decode cX1_init 23 = .ok (.istore_n 1, 1) := dk_60 (dk_at dksX1_init_0 23 rfl rfl)
theorem dX1_init_24 : decode cX1_init 24 = .ok (.iload_n 1, 1) := dk_27 (dk_at dksX1_init_1 0 rfl rfl)
theorem dX1_init_25 : decode cX1_init 25 = .ok (.bipush 6, 2) := dk_16 6 (dk_at dksX1_init_1 1 rfl rfl)
theorem dX1_init_27 : decode cX1_init 27 = .ok (.if_icmp .ge 30, 3) := dk_162 0 30 (dk_at dksX1_init_1 3 rfl rfl)
theorem dX1_init_30 : decode cX1_init 30 = .ok (.aload_n 0, 1) := dk_42 (dk_at dksX1_init_1 6 rfl rfl)
theorem dX1_init_31 : decode cX1_init 31 = .ok (.getfield 14, 3) := dk_180 0 14 (dk_at dksX1_init_1 7 rfl rfl)
theorem dX1_init_34 : decode cX1_init 34 = .ok (.new 18, 3) := dk_187 0 18 (dk_at dksX1_init_1 10 rfl rfl)
theorem dX1_init_37 : decode cX1_init 37 = .ok (.dup, 1) := dk_89 (dk_at dksX1_init_1 13 rfl rfl)
theorem dX1_init_38 : decode cX1_init 38 = .ok (.iload_n 1, 1) := dk_27 (dk_at dksX1_init_1 14 rfl rfl)
theorem dX1_init_39 : decode cX1_init 39 = .ok (.iconst 1, 1) := dk_4 (dk_at dksX1_init_1 15 rfl rfl)
theorem dX1_init_40 : decode cX1_init 40 = .ok (.iadd, 1) := dk_96 (dk_at dksX1_init_1 16 rfl rfl)
theorem dX1_init_41 : decode cX1_init 41 = .ok (.bipush 6, 2) := dk_16 6 (dk_at dksX1_init_1 17 rfl rfl)
theorem dX1_init_43 : decode cX1_init 43 = .ok (.irem, 1) := dk_112 (dk_at dksX1_init_1 19 rfl rfl)
theorem dX1_init_44 : decode cX1_init 44 = .ok (.invokespecial 20, 3) := dk_183 0 20 (dk_at dksX1_init_1 20 rfl rfl)
theorem dX1_init_47 : decode cX1_init 47 = .ok (.invokevirtual 21, 3) := dk_182 0 21 (dk_at dksX1_init_2 0 rfl rfl)
theorem dX1_init_50 : decode cX1_init 50 = .ok (.istore_n 2, 1) := dk_61 (dk_at dksX1_init_2 3 rfl rfl)
theorem dX1_init_51 : decode cX1_init 51 = .ok (.iinc 1 1, 3) := dk_132 1 1 (dk_at dksX1_init_2 4 rfl rfl)
theorem dX1_init_54 : decode cX1_init 54 = .ok (.goto (-30), 3) := dk_167 255 226 (dk_at dksX1_init_2 7 rfl rfl)
theorem dX1_init_57 : decode cX1_init 57 = .ok (.return_, 1) := dk_177 (dk_at dksX1_init_2 10 rfl rfl)
abbrev cX1_init_2 : ByteArray := prog_11_method_2_code
def yX1_init_2 : MethodName := ⟨RX1, "<init>", "(LCandleStatute$Row;LCandleStatute$Row;)V"⟩
def dkwX1_init_2_0 : List UInt8 := [42, 183, 0, 25, 42, 43, 181, 0, 14, 42, 44, 181, 0, 30, 177]
abbrev dktX1_init_2_0 : List UInt8 := dkwX1_init_2_0 ++ []
theorem dksX1_init_2_0 : cX1_init_2.data.toList.drop 0 = dktX1_init_2_0 := by decide +kernel
theorem dX1_init_2_0 : decode cX1_init_2 0 = .ok (.aload_n 0, 1) := dk_42 (dk_at dksX1_init_2_0 0 rfl rfl)
theorem dX1_init_2_1 : decode cX1_init_2 1 = .ok (.invokespecial 25, 3) := dk_183 0 25 (dk_at dksX1_init_2_0 1 rfl rfl)
theorem dX1_init_2_4 : decode cX1_init_2 4 = .ok (.aload_n 0, 1) := dk_42 (dk_at dksX1_init_2_0 4 rfl rfl)
theorem dX1_init_2_5 : decode cX1_init_2 5 = .ok (.aload_n 1, 1) := dk_43 (dk_at dksX1_init_2_0 5 rfl rfl)
theorem dX1_init_2_6 : decode cX1_init_2 6 = .ok (.putfield 14, 3) := dk_181 0 14 (dk_at dksX1_init_2_0 6 rfl rfl)
theorem dX1_init_2_9 : decode cX1_init_2 9 = .ok (.aload_n 0, 1) := dk_42 (dk_at dksX1_init_2_0 9 rfl rfl)
theorem dX1_init_2_10 : decode cX1_init_2 10 = .ok (.aload_n 2, 1) := dk_44 (dk_at dksX1_init_2_0 10 rfl rfl)
theorem dX1_init_2_11 : decode cX1_init_2 11 = .ok (.putfield 30, 3) := dk_181 0 30 (dk_at dksX1_init_2_0 11 rfl rfl)
theorem dX1_init_2_14 : decode cX1_init_2 14 = .ok (.return_, 1) := dk_177 (dk_at dksX1_init_2_0 14 rfl rfl)
abbrev cX1_copy : ByteArray := prog_11_method_3_code
def yX1_copy : MethodName := ⟨RX1, "copy", "()LCandleStatute$Statute;"⟩
def dkwX1_copy_2 : List UInt8 := [180, 0, 47, 181, 0, 47, 43, 42, 180, 0, 50, 181, 0, 50, 43, 176]
abbrev dktX1_copy_2 : List UInt8 := dkwX1_copy_2 ++ []
def dkwX1_copy_1 : List UInt8 := [180, 0, 37, 181, 0, 37, 43, 42, 180, 0, 41, 181, 0, 41, 43, 42, 180, 0, 44, 181, 0, 44, 43, 42]
abbrev dktX1_copy_1 : List UInt8 := dkwX1_copy_1 ++ dktX1_copy_2
def dkwX1_copy_0 : List UInt8 := [187, 0, 10, 89, 42, 180, 0, 14, 182, 0, 33, 42, 180, 0, 30, 182, 0, 33, 183, 0, 9, 76, 43, 42]
abbrev dktX1_copy_0 : List UInt8 := dkwX1_copy_0 ++ dktX1_copy_1
theorem dksX1_copy_0 : cX1_copy.data.toList.drop 0 = dktX1_copy_0 := by decide +kernel
theorem dksX1_copy_1 : cX1_copy.data.toList.drop 24 = dktX1_copy_1 := dk_seg dksX1_copy_0 24 rfl rfl
theorem dksX1_copy_2 : cX1_copy.data.toList.drop 48 = dktX1_copy_2 := dk_seg dksX1_copy_1 24 rfl rfl
theorem dX1_copy_0 : decode cX1_copy 0 = .ok (.new 10, 3) := dk_187 0 10 (dk_at dksX1_copy_0 0 rfl rfl)
theorem dX1_copy_3 : decode cX1_copy 3 = .ok (.dup, 1) := dk_89 (dk_at dksX1_copy_0 3 rfl rfl)
theorem dX1_copy_4 : decode cX1_copy 4 = .ok (.aload_n 0, 1) := dk_42 (dk_at dksX1_copy_0 4 rfl rfl)
theorem dX1_copy_5 : decode cX1_copy 5 = .ok (.getfield 14, 3) := dk_180 0 14 (dk_at dksX1_copy_0 5 rfl rfl)
theorem dX1_copy_8 : decode cX1_copy 8 = .ok (.invokevirtual 33, 3) := dk_182 0 33 (dk_at dksX1_copy_0 8 rfl rfl)
theorem dX1_copy_11 : decode cX1_copy 11 = .ok (.aload_n 0, 1) := dk_42 (dk_at dksX1_copy_0 11 rfl rfl)
theorem dX1_copy_12 : decode cX1_copy 12 = .ok (.getfield 30, 3) := dk_180 0 30 (dk_at dksX1_copy_0 12 rfl rfl)
theorem dX1_copy_15 : decode cX1_copy 15 = .ok (.invokevirtual 33, 3) := dk_182 0 33 (dk_at dksX1_copy_0 15 rfl rfl)
theorem dX1_copy_18 : decode cX1_copy 18 = .ok (.invokespecial 9, 3) := dk_183 0 9 (dk_at dksX1_copy_0 18 rfl rfl)
theorem dX1_copy_21 : decode cX1_copy 21 = .ok (.astore_n 1, 1) := dk_76 (dk_at dksX1_copy_0 21 rfl rfl)
theorem dX1_copy_22 : decode cX1_copy 22 = .ok (.aload_n 1, 1) := dk_43 (dk_at dksX1_copy_0 22 rfl rfl)
theorem dX1_copy_23 : decode cX1_copy 23 = .ok (.aload_n 0, 1) := dk_42 (dk_at dksX1_copy_0 23 rfl rfl)
theorem dX1_copy_24 : decode cX1_copy 24 = .ok (.getfield 37, 3) := dk_180 0 37 (dk_at dksX1_copy_1 0 rfl rfl)
theorem dX1_copy_27 : decode cX1_copy 27 = .ok (.putfield 37, 3) := dk_181 0 37 (dk_at dksX1_copy_1 3 rfl rfl)
theorem dX1_copy_30 : decode cX1_copy 30 = .ok (.aload_n 1, 1) := dk_43 (dk_at dksX1_copy_1 6 rfl rfl)
theorem dX1_copy_31 : decode cX1_copy 31 = .ok (.aload_n 0, 1) := dk_42 (dk_at dksX1_copy_1 7 rfl rfl)
theorem dX1_copy_32 : decode cX1_copy 32 = .ok (.getfield 41, 3) := dk_180 0 41 (dk_at dksX1_copy_1 8 rfl rfl)
theorem dX1_copy_35 : decode cX1_copy 35 = .ok (.putfield 41, 3) := dk_181 0 41 (dk_at dksX1_copy_1 11 rfl rfl)
theorem dX1_copy_38 : decode cX1_copy 38 = .ok (.aload_n 1, 1) := dk_43 (dk_at dksX1_copy_1 14 rfl rfl)
theorem dX1_copy_39 : decode cX1_copy 39 = .ok (.aload_n 0, 1) := dk_42 (dk_at dksX1_copy_1 15 rfl rfl)
theorem dX1_copy_40 : decode cX1_copy 40 = .ok (.getfield 44, 3) := dk_180 0 44 (dk_at dksX1_copy_1 16 rfl rfl)
theorem dX1_copy_43 : decode cX1_copy 43 = .ok (.putfield 44, 3) := dk_181 0 44 (dk_at dksX1_copy_1 19 rfl rfl)
theorem dX1_copy_46 : decode cX1_copy 46 = .ok (.aload_n 1, 1) := dk_43 (dk_at dksX1_copy_1 22 rfl rfl)
theorem dX1_copy_47 : decode cX1_copy 47 = .ok (.aload_n 0, 1) := dk_42 (dk_at dksX1_copy_1 23 rfl rfl)
theorem dX1_copy_48 : decode cX1_copy 48 = .ok (.getfield 47, 3) := dk_180 0 47 (dk_at dksX1_copy_2 0 rfl rfl)
theorem dX1_copy_51 : decode cX1_copy 51 = .ok (.putfield 47, 3) := dk_181 0 47 (dk_at dksX1_copy_2 3 rfl rfl)
theorem dX1_copy_54 : decode cX1_copy 54 = .ok (.aload_n 1, 1) := dk_43 (dk_at dksX1_copy_2 6 rfl rfl)
theorem dX1_copy_55 : decode cX1_copy 55 = .ok (.aload_n 0, 1) := dk_42 (dk_at dksX1_copy_2 7 rfl rfl)
theorem dX1_copy_56 : decode cX1_copy 56 = .ok (.getfield 50, 3) := dk_180 0 50 (dk_at dksX1_copy_2 8 rfl rfl)
theorem dX1_copy_59 : decode cX1_copy 59 = .ok (.putfield 50, 3) := dk_181 0 50 (dk_at dksX1_copy_2 11 rfl rfl)
theorem dX1_copy_62 : decode cX1_copy 62 = .ok (.aload_n 1, 1) := dk_43 (dk_at dksX1_copy_2 14 rfl rfl)
theorem dX1_copy_63 : decode cX1_copy 63 = .ok (.areturn, 1) := dk_176 (dk_at dksX1_copy_2 15 rfl rfl)
abbrev cX1_brings : ByteArray := prog_11_method_8_code
def yX1_brings : MethodName := ⟨RX1, "brings", "(LCandleStatute$Stub;)I"⟩
def dkwX1_brings_2 : List UInt8 := [172]
abbrev dktX1_brings_2 : List UInt8 := dkwX1_brings_2 ++ []
def dkwX1_brings_1 : List UInt8 := [182, 0, 101, 42, 89, 180, 0, 37, 43, 180, 0, 94, 96, 181, 0, 37, 42, 180, 0, 30, 43, 182, 0, 21]
abbrev dktX1_brings_1 : List UInt8 := dkwX1_brings_1 ++ dktX1_brings_2
def dkwX1_brings_0 : List UInt8 := [42, 43, 180, 0, 81, 182, 0, 91, 42, 43, 180, 0, 81, 43, 180, 0, 94, 182, 0, 97, 42, 180, 0, 30]
abbrev dktX1_brings_0 : List UInt8 := dkwX1_brings_0 ++ dktX1_brings_1
theorem dksX1_brings_0 : cX1_brings.data.toList.drop 0 = dktX1_brings_0 := by decide +kernel
theorem dksX1_brings_1 : cX1_brings.data.toList.drop 24 = dktX1_brings_1 := dk_seg dksX1_brings_0 24 rfl rfl
theorem dksX1_brings_2 : cX1_brings.data.toList.drop 48 = dktX1_brings_2 := dk_seg dksX1_brings_1 24 rfl rfl
theorem dX1_brings_0 : decode cX1_brings 0 = .ok (.aload_n 0, 1) := dk_42 (dk_at dksX1_brings_0 0 rfl rfl)
theorem dX1_brings_1 : decode cX1_brings 1 = .ok (.aload_n 1, 1) := dk_43 (dk_at dksX1_brings_0 1 rfl rfl)
theorem dX1_brings_2 : decode cX1_brings 2 = .ok (.getfield 81, 3) := dk_180 0 81 (dk_at dksX1_brings_0 2 rfl rfl)
theorem dX1_brings_5 : decode cX1_brings 5 = .ok (.invokevirtual 91, 3) := dk_182 0 91 (dk_at dksX1_brings_0 5 rfl rfl)
theorem dX1_brings_8 : decode cX1_brings 8 = .ok (.aload_n 0, 1) := dk_42 (dk_at dksX1_brings_0 8 rfl rfl)
theorem dX1_brings_9 : decode cX1_brings 9 = .ok (.aload_n 1, 1) := dk_43 (dk_at dksX1_brings_0 9 rfl rfl)
theorem dX1_brings_10 : decode cX1_brings 10 = .ok (.getfield 81, 3) := dk_180 0 81 (dk_at dksX1_brings_0 10 rfl rfl)
theorem dX1_brings_13 : decode cX1_brings 13 = .ok (.aload_n 1, 1) := dk_43 (dk_at dksX1_brings_0 13 rfl rfl)
theorem dX1_brings_14 : decode cX1_brings 14 = .ok (.getfield 94, 3) := dk_180 0 94 (dk_at dksX1_brings_0 14 rfl rfl)
theorem dX1_brings_17 : decode cX1_brings 17 = .ok (.invokevirtual 97, 3) := dk_182 0 97 (dk_at dksX1_brings_0 17 rfl rfl)
theorem dX1_brings_20 : decode cX1_brings 20 = .ok (.aload_n 0, 1) := dk_42 (dk_at dksX1_brings_0 20 rfl rfl)
theorem dX1_brings_21 : decode cX1_brings 21 = .ok (.getfield 30, 3) := dk_180 0 30 (dk_at dksX1_brings_0 21 rfl rfl)
theorem dX1_brings_24 : decode cX1_brings 24 = .ok (.invokevirtual 101, 3) := dk_182 0 101 (dk_at dksX1_brings_1 0 rfl rfl)
theorem dX1_brings_27 : decode cX1_brings 27 = .ok (.aload_n 0, 1) := dk_42 (dk_at dksX1_brings_1 3 rfl rfl)
theorem dX1_brings_28 : decode cX1_brings 28 = .ok (.dup, 1) := dk_89 (dk_at dksX1_brings_1 4 rfl rfl)
theorem dX1_brings_29 : decode cX1_brings 29 = .ok (.getfield 37, 3) := dk_180 0 37 (dk_at dksX1_brings_1 5 rfl rfl)
theorem dX1_brings_32 : decode cX1_brings 32 = .ok (.aload_n 1, 1) := dk_43 (dk_at dksX1_brings_1 8 rfl rfl)
theorem dX1_brings_33 : decode cX1_brings 33 = .ok (.getfield 94, 3) := dk_180 0 94 (dk_at dksX1_brings_1 9 rfl rfl)
theorem dX1_brings_36 : decode cX1_brings 36 = .ok (.iadd, 1) := dk_96 (dk_at dksX1_brings_1 12 rfl rfl)
theorem dX1_brings_37 : decode cX1_brings 37 = .ok (.putfield 37, 3) := dk_181 0 37 (dk_at dksX1_brings_1 13 rfl rfl)
theorem dX1_brings_40 : decode cX1_brings 40 = .ok (.aload_n 0, 1) := dk_42 (dk_at dksX1_brings_1 16 rfl rfl)
theorem dX1_brings_41 : decode cX1_brings 41 = .ok (.getfield 30, 3) := dk_180 0 30 (dk_at dksX1_brings_1 17 rfl rfl)
theorem dX1_brings_44 : decode cX1_brings 44 = .ok (.aload_n 1, 1) := dk_43 (dk_at dksX1_brings_1 20 rfl rfl)
theorem dX1_brings_45 : decode cX1_brings 45 = .ok (.invokevirtual 21, 3) := dk_182 0 21 (dk_at dksX1_brings_1 21 rfl rfl)
theorem dX1_brings_48 : decode cX1_brings 48 = .ok (.ireturn, 1) := dk_172 (dk_at dksX1_brings_2 0 rfl rfl)
abbrev cX1_checksOpen : ByteArray := prog_11_method_4_code
def yX1_checksOpen : MethodName := ⟨RX1, "checksOpen", "(I)V"⟩
def dkwX1_checksOpen_1 : List UInt8 := [184, 0, 61, 177]
abbrev dktX1_checksOpen_1 : List UInt8 := dkwX1_checksOpen_1 ++ []
def dkwX1_checksOpen_0 : List UInt8 := [42, 180, 0, 14, 27, 182, 0, 53, 192, 0, 18, 180, 0, 57, 154, 0, 7, 4, 167, 0, 4, 3, 5, 27]
abbrev dktX1_checksOpen_0 : List UInt8 := dkwX1_checksOpen_0 ++ dktX1_checksOpen_1
theorem dksX1_checksOpen_0 : cX1_checksOpen.data.toList.drop 0 = dktX1_checksOpen_0 := by decide +kernel
theorem dksX1_checksOpen_1 : cX1_checksOpen.data.toList.drop 24 = dktX1_checksOpen_1 := dk_seg dksX1_checksOpen_0 24 rfl rfl
theorem dX1_checksOpen_0 : decode cX1_checksOpen 0 = .ok (.aload_n 0, 1) := dk_42 (dk_at dksX1_checksOpen_0 0 rfl rfl)
theorem dX1_checksOpen_1 : decode cX1_checksOpen 1 = .ok (.getfield 14, 3) := dk_180 0 14 (dk_at dksX1_checksOpen_0 1 rfl rfl)
theorem dX1_checksOpen_4 : decode cX1_checksOpen 4 = .ok (.iload_n 1, 1) := dk_27 (dk_at dksX1_checksOpen_0 4 rfl rfl)
theorem dX1_checksOpen_5 : decode cX1_checksOpen 5 = .ok (.invokevirtual 53, 3) := dk_182 0 53 (dk_at dksX1_checksOpen_0 5 rfl rfl)
theorem dX1_checksOpen_8 : decode cX1_checksOpen 8 = .ok (.checkcast 18, 3) := dk_192 0 18 (dk_at dksX1_checksOpen_0 8 rfl rfl)
theorem dX1_checksOpen_11 : decode cX1_checksOpen 11 = .ok (.getfield 57, 3) := dk_180 0 57 (dk_at dksX1_checksOpen_0 11 rfl rfl)
theorem dX1_checksOpen_14 : decode cX1_checksOpen 14 = .ok (.ifCond .ne 7, 3) := dk_154 0 7 (dk_at dksX1_checksOpen_0 14 rfl rfl)
theorem dX1_checksOpen_17 : decode cX1_checksOpen 17 = .ok (.iconst 1, 1) := dk_4 (dk_at dksX1_checksOpen_0 17 rfl rfl)
theorem dX1_checksOpen_18 : decode cX1_checksOpen 18 = .ok (.goto 4, 3) := dk_167 0 4 (dk_at dksX1_checksOpen_0 18 rfl rfl)
theorem dX1_checksOpen_21 : decode cX1_checksOpen 21 = .ok (.iconst 0, 1) := dk_3 (dk_at dksX1_checksOpen_0 21 rfl rfl)
theorem dX1_checksOpen_22 : decode cX1_checksOpen 22 = .ok (.iconst 2, 1) := dk_5 (dk_at dksX1_checksOpen_0 22 rfl rfl)
theorem dX1_checksOpen_23 : decode cX1_checksOpen 23 = .ok (.iload_n 1, 1) := dk_27 (dk_at dksX1_checksOpen_0 23 rfl rfl)
theorem dX1_checksOpen_24 : decode cX1_checksOpen 24 = .ok (.invokestatic 61, 3) := dk_184 0 61 (dk_at dksX1_checksOpen_1 0 rfl rfl)
theorem dX1_checksOpen_27 : decode cX1_checksOpen 27 = .ok (.return_, 1) := dk_177 (dk_at dksX1_checksOpen_1 3 rfl rfl)
abbrev cX1_checksTray : ByteArray := prog_11_method_7_code
def yX1_checksTray : MethodName := ⟨RX1, "checksTray", "(II)V"⟩
def dkwX1_checksTray_1 : List UInt8 := [184, 0, 61, 177]
abbrev dktX1_checksTray_1 : List UInt8 := dkwX1_checksTray_1 ++ []
def dkwX1_checksTray_0 : List UInt8 := [42, 27, 182, 0, 88, 28, 96, 4, 96, 62, 29, 16, 60, 164, 0, 7, 4, 167, 0, 4, 3, 6, 29]
abbrev dktX1_checksTray_0 : List UInt8 := dkwX1_checksTray_0 ++ dktX1_checksTray_1
theorem dksX1_checksTray_0 : cX1_checksTray.data.toList.drop 0 = dktX1_checksTray_0 := by decide +kernel
theorem dksX1_checksTray_1 : cX1_checksTray.data.toList.drop 23 = dktX1_checksTray_1 := dk_seg dksX1_checksTray_0 23 rfl rfl
theorem dX1_checksTray_0 : decode cX1_checksTray 0 = .ok (.aload_n 0, 1) := dk_42 (dk_at dksX1_checksTray_0 0 rfl rfl)
theorem dX1_checksTray_1 : decode cX1_checksTray 1 = .ok (.iload_n 1, 1) := dk_27 (dk_at dksX1_checksTray_0 1 rfl rfl)
theorem dX1_checksTray_2 : decode cX1_checksTray 2 = .ok (.invokevirtual 88, 3) := dk_182 0 88 (dk_at dksX1_checksTray_0 2 rfl rfl)
theorem dX1_checksTray_5 : decode cX1_checksTray 5 = .ok (.iload_n 2, 1) := dk_28 (dk_at dksX1_checksTray_0 5 rfl rfl)
theorem dX1_checksTray_6 : decode cX1_checksTray 6 = .ok (.iadd, 1) := dk_96 (dk_at dksX1_checksTray_0 6 rfl rfl)
theorem dX1_checksTray_7 : decode cX1_checksTray 7 = .ok (.iconst 1, 1) := dk_4 (dk_at dksX1_checksTray_0 7 rfl rfl)
theorem dX1_checksTray_8 : decode cX1_checksTray 8 = .ok (.iadd, 1) := dk_96 (dk_at dksX1_checksTray_0 8 rfl rfl)
theorem dX1_checksTray_9 : decode cX1_checksTray 9 = .ok (.istore_n 3, 1) := dk_62 (dk_at dksX1_checksTray_0 9 rfl rfl)
theorem dX1_checksTray_10 : decode cX1_checksTray 10 = .ok (.iload_n 3, 1) := dk_29 (dk_at dksX1_checksTray_0 10 rfl rfl)
theorem dX1_checksTray_11 : decode cX1_checksTray 11 = .ok (.bipush 60, 2) := dk_16 60 (dk_at dksX1_checksTray_0 11 rfl rfl)
theorem dX1_checksTray_13 : decode cX1_checksTray 13 = .ok (.if_icmp .le 7, 3) := dk_164 0 7 (dk_at dksX1_checksTray_0 13 rfl rfl)
theorem dX1_checksTray_16 : decode cX1_checksTray 16 = .ok (.iconst 1, 1) := dk_4 (dk_at dksX1_checksTray_0 16 rfl rfl)
theorem dX1_checksTray_17 : decode cX1_checksTray 17 = .ok (.goto 4, 3) := dk_167 0 4 (dk_at dksX1_checksTray_0 17 rfl rfl)
theorem dX1_checksTray_20 : decode cX1_checksTray 20 = .ok (.iconst 0, 1) := dk_3 (dk_at dksX1_checksTray_0 20 rfl rfl)
theorem dX1_checksTray_21 : decode cX1_checksTray 21 = .ok (.iconst 3, 1) := dk_6 (dk_at dksX1_checksTray_0 21 rfl rfl)
theorem dX1_checksTray_22 : decode cX1_checksTray 22 = .ok (.iload_n 3, 1) := dk_29 (dk_at dksX1_checksTray_0 22 rfl rfl)
theorem dX1_checksTray_23 : decode cX1_checksTray 23 = .ok (.invokestatic 61, 3) := dk_184 0 61 (dk_at dksX1_checksTray_1 0 rfl rfl)
theorem dX1_checksTray_26 : decode cX1_checksTray 26 = .ok (.return_, 1) := dk_177 (dk_at dksX1_checksTray_1 3 rfl rfl)
abbrev cX1_weight : ByteArray := prog_11_method_5_code
def yX1_weight : MethodName := ⟨RX1, "weight", "(I)I"⟩
def dkwX1_weight_2 : List UInt8 := [182, 0, 84, 167, 0, 4, 3, 96, 61, 167, 255, 215, 28, 172]
abbrev dktX1_weight_2 : List UInt8 := dkwX1_weight_2 ++ []
def dkwX1_weight_1 : List UInt8 := [185, 0, 75, 1, 0, 192, 0, 79, 58, 4, 28, 25, 4, 180, 0, 81, 27, 160, 0, 11, 25, 4]
abbrev dktX1_weight_1 : List UInt8 := dkwX1_weight_1 ++ dktX1_weight_2
def dkwX1_weight_0 : List UInt8 := [3, 61, 42, 180, 0, 30, 182, 0, 65, 78, 45, 185, 0, 69, 1, 0, 153, 0, 38, 45]
abbrev dktX1_weight_0 : List UInt8 := dkwX1_weight_0 ++ dktX1_weight_1
theorem dksX1_weight_0 : cX1_weight.data.toList.drop 0 = dktX1_weight_0 := by decide +kernel
theorem dksX1_weight_1 : cX1_weight.data.toList.drop 20 = dktX1_weight_1 := dk_seg dksX1_weight_0 20 rfl rfl
theorem dksX1_weight_2 : cX1_weight.data.toList.drop 42 = dktX1_weight_2 := dk_seg dksX1_weight_1 22 rfl rfl
theorem dX1_weight_0 : decode cX1_weight 0 = .ok (.iconst 0, 1) := dk_3 (dk_at dksX1_weight_0 0 rfl rfl)
theorem dX1_weight_1 : decode cX1_weight 1 = .ok (.istore_n 2, 1) := dk_61 (dk_at dksX1_weight_0 1 rfl rfl)
theorem dX1_weight_2 : decode cX1_weight 2 = .ok (.aload_n 0, 1) := dk_42 (dk_at dksX1_weight_0 2 rfl rfl)
theorem dX1_weight_3 : decode cX1_weight 3 = .ok (.getfield 30, 3) := dk_180 0 30 (dk_at dksX1_weight_0 3 rfl rfl)
theorem dX1_weight_6 : decode cX1_weight 6 = .ok (.invokevirtual 65, 3) := dk_182 0 65 (dk_at dksX1_weight_0 6 rfl rfl)
theorem dX1_weight_9 : decode cX1_weight 9 = .ok (.astore_n 3, 1) := dk_78 (dk_at dksX1_weight_0 9 rfl rfl)
theorem dX1_weight_10 : decode cX1_weight 10 = .ok (.aload_n 3, 1) := dk_45 (dk_at dksX1_weight_0 10 rfl rfl)
theorem dX1_weight_11 : decode cX1_weight 11 = .ok (.invokeinterface 69 1, 5) := by decide +kernel
theorem dX1_weight_16 : decode cX1_weight 16 = .ok (.ifCond .eq 38, 3) := dk_153 0 38 (dk_at dksX1_weight_0 16 rfl rfl)
theorem dX1_weight_19 : decode cX1_weight 19 = .ok (.aload_n 3, 1) := dk_45 (dk_at dksX1_weight_0 19 rfl rfl)
theorem dX1_weight_20 : decode cX1_weight 20 = .ok (.invokeinterface 75 1, 5) := by decide +kernel
theorem dX1_weight_25 : decode cX1_weight 25 = .ok (.checkcast 79, 3) := dk_192 0 79 (dk_at dksX1_weight_1 5 rfl rfl)
theorem dX1_weight_28 : decode cX1_weight 28 = .ok (.astore 4, 2) := dk_58 4 (dk_at dksX1_weight_1 8 rfl rfl)
theorem dX1_weight_30 : decode cX1_weight 30 = .ok (.iload_n 2, 1) := dk_28 (dk_at dksX1_weight_1 10 rfl rfl)
theorem dX1_weight_31 : decode cX1_weight 31 = .ok (.aload 4, 2) := dk_25 4 (dk_at dksX1_weight_1 11 rfl rfl)
theorem dX1_weight_33 : decode cX1_weight 33 = .ok (.getfield 81, 3) := dk_180 0 81 (dk_at dksX1_weight_1 13 rfl rfl)
theorem dX1_weight_36 : decode cX1_weight 36 = .ok (.iload_n 1, 1) := dk_27 (dk_at dksX1_weight_1 16 rfl rfl)
theorem dX1_weight_37 : decode cX1_weight 37 = .ok (.if_icmp .ne 11, 3) := dk_160 0 11 (dk_at dksX1_weight_1 17 rfl rfl)
theorem dX1_weight_40 : decode cX1_weight 40 = .ok (.aload 4, 2) := dk_25 4 (dk_at dksX1_weight_1 20 rfl rfl)
theorem dX1_weight_42 : decode cX1_weight 42 = .ok (.invokevirtual 84, 3) := dk_182 0 84 (dk_at dksX1_weight_2 0 rfl rfl)
theorem dX1_weight_45 : decode cX1_weight 45 = .ok (.goto 4, 3) := dk_167 0 4 (dk_at dksX1_weight_2 3 rfl rfl)
theorem dX1_weight_48 : decode cX1_weight 48 = .ok (.iconst 0, 1) := dk_3 (dk_at dksX1_weight_2 6 rfl rfl)
theorem dX1_weight_49 : decode cX1_weight 49 = .ok (.iadd, 1) := dk_96 (dk_at dksX1_weight_2 7 rfl rfl)
theorem dX1_weight_50 : decode cX1_weight 50 = .ok (.istore_n 2, 1) := dk_61 (dk_at dksX1_weight_2 8 rfl rfl)
theorem dX1_weight_51 : decode cX1_weight 51 = .ok (.goto (-41), 3) := dk_167 255 215 (dk_at dksX1_weight_2 9 rfl rfl)
theorem dX1_weight_54 : decode cX1_weight 54 = .ok (.iload_n 2, 1) := dk_28 (dk_at dksX1_weight_2 12 rfl rfl)
theorem dX1_weight_55 : decode cX1_weight 55 = .ok (.ireturn, 1) := dk_172 (dk_at dksX1_weight_2 13 rfl rfl)
abbrev cX1_burns : ByteArray := prog_11_method_10_code
def yX1_burns : MethodName := ⟨RX1, "burns", "(II)I"⟩
def dkwX1_burns_4 : List UInt8 := [42, 89, 180, 0, 47, 21, 5, 96, 181, 0, 47, 42, 27, 182, 0, 129, 21, 5, 172]
abbrev dktX1_burns_4 : List UInt8 := dkwX1_burns_4 ++ []
def dkwX1_burns_3 : List UInt8 := [181, 0, 128, 42, 89, 180, 0, 41, 28, 96, 181, 0, 41, 42, 89, 180, 0, 44, 21, 4, 96, 181, 0, 44]
abbrev dktX1_burns_3 : List UInt8 := dkwX1_burns_3 ++ dktX1_burns_4
def dkwX1_burns_2 : List UInt8 := [182, 0, 125, 54, 5, 45, 89, 180, 0, 94, 28, 100, 181, 0, 94, 45, 89, 180, 0, 128, 21, 4, 96]
abbrev dktX1_burns_2 : List UInt8 := dkwX1_burns_2 ++ dktX1_burns_3
def dkwX1_burns_1 : List UInt8 := [187, 0, 117, 89, 7, 27, 25, 4, 183, 0, 119, 191, 28, 45, 180, 0, 122, 104, 54, 4, 45, 21, 4]
abbrev dktX1_burns_1 : List UInt8 := dkwX1_burns_1 ++ dktX1_burns_2
def dkwX1_burns_0 : List UInt8 := [42, 180, 0, 30, 27, 182, 0, 53, 192, 0, 79, 78, 42, 45, 28, 182, 0, 113, 167, 0, 17, 58, 4]
abbrev dktX1_burns_0 : List UInt8 := dkwX1_burns_0 ++ dktX1_burns_1
theorem dksX1_burns_0 : cX1_burns.data.toList.drop 0 = dktX1_burns_0 := by decide +kernel
theorem dksX1_burns_1 : cX1_burns.data.toList.drop 23 = dktX1_burns_1 := dk_seg dksX1_burns_0 23 rfl rfl
theorem dksX1_burns_2 : cX1_burns.data.toList.drop 46 = dktX1_burns_2 := dk_seg dksX1_burns_1 23 rfl rfl
theorem dksX1_burns_3 : cX1_burns.data.toList.drop 69 = dktX1_burns_3 := dk_seg dksX1_burns_2 23 rfl rfl
theorem dksX1_burns_4 : cX1_burns.data.toList.drop 93 = dktX1_burns_4 := dk_seg dksX1_burns_3 24 rfl rfl
theorem dX1_burns_0 : decode cX1_burns 0 = .ok (.aload_n 0, 1) := dk_42 (dk_at dksX1_burns_0 0 rfl rfl)
theorem dX1_burns_1 : decode cX1_burns 1 = .ok (.getfield 30, 3) := dk_180 0 30 (dk_at dksX1_burns_0 1 rfl rfl)
theorem dX1_burns_4 : decode cX1_burns 4 = .ok (.iload_n 1, 1) := dk_27 (dk_at dksX1_burns_0 4 rfl rfl)
theorem dX1_burns_5 : decode cX1_burns 5 = .ok (.invokevirtual 53, 3) := dk_182 0 53 (dk_at dksX1_burns_0 5 rfl rfl)
theorem dX1_burns_8 : decode cX1_burns 8 = .ok (.checkcast 79, 3) := dk_192 0 79 (dk_at dksX1_burns_0 8 rfl rfl)
theorem dX1_burns_11 : decode cX1_burns 11 = .ok (.astore_n 3, 1) := dk_78 (dk_at dksX1_burns_0 11 rfl rfl)
theorem dX1_burns_12 : decode cX1_burns 12 = .ok (.aload_n 0, 1) := dk_42 (dk_at dksX1_burns_0 12 rfl rfl)
theorem dX1_burns_13 : decode cX1_burns 13 = .ok (.aload_n 3, 1) := dk_45 (dk_at dksX1_burns_0 13 rfl rfl)
theorem dX1_burns_14 : decode cX1_burns 14 = .ok (.iload_n 2, 1) := dk_28 (dk_at dksX1_burns_0 14 rfl rfl)
theorem dX1_burns_15 : decode cX1_burns 15 = .ok (.invokevirtual 113, 3) := dk_182 0 113 (dk_at dksX1_burns_0 15 rfl rfl)
theorem dX1_burns_18 : decode cX1_burns 18 = .ok (.goto 17, 3) := dk_167 0 17 (dk_at dksX1_burns_0 18 rfl rfl)
theorem dX1_burns_21 : decode cX1_burns 21 = .ok (.astore 4, 2) := dk_58 4 (dk_at dksX1_burns_0 21 rfl rfl)
theorem dX1_burns_23 : decode cX1_burns 23 = .ok (.new 117, 3) := dk_187 0 117 (dk_at dksX1_burns_1 0 rfl rfl)
theorem dX1_burns_26 : decode cX1_burns 26 = .ok (.dup, 1) := dk_89 (dk_at dksX1_burns_1 3 rfl rfl)
theorem dX1_burns_27 : decode cX1_burns 27 = .ok (.iconst 4, 1) := dk_7 (dk_at dksX1_burns_1 4 rfl rfl)
theorem dX1_burns_28 : decode cX1_burns 28 = .ok (.iload_n 1, 1) := dk_27 (dk_at dksX1_burns_1 5 rfl rfl)
theorem dX1_burns_29 : decode cX1_burns 29 = .ok (.aload 4, 2) := dk_25 4 (dk_at dksX1_burns_1 6 rfl rfl)
theorem dX1_burns_31 : decode cX1_burns 31 = .ok (.invokespecial 119, 3) := dk_183 0 119 (dk_at dksX1_burns_1 8 rfl rfl)
theorem dX1_burns_34 : decode cX1_burns 34 = .ok (.athrow, 1) := dk_191 (dk_at dksX1_burns_1 11 rfl rfl)
theorem dX1_burns_35 : decode cX1_burns 35 = .ok (.iload_n 2, 1) := dk_28 (dk_at dksX1_burns_1 12 rfl rfl)
theorem dX1_burns_36 : decode cX1_burns 36 = .ok (.aload_n 3, 1) := dk_45 (dk_at dksX1_burns_1 13 rfl rfl)
theorem dX1_burns_37 : decode cX1_burns 37 = .ok (.getfield 122, 3) := dk_180 0 122 (dk_at dksX1_burns_1 14 rfl rfl)
theorem dX1_burns_40 : decode cX1_burns 40 = .ok (.imul, 1) := dk_104 (dk_at dksX1_burns_1 17 rfl rfl)
theorem dX1_burns_41 : decode cX1_burns 41 = .ok (.istore 4, 2) := dk_54 4 (dk_at dksX1_burns_1 18 rfl rfl)
theorem dX1_burns_43 : decode cX1_burns 43 = .ok (.aload_n 3, 1) := dk_45 (dk_at dksX1_burns_1 20 rfl rfl)
theorem dX1_burns_44 : decode cX1_burns 44 = .ok (.iload 4, 2) := dk_21 4 (dk_at dksX1_burns_1 21 rfl rfl)
theorem dX1_burns_46 : decode cX1_burns 46 = .ok (.invokevirtual 125, 3) := dk_182 0 125 (dk_at dksX1_burns_2 0 rfl rfl)
theorem dX1_burns_49 : decode cX1_burns 49 = .ok (.istore 5, 2) := dk_54 5 (dk_at dksX1_burns_2 3 rfl rfl)
theorem dX1_burns_51 : decode cX1_burns 51 = .ok (.aload_n 3, 1) := dk_45 (dk_at dksX1_burns_2 5 rfl rfl)
theorem dX1_burns_52 : decode cX1_burns 52 = .ok (.dup, 1) := dk_89 (dk_at dksX1_burns_2 6 rfl rfl)
theorem dX1_burns_53 : decode cX1_burns 53 = .ok (.getfield 94, 3) := dk_180 0 94 (dk_at dksX1_burns_2 7 rfl rfl)
theorem dX1_burns_56 : decode cX1_burns 56 = .ok (.iload_n 2, 1) := dk_28 (dk_at dksX1_burns_2 10 rfl rfl)
theorem dX1_burns_57 : decode cX1_burns 57 = .ok (.isub, 1) := dk_100 (dk_at dksX1_burns_2 11 rfl rfl)
theorem dX1_burns_58 : decode cX1_burns 58 = .ok (.putfield 94, 3) := dk_181 0 94 (dk_at dksX1_burns_2 12 rfl rfl)
theorem dX1_burns_61 : decode cX1_burns 61 = .ok (.aload_n 3, 1) := dk_45 (dk_at dksX1_burns_2 15 rfl rfl)
theorem dX1_burns_62 : decode cX1_burns 62 = .ok (.dup, 1) := dk_89 (dk_at dksX1_burns_2 16 rfl rfl)
theorem dX1_burns_63 : decode cX1_burns 63 = .ok (.getfield 128, 3) := dk_180 0 128 (dk_at dksX1_burns_2 17 rfl rfl)
theorem dX1_burns_66 : decode cX1_burns 66 = .ok (.iload 4, 2) := dk_21 4 (dk_at dksX1_burns_2 20 rfl rfl)
theorem dX1_burns_68 : decode cX1_burns 68 = .ok (.iadd, 1) := dk_96 (dk_at dksX1_burns_2 22 rfl rfl)
theorem dX1_burns_69 : decode cX1_burns 69 = .ok (.putfield 128, 3) := dk_181 0 128 (dk_at dksX1_burns_3 0 rfl rfl)
theorem dX1_burns_72 : decode cX1_burns 72 = .ok (.aload_n 0, 1) := dk_42 (dk_at dksX1_burns_3 3 rfl rfl)
theorem dX1_burns_73 : decode cX1_burns 73 = .ok (.dup, 1) := dk_89 (dk_at dksX1_burns_3 4 rfl rfl)
theorem dX1_burns_74 : decode cX1_burns 74 = .ok (.getfield 41, 3) := dk_180 0 41 (dk_at dksX1_burns_3 5 rfl rfl)
theorem dX1_burns_77 : decode cX1_burns 77 = .ok (.iload_n 2, 1) := dk_28 (dk_at dksX1_burns_3 8 rfl rfl)
theorem dX1_burns_78 : decode cX1_burns 78 = .ok (.iadd, 1) := dk_96 (dk_at dksX1_burns_3 9 rfl rfl)
theorem dX1_burns_79 : decode cX1_burns 79 = .ok (.putfield 41, 3) := dk_181 0 41 (dk_at dksX1_burns_3 10 rfl rfl)
theorem dX1_burns_82 : decode cX1_burns 82 = .ok (.aload_n 0, 1) := dk_42 (dk_at dksX1_burns_3 13 rfl rfl)
theorem dX1_burns_83 : decode cX1_burns 83 = .ok (.dup, 1) := dk_89 (dk_at dksX1_burns_3 14 rfl rfl)
theorem dX1_burns_84 : decode cX1_burns 84 = .ok (.getfield 44, 3) := dk_180 0 44 (dk_at dksX1_burns_3 15 rfl rfl)
theorem dX1_burns_87 : decode cX1_burns 87 = .ok (.iload 4, 2) := dk_21 4 (dk_at dksX1_burns_3 18 rfl rfl)
theorem dX1_burns_89 : decode cX1_burns 89 = .ok (.iadd, 1) := dk_96 (dk_at dksX1_burns_3 20 rfl rfl)
theorem dX1_burns_90 : decode cX1_burns 90 = .ok (.putfield 44, 3) := dk_181 0 44 (dk_at dksX1_burns_3 21 rfl rfl)
theorem dX1_burns_93 : decode cX1_burns 93 = .ok (.aload_n 0, 1) := dk_42 (dk_at dksX1_burns_4 0 rfl rfl)
theorem dX1_burns_94 : decode cX1_burns 94 = .ok (.dup, 1) := dk_89 (dk_at dksX1_burns_4 1 rfl rfl)
theorem dX1_burns_95 : decode cX1_burns 95 = .ok (.getfield 47, 3) := dk_180 0 47 (dk_at dksX1_burns_4 2 rfl rfl)
theorem dX1_burns_98 : decode cX1_burns 98 = .ok (.iload 5, 2) := dk_21 5 (dk_at dksX1_burns_4 5 rfl rfl)
theorem dX1_burns_100 : decode cX1_burns 100 = .ok (.iadd, 1) := dk_96 (dk_at dksX1_burns_4 7 rfl rfl)
theorem dX1_burns_101 : decode cX1_burns 101 = .ok (.putfield 47, 3) := dk_181 0 47 (dk_at dksX1_burns_4 8 rfl rfl)
theorem dX1_burns_104 : decode cX1_burns 104 = .ok (.aload_n 0, 1) := dk_42 (dk_at dksX1_burns_4 11 rfl rfl)
theorem dX1_burns_105 : decode cX1_burns 105 = .ok (.iload_n 1, 1) := dk_27 (dk_at dksX1_burns_4 12 rfl rfl)
theorem dX1_burns_106 : decode cX1_burns 106 = .ok (.invokevirtual 129, 3) := dk_182 0 129 (dk_at dksX1_burns_4 13 rfl rfl)
theorem dX1_burns_109 : decode cX1_burns 109 = .ok (.iload 5, 2) := dk_21 5 (dk_at dksX1_burns_4 16 rfl rfl)
theorem dX1_burns_111 : decode cX1_burns 111 = .ok (.ireturn, 1) := dk_172 (dk_at dksX1_burns_4 18 rfl rfl)
abbrev cX1_checksBurning : ByteArray := prog_11_method_9_code
def yX1_checksBurning : MethodName := ⟨RX1, "checksBurning", "(LCandleStatute$Stub;I)V"⟩
def dkwX1_checksBurning_1 : List UInt8 := [162, 0, 15, 187, 0, 110, 89, 43, 180, 0, 94, 183, 0, 112, 191, 177]
abbrev dktX1_checksBurning_1 : List UInt8 := dkwX1_checksBurning_1 ++ []
def dkwX1_checksBurning_0 : List UInt8 := [43, 180, 0, 104, 158, 0, 15, 187, 0, 107, 89, 43, 180, 0, 104, 183, 0, 109, 191, 43, 180, 0, 94, 28]
abbrev dktX1_checksBurning_0 : List UInt8 := dkwX1_checksBurning_0 ++ dktX1_checksBurning_1
theorem dksX1_checksBurning_0 : cX1_checksBurning.data.toList.drop 0 = dktX1_checksBurning_0 := by decide +kernel
theorem dksX1_checksBurning_1 : cX1_checksBurning.data.toList.drop 24 = dktX1_checksBurning_1 := dk_seg dksX1_checksBurning_0 24 rfl rfl
theorem dX1_checksBurning_0 : decode cX1_checksBurning 0 = .ok (.aload_n 1, 1) := dk_43 (dk_at dksX1_checksBurning_0 0 rfl rfl)
theorem dX1_checksBurning_1 : decode cX1_checksBurning 1 = .ok (.getfield 104, 3) := dk_180 0 104 (dk_at dksX1_checksBurning_0 1 rfl rfl)
theorem dX1_checksBurning_4 : decode cX1_checksBurning 4 = .ok (.ifCond .le 15, 3) := dk_158 0 15 (dk_at dksX1_checksBurning_0 4 rfl rfl)
theorem dX1_checksBurning_7 : decode cX1_checksBurning 7 = .ok (.new 107, 3) := dk_187 0 107 (dk_at dksX1_checksBurning_0 7 rfl rfl)
theorem dX1_checksBurning_10 : decode cX1_checksBurning 10 = .ok (.dup, 1) := dk_89 (dk_at dksX1_checksBurning_0 10 rfl rfl)
theorem dX1_checksBurning_11 : decode cX1_checksBurning 11 = .ok (.aload_n 1, 1) := dk_43 (dk_at dksX1_checksBurning_0 11 rfl rfl)
theorem dX1_checksBurning_12 : decode cX1_checksBurning 12 = .ok (.getfield 104, 3) := dk_180 0 104 (dk_at dksX1_checksBurning_0 12 rfl rfl)
theorem dX1_checksBurning_15 : decode cX1_checksBurning 15 = .ok (.invokespecial 109, 3) := dk_183 0 109 (dk_at dksX1_checksBurning_0 15 rfl rfl)
theorem dX1_checksBurning_18 : decode cX1_checksBurning 18 = .ok (.athrow, 1) := dk_191 (dk_at dksX1_checksBurning_0 18 rfl rfl)
theorem dX1_checksBurning_19 : decode cX1_checksBurning 19 = .ok (.aload_n 1, 1) := dk_43 (dk_at dksX1_checksBurning_0 19 rfl rfl)
theorem dX1_checksBurning_20 : decode cX1_checksBurning 20 = .ok (.getfield 94, 3) := dk_180 0 94 (dk_at dksX1_checksBurning_0 20 rfl rfl)
theorem dX1_checksBurning_23 : decode cX1_checksBurning 23 = .ok (.iload_n 2, 1) := dk_28 (dk_at dksX1_checksBurning_0 23 rfl rfl)
theorem dX1_checksBurning_24 : decode cX1_checksBurning 24 = .ok (.if_icmp .ge 15, 3) := dk_162 0 15 (dk_at dksX1_checksBurning_1 0 rfl rfl)
theorem dX1_checksBurning_27 : decode cX1_checksBurning 27 = .ok (.new 110, 3) := dk_187 0 110 (dk_at dksX1_checksBurning_1 3 rfl rfl)
theorem dX1_checksBurning_30 : decode cX1_checksBurning 30 = .ok (.dup, 1) := dk_89 (dk_at dksX1_checksBurning_1 6 rfl rfl)
theorem dX1_checksBurning_31 : decode cX1_checksBurning 31 = .ok (.aload_n 1, 1) := dk_43 (dk_at dksX1_checksBurning_1 7 rfl rfl)
theorem dX1_checksBurning_32 : decode cX1_checksBurning 32 = .ok (.getfield 94, 3) := dk_180 0 94 (dk_at dksX1_checksBurning_1 8 rfl rfl)
theorem dX1_checksBurning_35 : decode cX1_checksBurning 35 = .ok (.invokespecial 112, 3) := dk_183 0 112 (dk_at dksX1_checksBurning_1 11 rfl rfl)
theorem dX1_checksBurning_38 : decode cX1_checksBurning 38 = .ok (.athrow, 1) := dk_191 (dk_at dksX1_checksBurning_1 14 rfl rfl)
theorem dX1_checksBurning_39 : decode cX1_checksBurning 39 = .ok (.return_, 1) := dk_177 (dk_at dksX1_checksBurning_1 15 rfl rfl)
abbrev cX1_goesIfEmpty : ByteArray := prog_11_method_11_code
def yX1_goesIfEmpty : MethodName := ⟨RX1, "goesIfEmpty", "(I)V"⟩
def dkwX1_goesIfEmpty_1 : List UInt8 := [182, 0, 132, 192, 0, 79, 77, 177]
abbrev dktX1_goesIfEmpty_1 : List UInt8 := dkwX1_goesIfEmpty_1 ++ []
def dkwX1_goesIfEmpty_0 : List UInt8 := [42, 180, 0, 30, 27, 182, 0, 53, 192, 0, 79, 180, 0, 94, 154, 0, 15, 42, 180, 0, 30, 27]
abbrev dktX1_goesIfEmpty_0 : List UInt8 := dkwX1_goesIfEmpty_0 ++ dktX1_goesIfEmpty_1
theorem dksX1_goesIfEmpty_0 : cX1_goesIfEmpty.data.toList.drop 0 = dktX1_goesIfEmpty_0 := by decide +kernel
theorem dksX1_goesIfEmpty_1 : cX1_goesIfEmpty.data.toList.drop 22 = dktX1_goesIfEmpty_1 := dk_seg dksX1_goesIfEmpty_0 22 rfl rfl
theorem dX1_goesIfEmpty_0 : decode cX1_goesIfEmpty 0 = .ok (.aload_n 0, 1) := dk_42 (dk_at dksX1_goesIfEmpty_0 0 rfl rfl)
theorem dX1_goesIfEmpty_1 : decode cX1_goesIfEmpty 1 = .ok (.getfield 30, 3) := dk_180 0 30 (dk_at dksX1_goesIfEmpty_0 1 rfl rfl)
theorem dX1_goesIfEmpty_4 : decode cX1_goesIfEmpty 4 = .ok (.iload_n 1, 1) := dk_27 (dk_at dksX1_goesIfEmpty_0 4 rfl rfl)
theorem dX1_goesIfEmpty_5 : decode cX1_goesIfEmpty 5 = .ok (.invokevirtual 53, 3) := dk_182 0 53 (dk_at dksX1_goesIfEmpty_0 5 rfl rfl)
theorem dX1_goesIfEmpty_8 : decode cX1_goesIfEmpty 8 = .ok (.checkcast 79, 3) := dk_192 0 79 (dk_at dksX1_goesIfEmpty_0 8 rfl rfl)
theorem dX1_goesIfEmpty_11 : decode cX1_goesIfEmpty 11 = .ok (.getfield 94, 3) := dk_180 0 94 (dk_at dksX1_goesIfEmpty_0 11 rfl rfl)
theorem dX1_goesIfEmpty_14 : decode cX1_goesIfEmpty 14 = .ok (.ifCond .ne 15, 3) := dk_154 0 15 (dk_at dksX1_goesIfEmpty_0 14 rfl rfl)
theorem dX1_goesIfEmpty_17 : decode cX1_goesIfEmpty 17 = .ok (.aload_n 0, 1) := dk_42 (dk_at dksX1_goesIfEmpty_0 17 rfl rfl)
theorem dX1_goesIfEmpty_18 : decode cX1_goesIfEmpty 18 = .ok (.getfield 30, 3) := dk_180 0 30 (dk_at dksX1_goesIfEmpty_0 18 rfl rfl)
theorem dX1_goesIfEmpty_21 : decode cX1_goesIfEmpty 21 = .ok (.iload_n 1, 1) := dk_27 (dk_at dksX1_goesIfEmpty_0 21 rfl rfl)
theorem dX1_goesIfEmpty_22 : decode cX1_goesIfEmpty 22 = .ok (.invokevirtual 132, 3) := dk_182 0 132 (dk_at dksX1_goesIfEmpty_1 0 rfl rfl)
theorem dX1_goesIfEmpty_25 : decode cX1_goesIfEmpty 25 = .ok (.checkcast 79, 3) := dk_192 0 79 (dk_at dksX1_goesIfEmpty_1 3 rfl rfl)
theorem dX1_goesIfEmpty_28 : decode cX1_goesIfEmpty 28 = .ok (.astore_n 2, 1) := dk_77 (dk_at dksX1_goesIfEmpty_1 6 rfl rfl)
theorem dX1_goesIfEmpty_29 : decode cX1_goesIfEmpty 29 = .ok (.return_, 1) := dk_177 (dk_at dksX1_goesIfEmpty_1 7 rfl rfl)
abbrev cX1_owes : ByteArray := prog_11_method_13_code
def yX1_owes : MethodName := ⟨RX1, "owes", "(III)I"⟩
def dkwX1_owes_3 : List UInt8 := [181, 0, 135, 42, 28, 182, 0, 141, 172]
abbrev dktX1_owes_3 : List UInt8 := dkwX1_owes_3 ++ []
def dkwX1_owes_2 : List UInt8 := [167, 0, 4, 3, 16, 7, 25, 4, 180, 0, 135, 184, 0, 61, 25, 4, 29, 181, 0, 138, 25, 4, 28]
abbrev dktX1_owes_2 : List UInt8 := dkwX1_owes_2 ++ dktX1_owes_3
def dkwX1_owes_1 : List UInt8 := [160, 0, 7, 4, 167, 0, 4, 3, 16, 8, 28, 184, 0, 61, 25, 4, 180, 0, 138, 158, 0, 7, 4]
abbrev dktX1_owes_1 : List UInt8 := dkwX1_owes_1 ++ dktX1_owes_2
def dkwX1_owes_0 : List UInt8 := [42, 180, 0, 30, 27, 182, 0, 53, 192, 0, 79, 58, 4, 42, 28, 182, 0, 91, 25, 4, 180, 0, 81, 28]
abbrev dktX1_owes_0 : List UInt8 := dkwX1_owes_0 ++ dktX1_owes_1
theorem dksX1_owes_0 : cX1_owes.data.toList.drop 0 = dktX1_owes_0 := by decide +kernel
theorem dksX1_owes_1 : cX1_owes.data.toList.drop 24 = dktX1_owes_1 := dk_seg dksX1_owes_0 24 rfl rfl
theorem dksX1_owes_2 : cX1_owes.data.toList.drop 47 = dktX1_owes_2 := dk_seg dksX1_owes_1 23 rfl rfl
theorem dksX1_owes_3 : cX1_owes.data.toList.drop 70 = dktX1_owes_3 := dk_seg dksX1_owes_2 23 rfl rfl
theorem dX1_owes_0 : decode cX1_owes 0 = .ok (.aload_n 0, 1) := dk_42 (dk_at dksX1_owes_0 0 rfl rfl)
theorem dX1_owes_1 : decode cX1_owes 1 = .ok (.getfield 30, 3) := dk_180 0 30 (dk_at dksX1_owes_0 1 rfl rfl)
theorem dX1_owes_4 : decode cX1_owes 4 = .ok (.iload_n 1, 1) := dk_27 (dk_at dksX1_owes_0 4 rfl rfl)
theorem dX1_owes_5 : decode cX1_owes 5 = .ok (.invokevirtual 53, 3) := dk_182 0 53 (dk_at dksX1_owes_0 5 rfl rfl)
theorem dX1_owes_8 : decode cX1_owes 8 = .ok (.checkcast 79, 3) := dk_192 0 79 (dk_at dksX1_owes_0 8 rfl rfl)
theorem dX1_owes_11 : decode cX1_owes 11 = .ok (.astore 4, 2) := dk_58 4 (dk_at dksX1_owes_0 11 rfl rfl)
theorem dX1_owes_13 : decode cX1_owes 13 = .ok (.aload_n 0, 1) := dk_42 (dk_at dksX1_owes_0 13 rfl rfl)
theorem dX1_owes_14 : decode cX1_owes 14 = .ok (.iload_n 2, 1) := dk_28 (dk_at dksX1_owes_0 14 rfl rfl)
theorem dX1_owes_15 : decode cX1_owes 15 = .ok (.invokevirtual 91, 3) := dk_182 0 91 (dk_at dksX1_owes_0 15 rfl rfl)
theorem dX1_owes_18 : decode cX1_owes 18 = .ok (.aload 4, 2) := dk_25 4 (dk_at dksX1_owes_0 18 rfl rfl)
theorem dX1_owes_20 : decode cX1_owes 20 = .ok (.getfield 81, 3) := dk_180 0 81 (dk_at dksX1_owes_0 20 rfl rfl)
theorem dX1_owes_23 : decode cX1_owes 23 = .ok (.iload_n 2, 1) := dk_28 (dk_at dksX1_owes_0 23 rfl rfl)
theorem dX1_owes_24 : decode cX1_owes 24 = .ok (.if_icmp .ne 7, 3) := dk_160 0 7 (dk_at dksX1_owes_1 0 rfl rfl)
theorem dX1_owes_27 : decode cX1_owes 27 = .ok (.iconst 1, 1) := dk_4 (dk_at dksX1_owes_1 3 rfl rfl)
theorem dX1_owes_28 : decode cX1_owes 28 = .ok (.goto 4, 3) := dk_167 0 4 (dk_at dksX1_owes_1 4 rfl rfl)
theorem dX1_owes_31 : decode cX1_owes 31 = .ok (.iconst 0, 1) := dk_3 (dk_at dksX1_owes_1 7 rfl rfl)
theorem dX1_owes_32 : decode cX1_owes 32 = .ok (.bipush 8, 2) := dk_16 8 (dk_at dksX1_owes_1 8 rfl rfl)
theorem dX1_owes_34 : decode cX1_owes 34 = .ok (.iload_n 2, 1) := dk_28 (dk_at dksX1_owes_1 10 rfl rfl)
theorem dX1_owes_35 : decode cX1_owes 35 = .ok (.invokestatic 61, 3) := dk_184 0 61 (dk_at dksX1_owes_1 11 rfl rfl)
theorem dX1_owes_38 : decode cX1_owes 38 = .ok (.aload 4, 2) := dk_25 4 (dk_at dksX1_owes_1 14 rfl rfl)
theorem dX1_owes_40 : decode cX1_owes 40 = .ok (.getfield 138, 3) := dk_180 0 138 (dk_at dksX1_owes_1 16 rfl rfl)
theorem dX1_owes_43 : decode cX1_owes 43 = .ok (.ifCond .le 7, 3) := dk_158 0 7 (dk_at dksX1_owes_1 19 rfl rfl)
theorem dX1_owes_46 : decode cX1_owes 46 = .ok (.iconst 1, 1) := dk_4 (dk_at dksX1_owes_1 22 rfl rfl)
theorem dX1_owes_47 : decode cX1_owes 47 = .ok (.goto 4, 3) := dk_167 0 4 (dk_at dksX1_owes_2 0 rfl rfl)
theorem dX1_owes_50 : decode cX1_owes 50 = .ok (.iconst 0, 1) := dk_3 (dk_at dksX1_owes_2 3 rfl rfl)
theorem dX1_owes_51 : decode cX1_owes 51 = .ok (.bipush 7, 2) := dk_16 7 (dk_at dksX1_owes_2 4 rfl rfl)
theorem dX1_owes_53 : decode cX1_owes 53 = .ok (.aload 4, 2) := dk_25 4 (dk_at dksX1_owes_2 6 rfl rfl)
theorem dX1_owes_55 : decode cX1_owes 55 = .ok (.getfield 135, 3) := dk_180 0 135 (dk_at dksX1_owes_2 8 rfl rfl)
theorem dX1_owes_58 : decode cX1_owes 58 = .ok (.invokestatic 61, 3) := dk_184 0 61 (dk_at dksX1_owes_2 11 rfl rfl)
theorem dX1_owes_61 : decode cX1_owes 61 = .ok (.aload 4, 2) := dk_25 4 (dk_at dksX1_owes_2 14 rfl rfl)
theorem dX1_owes_63 : decode cX1_owes 63 = .ok (.iload_n 3, 1) := dk_29 (dk_at dksX1_owes_2 16 rfl rfl)
theorem dX1_owes_64 : decode cX1_owes 64 = .ok (.putfield 138, 3) := dk_181 0 138 (dk_at dksX1_owes_2 17 rfl rfl)
theorem dX1_owes_67 : decode cX1_owes 67 = .ok (.aload 4, 2) := dk_25 4 (dk_at dksX1_owes_2 20 rfl rfl)
theorem dX1_owes_69 : decode cX1_owes 69 = .ok (.iload_n 2, 1) := dk_28 (dk_at dksX1_owes_2 22 rfl rfl)
theorem dX1_owes_70 : decode cX1_owes 70 = .ok (.putfield 135, 3) := dk_181 0 135 (dk_at dksX1_owes_3 0 rfl rfl)
theorem dX1_owes_73 : decode cX1_owes 73 = .ok (.aload_n 0, 1) := dk_42 (dk_at dksX1_owes_3 3 rfl rfl)
theorem dX1_owes_74 : decode cX1_owes 74 = .ok (.iload_n 2, 1) := dk_28 (dk_at dksX1_owes_3 4 rfl rfl)
theorem dX1_owes_75 : decode cX1_owes 75 = .ok (.invokevirtual 141, 3) := dk_182 0 141 (dk_at dksX1_owes_3 5 rfl rfl)
theorem dX1_owes_78 : decode cX1_owes 78 = .ok (.ireturn, 1) := dk_172 (dk_at dksX1_owes_3 8 rfl rfl)
abbrev cX1_owedTo : ByteArray := prog_11_method_12_code
def yX1_owedTo : MethodName := ⟨RX1, "owedTo", "(I)I"⟩
def dkwX1_owedTo_2 : List UInt8 := [180, 0, 138, 167, 0, 4, 3, 96, 61, 167, 255, 215, 28, 172]
abbrev dktX1_owedTo_2 : List UInt8 := dkwX1_owedTo_2 ++ []
def dkwX1_owedTo_1 : List UInt8 := [185, 0, 75, 1, 0, 192, 0, 79, 58, 4, 28, 25, 4, 180, 0, 135, 27, 160, 0, 11, 25, 4]
abbrev dktX1_owedTo_1 : List UInt8 := dkwX1_owedTo_1 ++ dktX1_owedTo_2
def dkwX1_owedTo_0 : List UInt8 := [3, 61, 42, 180, 0, 30, 182, 0, 65, 78, 45, 185, 0, 69, 1, 0, 153, 0, 38, 45]
abbrev dktX1_owedTo_0 : List UInt8 := dkwX1_owedTo_0 ++ dktX1_owedTo_1
theorem dksX1_owedTo_0 : cX1_owedTo.data.toList.drop 0 = dktX1_owedTo_0 := by decide +kernel
theorem dksX1_owedTo_1 : cX1_owedTo.data.toList.drop 20 = dktX1_owedTo_1 := dk_seg dksX1_owedTo_0 20 rfl rfl
theorem dksX1_owedTo_2 : cX1_owedTo.data.toList.drop 42 = dktX1_owedTo_2 := dk_seg dksX1_owedTo_1 22 rfl rfl
theorem dX1_owedTo_0 : decode cX1_owedTo 0 = .ok (.iconst 0, 1) := dk_3 (dk_at dksX1_owedTo_0 0 rfl rfl)
theorem dX1_owedTo_1 : decode cX1_owedTo 1 = .ok (.istore_n 2, 1) := dk_61 (dk_at dksX1_owedTo_0 1 rfl rfl)
theorem dX1_owedTo_2 : decode cX1_owedTo 2 = .ok (.aload_n 0, 1) := dk_42 (dk_at dksX1_owedTo_0 2 rfl rfl)
theorem dX1_owedTo_3 : decode cX1_owedTo 3 = .ok (.getfield 30, 3) := dk_180 0 30 (dk_at dksX1_owedTo_0 3 rfl rfl)
theorem dX1_owedTo_6 : decode cX1_owedTo 6 = .ok (.invokevirtual 65, 3) := dk_182 0 65 (dk_at dksX1_owedTo_0 6 rfl rfl)
theorem dX1_owedTo_9 : decode cX1_owedTo 9 = .ok (.astore_n 3, 1) := dk_78 (dk_at dksX1_owedTo_0 9 rfl rfl)
theorem dX1_owedTo_10 : decode cX1_owedTo 10 = .ok (.aload_n 3, 1) := dk_45 (dk_at dksX1_owedTo_0 10 rfl rfl)
theorem dX1_owedTo_11 : decode cX1_owedTo 11 = .ok (.invokeinterface 69 1, 5) := by decide +kernel
theorem dX1_owedTo_16 : decode cX1_owedTo 16 = .ok (.ifCond .eq 38, 3) := dk_153 0 38 (dk_at dksX1_owedTo_0 16 rfl rfl)
theorem dX1_owedTo_19 : decode cX1_owedTo 19 = .ok (.aload_n 3, 1) := dk_45 (dk_at dksX1_owedTo_0 19 rfl rfl)
theorem dX1_owedTo_20 : decode cX1_owedTo 20 = .ok (.invokeinterface 75 1, 5) := by decide +kernel
theorem dX1_owedTo_25 : decode cX1_owedTo 25 = .ok (.checkcast 79, 3) := dk_192 0 79 (dk_at dksX1_owedTo_1 5 rfl rfl)
theorem dX1_owedTo_28 : decode cX1_owedTo 28 = .ok (.astore 4, 2) := dk_58 4 (dk_at dksX1_owedTo_1 8 rfl rfl)
theorem dX1_owedTo_30 : decode cX1_owedTo 30 = .ok (.iload_n 2, 1) := dk_28 (dk_at dksX1_owedTo_1 10 rfl rfl)
theorem dX1_owedTo_31 : decode cX1_owedTo 31 = .ok (.aload 4, 2) := dk_25 4 (dk_at dksX1_owedTo_1 11 rfl rfl)
theorem dX1_owedTo_33 : decode cX1_owedTo 33 = .ok (.getfield 135, 3) := dk_180 0 135 (dk_at dksX1_owedTo_1 13 rfl rfl)
theorem dX1_owedTo_36 : decode cX1_owedTo 36 = .ok (.iload_n 1, 1) := dk_27 (dk_at dksX1_owedTo_1 16 rfl rfl)
theorem dX1_owedTo_37 : decode cX1_owedTo 37 = .ok (.if_icmp .ne 11, 3) := dk_160 0 11 (dk_at dksX1_owedTo_1 17 rfl rfl)
theorem dX1_owedTo_40 : decode cX1_owedTo 40 = .ok (.aload 4, 2) := dk_25 4 (dk_at dksX1_owedTo_1 20 rfl rfl)
theorem dX1_owedTo_42 : decode cX1_owedTo 42 = .ok (.getfield 138, 3) := dk_180 0 138 (dk_at dksX1_owedTo_2 0 rfl rfl)
theorem dX1_owedTo_45 : decode cX1_owedTo 45 = .ok (.goto 4, 3) := dk_167 0 4 (dk_at dksX1_owedTo_2 3 rfl rfl)
theorem dX1_owedTo_48 : decode cX1_owedTo 48 = .ok (.iconst 0, 1) := dk_3 (dk_at dksX1_owedTo_2 6 rfl rfl)
theorem dX1_owedTo_49 : decode cX1_owedTo 49 = .ok (.iadd, 1) := dk_96 (dk_at dksX1_owedTo_2 7 rfl rfl)
theorem dX1_owedTo_50 : decode cX1_owedTo 50 = .ok (.istore_n 2, 1) := dk_61 (dk_at dksX1_owedTo_2 8 rfl rfl)
theorem dX1_owedTo_51 : decode cX1_owedTo 51 = .ok (.goto (-41), 3) := dk_167 255 215 (dk_at dksX1_owedTo_2 9 rfl rfl)
theorem dX1_owedTo_54 : decode cX1_owedTo 54 = .ok (.iload_n 2, 1) := dk_28 (dk_at dksX1_owedTo_2 12 rfl rfl)
theorem dX1_owedTo_55 : decode cX1_owedTo 55 = .ok (.ireturn, 1) := dk_172 (dk_at dksX1_owedTo_2 13 rfl rfl)
abbrev cX1_snuffs : ByteArray := prog_11_method_16_code
def yX1_snuffs : MethodName := ⟨RX1, "snuffs", "(III)I"⟩
def dkwX1_snuffs_4 : List UInt8 := [182, 0, 149, 172]
abbrev dktX1_snuffs_4 : List UInt8 := dkwX1_snuffs_4 ++ []
def dkwX1_snuffs_3 : List UInt8 := [167, 0, 4, 3, 4, 5, 184, 0, 61, 25, 4, 29, 181, 0, 104, 25, 4, 27, 181, 0, 143, 42]
abbrev dktX1_snuffs_3 : List UInt8 := dkwX1_snuffs_3 ++ dktX1_snuffs_4
def dkwX1_snuffs_2 : List UInt8 := [167, 0, 4, 3, 16, 9, 25, 4, 180, 0, 104, 184, 0, 61, 42, 27, 182, 0, 146, 5, 160, 0, 7, 4]
abbrev dktX1_snuffs_2 : List UInt8 := dkwX1_snuffs_2 ++ dktX1_snuffs_3
def dkwX1_snuffs_1 : List UInt8 := [160, 0, 7, 4, 167, 0, 4, 3, 16, 8, 27, 184, 0, 61, 25, 4, 180, 0, 104, 158, 0, 7, 4]
abbrev dktX1_snuffs_1 : List UInt8 := dkwX1_snuffs_1 ++ dktX1_snuffs_2
def dkwX1_snuffs_0 : List UInt8 := [42, 180, 0, 30, 28, 182, 0, 53, 192, 0, 79, 58, 4, 42, 27, 182, 0, 91, 25, 4, 180, 0, 81, 27]
abbrev dktX1_snuffs_0 : List UInt8 := dkwX1_snuffs_0 ++ dktX1_snuffs_1
theorem dksX1_snuffs_0 : cX1_snuffs.data.toList.drop 0 = dktX1_snuffs_0 := by decide +kernel
theorem dksX1_snuffs_1 : cX1_snuffs.data.toList.drop 24 = dktX1_snuffs_1 := dk_seg dksX1_snuffs_0 24 rfl rfl
theorem dksX1_snuffs_2 : cX1_snuffs.data.toList.drop 47 = dktX1_snuffs_2 := dk_seg dksX1_snuffs_1 23 rfl rfl
theorem dksX1_snuffs_3 : cX1_snuffs.data.toList.drop 71 = dktX1_snuffs_3 := dk_seg dksX1_snuffs_2 24 rfl rfl
theorem dksX1_snuffs_4 : cX1_snuffs.data.toList.drop 93 = dktX1_snuffs_4 := dk_seg dksX1_snuffs_3 22 rfl rfl
theorem dX1_snuffs_0 : decode cX1_snuffs 0 = .ok (.aload_n 0, 1) := dk_42 (dk_at dksX1_snuffs_0 0 rfl rfl)
theorem dX1_snuffs_1 : decode cX1_snuffs 1 = .ok (.getfield 30, 3) := dk_180 0 30 (dk_at dksX1_snuffs_0 1 rfl rfl)
theorem dX1_snuffs_4 : decode cX1_snuffs 4 = .ok (.iload_n 2, 1) := dk_28 (dk_at dksX1_snuffs_0 4 rfl rfl)
theorem dX1_snuffs_5 : decode cX1_snuffs 5 = .ok (.invokevirtual 53, 3) := dk_182 0 53 (dk_at dksX1_snuffs_0 5 rfl rfl)
theorem dX1_snuffs_8 : decode cX1_snuffs 8 = .ok (.checkcast 79, 3) := dk_192 0 79 (dk_at dksX1_snuffs_0 8 rfl rfl)
theorem dX1_snuffs_11 : decode cX1_snuffs 11 = .ok (.astore 4, 2) := dk_58 4 (dk_at dksX1_snuffs_0 11 rfl rfl)
theorem dX1_snuffs_13 : decode cX1_snuffs 13 = .ok (.aload_n 0, 1) := dk_42 (dk_at dksX1_snuffs_0 13 rfl rfl)
theorem dX1_snuffs_14 : decode cX1_snuffs 14 = .ok (.iload_n 1, 1) := dk_27 (dk_at dksX1_snuffs_0 14 rfl rfl)
theorem dX1_snuffs_15 : decode cX1_snuffs 15 = .ok (.invokevirtual 91, 3) := dk_182 0 91 (dk_at dksX1_snuffs_0 15 rfl rfl)
theorem dX1_snuffs_18 : decode cX1_snuffs 18 = .ok (.aload 4, 2) := dk_25 4 (dk_at dksX1_snuffs_0 18 rfl rfl)
theorem dX1_snuffs_20 : decode cX1_snuffs 20 = .ok (.getfield 81, 3) := dk_180 0 81 (dk_at dksX1_snuffs_0 20 rfl rfl)
theorem dX1_snuffs_23 : decode cX1_snuffs 23 = .ok (.iload_n 1, 1) := dk_27 (dk_at dksX1_snuffs_0 23 rfl rfl)
theorem dX1_snuffs_24 : decode cX1_snuffs 24 = .ok (.if_icmp .ne 7, 3) := dk_160 0 7 (dk_at dksX1_snuffs_1 0 rfl rfl)
theorem dX1_snuffs_27 : decode cX1_snuffs 27 = .ok (.iconst 1, 1) := dk_4 (dk_at dksX1_snuffs_1 3 rfl rfl)
theorem dX1_snuffs_28 : decode cX1_snuffs 28 = .ok (.goto 4, 3) := dk_167 0 4 (dk_at dksX1_snuffs_1 4 rfl rfl)
theorem dX1_snuffs_31 : decode cX1_snuffs 31 = .ok (.iconst 0, 1) := dk_3 (dk_at dksX1_snuffs_1 7 rfl rfl)
theorem dX1_snuffs_32 : decode cX1_snuffs 32 = .ok (.bipush 8, 2) := dk_16 8 (dk_at dksX1_snuffs_1 8 rfl rfl)
theorem dX1_snuffs_34 : decode cX1_snuffs 34 = .ok (.iload_n 1, 1) := dk_27 (dk_at dksX1_snuffs_1 10 rfl rfl)
theorem dX1_snuffs_35 : decode cX1_snuffs 35 = .ok (.invokestatic 61, 3) := dk_184 0 61 (dk_at dksX1_snuffs_1 11 rfl rfl)
theorem dX1_snuffs_38 : decode cX1_snuffs 38 = .ok (.aload 4, 2) := dk_25 4 (dk_at dksX1_snuffs_1 14 rfl rfl)
theorem dX1_snuffs_40 : decode cX1_snuffs 40 = .ok (.getfield 104, 3) := dk_180 0 104 (dk_at dksX1_snuffs_1 16 rfl rfl)
theorem dX1_snuffs_43 : decode cX1_snuffs 43 = .ok (.ifCond .le 7, 3) := dk_158 0 7 (dk_at dksX1_snuffs_1 19 rfl rfl)
theorem dX1_snuffs_46 : decode cX1_snuffs 46 = .ok (.iconst 1, 1) := dk_4 (dk_at dksX1_snuffs_1 22 rfl rfl)
theorem dX1_snuffs_47 : decode cX1_snuffs 47 = .ok (.goto 4, 3) := dk_167 0 4 (dk_at dksX1_snuffs_2 0 rfl rfl)
theorem dX1_snuffs_50 : decode cX1_snuffs 50 = .ok (.iconst 0, 1) := dk_3 (dk_at dksX1_snuffs_2 3 rfl rfl)
theorem dX1_snuffs_51 : decode cX1_snuffs 51 = .ok (.bipush 9, 2) := dk_16 9 (dk_at dksX1_snuffs_2 4 rfl rfl)
theorem dX1_snuffs_53 : decode cX1_snuffs 53 = .ok (.aload 4, 2) := dk_25 4 (dk_at dksX1_snuffs_2 6 rfl rfl)
theorem dX1_snuffs_55 : decode cX1_snuffs 55 = .ok (.getfield 104, 3) := dk_180 0 104 (dk_at dksX1_snuffs_2 8 rfl rfl)
theorem dX1_snuffs_58 : decode cX1_snuffs 58 = .ok (.invokestatic 61, 3) := dk_184 0 61 (dk_at dksX1_snuffs_2 11 rfl rfl)
theorem dX1_snuffs_61 : decode cX1_snuffs 61 = .ok (.aload_n 0, 1) := dk_42 (dk_at dksX1_snuffs_2 14 rfl rfl)
theorem dX1_snuffs_62 : decode cX1_snuffs 62 = .ok (.iload_n 1, 1) := dk_27 (dk_at dksX1_snuffs_2 15 rfl rfl)
theorem dX1_snuffs_63 : decode cX1_snuffs 63 = .ok (.invokevirtual 146, 3) := dk_182 0 146 (dk_at dksX1_snuffs_2 16 rfl rfl)
theorem dX1_snuffs_66 : decode cX1_snuffs 66 = .ok (.iconst 2, 1) := dk_5 (dk_at dksX1_snuffs_2 19 rfl rfl)
theorem dX1_snuffs_67 : decode cX1_snuffs 67 = .ok (.if_icmp .ne 7, 3) := dk_160 0 7 (dk_at dksX1_snuffs_2 20 rfl rfl)
theorem dX1_snuffs_70 : decode cX1_snuffs 70 = .ok (.iconst 1, 1) := dk_4 (dk_at dksX1_snuffs_2 23 rfl rfl)
theorem dX1_snuffs_71 : decode cX1_snuffs 71 = .ok (.goto 4, 3) := dk_167 0 4 (dk_at dksX1_snuffs_3 0 rfl rfl)
theorem dX1_snuffs_74 : decode cX1_snuffs 74 = .ok (.iconst 0, 1) := dk_3 (dk_at dksX1_snuffs_3 3 rfl rfl)
theorem dX1_snuffs_75 : decode cX1_snuffs 75 = .ok (.iconst 1, 1) := dk_4 (dk_at dksX1_snuffs_3 4 rfl rfl)
theorem dX1_snuffs_76 : decode cX1_snuffs 76 = .ok (.iconst 2, 1) := dk_5 (dk_at dksX1_snuffs_3 5 rfl rfl)
theorem dX1_snuffs_77 : decode cX1_snuffs 77 = .ok (.invokestatic 61, 3) := dk_184 0 61 (dk_at dksX1_snuffs_3 6 rfl rfl)
theorem dX1_snuffs_80 : decode cX1_snuffs 80 = .ok (.aload 4, 2) := dk_25 4 (dk_at dksX1_snuffs_3 9 rfl rfl)
theorem dX1_snuffs_82 : decode cX1_snuffs 82 = .ok (.iload_n 3, 1) := dk_29 (dk_at dksX1_snuffs_3 11 rfl rfl)
theorem dX1_snuffs_83 : decode cX1_snuffs 83 = .ok (.putfield 104, 3) := dk_181 0 104 (dk_at dksX1_snuffs_3 12 rfl rfl)
theorem dX1_snuffs_86 : decode cX1_snuffs 86 = .ok (.aload 4, 2) := dk_25 4 (dk_at dksX1_snuffs_3 15 rfl rfl)
theorem dX1_snuffs_88 : decode cX1_snuffs 88 = .ok (.iload_n 1, 1) := dk_27 (dk_at dksX1_snuffs_3 17 rfl rfl)
theorem dX1_snuffs_89 : decode cX1_snuffs 89 = .ok (.putfield 143, 3) := dk_181 0 143 (dk_at dksX1_snuffs_3 18 rfl rfl)
theorem dX1_snuffs_92 : decode cX1_snuffs 92 = .ok (.aload_n 0, 1) := dk_42 (dk_at dksX1_snuffs_3 21 rfl rfl)
theorem dX1_snuffs_93 : decode cX1_snuffs 93 = .ok (.invokevirtual 149, 3) := dk_182 0 149 (dk_at dksX1_snuffs_4 0 rfl rfl)
theorem dX1_snuffs_96 : decode cX1_snuffs 96 = .ok (.ireturn, 1) := dk_172 (dk_at dksX1_snuffs_4 3 rfl rfl)
abbrev cX1_writsOf : ByteArray := prog_11_method_14_code
def yX1_writsOf : MethodName := ⟨RX1, "writsOf", "(I)I"⟩
def dkwX1_writsOf_2 : List UInt8 := [3, 96, 61, 167, 255, 219, 28, 172]
abbrev dktX1_writsOf_2 : List UInt8 := dkwX1_writsOf_2 ++ []
def dkwX1_writsOf_1 : List UInt8 := [185, 0, 75, 1, 0, 192, 0, 79, 58, 4, 28, 25, 4, 180, 0, 143, 27, 160, 0, 7, 4, 167, 0, 4]
abbrev dktX1_writsOf_1 : List UInt8 := dkwX1_writsOf_1 ++ dktX1_writsOf_2
def dkwX1_writsOf_0 : List UInt8 := [3, 61, 42, 180, 0, 30, 182, 0, 65, 78, 45, 185, 0, 69, 1, 0, 153, 0, 34, 45]
abbrev dktX1_writsOf_0 : List UInt8 := dkwX1_writsOf_0 ++ dktX1_writsOf_1
theorem dksX1_writsOf_0 : cX1_writsOf.data.toList.drop 0 = dktX1_writsOf_0 := by decide +kernel
theorem dksX1_writsOf_1 : cX1_writsOf.data.toList.drop 20 = dktX1_writsOf_1 := dk_seg dksX1_writsOf_0 20 rfl rfl
theorem dksX1_writsOf_2 : cX1_writsOf.data.toList.drop 44 = dktX1_writsOf_2 := dk_seg dksX1_writsOf_1 24 rfl rfl
theorem dX1_writsOf_0 : decode cX1_writsOf 0 = .ok (.iconst 0, 1) := dk_3 (dk_at dksX1_writsOf_0 0 rfl rfl)
theorem dX1_writsOf_1 : decode cX1_writsOf 1 = .ok (.istore_n 2, 1) := dk_61 (dk_at dksX1_writsOf_0 1 rfl rfl)
theorem dX1_writsOf_2 : decode cX1_writsOf 2 = .ok (.aload_n 0, 1) := dk_42 (dk_at dksX1_writsOf_0 2 rfl rfl)
theorem dX1_writsOf_3 : decode cX1_writsOf 3 = .ok (.getfield 30, 3) := dk_180 0 30 (dk_at dksX1_writsOf_0 3 rfl rfl)
theorem dX1_writsOf_6 : decode cX1_writsOf 6 = .ok (.invokevirtual 65, 3) := dk_182 0 65 (dk_at dksX1_writsOf_0 6 rfl rfl)
theorem dX1_writsOf_9 : decode cX1_writsOf 9 = .ok (.astore_n 3, 1) := dk_78 (dk_at dksX1_writsOf_0 9 rfl rfl)
theorem dX1_writsOf_10 : decode cX1_writsOf 10 = .ok (.aload_n 3, 1) := dk_45 (dk_at dksX1_writsOf_0 10 rfl rfl)
theorem dX1_writsOf_11 : decode cX1_writsOf 11 = .ok (.invokeinterface 69 1, 5) := by decide +kernel
theorem dX1_writsOf_16 : decode cX1_writsOf 16 = .ok (.ifCond .eq 34, 3) := dk_153 0 34 (dk_at dksX1_writsOf_0 16 rfl rfl)
theorem dX1_writsOf_19 : decode cX1_writsOf 19 = .ok (.aload_n 3, 1) := dk_45 (dk_at dksX1_writsOf_0 19 rfl rfl)
theorem dX1_writsOf_20 : decode cX1_writsOf 20 = .ok (.invokeinterface 75 1, 5) := by decide +kernel
theorem dX1_writsOf_25 : decode cX1_writsOf 25 = .ok (.checkcast 79, 3) := dk_192 0 79 (dk_at dksX1_writsOf_1 5 rfl rfl)
theorem dX1_writsOf_28 : decode cX1_writsOf 28 = .ok (.astore 4, 2) := dk_58 4 (dk_at dksX1_writsOf_1 8 rfl rfl)
theorem dX1_writsOf_30 : decode cX1_writsOf 30 = .ok (.iload_n 2, 1) := dk_28 (dk_at dksX1_writsOf_1 10 rfl rfl)
theorem dX1_writsOf_31 : decode cX1_writsOf 31 = .ok (.aload 4, 2) := dk_25 4 (dk_at dksX1_writsOf_1 11 rfl rfl)
theorem dX1_writsOf_33 : decode cX1_writsOf 33 = .ok (.getfield 143, 3) := dk_180 0 143 (dk_at dksX1_writsOf_1 13 rfl rfl)
theorem dX1_writsOf_36 : decode cX1_writsOf 36 = .ok (.iload_n 1, 1) := dk_27 (dk_at dksX1_writsOf_1 16 rfl rfl)
theorem dX1_writsOf_37 : decode cX1_writsOf 37 = .ok (.if_icmp .ne 7, 3) := dk_160 0 7 (dk_at dksX1_writsOf_1 17 rfl rfl)
theorem dX1_writsOf_40 : decode cX1_writsOf 40 = .ok (.iconst 1, 1) := dk_4 (dk_at dksX1_writsOf_1 20 rfl rfl)
theorem dX1_writsOf_41 : decode cX1_writsOf 41 = .ok (.goto 4, 3) := dk_167 0 4 (dk_at dksX1_writsOf_1 21 rfl rfl)
theorem dX1_writsOf_44 : decode cX1_writsOf 44 = .ok (.iconst 0, 1) := dk_3 (dk_at dksX1_writsOf_2 0 rfl rfl)
theorem dX1_writsOf_45 : decode cX1_writsOf 45 = .ok (.iadd, 1) := dk_96 (dk_at dksX1_writsOf_2 1 rfl rfl)
theorem dX1_writsOf_46 : decode cX1_writsOf 46 = .ok (.istore_n 2, 1) := dk_61 (dk_at dksX1_writsOf_2 2 rfl rfl)
theorem dX1_writsOf_47 : decode cX1_writsOf 47 = .ok (.goto (-37), 3) := dk_167 255 219 (dk_at dksX1_writsOf_2 3 rfl rfl)
theorem dX1_writsOf_50 : decode cX1_writsOf 50 = .ok (.iload_n 2, 1) := dk_28 (dk_at dksX1_writsOf_2 6 rfl rfl)
theorem dX1_writsOf_51 : decode cX1_writsOf 51 = .ok (.ireturn, 1) := dk_172 (dk_at dksX1_writsOf_2 7 rfl rfl)
abbrev cX1_writs : ByteArray := prog_11_method_15_code
def yX1_writs : MethodName := ⟨RX1, "writs", "()I"⟩
def dkwX1_writs_2 : List UInt8 := [167, 255, 222, 27, 172]
abbrev dktX1_writs_2 : List UInt8 := dkwX1_writs_2 ++ []
def dkwX1_writs_1 : List UInt8 := [185, 0, 75, 1, 0, 192, 0, 79, 78, 27, 45, 180, 0, 104, 158, 0, 7, 4, 167, 0, 4, 3, 96, 60]
abbrev dktX1_writs_1 : List UInt8 := dkwX1_writs_1 ++ dktX1_writs_2
def dkwX1_writs_0 : List UInt8 := [3, 60, 42, 180, 0, 30, 182, 0, 65, 77, 44, 185, 0, 69, 1, 0, 153, 0, 31, 44]
abbrev dktX1_writs_0 : List UInt8 := dkwX1_writs_0 ++ dktX1_writs_1
theorem dksX1_writs_0 : cX1_writs.data.toList.drop 0 = dktX1_writs_0 := by decide +kernel
theorem dksX1_writs_1 : cX1_writs.data.toList.drop 20 = dktX1_writs_1 := dk_seg dksX1_writs_0 20 rfl rfl
theorem dksX1_writs_2 : cX1_writs.data.toList.drop 44 = dktX1_writs_2 := dk_seg dksX1_writs_1 24 rfl rfl
theorem dX1_writs_0 : decode cX1_writs 0 = .ok (.iconst 0, 1) := dk_3 (dk_at dksX1_writs_0 0 rfl rfl)
theorem dX1_writs_1 : decode cX1_writs 1 = .ok (.istore_n 1, 1) := dk_60 (dk_at dksX1_writs_0 1 rfl rfl)
theorem dX1_writs_2 : decode cX1_writs 2 = .ok (.aload_n 0, 1) := dk_42 (dk_at dksX1_writs_0 2 rfl rfl)
theorem dX1_writs_3 : decode cX1_writs 3 = .ok (.getfield 30, 3) := dk_180 0 30 (dk_at dksX1_writs_0 3 rfl rfl)
theorem dX1_writs_6 : decode cX1_writs 6 = .ok (.invokevirtual 65, 3) := dk_182 0 65 (dk_at dksX1_writs_0 6 rfl rfl)
theorem dX1_writs_9 : decode cX1_writs 9 = .ok (.astore_n 2, 1) := dk_77 (dk_at dksX1_writs_0 9 rfl rfl)
theorem dX1_writs_10 : decode cX1_writs 10 = .ok (.aload_n 2, 1) := dk_44 (dk_at dksX1_writs_0 10 rfl rfl)
theorem dX1_writs_11 : decode cX1_writs 11 = .ok (.invokeinterface 69 1, 5) := by decide +kernel
theorem dX1_writs_16 : decode cX1_writs 16 = .ok (.ifCond .eq 31, 3) := dk_153 0 31 (dk_at dksX1_writs_0 16 rfl rfl)
theorem dX1_writs_19 : decode cX1_writs 19 = .ok (.aload_n 2, 1) := dk_44 (dk_at dksX1_writs_0 19 rfl rfl)
theorem dX1_writs_20 : decode cX1_writs 20 = .ok (.invokeinterface 75 1, 5) := by decide +kernel
theorem dX1_writs_25 : decode cX1_writs 25 = .ok (.checkcast 79, 3) := dk_192 0 79 (dk_at dksX1_writs_1 5 rfl rfl)
theorem dX1_writs_28 : decode cX1_writs 28 = .ok (.astore_n 3, 1) := dk_78 (dk_at dksX1_writs_1 8 rfl rfl)
theorem dX1_writs_29 : decode cX1_writs 29 = .ok (.iload_n 1, 1) := dk_27 (dk_at dksX1_writs_1 9 rfl rfl)
theorem dX1_writs_30 : decode cX1_writs 30 = .ok (.aload_n 3, 1) := dk_45 (dk_at dksX1_writs_1 10 rfl rfl)
theorem dX1_writs_31 : decode cX1_writs 31 = .ok (.getfield 104, 3) := dk_180 0 104 (dk_at dksX1_writs_1 11 rfl rfl)
theorem dX1_writs_34 : decode cX1_writs 34 = .ok (.ifCond .le 7, 3) := dk_158 0 7 (dk_at dksX1_writs_1 14 rfl rfl)
theorem dX1_writs_37 : decode cX1_writs 37 = .ok (.iconst 1, 1) := dk_4 (dk_at dksX1_writs_1 17 rfl rfl)
theorem dX1_writs_38 : decode cX1_writs 38 = .ok (.goto 4, 3) := dk_167 0 4 (dk_at dksX1_writs_1 18 rfl rfl)
theorem dX1_writs_41 : decode cX1_writs 41 = .ok (.iconst 0, 1) := dk_3 (dk_at dksX1_writs_1 21 rfl rfl)
theorem dX1_writs_42 : decode cX1_writs 42 = .ok (.iadd, 1) := dk_96 (dk_at dksX1_writs_1 22 rfl rfl)
theorem dX1_writs_43 : decode cX1_writs 43 = .ok (.istore_n 1, 1) := dk_60 (dk_at dksX1_writs_1 23 rfl rfl)
theorem dX1_writs_44 : decode cX1_writs 44 = .ok (.goto (-34), 3) := dk_167 255 222 (dk_at dksX1_writs_2 0 rfl rfl)
theorem dX1_writs_47 : decode cX1_writs 47 = .ok (.iload_n 1, 1) := dk_27 (dk_at dksX1_writs_2 3 rfl rfl)
theorem dX1_writs_48 : decode cX1_writs 48 = .ok (.ireturn, 1) := dk_172 (dk_at dksX1_writs_2 4 rfl rfl)
abbrev cX1_ofStub : ByteArray := prog_11_method_38_code
def yX1_ofStub : MethodName := ⟨RX1, "ofStub", "(II)I"⟩
def dkwX1_ofStub_5 : List UInt8 := [45, 180, 0, 143, 167, 0, 13, 45, 180, 0, 128, 167, 0, 6, 17, 252, 12, 172]
abbrev dktX1_ofStub_5 : List UInt8 := dkwX1_ofStub_5 ++ []
def dkwX1_ofStub_4 : List UInt8 := [167, 0, 41, 45, 180, 0, 104, 167, 0, 34, 45, 180, 0, 143, 2, 160, 0, 9, 17, 252, 9, 167, 0, 20]
abbrev dktX1_ofStub_4 : List UInt8 := dkwX1_ofStub_4 ++ dktX1_ofStub_5
def dkwX1_ofStub_3 : List UInt8 := [180, 0, 135, 2, 160, 0, 9, 17, 252, 9, 167, 0, 55, 45, 180, 0, 135, 167, 0, 48, 45, 180, 0, 138]
abbrev dktX1_ofStub_3 : List UInt8 := dkwX1_ofStub_3 ++ dktX1_ofStub_4
def dkwX1_ofStub_2 : List UInt8 := [45, 180, 0, 81, 167, 0, 83, 45, 180, 0, 94, 167, 0, 76, 45, 180, 0, 122, 167, 0, 69, 45]
abbrev dktX1_ofStub_2 : List UInt8 := dkwX1_ofStub_2 ++ dktX1_ofStub_3
def dkwX1_ofStub_1 : List UInt8 := [170, 0, 0, 0, 0, 0, 131, 0, 0, 0, 0, 0, 0, 0, 7, 0, 0, 0, 47, 0, 0, 0, 54, 0, 0, 0, 61, 0, 0, 0, 68, 0, 0, 0, 89, 0, 0, 0, 96, 0, 0, 0, 103, 0, 0, 0, 124]
abbrev dktX1_ofStub_1 : List UInt8 := dkwX1_ofStub_1 ++ dktX1_ofStub_2
def dkwX1_ofStub_0 : List UInt8 := [42, 180, 0, 30, 27, 182, 0, 53, 192, 0, 79, 78, 28]
abbrev dktX1_ofStub_0 : List UInt8 := dkwX1_ofStub_0 ++ dktX1_ofStub_1
theorem dksX1_ofStub_0 : cX1_ofStub.data.toList.drop 0 = dktX1_ofStub_0 := by decide +kernel
theorem dksX1_ofStub_1 : cX1_ofStub.data.toList.drop 13 = dktX1_ofStub_1 := dk_seg dksX1_ofStub_0 13 rfl rfl
theorem dksX1_ofStub_2 : cX1_ofStub.data.toList.drop 60 = dktX1_ofStub_2 := dk_seg dksX1_ofStub_1 47 rfl rfl
theorem dksX1_ofStub_3 : cX1_ofStub.data.toList.drop 82 = dktX1_ofStub_3 := dk_seg dksX1_ofStub_2 22 rfl rfl
theorem dksX1_ofStub_4 : cX1_ofStub.data.toList.drop 106 = dktX1_ofStub_4 := dk_seg dksX1_ofStub_3 24 rfl rfl
theorem dksX1_ofStub_5 : cX1_ofStub.data.toList.drop 130 = dktX1_ofStub_5 := dk_seg dksX1_ofStub_4 24 rfl rfl
theorem dX1_ofStub_0 : decode cX1_ofStub 0 = .ok (.aload_n 0, 1) := dk_42 (dk_at dksX1_ofStub_0 0 rfl rfl)
theorem dX1_ofStub_1 : decode cX1_ofStub 1 = .ok (.getfield 30, 3) := dk_180 0 30 (dk_at dksX1_ofStub_0 1 rfl rfl)
theorem dX1_ofStub_4 : decode cX1_ofStub 4 = .ok (.iload_n 1, 1) := dk_27 (dk_at dksX1_ofStub_0 4 rfl rfl)
theorem dX1_ofStub_5 : decode cX1_ofStub 5 = .ok (.invokevirtual 53, 3) := dk_182 0 53 (dk_at dksX1_ofStub_0 5 rfl rfl)
theorem dX1_ofStub_8 : decode cX1_ofStub 8 = .ok (.checkcast 79, 3) := dk_192 0 79 (dk_at dksX1_ofStub_0 8 rfl rfl)
theorem dX1_ofStub_11 : decode cX1_ofStub 11 = .ok (.astore_n 3, 1) := dk_78 (dk_at dksX1_ofStub_0 11 rfl rfl)
theorem dX1_ofStub_12 : decode cX1_ofStub 12 = .ok (.iload_n 2, 1) := dk_28 (dk_at dksX1_ofStub_0 12 rfl rfl)
theorem dX1_ofStub_13 : decode cX1_ofStub 13 = .ok (.tableswitch 131 0 7 #[47, 54, 61, 68, 89, 96, 103, 124], 47) := by decide +kernel
theorem dX1_ofStub_60 : decode cX1_ofStub 60 = .ok (.aload_n 3, 1) := dk_45 (dk_at dksX1_ofStub_2 0 rfl rfl)
theorem dX1_ofStub_61 : decode cX1_ofStub 61 = .ok (.getfield 81, 3) := dk_180 0 81 (dk_at dksX1_ofStub_2 1 rfl rfl)
theorem dX1_ofStub_64 : decode cX1_ofStub 64 = .ok (.goto 83, 3) := dk_167 0 83 (dk_at dksX1_ofStub_2 4 rfl rfl)
theorem dX1_ofStub_67 : decode cX1_ofStub 67 = .ok (.aload_n 3, 1) := dk_45 (dk_at dksX1_ofStub_2 7 rfl rfl)
theorem dX1_ofStub_68 : decode cX1_ofStub 68 = .ok (.getfield 94, 3) := dk_180 0 94 (dk_at dksX1_ofStub_2 8 rfl rfl)
theorem dX1_ofStub_71 : decode cX1_ofStub 71 = .ok (.goto 76, 3) := dk_167 0 76 (dk_at dksX1_ofStub_2 11 rfl rfl)
theorem dX1_ofStub_74 : decode cX1_ofStub 74 = .ok (.aload_n 3, 1) := dk_45 (dk_at dksX1_ofStub_2 14 rfl rfl)
theorem dX1_ofStub_75 : decode cX1_ofStub 75 = .ok (.getfield 122, 3) := dk_180 0 122 (dk_at dksX1_ofStub_2 15 rfl rfl)
theorem dX1_ofStub_78 : decode cX1_ofStub 78 = .ok (.goto 69, 3) := dk_167 0 69 (dk_at dksX1_ofStub_2 18 rfl rfl)
theorem dX1_ofStub_81 : decode cX1_ofStub 81 = .ok (.aload_n 3, 1) := dk_45 (dk_at dksX1_ofStub_2 21 rfl rfl)
theorem dX1_ofStub_82 : decode cX1_ofStub 82 = .ok (.getfield 135, 3) := dk_180 0 135 (dk_at dksX1_ofStub_3 0 rfl rfl)
theorem dX1_ofStub_85 : decode cX1_ofStub 85 = .ok (.iconst (-1), 1) := dk_2 (dk_at dksX1_ofStub_3 3 rfl rfl)
theorem dX1_ofStub_86 : decode cX1_ofStub 86 = .ok (.if_icmp .ne 9, 3) := dk_160 0 9 (dk_at dksX1_ofStub_3 4 rfl rfl)
theorem dX1_ofStub_89 : decode cX1_ofStub 89 = .ok (.sipush (-1015), 3) := dk_17 252 9 (dk_at dksX1_ofStub_3 7 rfl rfl)
theorem dX1_ofStub_92 : decode cX1_ofStub 92 = .ok (.goto 55, 3) := dk_167 0 55 (dk_at dksX1_ofStub_3 10 rfl rfl)
theorem dX1_ofStub_95 : decode cX1_ofStub 95 = .ok (.aload_n 3, 1) := dk_45 (dk_at dksX1_ofStub_3 13 rfl rfl)
theorem dX1_ofStub_96 : decode cX1_ofStub 96 = .ok (.getfield 135, 3) := dk_180 0 135 (dk_at dksX1_ofStub_3 14 rfl rfl)
theorem dX1_ofStub_99 : decode cX1_ofStub 99 = .ok (.goto 48, 3) := dk_167 0 48 (dk_at dksX1_ofStub_3 17 rfl rfl)
theorem dX1_ofStub_102 : decode cX1_ofStub 102 = .ok (.aload_n 3, 1) := dk_45 (dk_at dksX1_ofStub_3 20 rfl rfl)
theorem dX1_ofStub_103 : decode cX1_ofStub 103 = .ok (.getfield 138, 3) := dk_180 0 138 (dk_at dksX1_ofStub_3 21 rfl rfl)
theorem dX1_ofStub_106 : decode cX1_ofStub 106 = .ok (.goto 41, 3) := dk_167 0 41 (dk_at dksX1_ofStub_4 0 rfl rfl)
theorem dX1_ofStub_109 : decode cX1_ofStub 109 = .ok (.aload_n 3, 1) := dk_45 (dk_at dksX1_ofStub_4 3 rfl rfl)
theorem dX1_ofStub_110 : decode cX1_ofStub 110 = .ok (.getfield 104, 3) := dk_180 0 104 (dk_at dksX1_ofStub_4 4 rfl rfl)
theorem dX1_ofStub_113 : decode cX1_ofStub 113 = .ok (.goto 34, 3) := dk_167 0 34 (dk_at dksX1_ofStub_4 7 rfl rfl)
theorem dX1_ofStub_116 : decode cX1_ofStub 116 = .ok (.aload_n 3, 1) := dk_45 (dk_at dksX1_ofStub_4 10 rfl rfl)
theorem dX1_ofStub_117 : decode cX1_ofStub 117 = .ok (.getfield 143, 3) := dk_180 0 143 (dk_at dksX1_ofStub_4 11 rfl rfl)
theorem dX1_ofStub_120 : decode cX1_ofStub 120 = .ok (.iconst (-1), 1) := dk_2 (dk_at dksX1_ofStub_4 14 rfl rfl)
theorem dX1_ofStub_121 : decode cX1_ofStub 121 = .ok (.if_icmp .ne 9, 3) := dk_160 0 9 (dk_at dksX1_ofStub_4 15 rfl rfl)
theorem dX1_ofStub_124 : decode cX1_ofStub 124 = .ok (.sipush (-1015), 3) := dk_17 252 9 (dk_at dksX1_ofStub_4 18 rfl rfl)
theorem dX1_ofStub_127 : decode cX1_ofStub 127 = .ok (.goto 20, 3) := dk_167 0 20 (dk_at dksX1_ofStub_4 21 rfl rfl)
theorem dX1_ofStub_130 : decode cX1_ofStub 130 = .ok (.aload_n 3, 1) := dk_45 (dk_at dksX1_ofStub_5 0 rfl rfl)
theorem dX1_ofStub_131 : decode cX1_ofStub 131 = .ok (.getfield 143, 3) := dk_180 0 143 (dk_at dksX1_ofStub_5 1 rfl rfl)
theorem dX1_ofStub_134 : decode cX1_ofStub 134 = .ok (.goto 13, 3) := dk_167 0 13 (dk_at dksX1_ofStub_5 4 rfl rfl)
theorem dX1_ofStub_137 : decode cX1_ofStub 137 = .ok (.aload_n 3, 1) := dk_45 (dk_at dksX1_ofStub_5 7 rfl rfl)
theorem dX1_ofStub_138 : decode cX1_ofStub 138 = .ok (.getfield 128, 3) := dk_180 0 128 (dk_at dksX1_ofStub_5 8 rfl rfl)
theorem dX1_ofStub_141 : decode cX1_ofStub 141 = .ok (.goto 6, 3) := dk_167 0 6 (dk_at dksX1_ofStub_5 11 rfl rfl)
theorem dX1_ofStub_144 : decode cX1_ofStub 144 = .ok (.sipush (-1012), 3) := dk_17 252 12 (dk_at dksX1_ofStub_5 14 rfl rfl)
theorem dX1_ofStub_147 : decode cX1_ofStub 147 = .ok (.ireturn, 1) := dk_172 (dk_at dksX1_ofStub_5 17 rfl rfl)
abbrev cX1_pools : ByteArray := prog_11_method_19_code
def yX1_pools : MethodName := ⟨RX1, "pools", "(II)I"⟩
def dkwX1_pools_3 : List UInt8 := [42, 182, 0, 158, 172]
abbrev dktX1_pools_3 : List UInt8 := dkwX1_pools_3 ++ []
def dkwX1_pools_2 : List UInt8 := [45, 180, 0, 81, 182, 0, 53, 192, 0, 18, 89, 180, 0, 155, 28, 96, 181, 0, 155, 42, 27, 182, 0, 129]
abbrev dktX1_pools_2 : List UInt8 := dkwX1_pools_2 ++ dktX1_pools_3
def dkwX1_pools_1 : List UInt8 := [3, 16, 10, 45, 180, 0, 94, 184, 0, 61, 45, 89, 180, 0, 94, 28, 100, 181, 0, 94, 42, 180, 0, 14]
abbrev dktX1_pools_1 : List UInt8 := dkwX1_pools_1 ++ dktX1_pools_2
def dkwX1_pools_0 : List UInt8 := [42, 180, 0, 30, 27, 182, 0, 53, 192, 0, 79, 78, 45, 180, 0, 94, 28, 162, 0, 7, 4, 167, 0, 4]
abbrev dktX1_pools_0 : List UInt8 := dkwX1_pools_0 ++ dktX1_pools_1
theorem dksX1_pools_0 : cX1_pools.data.toList.drop 0 = dktX1_pools_0 := by decide +kernel
theorem dksX1_pools_1 : cX1_pools.data.toList.drop 24 = dktX1_pools_1 := dk_seg dksX1_pools_0 24 rfl rfl
theorem dksX1_pools_2 : cX1_pools.data.toList.drop 48 = dktX1_pools_2 := dk_seg dksX1_pools_1 24 rfl rfl
theorem dksX1_pools_3 : cX1_pools.data.toList.drop 72 = dktX1_pools_3 := dk_seg dksX1_pools_2 24 rfl rfl
theorem dX1_pools_0 : decode cX1_pools 0 = .ok (.aload_n 0, 1) := dk_42 (dk_at dksX1_pools_0 0 rfl rfl)
theorem dX1_pools_1 : decode cX1_pools 1 = .ok (.getfield 30, 3) := dk_180 0 30 (dk_at dksX1_pools_0 1 rfl rfl)
theorem dX1_pools_4 : decode cX1_pools 4 = .ok (.iload_n 1, 1) := dk_27 (dk_at dksX1_pools_0 4 rfl rfl)
theorem dX1_pools_5 : decode cX1_pools 5 = .ok (.invokevirtual 53, 3) := dk_182 0 53 (dk_at dksX1_pools_0 5 rfl rfl)
theorem dX1_pools_8 : decode cX1_pools 8 = .ok (.checkcast 79, 3) := dk_192 0 79 (dk_at dksX1_pools_0 8 rfl rfl)
theorem dX1_pools_11 : decode cX1_pools 11 = .ok (.astore_n 3, 1) := dk_78 (dk_at dksX1_pools_0 11 rfl rfl)
theorem dX1_pools_12 : decode cX1_pools 12 = .ok (.aload_n 3, 1) := dk_45 (dk_at dksX1_pools_0 12 rfl rfl)
theorem dX1_pools_13 : decode cX1_pools 13 = .ok (.getfield 94, 3) := dk_180 0 94 (dk_at dksX1_pools_0 13 rfl rfl)
theorem dX1_pools_16 : decode cX1_pools 16 = .ok (.iload_n 2, 1) := dk_28 (dk_at dksX1_pools_0 16 rfl rfl)
theorem dX1_pools_17 : decode cX1_pools 17 = .ok (.if_icmp .ge 7, 3) := dk_162 0 7 (dk_at dksX1_pools_0 17 rfl rfl)
theorem dX1_pools_20 : decode cX1_pools 20 = .ok (.iconst 1, 1) := dk_4 (dk_at dksX1_pools_0 20 rfl rfl)
theorem dX1_pools_21 : decode cX1_pools 21 = .ok (.goto 4, 3) := dk_167 0 4 (dk_at dksX1_pools_0 21 rfl rfl)
theorem dX1_pools_24 : decode cX1_pools 24 = .ok (.iconst 0, 1) := dk_3 (dk_at dksX1_pools_1 0 rfl rfl)
theorem dX1_pools_25 : decode cX1_pools 25 = .ok (.bipush 10, 2) := dk_16 10 (dk_at dksX1_pools_1 1 rfl rfl)
theorem dX1_pools_27 : decode cX1_pools 27 = .ok (.aload_n 3, 1) := dk_45 (dk_at dksX1_pools_1 3 rfl rfl)
theorem dX1_pools_28 : decode cX1_pools 28 = .ok (.getfield 94, 3) := dk_180 0 94 (dk_at dksX1_pools_1 4 rfl rfl)
theorem dX1_pools_31 : decode cX1_pools 31 = .ok (.invokestatic 61, 3) := dk_184 0 61 (dk_at dksX1_pools_1 7 rfl rfl)
theorem dX1_pools_34 : decode cX1_pools 34 = .ok (.aload_n 3, 1) := dk_45 (dk_at dksX1_pools_1 10 rfl rfl)
theorem dX1_pools_35 : decode cX1_pools 35 = .ok (.dup, 1) := dk_89 (dk_at dksX1_pools_1 11 rfl rfl)
theorem dX1_pools_36 : decode cX1_pools 36 = .ok (.getfield 94, 3) := dk_180 0 94 (dk_at dksX1_pools_1 12 rfl rfl)
theorem dX1_pools_39 : decode cX1_pools 39 = .ok (.iload_n 2, 1) := dk_28 (dk_at dksX1_pools_1 15 rfl rfl)
theorem dX1_pools_40 : decode cX1_pools 40 = .ok (.isub, 1) := dk_100 (dk_at dksX1_pools_1 16 rfl rfl)
theorem dX1_pools_41 : decode cX1_pools 41 = .ok (.putfield 94, 3) := dk_181 0 94 (dk_at dksX1_pools_1 17 rfl rfl)
theorem dX1_pools_44 : decode cX1_pools 44 = .ok (.aload_n 0, 1) := dk_42 (dk_at dksX1_pools_1 20 rfl rfl)
theorem dX1_pools_45 : decode cX1_pools 45 = .ok (.getfield 14, 3) := dk_180 0 14 (dk_at dksX1_pools_1 21 rfl rfl)
theorem dX1_pools_48 : decode cX1_pools 48 = .ok (.aload_n 3, 1) := dk_45 (dk_at dksX1_pools_2 0 rfl rfl)
theorem dX1_pools_49 : decode cX1_pools 49 = .ok (.getfield 81, 3) := dk_180 0 81 (dk_at dksX1_pools_2 1 rfl rfl)
theorem dX1_pools_52 : decode cX1_pools 52 = .ok (.invokevirtual 53, 3) := dk_182 0 53 (dk_at dksX1_pools_2 4 rfl rfl)
theorem dX1_pools_55 : decode cX1_pools 55 = .ok (.checkcast 18, 3) := dk_192 0 18 (dk_at dksX1_pools_2 7 rfl rfl)
theorem dX1_pools_58 : decode cX1_pools 58 = .ok (.dup, 1) := dk_89 (dk_at dksX1_pools_2 10 rfl rfl)
theorem dX1_pools_59 : decode cX1_pools 59 = .ok (.getfield 155, 3) := dk_180 0 155 (dk_at dksX1_pools_2 11 rfl rfl)
theorem dX1_pools_62 : decode cX1_pools 62 = .ok (.iload_n 2, 1) := dk_28 (dk_at dksX1_pools_2 14 rfl rfl)
theorem dX1_pools_63 : decode cX1_pools 63 = .ok (.iadd, 1) := dk_96 (dk_at dksX1_pools_2 15 rfl rfl)
theorem dX1_pools_64 : decode cX1_pools 64 = .ok (.putfield 155, 3) := dk_181 0 155 (dk_at dksX1_pools_2 16 rfl rfl)
theorem dX1_pools_67 : decode cX1_pools 67 = .ok (.aload_n 0, 1) := dk_42 (dk_at dksX1_pools_2 19 rfl rfl)
theorem dX1_pools_68 : decode cX1_pools 68 = .ok (.iload_n 1, 1) := dk_27 (dk_at dksX1_pools_2 20 rfl rfl)
theorem dX1_pools_69 : decode cX1_pools 69 = .ok (.invokevirtual 129, 3) := dk_182 0 129 (dk_at dksX1_pools_2 21 rfl rfl)
theorem dX1_pools_72 : decode cX1_pools 72 = .ok (.aload_n 0, 1) := dk_42 (dk_at dksX1_pools_3 0 rfl rfl)
theorem dX1_pools_73 : decode cX1_pools 73 = .ok (.invokevirtual 158, 3) := dk_182 0 158 (dk_at dksX1_pools_3 1 rfl rfl)
theorem dX1_pools_76 : decode cX1_pools 76 = .ok (.ireturn, 1) := dk_172 (dk_at dksX1_pools_3 4 rfl rfl)
abbrev cX1_pool : ByteArray := prog_11_method_18_code
def yX1_pool : MethodName := ⟨RX1, "pool", "()I"⟩
def dkwX1_pool_1 : List UInt8 := [185, 0, 75, 1, 0, 192, 0, 18, 78, 27, 45, 180, 0, 155, 96, 60, 167, 255, 230, 27, 172]
abbrev dktX1_pool_1 : List UInt8 := dkwX1_pool_1 ++ []
def dkwX1_pool_0 : List UInt8 := [3, 60, 42, 180, 0, 14, 182, 0, 65, 77, 44, 185, 0, 69, 1, 0, 153, 0, 23, 44]
abbrev dktX1_pool_0 : List UInt8 := dkwX1_pool_0 ++ dktX1_pool_1
theorem dksX1_pool_0 : cX1_pool.data.toList.drop 0 = dktX1_pool_0 := by decide +kernel
theorem dksX1_pool_1 : cX1_pool.data.toList.drop 20 = dktX1_pool_1 := dk_seg dksX1_pool_0 20 rfl rfl
theorem dX1_pool_0 : decode cX1_pool 0 = .ok (.iconst 0, 1) := dk_3 (dk_at dksX1_pool_0 0 rfl rfl)
theorem dX1_pool_1 : decode cX1_pool 1 = .ok (.istore_n 1, 1) := dk_60 (dk_at dksX1_pool_0 1 rfl rfl)
theorem dX1_pool_2 : decode cX1_pool 2 = .ok (.aload_n 0, 1) := dk_42 (dk_at dksX1_pool_0 2 rfl rfl)
theorem dX1_pool_3 : decode cX1_pool 3 = .ok (.getfield 14, 3) := dk_180 0 14 (dk_at dksX1_pool_0 3 rfl rfl)
theorem dX1_pool_6 : decode cX1_pool 6 = .ok (.invokevirtual 65, 3) := dk_182 0 65 (dk_at dksX1_pool_0 6 rfl rfl)
theorem dX1_pool_9 : decode cX1_pool 9 = .ok (.astore_n 2, 1) := dk_77 (dk_at dksX1_pool_0 9 rfl rfl)
theorem dX1_pool_10 : decode cX1_pool 10 = .ok (.aload_n 2, 1) := dk_44 (dk_at dksX1_pool_0 10 rfl rfl)
theorem dX1_pool_11 : decode cX1_pool 11 = .ok (.invokeinterface 69 1, 5) := by decide +kernel
theorem dX1_pool_16 : decode cX1_pool 16 = .ok (.ifCond .eq 23, 3) := dk_153 0 23 (dk_at dksX1_pool_0 16 rfl rfl)
theorem dX1_pool_19 : decode cX1_pool 19 = .ok (.aload_n 2, 1) := dk_44 (dk_at dksX1_pool_0 19 rfl rfl)
theorem dX1_pool_20 : decode cX1_pool 20 = .ok (.invokeinterface 75 1, 5) := by decide +kernel
theorem dX1_pool_25 : decode cX1_pool 25 = .ok (.checkcast 18, 3) := dk_192 0 18 (dk_at dksX1_pool_1 5 rfl rfl)
theorem dX1_pool_28 : decode cX1_pool 28 = .ok (.astore_n 3, 1) := dk_78 (dk_at dksX1_pool_1 8 rfl rfl)
theorem dX1_pool_29 : decode cX1_pool 29 = .ok (.iload_n 1, 1) := dk_27 (dk_at dksX1_pool_1 9 rfl rfl)
theorem dX1_pool_30 : decode cX1_pool 30 = .ok (.aload_n 3, 1) := dk_45 (dk_at dksX1_pool_1 10 rfl rfl)
theorem dX1_pool_31 : decode cX1_pool 31 = .ok (.getfield 155, 3) := dk_180 0 155 (dk_at dksX1_pool_1 11 rfl rfl)
theorem dX1_pool_34 : decode cX1_pool 34 = .ok (.iadd, 1) := dk_96 (dk_at dksX1_pool_1 14 rfl rfl)
theorem dX1_pool_35 : decode cX1_pool 35 = .ok (.istore_n 1, 1) := dk_60 (dk_at dksX1_pool_1 15 rfl rfl)
theorem dX1_pool_36 : decode cX1_pool 36 = .ok (.goto (-26), 3) := dk_167 255 230 (dk_at dksX1_pool_1 16 rfl rfl)
theorem dX1_pool_39 : decode cX1_pool 39 = .ok (.iload_n 1, 1) := dk_27 (dk_at dksX1_pool_1 19 rfl rfl)
theorem dX1_pool_40 : decode cX1_pool 40 = .ok (.ireturn, 1) := dk_172 (dk_at dksX1_pool_1 20 rfl rfl)
abbrev cX1_shares : ByteArray := prog_11_method_25_code
def yX1_shares : MethodName := ⟨RX1, "shares", "()I"⟩
def dkwX1_shares_5 : List UInt8 := [167, 255, 197, 29, 172]
abbrev dktX1_shares_5 : List UInt8 := dkwX1_shares_5 ++ []
def dkwX1_shares_4 : List UInt8 := [3, 181, 0, 155, 29, 44, 21, 4, 46, 158, 0, 7, 4, 167, 0, 4, 3, 96, 62, 132, 4, 1]
abbrev dktX1_shares_4 : List UInt8 := dkwX1_shares_4 ++ dktX1_shares_5
def dkwX1_shares_3 : List UInt8 := [182, 0, 53, 192, 0, 18, 58, 5, 25, 5, 89, 180, 0, 178, 44, 21, 4, 46, 96, 181, 0, 178, 25, 5]
abbrev dktX1_shares_3 : List UInt8 := dkwX1_shares_3 ++ dktX1_shares_4
def dkwX1_shares_2 : List UInt8 := [182, 0, 174, 77, 3, 62, 3, 54, 4, 21, 4, 16, 6, 162, 0, 58, 42, 180, 0, 14, 21, 4]
abbrev dktX1_shares_2 : List UInt8 := dkwX1_shares_2 ++ dktX1_shares_3
def dkwX1_shares_1 : List UInt8 := [184, 0, 61, 42, 182, 0, 164, 154, 0, 7, 4, 167, 0, 4, 3, 16, 12, 27, 184, 0, 61, 42]
abbrev dktX1_shares_1 : List UInt8 := dkwX1_shares_1 ++ dktX1_shares_2
def dkwX1_shares_0 : List UInt8 := [42, 182, 0, 158, 60, 27, 154, 0, 7, 4, 167, 0, 4, 3, 16, 11, 42, 180, 0, 30, 182, 0, 171]
abbrev dktX1_shares_0 : List UInt8 := dkwX1_shares_0 ++ dktX1_shares_1
theorem dksX1_shares_0 : cX1_shares.data.toList.drop 0 = dktX1_shares_0 := by decide +kernel
theorem dksX1_shares_1 : cX1_shares.data.toList.drop 23 = dktX1_shares_1 := dk_seg dksX1_shares_0 23 rfl rfl
theorem dksX1_shares_2 : cX1_shares.data.toList.drop 45 = dktX1_shares_2 := dk_seg dksX1_shares_1 22 rfl rfl
theorem dksX1_shares_3 : cX1_shares.data.toList.drop 67 = dktX1_shares_3 := dk_seg dksX1_shares_2 22 rfl rfl
theorem dksX1_shares_4 : cX1_shares.data.toList.drop 91 = dktX1_shares_4 := dk_seg dksX1_shares_3 24 rfl rfl
theorem dksX1_shares_5 : cX1_shares.data.toList.drop 113 = dktX1_shares_5 := dk_seg dksX1_shares_4 22 rfl rfl
theorem dX1_shares_0 : decode cX1_shares 0 = .ok (.aload_n 0, 1) := dk_42 (dk_at dksX1_shares_0 0 rfl rfl)
theorem dX1_shares_1 : decode cX1_shares 1 = .ok (.invokevirtual 158, 3) := dk_182 0 158 (dk_at dksX1_shares_0 1 rfl rfl)
theorem dX1_shares_4 : decode cX1_shares 4 = .ok (.istore_n 1, 1) := dk_60 (dk_at dksX1_shares_0 4 rfl rfl)
theorem dX1_shares_5 : decode cX1_shares 5 = .ok (.iload_n 1, 1) := dk_27 (dk_at dksX1_shares_0 5 rfl rfl)
theorem dX1_shares_6 : decode cX1_shares 6 = .ok (.ifCond .ne 7, 3) := dk_154 0 7 (dk_at dksX1_shares_0 6 rfl rfl)
theorem dX1_shares_9 : decode cX1_shares 9 = .ok (.iconst 1, 1) := dk_4 (dk_at dksX1_shares_0 9 rfl rfl)
theorem dX1_shares_10 : decode cX1_shares 10 = .ok (.goto 4, 3) := dk_167 0 4 (dk_at dksX1_shares_0 10 rfl rfl)
theorem dX1_shares_13 : decode cX1_shares 13 = .ok (.iconst 0, 1) := dk_3 (dk_at dksX1_shares_0 13 rfl rfl)
theorem dX1_shares_14 : decode cX1_shares 14 = .ok (.bipush 11, 2) := dk_16 11 (dk_at dksX1_shares_0 14 rfl rfl)
theorem dX1_shares_16 : decode cX1_shares 16 = .ok (.aload_n 0, 1) := dk_42 (dk_at dksX1_shares_0 16 rfl rfl)
theorem dX1_shares_17 : decode cX1_shares 17 = .ok (.getfield 30, 3) := dk_180 0 30 (dk_at dksX1_shares_0 17 rfl rfl)
theorem dX1_shares_20 : decode cX1_shares 20 = .ok (.invokevirtual 171, 3) := dk_182 0 171 (dk_at dksX1_shares_0 20 rfl rfl)
theorem dX1_shares_23 : decode cX1_shares 23 = .ok (.invokestatic 61, 3) := dk_184 0 61 (dk_at dksX1_shares_1 0 rfl rfl)
theorem dX1_shares_26 : decode cX1_shares 26 = .ok (.aload_n 0, 1) := dk_42 (dk_at dksX1_shares_1 3 rfl rfl)
theorem dX1_shares_27 : decode cX1_shares 27 = .ok (.invokevirtual 164, 3) := dk_182 0 164 (dk_at dksX1_shares_1 4 rfl rfl)
theorem dX1_shares_30 : decode cX1_shares 30 = .ok (.ifCond .ne 7, 3) := dk_154 0 7 (dk_at dksX1_shares_1 7 rfl rfl)
theorem dX1_shares_33 : decode cX1_shares 33 = .ok (.iconst 1, 1) := dk_4 (dk_at dksX1_shares_1 10 rfl rfl)
theorem dX1_shares_34 : decode cX1_shares 34 = .ok (.goto 4, 3) := dk_167 0 4 (dk_at dksX1_shares_1 11 rfl rfl)
theorem dX1_shares_37 : decode cX1_shares 37 = .ok (.iconst 0, 1) := dk_3 (dk_at dksX1_shares_1 14 rfl rfl)
theorem dX1_shares_38 : decode cX1_shares 38 = .ok (.bipush 12, 2) := dk_16 12 (dk_at dksX1_shares_1 15 rfl rfl)
theorem dX1_shares_40 : decode cX1_shares 40 = .ok (.iload_n 1, 1) := dk_27 (dk_at dksX1_shares_1 17 rfl rfl)
theorem dX1_shares_41 : decode cX1_shares 41 = .ok (.invokestatic 61, 3) := dk_184 0 61 (dk_at dksX1_shares_1 18 rfl rfl)
theorem dX1_shares_44 : decode cX1_shares 44 = .ok (.aload_n 0, 1) := dk_42 (dk_at dksX1_shares_1 21 rfl rfl)
theorem dX1_shares_45 : decode cX1_shares 45 = .ok (.invokevirtual 174, 3) := dk_182 0 174 (dk_at dksX1_shares_2 0 rfl rfl)
theorem dX1_shares_48 : decode cX1_shares 48 = .ok (.astore_n 2, 1) := dk_77 (dk_at dksX1_shares_2 3 rfl rfl)
theorem dX1_shares_49 : decode cX1_shares 49 = .ok (.iconst 0, 1) := dk_3 (dk_at dksX1_shares_2 4 rfl rfl)
theorem dX1_shares_50 : decode cX1_shares 50 = .ok (.istore_n 3, 1) := dk_62 (dk_at dksX1_shares_2 5 rfl rfl)
theorem dX1_shares_51 : decode cX1_shares 51 = .ok (.iconst 0, 1) := dk_3 (dk_at dksX1_shares_2 6 rfl rfl)
theorem dX1_shares_52 : decode cX1_shares 52 = .ok (.istore 4, 2) := dk_54 4 (dk_at dksX1_shares_2 7 rfl rfl)
theorem dX1_shares_54 : decode cX1_shares 54 = .ok (.iload 4, 2) := dk_21 4 (dk_at dksX1_shares_2 9 rfl rfl)
theorem dX1_shares_56 : decode cX1_shares 56 = .ok (.bipush 6, 2) := dk_16 6 (dk_at dksX1_shares_2 11 rfl rfl)
theorem dX1_shares_58 : decode cX1_shares 58 = .ok (.if_icmp .ge 58, 3) := dk_162 0 58 (dk_at dksX1_shares_2 13 rfl rfl)
theorem dX1_shares_61 : decode cX1_shares 61 = .ok (.aload_n 0, 1) := dk_42 (dk_at dksX1_shares_2 16 rfl rfl)
theorem dX1_shares_62 : decode cX1_shares 62 = .ok (.getfield 14, 3) := dk_180 0 14 (dk_at dksX1_shares_2 17 rfl rfl)
theorem dX1_shares_65 : decode cX1_shares 65 = .ok (.iload 4, 2) := dk_21 4 (dk_at dksX1_shares_2 20 rfl rfl)
theorem dX1_shares_67 : decode cX1_shares 67 = .ok (.invokevirtual 53, 3) := dk_182 0 53 (dk_at dksX1_shares_3 0 rfl rfl)
theorem dX1_shares_70 : decode cX1_shares 70 = .ok (.checkcast 18, 3) := dk_192 0 18 (dk_at dksX1_shares_3 3 rfl rfl)
theorem dX1_shares_73 : decode cX1_shares 73 = .ok (.astore 5, 2) := dk_58 5 (dk_at dksX1_shares_3 6 rfl rfl)
theorem dX1_shares_75 : decode cX1_shares 75 = .ok (.aload 5, 2) := dk_25 5 (dk_at dksX1_shares_3 8 rfl rfl)
theorem dX1_shares_77 : decode cX1_shares 77 = .ok (.dup, 1) := dk_89 (dk_at dksX1_shares_3 10 rfl rfl)
theorem dX1_shares_78 : decode cX1_shares 78 = .ok (.getfield 178, 3) := dk_180 0 178 (dk_at dksX1_shares_3 11 rfl rfl)
theorem dX1_shares_81 : decode cX1_shares 81 = .ok (.aload_n 2, 1) := dk_44 (dk_at dksX1_shares_3 14 rfl rfl)
theorem dX1_shares_82 : decode cX1_shares 82 = .ok (.iload 4, 2) := dk_21 4 (dk_at dksX1_shares_3 15 rfl rfl)
theorem dX1_shares_84 : decode cX1_shares 84 = .ok (.iaload, 1) := dk_46 (dk_at dksX1_shares_3 17 rfl rfl)
theorem dX1_shares_85 : decode cX1_shares 85 = .ok (.iadd, 1) := dk_96 (dk_at dksX1_shares_3 18 rfl rfl)
theorem dX1_shares_86 : decode cX1_shares 86 = .ok (.putfield 178, 3) := dk_181 0 178 (dk_at dksX1_shares_3 19 rfl rfl)
theorem dX1_shares_89 : decode cX1_shares 89 = .ok (.aload 5, 2) := dk_25 5 (dk_at dksX1_shares_3 22 rfl rfl)
theorem dX1_shares_91 : decode cX1_shares 91 = .ok (.iconst 0, 1) := dk_3 (dk_at dksX1_shares_4 0 rfl rfl)
theorem dX1_shares_92 : decode cX1_shares 92 = .ok (.putfield 155, 3) := dk_181 0 155 (dk_at dksX1_shares_4 1 rfl rfl)
theorem dX1_shares_95 : decode cX1_shares 95 = .ok (.iload_n 3, 1) := dk_29 (dk_at dksX1_shares_4 4 rfl rfl)
theorem dX1_shares_96 : decode cX1_shares 96 = .ok (.aload_n 2, 1) := dk_44 (dk_at dksX1_shares_4 5 rfl rfl)
theorem dX1_shares_97 : decode cX1_shares 97 = .ok (.iload 4, 2) := dk_21 4 (dk_at dksX1_shares_4 6 rfl rfl)
theorem dX1_shares_99 : decode cX1_shares 99 = .ok (.iaload, 1) := dk_46 (dk_at dksX1_shares_4 8 rfl rfl)
theorem dX1_shares_100 : decode cX1_shares 100 = .ok (.ifCond .le 7, 3) := dk_158 0 7 (dk_at dksX1_shares_4 9 rfl rfl)
theorem dX1_shares_103 : decode cX1_shares 103 = .ok (.iconst 1, 1) := dk_4 (dk_at dksX1_shares_4 12 rfl rfl)
theorem dX1_shares_104 : decode cX1_shares 104 = .ok (.goto 4, 3) := dk_167 0 4 (dk_at dksX1_shares_4 13 rfl rfl)
theorem dX1_shares_107 : decode cX1_shares 107 = .ok (.iconst 0, 1) := dk_3 (dk_at dksX1_shares_4 16 rfl rfl)
theorem dX1_shares_108 : decode cX1_shares 108 = .ok (.iadd, 1) := dk_96 (dk_at dksX1_shares_4 17 rfl rfl)
theorem dX1_shares_109 : decode cX1_shares 109 = .ok (.istore_n 3, 1) := dk_62 (dk_at dksX1_shares_4 18 rfl rfl)
theorem dX1_shares_110 : decode cX1_shares 110 = .ok (.iinc 4 1, 3) := dk_132 4 1 (dk_at dksX1_shares_4 19 rfl rfl)
theorem dX1_shares_113 : decode cX1_shares 113 = .ok (.goto (-59), 3) := dk_167 255 197 (dk_at dksX1_shares_5 0 rfl rfl)
theorem dX1_shares_116 : decode cX1_shares 116 = .ok (.iload_n 3, 1) := dk_29 (dk_at dksX1_shares_5 3 rfl rfl)
theorem dX1_shares_117 : decode cX1_shares 117 = .ok (.ireturn, 1) := dk_172 (dk_at dksX1_shares_5 4 rfl rfl)
abbrev cX1_claims : ByteArray := prog_11_method_21_code
def yX1_claims : MethodName := ⟨RX1, "claims", "()I"⟩
def dkwX1_claims_1 : List UInt8 := [27, 172]
abbrev dktX1_claims_1 : List UInt8 := dkwX1_claims_1 ++ []
def dkwX1_claims_0 : List UInt8 := [3, 60, 3, 61, 28, 16, 6, 162, 0, 17, 27, 42, 28, 182, 0, 161, 96, 60, 132, 2, 1, 167, 255, 239]
abbrev dktX1_claims_0 : List UInt8 := dkwX1_claims_0 ++ dktX1_claims_1
theorem dksX1_claims_0 : cX1_claims.data.toList.drop 0 = dktX1_claims_0 := by decide +kernel
theorem dksX1_claims_1 : cX1_claims.data.toList.drop 24 = dktX1_claims_1 := dk_seg dksX1_claims_0 24 rfl rfl
theorem dX1_claims_0 : decode cX1_claims 0 = .ok (.iconst 0, 1) := dk_3 (dk_at dksX1_claims_0 0 rfl rfl)
theorem dX1_claims_1 : decode cX1_claims 1 = .ok (.istore_n 1, 1) := dk_60 (dk_at dksX1_claims_0 1 rfl rfl)
theorem dX1_claims_2 : decode cX1_claims 2 = .ok (.iconst 0, 1) := dk_3 (dk_at dksX1_claims_0 2 rfl rfl)
theorem dX1_claims_3 : decode cX1_claims 3 = .ok (.istore_n 2, 1) := dk_61 (dk_at dksX1_claims_0 3 rfl rfl)
theorem dX1_claims_4 : decode cX1_claims 4 = .ok (.iload_n 2, 1) := dk_28 (dk_at dksX1_claims_0 4 rfl rfl)
theorem dX1_claims_5 : decode cX1_claims 5 = .ok (.bipush 6, 2) := dk_16 6 (dk_at dksX1_claims_0 5 rfl rfl)
theorem dX1_claims_7 : decode cX1_claims 7 = .ok (.if_icmp .ge 17, 3) := dk_162 0 17 (dk_at dksX1_claims_0 7 rfl rfl)
theorem dX1_claims_10 : decode cX1_claims 10 = .ok (.iload_n 1, 1) := dk_27 (dk_at dksX1_claims_0 10 rfl rfl)
theorem dX1_claims_11 : decode cX1_claims 11 = .ok (.aload_n 0, 1) := dk_42 (dk_at dksX1_claims_0 11 rfl rfl)
theorem dX1_claims_12 : decode cX1_claims 12 = .ok (.iload_n 2, 1) := dk_28 (dk_at dksX1_claims_0 12 rfl rfl)
theorem dX1_claims_13 : decode cX1_claims 13 = .ok (.invokevirtual 161, 3) := dk_182 0 161 (dk_at dksX1_claims_0 13 rfl rfl)
theorem dX1_claims_16 : decode cX1_claims 16 = .ok (.iadd, 1) := dk_96 (dk_at dksX1_claims_0 16 rfl rfl)
theorem dX1_claims_17 : decode cX1_claims 17 = .ok (.istore_n 1, 1) := dk_60 (dk_at dksX1_claims_0 17 rfl rfl)
theorem dX1_claims_18 : decode cX1_claims 18 = .ok (.iinc 2 1, 3) := dk_132 2 1 (dk_at dksX1_claims_0 18 rfl rfl)
theorem dX1_claims_21 : decode cX1_claims 21 = .ok (.goto (-17), 3) := dk_167 255 239 (dk_at dksX1_claims_0 21 rfl rfl)
theorem dX1_claims_24 : decode cX1_claims 24 = .ok (.iload_n 1, 1) := dk_27 (dk_at dksX1_claims_1 0 rfl rfl)
theorem dX1_claims_25 : decode cX1_claims 25 = .ok (.ireturn, 1) := dk_172 (dk_at dksX1_claims_1 1 rfl rfl)
abbrev cX1_claim : ByteArray := prog_11_method_20_code
def yX1_claim : MethodName := ⟨RX1, "claim", "(I)I"⟩
def dkwX1_claim_1 : List UInt8 := [27, 182, 0, 141, 96, 167, 0, 4, 3, 172]
abbrev dktX1_claim_1 : List UInt8 := dkwX1_claim_1 ++ []
def dkwX1_claim_0 : List UInt8 := [42, 180, 0, 14, 27, 182, 0, 53, 192, 0, 18, 77, 44, 180, 0, 57, 153, 0, 16, 44, 180, 0, 155, 42]
abbrev dktX1_claim_0 : List UInt8 := dkwX1_claim_0 ++ dktX1_claim_1
theorem dksX1_claim_0 : cX1_claim.data.toList.drop 0 = dktX1_claim_0 := by decide +kernel
theorem dksX1_claim_1 : cX1_claim.data.toList.drop 24 = dktX1_claim_1 := dk_seg dksX1_claim_0 24 rfl rfl
theorem dX1_claim_0 : decode cX1_claim 0 = .ok (.aload_n 0, 1) := dk_42 (dk_at dksX1_claim_0 0 rfl rfl)
theorem dX1_claim_1 : decode cX1_claim 1 = .ok (.getfield 14, 3) := dk_180 0 14 (dk_at dksX1_claim_0 1 rfl rfl)
theorem dX1_claim_4 : decode cX1_claim 4 = .ok (.iload_n 1, 1) := dk_27 (dk_at dksX1_claim_0 4 rfl rfl)
theorem dX1_claim_5 : decode cX1_claim 5 = .ok (.invokevirtual 53, 3) := dk_182 0 53 (dk_at dksX1_claim_0 5 rfl rfl)
theorem dX1_claim_8 : decode cX1_claim 8 = .ok (.checkcast 18, 3) := dk_192 0 18 (dk_at dksX1_claim_0 8 rfl rfl)
theorem dX1_claim_11 : decode cX1_claim 11 = .ok (.astore_n 2, 1) := dk_77 (dk_at dksX1_claim_0 11 rfl rfl)
theorem dX1_claim_12 : decode cX1_claim 12 = .ok (.aload_n 2, 1) := dk_44 (dk_at dksX1_claim_0 12 rfl rfl)
theorem dX1_claim_13 : decode cX1_claim 13 = .ok (.getfield 57, 3) := dk_180 0 57 (dk_at dksX1_claim_0 13 rfl rfl)
theorem dX1_claim_16 : decode cX1_claim 16 = .ok (.ifCond .eq 16, 3) := dk_153 0 16 (dk_at dksX1_claim_0 16 rfl rfl)
theorem dX1_claim_19 : decode cX1_claim 19 = .ok (.aload_n 2, 1) := dk_44 (dk_at dksX1_claim_0 19 rfl rfl)
theorem dX1_claim_20 : decode cX1_claim 20 = .ok (.getfield 155, 3) := dk_180 0 155 (dk_at dksX1_claim_0 20 rfl rfl)
theorem dX1_claim_23 : decode cX1_claim 23 = .ok (.aload_n 0, 1) := dk_42 (dk_at dksX1_claim_0 23 rfl rfl)
theorem dX1_claim_24 : decode cX1_claim 24 = .ok (.iload_n 1, 1) := dk_27 (dk_at dksX1_claim_1 0 rfl rfl)
theorem dX1_claim_25 : decode cX1_claim 25 = .ok (.invokevirtual 141, 3) := dk_182 0 141 (dk_at dksX1_claim_1 1 rfl rfl)
theorem dX1_claim_28 : decode cX1_claim 28 = .ok (.iadd, 1) := dk_96 (dk_at dksX1_claim_1 4 rfl rfl)
theorem dX1_claim_29 : decode cX1_claim 29 = .ok (.goto 4, 3) := dk_167 0 4 (dk_at dksX1_claim_1 5 rfl rfl)
theorem dX1_claim_32 : decode cX1_claim 32 = .ok (.iconst 0, 1) := dk_3 (dk_at dksX1_claim_1 8 rfl rfl)
theorem dX1_claim_33 : decode cX1_claim 33 = .ok (.ireturn, 1) := dk_172 (dk_at dksX1_claim_1 9 rfl rfl)
abbrev cX1_parts : ByteArray := prog_11_method_22_code
def yX1_parts : MethodName := ⟨RX1, "parts", "()[I"⟩
def dkwX1_parts_7 : List UInt8 := [176]
abbrev dktX1_parts_7 : List UInt8 := dkwX1_parts_7 ++ []
def dkwX1_parts_6 : List UInt8 := [167, 255, 194, 25, 4, 21, 5, 4, 84, 43, 21, 5, 92, 46, 4, 96, 79, 132, 3, 255, 167, 255, 160, 43]
abbrev dktX1_parts_6 : List UInt8 := dkwX1_parts_6 ++ dktX1_parts_7
def dkwX1_parts_5 : List UInt8 := [167, 0, 4, 3, 54, 7, 21, 7, 153, 0, 8, 21, 6, 167, 0, 5, 21, 5, 54, 5, 132, 6, 1]
abbrev dktX1_parts_5 : List UInt8 := dkwX1_parts_5 ++ dktX1_parts_6
def dkwX1_parts_4 : List UInt8 := [21, 5, 2, 159, 0, 20, 42, 21, 6, 28, 182, 0, 167, 42, 21, 5, 28, 182, 0, 167, 164, 0, 7, 4]
abbrev dktX1_parts_4 : List UInt8 := dkwX1_parts_4 ++ dktX1_parts_5
def dkwX1_parts_3 : List UInt8 := [158, 0, 94, 2, 54, 5, 3, 54, 6, 21, 6, 16, 6, 162, 0, 61, 25, 4, 21, 6, 51, 154, 0, 30]
abbrev dktX1_parts_3 : List UInt8 := dkwX1_parts_3 ++ dktX1_parts_4
def dkwX1_parts_2 : List UInt8 := [29, 43, 21, 4, 46, 100, 62, 132, 4, 1, 167, 255, 218, 16, 6, 188, 4, 58, 4, 28, 158, 0, 98, 29]
abbrev dktX1_parts_2 : List UInt8 := dkwX1_parts_2 ++ dktX1_parts_3
def dkwX1_parts_1 : List UInt8 := [162, 0, 37, 28, 158, 0, 33, 43, 21, 4, 42, 182, 0, 158, 42, 21, 4, 182, 0, 161, 104, 28, 108, 79]
abbrev dktX1_parts_1 : List UInt8 := dkwX1_parts_1 ++ dktX1_parts_2
def dkwX1_parts_0 : List UInt8 := [16, 6, 188, 10, 76, 42, 182, 0, 164, 61, 42, 182, 0, 158, 62, 3, 54, 4, 21, 4, 16, 6]
abbrev dktX1_parts_0 : List UInt8 := dkwX1_parts_0 ++ dktX1_parts_1
theorem dksX1_parts_0 : cX1_parts.data.toList.drop 0 = dktX1_parts_0 := by decide +kernel
theorem dksX1_parts_1 : cX1_parts.data.toList.drop 22 = dktX1_parts_1 := dk_seg dksX1_parts_0 22 rfl rfl
theorem dksX1_parts_2 : cX1_parts.data.toList.drop 46 = dktX1_parts_2 := dk_seg dksX1_parts_1 24 rfl rfl
theorem dksX1_parts_3 : cX1_parts.data.toList.drop 70 = dktX1_parts_3 := dk_seg dksX1_parts_2 24 rfl rfl
theorem dksX1_parts_4 : cX1_parts.data.toList.drop 94 = dktX1_parts_4 := dk_seg dksX1_parts_3 24 rfl rfl
theorem dksX1_parts_5 : cX1_parts.data.toList.drop 118 = dktX1_parts_5 := dk_seg dksX1_parts_4 24 rfl rfl
theorem dksX1_parts_6 : cX1_parts.data.toList.drop 141 = dktX1_parts_6 := dk_seg dksX1_parts_5 23 rfl rfl
theorem dksX1_parts_7 : cX1_parts.data.toList.drop 165 = dktX1_parts_7 := dk_seg dksX1_parts_6 24 rfl rfl
theorem dX1_parts_0 : decode cX1_parts 0 = .ok (.bipush 6, 2) := dk_16 6 (dk_at dksX1_parts_0 0 rfl rfl)
theorem dX1_parts_2 : decode cX1_parts 2 = .ok (.newarray .int, 2) := dk_188_10 (dk_at dksX1_parts_0 2 rfl rfl)
theorem dX1_parts_4 : decode cX1_parts 4 = .ok (.astore_n 1, 1) := dk_76 (dk_at dksX1_parts_0 4 rfl rfl)
theorem dX1_parts_5 : decode cX1_parts 5 = .ok (.aload_n 0, 1) := dk_42 (dk_at dksX1_parts_0 5 rfl rfl)
theorem dX1_parts_6 : decode cX1_parts 6 = .ok (.invokevirtual 164, 3) := dk_182 0 164 (dk_at dksX1_parts_0 6 rfl rfl)
theorem dX1_parts_9 : decode cX1_parts 9 = .ok (.istore_n 2, 1) := dk_61 (dk_at dksX1_parts_0 9 rfl rfl)
theorem dX1_parts_10 : decode cX1_parts 10 = .ok (.aload_n 0, 1) := dk_42 (dk_at dksX1_parts_0 10 rfl rfl)
theorem dX1_parts_11 : decode cX1_parts 11 = .ok (.invokevirtual 158, 3) := dk_182 0 158 (dk_at dksX1_parts_0 11 rfl rfl)
theorem dX1_parts_14 : decode cX1_parts 14 = .ok (.istore_n 3, 1) := dk_62 (dk_at dksX1_parts_0 14 rfl rfl)
theorem dX1_parts_15 : decode cX1_parts 15 = .ok (.iconst 0, 1) := dk_3 (dk_at dksX1_parts_0 15 rfl rfl)
theorem dX1_parts_16 : decode cX1_parts 16 = .ok (.istore 4, 2) := dk_54 4 (dk_at dksX1_parts_0 16 rfl rfl)
theorem dX1_parts_18 : decode cX1_parts 18 = .ok (.iload 4, 2) := dk_21 4 (dk_at dksX1_parts_0 18 rfl rfl)
theorem dX1_parts_20 : decode cX1_parts 20 = .ok (.bipush 6, 2) := dk_16 6 (dk_at dksX1_parts_0 20 rfl rfl)
theorem dX1_parts_22 : decode cX1_parts 22 = .ok (.if_icmp .ge 37, 3) := dk_162 0 37 (dk_at dksX1_parts_1 0 rfl rfl)
theorem dX1_parts_25 : decode cX1_parts 25 = .ok (.iload_n 2, 1) := dk_28 (dk_at dksX1_parts_1 3 rfl rfl)
theorem dX1_parts_26 : decode cX1_parts 26 = .ok (.ifCond .le 33, 3) := dk_158 0 33 (dk_at dksX1_parts_1 4 rfl rfl)
theorem dX1_parts_29 : decode cX1_parts 29 = .ok (.aload_n 1, 1) := dk_43 (dk_at dksX1_parts_1 7 rfl rfl)
theorem dX1_parts_30 : decode cX1_parts 30 = .ok (.iload 4, 2) := dk_21 4 (dk_at dksX1_parts_1 8 rfl rfl)
theorem dX1_parts_32 : decode cX1_parts 32 = .ok (.aload_n 0, 1) := dk_42 (dk_at dksX1_parts_1 10 rfl rfl)
theorem dX1_parts_33 : decode cX1_parts 33 = .ok (.invokevirtual 158, 3) := dk_182 0 158 (dk_at dksX1_parts_1 11 rfl rfl)
theorem dX1_parts_36 : decode cX1_parts 36 = .ok (.aload_n 0, 1) := dk_42 (dk_at dksX1_parts_1 14 rfl rfl)
theorem dX1_parts_37 : decode cX1_parts 37 = .ok (.iload 4, 2) := dk_21 4 (dk_at dksX1_parts_1 15 rfl rfl)
theorem dX1_parts_39 : decode cX1_parts 39 = .ok (.invokevirtual 161, 3) := dk_182 0 161 (dk_at dksX1_parts_1 17 rfl rfl)
theorem dX1_parts_42 : decode cX1_parts 42 = .ok (.imul, 1) := dk_104 (dk_at dksX1_parts_1 20 rfl rfl)
theorem dX1_parts_43 : decode cX1_parts 43 = .ok (.iload_n 2, 1) := dk_28 (dk_at dksX1_parts_1 21 rfl rfl)
theorem dX1_parts_44 : decode cX1_parts 44 = .ok (.idiv, 1) := dk_108 (dk_at dksX1_parts_1 22 rfl rfl)
theorem dX1_parts_45 : decode cX1_parts 45 = .ok (.iastore, 1) := dk_79 (dk_at dksX1_parts_1 23 rfl rfl)
theorem dX1_parts_46 : decode cX1_parts 46 = .ok (.iload_n 3, 1) := dk_29 (dk_at dksX1_parts_2 0 rfl rfl)
theorem dX1_parts_47 : decode cX1_parts 47 = .ok (.aload_n 1, 1) := dk_43 (dk_at dksX1_parts_2 1 rfl rfl)
theorem dX1_parts_48 : decode cX1_parts 48 = .ok (.iload 4, 2) := dk_21 4 (dk_at dksX1_parts_2 2 rfl rfl)
theorem dX1_parts_50 : decode cX1_parts 50 = .ok (.iaload, 1) := dk_46 (dk_at dksX1_parts_2 4 rfl rfl)
theorem dX1_parts_51 : decode cX1_parts 51 = .ok (.isub, 1) := dk_100 (dk_at dksX1_parts_2 5 rfl rfl)
theorem dX1_parts_52 : decode cX1_parts 52 = .ok (.istore_n 3, 1) := dk_62 (dk_at dksX1_parts_2 6 rfl rfl)
theorem dX1_parts_53 : decode cX1_parts 53 = .ok (.iinc 4 1, 3) := dk_132 4 1 (dk_at dksX1_parts_2 7 rfl rfl)
theorem dX1_parts_56 : decode cX1_parts 56 = .ok (.goto (-38), 3) := dk_167 255 218 (dk_at dksX1_parts_2 10 rfl rfl)
theorem dX1_parts_59 : decode cX1_parts 59 = .ok (.bipush 6, 2) := dk_16 6 (dk_at dksX1_parts_2 13 rfl rfl)
theorem dX1_parts_61 : decode cX1_parts 61 = .ok (.newarray .boolean, 2) := dk_188_4 (dk_at dksX1_parts_2 15 rfl rfl)
theorem dX1_parts_63 : decode cX1_parts 63 = .ok (.astore 4, 2) := dk_58 4 (dk_at dksX1_parts_2 17 rfl rfl)
theorem dX1_parts_65 : decode cX1_parts 65 = .ok (.iload_n 2, 1) := dk_28 (dk_at dksX1_parts_2 19 rfl rfl)
theorem dX1_parts_66 : decode cX1_parts 66 = .ok (.ifCond .le 98, 3) := dk_158 0 98 (dk_at dksX1_parts_2 20 rfl rfl)
theorem dX1_parts_69 : decode cX1_parts 69 = .ok (.iload_n 3, 1) := dk_29 (dk_at dksX1_parts_2 23 rfl rfl)
theorem dX1_parts_70 : decode cX1_parts 70 = .ok (.ifCond .le 94, 3) := dk_158 0 94 (dk_at dksX1_parts_3 0 rfl rfl)
theorem dX1_parts_73 : decode cX1_parts 73 = .ok (.iconst (-1), 1) := dk_2 (dk_at dksX1_parts_3 3 rfl rfl)
theorem dX1_parts_74 : decode cX1_parts 74 = .ok (.istore 5, 2) := dk_54 5 (dk_at dksX1_parts_3 4 rfl rfl)
theorem dX1_parts_76 : decode cX1_parts 76 = .ok (.iconst 0, 1) := dk_3 (dk_at dksX1_parts_3 6 rfl rfl)
theorem dX1_parts_77 : decode cX1_parts 77 = .ok (.istore 6, 2) := dk_54 6 (dk_at dksX1_parts_3 7 rfl rfl)
theorem dX1_parts_79 : decode cX1_parts 79 = .ok (.iload 6, 2) := dk_21 6 (dk_at dksX1_parts_3 9 rfl rfl)
theorem dX1_parts_81 : decode cX1_parts 81 = .ok (.bipush 6, 2) := dk_16 6 (dk_at dksX1_parts_3 11 rfl rfl)
theorem dX1_parts_83 : decode cX1_parts 83 = .ok (.if_icmp .ge 61, 3) := dk_162 0 61 (dk_at dksX1_parts_3 13 rfl rfl)
theorem dX1_parts_86 : decode cX1_parts 86 = .ok (.aload 4, 2) := dk_25 4 (dk_at dksX1_parts_3 16 rfl rfl)
theorem dX1_parts_88 : decode cX1_parts 88 = .ok (.iload 6, 2) := dk_21 6 (dk_at dksX1_parts_3 18 rfl rfl)
theorem dX1_parts_90 : decode cX1_parts 90 = .ok (.baload, 1) := dk_51 (dk_at dksX1_parts_3 20 rfl rfl)
theorem dX1_parts_91 : decode cX1_parts 91 = .ok (.ifCond .ne 30, 3) := dk_154 0 30 (dk_at dksX1_parts_3 21 rfl rfl)
theorem dX1_parts_94 : decode cX1_parts 94 = .ok (.iload 5, 2) := dk_21 5 (dk_at dksX1_parts_4 0 rfl rfl)
theorem dX1_parts_96 : decode cX1_parts 96 = .ok (.iconst (-1), 1) := dk_2 (dk_at dksX1_parts_4 2 rfl rfl)
theorem dX1_parts_97 : decode cX1_parts 97 = .ok (.if_icmp .eq 20, 3) := dk_159 0 20 (dk_at dksX1_parts_4 3 rfl rfl)
theorem dX1_parts_100 : decode cX1_parts 100 = .ok (.aload_n 0, 1) := dk_42 (dk_at dksX1_parts_4 6 rfl rfl)
theorem dX1_parts_101 : decode cX1_parts 101 = .ok (.iload 6, 2) := dk_21 6 (dk_at dksX1_parts_4 7 rfl rfl)
theorem dX1_parts_103 : decode cX1_parts 103 = .ok (.iload_n 2, 1) := dk_28 (dk_at dksX1_parts_4 9 rfl rfl)
theorem dX1_parts_104 : decode cX1_parts 104 = .ok (.invokevirtual 167, 3) := dk_182 0 167 (dk_at dksX1_parts_4 10 rfl rfl)
theorem dX1_parts_107 : decode cX1_parts 107 = .ok (.aload_n 0, 1) := dk_42 (dk_at dksX1_parts_4 13 rfl rfl)
theorem dX1_parts_108 : decode cX1_parts 108 = .ok (.iload 5, 2) := dk_21 5 (dk_at dksX1_parts_4 14 rfl rfl)
theorem dX1_parts_110 : decode cX1_parts 110 = .ok (.iload_n 2, 1) := dk_28 (dk_at dksX1_parts_4 16 rfl rfl)
theorem dX1_parts_111 : decode cX1_parts 111 = .ok (.invokevirtual 167, 3) := dk_182 0 167 (dk_at dksX1_parts_4 17 rfl rfl)
theorem dX1_parts_114 : decode cX1_parts 114 = .ok (.if_icmp .le 7, 3) := dk_164 0 7 (dk_at dksX1_parts_4 20 rfl rfl)
theorem dX1_parts_117 : decode cX1_parts 117 = .ok (.iconst 1, 1) := dk_4 (dk_at dksX1_parts_4 23 rfl rfl)
theorem dX1_parts_118 : decode cX1_parts 118 = .ok (.goto 4, 3) := dk_167 0 4 (dk_at dksX1_parts_5 0 rfl rfl)
theorem dX1_parts_121 : decode cX1_parts 121 = .ok (.iconst 0, 1) := dk_3 (dk_at dksX1_parts_5 3 rfl rfl)
theorem dX1_parts_122 : decode cX1_parts 122 = .ok (.istore 7, 2) := dk_54 7 (dk_at dksX1_parts_5 4 rfl rfl)
theorem dX1_parts_124 : decode cX1_parts 124 = .ok (.iload 7, 2) := dk_21 7 (dk_at dksX1_parts_5 6 rfl rfl)
theorem dX1_parts_126 : decode cX1_parts 126 = .ok (.ifCond .eq 8, 3) := dk_153 0 8 (dk_at dksX1_parts_5 8 rfl rfl)
theorem dX1_parts_129 : decode cX1_parts 129 = .ok (.iload 6, 2) := dk_21 6 (dk_at dksX1_parts_5 11 rfl rfl)
theorem dX1_parts_131 : decode cX1_parts 131 = .ok (.goto 5, 3) := dk_167 0 5 (dk_at dksX1_parts_5 13 rfl rfl)
theorem dX1_parts_134 : decode cX1_parts 134 = .ok (.iload 5, 2) := dk_21 5 (dk_at dksX1_parts_5 16 rfl rfl)
theorem dX1_parts_136 : decode cX1_parts 136 = .ok (.istore 5, 2) := dk_54 5 (dk_at dksX1_parts_5 18 rfl rfl)
theorem dX1_parts_138 : decode cX1_parts 138 = .ok (.iinc 6 1, 3) := dk_132 6 1 (dk_at dksX1_parts_5 20 rfl rfl)
theorem dX1_parts_141 : decode cX1_parts 141 = .ok (.goto (-62), 3) := dk_167 255 194 (dk_at dksX1_parts_6 0 rfl rfl)
theorem dX1_parts_144 : decode cX1_parts 144 = .ok (.aload 4, 2) := dk_25 4 (dk_at dksX1_parts_6 3 rfl rfl)
theorem dX1_parts_146 : decode cX1_parts 146 = .ok (.iload 5, 2) := dk_21 5 (dk_at dksX1_parts_6 5 rfl rfl)
theorem dX1_parts_148 : decode cX1_parts 148 = .ok (.iconst 1, 1) := dk_4 (dk_at dksX1_parts_6 7 rfl rfl)
theorem dX1_parts_149 : decode cX1_parts 149 = .ok (.bastore, 1) := dk_84 (dk_at dksX1_parts_6 8 rfl rfl)
theorem dX1_parts_150 : decode cX1_parts 150 = .ok (.aload_n 1, 1) := dk_43 (dk_at dksX1_parts_6 9 rfl rfl)
theorem dX1_parts_151 : decode cX1_parts 151 = .ok (.iload 5, 2) := dk_21 5 (dk_at dksX1_parts_6 10 rfl rfl)
theorem dX1_parts_153 : decode cX1_parts 153 = .ok (.dup2, 1) := dk_92 (dk_at dksX1_parts_6 12 rfl rfl)
theorem dX1_parts_154 : decode cX1_parts 154 = .ok (.iaload, 1) := dk_46 (dk_at dksX1_parts_6 13 rfl rfl)
theorem dX1_parts_155 : decode cX1_parts 155 = .ok (.iconst 1, 1) := dk_4 (dk_at dksX1_parts_6 14 rfl rfl)
theorem dX1_parts_156 : decode cX1_parts 156 = .ok (.iadd, 1) := dk_96 (dk_at dksX1_parts_6 15 rfl rfl)
theorem dX1_parts_157 : decode cX1_parts 157 = .ok (.iastore, 1) := dk_79 (dk_at dksX1_parts_6 16 rfl rfl)
theorem dX1_parts_158 : decode cX1_parts 158 = .ok (.iinc 3 (-1), 3) := dk_132 3 255 (dk_at dksX1_parts_6 17 rfl rfl)
theorem dX1_parts_161 : decode cX1_parts 161 = .ok (.goto (-96), 3) := dk_167 255 160 (dk_at dksX1_parts_6 20 rfl rfl)
theorem dX1_parts_164 : decode cX1_parts 164 = .ok (.aload_n 1, 1) := dk_43 (dk_at dksX1_parts_6 23 rfl rfl)
theorem dX1_parts_165 : decode cX1_parts 165 = .ok (.areturn, 1) := dk_176 (dk_at dksX1_parts_7 0 rfl rfl)
abbrev cX1_remainder : ByteArray := prog_11_method_23_code
def yX1_remainder : MethodName := ⟨RX1, "remainder", "(II)I"⟩
def dkwX1_remainder_0 : List UInt8 := [42, 182, 0, 158, 42, 27, 182, 0, 161, 104, 28, 112, 172]
abbrev dktX1_remainder_0 : List UInt8 := dkwX1_remainder_0 ++ []
theorem dksX1_remainder_0 : cX1_remainder.data.toList.drop 0 = dktX1_remainder_0 := by decide +kernel
theorem dX1_remainder_0 : decode cX1_remainder 0 = .ok (.aload_n 0, 1) := dk_42 (dk_at dksX1_remainder_0 0 rfl rfl)
theorem dX1_remainder_1 : decode cX1_remainder 1 = .ok (.invokevirtual 158, 3) := dk_182 0 158 (dk_at dksX1_remainder_0 1 rfl rfl)
theorem dX1_remainder_4 : decode cX1_remainder 4 = .ok (.aload_n 0, 1) := dk_42 (dk_at dksX1_remainder_0 4 rfl rfl)
theorem dX1_remainder_5 : decode cX1_remainder 5 = .ok (.iload_n 1, 1) := dk_27 (dk_at dksX1_remainder_0 5 rfl rfl)
theorem dX1_remainder_6 : decode cX1_remainder 6 = .ok (.invokevirtual 161, 3) := dk_182 0 161 (dk_at dksX1_remainder_0 6 rfl rfl)
theorem dX1_remainder_9 : decode cX1_remainder 9 = .ok (.imul, 1) := dk_104 (dk_at dksX1_remainder_0 9 rfl rfl)
theorem dX1_remainder_10 : decode cX1_remainder 10 = .ok (.iload_n 2, 1) := dk_28 (dk_at dksX1_remainder_0 10 rfl rfl)
theorem dX1_remainder_11 : decode cX1_remainder 11 = .ok (.irem, 1) := dk_112 (dk_at dksX1_remainder_0 11 rfl rfl)
theorem dX1_remainder_12 : decode cX1_remainder 12 = .ok (.ireturn, 1) := dk_172 (dk_at dksX1_remainder_0 12 rfl rfl)
abbrev cX1_partsAgain : ByteArray := prog_11_method_24_code
def yX1_partsAgain : MethodName := ⟨RX1, "partsAgain", "()[I"⟩
def dkwX1_partsAgain_4 : List UInt8 := [92, 46, 4, 96, 79, 132, 4, 1, 167, 255, 170, 43, 176]
abbrev dktX1_partsAgain_4 : List UInt8 := dkwX1_partsAgain_4 ++ []
def dkwX1_partsAgain_3 : List UInt8 := [28, 104, 100, 164, 0, 8, 21, 6, 167, 0, 5, 21, 5, 54, 5, 132, 6, 1, 167, 255, 200, 43, 21, 5]
abbrev dktX1_partsAgain_3 : List UInt8 := dkwX1_partsAgain_3 ++ dktX1_partsAgain_4
def dkwX1_partsAgain_2 : List UInt8 := [104, 43, 21, 6, 46, 28, 104, 100, 54, 7, 21, 7, 29, 42, 21, 5, 182, 0, 161, 104, 43, 21, 5, 46]
abbrev dktX1_partsAgain_2 : List UInt8 := dkwX1_partsAgain_2 ++ dktX1_partsAgain_3
def dkwX1_partsAgain_1 : List UInt8 := [28, 158, 0, 82, 3, 54, 5, 4, 54, 6, 21, 6, 16, 6, 162, 0, 55, 29, 42, 21, 6, 182, 0, 161]
abbrev dktX1_partsAgain_1 : List UInt8 := dkwX1_partsAgain_1 ++ dktX1_partsAgain_2
def dkwX1_partsAgain_0 : List UInt8 := [16, 6, 188, 10, 76, 42, 182, 0, 164, 61, 42, 182, 0, 158, 62, 3, 54, 4, 21, 4, 29, 162, 0, 86]
abbrev dktX1_partsAgain_0 : List UInt8 := dkwX1_partsAgain_0 ++ dktX1_partsAgain_1
theorem dksX1_partsAgain_0 : cX1_partsAgain.data.toList.drop 0 = dktX1_partsAgain_0 := by decide +kernel
theorem dksX1_partsAgain_1 : cX1_partsAgain.data.toList.drop 24 = dktX1_partsAgain_1 := dk_seg dksX1_partsAgain_0 24 rfl rfl
theorem dksX1_partsAgain_2 : cX1_partsAgain.data.toList.drop 48 = dktX1_partsAgain_2 := dk_seg dksX1_partsAgain_1 24 rfl rfl
theorem dksX1_partsAgain_3 : cX1_partsAgain.data.toList.drop 72 = dktX1_partsAgain_3 := dk_seg dksX1_partsAgain_2 24 rfl rfl
theorem dksX1_partsAgain_4 : cX1_partsAgain.data.toList.drop 96 = dktX1_partsAgain_4 := dk_seg dksX1_partsAgain_3 24 rfl rfl
theorem dX1_partsAgain_0 : decode cX1_partsAgain 0 = .ok (.bipush 6, 2) := dk_16 6 (dk_at dksX1_partsAgain_0 0 rfl rfl)
theorem dX1_partsAgain_2 : decode cX1_partsAgain 2 = .ok (.newarray .int, 2) := dk_188_10 (dk_at dksX1_partsAgain_0 2 rfl rfl)
theorem dX1_partsAgain_4 : decode cX1_partsAgain 4 = .ok (.astore_n 1, 1) := dk_76 (dk_at dksX1_partsAgain_0 4 rfl rfl)
theorem dX1_partsAgain_5 : decode cX1_partsAgain 5 = .ok (.aload_n 0, 1) := dk_42 (dk_at dksX1_partsAgain_0 5 rfl rfl)
theorem dX1_partsAgain_6 : decode cX1_partsAgain 6 = .ok (.invokevirtual 164, 3) := dk_182 0 164 (dk_at dksX1_partsAgain_0 6 rfl rfl)
theorem dX1_partsAgain_9 : decode cX1_partsAgain 9 = .ok (.istore_n 2, 1) := dk_61 (dk_at dksX1_partsAgain_0 9 rfl rfl)
theorem dX1_partsAgain_10 : decode cX1_partsAgain 10 = .ok (.aload_n 0, 1) := dk_42 (dk_at dksX1_partsAgain_0 10 rfl rfl)
theorem dX1_partsAgain_11 : decode cX1_partsAgain 11 = .ok (.invokevirtual 158, 3) := dk_182 0 158 (dk_at dksX1_partsAgain_0 11 rfl rfl)
theorem dX1_partsAgain_14 : decode cX1_partsAgain 14 = .ok (.istore_n 3, 1) := dk_62 (dk_at dksX1_partsAgain_0 14 rfl rfl)
theorem dX1_partsAgain_15 : decode cX1_partsAgain 15 = .ok (.iconst 0, 1) := dk_3 (dk_at dksX1_partsAgain_0 15 rfl rfl)
theorem dX1_partsAgain_16 : decode cX1_partsAgain 16 = .ok (.istore 4, 2) := dk_54 4 (dk_at dksX1_partsAgain_0 16 rfl rfl)
theorem dX1_partsAgain_18 : decode cX1_partsAgain 18 = .ok (.iload 4, 2) := dk_21 4 (dk_at dksX1_partsAgain_0 18 rfl rfl)
theorem dX1_partsAgain_20 : decode cX1_partsAgain 20 = .ok (.iload_n 3, 1) := dk_29 (dk_at dksX1_partsAgain_0 20 rfl rfl)
theorem dX1_partsAgain_21 : decode cX1_partsAgain 21 = .ok (.if_icmp .ge 86, 3) := dk_162 0 86 (dk_at dksX1_partsAgain_0 21 rfl rfl)
theorem dX1_partsAgain_24 : decode cX1_partsAgain 24 = .ok (.iload_n 2, 1) := dk_28 (dk_at dksX1_partsAgain_1 0 rfl rfl)
theorem dX1_partsAgain_25 : decode cX1_partsAgain 25 = .ok (.ifCond .le 82, 3) := dk_158 0 82 (dk_at dksX1_partsAgain_1 1 rfl rfl)
theorem dX1_partsAgain_28 : decode cX1_partsAgain 28 = .ok (.iconst 0, 1) := dk_3 (dk_at dksX1_partsAgain_1 4 rfl rfl)
theorem dX1_partsAgain_29 : decode cX1_partsAgain 29 = .ok (.istore 5, 2) := dk_54 5 (dk_at dksX1_partsAgain_1 5 rfl rfl)
theorem dX1_partsAgain_31 : decode cX1_partsAgain 31 = .ok (.iconst 1, 1) := dk_4 (dk_at dksX1_partsAgain_1 7 rfl rfl)
theorem dX1_partsAgain_32 : decode cX1_partsAgain 32 = .ok (.istore 6, 2) := dk_54 6 (dk_at dksX1_partsAgain_1 8 rfl rfl)
theorem dX1_partsAgain_34 : decode cX1_partsAgain 34 = .ok (.iload 6, 2) := dk_21 6 (dk_at dksX1_partsAgain_1 10 rfl rfl)
theorem dX1_partsAgain_36 : decode cX1_partsAgain 36 = .ok (.bipush 6, 2) := dk_16 6 (dk_at dksX1_partsAgain_1 12 rfl rfl)
theorem dX1_partsAgain_38 : decode cX1_partsAgain 38 = .ok (.if_icmp .ge 55, 3) := dk_162 0 55 (dk_at dksX1_partsAgain_1 14 rfl rfl)
theorem dX1_partsAgain_41 : decode cX1_partsAgain 41 = .ok (.iload_n 3, 1) := dk_29 (dk_at dksX1_partsAgain_1 17 rfl rfl)
theorem dX1_partsAgain_42 : decode cX1_partsAgain 42 = .ok (.aload_n 0, 1) := dk_42 (dk_at dksX1_partsAgain_1 18 rfl rfl)
theorem dX1_partsAgain_43 : decode cX1_partsAgain 43 = .ok (.iload 6, 2) := dk_21 6 (dk_at dksX1_partsAgain_1 19 rfl rfl)
theorem dX1_partsAgain_45 : decode cX1_partsAgain 45 = .ok (.invokevirtual 161, 3) := dk_182 0 161 (dk_at dksX1_partsAgain_1 21 rfl rfl)
theorem dX1_partsAgain_48 : decode cX1_partsAgain 48 = .ok (.imul, 1) := dk_104 (dk_at dksX1_partsAgain_2 0 rfl rfl)
theorem dX1_partsAgain_49 : decode cX1_partsAgain 49 = .ok (.aload_n 1, 1) := dk_43 (dk_at dksX1_partsAgain_2 1 rfl rfl)
theorem dX1_partsAgain_50 : decode cX1_partsAgain 50 = .ok (.iload 6, 2) := dk_21 6 (dk_at dksX1_partsAgain_2 2 rfl rfl)
theorem dX1_partsAgain_52 : decode cX1_partsAgain 52 = .ok (.iaload, 1) := dk_46 (dk_at dksX1_partsAgain_2 4 rfl rfl)
theorem dX1_partsAgain_53 : decode cX1_partsAgain 53 = .ok (.iload_n 2, 1) := dk_28 (dk_at dksX1_partsAgain_2 5 rfl rfl)
theorem dX1_partsAgain_54 : decode cX1_partsAgain 54 = .ok (.imul, 1) := dk_104 (dk_at dksX1_partsAgain_2 6 rfl rfl)
theorem dX1_partsAgain_55 : decode cX1_partsAgain 55 = .ok (.isub, 1) := dk_100 (dk_at dksX1_partsAgain_2 7 rfl rfl)
theorem dX1_partsAgain_56 : decode cX1_partsAgain 56 = .ok (.istore 7, 2) := dk_54 7 (dk_at dksX1_partsAgain_2 8 rfl rfl)
theorem dX1_partsAgain_58 : decode cX1_partsAgain 58 = .ok (.iload 7, 2) := dk_21 7 (dk_at dksX1_partsAgain_2 10 rfl rfl)
theorem dX1_partsAgain_60 : decode cX1_partsAgain 60 = .ok (.iload_n 3, 1) := dk_29 (dk_at dksX1_partsAgain_2 12 rfl rfl)
theorem dX1_partsAgain_61 : decode cX1_partsAgain 61 = .ok (.aload_n 0, 1) := dk_42 (dk_at dksX1_partsAgain_2 13 rfl rfl)
theorem dX1_partsAgain_62 : decode cX1_partsAgain 62 = .ok (.iload 5, 2) := dk_21 5 (dk_at dksX1_partsAgain_2 14 rfl rfl)
theorem dX1_partsAgain_64 : decode cX1_partsAgain 64 = .ok (.invokevirtual 161, 3) := dk_182 0 161 (dk_at dksX1_partsAgain_2 16 rfl rfl)
theorem dX1_partsAgain_67 : decode cX1_partsAgain 67 = .ok (.imul, 1) := dk_104 (dk_at dksX1_partsAgain_2 19 rfl rfl)
theorem dX1_partsAgain_68 : decode cX1_partsAgain 68 = .ok (.aload_n 1, 1) := dk_43 (dk_at dksX1_partsAgain_2 20 rfl rfl)
theorem dX1_partsAgain_69 : decode cX1_partsAgain 69 = .ok (.iload 5, 2) := dk_21 5 (dk_at dksX1_partsAgain_2 21 rfl rfl)
theorem dX1_partsAgain_71 : decode cX1_partsAgain 71 = .ok (.iaload, 1) := dk_46 (dk_at dksX1_partsAgain_2 23 rfl rfl)
theorem dX1_partsAgain_72 : decode cX1_partsAgain 72 = .ok (.iload_n 2, 1) := dk_28 (dk_at dksX1_partsAgain_3 0 rfl rfl)
theorem dX1_partsAgain_73 : decode cX1_partsAgain 73 = .ok (.imul, 1) := dk_104 (dk_at dksX1_partsAgain_3 1 rfl rfl)
theorem dX1_partsAgain_74 : decode cX1_partsAgain 74 = .ok (.isub, 1) := dk_100 (dk_at dksX1_partsAgain_3 2 rfl rfl)
theorem dX1_partsAgain_75 : decode cX1_partsAgain 75 = .ok (.if_icmp .le 8, 3) := dk_164 0 8 (dk_at dksX1_partsAgain_3 3 rfl rfl)
theorem dX1_partsAgain_78 : decode cX1_partsAgain 78 = .ok (.iload 6, 2) := dk_21 6 (dk_at dksX1_partsAgain_3 6 rfl rfl)
theorem dX1_partsAgain_80 : decode cX1_partsAgain 80 = .ok (.goto 5, 3) := dk_167 0 5 (dk_at dksX1_partsAgain_3 8 rfl rfl)
theorem dX1_partsAgain_83 : decode cX1_partsAgain 83 = .ok (.iload 5, 2) := dk_21 5 (dk_at dksX1_partsAgain_3 11 rfl rfl)
theorem dX1_partsAgain_85 : decode cX1_partsAgain 85 = .ok (.istore 5, 2) := dk_54 5 (dk_at dksX1_partsAgain_3 13 rfl rfl)
theorem dX1_partsAgain_87 : decode cX1_partsAgain 87 = .ok (.iinc 6 1, 3) := dk_132 6 1 (dk_at dksX1_partsAgain_3 15 rfl rfl)
theorem dX1_partsAgain_90 : decode cX1_partsAgain 90 = .ok (.goto (-56), 3) := dk_167 255 200 (dk_at dksX1_partsAgain_3 18 rfl rfl)
theorem dX1_partsAgain_93 : decode cX1_partsAgain 93 = .ok (.aload_n 1, 1) := dk_43 (dk_at dksX1_partsAgain_3 21 rfl rfl)
theorem dX1_partsAgain_94 : decode cX1_partsAgain 94 = .ok (.iload 5, 2) := dk_21 5 (dk_at dksX1_partsAgain_3 22 rfl rfl)
theorem dX1_partsAgain_96 : decode cX1_partsAgain 96 = .ok (.dup2, 1) := dk_92 (dk_at dksX1_partsAgain_4 0 rfl rfl)
theorem dX1_partsAgain_97 : decode cX1_partsAgain 97 = .ok (.iaload, 1) := dk_46 (dk_at dksX1_partsAgain_4 1 rfl rfl)
theorem dX1_partsAgain_98 : decode cX1_partsAgain 98 = .ok (.iconst 1, 1) := dk_4 (dk_at dksX1_partsAgain_4 2 rfl rfl)
theorem dX1_partsAgain_99 : decode cX1_partsAgain 99 = .ok (.iadd, 1) := dk_96 (dk_at dksX1_partsAgain_4 3 rfl rfl)
theorem dX1_partsAgain_100 : decode cX1_partsAgain 100 = .ok (.iastore, 1) := dk_79 (dk_at dksX1_partsAgain_4 4 rfl rfl)
theorem dX1_partsAgain_101 : decode cX1_partsAgain 101 = .ok (.iinc 4 1, 3) := dk_132 4 1 (dk_at dksX1_partsAgain_4 5 rfl rfl)
theorem dX1_partsAgain_104 : decode cX1_partsAgain 104 = .ok (.goto (-86), 3) := dk_167 255 170 (dk_at dksX1_partsAgain_4 8 rfl rfl)
theorem dX1_partsAgain_107 : decode cX1_partsAgain 107 = .ok (.aload_n 1, 1) := dk_43 (dk_at dksX1_partsAgain_4 11 rfl rfl)
theorem dX1_partsAgain_108 : decode cX1_partsAgain 108 = .ok (.areturn, 1) := dk_176 (dk_at dksX1_partsAgain_4 12 rfl rfl)
abbrev cX1_moulds : ByteArray := prog_11_method_26_code
def yX1_moulds : MethodName := ⟨RX1, "moulds", "(LCandleStatute$Stub;)I"⟩
def dkwX1_moulds_3 : List UInt8 := [43, 180, 0, 94, 100, 181, 0, 178, 42, 180, 0, 30, 43, 182, 0, 21, 172]
abbrev dktX1_moulds_3 : List UInt8 := dkwX1_moulds_3 ++ []
def dkwX1_moulds_2 : List UInt8 := [42, 43, 180, 0, 81, 43, 180, 0, 94, 182, 0, 97, 42, 180, 0, 30, 182, 0, 101, 44, 89, 180, 0, 178]
abbrev dktX1_moulds_2 : List UInt8 := dkwX1_moulds_2 ++ dktX1_moulds_3
def dkwX1_moulds_1 : List UInt8 := [180, 0, 178, 43, 180, 0, 94, 162, 0, 7, 4, 167, 0, 4, 3, 16, 13, 44, 180, 0, 178, 184, 0, 61]
abbrev dktX1_moulds_1 : List UInt8 := dkwX1_moulds_1 ++ dktX1_moulds_2
def dkwX1_moulds_0 : List UInt8 := [42, 180, 0, 14, 43, 180, 0, 81, 182, 0, 53, 192, 0, 18, 77, 42, 43, 180, 0, 81, 182, 0, 91, 44]
abbrev dktX1_moulds_0 : List UInt8 := dkwX1_moulds_0 ++ dktX1_moulds_1
theorem dksX1_moulds_0 : cX1_moulds.data.toList.drop 0 = dktX1_moulds_0 := by decide +kernel
theorem dksX1_moulds_1 : cX1_moulds.data.toList.drop 24 = dktX1_moulds_1 := dk_seg dksX1_moulds_0 24 rfl rfl
theorem dksX1_moulds_2 : cX1_moulds.data.toList.drop 48 = dktX1_moulds_2 := dk_seg dksX1_moulds_1 24 rfl rfl
theorem dksX1_moulds_3 : cX1_moulds.data.toList.drop 72 = dktX1_moulds_3 := dk_seg dksX1_moulds_2 24 rfl rfl
theorem dX1_moulds_0 : decode cX1_moulds 0 = .ok (.aload_n 0, 1) := dk_42 (dk_at dksX1_moulds_0 0 rfl rfl)
theorem dX1_moulds_1 : decode cX1_moulds 1 = .ok (.getfield 14, 3) := dk_180 0 14 (dk_at dksX1_moulds_0 1 rfl rfl)
theorem dX1_moulds_4 : decode cX1_moulds 4 = .ok (.aload_n 1, 1) := dk_43 (dk_at dksX1_moulds_0 4 rfl rfl)
theorem dX1_moulds_5 : decode cX1_moulds 5 = .ok (.getfield 81, 3) := dk_180 0 81 (dk_at dksX1_moulds_0 5 rfl rfl)
theorem dX1_moulds_8 : decode cX1_moulds 8 = .ok (.invokevirtual 53, 3) := dk_182 0 53 (dk_at dksX1_moulds_0 8 rfl rfl)
theorem dX1_moulds_11 : decode cX1_moulds 11 = .ok (.checkcast 18, 3) := dk_192 0 18 (dk_at dksX1_moulds_0 11 rfl rfl)
theorem dX1_moulds_14 : decode cX1_moulds 14 = .ok (.astore_n 2, 1) := dk_77 (dk_at dksX1_moulds_0 14 rfl rfl)
theorem dX1_moulds_15 : decode cX1_moulds 15 = .ok (.aload_n 0, 1) := dk_42 (dk_at dksX1_moulds_0 15 rfl rfl)
theorem dX1_moulds_16 : decode cX1_moulds 16 = .ok (.aload_n 1, 1) := dk_43 (dk_at dksX1_moulds_0 16 rfl rfl)
theorem dX1_moulds_17 : decode cX1_moulds 17 = .ok (.getfield 81, 3) := dk_180 0 81 (dk_at dksX1_moulds_0 17 rfl rfl)
theorem dX1_moulds_20 : decode cX1_moulds 20 = .ok (.invokevirtual 91, 3) := dk_182 0 91 (dk_at dksX1_moulds_0 20 rfl rfl)
theorem dX1_moulds_23 : decode cX1_moulds 23 = .ok (.aload_n 2, 1) := dk_44 (dk_at dksX1_moulds_0 23 rfl rfl)
theorem dX1_moulds_24 : decode cX1_moulds 24 = .ok (.getfield 178, 3) := dk_180 0 178 (dk_at dksX1_moulds_1 0 rfl rfl)
theorem dX1_moulds_27 : decode cX1_moulds 27 = .ok (.aload_n 1, 1) := dk_43 (dk_at dksX1_moulds_1 3 rfl rfl)
theorem dX1_moulds_28 : decode cX1_moulds 28 = .ok (.getfield 94, 3) := dk_180 0 94 (dk_at dksX1_moulds_1 4 rfl rfl)
theorem dX1_moulds_31 : decode cX1_moulds 31 = .ok (.if_icmp .ge 7, 3) := dk_162 0 7 (dk_at dksX1_moulds_1 7 rfl rfl)
theorem dX1_moulds_34 : decode cX1_moulds 34 = .ok (.iconst 1, 1) := dk_4 (dk_at dksX1_moulds_1 10 rfl rfl)
theorem dX1_moulds_35 : decode cX1_moulds 35 = .ok (.goto 4, 3) := dk_167 0 4 (dk_at dksX1_moulds_1 11 rfl rfl)
theorem dX1_moulds_38 : decode cX1_moulds 38 = .ok (.iconst 0, 1) := dk_3 (dk_at dksX1_moulds_1 14 rfl rfl)
theorem dX1_moulds_39 : decode cX1_moulds 39 = .ok (.bipush 13, 2) := dk_16 13 (dk_at dksX1_moulds_1 15 rfl rfl)
theorem dX1_moulds_41 : decode cX1_moulds 41 = .ok (.aload_n 2, 1) := dk_44 (dk_at dksX1_moulds_1 17 rfl rfl)
theorem dX1_moulds_42 : decode cX1_moulds 42 = .ok (.getfield 178, 3) := dk_180 0 178 (dk_at dksX1_moulds_1 18 rfl rfl)
theorem dX1_moulds_45 : decode cX1_moulds 45 = .ok (.invokestatic 61, 3) := dk_184 0 61 (dk_at dksX1_moulds_1 21 rfl rfl)
theorem dX1_moulds_48 : decode cX1_moulds 48 = .ok (.aload_n 0, 1) := dk_42 (dk_at dksX1_moulds_2 0 rfl rfl)
theorem dX1_moulds_49 : decode cX1_moulds 49 = .ok (.aload_n 1, 1) := dk_43 (dk_at dksX1_moulds_2 1 rfl rfl)
theorem dX1_moulds_50 : decode cX1_moulds 50 = .ok (.getfield 81, 3) := dk_180 0 81 (dk_at dksX1_moulds_2 2 rfl rfl)
theorem dX1_moulds_53 : decode cX1_moulds 53 = .ok (.aload_n 1, 1) := dk_43 (dk_at dksX1_moulds_2 5 rfl rfl)
theorem dX1_moulds_54 : decode cX1_moulds 54 = .ok (.getfield 94, 3) := dk_180 0 94 (dk_at dksX1_moulds_2 6 rfl rfl)
theorem dX1_moulds_57 : decode cX1_moulds 57 = .ok (.invokevirtual 97, 3) := dk_182 0 97 (dk_at dksX1_moulds_2 9 rfl rfl)
theorem dX1_moulds_60 : decode cX1_moulds 60 = .ok (.aload_n 0, 1) := dk_42 (dk_at dksX1_moulds_2 12 rfl rfl)
theorem dX1_moulds_61 : decode cX1_moulds 61 = .ok (.getfield 30, 3) := dk_180 0 30 (dk_at dksX1_moulds_2 13 rfl rfl)
theorem dX1_moulds_64 : decode cX1_moulds 64 = .ok (.invokevirtual 101, 3) := dk_182 0 101 (dk_at dksX1_moulds_2 16 rfl rfl)
theorem dX1_moulds_67 : decode cX1_moulds 67 = .ok (.aload_n 2, 1) := dk_44 (dk_at dksX1_moulds_2 19 rfl rfl)
theorem dX1_moulds_68 : decode cX1_moulds 68 = .ok (.dup, 1) := dk_89 (dk_at dksX1_moulds_2 20 rfl rfl)
theorem dX1_moulds_69 : decode cX1_moulds 69 = .ok (.getfield 178, 3) := dk_180 0 178 (dk_at dksX1_moulds_2 21 rfl rfl)
theorem dX1_moulds_72 : decode cX1_moulds 72 = .ok (.aload_n 1, 1) := dk_43 (dk_at dksX1_moulds_3 0 rfl rfl)
theorem dX1_moulds_73 : decode cX1_moulds 73 = .ok (.getfield 94, 3) := dk_180 0 94 (dk_at dksX1_moulds_3 1 rfl rfl)
theorem dX1_moulds_76 : decode cX1_moulds 76 = .ok (.isub, 1) := dk_100 (dk_at dksX1_moulds_3 4 rfl rfl)
theorem dX1_moulds_77 : decode cX1_moulds 77 = .ok (.putfield 178, 3) := dk_181 0 178 (dk_at dksX1_moulds_3 5 rfl rfl)
theorem dX1_moulds_80 : decode cX1_moulds 80 = .ok (.aload_n 0, 1) := dk_42 (dk_at dksX1_moulds_3 8 rfl rfl)
theorem dX1_moulds_81 : decode cX1_moulds 81 = .ok (.getfield 30, 3) := dk_180 0 30 (dk_at dksX1_moulds_3 9 rfl rfl)
theorem dX1_moulds_84 : decode cX1_moulds 84 = .ok (.aload_n 1, 1) := dk_43 (dk_at dksX1_moulds_3 12 rfl rfl)
theorem dX1_moulds_85 : decode cX1_moulds 85 = .ok (.invokevirtual 21, 3) := dk_182 0 21 (dk_at dksX1_moulds_3 13 rfl rfl)
theorem dX1_moulds_88 : decode cX1_moulds 88 = .ok (.ireturn, 1) := dk_172 (dk_at dksX1_moulds_3 16 rfl rfl)
abbrev cX1_tellsHeir : ByteArray := prog_11_method_27_code
def yX1_tellsHeir : MethodName := ⟨RX1, "tellsHeir", "(II)I"⟩
def dkwX1_tellsHeir_1 : List UInt8 := [4, 167, 0, 4, 3, 16, 14, 28, 184, 0, 61, 45, 28, 181, 0, 181, 21, 4, 172]
abbrev dktX1_tellsHeir_1 : List UInt8 := dkwX1_tellsHeir_1 ++ []
def dkwX1_tellsHeir_0 : List UInt8 := [42, 180, 0, 14, 27, 182, 0, 53, 192, 0, 18, 78, 45, 180, 0, 181, 54, 4, 21, 4, 28, 160, 0, 7]
abbrev dktX1_tellsHeir_0 : List UInt8 := dkwX1_tellsHeir_0 ++ dktX1_tellsHeir_1
theorem dksX1_tellsHeir_0 : cX1_tellsHeir.data.toList.drop 0 = dktX1_tellsHeir_0 := by decide +kernel
theorem dksX1_tellsHeir_1 : cX1_tellsHeir.data.toList.drop 24 = dktX1_tellsHeir_1 := dk_seg dksX1_tellsHeir_0 24 rfl rfl
theorem dX1_tellsHeir_0 : decode cX1_tellsHeir 0 = .ok (.aload_n 0, 1) := dk_42 (dk_at dksX1_tellsHeir_0 0 rfl rfl)
theorem dX1_tellsHeir_1 : decode cX1_tellsHeir 1 = .ok (.getfield 14, 3) := dk_180 0 14 (dk_at dksX1_tellsHeir_0 1 rfl rfl)
theorem dX1_tellsHeir_4 : decode cX1_tellsHeir 4 = .ok (.iload_n 1, 1) := dk_27 (dk_at dksX1_tellsHeir_0 4 rfl rfl)
theorem dX1_tellsHeir_5 : decode cX1_tellsHeir 5 = .ok (.invokevirtual 53, 3) := dk_182 0 53 (dk_at dksX1_tellsHeir_0 5 rfl rfl)
theorem dX1_tellsHeir_8 : decode cX1_tellsHeir 8 = .ok (.checkcast 18, 3) := dk_192 0 18 (dk_at dksX1_tellsHeir_0 8 rfl rfl)
theorem dX1_tellsHeir_11 : decode cX1_tellsHeir 11 = .ok (.astore_n 3, 1) := dk_78 (dk_at dksX1_tellsHeir_0 11 rfl rfl)
theorem dX1_tellsHeir_12 : decode cX1_tellsHeir 12 = .ok (.aload_n 3, 1) := dk_45 (dk_at dksX1_tellsHeir_0 12 rfl rfl)
theorem dX1_tellsHeir_13 : decode cX1_tellsHeir 13 = .ok (.getfield 181, 3) := dk_180 0 181 (dk_at dksX1_tellsHeir_0 13 rfl rfl)
theorem dX1_tellsHeir_16 : decode cX1_tellsHeir 16 = .ok (.istore 4, 2) := dk_54 4 (dk_at dksX1_tellsHeir_0 16 rfl rfl)
theorem dX1_tellsHeir_18 : decode cX1_tellsHeir 18 = .ok (.iload 4, 2) := dk_21 4 (dk_at dksX1_tellsHeir_0 18 rfl rfl)
theorem dX1_tellsHeir_20 : decode cX1_tellsHeir 20 = .ok (.iload_n 2, 1) := dk_28 (dk_at dksX1_tellsHeir_0 20 rfl rfl)
theorem dX1_tellsHeir_21 : decode cX1_tellsHeir 21 = .ok (.if_icmp .ne 7, 3) := dk_160 0 7 (dk_at dksX1_tellsHeir_0 21 rfl rfl)
theorem dX1_tellsHeir_24 : decode cX1_tellsHeir 24 = .ok (.iconst 1, 1) := dk_4 (dk_at dksX1_tellsHeir_1 0 rfl rfl)
theorem dX1_tellsHeir_25 : decode cX1_tellsHeir 25 = .ok (.goto 4, 3) := dk_167 0 4 (dk_at dksX1_tellsHeir_1 1 rfl rfl)
theorem dX1_tellsHeir_28 : decode cX1_tellsHeir 28 = .ok (.iconst 0, 1) := dk_3 (dk_at dksX1_tellsHeir_1 4 rfl rfl)
theorem dX1_tellsHeir_29 : decode cX1_tellsHeir 29 = .ok (.bipush 14, 2) := dk_16 14 (dk_at dksX1_tellsHeir_1 5 rfl rfl)
theorem dX1_tellsHeir_31 : decode cX1_tellsHeir 31 = .ok (.iload_n 2, 1) := dk_28 (dk_at dksX1_tellsHeir_1 7 rfl rfl)
theorem dX1_tellsHeir_32 : decode cX1_tellsHeir 32 = .ok (.invokestatic 61, 3) := dk_184 0 61 (dk_at dksX1_tellsHeir_1 8 rfl rfl)
theorem dX1_tellsHeir_35 : decode cX1_tellsHeir 35 = .ok (.aload_n 3, 1) := dk_45 (dk_at dksX1_tellsHeir_1 11 rfl rfl)
theorem dX1_tellsHeir_36 : decode cX1_tellsHeir 36 = .ok (.iload_n 2, 1) := dk_28 (dk_at dksX1_tellsHeir_1 12 rfl rfl)
theorem dX1_tellsHeir_37 : decode cX1_tellsHeir 37 = .ok (.putfield 181, 3) := dk_181 0 181 (dk_at dksX1_tellsHeir_1 13 rfl rfl)
theorem dX1_tellsHeir_40 : decode cX1_tellsHeir 40 = .ok (.iload 4, 2) := dk_21 4 (dk_at dksX1_tellsHeir_1 16 rfl rfl)
theorem dX1_tellsHeir_42 : decode cX1_tellsHeir 42 = .ok (.ireturn, 1) := dk_172 (dk_at dksX1_tellsHeir_1 18 rfl rfl)
abbrev cX1_ends : ByteArray := prog_11_method_32_code
def yX1_ends : MethodName := ⟨RX1, "ends", "(I)I"⟩
def dkwX1_ends_6 : List UInt8 := [28, 182, 0, 193, 167, 255, 226, 42, 27, 28, 182, 0, 197, 28, 172]
abbrev dktX1_ends_6 : List UInt8 := dkwX1_ends_6 ++ []
def dkwX1_ends_5 : List UInt8 := [185, 0, 69, 1, 0, 153, 0, 26, 25, 4, 185, 0, 75, 1, 0, 192, 0, 79, 58, 5, 42, 25, 5, 27]
abbrev dktX1_ends_5 : List UInt8 := dkwX1_ends_5 ++ dktX1_ends_6
def dkwX1_ends_4 : List UInt8 := [3, 181, 0, 155, 45, 3, 181, 0, 57, 42, 180, 0, 30, 182, 0, 65, 58, 4, 25, 4]
abbrev dktX1_ends_4 : List UInt8 := dkwX1_ends_4 ++ dktX1_ends_5
def dkwX1_ends_3 : List UInt8 := [182, 0, 53, 192, 0, 18, 89, 180, 0, 155, 45, 180, 0, 155, 96, 181, 0, 155, 45, 3, 181, 0, 178, 45]
abbrev dktX1_ends_3 : List UInt8 := dkwX1_ends_3 ++ dktX1_ends_4
def dkwX1_ends_2 : List UInt8 := [182, 0, 53, 192, 0, 18, 89, 180, 0, 178, 45, 180, 0, 178, 96, 181, 0, 178, 42, 180, 0, 14, 28]
abbrev dktX1_ends_2 : List UInt8 := dkwX1_ends_2 ++ dktX1_ends_3
def dkwX1_ends_1 : List UInt8 := [42, 27, 182, 0, 190, 61, 42, 180, 0, 14, 27, 182, 0, 53, 192, 0, 18, 78, 42, 180, 0, 14, 28]
abbrev dktX1_ends_1 : List UInt8 := dkwX1_ends_1 ++ dktX1_ends_2
def dkwX1_ends_0 : List UInt8 := [42, 27, 182, 0, 91, 42, 182, 0, 187, 4, 160, 0, 7, 4, 167, 0, 4, 3, 16, 15, 27, 184, 0, 61]
abbrev dktX1_ends_0 : List UInt8 := dkwX1_ends_0 ++ dktX1_ends_1
theorem dksX1_ends_0 : cX1_ends.data.toList.drop 0 = dktX1_ends_0 := by decide +kernel
theorem dksX1_ends_1 : cX1_ends.data.toList.drop 24 = dktX1_ends_1 := dk_seg dksX1_ends_0 24 rfl rfl
theorem dksX1_ends_2 : cX1_ends.data.toList.drop 47 = dktX1_ends_2 := dk_seg dksX1_ends_1 23 rfl rfl
theorem dksX1_ends_3 : cX1_ends.data.toList.drop 70 = dktX1_ends_3 := dk_seg dksX1_ends_2 23 rfl rfl
theorem dksX1_ends_4 : cX1_ends.data.toList.drop 94 = dktX1_ends_4 := dk_seg dksX1_ends_3 24 rfl rfl
theorem dksX1_ends_5 : cX1_ends.data.toList.drop 114 = dktX1_ends_5 := dk_seg dksX1_ends_4 20 rfl rfl
theorem dksX1_ends_6 : cX1_ends.data.toList.drop 138 = dktX1_ends_6 := dk_seg dksX1_ends_5 24 rfl rfl
theorem dX1_ends_0 : decode cX1_ends 0 = .ok (.aload_n 0, 1) := dk_42 (dk_at dksX1_ends_0 0 rfl rfl)
theorem dX1_ends_1 : decode cX1_ends 1 = .ok (.iload_n 1, 1) := dk_27 (dk_at dksX1_ends_0 1 rfl rfl)
theorem dX1_ends_2 : decode cX1_ends 2 = .ok (.invokevirtual 91, 3) := dk_182 0 91 (dk_at dksX1_ends_0 2 rfl rfl)
theorem dX1_ends_5 : decode cX1_ends 5 = .ok (.aload_n 0, 1) := dk_42 (dk_at dksX1_ends_0 5 rfl rfl)
theorem dX1_ends_6 : decode cX1_ends 6 = .ok (.invokevirtual 187, 3) := dk_182 0 187 (dk_at dksX1_ends_0 6 rfl rfl)
theorem dX1_ends_9 : decode cX1_ends 9 = .ok (.iconst 1, 1) := dk_4 (dk_at dksX1_ends_0 9 rfl rfl)
theorem dX1_ends_10 : decode cX1_ends 10 = .ok (.if_icmp .ne 7, 3) := dk_160 0 7 (dk_at dksX1_ends_0 10 rfl rfl)
theorem dX1_ends_13 : decode cX1_ends 13 = .ok (.iconst 1, 1) := dk_4 (dk_at dksX1_ends_0 13 rfl rfl)
theorem dX1_ends_14 : decode cX1_ends 14 = .ok (.goto 4, 3) := dk_167 0 4 (dk_at dksX1_ends_0 14 rfl rfl)
theorem dX1_ends_17 : decode cX1_ends 17 = .ok (.iconst 0, 1) := dk_3 (dk_at dksX1_ends_0 17 rfl rfl)
theorem dX1_ends_18 : decode cX1_ends 18 = .ok (.bipush 15, 2) := dk_16 15 (dk_at dksX1_ends_0 18 rfl rfl)
theorem dX1_ends_20 : decode cX1_ends 20 = .ok (.iload_n 1, 1) := dk_27 (dk_at dksX1_ends_0 20 rfl rfl)
theorem dX1_ends_21 : decode cX1_ends 21 = .ok (.invokestatic 61, 3) := dk_184 0 61 (dk_at dksX1_ends_0 21 rfl rfl)
theorem dX1_ends_24 : decode cX1_ends 24 = .ok (.aload_n 0, 1) := dk_42 (dk_at dksX1_ends_1 0 rfl rfl)
theorem dX1_ends_25 : decode cX1_ends 25 = .ok (.iload_n 1, 1) := dk_27 (dk_at dksX1_ends_1 1 rfl rfl)
theorem dX1_ends_26 : decode cX1_ends 26 = .ok (.invokevirtual 190, 3) := dk_182 0 190 (dk_at dksX1_ends_1 2 rfl rfl)
theorem dX1_ends_29 : decode cX1_ends 29 = .ok (.istore_n 2, 1) := dk_61 (dk_at dksX1_ends_1 5 rfl rfl)
theorem dX1_ends_30 : decode cX1_ends 30 = .ok (.aload_n 0, 1) := dk_42 (dk_at dksX1_ends_1 6 rfl rfl)
theorem dX1_ends_31 : decode cX1_ends 31 = .ok (.getfield 14, 3) := dk_180 0 14 (dk_at dksX1_ends_1 7 rfl rfl)
theorem dX1_ends_34 : decode cX1_ends 34 = .ok (.iload_n 1, 1) := dk_27 (dk_at dksX1_ends_1 10 rfl rfl)
theorem dX1_ends_35 : decode cX1_ends 35 = .ok (.invokevirtual 53, 3) := dk_182 0 53 (dk_at dksX1_ends_1 11 rfl rfl)
theorem dX1_ends_38 : decode cX1_ends 38 = .ok (.checkcast 18, 3) := dk_192 0 18 (dk_at dksX1_ends_1 14 rfl rfl)
theorem dX1_ends_41 : decode cX1_ends 41 = .ok (.astore_n 3, 1) := dk_78 (dk_at dksX1_ends_1 17 rfl rfl)
theorem dX1_ends_42 : decode cX1_ends 42 = .ok (.aload_n 0, 1) := dk_42 (dk_at dksX1_ends_1 18 rfl rfl)
theorem dX1_ends_43 : decode cX1_ends 43 = .ok (.getfield 14, 3) := dk_180 0 14 (dk_at dksX1_ends_1 19 rfl rfl)
theorem dX1_ends_46 : decode cX1_ends 46 = .ok (.iload_n 2, 1) := dk_28 (dk_at dksX1_ends_1 22 rfl rfl)
theorem dX1_ends_47 : decode cX1_ends 47 = .ok (.invokevirtual 53, 3) := dk_182 0 53 (dk_at dksX1_ends_2 0 rfl rfl)
theorem dX1_ends_50 : decode cX1_ends 50 = .ok (.checkcast 18, 3) := dk_192 0 18 (dk_at dksX1_ends_2 3 rfl rfl)
theorem dX1_ends_53 : decode cX1_ends 53 = .ok (.dup, 1) := dk_89 (dk_at dksX1_ends_2 6 rfl rfl)
theorem dX1_ends_54 : decode cX1_ends 54 = .ok (.getfield 178, 3) := dk_180 0 178 (dk_at dksX1_ends_2 7 rfl rfl)
theorem dX1_ends_57 : decode cX1_ends 57 = .ok (.aload_n 3, 1) := dk_45 (dk_at dksX1_ends_2 10 rfl rfl)
theorem dX1_ends_58 : decode cX1_ends 58 = .ok (.getfield 178, 3) := dk_180 0 178 (dk_at dksX1_ends_2 11 rfl rfl)
theorem dX1_ends_61 : decode cX1_ends 61 = .ok (.iadd, 1) := dk_96 (dk_at dksX1_ends_2 14 rfl rfl)
theorem dX1_ends_62 : decode cX1_ends 62 = .ok (.putfield 178, 3) := dk_181 0 178 (dk_at dksX1_ends_2 15 rfl rfl)
theorem dX1_ends_65 : decode cX1_ends 65 = .ok (.aload_n 0, 1) := dk_42 (dk_at dksX1_ends_2 18 rfl rfl)
theorem dX1_ends_66 : decode cX1_ends 66 = .ok (.getfield 14, 3) := dk_180 0 14 (dk_at dksX1_ends_2 19 rfl rfl)
theorem dX1_ends_69 : decode cX1_ends 69 = .ok (.iload_n 2, 1) := dk_28 (dk_at dksX1_ends_2 22 rfl rfl)
theorem dX1_ends_70 : decode cX1_ends 70 = .ok (.invokevirtual 53, 3) := dk_182 0 53 (dk_at dksX1_ends_3 0 rfl rfl)
theorem dX1_ends_73 : decode cX1_ends 73 = .ok (.checkcast 18, 3) := dk_192 0 18 (dk_at dksX1_ends_3 3 rfl rfl)
theorem dX1_ends_76 : decode cX1_ends 76 = .ok (.dup, 1) := dk_89 (dk_at dksX1_ends_3 6 rfl rfl)
theorem dX1_ends_77 : decode cX1_ends 77 = .ok (.getfield 155, 3) := dk_180 0 155 (dk_at dksX1_ends_3 7 rfl rfl)
theorem dX1_ends_80 : decode cX1_ends 80 = .ok (.aload_n 3, 1) := dk_45 (dk_at dksX1_ends_3 10 rfl rfl)
theorem dX1_ends_81 : decode cX1_ends 81 = .ok (.getfield 155, 3) := dk_180 0 155 (dk_at dksX1_ends_3 11 rfl rfl)
theorem dX1_ends_84 : decode cX1_ends 84 = .ok (.iadd, 1) := dk_96 (dk_at dksX1_ends_3 14 rfl rfl)
theorem dX1_ends_85 : decode cX1_ends 85 = .ok (.putfield 155, 3) := dk_181 0 155 (dk_at dksX1_ends_3 15 rfl rfl)
theorem dX1_ends_88 : decode cX1_ends 88 = .ok (.aload_n 3, 1) := dk_45 (dk_at dksX1_ends_3 18 rfl rfl)
theorem dX1_ends_89 : decode cX1_ends 89 = .ok (.iconst 0, 1) := dk_3 (dk_at dksX1_ends_3 19 rfl rfl)
theorem dX1_ends_90 : decode cX1_ends 90 = .ok (.putfield 178, 3) := dk_181 0 178 (dk_at dksX1_ends_3 20 rfl rfl)
theorem dX1_ends_93 : decode cX1_ends 93 = .ok (.aload_n 3, 1) := dk_45 (dk_at dksX1_ends_3 23 rfl rfl)
theorem dX1_ends_94 : decode cX1_ends 94 = .ok (.iconst 0, 1) := dk_3 (dk_at dksX1_ends_4 0 rfl rfl)
theorem dX1_ends_95 : decode cX1_ends 95 = .ok (.putfield 155, 3) := dk_181 0 155 (dk_at dksX1_ends_4 1 rfl rfl)
theorem dX1_ends_98 : decode cX1_ends 98 = .ok (.aload_n 3, 1) := dk_45 (dk_at dksX1_ends_4 4 rfl rfl)
theorem dX1_ends_99 : decode cX1_ends 99 = .ok (.iconst 0, 1) := dk_3 (dk_at dksX1_ends_4 5 rfl rfl)
theorem dX1_ends_100 : decode cX1_ends 100 = .ok (.putfield 57, 3) := dk_181 0 57 (dk_at dksX1_ends_4 6 rfl rfl)
theorem dX1_ends_103 : decode cX1_ends 103 = .ok (.aload_n 0, 1) := dk_42 (dk_at dksX1_ends_4 9 rfl rfl)
theorem dX1_ends_104 : decode cX1_ends 104 = .ok (.getfield 30, 3) := dk_180 0 30 (dk_at dksX1_ends_4 10 rfl rfl)
theorem dX1_ends_107 : decode cX1_ends 107 = .ok (.invokevirtual 65, 3) := dk_182 0 65 (dk_at dksX1_ends_4 13 rfl rfl)
theorem dX1_ends_110 : decode cX1_ends 110 = .ok (.astore 4, 2) := dk_58 4 (dk_at dksX1_ends_4 16 rfl rfl)
theorem dX1_ends_112 : decode cX1_ends 112 = .ok (.aload 4, 2) := dk_25 4 (dk_at dksX1_ends_4 18 rfl rfl)
theorem dX1_ends_114 : decode cX1_ends 114 = .ok (.invokeinterface 69 1, 5) := by decide +kernel
theorem dX1_ends_119 : decode cX1_ends 119 = .ok (.ifCond .eq 26, 3) := dk_153 0 26 (dk_at dksX1_ends_5 5 rfl rfl)
theorem dX1_ends_122 : decode cX1_ends 122 = .ok (.aload 4, 2) := dk_25 4 (dk_at dksX1_ends_5 8 rfl rfl)
theorem dX1_ends_124 : decode cX1_ends 124 = .ok (.invokeinterface 75 1, 5) := by decide +kernel
theorem dX1_ends_129 : decode cX1_ends 129 = .ok (.checkcast 79, 3) := dk_192 0 79 (dk_at dksX1_ends_5 15 rfl rfl)
theorem dX1_ends_132 : decode cX1_ends 132 = .ok (.astore 5, 2) := dk_58 5 (dk_at dksX1_ends_5 18 rfl rfl)
theorem dX1_ends_134 : decode cX1_ends 134 = .ok (.aload_n 0, 1) := dk_42 (dk_at dksX1_ends_5 20 rfl rfl)
theorem dX1_ends_135 : decode cX1_ends 135 = .ok (.aload 5, 2) := dk_25 5 (dk_at dksX1_ends_5 21 rfl rfl)
theorem dX1_ends_137 : decode cX1_ends 137 = .ok (.iload_n 1, 1) := dk_27 (dk_at dksX1_ends_5 23 rfl rfl)
theorem dX1_ends_138 : decode cX1_ends 138 = .ok (.iload_n 2, 1) := dk_28 (dk_at dksX1_ends_6 0 rfl rfl)
theorem dX1_ends_139 : decode cX1_ends 139 = .ok (.invokevirtual 193, 3) := dk_182 0 193 (dk_at dksX1_ends_6 1 rfl rfl)
theorem dX1_ends_142 : decode cX1_ends 142 = .ok (.goto (-30), 3) := dk_167 255 226 (dk_at dksX1_ends_6 4 rfl rfl)
theorem dX1_ends_145 : decode cX1_ends 145 = .ok (.aload_n 0, 1) := dk_42 (dk_at dksX1_ends_6 7 rfl rfl)
theorem dX1_ends_146 : decode cX1_ends 146 = .ok (.iload_n 1, 1) := dk_27 (dk_at dksX1_ends_6 8 rfl rfl)
theorem dX1_ends_147 : decode cX1_ends 147 = .ok (.iload_n 2, 1) := dk_28 (dk_at dksX1_ends_6 9 rfl rfl)
theorem dX1_ends_148 : decode cX1_ends 148 = .ok (.invokevirtual 197, 3) := dk_182 0 197 (dk_at dksX1_ends_6 10 rfl rfl)
theorem dX1_ends_151 : decode cX1_ends 151 = .ok (.iload_n 2, 1) := dk_28 (dk_at dksX1_ends_6 13 rfl rfl)
theorem dX1_ends_152 : decode cX1_ends 152 = .ok (.ireturn, 1) := dk_172 (dk_at dksX1_ends_6 14 rfl rfl)
abbrev cX1_openMany : ByteArray := prog_11_method_28_code
def yX1_openMany : MethodName := ⟨RX1, "openMany", "()I"⟩
def dkwX1_openMany_2 : List UInt8 := [167, 255, 222, 27, 172]
abbrev dktX1_openMany_2 : List UInt8 := dkwX1_openMany_2 ++ []
def dkwX1_openMany_1 : List UInt8 := [185, 0, 75, 1, 0, 192, 0, 18, 78, 27, 45, 180, 0, 57, 153, 0, 7, 4, 167, 0, 4, 3, 96, 60]
abbrev dktX1_openMany_1 : List UInt8 := dkwX1_openMany_1 ++ dktX1_openMany_2
def dkwX1_openMany_0 : List UInt8 := [3, 60, 42, 180, 0, 14, 182, 0, 65, 77, 44, 185, 0, 69, 1, 0, 153, 0, 31, 44]
abbrev dktX1_openMany_0 : List UInt8 := dkwX1_openMany_0 ++ dktX1_openMany_1
theorem dksX1_openMany_0 : cX1_openMany.data.toList.drop 0 = dktX1_openMany_0 := by decide +kernel
theorem dksX1_openMany_1 : cX1_openMany.data.toList.drop 20 = dktX1_openMany_1 := dk_seg dksX1_openMany_0 20 rfl rfl
theorem dksX1_openMany_2 : cX1_openMany.data.toList.drop 44 = dktX1_openMany_2 := dk_seg dksX1_openMany_1 24 rfl rfl
theorem dX1_openMany_0 : decode cX1_openMany 0 = .ok (.iconst 0, 1) := dk_3 (dk_at dksX1_openMany_0 0 rfl rfl)
theorem dX1_openMany_1 : decode cX1_openMany 1 = .ok (.istore_n 1, 1) := dk_60 (dk_at dksX1_openMany_0 1 rfl rfl)
theorem dX1_openMany_2 : decode cX1_openMany 2 = .ok (.aload_n 0, 1) := dk_42 (dk_at dksX1_openMany_0 2 rfl rfl)
theorem dX1_openMany_3 : decode cX1_openMany 3 = .ok (.getfield 14, 3) := dk_180 0 14 (dk_at dksX1_openMany_0 3 rfl rfl)
theorem dX1_openMany_6 : decode cX1_openMany 6 = .ok (.invokevirtual 65, 3) := dk_182 0 65 (dk_at dksX1_openMany_0 6 rfl rfl)
theorem dX1_openMany_9 : decode cX1_openMany 9 = .ok (.astore_n 2, 1) := dk_77 (dk_at dksX1_openMany_0 9 rfl rfl)
theorem dX1_openMany_10 : decode cX1_openMany 10 = .ok (.aload_n 2, 1) := dk_44 (dk_at dksX1_openMany_0 10 rfl rfl)
theorem dX1_openMany_11 : decode cX1_openMany 11 = .ok (.invokeinterface 69 1, 5) := by decide +kernel
theorem dX1_openMany_16 : decode cX1_openMany 16 = .ok (.ifCond .eq 31, 3) := dk_153 0 31 (dk_at dksX1_openMany_0 16 rfl rfl)
theorem dX1_openMany_19 : decode cX1_openMany 19 = .ok (.aload_n 2, 1) := dk_44 (dk_at dksX1_openMany_0 19 rfl rfl)
theorem dX1_openMany_20 : decode cX1_openMany 20 = .ok (.invokeinterface 75 1, 5) := by decide +kernel
theorem dX1_openMany_25 : decode cX1_openMany 25 = .ok (.checkcast 18, 3) := dk_192 0 18 (dk_at dksX1_openMany_1 5 rfl rfl)
theorem dX1_openMany_28 : decode cX1_openMany 28 = .ok (.astore_n 3, 1) := dk_78 (dk_at dksX1_openMany_1 8 rfl rfl)
theorem dX1_openMany_29 : decode cX1_openMany 29 = .ok (.iload_n 1, 1) := dk_27 (dk_at dksX1_openMany_1 9 rfl rfl)
theorem dX1_openMany_30 : decode cX1_openMany 30 = .ok (.aload_n 3, 1) := dk_45 (dk_at dksX1_openMany_1 10 rfl rfl)
theorem dX1_openMany_31 : decode cX1_openMany 31 = .ok (.getfield 57, 3) := dk_180 0 57 (dk_at dksX1_openMany_1 11 rfl rfl)
theorem dX1_openMany_34 : decode cX1_openMany 34 = .ok (.ifCond .eq 7, 3) := dk_153 0 7 (dk_at dksX1_openMany_1 14 rfl rfl)
theorem dX1_openMany_37 : decode cX1_openMany 37 = .ok (.iconst 1, 1) := dk_4 (dk_at dksX1_openMany_1 17 rfl rfl)
theorem dX1_openMany_38 : decode cX1_openMany 38 = .ok (.goto 4, 3) := dk_167 0 4 (dk_at dksX1_openMany_1 18 rfl rfl)
theorem dX1_openMany_41 : decode cX1_openMany 41 = .ok (.iconst 0, 1) := dk_3 (dk_at dksX1_openMany_1 21 rfl rfl)
theorem dX1_openMany_42 : decode cX1_openMany 42 = .ok (.iadd, 1) := dk_96 (dk_at dksX1_openMany_1 22 rfl rfl)
theorem dX1_openMany_43 : decode cX1_openMany 43 = .ok (.istore_n 1, 1) := dk_60 (dk_at dksX1_openMany_1 23 rfl rfl)
theorem dX1_openMany_44 : decode cX1_openMany 44 = .ok (.goto (-34), 3) := dk_167 255 222 (dk_at dksX1_openMany_2 0 rfl rfl)
theorem dX1_openMany_47 : decode cX1_openMany 47 = .ok (.iload_n 1, 1) := dk_27 (dk_at dksX1_openMany_2 3 rfl rfl)
theorem dX1_openMany_48 : decode cX1_openMany 48 = .ok (.ireturn, 1) := dk_172 (dk_at dksX1_openMany_2 4 rfl rfl)
abbrev cX1_inForce : ByteArray := prog_11_method_29_code
def yX1_inForce : MethodName := ⟨RX1, "inForce", "(I)I"⟩
def dkwX1_inForce_3 : List UInt8 := [182, 0, 184, 172]
abbrev dktX1_inForce_3 : List UInt8 := dkwX1_inForce_3 ++ []
def dkwX1_inForce_2 : List UInt8 := [180, 0, 14, 28, 182, 0, 53, 192, 0, 18, 180, 0, 181, 61, 132, 3, 1, 167, 255, 208, 42, 27]
abbrev dktX1_inForce_2 : List UInt8 := dkwX1_inForce_2 ++ dktX1_inForce_3
def dkwX1_inForce_1 : List UInt8 := [27, 159, 0, 22, 42, 180, 0, 14, 28, 182, 0, 53, 192, 0, 18, 180, 0, 57, 153, 0, 5, 28, 172, 42]
abbrev dktX1_inForce_1 : List UInt8 := dkwX1_inForce_1 ++ dktX1_inForce_2
def dkwX1_inForce_0 : List UInt8 := [42, 180, 0, 14, 27, 182, 0, 53, 192, 0, 18, 180, 0, 181, 61, 3, 62, 29, 16, 6, 162, 0, 48, 28]
abbrev dktX1_inForce_0 : List UInt8 := dkwX1_inForce_0 ++ dktX1_inForce_1
theorem dksX1_inForce_0 : cX1_inForce.data.toList.drop 0 = dktX1_inForce_0 := by decide +kernel
theorem dksX1_inForce_1 : cX1_inForce.data.toList.drop 24 = dktX1_inForce_1 := dk_seg dksX1_inForce_0 24 rfl rfl
theorem dksX1_inForce_2 : cX1_inForce.data.toList.drop 48 = dktX1_inForce_2 := dk_seg dksX1_inForce_1 24 rfl rfl
theorem dksX1_inForce_3 : cX1_inForce.data.toList.drop 70 = dktX1_inForce_3 := dk_seg dksX1_inForce_2 22 rfl rfl
theorem dX1_inForce_0 : decode cX1_inForce 0 = .ok (.aload_n 0, 1) := dk_42 (dk_at dksX1_inForce_0 0 rfl rfl)
theorem dX1_inForce_1 : decode cX1_inForce 1 = .ok (.getfield 14, 3) := dk_180 0 14 (dk_at dksX1_inForce_0 1 rfl rfl)
theorem dX1_inForce_4 : decode cX1_inForce 4 = .ok (.iload_n 1, 1) := dk_27 (dk_at dksX1_inForce_0 4 rfl rfl)
theorem dX1_inForce_5 : decode cX1_inForce 5 = .ok (.invokevirtual 53, 3) := dk_182 0 53 (dk_at dksX1_inForce_0 5 rfl rfl)
theorem dX1_inForce_8 : decode cX1_inForce 8 = .ok (.checkcast 18, 3) := dk_192 0 18 (dk_at dksX1_inForce_0 8 rfl rfl)
theorem dX1_inForce_11 : decode cX1_inForce 11 = .ok (.getfield 181, 3) := dk_180 0 181 (dk_at dksX1_inForce_0 11 rfl rfl)
theorem dX1_inForce_14 : decode cX1_inForce 14 = .ok (.istore_n 2, 1) := dk_61 (dk_at dksX1_inForce_0 14 rfl rfl)
theorem dX1_inForce_15 : decode cX1_inForce 15 = .ok (.iconst 0, 1) := dk_3 (dk_at dksX1_inForce_0 15 rfl rfl)
theorem dX1_inForce_16 : decode cX1_inForce 16 = .ok (.istore_n 3, 1) := dk_62 (dk_at dksX1_inForce_0 16 rfl rfl)
theorem dX1_inForce_17 : decode cX1_inForce 17 = .ok (.iload_n 3, 1) := dk_29 (dk_at dksX1_inForce_0 17 rfl rfl)
theorem dX1_inForce_18 : decode cX1_inForce 18 = .ok (.bipush 6, 2) := dk_16 6 (dk_at dksX1_inForce_0 18 rfl rfl)
theorem dX1_inForce_20 : decode cX1_inForce 20 = .ok (.if_icmp .ge 48, 3) := dk_162 0 48 (dk_at dksX1_inForce_0 20 rfl rfl)
theorem dX1_inForce_23 : decode cX1_inForce 23 = .ok (.iload_n 2, 1) := dk_28 (dk_at dksX1_inForce_0 23 rfl rfl)
theorem dX1_inForce_24 : decode cX1_inForce 24 = .ok (.iload_n 1, 1) := dk_27 (dk_at dksX1_inForce_1 0 rfl rfl)
theorem dX1_inForce_25 : decode cX1_inForce 25 = .ok (.if_icmp .eq 22, 3) := dk_159 0 22 (dk_at dksX1_inForce_1 1 rfl rfl)
theorem dX1_inForce_28 : decode cX1_inForce 28 = .ok (.aload_n 0, 1) := dk_42 (dk_at dksX1_inForce_1 4 rfl rfl)
theorem dX1_inForce_29 : decode cX1_inForce 29 = .ok (.getfield 14, 3) := dk_180 0 14 (dk_at dksX1_inForce_1 5 rfl rfl)
theorem dX1_inForce_32 : decode cX1_inForce 32 = .ok (.iload_n 2, 1) := dk_28 (dk_at dksX1_inForce_1 8 rfl rfl)
theorem dX1_inForce_33 : decode cX1_inForce 33 = .ok (.invokevirtual 53, 3) := dk_182 0 53 (dk_at dksX1_inForce_1 9 rfl rfl)
theorem dX1_inForce_36 : decode cX1_inForce 36 = .ok (.checkcast 18, 3) := dk_192 0 18 (dk_at dksX1_inForce_1 12 rfl rfl)
theorem dX1_inForce_39 : decode cX1_inForce 39 = .ok (.getfield 57, 3) := dk_180 0 57 (dk_at dksX1_inForce_1 15 rfl rfl)
theorem dX1_inForce_42 : decode cX1_inForce 42 = .ok (.ifCond .eq 5, 3) := dk_153 0 5 (dk_at dksX1_inForce_1 18 rfl rfl)
theorem dX1_inForce_45 : decode cX1_inForce 45 = .ok (.iload_n 2, 1) := dk_28 (dk_at dksX1_inForce_1 21 rfl rfl)
theorem dX1_inForce_46 : decode cX1_inForce 46 = .ok (.ireturn, 1) := dk_172 (dk_at dksX1_inForce_1 22 rfl rfl)
theorem dX1_inForce_47 : decode cX1_inForce 47 = .ok (.aload_n 0, 1) := dk_42 (dk_at dksX1_inForce_1 23 rfl rfl)
theorem dX1_inForce_48 : decode cX1_inForce 48 = .ok (.getfield 14, 3) := dk_180 0 14 (dk_at dksX1_inForce_2 0 rfl rfl)
theorem dX1_inForce_51 : decode cX1_inForce 51 = .ok (.iload_n 2, 1) := dk_28 (dk_at dksX1_inForce_2 3 rfl rfl)
theorem dX1_inForce_52 : decode cX1_inForce 52 = .ok (.invokevirtual 53, 3) := dk_182 0 53 (dk_at dksX1_inForce_2 4 rfl rfl)
theorem dX1_inForce_55 : decode cX1_inForce 55 = .ok (.checkcast 18, 3) := dk_192 0 18 (dk_at dksX1_inForce_2 7 rfl rfl)
theorem dX1_inForce_58 : decode cX1_inForce 58 = .ok (.getfield 181, 3) := dk_180 0 181 (dk_at dksX1_inForce_2 10 rfl rfl)
theorem dX1_inForce_61 : decode cX1_inForce 61 = .ok (.istore_n 2, 1) := dk_61 (dk_at dksX1_inForce_2 13 rfl rfl)
theorem dX1_inForce_62 : decode cX1_inForce 62 = .ok (.iinc 3 1, 3) := dk_132 3 1 (dk_at dksX1_inForce_2 14 rfl rfl)
theorem dX1_inForce_65 : decode cX1_inForce 65 = .ok (.goto (-48), 3) := dk_167 255 208 (dk_at dksX1_inForce_2 17 rfl rfl)
theorem dX1_inForce_68 : decode cX1_inForce 68 = .ok (.aload_n 0, 1) := dk_42 (dk_at dksX1_inForce_2 20 rfl rfl)
theorem dX1_inForce_69 : decode cX1_inForce 69 = .ok (.iload_n 1, 1) := dk_27 (dk_at dksX1_inForce_2 21 rfl rfl)
theorem dX1_inForce_70 : decode cX1_inForce 70 = .ok (.invokevirtual 184, 3) := dk_182 0 184 (dk_at dksX1_inForce_3 0 rfl rfl)
theorem dX1_inForce_73 : decode cX1_inForce 73 = .ok (.ireturn, 1) := dk_172 (dk_at dksX1_inForce_3 3 rfl rfl)
abbrev cX1_lowestBesides : ByteArray := prog_11_method_30_code
def yX1_lowestBesides : MethodName := ⟨RX1, "lowestBesides", "(I)I"⟩
def dkwX1_lowestBesides_1 : List UInt8 := [180, 0, 57, 153, 0, 5, 28, 172, 132, 2, 1, 167, 255, 223, 17, 252, 9, 172]
abbrev dktX1_lowestBesides_1 : List UInt8 := dkwX1_lowestBesides_1 ++ []
def dkwX1_lowestBesides_0 : List UInt8 := [3, 61, 28, 16, 6, 162, 0, 33, 28, 27, 159, 0, 22, 42, 180, 0, 14, 28, 182, 0, 53, 192, 0, 18]
abbrev dktX1_lowestBesides_0 : List UInt8 := dkwX1_lowestBesides_0 ++ dktX1_lowestBesides_1
theorem dksX1_lowestBesides_0 : cX1_lowestBesides.data.toList.drop 0 = dktX1_lowestBesides_0 := by decide +kernel
theorem dksX1_lowestBesides_1 : cX1_lowestBesides.data.toList.drop 24 = dktX1_lowestBesides_1 := dk_seg dksX1_lowestBesides_0 24 rfl rfl
theorem dX1_lowestBesides_0 : decode cX1_lowestBesides 0 = .ok (.iconst 0, 1) := dk_3 (dk_at dksX1_lowestBesides_0 0 rfl rfl)
theorem dX1_lowestBesides_1 : decode cX1_lowestBesides 1 = .ok (.istore_n 2, 1) := dk_61 (dk_at dksX1_lowestBesides_0 1 rfl rfl)
theorem dX1_lowestBesides_2 : decode cX1_lowestBesides 2 = .ok (.iload_n 2, 1) := dk_28 (dk_at dksX1_lowestBesides_0 2 rfl rfl)
theorem dX1_lowestBesides_3 : decode cX1_lowestBesides 3 = .ok (.bipush 6, 2) := dk_16 6 (dk_at dksX1_lowestBesides_0 3 rfl rfl)
theorem dX1_lowestBesides_5 : decode cX1_lowestBesides 5 = .ok (.if_icmp .ge 33, 3) := dk_162 0 33 (dk_at dksX1_lowestBesides_0 5 rfl rfl)
theorem dX1_lowestBesides_8 : decode cX1_lowestBesides 8 = .ok (.iload_n 2, 1) := dk_28 (dk_at dksX1_lowestBesides_0 8 rfl rfl)
theorem dX1_lowestBesides_9 : decode cX1_lowestBesides 9 = .ok (.iload_n 1, 1) := dk_27 (dk_at dksX1_lowestBesides_0 9 rfl rfl)
theorem dX1_lowestBesides_10 : decode cX1_lowestBesides 10 = .ok (.if_icmp .eq 22, 3) := dk_159 0 22 (dk_at dksX1_lowestBesides_0 10 rfl rfl)
theorem dX1_lowestBesides_13 : decode cX1_lowestBesides 13 = .ok (.aload_n 0, 1) := dk_42 (dk_at dksX1_lowestBesides_0 13 rfl rfl)
theorem dX1_lowestBesides_14 : decode cX1_lowestBesides 14 = .ok (.getfield 14, 3) := dk_180 0 14 (dk_at dksX1_lowestBesides_0 14 rfl rfl)
theorem dX1_lowestBesides_17 : decode cX1_lowestBesides 17 = .ok (.iload_n 2, 1) := dk_28 (dk_at dksX1_lowestBesides_0 17 rfl rfl)
theorem dX1_lowestBesides_18 : decode cX1_lowestBesides 18 = .ok (.invokevirtual 53, 3) := dk_182 0 53 (dk_at dksX1_lowestBesides_0 18 rfl rfl)
theorem dX1_lowestBesides_21 : decode cX1_lowestBesides 21 = .ok (.checkcast 18, 3) := dk_192 0 18 (dk_at dksX1_lowestBesides_0 21 rfl rfl)
theorem dX1_lowestBesides_24 : decode cX1_lowestBesides 24 = .ok (.getfield 57, 3) := dk_180 0 57 (dk_at dksX1_lowestBesides_1 0 rfl rfl)
theorem dX1_lowestBesides_27 : decode cX1_lowestBesides 27 = .ok (.ifCond .eq 5, 3) := dk_153 0 5 (dk_at dksX1_lowestBesides_1 3 rfl rfl)
theorem dX1_lowestBesides_30 : decode cX1_lowestBesides 30 = .ok (.iload_n 2, 1) := dk_28 (dk_at dksX1_lowestBesides_1 6 rfl rfl)
theorem dX1_lowestBesides_31 : decode cX1_lowestBesides 31 = .ok (.ireturn, 1) := dk_172 (dk_at dksX1_lowestBesides_1 7 rfl rfl)
theorem dX1_lowestBesides_32 : decode cX1_lowestBesides 32 = .ok (.iinc 2 1, 3) := dk_132 2 1 (dk_at dksX1_lowestBesides_1 8 rfl rfl)
theorem dX1_lowestBesides_35 : decode cX1_lowestBesides 35 = .ok (.goto (-33), 3) := dk_167 255 223 (dk_at dksX1_lowestBesides_1 11 rfl rfl)
theorem dX1_lowestBesides_38 : decode cX1_lowestBesides 38 = .ok (.sipush (-1015), 3) := dk_17 252 9 (dk_at dksX1_lowestBesides_1 14 rfl rfl)
theorem dX1_lowestBesides_41 : decode cX1_lowestBesides 41 = .ok (.ireturn, 1) := dk_172 (dk_at dksX1_lowestBesides_1 17 rfl rfl)
abbrev cX1_leaves : ByteArray := prog_11_method_33_code
def yX1_leaves : MethodName := ⟨RX1, "leaves", "(LCandleStatute$Stub;II)V"⟩
def dkwX1_leaves_1 : List UInt8 := [182, 0, 200, 43, 180, 0, 81, 29, 160, 0, 15, 43, 180, 0, 135, 29, 160, 0, 7, 43, 182, 0, 203, 177]
abbrev dktX1_leaves_1 : List UInt8 := dkwX1_leaves_1 ++ []
def dkwX1_leaves_0 : List UInt8 := [43, 180, 0, 135, 28, 160, 0, 8, 43, 29, 181, 0, 135, 43, 180, 0, 143, 28, 160, 0, 7, 43]
abbrev dktX1_leaves_0 : List UInt8 := dkwX1_leaves_0 ++ dktX1_leaves_1
theorem dksX1_leaves_0 : cX1_leaves.data.toList.drop 0 = dktX1_leaves_0 := by decide +kernel
theorem dksX1_leaves_1 : cX1_leaves.data.toList.drop 22 = dktX1_leaves_1 := dk_seg dksX1_leaves_0 22 rfl rfl
theorem dX1_leaves_0 : decode cX1_leaves 0 = .ok (.aload_n 1, 1) := dk_43 (dk_at dksX1_leaves_0 0 rfl rfl)
theorem dX1_leaves_1 : decode cX1_leaves 1 = .ok (.getfield 135, 3) := dk_180 0 135 (dk_at dksX1_leaves_0 1 rfl rfl)
theorem dX1_leaves_4 : decode cX1_leaves 4 = .ok (.iload_n 2, 1) := dk_28 (dk_at dksX1_leaves_0 4 rfl rfl)
theorem dX1_leaves_5 : decode cX1_leaves 5 = .ok (.if_icmp .ne 8, 3) := dk_160 0 8 (dk_at dksX1_leaves_0 5 rfl rfl)
theorem dX1_leaves_8 : decode cX1_leaves 8 = .ok (.aload_n 1, 1) := dk_43 (dk_at dksX1_leaves_0 8 rfl rfl)
theorem dX1_leaves_9 : decode cX1_leaves 9 = .ok (.iload_n 3, 1) := dk_29 (dk_at dksX1_leaves_0 9 rfl rfl)
theorem dX1_leaves_10 : decode cX1_leaves 10 = .ok (.putfield 135, 3) := dk_181 0 135 (dk_at dksX1_leaves_0 10 rfl rfl)
theorem dX1_leaves_13 : decode cX1_leaves 13 = .ok (.aload_n 1, 1) := dk_43 (dk_at dksX1_leaves_0 13 rfl rfl)
theorem dX1_leaves_14 : decode cX1_leaves 14 = .ok (.getfield 143, 3) := dk_180 0 143 (dk_at dksX1_leaves_0 14 rfl rfl)
theorem dX1_leaves_17 : decode cX1_leaves 17 = .ok (.iload_n 2, 1) := dk_28 (dk_at dksX1_leaves_0 17 rfl rfl)
theorem dX1_leaves_18 : decode cX1_leaves 18 = .ok (.if_icmp .ne 7, 3) := dk_160 0 7 (dk_at dksX1_leaves_0 18 rfl rfl)
theorem dX1_leaves_21 : decode cX1_leaves 21 = .ok (.aload_n 1, 1) := dk_43 (dk_at dksX1_leaves_0 21 rfl rfl)
theorem dX1_leaves_22 : decode cX1_leaves 22 = .ok (.invokevirtual 200, 3) := dk_182 0 200 (dk_at dksX1_leaves_1 0 rfl rfl)
theorem dX1_leaves_25 : decode cX1_leaves 25 = .ok (.aload_n 1, 1) := dk_43 (dk_at dksX1_leaves_1 3 rfl rfl)
theorem dX1_leaves_26 : decode cX1_leaves 26 = .ok (.getfield 81, 3) := dk_180 0 81 (dk_at dksX1_leaves_1 4 rfl rfl)
theorem dX1_leaves_29 : decode cX1_leaves 29 = .ok (.iload_n 3, 1) := dk_29 (dk_at dksX1_leaves_1 7 rfl rfl)
theorem dX1_leaves_30 : decode cX1_leaves 30 = .ok (.if_icmp .ne 15, 3) := dk_160 0 15 (dk_at dksX1_leaves_1 8 rfl rfl)
theorem dX1_leaves_33 : decode cX1_leaves 33 = .ok (.aload_n 1, 1) := dk_43 (dk_at dksX1_leaves_1 11 rfl rfl)
theorem dX1_leaves_34 : decode cX1_leaves 34 = .ok (.getfield 135, 3) := dk_180 0 135 (dk_at dksX1_leaves_1 12 rfl rfl)
theorem dX1_leaves_37 : decode cX1_leaves 37 = .ok (.iload_n 3, 1) := dk_29 (dk_at dksX1_leaves_1 15 rfl rfl)
theorem dX1_leaves_38 : decode cX1_leaves 38 = .ok (.if_icmp .ne 7, 3) := dk_160 0 7 (dk_at dksX1_leaves_1 16 rfl rfl)
theorem dX1_leaves_41 : decode cX1_leaves 41 = .ok (.aload_n 1, 1) := dk_43 (dk_at dksX1_leaves_1 19 rfl rfl)
theorem dX1_leaves_42 : decode cX1_leaves 42 = .ok (.invokevirtual 203, 3) := dk_182 0 203 (dk_at dksX1_leaves_1 20 rfl rfl)
theorem dX1_leaves_45 : decode cX1_leaves 45 = .ok (.return_, 1) := dk_177 (dk_at dksX1_leaves_1 23 rfl rfl)
abbrev cX1_inherits : ByteArray := prog_11_method_34_code
def yX1_inherits : MethodName := ⟨RX1, "inherits", "(II)V"⟩
def dkwX1_inherits_5 : List UInt8 := [192, 0, 79, 180, 0, 94, 96, 181, 0, 178, 167, 0, 6, 132, 3, 1, 167, 255, 128, 177]
abbrev dktX1_inherits_5 : List UInt8 := dkwX1_inherits_5 ++ []
def dkwX1_inherits_4 : List UInt8 := [180, 0, 14, 28, 182, 0, 53, 192, 0, 18, 89, 180, 0, 178, 42, 180, 0, 30, 29, 182, 0, 132]
abbrev dktX1_inherits_4 : List UInt8 := dkwX1_inherits_4 ++ dktX1_inherits_5
def dkwX1_inherits_3 : List UInt8 := [21, 6, 153, 0, 9, 25, 4, 28, 182, 0, 206, 21, 5, 153, 0, 44, 21, 6, 154, 0, 39, 42]
abbrev dktX1_inherits_3 : List UInt8 := dkwX1_inherits_3 ++ dktX1_inherits_4
def dkwX1_inherits_2 : List UInt8 := [25, 4, 182, 0, 84, 96, 16, 60, 163, 0, 7, 4, 167, 0, 4, 3, 54, 6, 21, 5, 153, 0, 14]
abbrev dktX1_inherits_2 : List UInt8 := dkwX1_inherits_2 ++ dktX1_inherits_3
def dkwX1_inherits_1 : List UInt8 := [58, 4, 25, 4, 180, 0, 81, 27, 160, 0, 7, 4, 167, 0, 4, 3, 54, 5, 42, 28, 182, 0, 88]
abbrev dktX1_inherits_1 : List UInt8 := dkwX1_inherits_1 ++ dktX1_inherits_2
def dkwX1_inherits_0 : List UInt8 := [3, 62, 29, 42, 180, 0, 30, 182, 0, 171, 162, 0, 123, 42, 180, 0, 30, 29, 182, 0, 53, 192, 0, 79]
abbrev dktX1_inherits_0 : List UInt8 := dkwX1_inherits_0 ++ dktX1_inherits_1
theorem dksX1_inherits_0 : cX1_inherits.data.toList.drop 0 = dktX1_inherits_0 := by decide +kernel
theorem dksX1_inherits_1 : cX1_inherits.data.toList.drop 24 = dktX1_inherits_1 := dk_seg dksX1_inherits_0 24 rfl rfl
theorem dksX1_inherits_2 : cX1_inherits.data.toList.drop 47 = dktX1_inherits_2 := dk_seg dksX1_inherits_1 23 rfl rfl
theorem dksX1_inherits_3 : cX1_inherits.data.toList.drop 70 = dktX1_inherits_3 := dk_seg dksX1_inherits_2 23 rfl rfl
theorem dksX1_inherits_4 : cX1_inherits.data.toList.drop 92 = dktX1_inherits_4 := dk_seg dksX1_inherits_3 22 rfl rfl
theorem dksX1_inherits_5 : cX1_inherits.data.toList.drop 114 = dktX1_inherits_5 := dk_seg dksX1_inherits_4 22 rfl rfl
theorem dX1_inherits_0 : decode cX1_inherits 0 = .ok (.iconst 0, 1) := dk_3 (dk_at dksX1_inherits_0 0 rfl rfl)
theorem dX1_inherits_1 : decode cX1_inherits 1 = .ok (.istore_n 3, 1) := dk_62 (dk_at dksX1_inherits_0 1 rfl rfl)
theorem dX1_inherits_2 : decode cX1_inherits 2 = .ok (.iload_n 3, 1) := dk_29 (dk_at dksX1_inherits_0 2 rfl rfl)
theorem dX1_inherits_3 : decode cX1_inherits 3 = .ok (.aload_n 0, 1) := dk_42 (dk_at dksX1_inherits_0 3 rfl rfl)
theorem dX1_inherits_4 : decode cX1_inherits 4 = .ok (.getfield 30, 3) := dk_180 0 30 (dk_at dksX1_inherits_0 4 rfl rfl)
theorem dX1_inherits_7 : decode cX1_inherits 7 = .ok (.invokevirtual 171, 3) := dk_182 0 171 (dk_at dksX1_inherits_0 7 rfl rfl)
theorem dX1_inherits_10 : decode cX1_inherits 10 = .ok (.if_icmp .ge 123, 3) := dk_162 0 123 (dk_at dksX1_inherits_0 10 rfl rfl)
theorem dX1_inherits_13 : decode cX1_inherits 13 = .ok (.aload_n 0, 1) := dk_42 (dk_at dksX1_inherits_0 13 rfl rfl)
theorem dX1_inherits_14 : decode cX1_inherits 14 = .ok (.getfield 30, 3) := dk_180 0 30 (dk_at dksX1_inherits_0 14 rfl rfl)
theorem dX1_inherits_17 : decode cX1_inherits 17 = .ok (.iload_n 3, 1) := dk_29 (dk_at dksX1_inherits_0 17 rfl rfl)
theorem dX1_inherits_18 : decode cX1_inherits 18 = .ok (.invokevirtual 53, 3) := dk_182 0 53 (dk_at dksX1_inherits_0 18 rfl rfl)
theorem dX1_inherits_21 : decode cX1_inherits 21 = .ok (.checkcast 79, 3) := dk_192 0 79 (dk_at dksX1_inherits_0 21 rfl rfl)
theorem dX1_inherits_24 : decode cX1_inherits 24 = .ok (.astore 4, 2) := dk_58 4 (dk_at dksX1_inherits_1 0 rfl rfl)
theorem dX1_inherits_26 : decode cX1_inherits 26 = .ok (.aload 4, 2) := dk_25 4 (dk_at dksX1_inherits_1 2 rfl rfl)
theorem dX1_inherits_28 : decode cX1_inherits 28 = .ok (.getfield 81, 3) := dk_180 0 81 (dk_at dksX1_inherits_1 4 rfl rfl)
theorem dX1_inherits_31 : decode cX1_inherits 31 = .ok (.iload_n 1, 1) := dk_27 (dk_at dksX1_inherits_1 7 rfl rfl)
theorem dX1_inherits_32 : decode cX1_inherits 32 = .ok (.if_icmp .ne 7, 3) := dk_160 0 7 (dk_at dksX1_inherits_1 8 rfl rfl)
theorem dX1_inherits_35 : decode cX1_inherits 35 = .ok (.iconst 1, 1) := dk_4 (dk_at dksX1_inherits_1 11 rfl rfl)
theorem dX1_inherits_36 : decode cX1_inherits 36 = .ok (.goto 4, 3) := dk_167 0 4 (dk_at dksX1_inherits_1 12 rfl rfl)
theorem dX1_inherits_39 : decode cX1_inherits 39 = .ok (.iconst 0, 1) := dk_3 (dk_at dksX1_inherits_1 15 rfl rfl)
theorem dX1_inherits_40 : decode cX1_inherits 40 = .ok (.istore 5, 2) := dk_54 5 (dk_at dksX1_inherits_1 16 rfl rfl)
theorem dX1_inherits_42 : decode cX1_inherits 42 = .ok (.aload_n 0, 1) := dk_42 (dk_at dksX1_inherits_1 18 rfl rfl)
theorem dX1_inherits_43 : decode cX1_inherits 43 = .ok (.iload_n 2, 1) := dk_28 (dk_at dksX1_inherits_1 19 rfl rfl)
theorem dX1_inherits_44 : decode cX1_inherits 44 = .ok (.invokevirtual 88, 3) := dk_182 0 88 (dk_at dksX1_inherits_1 20 rfl rfl)
theorem dX1_inherits_47 : decode cX1_inherits 47 = .ok (.aload 4, 2) := dk_25 4 (dk_at dksX1_inherits_2 0 rfl rfl)
theorem dX1_inherits_49 : decode cX1_inherits 49 = .ok (.invokevirtual 84, 3) := dk_182 0 84 (dk_at dksX1_inherits_2 2 rfl rfl)
theorem dX1_inherits_52 : decode cX1_inherits 52 = .ok (.iadd, 1) := dk_96 (dk_at dksX1_inherits_2 5 rfl rfl)
theorem dX1_inherits_53 : decode cX1_inherits 53 = .ok (.bipush 60, 2) := dk_16 60 (dk_at dksX1_inherits_2 6 rfl rfl)
theorem dX1_inherits_55 : decode cX1_inherits 55 = .ok (.if_icmp .gt 7, 3) := dk_163 0 7 (dk_at dksX1_inherits_2 8 rfl rfl)
theorem dX1_inherits_58 : decode cX1_inherits 58 = .ok (.iconst 1, 1) := dk_4 (dk_at dksX1_inherits_2 11 rfl rfl)
theorem dX1_inherits_59 : decode cX1_inherits 59 = .ok (.goto 4, 3) := dk_167 0 4 (dk_at dksX1_inherits_2 12 rfl rfl)
theorem dX1_inherits_62 : decode cX1_inherits 62 = .ok (.iconst 0, 1) := dk_3 (dk_at dksX1_inherits_2 15 rfl rfl)
theorem dX1_inherits_63 : decode cX1_inherits 63 = .ok (.istore 6, 2) := dk_54 6 (dk_at dksX1_inherits_2 16 rfl rfl)
theorem dX1_inherits_65 : decode cX1_inherits 65 = .ok (.iload 5, 2) := dk_21 5 (dk_at dksX1_inherits_2 18 rfl rfl)
theorem dX1_inherits_67 : decode cX1_inherits 67 = .ok (.ifCond .eq 14, 3) := dk_153 0 14 (dk_at dksX1_inherits_2 20 rfl rfl)
theorem dX1_inherits_70 : decode cX1_inherits 70 = .ok (.iload 6, 2) := dk_21 6 (dk_at dksX1_inherits_3 0 rfl rfl)
theorem dX1_inherits_72 : decode cX1_inherits 72 = .ok (.ifCond .eq 9, 3) := dk_153 0 9 (dk_at dksX1_inherits_3 2 rfl rfl)
theorem dX1_inherits_75 : decode cX1_inherits 75 = .ok (.aload 4, 2) := dk_25 4 (dk_at dksX1_inherits_3 5 rfl rfl)
theorem dX1_inherits_77 : decode cX1_inherits 77 = .ok (.iload_n 2, 1) := dk_28 (dk_at dksX1_inherits_3 7 rfl rfl)
theorem dX1_inherits_78 : decode cX1_inherits 78 = .ok (.invokevirtual 206, 3) := dk_182 0 206 (dk_at dksX1_inherits_3 8 rfl rfl)
theorem dX1_inherits_81 : decode cX1_inherits 81 = .ok (.iload 5, 2) := dk_21 5 (dk_at dksX1_inherits_3 11 rfl rfl)
theorem dX1_inherits_83 : decode cX1_inherits 83 = .ok (.ifCond .eq 44, 3) := dk_153 0 44 (dk_at dksX1_inherits_3 13 rfl rfl)
theorem dX1_inherits_86 : decode cX1_inherits 86 = .ok (.iload 6, 2) := dk_21 6 (dk_at dksX1_inherits_3 16 rfl rfl)
theorem dX1_inherits_88 : decode cX1_inherits 88 = .ok (.ifCond .ne 39, 3) := dk_154 0 39 (dk_at dksX1_inherits_3 18 rfl rfl)
theorem dX1_inherits_91 : decode cX1_inherits 91 = .ok (.aload_n 0, 1) := dk_42 (dk_at dksX1_inherits_3 21 rfl rfl)
theorem dX1_inherits_92 : decode cX1_inherits 92 = .ok (.getfield 14, 3) := dk_180 0 14 (dk_at dksX1_inherits_4 0 rfl rfl)
theorem dX1_inherits_95 : decode cX1_inherits 95 = .ok (.iload_n 2, 1) := dk_28 (dk_at dksX1_inherits_4 3 rfl rfl)
theorem dX1_inherits_96 : decode cX1_inherits 96 = .ok (.invokevirtual 53, 3) := dk_182 0 53 (dk_at dksX1_inherits_4 4 rfl rfl)
theorem dX1_inherits_99 : decode cX1_inherits 99 = .ok (.checkcast 18, 3) := dk_192 0 18 (dk_at dksX1_inherits_4 7 rfl rfl)
theorem dX1_inherits_102 : decode cX1_inherits 102 = .ok (.dup, 1) := dk_89 (dk_at dksX1_inherits_4 10 rfl rfl)
theorem dX1_inherits_103 : decode cX1_inherits 103 = .ok (.getfield 178, 3) := dk_180 0 178 (dk_at dksX1_inherits_4 11 rfl rfl)
theorem dX1_inherits_106 : decode cX1_inherits 106 = .ok (.aload_n 0, 1) := dk_42 (dk_at dksX1_inherits_4 14 rfl rfl)
theorem dX1_inherits_107 : decode cX1_inherits 107 = .ok (.getfield 30, 3) := dk_180 0 30 (dk_at dksX1_inherits_4 15 rfl rfl)
theorem dX1_inherits_110 : decode cX1_inherits 110 = .ok (.iload_n 3, 1) := dk_29 (dk_at dksX1_inherits_4 18 rfl rfl)
theorem dX1_inherits_111 : decode cX1_inherits 111 = .ok (.invokevirtual 132, 3) := dk_182 0 132 (dk_at dksX1_inherits_4 19 rfl rfl)
theorem dX1_inherits_114 : decode cX1_inherits 114 = .ok (.checkcast 79, 3) := dk_192 0 79 (dk_at dksX1_inherits_5 0 rfl rfl)
theorem dX1_inherits_117 : decode cX1_inherits 117 = .ok (.getfield 94, 3) := dk_180 0 94 (dk_at dksX1_inherits_5 3 rfl rfl)
theorem dX1_inherits_120 : decode cX1_inherits 120 = .ok (.iadd, 1) := dk_96 (dk_at dksX1_inherits_5 6 rfl rfl)
theorem dX1_inherits_121 : decode cX1_inherits 121 = .ok (.putfield 178, 3) := dk_181 0 178 (dk_at dksX1_inherits_5 7 rfl rfl)
theorem dX1_inherits_124 : decode cX1_inherits 124 = .ok (.goto 6, 3) := dk_167 0 6 (dk_at dksX1_inherits_5 10 rfl rfl)
theorem dX1_inherits_127 : decode cX1_inherits 127 = .ok (.iinc 3 1, 3) := dk_132 3 1 (dk_at dksX1_inherits_5 13 rfl rfl)
theorem dX1_inherits_130 : decode cX1_inherits 130 = .ok (.goto (-128), 3) := dk_167 255 128 (dk_at dksX1_inherits_5 16 rfl rfl)
theorem dX1_inherits_133 : decode cX1_inherits 133 = .ok (.return_, 1) := dk_177 (dk_at dksX1_inherits_5 19 rfl rfl)
abbrev cX1_passes : ByteArray := prog_11_method_17_code
def yX1_passes : MethodName := ⟨RX1, "passes", "(I)I"⟩
def dkwX1_passes_3 : List UInt8 := [28, 172]
abbrev dktX1_passes_3 : List UInt8 := dkwX1_passes_3 ++ []
def dkwX1_passes_2 : List UInt8 := [182, 0, 152, 96, 61, 167, 255, 226, 132, 3, 1, 167, 255, 206, 42, 89, 180, 0, 50, 27, 96, 181, 0, 50]
abbrev dktX1_passes_2 : List UInt8 := dkwX1_passes_2 ++ dktX1_passes_3
def dkwX1_passes_1 : List UInt8 := [185, 0, 69, 1, 0, 153, 0, 26, 25, 4, 185, 0, 75, 1, 0, 192, 0, 79, 58, 5, 28, 25, 5]
abbrev dktX1_passes_1 : List UInt8 := dkwX1_passes_1 ++ dktX1_passes_2
def dkwX1_passes_0 : List UInt8 := [3, 61, 3, 62, 29, 27, 162, 0, 51, 42, 180, 0, 30, 182, 0, 65, 58, 4, 25, 4]
abbrev dktX1_passes_0 : List UInt8 := dkwX1_passes_0 ++ dktX1_passes_1
theorem dksX1_passes_0 : cX1_passes.data.toList.drop 0 = dktX1_passes_0 := by decide +kernel
theorem dksX1_passes_1 : cX1_passes.data.toList.drop 20 = dktX1_passes_1 := dk_seg dksX1_passes_0 20 rfl rfl
theorem dksX1_passes_2 : cX1_passes.data.toList.drop 43 = dktX1_passes_2 := dk_seg dksX1_passes_1 23 rfl rfl
theorem dksX1_passes_3 : cX1_passes.data.toList.drop 67 = dktX1_passes_3 := dk_seg dksX1_passes_2 24 rfl rfl
theorem dX1_passes_0 : decode cX1_passes 0 = .ok (.iconst 0, 1) := dk_3 (dk_at dksX1_passes_0 0 rfl rfl)
theorem dX1_passes_1 : decode cX1_passes 1 = .ok (.istore_n 2, 1) := dk_61 (dk_at dksX1_passes_0 1 rfl rfl)
theorem dX1_passes_2 : decode cX1_passes 2 = .ok (.iconst 0, 1) := dk_3 (dk_at dksX1_passes_0 2 rfl rfl)
theorem dX1_passes_3 : decode cX1_passes 3 = .ok (.istore_n 3, 1) := dk_62 (dk_at dksX1_passes_0 3 rfl rfl)
theorem dX1_passes_4 : decode cX1_passes 4 = .ok (.iload_n 3, 1) := dk_29 (dk_at dksX1_passes_0 4 rfl rfl)
theorem dX1_passes_5 : decode cX1_passes 5 = .ok (.iload_n 1, 1) := dk_27 (dk_at dksX1_passes_0 5 rfl rfl)
theorem dX1_passes_6 : decode cX1_passes 6 = .ok (.if_icmp .ge 51, 3) := dk_162 0 51 (dk_at dksX1_passes_0 6 rfl rfl)
theorem dX1_passes_9 : decode cX1_passes 9 = .ok (.aload_n 0, 1) := dk_42 (dk_at dksX1_passes_0 9 rfl rfl)
theorem dX1_passes_10 : decode cX1_passes 10 = .ok (.getfield 30, 3) := dk_180 0 30 (dk_at dksX1_passes_0 10 rfl rfl)
theorem dX1_passes_13 : decode cX1_passes 13 = .ok (.invokevirtual 65, 3) := dk_182 0 65 (dk_at dksX1_passes_0 13 rfl rfl)
theorem dX1_passes_16 : decode cX1_passes 16 = .ok (.astore 4, 2) := dk_58 4 (dk_at dksX1_passes_0 16 rfl rfl)
theorem dX1_passes_18 : decode cX1_passes 18 = .ok (.aload 4, 2) := dk_25 4 (dk_at dksX1_passes_0 18 rfl rfl)
theorem dX1_passes_20 : decode cX1_passes 20 = .ok (.invokeinterface 69 1, 5) := by decide +kernel
theorem dX1_passes_25 : decode cX1_passes 25 = .ok (.ifCond .eq 26, 3) := dk_153 0 26 (dk_at dksX1_passes_1 5 rfl rfl)
theorem dX1_passes_28 : decode cX1_passes 28 = .ok (.aload 4, 2) := dk_25 4 (dk_at dksX1_passes_1 8 rfl rfl)
theorem dX1_passes_30 : decode cX1_passes 30 = .ok (.invokeinterface 75 1, 5) := by decide +kernel
theorem dX1_passes_35 : decode cX1_passes 35 = .ok (.checkcast 79, 3) := dk_192 0 79 (dk_at dksX1_passes_1 15 rfl rfl)
theorem dX1_passes_38 : decode cX1_passes 38 = .ok (.astore 5, 2) := dk_58 5 (dk_at dksX1_passes_1 18 rfl rfl)
theorem dX1_passes_40 : decode cX1_passes 40 = .ok (.iload_n 2, 1) := dk_28 (dk_at dksX1_passes_1 20 rfl rfl)
theorem dX1_passes_41 : decode cX1_passes 41 = .ok (.aload 5, 2) := dk_25 5 (dk_at dksX1_passes_1 21 rfl rfl)
theorem dX1_passes_43 : decode cX1_passes 43 = .ok (.invokevirtual 152, 3) := dk_182 0 152 (dk_at dksX1_passes_2 0 rfl rfl)
theorem dX1_passes_46 : decode cX1_passes 46 = .ok (.iadd, 1) := dk_96 (dk_at dksX1_passes_2 3 rfl rfl)
theorem dX1_passes_47 : decode cX1_passes 47 = .ok (.istore_n 2, 1) := dk_61 (dk_at dksX1_passes_2 4 rfl rfl)
theorem dX1_passes_48 : decode cX1_passes 48 = .ok (.goto (-30), 3) := dk_167 255 226 (dk_at dksX1_passes_2 5 rfl rfl)
theorem dX1_passes_51 : decode cX1_passes 51 = .ok (.iinc 3 1, 3) := dk_132 3 1 (dk_at dksX1_passes_2 8 rfl rfl)
theorem dX1_passes_54 : decode cX1_passes 54 = .ok (.goto (-50), 3) := dk_167 255 206 (dk_at dksX1_passes_2 11 rfl rfl)
theorem dX1_passes_57 : decode cX1_passes 57 = .ok (.aload_n 0, 1) := dk_42 (dk_at dksX1_passes_2 14 rfl rfl)
theorem dX1_passes_58 : decode cX1_passes 58 = .ok (.dup, 1) := dk_89 (dk_at dksX1_passes_2 15 rfl rfl)
theorem dX1_passes_59 : decode cX1_passes 59 = .ok (.getfield 50, 3) := dk_180 0 50 (dk_at dksX1_passes_2 16 rfl rfl)
theorem dX1_passes_62 : decode cX1_passes 62 = .ok (.iload_n 1, 1) := dk_27 (dk_at dksX1_passes_2 19 rfl rfl)
theorem dX1_passes_63 : decode cX1_passes 63 = .ok (.iadd, 1) := dk_96 (dk_at dksX1_passes_2 20 rfl rfl)
theorem dX1_passes_64 : decode cX1_passes 64 = .ok (.putfield 50, 3) := dk_181 0 50 (dk_at dksX1_passes_2 21 rfl rfl)
theorem dX1_passes_67 : decode cX1_passes 67 = .ok (.iload_n 2, 1) := dk_28 (dk_at dksX1_passes_3 0 rfl rfl)
theorem dX1_passes_68 : decode cX1_passes 68 = .ok (.ireturn, 1) := dk_172 (dk_at dksX1_passes_3 1 rfl rfl)
abbrev cX1_ofHouse : ByteArray := prog_11_method_39_code
def yX1_ofHouse : MethodName := ⟨RX1, "ofHouse", "(II)I"⟩
def dkwX1_ofHouse_5 : List UInt8 := [17, 252, 12, 172]
abbrev dktX1_ofHouse_5 : List UInt8 := dkwX1_ofHouse_5 ++ []
def dkwX1_ofHouse_4 : List UInt8 := [182, 0, 217, 167, 0, 22, 42, 27, 182, 0, 146, 167, 0, 14, 42, 27, 182, 0, 220, 167, 0, 6]
abbrev dktX1_ofHouse_4 : List UInt8 := dkwX1_ofHouse_4 ++ dktX1_ofHouse_5
def dkwX1_ofHouse_3 : List UInt8 := [180, 0, 178, 167, 0, 45, 45, 180, 0, 155, 167, 0, 38, 42, 27, 182, 0, 161, 167, 0, 30, 42, 27]
abbrev dktX1_ofHouse_3 : List UInt8 := dkwX1_ofHouse_3 ++ dktX1_ofHouse_4
def dkwX1_ofHouse_2 : List UInt8 := [45, 180, 0, 57, 153, 0, 7, 4, 167, 0, 63, 3, 167, 0, 59, 45, 180, 0, 181, 167, 0, 52, 45]
abbrev dktX1_ofHouse_2 : List UInt8 := dkwX1_ofHouse_2 ++ dktX1_ofHouse_3
def dkwX1_ofHouse_1 : List UInt8 := [170, 0, 0, 0, 0, 0, 115, 0, 0, 0, 0, 0, 0, 0, 7, 0, 0, 0, 47, 0, 0, 0, 62, 0, 0, 0, 69, 0, 0, 0, 76, 0, 0, 0, 83, 0, 0, 0, 91, 0, 0, 0, 99, 0, 0, 0, 107]
abbrev dktX1_ofHouse_1 : List UInt8 := dkwX1_ofHouse_1 ++ dktX1_ofHouse_2
def dkwX1_ofHouse_0 : List UInt8 := [42, 180, 0, 14, 27, 182, 0, 53, 192, 0, 18, 78, 28]
abbrev dktX1_ofHouse_0 : List UInt8 := dkwX1_ofHouse_0 ++ dktX1_ofHouse_1
theorem dksX1_ofHouse_0 : cX1_ofHouse.data.toList.drop 0 = dktX1_ofHouse_0 := by decide +kernel
theorem dksX1_ofHouse_1 : cX1_ofHouse.data.toList.drop 13 = dktX1_ofHouse_1 := dk_seg dksX1_ofHouse_0 13 rfl rfl
theorem dksX1_ofHouse_2 : cX1_ofHouse.data.toList.drop 60 = dktX1_ofHouse_2 := dk_seg dksX1_ofHouse_1 47 rfl rfl
theorem dksX1_ofHouse_3 : cX1_ofHouse.data.toList.drop 83 = dktX1_ofHouse_3 := dk_seg dksX1_ofHouse_2 23 rfl rfl
theorem dksX1_ofHouse_4 : cX1_ofHouse.data.toList.drop 106 = dktX1_ofHouse_4 := dk_seg dksX1_ofHouse_3 23 rfl rfl
theorem dksX1_ofHouse_5 : cX1_ofHouse.data.toList.drop 128 = dktX1_ofHouse_5 := dk_seg dksX1_ofHouse_4 22 rfl rfl
theorem dX1_ofHouse_0 : decode cX1_ofHouse 0 = .ok (.aload_n 0, 1) := dk_42 (dk_at dksX1_ofHouse_0 0 rfl rfl)
theorem dX1_ofHouse_1 : decode cX1_ofHouse 1 = .ok (.getfield 14, 3) := dk_180 0 14 (dk_at dksX1_ofHouse_0 1 rfl rfl)
theorem dX1_ofHouse_4 : decode cX1_ofHouse 4 = .ok (.iload_n 1, 1) := dk_27 (dk_at dksX1_ofHouse_0 4 rfl rfl)
theorem dX1_ofHouse_5 : decode cX1_ofHouse 5 = .ok (.invokevirtual 53, 3) := dk_182 0 53 (dk_at dksX1_ofHouse_0 5 rfl rfl)
theorem dX1_ofHouse_8 : decode cX1_ofHouse 8 = .ok (.checkcast 18, 3) := dk_192 0 18 (dk_at dksX1_ofHouse_0 8 rfl rfl)
theorem dX1_ofHouse_11 : decode cX1_ofHouse 11 = .ok (.astore_n 3, 1) := dk_78 (dk_at dksX1_ofHouse_0 11 rfl rfl)
theorem dX1_ofHouse_12 : decode cX1_ofHouse 12 = .ok (.iload_n 2, 1) := dk_28 (dk_at dksX1_ofHouse_0 12 rfl rfl)
theorem dX1_ofHouse_13 : decode cX1_ofHouse 13 = .ok (.tableswitch 115 0 7 #[47, 62, 69, 76, 83, 91, 99, 107], 47) := by decide +kernel
theorem dX1_ofHouse_60 : decode cX1_ofHouse 60 = .ok (.aload_n 3, 1) := dk_45 (dk_at dksX1_ofHouse_2 0 rfl rfl)
theorem dX1_ofHouse_61 : decode cX1_ofHouse 61 = .ok (.getfield 57, 3) := dk_180 0 57 (dk_at dksX1_ofHouse_2 1 rfl rfl)
theorem dX1_ofHouse_64 : decode cX1_ofHouse 64 = .ok (.ifCond .eq 7, 3) := dk_153 0 7 (dk_at dksX1_ofHouse_2 4 rfl rfl)
theorem dX1_ofHouse_67 : decode cX1_ofHouse 67 = .ok (.iconst 1, 1) := dk_4 (dk_at dksX1_ofHouse_2 7 rfl rfl)
theorem dX1_ofHouse_68 : decode cX1_ofHouse 68 = .ok (.goto 63, 3) := dk_167 0 63 (dk_at dksX1_ofHouse_2 8 rfl rfl)
theorem dX1_ofHouse_71 : decode cX1_ofHouse 71 = .ok (.iconst 0, 1) := dk_3 (dk_at dksX1_ofHouse_2 11 rfl rfl)
theorem dX1_ofHouse_72 : decode cX1_ofHouse 72 = .ok (.goto 59, 3) := dk_167 0 59 (dk_at dksX1_ofHouse_2 12 rfl rfl)
theorem dX1_ofHouse_75 : decode cX1_ofHouse 75 = .ok (.aload_n 3, 1) := dk_45 (dk_at dksX1_ofHouse_2 15 rfl rfl)
theorem dX1_ofHouse_76 : decode cX1_ofHouse 76 = .ok (.getfield 181, 3) := dk_180 0 181 (dk_at dksX1_ofHouse_2 16 rfl rfl)
theorem dX1_ofHouse_79 : decode cX1_ofHouse 79 = .ok (.goto 52, 3) := dk_167 0 52 (dk_at dksX1_ofHouse_2 19 rfl rfl)
theorem dX1_ofHouse_82 : decode cX1_ofHouse 82 = .ok (.aload_n 3, 1) := dk_45 (dk_at dksX1_ofHouse_2 22 rfl rfl)
theorem dX1_ofHouse_83 : decode cX1_ofHouse 83 = .ok (.getfield 178, 3) := dk_180 0 178 (dk_at dksX1_ofHouse_3 0 rfl rfl)
theorem dX1_ofHouse_86 : decode cX1_ofHouse 86 = .ok (.goto 45, 3) := dk_167 0 45 (dk_at dksX1_ofHouse_3 3 rfl rfl)
theorem dX1_ofHouse_89 : decode cX1_ofHouse 89 = .ok (.aload_n 3, 1) := dk_45 (dk_at dksX1_ofHouse_3 6 rfl rfl)
theorem dX1_ofHouse_90 : decode cX1_ofHouse 90 = .ok (.getfield 155, 3) := dk_180 0 155 (dk_at dksX1_ofHouse_3 7 rfl rfl)
theorem dX1_ofHouse_93 : decode cX1_ofHouse 93 = .ok (.goto 38, 3) := dk_167 0 38 (dk_at dksX1_ofHouse_3 10 rfl rfl)
theorem dX1_ofHouse_96 : decode cX1_ofHouse 96 = .ok (.aload_n 0, 1) := dk_42 (dk_at dksX1_ofHouse_3 13 rfl rfl)
theorem dX1_ofHouse_97 : decode cX1_ofHouse 97 = .ok (.iload_n 1, 1) := dk_27 (dk_at dksX1_ofHouse_3 14 rfl rfl)
theorem dX1_ofHouse_98 : decode cX1_ofHouse 98 = .ok (.invokevirtual 161, 3) := dk_182 0 161 (dk_at dksX1_ofHouse_3 15 rfl rfl)
theorem dX1_ofHouse_101 : decode cX1_ofHouse 101 = .ok (.goto 30, 3) := dk_167 0 30 (dk_at dksX1_ofHouse_3 18 rfl rfl)
theorem dX1_ofHouse_104 : decode cX1_ofHouse 104 = .ok (.aload_n 0, 1) := dk_42 (dk_at dksX1_ofHouse_3 21 rfl rfl)
theorem dX1_ofHouse_105 : decode cX1_ofHouse 105 = .ok (.iload_n 1, 1) := dk_27 (dk_at dksX1_ofHouse_3 22 rfl rfl)
theorem dX1_ofHouse_106 : decode cX1_ofHouse 106 = .ok (.invokevirtual 217, 3) := dk_182 0 217 (dk_at dksX1_ofHouse_4 0 rfl rfl)
theorem dX1_ofHouse_109 : decode cX1_ofHouse 109 = .ok (.goto 22, 3) := dk_167 0 22 (dk_at dksX1_ofHouse_4 3 rfl rfl)
theorem dX1_ofHouse_112 : decode cX1_ofHouse 112 = .ok (.aload_n 0, 1) := dk_42 (dk_at dksX1_ofHouse_4 6 rfl rfl)
theorem dX1_ofHouse_113 : decode cX1_ofHouse 113 = .ok (.iload_n 1, 1) := dk_27 (dk_at dksX1_ofHouse_4 7 rfl rfl)
theorem dX1_ofHouse_114 : decode cX1_ofHouse 114 = .ok (.invokevirtual 146, 3) := dk_182 0 146 (dk_at dksX1_ofHouse_4 8 rfl rfl)
theorem dX1_ofHouse_117 : decode cX1_ofHouse 117 = .ok (.goto 14, 3) := dk_167 0 14 (dk_at dksX1_ofHouse_4 11 rfl rfl)
theorem dX1_ofHouse_120 : decode cX1_ofHouse 120 = .ok (.aload_n 0, 1) := dk_42 (dk_at dksX1_ofHouse_4 14 rfl rfl)
theorem dX1_ofHouse_121 : decode cX1_ofHouse 121 = .ok (.iload_n 1, 1) := dk_27 (dk_at dksX1_ofHouse_4 15 rfl rfl)
theorem dX1_ofHouse_122 : decode cX1_ofHouse 122 = .ok (.invokevirtual 220, 3) := dk_182 0 220 (dk_at dksX1_ofHouse_4 16 rfl rfl)
theorem dX1_ofHouse_125 : decode cX1_ofHouse 125 = .ok (.goto 6, 3) := dk_167 0 6 (dk_at dksX1_ofHouse_4 19 rfl rfl)
theorem dX1_ofHouse_128 : decode cX1_ofHouse 128 = .ok (.sipush (-1012), 3) := dk_17 252 12 (dk_at dksX1_ofHouse_5 0 rfl rfl)
theorem dX1_ofHouse_131 : decode cX1_ofHouse 131 = .ok (.ireturn, 1) := dk_172 (dk_at dksX1_ofHouse_5 3 rfl rfl)
abbrev cX1_stubsOf : ByteArray := prog_11_method_36_code
def yX1_stubsOf : MethodName := ⟨RX1, "stubsOf", "(I)I"⟩
def dkwX1_stubsOf_2 : List UInt8 := [3, 96, 61, 167, 255, 219, 28, 172]
abbrev dktX1_stubsOf_2 : List UInt8 := dkwX1_stubsOf_2 ++ []
def dkwX1_stubsOf_1 : List UInt8 := [185, 0, 75, 1, 0, 192, 0, 79, 58, 4, 28, 25, 4, 180, 0, 81, 27, 160, 0, 7, 4, 167, 0, 4]
abbrev dktX1_stubsOf_1 : List UInt8 := dkwX1_stubsOf_1 ++ dktX1_stubsOf_2
def dkwX1_stubsOf_0 : List UInt8 := [3, 61, 42, 180, 0, 30, 182, 0, 65, 78, 45, 185, 0, 69, 1, 0, 153, 0, 34, 45]
abbrev dktX1_stubsOf_0 : List UInt8 := dkwX1_stubsOf_0 ++ dktX1_stubsOf_1
theorem dksX1_stubsOf_0 : cX1_stubsOf.data.toList.drop 0 = dktX1_stubsOf_0 := by decide +kernel
theorem dksX1_stubsOf_1 : cX1_stubsOf.data.toList.drop 20 = dktX1_stubsOf_1 := dk_seg dksX1_stubsOf_0 20 rfl rfl
theorem dksX1_stubsOf_2 : cX1_stubsOf.data.toList.drop 44 = dktX1_stubsOf_2 := dk_seg dksX1_stubsOf_1 24 rfl rfl
theorem dX1_stubsOf_0 : decode cX1_stubsOf 0 = .ok (.iconst 0, 1) := dk_3 (dk_at dksX1_stubsOf_0 0 rfl rfl)
theorem dX1_stubsOf_1 : decode cX1_stubsOf 1 = .ok (.istore_n 2, 1) := dk_61 (dk_at dksX1_stubsOf_0 1 rfl rfl)
theorem dX1_stubsOf_2 : decode cX1_stubsOf 2 = .ok (.aload_n 0, 1) := dk_42 (dk_at dksX1_stubsOf_0 2 rfl rfl)
theorem dX1_stubsOf_3 : decode cX1_stubsOf 3 = .ok (.getfield 30, 3) := dk_180 0 30 (dk_at dksX1_stubsOf_0 3 rfl rfl)
theorem dX1_stubsOf_6 : decode cX1_stubsOf 6 = .ok (.invokevirtual 65, 3) := dk_182 0 65 (dk_at dksX1_stubsOf_0 6 rfl rfl)
theorem dX1_stubsOf_9 : decode cX1_stubsOf 9 = .ok (.astore_n 3, 1) := dk_78 (dk_at dksX1_stubsOf_0 9 rfl rfl)
theorem dX1_stubsOf_10 : decode cX1_stubsOf 10 = .ok (.aload_n 3, 1) := dk_45 (dk_at dksX1_stubsOf_0 10 rfl rfl)
theorem dX1_stubsOf_11 : decode cX1_stubsOf 11 = .ok (.invokeinterface 69 1, 5) := by decide +kernel
theorem dX1_stubsOf_16 : decode cX1_stubsOf 16 = .ok (.ifCond .eq 34, 3) := dk_153 0 34 (dk_at dksX1_stubsOf_0 16 rfl rfl)
theorem dX1_stubsOf_19 : decode cX1_stubsOf 19 = .ok (.aload_n 3, 1) := dk_45 (dk_at dksX1_stubsOf_0 19 rfl rfl)
theorem dX1_stubsOf_20 : decode cX1_stubsOf 20 = .ok (.invokeinterface 75 1, 5) := by decide +kernel
theorem dX1_stubsOf_25 : decode cX1_stubsOf 25 = .ok (.checkcast 79, 3) := dk_192 0 79 (dk_at dksX1_stubsOf_1 5 rfl rfl)
theorem dX1_stubsOf_28 : decode cX1_stubsOf 28 = .ok (.astore 4, 2) := dk_58 4 (dk_at dksX1_stubsOf_1 8 rfl rfl)
theorem dX1_stubsOf_30 : decode cX1_stubsOf 30 = .ok (.iload_n 2, 1) := dk_28 (dk_at dksX1_stubsOf_1 10 rfl rfl)
theorem dX1_stubsOf_31 : decode cX1_stubsOf 31 = .ok (.aload 4, 2) := dk_25 4 (dk_at dksX1_stubsOf_1 11 rfl rfl)
theorem dX1_stubsOf_33 : decode cX1_stubsOf 33 = .ok (.getfield 81, 3) := dk_180 0 81 (dk_at dksX1_stubsOf_1 13 rfl rfl)
theorem dX1_stubsOf_36 : decode cX1_stubsOf 36 = .ok (.iload_n 1, 1) := dk_27 (dk_at dksX1_stubsOf_1 16 rfl rfl)
theorem dX1_stubsOf_37 : decode cX1_stubsOf 37 = .ok (.if_icmp .ne 7, 3) := dk_160 0 7 (dk_at dksX1_stubsOf_1 17 rfl rfl)
theorem dX1_stubsOf_40 : decode cX1_stubsOf 40 = .ok (.iconst 1, 1) := dk_4 (dk_at dksX1_stubsOf_1 20 rfl rfl)
theorem dX1_stubsOf_41 : decode cX1_stubsOf 41 = .ok (.goto 4, 3) := dk_167 0 4 (dk_at dksX1_stubsOf_1 21 rfl rfl)
theorem dX1_stubsOf_44 : decode cX1_stubsOf 44 = .ok (.iconst 0, 1) := dk_3 (dk_at dksX1_stubsOf_2 0 rfl rfl)
theorem dX1_stubsOf_45 : decode cX1_stubsOf 45 = .ok (.iadd, 1) := dk_96 (dk_at dksX1_stubsOf_2 1 rfl rfl)
theorem dX1_stubsOf_46 : decode cX1_stubsOf 46 = .ok (.istore_n 2, 1) := dk_61 (dk_at dksX1_stubsOf_2 2 rfl rfl)
theorem dX1_stubsOf_47 : decode cX1_stubsOf 47 = .ok (.goto (-37), 3) := dk_167 255 219 (dk_at dksX1_stubsOf_2 3 rfl rfl)
theorem dX1_stubsOf_50 : decode cX1_stubsOf 50 = .ok (.iload_n 2, 1) := dk_28 (dk_at dksX1_stubsOf_2 6 rfl rfl)
theorem dX1_stubsOf_51 : decode cX1_stubsOf 51 = .ok (.ireturn, 1) := dk_172 (dk_at dksX1_stubsOf_2 7 rfl rfl)
abbrev cX1_owedBy : ByteArray := prog_11_method_37_code
def yX1_owedBy : MethodName := ⟨RX1, "owedBy", "(I)I"⟩
def dkwX1_owedBy_2 : List UInt8 := [180, 0, 138, 167, 0, 4, 3, 96, 61, 167, 255, 215, 28, 172]
abbrev dktX1_owedBy_2 : List UInt8 := dkwX1_owedBy_2 ++ []
def dkwX1_owedBy_1 : List UInt8 := [185, 0, 75, 1, 0, 192, 0, 79, 58, 4, 28, 25, 4, 180, 0, 81, 27, 160, 0, 11, 25, 4]
abbrev dktX1_owedBy_1 : List UInt8 := dkwX1_owedBy_1 ++ dktX1_owedBy_2
def dkwX1_owedBy_0 : List UInt8 := [3, 61, 42, 180, 0, 30, 182, 0, 65, 78, 45, 185, 0, 69, 1, 0, 153, 0, 38, 45]
abbrev dktX1_owedBy_0 : List UInt8 := dkwX1_owedBy_0 ++ dktX1_owedBy_1
theorem dksX1_owedBy_0 : cX1_owedBy.data.toList.drop 0 = dktX1_owedBy_0 := by decide +kernel
theorem dksX1_owedBy_1 : cX1_owedBy.data.toList.drop 20 = dktX1_owedBy_1 := dk_seg dksX1_owedBy_0 20 rfl rfl
theorem dksX1_owedBy_2 : cX1_owedBy.data.toList.drop 42 = dktX1_owedBy_2 := dk_seg dksX1_owedBy_1 22 rfl rfl
theorem dX1_owedBy_0 : decode cX1_owedBy 0 = .ok (.iconst 0, 1) := dk_3 (dk_at dksX1_owedBy_0 0 rfl rfl)
theorem dX1_owedBy_1 : decode cX1_owedBy 1 = .ok (.istore_n 2, 1) := dk_61 (dk_at dksX1_owedBy_0 1 rfl rfl)
theorem dX1_owedBy_2 : decode cX1_owedBy 2 = .ok (.aload_n 0, 1) := dk_42 (dk_at dksX1_owedBy_0 2 rfl rfl)
theorem dX1_owedBy_3 : decode cX1_owedBy 3 = .ok (.getfield 30, 3) := dk_180 0 30 (dk_at dksX1_owedBy_0 3 rfl rfl)
theorem dX1_owedBy_6 : decode cX1_owedBy 6 = .ok (.invokevirtual 65, 3) := dk_182 0 65 (dk_at dksX1_owedBy_0 6 rfl rfl)
theorem dX1_owedBy_9 : decode cX1_owedBy 9 = .ok (.astore_n 3, 1) := dk_78 (dk_at dksX1_owedBy_0 9 rfl rfl)
theorem dX1_owedBy_10 : decode cX1_owedBy 10 = .ok (.aload_n 3, 1) := dk_45 (dk_at dksX1_owedBy_0 10 rfl rfl)
theorem dX1_owedBy_11 : decode cX1_owedBy 11 = .ok (.invokeinterface 69 1, 5) := by decide +kernel
theorem dX1_owedBy_16 : decode cX1_owedBy 16 = .ok (.ifCond .eq 38, 3) := dk_153 0 38 (dk_at dksX1_owedBy_0 16 rfl rfl)
theorem dX1_owedBy_19 : decode cX1_owedBy 19 = .ok (.aload_n 3, 1) := dk_45 (dk_at dksX1_owedBy_0 19 rfl rfl)
theorem dX1_owedBy_20 : decode cX1_owedBy 20 = .ok (.invokeinterface 75 1, 5) := by decide +kernel
theorem dX1_owedBy_25 : decode cX1_owedBy 25 = .ok (.checkcast 79, 3) := dk_192 0 79 (dk_at dksX1_owedBy_1 5 rfl rfl)
theorem dX1_owedBy_28 : decode cX1_owedBy 28 = .ok (.astore 4, 2) := dk_58 4 (dk_at dksX1_owedBy_1 8 rfl rfl)
theorem dX1_owedBy_30 : decode cX1_owedBy 30 = .ok (.iload_n 2, 1) := dk_28 (dk_at dksX1_owedBy_1 10 rfl rfl)
theorem dX1_owedBy_31 : decode cX1_owedBy 31 = .ok (.aload 4, 2) := dk_25 4 (dk_at dksX1_owedBy_1 11 rfl rfl)
theorem dX1_owedBy_33 : decode cX1_owedBy 33 = .ok (.getfield 81, 3) := dk_180 0 81 (dk_at dksX1_owedBy_1 13 rfl rfl)
theorem dX1_owedBy_36 : decode cX1_owedBy 36 = .ok (.iload_n 1, 1) := dk_27 (dk_at dksX1_owedBy_1 16 rfl rfl)
theorem dX1_owedBy_37 : decode cX1_owedBy 37 = .ok (.if_icmp .ne 11, 3) := dk_160 0 11 (dk_at dksX1_owedBy_1 17 rfl rfl)
theorem dX1_owedBy_40 : decode cX1_owedBy 40 = .ok (.aload 4, 2) := dk_25 4 (dk_at dksX1_owedBy_1 20 rfl rfl)
theorem dX1_owedBy_42 : decode cX1_owedBy 42 = .ok (.getfield 138, 3) := dk_180 0 138 (dk_at dksX1_owedBy_2 0 rfl rfl)
theorem dX1_owedBy_45 : decode cX1_owedBy 45 = .ok (.goto 4, 3) := dk_167 0 4 (dk_at dksX1_owedBy_2 3 rfl rfl)
theorem dX1_owedBy_48 : decode cX1_owedBy 48 = .ok (.iconst 0, 1) := dk_3 (dk_at dksX1_owedBy_2 6 rfl rfl)
theorem dX1_owedBy_49 : decode cX1_owedBy 49 = .ok (.iadd, 1) := dk_96 (dk_at dksX1_owedBy_2 7 rfl rfl)
theorem dX1_owedBy_50 : decode cX1_owedBy 50 = .ok (.istore_n 2, 1) := dk_61 (dk_at dksX1_owedBy_2 8 rfl rfl)
theorem dX1_owedBy_51 : decode cX1_owedBy 51 = .ok (.goto (-41), 3) := dk_167 255 215 (dk_at dksX1_owedBy_2 9 rfl rfl)
theorem dX1_owedBy_54 : decode cX1_owedBy 54 = .ok (.iload_n 2, 1) := dk_28 (dk_at dksX1_owedBy_2 12 rfl rfl)
theorem dX1_owedBy_55 : decode cX1_owedBy 55 = .ok (.ireturn, 1) := dk_172 (dk_at dksX1_owedBy_2 13 rfl rfl)
abbrev cX1_inherits_2 : ByteArray := prog_11_method_31_code
def yX1_inherits_2 : MethodName := ⟨RX1, "inherits", "(I)I"⟩
def dkwX1_inherits_2_1 : List UInt8 := [164, 0, 11, 42, 27, 182, 0, 190, 167, 0, 6, 17, 252, 9, 172]
abbrev dktX1_inherits_2_1 : List UInt8 := dkwX1_inherits_2_1 ++ []
def dkwX1_inherits_2_0 : List UInt8 := [42, 180, 0, 14, 27, 182, 0, 53, 192, 0, 18, 180, 0, 57, 153, 0, 19, 42, 182, 0, 187, 4]
abbrev dktX1_inherits_2_0 : List UInt8 := dkwX1_inherits_2_0 ++ dktX1_inherits_2_1
theorem dksX1_inherits_2_0 : cX1_inherits_2.data.toList.drop 0 = dktX1_inherits_2_0 := by decide +kernel
theorem dksX1_inherits_2_1 : cX1_inherits_2.data.toList.drop 22 = dktX1_inherits_2_1 := dk_seg dksX1_inherits_2_0 22 rfl rfl
theorem dX1_inherits_2_0 : decode cX1_inherits_2 0 = .ok (.aload_n 0, 1) := dk_42 (dk_at dksX1_inherits_2_0 0 rfl rfl)
theorem dX1_inherits_2_1 : decode cX1_inherits_2 1 = .ok (.getfield 14, 3) := dk_180 0 14 (dk_at dksX1_inherits_2_0 1 rfl rfl)
theorem dX1_inherits_2_4 : decode cX1_inherits_2 4 = .ok (.iload_n 1, 1) := dk_27 (dk_at dksX1_inherits_2_0 4 rfl rfl)
theorem dX1_inherits_2_5 : decode cX1_inherits_2 5 = .ok (.invokevirtual 53, 3) := dk_182 0 53 (dk_at dksX1_inherits_2_0 5 rfl rfl)
theorem dX1_inherits_2_8 : decode cX1_inherits_2 8 = .ok (.checkcast 18, 3) := dk_192 0 18 (dk_at dksX1_inherits_2_0 8 rfl rfl)
theorem dX1_inherits_2_11 : decode cX1_inherits_2 11 = .ok (.getfield 57, 3) := dk_180 0 57 (dk_at dksX1_inherits_2_0 11 rfl rfl)
theorem dX1_inherits_2_14 : decode cX1_inherits_2 14 = .ok (.ifCond .eq 19, 3) := dk_153 0 19 (dk_at dksX1_inherits_2_0 14 rfl rfl)
theorem dX1_inherits_2_17 : decode cX1_inherits_2 17 = .ok (.aload_n 0, 1) := dk_42 (dk_at dksX1_inherits_2_0 17 rfl rfl)
theorem dX1_inherits_2_18 : decode cX1_inherits_2 18 = .ok (.invokevirtual 187, 3) := dk_182 0 187 (dk_at dksX1_inherits_2_0 18 rfl rfl)
theorem dX1_inherits_2_21 : decode cX1_inherits_2 21 = .ok (.iconst 1, 1) := dk_4 (dk_at dksX1_inherits_2_0 21 rfl rfl)
theorem dX1_inherits_2_22 : decode cX1_inherits_2 22 = .ok (.if_icmp .le 11, 3) := dk_164 0 11 (dk_at dksX1_inherits_2_1 0 rfl rfl)
theorem dX1_inherits_2_25 : decode cX1_inherits_2 25 = .ok (.aload_n 0, 1) := dk_42 (dk_at dksX1_inherits_2_1 3 rfl rfl)
theorem dX1_inherits_2_26 : decode cX1_inherits_2 26 = .ok (.iload_n 1, 1) := dk_27 (dk_at dksX1_inherits_2_1 4 rfl rfl)
theorem dX1_inherits_2_27 : decode cX1_inherits_2 27 = .ok (.invokevirtual 190, 3) := dk_182 0 190 (dk_at dksX1_inherits_2_1 5 rfl rfl)
theorem dX1_inherits_2_30 : decode cX1_inherits_2 30 = .ok (.goto 6, 3) := dk_167 0 6 (dk_at dksX1_inherits_2_1 8 rfl rfl)
theorem dX1_inherits_2_33 : decode cX1_inherits_2 33 = .ok (.sipush (-1015), 3) := dk_17 252 9 (dk_at dksX1_inherits_2_1 11 rfl rfl)
theorem dX1_inherits_2_36 : decode cX1_inherits_2 36 = .ok (.ireturn, 1) := dk_172 (dk_at dksX1_inherits_2_1 14 rfl rfl)
abbrev cX1_wouldMelt : ByteArray := prog_11_method_35_code
def yX1_wouldMelt : MethodName := ⟨RX1, "wouldMelt", "(I)I"⟩
def dkwX1_wouldMelt_2 : List UInt8 := [180, 0, 30, 182, 0, 171, 100, 172, 58, 4, 17, 252, 9, 172]
abbrev dktX1_wouldMelt_2 : List UInt8 := dkwX1_wouldMelt_2 ++ []
def dkwX1_wouldMelt_1 : List UInt8 := [182, 0, 171, 62, 44, 27, 182, 0, 214, 54, 4, 21, 4, 156, 0, 7, 3, 167, 0, 12, 29, 44]
abbrev dktX1_wouldMelt_1 : List UInt8 := dkwX1_wouldMelt_1 ++ dktX1_wouldMelt_2
def dkwX1_wouldMelt_0 : List UInt8 := [42, 27, 182, 0, 209, 17, 252, 9, 160, 0, 7, 17, 252, 9, 172, 42, 182, 0, 211, 77, 44, 180, 0, 30]
abbrev dktX1_wouldMelt_0 : List UInt8 := dkwX1_wouldMelt_0 ++ dktX1_wouldMelt_1
theorem dksX1_wouldMelt_0 : cX1_wouldMelt.data.toList.drop 0 = dktX1_wouldMelt_0 := by decide +kernel
theorem dksX1_wouldMelt_1 : cX1_wouldMelt.data.toList.drop 24 = dktX1_wouldMelt_1 := dk_seg dksX1_wouldMelt_0 24 rfl rfl
theorem dksX1_wouldMelt_2 : cX1_wouldMelt.data.toList.drop 46 = dktX1_wouldMelt_2 := dk_seg dksX1_wouldMelt_1 22 rfl rfl
theorem dX1_wouldMelt_0 : decode cX1_wouldMelt 0 = .ok (.aload_n 0, 1) := dk_42 (dk_at dksX1_wouldMelt_0 0 rfl rfl)
theorem dX1_wouldMelt_1 : decode cX1_wouldMelt 1 = .ok (.iload_n 1, 1) := dk_27 (dk_at dksX1_wouldMelt_0 1 rfl rfl)
theorem dX1_wouldMelt_2 : decode cX1_wouldMelt 2 = .ok (.invokevirtual 209, 3) := dk_182 0 209 (dk_at dksX1_wouldMelt_0 2 rfl rfl)
theorem dX1_wouldMelt_5 : decode cX1_wouldMelt 5 = .ok (.sipush (-1015), 3) := dk_17 252 9 (dk_at dksX1_wouldMelt_0 5 rfl rfl)
theorem dX1_wouldMelt_8 : decode cX1_wouldMelt 8 = .ok (.if_icmp .ne 7, 3) := dk_160 0 7 (dk_at dksX1_wouldMelt_0 8 rfl rfl)
theorem dX1_wouldMelt_11 : decode cX1_wouldMelt 11 = .ok (.sipush (-1015), 3) := dk_17 252 9 (dk_at dksX1_wouldMelt_0 11 rfl rfl)
theorem dX1_wouldMelt_14 : decode cX1_wouldMelt 14 = .ok (.ireturn, 1) := dk_172 (dk_at dksX1_wouldMelt_0 14 rfl rfl)
theorem dX1_wouldMelt_15 : decode cX1_wouldMelt 15 = .ok (.aload_n 0, 1) := dk_42 (dk_at dksX1_wouldMelt_0 15 rfl rfl)
theorem dX1_wouldMelt_16 : decode cX1_wouldMelt 16 = .ok (.invokevirtual 211, 3) := dk_182 0 211 (dk_at dksX1_wouldMelt_0 16 rfl rfl)
theorem dX1_wouldMelt_19 : decode cX1_wouldMelt 19 = .ok (.astore_n 2, 1) := dk_77 (dk_at dksX1_wouldMelt_0 19 rfl rfl)
theorem dX1_wouldMelt_20 : decode cX1_wouldMelt 20 = .ok (.aload_n 2, 1) := dk_44 (dk_at dksX1_wouldMelt_0 20 rfl rfl)
theorem dX1_wouldMelt_21 : decode cX1_wouldMelt 21 = .ok (.getfield 30, 3) := dk_180 0 30 (dk_at dksX1_wouldMelt_0 21 rfl rfl)
theorem dX1_wouldMelt_24 : decode cX1_wouldMelt 24 = .ok (.invokevirtual 171, 3) := dk_182 0 171 (dk_at dksX1_wouldMelt_1 0 rfl rfl)
theorem dX1_wouldMelt_27 : decode cX1_wouldMelt 27 = .ok (.istore_n 3, 1) := dk_62 (dk_at dksX1_wouldMelt_1 3 rfl rfl)
theorem dX1_wouldMelt_28 : decode cX1_wouldMelt 28 = .ok (.aload_n 2, 1) := dk_44 (dk_at dksX1_wouldMelt_1 4 rfl rfl)
theorem dX1_wouldMelt_29 : decode cX1_wouldMelt 29 = .ok (.iload_n 1, 1) := dk_27 (dk_at dksX1_wouldMelt_1 5 rfl rfl)
theorem dX1_wouldMelt_30 : decode cX1_wouldMelt 30 = .ok (.invokevirtual 214, 3) := dk_182 0 214 (dk_at dksX1_wouldMelt_1 6 rfl rfl)
theorem dX1_wouldMelt_33 : decode cX1_wouldMelt 33 = .ok (.istore 4, 2) := dk_54 4 (dk_at dksX1_wouldMelt_1 9 rfl rfl)
theorem dX1_wouldMelt_35 : decode cX1_wouldMelt 35 = .ok (.iload 4, 2) := dk_21 4 (dk_at dksX1_wouldMelt_1 11 rfl rfl)
theorem dX1_wouldMelt_37 : decode cX1_wouldMelt 37 = .ok (.ifCond .ge 7, 3) := dk_156 0 7 (dk_at dksX1_wouldMelt_1 13 rfl rfl)
theorem dX1_wouldMelt_40 : decode cX1_wouldMelt 40 = .ok (.iconst 0, 1) := dk_3 (dk_at dksX1_wouldMelt_1 16 rfl rfl)
theorem dX1_wouldMelt_41 : decode cX1_wouldMelt 41 = .ok (.goto 12, 3) := dk_167 0 12 (dk_at dksX1_wouldMelt_1 17 rfl rfl)
theorem dX1_wouldMelt_44 : decode cX1_wouldMelt 44 = .ok (.iload_n 3, 1) := dk_29 (dk_at dksX1_wouldMelt_1 20 rfl rfl)
theorem dX1_wouldMelt_45 : decode cX1_wouldMelt 45 = .ok (.aload_n 2, 1) := dk_44 (dk_at dksX1_wouldMelt_1 21 rfl rfl)
theorem dX1_wouldMelt_46 : decode cX1_wouldMelt 46 = .ok (.getfield 30, 3) := dk_180 0 30 (dk_at dksX1_wouldMelt_2 0 rfl rfl)
theorem dX1_wouldMelt_49 : decode cX1_wouldMelt 49 = .ok (.invokevirtual 171, 3) := dk_182 0 171 (dk_at dksX1_wouldMelt_2 3 rfl rfl)
theorem dX1_wouldMelt_52 : decode cX1_wouldMelt 52 = .ok (.isub, 1) := dk_100 (dk_at dksX1_wouldMelt_2 6 rfl rfl)
theorem dX1_wouldMelt_53 : decode cX1_wouldMelt 53 = .ok (.ireturn, 1) := dk_172 (dk_at dksX1_wouldMelt_2 7 rfl rfl)
theorem dX1_wouldMelt_54 : decode cX1_wouldMelt 54 = .ok (.astore 4, 2) := dk_58 4 (dk_at dksX1_wouldMelt_2 8 rfl rfl)
theorem dX1_wouldMelt_56 : decode cX1_wouldMelt 56 = .ok (.sipush (-1015), 3) := dk_17 252 9 (dk_at dksX1_wouldMelt_2 10 rfl rfl)
theorem dX1_wouldMelt_59 : decode cX1_wouldMelt 59 = .ok (.ireturn, 1) := dk_172 (dk_at dksX1_wouldMelt_2 13 rfl rfl)
abbrev cX1_weightAgain : ByteArray := prog_11_method_6_code
def yX1_weightAgain : MethodName := ⟨RX1, "weightAgain", "(I)I"⟩
def dkwX1_weightAgain_3 : List UInt8 := [132, 3, 1, 167, 255, 230, 28, 172]
abbrev dktX1_weightAgain_3 : List UInt8 := dkwX1_weightAgain_3 ++ []
def dkwX1_weightAgain_2 : List UInt8 := [16, 6, 162, 0, 26, 28, 29, 27, 160, 0, 7, 3, 167, 0, 8, 42, 29, 182, 0, 88, 100, 61]
abbrev dktX1_weightAgain_2 : List UInt8 := dkwX1_weightAgain_2 ++ dktX1_weightAgain_3
def dkwX1_weightAgain_1 : List UInt8 := [185, 0, 75, 1, 0, 192, 0, 79, 58, 4, 28, 25, 4, 182, 0, 84, 96, 61, 167, 255, 228, 3, 62, 29]
abbrev dktX1_weightAgain_1 : List UInt8 := dkwX1_weightAgain_1 ++ dktX1_weightAgain_2
def dkwX1_weightAgain_0 : List UInt8 := [3, 61, 42, 180, 0, 30, 182, 0, 65, 78, 45, 185, 0, 69, 1, 0, 153, 0, 25, 45]
abbrev dktX1_weightAgain_0 : List UInt8 := dkwX1_weightAgain_0 ++ dktX1_weightAgain_1
theorem dksX1_weightAgain_0 : cX1_weightAgain.data.toList.drop 0 = dktX1_weightAgain_0 := by decide +kernel
theorem dksX1_weightAgain_1 : cX1_weightAgain.data.toList.drop 20 = dktX1_weightAgain_1 := dk_seg dksX1_weightAgain_0 20 rfl rfl
theorem dksX1_weightAgain_2 : cX1_weightAgain.data.toList.drop 44 = dktX1_weightAgain_2 := dk_seg dksX1_weightAgain_1 24 rfl rfl
theorem dksX1_weightAgain_3 : cX1_weightAgain.data.toList.drop 66 = dktX1_weightAgain_3 := dk_seg dksX1_weightAgain_2 22 rfl rfl
theorem dX1_weightAgain_0 : decode cX1_weightAgain 0 = .ok (.iconst 0, 1) := dk_3 (dk_at dksX1_weightAgain_0 0 rfl rfl)
theorem dX1_weightAgain_1 : decode cX1_weightAgain 1 = .ok (.istore_n 2, 1) := dk_61 (dk_at dksX1_weightAgain_0 1 rfl rfl)
theorem dX1_weightAgain_2 : decode cX1_weightAgain 2 = .ok (.aload_n 0, 1) := dk_42 (dk_at dksX1_weightAgain_0 2 rfl rfl)
theorem dX1_weightAgain_3 : decode cX1_weightAgain 3 = .ok (.getfield 30, 3) := dk_180 0 30 (dk_at dksX1_weightAgain_0 3 rfl rfl)
theorem dX1_weightAgain_6 : decode cX1_weightAgain 6 = .ok (.invokevirtual 65, 3) := dk_182 0 65 (dk_at dksX1_weightAgain_0 6 rfl rfl)
theorem dX1_weightAgain_9 : decode cX1_weightAgain 9 = .ok (.astore_n 3, 1) := dk_78 (dk_at dksX1_weightAgain_0 9 rfl rfl)
theorem dX1_weightAgain_10 : decode cX1_weightAgain 10 = .ok (.aload_n 3, 1) := dk_45 (dk_at dksX1_weightAgain_0 10 rfl rfl)
theorem dX1_weightAgain_11 : decode cX1_weightAgain 11 = .ok (.invokeinterface 69 1, 5) := by decide +kernel
theorem dX1_weightAgain_16 : decode cX1_weightAgain 16 = .ok (.ifCond .eq 25, 3) := dk_153 0 25 (dk_at dksX1_weightAgain_0 16 rfl rfl)
theorem dX1_weightAgain_19 : decode cX1_weightAgain 19 = .ok (.aload_n 3, 1) := dk_45 (dk_at dksX1_weightAgain_0 19 rfl rfl)
theorem dX1_weightAgain_20 : decode cX1_weightAgain 20 = .ok (.invokeinterface 75 1, 5) := by decide +kernel
theorem dX1_weightAgain_25 : decode cX1_weightAgain 25 = .ok (.checkcast 79, 3) := dk_192 0 79 (dk_at dksX1_weightAgain_1 5 rfl rfl)
theorem dX1_weightAgain_28 : decode cX1_weightAgain 28 = .ok (.astore 4, 2) := dk_58 4 (dk_at dksX1_weightAgain_1 8 rfl rfl)
theorem dX1_weightAgain_30 : decode cX1_weightAgain 30 = .ok (.iload_n 2, 1) := dk_28 (dk_at dksX1_weightAgain_1 10 rfl rfl)
theorem dX1_weightAgain_31 : decode cX1_weightAgain 31 = .ok (.aload 4, 2) := dk_25 4 (dk_at dksX1_weightAgain_1 11 rfl rfl)
theorem dX1_weightAgain_33 : decode cX1_weightAgain 33 = .ok (.invokevirtual 84, 3) := dk_182 0 84 (dk_at dksX1_weightAgain_1 13 rfl rfl)
theorem dX1_weightAgain_36 : decode cX1_weightAgain 36 = .ok (.iadd, 1) := dk_96 (dk_at dksX1_weightAgain_1 16 rfl rfl)
theorem dX1_weightAgain_37 : decode cX1_weightAgain 37 = .ok (.istore_n 2, 1) := dk_61 (dk_at dksX1_weightAgain_1 17 rfl rfl)
theorem dX1_weightAgain_38 : decode cX1_weightAgain 38 = .ok (.goto (-28), 3) := dk_167 255 228 (dk_at dksX1_weightAgain_1 18 rfl rfl)
theorem dX1_weightAgain_41 : decode cX1_weightAgain 41 = .ok (.iconst 0, 1) := dk_3 (dk_at dksX1_weightAgain_1 21 rfl rfl)
theorem dX1_weightAgain_42 : decode cX1_weightAgain 42 = .ok (.istore_n 3, 1) := dk_62 (dk_at dksX1_weightAgain_1 22 rfl rfl)
theorem dX1_weightAgain_43 : decode cX1_weightAgain 43 = .ok (.iload_n 3, 1) := dk_29 (dk_at dksX1_weightAgain_1 23 rfl rfl)
theorem dX1_weightAgain_44 : decode cX1_weightAgain 44 = .ok (.bipush 6, 2) := dk_16 6 (dk_at dksX1_weightAgain_2 0 rfl rfl)
theorem dX1_weightAgain_46 : decode cX1_weightAgain 46 = .ok (.if_icmp .ge 26, 3) := dk_162 0 26 (dk_at dksX1_weightAgain_2 2 rfl rfl)
theorem dX1_weightAgain_49 : decode cX1_weightAgain 49 = .ok (.iload_n 2, 1) := dk_28 (dk_at dksX1_weightAgain_2 5 rfl rfl)
theorem dX1_weightAgain_50 : decode cX1_weightAgain 50 = .ok (.iload_n 3, 1) := dk_29 (dk_at dksX1_weightAgain_2 6 rfl rfl)
theorem dX1_weightAgain_51 : decode cX1_weightAgain 51 = .ok (.iload_n 1, 1) := dk_27 (dk_at dksX1_weightAgain_2 7 rfl rfl)
theorem dX1_weightAgain_52 : decode cX1_weightAgain 52 = .ok (.if_icmp .ne 7, 3) := dk_160 0 7 (dk_at dksX1_weightAgain_2 8 rfl rfl)
theorem dX1_weightAgain_55 : decode cX1_weightAgain 55 = .ok (.iconst 0, 1) := dk_3 (dk_at dksX1_weightAgain_2 11 rfl rfl)
theorem dX1_weightAgain_56 : decode cX1_weightAgain 56 = .ok (.goto 8, 3) := dk_167 0 8 (dk_at dksX1_weightAgain_2 12 rfl rfl)
theorem dX1_weightAgain_59 : decode cX1_weightAgain 59 = .ok (.aload_n 0, 1) := dk_42 (dk_at dksX1_weightAgain_2 15 rfl rfl)
theorem dX1_weightAgain_60 : decode cX1_weightAgain 60 = .ok (.iload_n 3, 1) := dk_29 (dk_at dksX1_weightAgain_2 16 rfl rfl)
theorem dX1_weightAgain_61 : decode cX1_weightAgain 61 = .ok (.invokevirtual 88, 3) := dk_182 0 88 (dk_at dksX1_weightAgain_2 17 rfl rfl)
theorem dX1_weightAgain_64 : decode cX1_weightAgain 64 = .ok (.isub, 1) := dk_100 (dk_at dksX1_weightAgain_2 20 rfl rfl)
theorem dX1_weightAgain_65 : decode cX1_weightAgain 65 = .ok (.istore_n 2, 1) := dk_61 (dk_at dksX1_weightAgain_2 21 rfl rfl)
theorem dX1_weightAgain_66 : decode cX1_weightAgain 66 = .ok (.iinc 3 1, 3) := dk_132 3 1 (dk_at dksX1_weightAgain_3 0 rfl rfl)
theorem dX1_weightAgain_69 : decode cX1_weightAgain 69 = .ok (.goto (-26), 3) := dk_167 255 230 (dk_at dksX1_weightAgain_3 3 rfl rfl)
theorem dX1_weightAgain_72 : decode cX1_weightAgain 72 = .ok (.iload_n 2, 1) := dk_28 (dk_at dksX1_weightAgain_3 6 rfl rfl)
theorem dX1_weightAgain_73 : decode cX1_weightAgain 73 = .ok (.ireturn, 1) := dk_172 (dk_at dksX1_weightAgain_3 7 rfl rfl)
abbrev cX1_rankedHouse : ByteArray := prog_11_method_40_code
def yX1_rankedHouse : MethodName := ⟨RX1, "rankedHouse", "(I)I"⟩
def dkwX1_rankedHouse_2 : List UInt8 := [54, 4, 132, 3, 1, 167, 255, 215, 44, 27, 184, 0, 227, 172]
abbrev dktX1_rankedHouse_2 : List UInt8 := dkwX1_rankedHouse_2 ++ []
def dkwX1_rankedHouse_1 : List UInt8 := [29, 182, 0, 161, 42, 180, 0, 14, 29, 182, 0, 53, 192, 0, 18, 180, 0, 178, 183, 0, 225, 182, 0, 21]
abbrev dktX1_rankedHouse_1 : List UInt8 := dkwX1_rankedHouse_1 ++ dktX1_rankedHouse_2
def dkwX1_rankedHouse_0 : List UInt8 := [187, 0, 3, 89, 16, 6, 183, 0, 5, 77, 3, 62, 29, 16, 6, 162, 0, 41, 44, 187, 0, 223, 89, 42]
abbrev dktX1_rankedHouse_0 : List UInt8 := dkwX1_rankedHouse_0 ++ dktX1_rankedHouse_1
theorem dksX1_rankedHouse_0 : cX1_rankedHouse.data.toList.drop 0 = dktX1_rankedHouse_0 := by decide +kernel
theorem dksX1_rankedHouse_1 : cX1_rankedHouse.data.toList.drop 24 = dktX1_rankedHouse_1 := dk_seg dksX1_rankedHouse_0 24 rfl rfl
theorem dksX1_rankedHouse_2 : cX1_rankedHouse.data.toList.drop 48 = dktX1_rankedHouse_2 := dk_seg dksX1_rankedHouse_1 24 rfl rfl
theorem dX1_rankedHouse_0 : decode cX1_rankedHouse 0 = .ok (.new 3, 3) := dk_187 0 3 (dk_at dksX1_rankedHouse_0 0 rfl rfl)
theorem dX1_rankedHouse_3 : decode cX1_rankedHouse 3 = .ok (.dup, 1) := dk_89 (dk_at dksX1_rankedHouse_0 3 rfl rfl)
theorem dX1_rankedHouse_4 : decode cX1_rankedHouse 4 = .ok (.bipush 6, 2) := dk_16 6 (dk_at dksX1_rankedHouse_0 4 rfl rfl)
theorem dX1_rankedHouse_6 : decode cX1_rankedHouse 6 = .ok (.invokespecial 5, 3) := dk_183 0 5 (dk_at dksX1_rankedHouse_0 6 rfl rfl)
theorem dX1_rankedHouse_9 : decode cX1_rankedHouse 9 = .ok (.astore_n 2, 1) := dk_77 (dk_at dksX1_rankedHouse_0 9 rfl rfl)
theorem dX1_rankedHouse_10 : decode cX1_rankedHouse 10 = .ok (.iconst 0, 1) := dk_3 (dk_at dksX1_rankedHouse_0 10 rfl rfl)
theorem dX1_rankedHouse_11 : decode cX1_rankedHouse 11 = .ok (.istore_n 3, 1) := dk_62 (dk_at dksX1_rankedHouse_0 11 rfl rfl)
theorem dX1_rankedHouse_12 : decode cX1_rankedHouse 12 = .ok (.iload_n 3, 1) := dk_29 (dk_at dksX1_rankedHouse_0 12 rfl rfl)
theorem dX1_rankedHouse_13 : decode cX1_rankedHouse 13 = .ok (.bipush 6, 2) := dk_16 6 (dk_at dksX1_rankedHouse_0 13 rfl rfl)
theorem dX1_rankedHouse_15 : decode cX1_rankedHouse 15 = .ok (.if_icmp .ge 41, 3) := dk_162 0 41 (dk_at dksX1_rankedHouse_0 15 rfl rfl)
theorem dX1_rankedHouse_18 : decode cX1_rankedHouse 18 = .ok (.aload_n 2, 1) := dk_44 (dk_at dksX1_rankedHouse_0 18 rfl rfl)
theorem dX1_rankedHouse_19 : decode cX1_rankedHouse 19 = .ok (.new 223, 3) := dk_187 0 223 (dk_at dksX1_rankedHouse_0 19 rfl rfl)
theorem dX1_rankedHouse_22 : decode cX1_rankedHouse 22 = .ok (.dup, 1) := dk_89 (dk_at dksX1_rankedHouse_0 22 rfl rfl)
theorem dX1_rankedHouse_23 : decode cX1_rankedHouse 23 = .ok (.aload_n 0, 1) := dk_42 (dk_at dksX1_rankedHouse_0 23 rfl rfl)
theorem dX1_rankedHouse_24 : decode cX1_rankedHouse 24 = .ok (.iload_n 3, 1) := dk_29 (dk_at dksX1_rankedHouse_1 0 rfl rfl)
theorem dX1_rankedHouse_25 : decode cX1_rankedHouse 25 = .ok (.invokevirtual 161, 3) := dk_182 0 161 (dk_at dksX1_rankedHouse_1 1 rfl rfl)
theorem dX1_rankedHouse_28 : decode cX1_rankedHouse 28 = .ok (.aload_n 0, 1) := dk_42 (dk_at dksX1_rankedHouse_1 4 rfl rfl)
theorem dX1_rankedHouse_29 : decode cX1_rankedHouse 29 = .ok (.getfield 14, 3) := dk_180 0 14 (dk_at dksX1_rankedHouse_1 5 rfl rfl)
theorem dX1_rankedHouse_32 : decode cX1_rankedHouse 32 = .ok (.iload_n 3, 1) := dk_29 (dk_at dksX1_rankedHouse_1 8 rfl rfl)
theorem dX1_rankedHouse_33 : decode cX1_rankedHouse 33 = .ok (.invokevirtual 53, 3) := dk_182 0 53 (dk_at dksX1_rankedHouse_1 9 rfl rfl)
theorem dX1_rankedHouse_36 : decode cX1_rankedHouse 36 = .ok (.checkcast 18, 3) := dk_192 0 18 (dk_at dksX1_rankedHouse_1 12 rfl rfl)
theorem dX1_rankedHouse_39 : decode cX1_rankedHouse 39 = .ok (.getfield 178, 3) := dk_180 0 178 (dk_at dksX1_rankedHouse_1 15 rfl rfl)
theorem dX1_rankedHouse_42 : decode cX1_rankedHouse 42 = .ok (.invokespecial 225, 3) := dk_183 0 225 (dk_at dksX1_rankedHouse_1 18 rfl rfl)
theorem dX1_rankedHouse_45 : decode cX1_rankedHouse 45 = .ok (.invokevirtual 21, 3) := dk_182 0 21 (dk_at dksX1_rankedHouse_1 21 rfl rfl)
theorem dX1_rankedHouse_48 : decode cX1_rankedHouse 48 = .ok (.istore 4, 2) := dk_54 4 (dk_at dksX1_rankedHouse_2 0 rfl rfl)
theorem dX1_rankedHouse_50 : decode cX1_rankedHouse 50 = .ok (.iinc 3 1, 3) := dk_132 3 1 (dk_at dksX1_rankedHouse_2 2 rfl rfl)
theorem dX1_rankedHouse_53 : decode cX1_rankedHouse 53 = .ok (.goto (-41), 3) := dk_167 255 215 (dk_at dksX1_rankedHouse_2 5 rfl rfl)
theorem dX1_rankedHouse_56 : decode cX1_rankedHouse 56 = .ok (.aload_n 2, 1) := dk_44 (dk_at dksX1_rankedHouse_2 8 rfl rfl)
theorem dX1_rankedHouse_57 : decode cX1_rankedHouse 57 = .ok (.iload_n 1, 1) := dk_27 (dk_at dksX1_rankedHouse_2 9 rfl rfl)
theorem dX1_rankedHouse_58 : decode cX1_rankedHouse 58 = .ok (.invokestatic 227, 3) := dk_184 0 227 (dk_at dksX1_rankedHouse_2 10 rfl rfl)
theorem dX1_rankedHouse_61 : decode cX1_rankedHouse 61 = .ok (.ireturn, 1) := dk_172 (dk_at dksX1_rankedHouse_2 13 rfl rfl)
abbrev cX1_houseText : ByteArray := prog_11_method_46_code
def yX1_houseText : MethodName := ⟨RX1, "houseText", "()Ljava/lang/String;"⟩
def dkwX1_houseText_2 : List UInt8 := [167, 0, 5, 18, 253, 182, 0, 255, 45, 182, 1, 3, 182, 0, 255, 87, 167, 255, 211, 43, 182, 1, 7, 176]
abbrev dktX1_houseText_2 : List UInt8 := dkwX1_houseText_2 ++ []
def dkwX1_houseText_1 : List UInt8 := [153, 0, 42, 44, 185, 0, 75, 1, 0, 192, 0, 18, 78, 43, 43, 182, 0, 248, 154, 0, 8, 18, 251]
abbrev dktX1_houseText_1 : List UInt8 := dkwX1_houseText_1 ++ dktX1_houseText_2
def dkwX1_houseText_0 : List UInt8 := [187, 0, 245, 89, 183, 0, 247, 76, 42, 180, 0, 14, 182, 0, 65, 77, 44, 185, 0, 69, 1, 0]
abbrev dktX1_houseText_0 : List UInt8 := dkwX1_houseText_0 ++ dktX1_houseText_1
theorem dksX1_houseText_0 : cX1_houseText.data.toList.drop 0 = dktX1_houseText_0 := by decide +kernel
theorem dksX1_houseText_1 : cX1_houseText.data.toList.drop 22 = dktX1_houseText_1 := dk_seg dksX1_houseText_0 22 rfl rfl
theorem dksX1_houseText_2 : cX1_houseText.data.toList.drop 45 = dktX1_houseText_2 := dk_seg dksX1_houseText_1 23 rfl rfl
theorem dX1_houseText_0 : decode cX1_houseText 0 = .ok (.new 245, 3) := dk_187 0 245 (dk_at dksX1_houseText_0 0 rfl rfl)
theorem dX1_houseText_3 : decode cX1_houseText 3 = .ok (.dup, 1) := dk_89 (dk_at dksX1_houseText_0 3 rfl rfl)
theorem dX1_houseText_4 : decode cX1_houseText 4 = .ok (.invokespecial 247, 3) := dk_183 0 247 (dk_at dksX1_houseText_0 4 rfl rfl)
theorem dX1_houseText_7 : decode cX1_houseText 7 = .ok (.astore_n 1, 1) := dk_76 (dk_at dksX1_houseText_0 7 rfl rfl)
theorem dX1_houseText_8 : decode cX1_houseText 8 = .ok (.aload_n 0, 1) := dk_42 (dk_at dksX1_houseText_0 8 rfl rfl)
theorem dX1_houseText_9 : decode cX1_houseText 9 = .ok (.getfield 14, 3) := dk_180 0 14 (dk_at dksX1_houseText_0 9 rfl rfl)
theorem dX1_houseText_12 : decode cX1_houseText 12 = .ok (.invokevirtual 65, 3) := dk_182 0 65 (dk_at dksX1_houseText_0 12 rfl rfl)
theorem dX1_houseText_15 : decode cX1_houseText 15 = .ok (.astore_n 2, 1) := dk_77 (dk_at dksX1_houseText_0 15 rfl rfl)
theorem dX1_houseText_16 : decode cX1_houseText 16 = .ok (.aload_n 2, 1) := dk_44 (dk_at dksX1_houseText_0 16 rfl rfl)
theorem dX1_houseText_17 : decode cX1_houseText 17 = .ok (.invokeinterface 69 1, 5) := by decide +kernel
theorem dX1_houseText_22 : decode cX1_houseText 22 = .ok (.ifCond .eq 42, 3) := dk_153 0 42 (dk_at dksX1_houseText_1 0 rfl rfl)
theorem dX1_houseText_25 : decode cX1_houseText 25 = .ok (.aload_n 2, 1) := dk_44 (dk_at dksX1_houseText_1 3 rfl rfl)
theorem dX1_houseText_26 : decode cX1_houseText 26 = .ok (.invokeinterface 75 1, 5) := by decide +kernel
theorem dX1_houseText_31 : decode cX1_houseText 31 = .ok (.checkcast 18, 3) := dk_192 0 18 (dk_at dksX1_houseText_1 9 rfl rfl)
theorem dX1_houseText_34 : decode cX1_houseText 34 = .ok (.astore_n 3, 1) := dk_78 (dk_at dksX1_houseText_1 12 rfl rfl)
theorem dX1_houseText_35 : decode cX1_houseText 35 = .ok (.aload_n 1, 1) := dk_43 (dk_at dksX1_houseText_1 13 rfl rfl)
theorem dX1_houseText_36 : decode cX1_houseText 36 = .ok (.aload_n 1, 1) := dk_43 (dk_at dksX1_houseText_1 14 rfl rfl)
theorem dX1_houseText_37 : decode cX1_houseText 37 = .ok (.invokevirtual 248, 3) := dk_182 0 248 (dk_at dksX1_houseText_1 15 rfl rfl)
theorem dX1_houseText_40 : decode cX1_houseText 40 = .ok (.ifCond .ne 8, 3) := dk_154 0 8 (dk_at dksX1_houseText_1 18 rfl rfl)
theorem dX1_houseText_43 : decode cX1_houseText 43 = .ok (.ldc 251, 2) := dk_18 251 (dk_at dksX1_houseText_1 21 rfl rfl)
theorem dX1_houseText_45 : decode cX1_houseText 45 = .ok (.goto 5, 3) := dk_167 0 5 (dk_at dksX1_houseText_2 0 rfl rfl)
theorem dX1_houseText_48 : decode cX1_houseText 48 = .ok (.ldc 253, 2) := dk_18 253 (dk_at dksX1_houseText_2 3 rfl rfl)
theorem dX1_houseText_50 : decode cX1_houseText 50 = .ok (.invokevirtual 255, 3) := dk_182 0 255 (dk_at dksX1_houseText_2 5 rfl rfl)
theorem dX1_houseText_53 : decode cX1_houseText 53 = .ok (.aload_n 3, 1) := dk_45 (dk_at dksX1_houseText_2 8 rfl rfl)
theorem dX1_houseText_54 : decode cX1_houseText 54 = .ok (.invokevirtual 259, 3) := dk_182 1 3 (dk_at dksX1_houseText_2 9 rfl rfl)
theorem dX1_houseText_57 : decode cX1_houseText 57 = .ok (.invokevirtual 255, 3) := dk_182 0 255 (dk_at dksX1_houseText_2 12 rfl rfl)
theorem dX1_houseText_60 : decode cX1_houseText 60 = .ok (.pop, 1) := dk_87 (dk_at dksX1_houseText_2 15 rfl rfl)
theorem dX1_houseText_61 : decode cX1_houseText 61 = .ok (.goto (-45), 3) := dk_167 255 211 (dk_at dksX1_houseText_2 16 rfl rfl)
theorem dX1_houseText_64 : decode cX1_houseText 64 = .ok (.aload_n 1, 1) := dk_43 (dk_at dksX1_houseText_2 19 rfl rfl)
theorem dX1_houseText_65 : decode cX1_houseText 65 = .ok (.invokevirtual 263, 3) := dk_182 1 7 (dk_at dksX1_houseText_2 20 rfl rfl)
theorem dX1_houseText_68 : decode cX1_houseText 68 = .ok (.areturn, 1) := dk_176 (dk_at dksX1_houseText_2 23 rfl rfl)
abbrev cX1_wax : ByteArray := prog_11_method_41_code
def yX1_wax : MethodName := ⟨RX1, "wax", "()I"⟩
def dkwX1_wax_1 : List UInt8 := [185, 0, 75, 1, 0, 192, 0, 79, 78, 27, 45, 180, 0, 94, 96, 60, 167, 255, 230, 27, 172]
abbrev dktX1_wax_1 : List UInt8 := dkwX1_wax_1 ++ []
def dkwX1_wax_0 : List UInt8 := [3, 60, 42, 180, 0, 30, 182, 0, 65, 77, 44, 185, 0, 69, 1, 0, 153, 0, 23, 44]
abbrev dktX1_wax_0 : List UInt8 := dkwX1_wax_0 ++ dktX1_wax_1
theorem dksX1_wax_0 : cX1_wax.data.toList.drop 0 = dktX1_wax_0 := by decide +kernel
theorem dksX1_wax_1 : cX1_wax.data.toList.drop 20 = dktX1_wax_1 := dk_seg dksX1_wax_0 20 rfl rfl
theorem dX1_wax_0 : decode cX1_wax 0 = .ok (.iconst 0, 1) := dk_3 (dk_at dksX1_wax_0 0 rfl rfl)
theorem dX1_wax_1 : decode cX1_wax 1 = .ok (.istore_n 1, 1) := dk_60 (dk_at dksX1_wax_0 1 rfl rfl)
theorem dX1_wax_2 : decode cX1_wax 2 = .ok (.aload_n 0, 1) := dk_42 (dk_at dksX1_wax_0 2 rfl rfl)
theorem dX1_wax_3 : decode cX1_wax 3 = .ok (.getfield 30, 3) := dk_180 0 30 (dk_at dksX1_wax_0 3 rfl rfl)
theorem dX1_wax_6 : decode cX1_wax 6 = .ok (.invokevirtual 65, 3) := dk_182 0 65 (dk_at dksX1_wax_0 6 rfl rfl)
theorem dX1_wax_9 : decode cX1_wax 9 = .ok (.astore_n 2, 1) := dk_77 (dk_at dksX1_wax_0 9 rfl rfl)
theorem dX1_wax_10 : decode cX1_wax 10 = .ok (.aload_n 2, 1) := dk_44 (dk_at dksX1_wax_0 10 rfl rfl)
theorem dX1_wax_11 : decode cX1_wax 11 = .ok (.invokeinterface 69 1, 5) := by decide +kernel
theorem dX1_wax_16 : decode cX1_wax 16 = .ok (.ifCond .eq 23, 3) := dk_153 0 23 (dk_at dksX1_wax_0 16 rfl rfl)
theorem dX1_wax_19 : decode cX1_wax 19 = .ok (.aload_n 2, 1) := dk_44 (dk_at dksX1_wax_0 19 rfl rfl)
theorem dX1_wax_20 : decode cX1_wax 20 = .ok (.invokeinterface 75 1, 5) := by decide +kernel
theorem dX1_wax_25 : decode cX1_wax 25 = .ok (.checkcast 79, 3) := dk_192 0 79 (dk_at dksX1_wax_1 5 rfl rfl)
theorem dX1_wax_28 : decode cX1_wax 28 = .ok (.astore_n 3, 1) := dk_78 (dk_at dksX1_wax_1 8 rfl rfl)
theorem dX1_wax_29 : decode cX1_wax 29 = .ok (.iload_n 1, 1) := dk_27 (dk_at dksX1_wax_1 9 rfl rfl)
theorem dX1_wax_30 : decode cX1_wax 30 = .ok (.aload_n 3, 1) := dk_45 (dk_at dksX1_wax_1 10 rfl rfl)
theorem dX1_wax_31 : decode cX1_wax 31 = .ok (.getfield 94, 3) := dk_180 0 94 (dk_at dksX1_wax_1 11 rfl rfl)
theorem dX1_wax_34 : decode cX1_wax 34 = .ok (.iadd, 1) := dk_96 (dk_at dksX1_wax_1 14 rfl rfl)
theorem dX1_wax_35 : decode cX1_wax 35 = .ok (.istore_n 1, 1) := dk_60 (dk_at dksX1_wax_1 15 rfl rfl)
theorem dX1_wax_36 : decode cX1_wax 36 = .ok (.goto (-26), 3) := dk_167 255 230 (dk_at dksX1_wax_1 16 rfl rfl)
theorem dX1_wax_39 : decode cX1_wax 39 = .ok (.iload_n 1, 1) := dk_27 (dk_at dksX1_wax_1 19 rfl rfl)
theorem dX1_wax_40 : decode cX1_wax 40 = .ok (.ireturn, 1) := dk_172 (dk_at dksX1_wax_1 20 rfl rfl)
abbrev cX1_stores : ByteArray := prog_11_method_42_code
def yX1_stores : MethodName := ⟨RX1, "stores", "()I"⟩
def dkwX1_stores_1 : List UInt8 := [185, 0, 75, 1, 0, 192, 0, 18, 78, 27, 45, 180, 0, 178, 96, 60, 167, 255, 230, 27, 172]
abbrev dktX1_stores_1 : List UInt8 := dkwX1_stores_1 ++ []
def dkwX1_stores_0 : List UInt8 := [3, 60, 42, 180, 0, 14, 182, 0, 65, 77, 44, 185, 0, 69, 1, 0, 153, 0, 23, 44]
abbrev dktX1_stores_0 : List UInt8 := dkwX1_stores_0 ++ dktX1_stores_1
theorem dksX1_stores_0 : cX1_stores.data.toList.drop 0 = dktX1_stores_0 := by decide +kernel
theorem dksX1_stores_1 : cX1_stores.data.toList.drop 20 = dktX1_stores_1 := dk_seg dksX1_stores_0 20 rfl rfl
theorem dX1_stores_0 : decode cX1_stores 0 = .ok (.iconst 0, 1) := dk_3 (dk_at dksX1_stores_0 0 rfl rfl)
theorem dX1_stores_1 : decode cX1_stores 1 = .ok (.istore_n 1, 1) := dk_60 (dk_at dksX1_stores_0 1 rfl rfl)
theorem dX1_stores_2 : decode cX1_stores 2 = .ok (.aload_n 0, 1) := dk_42 (dk_at dksX1_stores_0 2 rfl rfl)
theorem dX1_stores_3 : decode cX1_stores 3 = .ok (.getfield 14, 3) := dk_180 0 14 (dk_at dksX1_stores_0 3 rfl rfl)
theorem dX1_stores_6 : decode cX1_stores 6 = .ok (.invokevirtual 65, 3) := dk_182 0 65 (dk_at dksX1_stores_0 6 rfl rfl)
theorem dX1_stores_9 : decode cX1_stores 9 = .ok (.astore_n 2, 1) := dk_77 (dk_at dksX1_stores_0 9 rfl rfl)
theorem dX1_stores_10 : decode cX1_stores 10 = .ok (.aload_n 2, 1) := dk_44 (dk_at dksX1_stores_0 10 rfl rfl)
theorem dX1_stores_11 : decode cX1_stores 11 = .ok (.invokeinterface 69 1, 5) := by decide +kernel
theorem dX1_stores_16 : decode cX1_stores 16 = .ok (.ifCond .eq 23, 3) := dk_153 0 23 (dk_at dksX1_stores_0 16 rfl rfl)
theorem dX1_stores_19 : decode cX1_stores 19 = .ok (.aload_n 2, 1) := dk_44 (dk_at dksX1_stores_0 19 rfl rfl)
theorem dX1_stores_20 : decode cX1_stores 20 = .ok (.invokeinterface 75 1, 5) := by decide +kernel
theorem dX1_stores_25 : decode cX1_stores 25 = .ok (.checkcast 18, 3) := dk_192 0 18 (dk_at dksX1_stores_1 5 rfl rfl)
theorem dX1_stores_28 : decode cX1_stores 28 = .ok (.astore_n 3, 1) := dk_78 (dk_at dksX1_stores_1 8 rfl rfl)
theorem dX1_stores_29 : decode cX1_stores 29 = .ok (.iload_n 1, 1) := dk_27 (dk_at dksX1_stores_1 9 rfl rfl)
theorem dX1_stores_30 : decode cX1_stores 30 = .ok (.aload_n 3, 1) := dk_45 (dk_at dksX1_stores_1 10 rfl rfl)
theorem dX1_stores_31 : decode cX1_stores 31 = .ok (.getfield 178, 3) := dk_180 0 178 (dk_at dksX1_stores_1 11 rfl rfl)
theorem dX1_stores_34 : decode cX1_stores 34 = .ok (.iadd, 1) := dk_96 (dk_at dksX1_stores_1 14 rfl rfl)
theorem dX1_stores_35 : decode cX1_stores 35 = .ok (.istore_n 1, 1) := dk_60 (dk_at dksX1_stores_1 15 rfl rfl)
theorem dX1_stores_36 : decode cX1_stores 36 = .ok (.goto (-26), 3) := dk_167 255 230 (dk_at dksX1_stores_1 16 rfl rfl)
theorem dX1_stores_39 : decode cX1_stores 39 = .ok (.iload_n 1, 1) := dk_27 (dk_at dksX1_stores_1 19 rfl rfl)
theorem dX1_stores_40 : decode cX1_stores 40 = .ok (.ireturn, 1) := dk_172 (dk_at dksX1_stores_1 20 rfl rfl)
abbrev cX1_owed : ByteArray := prog_11_method_43_code
def yX1_owed : MethodName := ⟨RX1, "owed", "()I"⟩
def dkwX1_owed_1 : List UInt8 := [185, 0, 75, 1, 0, 192, 0, 79, 78, 27, 45, 180, 0, 138, 96, 60, 167, 255, 230, 27, 172]
abbrev dktX1_owed_1 : List UInt8 := dkwX1_owed_1 ++ []
def dkwX1_owed_0 : List UInt8 := [3, 60, 42, 180, 0, 30, 182, 0, 65, 77, 44, 185, 0, 69, 1, 0, 153, 0, 23, 44]
abbrev dktX1_owed_0 : List UInt8 := dkwX1_owed_0 ++ dktX1_owed_1
theorem dksX1_owed_0 : cX1_owed.data.toList.drop 0 = dktX1_owed_0 := by decide +kernel
theorem dksX1_owed_1 : cX1_owed.data.toList.drop 20 = dktX1_owed_1 := dk_seg dksX1_owed_0 20 rfl rfl
theorem dX1_owed_0 : decode cX1_owed 0 = .ok (.iconst 0, 1) := dk_3 (dk_at dksX1_owed_0 0 rfl rfl)
theorem dX1_owed_1 : decode cX1_owed 1 = .ok (.istore_n 1, 1) := dk_60 (dk_at dksX1_owed_0 1 rfl rfl)
theorem dX1_owed_2 : decode cX1_owed 2 = .ok (.aload_n 0, 1) := dk_42 (dk_at dksX1_owed_0 2 rfl rfl)
theorem dX1_owed_3 : decode cX1_owed 3 = .ok (.getfield 30, 3) := dk_180 0 30 (dk_at dksX1_owed_0 3 rfl rfl)
theorem dX1_owed_6 : decode cX1_owed 6 = .ok (.invokevirtual 65, 3) := dk_182 0 65 (dk_at dksX1_owed_0 6 rfl rfl)
theorem dX1_owed_9 : decode cX1_owed 9 = .ok (.astore_n 2, 1) := dk_77 (dk_at dksX1_owed_0 9 rfl rfl)
theorem dX1_owed_10 : decode cX1_owed 10 = .ok (.aload_n 2, 1) := dk_44 (dk_at dksX1_owed_0 10 rfl rfl)
theorem dX1_owed_11 : decode cX1_owed 11 = .ok (.invokeinterface 69 1, 5) := by decide +kernel
theorem dX1_owed_16 : decode cX1_owed 16 = .ok (.ifCond .eq 23, 3) := dk_153 0 23 (dk_at dksX1_owed_0 16 rfl rfl)
theorem dX1_owed_19 : decode cX1_owed 19 = .ok (.aload_n 2, 1) := dk_44 (dk_at dksX1_owed_0 19 rfl rfl)
theorem dX1_owed_20 : decode cX1_owed 20 = .ok (.invokeinterface 75 1, 5) := by decide +kernel
theorem dX1_owed_25 : decode cX1_owed 25 = .ok (.checkcast 79, 3) := dk_192 0 79 (dk_at dksX1_owed_1 5 rfl rfl)
theorem dX1_owed_28 : decode cX1_owed 28 = .ok (.astore_n 3, 1) := dk_78 (dk_at dksX1_owed_1 8 rfl rfl)
theorem dX1_owed_29 : decode cX1_owed 29 = .ok (.iload_n 1, 1) := dk_27 (dk_at dksX1_owed_1 9 rfl rfl)
theorem dX1_owed_30 : decode cX1_owed 30 = .ok (.aload_n 3, 1) := dk_45 (dk_at dksX1_owed_1 10 rfl rfl)
theorem dX1_owed_31 : decode cX1_owed 31 = .ok (.getfield 138, 3) := dk_180 0 138 (dk_at dksX1_owed_1 11 rfl rfl)
theorem dX1_owed_34 : decode cX1_owed 34 = .ok (.iadd, 1) := dk_96 (dk_at dksX1_owed_1 14 rfl rfl)
theorem dX1_owed_35 : decode cX1_owed 35 = .ok (.istore_n 1, 1) := dk_60 (dk_at dksX1_owed_1 15 rfl rfl)
theorem dX1_owed_36 : decode cX1_owed 36 = .ok (.goto (-26), 3) := dk_167 255 230 (dk_at dksX1_owed_1 16 rfl rfl)
theorem dX1_owed_39 : decode cX1_owed 39 = .ok (.iload_n 1, 1) := dk_27 (dk_at dksX1_owed_1 19 rfl rfl)
theorem dX1_owed_40 : decode cX1_owed 40 = .ok (.ireturn, 1) := dk_172 (dk_at dksX1_owed_1 20 rfl rfl)
abbrev cX1_isBalanced : ByteArray := prog_11_method_45_code
def yX1_isBalanced : MethodName := ⟨RX1, "isBalanced", "()Z"⟩
def dkwX1_isBalanced_3 : List UInt8 := [167, 255, 226, 27, 172]
abbrev dktX1_isBalanced_3 : List UInt8 := dkwX1_isBalanced_3 ++ []
def dkwX1_isBalanced_2 : List UInt8 := [27, 42, 28, 182, 0, 88, 42, 28, 182, 0, 242, 160, 0, 7, 4, 167, 0, 4, 3, 126, 60, 132, 2, 1]
abbrev dktX1_isBalanced_2 : List UInt8 := dkwX1_isBalanced_2 ++ dktX1_isBalanced_3
def dkwX1_isBalanced_1 : List UInt8 := [160, 0, 14, 42, 182, 0, 239, 153, 0, 7, 4, 167, 0, 4, 3, 60, 3, 61, 28, 16, 6, 162, 0, 30]
abbrev dktX1_isBalanced_1 : List UInt8 := dkwX1_isBalanced_1 ++ dktX1_isBalanced_2
def dkwX1_isBalanced_0 : List UInt8 := [42, 180, 0, 37, 42, 182, 0, 234, 42, 182, 0, 236, 96, 42, 182, 0, 158, 96, 42, 180, 0, 41, 96]
abbrev dktX1_isBalanced_0 : List UInt8 := dkwX1_isBalanced_0 ++ dktX1_isBalanced_1
theorem dksX1_isBalanced_0 : cX1_isBalanced.data.toList.drop 0 = dktX1_isBalanced_0 := by decide +kernel
theorem dksX1_isBalanced_1 : cX1_isBalanced.data.toList.drop 23 = dktX1_isBalanced_1 := dk_seg dksX1_isBalanced_0 23 rfl rfl
theorem dksX1_isBalanced_2 : cX1_isBalanced.data.toList.drop 47 = dktX1_isBalanced_2 := dk_seg dksX1_isBalanced_1 24 rfl rfl
theorem dksX1_isBalanced_3 : cX1_isBalanced.data.toList.drop 71 = dktX1_isBalanced_3 := dk_seg dksX1_isBalanced_2 24 rfl rfl
theorem dX1_isBalanced_0 : decode cX1_isBalanced 0 = .ok (.aload_n 0, 1) := dk_42 (dk_at dksX1_isBalanced_0 0 rfl rfl)
theorem dX1_isBalanced_1 : decode cX1_isBalanced 1 = .ok (.getfield 37, 3) := dk_180 0 37 (dk_at dksX1_isBalanced_0 1 rfl rfl)
theorem dX1_isBalanced_4 : decode cX1_isBalanced 4 = .ok (.aload_n 0, 1) := dk_42 (dk_at dksX1_isBalanced_0 4 rfl rfl)
theorem dX1_isBalanced_5 : decode cX1_isBalanced 5 = .ok (.invokevirtual 234, 3) := dk_182 0 234 (dk_at dksX1_isBalanced_0 5 rfl rfl)
theorem dX1_isBalanced_8 : decode cX1_isBalanced 8 = .ok (.aload_n 0, 1) := dk_42 (dk_at dksX1_isBalanced_0 8 rfl rfl)
theorem dX1_isBalanced_9 : decode cX1_isBalanced 9 = .ok (.invokevirtual 236, 3) := dk_182 0 236 (dk_at dksX1_isBalanced_0 9 rfl rfl)
theorem dX1_isBalanced_12 : decode cX1_isBalanced 12 = .ok (.iadd, 1) := dk_96 (dk_at dksX1_isBalanced_0 12 rfl rfl)
theorem dX1_isBalanced_13 : decode cX1_isBalanced 13 = .ok (.aload_n 0, 1) := dk_42 (dk_at dksX1_isBalanced_0 13 rfl rfl)
theorem dX1_isBalanced_14 : decode cX1_isBalanced 14 = .ok (.invokevirtual 158, 3) := dk_182 0 158 (dk_at dksX1_isBalanced_0 14 rfl rfl)
theorem dX1_isBalanced_17 : decode cX1_isBalanced 17 = .ok (.iadd, 1) := dk_96 (dk_at dksX1_isBalanced_0 17 rfl rfl)
theorem dX1_isBalanced_18 : decode cX1_isBalanced 18 = .ok (.aload_n 0, 1) := dk_42 (dk_at dksX1_isBalanced_0 18 rfl rfl)
theorem dX1_isBalanced_19 : decode cX1_isBalanced 19 = .ok (.getfield 41, 3) := dk_180 0 41 (dk_at dksX1_isBalanced_0 19 rfl rfl)
theorem dX1_isBalanced_22 : decode cX1_isBalanced 22 = .ok (.iadd, 1) := dk_96 (dk_at dksX1_isBalanced_0 22 rfl rfl)
theorem dX1_isBalanced_23 : decode cX1_isBalanced 23 = .ok (.if_icmp .ne 14, 3) := dk_160 0 14 (dk_at dksX1_isBalanced_1 0 rfl rfl)
theorem dX1_isBalanced_26 : decode cX1_isBalanced 26 = .ok (.aload_n 0, 1) := dk_42 (dk_at dksX1_isBalanced_1 3 rfl rfl)
theorem dX1_isBalanced_27 : decode cX1_isBalanced 27 = .ok (.invokevirtual 239, 3) := dk_182 0 239 (dk_at dksX1_isBalanced_1 4 rfl rfl)
theorem dX1_isBalanced_30 : decode cX1_isBalanced 30 = .ok (.ifCond .eq 7, 3) := dk_153 0 7 (dk_at dksX1_isBalanced_1 7 rfl rfl)
theorem dX1_isBalanced_33 : decode cX1_isBalanced 33 = .ok (.iconst 1, 1) := dk_4 (dk_at dksX1_isBalanced_1 10 rfl rfl)
theorem dX1_isBalanced_34 : decode cX1_isBalanced 34 = .ok (.goto 4, 3) := dk_167 0 4 (dk_at dksX1_isBalanced_1 11 rfl rfl)
theorem dX1_isBalanced_37 : decode cX1_isBalanced 37 = .ok (.iconst 0, 1) := dk_3 (dk_at dksX1_isBalanced_1 14 rfl rfl)
theorem dX1_isBalanced_38 : decode cX1_isBalanced 38 = .ok (.istore_n 1, 1) := dk_60 (dk_at dksX1_isBalanced_1 15 rfl rfl)
theorem dX1_isBalanced_39 : decode cX1_isBalanced 39 = .ok (.iconst 0, 1) := dk_3 (dk_at dksX1_isBalanced_1 16 rfl rfl)
theorem dX1_isBalanced_40 : decode cX1_isBalanced 40 = .ok (.istore_n 2, 1) := dk_61 (dk_at dksX1_isBalanced_1 17 rfl rfl)
theorem dX1_isBalanced_41 : decode cX1_isBalanced 41 = .ok (.iload_n 2, 1) := dk_28 (dk_at dksX1_isBalanced_1 18 rfl rfl)
theorem dX1_isBalanced_42 : decode cX1_isBalanced 42 = .ok (.bipush 6, 2) := dk_16 6 (dk_at dksX1_isBalanced_1 19 rfl rfl)
theorem dX1_isBalanced_44 : decode cX1_isBalanced 44 = .ok (.if_icmp .ge 30, 3) := dk_162 0 30 (dk_at dksX1_isBalanced_1 21 rfl rfl)
theorem dX1_isBalanced_47 : decode cX1_isBalanced 47 = .ok (.iload_n 1, 1) := dk_27 (dk_at dksX1_isBalanced_2 0 rfl rfl)
theorem dX1_isBalanced_48 : decode cX1_isBalanced 48 = .ok (.aload_n 0, 1) := dk_42 (dk_at dksX1_isBalanced_2 1 rfl rfl)
theorem dX1_isBalanced_49 : decode cX1_isBalanced 49 = .ok (.iload_n 2, 1) := dk_28 (dk_at dksX1_isBalanced_2 2 rfl rfl)
theorem dX1_isBalanced_50 : decode cX1_isBalanced 50 = .ok (.invokevirtual 88, 3) := dk_182 0 88 (dk_at dksX1_isBalanced_2 3 rfl rfl)
theorem dX1_isBalanced_53 : decode cX1_isBalanced 53 = .ok (.aload_n 0, 1) := dk_42 (dk_at dksX1_isBalanced_2 6 rfl rfl)
theorem dX1_isBalanced_54 : decode cX1_isBalanced 54 = .ok (.iload_n 2, 1) := dk_28 (dk_at dksX1_isBalanced_2 7 rfl rfl)
theorem dX1_isBalanced_55 : decode cX1_isBalanced 55 = .ok (.invokevirtual 242, 3) := dk_182 0 242 (dk_at dksX1_isBalanced_2 8 rfl rfl)
theorem dX1_isBalanced_58 : decode cX1_isBalanced 58 = .ok (.if_icmp .ne 7, 3) := dk_160 0 7 (dk_at dksX1_isBalanced_2 11 rfl rfl)
theorem dX1_isBalanced_61 : decode cX1_isBalanced 61 = .ok (.iconst 1, 1) := dk_4 (dk_at dksX1_isBalanced_2 14 rfl rfl)
theorem dX1_isBalanced_62 : decode cX1_isBalanced 62 = .ok (.goto 4, 3) := dk_167 0 4 (dk_at dksX1_isBalanced_2 15 rfl rfl)
theorem dX1_isBalanced_65 : decode cX1_isBalanced 65 = .ok (.iconst 0, 1) := dk_3 (dk_at dksX1_isBalanced_2 18 rfl rfl)
theorem dX1_isBalanced_66 : decode cX1_isBalanced 66 = .ok (.iand, 1) := dk_126 (dk_at dksX1_isBalanced_2 19 rfl rfl)
theorem dX1_isBalanced_67 : decode cX1_isBalanced 67 = .ok (.istore_n 1, 1) := dk_60 (dk_at dksX1_isBalanced_2 20 rfl rfl)
theorem dX1_isBalanced_68 : decode cX1_isBalanced 68 = .ok (.iinc 2 1, 3) := dk_132 2 1 (dk_at dksX1_isBalanced_2 21 rfl rfl)
theorem dX1_isBalanced_71 : decode cX1_isBalanced 71 = .ok (.goto (-30), 3) := dk_167 255 226 (dk_at dksX1_isBalanced_3 0 rfl rfl)
theorem dX1_isBalanced_74 : decode cX1_isBalanced 74 = .ok (.iload_n 1, 1) := dk_27 (dk_at dksX1_isBalanced_3 3 rfl rfl)
theorem dX1_isBalanced_75 : decode cX1_isBalanced 75 = .ok (.ireturn, 1) := dk_172 (dk_at dksX1_isBalanced_3 4 rfl rfl)
abbrev cX1_areParts : ByteArray := prog_11_method_44_code
def yX1_areParts : MethodName := ⟨RX1, "areParts", "()Z"⟩
def dkwX1_areParts_3 : List UInt8 := [153, 0, 11, 29, 42, 182, 0, 158, 160, 0, 7, 4, 167, 0, 4, 3, 172]
abbrev dktX1_areParts_3 : List UInt8 := dkwX1_areParts_3 ++ []
def dkwX1_areParts_2 : List UInt8 := [29, 43, 21, 5, 46, 96, 62, 132, 5, 1, 167, 255, 218, 21, 4, 153, 0, 22, 42, 182, 0, 164]
abbrev dktX1_areParts_2 : List UInt8 := dkwX1_areParts_2 ++ dktX1_areParts_3
def dkwX1_areParts_1 : List UInt8 := [162, 0, 37, 21, 4, 43, 21, 5, 46, 44, 21, 5, 46, 160, 0, 7, 4, 167, 0, 4, 3, 126, 54, 4]
abbrev dktX1_areParts_1 : List UInt8 := dkwX1_areParts_1 ++ dktX1_areParts_2
def dkwX1_areParts_0 : List UInt8 := [42, 182, 0, 174, 76, 42, 182, 0, 231, 77, 3, 62, 4, 54, 4, 3, 54, 5, 21, 5, 16, 6]
abbrev dktX1_areParts_0 : List UInt8 := dkwX1_areParts_0 ++ dktX1_areParts_1
theorem dksX1_areParts_0 : cX1_areParts.data.toList.drop 0 = dktX1_areParts_0 := by decide +kernel
theorem dksX1_areParts_1 : cX1_areParts.data.toList.drop 22 = dktX1_areParts_1 := dk_seg dksX1_areParts_0 22 rfl rfl
theorem dksX1_areParts_2 : cX1_areParts.data.toList.drop 46 = dktX1_areParts_2 := dk_seg dksX1_areParts_1 24 rfl rfl
theorem dksX1_areParts_3 : cX1_areParts.data.toList.drop 68 = dktX1_areParts_3 := dk_seg dksX1_areParts_2 22 rfl rfl
theorem dX1_areParts_0 : decode cX1_areParts 0 = .ok (.aload_n 0, 1) := dk_42 (dk_at dksX1_areParts_0 0 rfl rfl)
theorem dX1_areParts_1 : decode cX1_areParts 1 = .ok (.invokevirtual 174, 3) := dk_182 0 174 (dk_at dksX1_areParts_0 1 rfl rfl)
theorem dX1_areParts_4 : decode cX1_areParts 4 = .ok (.astore_n 1, 1) := dk_76 (dk_at dksX1_areParts_0 4 rfl rfl)
theorem dX1_areParts_5 : decode cX1_areParts 5 = .ok (.aload_n 0, 1) := dk_42 (dk_at dksX1_areParts_0 5 rfl rfl)
theorem dX1_areParts_6 : decode cX1_areParts 6 = .ok (.invokevirtual 231, 3) := dk_182 0 231 (dk_at dksX1_areParts_0 6 rfl rfl)
theorem dX1_areParts_9 : decode cX1_areParts 9 = .ok (.astore_n 2, 1) := dk_77 (dk_at dksX1_areParts_0 9 rfl rfl)
theorem dX1_areParts_10 : decode cX1_areParts 10 = .ok (.iconst 0, 1) := dk_3 (dk_at dksX1_areParts_0 10 rfl rfl)
theorem dX1_areParts_11 : decode cX1_areParts 11 = .ok (.istore_n 3, 1) := dk_62 (dk_at dksX1_areParts_0 11 rfl rfl)
theorem dX1_areParts_12 : decode cX1_areParts 12 = .ok (.iconst 1, 1) := dk_4 (dk_at dksX1_areParts_0 12 rfl rfl)
theorem dX1_areParts_13 : decode cX1_areParts 13 = .ok (.istore 4, 2) := dk_54 4 (dk_at dksX1_areParts_0 13 rfl rfl)
theorem dX1_areParts_15 : decode cX1_areParts 15 = .ok (.iconst 0, 1) := dk_3 (dk_at dksX1_areParts_0 15 rfl rfl)
theorem dX1_areParts_16 : decode cX1_areParts 16 = .ok (.istore 5, 2) := dk_54 5 (dk_at dksX1_areParts_0 16 rfl rfl)
theorem dX1_areParts_18 : decode cX1_areParts 18 = .ok (.iload 5, 2) := dk_21 5 (dk_at dksX1_areParts_0 18 rfl rfl)
theorem dX1_areParts_20 : decode cX1_areParts 20 = .ok (.bipush 6, 2) := dk_16 6 (dk_at dksX1_areParts_0 20 rfl rfl)
theorem dX1_areParts_22 : decode cX1_areParts 22 = .ok (.if_icmp .ge 37, 3) := dk_162 0 37 (dk_at dksX1_areParts_1 0 rfl rfl)
theorem dX1_areParts_25 : decode cX1_areParts 25 = .ok (.iload 4, 2) := dk_21 4 (dk_at dksX1_areParts_1 3 rfl rfl)
theorem dX1_areParts_27 : decode cX1_areParts 27 = .ok (.aload_n 1, 1) := dk_43 (dk_at dksX1_areParts_1 5 rfl rfl)
theorem dX1_areParts_28 : decode cX1_areParts 28 = .ok (.iload 5, 2) := dk_21 5 (dk_at dksX1_areParts_1 6 rfl rfl)
theorem dX1_areParts_30 : decode cX1_areParts 30 = .ok (.iaload, 1) := dk_46 (dk_at dksX1_areParts_1 8 rfl rfl)
theorem dX1_areParts_31 : decode cX1_areParts 31 = .ok (.aload_n 2, 1) := dk_44 (dk_at dksX1_areParts_1 9 rfl rfl)
theorem dX1_areParts_32 : decode cX1_areParts 32 = .ok (.iload 5, 2) := dk_21 5 (dk_at dksX1_areParts_1 10 rfl rfl)
theorem dX1_areParts_34 : decode cX1_areParts 34 = .ok (.iaload, 1) := dk_46 (dk_at dksX1_areParts_1 12 rfl rfl)
theorem dX1_areParts_35 : decode cX1_areParts 35 = .ok (.if_icmp .ne 7, 3) := dk_160 0 7 (dk_at dksX1_areParts_1 13 rfl rfl)
theorem dX1_areParts_38 : decode cX1_areParts 38 = .ok (.iconst 1, 1) := dk_4 (dk_at dksX1_areParts_1 16 rfl rfl)
theorem dX1_areParts_39 : decode cX1_areParts 39 = .ok (.goto 4, 3) := dk_167 0 4 (dk_at dksX1_areParts_1 17 rfl rfl)
theorem dX1_areParts_42 : decode cX1_areParts 42 = .ok (.iconst 0, 1) := dk_3 (dk_at dksX1_areParts_1 20 rfl rfl)
theorem dX1_areParts_43 : decode cX1_areParts 43 = .ok (.iand, 1) := dk_126 (dk_at dksX1_areParts_1 21 rfl rfl)
theorem dX1_areParts_44 : decode cX1_areParts 44 = .ok (.istore 4, 2) := dk_54 4 (dk_at dksX1_areParts_1 22 rfl rfl)
theorem dX1_areParts_46 : decode cX1_areParts 46 = .ok (.iload_n 3, 1) := dk_29 (dk_at dksX1_areParts_2 0 rfl rfl)
theorem dX1_areParts_47 : decode cX1_areParts 47 = .ok (.aload_n 1, 1) := dk_43 (dk_at dksX1_areParts_2 1 rfl rfl)
theorem dX1_areParts_48 : decode cX1_areParts 48 = .ok (.iload 5, 2) := dk_21 5 (dk_at dksX1_areParts_2 2 rfl rfl)
theorem dX1_areParts_50 : decode cX1_areParts 50 = .ok (.iaload, 1) := dk_46 (dk_at dksX1_areParts_2 4 rfl rfl)
theorem dX1_areParts_51 : decode cX1_areParts 51 = .ok (.iadd, 1) := dk_96 (dk_at dksX1_areParts_2 5 rfl rfl)
theorem dX1_areParts_52 : decode cX1_areParts 52 = .ok (.istore_n 3, 1) := dk_62 (dk_at dksX1_areParts_2 6 rfl rfl)
theorem dX1_areParts_53 : decode cX1_areParts 53 = .ok (.iinc 5 1, 3) := dk_132 5 1 (dk_at dksX1_areParts_2 7 rfl rfl)
theorem dX1_areParts_56 : decode cX1_areParts 56 = .ok (.goto (-38), 3) := dk_167 255 218 (dk_at dksX1_areParts_2 10 rfl rfl)
theorem dX1_areParts_59 : decode cX1_areParts 59 = .ok (.iload 4, 2) := dk_21 4 (dk_at dksX1_areParts_2 13 rfl rfl)
theorem dX1_areParts_61 : decode cX1_areParts 61 = .ok (.ifCond .eq 22, 3) := dk_153 0 22 (dk_at dksX1_areParts_2 15 rfl rfl)
theorem dX1_areParts_64 : decode cX1_areParts 64 = .ok (.aload_n 0, 1) := dk_42 (dk_at dksX1_areParts_2 18 rfl rfl)
theorem dX1_areParts_65 : decode cX1_areParts 65 = .ok (.invokevirtual 164, 3) := dk_182 0 164 (dk_at dksX1_areParts_2 19 rfl rfl)
theorem dX1_areParts_68 : decode cX1_areParts 68 = .ok (.ifCond .eq 11, 3) := dk_153 0 11 (dk_at dksX1_areParts_3 0 rfl rfl)
theorem dX1_areParts_71 : decode cX1_areParts 71 = .ok (.iload_n 3, 1) := dk_29 (dk_at dksX1_areParts_3 3 rfl rfl)
theorem dX1_areParts_72 : decode cX1_areParts 72 = .ok (.aload_n 0, 1) := dk_42 (dk_at dksX1_areParts_3 4 rfl rfl)
theorem dX1_areParts_73 : decode cX1_areParts 73 = .ok (.invokevirtual 158, 3) := dk_182 0 158 (dk_at dksX1_areParts_3 5 rfl rfl)
theorem dX1_areParts_76 : decode cX1_areParts 76 = .ok (.if_icmp .ne 7, 3) := dk_160 0 7 (dk_at dksX1_areParts_3 8 rfl rfl)
theorem dX1_areParts_79 : decode cX1_areParts 79 = .ok (.iconst 1, 1) := dk_4 (dk_at dksX1_areParts_3 11 rfl rfl)
theorem dX1_areParts_80 : decode cX1_areParts 80 = .ok (.goto 4, 3) := dk_167 0 4 (dk_at dksX1_areParts_3 12 rfl rfl)
theorem dX1_areParts_83 : decode cX1_areParts 83 = .ok (.iconst 0, 1) := dk_3 (dk_at dksX1_areParts_3 15 rfl rfl)
theorem dX1_areParts_84 : decode cX1_areParts 84 = .ok (.ireturn, 1) := dk_172 (dk_at dksX1_areParts_3 16 rfl rfl)
theorem q80 : (Jvm.Cond.initialized "CandleStatute$Statute") ∈ lw_all := lw_g (lw_at lw_m1 2 rfl) rfl
theorem q124 : (Jvm.Cond.instantiable "CandleStatute$Statute" (7 : Nat)) ∈ lw_all := lw_g (lw_at lw_m1 46 rfl) rfl
theorem q126 : (Jvm.Cond.instanceMethod ({ cls := "CandleStatute$Statute", name := "<init>", desc := "()V" } : Jvm.MethodName)) ∈ lw_all := lw_g (lw_at lw_m1 48 rfl) rfl
theorem q127 : (Jvm.Cond.code ({ cls := "CandleStatute$Statute", name := "<init>", desc := "()V" } : Jvm.MethodName) prog_11_method_1_code (3 : Nat) (Option.none : Option Jvm.ClassFile.FieldType)) ∈ lw_all := lw_g (lw_at lw_m1 49 rfl) rfl
theorem q128 : (Jvm.Cond.classLink "CandleStatute$Statute" (3 : Nat) "CandleStatute$Row") ∈ lw_all := lw_g (lw_at lw_m1 50 rfl) rfl
theorem q130 : (Jvm.Cond.methodLink "CandleStatute$Statute" (5 : Nat) ({ cls := "CandleStatute$Row", name := "<init>", desc := "(I)V" } : Jvm.MethodName)) ∈ lw_all := lw_g (lw_at lw_m1 52 rfl) rfl
theorem q174 : (Jvm.Cond.methodLink "CandleStatute$Statute" (9 : Nat) ({ cls := "CandleStatute$Statute", name := "<init>", desc := "(LCandleStatute$Row;LCandleStatute$Row;)V" } : Jvm.MethodName)) ∈ lw_all := lw_g (lw_at lw_m1 96 rfl) rfl
theorem q175 : (Jvm.Cond.instanceMethod ({ cls := "CandleStatute$Statute", name := "<init>", desc := "(LCandleStatute$Row;LCandleStatute$Row;)V" } : Jvm.MethodName)) ∈ lw_all := lw_g (lw_at lw_m1 97 rfl) rfl
theorem q176 : (Jvm.Cond.code ({ cls := "CandleStatute$Statute", name := "<init>", desc := "(LCandleStatute$Row;LCandleStatute$Row;)V" } : Jvm.MethodName) prog_11_method_2_code (3 : Nat) (Option.none : Option Jvm.ClassFile.FieldType)) ∈ lw_all := lw_g (lw_at lw_m1 98 rfl) rfl
theorem q177 : (Jvm.Cond.methodLink "CandleStatute$Statute" (25 : Nat) ({ cls := "java/lang/Object", name := "<init>", desc := "()V" } : Jvm.MethodName)) ∈ lw_all := lw_g (lw_at lw_m1 99 rfl) rfl
theorem q178 : (Jvm.Cond.fieldLink "CandleStatute$Statute" (14 : Nat) "CandleStatute$Statute" "houses" "LCandleStatute$Row;") ∈ lw_all := lw_g (lw_at lw_m1 100 rfl) rfl
theorem q180 : (Jvm.Cond.fieldLink "CandleStatute$Statute" (30 : Nat) "CandleStatute$Statute" "stubs" "LCandleStatute$Row;") ∈ lw_all := lw_g (lw_at lw_m1 102 rfl) rfl
theorem q182 : (Jvm.Cond.fieldLink "CandleStatute$Statute" (37 : Nat) "CandleStatute$Statute" "brought" "I") ∈ lw_all := lw_g (lw_at lw_m1 104 rfl) rfl
theorem q184 : (Jvm.Cond.fieldLink "CandleStatute$Statute" (41 : Nat) "CandleStatute$Statute" "burnt" "I") ∈ lw_all := lw_g (lw_at lw_m1 106 rfl) rfl
theorem q186 : (Jvm.Cond.fieldLink "CandleStatute$Statute" (44 : Nat) "CandleStatute$Statute" "given" "I") ∈ lw_all := lw_g (lw_at lw_m1 108 rfl) rfl
theorem q188 : (Jvm.Cond.fieldLink "CandleStatute$Statute" (47 : Nat) "CandleStatute$Statute" "paid" "I") ∈ lw_all := lw_g (lw_at lw_m1 110 rfl) rfl
theorem q190 : (Jvm.Cond.fieldLink "CandleStatute$Statute" (50 : Nat) "CandleStatute$Statute" "hours" "I") ∈ lw_all := lw_g (lw_at lw_m1 112 rfl) rfl
theorem q192 : (Jvm.Cond.laysFinal "CandleStatute$Statute" "CandleStatute$Statute" "houses" "LCandleStatute$Row;") ∈ lw_all := lw_g (lw_at lw_m1 114 rfl) rfl
theorem q193 : (Jvm.Cond.soleField "CandleStatute$Statute" "houses") ∈ lw_all := lw_g (lw_at lw_m1 115 rfl) rfl
theorem q194 : (Jvm.Cond.laysFinal "CandleStatute$Statute" "CandleStatute$Statute" "stubs" "LCandleStatute$Row;") ∈ lw_all := lw_g (lw_at lw_m1 116 rfl) rfl
theorem q195 : (Jvm.Cond.soleField "CandleStatute$Statute" "stubs") ∈ lw_all := lw_g (lw_at lw_m1 117 rfl) rfl
theorem q196 : (Jvm.Cond.lays "CandleStatute$Statute" "CandleStatute$Statute" "brought" "I") ∈ lw_all := lw_g (lw_at lw_m1 118 rfl) rfl
theorem q197 : (Jvm.Cond.soleField "CandleStatute$Statute" "brought") ∈ lw_all := lw_g (lw_at lw_m1 119 rfl) rfl
theorem q198 : (Jvm.Cond.lays "CandleStatute$Statute" "CandleStatute$Statute" "burnt" "I") ∈ lw_all := lw_g (lw_at lw_m1 120 rfl) rfl
theorem q199 : (Jvm.Cond.soleField "CandleStatute$Statute" "burnt") ∈ lw_all := lw_g (lw_at lw_m1 121 rfl) rfl
theorem q200 : (Jvm.Cond.lays "CandleStatute$Statute" "CandleStatute$Statute" "given" "I") ∈ lw_all := lw_g (lw_at lw_m1 122 rfl) rfl
theorem q201 : (Jvm.Cond.soleField "CandleStatute$Statute" "given") ∈ lw_all := lw_g (lw_at lw_m1 123 rfl) rfl
theorem q202 : (Jvm.Cond.lays "CandleStatute$Statute" "CandleStatute$Statute" "paid" "I") ∈ lw_all := lw_g (lw_at lw_m1 124 rfl) rfl
theorem q203 : (Jvm.Cond.soleField "CandleStatute$Statute" "paid") ∈ lw_all := lw_g (lw_at lw_m1 125 rfl) rfl
theorem q204 : (Jvm.Cond.lays "CandleStatute$Statute" "CandleStatute$Statute" "hours" "I") ∈ lw_all := lw_g (lw_at lw_m1 126 rfl) rfl
theorem q205 : (Jvm.Cond.soleField "CandleStatute$Statute" "hours") ∈ lw_all := lw_g (lw_at lw_m1 127 rfl) rfl
theorem q206 : (Jvm.Cond.superclass "CandleStatute$Statute" "java/lang/Object") ∈ lw_all := lw_g (lw_at lw_m1 128 rfl) rfl
theorem q207 : (Jvm.Cond.classLink "CandleStatute$Statute" (18 : Nat) "CandleStatute$House") ∈ lw_all := lw_g (lw_at lw_m1 129 rfl) rfl
theorem q209 : (Jvm.Cond.methodLink "CandleStatute$Statute" (20 : Nat) ({ cls := "CandleStatute$House", name := "<init>", desc := "(I)V" } : Jvm.MethodName)) ∈ lw_all := lw_g (lw_at lw_m1 131 rfl) rfl
theorem q214 : (Jvm.Cond.fieldLinkNest "CandleStatute$Statute" (57 : Nat) "CandleStatute$House" "isOpen" "Z" "CandleStatute") ∈ lw_tbl := lw_at lw_m1 136 rfl
theorem q216 : (Jvm.Cond.fieldLinkNest "CandleStatute$Statute" (181 : Nat) "CandleStatute$House" "heir" "I" "CandleStatute") ∈ lw_tbl := lw_at lw_m1 138 rfl
theorem q218 : (Jvm.Cond.fieldLinkNest "CandleStatute$Statute" (178 : Nat) "CandleStatute$House" "store" "I" "CandleStatute") ∈ lw_tbl := lw_at lw_m1 140 rfl
theorem q220 : (Jvm.Cond.fieldLinkNest "CandleStatute$Statute" (155 : Nat) "CandleStatute$House" "pooled" "I" "CandleStatute") ∈ lw_tbl := lw_at lw_m1 142 rfl
theorem q230 : (Jvm.Cond.methodLink "CandleStatute$Statute" (21 : Nat) ({ cls := "CandleStatute$Row", name := "puts", desc := "(LCandleStatute$Copied;)I" } : Jvm.MethodName)) ∈ lw_all := lw_g (lw_at lw_m1 152 rfl) rfl
theorem q276 : (Jvm.Cond.selects "CandleStatute$Statute" ({ cls := "java/lang/Object", name := "getClass", desc := "()Ljava/lang/Class;" } : Jvm.MethodName) ({ cls := "java/lang/Object", name := "getClass", desc := "()Ljava/lang/Class;" } : Jvm.MethodName)) ∈ lw_all := lw_g (lw_at lw_m1 198 rfl) rfl
theorem q402 : (Jvm.Cond.instanceMethod ({ cls := "CandleStatute$Statute", name := "copy", desc := "()LCandleStatute$Statute;" } : Jvm.MethodName)) ∈ lw_all := lw_g (lw_at lw_m2 84 rfl) rfl
theorem q403 : (Jvm.Cond.selects "CandleStatute$Statute" ({ cls := "CandleStatute$Statute", name := "copy", desc := "()LCandleStatute$Statute;" } : Jvm.MethodName) ({ cls := "CandleStatute$Statute", name := "copy", desc := "()LCandleStatute$Statute;" } : Jvm.MethodName)) ∈ lw_all := lw_g (lw_at lw_m2 85 rfl) rfl
theorem q404 : (Jvm.Cond.code ({ cls := "CandleStatute$Statute", name := "copy", desc := "()LCandleStatute$Statute;" } : Jvm.MethodName) prog_11_method_3_code (2 : Nat) (Option.some (Jvm.ClassFile.FieldType.object "CandleStatute$Statute"))) ∈ lw_all := lw_g (lw_at lw_m2 86 rfl) rfl
theorem q405 : (Jvm.Cond.classLink "CandleStatute$Statute" (10 : Nat) "CandleStatute$Statute") ∈ lw_all := lw_g (lw_at lw_m2 87 rfl) rfl
theorem q406 : (Jvm.Cond.methodLink "CandleStatute$Statute" (33 : Nat) ({ cls := "CandleStatute$Row", name := "copy", desc := "()LCandleStatute$Row;" } : Jvm.MethodName)) ∈ lw_all := lw_g (lw_at lw_m2 88 rfl) rfl
theorem q515 : (Jvm.Cond.fieldLinkNest "CandleStatute$Statute" (81 : Nat) "CandleStatute$Stub" "house" "I" "CandleStatute") ∈ lw_tbl := lw_at lw_m2 197 rfl
theorem q517 : (Jvm.Cond.fieldLinkNest "CandleStatute$Statute" (94 : Nat) "CandleStatute$Stub" "wax" "I" "CandleStatute") ∈ lw_tbl := lw_at lw_m2 199 rfl
theorem q519 : (Jvm.Cond.fieldLinkNest "CandleStatute$Statute" (122 : Nat) "CandleStatute$Stub" "wick" "I" "CandleStatute") ∈ lw_tbl := lw_at lw_m2 201 rfl
theorem q521 : (Jvm.Cond.fieldLinkNest "CandleStatute$Statute" (135 : Nat) "CandleStatute$Stub" "owedTo" "I" "CandleStatute") ∈ lw_tbl := lw_at lw_m2 203 rfl
theorem q523 : (Jvm.Cond.fieldLinkNest "CandleStatute$Statute" (138 : Nat) "CandleStatute$Stub" "owes" "I" "CandleStatute") ∈ lw_tbl := lw_at lw_m2 205 rfl
theorem q525 : (Jvm.Cond.fieldLinkNest "CandleStatute$Statute" (104 : Nat) "CandleStatute$Stub" "snuffed" "I" "CandleStatute") ∈ lw_tbl := lw_at lw_m2 207 rfl
theorem q527 : (Jvm.Cond.fieldLinkNest "CandleStatute$Statute" (143 : Nat) "CandleStatute$Stub" "by" "I" "CandleStatute") ∈ lw_tbl := lw_at lw_m2 209 rfl
theorem q529 : (Jvm.Cond.fieldLinkNest "CandleStatute$Statute" (128 : Nat) "CandleStatute$Stub" "given" "I" "CandleStatute") ∈ lw_tbl := lw_at lw_m2 211 rfl
theorem q551 : (Jvm.Cond.instanceMethod ({ cls := "CandleStatute$Statute", name := "brings", desc := "(LCandleStatute$Stub;)I" } : Jvm.MethodName)) ∈ lw_all := lw_g (lw_at lw_m2 233 rfl) rfl
theorem q552 : (Jvm.Cond.selects "CandleStatute$Statute" ({ cls := "CandleStatute$Statute", name := "brings", desc := "(LCandleStatute$Stub;)I" } : Jvm.MethodName) ({ cls := "CandleStatute$Statute", name := "brings", desc := "(LCandleStatute$Stub;)I" } : Jvm.MethodName)) ∈ lw_all := lw_g (lw_at lw_m2 234 rfl) rfl
theorem q553 : (Jvm.Cond.code ({ cls := "CandleStatute$Statute", name := "brings", desc := "(LCandleStatute$Stub;)I" } : Jvm.MethodName) prog_11_method_8_code (2 : Nat) (Option.some Jvm.ClassFile.FieldType.int)) ∈ lw_all := lw_g (lw_at lw_m2 235 rfl) rfl
theorem q554 : (Jvm.Cond.methodLink "CandleStatute$Statute" (91 : Nat) ({ cls := "CandleStatute$Statute", name := "checksOpen", desc := "(I)V" } : Jvm.MethodName)) ∈ lw_all := lw_g (lw_at lw_m2 236 rfl) rfl
theorem q555 : (Jvm.Cond.privateMethod ({ cls := "CandleStatute$Statute", name := "checksOpen", desc := "(I)V" } : Jvm.MethodName)) ∈ lw_tbl := lw_at lw_m2 237 rfl
theorem q556 : (Jvm.Cond.instanceMethod ({ cls := "CandleStatute$Statute", name := "checksOpen", desc := "(I)V" } : Jvm.MethodName)) ∈ lw_all := lw_g (lw_at lw_m2 238 rfl) rfl
theorem q557 : (Jvm.Cond.code ({ cls := "CandleStatute$Statute", name := "checksOpen", desc := "(I)V" } : Jvm.MethodName) prog_11_method_4_code (2 : Nat) (Option.none : Option Jvm.ClassFile.FieldType)) ∈ lw_all := lw_g (lw_at lw_m2 239 rfl) rfl
theorem q558 : (Jvm.Cond.methodLink "CandleStatute$Statute" (53 : Nat) ({ cls := "CandleStatute$Row", name := "get", desc := "(I)LCandleStatute$Copied;" } : Jvm.MethodName)) ∈ lw_all := lw_g (lw_at lw_m3 0 rfl) rfl
theorem q576 : (Jvm.Cond.methodLinkNest "CandleStatute$Statute" (61 : Nat) ({ cls := "CandleStatute", name := "refuse", desc := "(ZII)V" } : Jvm.MethodName) "CandleStatute") ∈ lw_tbl := lw_at lw_m3 18 rfl
theorem q651 : (Jvm.Cond.methodLink "CandleStatute$Statute" (97 : Nat) ({ cls := "CandleStatute$Statute", name := "checksTray", desc := "(II)V" } : Jvm.MethodName)) ∈ lw_all := lw_g (lw_at lw_m3 93 rfl) rfl
theorem q652 : (Jvm.Cond.privateMethod ({ cls := "CandleStatute$Statute", name := "checksTray", desc := "(II)V" } : Jvm.MethodName)) ∈ lw_tbl := lw_at lw_m3 94 rfl
theorem q653 : (Jvm.Cond.instanceMethod ({ cls := "CandleStatute$Statute", name := "checksTray", desc := "(II)V" } : Jvm.MethodName)) ∈ lw_all := lw_g (lw_at lw_m3 95 rfl) rfl
theorem q654 : (Jvm.Cond.code ({ cls := "CandleStatute$Statute", name := "checksTray", desc := "(II)V" } : Jvm.MethodName) prog_11_method_7_code (4 : Nat) (Option.none : Option Jvm.ClassFile.FieldType)) ∈ lw_all := lw_g (lw_at lw_m3 96 rfl) rfl
theorem q655 : (Jvm.Cond.methodLink "CandleStatute$Statute" (88 : Nat) ({ cls := "CandleStatute$Statute", name := "weight", desc := "(I)I" } : Jvm.MethodName)) ∈ lw_all := lw_g (lw_at lw_m3 97 rfl) rfl
theorem q656 : (Jvm.Cond.instanceMethod ({ cls := "CandleStatute$Statute", name := "weight", desc := "(I)I" } : Jvm.MethodName)) ∈ lw_all := lw_g (lw_at lw_m3 98 rfl) rfl
theorem q657 : (Jvm.Cond.selects "CandleStatute$Statute" ({ cls := "CandleStatute$Statute", name := "weight", desc := "(I)I" } : Jvm.MethodName) ({ cls := "CandleStatute$Statute", name := "weight", desc := "(I)I" } : Jvm.MethodName)) ∈ lw_all := lw_g (lw_at lw_m3 99 rfl) rfl
theorem q658 : (Jvm.Cond.code ({ cls := "CandleStatute$Statute", name := "weight", desc := "(I)I" } : Jvm.MethodName) prog_11_method_5_code (5 : Nat) (Option.some Jvm.ClassFile.FieldType.int)) ∈ lw_all := lw_g (lw_at lw_m3 100 rfl) rfl
theorem q659 : (Jvm.Cond.methodLink "CandleStatute$Statute" (65 : Nat) ({ cls := "CandleStatute$Row", name := "iterator", desc := "()Ljava/util/Iterator;" } : Jvm.MethodName)) ∈ lw_all := lw_g (lw_at lw_m3 101 rfl) rfl
theorem q663 : (Jvm.Cond.interfaceEntry "CandleStatute$Statute" (69 : Nat)) ∈ lw_tbl := lw_at lw_m3 105 rfl
theorem q664 : (Jvm.Cond.methodLink "CandleStatute$Statute" (69 : Nat) ({ cls := "java/util/Iterator", name := "hasNext", desc := "()Z" } : Jvm.MethodName)) ∈ lw_all := lw_g (lw_at lw_m3 106 rfl) rfl
theorem q665 : (Jvm.Cond.interfaceEntry "CandleStatute$Statute" (75 : Nat)) ∈ lw_tbl := lw_at lw_m3 107 rfl
theorem q666 : (Jvm.Cond.methodLink "CandleStatute$Statute" (75 : Nat) ({ cls := "java/util/Iterator", name := "next", desc := "()Ljava/lang/Object;" } : Jvm.MethodName)) ∈ lw_all := lw_g (lw_at lw_m3 108 rfl) rfl
theorem q667 : (Jvm.Cond.classLink "CandleStatute$Statute" (79 : Nat) "CandleStatute$Stub") ∈ lw_all := lw_g (lw_at lw_m3 109 rfl) rfl
theorem q668 : (Jvm.Cond.methodLink "CandleStatute$Statute" (84 : Nat) ({ cls := "CandleStatute$Stub", name := "weight", desc := "()I" } : Jvm.MethodName)) ∈ lw_all := lw_g (lw_at lw_m3 110 rfl) rfl
theorem q672 : (Jvm.Cond.methodLink "CandleStatute$Statute" (101 : Nat) ({ cls := "CandleStatute$Row", name := "checksRoom", desc := "()V" } : Jvm.MethodName)) ∈ lw_all := lw_g (lw_at lw_m3 114 rfl) rfl
theorem q743 : (Jvm.Cond.instanceMethod ({ cls := "CandleStatute$Statute", name := "burns", desc := "(II)I" } : Jvm.MethodName)) ∈ lw_all := lw_g (lw_at lw_m3 185 rfl) rfl
theorem q744 : (Jvm.Cond.selects "CandleStatute$Statute" ({ cls := "CandleStatute$Statute", name := "burns", desc := "(II)I" } : Jvm.MethodName) ({ cls := "CandleStatute$Statute", name := "burns", desc := "(II)I" } : Jvm.MethodName)) ∈ lw_all := lw_g (lw_at lw_m3 186 rfl) rfl
theorem q745 : (Jvm.Cond.codeWith ({ cls := "CandleStatute$Statute", name := "burns", desc := "(II)I" } : Jvm.MethodName) prog_11_method_10_code (6 : Nat) (Option.some Jvm.ClassFile.FieldType.int) [((12 : Nat), (18 : Nat), (21 : Nat), (107 : Nat)), ((12 : Nat), (18 : Nat), (21 : Nat), (110 : Nat))]) ∈ lw_all := lw_g (lw_at lw_m3 187 rfl) rfl
theorem q746 : (Jvm.Cond.classLink "CandleStatute$Statute" (107 : Nat) "CandleStatute$Forbidden") ∈ lw_all := lw_g (lw_at lw_m3 188 rfl) rfl
theorem q747 : (Jvm.Cond.classLink "CandleStatute$Statute" (110 : Nat) "CandleStatute$TooShort") ∈ lw_all := lw_g (lw_at lw_m3 189 rfl) rfl
theorem q748 : (Jvm.Cond.methodLink "CandleStatute$Statute" (113 : Nat) ({ cls := "CandleStatute$Statute", name := "checksBurning", desc := "(LCandleStatute$Stub;I)V" } : Jvm.MethodName)) ∈ lw_all := lw_g (lw_at lw_m3 190 rfl) rfl
theorem q749 : (Jvm.Cond.privateMethod ({ cls := "CandleStatute$Statute", name := "checksBurning", desc := "(LCandleStatute$Stub;I)V" } : Jvm.MethodName)) ∈ lw_tbl := lw_at lw_m3 191 rfl
theorem q750 : (Jvm.Cond.instanceMethod ({ cls := "CandleStatute$Statute", name := "checksBurning", desc := "(LCandleStatute$Stub;I)V" } : Jvm.MethodName)) ∈ lw_all := lw_g (lw_at lw_m3 192 rfl) rfl
theorem q751 : (Jvm.Cond.code ({ cls := "CandleStatute$Statute", name := "checksBurning", desc := "(LCandleStatute$Stub;I)V" } : Jvm.MethodName) prog_11_method_9_code (3 : Nat) (Option.none : Option Jvm.ClassFile.FieldType)) ∈ lw_all := lw_g (lw_at lw_m3 193 rfl) rfl
theorem q760 : (Jvm.Cond.methodLink "CandleStatute$Statute" (109 : Nat) ({ cls := "CandleStatute$Forbidden", name := "<init>", desc := "(I)V" } : Jvm.MethodName)) ∈ lw_all := lw_g (lw_at lw_m3 202 rfl) rfl
theorem q776 : (Jvm.Cond.methodLink "CandleStatute$Statute" (112 : Nat) ({ cls := "CandleStatute$TooShort", name := "<init>", desc := "(I)V" } : Jvm.MethodName)) ∈ lw_all := lw_g (lw_at lw_m3 218 rfl) rfl
theorem q784 : (Jvm.Cond.classLink "CandleStatute$Statute" (117 : Nat) "CandleStatute$Refused") ∈ lw_all := lw_g (lw_at lw_m3 226 rfl) rfl
theorem q785 : (Jvm.Cond.methodLink "CandleStatute$Statute" (119 : Nat) ({ cls := "CandleStatute$Refused", name := "<init>", desc := "(IILjava/lang/Throwable;)V" } : Jvm.MethodName)) ∈ lw_all := lw_g (lw_at lw_m3 227 rfl) rfl
theorem q786 : (Jvm.Cond.methodLink "CandleStatute$Statute" (125 : Nat) ({ cls := "CandleStatute$Stub", name := "pays", desc := "(I)I" } : Jvm.MethodName)) ∈ lw_all := lw_g (lw_at lw_m3 228 rfl) rfl
theorem q791 : (Jvm.Cond.methodLink "CandleStatute$Statute" (129 : Nat) ({ cls := "CandleStatute$Statute", name := "goesIfEmpty", desc := "(I)V" } : Jvm.MethodName)) ∈ lw_all := lw_g (lw_at lw_m3 233 rfl) rfl
theorem q792 : (Jvm.Cond.privateMethod ({ cls := "CandleStatute$Statute", name := "goesIfEmpty", desc := "(I)V" } : Jvm.MethodName)) ∈ lw_tbl := lw_at lw_m3 234 rfl
theorem q793 : (Jvm.Cond.instanceMethod ({ cls := "CandleStatute$Statute", name := "goesIfEmpty", desc := "(I)V" } : Jvm.MethodName)) ∈ lw_all := lw_g (lw_at lw_m3 235 rfl) rfl
theorem q794 : (Jvm.Cond.code ({ cls := "CandleStatute$Statute", name := "goesIfEmpty", desc := "(I)V" } : Jvm.MethodName) prog_11_method_11_code (3 : Nat) (Option.none : Option Jvm.ClassFile.FieldType)) ∈ lw_all := lw_g (lw_at lw_m3 236 rfl) rfl
theorem q795 : (Jvm.Cond.methodLink "CandleStatute$Statute" (132 : Nat) ({ cls := "CandleStatute$Row", name := "drops", desc := "(I)LCandleStatute$Copied;" } : Jvm.MethodName)) ∈ lw_all := lw_g (lw_at lw_m3 237 rfl) rfl
theorem q820 : (Jvm.Cond.instanceMethod ({ cls := "CandleStatute$Statute", name := "owes", desc := "(III)I" } : Jvm.MethodName)) ∈ lw_all := lw_g (lw_at lw_m4 22 rfl) rfl
theorem q821 : (Jvm.Cond.selects "CandleStatute$Statute" ({ cls := "CandleStatute$Statute", name := "owes", desc := "(III)I" } : Jvm.MethodName) ({ cls := "CandleStatute$Statute", name := "owes", desc := "(III)I" } : Jvm.MethodName)) ∈ lw_all := lw_g (lw_at lw_m4 23 rfl) rfl
theorem q822 : (Jvm.Cond.code ({ cls := "CandleStatute$Statute", name := "owes", desc := "(III)I" } : Jvm.MethodName) prog_11_method_13_code (5 : Nat) (Option.some Jvm.ClassFile.FieldType.int)) ∈ lw_all := lw_g (lw_at lw_m4 24 rfl) rfl
theorem q823 : (Jvm.Cond.methodLink "CandleStatute$Statute" (141 : Nat) ({ cls := "CandleStatute$Statute", name := "owedTo", desc := "(I)I" } : Jvm.MethodName)) ∈ lw_all := lw_g (lw_at lw_m4 25 rfl) rfl
theorem q824 : (Jvm.Cond.instanceMethod ({ cls := "CandleStatute$Statute", name := "owedTo", desc := "(I)I" } : Jvm.MethodName)) ∈ lw_all := lw_g (lw_at lw_m4 26 rfl) rfl
theorem q825 : (Jvm.Cond.selects "CandleStatute$Statute" ({ cls := "CandleStatute$Statute", name := "owedTo", desc := "(I)I" } : Jvm.MethodName) ({ cls := "CandleStatute$Statute", name := "owedTo", desc := "(I)I" } : Jvm.MethodName)) ∈ lw_all := lw_g (lw_at lw_m4 27 rfl) rfl
theorem q826 : (Jvm.Cond.code ({ cls := "CandleStatute$Statute", name := "owedTo", desc := "(I)I" } : Jvm.MethodName) prog_11_method_12_code (5 : Nat) (Option.some Jvm.ClassFile.FieldType.int)) ∈ lw_all := lw_g (lw_at lw_m4 28 rfl) rfl
theorem q835 : (Jvm.Cond.instanceMethod ({ cls := "CandleStatute$Statute", name := "snuffs", desc := "(III)I" } : Jvm.MethodName)) ∈ lw_all := lw_g (lw_at lw_m4 37 rfl) rfl
theorem q836 : (Jvm.Cond.selects "CandleStatute$Statute" ({ cls := "CandleStatute$Statute", name := "snuffs", desc := "(III)I" } : Jvm.MethodName) ({ cls := "CandleStatute$Statute", name := "snuffs", desc := "(III)I" } : Jvm.MethodName)) ∈ lw_all := lw_g (lw_at lw_m4 38 rfl) rfl
theorem q837 : (Jvm.Cond.code ({ cls := "CandleStatute$Statute", name := "snuffs", desc := "(III)I" } : Jvm.MethodName) prog_11_method_16_code (5 : Nat) (Option.some Jvm.ClassFile.FieldType.int)) ∈ lw_all := lw_g (lw_at lw_m4 39 rfl) rfl
theorem q838 : (Jvm.Cond.methodLink "CandleStatute$Statute" (146 : Nat) ({ cls := "CandleStatute$Statute", name := "writsOf", desc := "(I)I" } : Jvm.MethodName)) ∈ lw_all := lw_g (lw_at lw_m4 40 rfl) rfl
theorem q839 : (Jvm.Cond.privateMethod ({ cls := "CandleStatute$Statute", name := "writsOf", desc := "(I)I" } : Jvm.MethodName)) ∈ lw_tbl := lw_at lw_m4 41 rfl
theorem q840 : (Jvm.Cond.instanceMethod ({ cls := "CandleStatute$Statute", name := "writsOf", desc := "(I)I" } : Jvm.MethodName)) ∈ lw_all := lw_g (lw_at lw_m4 42 rfl) rfl
theorem q841 : (Jvm.Cond.code ({ cls := "CandleStatute$Statute", name := "writsOf", desc := "(I)I" } : Jvm.MethodName) prog_11_method_14_code (5 : Nat) (Option.some Jvm.ClassFile.FieldType.int)) ∈ lw_all := lw_g (lw_at lw_m4 43 rfl) rfl
theorem q842 : (Jvm.Cond.methodLink "CandleStatute$Statute" (149 : Nat) ({ cls := "CandleStatute$Statute", name := "writs", desc := "()I" } : Jvm.MethodName)) ∈ lw_all := lw_g (lw_at lw_m4 44 rfl) rfl
theorem q843 : (Jvm.Cond.instanceMethod ({ cls := "CandleStatute$Statute", name := "writs", desc := "()I" } : Jvm.MethodName)) ∈ lw_all := lw_g (lw_at lw_m4 45 rfl) rfl
theorem q844 : (Jvm.Cond.selects "CandleStatute$Statute" ({ cls := "CandleStatute$Statute", name := "writs", desc := "()I" } : Jvm.MethodName) ({ cls := "CandleStatute$Statute", name := "writs", desc := "()I" } : Jvm.MethodName)) ∈ lw_all := lw_g (lw_at lw_m4 46 rfl) rfl
theorem q845 : (Jvm.Cond.code ({ cls := "CandleStatute$Statute", name := "writs", desc := "()I" } : Jvm.MethodName) prog_11_method_15_code (4 : Nat) (Option.some Jvm.ClassFile.FieldType.int)) ∈ lw_all := lw_g (lw_at lw_m4 47 rfl) rfl
theorem q851 : (Jvm.Cond.instanceMethod ({ cls := "CandleStatute$Statute", name := "ofStub", desc := "(II)I" } : Jvm.MethodName)) ∈ lw_all := lw_g (lw_at lw_m4 53 rfl) rfl
theorem q852 : (Jvm.Cond.selects "CandleStatute$Statute" ({ cls := "CandleStatute$Statute", name := "ofStub", desc := "(II)I" } : Jvm.MethodName) ({ cls := "CandleStatute$Statute", name := "ofStub", desc := "(II)I" } : Jvm.MethodName)) ∈ lw_all := lw_g (lw_at lw_m4 54 rfl) rfl
theorem q853 : (Jvm.Cond.code ({ cls := "CandleStatute$Statute", name := "ofStub", desc := "(II)I" } : Jvm.MethodName) prog_11_method_38_code (4 : Nat) (Option.some Jvm.ClassFile.FieldType.int)) ∈ lw_all := lw_g (lw_at lw_m4 55 rfl) rfl
theorem q859 : (Jvm.Cond.instanceMethod ({ cls := "CandleStatute$Statute", name := "pools", desc := "(II)I" } : Jvm.MethodName)) ∈ lw_all := lw_g (lw_at lw_m4 61 rfl) rfl
theorem q860 : (Jvm.Cond.selects "CandleStatute$Statute" ({ cls := "CandleStatute$Statute", name := "pools", desc := "(II)I" } : Jvm.MethodName) ({ cls := "CandleStatute$Statute", name := "pools", desc := "(II)I" } : Jvm.MethodName)) ∈ lw_all := lw_g (lw_at lw_m4 62 rfl) rfl
theorem q861 : (Jvm.Cond.code ({ cls := "CandleStatute$Statute", name := "pools", desc := "(II)I" } : Jvm.MethodName) prog_11_method_19_code (4 : Nat) (Option.some Jvm.ClassFile.FieldType.int)) ∈ lw_all := lw_g (lw_at lw_m4 63 rfl) rfl
theorem q862 : (Jvm.Cond.methodLink "CandleStatute$Statute" (158 : Nat) ({ cls := "CandleStatute$Statute", name := "pool", desc := "()I" } : Jvm.MethodName)) ∈ lw_all := lw_g (lw_at lw_m4 64 rfl) rfl
theorem q863 : (Jvm.Cond.instanceMethod ({ cls := "CandleStatute$Statute", name := "pool", desc := "()I" } : Jvm.MethodName)) ∈ lw_all := lw_g (lw_at lw_m4 65 rfl) rfl
theorem q864 : (Jvm.Cond.selects "CandleStatute$Statute" ({ cls := "CandleStatute$Statute", name := "pool", desc := "()I" } : Jvm.MethodName) ({ cls := "CandleStatute$Statute", name := "pool", desc := "()I" } : Jvm.MethodName)) ∈ lw_all := lw_g (lw_at lw_m4 66 rfl) rfl
theorem q865 : (Jvm.Cond.code ({ cls := "CandleStatute$Statute", name := "pool", desc := "()I" } : Jvm.MethodName) prog_11_method_18_code (4 : Nat) (Option.some Jvm.ClassFile.FieldType.int)) ∈ lw_all := lw_g (lw_at lw_m4 67 rfl) rfl
theorem q871 : (Jvm.Cond.instanceMethod ({ cls := "CandleStatute$Statute", name := "shares", desc := "()I" } : Jvm.MethodName)) ∈ lw_all := lw_g (lw_at lw_m4 73 rfl) rfl
theorem q872 : (Jvm.Cond.selects "CandleStatute$Statute" ({ cls := "CandleStatute$Statute", name := "shares", desc := "()I" } : Jvm.MethodName) ({ cls := "CandleStatute$Statute", name := "shares", desc := "()I" } : Jvm.MethodName)) ∈ lw_all := lw_g (lw_at lw_m4 74 rfl) rfl
theorem q873 : (Jvm.Cond.code ({ cls := "CandleStatute$Statute", name := "shares", desc := "()I" } : Jvm.MethodName) prog_11_method_25_code (6 : Nat) (Option.some Jvm.ClassFile.FieldType.int)) ∈ lw_all := lw_g (lw_at lw_m4 75 rfl) rfl
theorem q874 : (Jvm.Cond.methodLink "CandleStatute$Statute" (171 : Nat) ({ cls := "CandleStatute$Row", name := "many", desc := "()I" } : Jvm.MethodName)) ∈ lw_all := lw_g (lw_at lw_m4 76 rfl) rfl
theorem q875 : (Jvm.Cond.methodLink "CandleStatute$Statute" (164 : Nat) ({ cls := "CandleStatute$Statute", name := "claims", desc := "()I" } : Jvm.MethodName)) ∈ lw_all := lw_g (lw_at lw_m4 77 rfl) rfl
theorem q876 : (Jvm.Cond.privateMethod ({ cls := "CandleStatute$Statute", name := "claims", desc := "()I" } : Jvm.MethodName)) ∈ lw_tbl := lw_at lw_m4 78 rfl
theorem q877 : (Jvm.Cond.instanceMethod ({ cls := "CandleStatute$Statute", name := "claims", desc := "()I" } : Jvm.MethodName)) ∈ lw_all := lw_g (lw_at lw_m4 79 rfl) rfl
theorem q878 : (Jvm.Cond.code ({ cls := "CandleStatute$Statute", name := "claims", desc := "()I" } : Jvm.MethodName) prog_11_method_21_code (3 : Nat) (Option.some Jvm.ClassFile.FieldType.int)) ∈ lw_all := lw_g (lw_at lw_m4 80 rfl) rfl
theorem q879 : (Jvm.Cond.methodLink "CandleStatute$Statute" (161 : Nat) ({ cls := "CandleStatute$Statute", name := "claim", desc := "(I)I" } : Jvm.MethodName)) ∈ lw_all := lw_g (lw_at lw_m4 81 rfl) rfl
theorem q880 : (Jvm.Cond.instanceMethod ({ cls := "CandleStatute$Statute", name := "claim", desc := "(I)I" } : Jvm.MethodName)) ∈ lw_all := lw_g (lw_at lw_m4 82 rfl) rfl
theorem q881 : (Jvm.Cond.selects "CandleStatute$Statute" ({ cls := "CandleStatute$Statute", name := "claim", desc := "(I)I" } : Jvm.MethodName) ({ cls := "CandleStatute$Statute", name := "claim", desc := "(I)I" } : Jvm.MethodName)) ∈ lw_all := lw_g (lw_at lw_m4 83 rfl) rfl
theorem q882 : (Jvm.Cond.code ({ cls := "CandleStatute$Statute", name := "claim", desc := "(I)I" } : Jvm.MethodName) prog_11_method_20_code (3 : Nat) (Option.some Jvm.ClassFile.FieldType.int)) ∈ lw_all := lw_g (lw_at lw_m4 84 rfl) rfl
theorem q883 : (Jvm.Cond.methodLink "CandleStatute$Statute" (174 : Nat) ({ cls := "CandleStatute$Statute", name := "parts", desc := "()[I" } : Jvm.MethodName)) ∈ lw_all := lw_g (lw_at lw_m4 85 rfl) rfl
theorem q884 : (Jvm.Cond.instanceMethod ({ cls := "CandleStatute$Statute", name := "parts", desc := "()[I" } : Jvm.MethodName)) ∈ lw_all := lw_g (lw_at lw_m4 86 rfl) rfl
theorem q885 : (Jvm.Cond.selects "CandleStatute$Statute" ({ cls := "CandleStatute$Statute", name := "parts", desc := "()[I" } : Jvm.MethodName) ({ cls := "CandleStatute$Statute", name := "parts", desc := "()[I" } : Jvm.MethodName)) ∈ lw_all := lw_g (lw_at lw_m4 87 rfl) rfl
theorem q886 : (Jvm.Cond.code ({ cls := "CandleStatute$Statute", name := "parts", desc := "()[I" } : Jvm.MethodName) prog_11_method_22_code (8 : Nat) (Option.some (Jvm.ClassFile.FieldType.array Jvm.ClassFile.FieldType.int))) ∈ lw_all := lw_g (lw_at lw_m4 88 rfl) rfl
theorem q887 : (Jvm.Cond.methodLink "CandleStatute$Statute" (167 : Nat) ({ cls := "CandleStatute$Statute", name := "remainder", desc := "(II)I" } : Jvm.MethodName)) ∈ lw_all := lw_g (lw_at lw_m4 89 rfl) rfl
theorem q888 : (Jvm.Cond.privateMethod ({ cls := "CandleStatute$Statute", name := "remainder", desc := "(II)I" } : Jvm.MethodName)) ∈ lw_tbl := lw_at lw_m4 90 rfl
theorem q889 : (Jvm.Cond.instanceMethod ({ cls := "CandleStatute$Statute", name := "remainder", desc := "(II)I" } : Jvm.MethodName)) ∈ lw_all := lw_g (lw_at lw_m4 91 rfl) rfl
theorem q890 : (Jvm.Cond.code ({ cls := "CandleStatute$Statute", name := "remainder", desc := "(II)I" } : Jvm.MethodName) prog_11_method_23_code (3 : Nat) (Option.some Jvm.ClassFile.FieldType.int)) ∈ lw_all := lw_g (lw_at lw_m4 92 rfl) rfl
theorem q902 : (Jvm.Cond.instanceMethod ({ cls := "CandleStatute$Statute", name := "partsAgain", desc := "()[I" } : Jvm.MethodName)) ∈ lw_all := lw_g (lw_at lw_m4 104 rfl) rfl
theorem q903 : (Jvm.Cond.selects "CandleStatute$Statute" ({ cls := "CandleStatute$Statute", name := "partsAgain", desc := "()[I" } : Jvm.MethodName) ({ cls := "CandleStatute$Statute", name := "partsAgain", desc := "()[I" } : Jvm.MethodName)) ∈ lw_all := lw_g (lw_at lw_m4 105 rfl) rfl
theorem q904 : (Jvm.Cond.code ({ cls := "CandleStatute$Statute", name := "partsAgain", desc := "()[I" } : Jvm.MethodName) prog_11_method_24_code (8 : Nat) (Option.some (Jvm.ClassFile.FieldType.array Jvm.ClassFile.FieldType.int))) ∈ lw_all := lw_g (lw_at lw_m4 106 rfl) rfl
theorem q910 : (Jvm.Cond.instanceMethod ({ cls := "CandleStatute$Statute", name := "moulds", desc := "(LCandleStatute$Stub;)I" } : Jvm.MethodName)) ∈ lw_all := lw_g (lw_at lw_m4 112 rfl) rfl
theorem q911 : (Jvm.Cond.selects "CandleStatute$Statute" ({ cls := "CandleStatute$Statute", name := "moulds", desc := "(LCandleStatute$Stub;)I" } : Jvm.MethodName) ({ cls := "CandleStatute$Statute", name := "moulds", desc := "(LCandleStatute$Stub;)I" } : Jvm.MethodName)) ∈ lw_all := lw_g (lw_at lw_m4 113 rfl) rfl
theorem q912 : (Jvm.Cond.code ({ cls := "CandleStatute$Statute", name := "moulds", desc := "(LCandleStatute$Stub;)I" } : Jvm.MethodName) prog_11_method_26_code (3 : Nat) (Option.some Jvm.ClassFile.FieldType.int)) ∈ lw_all := lw_g (lw_at lw_m4 114 rfl) rfl
theorem q918 : (Jvm.Cond.instanceMethod ({ cls := "CandleStatute$Statute", name := "tellsHeir", desc := "(II)I" } : Jvm.MethodName)) ∈ lw_all := lw_g (lw_at lw_m4 120 rfl) rfl
theorem q919 : (Jvm.Cond.selects "CandleStatute$Statute" ({ cls := "CandleStatute$Statute", name := "tellsHeir", desc := "(II)I" } : Jvm.MethodName) ({ cls := "CandleStatute$Statute", name := "tellsHeir", desc := "(II)I" } : Jvm.MethodName)) ∈ lw_all := lw_g (lw_at lw_m4 121 rfl) rfl
theorem q920 : (Jvm.Cond.code ({ cls := "CandleStatute$Statute", name := "tellsHeir", desc := "(II)I" } : Jvm.MethodName) prog_11_method_27_code (5 : Nat) (Option.some Jvm.ClassFile.FieldType.int)) ∈ lw_all := lw_g (lw_at lw_m4 122 rfl) rfl
theorem q926 : (Jvm.Cond.instanceMethod ({ cls := "CandleStatute$Statute", name := "ends", desc := "(I)I" } : Jvm.MethodName)) ∈ lw_all := lw_g (lw_at lw_m4 128 rfl) rfl
theorem q927 : (Jvm.Cond.selects "CandleStatute$Statute" ({ cls := "CandleStatute$Statute", name := "ends", desc := "(I)I" } : Jvm.MethodName) ({ cls := "CandleStatute$Statute", name := "ends", desc := "(I)I" } : Jvm.MethodName)) ∈ lw_all := lw_g (lw_at lw_m4 129 rfl) rfl
theorem q928 : (Jvm.Cond.code ({ cls := "CandleStatute$Statute", name := "ends", desc := "(I)I" } : Jvm.MethodName) prog_11_method_32_code (6 : Nat) (Option.some Jvm.ClassFile.FieldType.int)) ∈ lw_all := lw_g (lw_at lw_m4 130 rfl) rfl
theorem q929 : (Jvm.Cond.methodLink "CandleStatute$Statute" (187 : Nat) ({ cls := "CandleStatute$Statute", name := "openMany", desc := "()I" } : Jvm.MethodName)) ∈ lw_all := lw_g (lw_at lw_m4 131 rfl) rfl
theorem q930 : (Jvm.Cond.instanceMethod ({ cls := "CandleStatute$Statute", name := "openMany", desc := "()I" } : Jvm.MethodName)) ∈ lw_all := lw_g (lw_at lw_m4 132 rfl) rfl
theorem q931 : (Jvm.Cond.selects "CandleStatute$Statute" ({ cls := "CandleStatute$Statute", name := "openMany", desc := "()I" } : Jvm.MethodName) ({ cls := "CandleStatute$Statute", name := "openMany", desc := "()I" } : Jvm.MethodName)) ∈ lw_all := lw_g (lw_at lw_m4 133 rfl) rfl
theorem q932 : (Jvm.Cond.code ({ cls := "CandleStatute$Statute", name := "openMany", desc := "()I" } : Jvm.MethodName) prog_11_method_28_code (4 : Nat) (Option.some Jvm.ClassFile.FieldType.int)) ∈ lw_all := lw_g (lw_at lw_m4 134 rfl) rfl
theorem q933 : (Jvm.Cond.methodLink "CandleStatute$Statute" (190 : Nat) ({ cls := "CandleStatute$Statute", name := "inForce", desc := "(I)I" } : Jvm.MethodName)) ∈ lw_all := lw_g (lw_at lw_m4 135 rfl) rfl
theorem q934 : (Jvm.Cond.privateMethod ({ cls := "CandleStatute$Statute", name := "inForce", desc := "(I)I" } : Jvm.MethodName)) ∈ lw_tbl := lw_at lw_m4 136 rfl
theorem q935 : (Jvm.Cond.instanceMethod ({ cls := "CandleStatute$Statute", name := "inForce", desc := "(I)I" } : Jvm.MethodName)) ∈ lw_all := lw_g (lw_at lw_m4 137 rfl) rfl
theorem q936 : (Jvm.Cond.code ({ cls := "CandleStatute$Statute", name := "inForce", desc := "(I)I" } : Jvm.MethodName) prog_11_method_29_code (4 : Nat) (Option.some Jvm.ClassFile.FieldType.int)) ∈ lw_all := lw_g (lw_at lw_m4 138 rfl) rfl
theorem q937 : (Jvm.Cond.methodLink "CandleStatute$Statute" (184 : Nat) ({ cls := "CandleStatute$Statute", name := "lowestBesides", desc := "(I)I" } : Jvm.MethodName)) ∈ lw_all := lw_g (lw_at lw_m4 139 rfl) rfl
theorem q938 : (Jvm.Cond.privateMethod ({ cls := "CandleStatute$Statute", name := "lowestBesides", desc := "(I)I" } : Jvm.MethodName)) ∈ lw_tbl := lw_at lw_m4 140 rfl
theorem q939 : (Jvm.Cond.instanceMethod ({ cls := "CandleStatute$Statute", name := "lowestBesides", desc := "(I)I" } : Jvm.MethodName)) ∈ lw_all := lw_g (lw_at lw_m4 141 rfl) rfl
theorem q940 : (Jvm.Cond.code ({ cls := "CandleStatute$Statute", name := "lowestBesides", desc := "(I)I" } : Jvm.MethodName) prog_11_method_30_code (3 : Nat) (Option.some Jvm.ClassFile.FieldType.int)) ∈ lw_all := lw_g (lw_at lw_m4 142 rfl) rfl
theorem q941 : (Jvm.Cond.methodLink "CandleStatute$Statute" (193 : Nat) ({ cls := "CandleStatute$Statute", name := "leaves", desc := "(LCandleStatute$Stub;II)V" } : Jvm.MethodName)) ∈ lw_all := lw_g (lw_at lw_m4 143 rfl) rfl
theorem q942 : (Jvm.Cond.privateMethod ({ cls := "CandleStatute$Statute", name := "leaves", desc := "(LCandleStatute$Stub;II)V" } : Jvm.MethodName)) ∈ lw_tbl := lw_at lw_m4 144 rfl
theorem q943 : (Jvm.Cond.instanceMethod ({ cls := "CandleStatute$Statute", name := "leaves", desc := "(LCandleStatute$Stub;II)V" } : Jvm.MethodName)) ∈ lw_all := lw_g (lw_at lw_m4 145 rfl) rfl
theorem q944 : (Jvm.Cond.code ({ cls := "CandleStatute$Statute", name := "leaves", desc := "(LCandleStatute$Stub;II)V" } : Jvm.MethodName) prog_11_method_33_code (4 : Nat) (Option.none : Option Jvm.ClassFile.FieldType)) ∈ lw_all := lw_g (lw_at lw_m4 146 rfl) rfl
theorem q945 : (Jvm.Cond.methodLink "CandleStatute$Statute" (200 : Nat) ({ cls := "CandleStatute$Stub", name := "frees", desc := "()V" } : Jvm.MethodName)) ∈ lw_all := lw_g (lw_at lw_m4 147 rfl) rfl
theorem q949 : (Jvm.Cond.methodLink "CandleStatute$Statute" (203 : Nat) ({ cls := "CandleStatute$Stub", name := "forgives", desc := "()V" } : Jvm.MethodName)) ∈ lw_all := lw_g (lw_at lw_m4 151 rfl) rfl
theorem q953 : (Jvm.Cond.methodLink "CandleStatute$Statute" (197 : Nat) ({ cls := "CandleStatute$Statute", name := "inherits", desc := "(II)V" } : Jvm.MethodName)) ∈ lw_all := lw_g (lw_at lw_m4 155 rfl) rfl
theorem q954 : (Jvm.Cond.privateMethod ({ cls := "CandleStatute$Statute", name := "inherits", desc := "(II)V" } : Jvm.MethodName)) ∈ lw_tbl := lw_at lw_m4 156 rfl
theorem q955 : (Jvm.Cond.instanceMethod ({ cls := "CandleStatute$Statute", name := "inherits", desc := "(II)V" } : Jvm.MethodName)) ∈ lw_all := lw_g (lw_at lw_m4 157 rfl) rfl
theorem q956 : (Jvm.Cond.code ({ cls := "CandleStatute$Statute", name := "inherits", desc := "(II)V" } : Jvm.MethodName) prog_11_method_34_code (7 : Nat) (Option.none : Option Jvm.ClassFile.FieldType)) ∈ lw_all := lw_g (lw_at lw_m4 158 rfl) rfl
theorem q957 : (Jvm.Cond.methodLink "CandleStatute$Statute" (206 : Nat) ({ cls := "CandleStatute$Stub", name := "comesTo", desc := "(I)V" } : Jvm.MethodName)) ∈ lw_all := lw_g (lw_at lw_m4 159 rfl) rfl
theorem q968 : (Jvm.Cond.instanceMethod ({ cls := "CandleStatute$Statute", name := "passes", desc := "(I)I" } : Jvm.MethodName)) ∈ lw_all := lw_g (lw_at lw_m4 170 rfl) rfl
theorem q969 : (Jvm.Cond.selects "CandleStatute$Statute" ({ cls := "CandleStatute$Statute", name := "passes", desc := "(I)I" } : Jvm.MethodName) ({ cls := "CandleStatute$Statute", name := "passes", desc := "(I)I" } : Jvm.MethodName)) ∈ lw_all := lw_g (lw_at lw_m4 171 rfl) rfl
theorem q970 : (Jvm.Cond.code ({ cls := "CandleStatute$Statute", name := "passes", desc := "(I)I" } : Jvm.MethodName) prog_11_method_17_code (6 : Nat) (Option.some Jvm.ClassFile.FieldType.int)) ∈ lw_all := lw_g (lw_at lw_m4 172 rfl) rfl
theorem q971 : (Jvm.Cond.methodLink "CandleStatute$Statute" (152 : Nat) ({ cls := "CandleStatute$Stub", name := "passes", desc := "()I" } : Jvm.MethodName)) ∈ lw_all := lw_g (lw_at lw_m4 173 rfl) rfl
theorem q980 : (Jvm.Cond.instanceMethod ({ cls := "CandleStatute$Statute", name := "ofHouse", desc := "(II)I" } : Jvm.MethodName)) ∈ lw_all := lw_g (lw_at lw_m4 182 rfl) rfl
theorem q981 : (Jvm.Cond.selects "CandleStatute$Statute" ({ cls := "CandleStatute$Statute", name := "ofHouse", desc := "(II)I" } : Jvm.MethodName) ({ cls := "CandleStatute$Statute", name := "ofHouse", desc := "(II)I" } : Jvm.MethodName)) ∈ lw_all := lw_g (lw_at lw_m4 183 rfl) rfl
theorem q982 : (Jvm.Cond.code ({ cls := "CandleStatute$Statute", name := "ofHouse", desc := "(II)I" } : Jvm.MethodName) prog_11_method_39_code (4 : Nat) (Option.some Jvm.ClassFile.FieldType.int)) ∈ lw_all := lw_g (lw_at lw_m4 184 rfl) rfl
theorem q983 : (Jvm.Cond.methodLink "CandleStatute$Statute" (217 : Nat) ({ cls := "CandleStatute$Statute", name := "stubsOf", desc := "(I)I" } : Jvm.MethodName)) ∈ lw_all := lw_g (lw_at lw_m4 185 rfl) rfl
theorem q984 : (Jvm.Cond.privateMethod ({ cls := "CandleStatute$Statute", name := "stubsOf", desc := "(I)I" } : Jvm.MethodName)) ∈ lw_tbl := lw_at lw_m4 186 rfl
theorem q985 : (Jvm.Cond.instanceMethod ({ cls := "CandleStatute$Statute", name := "stubsOf", desc := "(I)I" } : Jvm.MethodName)) ∈ lw_all := lw_g (lw_at lw_m4 187 rfl) rfl
theorem q986 : (Jvm.Cond.code ({ cls := "CandleStatute$Statute", name := "stubsOf", desc := "(I)I" } : Jvm.MethodName) prog_11_method_36_code (5 : Nat) (Option.some Jvm.ClassFile.FieldType.int)) ∈ lw_all := lw_g (lw_at lw_m4 188 rfl) rfl
theorem q987 : (Jvm.Cond.methodLink "CandleStatute$Statute" (220 : Nat) ({ cls := "CandleStatute$Statute", name := "owedBy", desc := "(I)I" } : Jvm.MethodName)) ∈ lw_all := lw_g (lw_at lw_m4 189 rfl) rfl
theorem q988 : (Jvm.Cond.privateMethod ({ cls := "CandleStatute$Statute", name := "owedBy", desc := "(I)I" } : Jvm.MethodName)) ∈ lw_tbl := lw_at lw_m4 190 rfl
theorem q989 : (Jvm.Cond.instanceMethod ({ cls := "CandleStatute$Statute", name := "owedBy", desc := "(I)I" } : Jvm.MethodName)) ∈ lw_all := lw_g (lw_at lw_m4 191 rfl) rfl
theorem q990 : (Jvm.Cond.code ({ cls := "CandleStatute$Statute", name := "owedBy", desc := "(I)I" } : Jvm.MethodName) prog_11_method_37_code (5 : Nat) (Option.some Jvm.ClassFile.FieldType.int)) ∈ lw_all := lw_g (lw_at lw_m4 192 rfl) rfl
theorem q996 : (Jvm.Cond.instanceMethod ({ cls := "CandleStatute$Statute", name := "inherits", desc := "(I)I" } : Jvm.MethodName)) ∈ lw_all := lw_g (lw_at lw_m4 198 rfl) rfl
theorem q997 : (Jvm.Cond.selects "CandleStatute$Statute" ({ cls := "CandleStatute$Statute", name := "inherits", desc := "(I)I" } : Jvm.MethodName) ({ cls := "CandleStatute$Statute", name := "inherits", desc := "(I)I" } : Jvm.MethodName)) ∈ lw_all := lw_g (lw_at lw_m4 199 rfl) rfl
theorem q998 : (Jvm.Cond.code ({ cls := "CandleStatute$Statute", name := "inherits", desc := "(I)I" } : Jvm.MethodName) prog_11_method_31_code (2 : Nat) (Option.some Jvm.ClassFile.FieldType.int)) ∈ lw_all := lw_g (lw_at lw_m4 200 rfl) rfl
theorem q1004 : (Jvm.Cond.instanceMethod ({ cls := "CandleStatute$Statute", name := "wouldMelt", desc := "(I)I" } : Jvm.MethodName)) ∈ lw_all := lw_g (lw_at lw_m4 206 rfl) rfl
theorem q1005 : (Jvm.Cond.selects "CandleStatute$Statute" ({ cls := "CandleStatute$Statute", name := "wouldMelt", desc := "(I)I" } : Jvm.MethodName) ({ cls := "CandleStatute$Statute", name := "wouldMelt", desc := "(I)I" } : Jvm.MethodName)) ∈ lw_all := lw_g (lw_at lw_m4 207 rfl) rfl
theorem q1006 : (Jvm.Cond.codeWith ({ cls := "CandleStatute$Statute", name := "wouldMelt", desc := "(I)I" } : Jvm.MethodName) prog_11_method_35_code (5 : Nat) (Option.some Jvm.ClassFile.FieldType.int) [((28 : Nat), (53 : Nat), (54 : Nat), (117 : Nat))]) ∈ lw_all := lw_g (lw_at lw_m4 208 rfl) rfl
theorem q1007 : (Jvm.Cond.methodLink "CandleStatute$Statute" (209 : Nat) ({ cls := "CandleStatute$Statute", name := "inherits", desc := "(I)I" } : Jvm.MethodName)) ∈ lw_all := lw_g (lw_at lw_m4 209 rfl) rfl
theorem q1008 : (Jvm.Cond.methodLink "CandleStatute$Statute" (211 : Nat) ({ cls := "CandleStatute$Statute", name := "copy", desc := "()LCandleStatute$Statute;" } : Jvm.MethodName)) ∈ lw_all := lw_g (lw_at lw_m4 210 rfl) rfl
theorem q1009 : (Jvm.Cond.methodLink "CandleStatute$Statute" (214 : Nat) ({ cls := "CandleStatute$Statute", name := "ends", desc := "(I)I" } : Jvm.MethodName)) ∈ lw_all := lw_g (lw_at lw_m4 211 rfl) rfl
theorem q1020 : (Jvm.Cond.instanceMethod ({ cls := "CandleStatute$Statute", name := "weightAgain", desc := "(I)I" } : Jvm.MethodName)) ∈ lw_all := lw_g (lw_at lw_m4 222 rfl) rfl
theorem q1021 : (Jvm.Cond.selects "CandleStatute$Statute" ({ cls := "CandleStatute$Statute", name := "weightAgain", desc := "(I)I" } : Jvm.MethodName) ({ cls := "CandleStatute$Statute", name := "weightAgain", desc := "(I)I" } : Jvm.MethodName)) ∈ lw_all := lw_g (lw_at lw_m4 223 rfl) rfl
theorem q1022 : (Jvm.Cond.code ({ cls := "CandleStatute$Statute", name := "weightAgain", desc := "(I)I" } : Jvm.MethodName) prog_11_method_6_code (5 : Nat) (Option.some Jvm.ClassFile.FieldType.int)) ∈ lw_all := lw_g (lw_at lw_m4 224 rfl) rfl
theorem q1028 : (Jvm.Cond.instanceMethod ({ cls := "CandleStatute$Statute", name := "rankedHouse", desc := "(I)I" } : Jvm.MethodName)) ∈ lw_all := lw_g (lw_at lw_m4 230 rfl) rfl
theorem q1029 : (Jvm.Cond.selects "CandleStatute$Statute" ({ cls := "CandleStatute$Statute", name := "rankedHouse", desc := "(I)I" } : Jvm.MethodName) ({ cls := "CandleStatute$Statute", name := "rankedHouse", desc := "(I)I" } : Jvm.MethodName)) ∈ lw_all := lw_g (lw_at lw_m4 231 rfl) rfl
theorem q1030 : (Jvm.Cond.code ({ cls := "CandleStatute$Statute", name := "rankedHouse", desc := "(I)I" } : Jvm.MethodName) prog_11_method_40_code (5 : Nat) (Option.some Jvm.ClassFile.FieldType.int)) ∈ lw_all := lw_g (lw_at lw_m4 232 rfl) rfl
theorem q1031 : (Jvm.Cond.classLink "CandleStatute$Statute" (223 : Nat) "CandleStatute$Claim") ∈ lw_all := lw_g (lw_at lw_m4 233 rfl) rfl
theorem q1032 : (Jvm.Cond.methodLink "CandleStatute$Statute" (225 : Nat) ({ cls := "CandleStatute$Claim", name := "<init>", desc := "(II)V" } : Jvm.MethodName)) ∈ lw_all := lw_g (lw_at lw_m4 234 rfl) rfl
theorem q1033 : (Jvm.Cond.methodLinkNest "CandleStatute$Statute" (227 : Nat) ({ cls := "CandleStatute", name := "ranked", desc := "(LCandleStatute$Row;I)I" } : Jvm.MethodName) "CandleStatute") ∈ lw_tbl := lw_at lw_m4 235 rfl
theorem q1539 : (Jvm.Cond.instanceMethod ({ cls := "CandleStatute$Statute", name := "houseText", desc := "()Ljava/lang/String;" } : Jvm.MethodName)) ∈ lw_all := lw_g (lw_at lw_m7 21 rfl) rfl
theorem q1540 : (Jvm.Cond.selects "CandleStatute$Statute" ({ cls := "CandleStatute$Statute", name := "houseText", desc := "()Ljava/lang/String;" } : Jvm.MethodName) ({ cls := "CandleStatute$Statute", name := "houseText", desc := "()Ljava/lang/String;" } : Jvm.MethodName)) ∈ lw_all := lw_g (lw_at lw_m7 22 rfl) rfl
theorem q1541 : (Jvm.Cond.code ({ cls := "CandleStatute$Statute", name := "houseText", desc := "()Ljava/lang/String;" } : Jvm.MethodName) prog_11_method_46_code (4 : Nat) (Option.some (Jvm.ClassFile.FieldType.object "java/lang/String"))) ∈ lw_all := lw_g (lw_at lw_m7 23 rfl) rfl
theorem q1542 : (Jvm.Cond.classLink "CandleStatute$Statute" (245 : Nat) "java/lang/StringBuilder") ∈ lw_all := lw_g (lw_at lw_m7 24 rfl) rfl
theorem q1543 : (Jvm.Cond.methodLink "CandleStatute$Statute" (247 : Nat) ({ cls := "java/lang/StringBuilder", name := "<init>", desc := "()V" } : Jvm.MethodName)) ∈ lw_all := lw_g (lw_at lw_m7 25 rfl) rfl
theorem q1544 : (Jvm.Cond.methodLink "CandleStatute$Statute" (248 : Nat) ({ cls := "java/lang/StringBuilder", name := "length", desc := "()I" } : Jvm.MethodName)) ∈ lw_all := lw_g (lw_at lw_m7 26 rfl) rfl
theorem q1545 : (Jvm.Cond.stringRef "CandleStatute$Statute" (251 : Nat) "") ∈ lw_tbl := lw_at lw_m7 27 rfl
theorem q1546 : (Jvm.Cond.stringRef "CandleStatute$Statute" (253 : Nat) " ") ∈ lw_tbl := lw_at lw_m7 28 rfl
theorem q1547 : (Jvm.Cond.methodLink "CandleStatute$Statute" (255 : Nat) ({ cls := "java/lang/StringBuilder", name := "append", desc := "(Ljava/lang/String;)Ljava/lang/StringBuilder;" } : Jvm.MethodName)) ∈ lw_all := lw_g (lw_at lw_m7 29 rfl) rfl
theorem q1548 : (Jvm.Cond.methodLink "CandleStatute$Statute" (259 : Nat) ({ cls := "CandleStatute$House", name := "text", desc := "()Ljava/lang/String;" } : Jvm.MethodName)) ∈ lw_all := lw_g (lw_at lw_m7 30 rfl) rfl
theorem q1560 : (Jvm.Cond.methodLink "CandleStatute$Statute" (263 : Nat) ({ cls := "java/lang/StringBuilder", name := "toString", desc := "()Ljava/lang/String;" } : Jvm.MethodName)) ∈ lw_all := lw_g (lw_at lw_m7 42 rfl) rfl
theorem q1591 : (Jvm.Cond.instanceMethod ({ cls := "CandleStatute$Statute", name := "wax", desc := "()I" } : Jvm.MethodName)) ∈ lw_all := lw_g (lw_at lw_m7 73 rfl) rfl
theorem q1592 : (Jvm.Cond.selects "CandleStatute$Statute" ({ cls := "CandleStatute$Statute", name := "wax", desc := "()I" } : Jvm.MethodName) ({ cls := "CandleStatute$Statute", name := "wax", desc := "()I" } : Jvm.MethodName)) ∈ lw_all := lw_g (lw_at lw_m7 74 rfl) rfl
theorem q1593 : (Jvm.Cond.code ({ cls := "CandleStatute$Statute", name := "wax", desc := "()I" } : Jvm.MethodName) prog_11_method_41_code (4 : Nat) (Option.some Jvm.ClassFile.FieldType.int)) ∈ lw_all := lw_g (lw_at lw_m7 75 rfl) rfl
theorem q1595 : (Jvm.Cond.instanceMethod ({ cls := "CandleStatute$Statute", name := "stores", desc := "()I" } : Jvm.MethodName)) ∈ lw_all := lw_g (lw_at lw_m7 77 rfl) rfl
theorem q1596 : (Jvm.Cond.selects "CandleStatute$Statute" ({ cls := "CandleStatute$Statute", name := "stores", desc := "()I" } : Jvm.MethodName) ({ cls := "CandleStatute$Statute", name := "stores", desc := "()I" } : Jvm.MethodName)) ∈ lw_all := lw_g (lw_at lw_m7 78 rfl) rfl
theorem q1597 : (Jvm.Cond.code ({ cls := "CandleStatute$Statute", name := "stores", desc := "()I" } : Jvm.MethodName) prog_11_method_42_code (4 : Nat) (Option.some Jvm.ClassFile.FieldType.int)) ∈ lw_all := lw_g (lw_at lw_m7 79 rfl) rfl
theorem q1600 : (Jvm.Cond.instanceMethod ({ cls := "CandleStatute$Statute", name := "owed", desc := "()I" } : Jvm.MethodName)) ∈ lw_all := lw_g (lw_at lw_m7 82 rfl) rfl
theorem q1601 : (Jvm.Cond.selects "CandleStatute$Statute" ({ cls := "CandleStatute$Statute", name := "owed", desc := "()I" } : Jvm.MethodName) ({ cls := "CandleStatute$Statute", name := "owed", desc := "()I" } : Jvm.MethodName)) ∈ lw_all := lw_g (lw_at lw_m7 83 rfl) rfl
theorem q1602 : (Jvm.Cond.code ({ cls := "CandleStatute$Statute", name := "owed", desc := "()I" } : Jvm.MethodName) prog_11_method_43_code (4 : Nat) (Option.some Jvm.ClassFile.FieldType.int)) ∈ lw_all := lw_g (lw_at lw_m7 84 rfl) rfl
theorem q1608 : (Jvm.Cond.instanceMethod ({ cls := "CandleStatute$Statute", name := "isBalanced", desc := "()Z" } : Jvm.MethodName)) ∈ lw_all := lw_g (lw_at lw_m7 90 rfl) rfl
theorem q1609 : (Jvm.Cond.selects "CandleStatute$Statute" ({ cls := "CandleStatute$Statute", name := "isBalanced", desc := "()Z" } : Jvm.MethodName) ({ cls := "CandleStatute$Statute", name := "isBalanced", desc := "()Z" } : Jvm.MethodName)) ∈ lw_all := lw_g (lw_at lw_m7 91 rfl) rfl
theorem q1610 : (Jvm.Cond.code ({ cls := "CandleStatute$Statute", name := "isBalanced", desc := "()Z" } : Jvm.MethodName) prog_11_method_45_code (3 : Nat) (Option.some Jvm.ClassFile.FieldType.boolean)) ∈ lw_all := lw_g (lw_at lw_m7 92 rfl) rfl
theorem q1611 : (Jvm.Cond.methodLink "CandleStatute$Statute" (234 : Nat) ({ cls := "CandleStatute$Statute", name := "wax", desc := "()I" } : Jvm.MethodName)) ∈ lw_all := lw_g (lw_at lw_m7 93 rfl) rfl
theorem q1612 : (Jvm.Cond.methodLink "CandleStatute$Statute" (236 : Nat) ({ cls := "CandleStatute$Statute", name := "stores", desc := "()I" } : Jvm.MethodName)) ∈ lw_all := lw_g (lw_at lw_m7 94 rfl) rfl
theorem q1613 : (Jvm.Cond.methodLink "CandleStatute$Statute" (239 : Nat) ({ cls := "CandleStatute$Statute", name := "areParts", desc := "()Z" } : Jvm.MethodName)) ∈ lw_all := lw_g (lw_at lw_m7 95 rfl) rfl
theorem q1614 : (Jvm.Cond.privateMethod ({ cls := "CandleStatute$Statute", name := "areParts", desc := "()Z" } : Jvm.MethodName)) ∈ lw_tbl := lw_at lw_m7 96 rfl
theorem q1615 : (Jvm.Cond.instanceMethod ({ cls := "CandleStatute$Statute", name := "areParts", desc := "()Z" } : Jvm.MethodName)) ∈ lw_all := lw_g (lw_at lw_m7 97 rfl) rfl
theorem q1616 : (Jvm.Cond.code ({ cls := "CandleStatute$Statute", name := "areParts", desc := "()Z" } : Jvm.MethodName) prog_11_method_44_code (6 : Nat) (Option.some Jvm.ClassFile.FieldType.boolean)) ∈ lw_all := lw_g (lw_at lw_m7 98 rfl) rfl
theorem q1617 : (Jvm.Cond.methodLink "CandleStatute$Statute" (231 : Nat) ({ cls := "CandleStatute$Statute", name := "partsAgain", desc := "()[I" } : Jvm.MethodName)) ∈ lw_all := lw_g (lw_at lw_m7 99 rfl) rfl
theorem q1618 : (Jvm.Cond.methodLink "CandleStatute$Statute" (242 : Nat) ({ cls := "CandleStatute$Statute", name := "weightAgain", desc := "(I)I" } : Jvm.MethodName)) ∈ lw_all := lw_g (lw_at lw_m7 100 rfl) rfl
theorem q2088 : (Jvm.Cond.castable "CandleStatute$Statute" "java/lang/Object") ∈ lw_tbl := lw_at lw_m9 90 rfl
theorem in_X1 : ∀ w ∈ wsX10, w ∈ lw_all := lw_in wsX10 [192, 194, 196, 198, 200, 202, 204] (by decide +kernel) (by decide +kernel)

