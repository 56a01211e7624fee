/-! DECODE ROWS BY BYTES: one lemma an opcode; a method's code is cut into short pieces once, and a row reads its own piece alone. -/
set_option maxRecDepth 100000
/-- the code has just these bytes from pc on -/
def DkAt (code : ByteArray) (pc : Nat) (bs : List UInt8) : Prop := ∀ (j : Nat) (b : UInt8), bs[j]? = some b → code.data.toList[pc + j]? = some b
/-- the piece W has the bytes bs from its place j on -/
def dkIn (W : List UInt8) (j : Nat) (bs : List UInt8) : Bool := decide ((W.drop j).take bs.length = bs)
theorem dk_seg {l W T : List UInt8} {o o2 : Nat} (h : l.drop o = W ++ T) (n : Nat) (hn : W.length = n) (ho : o + n = o2) : l.drop o2 = T := by
  subst ho
  rw [← List.drop_drop, h, List.drop_left' hn]
theorem dk_at {code : ByteArray} {W T bs : List UInt8} {o pc : Nat} (h : code.data.toList.drop o = W ++ T) (j : Nat) (hp : o + j = pc) (hw : dkIn W j bs = true) : DkAt code pc bs := by
  subst hp
  intro i b e
  have h1 := of_decide_eq_true hw
  have h2 : i < bs.length := (List.getElem?_eq_some_iff.mp e).1
  have h3 : W[j + i]? = some b := by
    rw [← h1, List.getElem?_take, if_pos h2, List.getElem?_drop] at e
    exact e
  have h4 : j + i < W.length := (List.getElem?_eq_some_iff.mp h3).1
  have h5 : (code.data.toList.drop o)[j + i]? = some b := by
    rw [h, List.getElem?_append_left h4]
    exact h3
  rw [List.getElem?_drop, ← Nat.add_assoc] at h5
  exact h5
theorem dk_u1 {A : ByteArray} {p : Nat} {b : UInt8} (h : A.data.toList[p]? = some b) : (Reader.u1 : Reader DecodeError Nat) A p = .ok (b.toNat, p + 1) := by
  obtain ⟨h1, h2⟩ := List.getElem?_eq_some_iff.mp h
  have h3 : p < A.size := by simpa using h1
  have h4 : A[p]'h3 = b := h2
  have e : (Reader.u1 : Reader DecodeError Nat) A p = (if h : p < A.size then .ok (A[p].toNat, p + 1) else .error (HasTruncated.truncated p)) := by
    show (do if h : p < A.size then do set (p + 1); Pure.pure A[p].toNat else MonadExcept.throw (HasTruncated.truncated p) : Reader DecodeError Nat) A p = _
    by_cases hi : p < A.size
    · rw [dif_pos hi, dif_pos hi]; rfl
    · rw [dif_neg hi, dif_neg hi]; rfl
  rw [e, dif_pos h3, h4]
theorem dk_bind {α β : Type} {r : Reader DecodeError α} {f : α → Reader DecodeError β} {A : ByteArray} {p s : Nat} {a : α} (h : r A p = .ok (a, s)) : (r >>= f) A p = f a A s := by
  show (do let (a, s) ← r A p; f a A s : Except DecodeError (β × Nat)) = _
  rw [h]
  rfl
theorem dk_map {α β : Type} {r : Reader DecodeError α} {g : α → β} {A : ByteArray} {p s : Nat} {a : α} (h : r A p = .ok (a, s)) : (g <$> r) A p = .ok (g a, s) := by
  show (do let (a, s) ← r A p; .ok (g a, s) : Except DecodeError (β × Nat)) = _
  rw [h]
  rfl
theorem dk_u2 {A : ByteArray} {p : Nat} {a b : UInt8} (h : A.data.toList[p]? = some a) (h2 : A.data.toList[p + 1]? = some b) : (Reader.u2 : Reader DecodeError Nat) A p = .ok (a.toNat * 256 + b.toNat, p + 2) := by
  show (Reader.u1 >>= fun hi => Reader.u1 >>= fun lo => Pure.pure (hi * 256 + lo) : Reader DecodeError Nat) A p = _
  rw [dk_bind (dk_u1 h), dk_bind (dk_u1 h2)]
  rfl
theorem dk_of {code : ByteArray} {pc n : Nat} {i : Instr} (h : Decoder.instr pc code pc = .ok (i, pc + n)) : decode code pc = .ok (i, n) := by
  have e : decode code pc = (match Decoder.instr pc code pc with | .error x => .error x | .ok (j, s) => .ok (j, s - pc)) := by
    show (do let (j, s) ← Decoder.instr pc code pc; Pure.pure (j, s - pc) : Except DecodeError (Instr × Nat)) = _
    cases Decoder.instr pc code pc <;> rfl
  rw [e, h]
  show Except.ok (i, pc + n - pc) = _
  rw [Nat.add_sub_cancel_left]
theorem dk_1 {code : ByteArray} {pc : Nat} (h : DkAt code pc [1]) : decode code pc = .ok (.aconst_null, 1) := dk_of ((dk_bind (dk_u1 (h 0 _ rfl))).trans rfl)
theorem dk_2 {code : ByteArray} {pc : Nat} (h : DkAt code pc [2]) : decode code pc = .ok (.iconst (-1), 1) := dk_of ((dk_bind (dk_u1 (h 0 _ rfl))).trans rfl)
theorem dk_3 {code : ByteArray} {pc : Nat} (h : DkAt code pc [3]) : decode code pc = .ok (.iconst 0, 1) := dk_of ((dk_bind (dk_u1 (h 0 _ rfl))).trans rfl)
theorem dk_4 {code : ByteArray} {pc : Nat} (h : DkAt code pc [4]) : decode code pc = .ok (.iconst 1, 1) := dk_of ((dk_bind (dk_u1 (h 0 _ rfl))).trans rfl)
theorem dk_5 {code : ByteArray} {pc : Nat} (h : DkAt code pc [5]) : decode code pc = .ok (.iconst 2, 1) := dk_of ((dk_bind (dk_u1 (h 0 _ rfl))).trans rfl)
theorem dk_6 {code : ByteArray} {pc : Nat} (h : DkAt code pc [6]) : decode code pc = .ok (.iconst 3, 1) := dk_of ((dk_bind (dk_u1 (h 0 _ rfl))).trans rfl)
theorem dk_7 {code : ByteArray} {pc : Nat} (h : DkAt code pc [7]) : decode code pc = .ok (.iconst 4, 1) := dk_of ((dk_bind (dk_u1 (h 0 _ rfl))).trans rfl)
theorem dk_8 {code : ByteArray} {pc : Nat} (h : DkAt code pc [8]) : decode code pc = .ok (.iconst 5, 1) := dk_of ((dk_bind (dk_u1 (h 0 _ rfl))).trans rfl)
theorem dk_9 {code : ByteArray} {pc : Nat} (h : DkAt code pc [9]) : decode code pc = .ok (.lconst 0, 1) := dk_of ((dk_bind (dk_u1 (h 0 _ rfl))).trans rfl)
theorem dk_10 {code : ByteArray} {pc : Nat} (h : DkAt code pc [10]) : decode code pc = .ok (.lconst 1, 1) := dk_of ((dk_bind (dk_u1 (h 0 _ rfl))).trans rfl)
theorem dk_16 {code : ByteArray} {pc : Nat} (a : UInt8) (h : DkAt code pc [16, a]) : decode code pc = .ok (.bipush (Reader.signed 8 a.toNat), 2) := dk_of ((dk_bind (dk_u1 (h 0 _ rfl))).trans ((dk_bind (dk_map (dk_u1 (h 1 _ rfl)))).trans rfl))
theorem dk_17 {code : ByteArray} {pc : Nat} (a b : UInt8) (h : DkAt code pc [17, a, b]) : decode code pc = .ok (.sipush (Reader.signed 16 (a.toNat * 256 + b.toNat)), 3) := dk_of ((dk_bind (dk_u1 (h 0 _ rfl))).trans ((dk_bind (dk_map (dk_u2 (h 1 _ rfl) (h 2 _ rfl)))).trans rfl))
theorem dk_18 {code : ByteArray} {pc : Nat} (a : UInt8) (h : DkAt code pc [18, a]) : decode code pc = .ok (.ldc a.toNat, 2) := dk_of ((dk_bind (dk_u1 (h 0 _ rfl))).trans ((dk_bind (dk_u1 (h 1 _ rfl))).trans rfl))
theorem dk_19 {code : ByteArray} {pc : Nat} (a b : UInt8) (h : DkAt code pc [19, a, b]) : decode code pc = .ok (.ldc_w (a.toNat * 256 + b.toNat), 3) := dk_of ((dk_bind (dk_u1 (h 0 _ rfl))).trans ((dk_bind (dk_u2 (h 1 _ rfl) (h 2 _ rfl))).trans rfl))
theorem dk_21 {code : ByteArray} {pc : Nat} (a : UInt8) (h : DkAt code pc [21, a]) : decode code pc = .ok (.iload a.toNat, 2) := dk_of ((dk_bind (dk_u1 (h 0 _ rfl))).trans ((dk_bind (dk_u1 (h 1 _ rfl))).trans rfl))
theorem dk_25 {code : ByteArray} {pc : Nat} (a : UInt8) (h : DkAt code pc [25, a]) : decode code pc = .ok (.aload a.toNat, 2) := dk_of ((dk_bind (dk_u1 (h 0 _ rfl))).trans ((dk_bind (dk_u1 (h 1 _ rfl))).trans rfl))
theorem dk_26 {code : ByteArray} {pc : Nat} (h : DkAt code pc [26]) : decode code pc = .ok (.iload_n 0, 1) := dk_of ((dk_bind (dk_u1 (h 0 _ rfl))).trans rfl)
theorem dk_27 {code : ByteArray} {pc : Nat} (h : DkAt code pc [27]) : decode code pc = .ok (.iload_n 1, 1) := dk_of ((dk_bind (dk_u1 (h 0 _ rfl))).trans rfl)
theorem dk_28 {code : ByteArray} {pc : Nat} (h : DkAt code pc [28]) : decode code pc = .ok (.iload_n 2, 1) := dk_of ((dk_bind (dk_u1 (h 0 _ rfl))).trans rfl)
theorem dk_29 {code : ByteArray} {pc : Nat} (h : DkAt code pc [29]) : decode code pc = .ok (.iload_n 3, 1) := dk_of ((dk_bind (dk_u1 (h 0 _ rfl))).trans rfl)
theorem dk_42 {code : ByteArray} {pc : Nat} (h : DkAt code pc [42]) : decode code pc = .ok (.aload_n 0, 1) := dk_of ((dk_bind (dk_u1 (h 0 _ rfl))).trans rfl)
theorem dk_43 {code : ByteArray} {pc : Nat} (h : DkAt code pc [43]) : decode code pc = .ok (.aload_n 1, 1) := dk_of ((dk_bind (dk_u1 (h 0 _ rfl))).trans rfl)
theorem dk_44 {code : ByteArray} {pc : Nat} (h : DkAt code pc [44]) : decode code pc = .ok (.aload_n 2, 1) := dk_of ((dk_bind (dk_u1 (h 0 _ rfl))).trans rfl)
theorem dk_45 {code : ByteArray} {pc : Nat} (h : DkAt code pc [45]) : decode code pc = .ok (.aload_n 3, 1) := dk_of ((dk_bind (dk_u1 (h 0 _ rfl))).trans rfl)
theorem dk_46 {code : ByteArray} {pc : Nat} (h : DkAt code pc [46]) : decode code pc = .ok (.iaload, 1) := dk_of ((dk_bind (dk_u1 (h 0 _ rfl))).trans rfl)
theorem dk_47 {code : ByteArray} {pc : Nat} (h : DkAt code pc [47]) : decode code pc = .ok (.laload, 1) := dk_of ((dk_bind (dk_u1 (h 0 _ rfl))).trans rfl)
theorem dk_50 {code : ByteArray} {pc : Nat} (h : DkAt code pc [50]) : decode code pc = .ok (.aaload, 1) := dk_of ((dk_bind (dk_u1 (h 0 _ rfl))).trans rfl)
theorem dk_51 {code : ByteArray} {pc : Nat} (h : DkAt code pc [51]) : decode code pc = .ok (.baload, 1) := dk_of ((dk_bind (dk_u1 (h 0 _ rfl))).trans rfl)
theorem dk_54 {code : ByteArray} {pc : Nat} (a : UInt8) (h : DkAt code pc [54, a]) : decode code pc = .ok (.istore a.toNat, 2) := dk_of ((dk_bind (dk_u1 (h 0 _ rfl))).trans ((dk_bind (dk_u1 (h 1 _ rfl))).trans rfl))
theorem dk_58 {code : ByteArray} {pc : Nat} (a : UInt8) (h : DkAt code pc [58, a]) : decode code pc = .ok (.astore a.toNat, 2) := dk_of ((dk_bind (dk_u1 (h 0 _ rfl))).trans ((dk_bind (dk_u1 (h 1 _ rfl))).trans rfl))
theorem dk_59 {code : ByteArray} {pc : Nat} (h : DkAt code pc [59]) : decode code pc = .ok (.istore_n 0, 1) := dk_of ((dk_bind (dk_u1 (h 0 _ rfl))).trans rfl)
theorem dk_60 {code : ByteArray} {pc : Nat} (h : DkAt code pc [60]) : decode code pc = .ok (.istore_n 1, 1) := dk_of ((dk_bind (dk_u1 (h 0 _ rfl))).trans rfl)
theorem dk_61 {code : ByteArray} {pc : Nat} (h : DkAt code pc [61]) : decode code pc = .ok (.istore_n 2, 1) := dk_of ((dk_bind (dk_u1 (h 0 _ rfl))).trans rfl)
theorem dk_62 {code : ByteArray} {pc : Nat} (h : DkAt code pc [62]) : decode code pc = .ok (.istore_n 3, 1) := dk_of ((dk_bind (dk_u1 (h 0 _ rfl))).trans rfl)
theorem dk_76 {code : ByteArray} {pc : Nat} (h : DkAt code pc [76]) : decode code pc = .ok (.astore_n 1, 1) := dk_of ((dk_bind (dk_u1 (h 0 _ rfl))).trans rfl)
theorem dk_77 {code : ByteArray} {pc : Nat} (h : DkAt code pc [77]) : decode code pc = .ok (.astore_n 2, 1) := dk_of ((dk_bind (dk_u1 (h 0 _ rfl))).trans rfl)
theorem dk_78 {code : ByteArray} {pc : Nat} (h : DkAt code pc [78]) : decode code pc = .ok (.astore_n 3, 1) := dk_of ((dk_bind (dk_u1 (h 0 _ rfl))).trans rfl)
theorem dk_79 {code : ByteArray} {pc : Nat} (h : DkAt code pc [79]) : decode code pc = .ok (.iastore, 1) := dk_of ((dk_bind (dk_u1 (h 0 _ rfl))).trans rfl)
theorem dk_80 {code : ByteArray} {pc : Nat} (h : DkAt code pc [80]) : decode code pc = .ok (.lastore, 1) := dk_of ((dk_bind (dk_u1 (h 0 _ rfl))).trans rfl)
theorem dk_83 {code : ByteArray} {pc : Nat} (h : DkAt code pc [83]) : decode code pc = .ok (.aastore, 1) := dk_of ((dk_bind (dk_u1 (h 0 _ rfl))).trans rfl)
theorem dk_84 {code : ByteArray} {pc : Nat} (h : DkAt code pc [84]) : decode code pc = .ok (.bastore, 1) := dk_of ((dk_bind (dk_u1 (h 0 _ rfl))).trans rfl)
theorem dk_87 {code : ByteArray} {pc : Nat} (h : DkAt code pc [87]) : decode code pc = .ok (.pop, 1) := dk_of ((dk_bind (dk_u1 (h 0 _ rfl))).trans rfl)
theorem dk_89 {code : ByteArray} {pc : Nat} (h : DkAt code pc [89]) : decode code pc = .ok (.dup, 1) := dk_of ((dk_bind (dk_u1 (h 0 _ rfl))).trans rfl)
theorem dk_90 {code : ByteArray} {pc : Nat} (h : DkAt code pc [90]) : decode code pc = .ok (.dup_x1, 1) := dk_of ((dk_bind (dk_u1 (h 0 _ rfl))).trans rfl)
theorem dk_92 {code : ByteArray} {pc : Nat} (h : DkAt code pc [92]) : decode code pc = .ok (.dup2, 1) := dk_of ((dk_bind (dk_u1 (h 0 _ rfl))).trans rfl)
theorem dk_96 {code : ByteArray} {pc : Nat} (h : DkAt code pc [96]) : decode code pc = .ok (.iadd, 1) := dk_of ((dk_bind (dk_u1 (h 0 _ rfl))).trans rfl)
theorem dk_100 {code : ByteArray} {pc : Nat} (h : DkAt code pc [100]) : decode code pc = .ok (.isub, 1) := dk_of ((dk_bind (dk_u1 (h 0 _ rfl))).trans rfl)
theorem dk_104 {code : ByteArray} {pc : Nat} (h : DkAt code pc [104]) : decode code pc = .ok (.imul, 1) := dk_of ((dk_bind (dk_u1 (h 0 _ rfl))).trans rfl)
theorem dk_108 {code : ByteArray} {pc : Nat} (h : DkAt code pc [108]) : decode code pc = .ok (.idiv, 1) := dk_of ((dk_bind (dk_u1 (h 0 _ rfl))).trans rfl)
theorem dk_112 {code : ByteArray} {pc : Nat} (h : DkAt code pc [112]) : decode code pc = .ok (.irem, 1) := dk_of ((dk_bind (dk_u1 (h 0 _ rfl))).trans rfl)
theorem dk_116 {code : ByteArray} {pc : Nat} (h : DkAt code pc [116]) : decode code pc = .ok (.ineg, 1) := dk_of ((dk_bind (dk_u1 (h 0 _ rfl))).trans rfl)
theorem dk_120 {code : ByteArray} {pc : Nat} (h : DkAt code pc [120]) : decode code pc = .ok (.ishl, 1) := dk_of ((dk_bind (dk_u1 (h 0 _ rfl))).trans rfl)
theorem dk_122 {code : ByteArray} {pc : Nat} (h : DkAt code pc [122]) : decode code pc = .ok (.ishr, 1) := dk_of ((dk_bind (dk_u1 (h 0 _ rfl))).trans rfl)
theorem dk_124 {code : ByteArray} {pc : Nat} (h : DkAt code pc [124]) : decode code pc = .ok (.iushr, 1) := dk_of ((dk_bind (dk_u1 (h 0 _ rfl))).trans rfl)
theorem dk_126 {code : ByteArray} {pc : Nat} (h : DkAt code pc [126]) : decode code pc = .ok (.iand, 1) := dk_of ((dk_bind (dk_u1 (h 0 _ rfl))).trans rfl)
theorem dk_128 {code : ByteArray} {pc : Nat} (h : DkAt code pc [128]) : decode code pc = .ok (.ior, 1) := dk_of ((dk_bind (dk_u1 (h 0 _ rfl))).trans rfl)
theorem dk_132 {code : ByteArray} {pc : Nat} (a b : UInt8) (h : DkAt code pc [132, a, b]) : decode code pc = .ok (.iinc a.toNat (Reader.signed 8 b.toNat), 3) := dk_of ((dk_bind (dk_u1 (h 0 _ rfl))).trans ((dk_bind (dk_u1 (h 1 _ rfl))).trans ((dk_bind (dk_map (dk_u1 (h 2 _ rfl)))).trans rfl)))
theorem dk_133 {code : ByteArray} {pc : Nat} (h : DkAt code pc [133]) : decode code pc = .ok (.i2l, 1) := dk_of ((dk_bind (dk_u1 (h 0 _ rfl))).trans rfl)
theorem dk_145 {code : ByteArray} {pc : Nat} (h : DkAt code pc [145]) : decode code pc = .ok (.i2b, 1) := dk_of ((dk_bind (dk_u1 (h 0 _ rfl))).trans rfl)
theorem dk_146 {code : ByteArray} {pc : Nat} (h : DkAt code pc [146]) : decode code pc = .ok (.i2c, 1) := dk_of ((dk_bind (dk_u1 (h 0 _ rfl))).trans rfl)
theorem dk_148 {code : ByteArray} {pc : Nat} (h : DkAt code pc [148]) : decode code pc = .ok (.lcmp, 1) := dk_of ((dk_bind (dk_u1 (h 0 _ rfl))).trans rfl)
theorem dk_153 {code : ByteArray} {pc : Nat} (a b : UInt8) (h : DkAt code pc [153, a, b]) : decode code pc = .ok (.ifCond .eq (Reader.signed 16 (a.toNat * 256 + b.toNat)), 3) := dk_of ((dk_bind (dk_u1 (h 0 _ rfl))).trans ((dk_bind (dk_map (dk_u2 (h 1 _ rfl) (h 2 _ rfl)))).trans rfl))
theorem dk_154 {code : ByteArray} {pc : Nat} (a b : UInt8) (h : DkAt code pc [154, a, b]) : decode code pc = .ok (.ifCond .ne (Reader.signed 16 (a.toNat * 256 + b.toNat)), 3) := dk_of ((dk_bind (dk_u1 (h 0 _ rfl))).trans ((dk_bind (dk_map (dk_u2 (h 1 _ rfl) (h 2 _ rfl)))).trans rfl))
theorem dk_155 {code : ByteArray} {pc : Nat} (a b : UInt8) (h : DkAt code pc [155, a, b]) : decode code pc = .ok (.ifCond .lt (Reader.signed 16 (a.toNat * 256 + b.toNat)), 3) := dk_of ((dk_bind (dk_u1 (h 0 _ rfl))).trans ((dk_bind (dk_map (dk_u2 (h 1 _ rfl) (h 2 _ rfl)))).trans rfl))
theorem dk_156 {code : ByteArray} {pc : Nat} (a b : UInt8) (h : DkAt code pc [156, a, b]) : decode code pc = .ok (.ifCond .ge (Reader.signed 16 (a.toNat * 256 + b.toNat)), 3) := dk_of ((dk_bind (dk_u1 (h 0 _ rfl))).trans ((dk_bind (dk_map (dk_u2 (h 1 _ rfl) (h 2 _ rfl)))).trans rfl))
theorem dk_157 {code : ByteArray} {pc : Nat} (a b : UInt8) (h : DkAt code pc [157, a, b]) : decode code pc = .ok (.ifCond .gt (Reader.signed 16 (a.toNat * 256 + b.toNat)), 3) := dk_of ((dk_bind (dk_u1 (h 0 _ rfl))).trans ((dk_bind (dk_map (dk_u2 (h 1 _ rfl) (h 2 _ rfl)))).trans rfl))
theorem dk_158 {code : ByteArray} {pc : Nat} (a b : UInt8) (h : DkAt code pc [158, a, b]) : decode code pc = .ok (.ifCond .le (Reader.signed 16 (a.toNat * 256 + b.toNat)), 3) := dk_of ((dk_bind (dk_u1 (h 0 _ rfl))).trans ((dk_bind (dk_map (dk_u2 (h 1 _ rfl) (h 2 _ rfl)))).trans rfl))
theorem dk_159 {code : ByteArray} {pc : Nat} (a b : UInt8) (h : DkAt code pc [159, a, b]) : decode code pc = .ok (.if_icmp .eq (Reader.signed 16 (a.toNat * 256 + b.toNat)), 3) := dk_of ((dk_bind (dk_u1 (h 0 _ rfl))).trans ((dk_bind (dk_map (dk_u2 (h 1 _ rfl) (h 2 _ rfl)))).trans rfl))
theorem dk_160 {code : ByteArray} {pc : Nat} (a b : UInt8) (h : DkAt code pc [160, a, b]) : decode code pc = .ok (.if_icmp .ne (Reader.signed 16 (a.toNat * 256 + b.toNat)), 3) := dk_of ((dk_bind (dk_u1 (h 0 _ rfl))).trans ((dk_bind (dk_map (dk_u2 (h 1 _ rfl) (h 2 _ rfl)))).trans rfl))
theorem dk_161 {code : ByteArray} {pc : Nat} (a b : UInt8) (h : DkAt code pc [161, a, b]) : decode code pc = .ok (.if_icmp .lt (Reader.signed 16 (a.toNat * 256 + b.toNat)), 3) := dk_of ((dk_bind (dk_u1 (h 0 _ rfl))).trans ((dk_bind (dk_map (dk_u2 (h 1 _ rfl) (h 2 _ rfl)))).trans rfl))
theorem dk_162 {code : ByteArray} {pc : Nat} (a b : UInt8) (h : DkAt code pc [162, a, b]) : decode code pc = .ok (.if_icmp .ge (Reader.signed 16 (a.toNat * 256 + b.toNat)), 3) := dk_of ((dk_bind (dk_u1 (h 0 _ rfl))).trans ((dk_bind (dk_map (dk_u2 (h 1 _ rfl) (h 2 _ rfl)))).trans rfl))
theorem dk_163 {code : ByteArray} {pc : Nat} (a b : UInt8) (h : DkAt code pc [163, a, b]) : decode code pc = .ok (.if_icmp .gt (Reader.signed 16 (a.toNat * 256 + b.toNat)), 3) := dk_of ((dk_bind (dk_u1 (h 0 _ rfl))).trans ((dk_bind (dk_map (dk_u2 (h 1 _ rfl) (h 2 _ rfl)))).trans rfl))
theorem dk_164 {code : ByteArray} {pc : Nat} (a b : UInt8) (h : DkAt code pc [164, a, b]) : decode code pc = .ok (.if_icmp .le (Reader.signed 16 (a.toNat * 256 + b.toNat)), 3) := dk_of ((dk_bind (dk_u1 (h 0 _ rfl))).trans ((dk_bind (dk_map (dk_u2 (h 1 _ rfl) (h 2 _ rfl)))).trans rfl))
theorem dk_165 {code : ByteArray} {pc : Nat} (a b : UInt8) (h : DkAt code pc [165, a, b]) : decode code pc = .ok (.if_acmp .eq (Reader.signed 16 (a.toNat * 256 + b.toNat)), 3) := dk_of ((dk_bind (dk_u1 (h 0 _ rfl))).trans ((dk_bind (dk_map (dk_u2 (h 1 _ rfl) (h 2 _ rfl)))).trans rfl))
theorem dk_166 {code : ByteArray} {pc : Nat} (a b : UInt8) (h : DkAt code pc [166, a, b]) : decode code pc = .ok (.if_acmp .ne (Reader.signed 16 (a.toNat * 256 + b.toNat)), 3) := dk_of ((dk_bind (dk_u1 (h 0 _ rfl))).trans ((dk_bind (dk_map (dk_u2 (h 1 _ rfl) (h 2 _ rfl)))).trans rfl))
theorem dk_167 {code : ByteArray} {pc : Nat} (a b : UInt8) (h : DkAt code pc [167, a, b]) : decode code pc = .ok (.goto (Reader.signed 16 (a.toNat * 256 + b.toNat)), 3) := dk_of ((dk_bind (dk_u1 (h 0 _ rfl))).trans ((dk_bind (dk_map (dk_u2 (h 1 _ rfl) (h 2 _ rfl)))).trans rfl))
theorem dk_172 {code : ByteArray} {pc : Nat} (h : DkAt code pc [172]) : decode code pc = .ok (.ireturn, 1) := dk_of ((dk_bind (dk_u1 (h 0 _ rfl))).trans rfl)
theorem dk_176 {code : ByteArray} {pc : Nat} (h : DkAt code pc [176]) : decode code pc = .ok (.areturn, 1) := dk_of ((dk_bind (dk_u1 (h 0 _ rfl))).trans rfl)
theorem dk_177 {code : ByteArray} {pc : Nat} (h : DkAt code pc [177]) : decode code pc = .ok (.return_, 1) := dk_of ((dk_bind (dk_u1 (h 0 _ rfl))).trans rfl)
theorem dk_178 {code : ByteArray} {pc : Nat} (a b : UInt8) (h : DkAt code pc [178, a, b]) : decode code pc = .ok (.getstatic (a.toNat * 256 + b.toNat), 3) := dk_of ((dk_bind (dk_u1 (h 0 _ rfl))).trans ((dk_bind (dk_u2 (h 1 _ rfl) (h 2 _ rfl))).trans rfl))
theorem dk_180 {code : ByteArray} {pc : Nat} (a b : UInt8) (h : DkAt code pc [180, a, b]) : decode code pc = .ok (.getfield (a.toNat * 256 + b.toNat), 3) := dk_of ((dk_bind (dk_u1 (h 0 _ rfl))).trans ((dk_bind (dk_u2 (h 1 _ rfl) (h 2 _ rfl))).trans rfl))
theorem dk_181 {code : ByteArray} {pc : Nat} (a b : UInt8) (h : DkAt code pc [181, a, b]) : decode code pc = .ok (.putfield (a.toNat * 256 + b.toNat), 3) := dk_of ((dk_bind (dk_u1 (h 0 _ rfl))).trans ((dk_bind (dk_u2 (h 1 _ rfl) (h 2 _ rfl))).trans rfl))
theorem dk_182 {code : ByteArray} {pc : Nat} (a b : UInt8) (h : DkAt code pc [182, a, b]) : decode code pc = .ok (.invokevirtual (a.toNat * 256 + b.toNat), 3) := dk_of ((dk_bind (dk_u1 (h 0 _ rfl))).trans ((dk_bind (dk_u2 (h 1 _ rfl) (h 2 _ rfl))).trans rfl))
theorem dk_183 {code : ByteArray} {pc : Nat} (a b : UInt8) (h : DkAt code pc [183, a, b]) : decode code pc = .ok (.invokespecial (a.toNat * 256 + b.toNat), 3) := dk_of ((dk_bind (dk_u1 (h 0 _ rfl))).trans ((dk_bind (dk_u2 (h 1 _ rfl) (h 2 _ rfl))).trans rfl))
theorem dk_184 {code : ByteArray} {pc : Nat} (a b : UInt8) (h : DkAt code pc [184, a, b]) : decode code pc = .ok (.invokestatic (a.toNat * 256 + b.toNat), 3) := dk_of ((dk_bind (dk_u1 (h 0 _ rfl))).trans ((dk_bind (dk_u2 (h 1 _ rfl) (h 2 _ rfl))).trans rfl))
theorem dk_187 {code : ByteArray} {pc : Nat} (a b : UInt8) (h : DkAt code pc [187, a, b]) : decode code pc = .ok (.new (a.toNat * 256 + b.toNat), 3) := dk_of ((dk_bind (dk_u1 (h 0 _ rfl))).trans ((dk_bind (dk_u2 (h 1 _ rfl) (h 2 _ rfl))).trans rfl))
theorem dk_188_4 {code : ByteArray} {pc : Nat} (h : DkAt code pc [188, 4]) : decode code pc = .ok (.newarray .boolean, 2) := dk_of ((dk_bind (dk_u1 (h 0 _ rfl))).trans ((dk_bind (dk_u1 (h 1 _ rfl))).trans rfl))
theorem dk_188_8 {code : ByteArray} {pc : Nat} (h : DkAt code pc [188, 8]) : decode code pc = .ok (.newarray .byte, 2) := dk_of ((dk_bind (dk_u1 (h 0 _ rfl))).trans ((dk_bind (dk_u1 (h 1 _ rfl))).trans rfl))
theorem dk_188_10 {code : ByteArray} {pc : Nat} (h : DkAt code pc [188, 10]) : decode code pc = .ok (.newarray .int, 2) := dk_of ((dk_bind (dk_u1 (h 0 _ rfl))).trans ((dk_bind (dk_u1 (h 1 _ rfl))).trans rfl))
theorem dk_188_11 {code : ByteArray} {pc : Nat} (h : DkAt code pc [188, 11]) : decode code pc = .ok (.newarray .long, 2) := dk_of ((dk_bind (dk_u1 (h 0 _ rfl))).trans ((dk_bind (dk_u1 (h 1 _ rfl))).trans rfl))
theorem dk_189 {code : ByteArray} {pc : Nat} (a b : UInt8) (h : DkAt code pc [189, a, b]) : decode code pc = .ok (.anewarray (a.toNat * 256 + b.toNat), 3) := dk_of ((dk_bind (dk_u1 (h 0 _ rfl))).trans ((dk_bind (dk_u2 (h 1 _ rfl) (h 2 _ rfl))).trans rfl))
theorem dk_190 {code : ByteArray} {pc : Nat} (h : DkAt code pc [190]) : decode code pc = .ok (.arraylength, 1) := dk_of ((dk_bind (dk_u1 (h 0 _ rfl))).trans rfl)
theorem dk_191 {code : ByteArray} {pc : Nat} (h : DkAt code pc [191]) : decode code pc = .ok (.athrow, 1) := dk_of ((dk_bind (dk_u1 (h 0 _ rfl))).trans rfl)
theorem dk_192 {code : ByteArray} {pc : Nat} (a b : UInt8) (h : DkAt code pc [192, a, b]) : decode code pc = .ok (.checkcast (a.toNat * 256 + b.toNat), 3) := dk_of ((dk_bind (dk_u1 (h 0 _ rfl))).trans ((dk_bind (dk_u2 (h 1 _ rfl) (h 2 _ rfl))).trans rfl))
theorem dk_193 {code : ByteArray} {pc : Nat} (a b : UInt8) (h : DkAt code pc [193, a, b]) : decode code pc = .ok (.instanceof (a.toNat * 256 + b.toNat), 3) := dk_of ((dk_bind (dk_u1 (h 0 _ rfl))).trans ((dk_bind (dk_u2 (h 1 _ rfl) (h 2 _ rfl))).trans rfl))
theorem dk_198 {code : ByteArray} {pc : Nat} (a b : UInt8) (h : DkAt code pc [198, a, b]) : decode code pc = .ok (.ifnull (Reader.signed 16 (a.toNat * 256 + b.toNat)), 3) := dk_of ((dk_bind (dk_u1 (h 0 _ rfl))).trans ((dk_bind (dk_map (dk_u2 (h 1 _ rfl) (h 2 _ rfl)))).trans rfl))
theorem dk_199 {code : ByteArray} {pc : Nat} (a b : UInt8) (h : DkAt code pc [199, a, b]) : decode code pc = .ok (.ifnonnull (Reader.signed 16 (a.toNat * 256 + b.toNat)), 3) := dk_of ((dk_bind (dk_u1 (h 0 _ rfl))).trans ((dk_bind (dk_map (dk_u2 (h 1 _ rfl) (h 2 _ rfl)))).trans rfl))

/-! java/util/AbstractCollection -/
set_option maxRecDepth 100000
def RJ0 : String := "java/util/AbstractCollection"
abbrev cJ0_init : ByteArray := prog_40_method_1_code
def yJ0_init : MethodName := ⟨RJ0, "<init>", "()V"⟩
theorem dJ0_init_0 : decode cJ0_init 0 = .ok (.aload_n 0, 1) := by decide +kernel
theorem dJ0_init_1 : decode cJ0_init 1 = .ok (.invokespecial 1, 3) := by decide +kernel
theorem dJ0_init_4 : decode cJ0_init 4 = .ok (.return_, 1) := by decide +kernel
theorem q45 : (Jvm.Cond.initialized "java/util/AbstractCollection") ∈ lw_all := lw_g (lw_at lw_m1 2 rfl) rfl
theorem q98 : (Jvm.Cond.instanceMethod ({ cls := "java/util/AbstractCollection", name := "<init>", desc := "()V" } : Jvm.MethodName)) ∈ lw_all := lw_g (lw_at lw_m1 55 rfl) rfl
theorem q99 : (Jvm.Cond.code ({ cls := "java/util/AbstractCollection", name := "<init>", desc := "()V" } : Jvm.MethodName) prog_40_method_1_code (1 : Nat) (Option.none : Option Jvm.ClassFile.FieldType)) ∈ lw_all := lw_g (lw_at lw_m1 56 rfl) rfl
theorem q100 : (Jvm.Cond.methodLink "java/util/AbstractCollection" (1 : Nat) ({ cls := "java/lang/Object", name := "<init>", desc := "()V" } : Jvm.MethodName)) ∈ lw_all := lw_g (lw_at lw_m1 57 rfl) rfl

/-! java/util/AbstractList -/
set_option maxRecDepth 100000
def RJ1 : String := "java/util/AbstractList"
abbrev cJ1_init : ByteArray := prog_41_method_1_code
def yJ1_init : MethodName := ⟨RJ1, "<init>", "()V"⟩
def dkwJ1_init_0 : List UInt8 := [42, 183, 0, 1, 42, 3, 181, 0, 7, 177]
abbrev dktJ1_init_0 : List UInt8 := dkwJ1_init_0 ++ []
theorem dksJ1_init_0 : cJ1_init.data.toList.drop 0 = dktJ1_init_0 := by decide +kernel
theorem dJ1_init_0 : decode cJ1_init 0 = .ok (.aload_n 0, 1) := dk_42 (dk_at dksJ1_init_0 0 rfl rfl)
theorem dJ1_init_1 : decode cJ1_init 1 = .ok (.invokespecial 1, 3) := dk_183 0 1 (dk_at dksJ1_init_0 1 rfl rfl)
theorem dJ1_init_4 : decode cJ1_init 4 = .ok (.aload_n 0, 1) := dk_42 (dk_at dksJ1_init_0 4 rfl rfl)
theorem dJ1_init_5 : decode cJ1_init 5 = .ok (.iconst 0, 1) := dk_3 (dk_at dksJ1_init_0 5 rfl rfl)
theorem dJ1_init_6 : decode cJ1_init 6 = .ok (.putfield 7, 3) := dk_181 0 7 (dk_at dksJ1_init_0 6 rfl rfl)
theorem dJ1_init_9 : decode cJ1_init 9 = .ok (.return_, 1) := dk_177 (dk_at dksJ1_init_0 9 rfl rfl)
theorem q46 : (Jvm.Cond.initialized "java/util/AbstractList") ∈ lw_all := lw_g (lw_at lw_m1 3 rfl) rfl
theorem q95 : (Jvm.Cond.instanceMethod ({ cls := "java/util/AbstractList", name := "<init>", desc := "()V" } : Jvm.MethodName)) ∈ lw_all := lw_g (lw_at lw_m1 52 rfl) rfl
theorem q96 : (Jvm.Cond.code ({ cls := "java/util/AbstractList", name := "<init>", desc := "()V" } : Jvm.MethodName) prog_41_method_1_code (1 : Nat) (Option.none : Option Jvm.ClassFile.FieldType)) ∈ lw_all := lw_g (lw_at lw_m1 53 rfl) rfl
theorem q97 : (Jvm.Cond.methodLink "java/util/AbstractList" (1 : Nat) ({ cls := "java/util/AbstractCollection", name := "<init>", desc := "()V" } : Jvm.MethodName)) ∈ lw_all := lw_g (lw_at lw_m1 54 rfl) rfl
theorem q105 : (Jvm.Cond.fieldLink "java/util/AbstractList" (7 : Nat) "java/util/AbstractList" "modCount" "I") ∈ lw_all := lw_g (lw_at lw_m1 62 rfl) rfl
theorem q113 : (Jvm.Cond.soleField "java/util/AbstractList" "modCount") ∈ lw_all := lw_g (lw_at lw_m1 70 rfl) rfl

/-! java/util/ArrayList -/
set_option maxRecDepth 100000
def RJ2 : String := "java/util/ArrayList"
def TJ2 : u_T := fun k => match k with
  | 0 => ("java/util/AbstractList", "modCount", "I", false)
  | 1 => ("java/util/ArrayList", "elementData", "[Ljava/lang/Object;", false)
  | _ => ("java/util/ArrayList", "size", "I", false)
def tyJ2 : Nat → FieldType := fun k => match k with
  | 0 => .int
  | 1 => .array (.object "java/lang/Object")
  | _ => .int
abbrev wsJ20 : List Cond := u_ws RJ2 TJ2 3
theorem nmJ2 : ∀ a, a < 3 → ∀ b, b < 3 → a ≠ b → (TJ2 a).2.1 ≠ (TJ2 b).2.1 := by decide +kernel
theorem tyJ2_ok : ∀ k, k < 3 → parseFieldDescriptor (TJ2 k).2.2.1 = some (tyJ2 k) := by decide +kernel
abbrev cJ2_init : ByteArray := prog_42_method_2_code
def yJ2_init : MethodName := ⟨RJ2, "<init>", "()V"⟩
def dkwJ2_init_0 : List UInt8 := [42, 183, 0, 1, 42, 178, 0, 39, 181, 0, 9, 177]
abbrev dktJ2_init_0 : List UInt8 := dkwJ2_init_0 ++ []
theorem dksJ2_init_0 : cJ2_init.data.toList.drop 0 = dktJ2_init_0 := by decide +kernel
theorem dJ2_init_0 : decode cJ2_init 0 = .ok (.aload_n 0, 1) := dk_42 (dk_at dksJ2_init_0 0 rfl rfl)
theorem dJ2_init_1 : decode cJ2_init 1 = .ok (.invokespecial 1, 3) := dk_183 0 1 (dk_at dksJ2_init_0 1 rfl rfl)
theorem dJ2_init_4 : decode cJ2_init 4 = .ok (.aload_n 0, 1) := dk_42 (dk_at dksJ2_init_0 4 rfl rfl)
theorem dJ2_init_5 : decode cJ2_init 5 = .ok (.getstatic 39, 3) := dk_178 0 39 (dk_at dksJ2_init_0 5 rfl rfl)
theorem dJ2_init_8 : decode cJ2_init 8 = .ok (.putfield 9, 3) := dk_181 0 9 (dk_at dksJ2_init_0 8 rfl rfl)
theorem dJ2_init_11 : decode cJ2_init 11 = .ok (.return_, 1) := dk_177 (dk_at dksJ2_init_0 11 rfl rfl)
abbrev cJ2_size : ByteArray := prog_42_method_8_code
def yJ2_size : MethodName := ⟨RJ2, "size", "()I"⟩
theorem dJ2_size_0 : decode cJ2_size 0 = .ok (.aload_n 0, 1) := by decide +kernel
theorem dJ2_size_1 : decode cJ2_size 1 = .ok (.getfield 48, 3) := by decide +kernel
theorem dJ2_size_4 : decode cJ2_size 4 = .ok (.ireturn, 1) := by decide +kernel
abbrev cJ2_get : ByteArray := prog_42_method_20_code
def yJ2_get : MethodName := ⟨RJ2, "get", "(I)Ljava/lang/Object;"⟩
def dkwJ2_get_0 : List UInt8 := [27, 42, 180, 0, 48, 184, 0, 118, 87, 42, 27, 182, 0, 123, 176]
abbrev dktJ2_get_0 : List UInt8 := dkwJ2_get_0 ++ []
theorem dksJ2_get_0 : cJ2_get.data.toList.drop 0 = dktJ2_get_0 := by decide +kernel
theorem dJ2_get_0 : decode cJ2_get 0 = .ok (.iload_n 1, 1) := dk_27 (dk_at dksJ2_get_0 0 rfl rfl)
theorem dJ2_get_1 : decode cJ2_get 1 = .ok (.aload_n 0, 1) := dk_42 (dk_at dksJ2_get_0 1 rfl rfl)
theorem dJ2_get_2 : decode cJ2_get 2 = .ok (.getfield 48, 3) := dk_180 0 48 (dk_at dksJ2_get_0 2 rfl rfl)
theorem dJ2_get_5 : decode cJ2_get 5 = .ok (.invokestatic 118, 3) := dk_184 0 118 (dk_at dksJ2_get_0 5 rfl rfl)
theorem dJ2_get_8 : decode cJ2_get 8 = .ok (.pop, 1) := dk_87 (dk_at dksJ2_get_0 8 rfl rfl)
theorem dJ2_get_9 : decode cJ2_get 9 = .ok (.aload_n 0, 1) := dk_42 (dk_at dksJ2_get_0 9 rfl rfl)
theorem dJ2_get_10 : decode cJ2_get 10 = .ok (.iload_n 1, 1) := dk_27 (dk_at dksJ2_get_0 10 rfl rfl)
theorem dJ2_get_11 : decode cJ2_get 11 = .ok (.invokevirtual 123, 3) := dk_182 0 123 (dk_at dksJ2_get_0 11 rfl rfl)
theorem dJ2_get_14 : decode cJ2_get 14 = .ok (.areturn, 1) := dk_176 (dk_at dksJ2_get_0 14 rfl rfl)
abbrev cJ2_elementData : ByteArray := prog_42_method_18_code
def yJ2_elementData : MethodName := ⟨RJ2, "elementData", "(I)Ljava/lang/Object;"⟩
def dkwJ2_elementData_0 : List UInt8 := [42, 180, 0, 9, 27, 50, 176]
abbrev dktJ2_elementData_0 : List UInt8 := dkwJ2_elementData_0 ++ []
theorem dksJ2_elementData_0 : cJ2_elementData.data.toList.drop 0 = dktJ2_elementData_0 := by decide +kernel
theorem dJ2_elementData_0 : decode cJ2_elementData 0 = .ok (.aload_n 0, 1) := dk_42 (dk_at dksJ2_elementData_0 0 rfl rfl)
theorem dJ2_elementData_1 : decode cJ2_elementData 1 = .ok (.getfield 9, 3) := dk_180 0 9 (dk_at dksJ2_elementData_0 1 rfl rfl)
theorem dJ2_elementData_4 : decode cJ2_elementData 4 = .ok (.iload_n 1, 1) := dk_27 (dk_at dksJ2_elementData_0 4 rfl rfl)
theorem dJ2_elementData_5 : decode cJ2_elementData 5 = .ok (.aaload, 1) := dk_50 (dk_at dksJ2_elementData_0 5 rfl rfl)
theorem dJ2_elementData_6 : decode cJ2_elementData 6 = .ok (.areturn, 1) := dk_176 (dk_at dksJ2_elementData_0 6 rfl rfl)
abbrev cJ2_add : ByteArray := prog_42_method_25_code
def yJ2_add : MethodName := ⟨RJ2, "add", "(Ljava/lang/Object;)Z"⟩
def dkwJ2_add_1 : List UInt8 := [172]
abbrev dktJ2_add_1 : List UInt8 := dkwJ2_add_1 ++ []
def dkwJ2_add_0 : List UInt8 := [42, 89, 180, 0, 63, 4, 96, 181, 0, 63, 42, 43, 42, 180, 0, 9, 42, 180, 0, 48, 182, 0, 131, 4]
abbrev dktJ2_add_0 : List UInt8 := dkwJ2_add_0 ++ dktJ2_add_1
theorem dksJ2_add_0 : cJ2_add.data.toList.drop 0 = dktJ2_add_0 := by decide +kernel
theorem dksJ2_add_1 : cJ2_add.data.toList.drop 24 = dktJ2_add_1 := dk_seg dksJ2_add_0 24 rfl rfl
theorem dJ2_add_0 : decode cJ2_add 0 = .ok (.aload_n 0, 1) := dk_42 (dk_at dksJ2_add_0 0 rfl rfl)
theorem dJ2_add_1 : decode cJ2_add 1 = .ok (.dup, 1) := dk_89 (dk_at dksJ2_add_0 1 rfl rfl)
theorem dJ2_add_2 : decode cJ2_add 2 = .ok (.getfield 63, 3) := dk_180 0 63 (dk_at dksJ2_add_0 2 rfl rfl)
theorem dJ2_add_5 : decode cJ2_add 5 = .ok (.iconst 1, 1) := dk_4 (dk_at dksJ2_add_0 5 rfl rfl)
theorem dJ2_add_6 : decode cJ2_add 6 = .ok (.iadd, 1) := dk_96 (dk_at dksJ2_add_0 6 rfl rfl)
theorem dJ2_add_7 : decode cJ2_add 7 = .ok (.putfield 63, 3) := dk_181 0 63 (dk_at dksJ2_add_0 7 rfl rfl)
theorem dJ2_add_10 : decode cJ2_add 10 = .ok (.aload_n 0, 1) := dk_42 (dk_at dksJ2_add_0 10 rfl rfl)
theorem dJ2_add_11 : decode cJ2_add 11 = .ok (.aload_n 1, 1) := dk_43 (dk_at dksJ2_add_0 11 rfl rfl)
theorem dJ2_add_12 : decode cJ2_add 12 = .ok (.aload_n 0, 1) := dk_42 (dk_at dksJ2_add_0 12 rfl rfl)
theorem dJ2_add_13 : decode cJ2_add 13 = .ok (.getfield 9, 3) := dk_180 0 9 (dk_at dksJ2_add_0 13 rfl rfl)
theorem dJ2_add_16 : decode cJ2_add 16 = .ok (.aload_n 0, 1) := dk_42 (dk_at dksJ2_add_0 16 rfl rfl)
theorem dJ2_add_17 : decode cJ2_add 17 = .ok (.getfield 48, 3) := dk_180 0 48 (dk_at dksJ2_add_0 17 rfl rfl)
theorem dJ2_add_20 : decode cJ2_add 20 = .ok (.invokevirtual 131, 3) := dk_182 0 131 (dk_at dksJ2_add_0 20 rfl rfl)
theorem dJ2_add_23 : decode cJ2_add 23 = .ok (.iconst 1, 1) := dk_4 (dk_at dksJ2_add_0 23 rfl rfl)
theorem dJ2_add_24 : decode cJ2_add 24 = .ok (.ireturn, 1) := dk_172 (dk_at dksJ2_add_1 0 rfl rfl)
abbrev cJ2_add_2 : ByteArray := prog_42_method_24_code
def yJ2_add_2 : MethodName := ⟨RJ2, "add", "(Ljava/lang/Object;[Ljava/lang/Object;I)V"⟩
def dkwJ2_add_2_0 : List UInt8 := [29, 44, 190, 160, 0, 8, 42, 182, 0, 129, 77, 44, 29, 43, 83, 42, 29, 4, 96, 181, 0, 48, 177]
abbrev dktJ2_add_2_0 : List UInt8 := dkwJ2_add_2_0 ++ []
theorem dksJ2_add_2_0 : cJ2_add_2.data.toList.drop 0 = dktJ2_add_2_0 := by decide +kernel
theorem dJ2_add_2_0 : decode cJ2_add_2 0 = .ok (.iload_n 3, 1) := dk_29 (dk_at dksJ2_add_2_0 0 rfl rfl)
theorem dJ2_add_2_1 : decode cJ2_add_2 1 = .ok (.aload_n 2, 1) := dk_44 (dk_at dksJ2_add_2_0 1 rfl rfl)
theorem dJ2_add_2_2 : decode cJ2_add_2 2 = .ok (.arraylength, 1) := dk_190 (dk_at dksJ2_add_2_0 2 rfl rfl)
theorem dJ2_add_2_3 : decode cJ2_add_2 3 = .ok (.if_icmp .ne 8, 3) := dk_160 0 8 (dk_at dksJ2_add_2_0 3 rfl rfl)
theorem dJ2_add_2_6 : decode cJ2_add_2 6 = .ok (.aload_n 0, 1) := dk_42 (dk_at dksJ2_add_2_0 6 rfl rfl)
theorem dJ2_add_2_7 : decode cJ2_add_2 7 = .ok (.invokevirtual 129, 3) := dk_182 0 129 (dk_at dksJ2_add_2_0 7 rfl rfl)
theorem dJ2_add_2_10 : decode cJ2_add_2 10 = .ok (.astore_n 2, 1) := dk_77 (dk_at dksJ2_add_2_0 10 rfl rfl)
theorem dJ2_add_2_11 : decode cJ2_add_2 11 = .ok (.aload_n 2, 1) := dk_44 (dk_at dksJ2_add_2_0 11 rfl rfl)
theorem dJ2_add_2_12 : decode cJ2_add_2 12 = .ok (.iload_n 3, 1) := dk_29 (dk_at dksJ2_add_2_0 12 rfl rfl)
theorem dJ2_add_2_13 : decode cJ2_add_2 13 = .ok (.aload_n 1, 1) := dk_43 (dk_at dksJ2_add_2_0 13 rfl rfl)
theorem dJ2_add_2_14 : decode cJ2_add_2 14 = .ok (.aastore, 1) := dk_83 (dk_at dksJ2_add_2_0 14 rfl rfl)
theorem dJ2_add_2_15 : decode cJ2_add_2 15 = .ok (.aload_n 0, 1) := dk_42 (dk_at dksJ2_add_2_0 15 rfl rfl)
theorem dJ2_add_2_16 : decode cJ2_add_2 16 = .ok (.iload_n 3, 1) := dk_29 (dk_at dksJ2_add_2_0 16 rfl rfl)
theorem dJ2_add_2_17 : decode cJ2_add_2 17 = .ok (.iconst 1, 1) := dk_4 (dk_at dksJ2_add_2_0 17 rfl rfl)
theorem dJ2_add_2_18 : decode cJ2_add_2 18 = .ok (.iadd, 1) := dk_96 (dk_at dksJ2_add_2_0 18 rfl rfl)
theorem dJ2_add_2_19 : decode cJ2_add_2 19 = .ok (.putfield 48, 3) := dk_181 0 48 (dk_at dksJ2_add_2_0 19 rfl rfl)
theorem dJ2_add_2_22 : decode cJ2_add_2 22 = .ok (.return_, 1) := dk_177 (dk_at dksJ2_add_2_0 22 rfl rfl)
abbrev cJ2_grow : ByteArray := prog_42_method_7_code
def yJ2_grow : MethodName := ⟨RJ2, "grow", "()[Ljava/lang/Object;"⟩
def dkwJ2_grow_0 : List UInt8 := [42, 42, 180, 0, 48, 4, 96, 182, 0, 69, 176]
abbrev dktJ2_grow_0 : List UInt8 := dkwJ2_grow_0 ++ []
theorem dksJ2_grow_0 : cJ2_grow.data.toList.drop 0 = dktJ2_grow_0 := by decide +kernel
theorem dJ2_grow_0 : decode cJ2_grow 0 = .ok (.aload_n 0, 1) := dk_42 (dk_at dksJ2_grow_0 0 rfl rfl)
theorem dJ2_grow_1 : decode cJ2_grow 1 = .ok (.aload_n 0, 1) := dk_42 (dk_at dksJ2_grow_0 1 rfl rfl)
theorem dJ2_grow_2 : decode cJ2_grow 2 = .ok (.getfield 48, 3) := dk_180 0 48 (dk_at dksJ2_grow_0 2 rfl rfl)
theorem dJ2_grow_5 : decode cJ2_grow 5 = .ok (.iconst 1, 1) := dk_4 (dk_at dksJ2_grow_0 5 rfl rfl)
theorem dJ2_grow_6 : decode cJ2_grow 6 = .ok (.iadd, 1) := dk_96 (dk_at dksJ2_grow_0 6 rfl rfl)
theorem dJ2_grow_7 : decode cJ2_grow 7 = .ok (.invokevirtual 69, 3) := dk_182 0 69 (dk_at dksJ2_grow_0 7 rfl rfl)
theorem dJ2_grow_10 : decode cJ2_grow 10 = .ok (.areturn, 1) := dk_176 (dk_at dksJ2_grow_0 10 rfl rfl)
abbrev cJ2_grow_2 : ByteArray := prog_42_method_6_code
def yJ2_grow_2 : MethodName := ⟨RJ2, "grow", "(I)[Ljava/lang/Object;"⟩
def dkwJ2_grow_2_2 : List UInt8 := [27, 184, 0, 79, 189, 0, 7, 90, 181, 0, 9, 176]
abbrev dktJ2_grow_2_2 : List UInt8 := dkwJ2_grow_2_2 ++ []
def dkwJ2_grow_2_1 : List UInt8 := [28, 4, 122, 184, 0, 73, 62, 42, 42, 180, 0, 9, 29, 184, 0, 66, 90, 181, 0, 9, 176, 42, 16, 10]
abbrev dktJ2_grow_2_1 : List UInt8 := dkwJ2_grow_2_1 ++ dktJ2_grow_2_2
def dkwJ2_grow_2_0 : List UInt8 := [42, 180, 0, 9, 190, 61, 28, 157, 0, 13, 42, 180, 0, 9, 178, 0, 39, 165, 0, 28, 28, 27, 28, 100]
abbrev dktJ2_grow_2_0 : List UInt8 := dkwJ2_grow_2_0 ++ dktJ2_grow_2_1
theorem dksJ2_grow_2_0 : cJ2_grow_2.data.toList.drop 0 = dktJ2_grow_2_0 := by decide +kernel
theorem dksJ2_grow_2_1 : cJ2_grow_2.data.toList.drop 24 = dktJ2_grow_2_1 := dk_seg dksJ2_grow_2_0 24 rfl rfl
theorem dksJ2_grow_2_2 : cJ2_grow_2.data.toList.drop 48 = dktJ2_grow_2_2 := dk_seg dksJ2_grow_2_1 24 rfl rfl
theorem dJ2_grow_2_0 : decode cJ2_grow_2 0 = .ok (.aload_n 0, 1) := dk_42 (dk_at dksJ2_grow_2_0 0 rfl rfl)
theorem dJ2_grow_2_1 : decode cJ2_grow_2 1 = .ok (.getfield 9, 3) := dk_180 0 9 (dk_at dksJ2_grow_2_0 1 rfl rfl)
theorem dJ2_grow_2_4 : decode cJ2_grow_2 4 = .ok (.arraylength, 1) := dk_190 (dk_at dksJ2_grow_2_0 4 rfl rfl)
theorem dJ2_grow_2_5 : decode cJ2_grow_2 5 = .ok (.istore_n 2, 1) := dk_61 (dk_at dksJ2_grow_2_0 5 rfl rfl)
theorem dJ2_grow_2_6 : decode cJ2_grow_2 6 = .ok (.iload_n 2, 1) := dk_28 (dk_at dksJ2_grow_2_0 6 rfl rfl)
theorem dJ2_grow_2_7 : decode cJ2_grow_2 7 = .ok (.ifCond .gt 13, 3) := dk_157 0 13 (dk_at dksJ2_grow_2_0 7 rfl rfl)
theorem dJ2_grow_2_10 : decode cJ2_grow_2 10 = .ok (.aload_n 0, 1) := dk_42 (dk_at dksJ2_grow_2_0 10 rfl rfl)
theorem dJ2_grow_2_11 : decode cJ2_grow_2 11 = .ok (.getfield 9, 3) := dk_180 0 9 (dk_at dksJ2_grow_2_0 11 rfl rfl)
theorem dJ2_grow_2_14 : decode cJ2_grow_2 14 = .ok (.getstatic 39, 3) := dk_178 0 39 (dk_at dksJ2_grow_2_0 14 rfl rfl)
theorem dJ2_grow_2_17 : decode cJ2_grow_2 17 = .ok (.if_acmp .eq 28, 3) := dk_165 0 28 (dk_at dksJ2_grow_2_0 17 rfl rfl)
theorem dJ2_grow_2_20 : decode cJ2_grow_2 20 = .ok (.iload_n 2, 1) := dk_28 (dk_at dksJ2_grow_2_0 20 rfl rfl)
theorem dJ2_grow_2_21 : decode cJ2_grow_2 21 = .ok (.iload_n 1, 1) := dk_27 (dk_at dksJ2_grow_2_0 21 rfl rfl)
theorem dJ2_grow_2_22 : decode cJ2_grow_2 22 = .ok (.iload_n 2, 1) := dk_28 (dk_at dksJ2_grow_2_0 22 rfl rfl)
theorem dJ2_grow_2_23 : decode cJ2_grow_2 23 = .ok (.isub, 1) := dk_100 (dk_at dksJ2_grow_2_0 23 rfl rfl)
theorem dJ2_grow_2_24 : decode cJ2_grow_2 24 = .ok (.iload_n 2, 1) := dk_28 (dk_at dksJ2_grow_2_1 0 rfl rfl)
theorem dJ2_grow_2_25 : decode cJ2_grow_2 25 = .ok (.iconst 1, 1) := dk_4 (dk_at dksJ2_grow_2_1 1 rfl rfl)
theorem dJ2_grow_2_26 : decode cJ2_grow_2 26 = .ok (.ishr, 1) := dk_122 (dk_at dksJ2_grow_2_1 2 rfl rfl)
theorem dJ2_grow_2_27 : decode cJ2_grow_2 27 = .ok (.invokestatic 73, 3) := dk_184 0 73 (dk_at dksJ2_grow_2_1 3 rfl rfl)
theorem dJ2_grow_2_30 : decode cJ2_grow_2 30 = .ok (.istore_n 3, 1) := dk_62 (dk_at dksJ2_grow_2_1 6 rfl rfl)
theorem dJ2_grow_2_31 : decode cJ2_grow_2 31 = .ok (.aload_n 0, 1) := dk_42 (dk_at dksJ2_grow_2_1 7 rfl rfl)
theorem dJ2_grow_2_32 : decode cJ2_grow_2 32 = .ok (.aload_n 0, 1) := dk_42 (dk_at dksJ2_grow_2_1 8 rfl rfl)
theorem dJ2_grow_2_33 : decode cJ2_grow_2 33 = .ok (.getfield 9, 3) := dk_180 0 9 (dk_at dksJ2_grow_2_1 9 rfl rfl)
theorem dJ2_grow_2_36 : decode cJ2_grow_2 36 = .ok (.iload_n 3, 1) := dk_29 (dk_at dksJ2_grow_2_1 12 rfl rfl)
theorem dJ2_grow_2_37 : decode cJ2_grow_2 37 = .ok (.invokestatic 66, 3) := dk_184 0 66 (dk_at dksJ2_grow_2_1 13 rfl rfl)
theorem dJ2_grow_2_40 : decode cJ2_grow_2 40 = .ok (.dup_x1, 1) := dk_90 (dk_at dksJ2_grow_2_1 16 rfl rfl)
theorem dJ2_grow_2_41 : decode cJ2_grow_2 41 = .ok (.putfield 9, 3) := dk_181 0 9 (dk_at dksJ2_grow_2_1 17 rfl rfl)
theorem dJ2_grow_2_44 : decode cJ2_grow_2 44 = .ok (.areturn, 1) := dk_176 (dk_at dksJ2_grow_2_1 20 rfl rfl)
theorem dJ2_grow_2_45 : decode cJ2_grow_2 45 = .ok (.aload_n 0, 1) := dk_42 (dk_at dksJ2_grow_2_1 21 rfl rfl)
theorem dJ2_grow_2_46 : decode cJ2_grow_2 46 = .ok (.bipush 10, 2) := dk_16 10 (dk_at dksJ2_grow_2_1 22 rfl rfl)
theorem dJ2_grow_2_48 : decode cJ2_grow_2 48 = .ok (.iload_n 1, 1) := dk_27 (dk_at dksJ2_grow_2_2 0 rfl rfl)
theorem dJ2_grow_2_49 : decode cJ2_grow_2 49 = .ok (.invokestatic 79, 3) := dk_184 0 79 (dk_at dksJ2_grow_2_2 1 rfl rfl)
theorem dJ2_grow_2_52 : decode cJ2_grow_2 52 = .ok (.anewarray 7, 3) := dk_189 0 7 (dk_at dksJ2_grow_2_2 4 rfl rfl)
theorem dJ2_grow_2_55 : decode cJ2_grow_2 55 = .ok (.dup_x1, 1) := dk_90 (dk_at dksJ2_grow_2_2 7 rfl rfl)
theorem dJ2_grow_2_56 : decode cJ2_grow_2 56 = .ok (.putfield 9, 3) := dk_181 0 9 (dk_at dksJ2_grow_2_2 8 rfl rfl)
theorem dJ2_grow_2_59 : decode cJ2_grow_2 59 = .ok (.areturn, 1) := dk_176 (dk_at dksJ2_grow_2_2 11 rfl rfl)
abbrev cJ2_isEmpty : ByteArray := prog_42_method_9_code
def yJ2_isEmpty : MethodName := ⟨RJ2, "isEmpty", "()Z"⟩
def dkwJ2_isEmpty_0 : List UInt8 := [42, 180, 0, 48, 154, 0, 7, 4, 167, 0, 4, 3, 172]
abbrev dktJ2_isEmpty_0 : List UInt8 := dkwJ2_isEmpty_0 ++ []
theorem dksJ2_isEmpty_0 : cJ2_isEmpty.data.toList.drop 0 = dktJ2_isEmpty_0 := by decide +kernel
theorem dJ2_isEmpty_0 : decode cJ2_isEmpty 0 = .ok (.aload_n 0, 1) := dk_42 (dk_at dksJ2_isEmpty_0 0 rfl rfl)
theorem dJ2_isEmpty_1 : decode cJ2_isEmpty 1 = .ok (.getfield 48, 3) := dk_180 0 48 (dk_at dksJ2_isEmpty_0 1 rfl rfl)
theorem dJ2_isEmpty_4 : decode cJ2_isEmpty 4 = .ok (.ifCond .ne 7, 3) := dk_154 0 7 (dk_at dksJ2_isEmpty_0 4 rfl rfl)
theorem dJ2_isEmpty_7 : decode cJ2_isEmpty 7 = .ok (.iconst 1, 1) := dk_4 (dk_at dksJ2_isEmpty_0 7 rfl rfl)
theorem dJ2_isEmpty_8 : decode cJ2_isEmpty 8 = .ok (.goto 4, 3) := dk_167 0 4 (dk_at dksJ2_isEmpty_0 8 rfl rfl)
theorem dJ2_isEmpty_11 : decode cJ2_isEmpty 11 = .ok (.iconst 0, 1) := dk_3 (dk_at dksJ2_isEmpty_0 11 rfl rfl)
theorem dJ2_isEmpty_12 : decode cJ2_isEmpty 12 = .ok (.ireturn, 1) := dk_172 (dk_at dksJ2_isEmpty_0 12 rfl rfl)
abbrev cJ2_indexOf : ByteArray := prog_42_method_11_code
def yJ2_indexOf : MethodName := ⟨RJ2, "indexOf", "(Ljava/lang/Object;)I"⟩
def dkwJ2_indexOf_0 : List UInt8 := [42, 43, 3, 42, 180, 0, 48, 182, 0, 89, 172]
abbrev dktJ2_indexOf_0 : List UInt8 := dkwJ2_indexOf_0 ++ []
theorem dksJ2_indexOf_0 : cJ2_indexOf.data.toList.drop 0 = dktJ2_indexOf_0 := by decide +kernel
theorem dJ2_indexOf_0 : decode cJ2_indexOf 0 = .ok (.aload_n 0, 1) := dk_42 (dk_at dksJ2_indexOf_0 0 rfl rfl)
theorem dJ2_indexOf_1 : decode cJ2_indexOf 1 = .ok (.aload_n 1, 1) := dk_43 (dk_at dksJ2_indexOf_0 1 rfl rfl)
theorem dJ2_indexOf_2 : decode cJ2_indexOf 2 = .ok (.iconst 0, 1) := dk_3 (dk_at dksJ2_indexOf_0 2 rfl rfl)
theorem dJ2_indexOf_3 : decode cJ2_indexOf 3 = .ok (.aload_n 0, 1) := dk_42 (dk_at dksJ2_indexOf_0 3 rfl rfl)
theorem dJ2_indexOf_4 : decode cJ2_indexOf 4 = .ok (.getfield 48, 3) := dk_180 0 48 (dk_at dksJ2_indexOf_0 4 rfl rfl)
theorem dJ2_indexOf_7 : decode cJ2_indexOf 7 = .ok (.invokevirtual 89, 3) := dk_182 0 89 (dk_at dksJ2_indexOf_0 7 rfl rfl)
theorem dJ2_indexOf_10 : decode cJ2_indexOf 10 = .ok (.ireturn, 1) := dk_172 (dk_at dksJ2_indexOf_0 10 rfl rfl)
abbrev cJ2_indexOfRange : ByteArray := prog_42_method_12_code
def yJ2_indexOfRange : MethodName := ⟨RJ2, "indexOfRange", "(Ljava/lang/Object;II)I"⟩
def dkwJ2_indexOfRange_2 : List UInt8 := [43, 25, 4, 21, 5, 50, 182, 0, 93, 153, 0, 6, 21, 5, 172, 132, 5, 1, 167, 255, 232, 2, 172]
abbrev dktJ2_indexOfRange_2 : List UInt8 := dkwJ2_indexOfRange_2 ++ []
def dkwJ2_indexOfRange_1 : List UInt8 := [199, 0, 6, 21, 5, 172, 132, 5, 1, 167, 255, 236, 167, 0, 33, 28, 54, 5, 21, 5, 29, 162, 0, 24]
abbrev dktJ2_indexOfRange_1 : List UInt8 := dkwJ2_indexOfRange_1 ++ dktJ2_indexOfRange_2
def dkwJ2_indexOfRange_0 : List UInt8 := [42, 180, 0, 9, 58, 4, 43, 199, 0, 32, 28, 54, 5, 21, 5, 29, 162, 0, 20, 25, 4, 21, 5, 50]
abbrev dktJ2_indexOfRange_0 : List UInt8 := dkwJ2_indexOfRange_0 ++ dktJ2_indexOfRange_1
theorem dksJ2_indexOfRange_0 : cJ2_indexOfRange.data.toList.drop 0 = dktJ2_indexOfRange_0 := by decide +kernel
theorem dksJ2_indexOfRange_1 : cJ2_indexOfRange.data.toList.drop 24 = dktJ2_indexOfRange_1 := dk_seg dksJ2_indexOfRange_0 24 rfl rfl
theorem dksJ2_indexOfRange_2 : cJ2_indexOfRange.data.toList.drop 48 = dktJ2_indexOfRange_2 := dk_seg dksJ2_indexOfRange_1 24 rfl rfl
theorem dJ2_indexOfRange_0 : decode cJ2_indexOfRange 0 = .ok (.aload_n 0, 1) := dk_42 (dk_at dksJ2_indexOfRange_0 0 rfl rfl)
theorem dJ2_indexOfRange_1 : decode cJ2_indexOfRange 1 = .ok (.getfield 9, 3) := dk_180 0 9 (dk_at dksJ2_indexOfRange_0 1 rfl rfl)
theorem dJ2_indexOfRange_4 : decode cJ2_indexOfRange 4 = .ok (.astore 4, 2) := dk_58 4 (dk_at dksJ2_indexOfRange_0 4 rfl rfl)
theorem dJ2_indexOfRange_6 : decode cJ2_indexOfRange 6 = .ok (.aload_n 1, 1) := dk_43 (dk_at dksJ2_indexOfRange_0 6 rfl rfl)
theorem dJ2_indexOfRange_7 : decode cJ2_indexOfRange 7 = .ok (.ifnonnull 32, 3) := dk_199 0 32 (dk_at dksJ2_indexOfRange_0 7 rfl rfl)
theorem dJ2_indexOfRange_10 : decode cJ2_indexOfRange 10 = .ok (.iload_n 2, 1) := dk_28 (dk_at dksJ2_indexOfRange_0 10 rfl rfl)
theorem dJ2_indexOfRange_11 : decode cJ2_indexOfRange 11 = .ok (.istore 5, 2) := dk_54 5 (dk_at dksJ2_indexOfRange_0 11 rfl rfl)
theorem dJ2_indexOfRange_13 : decode cJ2_indexOfRange 13 = .ok (.iload 5, 2) := dk_21 5 (dk_at dksJ2_indexOfRange_0 13 rfl rfl)
theorem dJ2_indexOfRange_15 : decode cJ2_indexOfRange 15 = .ok (.iload_n 3, 1) := dk_29 (dk_at dksJ2_indexOfRange_0 15 rfl rfl)
theorem dJ2_indexOfRange_16 : decode cJ2_indexOfRange 16 = .ok (.if_icmp .ge 20, 3) := dk_162 0 20 (dk_at dksJ2_indexOfRange_0 16 rfl rfl)
theorem dJ2_indexOfRange_19 : decode cJ2_indexOfRange 19 = .ok (.aload 4, 2) := dk_25 4 (dk_at dksJ2_indexOfRange_0 19 rfl rfl)
theorem dJ2_indexOfRange_21 : decode cJ2_indexOfRange 21 = .ok (.iload 5, 2) := dk_21 5 (dk_at dksJ2_indexOfRange_0 21 rfl rfl)
theorem dJ2_indexOfRange_23 : decode cJ2_indexOfRange 23 = .ok (.aaload, 1) := dk_50 (dk_at dksJ2_indexOfRange_0 23 rfl rfl)
theorem dJ2_indexOfRange_24 : decode cJ2_indexOfRange 24 = .ok (.ifnonnull 6, 3) := dk_199 0 6 (dk_at dksJ2_indexOfRange_1 0 rfl rfl)
theorem dJ2_indexOfRange_27 : decode cJ2_indexOfRange 27 = .ok (.iload 5, 2) := dk_21 5 (dk_at dksJ2_indexOfRange_1 3 rfl rfl)
theorem dJ2_indexOfRange_29 : decode cJ2_indexOfRange 29 = .ok (.ireturn, 1) := dk_172 (dk_at dksJ2_indexOfRange_1 5 rfl rfl)
theorem dJ2_indexOfRange_30 : decode cJ2_indexOfRange 30 = .ok (.iinc 5 1, 3) := dk_132 5 1 (dk_at dksJ2_indexOfRange_1 6 rfl rfl)
theorem dJ2_indexOfRange_33 : decode cJ2_indexOfRange 33 = .ok (.goto (-20), 3) := dk_167 255 236 (dk_at dksJ2_indexOfRange_1 9 rfl rfl)
theorem dJ2_indexOfRange_36 : decode cJ2_indexOfRange 36 = .ok (.goto 33, 3) := dk_167 0 33 (dk_at dksJ2_indexOfRange_1 12 rfl rfl)
theorem dJ2_indexOfRange_39 : decode cJ2_indexOfRange 39 = .ok (.iload_n 2, 1) := dk_28 (dk_at dksJ2_indexOfRange_1 15 rfl rfl)
theorem dJ2_indexOfRange_40 : decode cJ2_indexOfRange 40 = .ok (.istore 5, 2) := dk_54 5 (dk_at dksJ2_indexOfRange_1 16 rfl rfl)
theorem dJ2_indexOfRange_42 : decode cJ2_indexOfRange 42 = .ok (.iload 5, 2) := dk_21 5 (dk_at dksJ2_indexOfRange_1 18 rfl rfl)
theorem dJ2_indexOfRange_44 : decode cJ2_indexOfRange 44 = .ok (.iload_n 3, 1) := dk_29 (dk_at dksJ2_indexOfRange_1 20 rfl rfl)
theorem dJ2_indexOfRange_45 : decode cJ2_indexOfRange 45 = .ok (.if_icmp .ge 24, 3) := dk_162 0 24 (dk_at dksJ2_indexOfRange_1 21 rfl rfl)
theorem dJ2_indexOfRange_48 : decode cJ2_indexOfRange 48 = .ok (.aload_n 1, 1) := dk_43 (dk_at dksJ2_indexOfRange_2 0 rfl rfl)
theorem dJ2_indexOfRange_49 : decode cJ2_indexOfRange 49 = .ok (.aload 4, 2) := dk_25 4 (dk_at dksJ2_indexOfRange_2 1 rfl rfl)
theorem dJ2_indexOfRange_51 : decode cJ2_indexOfRange 51 = .ok (.iload 5, 2) := dk_21 5 (dk_at dksJ2_indexOfRange_2 3 rfl rfl)
theorem dJ2_indexOfRange_53 : decode cJ2_indexOfRange 53 = .ok (.aaload, 1) := dk_50 (dk_at dksJ2_indexOfRange_2 5 rfl rfl)
theorem dJ2_indexOfRange_54 : decode cJ2_indexOfRange 54 = .ok (.invokevirtual 93, 3) := dk_182 0 93 (dk_at dksJ2_indexOfRange_2 6 rfl rfl)
theorem dJ2_indexOfRange_57 : decode cJ2_indexOfRange 57 = .ok (.ifCond .eq 6, 3) := dk_153 0 6 (dk_at dksJ2_indexOfRange_2 9 rfl rfl)
theorem dJ2_indexOfRange_60 : decode cJ2_indexOfRange 60 = .ok (.iload 5, 2) := dk_21 5 (dk_at dksJ2_indexOfRange_2 12 rfl rfl)
theorem dJ2_indexOfRange_62 : decode cJ2_indexOfRange 62 = .ok (.ireturn, 1) := dk_172 (dk_at dksJ2_indexOfRange_2 14 rfl rfl)
theorem dJ2_indexOfRange_63 : decode cJ2_indexOfRange 63 = .ok (.iinc 5 1, 3) := dk_132 5 1 (dk_at dksJ2_indexOfRange_2 15 rfl rfl)
theorem dJ2_indexOfRange_66 : decode cJ2_indexOfRange 66 = .ok (.goto (-24), 3) := dk_167 255 232 (dk_at dksJ2_indexOfRange_2 18 rfl rfl)
theorem dJ2_indexOfRange_69 : decode cJ2_indexOfRange 69 = .ok (.iconst (-1), 1) := dk_2 (dk_at dksJ2_indexOfRange_2 21 rfl rfl)
theorem dJ2_indexOfRange_70 : decode cJ2_indexOfRange 70 = .ok (.ireturn, 1) := dk_172 (dk_at dksJ2_indexOfRange_2 22 rfl rfl)
abbrev cJ2_clear : ByteArray := prog_42_method_40_code
def yJ2_clear : MethodName := ⟨RJ2, "clear", "()V"⟩
def dkwJ2_clear_1 : List UInt8 := [181, 0, 48, 62, 29, 28, 162, 0, 13, 43, 29, 1, 83, 132, 3, 1, 167, 255, 244, 177]
abbrev dktJ2_clear_1 : List UInt8 := dkwJ2_clear_1 ++ []
def dkwJ2_clear_0 : List UInt8 := [42, 89, 180, 0, 63, 4, 96, 181, 0, 63, 42, 180, 0, 9, 76, 42, 180, 0, 48, 61, 42, 3, 90]
abbrev dktJ2_clear_0 : List UInt8 := dkwJ2_clear_0 ++ dktJ2_clear_1
theorem dksJ2_clear_0 : cJ2_clear.data.toList.drop 0 = dktJ2_clear_0 := by decide +kernel
theorem dksJ2_clear_1 : cJ2_clear.data.toList.drop 23 = dktJ2_clear_1 := dk_seg dksJ2_clear_0 23 rfl rfl
theorem dJ2_clear_0 : decode cJ2_clear 0 = .ok (.aload_n 0, 1) := dk_42 (dk_at dksJ2_clear_0 0 rfl rfl)
theorem dJ2_clear_1 : decode cJ2_clear 1 = .ok (.dup, 1) := dk_89 (dk_at dksJ2_clear_0 1 rfl rfl)
theorem dJ2_clear_2 : decode cJ2_clear 2 = .ok (.getfield 63, 3) := dk_180 0 63 (dk_at dksJ2_clear_0 2 rfl rfl)
theorem dJ2_clear_5 : decode cJ2_clear 5 = .ok (.iconst 1, 1) := dk_4 (dk_at dksJ2_clear_0 5 rfl rfl)
theorem dJ2_clear_6 : decode cJ2_clear 6 = .ok (.iadd, 1) := dk_96 (dk_at dksJ2_clear_0 6 rfl rfl)
theorem dJ2_clear_7 : decode cJ2_clear 7 = .ok (.putfield 63, 3) := dk_181 0 63 (dk_at dksJ2_clear_0 7 rfl rfl)
theorem dJ2_clear_10 : decode cJ2_clear 10 = .ok (.aload_n 0, 1) := dk_42 (dk_at dksJ2_clear_0 10 rfl rfl)
theorem dJ2_clear_11 : decode cJ2_clear 11 = .ok (.getfield 9, 3) := dk_180 0 9 (dk_at dksJ2_clear_0 11 rfl rfl)
theorem dJ2_clear_14 : decode cJ2_clear 14 = .ok (.astore_n 1, 1) := dk_76 (dk_at dksJ2_clear_0 14 rfl rfl)
theorem dJ2_clear_15 : decode cJ2_clear 15 = .ok (.aload_n 0, 1) := dk_42 (dk_at dksJ2_clear_0 15 rfl rfl)
theorem dJ2_clear_16 : decode cJ2_clear 16 = .ok (.getfield 48, 3) := dk_180 0 48 (dk_at dksJ2_clear_0 16 rfl rfl)
theorem dJ2_clear_19 : decode cJ2_clear 19 = .ok (.istore_n 2, 1) := dk_61 (dk_at dksJ2_clear_0 19 rfl rfl)
theorem dJ2_clear_20 : decode cJ2_clear 20 = .ok (.aload_n 0, 1) := dk_42 (dk_at dksJ2_clear_0 20 rfl rfl)
theorem dJ2_clear_21 : decode cJ2_clear 21 = .ok (.iconst 0, 1) := dk_3 (dk_at dksJ2_clear_0 21 rfl rfl)
theorem dJ2_clear_22 : decode cJ2_clear 22 = .ok (.dup_x1, 1) := dk_90 (dk_at dksJ2_clear_0 22 rfl rfl)
theorem dJ2_clear_23 : decode cJ2_clear 23 = .ok (.putfield 48, 3) := dk_181 0 48 (dk_at dksJ2_clear_1 0 rfl rfl)
theorem dJ2_clear_26 : decode cJ2_clear 26 = .ok (.istore_n 3, 1) := dk_62 (dk_at dksJ2_clear_1 3 rfl rfl)
theorem dJ2_clear_27 : decode cJ2_clear 27 = .ok (.iload_n 3, 1) := dk_29 (dk_at dksJ2_clear_1 4 rfl rfl)
theorem dJ2_clear_28 : decode cJ2_clear 28 = .ok (.iload_n 2, 1) := dk_28 (dk_at dksJ2_clear_1 5 rfl rfl)
theorem dJ2_clear_29 : decode cJ2_clear 29 = .ok (.if_icmp .ge 13, 3) := dk_162 0 13 (dk_at dksJ2_clear_1 6 rfl rfl)
theorem dJ2_clear_32 : decode cJ2_clear 32 = .ok (.aload_n 1, 1) := dk_43 (dk_at dksJ2_clear_1 9 rfl rfl)
theorem dJ2_clear_33 : decode cJ2_clear 33 = .ok (.iload_n 3, 1) := dk_29 (dk_at dksJ2_clear_1 10 rfl rfl)
theorem dJ2_clear_34 : decode cJ2_clear 34 = .ok (.aconst_null, 1) := dk_1 (dk_at dksJ2_clear_1 11 rfl rfl)
theorem dJ2_clear_35 : decode cJ2_clear 35 = .ok (.aastore, 1) := dk_83 (dk_at dksJ2_clear_1 12 rfl rfl)
theorem dJ2_clear_36 : decode cJ2_clear 36 = .ok (.iinc 3 1, 3) := dk_132 3 1 (dk_at dksJ2_clear_1 13 rfl rfl)
theorem dJ2_clear_39 : decode cJ2_clear 39 = .ok (.goto (-12), 3) := dk_167 255 244 (dk_at dksJ2_clear_1 16 rfl rfl)
theorem dJ2_clear_42 : decode cJ2_clear 42 = .ok (.return_, 1) := dk_177 (dk_at dksJ2_clear_1 19 rfl rfl)
theorem q47 : (Jvm.Cond.initialized "java/util/ArrayList") ∈ lw_all := lw_g (lw_at lw_m1 4 rfl) rfl
theorem q90 : (Jvm.Cond.instantiable "java/util/ArrayList" (3 : Nat)) ∈ lw_all := lw_g (lw_at lw_m1 47 rfl) rfl
theorem q92 : (Jvm.Cond.instanceMethod ({ cls := "java/util/ArrayList", name := "<init>", desc := "()V" } : Jvm.MethodName)) ∈ lw_all := lw_g (lw_at lw_m1 49 rfl) rfl
theorem q93 : (Jvm.Cond.code ({ cls := "java/util/ArrayList", name := "<init>", desc := "()V" } : Jvm.MethodName) prog_42_method_2_code (1 : Nat) (Option.none : Option Jvm.ClassFile.FieldType)) ∈ lw_all := lw_g (lw_at lw_m1 50 rfl) rfl
theorem q94 : (Jvm.Cond.methodLink "java/util/ArrayList" (1 : Nat) ({ cls := "java/util/AbstractList", name := "<init>", desc := "()V" } : Jvm.MethodName)) ∈ lw_all := lw_g (lw_at lw_m1 51 rfl) rfl
theorem q101 : (Jvm.Cond.fieldLink "java/util/ArrayList" (39 : Nat) "java/util/ArrayList" "DEFAULTCAPACITY_EMPTY_ELEMENTDATA" "[Ljava/lang/Object;") ∈ lw_all := lw_g (lw_at lw_m1 58 rfl) rfl
theorem q102 : (Jvm.Cond.laysStatic "java/util/ArrayList" "DEFAULTCAPACITY_EMPTY_ELEMENTDATA" "[Ljava/lang/Object;") ∈ lw_tbl := lw_at lw_m1 59 rfl
theorem q103 : (Jvm.Cond.fieldLink "java/util/ArrayList" (9 : Nat) "java/util/ArrayList" "elementData" "[Ljava/lang/Object;") ∈ lw_all := lw_g (lw_at lw_m1 60 rfl) rfl
theorem q104 : (Jvm.Cond.fieldLink "java/util/ArrayList" (48 : Nat) "java/util/ArrayList" "size" "I") ∈ lw_all := lw_g (lw_at lw_m1 61 rfl) rfl
theorem q106 : (Jvm.Cond.fieldLink "java/util/ArrayList" (63 : Nat) "java/util/ArrayList" "modCount" "I") ∈ lw_all := lw_g (lw_at lw_m1 63 rfl) rfl
theorem q107 : (Jvm.Cond.sameField "java/util/ArrayList" "java/util/AbstractList" "modCount" "I") ∈ lw_all := lw_g (lw_at lw_m1 64 rfl) rfl
theorem q108 : (Jvm.Cond.lays "java/util/ArrayList" "java/util/ArrayList" "elementData" "[Ljava/lang/Object;") ∈ lw_all := lw_g (lw_at lw_m1 65 rfl) rfl
theorem q109 : (Jvm.Cond.soleField "java/util/ArrayList" "elementData") ∈ lw_all := lw_g (lw_at lw_m1 66 rfl) rfl
theorem q110 : (Jvm.Cond.lays "java/util/ArrayList" "java/util/ArrayList" "size" "I") ∈ lw_all := lw_g (lw_at lw_m1 67 rfl) rfl
theorem q111 : (Jvm.Cond.soleField "java/util/ArrayList" "size") ∈ lw_all := lw_g (lw_at lw_m1 68 rfl) rfl
theorem q112 : (Jvm.Cond.lays "java/util/ArrayList" "java/util/AbstractList" "modCount" "I") ∈ lw_all := lw_g (lw_at lw_m1 69 rfl) rfl
theorem q114 : (Jvm.Cond.superclass "java/util/ArrayList" "java/util/AbstractList") ∈ lw_all := lw_g (lw_at lw_m1 71 rfl) rfl
theorem q158 : (Jvm.Cond.castable "java/util/ArrayList" "java/util/List") ∈ lw_tbl := lw_at lw_m1 115 rfl
theorem q159 : (Jvm.Cond.selects "java/util/ArrayList" ({ cls := "java/util/List", name := "size", desc := "()I" } : Jvm.MethodName) ({ cls := "java/util/ArrayList", name := "size", desc := "()I" } : Jvm.MethodName)) ∈ lw_all := lw_g (lw_at lw_m1 116 rfl) rfl
theorem q160 : (Jvm.Cond.unhidden "java/util/ArrayList" "size" "()I") ∈ lw_tbl := lw_at lw_m1 117 rfl
theorem q161 : (Jvm.Cond.instanceMethod ({ cls := "java/util/ArrayList", name := "size", desc := "()I" } : Jvm.MethodName)) ∈ lw_all := lw_g (lw_at lw_m1 118 rfl) rfl
theorem q162 : (Jvm.Cond.publicMethod ({ cls := "java/util/ArrayList", name := "size", desc := "()I" } : Jvm.MethodName)) ∈ lw_tbl := lw_at lw_m1 119 rfl
theorem q163 : (Jvm.Cond.code ({ cls := "java/util/ArrayList", name := "size", desc := "()I" } : Jvm.MethodName) prog_42_method_8_code (1 : Nat) (Option.some Jvm.ClassFile.FieldType.int)) ∈ lw_all := lw_g (lw_at lw_m1 120 rfl) rfl
theorem q185 : (Jvm.Cond.selects "java/util/ArrayList" ({ cls := "java/util/List", name := "get", desc := "(I)Ljava/lang/Object;" } : Jvm.MethodName) ({ cls := "java/util/ArrayList", name := "get", desc := "(I)Ljava/lang/Object;" } : Jvm.MethodName)) ∈ lw_all := lw_g (lw_at lw_m1 142 rfl) rfl
theorem q186 : (Jvm.Cond.unhidden "java/util/ArrayList" "get" "(I)Ljava/lang/Object;") ∈ lw_tbl := lw_at lw_m1 143 rfl
theorem q187 : (Jvm.Cond.instanceMethod ({ cls := "java/util/ArrayList", name := "get", desc := "(I)Ljava/lang/Object;" } : Jvm.MethodName)) ∈ lw_all := lw_g (lw_at lw_m1 144 rfl) rfl
theorem q188 : (Jvm.Cond.publicMethod ({ cls := "java/util/ArrayList", name := "get", desc := "(I)Ljava/lang/Object;" } : Jvm.MethodName)) ∈ lw_tbl := lw_at lw_m1 145 rfl
theorem q189 : (Jvm.Cond.code ({ cls := "java/util/ArrayList", name := "get", desc := "(I)Ljava/lang/Object;" } : Jvm.MethodName) prog_42_method_20_code (2 : Nat) (Option.some (Jvm.ClassFile.FieldType.object "java/lang/Object"))) ∈ lw_all := lw_g (lw_at lw_m1 146 rfl) rfl
theorem q190 : (Jvm.Cond.methodLink "java/util/ArrayList" (118 : Nat) ({ cls := "java/util/Objects", name := "checkIndex", desc := "(II)I" } : Jvm.MethodName)) ∈ lw_all := lw_g (lw_at lw_m1 147 rfl) rfl
theorem q196 : (Jvm.Cond.methodLink "java/util/ArrayList" (123 : Nat) ({ cls := "java/util/ArrayList", name := "elementData", desc := "(I)Ljava/lang/Object;" } : Jvm.MethodName)) ∈ lw_all := lw_g (lw_at lw_m1 153 rfl) rfl
theorem q197 : (Jvm.Cond.instanceMethod ({ cls := "java/util/ArrayList", name := "elementData", desc := "(I)Ljava/lang/Object;" } : Jvm.MethodName)) ∈ lw_all := lw_g (lw_at lw_m1 154 rfl) rfl
theorem q198 : (Jvm.Cond.selects "java/util/ArrayList" ({ cls := "java/util/ArrayList", name := "elementData", desc := "(I)Ljava/lang/Object;" } : Jvm.MethodName) ({ cls := "java/util/ArrayList", name := "elementData", desc := "(I)Ljava/lang/Object;" } : Jvm.MethodName)) ∈ lw_all := lw_g (lw_at lw_m1 155 rfl) rfl
theorem q199 : (Jvm.Cond.code ({ cls := "java/util/ArrayList", name := "elementData", desc := "(I)Ljava/lang/Object;" } : Jvm.MethodName) prog_42_method_18_code (2 : Nat) (Option.some (Jvm.ClassFile.FieldType.object "java/lang/Object"))) ∈ lw_all := lw_g (lw_at lw_m1 156 rfl) rfl
theorem q480 : (Jvm.Cond.selects "java/util/ArrayList" ({ cls := "java/util/List", name := "add", desc := "(Ljava/lang/Object;)Z" } : Jvm.MethodName) ({ cls := "java/util/ArrayList", name := "add", desc := "(Ljava/lang/Object;)Z" } : Jvm.MethodName)) ∈ lw_all := lw_g (lw_at lw_m2 197 rfl) rfl
theorem q481 : (Jvm.Cond.unhidden "java/util/ArrayList" "add" "(Ljava/lang/Object;)Z") ∈ lw_tbl := lw_at lw_m2 198 rfl
theorem q482 : (Jvm.Cond.instanceMethod ({ cls := "java/util/ArrayList", name := "add", desc := "(Ljava/lang/Object;)Z" } : Jvm.MethodName)) ∈ lw_all := lw_g (lw_at lw_m2 199 rfl) rfl
theorem q483 : (Jvm.Cond.publicMethod ({ cls := "java/util/ArrayList", name := "add", desc := "(Ljava/lang/Object;)Z" } : Jvm.MethodName)) ∈ lw_tbl := lw_at lw_m2 200 rfl
theorem q484 : (Jvm.Cond.code ({ cls := "java/util/ArrayList", name := "add", desc := "(Ljava/lang/Object;)Z" } : Jvm.MethodName) prog_42_method_25_code (2 : Nat) (Option.some Jvm.ClassFile.FieldType.boolean)) ∈ lw_all := lw_g (lw_at lw_m2 201 rfl) rfl
theorem q485 : (Jvm.Cond.methodLink "java/util/ArrayList" (131 : Nat) ({ cls := "java/util/ArrayList", name := "add", desc := "(Ljava/lang/Object;[Ljava/lang/Object;I)V" } : Jvm.MethodName)) ∈ lw_all := lw_g (lw_at lw_m2 202 rfl) rfl
theorem q486 : (Jvm.Cond.privateMethod ({ cls := "java/util/ArrayList", name := "add", desc := "(Ljava/lang/Object;[Ljava/lang/Object;I)V" } : Jvm.MethodName)) ∈ lw_tbl := lw_at lw_m2 203 rfl
theorem q487 : (Jvm.Cond.instanceMethod ({ cls := "java/util/ArrayList", name := "add", desc := "(Ljava/lang/Object;[Ljava/lang/Object;I)V" } : Jvm.MethodName)) ∈ lw_all := lw_g (lw_at lw_m2 204 rfl) rfl
theorem q488 : (Jvm.Cond.code ({ cls := "java/util/ArrayList", name := "add", desc := "(Ljava/lang/Object;[Ljava/lang/Object;I)V" } : Jvm.MethodName) prog_42_method_24_code (4 : Nat) (Option.none : Option Jvm.ClassFile.FieldType)) ∈ lw_all := lw_g (lw_at lw_m2 205 rfl) rfl
theorem q489 : (Jvm.Cond.methodLink "java/util/ArrayList" (129 : Nat) ({ cls := "java/util/ArrayList", name := "grow", desc := "()[Ljava/lang/Object;" } : Jvm.MethodName)) ∈ lw_all := lw_g (lw_at lw_m2 206 rfl) rfl
theorem q490 : (Jvm.Cond.privateMethod ({ cls := "java/util/ArrayList", name := "grow", desc := "()[Ljava/lang/Object;" } : Jvm.MethodName)) ∈ lw_tbl := lw_at lw_m2 207 rfl
theorem q491 : (Jvm.Cond.instanceMethod ({ cls := "java/util/ArrayList", name := "grow", desc := "()[Ljava/lang/Object;" } : Jvm.MethodName)) ∈ lw_all := lw_g (lw_at lw_m2 208 rfl) rfl
theorem q492 : (Jvm.Cond.code ({ cls := "java/util/ArrayList", name := "grow", desc := "()[Ljava/lang/Object;" } : Jvm.MethodName) prog_42_method_7_code (1 : Nat) (Option.some (Jvm.ClassFile.FieldType.array (Jvm.ClassFile.FieldType.object "java/lang/Object")))) ∈ lw_all := lw_g (lw_at lw_m2 209 rfl) rfl
theorem q493 : (Jvm.Cond.methodLink "java/util/ArrayList" (69 : Nat) ({ cls := "java/util/ArrayList", name := "grow", desc := "(I)[Ljava/lang/Object;" } : Jvm.MethodName)) ∈ lw_all := lw_g (lw_at lw_m2 210 rfl) rfl
theorem q494 : (Jvm.Cond.privateMethod ({ cls := "java/util/ArrayList", name := "grow", desc := "(I)[Ljava/lang/Object;" } : Jvm.MethodName)) ∈ lw_tbl := lw_at lw_m2 211 rfl
theorem q495 : (Jvm.Cond.instanceMethod ({ cls := "java/util/ArrayList", name := "grow", desc := "(I)[Ljava/lang/Object;" } : Jvm.MethodName)) ∈ lw_all := lw_g (lw_at lw_m2 212 rfl) rfl
theorem q496 : (Jvm.Cond.code ({ cls := "java/util/ArrayList", name := "grow", desc := "(I)[Ljava/lang/Object;" } : Jvm.MethodName) prog_42_method_6_code (4 : Nat) (Option.some (Jvm.ClassFile.FieldType.array (Jvm.ClassFile.FieldType.object "java/lang/Object")))) ∈ lw_all := lw_g (lw_at lw_m2 213 rfl) rfl
theorem q497 : (Jvm.Cond.methodLink "java/util/ArrayList" (73 : Nat) ({ cls := "jdk/internal/util/ArraysSupport", name := "newLength", desc := "(III)I" } : Jvm.MethodName)) ∈ lw_all := lw_g (lw_at lw_m2 214 rfl) rfl
theorem q505 : (Jvm.Cond.methodLink "java/util/ArrayList" (66 : Nat) ({ cls := "java/util/Arrays", name := "copyOf", desc := "([Ljava/lang/Object;I)[Ljava/lang/Object;" } : Jvm.MethodName)) ∈ lw_all := lw_g (lw_at lw_m2 222 rfl) rfl
theorem q529 : (Jvm.Cond.selects "java/util/ArrayList" ({ cls := "java/lang/Object", name := "getClass", desc := "()Ljava/lang/Class;" } : Jvm.MethodName) ({ cls := "java/lang/Object", name := "getClass", desc := "()Ljava/lang/Class;" } : Jvm.MethodName)) ∈ lw_all := lw_g (lw_at lw_m3 6 rfl) rfl
theorem q541 : (Jvm.Cond.methodLink "java/util/ArrayList" (79 : Nat) ({ cls := "java/lang/Math", name := "max", desc := "(II)I" } : Jvm.MethodName)) ∈ lw_all := lw_g (lw_at lw_m3 18 rfl) rfl
theorem q542 : (Jvm.Cond.classLink "java/util/ArrayList" (7 : Nat) "java/lang/Object") ∈ lw_all := lw_g (lw_at lw_m3 19 rfl) rfl
theorem q699 : (Jvm.Cond.selects "java/util/ArrayList" ({ cls := "java/util/List", name := "isEmpty", desc := "()Z" } : Jvm.MethodName) ({ cls := "java/util/ArrayList", name := "isEmpty", desc := "()Z" } : Jvm.MethodName)) ∈ lw_all := lw_g (lw_at lw_m3 176 rfl) rfl
theorem q700 : (Jvm.Cond.unhidden "java/util/ArrayList" "isEmpty" "()Z") ∈ lw_tbl := lw_at lw_m3 177 rfl
theorem q701 : (Jvm.Cond.instanceMethod ({ cls := "java/util/ArrayList", name := "isEmpty", desc := "()Z" } : Jvm.MethodName)) ∈ lw_all := lw_g (lw_at lw_m3 178 rfl) rfl
theorem q702 : (Jvm.Cond.publicMethod ({ cls := "java/util/ArrayList", name := "isEmpty", desc := "()Z" } : Jvm.MethodName)) ∈ lw_tbl := lw_at lw_m3 179 rfl
theorem q703 : (Jvm.Cond.code ({ cls := "java/util/ArrayList", name := "isEmpty", desc := "()Z" } : Jvm.MethodName) prog_42_method_9_code (1 : Nat) (Option.some Jvm.ClassFile.FieldType.boolean)) ∈ lw_all := lw_g (lw_at lw_m3 180 rfl) rfl
theorem q924 : (Jvm.Cond.selects "java/util/ArrayList" ({ cls := "java/util/List", name := "indexOf", desc := "(Ljava/lang/Object;)I" } : Jvm.MethodName) ({ cls := "java/util/ArrayList", name := "indexOf", desc := "(Ljava/lang/Object;)I" } : Jvm.MethodName)) ∈ lw_all := lw_g (lw_at lw_m4 161 rfl) rfl
theorem q925 : (Jvm.Cond.unhidden "java/util/ArrayList" "indexOf" "(Ljava/lang/Object;)I") ∈ lw_tbl := lw_at lw_m4 162 rfl
theorem q926 : (Jvm.Cond.instanceMethod ({ cls := "java/util/ArrayList", name := "indexOf", desc := "(Ljava/lang/Object;)I" } : Jvm.MethodName)) ∈ lw_all := lw_g (lw_at lw_m4 163 rfl) rfl
theorem q927 : (Jvm.Cond.publicMethod ({ cls := "java/util/ArrayList", name := "indexOf", desc := "(Ljava/lang/Object;)I" } : Jvm.MethodName)) ∈ lw_tbl := lw_at lw_m4 164 rfl
theorem q928 : (Jvm.Cond.code ({ cls := "java/util/ArrayList", name := "indexOf", desc := "(Ljava/lang/Object;)I" } : Jvm.MethodName) prog_42_method_11_code (2 : Nat) (Option.some Jvm.ClassFile.FieldType.int)) ∈ lw_all := lw_g (lw_at lw_m4 165 rfl) rfl
theorem q929 : (Jvm.Cond.methodLink "java/util/ArrayList" (89 : Nat) ({ cls := "java/util/ArrayList", name := "indexOfRange", desc := "(Ljava/lang/Object;II)I" } : Jvm.MethodName)) ∈ lw_all := lw_g (lw_at lw_m4 166 rfl) rfl
theorem q930 : (Jvm.Cond.instanceMethod ({ cls := "java/util/ArrayList", name := "indexOfRange", desc := "(Ljava/lang/Object;II)I" } : Jvm.MethodName)) ∈ lw_all := lw_g (lw_at lw_m4 167 rfl) rfl
theorem q931 : (Jvm.Cond.selects "java/util/ArrayList" ({ cls := "java/util/ArrayList", name := "indexOfRange", desc := "(Ljava/lang/Object;II)I" } : Jvm.MethodName) ({ cls := "java/util/ArrayList", name := "indexOfRange", desc := "(Ljava/lang/Object;II)I" } : Jvm.MethodName)) ∈ lw_all := lw_g (lw_at lw_m4 168 rfl) rfl
theorem q932 : (Jvm.Cond.code ({ cls := "java/util/ArrayList", name := "indexOfRange", desc := "(Ljava/lang/Object;II)I" } : Jvm.MethodName) prog_42_method_12_code (6 : Nat) (Option.some Jvm.ClassFile.FieldType.int)) ∈ lw_all := lw_g (lw_at lw_m4 169 rfl) rfl
theorem q934 : (Jvm.Cond.methodLink "java/util/ArrayList" (93 : Nat) ({ cls := "java/lang/Object", name := "equals", desc := "(Ljava/lang/Object;)Z" } : Jvm.MethodName)) ∈ lw_all := lw_g (lw_at lw_m4 171 rfl) rfl
theorem q1037 : (Jvm.Cond.selects "java/util/ArrayList" ({ cls := "java/util/List", name := "clear", desc := "()V" } : Jvm.MethodName) ({ cls := "java/util/ArrayList", name := "clear", desc := "()V" } : Jvm.MethodName)) ∈ lw_all := lw_g (lw_at lw_m5 34 rfl) rfl
theorem q1038 : (Jvm.Cond.unhidden "java/util/ArrayList" "clear" "()V") ∈ lw_tbl := lw_at lw_m5 35 rfl
theorem q1039 : (Jvm.Cond.instanceMethod ({ cls := "java/util/ArrayList", name := "clear", desc := "()V" } : Jvm.MethodName)) ∈ lw_all := lw_g (lw_at lw_m5 36 rfl) rfl
theorem q1040 : (Jvm.Cond.publicMethod ({ cls := "java/util/ArrayList", name := "clear", desc := "()V" } : Jvm.MethodName)) ∈ lw_tbl := lw_at lw_m5 37 rfl
theorem q1041 : (Jvm.Cond.code ({ cls := "java/util/ArrayList", name := "clear", desc := "()V" } : Jvm.MethodName) prog_42_method_40_code (4 : Nat) (Option.none : Option Jvm.ClassFile.FieldType)) ∈ lw_all := lw_g (lw_at lw_m5 38 rfl) rfl
theorem q1795 : (Jvm.Cond.castable "java/util/ArrayList" "java/lang/Object") ∈ lw_tbl := lw_at lw_m8 72 rfl
theorem in_J2 : ∀ w ∈ wsJ20, w ∈ lw_all := lw_in wsJ20 [112, 108, 110] (by decide +kernel) (by decide +kernel)

/-! java/lang/Throwable -/
set_option maxRecDepth 100000
def RJ3 : String := "java/lang/Throwable"
def TJ3 : u_T := fun k => match k with
  | 0 => ("java/lang/Throwable", "cause", "Ljava/lang/Throwable;", false)
  | 1 => ("java/lang/Throwable", "stackTrace", "[Ljava/lang/StackTraceElement;", false)
  | 2 => ("java/lang/Throwable", "suppressedExceptions", "Ljava/util/List;", false)
  | 3 => ("java/lang/Throwable", "detailMessage", "Ljava/lang/String;", false)
  | _ => ("java/lang/Throwable", "backtrace", "Ljava/lang/Object;", false)
def tyJ3 : Nat → FieldType := fun k => match k with
  | 0 => .object "java/lang/Throwable"
  | 1 => .array (.object "java/lang/StackTraceElement")
  | 2 => .object "java/util/List"
  | 3 => .object "java/lang/String"
  | _ => .object "java/lang/Object"
abbrev wsJ30 : List Cond := u_ws RJ3 TJ3 5
theorem nmJ3 : ∀ a, a < 5 → ∀ b, b < 5 → a ≠ b → (TJ3 a).2.1 ≠ (TJ3 b).2.1 := by decide +kernel
theorem tyJ3_ok : ∀ k, k < 5 → parseFieldDescriptor (TJ3 k).2.2.1 = some (tyJ3 k) := by decide +kernel
abbrev cJ3_init : ByteArray := prog_37_method_2_code
def yJ3_init : MethodName := ⟨RJ3, "<init>", "(Ljava/lang/String;)V"⟩
def dkwJ3_init_1 : List UInt8 := [182, 0, 27, 87, 42, 43, 181, 0, 31, 177]
abbrev dktJ3_init_1 : List UInt8 := dkwJ3_init_1 ++ []
def dkwJ3_init_0 : List UInt8 := [42, 183, 0, 1, 42, 42, 181, 0, 7, 42, 178, 0, 13, 181, 0, 17, 42, 178, 0, 20, 181, 0, 24, 42]
abbrev dktJ3_init_0 : List UInt8 := dkwJ3_init_0 ++ dktJ3_init_1
theorem dksJ3_init_0 : cJ3_init.data.toList.drop 0 = dktJ3_init_0 := by decide +kernel
theorem dksJ3_init_1 : cJ3_init.data.toList.drop 24 = dktJ3_init_1 := dk_seg dksJ3_init_0 24 rfl rfl
theorem dJ3_init_0 : decode cJ3_init 0 = .ok (.aload_n 0, 1) := dk_42 (dk_at dksJ3_init_0 0 rfl rfl)
theorem dJ3_init_1 : decode cJ3_init 1 = .ok (.invokespecial 1, 3) := dk_183 0 1 (dk_at dksJ3_init_0 1 rfl rfl)
theorem dJ3_init_4 : decode cJ3_init 4 = .ok (.aload_n 0, 1) := dk_42 (dk_at dksJ3_init_0 4 rfl rfl)
theorem dJ3_init_5 : decode cJ3_init 5 = .ok (.aload_n 0, 1) := dk_42 (dk_at dksJ3_init_0 5 rfl rfl)
theorem dJ3_init_6 : decode cJ3_init 6 = .ok (.putfield 7, 3) := dk_181 0 7 (dk_at dksJ3_init_0 6 rfl rfl)
theorem dJ3_init_9 : decode cJ3_init 9 = .ok (.aload_n 0, 1) := dk_42 (dk_at dksJ3_init_0 9 rfl rfl)
theorem dJ3_init_10 : decode cJ3_init 10 = .ok (.getstatic 13, 3) := dk_178 0 13 (dk_at dksJ3_init_0 10 rfl rfl)
theorem dJ3_init_13 : decode cJ3_init 13 = .ok (.putfield 17, 3) := dk_181 0 17 (dk_at dksJ3_init_0 13 rfl rfl)
theorem dJ3_init_16 : decode cJ3_init 16 = .ok (.aload_n 0, 1) := dk_42 (dk_at dksJ3_init_0 16 rfl rfl)
theorem dJ3_init_17 : decode cJ3_init 17 = .ok (.getstatic 20, 3) := dk_178 0 20 (dk_at dksJ3_init_0 17 rfl rfl)
theorem dJ3_init_20 : decode cJ3_init 20 = .ok (.putfield 24, 3) := dk_181 0 24 (dk_at dksJ3_init_0 20 rfl rfl)
theorem dJ3_init_23 : decode cJ3_init 23 = .ok (.aload_n 0, 1) := dk_42 (dk_at dksJ3_init_0 23 rfl rfl)
theorem dJ3_init_24 : decode cJ3_init 24 = .ok (.invokevirtual 27, 3) := dk_182 0 27 (dk_at dksJ3_init_1 0 rfl rfl)
theorem dJ3_init_27 : decode cJ3_init 27 = .ok (.pop, 1) := dk_87 (dk_at dksJ3_init_1 3 rfl rfl)
theorem dJ3_init_28 : decode cJ3_init 28 = .ok (.aload_n 0, 1) := dk_42 (dk_at dksJ3_init_1 4 rfl rfl)
theorem dJ3_init_29 : decode cJ3_init 29 = .ok (.aload_n 1, 1) := dk_43 (dk_at dksJ3_init_1 5 rfl rfl)
theorem dJ3_init_30 : decode cJ3_init 30 = .ok (.putfield 31, 3) := dk_181 0 31 (dk_at dksJ3_init_1 6 rfl rfl)
theorem dJ3_init_33 : decode cJ3_init 33 = .ok (.return_, 1) := dk_177 (dk_at dksJ3_init_1 9 rfl rfl)
abbrev cJ3_init_2 : ByteArray := prog_37_method_1_code
def yJ3_init_2 : MethodName := ⟨RJ3, "<init>", "()V"⟩
def dkwJ3_init_2_1 : List UInt8 := [182, 0, 27, 87, 177]
abbrev dktJ3_init_2_1 : List UInt8 := dkwJ3_init_2_1 ++ []
def dkwJ3_init_2_0 : List UInt8 := [42, 183, 0, 1, 42, 42, 181, 0, 7, 42, 178, 0, 13, 181, 0, 17, 42, 178, 0, 20, 181, 0, 24, 42]
abbrev dktJ3_init_2_0 : List UInt8 := dkwJ3_init_2_0 ++ dktJ3_init_2_1
theorem dksJ3_init_2_0 : cJ3_init_2.data.toList.drop 0 = dktJ3_init_2_0 := by decide +kernel
theorem dksJ3_init_2_1 : cJ3_init_2.data.toList.drop 24 = dktJ3_init_2_1 := dk_seg dksJ3_init_2_0 24 rfl rfl
theorem dJ3_init_2_0 : decode cJ3_init_2 0 = .ok (.aload_n 0, 1) := dk_42 (dk_at dksJ3_init_2_0 0 rfl rfl)
theorem dJ3_init_2_1 : decode cJ3_init_2 1 = .ok (.invokespecial 1, 3) := dk_183 0 1 (dk_at dksJ3_init_2_0 1 rfl rfl)
theorem dJ3_init_2_4 : decode cJ3_init_2 4 = .ok (.aload_n 0, 1) := dk_42 (dk_at dksJ3_init_2_0 4 rfl rfl)
theorem dJ3_init_2_5 : decode cJ3_init_2 5 = .ok (.aload_n 0, 1) := dk_42 (dk_at dksJ3_init_2_0 5 rfl rfl)
theorem dJ3_init_2_6 : decode cJ3_init_2 6 = .ok (.putfield 7, 3) := dk_181 0 7 (dk_at dksJ3_init_2_0 6 rfl rfl)
theorem dJ3_init_2_9 : decode cJ3_init_2 9 = .ok (.aload_n 0, 1) := dk_42 (dk_at dksJ3_init_2_0 9 rfl rfl)
theorem dJ3_init_2_10 : decode cJ3_init_2 10 = .ok (.getstatic 13, 3) := dk_178 0 13 (dk_at dksJ3_init_2_0 10 rfl rfl)
theorem dJ3_init_2_13 : decode cJ3_init_2 13 = .ok (.putfield 17, 3) := dk_181 0 17 (dk_at dksJ3_init_2_0 13 rfl rfl)
theorem dJ3_init_2_16 : decode cJ3_init_2 16 = .ok (.aload_n 0, 1) := dk_42 (dk_at dksJ3_init_2_0 16 rfl rfl)
theorem dJ3_init_2_17 : decode cJ3_init_2 17 = .ok (.getstatic 20, 3) := dk_178 0 20 (dk_at dksJ3_init_2_0 17 rfl rfl)
theorem dJ3_init_2_20 : decode cJ3_init_2 20 = .ok (.putfield 24, 3) := dk_181 0 24 (dk_at dksJ3_init_2_0 20 rfl rfl)
theorem dJ3_init_2_23 : decode cJ3_init_2 23 = .ok (.aload_n 0, 1) := dk_42 (dk_at dksJ3_init_2_0 23 rfl rfl)
theorem dJ3_init_2_24 : decode cJ3_init_2 24 = .ok (.invokevirtual 27, 3) := dk_182 0 27 (dk_at dksJ3_init_2_1 0 rfl rfl)
theorem dJ3_init_2_27 : decode cJ3_init_2 27 = .ok (.pop, 1) := dk_87 (dk_at dksJ3_init_2_1 3 rfl rfl)
theorem dJ3_init_2_28 : decode cJ3_init_2 28 = .ok (.return_, 1) := dk_177 (dk_at dksJ3_init_2_1 4 rfl rfl)
theorem q49 : (Jvm.Cond.initialized "java/lang/Throwable") ∈ lw_all := lw_g (lw_at lw_m1 6 rfl) rfl
theorem q302 : (Jvm.Cond.instanceMethod ({ cls := "java/lang/Throwable", name := "<init>", desc := "(Ljava/lang/String;)V" } : Jvm.MethodName)) ∈ lw_all := lw_g (lw_at lw_m2 19 rfl) rfl
theorem q303 : (Jvm.Cond.code ({ cls := "java/lang/Throwable", name := "<init>", desc := "(Ljava/lang/String;)V" } : Jvm.MethodName) prog_37_method_2_code (2 : Nat) (Option.none : Option Jvm.ClassFile.FieldType)) ∈ lw_all := lw_g (lw_at lw_m2 20 rfl) rfl
theorem q304 : (Jvm.Cond.methodLink "java/lang/Throwable" (1 : Nat) ({ cls := "java/lang/Object", name := "<init>", desc := "()V" } : Jvm.MethodName)) ∈ lw_all := lw_g (lw_at lw_m2 21 rfl) rfl
theorem q305 : (Jvm.Cond.fieldLink "java/lang/Throwable" (13 : Nat) "java/lang/Throwable" "UNASSIGNED_STACK" "[Ljava/lang/StackTraceElement;") ∈ lw_all := lw_g (lw_at lw_m2 22 rfl) rfl
theorem q306 : (Jvm.Cond.laysStatic "java/lang/Throwable" "UNASSIGNED_STACK" "[Ljava/lang/StackTraceElement;") ∈ lw_tbl := lw_at lw_m2 23 rfl
theorem q307 : (Jvm.Cond.fieldLink "java/lang/Throwable" (20 : Nat) "java/lang/Throwable" "SUPPRESSED_SENTINEL" "Ljava/util/List;") ∈ lw_all := lw_g (lw_at lw_m2 24 rfl) rfl
theorem q308 : (Jvm.Cond.laysStatic "java/lang/Throwable" "SUPPRESSED_SENTINEL" "Ljava/util/List;") ∈ lw_tbl := lw_at lw_m2 25 rfl
theorem q309 : (Jvm.Cond.methodLink "java/lang/Throwable" (27 : Nat) ({ cls := "java/lang/Throwable", name := "fillInStackTrace", desc := "()Ljava/lang/Throwable;" } : Jvm.MethodName)) ∈ lw_all := lw_g (lw_at lw_m2 26 rfl) rfl
theorem q310 : (Jvm.Cond.instanceMethod ({ cls := "java/lang/Throwable", name := "fillInStackTrace", desc := "()Ljava/lang/Throwable;" } : Jvm.MethodName)) ∈ lw_all := lw_g (lw_at lw_m2 27 rfl) rfl
theorem q311 : (Jvm.Cond.sameMethod "java/lang/Throwable" "java/lang/Throwable" "fillInStackTrace" "()Ljava/lang/Throwable;") ∈ lw_all := lw_g (lw_at lw_m2 28 rfl) rfl
theorem q316 : (Jvm.Cond.codeSync ({ cls := "java/lang/Throwable", name := "fillInStackTrace", desc := "()Ljava/lang/Throwable;" } : Jvm.MethodName) prog_37_method_18_code (1 : Nat) (Option.some (Jvm.ClassFile.FieldType.object "java/lang/Throwable"))) ∈ lw_all := lw_g (lw_at lw_m2 33 rfl) rfl
theorem q317 : (Jvm.Cond.methodLink "java/lang/Throwable" (202 : Nat) ({ cls := "java/lang/Throwable", name := "fillInStackTrace", desc := "(I)Ljava/lang/Throwable;" } : Jvm.MethodName)) ∈ lw_all := lw_g (lw_at lw_m2 34 rfl) rfl
theorem q318 : (Jvm.Cond.privateMethod ({ cls := "java/lang/Throwable", name := "fillInStackTrace", desc := "(I)Ljava/lang/Throwable;" } : Jvm.MethodName)) ∈ lw_tbl := lw_at lw_m2 35 rfl
theorem q319 : (Jvm.Cond.instanceMethod ({ cls := "java/lang/Throwable", name := "fillInStackTrace", desc := "(I)Ljava/lang/Throwable;" } : Jvm.MethodName)) ∈ lw_all := lw_g (lw_at lw_m2 36 rfl) rfl
theorem q320 : (Jvm.Cond.instantiable "java/lang/Throwable" (6 : Nat)) ∈ lw_all := lw_g (lw_at lw_m2 37 rfl) rfl
theorem q321 : (Jvm.Cond.native ({ cls := "java/lang/Throwable", name := "fillInStackTrace", desc := "(I)Ljava/lang/Throwable;" } : Jvm.MethodName)) ∈ lw_all := lw_g (lw_at lw_m2 38 rfl) rfl
theorem q322 : (Jvm.Cond.fieldLink "java/lang/Throwable" (198 : Nat) "java/lang/Throwable" "backtrace" "Ljava/lang/Object;") ∈ lw_all := lw_g (lw_at lw_m2 39 rfl) rfl
theorem q323 : (Jvm.Cond.fieldLink "java/lang/Throwable" (31 : Nat) "java/lang/Throwable" "detailMessage" "Ljava/lang/String;") ∈ lw_all := lw_g (lw_at lw_m2 40 rfl) rfl
theorem q324 : (Jvm.Cond.fieldLink "java/lang/Throwable" (7 : Nat) "java/lang/Throwable" "cause" "Ljava/lang/Throwable;") ∈ lw_all := lw_g (lw_at lw_m2 41 rfl) rfl
theorem q325 : (Jvm.Cond.fieldLink "java/lang/Throwable" (17 : Nat) "java/lang/Throwable" "stackTrace" "[Ljava/lang/StackTraceElement;") ∈ lw_all := lw_g (lw_at lw_m2 42 rfl) rfl
theorem q326 : (Jvm.Cond.fieldLink "java/lang/Throwable" (24 : Nat) "java/lang/Throwable" "suppressedExceptions" "Ljava/util/List;") ∈ lw_all := lw_g (lw_at lw_m2 43 rfl) rfl
theorem q328 : (Jvm.Cond.soleField "java/lang/Throwable" "backtrace") ∈ lw_all := lw_g (lw_at lw_m2 45 rfl) rfl
theorem q330 : (Jvm.Cond.soleField "java/lang/Throwable" "detailMessage") ∈ lw_all := lw_g (lw_at lw_m2 47 rfl) rfl
theorem q332 : (Jvm.Cond.soleField "java/lang/Throwable" "cause") ∈ lw_all := lw_g (lw_at lw_m2 49 rfl) rfl
theorem q334 : (Jvm.Cond.soleField "java/lang/Throwable" "stackTrace") ∈ lw_all := lw_g (lw_at lw_m2 51 rfl) rfl
theorem q336 : (Jvm.Cond.soleField "java/lang/Throwable" "depth") ∈ lw_all := lw_g (lw_at lw_m2 53 rfl) rfl
theorem q338 : (Jvm.Cond.soleField "java/lang/Throwable" "suppressedExceptions") ∈ lw_all := lw_g (lw_at lw_m2 55 rfl) rfl
theorem q347 : (Jvm.Cond.declares ({ cls := "java/lang/Throwable", name := "<init>", desc := "()V" } : Jvm.MethodName)) ∈ lw_tbl := lw_at lw_m2 64 rfl
theorem q348 : (Jvm.Cond.declares ({ cls := "java/lang/Throwable", name := "<init>", desc := "(Ljava/lang/String;)V" } : Jvm.MethodName)) ∈ lw_tbl := lw_at lw_m2 65 rfl
theorem q350 : (Jvm.Cond.lays "java/lang/Throwable" "java/lang/Throwable" "cause" "Ljava/lang/Throwable;") ∈ lw_all := lw_g (lw_at lw_m2 67 rfl) rfl
theorem q351 : (Jvm.Cond.lays "java/lang/Throwable" "java/lang/Throwable" "stackTrace" "[Ljava/lang/StackTraceElement;") ∈ lw_all := lw_g (lw_at lw_m2 68 rfl) rfl
theorem q352 : (Jvm.Cond.lays "java/lang/Throwable" "java/lang/Throwable" "suppressedExceptions" "Ljava/util/List;") ∈ lw_all := lw_g (lw_at lw_m2 69 rfl) rfl
theorem q353 : (Jvm.Cond.lays "java/lang/Throwable" "java/lang/Throwable" "detailMessage" "Ljava/lang/String;") ∈ lw_all := lw_g (lw_at lw_m2 70 rfl) rfl
theorem q354 : (Jvm.Cond.lays "java/lang/Throwable" "java/lang/Throwable" "backtrace" "Ljava/lang/Object;") ∈ lw_all := lw_g (lw_at lw_m2 71 rfl) rfl
theorem q355 : (Jvm.Cond.fieldLink "java/lang/Throwable" (198 : Nat) "java/lang/Throwable" "backtrace" "Ljava/lang/Object;") ∈ lw_all := lw_g (lw_at lw_m2 72 rfl) rfl
theorem q356 : (Jvm.Cond.superclass "java/lang/Throwable" "java/lang/Object") ∈ lw_all := lw_g (lw_at lw_m2 73 rfl) rfl
theorem q357 : (Jvm.Cond.instanceMethod ({ cls := "java/lang/Throwable", name := "<init>", desc := "()V" } : Jvm.MethodName)) ∈ lw_all := lw_g (lw_at lw_m2 74 rfl) rfl
theorem q358 : (Jvm.Cond.code ({ cls := "java/lang/Throwable", name := "<init>", desc := "()V" } : Jvm.MethodName) prog_37_method_1_code (1 : Nat) (Option.none : Option Jvm.ClassFile.FieldType)) ∈ lw_all := lw_g (lw_at lw_m2 75 rfl) rfl
theorem q1781 : (Jvm.Cond.sameMethod "java/lang/Throwable" "java/lang/Throwable" "fillInStackTrace" "(I)Ljava/lang/Throwable;") ∈ lw_all := lw_g (lw_at lw_m8 58 rfl) rfl
theorem q1813 : (Jvm.Cond.castable "java/lang/Throwable" "java/lang/Object") ∈ lw_tbl := lw_at lw_m8 90 rfl
theorem in_J3 : ∀ w ∈ wsJ30, w ∈ lw_all := lw_in wsJ30 [350, 351, 352, 353, 354] (by decide +kernel) (by decide +kernel)

/-! java/lang/Exception -/
set_option maxRecDepth 100000
def RJ4 : String := "java/lang/Exception"
abbrev cJ4_init : ByteArray := prog_22_method_2_code
def yJ4_init : MethodName := ⟨RJ4, "<init>", "(Ljava/lang/String;)V"⟩
def dkwJ4_init_0 : List UInt8 := [42, 43, 183, 0, 7, 177]
abbrev dktJ4_init_0 : List UInt8 := dkwJ4_init_0 ++ []
theorem dksJ4_init_0 : cJ4_init.data.toList.drop 0 = dktJ4_init_0 := by decide +kernel
theorem dJ4_init_0 : decode cJ4_init 0 = .ok (.aload_n 0, 1) := dk_42 (dk_at dksJ4_init_0 0 rfl rfl)
theorem dJ4_init_1 : decode cJ4_init 1 = .ok (.aload_n 1, 1) := dk_43 (dk_at dksJ4_init_0 1 rfl rfl)
theorem dJ4_init_2 : decode cJ4_init 2 = .ok (.invokespecial 7, 3) := dk_183 0 7 (dk_at dksJ4_init_0 2 rfl rfl)
theorem dJ4_init_5 : decode cJ4_init 5 = .ok (.return_, 1) := dk_177 (dk_at dksJ4_init_0 5 rfl rfl)
abbrev cJ4_init_2 : ByteArray := prog_22_method_1_code
def yJ4_init_2 : MethodName := ⟨RJ4, "<init>", "()V"⟩
theorem dJ4_init_2_0 : decode cJ4_init_2 0 = .ok (.aload_n 0, 1) := by decide +kernel
theorem dJ4_init_2_1 : decode cJ4_init_2 1 = .ok (.invokespecial 1, 3) := by decide +kernel
theorem dJ4_init_2_4 : decode cJ4_init_2 4 = .ok (.return_, 1) := by decide +kernel
theorem q50 : (Jvm.Cond.initialized "java/lang/Exception") ∈ lw_all := lw_g (lw_at lw_m1 7 rfl) rfl
theorem q299 : (Jvm.Cond.instanceMethod ({ cls := "java/lang/Exception", name := "<init>", desc := "(Ljava/lang/String;)V" } : Jvm.MethodName)) ∈ lw_all := lw_g (lw_at lw_m2 16 rfl) rfl
theorem q300 : (Jvm.Cond.code ({ cls := "java/lang/Exception", name := "<init>", desc := "(Ljava/lang/String;)V" } : Jvm.MethodName) prog_22_method_2_code (2 : Nat) (Option.none : Option Jvm.ClassFile.FieldType)) ∈ lw_all := lw_g (lw_at lw_m2 17 rfl) rfl
theorem q301 : (Jvm.Cond.methodLink "java/lang/Exception" (7 : Nat) ({ cls := "java/lang/Throwable", name := "<init>", desc := "(Ljava/lang/String;)V" } : Jvm.MethodName)) ∈ lw_all := lw_g (lw_at lw_m2 18 rfl) rfl
theorem q345 : (Jvm.Cond.declares ({ cls := "java/lang/Exception", name := "<init>", desc := "()V" } : Jvm.MethodName)) ∈ lw_tbl := lw_at lw_m2 62 rfl
theorem q346 : (Jvm.Cond.declares ({ cls := "java/lang/Exception", name := "<init>", desc := "(Ljava/lang/String;)V" } : Jvm.MethodName)) ∈ lw_tbl := lw_at lw_m2 63 rfl
theorem q389 : (Jvm.Cond.instanceMethod ({ cls := "java/lang/Exception", name := "<init>", desc := "()V" } : Jvm.MethodName)) ∈ lw_all := lw_g (lw_at lw_m2 106 rfl) rfl
theorem q390 : (Jvm.Cond.code ({ cls := "java/lang/Exception", name := "<init>", desc := "()V" } : Jvm.MethodName) prog_22_method_1_code (1 : Nat) (Option.none : Option Jvm.ClassFile.FieldType)) ∈ lw_all := lw_g (lw_at lw_m2 107 rfl) rfl
theorem q391 : (Jvm.Cond.methodLink "java/lang/Exception" (1 : Nat) ({ cls := "java/lang/Throwable", name := "<init>", desc := "()V" } : Jvm.MethodName)) ∈ lw_all := lw_g (lw_at lw_m2 108 rfl) rfl

/-! java/lang/RuntimeException -/
set_option maxRecDepth 100000
def RJ5 : String := "java/lang/RuntimeException"
abbrev cJ5_init : ByteArray := prog_31_method_2_code
def yJ5_init : MethodName := ⟨RJ5, "<init>", "(Ljava/lang/String;)V"⟩
def dkwJ5_init_0 : List UInt8 := [42, 43, 183, 0, 7, 177]
abbrev dktJ5_init_0 : List UInt8 := dkwJ5_init_0 ++ []
theorem dksJ5_init_0 : cJ5_init.data.toList.drop 0 = dktJ5_init_0 := by decide +kernel
theorem dJ5_init_0 : decode cJ5_init 0 = .ok (.aload_n 0, 1) := dk_42 (dk_at dksJ5_init_0 0 rfl rfl)
theorem dJ5_init_1 : decode cJ5_init 1 = .ok (.aload_n 1, 1) := dk_43 (dk_at dksJ5_init_0 1 rfl rfl)
theorem dJ5_init_2 : decode cJ5_init 2 = .ok (.invokespecial 7, 3) := dk_183 0 7 (dk_at dksJ5_init_0 2 rfl rfl)
theorem dJ5_init_5 : decode cJ5_init 5 = .ok (.return_, 1) := dk_177 (dk_at dksJ5_init_0 5 rfl rfl)
abbrev cJ5_init_2 : ByteArray := prog_31_method_1_code
def yJ5_init_2 : MethodName := ⟨RJ5, "<init>", "()V"⟩
theorem dJ5_init_2_0 : decode cJ5_init_2 0 = .ok (.aload_n 0, 1) := by decide +kernel
theorem dJ5_init_2_1 : decode cJ5_init_2 1 = .ok (.invokespecial 1, 3) := by decide +kernel
theorem dJ5_init_2_4 : decode cJ5_init_2 4 = .ok (.return_, 1) := by decide +kernel
theorem q51 : (Jvm.Cond.initialized "java/lang/RuntimeException") ∈ lw_all := lw_g (lw_at lw_m1 8 rfl) rfl
theorem q296 : (Jvm.Cond.instanceMethod ({ cls := "java/lang/RuntimeException", name := "<init>", desc := "(Ljava/lang/String;)V" } : Jvm.MethodName)) ∈ lw_all := lw_g (lw_at lw_m2 13 rfl) rfl
theorem q297 : (Jvm.Cond.code ({ cls := "java/lang/RuntimeException", name := "<init>", desc := "(Ljava/lang/String;)V" } : Jvm.MethodName) prog_31_method_2_code (2 : Nat) (Option.none : Option Jvm.ClassFile.FieldType)) ∈ lw_all := lw_g (lw_at lw_m2 14 rfl) rfl
theorem q298 : (Jvm.Cond.methodLink "java/lang/RuntimeException" (7 : Nat) ({ cls := "java/lang/Exception", name := "<init>", desc := "(Ljava/lang/String;)V" } : Jvm.MethodName)) ∈ lw_all := lw_g (lw_at lw_m2 15 rfl) rfl
theorem q343 : (Jvm.Cond.declares ({ cls := "java/lang/RuntimeException", name := "<init>", desc := "()V" } : Jvm.MethodName)) ∈ lw_tbl := lw_at lw_m2 60 rfl
theorem q344 : (Jvm.Cond.declares ({ cls := "java/lang/RuntimeException", name := "<init>", desc := "(Ljava/lang/String;)V" } : Jvm.MethodName)) ∈ lw_tbl := lw_at lw_m2 61 rfl
theorem q386 : (Jvm.Cond.instanceMethod ({ cls := "java/lang/RuntimeException", name := "<init>", desc := "()V" } : Jvm.MethodName)) ∈ lw_all := lw_g (lw_at lw_m2 103 rfl) rfl
theorem q387 : (Jvm.Cond.code ({ cls := "java/lang/RuntimeException", name := "<init>", desc := "()V" } : Jvm.MethodName) prog_31_method_1_code (1 : Nat) (Option.none : Option Jvm.ClassFile.FieldType)) ∈ lw_all := lw_g (lw_at lw_m2 104 rfl) rfl
theorem q388 : (Jvm.Cond.methodLink "java/lang/RuntimeException" (1 : Nat) ({ cls := "java/lang/Exception", name := "<init>", desc := "()V" } : Jvm.MethodName)) ∈ lw_all := lw_g (lw_at lw_m2 105 rfl) rfl

/-! java/lang/IndexOutOfBoundsException -/
set_option maxRecDepth 100000
def RJ6 : String := "java/lang/IndexOutOfBoundsException"
def TJ6 : u_T := fun k => match k with
  | 0 => ("java/lang/Throwable", "cause", "Ljava/lang/Throwable;", false)
  | 1 => ("java/lang/Throwable", "stackTrace", "[Ljava/lang/StackTraceElement;", false)
  | 2 => ("java/lang/Throwable", "suppressedExceptions", "Ljava/util/List;", false)
  | 3 => ("java/lang/Throwable", "detailMessage", "Ljava/lang/String;", false)
  | 4 => ("java/lang/Throwable", "backtrace", "Ljava/lang/Object;", false)
  | _ => ("java/lang/Throwable", "depth", "I", false)
def tyJ6 : Nat → FieldType := fun k => match k with
  | 0 => .object "java/lang/Throwable"
  | 1 => .array (.object "java/lang/StackTraceElement")
  | 2 => .object "java/util/List"
  | 3 => .object "java/lang/String"
  | 4 => .object "java/lang/Object"
  | _ => .int
abbrev wsJ60 : List Cond := u_ws RJ6 TJ6 6
theorem nmJ6 : ∀ a, a < 6 → ∀ b, b < 6 → a ≠ b → (TJ6 a).2.1 ≠ (TJ6 b).2.1 := by decide +kernel
theorem tyJ6_ok : ∀ k, k < 6 → parseFieldDescriptor (TJ6 k).2.2.1 = some (tyJ6 k) := by decide +kernel
abbrev cJ6_init : ByteArray := prog_25_method_2_code
def yJ6_init : MethodName := ⟨RJ6, "<init>", "(Ljava/lang/String;)V"⟩
def dkwJ6_init_0 : List UInt8 := [42, 43, 183, 0, 7, 177]
abbrev dktJ6_init_0 : List UInt8 := dkwJ6_init_0 ++ []
theorem dksJ6_init_0 : cJ6_init.data.toList.drop 0 = dktJ6_init_0 := by decide +kernel
theorem dJ6_init_0 : decode cJ6_init 0 = .ok (.aload_n 0, 1) := dk_42 (dk_at dksJ6_init_0 0 rfl rfl)
theorem dJ6_init_1 : decode cJ6_init 1 = .ok (.aload_n 1, 1) := dk_43 (dk_at dksJ6_init_0 1 rfl rfl)
theorem dJ6_init_2 : decode cJ6_init 2 = .ok (.invokespecial 7, 3) := dk_183 0 7 (dk_at dksJ6_init_0 2 rfl rfl)
theorem dJ6_init_5 : decode cJ6_init 5 = .ok (.return_, 1) := dk_177 (dk_at dksJ6_init_0 5 rfl rfl)
abbrev cJ6_init_2 : ByteArray := prog_25_method_1_code
def yJ6_init_2 : MethodName := ⟨RJ6, "<init>", "()V"⟩
theorem dJ6_init_2_0 : decode cJ6_init_2 0 = .ok (.aload_n 0, 1) := by decide +kernel
theorem dJ6_init_2_1 : decode cJ6_init_2 1 = .ok (.invokespecial 1, 3) := by decide +kernel
theorem dJ6_init_2_4 : decode cJ6_init_2 4 = .ok (.return_, 1) := by decide +kernel
theorem q52 : (Jvm.Cond.initialized "java/lang/IndexOutOfBoundsException") ∈ lw_all := lw_g (lw_at lw_m1 9 rfl) rfl
theorem q293 : (Jvm.Cond.instanceMethod ({ cls := "java/lang/IndexOutOfBoundsException", name := "<init>", desc := "(Ljava/lang/String;)V" } : Jvm.MethodName)) ∈ lw_all := lw_g (lw_at lw_m2 10 rfl) rfl
theorem q294 : (Jvm.Cond.code ({ cls := "java/lang/IndexOutOfBoundsException", name := "<init>", desc := "(Ljava/lang/String;)V" } : Jvm.MethodName) prog_25_method_2_code (2 : Nat) (Option.none : Option Jvm.ClassFile.FieldType)) ∈ lw_all := lw_g (lw_at lw_m2 11 rfl) rfl
theorem q295 : (Jvm.Cond.methodLink "java/lang/IndexOutOfBoundsException" (7 : Nat) ({ cls := "java/lang/RuntimeException", name := "<init>", desc := "(Ljava/lang/String;)V" } : Jvm.MethodName)) ∈ lw_all := lw_g (lw_at lw_m2 12 rfl) rfl
theorem q315 : (Jvm.Cond.selects "java/lang/IndexOutOfBoundsException" ({ cls := "java/lang/Throwable", name := "fillInStackTrace", desc := "()Ljava/lang/Throwable;" } : Jvm.MethodName) ({ cls := "java/lang/Throwable", name := "fillInStackTrace", desc := "()Ljava/lang/Throwable;" } : Jvm.MethodName)) ∈ lw_all := lw_g (lw_at lw_m2 32 rfl) rfl
theorem q341 : (Jvm.Cond.declares ({ cls := "java/lang/IndexOutOfBoundsException", name := "<init>", desc := "()V" } : Jvm.MethodName)) ∈ lw_tbl := lw_at lw_m2 58 rfl
theorem q342 : (Jvm.Cond.declares ({ cls := "java/lang/IndexOutOfBoundsException", name := "<init>", desc := "(Ljava/lang/String;)V" } : Jvm.MethodName)) ∈ lw_tbl := lw_at lw_m2 59 rfl
theorem q374 : (Jvm.Cond.instantiable "java/lang/IndexOutOfBoundsException" (6 : Nat)) ∈ lw_all := lw_g (lw_at lw_m2 91 rfl) rfl
theorem q375 : (Jvm.Cond.castable "java/lang/IndexOutOfBoundsException" "java/lang/IndexOutOfBoundsException") ∈ lw_tbl := lw_at lw_m2 92 rfl
theorem q376 : (Jvm.Cond.selects "java/lang/IndexOutOfBoundsException" ({ cls := "java/lang/Throwable", name := "fillInStackTrace", desc := "(I)Ljava/lang/Throwable;" } : Jvm.MethodName) ({ cls := "java/lang/Throwable", name := "fillInStackTrace", desc := "(I)Ljava/lang/Throwable;" } : Jvm.MethodName)) ∈ lw_all := lw_g (lw_at lw_m2 93 rfl) rfl
theorem q377 : (Jvm.Cond.lays "java/lang/IndexOutOfBoundsException" "java/lang/Throwable" "cause" "Ljava/lang/Throwable;") ∈ lw_all := lw_g (lw_at lw_m2 94 rfl) rfl
theorem q378 : (Jvm.Cond.lays "java/lang/IndexOutOfBoundsException" "java/lang/Throwable" "stackTrace" "[Ljava/lang/StackTraceElement;") ∈ lw_all := lw_g (lw_at lw_m2 95 rfl) rfl
theorem q379 : (Jvm.Cond.lays "java/lang/IndexOutOfBoundsException" "java/lang/Throwable" "suppressedExceptions" "Ljava/util/List;") ∈ lw_all := lw_g (lw_at lw_m2 96 rfl) rfl
theorem q380 : (Jvm.Cond.lays "java/lang/IndexOutOfBoundsException" "java/lang/Throwable" "detailMessage" "Ljava/lang/String;") ∈ lw_all := lw_g (lw_at lw_m2 97 rfl) rfl
theorem q381 : (Jvm.Cond.lays "java/lang/IndexOutOfBoundsException" "java/lang/Throwable" "backtrace" "Ljava/lang/Object;") ∈ lw_all := lw_g (lw_at lw_m2 98 rfl) rfl
theorem q383 : (Jvm.Cond.instanceMethod ({ cls := "java/lang/IndexOutOfBoundsException", name := "<init>", desc := "()V" } : Jvm.MethodName)) ∈ lw_all := lw_g (lw_at lw_m2 100 rfl) rfl
theorem q384 : (Jvm.Cond.code ({ cls := "java/lang/IndexOutOfBoundsException", name := "<init>", desc := "()V" } : Jvm.MethodName) prog_25_method_1_code (1 : Nat) (Option.none : Option Jvm.ClassFile.FieldType)) ∈ lw_all := lw_g (lw_at lw_m2 101 rfl) rfl
theorem q385 : (Jvm.Cond.methodLink "java/lang/IndexOutOfBoundsException" (1 : Nat) ({ cls := "java/lang/RuntimeException", name := "<init>", desc := "()V" } : Jvm.MethodName)) ∈ lw_all := lw_g (lw_at lw_m2 102 rfl) rfl
theorem q392 : (Jvm.Cond.lays "java/lang/IndexOutOfBoundsException" "java/lang/Throwable" "depth" "I") ∈ lw_all := lw_g (lw_at lw_m2 109 rfl) rfl
theorem q393 : (Jvm.Cond.superclass "java/lang/IndexOutOfBoundsException" "java/lang/RuntimeException") ∈ lw_all := lw_g (lw_at lw_m2 110 rfl) rfl
theorem q525 : (Jvm.Cond.selects "java/lang/IndexOutOfBoundsException" ({ cls := "java/lang/Object", name := "getClass", desc := "()Ljava/lang/Class;" } : Jvm.MethodName) ({ cls := "java/lang/Object", name := "getClass", desc := "()Ljava/lang/Class;" } : Jvm.MethodName)) ∈ lw_all := lw_g (lw_at lw_m3 2 rfl) rfl
theorem q951 : (Jvm.Cond.selects "java/lang/IndexOutOfBoundsException" ({ cls := "java/lang/Object", name := "equals", desc := "(Ljava/lang/Object;)Z" } : Jvm.MethodName) ({ cls := "java/lang/Object", name := "equals", desc := "(Ljava/lang/Object;)Z" } : Jvm.MethodName)) ∈ lw_all := lw_g (lw_at lw_m4 188 rfl) rfl
theorem q1798 : (Jvm.Cond.castable "java/lang/IndexOutOfBoundsException" "java/lang/Object") ∈ lw_tbl := lw_at lw_m8 75 rfl
theorem in_J6 : ∀ w ∈ wsJ60, w ∈ lw_all := lw_in wsJ60 [377, 378, 379, 380, 381, 392] (by decide +kernel) (by decide +kernel)

/-! java/lang/ArrayIndexOutOfBoundsException -/
set_option maxRecDepth 100000
def RJ7 : String := "java/lang/ArrayIndexOutOfBoundsException"
def TJ7 : u_T := fun k => match k with
  | 0 => ("java/lang/Throwable", "backtrace", "Ljava/lang/Object;", false)
  | 1 => ("java/lang/Throwable", "detailMessage", "Ljava/lang/String;", false)
  | 2 => ("java/lang/Throwable", "cause", "Ljava/lang/Throwable;", false)
  | 3 => ("java/lang/Throwable", "stackTrace", "[Ljava/lang/StackTraceElement;", false)
  | 4 => ("java/lang/Throwable", "depth", "I", false)
  | _ => ("java/lang/Throwable", "suppressedExceptions", "Ljava/util/List;", false)
def tyJ7 : Nat → FieldType := fun k => match k with
  | 0 => .object "java/lang/Object"
  | 1 => .object "java/lang/String"
  | 2 => .object "java/lang/Throwable"
  | 3 => .array (.object "java/lang/StackTraceElement")
  | 4 => .int
  | _ => .object "java/util/List"
abbrev wsJ70 : List Cond := u_ws RJ7 TJ7 6
theorem nmJ7 : ∀ a, a < 6 → ∀ b, b < 6 → a ≠ b → (TJ7 a).2.1 ≠ (TJ7 b).2.1 := by decide +kernel
theorem tyJ7_ok : ∀ k, k < 6 → parseFieldDescriptor (TJ7 k).2.2.1 = some (tyJ7 k) := by decide +kernel
abbrev cJ7_init : ByteArray := prog_18_method_2_code
def yJ7_init : MethodName := ⟨RJ7, "<init>", "(Ljava/lang/String;)V"⟩
def dkwJ7_init_0 : List UInt8 := [42, 43, 183, 0, 7, 177]
abbrev dktJ7_init_0 : List UInt8 := dkwJ7_init_0 ++ []
theorem dksJ7_init_0 : cJ7_init.data.toList.drop 0 = dktJ7_init_0 := by decide +kernel
theorem dJ7_init_0 : decode cJ7_init 0 = .ok (.aload_n 0, 1) := dk_42 (dk_at dksJ7_init_0 0 rfl rfl)
theorem dJ7_init_1 : decode cJ7_init 1 = .ok (.aload_n 1, 1) := dk_43 (dk_at dksJ7_init_0 1 rfl rfl)
theorem dJ7_init_2 : decode cJ7_init 2 = .ok (.invokespecial 7, 3) := dk_183 0 7 (dk_at dksJ7_init_0 2 rfl rfl)
theorem dJ7_init_5 : decode cJ7_init 5 = .ok (.return_, 1) := dk_177 (dk_at dksJ7_init_0 5 rfl rfl)
theorem q53 : (Jvm.Cond.initialized "java/lang/ArrayIndexOutOfBoundsException") ∈ lw_all := lw_g (lw_at lw_m1 10 rfl) rfl
theorem q289 : (Jvm.Cond.instantiable "java/lang/ArrayIndexOutOfBoundsException" (6 : Nat)) ∈ lw_all := lw_g (lw_at lw_m2 6 rfl) rfl
theorem q290 : (Jvm.Cond.instanceMethod ({ cls := "java/lang/ArrayIndexOutOfBoundsException", name := "<init>", desc := "(Ljava/lang/String;)V" } : Jvm.MethodName)) ∈ lw_all := lw_g (lw_at lw_m2 7 rfl) rfl
theorem q291 : (Jvm.Cond.code ({ cls := "java/lang/ArrayIndexOutOfBoundsException", name := "<init>", desc := "(Ljava/lang/String;)V" } : Jvm.MethodName) prog_18_method_2_code (2 : Nat) (Option.none : Option Jvm.ClassFile.FieldType)) ∈ lw_all := lw_g (lw_at lw_m2 8 rfl) rfl
theorem q292 : (Jvm.Cond.methodLink "java/lang/ArrayIndexOutOfBoundsException" (7 : Nat) ({ cls := "java/lang/IndexOutOfBoundsException", name := "<init>", desc := "(Ljava/lang/String;)V" } : Jvm.MethodName)) ∈ lw_all := lw_g (lw_at lw_m2 9 rfl) rfl
theorem q312 : (Jvm.Cond.selects "java/lang/ArrayIndexOutOfBoundsException" ({ cls := "java/lang/Throwable", name := "fillInStackTrace", desc := "()Ljava/lang/Throwable;" } : Jvm.MethodName) ({ cls := "java/lang/Throwable", name := "fillInStackTrace", desc := "()Ljava/lang/Throwable;" } : Jvm.MethodName)) ∈ lw_all := lw_g (lw_at lw_m2 29 rfl) rfl
theorem q327 : (Jvm.Cond.lays "java/lang/ArrayIndexOutOfBoundsException" "java/lang/Throwable" "backtrace" "Ljava/lang/Object;") ∈ lw_all := lw_g (lw_at lw_m2 44 rfl) rfl
theorem q329 : (Jvm.Cond.lays "java/lang/ArrayIndexOutOfBoundsException" "java/lang/Throwable" "detailMessage" "Ljava/lang/String;") ∈ lw_all := lw_g (lw_at lw_m2 46 rfl) rfl
theorem q331 : (Jvm.Cond.lays "java/lang/ArrayIndexOutOfBoundsException" "java/lang/Throwable" "cause" "Ljava/lang/Throwable;") ∈ lw_all := lw_g (lw_at lw_m2 48 rfl) rfl
theorem q333 : (Jvm.Cond.lays "java/lang/ArrayIndexOutOfBoundsException" "java/lang/Throwable" "stackTrace" "[Ljava/lang/StackTraceElement;") ∈ lw_all := lw_g (lw_at lw_m2 50 rfl) rfl
theorem q335 : (Jvm.Cond.lays "java/lang/ArrayIndexOutOfBoundsException" "java/lang/Throwable" "depth" "I") ∈ lw_all := lw_g (lw_at lw_m2 52 rfl) rfl
theorem q337 : (Jvm.Cond.lays "java/lang/ArrayIndexOutOfBoundsException" "java/lang/Throwable" "suppressedExceptions" "Ljava/util/List;") ∈ lw_all := lw_g (lw_at lw_m2 54 rfl) rfl
theorem q339 : (Jvm.Cond.superclass "java/lang/ArrayIndexOutOfBoundsException" "java/lang/IndexOutOfBoundsException") ∈ lw_all := lw_g (lw_at lw_m2 56 rfl) rfl
theorem q340 : (Jvm.Cond.castable "java/lang/ArrayIndexOutOfBoundsException" "java/lang/ArrayIndexOutOfBoundsException") ∈ lw_tbl := lw_at lw_m2 57 rfl
theorem q349 : (Jvm.Cond.selects "java/lang/ArrayIndexOutOfBoundsException" ({ cls := "java/lang/Throwable", name := "fillInStackTrace", desc := "(I)Ljava/lang/Throwable;" } : Jvm.MethodName) ({ cls := "java/lang/Throwable", name := "fillInStackTrace", desc := "(I)Ljava/lang/Throwable;" } : Jvm.MethodName)) ∈ lw_all := lw_g (lw_at lw_m2 66 rfl) rfl
theorem q522 : (Jvm.Cond.selects "java/lang/ArrayIndexOutOfBoundsException" ({ cls := "java/lang/Object", name := "getClass", desc := "()Ljava/lang/Class;" } : Jvm.MethodName) ({ cls := "java/lang/Object", name := "getClass", desc := "()Ljava/lang/Class;" } : Jvm.MethodName)) ∈ lw_all := lw_g (lw_at lw_m2 239 rfl) rfl
theorem q948 : (Jvm.Cond.selects "java/lang/ArrayIndexOutOfBoundsException" ({ cls := "java/lang/Object", name := "equals", desc := "(Ljava/lang/Object;)Z" } : Jvm.MethodName) ({ cls := "java/lang/Object", name := "equals", desc := "(Ljava/lang/Object;)Z" } : Jvm.MethodName)) ∈ lw_all := lw_g (lw_at lw_m4 185 rfl) rfl
theorem q1792 : (Jvm.Cond.castable "java/lang/ArrayIndexOutOfBoundsException" "java/lang/IndexOutOfBoundsException") ∈ lw_tbl := lw_at lw_m8 69 rfl
theorem q1797 : (Jvm.Cond.castable "java/lang/ArrayIndexOutOfBoundsException" "java/lang/Object") ∈ lw_tbl := lw_at lw_m8 74 rfl
theorem in_J7 : ∀ w ∈ wsJ70, w ∈ lw_all := lw_in wsJ70 [327, 329, 331, 333, 335, 337] (by decide +kernel) (by decide +kernel)

/-! java/lang/String -/
set_option maxRecDepth 100000
def RJ8 : String := "java/lang/String"
def TJ8 : u_T := fun k => match k with
  | 0 => ("java/lang/String", "value", "[B", true)
  | 1 => ("java/lang/String", "coder", "B", true)
  | 2 => ("java/lang/String", "hash", "I", false)
  | _ => ("java/lang/String", "hashIsZero", "Z", false)
def tyJ8 : Nat → FieldType := fun k => match k with
  | 0 => .array .byte
  | 1 => .byte
  | 2 => .int
  | _ => .boolean
abbrev wsJ80 : List Cond := u_ws RJ8 TJ8 4
theorem nmJ8 : ∀ a, a < 4 → ∀ b, b < 4 → a ≠ b → (TJ8 a).2.1 ≠ (TJ8 b).2.1 := by decide +kernel
theorem tyJ8_ok : ∀ k, k < 4 → parseFieldDescriptor (TJ8 k).2.2.1 = some (tyJ8 k) := by decide +kernel
abbrev cJ8_equals : ByteArray := prog_32_method_66_code
def yJ8_equals : MethodName := ⟨RJ8, "equals", "(Ljava/lang/Object;)Z"⟩
def dkwJ8_equals_2 : List UInt8 := [184, 2, 29, 153, 0, 7, 4, 167, 0, 4, 3, 172]
abbrev dktJ8_equals_2 : List UInt8 := dkwJ8_equals_2 ++ []
def dkwJ8_equals_1 : List UInt8 := [153, 0, 14, 42, 180, 0, 15, 44, 180, 0, 15, 160, 0, 21, 42, 180, 0, 9, 44, 180, 0, 9]
abbrev dktJ8_equals_1 : List UInt8 := dkwJ8_equals_1 ++ dktJ8_equals_2
def dkwJ8_equals_0 : List UInt8 := [42, 43, 166, 0, 5, 4, 172, 43, 193, 0, 10, 153, 0, 43, 43, 192, 0, 10, 77, 178, 0, 38]
abbrev dktJ8_equals_0 : List UInt8 := dkwJ8_equals_0 ++ dktJ8_equals_1
theorem dksJ8_equals_0 : cJ8_equals.data.toList.drop 0 = dktJ8_equals_0 := by decide +kernel
theorem dksJ8_equals_1 : cJ8_equals.data.toList.drop 22 = dktJ8_equals_1 := dk_seg dksJ8_equals_0 22 rfl rfl
theorem dksJ8_equals_2 : cJ8_equals.data.toList.drop 44 = dktJ8_equals_2 := dk_seg dksJ8_equals_1 22 rfl rfl
theorem dJ8_equals_0 : decode cJ8_equals 0 = .ok (.aload_n 0, 1) := dk_42 (dk_at dksJ8_equals_0 0 rfl rfl)
theorem dJ8_equals_1 : decode cJ8_equals 1 = .ok (.aload_n 1, 1) := dk_43 (dk_at dksJ8_equals_0 1 rfl rfl)
theorem dJ8_equals_2 : decode cJ8_equals 2 = .ok (.if_acmp .ne 5, 3) := dk_166 0 5 (dk_at dksJ8_equals_0 2 rfl rfl)
theorem dJ8_equals_5 : decode cJ8_equals 5 = .ok (.iconst 1, 1) := dk_4 (dk_at dksJ8_equals_0 5 rfl rfl)
theorem dJ8_equals_6 : decode cJ8_equals 6 = .ok (.ireturn, 1) := dk_172 (dk_at dksJ8_equals_0 6 rfl rfl)
theorem dJ8_equals_7 : decode cJ8_equals 7 = .ok (.aload_n 1, 1) := dk_43 (dk_at dksJ8_equals_0 7 rfl rfl)
theorem dJ8_equals_8 : decode cJ8_equals 8 = .ok (.instanceof 10, 3) := dk_193 0 10 (dk_at dksJ8_equals_0 8 rfl rfl)
theorem dJ8_equals_11 : decode cJ8_equals 11 = .ok (.ifCond .eq 43, 3) := dk_153 0 43 (dk_at dksJ8_equals_0 11 rfl rfl)
theorem dJ8_equals_14 : decode cJ8_equals 14 = .ok (.aload_n 1, 1) := dk_43 (dk_at dksJ8_equals_0 14 rfl rfl)
theorem dJ8_equals_15 : decode cJ8_equals 15 = .ok (.checkcast 10, 3) := dk_192 0 10 (dk_at dksJ8_equals_0 15 rfl rfl)
theorem dJ8_equals_18 : decode cJ8_equals 18 = .ok (.astore_n 2, 1) := dk_77 (dk_at dksJ8_equals_0 18 rfl rfl)
theorem dJ8_equals_19 : decode cJ8_equals 19 = .ok (.getstatic 38, 3) := dk_178 0 38 (dk_at dksJ8_equals_0 19 rfl rfl)
theorem dJ8_equals_22 : decode cJ8_equals 22 = .ok (.ifCond .eq 14, 3) := dk_153 0 14 (dk_at dksJ8_equals_1 0 rfl rfl)
theorem dJ8_equals_25 : decode cJ8_equals 25 = .ok (.aload_n 0, 1) := dk_42 (dk_at dksJ8_equals_1 3 rfl rfl)
theorem dJ8_equals_26 : decode cJ8_equals 26 = .ok (.getfield 15, 3) := dk_180 0 15 (dk_at dksJ8_equals_1 4 rfl rfl)
theorem dJ8_equals_29 : decode cJ8_equals 29 = .ok (.aload_n 2, 1) := dk_44 (dk_at dksJ8_equals_1 7 rfl rfl)
theorem dJ8_equals_30 : decode cJ8_equals 30 = .ok (.getfield 15, 3) := dk_180 0 15 (dk_at dksJ8_equals_1 8 rfl rfl)
theorem dJ8_equals_33 : decode cJ8_equals 33 = .ok (.if_icmp .ne 21, 3) := dk_160 0 21 (dk_at dksJ8_equals_1 11 rfl rfl)
theorem dJ8_equals_36 : decode cJ8_equals 36 = .ok (.aload_n 0, 1) := dk_42 (dk_at dksJ8_equals_1 14 rfl rfl)
theorem dJ8_equals_37 : decode cJ8_equals 37 = .ok (.getfield 9, 3) := dk_180 0 9 (dk_at dksJ8_equals_1 15 rfl rfl)
theorem dJ8_equals_40 : decode cJ8_equals 40 = .ok (.aload_n 2, 1) := dk_44 (dk_at dksJ8_equals_1 18 rfl rfl)
theorem dJ8_equals_41 : decode cJ8_equals 41 = .ok (.getfield 9, 3) := dk_180 0 9 (dk_at dksJ8_equals_1 19 rfl rfl)
theorem dJ8_equals_44 : decode cJ8_equals 44 = .ok (.invokestatic 541, 3) := dk_184 2 29 (dk_at dksJ8_equals_2 0 rfl rfl)
theorem dJ8_equals_47 : decode cJ8_equals 47 = .ok (.ifCond .eq 7, 3) := dk_153 0 7 (dk_at dksJ8_equals_2 3 rfl rfl)
theorem dJ8_equals_50 : decode cJ8_equals 50 = .ok (.iconst 1, 1) := dk_4 (dk_at dksJ8_equals_2 6 rfl rfl)
theorem dJ8_equals_51 : decode cJ8_equals 51 = .ok (.goto 4, 3) := dk_167 0 4 (dk_at dksJ8_equals_2 7 rfl rfl)
theorem dJ8_equals_54 : decode cJ8_equals 54 = .ok (.iconst 0, 1) := dk_3 (dk_at dksJ8_equals_2 10 rfl rfl)
theorem dJ8_equals_55 : decode cJ8_equals 55 = .ok (.ireturn, 1) := dk_172 (dk_at dksJ8_equals_2 11 rfl rfl)
abbrev cJ8_checkBoundsBeginEnd : ByteArray := prog_32_method_158_code
def yJ8_checkBoundsBeginEnd : MethodName := ⟨RJ8, "checkBoundsBeginEnd", "(III)V"⟩
def dkwJ8_checkBoundsBeginEnd_0 : List UInt8 := [26, 27, 28, 178, 4, 29, 184, 4, 38, 87, 177]
abbrev dktJ8_checkBoundsBeginEnd_0 : List UInt8 := dkwJ8_checkBoundsBeginEnd_0 ++ []
theorem dksJ8_checkBoundsBeginEnd_0 : cJ8_checkBoundsBeginEnd.data.toList.drop 0 = dktJ8_checkBoundsBeginEnd_0 := by decide +kernel
theorem dJ8_checkBoundsBeginEnd_0 : decode cJ8_checkBoundsBeginEnd 0 = .ok (.iload_n 0, 1) := dk_26 (dk_at dksJ8_checkBoundsBeginEnd_0 0 rfl rfl)
theorem dJ8_checkBoundsBeginEnd_1 : decode cJ8_checkBoundsBeginEnd 1 = .ok (.iload_n 1, 1) := dk_27 (dk_at dksJ8_checkBoundsBeginEnd_0 1 rfl rfl)
theorem dJ8_checkBoundsBeginEnd_2 : decode cJ8_checkBoundsBeginEnd 2 = .ok (.iload_n 2, 1) := dk_28 (dk_at dksJ8_checkBoundsBeginEnd_0 2 rfl rfl)
theorem dJ8_checkBoundsBeginEnd_3 : decode cJ8_checkBoundsBeginEnd 3 = .ok (.getstatic 1053, 3) := dk_178 4 29 (dk_at dksJ8_checkBoundsBeginEnd_0 3 rfl rfl)
theorem dJ8_checkBoundsBeginEnd_6 : decode cJ8_checkBoundsBeginEnd 6 = .ok (.invokestatic 1062, 3) := dk_184 4 38 (dk_at dksJ8_checkBoundsBeginEnd_0 6 rfl rfl)
theorem dJ8_checkBoundsBeginEnd_9 : decode cJ8_checkBoundsBeginEnd 9 = .ok (.pop, 1) := dk_87 (dk_at dksJ8_checkBoundsBeginEnd_0 9 rfl rfl)
theorem dJ8_checkBoundsBeginEnd_10 : decode cJ8_checkBoundsBeginEnd 10 = .ok (.return_, 1) := dk_177 (dk_at dksJ8_checkBoundsBeginEnd_0 10 rfl rfl)
abbrev cJ8_length : ByteArray := prog_32_method_54_code
def yJ8_length : MethodName := ⟨RJ8, "length", "()I"⟩
def dkwJ8_length_0 : List UInt8 := [42, 180, 0, 9, 190, 42, 182, 1, 79, 122, 172]
abbrev dktJ8_length_0 : List UInt8 := dkwJ8_length_0 ++ []
theorem dksJ8_length_0 : cJ8_length.data.toList.drop 0 = dktJ8_length_0 := by decide +kernel
theorem dJ8_length_0 : decode cJ8_length 0 = .ok (.aload_n 0, 1) := dk_42 (dk_at dksJ8_length_0 0 rfl rfl)
theorem dJ8_length_1 : decode cJ8_length 1 = .ok (.getfield 9, 3) := dk_180 0 9 (dk_at dksJ8_length_0 1 rfl rfl)
theorem dJ8_length_4 : decode cJ8_length 4 = .ok (.arraylength, 1) := dk_190 (dk_at dksJ8_length_0 4 rfl rfl)
theorem dJ8_length_5 : decode cJ8_length 5 = .ok (.aload_n 0, 1) := dk_42 (dk_at dksJ8_length_0 5 rfl rfl)
theorem dJ8_length_6 : decode cJ8_length 6 = .ok (.invokevirtual 335, 3) := dk_182 1 79 (dk_at dksJ8_length_0 6 rfl rfl)
theorem dJ8_length_9 : decode cJ8_length 9 = .ok (.ishr, 1) := dk_122 (dk_at dksJ8_length_0 9 rfl rfl)
theorem dJ8_length_10 : decode cJ8_length 10 = .ok (.ireturn, 1) := dk_172 (dk_at dksJ8_length_0 10 rfl rfl)
abbrev cJ8_coder : ByteArray := prog_32_method_152_code
def yJ8_coder : MethodName := ⟨RJ8, "coder", "()B"⟩
def dkwJ8_coder_0 : List UInt8 := [178, 0, 38, 153, 0, 10, 42, 180, 0, 15, 167, 0, 4, 4, 172]
abbrev dktJ8_coder_0 : List UInt8 := dkwJ8_coder_0 ++ []
theorem dksJ8_coder_0 : cJ8_coder.data.toList.drop 0 = dktJ8_coder_0 := by decide +kernel
theorem dJ8_coder_0 : decode cJ8_coder 0 = .ok (.getstatic 38, 3) := dk_178 0 38 (dk_at dksJ8_coder_0 0 rfl rfl)
theorem dJ8_coder_3 : decode cJ8_coder 3 = .ok (.ifCond .eq 10, 3) := dk_153 0 10 (dk_at dksJ8_coder_0 3 rfl rfl)
theorem dJ8_coder_6 : decode cJ8_coder 6 = .ok (.aload_n 0, 1) := dk_42 (dk_at dksJ8_coder_0 6 rfl rfl)
theorem dJ8_coder_7 : decode cJ8_coder 7 = .ok (.getfield 15, 3) := dk_180 0 15 (dk_at dksJ8_coder_0 7 rfl rfl)
theorem dJ8_coder_10 : decode cJ8_coder 10 = .ok (.goto 4, 3) := dk_167 0 4 (dk_at dksJ8_coder_0 10 rfl rfl)
theorem dJ8_coder_13 : decode cJ8_coder 13 = .ok (.iconst 1, 1) := dk_4 (dk_at dksJ8_coder_0 13 rfl rfl)
theorem dJ8_coder_14 : decode cJ8_coder 14 = .ok (.ireturn, 1) := dk_172 (dk_at dksJ8_coder_0 14 rfl rfl)
abbrev cJ8_checkBoundsOffCount : ByteArray := prog_32_method_157_code
def yJ8_checkBoundsOffCount : MethodName := ⟨RJ8, "checkBoundsOffCount", "(III)I"⟩
def dkwJ8_checkBoundsOffCount_0 : List UInt8 := [26, 27, 28, 178, 4, 29, 184, 4, 41, 172]
abbrev dktJ8_checkBoundsOffCount_0 : List UInt8 := dkwJ8_checkBoundsOffCount_0 ++ []
theorem dksJ8_checkBoundsOffCount_0 : cJ8_checkBoundsOffCount.data.toList.drop 0 = dktJ8_checkBoundsOffCount_0 := by decide +kernel
theorem dJ8_checkBoundsOffCount_0 : decode cJ8_checkBoundsOffCount 0 = .ok (.iload_n 0, 1) := dk_26 (dk_at dksJ8_checkBoundsOffCount_0 0 rfl rfl)
theorem dJ8_checkBoundsOffCount_1 : decode cJ8_checkBoundsOffCount 1 = .ok (.iload_n 1, 1) := dk_27 (dk_at dksJ8_checkBoundsOffCount_0 1 rfl rfl)
theorem dJ8_checkBoundsOffCount_2 : decode cJ8_checkBoundsOffCount 2 = .ok (.iload_n 2, 1) := dk_28 (dk_at dksJ8_checkBoundsOffCount_0 2 rfl rfl)
theorem dJ8_checkBoundsOffCount_3 : decode cJ8_checkBoundsOffCount 3 = .ok (.getstatic 1053, 3) := dk_178 4 29 (dk_at dksJ8_checkBoundsOffCount_0 3 rfl rfl)
theorem dJ8_checkBoundsOffCount_6 : decode cJ8_checkBoundsOffCount 6 = .ok (.invokestatic 1065, 3) := dk_184 4 41 (dk_at dksJ8_checkBoundsOffCount_0 6 rfl rfl)
theorem dJ8_checkBoundsOffCount_9 : decode cJ8_checkBoundsOffCount 9 = .ok (.ireturn, 1) := dk_172 (dk_at dksJ8_checkBoundsOffCount_0 9 rfl rfl)
abbrev cJ8_getBytes : ByteArray := prog_32_method_147_code
def yJ8_getBytes : MethodName := ⟨RJ8, "getBytes", "([BIB)V"⟩
def dkwJ8_getBytes_1 : List UInt8 := [184, 0, 212, 167, 0, 18, 42, 180, 0, 9, 3, 43, 28, 42, 180, 0, 9, 190, 184, 0, 106, 177]
abbrev dktJ8_getBytes_1 : List UInt8 := dkwJ8_getBytes_1 ++ []
def dkwJ8_getBytes_0 : List UInt8 := [42, 182, 1, 79, 29, 160, 0, 23, 42, 180, 0, 9, 3, 43, 28, 29, 120, 42, 180, 0, 9, 190]
abbrev dktJ8_getBytes_0 : List UInt8 := dkwJ8_getBytes_0 ++ dktJ8_getBytes_1
theorem dksJ8_getBytes_0 : cJ8_getBytes.data.toList.drop 0 = dktJ8_getBytes_0 := by decide +kernel
theorem dksJ8_getBytes_1 : cJ8_getBytes.data.toList.drop 22 = dktJ8_getBytes_1 := dk_seg dksJ8_getBytes_0 22 rfl rfl
theorem dJ8_getBytes_0 : decode cJ8_getBytes 0 = .ok (.aload_n 0, 1) := dk_42 (dk_at dksJ8_getBytes_0 0 rfl rfl)
theorem dJ8_getBytes_1 : decode cJ8_getBytes 1 = .ok (.invokevirtual 335, 3) := dk_182 1 79 (dk_at dksJ8_getBytes_0 1 rfl rfl)
theorem dJ8_getBytes_4 : decode cJ8_getBytes 4 = .ok (.iload_n 3, 1) := dk_29 (dk_at dksJ8_getBytes_0 4 rfl rfl)
theorem dJ8_getBytes_5 : decode cJ8_getBytes 5 = .ok (.if_icmp .ne 23, 3) := dk_160 0 23 (dk_at dksJ8_getBytes_0 5 rfl rfl)
theorem dJ8_getBytes_8 : decode cJ8_getBytes 8 = .ok (.aload_n 0, 1) := dk_42 (dk_at dksJ8_getBytes_0 8 rfl rfl)
theorem dJ8_getBytes_9 : decode cJ8_getBytes 9 = .ok (.getfield 9, 3) := dk_180 0 9 (dk_at dksJ8_getBytes_0 9 rfl rfl)
theorem dJ8_getBytes_12 : decode cJ8_getBytes 12 = .ok (.iconst 0, 1) := dk_3 (dk_at dksJ8_getBytes_0 12 rfl rfl)
theorem dJ8_getBytes_13 : decode cJ8_getBytes 13 = .ok (.aload_n 1, 1) := dk_43 (dk_at dksJ8_getBytes_0 13 rfl rfl)
theorem dJ8_getBytes_14 : decode cJ8_getBytes 14 = .ok (.iload_n 2, 1) := dk_28 (dk_at dksJ8_getBytes_0 14 rfl rfl)
theorem dJ8_getBytes_15 : decode cJ8_getBytes 15 = .ok (.iload_n 3, 1) := dk_29 (dk_at dksJ8_getBytes_0 15 rfl rfl)
theorem dJ8_getBytes_16 : decode cJ8_getBytes 16 = .ok (.ishl, 1) := dk_120 (dk_at dksJ8_getBytes_0 16 rfl rfl)
theorem dJ8_getBytes_17 : decode cJ8_getBytes 17 = .ok (.aload_n 0, 1) := dk_42 (dk_at dksJ8_getBytes_0 17 rfl rfl)
theorem dJ8_getBytes_18 : decode cJ8_getBytes 18 = .ok (.getfield 9, 3) := dk_180 0 9 (dk_at dksJ8_getBytes_0 18 rfl rfl)
theorem dJ8_getBytes_21 : decode cJ8_getBytes 21 = .ok (.arraylength, 1) := dk_190 (dk_at dksJ8_getBytes_0 21 rfl rfl)
theorem dJ8_getBytes_22 : decode cJ8_getBytes 22 = .ok (.invokestatic 212, 3) := dk_184 0 212 (dk_at dksJ8_getBytes_1 0 rfl rfl)
theorem dJ8_getBytes_25 : decode cJ8_getBytes 25 = .ok (.goto 18, 3) := dk_167 0 18 (dk_at dksJ8_getBytes_1 3 rfl rfl)
theorem dJ8_getBytes_28 : decode cJ8_getBytes 28 = .ok (.aload_n 0, 1) := dk_42 (dk_at dksJ8_getBytes_1 6 rfl rfl)
theorem dJ8_getBytes_29 : decode cJ8_getBytes 29 = .ok (.getfield 9, 3) := dk_180 0 9 (dk_at dksJ8_getBytes_1 7 rfl rfl)
theorem dJ8_getBytes_32 : decode cJ8_getBytes 32 = .ok (.iconst 0, 1) := dk_3 (dk_at dksJ8_getBytes_1 10 rfl rfl)
theorem dJ8_getBytes_33 : decode cJ8_getBytes 33 = .ok (.aload_n 1, 1) := dk_43 (dk_at dksJ8_getBytes_1 11 rfl rfl)
theorem dJ8_getBytes_34 : decode cJ8_getBytes 34 = .ok (.iload_n 2, 1) := dk_28 (dk_at dksJ8_getBytes_1 12 rfl rfl)
theorem dJ8_getBytes_35 : decode cJ8_getBytes 35 = .ok (.aload_n 0, 1) := dk_42 (dk_at dksJ8_getBytes_1 13 rfl rfl)
theorem dJ8_getBytes_36 : decode cJ8_getBytes 36 = .ok (.getfield 9, 3) := dk_180 0 9 (dk_at dksJ8_getBytes_1 14 rfl rfl)
theorem dJ8_getBytes_39 : decode cJ8_getBytes 39 = .ok (.arraylength, 1) := dk_190 (dk_at dksJ8_getBytes_1 17 rfl rfl)
theorem dJ8_getBytes_40 : decode cJ8_getBytes 40 = .ok (.invokestatic 106, 3) := dk_184 0 106 (dk_at dksJ8_getBytes_1 18 rfl rfl)
theorem dJ8_getBytes_43 : decode cJ8_getBytes 43 = .ok (.return_, 1) := dk_177 (dk_at dksJ8_getBytes_1 21 rfl rfl)
abbrev cJ8_init : ByteArray := prog_32_method_53_code
def yJ8_init : MethodName := ⟨RJ8, "<init>", "(Ljava/lang/StringBuilder;)V"⟩
def dkwJ8_init_0 : List UInt8 := [42, 43, 1, 183, 1, 233, 177]
abbrev dktJ8_init_0 : List UInt8 := dkwJ8_init_0 ++ []
theorem dksJ8_init_0 : cJ8_init.data.toList.drop 0 = dktJ8_init_0 := by decide +kernel
theorem dJ8_init_0 : decode cJ8_init 0 = .ok (.aload_n 0, 1) := dk_42 (dk_at dksJ8_init_0 0 rfl rfl)
theorem dJ8_init_1 : decode cJ8_init 1 = .ok (.aload_n 1, 1) := dk_43 (dk_at dksJ8_init_0 1 rfl rfl)
theorem dJ8_init_2 : decode cJ8_init 2 = .ok (.aconst_null, 1) := dk_1 (dk_at dksJ8_init_0 2 rfl rfl)
theorem dJ8_init_3 : decode cJ8_init 3 = .ok (.invokespecial 489, 3) := dk_183 1 233 (dk_at dksJ8_init_0 3 rfl rfl)
theorem dJ8_init_6 : decode cJ8_init 6 = .ok (.return_, 1) := dk_177 (dk_at dksJ8_init_0 6 rfl rfl)
abbrev cJ8_init_2 : ByteArray := prog_32_method_150_code
def yJ8_init_2 : MethodName := ⟨RJ8, "<init>", "(Ljava/lang/AbstractStringBuilder;Ljava/lang/Void;)V"⟩
def dkwJ8_init_2_4 : List UInt8 := [181, 0, 9, 177]
abbrev dktJ8_init_2_4 : List UInt8 := dkwJ8_init_2_4 ++ []
def dkwJ8_init_2_3 : List UInt8 := [184, 0, 47, 181, 0, 15, 177, 42, 4, 181, 0, 15, 42, 45, 3, 21, 4, 4, 120, 184, 0, 54]
abbrev dktJ8_init_2_3 : List UInt8 := dkwJ8_init_2_3 ++ dktJ8_init_2_4
def dkwJ8_init_2_2 : List UInt8 := [180, 4, 24, 153, 0, 28, 42, 45, 3, 21, 4, 184, 4, 27, 181, 0, 9, 42, 42, 180, 0, 9, 21, 4]
abbrev dktJ8_init_2_2 : List UInt8 := dkwJ8_init_2_2 ++ dktJ8_init_2_3
def dkwJ8_init_2_1 : List UInt8 := [181, 0, 15, 42, 45, 3, 21, 4, 184, 0, 54, 181, 0, 9, 167, 0, 59, 178, 0, 38, 153, 0, 35, 43]
abbrev dktJ8_init_2_1 : List UInt8 := dkwJ8_init_2_1 ++ dktJ8_init_2_2
def dkwJ8_init_2_0 : List UInt8 := [42, 183, 0, 1, 43, 182, 2, 40, 78, 43, 182, 2, 37, 54, 4, 43, 182, 4, 23, 153, 0, 22, 42, 3]
abbrev dktJ8_init_2_0 : List UInt8 := dkwJ8_init_2_0 ++ dktJ8_init_2_1
theorem dksJ8_init_2_0 : cJ8_init_2.data.toList.drop 0 = dktJ8_init_2_0 := by decide +kernel
theorem dksJ8_init_2_1 : cJ8_init_2.data.toList.drop 24 = dktJ8_init_2_1 := dk_seg dksJ8_init_2_0 24 rfl rfl
theorem dksJ8_init_2_2 : cJ8_init_2.data.toList.drop 48 = dktJ8_init_2_2 := dk_seg dksJ8_init_2_1 24 rfl rfl
theorem dksJ8_init_2_3 : cJ8_init_2.data.toList.drop 72 = dktJ8_init_2_3 := dk_seg dksJ8_init_2_2 24 rfl rfl
theorem dksJ8_init_2_4 : cJ8_init_2.data.toList.drop 94 = dktJ8_init_2_4 := dk_seg dksJ8_init_2_3 22 rfl rfl
theorem dJ8_init_2_0 : decode cJ8_init_2 0 = .ok (.aload_n 0, 1) := dk_42 (dk_at dksJ8_init_2_0 0 rfl rfl)
theorem dJ8_init_2_1 : decode cJ8_init_2 1 = .ok (.invokespecial 1, 3) := dk_183 0 1 (dk_at dksJ8_init_2_0 1 rfl rfl)
theorem dJ8_init_2_4 : decode cJ8_init_2 4 = .ok (.aload_n 1, 1) := dk_43 (dk_at dksJ8_init_2_0 4 rfl rfl)
theorem dJ8_init_2_5 : decode cJ8_init_2 5 = .ok (.invokevirtual 552, 3) := dk_182 2 40 (dk_at dksJ8_init_2_0 5 rfl rfl)
theorem dJ8_init_2_8 : decode cJ8_init_2 8 = .ok (.astore_n 3, 1) := dk_78 (dk_at dksJ8_init_2_0 8 rfl rfl)
theorem dJ8_init_2_9 : decode cJ8_init_2 9 = .ok (.aload_n 1, 1) := dk_43 (dk_at dksJ8_init_2_0 9 rfl rfl)
theorem dJ8_init_2_10 : decode cJ8_init_2 10 = .ok (.invokevirtual 549, 3) := dk_182 2 37 (dk_at dksJ8_init_2_0 10 rfl rfl)
theorem dJ8_init_2_13 : decode cJ8_init_2 13 = .ok (.istore 4, 2) := dk_54 4 (dk_at dksJ8_init_2_0 13 rfl rfl)
theorem dJ8_init_2_15 : decode cJ8_init_2 15 = .ok (.aload_n 1, 1) := dk_43 (dk_at dksJ8_init_2_0 15 rfl rfl)
theorem dJ8_init_2_16 : decode cJ8_init_2 16 = .ok (.invokevirtual 1047, 3) := dk_182 4 23 (dk_at dksJ8_init_2_0 16 rfl rfl)
theorem dJ8_init_2_19 : decode cJ8_init_2 19 = .ok (.ifCond .eq 22, 3) := dk_153 0 22 (dk_at dksJ8_init_2_0 19 rfl rfl)
theorem dJ8_init_2_22 : decode cJ8_init_2 22 = .ok (.aload_n 0, 1) := dk_42 (dk_at dksJ8_init_2_0 22 rfl rfl)
theorem dJ8_init_2_23 : decode cJ8_init_2 23 = .ok (.iconst 0, 1) := dk_3 (dk_at dksJ8_init_2_0 23 rfl rfl)
theorem dJ8_init_2_24 : decode cJ8_init_2 24 = .ok (.putfield 15, 3) := dk_181 0 15 (dk_at dksJ8_init_2_1 0 rfl rfl)
theorem dJ8_init_2_27 : decode cJ8_init_2 27 = .ok (.aload_n 0, 1) := dk_42 (dk_at dksJ8_init_2_1 3 rfl rfl)
theorem dJ8_init_2_28 : decode cJ8_init_2 28 = .ok (.aload_n 3, 1) := dk_45 (dk_at dksJ8_init_2_1 4 rfl rfl)
theorem dJ8_init_2_29 : decode cJ8_init_2 29 = .ok (.iconst 0, 1) := dk_3 (dk_at dksJ8_init_2_1 5 rfl rfl)
theorem dJ8_init_2_30 : decode cJ8_init_2 30 = .ok (.iload 4, 2) := dk_21 4 (dk_at dksJ8_init_2_1 6 rfl rfl)
theorem dJ8_init_2_32 : decode cJ8_init_2 32 = .ok (.invokestatic 54, 3) := dk_184 0 54 (dk_at dksJ8_init_2_1 8 rfl rfl)
theorem dJ8_init_2_35 : decode cJ8_init_2 35 = .ok (.putfield 9, 3) := dk_181 0 9 (dk_at dksJ8_init_2_1 11 rfl rfl)
theorem dJ8_init_2_38 : decode cJ8_init_2 38 = .ok (.goto 59, 3) := dk_167 0 59 (dk_at dksJ8_init_2_1 14 rfl rfl)
theorem dJ8_init_2_41 : decode cJ8_init_2 41 = .ok (.getstatic 38, 3) := dk_178 0 38 (dk_at dksJ8_init_2_1 17 rfl rfl)
theorem dJ8_init_2_44 : decode cJ8_init_2 44 = .ok (.ifCond .eq 35, 3) := dk_153 0 35 (dk_at dksJ8_init_2_1 20 rfl rfl)
theorem dJ8_init_2_47 : decode cJ8_init_2 47 = .ok (.aload_n 1, 1) := dk_43 (dk_at dksJ8_init_2_1 23 rfl rfl)
theorem dJ8_init_2_48 : decode cJ8_init_2 48 = .ok (.getfield 1048, 3) := dk_180 4 24 (dk_at dksJ8_init_2_2 0 rfl rfl)
theorem dJ8_init_2_51 : decode cJ8_init_2 51 = .ok (.ifCond .eq 28, 3) := dk_153 0 28 (dk_at dksJ8_init_2_2 3 rfl rfl)
theorem dJ8_init_2_54 : decode cJ8_init_2 54 = .ok (.aload_n 0, 1) := dk_42 (dk_at dksJ8_init_2_2 6 rfl rfl)
theorem dJ8_init_2_55 : decode cJ8_init_2 55 = .ok (.aload_n 3, 1) := dk_45 (dk_at dksJ8_init_2_2 7 rfl rfl)
theorem dJ8_init_2_56 : decode cJ8_init_2 56 = .ok (.iconst 0, 1) := dk_3 (dk_at dksJ8_init_2_2 8 rfl rfl)
theorem dJ8_init_2_57 : decode cJ8_init_2 57 = .ok (.iload 4, 2) := dk_21 4 (dk_at dksJ8_init_2_2 9 rfl rfl)
theorem dJ8_init_2_59 : decode cJ8_init_2 59 = .ok (.invokestatic 1051, 3) := dk_184 4 27 (dk_at dksJ8_init_2_2 11 rfl rfl)
theorem dJ8_init_2_62 : decode cJ8_init_2 62 = .ok (.putfield 9, 3) := dk_181 0 9 (dk_at dksJ8_init_2_2 14 rfl rfl)
theorem dJ8_init_2_65 : decode cJ8_init_2 65 = .ok (.aload_n 0, 1) := dk_42 (dk_at dksJ8_init_2_2 17 rfl rfl)
theorem dJ8_init_2_66 : decode cJ8_init_2 66 = .ok (.aload_n 0, 1) := dk_42 (dk_at dksJ8_init_2_2 18 rfl rfl)
theorem dJ8_init_2_67 : decode cJ8_init_2 67 = .ok (.getfield 9, 3) := dk_180 0 9 (dk_at dksJ8_init_2_2 19 rfl rfl)
theorem dJ8_init_2_70 : decode cJ8_init_2 70 = .ok (.iload 4, 2) := dk_21 4 (dk_at dksJ8_init_2_2 22 rfl rfl)
theorem dJ8_init_2_72 : decode cJ8_init_2 72 = .ok (.invokestatic 47, 3) := dk_184 0 47 (dk_at dksJ8_init_2_3 0 rfl rfl)
theorem dJ8_init_2_75 : decode cJ8_init_2 75 = .ok (.putfield 15, 3) := dk_181 0 15 (dk_at dksJ8_init_2_3 3 rfl rfl)
theorem dJ8_init_2_78 : decode cJ8_init_2 78 = .ok (.return_, 1) := dk_177 (dk_at dksJ8_init_2_3 6 rfl rfl)
theorem dJ8_init_2_79 : decode cJ8_init_2 79 = .ok (.aload_n 0, 1) := dk_42 (dk_at dksJ8_init_2_3 7 rfl rfl)
theorem dJ8_init_2_80 : decode cJ8_init_2 80 = .ok (.iconst 1, 1) := dk_4 (dk_at dksJ8_init_2_3 8 rfl rfl)
theorem dJ8_init_2_81 : decode cJ8_init_2 81 = .ok (.putfield 15, 3) := dk_181 0 15 (dk_at dksJ8_init_2_3 9 rfl rfl)
theorem dJ8_init_2_84 : decode cJ8_init_2 84 = .ok (.aload_n 0, 1) := dk_42 (dk_at dksJ8_init_2_3 12 rfl rfl)
theorem dJ8_init_2_85 : decode cJ8_init_2 85 = .ok (.aload_n 3, 1) := dk_45 (dk_at dksJ8_init_2_3 13 rfl rfl)
theorem dJ8_init_2_86 : decode cJ8_init_2 86 = .ok (.iconst 0, 1) := dk_3 (dk_at dksJ8_init_2_3 14 rfl rfl)
theorem dJ8_init_2_87 : decode cJ8_init_2 87 = .ok (.iload 4, 2) := dk_21 4 (dk_at dksJ8_init_2_3 15 rfl rfl)
theorem dJ8_init_2_89 : decode cJ8_init_2 89 = .ok (.iconst 1, 1) := dk_4 (dk_at dksJ8_init_2_3 17 rfl rfl)
theorem dJ8_init_2_90 : decode cJ8_init_2 90 = .ok (.ishl, 1) := dk_120 (dk_at dksJ8_init_2_3 18 rfl rfl)
theorem dJ8_init_2_91 : decode cJ8_init_2 91 = .ok (.invokestatic 54, 3) := dk_184 0 54 (dk_at dksJ8_init_2_3 19 rfl rfl)
theorem dJ8_init_2_94 : decode cJ8_init_2 94 = .ok (.putfield 9, 3) := dk_181 0 9 (dk_at dksJ8_init_2_4 0 rfl rfl)
theorem dJ8_init_2_97 : decode cJ8_init_2 97 = .ok (.return_, 1) := dk_177 (dk_at dksJ8_init_2_4 3 rfl rfl)
abbrev cJ8_checkIndex : ByteArray := prog_32_method_155_code
def yJ8_checkIndex : MethodName := ⟨RJ8, "checkIndex", "(II)V"⟩
def dkwJ8_checkIndex_0 : List UInt8 := [26, 27, 178, 4, 29, 184, 4, 35, 87, 177]
abbrev dktJ8_checkIndex_0 : List UInt8 := dkwJ8_checkIndex_0 ++ []
theorem dksJ8_checkIndex_0 : cJ8_checkIndex.data.toList.drop 0 = dktJ8_checkIndex_0 := by decide +kernel
theorem dJ8_checkIndex_0 : decode cJ8_checkIndex 0 = .ok (.iload_n 0, 1) := dk_26 (dk_at dksJ8_checkIndex_0 0 rfl rfl)
theorem dJ8_checkIndex_1 : decode cJ8_checkIndex 1 = .ok (.iload_n 1, 1) := dk_27 (dk_at dksJ8_checkIndex_0 1 rfl rfl)
theorem dJ8_checkIndex_2 : decode cJ8_checkIndex 2 = .ok (.getstatic 1053, 3) := dk_178 4 29 (dk_at dksJ8_checkIndex_0 2 rfl rfl)
theorem dJ8_checkIndex_5 : decode cJ8_checkIndex 5 = .ok (.invokestatic 1059, 3) := dk_184 4 35 (dk_at dksJ8_checkIndex_0 5 rfl rfl)
theorem dJ8_checkIndex_8 : decode cJ8_checkIndex 8 = .ok (.pop, 1) := dk_87 (dk_at dksJ8_checkIndex_0 8 rfl rfl)
theorem dJ8_checkIndex_9 : decode cJ8_checkIndex 9 = .ok (.return_, 1) := dk_177 (dk_at dksJ8_checkIndex_0 9 rfl rfl)
abbrev cJ8_charAt : ByteArray := prog_32_method_56_code
def yJ8_charAt : MethodName := ⟨RJ8, "charAt", "(I)C"⟩
def dkwJ8_charAt_1 : List UInt8 := [172]
abbrev dktJ8_charAt_1 : List UInt8 := dkwJ8_charAt_1 ++ []
def dkwJ8_charAt_0 : List UInt8 := [42, 182, 1, 236, 153, 0, 12, 42, 180, 0, 9, 27, 184, 1, 239, 172, 42, 180, 0, 9, 27, 184, 1, 242]
abbrev dktJ8_charAt_0 : List UInt8 := dkwJ8_charAt_0 ++ dktJ8_charAt_1
theorem dksJ8_charAt_0 : cJ8_charAt.data.toList.drop 0 = dktJ8_charAt_0 := by decide +kernel
theorem dksJ8_charAt_1 : cJ8_charAt.data.toList.drop 24 = dktJ8_charAt_1 := dk_seg dksJ8_charAt_0 24 rfl rfl
theorem dJ8_charAt_0 : decode cJ8_charAt 0 = .ok (.aload_n 0, 1) := dk_42 (dk_at dksJ8_charAt_0 0 rfl rfl)
theorem dJ8_charAt_1 : decode cJ8_charAt 1 = .ok (.invokevirtual 492, 3) := dk_182 1 236 (dk_at dksJ8_charAt_0 1 rfl rfl)
theorem dJ8_charAt_4 : decode cJ8_charAt 4 = .ok (.ifCond .eq 12, 3) := dk_153 0 12 (dk_at dksJ8_charAt_0 4 rfl rfl)
theorem dJ8_charAt_7 : decode cJ8_charAt 7 = .ok (.aload_n 0, 1) := dk_42 (dk_at dksJ8_charAt_0 7 rfl rfl)
theorem dJ8_charAt_8 : decode cJ8_charAt 8 = .ok (.getfield 9, 3) := dk_180 0 9 (dk_at dksJ8_charAt_0 8 rfl rfl)
theorem dJ8_charAt_11 : decode cJ8_charAt 11 = .ok (.iload_n 1, 1) := dk_27 (dk_at dksJ8_charAt_0 11 rfl rfl)
theorem dJ8_charAt_12 : decode cJ8_charAt 12 = .ok (.invokestatic 495, 3) := dk_184 1 239 (dk_at dksJ8_charAt_0 12 rfl rfl)
theorem dJ8_charAt_15 : decode cJ8_charAt 15 = .ok (.ireturn, 1) := dk_172 (dk_at dksJ8_charAt_0 15 rfl rfl)
theorem dJ8_charAt_16 : decode cJ8_charAt 16 = .ok (.aload_n 0, 1) := dk_42 (dk_at dksJ8_charAt_0 16 rfl rfl)
theorem dJ8_charAt_17 : decode cJ8_charAt 17 = .ok (.getfield 9, 3) := dk_180 0 9 (dk_at dksJ8_charAt_0 17 rfl rfl)
theorem dJ8_charAt_20 : decode cJ8_charAt 20 = .ok (.iload_n 1, 1) := dk_27 (dk_at dksJ8_charAt_0 20 rfl rfl)
theorem dJ8_charAt_21 : decode cJ8_charAt 21 = .ok (.invokestatic 498, 3) := dk_184 1 242 (dk_at dksJ8_charAt_0 21 rfl rfl)
theorem dJ8_charAt_24 : decode cJ8_charAt 24 = .ok (.ireturn, 1) := dk_172 (dk_at dksJ8_charAt_1 0 rfl rfl)
abbrev cJ8_isLatin1 : ByteArray := prog_32_method_154_code
def yJ8_isLatin1 : MethodName := ⟨RJ8, "isLatin1", "()Z"⟩
def dkwJ8_isLatin1_0 : List UInt8 := [178, 0, 38, 153, 0, 14, 42, 180, 0, 15, 154, 0, 7, 4, 167, 0, 4, 3, 172]
abbrev dktJ8_isLatin1_0 : List UInt8 := dkwJ8_isLatin1_0 ++ []
theorem dksJ8_isLatin1_0 : cJ8_isLatin1.data.toList.drop 0 = dktJ8_isLatin1_0 := by decide +kernel
theorem dJ8_isLatin1_0 : decode cJ8_isLatin1 0 = .ok (.getstatic 38, 3) := dk_178 0 38 (dk_at dksJ8_isLatin1_0 0 rfl rfl)
theorem dJ8_isLatin1_3 : decode cJ8_isLatin1 3 = .ok (.ifCond .eq 14, 3) := dk_153 0 14 (dk_at dksJ8_isLatin1_0 3 rfl rfl)
theorem dJ8_isLatin1_6 : decode cJ8_isLatin1 6 = .ok (.aload_n 0, 1) := dk_42 (dk_at dksJ8_isLatin1_0 6 rfl rfl)
theorem dJ8_isLatin1_7 : decode cJ8_isLatin1 7 = .ok (.getfield 15, 3) := dk_180 0 15 (dk_at dksJ8_isLatin1_0 7 rfl rfl)
theorem dJ8_isLatin1_10 : decode cJ8_isLatin1 10 = .ok (.ifCond .ne 7, 3) := dk_154 0 7 (dk_at dksJ8_isLatin1_0 10 rfl rfl)
theorem dJ8_isLatin1_13 : decode cJ8_isLatin1 13 = .ok (.iconst 1, 1) := dk_4 (dk_at dksJ8_isLatin1_0 13 rfl rfl)
theorem dJ8_isLatin1_14 : decode cJ8_isLatin1 14 = .ok (.goto 4, 3) := dk_167 0 4 (dk_at dksJ8_isLatin1_0 14 rfl rfl)
theorem dJ8_isLatin1_17 : decode cJ8_isLatin1 17 = .ok (.iconst 0, 1) := dk_3 (dk_at dksJ8_isLatin1_0 17 rfl rfl)
theorem dJ8_isLatin1_18 : decode cJ8_isLatin1 18 = .ok (.ireturn, 1) := dk_172 (dk_at dksJ8_isLatin1_0 18 rfl rfl)
theorem q54 : (Jvm.Cond.initialized "java/lang/String") ∈ lw_all := lw_g (lw_at lw_m1 11 rfl) rfl
theorem q359 : (Jvm.Cond.instantiable "java/lang/String" (4 : Nat)) ∈ lw_all := lw_g (lw_at lw_m2 76 rfl) rfl
theorem q361 : (Jvm.Cond.laysFinal "java/lang/String" "java/lang/String" "value" "[B") ∈ lw_all := lw_g (lw_at lw_m2 78 rfl) rfl
theorem q362 : (Jvm.Cond.soleField "java/lang/String" "value") ∈ lw_all := lw_g (lw_at lw_m2 79 rfl) rfl
theorem q363 : (Jvm.Cond.laysFinal "java/lang/String" "java/lang/String" "coder" "B") ∈ lw_all := lw_g (lw_at lw_m2 80 rfl) rfl
theorem q364 : (Jvm.Cond.soleField "java/lang/String" "coder") ∈ lw_all := lw_g (lw_at lw_m2 81 rfl) rfl
theorem q527 : (Jvm.Cond.selects "java/lang/String" ({ cls := "java/lang/Object", name := "getClass", desc := "()Ljava/lang/Class;" } : Jvm.MethodName) ({ cls := "java/lang/Object", name := "getClass", desc := "()Ljava/lang/Class;" } : Jvm.MethodName)) ∈ lw_all := lw_g (lw_at lw_m3 4 rfl) rfl
theorem q956 : (Jvm.Cond.selects "java/lang/String" ({ cls := "java/lang/Object", name := "equals", desc := "(Ljava/lang/Object;)Z" } : Jvm.MethodName) ({ cls := "java/lang/String", name := "equals", desc := "(Ljava/lang/Object;)Z" } : Jvm.MethodName)) ∈ lw_all := lw_g (lw_at lw_m4 193 rfl) rfl
theorem q957 : (Jvm.Cond.instanceMethod ({ cls := "java/lang/String", name := "equals", desc := "(Ljava/lang/Object;)Z" } : Jvm.MethodName)) ∈ lw_all := lw_g (lw_at lw_m4 194 rfl) rfl
theorem q958 : (Jvm.Cond.code ({ cls := "java/lang/String", name := "equals", desc := "(Ljava/lang/Object;)Z" } : Jvm.MethodName) prog_32_method_66_code (3 : Nat) (Option.some Jvm.ClassFile.FieldType.boolean)) ∈ lw_all := lw_g (lw_at lw_m4 195 rfl) rfl
theorem q959 : (Jvm.Cond.classLink "java/lang/String" (10 : Nat) "java/lang/String") ∈ lw_all := lw_g (lw_at lw_m4 196 rfl) rfl
theorem q960 : (Jvm.Cond.fieldLink "java/lang/String" (38 : Nat) "java/lang/String" "COMPACT_STRINGS" "Z") ∈ lw_all := lw_g (lw_at lw_m4 197 rfl) rfl
theorem q961 : (Jvm.Cond.laysStatic "java/lang/String" "COMPACT_STRINGS" "Z") ∈ lw_tbl := lw_at lw_m4 198 rfl
theorem q962 : (Jvm.Cond.methodLink "java/lang/String" (541 : Nat) ({ cls := "java/lang/StringLatin1", name := "equals", desc := "([B[B)Z" } : Jvm.MethodName)) ∈ lw_all := lw_g (lw_at lw_m4 199 rfl) rfl
theorem q1125 : (Jvm.Cond.fieldLink "java/lang/String" (1048 : Nat) "java/lang/AbstractStringBuilder" "maybeLatin1" "Z") ∈ lw_all := lw_g (lw_at lw_m5 122 rfl) rfl
theorem q1190 : (Jvm.Cond.static ({ cls := "java/lang/String", name := "checkBoundsBeginEnd", desc := "(III)V" } : Jvm.MethodName)) ∈ lw_all := lw_g (lw_at lw_m5 187 rfl) rfl
theorem q1191 : (Jvm.Cond.code ({ cls := "java/lang/String", name := "checkBoundsBeginEnd", desc := "(III)V" } : Jvm.MethodName) prog_32_method_158_code (3 : Nat) (Option.none : Option Jvm.ClassFile.FieldType)) ∈ lw_all := lw_g (lw_at lw_m5 188 rfl) rfl
theorem q1192 : (Jvm.Cond.fieldLink "java/lang/String" (1053 : Nat) "jdk/internal/util/Preconditions" "SIOOBE_FORMATTER" "Ljava/util/function/BiFunction;") ∈ lw_all := lw_g (lw_at lw_m5 189 rfl) rfl
theorem q1194 : (Jvm.Cond.methodLink "java/lang/String" (1062 : Nat) ({ cls := "jdk/internal/util/Preconditions", name := "checkFromToIndex", desc := "(IIILjava/util/function/BiFunction;)I" } : Jvm.MethodName)) ∈ lw_all := lw_g (lw_at lw_m5 191 rfl) rfl
theorem q1207 : (Jvm.Cond.instanceMethod ({ cls := "java/lang/String", name := "length", desc := "()I" } : Jvm.MethodName)) ∈ lw_all := lw_g (lw_at lw_m5 204 rfl) rfl
theorem q1208 : (Jvm.Cond.selects "java/lang/String" ({ cls := "java/lang/String", name := "length", desc := "()I" } : Jvm.MethodName) ({ cls := "java/lang/String", name := "length", desc := "()I" } : Jvm.MethodName)) ∈ lw_all := lw_g (lw_at lw_m5 205 rfl) rfl
theorem q1209 : (Jvm.Cond.code ({ cls := "java/lang/String", name := "length", desc := "()I" } : Jvm.MethodName) prog_32_method_54_code (1 : Nat) (Option.some Jvm.ClassFile.FieldType.int)) ∈ lw_all := lw_g (lw_at lw_m5 206 rfl) rfl
theorem q1210 : (Jvm.Cond.methodLink "java/lang/String" (335 : Nat) ({ cls := "java/lang/String", name := "coder", desc := "()B" } : Jvm.MethodName)) ∈ lw_all := lw_g (lw_at lw_m5 207 rfl) rfl
theorem q1211 : (Jvm.Cond.instanceMethod ({ cls := "java/lang/String", name := "coder", desc := "()B" } : Jvm.MethodName)) ∈ lw_all := lw_g (lw_at lw_m5 208 rfl) rfl
theorem q1212 : (Jvm.Cond.selects "java/lang/String" ({ cls := "java/lang/String", name := "coder", desc := "()B" } : Jvm.MethodName) ({ cls := "java/lang/String", name := "coder", desc := "()B" } : Jvm.MethodName)) ∈ lw_all := lw_g (lw_at lw_m5 209 rfl) rfl
theorem q1213 : (Jvm.Cond.code ({ cls := "java/lang/String", name := "coder", desc := "()B" } : Jvm.MethodName) prog_32_method_152_code (1 : Nat) (Option.some Jvm.ClassFile.FieldType.byte)) ∈ lw_all := lw_g (lw_at lw_m5 210 rfl) rfl
theorem q1237 : (Jvm.Cond.static ({ cls := "java/lang/String", name := "checkBoundsOffCount", desc := "(III)I" } : Jvm.MethodName)) ∈ lw_all := lw_g (lw_at lw_m5 234 rfl) rfl
theorem q1238 : (Jvm.Cond.code ({ cls := "java/lang/String", name := "checkBoundsOffCount", desc := "(III)I" } : Jvm.MethodName) prog_32_method_157_code (3 : Nat) (Option.some Jvm.ClassFile.FieldType.int)) ∈ lw_all := lw_g (lw_at lw_m5 235 rfl) rfl
theorem q1239 : (Jvm.Cond.methodLink "java/lang/String" (1065 : Nat) ({ cls := "jdk/internal/util/Preconditions", name := "checkFromIndexSize", desc := "(IIILjava/util/function/BiFunction;)I" } : Jvm.MethodName)) ∈ lw_all := lw_g (lw_at lw_m5 236 rfl) rfl
theorem q1243 : (Jvm.Cond.instanceMethod ({ cls := "java/lang/String", name := "getBytes", desc := "([BIB)V" } : Jvm.MethodName)) ∈ lw_all := lw_g (lw_at lw_m6 0 rfl) rfl
theorem q1244 : (Jvm.Cond.selects "java/lang/String" ({ cls := "java/lang/String", name := "getBytes", desc := "([BIB)V" } : Jvm.MethodName) ({ cls := "java/lang/String", name := "getBytes", desc := "([BIB)V" } : Jvm.MethodName)) ∈ lw_all := lw_g (lw_at lw_m6 1 rfl) rfl
theorem q1245 : (Jvm.Cond.code ({ cls := "java/lang/String", name := "getBytes", desc := "([BIB)V" } : Jvm.MethodName) prog_32_method_147_code (4 : Nat) (Option.none : Option Jvm.ClassFile.FieldType)) ∈ lw_all := lw_g (lw_at lw_m6 2 rfl) rfl
theorem q1246 : (Jvm.Cond.methodLink "java/lang/String" (212 : Nat) ({ cls := "java/lang/System", name := "arraycopy", desc := "(Ljava/lang/Object;ILjava/lang/Object;II)V" } : Jvm.MethodName)) ∈ lw_all := lw_g (lw_at lw_m6 3 rfl) rfl
theorem q1247 : (Jvm.Cond.methodLink "java/lang/String" (106 : Nat) ({ cls := "java/lang/StringLatin1", name := "inflate", desc := "([BI[BII)V" } : Jvm.MethodName)) ∈ lw_all := lw_g (lw_at lw_m6 4 rfl) rfl
theorem q1279 : (Jvm.Cond.instanceMethod ({ cls := "java/lang/String", name := "<init>", desc := "(Ljava/lang/StringBuilder;)V" } : Jvm.MethodName)) ∈ lw_all := lw_g (lw_at lw_m6 36 rfl) rfl
theorem q1280 : (Jvm.Cond.code ({ cls := "java/lang/String", name := "<init>", desc := "(Ljava/lang/StringBuilder;)V" } : Jvm.MethodName) prog_32_method_53_code (2 : Nat) (Option.none : Option Jvm.ClassFile.FieldType)) ∈ lw_all := lw_g (lw_at lw_m6 37 rfl) rfl
theorem q1281 : (Jvm.Cond.methodLink "java/lang/String" (489 : Nat) ({ cls := "java/lang/String", name := "<init>", desc := "(Ljava/lang/AbstractStringBuilder;Ljava/lang/Void;)V" } : Jvm.MethodName)) ∈ lw_all := lw_g (lw_at lw_m6 38 rfl) rfl
theorem q1282 : (Jvm.Cond.instanceMethod ({ cls := "java/lang/String", name := "<init>", desc := "(Ljava/lang/AbstractStringBuilder;Ljava/lang/Void;)V" } : Jvm.MethodName)) ∈ lw_all := lw_g (lw_at lw_m6 39 rfl) rfl
theorem q1283 : (Jvm.Cond.code ({ cls := "java/lang/String", name := "<init>", desc := "(Ljava/lang/AbstractStringBuilder;Ljava/lang/Void;)V" } : Jvm.MethodName) prog_32_method_150_code (5 : Nat) (Option.none : Option Jvm.ClassFile.FieldType)) ∈ lw_all := lw_g (lw_at lw_m6 40 rfl) rfl
theorem q1284 : (Jvm.Cond.methodLink "java/lang/String" (1 : Nat) ({ cls := "java/lang/Object", name := "<init>", desc := "()V" } : Jvm.MethodName)) ∈ lw_all := lw_g (lw_at lw_m6 41 rfl) rfl
theorem q1285 : (Jvm.Cond.methodLink "java/lang/String" (552 : Nat) ({ cls := "java/lang/AbstractStringBuilder", name := "getValue", desc := "()[B" } : Jvm.MethodName)) ∈ lw_all := lw_g (lw_at lw_m6 42 rfl) rfl
theorem q1290 : (Jvm.Cond.methodLink "java/lang/String" (549 : Nat) ({ cls := "java/lang/AbstractStringBuilder", name := "length", desc := "()I" } : Jvm.MethodName)) ∈ lw_all := lw_g (lw_at lw_m6 47 rfl) rfl
theorem q1298 : (Jvm.Cond.methodLink "java/lang/String" (1047 : Nat) ({ cls := "java/lang/AbstractStringBuilder", name := "isLatin1", desc := "()Z" } : Jvm.MethodName)) ∈ lw_all := lw_g (lw_at lw_m6 55 rfl) rfl
theorem q1299 : (Jvm.Cond.methodLink "java/lang/String" (54 : Nat) ({ cls := "java/util/Arrays", name := "copyOfRange", desc := "([BII)[B" } : Jvm.MethodName)) ∈ lw_all := lw_g (lw_at lw_m6 56 rfl) rfl
theorem q1319 : (Jvm.Cond.methodLink "java/lang/String" (1051 : Nat) ({ cls := "java/lang/StringUTF16", name := "compress", desc := "([BII)[B" } : Jvm.MethodName)) ∈ lw_all := lw_g (lw_at lw_m6 76 rfl) rfl
theorem q1329 : (Jvm.Cond.methodLink "java/lang/String" (47 : Nat) ({ cls := "java/lang/StringUTF16", name := "coderFromArrayLen", desc := "([BI)B" } : Jvm.MethodName)) ∈ lw_all := lw_g (lw_at lw_m6 86 rfl) rfl
theorem q1332 : (Jvm.Cond.fieldLink "java/lang/String" (9 : Nat) "java/lang/String" "value" "[B") ∈ lw_all := lw_g (lw_at lw_m6 89 rfl) rfl
theorem q1333 : (Jvm.Cond.fieldLink "java/lang/String" (15 : Nat) "java/lang/String" "coder" "B") ∈ lw_all := lw_g (lw_at lw_m6 90 rfl) rfl
theorem q1334 : (Jvm.Cond.lays "java/lang/String" "java/lang/String" "hash" "I") ∈ lw_all := lw_g (lw_at lw_m6 91 rfl) rfl
theorem q1335 : (Jvm.Cond.soleField "java/lang/String" "hash") ∈ lw_all := lw_g (lw_at lw_m6 92 rfl) rfl
theorem q1336 : (Jvm.Cond.lays "java/lang/String" "java/lang/String" "hashIsZero" "Z") ∈ lw_all := lw_g (lw_at lw_m6 93 rfl) rfl
theorem q1337 : (Jvm.Cond.soleField "java/lang/String" "hashIsZero") ∈ lw_all := lw_g (lw_at lw_m6 94 rfl) rfl
theorem q1338 : (Jvm.Cond.superclass "java/lang/String" "java/lang/Object") ∈ lw_all := lw_g (lw_at lw_m6 95 rfl) rfl
theorem q1357 : (Jvm.Cond.static ({ cls := "java/lang/String", name := "checkIndex", desc := "(II)V" } : Jvm.MethodName)) ∈ lw_all := lw_g (lw_at lw_m6 114 rfl) rfl
theorem q1358 : (Jvm.Cond.code ({ cls := "java/lang/String", name := "checkIndex", desc := "(II)V" } : Jvm.MethodName) prog_32_method_155_code (2 : Nat) (Option.none : Option Jvm.ClassFile.FieldType)) ∈ lw_all := lw_g (lw_at lw_m6 115 rfl) rfl
theorem q1359 : (Jvm.Cond.methodLink "java/lang/String" (1059 : Nat) ({ cls := "jdk/internal/util/Preconditions", name := "checkIndex", desc := "(IILjava/util/function/BiFunction;)I" } : Jvm.MethodName)) ∈ lw_all := lw_g (lw_at lw_m6 116 rfl) rfl
theorem q1364 : (Jvm.Cond.instanceMethod ({ cls := "java/lang/String", name := "charAt", desc := "(I)C" } : Jvm.MethodName)) ∈ lw_all := lw_g (lw_at lw_m6 121 rfl) rfl
theorem q1365 : (Jvm.Cond.selects "java/lang/String" ({ cls := "java/lang/String", name := "charAt", desc := "(I)C" } : Jvm.MethodName) ({ cls := "java/lang/String", name := "charAt", desc := "(I)C" } : Jvm.MethodName)) ∈ lw_all := lw_g (lw_at lw_m6 122 rfl) rfl
theorem q1366 : (Jvm.Cond.code ({ cls := "java/lang/String", name := "charAt", desc := "(I)C" } : Jvm.MethodName) prog_32_method_56_code (2 : Nat) (Option.some Jvm.ClassFile.FieldType.char)) ∈ lw_all := lw_g (lw_at lw_m6 123 rfl) rfl
theorem q1367 : (Jvm.Cond.methodLink "java/lang/String" (492 : Nat) ({ cls := "java/lang/String", name := "isLatin1", desc := "()Z" } : Jvm.MethodName)) ∈ lw_all := lw_g (lw_at lw_m6 124 rfl) rfl
theorem q1368 : (Jvm.Cond.instanceMethod ({ cls := "java/lang/String", name := "isLatin1", desc := "()Z" } : Jvm.MethodName)) ∈ lw_all := lw_g (lw_at lw_m6 125 rfl) rfl
theorem q1369 : (Jvm.Cond.selects "java/lang/String" ({ cls := "java/lang/String", name := "isLatin1", desc := "()Z" } : Jvm.MethodName) ({ cls := "java/lang/String", name := "isLatin1", desc := "()Z" } : Jvm.MethodName)) ∈ lw_all := lw_g (lw_at lw_m6 126 rfl) rfl
theorem q1370 : (Jvm.Cond.code ({ cls := "java/lang/String", name := "isLatin1", desc := "()Z" } : Jvm.MethodName) prog_32_method_154_code (1 : Nat) (Option.some Jvm.ClassFile.FieldType.boolean)) ∈ lw_all := lw_g (lw_at lw_m6 127 rfl) rfl
theorem q1371 : (Jvm.Cond.methodLink "java/lang/String" (495 : Nat) ({ cls := "java/lang/StringLatin1", name := "charAt", desc := "([BI)C" } : Jvm.MethodName)) ∈ lw_all := lw_g (lw_at lw_m6 128 rfl) rfl
theorem q1375 : (Jvm.Cond.methodLink "java/lang/String" (498 : Nat) ({ cls := "java/lang/StringUTF16", name := "charAt", desc := "([BI)C" } : Jvm.MethodName)) ∈ lw_all := lw_g (lw_at lw_m6 132 rfl) rfl
theorem q1812 : (Jvm.Cond.castable "java/lang/String" "java/lang/Object") ∈ lw_tbl := lw_at lw_m8 89 rfl
theorem in_J8 : ∀ w ∈ wsJ80, w ∈ lw_all := lw_in wsJ80 [361, 363, 1334, 1336] (by decide +kernel) (by decide +kernel)

/-! java/lang/Math -/
set_option maxRecDepth 100000
def RJ9 : String := "java/lang/Math"
abbrev cJ9_min : ByteArray := prog_29_method_69_code
def yJ9_min : MethodName := ⟨RJ9, "min", "(II)I"⟩
def dkwJ9_min_0 : List UInt8 := [26, 27, 163, 0, 7, 26, 167, 0, 4, 27, 172]
abbrev dktJ9_min_0 : List UInt8 := dkwJ9_min_0 ++ []
theorem dksJ9_min_0 : cJ9_min.data.toList.drop 0 = dktJ9_min_0 := by decide +kernel
theorem dJ9_min_0 : decode cJ9_min 0 = .ok (.iload_n 0, 1) := dk_26 (dk_at dksJ9_min_0 0 rfl rfl)
theorem dJ9_min_1 : decode cJ9_min 1 = .ok (.iload_n 1, 1) := dk_27 (dk_at dksJ9_min_0 1 rfl rfl)
theorem dJ9_min_2 : decode cJ9_min 2 = .ok (.if_icmp .gt 7, 3) := dk_163 0 7 (dk_at dksJ9_min_0 2 rfl rfl)
theorem dJ9_min_5 : decode cJ9_min 5 = .ok (.iload_n 0, 1) := dk_26 (dk_at dksJ9_min_0 5 rfl rfl)
theorem dJ9_min_6 : decode cJ9_min 6 = .ok (.goto 4, 3) := dk_167 0 4 (dk_at dksJ9_min_0 6 rfl rfl)
theorem dJ9_min_9 : decode cJ9_min 9 = .ok (.iload_n 1, 1) := dk_27 (dk_at dksJ9_min_0 9 rfl rfl)
theorem dJ9_min_10 : decode cJ9_min 10 = .ok (.ireturn, 1) := dk_172 (dk_at dksJ9_min_0 10 rfl rfl)
abbrev cJ9_max : ByteArray := prog_29_method_65_code
def yJ9_max : MethodName := ⟨RJ9, "max", "(II)I"⟩
def dkwJ9_max_0 : List UInt8 := [26, 27, 161, 0, 7, 26, 167, 0, 4, 27, 172]
abbrev dktJ9_max_0 : List UInt8 := dkwJ9_max_0 ++ []
theorem dksJ9_max_0 : cJ9_max.data.toList.drop 0 = dktJ9_max_0 := by decide +kernel
theorem dJ9_max_0 : decode cJ9_max 0 = .ok (.iload_n 0, 1) := dk_26 (dk_at dksJ9_max_0 0 rfl rfl)
theorem dJ9_max_1 : decode cJ9_max 1 = .ok (.iload_n 1, 1) := dk_27 (dk_at dksJ9_max_0 1 rfl rfl)
theorem dJ9_max_2 : decode cJ9_max 2 = .ok (.if_icmp .lt 7, 3) := dk_161 0 7 (dk_at dksJ9_max_0 2 rfl rfl)
theorem dJ9_max_5 : decode cJ9_max 5 = .ok (.iload_n 0, 1) := dk_26 (dk_at dksJ9_max_0 5 rfl rfl)
theorem dJ9_max_6 : decode cJ9_max 6 = .ok (.goto 4, 3) := dk_167 0 4 (dk_at dksJ9_max_0 6 rfl rfl)
theorem dJ9_max_9 : decode cJ9_max 9 = .ok (.iload_n 1, 1) := dk_27 (dk_at dksJ9_max_0 9 rfl rfl)
theorem dJ9_max_10 : decode cJ9_max 10 = .ok (.ireturn, 1) := dk_172 (dk_at dksJ9_max_0 10 rfl rfl)
theorem q55 : (Jvm.Cond.initialized "java/lang/Math") ∈ lw_all := lw_g (lw_at lw_m1 12 rfl) rfl
theorem q398 : (Jvm.Cond.static ({ cls := "java/lang/Math", name := "min", desc := "(II)I" } : Jvm.MethodName)) ∈ lw_all := lw_g (lw_at lw_m2 115 rfl) rfl
theorem q399 : (Jvm.Cond.code ({ cls := "java/lang/Math", name := "min", desc := "(II)I" } : Jvm.MethodName) prog_29_method_69_code (2 : Nat) (Option.some Jvm.ClassFile.FieldType.int)) ∈ lw_all := lw_g (lw_at lw_m2 116 rfl) rfl
theorem q401 : (Jvm.Cond.static ({ cls := "java/lang/Math", name := "max", desc := "(II)I" } : Jvm.MethodName)) ∈ lw_all := lw_g (lw_at lw_m2 118 rfl) rfl
theorem q402 : (Jvm.Cond.code ({ cls := "java/lang/Math", name := "max", desc := "(II)I" } : Jvm.MethodName) prog_29_method_65_code (2 : Nat) (Option.some Jvm.ClassFile.FieldType.int)) ∈ lw_all := lw_g (lw_at lw_m2 119 rfl) rfl

/-! java/lang/IllegalArgumentException -/
set_option maxRecDepth 100000
def RJ10 : String := "java/lang/IllegalArgumentException"
def TJ10 : u_T := fun k => match k with
  | 0 => ("java/lang/Throwable", "cause", "Ljava/lang/Throwable;", false)
  | 1 => ("java/lang/Throwable", "stackTrace", "[Ljava/lang/StackTraceElement;", false)
  | 2 => ("java/lang/Throwable", "suppressedExceptions", "Ljava/util/List;", false)
  | 3 => ("java/lang/Throwable", "detailMessage", "Ljava/lang/String;", false)
  | 4 => ("java/lang/Throwable", "backtrace", "Ljava/lang/Object;", false)
  | _ => ("java/lang/Throwable", "depth", "I", false)
def tyJ10 : Nat → FieldType := fun k => match k with
  | 0 => .object "java/lang/Throwable"
  | 1 => .array (.object "java/lang/StackTraceElement")
  | 2 => .object "java/util/List"
  | 3 => .object "java/lang/String"
  | 4 => .object "java/lang/Object"
  | _ => .int
abbrev wsJ100 : List Cond := u_ws RJ10 TJ10 6
theorem nmJ10 : ∀ a, a < 6 → ∀ b, b < 6 → a ≠ b → (TJ10 a).2.1 ≠ (TJ10 b).2.1 := by decide +kernel
theorem tyJ10_ok : ∀ k, k < 6 → parseFieldDescriptor (TJ10 k).2.2.1 = some (tyJ10 k) := by decide +kernel
abbrev cJ10_init : ByteArray := prog_23_method_1_code
def yJ10_init : MethodName := ⟨RJ10, "<init>", "()V"⟩
theorem dJ10_init_0 : decode cJ10_init 0 = .ok (.aload_n 0, 1) := by decide +kernel
theorem dJ10_init_1 : decode cJ10_init 1 = .ok (.invokespecial 1, 3) := by decide +kernel
theorem dJ10_init_4 : decode cJ10_init 4 = .ok (.return_, 1) := by decide +kernel
abbrev cJ10_init_2 : ByteArray := prog_23_method_2_code
def yJ10_init_2 : MethodName := ⟨RJ10, "<init>", "(Ljava/lang/String;)V"⟩
def dkwJ10_init_2_0 : List UInt8 := [42, 43, 183, 0, 7, 177]
abbrev dktJ10_init_2_0 : List UInt8 := dkwJ10_init_2_0 ++ []
theorem dksJ10_init_2_0 : cJ10_init_2.data.toList.drop 0 = dktJ10_init_2_0 := by decide +kernel
theorem dJ10_init_2_0 : decode cJ10_init_2 0 = .ok (.aload_n 0, 1) := dk_42 (dk_at dksJ10_init_2_0 0 rfl rfl)
theorem dJ10_init_2_1 : decode cJ10_init_2 1 = .ok (.aload_n 1, 1) := dk_43 (dk_at dksJ10_init_2_0 1 rfl rfl)
theorem dJ10_init_2_2 : decode cJ10_init_2 2 = .ok (.invokespecial 7, 3) := dk_183 0 7 (dk_at dksJ10_init_2_0 2 rfl rfl)
theorem dJ10_init_2_5 : decode cJ10_init_2 5 = .ok (.return_, 1) := dk_177 (dk_at dksJ10_init_2_0 5 rfl rfl)
theorem q56 : (Jvm.Cond.initialized "java/lang/IllegalArgumentException") ∈ lw_all := lw_g (lw_at lw_m1 13 rfl) rfl
theorem q313 : (Jvm.Cond.selects "java/lang/IllegalArgumentException" ({ cls := "java/lang/Throwable", name := "fillInStackTrace", desc := "()Ljava/lang/Throwable;" } : Jvm.MethodName) ({ cls := "java/lang/Throwable", name := "fillInStackTrace", desc := "()Ljava/lang/Throwable;" } : Jvm.MethodName)) ∈ lw_all := lw_g (lw_at lw_m2 30 rfl) rfl
theorem q407 : (Jvm.Cond.instantiable "java/lang/IllegalArgumentException" (6 : Nat)) ∈ lw_all := lw_g (lw_at lw_m2 124 rfl) rfl
theorem q408 : (Jvm.Cond.castable "java/lang/IllegalArgumentException" "java/lang/IllegalArgumentException") ∈ lw_tbl := lw_at lw_m2 125 rfl
theorem q409 : (Jvm.Cond.selects "java/lang/IllegalArgumentException" ({ cls := "java/lang/Throwable", name := "fillInStackTrace", desc := "(I)Ljava/lang/Throwable;" } : Jvm.MethodName) ({ cls := "java/lang/Throwable", name := "fillInStackTrace", desc := "(I)Ljava/lang/Throwable;" } : Jvm.MethodName)) ∈ lw_all := lw_g (lw_at lw_m2 126 rfl) rfl
theorem q410 : (Jvm.Cond.lays "java/lang/IllegalArgumentException" "java/lang/Throwable" "cause" "Ljava/lang/Throwable;") ∈ lw_all := lw_g (lw_at lw_m2 127 rfl) rfl
theorem q411 : (Jvm.Cond.lays "java/lang/IllegalArgumentException" "java/lang/Throwable" "stackTrace" "[Ljava/lang/StackTraceElement;") ∈ lw_all := lw_g (lw_at lw_m2 128 rfl) rfl
theorem q412 : (Jvm.Cond.lays "java/lang/IllegalArgumentException" "java/lang/Throwable" "suppressedExceptions" "Ljava/util/List;") ∈ lw_all := lw_g (lw_at lw_m2 129 rfl) rfl
theorem q413 : (Jvm.Cond.lays "java/lang/IllegalArgumentException" "java/lang/Throwable" "detailMessage" "Ljava/lang/String;") ∈ lw_all := lw_g (lw_at lw_m2 130 rfl) rfl
theorem q414 : (Jvm.Cond.lays "java/lang/IllegalArgumentException" "java/lang/Throwable" "backtrace" "Ljava/lang/Object;") ∈ lw_all := lw_g (lw_at lw_m2 131 rfl) rfl
theorem q416 : (Jvm.Cond.instanceMethod ({ cls := "java/lang/IllegalArgumentException", name := "<init>", desc := "()V" } : Jvm.MethodName)) ∈ lw_all := lw_g (lw_at lw_m2 133 rfl) rfl
theorem q417 : (Jvm.Cond.code ({ cls := "java/lang/IllegalArgumentException", name := "<init>", desc := "()V" } : Jvm.MethodName) prog_23_method_1_code (1 : Nat) (Option.none : Option Jvm.ClassFile.FieldType)) ∈ lw_all := lw_g (lw_at lw_m2 134 rfl) rfl
theorem q418 : (Jvm.Cond.methodLink "java/lang/IllegalArgumentException" (1 : Nat) ({ cls := "java/lang/RuntimeException", name := "<init>", desc := "()V" } : Jvm.MethodName)) ∈ lw_all := lw_g (lw_at lw_m2 135 rfl) rfl
theorem q419 : (Jvm.Cond.lays "java/lang/IllegalArgumentException" "java/lang/Throwable" "depth" "I") ∈ lw_all := lw_g (lw_at lw_m2 136 rfl) rfl
theorem q420 : (Jvm.Cond.superclass "java/lang/IllegalArgumentException" "java/lang/RuntimeException") ∈ lw_all := lw_g (lw_at lw_m2 137 rfl) rfl
theorem q523 : (Jvm.Cond.selects "java/lang/IllegalArgumentException" ({ cls := "java/lang/Object", name := "getClass", desc := "()Ljava/lang/Class;" } : Jvm.MethodName) ({ cls := "java/lang/Object", name := "getClass", desc := "()Ljava/lang/Class;" } : Jvm.MethodName)) ∈ lw_all := lw_g (lw_at lw_m3 0 rfl) rfl
theorem q949 : (Jvm.Cond.selects "java/lang/IllegalArgumentException" ({ cls := "java/lang/Object", name := "equals", desc := "(Ljava/lang/Object;)Z" } : Jvm.MethodName) ({ cls := "java/lang/Object", name := "equals", desc := "(Ljava/lang/Object;)Z" } : Jvm.MethodName)) ∈ lw_all := lw_g (lw_at lw_m4 186 rfl) rfl
theorem q1316 : (Jvm.Cond.instanceMethod ({ cls := "java/lang/IllegalArgumentException", name := "<init>", desc := "(Ljava/lang/String;)V" } : Jvm.MethodName)) ∈ lw_all := lw_g (lw_at lw_m6 73 rfl) rfl
theorem q1317 : (Jvm.Cond.code ({ cls := "java/lang/IllegalArgumentException", name := "<init>", desc := "(Ljava/lang/String;)V" } : Jvm.MethodName) prog_23_method_2_code (2 : Nat) (Option.none : Option Jvm.ClassFile.FieldType)) ∈ lw_all := lw_g (lw_at lw_m6 74 rfl) rfl
theorem q1318 : (Jvm.Cond.methodLink "java/lang/IllegalArgumentException" (7 : Nat) ({ cls := "java/lang/RuntimeException", name := "<init>", desc := "(Ljava/lang/String;)V" } : Jvm.MethodName)) ∈ lw_all := lw_g (lw_at lw_m6 75 rfl) rfl
theorem q1799 : (Jvm.Cond.castable "java/lang/IllegalArgumentException" "java/lang/Object") ∈ lw_tbl := lw_at lw_m8 76 rfl
theorem in_J10 : ∀ w ∈ wsJ100, w ∈ lw_all := lw_in wsJ100 [410, 411, 412, 413, 414, 419] (by decide +kernel) (by decide +kernel)

/-! java/lang/IllegalStateException -/
set_option maxRecDepth 100000
def RJ11 : String := "java/lang/IllegalStateException"
def TJ11 : u_T := fun k => match k with
  | 0 => ("java/lang/Throwable", "cause", "Ljava/lang/Throwable;", false)
  | 1 => ("java/lang/Throwable", "stackTrace", "[Ljava/lang/StackTraceElement;", false)
  | 2 => ("java/lang/Throwable", "suppressedExceptions", "Ljava/util/List;", false)
  | 3 => ("java/lang/Throwable", "detailMessage", "Ljava/lang/String;", false)
  | 4 => ("java/lang/Throwable", "backtrace", "Ljava/lang/Object;", false)
  | _ => ("java/lang/Throwable", "depth", "I", false)
def tyJ11 : Nat → FieldType := fun k => match k with
  | 0 => .object "java/lang/Throwable"
  | 1 => .array (.object "java/lang/StackTraceElement")
  | 2 => .object "java/util/List"
  | 3 => .object "java/lang/String"
  | 4 => .object "java/lang/Object"
  | _ => .int
abbrev wsJ110 : List Cond := u_ws RJ11 TJ11 6
theorem nmJ11 : ∀ a, a < 6 → ∀ b, b < 6 → a ≠ b → (TJ11 a).2.1 ≠ (TJ11 b).2.1 := by decide +kernel
theorem tyJ11_ok : ∀ k, k < 6 → parseFieldDescriptor (TJ11 k).2.2.1 = some (tyJ11 k) := by decide +kernel
abbrev cJ11_init : ByteArray := prog_24_method_1_code
def yJ11_init : MethodName := ⟨RJ11, "<init>", "()V"⟩
theorem dJ11_init_0 : decode cJ11_init 0 = .ok (.aload_n 0, 1) := by decide +kernel
theorem dJ11_init_1 : decode cJ11_init 1 = .ok (.invokespecial 1, 3) := by decide +kernel
theorem dJ11_init_4 : decode cJ11_init 4 = .ok (.return_, 1) := by decide +kernel
theorem q57 : (Jvm.Cond.initialized "java/lang/IllegalStateException") ∈ lw_all := lw_g (lw_at lw_m1 14 rfl) rfl
theorem q314 : (Jvm.Cond.selects "java/lang/IllegalStateException" ({ cls := "java/lang/Throwable", name := "fillInStackTrace", desc := "()Ljava/lang/Throwable;" } : Jvm.MethodName) ({ cls := "java/lang/Throwable", name := "fillInStackTrace", desc := "()Ljava/lang/Throwable;" } : Jvm.MethodName)) ∈ lw_all := lw_g (lw_at lw_m2 31 rfl) rfl
theorem q447 : (Jvm.Cond.instantiable "java/lang/IllegalStateException" (6 : Nat)) ∈ lw_all := lw_g (lw_at lw_m2 164 rfl) rfl
theorem q448 : (Jvm.Cond.castable "java/lang/IllegalStateException" "java/lang/IllegalStateException") ∈ lw_tbl := lw_at lw_m2 165 rfl
theorem q449 : (Jvm.Cond.selects "java/lang/IllegalStateException" ({ cls := "java/lang/Throwable", name := "fillInStackTrace", desc := "(I)Ljava/lang/Throwable;" } : Jvm.MethodName) ({ cls := "java/lang/Throwable", name := "fillInStackTrace", desc := "(I)Ljava/lang/Throwable;" } : Jvm.MethodName)) ∈ lw_all := lw_g (lw_at lw_m2 166 rfl) rfl
theorem q450 : (Jvm.Cond.lays "java/lang/IllegalStateException" "java/lang/Throwable" "cause" "Ljava/lang/Throwable;") ∈ lw_all := lw_g (lw_at lw_m2 167 rfl) rfl
theorem q451 : (Jvm.Cond.lays "java/lang/IllegalStateException" "java/lang/Throwable" "stackTrace" "[Ljava/lang/StackTraceElement;") ∈ lw_all := lw_g (lw_at lw_m2 168 rfl) rfl
theorem q452 : (Jvm.Cond.lays "java/lang/IllegalStateException" "java/lang/Throwable" "suppressedExceptions" "Ljava/util/List;") ∈ lw_all := lw_g (lw_at lw_m2 169 rfl) rfl
theorem q453 : (Jvm.Cond.lays "java/lang/IllegalStateException" "java/lang/Throwable" "detailMessage" "Ljava/lang/String;") ∈ lw_all := lw_g (lw_at lw_m2 170 rfl) rfl
theorem q454 : (Jvm.Cond.lays "java/lang/IllegalStateException" "java/lang/Throwable" "backtrace" "Ljava/lang/Object;") ∈ lw_all := lw_g (lw_at lw_m2 171 rfl) rfl
theorem q456 : (Jvm.Cond.instanceMethod ({ cls := "java/lang/IllegalStateException", name := "<init>", desc := "()V" } : Jvm.MethodName)) ∈ lw_all := lw_g (lw_at lw_m2 173 rfl) rfl
theorem q457 : (Jvm.Cond.code ({ cls := "java/lang/IllegalStateException", name := "<init>", desc := "()V" } : Jvm.MethodName) prog_24_method_1_code (1 : Nat) (Option.none : Option Jvm.ClassFile.FieldType)) ∈ lw_all := lw_g (lw_at lw_m2 174 rfl) rfl
theorem q458 : (Jvm.Cond.methodLink "java/lang/IllegalStateException" (1 : Nat) ({ cls := "java/lang/RuntimeException", name := "<init>", desc := "()V" } : Jvm.MethodName)) ∈ lw_all := lw_g (lw_at lw_m2 175 rfl) rfl
theorem q459 : (Jvm.Cond.lays "java/lang/IllegalStateException" "java/lang/Throwable" "depth" "I") ∈ lw_all := lw_g (lw_at lw_m2 176 rfl) rfl
theorem q460 : (Jvm.Cond.superclass "java/lang/IllegalStateException" "java/lang/RuntimeException") ∈ lw_all := lw_g (lw_at lw_m2 177 rfl) rfl
theorem q524 : (Jvm.Cond.selects "java/lang/IllegalStateException" ({ cls := "java/lang/Object", name := "getClass", desc := "()Ljava/lang/Class;" } : Jvm.MethodName) ({ cls := "java/lang/Object", name := "getClass", desc := "()Ljava/lang/Class;" } : Jvm.MethodName)) ∈ lw_all := lw_g (lw_at lw_m3 1 rfl) rfl
theorem q950 : (Jvm.Cond.selects "java/lang/IllegalStateException" ({ cls := "java/lang/Object", name := "equals", desc := "(Ljava/lang/Object;)Z" } : Jvm.MethodName) ({ cls := "java/lang/Object", name := "equals", desc := "(Ljava/lang/Object;)Z" } : Jvm.MethodName)) ∈ lw_all := lw_g (lw_at lw_m4 187 rfl) rfl
theorem q1800 : (Jvm.Cond.castable "java/lang/IllegalStateException" "java/lang/Object") ∈ lw_tbl := lw_at lw_m8 77 rfl
theorem in_J11 : ∀ w ∈ wsJ110, w ∈ lw_all := lw_in wsJ110 [450, 451, 452, 453, 454, 459] (by decide +kernel) (by decide +kernel)

/-! jdk/internal/util/ArraysSupport -/
set_option maxRecDepth 100000
def RJ12 : String := "jdk/internal/util/ArraysSupport"
abbrev cJ12_newLength : ByteArray := prog_49_method_27_code
def yJ12_newLength : MethodName := ⟨RJ12, "newLength", "(III)I"⟩
def dkwJ12_newLength_1 : List UInt8 := [184, 0, 201, 172]
abbrev dktJ12_newLength_1 : List UInt8 := dkwJ12_newLength_1 ++ []
def dkwJ12_newLength_0 : List UInt8 := [26, 27, 28, 184, 0, 194, 96, 62, 3, 29, 162, 0, 11, 29, 18, 200, 163, 0, 5, 29, 172, 26, 27]
abbrev dktJ12_newLength_0 : List UInt8 := dkwJ12_newLength_0 ++ dktJ12_newLength_1
theorem dksJ12_newLength_0 : cJ12_newLength.data.toList.drop 0 = dktJ12_newLength_0 := by decide +kernel
theorem dksJ12_newLength_1 : cJ12_newLength.data.toList.drop 23 = dktJ12_newLength_1 := dk_seg dksJ12_newLength_0 23 rfl rfl
theorem dJ12_newLength_0 : decode cJ12_newLength 0 = .ok (.iload_n 0, 1) := dk_26 (dk_at dksJ12_newLength_0 0 rfl rfl)
theorem dJ12_newLength_1 : decode cJ12_newLength 1 = .ok (.iload_n 1, 1) := dk_27 (dk_at dksJ12_newLength_0 1 rfl rfl)
theorem dJ12_newLength_2 : decode cJ12_newLength 2 = .ok (.iload_n 2, 1) := dk_28 (dk_at dksJ12_newLength_0 2 rfl rfl)
theorem dJ12_newLength_3 : decode cJ12_newLength 3 = .ok (.invokestatic 194, 3) := dk_184 0 194 (dk_at dksJ12_newLength_0 3 rfl rfl)
theorem dJ12_newLength_6 : decode cJ12_newLength 6 = .ok (.iadd, 1) := dk_96 (dk_at dksJ12_newLength_0 6 rfl rfl)
theorem dJ12_newLength_7 : decode cJ12_newLength 7 = .ok (.istore_n 3, 1) := dk_62 (dk_at dksJ12_newLength_0 7 rfl rfl)
theorem dJ12_newLength_8 : decode cJ12_newLength 8 = .ok (.iconst 0, 1) := dk_3 (dk_at dksJ12_newLength_0 8 rfl rfl)
theorem dJ12_newLength_9 : decode cJ12_newLength 9 = .ok (.iload_n 3, 1) := dk_29 (dk_at dksJ12_newLength_0 9 rfl rfl)
theorem dJ12_newLength_10 : decode cJ12_newLength 10 = .ok (.if_icmp .ge 11, 3) := dk_162 0 11 (dk_at dksJ12_newLength_0 10 rfl rfl)
theorem dJ12_newLength_13 : decode cJ12_newLength 13 = .ok (.iload_n 3, 1) := dk_29 (dk_at dksJ12_newLength_0 13 rfl rfl)
theorem dJ12_newLength_14 : decode cJ12_newLength 14 = .ok (.ldc 200, 2) := dk_18 200 (dk_at dksJ12_newLength_0 14 rfl rfl)
theorem dJ12_newLength_16 : decode cJ12_newLength 16 = .ok (.if_icmp .gt 5, 3) := dk_163 0 5 (dk_at dksJ12_newLength_0 16 rfl rfl)
theorem dJ12_newLength_19 : decode cJ12_newLength 19 = .ok (.iload_n 3, 1) := dk_29 (dk_at dksJ12_newLength_0 19 rfl rfl)
theorem dJ12_newLength_20 : decode cJ12_newLength 20 = .ok (.ireturn, 1) := dk_172 (dk_at dksJ12_newLength_0 20 rfl rfl)
theorem dJ12_newLength_21 : decode cJ12_newLength 21 = .ok (.iload_n 0, 1) := dk_26 (dk_at dksJ12_newLength_0 21 rfl rfl)
theorem dJ12_newLength_22 : decode cJ12_newLength 22 = .ok (.iload_n 1, 1) := dk_27 (dk_at dksJ12_newLength_0 22 rfl rfl)
theorem dJ12_newLength_23 : decode cJ12_newLength 23 = .ok (.invokestatic 201, 3) := dk_184 0 201 (dk_at dksJ12_newLength_1 0 rfl rfl)
theorem dJ12_newLength_26 : decode cJ12_newLength 26 = .ok (.ireturn, 1) := dk_172 (dk_at dksJ12_newLength_1 3 rfl rfl)
abbrev cJ12_hugeLength : ByteArray := prog_49_method_28_code
def yJ12_hugeLength : MethodName := ⟨RJ12, "hugeLength", "(II)I"⟩
def dkwJ12_hugeLength_2 : List UInt8 := [191, 28, 18, 200, 163, 0, 6, 18, 200, 172, 28, 172]
abbrev dktJ12_hugeLength_2 : List UInt8 := dkwJ12_hugeLength_2 ++ []
def dkwJ12_hugeLength_1 : List UInt8 := [26, 182, 0, 98, 18, 208, 182, 0, 94, 27, 182, 0, 98, 18, 210, 182, 0, 94, 182, 0, 101, 183, 0, 212]
abbrev dktJ12_hugeLength_1 : List UInt8 := dkwJ12_hugeLength_1 ++ dktJ12_hugeLength_2
def dkwJ12_hugeLength_0 : List UInt8 := [26, 27, 96, 61, 28, 156, 0, 44, 187, 0, 204, 89, 187, 0, 89, 89, 183, 0, 91, 18, 206, 182, 0, 94]
abbrev dktJ12_hugeLength_0 : List UInt8 := dkwJ12_hugeLength_0 ++ dktJ12_hugeLength_1
theorem dksJ12_hugeLength_0 : cJ12_hugeLength.data.toList.drop 0 = dktJ12_hugeLength_0 := by decide +kernel
theorem dksJ12_hugeLength_1 : cJ12_hugeLength.data.toList.drop 24 = dktJ12_hugeLength_1 := dk_seg dksJ12_hugeLength_0 24 rfl rfl
theorem dksJ12_hugeLength_2 : cJ12_hugeLength.data.toList.drop 48 = dktJ12_hugeLength_2 := dk_seg dksJ12_hugeLength_1 24 rfl rfl
theorem dJ12_hugeLength_0 : decode cJ12_hugeLength 0 = .ok (.iload_n 0, 1) := dk_26 (dk_at dksJ12_hugeLength_0 0 rfl rfl)
theorem dJ12_hugeLength_1 : decode cJ12_hugeLength 1 = .ok (.iload_n 1, 1) := dk_27 (dk_at dksJ12_hugeLength_0 1 rfl rfl)
theorem dJ12_hugeLength_2 : decode cJ12_hugeLength 2 = .ok (.iadd, 1) := dk_96 (dk_at dksJ12_hugeLength_0 2 rfl rfl)
theorem dJ12_hugeLength_3 : decode cJ12_hugeLength 3 = .ok (.istore_n 2, 1) := dk_61 (dk_at dksJ12_hugeLength_0 3 rfl rfl)
theorem dJ12_hugeLength_4 : decode cJ12_hugeLength 4 = .ok (.iload_n 2, 1) := dk_28 (dk_at dksJ12_hugeLength_0 4 rfl rfl)
theorem dJ12_hugeLength_5 : decode cJ12_hugeLength 5 = .ok (.ifCond .ge 44, 3) := dk_156 0 44 (dk_at dksJ12_hugeLength_0 5 rfl rfl)
theorem dJ12_hugeLength_8 : decode cJ12_hugeLength 8 = .ok (.new 204, 3) := dk_187 0 204 (dk_at dksJ12_hugeLength_0 8 rfl rfl)
theorem dJ12_hugeLength_11 : decode cJ12_hugeLength 11 = .ok (.dup, 1) := dk_89 (dk_at dksJ12_hugeLength_0 11 rfl rfl)
theorem dJ12_hugeLength_12 : decode cJ12_hugeLength 12 = .ok (.new 89, 3) := dk_187 0 89 (dk_at dksJ12_hugeLength_0 12 rfl rfl)
theorem dJ12_hugeLength_15 : decode cJ12_hugeLength 15 = .ok (.dup, 1) := dk_89 (dk_at dksJ12_hugeLength_0 15 rfl rfl)
theorem dJ12_hugeLength_16 : decode cJ12_hugeLength 16 = .ok (.invokespecial 91, 3) := dk_183 0 91 (dk_at dksJ12_hugeLength_0 16 rfl rfl)
theorem dJ12_hugeLength_19 : decode cJ12_hugeLength 19 = .ok (.ldc 206, 2) := dk_18 206 (dk_at dksJ12_hugeLength_0 19 rfl rfl)
theorem dJ12_hugeLength_21 : decode cJ12_hugeLength 21 = .ok (.invokevirtual 94, 3) := dk_182 0 94 (dk_at dksJ12_hugeLength_0 21 rfl rfl)
theorem dJ12_hugeLength_24 : decode cJ12_hugeLength 24 = .ok (.iload_n 0, 1) := dk_26 (dk_at dksJ12_hugeLength_1 0 rfl rfl)
theorem dJ12_hugeLength_25 : decode cJ12_hugeLength 25 = .ok (.invokevirtual 98, 3) := dk_182 0 98 (dk_at dksJ12_hugeLength_1 1 rfl rfl)
theorem dJ12_hugeLength_28 : decode cJ12_hugeLength 28 = .ok (.ldc 208, 2) := dk_18 208 (dk_at dksJ12_hugeLength_1 4 rfl rfl)
theorem dJ12_hugeLength_30 : decode cJ12_hugeLength 30 = .ok (.invokevirtual 94, 3) := dk_182 0 94 (dk_at dksJ12_hugeLength_1 6 rfl rfl)
theorem dJ12_hugeLength_33 : decode cJ12_hugeLength 33 = .ok (.iload_n 1, 1) := dk_27 (dk_at dksJ12_hugeLength_1 9 rfl rfl)
theorem dJ12_hugeLength_34 : decode cJ12_hugeLength 34 = .ok (.invokevirtual 98, 3) := dk_182 0 98 (dk_at dksJ12_hugeLength_1 10 rfl rfl)
theorem dJ12_hugeLength_37 : decode cJ12_hugeLength 37 = .ok (.ldc 210, 2) := dk_18 210 (dk_at dksJ12_hugeLength_1 13 rfl rfl)
theorem dJ12_hugeLength_39 : decode cJ12_hugeLength 39 = .ok (.invokevirtual 94, 3) := dk_182 0 94 (dk_at dksJ12_hugeLength_1 15 rfl rfl)
theorem dJ12_hugeLength_42 : decode cJ12_hugeLength 42 = .ok (.invokevirtual 101, 3) := dk_182 0 101 (dk_at dksJ12_hugeLength_1 18 rfl rfl)
theorem dJ12_hugeLength_45 : decode cJ12_hugeLength 45 = .ok (.invokespecial 212, 3) := dk_183 0 212 (dk_at dksJ12_hugeLength_1 21 rfl rfl)
theorem dJ12_hugeLength_48 : decode cJ12_hugeLength 48 = .ok (.athrow, 1) := dk_191 (dk_at dksJ12_hugeLength_2 0 rfl rfl)
theorem dJ12_hugeLength_49 : decode cJ12_hugeLength 49 = .ok (.iload_n 2, 1) := dk_28 (dk_at dksJ12_hugeLength_2 1 rfl rfl)
theorem dJ12_hugeLength_50 : decode cJ12_hugeLength 50 = .ok (.ldc 200, 2) := dk_18 200 (dk_at dksJ12_hugeLength_2 2 rfl rfl)
theorem dJ12_hugeLength_52 : decode cJ12_hugeLength 52 = .ok (.if_icmp .gt 6, 3) := dk_163 0 6 (dk_at dksJ12_hugeLength_2 4 rfl rfl)
theorem dJ12_hugeLength_55 : decode cJ12_hugeLength 55 = .ok (.ldc 200, 2) := dk_18 200 (dk_at dksJ12_hugeLength_2 7 rfl rfl)
theorem dJ12_hugeLength_57 : decode cJ12_hugeLength 57 = .ok (.ireturn, 1) := dk_172 (dk_at dksJ12_hugeLength_2 9 rfl rfl)
theorem dJ12_hugeLength_58 : decode cJ12_hugeLength 58 = .ok (.iload_n 2, 1) := dk_28 (dk_at dksJ12_hugeLength_2 10 rfl rfl)
theorem dJ12_hugeLength_59 : decode cJ12_hugeLength 59 = .ok (.ireturn, 1) := dk_172 (dk_at dksJ12_hugeLength_2 11 rfl rfl)
theorem q59 : (Jvm.Cond.initialized "jdk/internal/util/ArraysSupport") ∈ lw_all := lw_g (lw_at lw_m1 16 rfl) rfl
theorem q498 : (Jvm.Cond.static ({ cls := "jdk/internal/util/ArraysSupport", name := "newLength", desc := "(III)I" } : Jvm.MethodName)) ∈ lw_all := lw_g (lw_at lw_m2 215 rfl) rfl
theorem q499 : (Jvm.Cond.code ({ cls := "jdk/internal/util/ArraysSupport", name := "newLength", desc := "(III)I" } : Jvm.MethodName) prog_49_method_27_code (4 : Nat) (Option.some Jvm.ClassFile.FieldType.int)) ∈ lw_all := lw_g (lw_at lw_m2 216 rfl) rfl
theorem q500 : (Jvm.Cond.methodLink "jdk/internal/util/ArraysSupport" (194 : Nat) ({ cls := "java/lang/Math", name := "max", desc := "(II)I" } : Jvm.MethodName)) ∈ lw_all := lw_g (lw_at lw_m2 217 rfl) rfl
theorem q501 : (Jvm.Cond.constant "jdk/internal/util/ArraysSupport" (200 : Nat) (2147483639 : Int32)) ∈ lw_all := lw_g (lw_at lw_m2 218 rfl) rfl
theorem q502 : (Jvm.Cond.methodLink "jdk/internal/util/ArraysSupport" (201 : Nat) ({ cls := "jdk/internal/util/ArraysSupport", name := "hugeLength", desc := "(II)I" } : Jvm.MethodName)) ∈ lw_all := lw_g (lw_at lw_m2 219 rfl) rfl
theorem q503 : (Jvm.Cond.static ({ cls := "jdk/internal/util/ArraysSupport", name := "hugeLength", desc := "(II)I" } : Jvm.MethodName)) ∈ lw_all := lw_g (lw_at lw_m2 220 rfl) rfl
theorem q504 : (Jvm.Cond.code ({ cls := "jdk/internal/util/ArraysSupport", name := "hugeLength", desc := "(II)I" } : Jvm.MethodName) prog_49_method_28_code (3 : Nat) (Option.some Jvm.ClassFile.FieldType.int)) ∈ lw_all := lw_g (lw_at lw_m2 221 rfl) rfl

/-! java/util/Arrays -/
set_option maxRecDepth 100000
def RJ13 : String := "java/util/Arrays"
abbrev cJ13_copyOf : ByteArray := prog_43_method_119_code
def yJ13_copyOf : MethodName := ⟨RJ13, "copyOf", "([Ljava/lang/Object;I)[Ljava/lang/Object;"⟩
def dkwJ13_copyOf_0 : List UInt8 := [42, 27, 42, 182, 0, 86, 184, 1, 44, 176]
abbrev dktJ13_copyOf_0 : List UInt8 := dkwJ13_copyOf_0 ++ []
theorem dksJ13_copyOf_0 : cJ13_copyOf.data.toList.drop 0 = dktJ13_copyOf_0 := by decide +kernel
theorem dJ13_copyOf_0 : decode cJ13_copyOf 0 = .ok (.aload_n 0, 1) := dk_42 (dk_at dksJ13_copyOf_0 0 rfl rfl)
theorem dJ13_copyOf_1 : decode cJ13_copyOf 1 = .ok (.iload_n 1, 1) := dk_27 (dk_at dksJ13_copyOf_0 1 rfl rfl)
theorem dJ13_copyOf_2 : decode cJ13_copyOf 2 = .ok (.aload_n 0, 1) := dk_42 (dk_at dksJ13_copyOf_0 2 rfl rfl)
theorem dJ13_copyOf_3 : decode cJ13_copyOf 3 = .ok (.invokevirtual 86, 3) := dk_182 0 86 (dk_at dksJ13_copyOf_0 3 rfl rfl)
theorem dJ13_copyOf_6 : decode cJ13_copyOf 6 = .ok (.invokestatic 300, 3) := dk_184 1 44 (dk_at dksJ13_copyOf_0 6 rfl rfl)
theorem dJ13_copyOf_9 : decode cJ13_copyOf 9 = .ok (.areturn, 1) := dk_176 (dk_at dksJ13_copyOf_0 9 rfl rfl)
abbrev cJ13_copyOf_2 : ByteArray := prog_43_method_120_code
def yJ13_copyOf_2 : MethodName := ⟨RJ13, "copyOf", "([Ljava/lang/Object;ILjava/lang/Class;)[Ljava/lang/Object;"⟩
def dkwJ13_copyOf_2_1 : List UInt8 := [78, 42, 3, 45, 3, 42, 190, 27, 184, 1, 48, 184, 0, 150, 45, 176]
abbrev dktJ13_copyOf_2_1 : List UInt8 := dkwJ13_copyOf_2_1 ++ []
def dkwJ13_copyOf_2_0 : List UInt8 := [44, 18, 110, 166, 0, 10, 27, 189, 0, 2, 167, 0, 14, 44, 182, 0, 90, 27, 184, 0, 95, 192, 0, 110]
abbrev dktJ13_copyOf_2_0 : List UInt8 := dkwJ13_copyOf_2_0 ++ dktJ13_copyOf_2_1
theorem dksJ13_copyOf_2_0 : cJ13_copyOf_2.data.toList.drop 0 = dktJ13_copyOf_2_0 := by decide +kernel
theorem dksJ13_copyOf_2_1 : cJ13_copyOf_2.data.toList.drop 24 = dktJ13_copyOf_2_1 := dk_seg dksJ13_copyOf_2_0 24 rfl rfl
theorem dJ13_copyOf_2_0 : decode cJ13_copyOf_2 0 = .ok (.aload_n 2, 1) := dk_44 (dk_at dksJ13_copyOf_2_0 0 rfl rfl)
theorem dJ13_copyOf_2_1 : decode cJ13_copyOf_2 1 = .ok (.ldc 110, 2) := dk_18 110 (dk_at dksJ13_copyOf_2_0 1 rfl rfl)
theorem dJ13_copyOf_2_3 : decode cJ13_copyOf_2 3 = .ok (.if_acmp .ne 10, 3) := dk_166 0 10 (dk_at dksJ13_copyOf_2_0 3 rfl rfl)
theorem dJ13_copyOf_2_6 : decode cJ13_copyOf_2 6 = .ok (.iload_n 1, 1) := dk_27 (dk_at dksJ13_copyOf_2_0 6 rfl rfl)
theorem dJ13_copyOf_2_7 : decode cJ13_copyOf_2 7 = .ok (.anewarray 2, 3) := dk_189 0 2 (dk_at dksJ13_copyOf_2_0 7 rfl rfl)
theorem dJ13_copyOf_2_10 : decode cJ13_copyOf_2 10 = .ok (.goto 14, 3) := dk_167 0 14 (dk_at dksJ13_copyOf_2_0 10 rfl rfl)
theorem dJ13_copyOf_2_13 : decode cJ13_copyOf_2 13 = .ok (.aload_n 2, 1) := dk_44 (dk_at dksJ13_copyOf_2_0 13 rfl rfl)
theorem dJ13_copyOf_2_14 : decode cJ13_copyOf_2 14 = .ok (.invokevirtual 90, 3) := dk_182 0 90 (dk_at dksJ13_copyOf_2_0 14 rfl rfl)
theorem dJ13_copyOf_2_17 : decode cJ13_copyOf_2 17 = .ok (.iload_n 1, 1) := dk_27 (dk_at dksJ13_copyOf_2_0 17 rfl rfl)
theorem dJ13_copyOf_2_18 : decode cJ13_copyOf_2 18 = .ok (.invokestatic 95, 3) := dk_184 0 95 (dk_at dksJ13_copyOf_2_0 18 rfl rfl)
theorem dJ13_copyOf_2_21 : decode cJ13_copyOf_2 21 = .ok (.checkcast 110, 3) := dk_192 0 110 (dk_at dksJ13_copyOf_2_0 21 rfl rfl)
theorem dJ13_copyOf_2_24 : decode cJ13_copyOf_2 24 = .ok (.astore_n 3, 1) := dk_78 (dk_at dksJ13_copyOf_2_1 0 rfl rfl)
theorem dJ13_copyOf_2_25 : decode cJ13_copyOf_2 25 = .ok (.aload_n 0, 1) := dk_42 (dk_at dksJ13_copyOf_2_1 1 rfl rfl)
theorem dJ13_copyOf_2_26 : decode cJ13_copyOf_2 26 = .ok (.iconst 0, 1) := dk_3 (dk_at dksJ13_copyOf_2_1 2 rfl rfl)
theorem dJ13_copyOf_2_27 : decode cJ13_copyOf_2 27 = .ok (.aload_n 3, 1) := dk_45 (dk_at dksJ13_copyOf_2_1 3 rfl rfl)
theorem dJ13_copyOf_2_28 : decode cJ13_copyOf_2 28 = .ok (.iconst 0, 1) := dk_3 (dk_at dksJ13_copyOf_2_1 4 rfl rfl)
theorem dJ13_copyOf_2_29 : decode cJ13_copyOf_2 29 = .ok (.aload_n 0, 1) := dk_42 (dk_at dksJ13_copyOf_2_1 5 rfl rfl)
theorem dJ13_copyOf_2_30 : decode cJ13_copyOf_2 30 = .ok (.arraylength, 1) := dk_190 (dk_at dksJ13_copyOf_2_1 6 rfl rfl)
theorem dJ13_copyOf_2_31 : decode cJ13_copyOf_2 31 = .ok (.iload_n 1, 1) := dk_27 (dk_at dksJ13_copyOf_2_1 7 rfl rfl)
theorem dJ13_copyOf_2_32 : decode cJ13_copyOf_2 32 = .ok (.invokestatic 304, 3) := dk_184 1 48 (dk_at dksJ13_copyOf_2_1 8 rfl rfl)
theorem dJ13_copyOf_2_35 : decode cJ13_copyOf_2 35 = .ok (.invokestatic 150, 3) := dk_184 0 150 (dk_at dksJ13_copyOf_2_1 11 rfl rfl)
theorem dJ13_copyOf_2_38 : decode cJ13_copyOf_2 38 = .ok (.aload_n 3, 1) := dk_45 (dk_at dksJ13_copyOf_2_1 14 rfl rfl)
theorem dJ13_copyOf_2_39 : decode cJ13_copyOf_2 39 = .ok (.areturn, 1) := dk_176 (dk_at dksJ13_copyOf_2_1 15 rfl rfl)
abbrev cJ13_copyOf_3 : ByteArray := prog_43_method_121_code
def yJ13_copyOf_3 : MethodName := ⟨RJ13, "copyOf", "([BI)[B"⟩
def dkwJ13_copyOf_3_1 : List UInt8 := [27, 184, 1, 48, 184, 0, 150, 44, 176]
abbrev dktJ13_copyOf_3_1 : List UInt8 := dkwJ13_copyOf_3_1 ++ []
def dkwJ13_copyOf_3_0 : List UInt8 := [27, 42, 190, 160, 0, 11, 42, 182, 1, 54, 192, 1, 55, 176, 27, 188, 8, 77, 42, 3, 44, 3, 42, 190]
abbrev dktJ13_copyOf_3_0 : List UInt8 := dkwJ13_copyOf_3_0 ++ dktJ13_copyOf_3_1
theorem dksJ13_copyOf_3_0 : cJ13_copyOf_3.data.toList.drop 0 = dktJ13_copyOf_3_0 := by decide +kernel
theorem dksJ13_copyOf_3_1 : cJ13_copyOf_3.data.toList.drop 24 = dktJ13_copyOf_3_1 := dk_seg dksJ13_copyOf_3_0 24 rfl rfl
theorem dJ13_copyOf_3_0 : decode cJ13_copyOf_3 0 = .ok (.iload_n 1, 1) := dk_27 (dk_at dksJ13_copyOf_3_0 0 rfl rfl)
theorem dJ13_copyOf_3_1 : decode cJ13_copyOf_3 1 = .ok (.aload_n 0, 1) := dk_42 (dk_at dksJ13_copyOf_3_0 1 rfl rfl)
theorem dJ13_copyOf_3_2 : decode cJ13_copyOf_3 2 = .ok (.arraylength, 1) := dk_190 (dk_at dksJ13_copyOf_3_0 2 rfl rfl)
theorem dJ13_copyOf_3_3 : decode cJ13_copyOf_3 3 = .ok (.if_icmp .ne 11, 3) := dk_160 0 11 (dk_at dksJ13_copyOf_3_0 3 rfl rfl)
theorem dJ13_copyOf_3_6 : decode cJ13_copyOf_3 6 = .ok (.aload_n 0, 1) := dk_42 (dk_at dksJ13_copyOf_3_0 6 rfl rfl)
theorem dJ13_copyOf_3_7 : decode cJ13_copyOf_3 7 = .ok (.invokevirtual 310, 3) := dk_182 1 54 (dk_at dksJ13_copyOf_3_0 7 rfl rfl)
theorem dJ13_copyOf_3_10 : decode cJ13_copyOf_3 10 = .ok (.checkcast 311, 3) := dk_192 1 55 (dk_at dksJ13_copyOf_3_0 10 rfl rfl)
theorem dJ13_copyOf_3_13 : decode cJ13_copyOf_3 13 = .ok (.areturn, 1) := dk_176 (dk_at dksJ13_copyOf_3_0 13 rfl rfl)
theorem dJ13_copyOf_3_14 : decode cJ13_copyOf_3 14 = .ok (.iload_n 1, 1) := dk_27 (dk_at dksJ13_copyOf_3_0 14 rfl rfl)
theorem dJ13_copyOf_3_15 : decode cJ13_copyOf_3 15 = .ok (.newarray .byte, 2) := dk_188_8 (dk_at dksJ13_copyOf_3_0 15 rfl rfl)
theorem dJ13_copyOf_3_17 : decode cJ13_copyOf_3 17 = .ok (.astore_n 2, 1) := dk_77 (dk_at dksJ13_copyOf_3_0 17 rfl rfl)
theorem dJ13_copyOf_3_18 : decode cJ13_copyOf_3 18 = .ok (.aload_n 0, 1) := dk_42 (dk_at dksJ13_copyOf_3_0 18 rfl rfl)
theorem dJ13_copyOf_3_19 : decode cJ13_copyOf_3 19 = .ok (.iconst 0, 1) := dk_3 (dk_at dksJ13_copyOf_3_0 19 rfl rfl)
theorem dJ13_copyOf_3_20 : decode cJ13_copyOf_3 20 = .ok (.aload_n 2, 1) := dk_44 (dk_at dksJ13_copyOf_3_0 20 rfl rfl)
theorem dJ13_copyOf_3_21 : decode cJ13_copyOf_3 21 = .ok (.iconst 0, 1) := dk_3 (dk_at dksJ13_copyOf_3_0 21 rfl rfl)
theorem dJ13_copyOf_3_22 : decode cJ13_copyOf_3 22 = .ok (.aload_n 0, 1) := dk_42 (dk_at dksJ13_copyOf_3_0 22 rfl rfl)
theorem dJ13_copyOf_3_23 : decode cJ13_copyOf_3 23 = .ok (.arraylength, 1) := dk_190 (dk_at dksJ13_copyOf_3_0 23 rfl rfl)
theorem dJ13_copyOf_3_24 : decode cJ13_copyOf_3 24 = .ok (.iload_n 1, 1) := dk_27 (dk_at dksJ13_copyOf_3_1 0 rfl rfl)
theorem dJ13_copyOf_3_25 : decode cJ13_copyOf_3 25 = .ok (.invokestatic 304, 3) := dk_184 1 48 (dk_at dksJ13_copyOf_3_1 1 rfl rfl)
theorem dJ13_copyOf_3_28 : decode cJ13_copyOf_3 28 = .ok (.invokestatic 150, 3) := dk_184 0 150 (dk_at dksJ13_copyOf_3_1 4 rfl rfl)
theorem dJ13_copyOf_3_31 : decode cJ13_copyOf_3 31 = .ok (.aload_n 2, 1) := dk_44 (dk_at dksJ13_copyOf_3_1 7 rfl rfl)
theorem dJ13_copyOf_3_32 : decode cJ13_copyOf_3 32 = .ok (.areturn, 1) := dk_176 (dk_at dksJ13_copyOf_3_1 8 rfl rfl)
abbrev cJ13_copyOfRange : ByteArray := prog_43_method_132_code
def yJ13_copyOfRange : MethodName := ⟨RJ13, "copyOfRange", "([BII)[B"⟩
def dkwJ13_copyOfRange_1 : List UInt8 := [176]
abbrev dktJ13_copyOfRange_1 : List UInt8 := dkwJ13_copyOfRange_1 ++ []
def dkwJ13_copyOfRange_0 : List UInt8 := [27, 154, 0, 9, 28, 42, 190, 159, 0, 10, 42, 27, 28, 184, 1, 83, 176, 42, 182, 1, 54, 192, 1, 55]
abbrev dktJ13_copyOfRange_0 : List UInt8 := dkwJ13_copyOfRange_0 ++ dktJ13_copyOfRange_1
theorem dksJ13_copyOfRange_0 : cJ13_copyOfRange.data.toList.drop 0 = dktJ13_copyOfRange_0 := by decide +kernel
theorem dksJ13_copyOfRange_1 : cJ13_copyOfRange.data.toList.drop 24 = dktJ13_copyOfRange_1 := dk_seg dksJ13_copyOfRange_0 24 rfl rfl
theorem dJ13_copyOfRange_0 : decode cJ13_copyOfRange 0 = .ok (.iload_n 1, 1) := dk_27 (dk_at dksJ13_copyOfRange_0 0 rfl rfl)
theorem dJ13_copyOfRange_1 : decode cJ13_copyOfRange 1 = .ok (.ifCond .ne 9, 3) := dk_154 0 9 (dk_at dksJ13_copyOfRange_0 1 rfl rfl)
theorem dJ13_copyOfRange_4 : decode cJ13_copyOfRange 4 = .ok (.iload_n 2, 1) := dk_28 (dk_at dksJ13_copyOfRange_0 4 rfl rfl)
theorem dJ13_copyOfRange_5 : decode cJ13_copyOfRange 5 = .ok (.aload_n 0, 1) := dk_42 (dk_at dksJ13_copyOfRange_0 5 rfl rfl)
theorem dJ13_copyOfRange_6 : decode cJ13_copyOfRange 6 = .ok (.arraylength, 1) := dk_190 (dk_at dksJ13_copyOfRange_0 6 rfl rfl)
theorem dJ13_copyOfRange_7 : decode cJ13_copyOfRange 7 = .ok (.if_icmp .eq 10, 3) := dk_159 0 10 (dk_at dksJ13_copyOfRange_0 7 rfl rfl)
theorem dJ13_copyOfRange_10 : decode cJ13_copyOfRange 10 = .ok (.aload_n 0, 1) := dk_42 (dk_at dksJ13_copyOfRange_0 10 rfl rfl)
theorem dJ13_copyOfRange_11 : decode cJ13_copyOfRange 11 = .ok (.iload_n 1, 1) := dk_27 (dk_at dksJ13_copyOfRange_0 11 rfl rfl)
theorem dJ13_copyOfRange_12 : decode cJ13_copyOfRange 12 = .ok (.iload_n 2, 1) := dk_28 (dk_at dksJ13_copyOfRange_0 12 rfl rfl)
theorem dJ13_copyOfRange_13 : decode cJ13_copyOfRange 13 = .ok (.invokestatic 339, 3) := dk_184 1 83 (dk_at dksJ13_copyOfRange_0 13 rfl rfl)
theorem dJ13_copyOfRange_16 : decode cJ13_copyOfRange 16 = .ok (.areturn, 1) := dk_176 (dk_at dksJ13_copyOfRange_0 16 rfl rfl)
theorem dJ13_copyOfRange_17 : decode cJ13_copyOfRange 17 = .ok (.aload_n 0, 1) := dk_42 (dk_at dksJ13_copyOfRange_0 17 rfl rfl)
theorem dJ13_copyOfRange_18 : decode cJ13_copyOfRange 18 = .ok (.invokevirtual 310, 3) := dk_182 1 54 (dk_at dksJ13_copyOfRange_0 18 rfl rfl)
theorem dJ13_copyOfRange_21 : decode cJ13_copyOfRange 21 = .ok (.checkcast 311, 3) := dk_192 1 55 (dk_at dksJ13_copyOfRange_0 21 rfl rfl)
theorem dJ13_copyOfRange_24 : decode cJ13_copyOfRange 24 = .ok (.areturn, 1) := dk_176 (dk_at dksJ13_copyOfRange_1 0 rfl rfl)
abbrev cJ13_copyOfRangeByte : ByteArray := prog_43_method_133_code
def yJ13_copyOfRangeByte : MethodName := ⟨RJ13, "copyOfRangeByte", "([BII)[B"⟩
def dkwJ13_copyOfRangeByte_1 : List UInt8 := [184, 1, 48, 184, 0, 150, 25, 4, 176]
abbrev dktJ13_copyOfRangeByte_1 : List UInt8 := dkwJ13_copyOfRangeByte_1 ++ []
def dkwJ13_copyOfRangeByte_0 : List UInt8 := [27, 28, 184, 1, 87, 28, 27, 100, 62, 29, 188, 8, 58, 4, 42, 27, 25, 4, 3, 42, 190, 27, 100, 29]
abbrev dktJ13_copyOfRangeByte_0 : List UInt8 := dkwJ13_copyOfRangeByte_0 ++ dktJ13_copyOfRangeByte_1
theorem dksJ13_copyOfRangeByte_0 : cJ13_copyOfRangeByte.data.toList.drop 0 = dktJ13_copyOfRangeByte_0 := by decide +kernel
theorem dksJ13_copyOfRangeByte_1 : cJ13_copyOfRangeByte.data.toList.drop 24 = dktJ13_copyOfRangeByte_1 := dk_seg dksJ13_copyOfRangeByte_0 24 rfl rfl
theorem dJ13_copyOfRangeByte_0 : decode cJ13_copyOfRangeByte 0 = .ok (.iload_n 1, 1) := dk_27 (dk_at dksJ13_copyOfRangeByte_0 0 rfl rfl)
theorem dJ13_copyOfRangeByte_1 : decode cJ13_copyOfRangeByte 1 = .ok (.iload_n 2, 1) := dk_28 (dk_at dksJ13_copyOfRangeByte_0 1 rfl rfl)
theorem dJ13_copyOfRangeByte_2 : decode cJ13_copyOfRangeByte 2 = .ok (.invokestatic 343, 3) := dk_184 1 87 (dk_at dksJ13_copyOfRangeByte_0 2 rfl rfl)
theorem dJ13_copyOfRangeByte_5 : decode cJ13_copyOfRangeByte 5 = .ok (.iload_n 2, 1) := dk_28 (dk_at dksJ13_copyOfRangeByte_0 5 rfl rfl)
theorem dJ13_copyOfRangeByte_6 : decode cJ13_copyOfRangeByte 6 = .ok (.iload_n 1, 1) := dk_27 (dk_at dksJ13_copyOfRangeByte_0 6 rfl rfl)
theorem dJ13_copyOfRangeByte_7 : decode cJ13_copyOfRangeByte 7 = .ok (.isub, 1) := dk_100 (dk_at dksJ13_copyOfRangeByte_0 7 rfl rfl)
theorem dJ13_copyOfRangeByte_8 : decode cJ13_copyOfRangeByte 8 = .ok (.istore_n 3, 1) := dk_62 (dk_at dksJ13_copyOfRangeByte_0 8 rfl rfl)
theorem dJ13_copyOfRangeByte_9 : decode cJ13_copyOfRangeByte 9 = .ok (.iload_n 3, 1) := dk_29 (dk_at dksJ13_copyOfRangeByte_0 9 rfl rfl)
theorem dJ13_copyOfRangeByte_10 : decode cJ13_copyOfRangeByte 10 = .ok (.newarray .byte, 2) := dk_188_8 (dk_at dksJ13_copyOfRangeByte_0 10 rfl rfl)
theorem dJ13_copyOfRangeByte_12 : decode cJ13_copyOfRangeByte 12 = .ok (.astore 4, 2) := dk_58 4 (dk_at dksJ13_copyOfRangeByte_0 12 rfl rfl)
theorem dJ13_copyOfRangeByte_14 : decode cJ13_copyOfRangeByte 14 = .ok (.aload_n 0, 1) := dk_42 (dk_at dksJ13_copyOfRangeByte_0 14 rfl rfl)
theorem dJ13_copyOfRangeByte_15 : decode cJ13_copyOfRangeByte 15 = .ok (.iload_n 1, 1) := dk_27 (dk_at dksJ13_copyOfRangeByte_0 15 rfl rfl)
theorem dJ13_copyOfRangeByte_16 : decode cJ13_copyOfRangeByte 16 = .ok (.aload 4, 2) := dk_25 4 (dk_at dksJ13_copyOfRangeByte_0 16 rfl rfl)
theorem dJ13_copyOfRangeByte_18 : decode cJ13_copyOfRangeByte 18 = .ok (.iconst 0, 1) := dk_3 (dk_at dksJ13_copyOfRangeByte_0 18 rfl rfl)
theorem dJ13_copyOfRangeByte_19 : decode cJ13_copyOfRangeByte 19 = .ok (.aload_n 0, 1) := dk_42 (dk_at dksJ13_copyOfRangeByte_0 19 rfl rfl)
theorem dJ13_copyOfRangeByte_20 : decode cJ13_copyOfRangeByte 20 = .ok (.arraylength, 1) := dk_190 (dk_at dksJ13_copyOfRangeByte_0 20 rfl rfl)
theorem dJ13_copyOfRangeByte_21 : decode cJ13_copyOfRangeByte 21 = .ok (.iload_n 1, 1) := dk_27 (dk_at dksJ13_copyOfRangeByte_0 21 rfl rfl)
theorem dJ13_copyOfRangeByte_22 : decode cJ13_copyOfRangeByte 22 = .ok (.isub, 1) := dk_100 (dk_at dksJ13_copyOfRangeByte_0 22 rfl rfl)
theorem dJ13_copyOfRangeByte_23 : decode cJ13_copyOfRangeByte 23 = .ok (.iload_n 3, 1) := dk_29 (dk_at dksJ13_copyOfRangeByte_0 23 rfl rfl)
theorem dJ13_copyOfRangeByte_24 : decode cJ13_copyOfRangeByte 24 = .ok (.invokestatic 304, 3) := dk_184 1 48 (dk_at dksJ13_copyOfRangeByte_1 0 rfl rfl)
theorem dJ13_copyOfRangeByte_27 : decode cJ13_copyOfRangeByte 27 = .ok (.invokestatic 150, 3) := dk_184 0 150 (dk_at dksJ13_copyOfRangeByte_1 3 rfl rfl)
theorem dJ13_copyOfRangeByte_30 : decode cJ13_copyOfRangeByte 30 = .ok (.aload 4, 2) := dk_25 4 (dk_at dksJ13_copyOfRangeByte_1 6 rfl rfl)
theorem dJ13_copyOfRangeByte_32 : decode cJ13_copyOfRangeByte 32 = .ok (.areturn, 1) := dk_176 (dk_at dksJ13_copyOfRangeByte_1 8 rfl rfl)
abbrev cJ13_checkLength : ByteArray := prog_43_method_131_code
def yJ13_checkLength : MethodName := ⟨RJ13, "checkLength", "(II)V"⟩
def dkwJ13_checkLength_1 : List UInt8 := [182, 0, 50, 27, 182, 0, 54, 182, 0, 61, 183, 0, 65, 191, 177]
abbrev dktJ13_checkLength_1 : List UInt8 := dkwJ13_checkLength_1 ++ []
def dkwJ13_checkLength_0 : List UInt8 := [27, 26, 162, 0, 35, 187, 0, 43, 89, 187, 0, 45, 89, 183, 0, 47, 26, 182, 0, 54, 19, 1, 81]
abbrev dktJ13_checkLength_0 : List UInt8 := dkwJ13_checkLength_0 ++ dktJ13_checkLength_1
theorem dksJ13_checkLength_0 : cJ13_checkLength.data.toList.drop 0 = dktJ13_checkLength_0 := by decide +kernel
theorem dksJ13_checkLength_1 : cJ13_checkLength.data.toList.drop 23 = dktJ13_checkLength_1 := dk_seg dksJ13_checkLength_0 23 rfl rfl
theorem dJ13_checkLength_0 : decode cJ13_checkLength 0 = .ok (.iload_n 1, 1) := dk_27 (dk_at dksJ13_checkLength_0 0 rfl rfl)
theorem dJ13_checkLength_1 : decode cJ13_checkLength 1 = .ok (.iload_n 0, 1) := dk_26 (dk_at dksJ13_checkLength_0 1 rfl rfl)
theorem dJ13_checkLength_2 : decode cJ13_checkLength 2 = .ok (.if_icmp .ge 35, 3) := dk_162 0 35 (dk_at dksJ13_checkLength_0 2 rfl rfl)
theorem dJ13_checkLength_5 : decode cJ13_checkLength 5 = .ok (.new 43, 3) := dk_187 0 43 (dk_at dksJ13_checkLength_0 5 rfl rfl)
theorem dJ13_checkLength_8 : decode cJ13_checkLength 8 = .ok (.dup, 1) := dk_89 (dk_at dksJ13_checkLength_0 8 rfl rfl)
theorem dJ13_checkLength_9 : decode cJ13_checkLength 9 = .ok (.new 45, 3) := dk_187 0 45 (dk_at dksJ13_checkLength_0 9 rfl rfl)
theorem dJ13_checkLength_12 : decode cJ13_checkLength 12 = .ok (.dup, 1) := dk_89 (dk_at dksJ13_checkLength_0 12 rfl rfl)
theorem dJ13_checkLength_13 : decode cJ13_checkLength 13 = .ok (.invokespecial 47, 3) := dk_183 0 47 (dk_at dksJ13_checkLength_0 13 rfl rfl)
theorem dJ13_checkLength_16 : decode cJ13_checkLength 16 = .ok (.iload_n 0, 1) := dk_26 (dk_at dksJ13_checkLength_0 16 rfl rfl)
theorem dJ13_checkLength_17 : decode cJ13_checkLength 17 = .ok (.invokevirtual 54, 3) := dk_182 0 54 (dk_at dksJ13_checkLength_0 17 rfl rfl)
theorem dJ13_checkLength_20 : decode cJ13_checkLength 20 = .ok (.ldc_w 337, 3) := dk_19 1 81 (dk_at dksJ13_checkLength_0 20 rfl rfl)
theorem dJ13_checkLength_23 : decode cJ13_checkLength 23 = .ok (.invokevirtual 50, 3) := dk_182 0 50 (dk_at dksJ13_checkLength_1 0 rfl rfl)
theorem dJ13_checkLength_26 : decode cJ13_checkLength 26 = .ok (.iload_n 1, 1) := dk_27 (dk_at dksJ13_checkLength_1 3 rfl rfl)
theorem dJ13_checkLength_27 : decode cJ13_checkLength 27 = .ok (.invokevirtual 54, 3) := dk_182 0 54 (dk_at dksJ13_checkLength_1 4 rfl rfl)
theorem dJ13_checkLength_30 : decode cJ13_checkLength 30 = .ok (.invokevirtual 61, 3) := dk_182 0 61 (dk_at dksJ13_checkLength_1 7 rfl rfl)
theorem dJ13_checkLength_33 : decode cJ13_checkLength 33 = .ok (.invokespecial 65, 3) := dk_183 0 65 (dk_at dksJ13_checkLength_1 10 rfl rfl)
theorem dJ13_checkLength_36 : decode cJ13_checkLength 36 = .ok (.athrow, 1) := dk_191 (dk_at dksJ13_checkLength_1 13 rfl rfl)
theorem dJ13_checkLength_37 : decode cJ13_checkLength 37 = .ok (.return_, 1) := dk_177 (dk_at dksJ13_checkLength_1 14 rfl rfl)
theorem q60 : (Jvm.Cond.initialized "java/util/Arrays") ∈ lw_all := lw_g (lw_at lw_m1 17 rfl) rfl
theorem q506 : (Jvm.Cond.static ({ cls := "java/util/Arrays", name := "copyOf", desc := "([Ljava/lang/Object;I)[Ljava/lang/Object;" } : Jvm.MethodName)) ∈ lw_all := lw_g (lw_at lw_m2 223 rfl) rfl
theorem q507 : (Jvm.Cond.code ({ cls := "java/util/Arrays", name := "copyOf", desc := "([Ljava/lang/Object;I)[Ljava/lang/Object;" } : Jvm.MethodName) prog_43_method_119_code (2 : Nat) (Option.some (Jvm.ClassFile.FieldType.array (Jvm.ClassFile.FieldType.object "java/lang/Object")))) ∈ lw_all := lw_g (lw_at lw_m2 224 rfl) rfl
theorem q508 : (Jvm.Cond.methodLink "java/util/Arrays" (86 : Nat) ({ cls := "java/lang/Object", name := "getClass", desc := "()Ljava/lang/Class;" } : Jvm.MethodName)) ∈ lw_all := lw_g (lw_at lw_m2 225 rfl) rfl
theorem q531 : (Jvm.Cond.methodLink "java/util/Arrays" (300 : Nat) ({ cls := "java/util/Arrays", name := "copyOf", desc := "([Ljava/lang/Object;ILjava/lang/Class;)[Ljava/lang/Object;" } : Jvm.MethodName)) ∈ lw_all := lw_g (lw_at lw_m3 8 rfl) rfl
theorem q532 : (Jvm.Cond.static ({ cls := "java/util/Arrays", name := "copyOf", desc := "([Ljava/lang/Object;ILjava/lang/Class;)[Ljava/lang/Object;" } : Jvm.MethodName)) ∈ lw_all := lw_g (lw_at lw_m3 9 rfl) rfl
theorem q533 : (Jvm.Cond.code ({ cls := "java/util/Arrays", name := "copyOf", desc := "([Ljava/lang/Object;ILjava/lang/Class;)[Ljava/lang/Object;" } : Jvm.MethodName) prog_43_method_120_code (4 : Nat) (Option.some (Jvm.ClassFile.FieldType.array (Jvm.ClassFile.FieldType.object "java/lang/Object")))) ∈ lw_all := lw_g (lw_at lw_m3 10 rfl) rfl
theorem q534 : (Jvm.Cond.classLink "java/util/Arrays" (110 : Nat) "[Ljava/lang/Object;") ∈ lw_all := lw_g (lw_at lw_m3 11 rfl) rfl
theorem q536 : (Jvm.Cond.classLink "java/util/Arrays" (2 : Nat) "java/lang/Object") ∈ lw_all := lw_g (lw_at lw_m3 13 rfl) rfl
theorem q537 : (Jvm.Cond.methodLink "java/util/Arrays" (304 : Nat) ({ cls := "java/lang/Math", name := "min", desc := "(II)I" } : Jvm.MethodName)) ∈ lw_all := lw_g (lw_at lw_m3 14 rfl) rfl
theorem q538 : (Jvm.Cond.methodLink "java/util/Arrays" (150 : Nat) ({ cls := "java/lang/System", name := "arraycopy", desc := "(Ljava/lang/Object;ILjava/lang/Object;II)V" } : Jvm.MethodName)) ∈ lw_all := lw_g (lw_at lw_m3 15 rfl) rfl
theorem q1166 : (Jvm.Cond.static ({ cls := "java/util/Arrays", name := "copyOf", desc := "([BI)[B" } : Jvm.MethodName)) ∈ lw_all := lw_g (lw_at lw_m5 163 rfl) rfl
theorem q1167 : (Jvm.Cond.code ({ cls := "java/util/Arrays", name := "copyOf", desc := "([BI)[B" } : Jvm.MethodName) prog_43_method_121_code (3 : Nat) (Option.some (Jvm.ClassFile.FieldType.array Jvm.ClassFile.FieldType.byte))) ∈ lw_all := lw_g (lw_at lw_m5 164 rfl) rfl
theorem q1168 : (Jvm.Cond.methodLink "java/util/Arrays" (310 : Nat) ({ cls := "[B", name := "clone", desc := "()Ljava/lang/Object;" } : Jvm.MethodName)) ∈ lw_all := lw_g (lw_at lw_m5 165 rfl) rfl
theorem q1174 : (Jvm.Cond.classLink "java/util/Arrays" (311 : Nat) "[B") ∈ lw_all := lw_g (lw_at lw_m5 171 rfl) rfl
theorem q1300 : (Jvm.Cond.static ({ cls := "java/util/Arrays", name := "copyOfRange", desc := "([BII)[B" } : Jvm.MethodName)) ∈ lw_all := lw_g (lw_at lw_m6 57 rfl) rfl
theorem q1301 : (Jvm.Cond.code ({ cls := "java/util/Arrays", name := "copyOfRange", desc := "([BII)[B" } : Jvm.MethodName) prog_43_method_132_code (3 : Nat) (Option.some (Jvm.ClassFile.FieldType.array Jvm.ClassFile.FieldType.byte))) ∈ lw_all := lw_g (lw_at lw_m6 58 rfl) rfl
theorem q1302 : (Jvm.Cond.methodLink "java/util/Arrays" (339 : Nat) ({ cls := "java/util/Arrays", name := "copyOfRangeByte", desc := "([BII)[B" } : Jvm.MethodName)) ∈ lw_all := lw_g (lw_at lw_m6 59 rfl) rfl
theorem q1303 : (Jvm.Cond.static ({ cls := "java/util/Arrays", name := "copyOfRangeByte", desc := "([BII)[B" } : Jvm.MethodName)) ∈ lw_all := lw_g (lw_at lw_m6 60 rfl) rfl
theorem q1304 : (Jvm.Cond.code ({ cls := "java/util/Arrays", name := "copyOfRangeByte", desc := "([BII)[B" } : Jvm.MethodName) prog_43_method_133_code (5 : Nat) (Option.some (Jvm.ClassFile.FieldType.array Jvm.ClassFile.FieldType.byte))) ∈ lw_all := lw_g (lw_at lw_m6 61 rfl) rfl
theorem q1305 : (Jvm.Cond.methodLink "java/util/Arrays" (343 : Nat) ({ cls := "java/util/Arrays", name := "checkLength", desc := "(II)V" } : Jvm.MethodName)) ∈ lw_all := lw_g (lw_at lw_m6 62 rfl) rfl
theorem q1306 : (Jvm.Cond.static ({ cls := "java/util/Arrays", name := "checkLength", desc := "(II)V" } : Jvm.MethodName)) ∈ lw_all := lw_g (lw_at lw_m6 63 rfl) rfl
theorem q1307 : (Jvm.Cond.code ({ cls := "java/util/Arrays", name := "checkLength", desc := "(II)V" } : Jvm.MethodName) prog_43_method_131_code (2 : Nat) (Option.none : Option Jvm.ClassFile.FieldType)) ∈ lw_all := lw_g (lw_at lw_m6 64 rfl) rfl
theorem q1308 : (Jvm.Cond.classLink "java/util/Arrays" (43 : Nat) "java/lang/IllegalArgumentException") ∈ lw_all := lw_g (lw_at lw_m6 65 rfl) rfl
theorem q1309 : (Jvm.Cond.classLink "java/util/Arrays" (45 : Nat) "java/lang/StringBuilder") ∈ lw_all := lw_g (lw_at lw_m6 66 rfl) rfl
theorem q1310 : (Jvm.Cond.methodLink "java/util/Arrays" (47 : Nat) ({ cls := "java/lang/StringBuilder", name := "<init>", desc := "()V" } : Jvm.MethodName)) ∈ lw_all := lw_g (lw_at lw_m6 67 rfl) rfl
theorem q1311 : (Jvm.Cond.methodLink "java/util/Arrays" (54 : Nat) ({ cls := "java/lang/StringBuilder", name := "append", desc := "(I)Ljava/lang/StringBuilder;" } : Jvm.MethodName)) ∈ lw_all := lw_g (lw_at lw_m6 68 rfl) rfl
theorem q1312 : (Jvm.Cond.stringRef "java/util/Arrays" (337 : Nat) " > ") ∈ lw_tbl := lw_at lw_m6 69 rfl
theorem q1313 : (Jvm.Cond.methodLink "java/util/Arrays" (50 : Nat) ({ cls := "java/lang/StringBuilder", name := "append", desc := "(Ljava/lang/String;)Ljava/lang/StringBuilder;" } : Jvm.MethodName)) ∈ lw_all := lw_g (lw_at lw_m6 70 rfl) rfl
theorem q1314 : (Jvm.Cond.methodLink "java/util/Arrays" (61 : Nat) ({ cls := "java/lang/StringBuilder", name := "toString", desc := "()Ljava/lang/String;" } : Jvm.MethodName)) ∈ lw_all := lw_g (lw_at lw_m6 71 rfl) rfl
theorem q1315 : (Jvm.Cond.methodLink "java/util/Arrays" (65 : Nat) ({ cls := "java/lang/IllegalArgumentException", name := "<init>", desc := "(Ljava/lang/String;)V" } : Jvm.MethodName)) ∈ lw_all := lw_g (lw_at lw_m6 72 rfl) rfl

/-! java/util/Objects -/
set_option maxRecDepth 100000
def RJ14 : String := "java/util/Objects"
abbrev cJ14_checkIndex : ByteArray := prog_46_method_17_code
def yJ14_checkIndex : MethodName := ⟨RJ14, "checkIndex", "(II)I"⟩
def dkwJ14_checkIndex_0 : List UInt8 := [26, 27, 1, 184, 0, 105, 172]
abbrev dktJ14_checkIndex_0 : List UInt8 := dkwJ14_checkIndex_0 ++ []
theorem dksJ14_checkIndex_0 : cJ14_checkIndex.data.toList.drop 0 = dktJ14_checkIndex_0 := by decide +kernel
theorem dJ14_checkIndex_0 : decode cJ14_checkIndex 0 = .ok (.iload_n 0, 1) := dk_26 (dk_at dksJ14_checkIndex_0 0 rfl rfl)
theorem dJ14_checkIndex_1 : decode cJ14_checkIndex 1 = .ok (.iload_n 1, 1) := dk_27 (dk_at dksJ14_checkIndex_0 1 rfl rfl)
theorem dJ14_checkIndex_2 : decode cJ14_checkIndex 2 = .ok (.aconst_null, 1) := dk_1 (dk_at dksJ14_checkIndex_0 2 rfl rfl)
theorem dJ14_checkIndex_3 : decode cJ14_checkIndex 3 = .ok (.invokestatic 105, 3) := dk_184 0 105 (dk_at dksJ14_checkIndex_0 3 rfl rfl)
theorem dJ14_checkIndex_6 : decode cJ14_checkIndex 6 = .ok (.ireturn, 1) := dk_172 (dk_at dksJ14_checkIndex_0 6 rfl rfl)
theorem q62 : (Jvm.Cond.initialized "java/util/Objects") ∈ lw_all := lw_g (lw_at lw_m1 19 rfl) rfl
theorem q191 : (Jvm.Cond.static ({ cls := "java/util/Objects", name := "checkIndex", desc := "(II)I" } : Jvm.MethodName)) ∈ lw_all := lw_g (lw_at lw_m1 148 rfl) rfl
theorem q192 : (Jvm.Cond.code ({ cls := "java/util/Objects", name := "checkIndex", desc := "(II)I" } : Jvm.MethodName) prog_46_method_17_code (2 : Nat) (Option.some Jvm.ClassFile.FieldType.int)) ∈ lw_all := lw_g (lw_at lw_m1 149 rfl) rfl
theorem q193 : (Jvm.Cond.methodLink "java/util/Objects" (105 : Nat) ({ cls := "jdk/internal/util/Preconditions", name := "checkIndex", desc := "(IILjava/util/function/BiFunction;)I" } : Jvm.MethodName)) ∈ lw_all := lw_g (lw_at lw_m1 150 rfl) rfl

/-! jdk/internal/util/Preconditions -/
set_option maxRecDepth 100000
def RJ15 : String := "jdk/internal/util/Preconditions"
abbrev cJ15_checkIndex : ByteArray := prog_50_method_11_code
def yJ15_checkIndex : MethodName := ⟨RJ15, "checkIndex", "(IILjava/util/function/BiFunction;)I"⟩
def dkwJ15_checkIndex_0 : List UInt8 := [26, 155, 0, 8, 26, 27, 161, 0, 10, 44, 26, 27, 184, 0, 95, 191, 26, 172]
abbrev dktJ15_checkIndex_0 : List UInt8 := dkwJ15_checkIndex_0 ++ []
theorem dksJ15_checkIndex_0 : cJ15_checkIndex.data.toList.drop 0 = dktJ15_checkIndex_0 := by decide +kernel
theorem dJ15_checkIndex_0 : decode cJ15_checkIndex 0 = .ok (.iload_n 0, 1) := dk_26 (dk_at dksJ15_checkIndex_0 0 rfl rfl)
theorem dJ15_checkIndex_1 : decode cJ15_checkIndex 1 = .ok (.ifCond .lt 8, 3) := dk_155 0 8 (dk_at dksJ15_checkIndex_0 1 rfl rfl)
theorem dJ15_checkIndex_4 : decode cJ15_checkIndex 4 = .ok (.iload_n 0, 1) := dk_26 (dk_at dksJ15_checkIndex_0 4 rfl rfl)
theorem dJ15_checkIndex_5 : decode cJ15_checkIndex 5 = .ok (.iload_n 1, 1) := dk_27 (dk_at dksJ15_checkIndex_0 5 rfl rfl)
theorem dJ15_checkIndex_6 : decode cJ15_checkIndex 6 = .ok (.if_icmp .lt 10, 3) := dk_161 0 10 (dk_at dksJ15_checkIndex_0 6 rfl rfl)
theorem dJ15_checkIndex_9 : decode cJ15_checkIndex 9 = .ok (.aload_n 2, 1) := dk_44 (dk_at dksJ15_checkIndex_0 9 rfl rfl)
theorem dJ15_checkIndex_10 : decode cJ15_checkIndex 10 = .ok (.iload_n 0, 1) := dk_26 (dk_at dksJ15_checkIndex_0 10 rfl rfl)
theorem dJ15_checkIndex_11 : decode cJ15_checkIndex 11 = .ok (.iload_n 1, 1) := dk_27 (dk_at dksJ15_checkIndex_0 11 rfl rfl)
theorem dJ15_checkIndex_12 : decode cJ15_checkIndex 12 = .ok (.invokestatic 95, 3) := dk_184 0 95 (dk_at dksJ15_checkIndex_0 12 rfl rfl)
theorem dJ15_checkIndex_15 : decode cJ15_checkIndex 15 = .ok (.athrow, 1) := dk_191 (dk_at dksJ15_checkIndex_0 15 rfl rfl)
theorem dJ15_checkIndex_16 : decode cJ15_checkIndex 16 = .ok (.iload_n 0, 1) := dk_26 (dk_at dksJ15_checkIndex_0 16 rfl rfl)
theorem dJ15_checkIndex_17 : decode cJ15_checkIndex 17 = .ok (.ireturn, 1) := dk_172 (dk_at dksJ15_checkIndex_0 17 rfl rfl)
abbrev cJ15_checkFromToIndex : ByteArray := prog_50_method_12_code
def yJ15_checkFromToIndex : MethodName := ⟨RJ15, "checkFromToIndex", "(IIILjava/util/function/BiFunction;)I"⟩
def dkwJ15_checkFromToIndex_0 : List UInt8 := [26, 155, 0, 13, 26, 27, 163, 0, 8, 27, 28, 164, 0, 11, 45, 26, 27, 28, 184, 0, 99, 191, 26, 172]
abbrev dktJ15_checkFromToIndex_0 : List UInt8 := dkwJ15_checkFromToIndex_0 ++ []
theorem dksJ15_checkFromToIndex_0 : cJ15_checkFromToIndex.data.toList.drop 0 = dktJ15_checkFromToIndex_0 := by decide +kernel
theorem dJ15_checkFromToIndex_0 : decode cJ15_checkFromToIndex 0 = .ok (.iload_n 0, 1) := dk_26 (dk_at dksJ15_checkFromToIndex_0 0 rfl rfl)
theorem dJ15_checkFromToIndex_1 : decode cJ15_checkFromToIndex 1 = .ok (.ifCond .lt 13, 3) := dk_155 0 13 (dk_at dksJ15_checkFromToIndex_0 1 rfl rfl)
theorem dJ15_checkFromToIndex_4 : decode cJ15_checkFromToIndex 4 = .ok (.iload_n 0, 1) := dk_26 (dk_at dksJ15_checkFromToIndex_0 4 rfl rfl)
theorem dJ15_checkFromToIndex_5 : decode cJ15_checkFromToIndex 5 = .ok (.iload_n 1, 1) := dk_27 (dk_at dksJ15_checkFromToIndex_0 5 rfl rfl)
theorem dJ15_checkFromToIndex_6 : decode cJ15_checkFromToIndex 6 = .ok (.if_icmp .gt 8, 3) := dk_163 0 8 (dk_at dksJ15_checkFromToIndex_0 6 rfl rfl)
theorem dJ15_checkFromToIndex_9 : decode cJ15_checkFromToIndex 9 = .ok (.iload_n 1, 1) := dk_27 (dk_at dksJ15_checkFromToIndex_0 9 rfl rfl)
theorem dJ15_checkFromToIndex_10 : decode cJ15_checkFromToIndex 10 = .ok (.iload_n 2, 1) := dk_28 (dk_at dksJ15_checkFromToIndex_0 10 rfl rfl)
theorem dJ15_checkFromToIndex_11 : decode cJ15_checkFromToIndex 11 = .ok (.if_icmp .le 11, 3) := dk_164 0 11 (dk_at dksJ15_checkFromToIndex_0 11 rfl rfl)
theorem dJ15_checkFromToIndex_14 : decode cJ15_checkFromToIndex 14 = .ok (.aload_n 3, 1) := dk_45 (dk_at dksJ15_checkFromToIndex_0 14 rfl rfl)
theorem dJ15_checkFromToIndex_15 : decode cJ15_checkFromToIndex 15 = .ok (.iload_n 0, 1) := dk_26 (dk_at dksJ15_checkFromToIndex_0 15 rfl rfl)
theorem dJ15_checkFromToIndex_16 : decode cJ15_checkFromToIndex 16 = .ok (.iload_n 1, 1) := dk_27 (dk_at dksJ15_checkFromToIndex_0 16 rfl rfl)
theorem dJ15_checkFromToIndex_17 : decode cJ15_checkFromToIndex 17 = .ok (.iload_n 2, 1) := dk_28 (dk_at dksJ15_checkFromToIndex_0 17 rfl rfl)
theorem dJ15_checkFromToIndex_18 : decode cJ15_checkFromToIndex 18 = .ok (.invokestatic 99, 3) := dk_184 0 99 (dk_at dksJ15_checkFromToIndex_0 18 rfl rfl)
theorem dJ15_checkFromToIndex_21 : decode cJ15_checkFromToIndex 21 = .ok (.athrow, 1) := dk_191 (dk_at dksJ15_checkFromToIndex_0 21 rfl rfl)
theorem dJ15_checkFromToIndex_22 : decode cJ15_checkFromToIndex 22 = .ok (.iload_n 0, 1) := dk_26 (dk_at dksJ15_checkFromToIndex_0 22 rfl rfl)
theorem dJ15_checkFromToIndex_23 : decode cJ15_checkFromToIndex 23 = .ok (.ireturn, 1) := dk_172 (dk_at dksJ15_checkFromToIndex_0 23 rfl rfl)
abbrev cJ15_checkFromIndexSize : ByteArray := prog_50_method_13_code
def yJ15_checkFromIndexSize : MethodName := ⟨RJ15, "checkFromIndexSize", "(IIILjava/util/function/BiFunction;)I"⟩
def dkwJ15_checkFromIndexSize_1 : List UInt8 := [172]
abbrev dktJ15_checkFromIndexSize_1 : List UInt8 := dkwJ15_checkFromIndexSize_1 ++ []
def dkwJ15_checkFromIndexSize_0 : List UInt8 := [28, 26, 128, 27, 128, 155, 0, 10, 27, 28, 26, 100, 164, 0, 11, 45, 26, 27, 28, 184, 0, 103, 191, 26]
abbrev dktJ15_checkFromIndexSize_0 : List UInt8 := dkwJ15_checkFromIndexSize_0 ++ dktJ15_checkFromIndexSize_1
theorem dksJ15_checkFromIndexSize_0 : cJ15_checkFromIndexSize.data.toList.drop 0 = dktJ15_checkFromIndexSize_0 := by decide +kernel
theorem dksJ15_checkFromIndexSize_1 : cJ15_checkFromIndexSize.data.toList.drop 24 = dktJ15_checkFromIndexSize_1 := dk_seg dksJ15_checkFromIndexSize_0 24 rfl rfl
theorem dJ15_checkFromIndexSize_0 : decode cJ15_checkFromIndexSize 0 = .ok (.iload_n 2, 1) := dk_28 (dk_at dksJ15_checkFromIndexSize_0 0 rfl rfl)
theorem dJ15_checkFromIndexSize_1 : decode cJ15_checkFromIndexSize 1 = .ok (.iload_n 0, 1) := dk_26 (dk_at dksJ15_checkFromIndexSize_0 1 rfl rfl)
theorem dJ15_checkFromIndexSize_2 : decode cJ15_checkFromIndexSize 2 = .ok (.ior, 1) := dk_128 (dk_at dksJ15_checkFromIndexSize_0 2 rfl rfl)
theorem dJ15_checkFromIndexSize_3 : decode cJ15_checkFromIndexSize 3 = .ok (.iload_n 1, 1) := dk_27 (dk_at dksJ15_checkFromIndexSize_0 3 rfl rfl)
theorem dJ15_checkFromIndexSize_4 : decode cJ15_checkFromIndexSize 4 = .ok (.ior, 1) := dk_128 (dk_at dksJ15_checkFromIndexSize_0 4 rfl rfl)
theorem dJ15_checkFromIndexSize_5 : decode cJ15_checkFromIndexSize 5 = .ok (.ifCond .lt 10, 3) := dk_155 0 10 (dk_at dksJ15_checkFromIndexSize_0 5 rfl rfl)
theorem dJ15_checkFromIndexSize_8 : decode cJ15_checkFromIndexSize 8 = .ok (.iload_n 1, 1) := dk_27 (dk_at dksJ15_checkFromIndexSize_0 8 rfl rfl)
theorem dJ15_checkFromIndexSize_9 : decode cJ15_checkFromIndexSize 9 = .ok (.iload_n 2, 1) := dk_28 (dk_at dksJ15_checkFromIndexSize_0 9 rfl rfl)
theorem dJ15_checkFromIndexSize_10 : decode cJ15_checkFromIndexSize 10 = .ok (.iload_n 0, 1) := dk_26 (dk_at dksJ15_checkFromIndexSize_0 10 rfl rfl)
theorem dJ15_checkFromIndexSize_11 : decode cJ15_checkFromIndexSize 11 = .ok (.isub, 1) := dk_100 (dk_at dksJ15_checkFromIndexSize_0 11 rfl rfl)
theorem dJ15_checkFromIndexSize_12 : decode cJ15_checkFromIndexSize 12 = .ok (.if_icmp .le 11, 3) := dk_164 0 11 (dk_at dksJ15_checkFromIndexSize_0 12 rfl rfl)
theorem dJ15_checkFromIndexSize_15 : decode cJ15_checkFromIndexSize 15 = .ok (.aload_n 3, 1) := dk_45 (dk_at dksJ15_checkFromIndexSize_0 15 rfl rfl)
theorem dJ15_checkFromIndexSize_16 : decode cJ15_checkFromIndexSize 16 = .ok (.iload_n 0, 1) := dk_26 (dk_at dksJ15_checkFromIndexSize_0 16 rfl rfl)
theorem dJ15_checkFromIndexSize_17 : decode cJ15_checkFromIndexSize 17 = .ok (.iload_n 1, 1) := dk_27 (dk_at dksJ15_checkFromIndexSize_0 17 rfl rfl)
theorem dJ15_checkFromIndexSize_18 : decode cJ15_checkFromIndexSize 18 = .ok (.iload_n 2, 1) := dk_28 (dk_at dksJ15_checkFromIndexSize_0 18 rfl rfl)
theorem dJ15_checkFromIndexSize_19 : decode cJ15_checkFromIndexSize 19 = .ok (.invokestatic 103, 3) := dk_184 0 103 (dk_at dksJ15_checkFromIndexSize_0 19 rfl rfl)
theorem dJ15_checkFromIndexSize_22 : decode cJ15_checkFromIndexSize 22 = .ok (.athrow, 1) := dk_191 (dk_at dksJ15_checkFromIndexSize_0 22 rfl rfl)
theorem dJ15_checkFromIndexSize_23 : decode cJ15_checkFromIndexSize 23 = .ok (.iload_n 0, 1) := dk_26 (dk_at dksJ15_checkFromIndexSize_0 23 rfl rfl)
theorem dJ15_checkFromIndexSize_24 : decode cJ15_checkFromIndexSize 24 = .ok (.ireturn, 1) := dk_172 (dk_at dksJ15_checkFromIndexSize_1 0 rfl rfl)
theorem q63 : (Jvm.Cond.initialized "jdk/internal/util/Preconditions") ∈ lw_all := lw_g (lw_at lw_m1 20 rfl) rfl
theorem q194 : (Jvm.Cond.static ({ cls := "jdk/internal/util/Preconditions", name := "checkIndex", desc := "(IILjava/util/function/BiFunction;)I" } : Jvm.MethodName)) ∈ lw_all := lw_g (lw_at lw_m1 151 rfl) rfl
theorem q195 : (Jvm.Cond.code ({ cls := "jdk/internal/util/Preconditions", name := "checkIndex", desc := "(IILjava/util/function/BiFunction;)I" } : Jvm.MethodName) prog_50_method_11_code (3 : Nat) (Option.some Jvm.ClassFile.FieldType.int)) ∈ lw_all := lw_g (lw_at lw_m1 152 rfl) rfl
theorem q1193 : (Jvm.Cond.laysStatic "jdk/internal/util/Preconditions" "SIOOBE_FORMATTER" "Ljava/util/function/BiFunction;") ∈ lw_tbl := lw_at lw_m5 190 rfl
theorem q1195 : (Jvm.Cond.static ({ cls := "jdk/internal/util/Preconditions", name := "checkFromToIndex", desc := "(IIILjava/util/function/BiFunction;)I" } : Jvm.MethodName)) ∈ lw_all := lw_g (lw_at lw_m5 192 rfl) rfl
theorem q1196 : (Jvm.Cond.code ({ cls := "jdk/internal/util/Preconditions", name := "checkFromToIndex", desc := "(IIILjava/util/function/BiFunction;)I" } : Jvm.MethodName) prog_50_method_12_code (4 : Nat) (Option.some Jvm.ClassFile.FieldType.int)) ∈ lw_all := lw_g (lw_at lw_m5 193 rfl) rfl
theorem q1240 : (Jvm.Cond.static ({ cls := "jdk/internal/util/Preconditions", name := "checkFromIndexSize", desc := "(IIILjava/util/function/BiFunction;)I" } : Jvm.MethodName)) ∈ lw_all := lw_g (lw_at lw_m5 237 rfl) rfl
theorem q1241 : (Jvm.Cond.code ({ cls := "jdk/internal/util/Preconditions", name := "checkFromIndexSize", desc := "(IIILjava/util/function/BiFunction;)I" } : Jvm.MethodName) prog_50_method_13_code (4 : Nat) (Option.some Jvm.ClassFile.FieldType.int)) ∈ lw_all := lw_g (lw_at lw_m5 238 rfl) rfl

/-! java/lang/Number -/
set_option maxRecDepth 100000
def RJ16 : String := "java/lang/Number"
abbrev cJ16_init : ByteArray := prog_30_method_1_code
def yJ16_init : MethodName := ⟨RJ16, "<init>", "()V"⟩
theorem dJ16_init_0 : decode cJ16_init 0 = .ok (.aload_n 0, 1) := by decide +kernel
theorem dJ16_init_1 : decode cJ16_init 1 = .ok (.invokespecial 1, 3) := by decide +kernel
theorem dJ16_init_4 : decode cJ16_init 4 = .ok (.return_, 1) := by decide +kernel
theorem q71 : (Jvm.Cond.initialized "java/lang/Number") ∈ lw_all := lw_g (lw_at lw_m1 28 rfl) rfl
theorem q834 : (Jvm.Cond.instanceMethod ({ cls := "java/lang/Number", name := "<init>", desc := "()V" } : Jvm.MethodName)) ∈ lw_all := lw_g (lw_at lw_m4 71 rfl) rfl
theorem q835 : (Jvm.Cond.code ({ cls := "java/lang/Number", name := "<init>", desc := "()V" } : Jvm.MethodName) prog_30_method_1_code (1 : Nat) (Option.none : Option Jvm.ClassFile.FieldType)) ∈ lw_all := lw_g (lw_at lw_m4 72 rfl) rfl
theorem q836 : (Jvm.Cond.methodLink "java/lang/Number" (1 : Nat) ({ cls := "java/lang/Object", name := "<init>", desc := "()V" } : Jvm.MethodName)) ∈ lw_all := lw_g (lw_at lw_m4 73 rfl) rfl

/-! java/lang/Integer -/
set_option maxRecDepth 100000
def RJ17 : String := "java/lang/Integer"
def TJ17 : u_T := fun k => match k with
  | _ => ("java/lang/Integer", "value", "I", true)
def tyJ17 : Nat → FieldType := fun k => match k with
  | _ => .int
abbrev wsJ170 : List Cond := u_ws RJ17 TJ17 1
theorem nmJ17 : ∀ a, a < 1 → ∀ b, b < 1 → a ≠ b → (TJ17 a).2.1 ≠ (TJ17 b).2.1 := by decide +kernel
theorem tyJ17_ok : ∀ k, k < 1 → parseFieldDescriptor (TJ17 k).2.2.1 = some (tyJ17 k) := by decide +kernel
abbrev cJ17_intValue : ByteArray := prog_26_method_27_code
def yJ17_intValue : MethodName := ⟨RJ17, "intValue", "()I"⟩
theorem dJ17_intValue_0 : decode cJ17_intValue 0 = .ok (.aload_n 0, 1) := by decide +kernel
theorem dJ17_intValue_1 : decode cJ17_intValue 1 = .ok (.getfield 205, 3) := by decide +kernel
theorem dJ17_intValue_4 : decode cJ17_intValue 4 = .ok (.ireturn, 1) := by decide +kernel
abbrev cJ17_valueOf : ByteArray := prog_26_method_22_code
def yJ17_valueOf : MethodName := ⟨RJ17, "valueOf", "(I)Ljava/lang/Integer;"⟩
def dkwJ17_valueOf_1 : List UInt8 := [187, 0, 1, 89, 26, 183, 0, 199, 176]
abbrev dktJ17_valueOf_1 : List UInt8 := dkwJ17_valueOf_1 ++ []
def dkwJ17_valueOf_0 : List UInt8 := [26, 16, 128, 161, 0, 20, 26, 178, 0, 191, 163, 0, 13, 178, 0, 195, 26, 17, 0, 128, 96, 50, 176]
abbrev dktJ17_valueOf_0 : List UInt8 := dkwJ17_valueOf_0 ++ dktJ17_valueOf_1
theorem dksJ17_valueOf_0 : cJ17_valueOf.data.toList.drop 0 = dktJ17_valueOf_0 := by decide +kernel
theorem dksJ17_valueOf_1 : cJ17_valueOf.data.toList.drop 23 = dktJ17_valueOf_1 := dk_seg dksJ17_valueOf_0 23 rfl rfl
theorem dJ17_valueOf_0 : decode cJ17_valueOf 0 = .ok (.iload_n 0, 1) := dk_26 (dk_at dksJ17_valueOf_0 0 rfl rfl)
theorem dJ17_valueOf_1 : decode cJ17_valueOf 1 = .ok (.bipush (-128), 2) := dk_16 128 (dk_at dksJ17_valueOf_0 1 rfl rfl)
theorem dJ17_valueOf_3 : decode cJ17_valueOf 3 = .ok (.if_icmp .lt 20, 3) := dk_161 0 20 (dk_at dksJ17_valueOf_0 3 rfl rfl)
theorem dJ17_valueOf_6 : decode cJ17_valueOf 6 = .ok (.iload_n 0, 1) := dk_26 (dk_at dksJ17_valueOf_0 6 rfl rfl)
theorem dJ17_valueOf_7 : decode cJ17_valueOf 7 = .ok (.getstatic 191, 3) := dk_178 0 191 (dk_at dksJ17_valueOf_0 7 rfl rfl)
theorem dJ17_valueOf_10 : decode cJ17_valueOf 10 = .ok (.if_icmp .gt 13, 3) := dk_163 0 13 (dk_at dksJ17_valueOf_0 10 rfl rfl)
theorem dJ17_valueOf_13 : decode cJ17_valueOf 13 = .ok (.getstatic 195, 3) := dk_178 0 195 (dk_at dksJ17_valueOf_0 13 rfl rfl)
theorem dJ17_valueOf_16 : decode cJ17_valueOf 16 = .ok (.iload_n 0, 1) := dk_26 (dk_at dksJ17_valueOf_0 16 rfl rfl)
theorem dJ17_valueOf_17 : decode cJ17_valueOf 17 = .ok (.sipush 128, 3) := dk_17 0 128 (dk_at dksJ17_valueOf_0 17 rfl rfl)
theorem dJ17_valueOf_20 : decode cJ17_valueOf 20 = .ok (.iadd, 1) := dk_96 (dk_at dksJ17_valueOf_0 20 rfl rfl)
theorem dJ17_valueOf_21 : decode cJ17_valueOf 21 = .ok (.aaload, 1) := dk_50 (dk_at dksJ17_valueOf_0 21 rfl rfl)
theorem dJ17_valueOf_22 : decode cJ17_valueOf 22 = .ok (.areturn, 1) := dk_176 (dk_at dksJ17_valueOf_0 22 rfl rfl)
theorem dJ17_valueOf_23 : decode cJ17_valueOf 23 = .ok (.new 1, 3) := dk_187 0 1 (dk_at dksJ17_valueOf_1 0 rfl rfl)
theorem dJ17_valueOf_26 : decode cJ17_valueOf 26 = .ok (.dup, 1) := dk_89 (dk_at dksJ17_valueOf_1 3 rfl rfl)
theorem dJ17_valueOf_27 : decode cJ17_valueOf 27 = .ok (.iload_n 0, 1) := dk_26 (dk_at dksJ17_valueOf_1 4 rfl rfl)
theorem dJ17_valueOf_28 : decode cJ17_valueOf 28 = .ok (.invokespecial 199, 3) := dk_183 0 199 (dk_at dksJ17_valueOf_1 5 rfl rfl)
theorem dJ17_valueOf_31 : decode cJ17_valueOf 31 = .ok (.areturn, 1) := dk_176 (dk_at dksJ17_valueOf_1 8 rfl rfl)
abbrev cJ17_init : ByteArray := prog_26_method_23_code
def yJ17_init : MethodName := ⟨RJ17, "<init>", "(I)V"⟩
def dkwJ17_init_0 : List UInt8 := [42, 183, 0, 202, 42, 27, 181, 0, 205, 177]
abbrev dktJ17_init_0 : List UInt8 := dkwJ17_init_0 ++ []
theorem dksJ17_init_0 : cJ17_init.data.toList.drop 0 = dktJ17_init_0 := by decide +kernel
theorem dJ17_init_0 : decode cJ17_init 0 = .ok (.aload_n 0, 1) := dk_42 (dk_at dksJ17_init_0 0 rfl rfl)
theorem dJ17_init_1 : decode cJ17_init 1 = .ok (.invokespecial 202, 3) := dk_183 0 202 (dk_at dksJ17_init_0 1 rfl rfl)
theorem dJ17_init_4 : decode cJ17_init 4 = .ok (.aload_n 0, 1) := dk_42 (dk_at dksJ17_init_0 4 rfl rfl)
theorem dJ17_init_5 : decode cJ17_init 5 = .ok (.iload_n 1, 1) := dk_27 (dk_at dksJ17_init_0 5 rfl rfl)
theorem dJ17_init_6 : decode cJ17_init 6 = .ok (.putfield 205, 3) := dk_181 0 205 (dk_at dksJ17_init_0 6 rfl rfl)
theorem dJ17_init_9 : decode cJ17_init 9 = .ok (.return_, 1) := dk_177 (dk_at dksJ17_init_0 9 rfl rfl)
abbrev cJ17_equals : ByteArray := prog_26_method_34_code
def yJ17_equals : MethodName := ⟨RJ17, "equals", "(Ljava/lang/Object;)Z"⟩
def dkwJ17_equals_1 : List UInt8 := [167, 0, 4, 3, 172, 3, 172]
abbrev dktJ17_equals_1 : List UInt8 := dkwJ17_equals_1 ++ []
def dkwJ17_equals_0 : List UInt8 := [43, 193, 0, 1, 153, 0, 23, 42, 180, 0, 205, 43, 192, 0, 1, 182, 0, 211, 160, 0, 7, 4]
abbrev dktJ17_equals_0 : List UInt8 := dkwJ17_equals_0 ++ dktJ17_equals_1
theorem dksJ17_equals_0 : cJ17_equals.data.toList.drop 0 = dktJ17_equals_0 := by decide +kernel
theorem dksJ17_equals_1 : cJ17_equals.data.toList.drop 22 = dktJ17_equals_1 := dk_seg dksJ17_equals_0 22 rfl rfl
theorem dJ17_equals_0 : decode cJ17_equals 0 = .ok (.aload_n 1, 1) := dk_43 (dk_at dksJ17_equals_0 0 rfl rfl)
theorem dJ17_equals_1 : decode cJ17_equals 1 = .ok (.instanceof 1, 3) := dk_193 0 1 (dk_at dksJ17_equals_0 1 rfl rfl)
theorem dJ17_equals_4 : decode cJ17_equals 4 = .ok (.ifCond .eq 23, 3) := dk_153 0 23 (dk_at dksJ17_equals_0 4 rfl rfl)
theorem dJ17_equals_7 : decode cJ17_equals 7 = .ok (.aload_n 0, 1) := dk_42 (dk_at dksJ17_equals_0 7 rfl rfl)
theorem dJ17_equals_8 : decode cJ17_equals 8 = .ok (.getfield 205, 3) := dk_180 0 205 (dk_at dksJ17_equals_0 8 rfl rfl)
theorem dJ17_equals_11 : decode cJ17_equals 11 = .ok (.aload_n 1, 1) := dk_43 (dk_at dksJ17_equals_0 11 rfl rfl)
theorem dJ17_equals_12 : decode cJ17_equals 12 = .ok (.checkcast 1, 3) := dk_192 0 1 (dk_at dksJ17_equals_0 12 rfl rfl)
theorem dJ17_equals_15 : decode cJ17_equals 15 = .ok (.invokevirtual 211, 3) := dk_182 0 211 (dk_at dksJ17_equals_0 15 rfl rfl)
theorem dJ17_equals_18 : decode cJ17_equals 18 = .ok (.if_icmp .ne 7, 3) := dk_160 0 7 (dk_at dksJ17_equals_0 18 rfl rfl)
theorem dJ17_equals_21 : decode cJ17_equals 21 = .ok (.iconst 1, 1) := dk_4 (dk_at dksJ17_equals_0 21 rfl rfl)
theorem dJ17_equals_22 : decode cJ17_equals 22 = .ok (.goto 4, 3) := dk_167 0 4 (dk_at dksJ17_equals_1 0 rfl rfl)
theorem dJ17_equals_25 : decode cJ17_equals 25 = .ok (.iconst 0, 1) := dk_3 (dk_at dksJ17_equals_1 3 rfl rfl)
theorem dJ17_equals_26 : decode cJ17_equals 26 = .ok (.ireturn, 1) := dk_172 (dk_at dksJ17_equals_1 4 rfl rfl)
theorem dJ17_equals_27 : decode cJ17_equals 27 = .ok (.iconst 0, 1) := dk_3 (dk_at dksJ17_equals_1 5 rfl rfl)
theorem dJ17_equals_28 : decode cJ17_equals 28 = .ok (.ireturn, 1) := dk_172 (dk_at dksJ17_equals_1 6 rfl rfl)
abbrev cJ17_stringSize : ByteArray := prog_26_method_13_code
def yJ17_stringSize : MethodName := ⟨RJ17, "stringSize", "(I)I"⟩
def dkwJ17_stringSize_1 : List UInt8 := [164, 0, 7, 29, 27, 96, 172, 16, 10, 28, 104, 61, 132, 3, 1, 167, 255, 233, 16, 10, 27, 96, 172]
abbrev dktJ17_stringSize_1 : List UInt8 := dkwJ17_stringSize_1 ++ []
def dkwJ17_stringSize_0 : List UInt8 := [4, 60, 26, 155, 0, 8, 3, 60, 26, 116, 59, 16, 246, 61, 4, 62, 29, 16, 10, 162, 0, 23, 26, 28]
abbrev dktJ17_stringSize_0 : List UInt8 := dkwJ17_stringSize_0 ++ dktJ17_stringSize_1
theorem dksJ17_stringSize_0 : cJ17_stringSize.data.toList.drop 0 = dktJ17_stringSize_0 := by decide +kernel
theorem dksJ17_stringSize_1 : cJ17_stringSize.data.toList.drop 24 = dktJ17_stringSize_1 := dk_seg dksJ17_stringSize_0 24 rfl rfl
theorem dJ17_stringSize_0 : decode cJ17_stringSize 0 = .ok (.iconst 1, 1) := dk_4 (dk_at dksJ17_stringSize_0 0 rfl rfl)
theorem dJ17_stringSize_1 : decode cJ17_stringSize 1 = .ok (.istore_n 1, 1) := dk_60 (dk_at dksJ17_stringSize_0 1 rfl rfl)
theorem dJ17_stringSize_2 : decode cJ17_stringSize 2 = .ok (.iload_n 0, 1) := dk_26 (dk_at dksJ17_stringSize_0 2 rfl rfl)
theorem dJ17_stringSize_3 : decode cJ17_stringSize 3 = .ok (.ifCond .lt 8, 3) := dk_155 0 8 (dk_at dksJ17_stringSize_0 3 rfl rfl)
theorem dJ17_stringSize_6 : decode cJ17_stringSize 6 = .ok (.iconst 0, 1) := dk_3 (dk_at dksJ17_stringSize_0 6 rfl rfl)
theorem dJ17_stringSize_7 : decode cJ17_stringSize 7 = .ok (.istore_n 1, 1) := dk_60 (dk_at dksJ17_stringSize_0 7 rfl rfl)
theorem dJ17_stringSize_8 : decode cJ17_stringSize 8 = .ok (.iload_n 0, 1) := dk_26 (dk_at dksJ17_stringSize_0 8 rfl rfl)
theorem dJ17_stringSize_9 : decode cJ17_stringSize 9 = .ok (.ineg, 1) := dk_116 (dk_at dksJ17_stringSize_0 9 rfl rfl)
theorem dJ17_stringSize_10 : decode cJ17_stringSize 10 = .ok (.istore_n 0, 1) := dk_59 (dk_at dksJ17_stringSize_0 10 rfl rfl)
theorem dJ17_stringSize_11 : decode cJ17_stringSize 11 = .ok (.bipush (-10), 2) := dk_16 246 (dk_at dksJ17_stringSize_0 11 rfl rfl)
theorem dJ17_stringSize_13 : decode cJ17_stringSize 13 = .ok (.istore_n 2, 1) := dk_61 (dk_at dksJ17_stringSize_0 13 rfl rfl)
theorem dJ17_stringSize_14 : decode cJ17_stringSize 14 = .ok (.iconst 1, 1) := dk_4 (dk_at dksJ17_stringSize_0 14 rfl rfl)
theorem dJ17_stringSize_15 : decode cJ17_stringSize 15 = .ok (.istore_n 3, 1) := dk_62 (dk_at dksJ17_stringSize_0 15 rfl rfl)
theorem dJ17_stringSize_16 : decode cJ17_stringSize 16 = .ok (.iload_n 3, 1) := dk_29 (dk_at dksJ17_stringSize_0 16 rfl rfl)
theorem dJ17_stringSize_17 : decode cJ17_stringSize 17 = .ok (.bipush 10, 2) := dk_16 10 (dk_at dksJ17_stringSize_0 17 rfl rfl)
theorem dJ17_stringSize_19 : decode cJ17_stringSize 19 = .ok (.if_icmp .ge 23, 3) := dk_162 0 23 (dk_at dksJ17_stringSize_0 19 rfl rfl)
theorem dJ17_stringSize_22 : decode cJ17_stringSize 22 = .ok (.iload_n 0, 1) := dk_26 (dk_at dksJ17_stringSize_0 22 rfl rfl)
theorem dJ17_stringSize_23 : decode cJ17_stringSize 23 = .ok (.iload_n 2, 1) := dk_28 (dk_at dksJ17_stringSize_0 23 rfl rfl)
theorem dJ17_stringSize_24 : decode cJ17_stringSize 24 = .ok (.if_icmp .le 7, 3) := dk_164 0 7 (dk_at dksJ17_stringSize_1 0 rfl rfl)
theorem dJ17_stringSize_27 : decode cJ17_stringSize 27 = .ok (.iload_n 3, 1) := dk_29 (dk_at dksJ17_stringSize_1 3 rfl rfl)
theorem dJ17_stringSize_28 : decode cJ17_stringSize 28 = .ok (.iload_n 1, 1) := dk_27 (dk_at dksJ17_stringSize_1 4 rfl rfl)
theorem dJ17_stringSize_29 : decode cJ17_stringSize 29 = .ok (.iadd, 1) := dk_96 (dk_at dksJ17_stringSize_1 5 rfl rfl)
theorem dJ17_stringSize_30 : decode cJ17_stringSize 30 = .ok (.ireturn, 1) := dk_172 (dk_at dksJ17_stringSize_1 6 rfl rfl)
theorem dJ17_stringSize_31 : decode cJ17_stringSize 31 = .ok (.bipush 10, 2) := dk_16 10 (dk_at dksJ17_stringSize_1 7 rfl rfl)
theorem dJ17_stringSize_33 : decode cJ17_stringSize 33 = .ok (.iload_n 2, 1) := dk_28 (dk_at dksJ17_stringSize_1 9 rfl rfl)
theorem dJ17_stringSize_34 : decode cJ17_stringSize 34 = .ok (.imul, 1) := dk_104 (dk_at dksJ17_stringSize_1 10 rfl rfl)
theorem dJ17_stringSize_35 : decode cJ17_stringSize 35 = .ok (.istore_n 2, 1) := dk_61 (dk_at dksJ17_stringSize_1 11 rfl rfl)
theorem dJ17_stringSize_36 : decode cJ17_stringSize 36 = .ok (.iinc 3 1, 3) := dk_132 3 1 (dk_at dksJ17_stringSize_1 12 rfl rfl)
theorem dJ17_stringSize_39 : decode cJ17_stringSize 39 = .ok (.goto (-23), 3) := dk_167 255 233 (dk_at dksJ17_stringSize_1 15 rfl rfl)
theorem dJ17_stringSize_42 : decode cJ17_stringSize 42 = .ok (.bipush 10, 2) := dk_16 10 (dk_at dksJ17_stringSize_1 18 rfl rfl)
theorem dJ17_stringSize_44 : decode cJ17_stringSize 44 = .ok (.iload_n 1, 1) := dk_27 (dk_at dksJ17_stringSize_1 20 rfl rfl)
theorem dJ17_stringSize_45 : decode cJ17_stringSize 45 = .ok (.iadd, 1) := dk_96 (dk_at dksJ17_stringSize_1 21 rfl rfl)
theorem dJ17_stringSize_46 : decode cJ17_stringSize 46 = .ok (.ireturn, 1) := dk_172 (dk_at dksJ17_stringSize_1 22 rfl rfl)
abbrev cJ17_getChars : ByteArray := prog_26_method_12_code
def yJ17_getChars : MethodName := ⟨RJ17, "getChars", "(II[B)I"⟩
def dkwJ17_getChars_5 : List UInt8 := [16, 45, 84, 21, 5, 172]
abbrev dktJ17_getChars_5 : List UInt8 := dkwJ17_getChars_5 ++ []
def dkwJ17_getChars_4 : List UInt8 := [132, 5, 255, 21, 5, 178, 0, 87, 26, 116, 51, 84, 21, 6, 153, 0, 12, 44, 132, 5, 255, 21, 5]
abbrev dktJ17_getChars_4 : List UInt8 := dkwJ17_getChars_4 ++ dktJ17_getChars_5
def dkwJ17_getChars_3 : List UInt8 := [167, 255, 209, 44, 132, 5, 255, 21, 5, 178, 0, 83, 26, 116, 51, 84, 26, 16, 247, 162, 0, 16, 44]
abbrev dktJ17_getChars_3 : List UInt8 := dkwJ17_getChars_3 ++ dktJ17_getChars_4
def dkwJ17_getChars_2 : List UInt8 := [21, 5, 178, 0, 83, 21, 4, 51, 84, 44, 132, 5, 255, 21, 5, 178, 0, 87, 21, 4, 51, 84]
abbrev dktJ17_getChars_2 : List UInt8 := dkwJ17_getChars_2 ++ dktJ17_getChars_3
def dkwJ17_getChars_1 : List UInt8 := [16, 156, 163, 0, 47, 26, 16, 100, 108, 62, 29, 16, 100, 104, 26, 100, 54, 4, 29, 59, 44, 132, 5, 255]
abbrev dktJ17_getChars_1 : List UInt8 := dkwJ17_getChars_1 ++ dktJ17_getChars_2
def dkwJ17_getChars_0 : List UInt8 := [27, 54, 5, 26, 156, 0, 7, 4, 167, 0, 4, 3, 54, 6, 21, 6, 154, 0, 6, 26, 116, 59, 26]
abbrev dktJ17_getChars_0 : List UInt8 := dkwJ17_getChars_0 ++ dktJ17_getChars_1
theorem dksJ17_getChars_0 : cJ17_getChars.data.toList.drop 0 = dktJ17_getChars_0 := by decide +kernel
theorem dksJ17_getChars_1 : cJ17_getChars.data.toList.drop 23 = dktJ17_getChars_1 := dk_seg dksJ17_getChars_0 23 rfl rfl
theorem dksJ17_getChars_2 : cJ17_getChars.data.toList.drop 47 = dktJ17_getChars_2 := dk_seg dksJ17_getChars_1 24 rfl rfl
theorem dksJ17_getChars_3 : cJ17_getChars.data.toList.drop 69 = dktJ17_getChars_3 := dk_seg dksJ17_getChars_2 22 rfl rfl
theorem dksJ17_getChars_4 : cJ17_getChars.data.toList.drop 92 = dktJ17_getChars_4 := dk_seg dksJ17_getChars_3 23 rfl rfl
theorem dksJ17_getChars_5 : cJ17_getChars.data.toList.drop 115 = dktJ17_getChars_5 := dk_seg dksJ17_getChars_4 23 rfl rfl
theorem dJ17_getChars_0 : decode cJ17_getChars 0 = .ok (.iload_n 1, 1) := dk_27 (dk_at dksJ17_getChars_0 0 rfl rfl)
theorem dJ17_getChars_1 : decode cJ17_getChars 1 = .ok (.istore 5, 2) := dk_54 5 (dk_at dksJ17_getChars_0 1 rfl rfl)
theorem dJ17_getChars_3 : decode cJ17_getChars 3 = .ok (.iload_n 0, 1) := dk_26 (dk_at dksJ17_getChars_0 3 rfl rfl)
theorem dJ17_getChars_4 : decode cJ17_getChars 4 = .ok (.ifCond .ge 7, 3) := dk_156 0 7 (dk_at dksJ17_getChars_0 4 rfl rfl)
theorem dJ17_getChars_7 : decode cJ17_getChars 7 = .ok (.iconst 1, 1) := dk_4 (dk_at dksJ17_getChars_0 7 rfl rfl)
theorem dJ17_getChars_8 : decode cJ17_getChars 8 = .ok (.goto 4, 3) := dk_167 0 4 (dk_at dksJ17_getChars_0 8 rfl rfl)
theorem dJ17_getChars_11 : decode cJ17_getChars 11 = .ok (.iconst 0, 1) := dk_3 (dk_at dksJ17_getChars_0 11 rfl rfl)
theorem dJ17_getChars_12 : decode cJ17_getChars 12 = .ok (.istore 6, 2) := dk_54 6 (dk_at dksJ17_getChars_0 12 rfl rfl)
theorem dJ17_getChars_14 : decode cJ17_getChars 14 = .ok (.iload 6, 2) := dk_21 6 (dk_at dksJ17_getChars_0 14 rfl rfl)
theorem dJ17_getChars_16 : decode cJ17_getChars 16 = .ok (.ifCond .ne 6, 3) := dk_154 0 6 (dk_at dksJ17_getChars_0 16 rfl rfl)
theorem dJ17_getChars_19 : decode cJ17_getChars 19 = .ok (.iload_n 0, 1) := dk_26 (dk_at dksJ17_getChars_0 19 rfl rfl)
theorem dJ17_getChars_20 : decode cJ17_getChars 20 = .ok (.ineg, 1) := dk_116 (dk_at dksJ17_getChars_0 20 rfl rfl)
theorem dJ17_getChars_21 : decode cJ17_getChars 21 = .ok (.istore_n 0, 1) := dk_59 (dk_at dksJ17_getChars_0 21 rfl rfl)
theorem dJ17_getChars_22 : decode cJ17_getChars 22 = .ok (.iload_n 0, 1) := dk_26 (dk_at dksJ17_getChars_0 22 rfl rfl)
theorem dJ17_getChars_23 : decode cJ17_getChars 23 = .ok (.bipush (-100), 2) := dk_16 156 (dk_at dksJ17_getChars_1 0 rfl rfl)
theorem dJ17_getChars_25 : decode cJ17_getChars 25 = .ok (.if_icmp .gt 47, 3) := dk_163 0 47 (dk_at dksJ17_getChars_1 2 rfl rfl)
theorem dJ17_getChars_28 : decode cJ17_getChars 28 = .ok (.iload_n 0, 1) := dk_26 (dk_at dksJ17_getChars_1 5 rfl rfl)
theorem dJ17_getChars_29 : decode cJ17_getChars 29 = .ok (.bipush 100, 2) := dk_16 100 (dk_at dksJ17_getChars_1 6 rfl rfl)
theorem dJ17_getChars_31 : decode cJ17_getChars 31 = .ok (.idiv, 1) := dk_108 (dk_at dksJ17_getChars_1 8 rfl rfl)
theorem dJ17_getChars_32 : decode cJ17_getChars 32 = .ok (.istore_n 3, 1) := dk_62 (dk_at dksJ17_getChars_1 9 rfl rfl)
theorem dJ17_getChars_33 : decode cJ17_getChars 33 = .ok (.iload_n 3, 1) := dk_29 (dk_at dksJ17_getChars_1 10 rfl rfl)
theorem dJ17_getChars_34 : decode cJ17_getChars 34 = .ok (.bipush 100, 2) := dk_16 100 (dk_at dksJ17_getChars_1 11 rfl rfl)
theorem dJ17_getChars_36 : decode cJ17_getChars 36 = .ok (.imul, 1) := dk_104 (dk_at dksJ17_getChars_1 13 rfl rfl)
theorem dJ17_getChars_37 : decode cJ17_getChars 37 = .ok (.iload_n 0, 1) := dk_26 (dk_at dksJ17_getChars_1 14 rfl rfl)
theorem dJ17_getChars_38 : decode cJ17_getChars 38 = .ok (.isub, 1) := dk_100 (dk_at dksJ17_getChars_1 15 rfl rfl)
theorem dJ17_getChars_39 : decode cJ17_getChars 39 = .ok (.istore 4, 2) := dk_54 4 (dk_at dksJ17_getChars_1 16 rfl rfl)
theorem dJ17_getChars_41 : decode cJ17_getChars 41 = .ok (.iload_n 3, 1) := dk_29 (dk_at dksJ17_getChars_1 18 rfl rfl)
theorem dJ17_getChars_42 : decode cJ17_getChars 42 = .ok (.istore_n 0, 1) := dk_59 (dk_at dksJ17_getChars_1 19 rfl rfl)
theorem dJ17_getChars_43 : decode cJ17_getChars 43 = .ok (.aload_n 2, 1) := dk_44 (dk_at dksJ17_getChars_1 20 rfl rfl)
theorem dJ17_getChars_44 : decode cJ17_getChars 44 = .ok (.iinc 5 (-1), 3) := dk_132 5 255 (dk_at dksJ17_getChars_1 21 rfl rfl)
theorem dJ17_getChars_47 : decode cJ17_getChars 47 = .ok (.iload 5, 2) := dk_21 5 (dk_at dksJ17_getChars_2 0 rfl rfl)
theorem dJ17_getChars_49 : decode cJ17_getChars 49 = .ok (.getstatic 83, 3) := dk_178 0 83 (dk_at dksJ17_getChars_2 2 rfl rfl)
theorem dJ17_getChars_52 : decode cJ17_getChars 52 = .ok (.iload 4, 2) := dk_21 4 (dk_at dksJ17_getChars_2 5 rfl rfl)
theorem dJ17_getChars_54 : decode cJ17_getChars 54 = .ok (.baload, 1) := dk_51 (dk_at dksJ17_getChars_2 7 rfl rfl)
theorem dJ17_getChars_55 : decode cJ17_getChars 55 = .ok (.bastore, 1) := dk_84 (dk_at dksJ17_getChars_2 8 rfl rfl)
theorem dJ17_getChars_56 : decode cJ17_getChars 56 = .ok (.aload_n 2, 1) := dk_44 (dk_at dksJ17_getChars_2 9 rfl rfl)
theorem dJ17_getChars_57 : decode cJ17_getChars 57 = .ok (.iinc 5 (-1), 3) := dk_132 5 255 (dk_at dksJ17_getChars_2 10 rfl rfl)
theorem dJ17_getChars_60 : decode cJ17_getChars 60 = .ok (.iload 5, 2) := dk_21 5 (dk_at dksJ17_getChars_2 13 rfl rfl)
theorem dJ17_getChars_62 : decode cJ17_getChars 62 = .ok (.getstatic 87, 3) := dk_178 0 87 (dk_at dksJ17_getChars_2 15 rfl rfl)
theorem dJ17_getChars_65 : decode cJ17_getChars 65 = .ok (.iload 4, 2) := dk_21 4 (dk_at dksJ17_getChars_2 18 rfl rfl)
theorem dJ17_getChars_67 : decode cJ17_getChars 67 = .ok (.baload, 1) := dk_51 (dk_at dksJ17_getChars_2 20 rfl rfl)
theorem dJ17_getChars_68 : decode cJ17_getChars 68 = .ok (.bastore, 1) := dk_84 (dk_at dksJ17_getChars_2 21 rfl rfl)
theorem dJ17_getChars_69 : decode cJ17_getChars 69 = .ok (.goto (-47), 3) := dk_167 255 209 (dk_at dksJ17_getChars_3 0 rfl rfl)
theorem dJ17_getChars_72 : decode cJ17_getChars 72 = .ok (.aload_n 2, 1) := dk_44 (dk_at dksJ17_getChars_3 3 rfl rfl)
theorem dJ17_getChars_73 : decode cJ17_getChars 73 = .ok (.iinc 5 (-1), 3) := dk_132 5 255 (dk_at dksJ17_getChars_3 4 rfl rfl)
theorem dJ17_getChars_76 : decode cJ17_getChars 76 = .ok (.iload 5, 2) := dk_21 5 (dk_at dksJ17_getChars_3 7 rfl rfl)
theorem dJ17_getChars_78 : decode cJ17_getChars 78 = .ok (.getstatic 83, 3) := dk_178 0 83 (dk_at dksJ17_getChars_3 9 rfl rfl)
theorem dJ17_getChars_81 : decode cJ17_getChars 81 = .ok (.iload_n 0, 1) := dk_26 (dk_at dksJ17_getChars_3 12 rfl rfl)
theorem dJ17_getChars_82 : decode cJ17_getChars 82 = .ok (.ineg, 1) := dk_116 (dk_at dksJ17_getChars_3 13 rfl rfl)
theorem dJ17_getChars_83 : decode cJ17_getChars 83 = .ok (.baload, 1) := dk_51 (dk_at dksJ17_getChars_3 14 rfl rfl)
theorem dJ17_getChars_84 : decode cJ17_getChars 84 = .ok (.bastore, 1) := dk_84 (dk_at dksJ17_getChars_3 15 rfl rfl)
theorem dJ17_getChars_85 : decode cJ17_getChars 85 = .ok (.iload_n 0, 1) := dk_26 (dk_at dksJ17_getChars_3 16 rfl rfl)
theorem dJ17_getChars_86 : decode cJ17_getChars 86 = .ok (.bipush (-9), 2) := dk_16 247 (dk_at dksJ17_getChars_3 17 rfl rfl)
theorem dJ17_getChars_88 : decode cJ17_getChars 88 = .ok (.if_icmp .ge 16, 3) := dk_162 0 16 (dk_at dksJ17_getChars_3 19 rfl rfl)
theorem dJ17_getChars_91 : decode cJ17_getChars 91 = .ok (.aload_n 2, 1) := dk_44 (dk_at dksJ17_getChars_3 22 rfl rfl)
theorem dJ17_getChars_92 : decode cJ17_getChars 92 = .ok (.iinc 5 (-1), 3) := dk_132 5 255 (dk_at dksJ17_getChars_4 0 rfl rfl)
theorem dJ17_getChars_95 : decode cJ17_getChars 95 = .ok (.iload 5, 2) := dk_21 5 (dk_at dksJ17_getChars_4 3 rfl rfl)
theorem dJ17_getChars_97 : decode cJ17_getChars 97 = .ok (.getstatic 87, 3) := dk_178 0 87 (dk_at dksJ17_getChars_4 5 rfl rfl)
theorem dJ17_getChars_100 : decode cJ17_getChars 100 = .ok (.iload_n 0, 1) := dk_26 (dk_at dksJ17_getChars_4 8 rfl rfl)
theorem dJ17_getChars_101 : decode cJ17_getChars 101 = .ok (.ineg, 1) := dk_116 (dk_at dksJ17_getChars_4 9 rfl rfl)
theorem dJ17_getChars_102 : decode cJ17_getChars 102 = .ok (.baload, 1) := dk_51 (dk_at dksJ17_getChars_4 10 rfl rfl)
theorem dJ17_getChars_103 : decode cJ17_getChars 103 = .ok (.bastore, 1) := dk_84 (dk_at dksJ17_getChars_4 11 rfl rfl)
theorem dJ17_getChars_104 : decode cJ17_getChars 104 = .ok (.iload 6, 2) := dk_21 6 (dk_at dksJ17_getChars_4 12 rfl rfl)
theorem dJ17_getChars_106 : decode cJ17_getChars 106 = .ok (.ifCond .eq 12, 3) := dk_153 0 12 (dk_at dksJ17_getChars_4 14 rfl rfl)
theorem dJ17_getChars_109 : decode cJ17_getChars 109 = .ok (.aload_n 2, 1) := dk_44 (dk_at dksJ17_getChars_4 17 rfl rfl)
theorem dJ17_getChars_110 : decode cJ17_getChars 110 = .ok (.iinc 5 (-1), 3) := dk_132 5 255 (dk_at dksJ17_getChars_4 18 rfl rfl)
theorem dJ17_getChars_113 : decode cJ17_getChars 113 = .ok (.iload 5, 2) := dk_21 5 (dk_at dksJ17_getChars_4 21 rfl rfl)
theorem dJ17_getChars_115 : decode cJ17_getChars 115 = .ok (.bipush 45, 2) := dk_16 45 (dk_at dksJ17_getChars_5 0 rfl rfl)
theorem dJ17_getChars_117 : decode cJ17_getChars 117 = .ok (.bastore, 1) := dk_84 (dk_at dksJ17_getChars_5 2 rfl rfl)
theorem dJ17_getChars_118 : decode cJ17_getChars 118 = .ok (.iload 5, 2) := dk_21 5 (dk_at dksJ17_getChars_5 3 rfl rfl)
theorem dJ17_getChars_120 : decode cJ17_getChars 120 = .ok (.ireturn, 1) := dk_172 (dk_at dksJ17_getChars_5 5 rfl rfl)
theorem q72 : (Jvm.Cond.initialized "java/lang/Integer") ∈ lw_all := lw_g (lw_at lw_m1 29 rfl) rfl
theorem q229 : (Jvm.Cond.instanceMethod ({ cls := "java/lang/Integer", name := "intValue", desc := "()I" } : Jvm.MethodName)) ∈ lw_all := lw_g (lw_at lw_m1 186 rfl) rfl
theorem q230 : (Jvm.Cond.selects "java/lang/Integer" ({ cls := "java/lang/Integer", name := "intValue", desc := "()I" } : Jvm.MethodName) ({ cls := "java/lang/Integer", name := "intValue", desc := "()I" } : Jvm.MethodName)) ∈ lw_all := lw_g (lw_at lw_m1 187 rfl) rfl
theorem q231 : (Jvm.Cond.code ({ cls := "java/lang/Integer", name := "intValue", desc := "()I" } : Jvm.MethodName) prog_26_method_27_code (1 : Nat) (Option.some Jvm.ClassFile.FieldType.int)) ∈ lw_all := lw_g (lw_at lw_m1 188 rfl) rfl
theorem q526 : (Jvm.Cond.selects "java/lang/Integer" ({ cls := "java/lang/Object", name := "getClass", desc := "()Ljava/lang/Class;" } : Jvm.MethodName) ({ cls := "java/lang/Object", name := "getClass", desc := "()Ljava/lang/Class;" } : Jvm.MethodName)) ∈ lw_all := lw_g (lw_at lw_m3 3 rfl) rfl
theorem q822 : (Jvm.Cond.static ({ cls := "java/lang/Integer", name := "valueOf", desc := "(I)Ljava/lang/Integer;" } : Jvm.MethodName)) ∈ lw_all := lw_g (lw_at lw_m4 59 rfl) rfl
theorem q823 : (Jvm.Cond.code ({ cls := "java/lang/Integer", name := "valueOf", desc := "(I)Ljava/lang/Integer;" } : Jvm.MethodName) prog_26_method_22_code (1 : Nat) (Option.some (Jvm.ClassFile.FieldType.object "java/lang/Integer"))) ∈ lw_all := lw_g (lw_at lw_m4 60 rfl) rfl
theorem q824 : (Jvm.Cond.fieldLink "java/lang/Integer" (191 : Nat) "java/lang/Integer$IntegerCache" "high" "I") ∈ lw_all := lw_g (lw_at lw_m4 61 rfl) rfl
theorem q826 : (Jvm.Cond.fieldLink "java/lang/Integer" (195 : Nat) "java/lang/Integer$IntegerCache" "cache" "[Ljava/lang/Integer;") ∈ lw_all := lw_g (lw_at lw_m4 63 rfl) rfl
theorem q828 : (Jvm.Cond.classLink "java/lang/Integer" (1 : Nat) "java/lang/Integer") ∈ lw_all := lw_g (lw_at lw_m4 65 rfl) rfl
theorem q829 : (Jvm.Cond.instantiable "java/lang/Integer" (1 : Nat)) ∈ lw_all := lw_g (lw_at lw_m4 66 rfl) rfl
theorem q830 : (Jvm.Cond.methodLink "java/lang/Integer" (199 : Nat) ({ cls := "java/lang/Integer", name := "<init>", desc := "(I)V" } : Jvm.MethodName)) ∈ lw_all := lw_g (lw_at lw_m4 67 rfl) rfl
theorem q831 : (Jvm.Cond.instanceMethod ({ cls := "java/lang/Integer", name := "<init>", desc := "(I)V" } : Jvm.MethodName)) ∈ lw_all := lw_g (lw_at lw_m4 68 rfl) rfl
theorem q832 : (Jvm.Cond.code ({ cls := "java/lang/Integer", name := "<init>", desc := "(I)V" } : Jvm.MethodName) prog_26_method_23_code (2 : Nat) (Option.none : Option Jvm.ClassFile.FieldType)) ∈ lw_all := lw_g (lw_at lw_m4 69 rfl) rfl
theorem q833 : (Jvm.Cond.methodLink "java/lang/Integer" (202 : Nat) ({ cls := "java/lang/Number", name := "<init>", desc := "()V" } : Jvm.MethodName)) ∈ lw_all := lw_g (lw_at lw_m4 70 rfl) rfl
theorem q837 : (Jvm.Cond.fieldLink "java/lang/Integer" (205 : Nat) "java/lang/Integer" "value" "I") ∈ lw_all := lw_g (lw_at lw_m4 74 rfl) rfl
theorem q838 : (Jvm.Cond.laysFinal "java/lang/Integer" "java/lang/Integer" "value" "I") ∈ lw_all := lw_g (lw_at lw_m4 75 rfl) rfl
theorem q839 : (Jvm.Cond.soleField "java/lang/Integer" "value") ∈ lw_all := lw_g (lw_at lw_m4 76 rfl) rfl
theorem q840 : (Jvm.Cond.superclass "java/lang/Integer" "java/lang/Number") ∈ lw_all := lw_g (lw_at lw_m4 77 rfl) rfl
theorem q952 : (Jvm.Cond.selects "java/lang/Integer" ({ cls := "java/lang/Object", name := "equals", desc := "(Ljava/lang/Object;)Z" } : Jvm.MethodName) ({ cls := "java/lang/Integer", name := "equals", desc := "(Ljava/lang/Object;)Z" } : Jvm.MethodName)) ∈ lw_all := lw_g (lw_at lw_m4 189 rfl) rfl
theorem q953 : (Jvm.Cond.instanceMethod ({ cls := "java/lang/Integer", name := "equals", desc := "(Ljava/lang/Object;)Z" } : Jvm.MethodName)) ∈ lw_all := lw_g (lw_at lw_m4 190 rfl) rfl
theorem q954 : (Jvm.Cond.code ({ cls := "java/lang/Integer", name := "equals", desc := "(Ljava/lang/Object;)Z" } : Jvm.MethodName) prog_26_method_34_code (2 : Nat) (Option.some Jvm.ClassFile.FieldType.boolean)) ∈ lw_all := lw_g (lw_at lw_m4 191 rfl) rfl
theorem q955 : (Jvm.Cond.methodLink "java/lang/Integer" (211 : Nat) ({ cls := "java/lang/Integer", name := "intValue", desc := "()I" } : Jvm.MethodName)) ∈ lw_all := lw_g (lw_at lw_m4 192 rfl) rfl
theorem q1256 : (Jvm.Cond.static ({ cls := "java/lang/Integer", name := "stringSize", desc := "(I)I" } : Jvm.MethodName)) ∈ lw_all := lw_g (lw_at lw_m6 13 rfl) rfl
theorem q1257 : (Jvm.Cond.code ({ cls := "java/lang/Integer", name := "stringSize", desc := "(I)I" } : Jvm.MethodName) prog_26_method_13_code (4 : Nat) (Option.some Jvm.ClassFile.FieldType.int)) ∈ lw_all := lw_g (lw_at lw_m6 14 rfl) rfl
theorem q1259 : (Jvm.Cond.static ({ cls := "java/lang/Integer", name := "getChars", desc := "(II[B)I" } : Jvm.MethodName)) ∈ lw_all := lw_g (lw_at lw_m6 16 rfl) rfl
theorem q1260 : (Jvm.Cond.code ({ cls := "java/lang/Integer", name := "getChars", desc := "(II[B)I" } : Jvm.MethodName) prog_26_method_12_code (7 : Nat) (Option.some Jvm.ClassFile.FieldType.int)) ∈ lw_all := lw_g (lw_at lw_m6 17 rfl) rfl
theorem q1261 : (Jvm.Cond.fieldLink "java/lang/Integer" (83 : Nat) "java/lang/Integer" "DigitOnes" "[B") ∈ lw_all := lw_g (lw_at lw_m6 18 rfl) rfl
theorem q1262 : (Jvm.Cond.laysStatic "java/lang/Integer" "DigitOnes" "[B") ∈ lw_tbl := lw_at lw_m6 19 rfl
theorem q1263 : (Jvm.Cond.fieldLink "java/lang/Integer" (87 : Nat) "java/lang/Integer" "DigitTens" "[B") ∈ lw_all := lw_g (lw_at lw_m6 20 rfl) rfl
theorem q1264 : (Jvm.Cond.laysStatic "java/lang/Integer" "DigitTens" "[B") ∈ lw_tbl := lw_at lw_m6 21 rfl
theorem q1807 : (Jvm.Cond.castable "java/lang/Integer" "java/lang/Object") ∈ lw_tbl := lw_at lw_m8 84 rfl
theorem in_J17 : ∀ w ∈ wsJ170, w ∈ lw_all := lw_in wsJ170 [838] (by decide +kernel) (by decide +kernel)

/-! java/lang/StringLatin1 -/
set_option maxRecDepth 100000
def RJ18 : String := "java/lang/StringLatin1"
abbrev cJ18_equals : ByteArray := prog_34_method_13_code
def yJ18_equals : MethodName := ⟨RJ18, "equals", "([B[B)Z"⟩
def dkwJ18_equals_1 : List UInt8 := [3, 172, 132, 2, 1, 167, 255, 236, 4, 172, 3, 172]
abbrev dktJ18_equals_1 : List UInt8 := dkwJ18_equals_1 ++ []
def dkwJ18_equals_0 : List UInt8 := [42, 190, 43, 190, 160, 0, 30, 3, 61, 28, 42, 190, 162, 0, 20, 42, 28, 51, 43, 28, 51, 159, 0, 5]
abbrev dktJ18_equals_0 : List UInt8 := dkwJ18_equals_0 ++ dktJ18_equals_1
theorem dksJ18_equals_0 : cJ18_equals.data.toList.drop 0 = dktJ18_equals_0 := by decide +kernel
theorem dksJ18_equals_1 : cJ18_equals.data.toList.drop 24 = dktJ18_equals_1 := dk_seg dksJ18_equals_0 24 rfl rfl
theorem dJ18_equals_0 : decode cJ18_equals 0 = .ok (.aload_n 0, 1) := dk_42 (dk_at dksJ18_equals_0 0 rfl rfl)
theorem dJ18_equals_1 : decode cJ18_equals 1 = .ok (.arraylength, 1) := dk_190 (dk_at dksJ18_equals_0 1 rfl rfl)
theorem dJ18_equals_2 : decode cJ18_equals 2 = .ok (.aload_n 1, 1) := dk_43 (dk_at dksJ18_equals_0 2 rfl rfl)
theorem dJ18_equals_3 : decode cJ18_equals 3 = .ok (.arraylength, 1) := dk_190 (dk_at dksJ18_equals_0 3 rfl rfl)
theorem dJ18_equals_4 : decode cJ18_equals 4 = .ok (.if_icmp .ne 30, 3) := dk_160 0 30 (dk_at dksJ18_equals_0 4 rfl rfl)
theorem dJ18_equals_7 : decode cJ18_equals 7 = .ok (.iconst 0, 1) := dk_3 (dk_at dksJ18_equals_0 7 rfl rfl)
theorem dJ18_equals_8 : decode cJ18_equals 8 = .ok (.istore_n 2, 1) := dk_61 (dk_at dksJ18_equals_0 8 rfl rfl)
theorem dJ18_equals_9 : decode cJ18_equals 9 = .ok (.iload_n 2, 1) := dk_28 (dk_at dksJ18_equals_0 9 rfl rfl)
theorem dJ18_equals_10 : decode cJ18_equals 10 = .ok (.aload_n 0, 1) := dk_42 (dk_at dksJ18_equals_0 10 rfl rfl)
theorem dJ18_equals_11 : decode cJ18_equals 11 = .ok (.arraylength, 1) := dk_190 (dk_at dksJ18_equals_0 11 rfl rfl)
theorem dJ18_equals_12 : decode cJ18_equals 12 = .ok (.if_icmp .ge 20, 3) := dk_162 0 20 (dk_at dksJ18_equals_0 12 rfl rfl)
theorem dJ18_equals_15 : decode cJ18_equals 15 = .ok (.aload_n 0, 1) := dk_42 (dk_at dksJ18_equals_0 15 rfl rfl)
theorem dJ18_equals_16 : decode cJ18_equals 16 = .ok (.iload_n 2, 1) := dk_28 (dk_at dksJ18_equals_0 16 rfl rfl)
theorem dJ18_equals_17 : decode cJ18_equals 17 = .ok (.baload, 1) := dk_51 (dk_at dksJ18_equals_0 17 rfl rfl)
theorem dJ18_equals_18 : decode cJ18_equals 18 = .ok (.aload_n 1, 1) := dk_43 (dk_at dksJ18_equals_0 18 rfl rfl)
theorem dJ18_equals_19 : decode cJ18_equals 19 = .ok (.iload_n 2, 1) := dk_28 (dk_at dksJ18_equals_0 19 rfl rfl)
theorem dJ18_equals_20 : decode cJ18_equals 20 = .ok (.baload, 1) := dk_51 (dk_at dksJ18_equals_0 20 rfl rfl)
theorem dJ18_equals_21 : decode cJ18_equals 21 = .ok (.if_icmp .eq 5, 3) := dk_159 0 5 (dk_at dksJ18_equals_0 21 rfl rfl)
theorem dJ18_equals_24 : decode cJ18_equals 24 = .ok (.iconst 0, 1) := dk_3 (dk_at dksJ18_equals_1 0 rfl rfl)
theorem dJ18_equals_25 : decode cJ18_equals 25 = .ok (.ireturn, 1) := dk_172 (dk_at dksJ18_equals_1 1 rfl rfl)
theorem dJ18_equals_26 : decode cJ18_equals 26 = .ok (.iinc 2 1, 3) := dk_132 2 1 (dk_at dksJ18_equals_1 2 rfl rfl)
theorem dJ18_equals_29 : decode cJ18_equals 29 = .ok (.goto (-20), 3) := dk_167 255 236 (dk_at dksJ18_equals_1 5 rfl rfl)
theorem dJ18_equals_32 : decode cJ18_equals 32 = .ok (.iconst 1, 1) := dk_4 (dk_at dksJ18_equals_1 8 rfl rfl)
theorem dJ18_equals_33 : decode cJ18_equals 33 = .ok (.ireturn, 1) := dk_172 (dk_at dksJ18_equals_1 9 rfl rfl)
theorem dJ18_equals_34 : decode cJ18_equals 34 = .ok (.iconst 0, 1) := dk_3 (dk_at dksJ18_equals_1 10 rfl rfl)
theorem dJ18_equals_35 : decode cJ18_equals 35 = .ok (.ireturn, 1) := dk_172 (dk_at dksJ18_equals_1 11 rfl rfl)
abbrev cJ18_inflate : ByteArray := prog_34_method_50_code
def yJ18_inflate : MethodName := ⟨RJ18, "inflate", "([BI[BII)V"⟩
def dkwJ18_inflate_0 : List UInt8 := [42, 27, 44, 29, 21, 4, 184, 0, 240, 177]
abbrev dktJ18_inflate_0 : List UInt8 := dkwJ18_inflate_0 ++ []
theorem dksJ18_inflate_0 : cJ18_inflate.data.toList.drop 0 = dktJ18_inflate_0 := by decide +kernel
theorem dJ18_inflate_0 : decode cJ18_inflate 0 = .ok (.aload_n 0, 1) := dk_42 (dk_at dksJ18_inflate_0 0 rfl rfl)
theorem dJ18_inflate_1 : decode cJ18_inflate 1 = .ok (.iload_n 1, 1) := dk_27 (dk_at dksJ18_inflate_0 1 rfl rfl)
theorem dJ18_inflate_2 : decode cJ18_inflate 2 = .ok (.aload_n 2, 1) := dk_44 (dk_at dksJ18_inflate_0 2 rfl rfl)
theorem dJ18_inflate_3 : decode cJ18_inflate 3 = .ok (.iload_n 3, 1) := dk_29 (dk_at dksJ18_inflate_0 3 rfl rfl)
theorem dJ18_inflate_4 : decode cJ18_inflate 4 = .ok (.iload 4, 2) := dk_21 4 (dk_at dksJ18_inflate_0 4 rfl rfl)
theorem dJ18_inflate_6 : decode cJ18_inflate 6 = .ok (.invokestatic 240, 3) := dk_184 0 240 (dk_at dksJ18_inflate_0 6 rfl rfl)
theorem dJ18_inflate_9 : decode cJ18_inflate 9 = .ok (.return_, 1) := dk_177 (dk_at dksJ18_inflate_0 9 rfl rfl)
abbrev cJ18_canEncode : ByteArray := prog_34_method_3_code
def yJ18_canEncode : MethodName := ⟨RJ18, "canEncode", "(C)Z"⟩
def dkwJ18_canEncode_0 : List UInt8 := [26, 17, 0, 255, 163, 0, 7, 4, 167, 0, 4, 3, 172]
abbrev dktJ18_canEncode_0 : List UInt8 := dkwJ18_canEncode_0 ++ []
theorem dksJ18_canEncode_0 : cJ18_canEncode.data.toList.drop 0 = dktJ18_canEncode_0 := by decide +kernel
theorem dJ18_canEncode_0 : decode cJ18_canEncode 0 = .ok (.iload_n 0, 1) := dk_26 (dk_at dksJ18_canEncode_0 0 rfl rfl)
theorem dJ18_canEncode_1 : decode cJ18_canEncode 1 = .ok (.sipush 255, 3) := dk_17 0 255 (dk_at dksJ18_canEncode_0 1 rfl rfl)
theorem dJ18_canEncode_4 : decode cJ18_canEncode 4 = .ok (.if_icmp .gt 7, 3) := dk_163 0 7 (dk_at dksJ18_canEncode_0 4 rfl rfl)
theorem dJ18_canEncode_7 : decode cJ18_canEncode 7 = .ok (.iconst 1, 1) := dk_4 (dk_at dksJ18_canEncode_0 7 rfl rfl)
theorem dJ18_canEncode_8 : decode cJ18_canEncode 8 = .ok (.goto 4, 3) := dk_167 0 4 (dk_at dksJ18_canEncode_0 8 rfl rfl)
theorem dJ18_canEncode_11 : decode cJ18_canEncode 11 = .ok (.iconst 0, 1) := dk_3 (dk_at dksJ18_canEncode_0 11 rfl rfl)
theorem dJ18_canEncode_12 : decode cJ18_canEncode 12 = .ok (.ireturn, 1) := dk_172 (dk_at dksJ18_canEncode_0 12 rfl rfl)
abbrev cJ18_charAt : ByteArray := prog_34_method_2_code
def yJ18_charAt : MethodName := ⟨RJ18, "charAt", "([BI)C"⟩
def dkwJ18_charAt_0 : List UInt8 := [27, 42, 190, 184, 0, 9, 42, 27, 51, 17, 0, 255, 126, 146, 172]
abbrev dktJ18_charAt_0 : List UInt8 := dkwJ18_charAt_0 ++ []
theorem dksJ18_charAt_0 : cJ18_charAt.data.toList.drop 0 = dktJ18_charAt_0 := by decide +kernel
theorem dJ18_charAt_0 : decode cJ18_charAt 0 = .ok (.iload_n 1, 1) := dk_27 (dk_at dksJ18_charAt_0 0 rfl rfl)
theorem dJ18_charAt_1 : decode cJ18_charAt 1 = .ok (.aload_n 0, 1) := dk_42 (dk_at dksJ18_charAt_0 1 rfl rfl)
theorem dJ18_charAt_2 : decode cJ18_charAt 2 = .ok (.arraylength, 1) := dk_190 (dk_at dksJ18_charAt_0 2 rfl rfl)
theorem dJ18_charAt_3 : decode cJ18_charAt 3 = .ok (.invokestatic 9, 3) := dk_184 0 9 (dk_at dksJ18_charAt_0 3 rfl rfl)
theorem dJ18_charAt_6 : decode cJ18_charAt 6 = .ok (.aload_n 0, 1) := dk_42 (dk_at dksJ18_charAt_0 6 rfl rfl)
theorem dJ18_charAt_7 : decode cJ18_charAt 7 = .ok (.iload_n 1, 1) := dk_27 (dk_at dksJ18_charAt_0 7 rfl rfl)
theorem dJ18_charAt_8 : decode cJ18_charAt 8 = .ok (.baload, 1) := dk_51 (dk_at dksJ18_charAt_0 8 rfl rfl)
theorem dJ18_charAt_9 : decode cJ18_charAt 9 = .ok (.sipush 255, 3) := dk_17 0 255 (dk_at dksJ18_charAt_0 9 rfl rfl)
theorem dJ18_charAt_12 : decode cJ18_charAt 12 = .ok (.iand, 1) := dk_126 (dk_at dksJ18_charAt_0 12 rfl rfl)
theorem dJ18_charAt_13 : decode cJ18_charAt 13 = .ok (.i2c, 1) := dk_146 (dk_at dksJ18_charAt_0 13 rfl rfl)
theorem dJ18_charAt_14 : decode cJ18_charAt 14 = .ok (.ireturn, 1) := dk_172 (dk_at dksJ18_charAt_0 14 rfl rfl)
theorem q75 : (Jvm.Cond.initialized "java/lang/StringLatin1") ∈ lw_all := lw_g (lw_at lw_m1 32 rfl) rfl
theorem q963 : (Jvm.Cond.static ({ cls := "java/lang/StringLatin1", name := "equals", desc := "([B[B)Z" } : Jvm.MethodName)) ∈ lw_all := lw_g (lw_at lw_m4 200 rfl) rfl
theorem q964 : (Jvm.Cond.code ({ cls := "java/lang/StringLatin1", name := "equals", desc := "([B[B)Z" } : Jvm.MethodName) prog_34_method_13_code (3 : Nat) (Option.some Jvm.ClassFile.FieldType.boolean)) ∈ lw_all := lw_g (lw_at lw_m4 201 rfl) rfl
theorem q1228 : (Jvm.Cond.static ({ cls := "java/lang/StringLatin1", name := "inflate", desc := "([BI[BII)V" } : Jvm.MethodName)) ∈ lw_all := lw_g (lw_at lw_m5 225 rfl) rfl
theorem q1229 : (Jvm.Cond.code ({ cls := "java/lang/StringLatin1", name := "inflate", desc := "([BI[BII)V" } : Jvm.MethodName) prog_34_method_50_code (5 : Nat) (Option.none : Option Jvm.ClassFile.FieldType)) ∈ lw_all := lw_g (lw_at lw_m5 226 rfl) rfl
theorem q1230 : (Jvm.Cond.methodLink "java/lang/StringLatin1" (240 : Nat) ({ cls := "java/lang/StringUTF16", name := "inflate", desc := "([BI[BII)V" } : Jvm.MethodName)) ∈ lw_all := lw_g (lw_at lw_m5 227 rfl) rfl
theorem q1348 : (Jvm.Cond.static ({ cls := "java/lang/StringLatin1", name := "canEncode", desc := "(C)Z" } : Jvm.MethodName)) ∈ lw_all := lw_g (lw_at lw_m6 105 rfl) rfl
theorem q1349 : (Jvm.Cond.code ({ cls := "java/lang/StringLatin1", name := "canEncode", desc := "(C)Z" } : Jvm.MethodName) prog_34_method_3_code (1 : Nat) (Option.some Jvm.ClassFile.FieldType.boolean)) ∈ lw_all := lw_g (lw_at lw_m6 106 rfl) rfl
theorem q1372 : (Jvm.Cond.static ({ cls := "java/lang/StringLatin1", name := "charAt", desc := "([BI)C" } : Jvm.MethodName)) ∈ lw_all := lw_g (lw_at lw_m6 129 rfl) rfl
theorem q1373 : (Jvm.Cond.code ({ cls := "java/lang/StringLatin1", name := "charAt", desc := "([BI)C" } : Jvm.MethodName) prog_34_method_2_code (2 : Nat) (Option.some Jvm.ClassFile.FieldType.char)) ∈ lw_all := lw_g (lw_at lw_m6 130 rfl) rfl
theorem q1374 : (Jvm.Cond.methodLink "java/lang/StringLatin1" (9 : Nat) ({ cls := "java/lang/String", name := "checkIndex", desc := "(II)V" } : Jvm.MethodName)) ∈ lw_all := lw_g (lw_at lw_m6 131 rfl) rfl

/-! java/lang/AbstractStringBuilder -/
set_option maxRecDepth 100000
def RJ19 : String := "java/lang/AbstractStringBuilder"
abbrev cJ19_init : ByteArray := prog_16_method_2_code
def yJ19_init : MethodName := ⟨RJ19, "<init>", "(I)V"⟩
def dkwJ19_init_1 : List UInt8 := [167, 0, 16, 42, 27, 184, 0, 26, 181, 0, 15, 42, 4, 181, 0, 22, 177]
abbrev dktJ19_init_1 : List UInt8 := dkwJ19_init_1 ++ []
def dkwJ19_init_0 : List UInt8 := [42, 183, 0, 3, 178, 0, 18, 153, 0, 18, 42, 27, 188, 8, 181, 0, 15, 42, 3, 181, 0, 22]
abbrev dktJ19_init_0 : List UInt8 := dkwJ19_init_0 ++ dktJ19_init_1
theorem dksJ19_init_0 : cJ19_init.data.toList.drop 0 = dktJ19_init_0 := by decide +kernel
theorem dksJ19_init_1 : cJ19_init.data.toList.drop 22 = dktJ19_init_1 := dk_seg dksJ19_init_0 22 rfl rfl
theorem dJ19_init_0 : decode cJ19_init 0 = .ok (.aload_n 0, 1) := dk_42 (dk_at dksJ19_init_0 0 rfl rfl)
theorem dJ19_init_1 : decode cJ19_init 1 = .ok (.invokespecial 3, 3) := dk_183 0 3 (dk_at dksJ19_init_0 1 rfl rfl)
theorem dJ19_init_4 : decode cJ19_init 4 = .ok (.getstatic 18, 3) := dk_178 0 18 (dk_at dksJ19_init_0 4 rfl rfl)
theorem dJ19_init_7 : decode cJ19_init 7 = .ok (.ifCond .eq 18, 3) := dk_153 0 18 (dk_at dksJ19_init_0 7 rfl rfl)
theorem dJ19_init_10 : decode cJ19_init 10 = .ok (.aload_n 0, 1) := dk_42 (dk_at dksJ19_init_0 10 rfl rfl)
theorem dJ19_init_11 : decode cJ19_init 11 = .ok (.iload_n 1, 1) := dk_27 (dk_at dksJ19_init_0 11 rfl rfl)
theorem dJ19_init_12 : decode cJ19_init 12 = .ok (.newarray .byte, 2) := dk_188_8 (dk_at dksJ19_init_0 12 rfl rfl)
theorem dJ19_init_14 : decode cJ19_init 14 = .ok (.putfield 15, 3) := dk_181 0 15 (dk_at dksJ19_init_0 14 rfl rfl)
theorem dJ19_init_17 : decode cJ19_init 17 = .ok (.aload_n 0, 1) := dk_42 (dk_at dksJ19_init_0 17 rfl rfl)
theorem dJ19_init_18 : decode cJ19_init 18 = .ok (.iconst 0, 1) := dk_3 (dk_at dksJ19_init_0 18 rfl rfl)
theorem dJ19_init_19 : decode cJ19_init 19 = .ok (.putfield 22, 3) := dk_181 0 22 (dk_at dksJ19_init_0 19 rfl rfl)
theorem dJ19_init_22 : decode cJ19_init 22 = .ok (.goto 16, 3) := dk_167 0 16 (dk_at dksJ19_init_1 0 rfl rfl)
theorem dJ19_init_25 : decode cJ19_init 25 = .ok (.aload_n 0, 1) := dk_42 (dk_at dksJ19_init_1 3 rfl rfl)
theorem dJ19_init_26 : decode cJ19_init 26 = .ok (.iload_n 1, 1) := dk_27 (dk_at dksJ19_init_1 4 rfl rfl)
theorem dJ19_init_27 : decode cJ19_init 27 = .ok (.invokestatic 26, 3) := dk_184 0 26 (dk_at dksJ19_init_1 5 rfl rfl)
theorem dJ19_init_30 : decode cJ19_init 30 = .ok (.putfield 15, 3) := dk_181 0 15 (dk_at dksJ19_init_1 8 rfl rfl)
theorem dJ19_init_33 : decode cJ19_init 33 = .ok (.aload_n 0, 1) := dk_42 (dk_at dksJ19_init_1 11 rfl rfl)
theorem dJ19_init_34 : decode cJ19_init 34 = .ok (.iconst 1, 1) := dk_4 (dk_at dksJ19_init_1 12 rfl rfl)
theorem dJ19_init_35 : decode cJ19_init 35 = .ok (.putfield 22, 3) := dk_181 0 22 (dk_at dksJ19_init_1 13 rfl rfl)
theorem dJ19_init_38 : decode cJ19_init 38 = .ok (.return_, 1) := dk_177 (dk_at dksJ19_init_1 16 rfl rfl)
abbrev cJ19_append : ByteArray := prog_16_method_22_code
def yJ19_append : MethodName := ⟨RJ19, "append", "(Ljava/lang/String;)Ljava/lang/AbstractStringBuilder;"⟩
def dkwJ19_append_1 : List UInt8 := [42, 42, 180, 0, 79, 43, 182, 0, 208, 42, 89, 180, 0, 79, 28, 96, 181, 0, 79, 42, 176]
abbrev dktJ19_append_1 : List UInt8 := dkwJ19_append_1 ++ []
def dkwJ19_append_0 : List UInt8 := [43, 199, 0, 8, 42, 182, 0, 204, 176, 43, 182, 0, 32, 61, 42, 42, 180, 0, 79, 28, 96, 182, 0, 100]
abbrev dktJ19_append_0 : List UInt8 := dkwJ19_append_0 ++ dktJ19_append_1
theorem dksJ19_append_0 : cJ19_append.data.toList.drop 0 = dktJ19_append_0 := by decide +kernel
theorem dksJ19_append_1 : cJ19_append.data.toList.drop 24 = dktJ19_append_1 := dk_seg dksJ19_append_0 24 rfl rfl
theorem dJ19_append_0 : decode cJ19_append 0 = .ok (.aload_n 1, 1) := dk_43 (dk_at dksJ19_append_0 0 rfl rfl)
theorem dJ19_append_1 : decode cJ19_append 1 = .ok (.ifnonnull 8, 3) := dk_199 0 8 (dk_at dksJ19_append_0 1 rfl rfl)
theorem dJ19_append_4 : decode cJ19_append 4 = .ok (.aload_n 0, 1) := dk_42 (dk_at dksJ19_append_0 4 rfl rfl)
theorem dJ19_append_5 : decode cJ19_append 5 = .ok (.invokevirtual 204, 3) := dk_182 0 204 (dk_at dksJ19_append_0 5 rfl rfl)
theorem dJ19_append_8 : decode cJ19_append 8 = .ok (.areturn, 1) := dk_176 (dk_at dksJ19_append_0 8 rfl rfl)
theorem dJ19_append_9 : decode cJ19_append 9 = .ok (.aload_n 1, 1) := dk_43 (dk_at dksJ19_append_0 9 rfl rfl)
theorem dJ19_append_10 : decode cJ19_append 10 = .ok (.invokevirtual 32, 3) := dk_182 0 32 (dk_at dksJ19_append_0 10 rfl rfl)
theorem dJ19_append_13 : decode cJ19_append 13 = .ok (.istore_n 2, 1) := dk_61 (dk_at dksJ19_append_0 13 rfl rfl)
theorem dJ19_append_14 : decode cJ19_append 14 = .ok (.aload_n 0, 1) := dk_42 (dk_at dksJ19_append_0 14 rfl rfl)
theorem dJ19_append_15 : decode cJ19_append 15 = .ok (.aload_n 0, 1) := dk_42 (dk_at dksJ19_append_0 15 rfl rfl)
theorem dJ19_append_16 : decode cJ19_append 16 = .ok (.getfield 79, 3) := dk_180 0 79 (dk_at dksJ19_append_0 16 rfl rfl)
theorem dJ19_append_19 : decode cJ19_append 19 = .ok (.iload_n 2, 1) := dk_28 (dk_at dksJ19_append_0 19 rfl rfl)
theorem dJ19_append_20 : decode cJ19_append 20 = .ok (.iadd, 1) := dk_96 (dk_at dksJ19_append_0 20 rfl rfl)
theorem dJ19_append_21 : decode cJ19_append 21 = .ok (.invokevirtual 100, 3) := dk_182 0 100 (dk_at dksJ19_append_0 21 rfl rfl)
theorem dJ19_append_24 : decode cJ19_append 24 = .ok (.aload_n 0, 1) := dk_42 (dk_at dksJ19_append_1 0 rfl rfl)
theorem dJ19_append_25 : decode cJ19_append 25 = .ok (.aload_n 0, 1) := dk_42 (dk_at dksJ19_append_1 1 rfl rfl)
theorem dJ19_append_26 : decode cJ19_append 26 = .ok (.getfield 79, 3) := dk_180 0 79 (dk_at dksJ19_append_1 2 rfl rfl)
theorem dJ19_append_29 : decode cJ19_append 29 = .ok (.aload_n 1, 1) := dk_43 (dk_at dksJ19_append_1 5 rfl rfl)
theorem dJ19_append_30 : decode cJ19_append 30 = .ok (.invokevirtual 208, 3) := dk_182 0 208 (dk_at dksJ19_append_1 6 rfl rfl)
theorem dJ19_append_33 : decode cJ19_append 33 = .ok (.aload_n 0, 1) := dk_42 (dk_at dksJ19_append_1 9 rfl rfl)
theorem dJ19_append_34 : decode cJ19_append 34 = .ok (.dup, 1) := dk_89 (dk_at dksJ19_append_1 10 rfl rfl)
theorem dJ19_append_35 : decode cJ19_append 35 = .ok (.getfield 79, 3) := dk_180 0 79 (dk_at dksJ19_append_1 11 rfl rfl)
theorem dJ19_append_38 : decode cJ19_append 38 = .ok (.iload_n 2, 1) := dk_28 (dk_at dksJ19_append_1 14 rfl rfl)
theorem dJ19_append_39 : decode cJ19_append 39 = .ok (.iadd, 1) := dk_96 (dk_at dksJ19_append_1 15 rfl rfl)
theorem dJ19_append_40 : decode cJ19_append 40 = .ok (.putfield 79, 3) := dk_181 0 79 (dk_at dksJ19_append_1 16 rfl rfl)
theorem dJ19_append_43 : decode cJ19_append 43 = .ok (.aload_n 0, 1) := dk_42 (dk_at dksJ19_append_1 19 rfl rfl)
theorem dJ19_append_44 : decode cJ19_append 44 = .ok (.areturn, 1) := dk_176 (dk_at dksJ19_append_1 20 rfl rfl)
abbrev cJ19_appendNull : ByteArray := prog_16_method_26_code
def yJ19_appendNull : MethodName := ⟨RJ19, "appendNull", "()Ljava/lang/AbstractStringBuilder;"⟩
def dkwJ19_appendNull_3 : List UInt8 := [184, 0, 226, 60, 42, 27, 181, 0, 79, 42, 176]
abbrev dktJ19_appendNull_3 : List UInt8 := dkwJ19_appendNull_3 ++ []
def dkwJ19_appendNull_2 : List UInt8 := [16, 108, 84, 44, 27, 132, 1, 1, 16, 108, 84, 167, 0, 17, 44, 27, 16, 110, 16, 117, 16, 108, 16, 108]
abbrev dktJ19_appendNull_2 : List UInt8 := dkwJ19_appendNull_2 ++ dktJ19_appendNull_3
def dkwJ19_appendNull_1 : List UInt8 := [153, 0, 38, 44, 27, 132, 1, 1, 16, 110, 84, 44, 27, 132, 1, 1, 16, 117, 84, 44, 27, 132, 1, 1]
abbrev dktJ19_appendNull_1 : List UInt8 := dkwJ19_appendNull_1 ++ dktJ19_appendNull_2
def dkwJ19_appendNull_0 : List UInt8 := [42, 42, 180, 0, 79, 7, 96, 182, 0, 100, 42, 180, 0, 79, 60, 42, 180, 0, 15, 77, 42, 182, 0, 83]
abbrev dktJ19_appendNull_0 : List UInt8 := dkwJ19_appendNull_0 ++ dktJ19_appendNull_1
theorem dksJ19_appendNull_0 : cJ19_appendNull.data.toList.drop 0 = dktJ19_appendNull_0 := by decide +kernel
theorem dksJ19_appendNull_1 : cJ19_appendNull.data.toList.drop 24 = dktJ19_appendNull_1 := dk_seg dksJ19_appendNull_0 24 rfl rfl
theorem dksJ19_appendNull_2 : cJ19_appendNull.data.toList.drop 48 = dktJ19_appendNull_2 := dk_seg dksJ19_appendNull_1 24 rfl rfl
theorem dksJ19_appendNull_3 : cJ19_appendNull.data.toList.drop 72 = dktJ19_appendNull_3 := dk_seg dksJ19_appendNull_2 24 rfl rfl
theorem dJ19_appendNull_0 : decode cJ19_appendNull 0 = .ok (.aload_n 0, 1) := dk_42 (dk_at dksJ19_appendNull_0 0 rfl rfl)
theorem dJ19_appendNull_1 : decode cJ19_appendNull 1 = .ok (.aload_n 0, 1) := dk_42 (dk_at dksJ19_appendNull_0 1 rfl rfl)
theorem dJ19_appendNull_2 : decode cJ19_appendNull 2 = .ok (.getfield 79, 3) := dk_180 0 79 (dk_at dksJ19_appendNull_0 2 rfl rfl)
theorem dJ19_appendNull_5 : decode cJ19_appendNull 5 = .ok (.iconst 4, 1) := dk_7 (dk_at dksJ19_appendNull_0 5 rfl rfl)
theorem dJ19_appendNull_6 : decode cJ19_appendNull 6 = .ok (.iadd, 1) := dk_96 (dk_at dksJ19_appendNull_0 6 rfl rfl)
theorem dJ19_appendNull_7 : decode cJ19_appendNull 7 = .ok (.invokevirtual 100, 3) := dk_182 0 100 (dk_at dksJ19_appendNull_0 7 rfl rfl)
theorem dJ19_appendNull_10 : decode cJ19_appendNull 10 = .ok (.aload_n 0, 1) := dk_42 (dk_at dksJ19_appendNull_0 10 rfl rfl)
theorem dJ19_appendNull_11 : decode cJ19_appendNull 11 = .ok (.getfield 79, 3) := dk_180 0 79 (dk_at dksJ19_appendNull_0 11 rfl rfl)
theorem dJ19_appendNull_14 : decode cJ19_appendNull 14 = .ok (.istore_n 1, 1) := dk_60 (dk_at dksJ19_appendNull_0 14 rfl rfl)
theorem dJ19_appendNull_15 : decode cJ19_appendNull 15 = .ok (.aload_n 0, 1) := dk_42 (dk_at dksJ19_appendNull_0 15 rfl rfl)
theorem dJ19_appendNull_16 : decode cJ19_appendNull 16 = .ok (.getfield 15, 3) := dk_180 0 15 (dk_at dksJ19_appendNull_0 16 rfl rfl)
theorem dJ19_appendNull_19 : decode cJ19_appendNull 19 = .ok (.astore_n 2, 1) := dk_77 (dk_at dksJ19_appendNull_0 19 rfl rfl)
theorem dJ19_appendNull_20 : decode cJ19_appendNull 20 = .ok (.aload_n 0, 1) := dk_42 (dk_at dksJ19_appendNull_0 20 rfl rfl)
theorem dJ19_appendNull_21 : decode cJ19_appendNull 21 = .ok (.invokevirtual 83, 3) := dk_182 0 83 (dk_at dksJ19_appendNull_0 21 rfl rfl)
theorem dJ19_appendNull_24 : decode cJ19_appendNull 24 = .ok (.ifCond .eq 38, 3) := dk_153 0 38 (dk_at dksJ19_appendNull_1 0 rfl rfl)
theorem dJ19_appendNull_27 : decode cJ19_appendNull 27 = .ok (.aload_n 2, 1) := dk_44 (dk_at dksJ19_appendNull_1 3 rfl rfl)
theorem dJ19_appendNull_28 : decode cJ19_appendNull 28 = .ok (.iload_n 1, 1) := dk_27 (dk_at dksJ19_appendNull_1 4 rfl rfl)
theorem dJ19_appendNull_29 : decode cJ19_appendNull 29 = .ok (.iinc 1 1, 3) := dk_132 1 1 (dk_at dksJ19_appendNull_1 5 rfl rfl)
theorem dJ19_appendNull_32 : decode cJ19_appendNull 32 = .ok (.bipush 110, 2) := dk_16 110 (dk_at dksJ19_appendNull_1 8 rfl rfl)
theorem dJ19_appendNull_34 : decode cJ19_appendNull 34 = .ok (.bastore, 1) := dk_84 (dk_at dksJ19_appendNull_1 10 rfl rfl)
theorem dJ19_appendNull_35 : decode cJ19_appendNull 35 = .ok (.aload_n 2, 1) := dk_44 (dk_at dksJ19_appendNull_1 11 rfl rfl)
theorem dJ19_appendNull_36 : decode cJ19_appendNull 36 = .ok (.iload_n 1, 1) := dk_27 (dk_at dksJ19_appendNull_1 12 rfl rfl)
theorem dJ19_appendNull_37 : decode cJ19_appendNull 37 = .ok (.iinc 1 1, 3) := dk_132 1 1 (dk_at dksJ19_appendNull_1 13 rfl rfl)
theorem dJ19_appendNull_40 : decode cJ19_appendNull 40 = .ok (.bipush 117, 2) := dk_16 117 (dk_at dksJ19_appendNull_1 16 rfl rfl)
theorem dJ19_appendNull_42 : decode cJ19_appendNull 42 = .ok (.bastore, 1) := dk_84 (dk_at dksJ19_appendNull_1 18 rfl rfl)
theorem dJ19_appendNull_43 : decode cJ19_appendNull 43 = .ok (.aload_n 2, 1) := dk_44 (dk_at dksJ19_appendNull_1 19 rfl rfl)
theorem dJ19_appendNull_44 : decode cJ19_appendNull 44 = .ok (.iload_n 1, 1) := dk_27 (dk_at dksJ19_appendNull_1 20 rfl rfl)
theorem dJ19_appendNull_45 : decode cJ19_appendNull 45 = .ok (.iinc 1 1, 3) := dk_132 1 1 (dk_at dksJ19_appendNull_1 21 rfl rfl)
theorem dJ19_appendNull_48 : decode cJ19_appendNull 48 = .ok (.bipush 108, 2) := dk_16 108 (dk_at dksJ19_appendNull_2 0 rfl rfl)
theorem dJ19_appendNull_50 : decode cJ19_appendNull 50 = .ok (.bastore, 1) := dk_84 (dk_at dksJ19_appendNull_2 2 rfl rfl)
theorem dJ19_appendNull_51 : decode cJ19_appendNull 51 = .ok (.aload_n 2, 1) := dk_44 (dk_at dksJ19_appendNull_2 3 rfl rfl)
theorem dJ19_appendNull_52 : decode cJ19_appendNull 52 = .ok (.iload_n 1, 1) := dk_27 (dk_at dksJ19_appendNull_2 4 rfl rfl)
theorem dJ19_appendNull_53 : decode cJ19_appendNull 53 = .ok (.iinc 1 1, 3) := dk_132 1 1 (dk_at dksJ19_appendNull_2 5 rfl rfl)
theorem dJ19_appendNull_56 : decode cJ19_appendNull 56 = .ok (.bipush 108, 2) := dk_16 108 (dk_at dksJ19_appendNull_2 8 rfl rfl)
theorem dJ19_appendNull_58 : decode cJ19_appendNull 58 = .ok (.bastore, 1) := dk_84 (dk_at dksJ19_appendNull_2 10 rfl rfl)
theorem dJ19_appendNull_59 : decode cJ19_appendNull 59 = .ok (.goto 17, 3) := dk_167 0 17 (dk_at dksJ19_appendNull_2 11 rfl rfl)
theorem dJ19_appendNull_62 : decode cJ19_appendNull 62 = .ok (.aload_n 2, 1) := dk_44 (dk_at dksJ19_appendNull_2 14 rfl rfl)
theorem dJ19_appendNull_63 : decode cJ19_appendNull 63 = .ok (.iload_n 1, 1) := dk_27 (dk_at dksJ19_appendNull_2 15 rfl rfl)
theorem dJ19_appendNull_64 : decode cJ19_appendNull 64 = .ok (.bipush 110, 2) := dk_16 110 (dk_at dksJ19_appendNull_2 16 rfl rfl)
theorem dJ19_appendNull_66 : decode cJ19_appendNull 66 = .ok (.bipush 117, 2) := dk_16 117 (dk_at dksJ19_appendNull_2 18 rfl rfl)
theorem dJ19_appendNull_68 : decode cJ19_appendNull 68 = .ok (.bipush 108, 2) := dk_16 108 (dk_at dksJ19_appendNull_2 20 rfl rfl)
theorem dJ19_appendNull_70 : decode cJ19_appendNull 70 = .ok (.bipush 108, 2) := dk_16 108 (dk_at dksJ19_appendNull_2 22 rfl rfl)
theorem dJ19_appendNull_72 : decode cJ19_appendNull 72 = .ok (.invokestatic 226, 3) := dk_184 0 226 (dk_at dksJ19_appendNull_3 0 rfl rfl)
theorem dJ19_appendNull_75 : decode cJ19_appendNull 75 = .ok (.istore_n 1, 1) := dk_60 (dk_at dksJ19_appendNull_3 3 rfl rfl)
theorem dJ19_appendNull_76 : decode cJ19_appendNull 76 = .ok (.aload_n 0, 1) := dk_42 (dk_at dksJ19_appendNull_3 4 rfl rfl)
theorem dJ19_appendNull_77 : decode cJ19_appendNull 77 = .ok (.iload_n 1, 1) := dk_27 (dk_at dksJ19_appendNull_3 5 rfl rfl)
theorem dJ19_appendNull_78 : decode cJ19_appendNull 78 = .ok (.putfield 79, 3) := dk_181 0 79 (dk_at dksJ19_appendNull_3 6 rfl rfl)
theorem dJ19_appendNull_81 : decode cJ19_appendNull 81 = .ok (.aload_n 0, 1) := dk_42 (dk_at dksJ19_appendNull_3 9 rfl rfl)
theorem dJ19_appendNull_82 : decode cJ19_appendNull 82 = .ok (.areturn, 1) := dk_176 (dk_at dksJ19_appendNull_3 10 rfl rfl)
abbrev cJ19_ensureCapacityInternal : ByteArray := prog_16_method_9_code
def yJ19_ensureCapacityInternal : MethodName := ⟨RJ19, "ensureCapacityInternal", "(I)V"⟩
def dkwJ19_ensureCapacityInternal_1 : List UInt8 := [182, 0, 104, 42, 180, 0, 22, 120, 184, 0, 108, 181, 0, 15, 177]
abbrev dktJ19_ensureCapacityInternal_1 : List UInt8 := dkwJ19_ensureCapacityInternal_1 ++ []
def dkwJ19_ensureCapacityInternal_0 : List UInt8 := [42, 180, 0, 15, 190, 42, 180, 0, 22, 122, 61, 27, 28, 100, 158, 0, 24, 42, 42, 180, 0, 15, 42, 27]
abbrev dktJ19_ensureCapacityInternal_0 : List UInt8 := dkwJ19_ensureCapacityInternal_0 ++ dktJ19_ensureCapacityInternal_1
theorem dksJ19_ensureCapacityInternal_0 : cJ19_ensureCapacityInternal.data.toList.drop 0 = dktJ19_ensureCapacityInternal_0 := by decide +kernel
theorem dksJ19_ensureCapacityInternal_1 : cJ19_ensureCapacityInternal.data.toList.drop 24 = dktJ19_ensureCapacityInternal_1 := dk_seg dksJ19_ensureCapacityInternal_0 24 rfl rfl
theorem dJ19_ensureCapacityInternal_0 : decode cJ19_ensureCapacityInternal 0 = .ok (.aload_n 0, 1) := dk_42 (dk_at dksJ19_ensureCapacityInternal_0 0 rfl rfl)
theorem dJ19_ensureCapacityInternal_1 : decode cJ19_ensureCapacityInternal 1 = .ok (.getfield 15, 3) := dk_180 0 15 (dk_at dksJ19_ensureCapacityInternal_0 1 rfl rfl)
theorem dJ19_ensureCapacityInternal_4 : decode cJ19_ensureCapacityInternal 4 = .ok (.arraylength, 1) := dk_190 (dk_at dksJ19_ensureCapacityInternal_0 4 rfl rfl)
theorem dJ19_ensureCapacityInternal_5 : decode cJ19_ensureCapacityInternal 5 = .ok (.aload_n 0, 1) := dk_42 (dk_at dksJ19_ensureCapacityInternal_0 5 rfl rfl)
theorem dJ19_ensureCapacityInternal_6 : decode cJ19_ensureCapacityInternal 6 = .ok (.getfield 22, 3) := dk_180 0 22 (dk_at dksJ19_ensureCapacityInternal_0 6 rfl rfl)
theorem dJ19_ensureCapacityInternal_9 : decode cJ19_ensureCapacityInternal 9 = .ok (.ishr, 1) := dk_122 (dk_at dksJ19_ensureCapacityInternal_0 9 rfl rfl)
theorem dJ19_ensureCapacityInternal_10 : decode cJ19_ensureCapacityInternal 10 = .ok (.istore_n 2, 1) := dk_61 (dk_at dksJ19_ensureCapacityInternal_0 10 rfl rfl)
theorem dJ19_ensureCapacityInternal_11 : decode cJ19_ensureCapacityInternal 11 = .ok (.iload_n 1, 1) := dk_27 (dk_at dksJ19_ensureCapacityInternal_0 11 rfl rfl)
theorem dJ19_ensureCapacityInternal_12 : decode cJ19_ensureCapacityInternal 12 = .ok (.iload_n 2, 1) := dk_28 (dk_at dksJ19_ensureCapacityInternal_0 12 rfl rfl)
theorem dJ19_ensureCapacityInternal_13 : decode cJ19_ensureCapacityInternal 13 = .ok (.isub, 1) := dk_100 (dk_at dksJ19_ensureCapacityInternal_0 13 rfl rfl)
theorem dJ19_ensureCapacityInternal_14 : decode cJ19_ensureCapacityInternal 14 = .ok (.ifCond .le 24, 3) := dk_158 0 24 (dk_at dksJ19_ensureCapacityInternal_0 14 rfl rfl)
theorem dJ19_ensureCapacityInternal_17 : decode cJ19_ensureCapacityInternal 17 = .ok (.aload_n 0, 1) := dk_42 (dk_at dksJ19_ensureCapacityInternal_0 17 rfl rfl)
theorem dJ19_ensureCapacityInternal_18 : decode cJ19_ensureCapacityInternal 18 = .ok (.aload_n 0, 1) := dk_42 (dk_at dksJ19_ensureCapacityInternal_0 18 rfl rfl)
theorem dJ19_ensureCapacityInternal_19 : decode cJ19_ensureCapacityInternal 19 = .ok (.getfield 15, 3) := dk_180 0 15 (dk_at dksJ19_ensureCapacityInternal_0 19 rfl rfl)
theorem dJ19_ensureCapacityInternal_22 : decode cJ19_ensureCapacityInternal 22 = .ok (.aload_n 0, 1) := dk_42 (dk_at dksJ19_ensureCapacityInternal_0 22 rfl rfl)
theorem dJ19_ensureCapacityInternal_23 : decode cJ19_ensureCapacityInternal 23 = .ok (.iload_n 1, 1) := dk_27 (dk_at dksJ19_ensureCapacityInternal_0 23 rfl rfl)
theorem dJ19_ensureCapacityInternal_24 : decode cJ19_ensureCapacityInternal 24 = .ok (.invokevirtual 104, 3) := dk_182 0 104 (dk_at dksJ19_ensureCapacityInternal_1 0 rfl rfl)
theorem dJ19_ensureCapacityInternal_27 : decode cJ19_ensureCapacityInternal 27 = .ok (.aload_n 0, 1) := dk_42 (dk_at dksJ19_ensureCapacityInternal_1 3 rfl rfl)
theorem dJ19_ensureCapacityInternal_28 : decode cJ19_ensureCapacityInternal 28 = .ok (.getfield 22, 3) := dk_180 0 22 (dk_at dksJ19_ensureCapacityInternal_1 4 rfl rfl)
theorem dJ19_ensureCapacityInternal_31 : decode cJ19_ensureCapacityInternal 31 = .ok (.ishl, 1) := dk_120 (dk_at dksJ19_ensureCapacityInternal_1 7 rfl rfl)
theorem dJ19_ensureCapacityInternal_32 : decode cJ19_ensureCapacityInternal 32 = .ok (.invokestatic 108, 3) := dk_184 0 108 (dk_at dksJ19_ensureCapacityInternal_1 8 rfl rfl)
theorem dJ19_ensureCapacityInternal_35 : decode cJ19_ensureCapacityInternal 35 = .ok (.putfield 15, 3) := dk_181 0 15 (dk_at dksJ19_ensureCapacityInternal_1 11 rfl rfl)
theorem dJ19_ensureCapacityInternal_38 : decode cJ19_ensureCapacityInternal 38 = .ok (.return_, 1) := dk_177 (dk_at dksJ19_ensureCapacityInternal_1 14 rfl rfl)
abbrev cJ19_newCapacity : ByteArray := prog_16_method_10_code
def yJ19_newCapacity : MethodName := ⟨RJ19, "newCapacity", "(I)I"⟩
def dkwJ19_newCapacity_2 : List UInt8 := [183, 0, 124, 191, 21, 5, 42, 180, 0, 22, 122, 172]
abbrev dktJ19_newCapacity_2 : List UInt8 := dkwJ19_newCapacity_2 ++ []
def dkwJ19_newCapacity_1 : List UInt8 := [180, 0, 22, 120, 96, 184, 0, 114, 54, 5, 21, 5, 18, 39, 160, 0, 13, 187, 0, 120, 89, 18, 122]
abbrev dktJ19_newCapacity_1 : List UInt8 := dkwJ19_newCapacity_1 ++ dktJ19_newCapacity_2
def dkwJ19_newCapacity_0 : List UInt8 := [42, 180, 0, 15, 190, 61, 27, 42, 180, 0, 22, 120, 62, 29, 28, 100, 54, 4, 28, 21, 4, 28, 5, 42]
abbrev dktJ19_newCapacity_0 : List UInt8 := dkwJ19_newCapacity_0 ++ dktJ19_newCapacity_1
theorem dksJ19_newCapacity_0 : cJ19_newCapacity.data.toList.drop 0 = dktJ19_newCapacity_0 := by decide +kernel
theorem dksJ19_newCapacity_1 : cJ19_newCapacity.data.toList.drop 24 = dktJ19_newCapacity_1 := dk_seg dksJ19_newCapacity_0 24 rfl rfl
theorem dksJ19_newCapacity_2 : cJ19_newCapacity.data.toList.drop 47 = dktJ19_newCapacity_2 := dk_seg dksJ19_newCapacity_1 23 rfl rfl
theorem dJ19_newCapacity_0 : decode cJ19_newCapacity 0 = .ok (.aload_n 0, 1) := dk_42 (dk_at dksJ19_newCapacity_0 0 rfl rfl)
theorem dJ19_newCapacity_1 : decode cJ19_newCapacity 1 = .ok (.getfield 15, 3) := dk_180 0 15 (dk_at dksJ19_newCapacity_0 1 rfl rfl)
theorem dJ19_newCapacity_4 : decode cJ19_newCapacity 4 = .ok (.arraylength, 1) := dk_190 (dk_at dksJ19_newCapacity_0 4 rfl rfl)
theorem dJ19_newCapacity_5 : decode cJ19_newCapacity 5 = .ok (.istore_n 2, 1) := dk_61 (dk_at dksJ19_newCapacity_0 5 rfl rfl)
theorem dJ19_newCapacity_6 : decode cJ19_newCapacity 6 = .ok (.iload_n 1, 1) := dk_27 (dk_at dksJ19_newCapacity_0 6 rfl rfl)
theorem dJ19_newCapacity_7 : decode cJ19_newCapacity 7 = .ok (.aload_n 0, 1) := dk_42 (dk_at dksJ19_newCapacity_0 7 rfl rfl)
theorem dJ19_newCapacity_8 : decode cJ19_newCapacity 8 = .ok (.getfield 22, 3) := dk_180 0 22 (dk_at dksJ19_newCapacity_0 8 rfl rfl)
theorem dJ19_newCapacity_11 : decode cJ19_newCapacity 11 = .ok (.ishl, 1) := dk_120 (dk_at dksJ19_newCapacity_0 11 rfl rfl)
theorem dJ19_newCapacity_12 : decode cJ19_newCapacity 12 = .ok (.istore_n 3, 1) := dk_62 (dk_at dksJ19_newCapacity_0 12 rfl rfl)
theorem dJ19_newCapacity_13 : decode cJ19_newCapacity 13 = .ok (.iload_n 3, 1) := dk_29 (dk_at dksJ19_newCapacity_0 13 rfl rfl)
theorem dJ19_newCapacity_14 : decode cJ19_newCapacity 14 = .ok (.iload_n 2, 1) := dk_28 (dk_at dksJ19_newCapacity_0 14 rfl rfl)
theorem dJ19_newCapacity_15 : decode cJ19_newCapacity 15 = .ok (.isub, 1) := dk_100 (dk_at dksJ19_newCapacity_0 15 rfl rfl)
theorem dJ19_newCapacity_16 : decode cJ19_newCapacity 16 = .ok (.istore 4, 2) := dk_54 4 (dk_at dksJ19_newCapacity_0 16 rfl rfl)
theorem dJ19_newCapacity_18 : decode cJ19_newCapacity 18 = .ok (.iload_n 2, 1) := dk_28 (dk_at dksJ19_newCapacity_0 18 rfl rfl)
theorem dJ19_newCapacity_19 : decode cJ19_newCapacity 19 = .ok (.iload 4, 2) := dk_21 4 (dk_at dksJ19_newCapacity_0 19 rfl rfl)
theorem dJ19_newCapacity_21 : decode cJ19_newCapacity 21 = .ok (.iload_n 2, 1) := dk_28 (dk_at dksJ19_newCapacity_0 21 rfl rfl)
theorem dJ19_newCapacity_22 : decode cJ19_newCapacity 22 = .ok (.iconst 2, 1) := dk_5 (dk_at dksJ19_newCapacity_0 22 rfl rfl)
theorem dJ19_newCapacity_23 : decode cJ19_newCapacity 23 = .ok (.aload_n 0, 1) := dk_42 (dk_at dksJ19_newCapacity_0 23 rfl rfl)
theorem dJ19_newCapacity_24 : decode cJ19_newCapacity 24 = .ok (.getfield 22, 3) := dk_180 0 22 (dk_at dksJ19_newCapacity_1 0 rfl rfl)
theorem dJ19_newCapacity_27 : decode cJ19_newCapacity 27 = .ok (.ishl, 1) := dk_120 (dk_at dksJ19_newCapacity_1 3 rfl rfl)
theorem dJ19_newCapacity_28 : decode cJ19_newCapacity 28 = .ok (.iadd, 1) := dk_96 (dk_at dksJ19_newCapacity_1 4 rfl rfl)
theorem dJ19_newCapacity_29 : decode cJ19_newCapacity 29 = .ok (.invokestatic 114, 3) := dk_184 0 114 (dk_at dksJ19_newCapacity_1 5 rfl rfl)
theorem dJ19_newCapacity_32 : decode cJ19_newCapacity 32 = .ok (.istore 5, 2) := dk_54 5 (dk_at dksJ19_newCapacity_1 8 rfl rfl)
theorem dJ19_newCapacity_34 : decode cJ19_newCapacity 34 = .ok (.iload 5, 2) := dk_21 5 (dk_at dksJ19_newCapacity_1 10 rfl rfl)
theorem dJ19_newCapacity_36 : decode cJ19_newCapacity 36 = .ok (.ldc 39, 2) := dk_18 39 (dk_at dksJ19_newCapacity_1 12 rfl rfl)
theorem dJ19_newCapacity_38 : decode cJ19_newCapacity 38 = .ok (.if_icmp .ne 13, 3) := dk_160 0 13 (dk_at dksJ19_newCapacity_1 14 rfl rfl)
theorem dJ19_newCapacity_41 : decode cJ19_newCapacity 41 = .ok (.new 120, 3) := dk_187 0 120 (dk_at dksJ19_newCapacity_1 17 rfl rfl)
theorem dJ19_newCapacity_44 : decode cJ19_newCapacity 44 = .ok (.dup, 1) := dk_89 (dk_at dksJ19_newCapacity_1 20 rfl rfl)
theorem dJ19_newCapacity_45 : decode cJ19_newCapacity 45 = .ok (.ldc 122, 2) := dk_18 122 (dk_at dksJ19_newCapacity_1 21 rfl rfl)
theorem dJ19_newCapacity_47 : decode cJ19_newCapacity 47 = .ok (.invokespecial 124, 3) := dk_183 0 124 (dk_at dksJ19_newCapacity_2 0 rfl rfl)
theorem dJ19_newCapacity_50 : decode cJ19_newCapacity 50 = .ok (.athrow, 1) := dk_191 (dk_at dksJ19_newCapacity_2 3 rfl rfl)
theorem dJ19_newCapacity_51 : decode cJ19_newCapacity 51 = .ok (.iload 5, 2) := dk_21 5 (dk_at dksJ19_newCapacity_2 4 rfl rfl)
theorem dJ19_newCapacity_53 : decode cJ19_newCapacity 53 = .ok (.aload_n 0, 1) := dk_42 (dk_at dksJ19_newCapacity_2 6 rfl rfl)
theorem dJ19_newCapacity_54 : decode cJ19_newCapacity 54 = .ok (.getfield 22, 3) := dk_180 0 22 (dk_at dksJ19_newCapacity_2 7 rfl rfl)
theorem dJ19_newCapacity_57 : decode cJ19_newCapacity 57 = .ok (.ishr, 1) := dk_122 (dk_at dksJ19_newCapacity_2 10 rfl rfl)
theorem dJ19_newCapacity_58 : decode cJ19_newCapacity 58 = .ok (.ireturn, 1) := dk_172 (dk_at dksJ19_newCapacity_2 11 rfl rfl)
abbrev cJ19_isLatin1 : ByteArray := prog_16_method_68_code
def yJ19_isLatin1 : MethodName := ⟨RJ19, "isLatin1", "()Z"⟩
def dkwJ19_isLatin1_0 : List UInt8 := [178, 0, 18, 153, 0, 14, 42, 180, 0, 22, 154, 0, 7, 4, 167, 0, 4, 3, 172]
abbrev dktJ19_isLatin1_0 : List UInt8 := dkwJ19_isLatin1_0 ++ []
theorem dksJ19_isLatin1_0 : cJ19_isLatin1.data.toList.drop 0 = dktJ19_isLatin1_0 := by decide +kernel
theorem dJ19_isLatin1_0 : decode cJ19_isLatin1 0 = .ok (.getstatic 18, 3) := dk_178 0 18 (dk_at dksJ19_isLatin1_0 0 rfl rfl)
theorem dJ19_isLatin1_3 : decode cJ19_isLatin1 3 = .ok (.ifCond .eq 14, 3) := dk_153 0 14 (dk_at dksJ19_isLatin1_0 3 rfl rfl)
theorem dJ19_isLatin1_6 : decode cJ19_isLatin1 6 = .ok (.aload_n 0, 1) := dk_42 (dk_at dksJ19_isLatin1_0 6 rfl rfl)
theorem dJ19_isLatin1_7 : decode cJ19_isLatin1 7 = .ok (.getfield 22, 3) := dk_180 0 22 (dk_at dksJ19_isLatin1_0 7 rfl rfl)
theorem dJ19_isLatin1_10 : decode cJ19_isLatin1 10 = .ok (.ifCond .ne 7, 3) := dk_154 0 7 (dk_at dksJ19_isLatin1_0 10 rfl rfl)
theorem dJ19_isLatin1_13 : decode cJ19_isLatin1 13 = .ok (.iconst 1, 1) := dk_4 (dk_at dksJ19_isLatin1_0 13 rfl rfl)
theorem dJ19_isLatin1_14 : decode cJ19_isLatin1 14 = .ok (.goto 4, 3) := dk_167 0 4 (dk_at dksJ19_isLatin1_0 14 rfl rfl)
theorem dJ19_isLatin1_17 : decode cJ19_isLatin1 17 = .ok (.iconst 0, 1) := dk_3 (dk_at dksJ19_isLatin1_0 17 rfl rfl)
theorem dJ19_isLatin1_18 : decode cJ19_isLatin1 18 = .ok (.ireturn, 1) := dk_172 (dk_at dksJ19_isLatin1_0 18 rfl rfl)
abbrev cJ19_putStringAt : ByteArray := prog_16_method_73_code
def yJ19_putStringAt : MethodName := ⟨RJ19, "putStringAt", "(ILjava/lang/String;)V"⟩
def dkwJ19_putStringAt_0 : List UInt8 := [42, 44, 182, 1, 141, 44, 42, 180, 0, 15, 27, 42, 180, 0, 22, 182, 1, 143, 177]
abbrev dktJ19_putStringAt_0 : List UInt8 := dkwJ19_putStringAt_0 ++ []
theorem dksJ19_putStringAt_0 : cJ19_putStringAt.data.toList.drop 0 = dktJ19_putStringAt_0 := by decide +kernel
theorem dJ19_putStringAt_0 : decode cJ19_putStringAt 0 = .ok (.aload_n 0, 1) := dk_42 (dk_at dksJ19_putStringAt_0 0 rfl rfl)
theorem dJ19_putStringAt_1 : decode cJ19_putStringAt 1 = .ok (.aload_n 2, 1) := dk_44 (dk_at dksJ19_putStringAt_0 1 rfl rfl)
theorem dJ19_putStringAt_2 : decode cJ19_putStringAt 2 = .ok (.invokevirtual 397, 3) := dk_182 1 141 (dk_at dksJ19_putStringAt_0 2 rfl rfl)
theorem dJ19_putStringAt_5 : decode cJ19_putStringAt 5 = .ok (.aload_n 2, 1) := dk_44 (dk_at dksJ19_putStringAt_0 5 rfl rfl)
theorem dJ19_putStringAt_6 : decode cJ19_putStringAt 6 = .ok (.aload_n 0, 1) := dk_42 (dk_at dksJ19_putStringAt_0 6 rfl rfl)
theorem dJ19_putStringAt_7 : decode cJ19_putStringAt 7 = .ok (.getfield 15, 3) := dk_180 0 15 (dk_at dksJ19_putStringAt_0 7 rfl rfl)
theorem dJ19_putStringAt_10 : decode cJ19_putStringAt 10 = .ok (.iload_n 1, 1) := dk_27 (dk_at dksJ19_putStringAt_0 10 rfl rfl)
theorem dJ19_putStringAt_11 : decode cJ19_putStringAt 11 = .ok (.aload_n 0, 1) := dk_42 (dk_at dksJ19_putStringAt_0 11 rfl rfl)
theorem dJ19_putStringAt_12 : decode cJ19_putStringAt 12 = .ok (.getfield 22, 3) := dk_180 0 22 (dk_at dksJ19_putStringAt_0 12 rfl rfl)
theorem dJ19_putStringAt_15 : decode cJ19_putStringAt 15 = .ok (.invokevirtual 399, 3) := dk_182 1 143 (dk_at dksJ19_putStringAt_0 15 rfl rfl)
theorem dJ19_putStringAt_18 : decode cJ19_putStringAt 18 = .ok (.return_, 1) := dk_177 (dk_at dksJ19_putStringAt_0 18 rfl rfl)
abbrev cJ19_inflateIfNeededFor : ByteArray := prog_16_method_71_code
def yJ19_inflateIfNeededFor : MethodName := ⟨RJ19, "inflateIfNeededFor", "(Ljava/lang/String;)V"⟩
def dkwJ19_inflateIfNeededFor_0 : List UInt8 := [178, 0, 18, 153, 0, 18, 42, 180, 0, 22, 43, 182, 0, 40, 159, 0, 7, 42, 182, 0, 195, 177]
abbrev dktJ19_inflateIfNeededFor_0 : List UInt8 := dkwJ19_inflateIfNeededFor_0 ++ []
theorem dksJ19_inflateIfNeededFor_0 : cJ19_inflateIfNeededFor.data.toList.drop 0 = dktJ19_inflateIfNeededFor_0 := by decide +kernel
theorem dJ19_inflateIfNeededFor_0 : decode cJ19_inflateIfNeededFor 0 = .ok (.getstatic 18, 3) := dk_178 0 18 (dk_at dksJ19_inflateIfNeededFor_0 0 rfl rfl)
theorem dJ19_inflateIfNeededFor_3 : decode cJ19_inflateIfNeededFor 3 = .ok (.ifCond .eq 18, 3) := dk_153 0 18 (dk_at dksJ19_inflateIfNeededFor_0 3 rfl rfl)
theorem dJ19_inflateIfNeededFor_6 : decode cJ19_inflateIfNeededFor 6 = .ok (.aload_n 0, 1) := dk_42 (dk_at dksJ19_inflateIfNeededFor_0 6 rfl rfl)
theorem dJ19_inflateIfNeededFor_7 : decode cJ19_inflateIfNeededFor 7 = .ok (.getfield 22, 3) := dk_180 0 22 (dk_at dksJ19_inflateIfNeededFor_0 7 rfl rfl)
theorem dJ19_inflateIfNeededFor_10 : decode cJ19_inflateIfNeededFor 10 = .ok (.aload_n 1, 1) := dk_43 (dk_at dksJ19_inflateIfNeededFor_0 10 rfl rfl)
theorem dJ19_inflateIfNeededFor_11 : decode cJ19_inflateIfNeededFor 11 = .ok (.invokevirtual 40, 3) := dk_182 0 40 (dk_at dksJ19_inflateIfNeededFor_0 11 rfl rfl)
theorem dJ19_inflateIfNeededFor_14 : decode cJ19_inflateIfNeededFor 14 = .ok (.if_icmp .eq 7, 3) := dk_159 0 7 (dk_at dksJ19_inflateIfNeededFor_0 14 rfl rfl)
theorem dJ19_inflateIfNeededFor_17 : decode cJ19_inflateIfNeededFor 17 = .ok (.aload_n 0, 1) := dk_42 (dk_at dksJ19_inflateIfNeededFor_0 17 rfl rfl)
theorem dJ19_inflateIfNeededFor_18 : decode cJ19_inflateIfNeededFor 18 = .ok (.invokevirtual 195, 3) := dk_182 0 195 (dk_at dksJ19_inflateIfNeededFor_0 18 rfl rfl)
theorem dJ19_inflateIfNeededFor_21 : decode cJ19_inflateIfNeededFor 21 = .ok (.return_, 1) := dk_177 (dk_at dksJ19_inflateIfNeededFor_0 21 rfl rfl)
abbrev cJ19_inflate : ByteArray := prog_16_method_11_code
def yJ19_inflate : MethodName := ⟨RJ19, "inflate", "()V"⟩
def dkwJ19_inflate_1 : List UInt8 := [42, 180, 0, 79, 184, 0, 125, 42, 43, 181, 0, 15, 42, 4, 181, 0, 22, 177]
abbrev dktJ19_inflate_1 : List UInt8 := dkwJ19_inflate_1 ++ []
def dkwJ19_inflate_0 : List UInt8 := [42, 182, 0, 83, 154, 0, 4, 177, 42, 180, 0, 15, 190, 184, 0, 26, 76, 42, 180, 0, 15, 3, 43, 3]
abbrev dktJ19_inflate_0 : List UInt8 := dkwJ19_inflate_0 ++ dktJ19_inflate_1
theorem dksJ19_inflate_0 : cJ19_inflate.data.toList.drop 0 = dktJ19_inflate_0 := by decide +kernel
theorem dksJ19_inflate_1 : cJ19_inflate.data.toList.drop 24 = dktJ19_inflate_1 := dk_seg dksJ19_inflate_0 24 rfl rfl
theorem dJ19_inflate_0 : decode cJ19_inflate 0 = .ok (.aload_n 0, 1) := dk_42 (dk_at dksJ19_inflate_0 0 rfl rfl)
theorem dJ19_inflate_1 : decode cJ19_inflate 1 = .ok (.invokevirtual 83, 3) := dk_182 0 83 (dk_at dksJ19_inflate_0 1 rfl rfl)
theorem dJ19_inflate_4 : decode cJ19_inflate 4 = .ok (.ifCond .ne 4, 3) := dk_154 0 4 (dk_at dksJ19_inflate_0 4 rfl rfl)
theorem dJ19_inflate_7 : decode cJ19_inflate 7 = .ok (.return_, 1) := dk_177 (dk_at dksJ19_inflate_0 7 rfl rfl)
theorem dJ19_inflate_8 : decode cJ19_inflate 8 = .ok (.aload_n 0, 1) := dk_42 (dk_at dksJ19_inflate_0 8 rfl rfl)
theorem dJ19_inflate_9 : decode cJ19_inflate 9 = .ok (.getfield 15, 3) := dk_180 0 15 (dk_at dksJ19_inflate_0 9 rfl rfl)
theorem dJ19_inflate_12 : decode cJ19_inflate 12 = .ok (.arraylength, 1) := dk_190 (dk_at dksJ19_inflate_0 12 rfl rfl)
theorem dJ19_inflate_13 : decode cJ19_inflate 13 = .ok (.invokestatic 26, 3) := dk_184 0 26 (dk_at dksJ19_inflate_0 13 rfl rfl)
theorem dJ19_inflate_16 : decode cJ19_inflate 16 = .ok (.astore_n 1, 1) := dk_76 (dk_at dksJ19_inflate_0 16 rfl rfl)
theorem dJ19_inflate_17 : decode cJ19_inflate 17 = .ok (.aload_n 0, 1) := dk_42 (dk_at dksJ19_inflate_0 17 rfl rfl)
theorem dJ19_inflate_18 : decode cJ19_inflate 18 = .ok (.getfield 15, 3) := dk_180 0 15 (dk_at dksJ19_inflate_0 18 rfl rfl)
theorem dJ19_inflate_21 : decode cJ19_inflate 21 = .ok (.iconst 0, 1) := dk_3 (dk_at dksJ19_inflate_0 21 rfl rfl)
theorem dJ19_inflate_22 : decode cJ19_inflate 22 = .ok (.aload_n 1, 1) := dk_43 (dk_at dksJ19_inflate_0 22 rfl rfl)
theorem dJ19_inflate_23 : decode cJ19_inflate 23 = .ok (.iconst 0, 1) := dk_3 (dk_at dksJ19_inflate_0 23 rfl rfl)
theorem dJ19_inflate_24 : decode cJ19_inflate 24 = .ok (.aload_n 0, 1) := dk_42 (dk_at dksJ19_inflate_1 0 rfl rfl)
theorem dJ19_inflate_25 : decode cJ19_inflate 25 = .ok (.getfield 79, 3) := dk_180 0 79 (dk_at dksJ19_inflate_1 1 rfl rfl)
theorem dJ19_inflate_28 : decode cJ19_inflate 28 = .ok (.invokestatic 125, 3) := dk_184 0 125 (dk_at dksJ19_inflate_1 4 rfl rfl)
theorem dJ19_inflate_31 : decode cJ19_inflate 31 = .ok (.aload_n 0, 1) := dk_42 (dk_at dksJ19_inflate_1 7 rfl rfl)
theorem dJ19_inflate_32 : decode cJ19_inflate 32 = .ok (.aload_n 1, 1) := dk_43 (dk_at dksJ19_inflate_1 8 rfl rfl)
theorem dJ19_inflate_33 : decode cJ19_inflate 33 = .ok (.putfield 15, 3) := dk_181 0 15 (dk_at dksJ19_inflate_1 9 rfl rfl)
theorem dJ19_inflate_36 : decode cJ19_inflate 36 = .ok (.aload_n 0, 1) := dk_42 (dk_at dksJ19_inflate_1 12 rfl rfl)
theorem dJ19_inflate_37 : decode cJ19_inflate 37 = .ok (.iconst 1, 1) := dk_4 (dk_at dksJ19_inflate_1 13 rfl rfl)
theorem dJ19_inflate_38 : decode cJ19_inflate 38 = .ok (.putfield 22, 3) := dk_181 0 22 (dk_at dksJ19_inflate_1 14 rfl rfl)
theorem dJ19_inflate_41 : decode cJ19_inflate 41 = .ok (.return_, 1) := dk_177 (dk_at dksJ19_inflate_1 17 rfl rfl)
abbrev cJ19_append_2 : ByteArray := prog_16_method_32_code
def yJ19_append_2 : MethodName := ⟨RJ19, "append", "(I)Ljava/lang/AbstractStringBuilder;"⟩
def dkwJ19_append_2_2 : List UInt8 := [42, 29, 181, 0, 79, 42, 176]
abbrev dktJ19_append_2_2 : List UInt8 := dkwJ19_append_2_2 ++ []
def dkwJ19_append_2_1 : List UInt8 := [27, 29, 42, 180, 0, 15, 184, 0, 248, 87, 167, 0, 14, 27, 28, 29, 42, 180, 0, 15, 184, 0, 251, 87]
abbrev dktJ19_append_2_1 : List UInt8 := dkwJ19_append_2_1 ++ dktJ19_append_2_2
def dkwJ19_append_2_0 : List UInt8 := [42, 180, 0, 79, 61, 28, 27, 184, 0, 245, 96, 62, 42, 29, 182, 0, 100, 42, 182, 0, 83, 153, 0, 16]
abbrev dktJ19_append_2_0 : List UInt8 := dkwJ19_append_2_0 ++ dktJ19_append_2_1
theorem dksJ19_append_2_0 : cJ19_append_2.data.toList.drop 0 = dktJ19_append_2_0 := by decide +kernel
theorem dksJ19_append_2_1 : cJ19_append_2.data.toList.drop 24 = dktJ19_append_2_1 := dk_seg dksJ19_append_2_0 24 rfl rfl
theorem dksJ19_append_2_2 : cJ19_append_2.data.toList.drop 48 = dktJ19_append_2_2 := dk_seg dksJ19_append_2_1 24 rfl rfl
theorem dJ19_append_2_0 : decode cJ19_append_2 0 = .ok (.aload_n 0, 1) := dk_42 (dk_at dksJ19_append_2_0 0 rfl rfl)
theorem dJ19_append_2_1 : decode cJ19_append_2 1 = .ok (.getfield 79, 3) := dk_180 0 79 (dk_at dksJ19_append_2_0 1 rfl rfl)
theorem dJ19_append_2_4 : decode cJ19_append_2 4 = .ok (.istore_n 2, 1) := dk_61 (dk_at dksJ19_append_2_0 4 rfl rfl)
theorem dJ19_append_2_5 : decode cJ19_append_2 5 = .ok (.iload_n 2, 1) := dk_28 (dk_at dksJ19_append_2_0 5 rfl rfl)
theorem dJ19_append_2_6 : decode cJ19_append_2 6 = .ok (.iload_n 1, 1) := dk_27 (dk_at dksJ19_append_2_0 6 rfl rfl)
theorem dJ19_append_2_7 : decode cJ19_append_2 7 = .ok (.invokestatic 245, 3) := dk_184 0 245 (dk_at dksJ19_append_2_0 7 rfl rfl)
theorem dJ19_append_2_10 : decode cJ19_append_2 10 = .ok (.iadd, 1) := dk_96 (dk_at dksJ19_append_2_0 10 rfl rfl)
theorem dJ19_append_2_11 : decode cJ19_append_2 11 = .ok (.istore_n 3, 1) := dk_62 (dk_at dksJ19_append_2_0 11 rfl rfl)
theorem dJ19_append_2_12 : decode cJ19_append_2 12 = .ok (.aload_n 0, 1) := dk_42 (dk_at dksJ19_append_2_0 12 rfl rfl)
theorem dJ19_append_2_13 : decode cJ19_append_2 13 = .ok (.iload_n 3, 1) := dk_29 (dk_at dksJ19_append_2_0 13 rfl rfl)
theorem dJ19_append_2_14 : decode cJ19_append_2 14 = .ok (.invokevirtual 100, 3) := dk_182 0 100 (dk_at dksJ19_append_2_0 14 rfl rfl)
theorem dJ19_append_2_17 : decode cJ19_append_2 17 = .ok (.aload_n 0, 1) := dk_42 (dk_at dksJ19_append_2_0 17 rfl rfl)
theorem dJ19_append_2_18 : decode cJ19_append_2 18 = .ok (.invokevirtual 83, 3) := dk_182 0 83 (dk_at dksJ19_append_2_0 18 rfl rfl)
theorem dJ19_append_2_21 : decode cJ19_append_2 21 = .ok (.ifCond .eq 16, 3) := dk_153 0 16 (dk_at dksJ19_append_2_0 21 rfl rfl)
theorem dJ19_append_2_24 : decode cJ19_append_2 24 = .ok (.iload_n 1, 1) := dk_27 (dk_at dksJ19_append_2_1 0 rfl rfl)
theorem dJ19_append_2_25 : decode cJ19_append_2 25 = .ok (.iload_n 3, 1) := dk_29 (dk_at dksJ19_append_2_1 1 rfl rfl)
theorem dJ19_append_2_26 : decode cJ19_append_2 26 = .ok (.aload_n 0, 1) := dk_42 (dk_at dksJ19_append_2_1 2 rfl rfl)
theorem dJ19_append_2_27 : decode cJ19_append_2 27 = .ok (.getfield 15, 3) := dk_180 0 15 (dk_at dksJ19_append_2_1 3 rfl rfl)
theorem dJ19_append_2_30 : decode cJ19_append_2 30 = .ok (.invokestatic 248, 3) := dk_184 0 248 (dk_at dksJ19_append_2_1 6 rfl rfl)
theorem dJ19_append_2_33 : decode cJ19_append_2 33 = .ok (.pop, 1) := dk_87 (dk_at dksJ19_append_2_1 9 rfl rfl)
theorem dJ19_append_2_34 : decode cJ19_append_2 34 = .ok (.goto 14, 3) := dk_167 0 14 (dk_at dksJ19_append_2_1 10 rfl rfl)
theorem dJ19_append_2_37 : decode cJ19_append_2 37 = .ok (.iload_n 1, 1) := dk_27 (dk_at dksJ19_append_2_1 13 rfl rfl)
theorem dJ19_append_2_38 : decode cJ19_append_2 38 = .ok (.iload_n 2, 1) := dk_28 (dk_at dksJ19_append_2_1 14 rfl rfl)
theorem dJ19_append_2_39 : decode cJ19_append_2 39 = .ok (.iload_n 3, 1) := dk_29 (dk_at dksJ19_append_2_1 15 rfl rfl)
theorem dJ19_append_2_40 : decode cJ19_append_2 40 = .ok (.aload_n 0, 1) := dk_42 (dk_at dksJ19_append_2_1 16 rfl rfl)
theorem dJ19_append_2_41 : decode cJ19_append_2 41 = .ok (.getfield 15, 3) := dk_180 0 15 (dk_at dksJ19_append_2_1 17 rfl rfl)
theorem dJ19_append_2_44 : decode cJ19_append_2 44 = .ok (.invokestatic 251, 3) := dk_184 0 251 (dk_at dksJ19_append_2_1 20 rfl rfl)
theorem dJ19_append_2_47 : decode cJ19_append_2 47 = .ok (.pop, 1) := dk_87 (dk_at dksJ19_append_2_1 23 rfl rfl)
theorem dJ19_append_2_48 : decode cJ19_append_2 48 = .ok (.aload_n 0, 1) := dk_42 (dk_at dksJ19_append_2_2 0 rfl rfl)
theorem dJ19_append_2_49 : decode cJ19_append_2 49 = .ok (.iload_n 3, 1) := dk_29 (dk_at dksJ19_append_2_2 1 rfl rfl)
theorem dJ19_append_2_50 : decode cJ19_append_2 50 = .ok (.putfield 79, 3) := dk_181 0 79 (dk_at dksJ19_append_2_2 2 rfl rfl)
theorem dJ19_append_2_53 : decode cJ19_append_2 53 = .ok (.aload_n 0, 1) := dk_42 (dk_at dksJ19_append_2_2 5 rfl rfl)
theorem dJ19_append_2_54 : decode cJ19_append_2 54 = .ok (.areturn, 1) := dk_176 (dk_at dksJ19_append_2_2 6 rfl rfl)
abbrev cJ19_getValue : ByteArray := prog_16_method_64_code
def yJ19_getValue : MethodName := ⟨RJ19, "getValue", "()[B"⟩
theorem dJ19_getValue_0 : decode cJ19_getValue 0 = .ok (.aload_n 0, 1) := by decide +kernel
theorem dJ19_getValue_1 : decode cJ19_getValue 1 = .ok (.getfield 15, 3) := by decide +kernel
theorem dJ19_getValue_4 : decode cJ19_getValue 4 = .ok (.areturn, 1) := by decide +kernel
abbrev cJ19_length : ByteArray := prog_16_method_6_code
def yJ19_length : MethodName := ⟨RJ19, "length", "()I"⟩
theorem dJ19_length_0 : decode cJ19_length 0 = .ok (.aload_n 0, 1) := by decide +kernel
theorem dJ19_length_1 : decode cJ19_length 1 = .ok (.getfield 79, 3) := by decide +kernel
theorem dJ19_length_4 : decode cJ19_length 4 = .ok (.ireturn, 1) := by decide +kernel
abbrev cJ19_append_3 : ByteArray := prog_16_method_31_code
def yJ19_append_3 : MethodName := ⟨RJ19, "append", "(C)Ljava/lang/AbstractStringBuilder;"⟩
def dkwJ19_append_3_3 : List UInt8 := [181, 0, 79, 27, 184, 0, 197, 42, 176]
abbrev dktJ19_append_3_3 : List UInt8 := dkwJ19_append_3_3 ++ []
def dkwJ19_append_3_2 : List UInt8 := [182, 0, 83, 153, 0, 7, 42, 182, 0, 195, 42, 180, 0, 15, 42, 89, 180, 0, 79, 90, 4, 96]
abbrev dktJ19_append_3_2 : List UInt8 := dkwJ19_append_3_2 ++ dktJ19_append_3_3
def dkwJ19_append_3_1 : List UInt8 := [42, 180, 0, 15, 42, 89, 180, 0, 79, 90, 4, 96, 181, 0, 79, 27, 145, 84, 167, 0, 33, 42]
abbrev dktJ19_append_3_1 : List UInt8 := dkwJ19_append_3_1 ++ dktJ19_append_3_2
def dkwJ19_append_3_0 : List UInt8 := [42, 42, 180, 0, 79, 4, 96, 182, 0, 100, 42, 182, 0, 83, 153, 0, 31, 27, 184, 0, 191, 153, 0, 24]
abbrev dktJ19_append_3_0 : List UInt8 := dkwJ19_append_3_0 ++ dktJ19_append_3_1
theorem dksJ19_append_3_0 : cJ19_append_3.data.toList.drop 0 = dktJ19_append_3_0 := by decide +kernel
theorem dksJ19_append_3_1 : cJ19_append_3.data.toList.drop 24 = dktJ19_append_3_1 := dk_seg dksJ19_append_3_0 24 rfl rfl
theorem dksJ19_append_3_2 : cJ19_append_3.data.toList.drop 46 = dktJ19_append_3_2 := dk_seg dksJ19_append_3_1 22 rfl rfl
theorem dksJ19_append_3_3 : cJ19_append_3.data.toList.drop 68 = dktJ19_append_3_3 := dk_seg dksJ19_append_3_2 22 rfl rfl
theorem dJ19_append_3_0 : decode cJ19_append_3 0 = .ok (.aload_n 0, 1) := dk_42 (dk_at dksJ19_append_3_0 0 rfl rfl)
theorem dJ19_append_3_1 : decode cJ19_append_3 1 = .ok (.aload_n 0, 1) := dk_42 (dk_at dksJ19_append_3_0 1 rfl rfl)
theorem dJ19_append_3_2 : decode cJ19_append_3 2 = .ok (.getfield 79, 3) := dk_180 0 79 (dk_at dksJ19_append_3_0 2 rfl rfl)
theorem dJ19_append_3_5 : decode cJ19_append_3 5 = .ok (.iconst 1, 1) := dk_4 (dk_at dksJ19_append_3_0 5 rfl rfl)
theorem dJ19_append_3_6 : decode cJ19_append_3 6 = .ok (.iadd, 1) := dk_96 (dk_at dksJ19_append_3_0 6 rfl rfl)
theorem dJ19_append_3_7 : decode cJ19_append_3 7 = .ok (.invokevirtual 100, 3) := dk_182 0 100 (dk_at dksJ19_append_3_0 7 rfl rfl)
theorem dJ19_append_3_10 : decode cJ19_append_3 10 = .ok (.aload_n 0, 1) := dk_42 (dk_at dksJ19_append_3_0 10 rfl rfl)
theorem dJ19_append_3_11 : decode cJ19_append_3 11 = .ok (.invokevirtual 83, 3) := dk_182 0 83 (dk_at dksJ19_append_3_0 11 rfl rfl)
theorem dJ19_append_3_14 : decode cJ19_append_3 14 = .ok (.ifCond .eq 31, 3) := dk_153 0 31 (dk_at dksJ19_append_3_0 14 rfl rfl)
theorem dJ19_append_3_17 : decode cJ19_append_3 17 = .ok (.iload_n 1, 1) := dk_27 (dk_at dksJ19_append_3_0 17 rfl rfl)
theorem dJ19_append_3_18 : decode cJ19_append_3 18 = .ok (.invokestatic 191, 3) := dk_184 0 191 (dk_at dksJ19_append_3_0 18 rfl rfl)
theorem dJ19_append_3_21 : decode cJ19_append_3 21 = .ok (.ifCond .eq 24, 3) := dk_153 0 24 (dk_at dksJ19_append_3_0 21 rfl rfl)
theorem dJ19_append_3_24 : decode cJ19_append_3 24 = .ok (.aload_n 0, 1) := dk_42 (dk_at dksJ19_append_3_1 0 rfl rfl)
theorem dJ19_append_3_25 : decode cJ19_append_3 25 = .ok (.getfield 15, 3) := dk_180 0 15 (dk_at dksJ19_append_3_1 1 rfl rfl)
theorem dJ19_append_3_28 : decode cJ19_append_3 28 = .ok (.aload_n 0, 1) := dk_42 (dk_at dksJ19_append_3_1 4 rfl rfl)
theorem dJ19_append_3_29 : decode cJ19_append_3 29 = .ok (.dup, 1) := dk_89 (dk_at dksJ19_append_3_1 5 rfl rfl)
theorem dJ19_append_3_30 : decode cJ19_append_3 30 = .ok (.getfield 79, 3) := dk_180 0 79 (dk_at dksJ19_append_3_1 6 rfl rfl)
theorem dJ19_append_3_33 : decode cJ19_append_3 33 = .ok (.dup_x1, 1) := dk_90 (dk_at dksJ19_append_3_1 9 rfl rfl)
theorem dJ19_append_3_34 : decode cJ19_append_3 34 = .ok (.iconst 1, 1) := dk_4 (dk_at dksJ19_append_3_1 10 rfl rfl)
theorem dJ19_append_3_35 : decode cJ19_append_3 35 = .ok (.iadd, 1) := dk_96 (dk_at dksJ19_append_3_1 11 rfl rfl)
theorem dJ19_append_3_36 : decode cJ19_append_3 36 = .ok (.putfield 79, 3) := dk_181 0 79 (dk_at dksJ19_append_3_1 12 rfl rfl)
theorem dJ19_append_3_39 : decode cJ19_append_3 39 = .ok (.iload_n 1, 1) := dk_27 (dk_at dksJ19_append_3_1 15 rfl rfl)
theorem dJ19_append_3_40 : decode cJ19_append_3 40 = .ok (.i2b, 1) := dk_145 (dk_at dksJ19_append_3_1 16 rfl rfl)
theorem dJ19_append_3_41 : decode cJ19_append_3 41 = .ok (.bastore, 1) := dk_84 (dk_at dksJ19_append_3_1 17 rfl rfl)
theorem dJ19_append_3_42 : decode cJ19_append_3 42 = .ok (.goto 33, 3) := dk_167 0 33 (dk_at dksJ19_append_3_1 18 rfl rfl)
theorem dJ19_append_3_45 : decode cJ19_append_3 45 = .ok (.aload_n 0, 1) := dk_42 (dk_at dksJ19_append_3_1 21 rfl rfl)
theorem dJ19_append_3_46 : decode cJ19_append_3 46 = .ok (.invokevirtual 83, 3) := dk_182 0 83 (dk_at dksJ19_append_3_2 0 rfl rfl)
theorem dJ19_append_3_49 : decode cJ19_append_3 49 = .ok (.ifCond .eq 7, 3) := dk_153 0 7 (dk_at dksJ19_append_3_2 3 rfl rfl)
theorem dJ19_append_3_52 : decode cJ19_append_3 52 = .ok (.aload_n 0, 1) := dk_42 (dk_at dksJ19_append_3_2 6 rfl rfl)
theorem dJ19_append_3_53 : decode cJ19_append_3 53 = .ok (.invokevirtual 195, 3) := dk_182 0 195 (dk_at dksJ19_append_3_2 7 rfl rfl)
theorem dJ19_append_3_56 : decode cJ19_append_3 56 = .ok (.aload_n 0, 1) := dk_42 (dk_at dksJ19_append_3_2 10 rfl rfl)
theorem dJ19_append_3_57 : decode cJ19_append_3 57 = .ok (.getfield 15, 3) := dk_180 0 15 (dk_at dksJ19_append_3_2 11 rfl rfl)
theorem dJ19_append_3_60 : decode cJ19_append_3 60 = .ok (.aload_n 0, 1) := dk_42 (dk_at dksJ19_append_3_2 14 rfl rfl)
theorem dJ19_append_3_61 : decode cJ19_append_3 61 = .ok (.dup, 1) := dk_89 (dk_at dksJ19_append_3_2 15 rfl rfl)
theorem dJ19_append_3_62 : decode cJ19_append_3 62 = .ok (.getfield 79, 3) := dk_180 0 79 (dk_at dksJ19_append_3_2 16 rfl rfl)
theorem dJ19_append_3_65 : decode cJ19_append_3 65 = .ok (.dup_x1, 1) := dk_90 (dk_at dksJ19_append_3_2 19 rfl rfl)
theorem dJ19_append_3_66 : decode cJ19_append_3 66 = .ok (.iconst 1, 1) := dk_4 (dk_at dksJ19_append_3_2 20 rfl rfl)
theorem dJ19_append_3_67 : decode cJ19_append_3 67 = .ok (.iadd, 1) := dk_96 (dk_at dksJ19_append_3_2 21 rfl rfl)
theorem dJ19_append_3_68 : decode cJ19_append_3 68 = .ok (.putfield 79, 3) := dk_181 0 79 (dk_at dksJ19_append_3_3 0 rfl rfl)
theorem dJ19_append_3_71 : decode cJ19_append_3 71 = .ok (.iload_n 1, 1) := dk_27 (dk_at dksJ19_append_3_3 3 rfl rfl)
theorem dJ19_append_3_72 : decode cJ19_append_3 72 = .ok (.invokestatic 197, 3) := dk_184 0 197 (dk_at dksJ19_append_3_3 4 rfl rfl)
theorem dJ19_append_3_75 : decode cJ19_append_3 75 = .ok (.aload_n 0, 1) := dk_42 (dk_at dksJ19_append_3_3 7 rfl rfl)
theorem dJ19_append_3_76 : decode cJ19_append_3 76 = .ok (.areturn, 1) := dk_176 (dk_at dksJ19_append_3_3 8 rfl rfl)
theorem q78 : (Jvm.Cond.initialized "java/lang/AbstractStringBuilder") ∈ lw_all := lw_g (lw_at lw_m1 35 rfl) rfl
theorem q1112 : (Jvm.Cond.instanceMethod ({ cls := "java/lang/AbstractStringBuilder", name := "<init>", desc := "(I)V" } : Jvm.MethodName)) ∈ lw_all := lw_g (lw_at lw_m5 109 rfl) rfl
theorem q1113 : (Jvm.Cond.code ({ cls := "java/lang/AbstractStringBuilder", name := "<init>", desc := "(I)V" } : Jvm.MethodName) prog_16_method_2_code (2 : Nat) (Option.none : Option Jvm.ClassFile.FieldType)) ∈ lw_all := lw_g (lw_at lw_m5 110 rfl) rfl
theorem q1114 : (Jvm.Cond.methodLink "java/lang/AbstractStringBuilder" (3 : Nat) ({ cls := "java/lang/Object", name := "<init>", desc := "()V" } : Jvm.MethodName)) ∈ lw_all := lw_g (lw_at lw_m5 111 rfl) rfl
theorem q1115 : (Jvm.Cond.fieldLink "java/lang/AbstractStringBuilder" (18 : Nat) "java/lang/String" "COMPACT_STRINGS" "Z") ∈ lw_all := lw_g (lw_at lw_m5 112 rfl) rfl
theorem q1116 : (Jvm.Cond.methodLink "java/lang/AbstractStringBuilder" (26 : Nat) ({ cls := "java/lang/StringUTF16", name := "newBytesFor", desc := "(I)[B" } : Jvm.MethodName)) ∈ lw_all := lw_g (lw_at lw_m5 113 rfl) rfl
theorem q1123 : (Jvm.Cond.fieldLink "java/lang/AbstractStringBuilder" (15 : Nat) "java/lang/AbstractStringBuilder" "value" "[B") ∈ lw_all := lw_g (lw_at lw_m5 120 rfl) rfl
theorem q1124 : (Jvm.Cond.fieldLink "java/lang/AbstractStringBuilder" (22 : Nat) "java/lang/AbstractStringBuilder" "coder" "B") ∈ lw_all := lw_g (lw_at lw_m5 121 rfl) rfl
theorem q1126 : (Jvm.Cond.fieldLink "java/lang/AbstractStringBuilder" (79 : Nat) "java/lang/AbstractStringBuilder" "count" "I") ∈ lw_all := lw_g (lw_at lw_m5 123 rfl) rfl
theorem q1128 : (Jvm.Cond.soleField "java/lang/AbstractStringBuilder" "value") ∈ lw_all := lw_g (lw_at lw_m5 125 rfl) rfl
theorem q1130 : (Jvm.Cond.soleField "java/lang/AbstractStringBuilder" "coder") ∈ lw_all := lw_g (lw_at lw_m5 127 rfl) rfl
theorem q1132 : (Jvm.Cond.soleField "java/lang/AbstractStringBuilder" "maybeLatin1") ∈ lw_all := lw_g (lw_at lw_m5 129 rfl) rfl
theorem q1134 : (Jvm.Cond.soleField "java/lang/AbstractStringBuilder" "count") ∈ lw_all := lw_g (lw_at lw_m5 131 rfl) rfl
theorem q1149 : (Jvm.Cond.instanceMethod ({ cls := "java/lang/AbstractStringBuilder", name := "append", desc := "(Ljava/lang/String;)Ljava/lang/AbstractStringBuilder;" } : Jvm.MethodName)) ∈ lw_all := lw_g (lw_at lw_m5 146 rfl) rfl
theorem q1150 : (Jvm.Cond.code ({ cls := "java/lang/AbstractStringBuilder", name := "append", desc := "(Ljava/lang/String;)Ljava/lang/AbstractStringBuilder;" } : Jvm.MethodName) prog_16_method_22_code (3 : Nat) (Option.some (Jvm.ClassFile.FieldType.object "java/lang/AbstractStringBuilder"))) ∈ lw_all := lw_g (lw_at lw_m5 147 rfl) rfl
theorem q1151 : (Jvm.Cond.methodLink "java/lang/AbstractStringBuilder" (204 : Nat) ({ cls := "java/lang/AbstractStringBuilder", name := "appendNull", desc := "()Ljava/lang/AbstractStringBuilder;" } : Jvm.MethodName)) ∈ lw_all := lw_g (lw_at lw_m5 148 rfl) rfl
theorem q1152 : (Jvm.Cond.privateMethod ({ cls := "java/lang/AbstractStringBuilder", name := "appendNull", desc := "()Ljava/lang/AbstractStringBuilder;" } : Jvm.MethodName)) ∈ lw_tbl := lw_at lw_m5 149 rfl
theorem q1153 : (Jvm.Cond.instanceMethod ({ cls := "java/lang/AbstractStringBuilder", name := "appendNull", desc := "()Ljava/lang/AbstractStringBuilder;" } : Jvm.MethodName)) ∈ lw_all := lw_g (lw_at lw_m5 150 rfl) rfl
theorem q1154 : (Jvm.Cond.code ({ cls := "java/lang/AbstractStringBuilder", name := "appendNull", desc := "()Ljava/lang/AbstractStringBuilder;" } : Jvm.MethodName) prog_16_method_26_code (3 : Nat) (Option.some (Jvm.ClassFile.FieldType.object "java/lang/AbstractStringBuilder"))) ∈ lw_all := lw_g (lw_at lw_m5 151 rfl) rfl
theorem q1155 : (Jvm.Cond.methodLink "java/lang/AbstractStringBuilder" (100 : Nat) ({ cls := "java/lang/AbstractStringBuilder", name := "ensureCapacityInternal", desc := "(I)V" } : Jvm.MethodName)) ∈ lw_all := lw_g (lw_at lw_m5 152 rfl) rfl
theorem q1156 : (Jvm.Cond.privateMethod ({ cls := "java/lang/AbstractStringBuilder", name := "ensureCapacityInternal", desc := "(I)V" } : Jvm.MethodName)) ∈ lw_tbl := lw_at lw_m5 153 rfl
theorem q1157 : (Jvm.Cond.instanceMethod ({ cls := "java/lang/AbstractStringBuilder", name := "ensureCapacityInternal", desc := "(I)V" } : Jvm.MethodName)) ∈ lw_all := lw_g (lw_at lw_m5 154 rfl) rfl
theorem q1158 : (Jvm.Cond.code ({ cls := "java/lang/AbstractStringBuilder", name := "ensureCapacityInternal", desc := "(I)V" } : Jvm.MethodName) prog_16_method_9_code (3 : Nat) (Option.none : Option Jvm.ClassFile.FieldType)) ∈ lw_all := lw_g (lw_at lw_m5 155 rfl) rfl
theorem q1159 : (Jvm.Cond.methodLink "java/lang/AbstractStringBuilder" (104 : Nat) ({ cls := "java/lang/AbstractStringBuilder", name := "newCapacity", desc := "(I)I" } : Jvm.MethodName)) ∈ lw_all := lw_g (lw_at lw_m5 156 rfl) rfl
theorem q1160 : (Jvm.Cond.privateMethod ({ cls := "java/lang/AbstractStringBuilder", name := "newCapacity", desc := "(I)I" } : Jvm.MethodName)) ∈ lw_tbl := lw_at lw_m5 157 rfl
theorem q1161 : (Jvm.Cond.instanceMethod ({ cls := "java/lang/AbstractStringBuilder", name := "newCapacity", desc := "(I)I" } : Jvm.MethodName)) ∈ lw_all := lw_g (lw_at lw_m5 158 rfl) rfl
theorem q1162 : (Jvm.Cond.code ({ cls := "java/lang/AbstractStringBuilder", name := "newCapacity", desc := "(I)I" } : Jvm.MethodName) prog_16_method_10_code (6 : Nat) (Option.some Jvm.ClassFile.FieldType.int)) ∈ lw_all := lw_g (lw_at lw_m5 159 rfl) rfl
theorem q1163 : (Jvm.Cond.methodLink "java/lang/AbstractStringBuilder" (114 : Nat) ({ cls := "jdk/internal/util/ArraysSupport", name := "newLength", desc := "(III)I" } : Jvm.MethodName)) ∈ lw_all := lw_g (lw_at lw_m5 160 rfl) rfl
theorem q1164 : (Jvm.Cond.constant "java/lang/AbstractStringBuilder" (39 : Nat) (2147483647 : Int32)) ∈ lw_all := lw_g (lw_at lw_m5 161 rfl) rfl
theorem q1165 : (Jvm.Cond.methodLink "java/lang/AbstractStringBuilder" (108 : Nat) ({ cls := "java/util/Arrays", name := "copyOf", desc := "([BI)[B" } : Jvm.MethodName)) ∈ lw_all := lw_g (lw_at lw_m5 162 rfl) rfl
theorem q1175 : (Jvm.Cond.methodLink "java/lang/AbstractStringBuilder" (83 : Nat) ({ cls := "java/lang/AbstractStringBuilder", name := "isLatin1", desc := "()Z" } : Jvm.MethodName)) ∈ lw_all := lw_g (lw_at lw_m5 172 rfl) rfl
theorem q1176 : (Jvm.Cond.instanceMethod ({ cls := "java/lang/AbstractStringBuilder", name := "isLatin1", desc := "()Z" } : Jvm.MethodName)) ∈ lw_all := lw_g (lw_at lw_m5 173 rfl) rfl
theorem q1177 : (Jvm.Cond.sameMethod "java/lang/AbstractStringBuilder" "java/lang/AbstractStringBuilder" "isLatin1" "()Z") ∈ lw_all := lw_g (lw_at lw_m5 174 rfl) rfl
theorem q1179 : (Jvm.Cond.code ({ cls := "java/lang/AbstractStringBuilder", name := "isLatin1", desc := "()Z" } : Jvm.MethodName) prog_16_method_68_code (1 : Nat) (Option.some Jvm.ClassFile.FieldType.boolean)) ∈ lw_all := lw_g (lw_at lw_m5 176 rfl) rfl
theorem q1180 : (Jvm.Cond.methodLink "java/lang/AbstractStringBuilder" (226 : Nat) ({ cls := "java/lang/StringUTF16", name := "putCharsAt", desc := "([BICCCC)I" } : Jvm.MethodName)) ∈ lw_all := lw_g (lw_at lw_m5 177 rfl) rfl
theorem q1206 : (Jvm.Cond.methodLink "java/lang/AbstractStringBuilder" (32 : Nat) ({ cls := "java/lang/String", name := "length", desc := "()I" } : Jvm.MethodName)) ∈ lw_all := lw_g (lw_at lw_m5 203 rfl) rfl
theorem q1214 : (Jvm.Cond.methodLink "java/lang/AbstractStringBuilder" (208 : Nat) ({ cls := "java/lang/AbstractStringBuilder", name := "putStringAt", desc := "(ILjava/lang/String;)V" } : Jvm.MethodName)) ∈ lw_all := lw_g (lw_at lw_m5 211 rfl) rfl
theorem q1215 : (Jvm.Cond.privateMethod ({ cls := "java/lang/AbstractStringBuilder", name := "putStringAt", desc := "(ILjava/lang/String;)V" } : Jvm.MethodName)) ∈ lw_tbl := lw_at lw_m5 212 rfl
theorem q1216 : (Jvm.Cond.instanceMethod ({ cls := "java/lang/AbstractStringBuilder", name := "putStringAt", desc := "(ILjava/lang/String;)V" } : Jvm.MethodName)) ∈ lw_all := lw_g (lw_at lw_m5 213 rfl) rfl
theorem q1217 : (Jvm.Cond.code ({ cls := "java/lang/AbstractStringBuilder", name := "putStringAt", desc := "(ILjava/lang/String;)V" } : Jvm.MethodName) prog_16_method_73_code (3 : Nat) (Option.none : Option Jvm.ClassFile.FieldType)) ∈ lw_all := lw_g (lw_at lw_m5 214 rfl) rfl
theorem q1218 : (Jvm.Cond.methodLink "java/lang/AbstractStringBuilder" (397 : Nat) ({ cls := "java/lang/AbstractStringBuilder", name := "inflateIfNeededFor", desc := "(Ljava/lang/String;)V" } : Jvm.MethodName)) ∈ lw_all := lw_g (lw_at lw_m5 215 rfl) rfl
theorem q1219 : (Jvm.Cond.privateMethod ({ cls := "java/lang/AbstractStringBuilder", name := "inflateIfNeededFor", desc := "(Ljava/lang/String;)V" } : Jvm.MethodName)) ∈ lw_tbl := lw_at lw_m5 216 rfl
theorem q1220 : (Jvm.Cond.instanceMethod ({ cls := "java/lang/AbstractStringBuilder", name := "inflateIfNeededFor", desc := "(Ljava/lang/String;)V" } : Jvm.MethodName)) ∈ lw_all := lw_g (lw_at lw_m5 217 rfl) rfl
theorem q1221 : (Jvm.Cond.code ({ cls := "java/lang/AbstractStringBuilder", name := "inflateIfNeededFor", desc := "(Ljava/lang/String;)V" } : Jvm.MethodName) prog_16_method_71_code (2 : Nat) (Option.none : Option Jvm.ClassFile.FieldType)) ∈ lw_all := lw_g (lw_at lw_m5 218 rfl) rfl
theorem q1222 : (Jvm.Cond.methodLink "java/lang/AbstractStringBuilder" (40 : Nat) ({ cls := "java/lang/String", name := "coder", desc := "()B" } : Jvm.MethodName)) ∈ lw_all := lw_g (lw_at lw_m5 219 rfl) rfl
theorem q1223 : (Jvm.Cond.methodLink "java/lang/AbstractStringBuilder" (195 : Nat) ({ cls := "java/lang/AbstractStringBuilder", name := "inflate", desc := "()V" } : Jvm.MethodName)) ∈ lw_all := lw_g (lw_at lw_m5 220 rfl) rfl
theorem q1224 : (Jvm.Cond.privateMethod ({ cls := "java/lang/AbstractStringBuilder", name := "inflate", desc := "()V" } : Jvm.MethodName)) ∈ lw_tbl := lw_at lw_m5 221 rfl
theorem q1225 : (Jvm.Cond.instanceMethod ({ cls := "java/lang/AbstractStringBuilder", name := "inflate", desc := "()V" } : Jvm.MethodName)) ∈ lw_all := lw_g (lw_at lw_m5 222 rfl) rfl
theorem q1226 : (Jvm.Cond.code ({ cls := "java/lang/AbstractStringBuilder", name := "inflate", desc := "()V" } : Jvm.MethodName) prog_16_method_11_code (2 : Nat) (Option.none : Option Jvm.ClassFile.FieldType)) ∈ lw_all := lw_g (lw_at lw_m5 223 rfl) rfl
theorem q1227 : (Jvm.Cond.methodLink "java/lang/AbstractStringBuilder" (125 : Nat) ({ cls := "java/lang/StringLatin1", name := "inflate", desc := "([BI[BII)V" } : Jvm.MethodName)) ∈ lw_all := lw_g (lw_at lw_m5 224 rfl) rfl
theorem q1242 : (Jvm.Cond.methodLink "java/lang/AbstractStringBuilder" (399 : Nat) ({ cls := "java/lang/String", name := "getBytes", desc := "([BIB)V" } : Jvm.MethodName)) ∈ lw_all := lw_g (lw_at lw_m5 239 rfl) rfl
theorem q1253 : (Jvm.Cond.instanceMethod ({ cls := "java/lang/AbstractStringBuilder", name := "append", desc := "(I)Ljava/lang/AbstractStringBuilder;" } : Jvm.MethodName)) ∈ lw_all := lw_g (lw_at lw_m6 10 rfl) rfl
theorem q1254 : (Jvm.Cond.code ({ cls := "java/lang/AbstractStringBuilder", name := "append", desc := "(I)Ljava/lang/AbstractStringBuilder;" } : Jvm.MethodName) prog_16_method_32_code (4 : Nat) (Option.some (Jvm.ClassFile.FieldType.object "java/lang/AbstractStringBuilder"))) ∈ lw_all := lw_g (lw_at lw_m6 11 rfl) rfl
theorem q1255 : (Jvm.Cond.methodLink "java/lang/AbstractStringBuilder" (245 : Nat) ({ cls := "java/lang/Integer", name := "stringSize", desc := "(I)I" } : Jvm.MethodName)) ∈ lw_all := lw_g (lw_at lw_m6 12 rfl) rfl
theorem q1258 : (Jvm.Cond.methodLink "java/lang/AbstractStringBuilder" (248 : Nat) ({ cls := "java/lang/Integer", name := "getChars", desc := "(II[B)I" } : Jvm.MethodName)) ∈ lw_all := lw_g (lw_at lw_m6 15 rfl) rfl
theorem q1265 : (Jvm.Cond.methodLink "java/lang/AbstractStringBuilder" (251 : Nat) ({ cls := "java/lang/StringUTF16", name := "getChars", desc := "(III[B)I" } : Jvm.MethodName)) ∈ lw_all := lw_g (lw_at lw_m6 22 rfl) rfl
theorem q1286 : (Jvm.Cond.instanceMethod ({ cls := "java/lang/AbstractStringBuilder", name := "getValue", desc := "()[B" } : Jvm.MethodName)) ∈ lw_all := lw_g (lw_at lw_m6 43 rfl) rfl
theorem q1287 : (Jvm.Cond.sameMethod "java/lang/AbstractStringBuilder" "java/lang/AbstractStringBuilder" "getValue" "()[B") ∈ lw_all := lw_g (lw_at lw_m6 44 rfl) rfl
theorem q1289 : (Jvm.Cond.code ({ cls := "java/lang/AbstractStringBuilder", name := "getValue", desc := "()[B" } : Jvm.MethodName) prog_16_method_64_code (1 : Nat) (Option.some (Jvm.ClassFile.FieldType.array Jvm.ClassFile.FieldType.byte))) ∈ lw_all := lw_g (lw_at lw_m6 46 rfl) rfl
theorem q1291 : (Jvm.Cond.instanceMethod ({ cls := "java/lang/AbstractStringBuilder", name := "length", desc := "()I" } : Jvm.MethodName)) ∈ lw_all := lw_g (lw_at lw_m6 48 rfl) rfl
theorem q1292 : (Jvm.Cond.sameMethod "java/lang/AbstractStringBuilder" "java/lang/AbstractStringBuilder" "length" "()I") ∈ lw_all := lw_g (lw_at lw_m6 49 rfl) rfl
theorem q1297 : (Jvm.Cond.code ({ cls := "java/lang/AbstractStringBuilder", name := "length", desc := "()I" } : Jvm.MethodName) prog_16_method_6_code (1 : Nat) (Option.some Jvm.ClassFile.FieldType.int)) ∈ lw_all := lw_g (lw_at lw_m6 54 rfl) rfl
theorem q1345 : (Jvm.Cond.instanceMethod ({ cls := "java/lang/AbstractStringBuilder", name := "append", desc := "(C)Ljava/lang/AbstractStringBuilder;" } : Jvm.MethodName)) ∈ lw_all := lw_g (lw_at lw_m6 102 rfl) rfl
theorem q1346 : (Jvm.Cond.code ({ cls := "java/lang/AbstractStringBuilder", name := "append", desc := "(C)Ljava/lang/AbstractStringBuilder;" } : Jvm.MethodName) prog_16_method_31_code (2 : Nat) (Option.some (Jvm.ClassFile.FieldType.object "java/lang/AbstractStringBuilder"))) ∈ lw_all := lw_g (lw_at lw_m6 103 rfl) rfl
theorem q1347 : (Jvm.Cond.methodLink "java/lang/AbstractStringBuilder" (191 : Nat) ({ cls := "java/lang/StringLatin1", name := "canEncode", desc := "(C)Z" } : Jvm.MethodName)) ∈ lw_all := lw_g (lw_at lw_m6 104 rfl) rfl
theorem q1350 : (Jvm.Cond.methodLink "java/lang/AbstractStringBuilder" (197 : Nat) ({ cls := "java/lang/StringUTF16", name := "putCharSB", desc := "([BII)V" } : Jvm.MethodName)) ∈ lw_all := lw_g (lw_at lw_m6 107 rfl) rfl
theorem q1782 : (Jvm.Cond.sameMethod "java/lang/AbstractStringBuilder" "java/lang/AbstractStringBuilder" "append" "(Ljava/lang/String;)Ljava/lang/AbstractStringBuilder;") ∈ lw_all := lw_g (lw_at lw_m8 59 rfl) rfl
theorem q1783 : (Jvm.Cond.sameMethod "java/lang/AbstractStringBuilder" "java/lang/AbstractStringBuilder" "appendNull" "()Ljava/lang/AbstractStringBuilder;") ∈ lw_all := lw_g (lw_at lw_m8 60 rfl) rfl
theorem q1784 : (Jvm.Cond.sameMethod "java/lang/AbstractStringBuilder" "java/lang/AbstractStringBuilder" "ensureCapacityInternal" "(I)V") ∈ lw_all := lw_g (lw_at lw_m8 61 rfl) rfl
theorem q1785 : (Jvm.Cond.sameMethod "java/lang/AbstractStringBuilder" "java/lang/AbstractStringBuilder" "newCapacity" "(I)I") ∈ lw_all := lw_g (lw_at lw_m8 62 rfl) rfl
theorem q1786 : (Jvm.Cond.sameMethod "java/lang/AbstractStringBuilder" "java/lang/AbstractStringBuilder" "putStringAt" "(ILjava/lang/String;)V") ∈ lw_all := lw_g (lw_at lw_m8 63 rfl) rfl
theorem q1787 : (Jvm.Cond.sameMethod "java/lang/AbstractStringBuilder" "java/lang/AbstractStringBuilder" "inflateIfNeededFor" "(Ljava/lang/String;)V") ∈ lw_all := lw_g (lw_at lw_m8 64 rfl) rfl
theorem q1788 : (Jvm.Cond.sameMethod "java/lang/AbstractStringBuilder" "java/lang/AbstractStringBuilder" "inflate" "()V") ∈ lw_all := lw_g (lw_at lw_m8 65 rfl) rfl
theorem q1789 : (Jvm.Cond.sameMethod "java/lang/AbstractStringBuilder" "java/lang/AbstractStringBuilder" "append" "(I)Ljava/lang/AbstractStringBuilder;") ∈ lw_all := lw_g (lw_at lw_m8 66 rfl) rfl
theorem q1790 : (Jvm.Cond.sameMethod "java/lang/AbstractStringBuilder" "java/lang/AbstractStringBuilder" "append" "(C)Ljava/lang/AbstractStringBuilder;") ∈ lw_all := lw_g (lw_at lw_m8 67 rfl) rfl

/-! java/lang/StringBuilder -/
set_option maxRecDepth 100000
def RJ20 : String := "java/lang/StringBuilder"
def TJ20 : u_T := fun k => match k with
  | 0 => ("java/lang/AbstractStringBuilder", "value", "[B", false)
  | 1 => ("java/lang/AbstractStringBuilder", "coder", "B", false)
  | 2 => ("java/lang/AbstractStringBuilder", "maybeLatin1", "Z", false)
  | _ => ("java/lang/AbstractStringBuilder", "count", "I", false)
def tyJ20 : Nat → FieldType := fun k => match k with
  | 0 => .array .byte
  | 1 => .byte
  | 2 => .boolean
  | _ => .int
abbrev wsJ200 : List Cond := u_ws RJ20 TJ20 4
theorem nmJ20 : ∀ a, a < 4 → ∀ b, b < 4 → a ≠ b → (TJ20 a).2.1 ≠ (TJ20 b).2.1 := by decide +kernel
theorem tyJ20_ok : ∀ k, k < 4 → parseFieldDescriptor (TJ20 k).2.2.1 = some (tyJ20 k) := by decide +kernel
abbrev cJ20_init : ByteArray := prog_33_method_1_code
def yJ20_init : MethodName := ⟨RJ20, "<init>", "()V"⟩
def dkwJ20_init_0 : List UInt8 := [42, 16, 16, 183, 0, 1, 177]
abbrev dktJ20_init_0 : List UInt8 := dkwJ20_init_0 ++ []
theorem dksJ20_init_0 : cJ20_init.data.toList.drop 0 = dktJ20_init_0 := by decide +kernel
theorem dJ20_init_0 : decode cJ20_init 0 = .ok (.aload_n 0, 1) := dk_42 (dk_at dksJ20_init_0 0 rfl rfl)
theorem dJ20_init_1 : decode cJ20_init 1 = .ok (.bipush 16, 2) := dk_16 16 (dk_at dksJ20_init_0 1 rfl rfl)
theorem dJ20_init_3 : decode cJ20_init 3 = .ok (.invokespecial 1, 3) := dk_183 0 1 (dk_at dksJ20_init_0 3 rfl rfl)
theorem dJ20_init_6 : decode cJ20_init 6 = .ok (.return_, 1) := dk_177 (dk_at dksJ20_init_0 6 rfl rfl)
abbrev cJ20_append : ByteArray := prog_33_method_7_code
def yJ20_append : MethodName := ⟨RJ20, "append", "(Ljava/lang/String;)Ljava/lang/StringBuilder;"⟩
def dkwJ20_append_0 : List UInt8 := [42, 43, 183, 0, 29, 87, 42, 176]
abbrev dktJ20_append_0 : List UInt8 := dkwJ20_append_0 ++ []
theorem dksJ20_append_0 : cJ20_append.data.toList.drop 0 = dktJ20_append_0 := by decide +kernel
theorem dJ20_append_0 : decode cJ20_append 0 = .ok (.aload_n 0, 1) := dk_42 (dk_at dksJ20_append_0 0 rfl rfl)
theorem dJ20_append_1 : decode cJ20_append 1 = .ok (.aload_n 1, 1) := dk_43 (dk_at dksJ20_append_0 1 rfl rfl)
theorem dJ20_append_2 : decode cJ20_append 2 = .ok (.invokespecial 29, 3) := dk_183 0 29 (dk_at dksJ20_append_0 2 rfl rfl)
theorem dJ20_append_5 : decode cJ20_append 5 = .ok (.pop, 1) := dk_87 (dk_at dksJ20_append_0 5 rfl rfl)
theorem dJ20_append_6 : decode cJ20_append 6 = .ok (.aload_n 0, 1) := dk_42 (dk_at dksJ20_append_0 6 rfl rfl)
theorem dJ20_append_7 : decode cJ20_append 7 = .ok (.areturn, 1) := dk_176 (dk_at dksJ20_append_0 7 rfl rfl)
abbrev cJ20_append_2 : ByteArray := prog_33_method_15_code
def yJ20_append_2 : MethodName := ⟨RJ20, "append", "(I)Ljava/lang/StringBuilder;"⟩
def dkwJ20_append_2_0 : List UInt8 := [42, 27, 183, 0, 53, 87, 42, 176]
abbrev dktJ20_append_2_0 : List UInt8 := dkwJ20_append_2_0 ++ []
theorem dksJ20_append_2_0 : cJ20_append_2.data.toList.drop 0 = dktJ20_append_2_0 := by decide +kernel
theorem dJ20_append_2_0 : decode cJ20_append_2 0 = .ok (.aload_n 0, 1) := dk_42 (dk_at dksJ20_append_2_0 0 rfl rfl)
theorem dJ20_append_2_1 : decode cJ20_append_2 1 = .ok (.iload_n 1, 1) := dk_27 (dk_at dksJ20_append_2_0 1 rfl rfl)
theorem dJ20_append_2_2 : decode cJ20_append_2 2 = .ok (.invokespecial 53, 3) := dk_183 0 53 (dk_at dksJ20_append_2_0 2 rfl rfl)
theorem dJ20_append_2_5 : decode cJ20_append_2 5 = .ok (.pop, 1) := dk_87 (dk_at dksJ20_append_2_0 5 rfl rfl)
theorem dJ20_append_2_6 : decode cJ20_append_2 6 = .ok (.aload_n 0, 1) := dk_42 (dk_at dksJ20_append_2_0 6 rfl rfl)
theorem dJ20_append_2_7 : decode cJ20_append_2 7 = .ok (.areturn, 1) := dk_176 (dk_at dksJ20_append_2_0 7 rfl rfl)
abbrev cJ20_toString : ByteArray := prog_33_method_42_code
def yJ20_toString : MethodName := ⟨RJ20, "toString", "()Ljava/lang/String;"⟩
def dkwJ20_toString_0 : List UInt8 := [187, 0, 18, 89, 42, 183, 0, 137, 176]
abbrev dktJ20_toString_0 : List UInt8 := dkwJ20_toString_0 ++ []
theorem dksJ20_toString_0 : cJ20_toString.data.toList.drop 0 = dktJ20_toString_0 := by decide +kernel
theorem dJ20_toString_0 : decode cJ20_toString 0 = .ok (.new 18, 3) := dk_187 0 18 (dk_at dksJ20_toString_0 0 rfl rfl)
theorem dJ20_toString_3 : decode cJ20_toString 3 = .ok (.dup, 1) := dk_89 (dk_at dksJ20_toString_0 3 rfl rfl)
theorem dJ20_toString_4 : decode cJ20_toString 4 = .ok (.aload_n 0, 1) := dk_42 (dk_at dksJ20_toString_0 4 rfl rfl)
theorem dJ20_toString_5 : decode cJ20_toString 5 = .ok (.invokespecial 137, 3) := dk_183 0 137 (dk_at dksJ20_toString_0 5 rfl rfl)
theorem dJ20_toString_8 : decode cJ20_toString 8 = .ok (.areturn, 1) := dk_176 (dk_at dksJ20_toString_0 8 rfl rfl)
abbrev cJ20_length : ByteArray := prog_33_method_93_code
def yJ20_length : MethodName := ⟨RJ20, "length", "()I"⟩
theorem dJ20_length_0 : decode cJ20_length 0 = .ok (.aload_n 0, 1) := by decide +kernel
theorem dJ20_length_1 : decode cJ20_length 1 = .ok (.invokespecial 343, 3) := by decide +kernel
theorem dJ20_length_4 : decode cJ20_length 4 = .ok (.ireturn, 1) := by decide +kernel
abbrev cJ20_append_3 : ByteArray := prog_33_method_14_code
def yJ20_append_3 : MethodName := ⟨RJ20, "append", "(C)Ljava/lang/StringBuilder;"⟩
def dkwJ20_append_3_0 : List UInt8 := [42, 27, 183, 0, 50, 87, 42, 176]
abbrev dktJ20_append_3_0 : List UInt8 := dkwJ20_append_3_0 ++ []
theorem dksJ20_append_3_0 : cJ20_append_3.data.toList.drop 0 = dktJ20_append_3_0 := by decide +kernel
theorem dJ20_append_3_0 : decode cJ20_append_3 0 = .ok (.aload_n 0, 1) := dk_42 (dk_at dksJ20_append_3_0 0 rfl rfl)
theorem dJ20_append_3_1 : decode cJ20_append_3 1 = .ok (.iload_n 1, 1) := dk_27 (dk_at dksJ20_append_3_0 1 rfl rfl)
theorem dJ20_append_3_2 : decode cJ20_append_3 2 = .ok (.invokespecial 50, 3) := dk_183 0 50 (dk_at dksJ20_append_3_0 2 rfl rfl)
theorem dJ20_append_3_5 : decode cJ20_append_3 5 = .ok (.pop, 1) := dk_87 (dk_at dksJ20_append_3_0 5 rfl rfl)
theorem dJ20_append_3_6 : decode cJ20_append_3 6 = .ok (.aload_n 0, 1) := dk_42 (dk_at dksJ20_append_3_0 6 rfl rfl)
theorem dJ20_append_3_7 : decode cJ20_append_3 7 = .ok (.areturn, 1) := dk_176 (dk_at dksJ20_append_3_0 7 rfl rfl)
theorem q79 : (Jvm.Cond.initialized "java/lang/StringBuilder") ∈ lw_all := lw_g (lw_at lw_m1 36 rfl) rfl
theorem q528 : (Jvm.Cond.selects "java/lang/StringBuilder" ({ cls := "java/lang/Object", name := "getClass", desc := "()Ljava/lang/Class;" } : Jvm.MethodName) ({ cls := "java/lang/Object", name := "getClass", desc := "()Ljava/lang/Class;" } : Jvm.MethodName)) ∈ lw_all := lw_g (lw_at lw_m3 5 rfl) rfl
theorem q965 : (Jvm.Cond.selects "java/lang/StringBuilder" ({ cls := "java/lang/Object", name := "equals", desc := "(Ljava/lang/Object;)Z" } : Jvm.MethodName) ({ cls := "java/lang/Object", name := "equals", desc := "(Ljava/lang/Object;)Z" } : Jvm.MethodName)) ∈ lw_all := lw_g (lw_at lw_m4 202 rfl) rfl
theorem q1107 : (Jvm.Cond.instantiable "java/lang/StringBuilder" (4 : Nat)) ∈ lw_all := lw_g (lw_at lw_m5 104 rfl) rfl
theorem q1109 : (Jvm.Cond.instanceMethod ({ cls := "java/lang/StringBuilder", name := "<init>", desc := "()V" } : Jvm.MethodName)) ∈ lw_all := lw_g (lw_at lw_m5 106 rfl) rfl
theorem q1110 : (Jvm.Cond.code ({ cls := "java/lang/StringBuilder", name := "<init>", desc := "()V" } : Jvm.MethodName) prog_33_method_1_code (1 : Nat) (Option.none : Option Jvm.ClassFile.FieldType)) ∈ lw_all := lw_g (lw_at lw_m5 107 rfl) rfl
theorem q1111 : (Jvm.Cond.methodLink "java/lang/StringBuilder" (1 : Nat) ({ cls := "java/lang/AbstractStringBuilder", name := "<init>", desc := "(I)V" } : Jvm.MethodName)) ∈ lw_all := lw_g (lw_at lw_m5 108 rfl) rfl
theorem q1127 : (Jvm.Cond.lays "java/lang/StringBuilder" "java/lang/AbstractStringBuilder" "value" "[B") ∈ lw_all := lw_g (lw_at lw_m5 124 rfl) rfl
theorem q1129 : (Jvm.Cond.lays "java/lang/StringBuilder" "java/lang/AbstractStringBuilder" "coder" "B") ∈ lw_all := lw_g (lw_at lw_m5 126 rfl) rfl
theorem q1131 : (Jvm.Cond.lays "java/lang/StringBuilder" "java/lang/AbstractStringBuilder" "maybeLatin1" "Z") ∈ lw_all := lw_g (lw_at lw_m5 128 rfl) rfl
theorem q1133 : (Jvm.Cond.lays "java/lang/StringBuilder" "java/lang/AbstractStringBuilder" "count" "I") ∈ lw_all := lw_g (lw_at lw_m5 130 rfl) rfl
theorem q1135 : (Jvm.Cond.superclass "java/lang/StringBuilder" "java/lang/AbstractStringBuilder") ∈ lw_all := lw_g (lw_at lw_m5 132 rfl) rfl
theorem q1145 : (Jvm.Cond.instanceMethod ({ cls := "java/lang/StringBuilder", name := "append", desc := "(Ljava/lang/String;)Ljava/lang/StringBuilder;" } : Jvm.MethodName)) ∈ lw_all := lw_g (lw_at lw_m5 142 rfl) rfl
theorem q1146 : (Jvm.Cond.selects "java/lang/StringBuilder" ({ cls := "java/lang/StringBuilder", name := "append", desc := "(Ljava/lang/String;)Ljava/lang/StringBuilder;" } : Jvm.MethodName) ({ cls := "java/lang/StringBuilder", name := "append", desc := "(Ljava/lang/String;)Ljava/lang/StringBuilder;" } : Jvm.MethodName)) ∈ lw_all := lw_g (lw_at lw_m5 143 rfl) rfl
theorem q1147 : (Jvm.Cond.code ({ cls := "java/lang/StringBuilder", name := "append", desc := "(Ljava/lang/String;)Ljava/lang/StringBuilder;" } : Jvm.MethodName) prog_33_method_7_code (2 : Nat) (Option.some (Jvm.ClassFile.FieldType.object "java/lang/StringBuilder"))) ∈ lw_all := lw_g (lw_at lw_m5 144 rfl) rfl
theorem q1148 : (Jvm.Cond.methodLink "java/lang/StringBuilder" (29 : Nat) ({ cls := "java/lang/AbstractStringBuilder", name := "append", desc := "(Ljava/lang/String;)Ljava/lang/AbstractStringBuilder;" } : Jvm.MethodName)) ∈ lw_all := lw_g (lw_at lw_m5 145 rfl) rfl
theorem q1178 : (Jvm.Cond.selects "java/lang/StringBuilder" ({ cls := "java/lang/AbstractStringBuilder", name := "isLatin1", desc := "()Z" } : Jvm.MethodName) ({ cls := "java/lang/AbstractStringBuilder", name := "isLatin1", desc := "()Z" } : Jvm.MethodName)) ∈ lw_all := lw_g (lw_at lw_m5 175 rfl) rfl
theorem q1249 : (Jvm.Cond.instanceMethod ({ cls := "java/lang/StringBuilder", name := "append", desc := "(I)Ljava/lang/StringBuilder;" } : Jvm.MethodName)) ∈ lw_all := lw_g (lw_at lw_m6 6 rfl) rfl
theorem q1250 : (Jvm.Cond.selects "java/lang/StringBuilder" ({ cls := "java/lang/StringBuilder", name := "append", desc := "(I)Ljava/lang/StringBuilder;" } : Jvm.MethodName) ({ cls := "java/lang/StringBuilder", name := "append", desc := "(I)Ljava/lang/StringBuilder;" } : Jvm.MethodName)) ∈ lw_all := lw_g (lw_at lw_m6 7 rfl) rfl
theorem q1251 : (Jvm.Cond.code ({ cls := "java/lang/StringBuilder", name := "append", desc := "(I)Ljava/lang/StringBuilder;" } : Jvm.MethodName) prog_33_method_15_code (2 : Nat) (Option.some (Jvm.ClassFile.FieldType.object "java/lang/StringBuilder"))) ∈ lw_all := lw_g (lw_at lw_m6 8 rfl) rfl
theorem q1252 : (Jvm.Cond.methodLink "java/lang/StringBuilder" (53 : Nat) ({ cls := "java/lang/AbstractStringBuilder", name := "append", desc := "(I)Ljava/lang/AbstractStringBuilder;" } : Jvm.MethodName)) ∈ lw_all := lw_g (lw_at lw_m6 9 rfl) rfl
theorem q1274 : (Jvm.Cond.instanceMethod ({ cls := "java/lang/StringBuilder", name := "toString", desc := "()Ljava/lang/String;" } : Jvm.MethodName)) ∈ lw_all := lw_g (lw_at lw_m6 31 rfl) rfl
theorem q1275 : (Jvm.Cond.selects "java/lang/StringBuilder" ({ cls := "java/lang/StringBuilder", name := "toString", desc := "()Ljava/lang/String;" } : Jvm.MethodName) ({ cls := "java/lang/StringBuilder", name := "toString", desc := "()Ljava/lang/String;" } : Jvm.MethodName)) ∈ lw_all := lw_g (lw_at lw_m6 32 rfl) rfl
theorem q1276 : (Jvm.Cond.code ({ cls := "java/lang/StringBuilder", name := "toString", desc := "()Ljava/lang/String;" } : Jvm.MethodName) prog_33_method_42_code (1 : Nat) (Option.some (Jvm.ClassFile.FieldType.object "java/lang/String"))) ∈ lw_all := lw_g (lw_at lw_m6 33 rfl) rfl
theorem q1277 : (Jvm.Cond.classLink "java/lang/StringBuilder" (18 : Nat) "java/lang/String") ∈ lw_all := lw_g (lw_at lw_m6 34 rfl) rfl
theorem q1278 : (Jvm.Cond.methodLink "java/lang/StringBuilder" (137 : Nat) ({ cls := "java/lang/String", name := "<init>", desc := "(Ljava/lang/StringBuilder;)V" } : Jvm.MethodName)) ∈ lw_all := lw_g (lw_at lw_m6 35 rfl) rfl
theorem q1288 : (Jvm.Cond.selects "java/lang/StringBuilder" ({ cls := "java/lang/AbstractStringBuilder", name := "getValue", desc := "()[B" } : Jvm.MethodName) ({ cls := "java/lang/AbstractStringBuilder", name := "getValue", desc := "()[B" } : Jvm.MethodName)) ∈ lw_all := lw_g (lw_at lw_m6 45 rfl) rfl
theorem q1293 : (Jvm.Cond.selects "java/lang/StringBuilder" ({ cls := "java/lang/AbstractStringBuilder", name := "length", desc := "()I" } : Jvm.MethodName) ({ cls := "java/lang/StringBuilder", name := "length", desc := "()I" } : Jvm.MethodName)) ∈ lw_all := lw_g (lw_at lw_m6 50 rfl) rfl
theorem q1294 : (Jvm.Cond.instanceMethod ({ cls := "java/lang/StringBuilder", name := "length", desc := "()I" } : Jvm.MethodName)) ∈ lw_all := lw_g (lw_at lw_m6 51 rfl) rfl
theorem q1295 : (Jvm.Cond.code ({ cls := "java/lang/StringBuilder", name := "length", desc := "()I" } : Jvm.MethodName) prog_33_method_93_code (1 : Nat) (Option.some Jvm.ClassFile.FieldType.int)) ∈ lw_all := lw_g (lw_at lw_m6 52 rfl) rfl
theorem q1296 : (Jvm.Cond.methodLink "java/lang/StringBuilder" (343 : Nat) ({ cls := "java/lang/AbstractStringBuilder", name := "length", desc := "()I" } : Jvm.MethodName)) ∈ lw_all := lw_g (lw_at lw_m6 53 rfl) rfl
theorem q1341 : (Jvm.Cond.instanceMethod ({ cls := "java/lang/StringBuilder", name := "append", desc := "(C)Ljava/lang/StringBuilder;" } : Jvm.MethodName)) ∈ lw_all := lw_g (lw_at lw_m6 98 rfl) rfl
theorem q1342 : (Jvm.Cond.selects "java/lang/StringBuilder" ({ cls := "java/lang/StringBuilder", name := "append", desc := "(C)Ljava/lang/StringBuilder;" } : Jvm.MethodName) ({ cls := "java/lang/StringBuilder", name := "append", desc := "(C)Ljava/lang/StringBuilder;" } : Jvm.MethodName)) ∈ lw_all := lw_g (lw_at lw_m6 99 rfl) rfl
theorem q1343 : (Jvm.Cond.code ({ cls := "java/lang/StringBuilder", name := "append", desc := "(C)Ljava/lang/StringBuilder;" } : Jvm.MethodName) prog_33_method_14_code (2 : Nat) (Option.some (Jvm.ClassFile.FieldType.object "java/lang/StringBuilder"))) ∈ lw_all := lw_g (lw_at lw_m6 100 rfl) rfl
theorem q1344 : (Jvm.Cond.methodLink "java/lang/StringBuilder" (50 : Nat) ({ cls := "java/lang/AbstractStringBuilder", name := "append", desc := "(C)Ljava/lang/AbstractStringBuilder;" } : Jvm.MethodName)) ∈ lw_all := lw_g (lw_at lw_m6 101 rfl) rfl
theorem q1811 : (Jvm.Cond.castable "java/lang/StringBuilder" "java/lang/Object") ∈ lw_tbl := lw_at lw_m8 88 rfl
theorem in_J20 : ∀ w ∈ wsJ200, w ∈ lw_all := lw_in wsJ200 [1127, 1129, 1131, 1133] (by decide +kernel) (by decide +kernel)

/-! java/lang/Object -/
set_option maxRecDepth 100000
def RJ22 : String := "java/lang/Object"
abbrev cJ22_init : ByteArray := object_method_1_code
def yJ22_init : MethodName := ⟨RJ22, "<init>", "()V"⟩
theorem dJ22_init_0 : decode cJ22_init 0 = .ok (.return_, 1) := by decide +kernel
abbrev cJ22_equals : ByteArray := object_method_4_code
def yJ22_equals : MethodName := ⟨RJ22, "equals", "(Ljava/lang/Object;)Z"⟩
def dkwJ22_equals_0 : List UInt8 := [42, 43, 166, 0, 7, 4, 167, 0, 4, 3, 172]
abbrev dktJ22_equals_0 : List UInt8 := dkwJ22_equals_0 ++ []
theorem dksJ22_equals_0 : cJ22_equals.data.toList.drop 0 = dktJ22_equals_0 := by decide +kernel
theorem dJ22_equals_0 : decode cJ22_equals 0 = .ok (.aload_n 0, 1) := dk_42 (dk_at dksJ22_equals_0 0 rfl rfl)
theorem dJ22_equals_1 : decode cJ22_equals 1 = .ok (.aload_n 1, 1) := dk_43 (dk_at dksJ22_equals_0 1 rfl rfl)
theorem dJ22_equals_2 : decode cJ22_equals 2 = .ok (.if_acmp .ne 7, 3) := dk_166 0 7 (dk_at dksJ22_equals_0 2 rfl rfl)
theorem dJ22_equals_5 : decode cJ22_equals 5 = .ok (.iconst 1, 1) := dk_4 (dk_at dksJ22_equals_0 5 rfl rfl)
theorem dJ22_equals_6 : decode cJ22_equals 6 = .ok (.goto 4, 3) := dk_167 0 4 (dk_at dksJ22_equals_0 6 rfl rfl)
theorem dJ22_equals_9 : decode cJ22_equals 9 = .ok (.iconst 0, 1) := dk_3 (dk_at dksJ22_equals_0 9 rfl rfl)
theorem dJ22_equals_10 : decode cJ22_equals 10 = .ok (.ireturn, 1) := dk_172 (dk_at dksJ22_equals_0 10 rfl rfl)
theorem q87 : (Jvm.Cond.instanceMethod ({ cls := "java/lang/Object", name := "<init>", desc := "()V" } : Jvm.MethodName)) ∈ lw_all := lw_g (lw_at lw_m1 44 rfl) rfl
theorem q88 : (Jvm.Cond.code ({ cls := "java/lang/Object", name := "<init>", desc := "()V" } : Jvm.MethodName) object_method_1_code (1 : Nat) (Option.none : Option Jvm.ClassFile.FieldType)) ∈ lw_all := lw_g (lw_at lw_m1 45 rfl) rfl
theorem q509 : (Jvm.Cond.instanceMethod ({ cls := "java/lang/Object", name := "getClass", desc := "()Ljava/lang/Class;" } : Jvm.MethodName)) ∈ lw_all := lw_g (lw_at lw_m2 226 rfl) rfl
theorem q510 : (Jvm.Cond.sameMethod "java/lang/Object" "java/lang/Object" "getClass" "()Ljava/lang/Class;") ∈ lw_all := lw_g (lw_at lw_m2 227 rfl) rfl
theorem q530 : (Jvm.Cond.native ({ cls := "java/lang/Object", name := "getClass", desc := "()Ljava/lang/Class;" } : Jvm.MethodName)) ∈ lw_all := lw_g (lw_at lw_m3 7 rfl) rfl
theorem q933 : (Jvm.Cond.declares ({ cls := "java/lang/Object", name := "equals", desc := "(Ljava/lang/Object;)Z" } : Jvm.MethodName)) ∈ lw_tbl := lw_at lw_m4 170 rfl
theorem q935 : (Jvm.Cond.instanceMethod ({ cls := "java/lang/Object", name := "equals", desc := "(Ljava/lang/Object;)Z" } : Jvm.MethodName)) ∈ lw_all := lw_g (lw_at lw_m4 172 rfl) rfl
theorem q936 : (Jvm.Cond.sameMethod "java/lang/Object" "java/lang/Object" "equals" "(Ljava/lang/Object;)Z") ∈ lw_all := lw_g (lw_at lw_m4 173 rfl) rfl
theorem q966 : (Jvm.Cond.code ({ cls := "java/lang/Object", name := "equals", desc := "(Ljava/lang/Object;)Z" } : Jvm.MethodName) object_method_4_code (2 : Nat) (Option.some Jvm.ClassFile.FieldType.boolean)) ∈ lw_all := lw_g (lw_at lw_m4 203 rfl) rfl
theorem q1170 : (Jvm.Cond.native ({ cls := "java/lang/Object", name := "clone", desc := "()Ljava/lang/Object;" } : Jvm.MethodName)) ∈ lw_all := lw_g (lw_at lw_m5 167 rfl) rfl
theorem q1171 : (Jvm.Cond.instanceMethod ({ cls := "java/lang/Object", name := "clone", desc := "()Ljava/lang/Object;" } : Jvm.MethodName)) ∈ lw_all := lw_g (lw_at lw_m5 168 rfl) rfl
theorem q1791 : (Jvm.Cond.initialized "java/lang/Object") ∈ lw_all := lw_g (lw_at lw_m8 68 rfl) rfl
theorem q1816 : (Jvm.Cond.declares ({ cls := "java/lang/Object", name := "getClass", desc := "()Ljava/lang/Class;" } : Jvm.MethodName)) ∈ lw_tbl := lw_at lw_m8 93 rfl

theorem q1169 : (Jvm.Cond.sameMethod "[B" "java/lang/Object" "clone" "()Ljava/lang/Object;") ∈ lw_all := lw_g (lw_at lw_m5 166 rfl) rfl
set_option maxRecDepth 100000
theorem q1172 : (Jvm.Cond.selects "[B" ({ cls := "[B", name := "clone", desc := "()Ljava/lang/Object;" } : Jvm.MethodName) ({ cls := "java/lang/Object", name := "clone", desc := "()Ljava/lang/Object;" } : Jvm.MethodName)) ∈ lw_all := lw_g (lw_at lw_m5 169 rfl) rfl
theorem q1173 : (Jvm.Cond.castable "[B" "java/lang/Cloneable") ∈ lw_tbl := lw_at lw_m5 170 rfl
theorem q1819 : (Jvm.Cond.castable "[B" "java/lang/Object") ∈ lw_tbl := lw_at lw_m8 96 rfl

theorem q1818 : (Jvm.Cond.castable "[I" "java/lang/Object") ∈ lw_tbl := lw_at lw_m8 95 rfl
set_option maxRecDepth 100000

theorem q1821 : (Jvm.Cond.castable "[J" "java/lang/Object") ∈ lw_tbl := lw_at lw_m8 98 rfl
set_option maxRecDepth 100000

theorem q1814 : (Jvm.Cond.sameMethod "[Ljava/lang/Object;" "java/lang/Object" "getClass" "()Ljava/lang/Class;") ∈ lw_all := lw_g (lw_at lw_m8 91 rfl) rfl
set_option maxRecDepth 100000
theorem q1815 : (Jvm.Cond.selects "[Ljava/lang/Object;" ({ cls := "java/lang/Object", name := "getClass", desc := "()Ljava/lang/Class;" } : Jvm.MethodName) ({ cls := "java/lang/Object", name := "getClass", desc := "()Ljava/lang/Class;" } : Jvm.MethodName)) ∈ lw_all := lw_g (lw_at lw_m8 92 rfl) rfl
theorem q1820 : (Jvm.Cond.castable "[Ljava/lang/Object;" "java/lang/Object") ∈ lw_tbl := lw_at lw_m8 97 rfl

theorem q1817 : (Jvm.Cond.castable "[Z" "java/lang/Object") ∈ lw_tbl := lw_at lw_m8 94 rfl
set_option maxRecDepth 100000

theorem q73 : (Jvm.Cond.initialized "java/lang/Integer$IntegerCache") ∈ lw_all := lw_g (lw_at lw_m1 30 rfl) rfl
set_option maxRecDepth 100000
theorem q825 : (Jvm.Cond.laysStatic "java/lang/Integer$IntegerCache" "high" "I") ∈ lw_tbl := lw_at lw_m4 62 rfl
theorem q827 : (Jvm.Cond.laysStatic "java/lang/Integer$IntegerCache" "cache" "[Ljava/lang/Integer;") ∈ lw_tbl := lw_at lw_m4 64 rfl

theorem q61 : (Jvm.Cond.initialized "java/lang/System") ∈ lw_all := lw_g (lw_at lw_m1 18 rfl) rfl
set_option maxRecDepth 100000
theorem q539 : (Jvm.Cond.static ({ cls := "java/lang/System", name := "arraycopy", desc := "(Ljava/lang/Object;ILjava/lang/Object;II)V" } : Jvm.MethodName)) ∈ lw_all := lw_g (lw_at lw_m3 16 rfl) rfl
theorem q540 : (Jvm.Cond.native ({ cls := "java/lang/System", name := "arraycopy", desc := "(Ljava/lang/Object;ILjava/lang/Object;II)V" } : Jvm.MethodName)) ∈ lw_all := lw_g (lw_at lw_m3 17 rfl) rfl

theorem q156 : (Jvm.Cond.interfaceMethod "java/util/List" "java/util/List" "size" "()I") ∈ lw_tbl := lw_at lw_m1 113 rfl
set_option maxRecDepth 100000
theorem q157 : (Jvm.Cond.declares ({ cls := "java/util/List", name := "size", desc := "()I" } : Jvm.MethodName)) ∈ lw_tbl := lw_at lw_m1 114 rfl
theorem q183 : (Jvm.Cond.interfaceMethod "java/util/List" "java/util/List" "get" "(I)Ljava/lang/Object;") ∈ lw_tbl := lw_at lw_m1 140 rfl
theorem q184 : (Jvm.Cond.declares ({ cls := "java/util/List", name := "get", desc := "(I)Ljava/lang/Object;" } : Jvm.MethodName)) ∈ lw_tbl := lw_at lw_m1 141 rfl
theorem q478 : (Jvm.Cond.interfaceMethod "java/util/List" "java/util/List" "add" "(Ljava/lang/Object;)Z") ∈ lw_tbl := lw_at lw_m2 195 rfl
theorem q479 : (Jvm.Cond.declares ({ cls := "java/util/List", name := "add", desc := "(Ljava/lang/Object;)Z" } : Jvm.MethodName)) ∈ lw_tbl := lw_at lw_m2 196 rfl
theorem q697 : (Jvm.Cond.interfaceMethod "java/util/List" "java/util/List" "isEmpty" "()Z") ∈ lw_tbl := lw_at lw_m3 174 rfl
theorem q698 : (Jvm.Cond.declares ({ cls := "java/util/List", name := "isEmpty", desc := "()Z" } : Jvm.MethodName)) ∈ lw_tbl := lw_at lw_m3 175 rfl
theorem q922 : (Jvm.Cond.interfaceMethod "java/util/List" "java/util/List" "indexOf" "(Ljava/lang/Object;)I") ∈ lw_tbl := lw_at lw_m4 159 rfl
theorem q923 : (Jvm.Cond.declares ({ cls := "java/util/List", name := "indexOf", desc := "(Ljava/lang/Object;)I" } : Jvm.MethodName)) ∈ lw_tbl := lw_at lw_m4 160 rfl
theorem q1035 : (Jvm.Cond.interfaceMethod "java/util/List" "java/util/List" "clear" "()V") ∈ lw_tbl := lw_at lw_m5 32 rfl
theorem q1036 : (Jvm.Cond.declares ({ cls := "java/util/List", name := "clear", desc := "()V" } : Jvm.MethodName)) ∈ lw_tbl := lw_at lw_m5 33 rfl

theorem q115 : (Jvm.Cond.arrayClass Jvm.ClassFile.FieldType.boolean) ∈ lw_all := lw_g (lw_at lw_m1 72 rfl) rfl
set_option maxRecDepth 100000
theorem q141 : (Jvm.Cond.arrayClass Jvm.ClassFile.FieldType.int) ∈ lw_all := lw_g (lw_at lw_m1 98 rfl) rfl
theorem q360 : (Jvm.Cond.arrayClass Jvm.ClassFile.FieldType.byte) ∈ lw_all := lw_g (lw_at lw_m2 77 rfl) rfl
theorem q535 : (Jvm.Cond.arrayOver (Jvm.ClassFile.FieldType.object "java/lang/Object")) ∈ lw_tbl := lw_at lw_m3 12 rfl
theorem q1780 : (Jvm.Cond.arrayClass Jvm.ClassFile.FieldType.long) ∈ lw_all := lw_g (lw_at lw_m8 57 rfl) rfl
