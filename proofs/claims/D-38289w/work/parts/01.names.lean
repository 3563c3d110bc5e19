/-! DECODE ROWS BY BYTES: one lemma an opcode; a method's code is cut into short pieces once, and a row reads its own piece alone. -/
set_option maxRecDepth 100000
/-- the code has just these bytes from pc on -/
def DkAt (code : ByteArray) (pc : Nat) (bs : List UInt8) : Prop := ∀ (j : Nat) (b : UInt8), bs[j]? = some b → code.data.toList[pc + j]? = some b
/-- the piece W has the bytes bs from its place j on -/
def dkIn (W : List UInt8) (j : Nat) (bs : List UInt8) : Bool := decide ((W.drop j).take bs.length = bs)
theorem dk_seg {l W T : List UInt8} {o o2 : Nat} (h : l.drop o = W ++ T) (n : Nat) (hn : W.length = n) (ho : o + n = o2) : l.drop o2 = T := by
  subst ho
  rw [← List.drop_drop, h, List.drop_left' hn]
theorem dk_at {code : ByteArray} {W T bs : List UInt8} {o pc : Nat} (h : code.data.toList.drop o = W ++ T) (j : Nat) (hp : o + j = pc) (hw : dkIn W j bs = true) : DkAt code pc bs := by
  subst hp
  intro i b e
  have h1 := of_decide_eq_true hw
  have h2 : i < bs.length := (List.getElem?_eq_some_iff.mp e).1
  have h3 : W[j + i]? = some b := by
    rw [← h1, List.getElem?_take, if_pos h2, List.getElem?_drop] at e
    exact e
  have h4 : j + i < W.length := (List.getElem?_eq_some_iff.mp h3).1
  have h5 : (code.data.toList.drop o)[j + i]? = some b := by
    rw [h, List.getElem?_append_left h4]
    exact h3
  rw [List.getElem?_drop, ← Nat.add_assoc] at h5
  exact h5
theorem dk_u1 {A : ByteArray} {p : Nat} {b : UInt8} (h : A.data.toList[p]? = some b) : (Reader.u1 : Reader DecodeError Nat) A p = .ok (b.toNat, p + 1) := by
  obtain ⟨h1, h2⟩ := List.getElem?_eq_some_iff.mp h
  have h3 : p < A.size := by simpa using h1
  have h4 : A[p]'h3 = b := h2
  have e : (Reader.u1 : Reader DecodeError Nat) A p = (if h : p < A.size then .ok (A[p].toNat, p + 1) else .error (HasTruncated.truncated p)) := by
    show (do if h : p < A.size then do set (p + 1); Pure.pure A[p].toNat else MonadExcept.throw (HasTruncated.truncated p) : Reader DecodeError Nat) A p = _
    by_cases hi : p < A.size
    · rw [dif_pos hi, dif_pos hi]; rfl
    · rw [dif_neg hi, dif_neg hi]; rfl
  rw [e, dif_pos h3, h4]
theorem dk_bind {α β : Type} {r : Reader DecodeError α} {f : α → Reader DecodeError β} {A : ByteArray} {p s : Nat} {a : α} (h : r A p = .ok (a, s)) : (r >>= f) A p = f a A s := by
  show (do let (a, s) ← r A p; f a A s : Except DecodeError (β × Nat)) = _
  rw [h]
  rfl
theorem dk_map {α β : Type} {r : Reader DecodeError α} {g : α → β} {A : ByteArray} {p s : Nat} {a : α} (h : r A p = .ok (a, s)) : (g <$> r) A p = .ok (g a, s) := by
  show (do let (a, s) ← r A p; .ok (g a, s) : Except DecodeError (β × Nat)) = _
  rw [h]
  rfl
theorem dk_u2 {A : ByteArray} {p : Nat} {a b : UInt8} (h : A.data.toList[p]? = some a) (h2 : A.data.toList[p + 1]? = some b) : (Reader.u2 : Reader DecodeError Nat) A p = .ok (a.toNat * 256 + b.toNat, p + 2) := by
  show (Reader.u1 >>= fun hi => Reader.u1 >>= fun lo => Pure.pure (hi * 256 + lo) : Reader DecodeError Nat) A p = _
  rw [dk_bind (dk_u1 h), dk_bind (dk_u1 h2)]
  rfl
theorem dk_of {code : ByteArray} {pc n : Nat} {i : Instr} (h : Decoder.instr pc code pc = .ok (i, pc + n)) : decode code pc = .ok (i, n) := by
  have e : decode code pc = (match Decoder.instr pc code pc with | .error x => .error x | .ok (j, s) => .ok (j, s - pc)) := by
    show (do let (j, s) ← Decoder.instr pc code pc; Pure.pure (j, s - pc) : Except DecodeError (Instr × Nat)) = _
    cases Decoder.instr pc code pc <;> rfl
  rw [e, h]
  show Except.ok (i, pc + n - pc) = _
  rw [Nat.add_sub_cancel_left]
theorem dk_1 {code : ByteArray} {pc : Nat} (h : DkAt code pc [1]) : decode code pc = .ok (.aconst_null, 1) := dk_of ((dk_bind (dk_u1 (h 0 _ rfl))).trans rfl)
theorem dk_2 {code : ByteArray} {pc : Nat} (h : DkAt code pc [2]) : decode code pc = .ok (.iconst (-1), 1) := dk_of ((dk_bind (dk_u1 (h 0 _ rfl))).trans rfl)
theorem dk_3 {code : ByteArray} {pc : Nat} (h : DkAt code pc [3]) : decode code pc = .ok (.iconst 0, 1) := dk_of ((dk_bind (dk_u1 (h 0 _ rfl))).trans rfl)
theorem dk_4 {code : ByteArray} {pc : Nat} (h : DkAt code pc [4]) : decode code pc = .ok (.iconst 1, 1) := dk_of ((dk_bind (dk_u1 (h 0 _ rfl))).trans rfl)
theorem dk_5 {code : ByteArray} {pc : Nat} (h : DkAt code pc [5]) : decode code pc = .ok (.iconst 2, 1) := dk_of ((dk_bind (dk_u1 (h 0 _ rfl))).trans rfl)
theorem dk_6 {code : ByteArray} {pc : Nat} (h : DkAt code pc [6]) : decode code pc = .ok (.iconst 3, 1) := dk_of ((dk_bind (dk_u1 (h 0 _ rfl))).trans rfl)
theorem dk_7 {code : ByteArray} {pc : Nat} (h : DkAt code pc [7]) : decode code pc = .ok (.iconst 4, 1) := dk_of ((dk_bind (dk_u1 (h 0 _ rfl))).trans rfl)
theorem dk_8 {code : ByteArray} {pc : Nat} (h : DkAt code pc [8]) : decode code pc = .ok (.iconst 5, 1) := dk_of ((dk_bind (dk_u1 (h 0 _ rfl))).trans rfl)
theorem dk_9 {code : ByteArray} {pc : Nat} (h : DkAt code pc [9]) : decode code pc = .ok (.lconst 0, 1) := dk_of ((dk_bind (dk_u1 (h 0 _ rfl))).trans rfl)
theorem dk_10 {code : ByteArray} {pc : Nat} (h : DkAt code pc [10]) : decode code pc = .ok (.lconst 1, 1) := dk_of ((dk_bind (dk_u1 (h 0 _ rfl))).trans rfl)
theorem dk_16 {code : ByteArray} {pc : Nat} (a : UInt8) (h : DkAt code pc [16, a]) : decode code pc = .ok (.bipush (Reader.signed 8 a.toNat), 2) := dk_of ((dk_bind (dk_u1 (h 0 _ rfl))).trans ((dk_bind (dk_map (dk_u1 (h 1 _ rfl)))).trans rfl))
theorem dk_17 {code : ByteArray} {pc : Nat} (a b : UInt8) (h : DkAt code pc [17, a, b]) : decode code pc = .ok (.sipush (Reader.signed 16 (a.toNat * 256 + b.toNat)), 3) := dk_of ((dk_bind (dk_u1 (h 0 _ rfl))).trans ((dk_bind (dk_map (dk_u2 (h 1 _ rfl) (h 2 _ rfl)))).trans rfl))
theorem dk_18 {code : ByteArray} {pc : Nat} (a : UInt8) (h : DkAt code pc [18, a]) : decode code pc = .ok (.ldc a.toNat, 2) := dk_of ((dk_bind (dk_u1 (h 0 _ rfl))).trans ((dk_bind (dk_u1 (h 1 _ rfl))).trans rfl))
theorem dk_19 {code : ByteArray} {pc : Nat} (a b : UInt8) (h : DkAt code pc [19, a, b]) : decode code pc = .ok (.ldc_w (a.toNat * 256 + b.toNat), 3) := dk_of ((dk_bind (dk_u1 (h 0 _ rfl))).trans ((dk_bind (dk_u2 (h 1 _ rfl) (h 2 _ rfl))).trans rfl))
theorem dk_20 {code : ByteArray} {pc : Nat} (a b : UInt8) (h : DkAt code pc [20, a, b]) : decode code pc = .ok (.ldc2_w (a.toNat * 256 + b.toNat), 3) := dk_of ((dk_bind (dk_u1 (h 0 _ rfl))).trans ((dk_bind (dk_u2 (h 1 _ rfl) (h 2 _ rfl))).trans rfl))
theorem dk_21 {code : ByteArray} {pc : Nat} (a : UInt8) (h : DkAt code pc [21, a]) : decode code pc = .ok (.iload a.toNat, 2) := dk_of ((dk_bind (dk_u1 (h 0 _ rfl))).trans ((dk_bind (dk_u1 (h 1 _ rfl))).trans rfl))
theorem dk_25 {code : ByteArray} {pc : Nat} (a : UInt8) (h : DkAt code pc [25, a]) : decode code pc = .ok (.aload a.toNat, 2) := dk_of ((dk_bind (dk_u1 (h 0 _ rfl))).trans ((dk_bind (dk_u1 (h 1 _ rfl))).trans rfl))
theorem dk_26 {code : ByteArray} {pc : Nat} (h : DkAt code pc [26]) : decode code pc = .ok (.iload_n 0, 1) := dk_of ((dk_bind (dk_u1 (h 0 _ rfl))).trans rfl)
theorem dk_27 {code : ByteArray} {pc : Nat} (h : DkAt code pc [27]) : decode code pc = .ok (.iload_n 1, 1) := dk_of ((dk_bind (dk_u1 (h 0 _ rfl))).trans rfl)
theorem dk_28 {code : ByteArray} {pc : Nat} (h : DkAt code pc [28]) : decode code pc = .ok (.iload_n 2, 1) := dk_of ((dk_bind (dk_u1 (h 0 _ rfl))).trans rfl)
theorem dk_29 {code : ByteArray} {pc : Nat} (h : DkAt code pc [29]) : decode code pc = .ok (.iload_n 3, 1) := dk_of ((dk_bind (dk_u1 (h 0 _ rfl))).trans rfl)
theorem dk_31 {code : ByteArray} {pc : Nat} (h : DkAt code pc [31]) : decode code pc = .ok (.lload_n 1, 1) := dk_of ((dk_bind (dk_u1 (h 0 _ rfl))).trans rfl)
theorem dk_33 {code : ByteArray} {pc : Nat} (h : DkAt code pc [33]) : decode code pc = .ok (.lload_n 3, 1) := dk_of ((dk_bind (dk_u1 (h 0 _ rfl))).trans rfl)
theorem dk_42 {code : ByteArray} {pc : Nat} (h : DkAt code pc [42]) : decode code pc = .ok (.aload_n 0, 1) := dk_of ((dk_bind (dk_u1 (h 0 _ rfl))).trans rfl)
theorem dk_43 {code : ByteArray} {pc : Nat} (h : DkAt code pc [43]) : decode code pc = .ok (.aload_n 1, 1) := dk_of ((dk_bind (dk_u1 (h 0 _ rfl))).trans rfl)
theorem dk_44 {code : ByteArray} {pc : Nat} (h : DkAt code pc [44]) : decode code pc = .ok (.aload_n 2, 1) := dk_of ((dk_bind (dk_u1 (h 0 _ rfl))).trans rfl)
theorem dk_45 {code : ByteArray} {pc : Nat} (h : DkAt code pc [45]) : decode code pc = .ok (.aload_n 3, 1) := dk_of ((dk_bind (dk_u1 (h 0 _ rfl))).trans rfl)
theorem dk_46 {code : ByteArray} {pc : Nat} (h : DkAt code pc [46]) : decode code pc = .ok (.iaload, 1) := dk_of ((dk_bind (dk_u1 (h 0 _ rfl))).trans rfl)
theorem dk_50 {code : ByteArray} {pc : Nat} (h : DkAt code pc [50]) : decode code pc = .ok (.aaload, 1) := dk_of ((dk_bind (dk_u1 (h 0 _ rfl))).trans rfl)
theorem dk_51 {code : ByteArray} {pc : Nat} (h : DkAt code pc [51]) : decode code pc = .ok (.baload, 1) := dk_of ((dk_bind (dk_u1 (h 0 _ rfl))).trans rfl)
theorem dk_54 {code : ByteArray} {pc : Nat} (a : UInt8) (h : DkAt code pc [54, a]) : decode code pc = .ok (.istore a.toNat, 2) := dk_of ((dk_bind (dk_u1 (h 0 _ rfl))).trans ((dk_bind (dk_u1 (h 1 _ rfl))).trans rfl))
theorem dk_58 {code : ByteArray} {pc : Nat} (a : UInt8) (h : DkAt code pc [58, a]) : decode code pc = .ok (.astore a.toNat, 2) := dk_of ((dk_bind (dk_u1 (h 0 _ rfl))).trans ((dk_bind (dk_u1 (h 1 _ rfl))).trans rfl))
theorem dk_59 {code : ByteArray} {pc : Nat} (h : DkAt code pc [59]) : decode code pc = .ok (.istore_n 0, 1) := dk_of ((dk_bind (dk_u1 (h 0 _ rfl))).trans rfl)
theorem dk_60 {code : ByteArray} {pc : Nat} (h : DkAt code pc [60]) : decode code pc = .ok (.istore_n 1, 1) := dk_of ((dk_bind (dk_u1 (h 0 _ rfl))).trans rfl)
theorem dk_61 {code : ByteArray} {pc : Nat} (h : DkAt code pc [61]) : decode code pc = .ok (.istore_n 2, 1) := dk_of ((dk_bind (dk_u1 (h 0 _ rfl))).trans rfl)
theorem dk_62 {code : ByteArray} {pc : Nat} (h : DkAt code pc [62]) : decode code pc = .ok (.istore_n 3, 1) := dk_of ((dk_bind (dk_u1 (h 0 _ rfl))).trans rfl)
theorem dk_64 {code : ByteArray} {pc : Nat} (h : DkAt code pc [64]) : decode code pc = .ok (.lstore_n 1, 1) := dk_of ((dk_bind (dk_u1 (h 0 _ rfl))).trans rfl)
theorem dk_66 {code : ByteArray} {pc : Nat} (h : DkAt code pc [66]) : decode code pc = .ok (.lstore_n 3, 1) := dk_of ((dk_bind (dk_u1 (h 0 _ rfl))).trans rfl)
theorem dk_75 {code : ByteArray} {pc : Nat} (h : DkAt code pc [75]) : decode code pc = .ok (.astore_n 0, 1) := dk_of ((dk_bind (dk_u1 (h 0 _ rfl))).trans rfl)
theorem dk_76 {code : ByteArray} {pc : Nat} (h : DkAt code pc [76]) : decode code pc = .ok (.astore_n 1, 1) := dk_of ((dk_bind (dk_u1 (h 0 _ rfl))).trans rfl)
theorem dk_77 {code : ByteArray} {pc : Nat} (h : DkAt code pc [77]) : decode code pc = .ok (.astore_n 2, 1) := dk_of ((dk_bind (dk_u1 (h 0 _ rfl))).trans rfl)
theorem dk_78 {code : ByteArray} {pc : Nat} (h : DkAt code pc [78]) : decode code pc = .ok (.astore_n 3, 1) := dk_of ((dk_bind (dk_u1 (h 0 _ rfl))).trans rfl)
theorem dk_79 {code : ByteArray} {pc : Nat} (h : DkAt code pc [79]) : decode code pc = .ok (.iastore, 1) := dk_of ((dk_bind (dk_u1 (h 0 _ rfl))).trans rfl)
theorem dk_83 {code : ByteArray} {pc : Nat} (h : DkAt code pc [83]) : decode code pc = .ok (.aastore, 1) := dk_of ((dk_bind (dk_u1 (h 0 _ rfl))).trans rfl)
theorem dk_84 {code : ByteArray} {pc : Nat} (h : DkAt code pc [84]) : decode code pc = .ok (.bastore, 1) := dk_of ((dk_bind (dk_u1 (h 0 _ rfl))).trans rfl)
theorem dk_87 {code : ByteArray} {pc : Nat} (h : DkAt code pc [87]) : decode code pc = .ok (.pop, 1) := dk_of ((dk_bind (dk_u1 (h 0 _ rfl))).trans rfl)
theorem dk_88 {code : ByteArray} {pc : Nat} (h : DkAt code pc [88]) : decode code pc = .ok (.pop2, 1) := dk_of ((dk_bind (dk_u1 (h 0 _ rfl))).trans rfl)
theorem dk_89 {code : ByteArray} {pc : Nat} (h : DkAt code pc [89]) : decode code pc = .ok (.dup, 1) := dk_of ((dk_bind (dk_u1 (h 0 _ rfl))).trans rfl)
theorem dk_90 {code : ByteArray} {pc : Nat} (h : DkAt code pc [90]) : decode code pc = .ok (.dup_x1, 1) := dk_of ((dk_bind (dk_u1 (h 0 _ rfl))).trans rfl)
theorem dk_92 {code : ByteArray} {pc : Nat} (h : DkAt code pc [92]) : decode code pc = .ok (.dup2, 1) := dk_of ((dk_bind (dk_u1 (h 0 _ rfl))).trans rfl)
theorem dk_93 {code : ByteArray} {pc : Nat} (h : DkAt code pc [93]) : decode code pc = .ok (.dup2_x1, 1) := dk_of ((dk_bind (dk_u1 (h 0 _ rfl))).trans rfl)
theorem dk_96 {code : ByteArray} {pc : Nat} (h : DkAt code pc [96]) : decode code pc = .ok (.iadd, 1) := dk_of ((dk_bind (dk_u1 (h 0 _ rfl))).trans rfl)
theorem dk_97 {code : ByteArray} {pc : Nat} (h : DkAt code pc [97]) : decode code pc = .ok (.ladd, 1) := dk_of ((dk_bind (dk_u1 (h 0 _ rfl))).trans rfl)
theorem dk_100 {code : ByteArray} {pc : Nat} (h : DkAt code pc [100]) : decode code pc = .ok (.isub, 1) := dk_of ((dk_bind (dk_u1 (h 0 _ rfl))).trans rfl)
theorem dk_104 {code : ByteArray} {pc : Nat} (h : DkAt code pc [104]) : decode code pc = .ok (.imul, 1) := dk_of ((dk_bind (dk_u1 (h 0 _ rfl))).trans rfl)
theorem dk_105 {code : ByteArray} {pc : Nat} (h : DkAt code pc [105]) : decode code pc = .ok (.lmul, 1) := dk_of ((dk_bind (dk_u1 (h 0 _ rfl))).trans rfl)
theorem dk_108 {code : ByteArray} {pc : Nat} (h : DkAt code pc [108]) : decode code pc = .ok (.idiv, 1) := dk_of ((dk_bind (dk_u1 (h 0 _ rfl))).trans rfl)
theorem dk_112 {code : ByteArray} {pc : Nat} (h : DkAt code pc [112]) : decode code pc = .ok (.irem, 1) := dk_of ((dk_bind (dk_u1 (h 0 _ rfl))).trans rfl)
theorem dk_116 {code : ByteArray} {pc : Nat} (h : DkAt code pc [116]) : decode code pc = .ok (.ineg, 1) := dk_of ((dk_bind (dk_u1 (h 0 _ rfl))).trans rfl)
theorem dk_120 {code : ByteArray} {pc : Nat} (h : DkAt code pc [120]) : decode code pc = .ok (.ishl, 1) := dk_of ((dk_bind (dk_u1 (h 0 _ rfl))).trans rfl)
theorem dk_122 {code : ByteArray} {pc : Nat} (h : DkAt code pc [122]) : decode code pc = .ok (.ishr, 1) := dk_of ((dk_bind (dk_u1 (h 0 _ rfl))).trans rfl)
theorem dk_124 {code : ByteArray} {pc : Nat} (h : DkAt code pc [124]) : decode code pc = .ok (.iushr, 1) := dk_of ((dk_bind (dk_u1 (h 0 _ rfl))).trans rfl)
theorem dk_126 {code : ByteArray} {pc : Nat} (h : DkAt code pc [126]) : decode code pc = .ok (.iand, 1) := dk_of ((dk_bind (dk_u1 (h 0 _ rfl))).trans rfl)
theorem dk_128 {code : ByteArray} {pc : Nat} (h : DkAt code pc [128]) : decode code pc = .ok (.ior, 1) := dk_of ((dk_bind (dk_u1 (h 0 _ rfl))).trans rfl)
theorem dk_130 {code : ByteArray} {pc : Nat} (h : DkAt code pc [130]) : decode code pc = .ok (.ixor, 1) := dk_of ((dk_bind (dk_u1 (h 0 _ rfl))).trans rfl)
theorem dk_132 {code : ByteArray} {pc : Nat} (a b : UInt8) (h : DkAt code pc [132, a, b]) : decode code pc = .ok (.iinc a.toNat (Reader.signed 8 b.toNat), 3) := dk_of ((dk_bind (dk_u1 (h 0 _ rfl))).trans ((dk_bind (dk_u1 (h 1 _ rfl))).trans ((dk_bind (dk_map (dk_u1 (h 2 _ rfl)))).trans rfl)))
theorem dk_133 {code : ByteArray} {pc : Nat} (h : DkAt code pc [133]) : decode code pc = .ok (.i2l, 1) := dk_of ((dk_bind (dk_u1 (h 0 _ rfl))).trans rfl)
theorem dk_145 {code : ByteArray} {pc : Nat} (h : DkAt code pc [145]) : decode code pc = .ok (.i2b, 1) := dk_of ((dk_bind (dk_u1 (h 0 _ rfl))).trans rfl)
theorem dk_146 {code : ByteArray} {pc : Nat} (h : DkAt code pc [146]) : decode code pc = .ok (.i2c, 1) := dk_of ((dk_bind (dk_u1 (h 0 _ rfl))).trans rfl)
theorem dk_148 {code : ByteArray} {pc : Nat} (h : DkAt code pc [148]) : decode code pc = .ok (.lcmp, 1) := dk_of ((dk_bind (dk_u1 (h 0 _ rfl))).trans rfl)
theorem dk_153 {code : ByteArray} {pc : Nat} (a b : UInt8) (h : DkAt code pc [153, a, b]) : decode code pc = .ok (.ifCond .eq (Reader.signed 16 (a.toNat * 256 + b.toNat)), 3) := dk_of ((dk_bind (dk_u1 (h 0 _ rfl))).trans ((dk_bind (dk_map (dk_u2 (h 1 _ rfl) (h 2 _ rfl)))).trans rfl))
theorem dk_154 {code : ByteArray} {pc : Nat} (a b : UInt8) (h : DkAt code pc [154, a, b]) : decode code pc = .ok (.ifCond .ne (Reader.signed 16 (a.toNat * 256 + b.toNat)), 3) := dk_of ((dk_bind (dk_u1 (h 0 _ rfl))).trans ((dk_bind (dk_map (dk_u2 (h 1 _ rfl) (h 2 _ rfl)))).trans rfl))
theorem dk_155 {code : ByteArray} {pc : Nat} (a b : UInt8) (h : DkAt code pc [155, a, b]) : decode code pc = .ok (.ifCond .lt (Reader.signed 16 (a.toNat * 256 + b.toNat)), 3) := dk_of ((dk_bind (dk_u1 (h 0 _ rfl))).trans ((dk_bind (dk_map (dk_u2 (h 1 _ rfl) (h 2 _ rfl)))).trans rfl))
theorem dk_156 {code : ByteArray} {pc : Nat} (a b : UInt8) (h : DkAt code pc [156, a, b]) : decode code pc = .ok (.ifCond .ge (Reader.signed 16 (a.toNat * 256 + b.toNat)), 3) := dk_of ((dk_bind (dk_u1 (h 0 _ rfl))).trans ((dk_bind (dk_map (dk_u2 (h 1 _ rfl) (h 2 _ rfl)))).trans rfl))
theorem dk_157 {code : ByteArray} {pc : Nat} (a b : UInt8) (h : DkAt code pc [157, a, b]) : decode code pc = .ok (.ifCond .gt (Reader.signed 16 (a.toNat * 256 + b.toNat)), 3) := dk_of ((dk_bind (dk_u1 (h 0 _ rfl))).trans ((dk_bind (dk_map (dk_u2 (h 1 _ rfl) (h 2 _ rfl)))).trans rfl))
theorem dk_158 {code : ByteArray} {pc : Nat} (a b : UInt8) (h : DkAt code pc [158, a, b]) : decode code pc = .ok (.ifCond .le (Reader.signed 16 (a.toNat * 256 + b.toNat)), 3) := dk_of ((dk_bind (dk_u1 (h 0 _ rfl))).trans ((dk_bind (dk_map (dk_u2 (h 1 _ rfl) (h 2 _ rfl)))).trans rfl))
theorem dk_159 {code : ByteArray} {pc : Nat} (a b : UInt8) (h : DkAt code pc [159, a, b]) : decode code pc = .ok (.if_icmp .eq (Reader.signed 16 (a.toNat * 256 + b.toNat)), 3) := dk_of ((dk_bind (dk_u1 (h 0 _ rfl))).trans ((dk_bind (dk_map (dk_u2 (h 1 _ rfl) (h 2 _ rfl)))).trans rfl))
theorem dk_160 {code : ByteArray} {pc : Nat} (a b : UInt8) (h : DkAt code pc [160, a, b]) : decode code pc = .ok (.if_icmp .ne (Reader.signed 16 (a.toNat * 256 + b.toNat)), 3) := dk_of ((dk_bind (dk_u1 (h 0 _ rfl))).trans ((dk_bind (dk_map (dk_u2 (h 1 _ rfl) (h 2 _ rfl)))).trans rfl))
theorem dk_161 {code : ByteArray} {pc : Nat} (a b : UInt8) (h : DkAt code pc [161, a, b]) : decode code pc = .ok (.if_icmp .lt (Reader.signed 16 (a.toNat * 256 + b.toNat)), 3) := dk_of ((dk_bind (dk_u1 (h 0 _ rfl))).trans ((dk_bind (dk_map (dk_u2 (h 1 _ rfl) (h 2 _ rfl)))).trans rfl))
theorem dk_162 {code : ByteArray} {pc : Nat} (a b : UInt8) (h : DkAt code pc [162, a, b]) : decode code pc = .ok (.if_icmp .ge (Reader.signed 16 (a.toNat * 256 + b.toNat)), 3) := dk_of ((dk_bind (dk_u1 (h 0 _ rfl))).trans ((dk_bind (dk_map (dk_u2 (h 1 _ rfl) (h 2 _ rfl)))).trans rfl))
theorem dk_163 {code : ByteArray} {pc : Nat} (a b : UInt8) (h : DkAt code pc [163, a, b]) : decode code pc = .ok (.if_icmp .gt (Reader.signed 16 (a.toNat * 256 + b.toNat)), 3) := dk_of ((dk_bind (dk_u1 (h 0 _ rfl))).trans ((dk_bind (dk_map (dk_u2 (h 1 _ rfl) (h 2 _ rfl)))).trans rfl))
theorem dk_164 {code : ByteArray} {pc : Nat} (a b : UInt8) (h : DkAt code pc [164, a, b]) : decode code pc = .ok (.if_icmp .le (Reader.signed 16 (a.toNat * 256 + b.toNat)), 3) := dk_of ((dk_bind (dk_u1 (h 0 _ rfl))).trans ((dk_bind (dk_map (dk_u2 (h 1 _ rfl) (h 2 _ rfl)))).trans rfl))
theorem dk_165 {code : ByteArray} {pc : Nat} (a b : UInt8) (h : DkAt code pc [165, a, b]) : decode code pc = .ok (.if_acmp .eq (Reader.signed 16 (a.toNat * 256 + b.toNat)), 3) := dk_of ((dk_bind (dk_u1 (h 0 _ rfl))).trans ((dk_bind (dk_map (dk_u2 (h 1 _ rfl) (h 2 _ rfl)))).trans rfl))
theorem dk_166 {code : ByteArray} {pc : Nat} (a b : UInt8) (h : DkAt code pc [166, a, b]) : decode code pc = .ok (.if_acmp .ne (Reader.signed 16 (a.toNat * 256 + b.toNat)), 3) := dk_of ((dk_bind (dk_u1 (h 0 _ rfl))).trans ((dk_bind (dk_map (dk_u2 (h 1 _ rfl) (h 2 _ rfl)))).trans rfl))
theorem dk_167 {code : ByteArray} {pc : Nat} (a b : UInt8) (h : DkAt code pc [167, a, b]) : decode code pc = .ok (.goto (Reader.signed 16 (a.toNat * 256 + b.toNat)), 3) := dk_of ((dk_bind (dk_u1 (h 0 _ rfl))).trans ((dk_bind (dk_map (dk_u2 (h 1 _ rfl) (h 2 _ rfl)))).trans rfl))
theorem dk_172 {code : ByteArray} {pc : Nat} (h : DkAt code pc [172]) : decode code pc = .ok (.ireturn, 1) := dk_of ((dk_bind (dk_u1 (h 0 _ rfl))).trans rfl)
theorem dk_173 {code : ByteArray} {pc : Nat} (h : DkAt code pc [173]) : decode code pc = .ok (.lreturn, 1) := dk_of ((dk_bind (dk_u1 (h 0 _ rfl))).trans rfl)
theorem dk_176 {code : ByteArray} {pc : Nat} (h : DkAt code pc [176]) : decode code pc = .ok (.areturn, 1) := dk_of ((dk_bind (dk_u1 (h 0 _ rfl))).trans rfl)
theorem dk_177 {code : ByteArray} {pc : Nat} (h : DkAt code pc [177]) : decode code pc = .ok (.return_, 1) := dk_of ((dk_bind (dk_u1 (h 0 _ rfl))).trans rfl)
theorem dk_178 {code : ByteArray} {pc : Nat} (a b : UInt8) (h : DkAt code pc [178, a, b]) : decode code pc = .ok (.getstatic (a.toNat * 256 + b.toNat), 3) := dk_of ((dk_bind (dk_u1 (h 0 _ rfl))).trans ((dk_bind (dk_u2 (h 1 _ rfl) (h 2 _ rfl))).trans rfl))
theorem dk_180 {code : ByteArray} {pc : Nat} (a b : UInt8) (h : DkAt code pc [180, a, b]) : decode code pc = .ok (.getfield (a.toNat * 256 + b.toNat), 3) := dk_of ((dk_bind (dk_u1 (h 0 _ rfl))).trans ((dk_bind (dk_u2 (h 1 _ rfl) (h 2 _ rfl))).trans rfl))
theorem dk_181 {code : ByteArray} {pc : Nat} (a b : UInt8) (h : DkAt code pc [181, a, b]) : decode code pc = .ok (.putfield (a.toNat * 256 + b.toNat), 3) := dk_of ((dk_bind (dk_u1 (h 0 _ rfl))).trans ((dk_bind (dk_u2 (h 1 _ rfl) (h 2 _ rfl))).trans rfl))
theorem dk_182 {code : ByteArray} {pc : Nat} (a b : UInt8) (h : DkAt code pc [182, a, b]) : decode code pc = .ok (.invokevirtual (a.toNat * 256 + b.toNat), 3) := dk_of ((dk_bind (dk_u1 (h 0 _ rfl))).trans ((dk_bind (dk_u2 (h 1 _ rfl) (h 2 _ rfl))).trans rfl))
theorem dk_183 {code : ByteArray} {pc : Nat} (a b : UInt8) (h : DkAt code pc [183, a, b]) : decode code pc = .ok (.invokespecial (a.toNat * 256 + b.toNat), 3) := dk_of ((dk_bind (dk_u1 (h 0 _ rfl))).trans ((dk_bind (dk_u2 (h 1 _ rfl) (h 2 _ rfl))).trans rfl))
theorem dk_184 {code : ByteArray} {pc : Nat} (a b : UInt8) (h : DkAt code pc [184, a, b]) : decode code pc = .ok (.invokestatic (a.toNat * 256 + b.toNat), 3) := dk_of ((dk_bind (dk_u1 (h 0 _ rfl))).trans ((dk_bind (dk_u2 (h 1 _ rfl) (h 2 _ rfl))).trans rfl))
theorem dk_187 {code : ByteArray} {pc : Nat} (a b : UInt8) (h : DkAt code pc [187, a, b]) : decode code pc = .ok (.new (a.toNat * 256 + b.toNat), 3) := dk_of ((dk_bind (dk_u1 (h 0 _ rfl))).trans ((dk_bind (dk_u2 (h 1 _ rfl) (h 2 _ rfl))).trans rfl))
theorem dk_188_4 {code : ByteArray} {pc : Nat} (h : DkAt code pc [188, 4]) : decode code pc = .ok (.newarray .boolean, 2) := dk_of ((dk_bind (dk_u1 (h 0 _ rfl))).trans ((dk_bind (dk_u1 (h 1 _ rfl))).trans rfl))
theorem dk_188_8 {code : ByteArray} {pc : Nat} (h : DkAt code pc [188, 8]) : decode code pc = .ok (.newarray .byte, 2) := dk_of ((dk_bind (dk_u1 (h 0 _ rfl))).trans ((dk_bind (dk_u1 (h 1 _ rfl))).trans rfl))
theorem dk_188_10 {code : ByteArray} {pc : Nat} (h : DkAt code pc [188, 10]) : decode code pc = .ok (.newarray .int, 2) := dk_of ((dk_bind (dk_u1 (h 0 _ rfl))).trans ((dk_bind (dk_u1 (h 1 _ rfl))).trans rfl))
theorem dk_189 {code : ByteArray} {pc : Nat} (a b : UInt8) (h : DkAt code pc [189, a, b]) : decode code pc = .ok (.anewarray (a.toNat * 256 + b.toNat), 3) := dk_of ((dk_bind (dk_u1 (h 0 _ rfl))).trans ((dk_bind (dk_u2 (h 1 _ rfl) (h 2 _ rfl))).trans rfl))
theorem dk_190 {code : ByteArray} {pc : Nat} (h : DkAt code pc [190]) : decode code pc = .ok (.arraylength, 1) := dk_of ((dk_bind (dk_u1 (h 0 _ rfl))).trans rfl)
theorem dk_191 {code : ByteArray} {pc : Nat} (h : DkAt code pc [191]) : decode code pc = .ok (.athrow, 1) := dk_of ((dk_bind (dk_u1 (h 0 _ rfl))).trans rfl)
theorem dk_192 {code : ByteArray} {pc : Nat} (a b : UInt8) (h : DkAt code pc [192, a, b]) : decode code pc = .ok (.checkcast (a.toNat * 256 + b.toNat), 3) := dk_of ((dk_bind (dk_u1 (h 0 _ rfl))).trans ((dk_bind (dk_u2 (h 1 _ rfl) (h 2 _ rfl))).trans rfl))
theorem dk_193 {code : ByteArray} {pc : Nat} (a b : UInt8) (h : DkAt code pc [193, a, b]) : decode code pc = .ok (.instanceof (a.toNat * 256 + b.toNat), 3) := dk_of ((dk_bind (dk_u1 (h 0 _ rfl))).trans ((dk_bind (dk_u2 (h 1 _ rfl) (h 2 _ rfl))).trans rfl))
theorem dk_198 {code : ByteArray} {pc : Nat} (a b : UInt8) (h : DkAt code pc [198, a, b]) : decode code pc = .ok (.ifnull (Reader.signed 16 (a.toNat * 256 + b.toNat)), 3) := dk_of ((dk_bind (dk_u1 (h 0 _ rfl))).trans ((dk_bind (dk_map (dk_u2 (h 1 _ rfl) (h 2 _ rfl)))).trans rfl))
theorem dk_199 {code : ByteArray} {pc : Nat} (a b : UInt8) (h : DkAt code pc [199, a, b]) : decode code pc = .ok (.ifnonnull (Reader.signed 16 (a.toNat * 256 + b.toNat)), 3) := dk_of ((dk_bind (dk_u1 (h 0 _ rfl))).trans ((dk_bind (dk_map (dk_u2 (h 1 _ rfl) (h 2 _ rfl)))).trans rfl))
/-! java/util/Optional -/
set_option maxRecDepth 100000
def RJ0 : String := "java/util/Optional"
def TJ0 : u_T := fun k => match k with
  | _ => ("java/util/Optional", "value", "Ljava/lang/Object;", true)
def tyJ0 : Nat → FieldType := fun k => match k with
  | _ => .object "java/lang/Object"
abbrev wsJ00 : List Cond := u_ws RJ0 TJ0 1
theorem nmJ0 : ∀ a, a < 1 → ∀ b, b < 1 → a ≠ b → (TJ0 a).2.1 ≠ (TJ0 b).2.1 := by decide +kernel
theorem tyJ0_ok : ∀ k, k < 1 → parseFieldDescriptor (TJ0 k).2.2.1 = some (tyJ0 k) := by decide +kernel
abbrev cJ0_empty : ByteArray := prog_55_method_1_code
def yJ0_empty : MethodName := ⟨RJ0, "empty", "()Ljava/util/Optional;"⟩
def dkwJ0_empty_0 : List UInt8 := [178, 0, 1, 75, 42, 176]
abbrev dktJ0_empty_0 : List UInt8 := dkwJ0_empty_0 ++ []
theorem dksJ0_empty_0 : cJ0_empty.data.toList.drop 0 = dktJ0_empty_0 := by decide +kernel
theorem dJ0_empty_0 : decode cJ0_empty 0 = .ok (.getstatic 1, 3) := dk_178 0 1 (dk_at dksJ0_empty_0 0 rfl rfl)
theorem dJ0_empty_3 : decode cJ0_empty 3 = .ok (.astore_n 0, 1) := dk_75 (dk_at dksJ0_empty_0 3 rfl rfl)
theorem dJ0_empty_4 : decode cJ0_empty 4 = .ok (.aload_n 0, 1) := dk_42 (dk_at dksJ0_empty_0 4 rfl rfl)
theorem dJ0_empty_5 : decode cJ0_empty 5 = .ok (.areturn, 1) := dk_176 (dk_at dksJ0_empty_0 5 rfl rfl)
abbrev cJ0_isPresent : ByteArray := prog_55_method_6_code
def yJ0_isPresent : MethodName := ⟨RJ0, "isPresent", "()Z"⟩
def dkwJ0_isPresent_0 : List UInt8 := [42, 180, 0, 13, 198, 0, 7, 4, 167, 0, 4, 3, 172]
abbrev dktJ0_isPresent_0 : List UInt8 := dkwJ0_isPresent_0 ++ []
theorem dksJ0_isPresent_0 : cJ0_isPresent.data.toList.drop 0 = dktJ0_isPresent_0 := by decide +kernel
theorem dJ0_isPresent_0 : decode cJ0_isPresent 0 = .ok (.aload_n 0, 1) := dk_42 (dk_at dksJ0_isPresent_0 0 rfl rfl)
theorem dJ0_isPresent_1 : decode cJ0_isPresent 1 = .ok (.getfield 13, 3) := dk_180 0 13 (dk_at dksJ0_isPresent_0 1 rfl rfl)
theorem dJ0_isPresent_4 : decode cJ0_isPresent 4 = .ok (.ifnull 7, 3) := dk_198 0 7 (dk_at dksJ0_isPresent_0 4 rfl rfl)
theorem dJ0_isPresent_7 : decode cJ0_isPresent 7 = .ok (.iconst 1, 1) := dk_4 (dk_at dksJ0_isPresent_0 7 rfl rfl)
theorem dJ0_isPresent_8 : decode cJ0_isPresent 8 = .ok (.goto 4, 3) := dk_167 0 4 (dk_at dksJ0_isPresent_0 8 rfl rfl)
theorem dJ0_isPresent_11 : decode cJ0_isPresent 11 = .ok (.iconst 0, 1) := dk_3 (dk_at dksJ0_isPresent_0 11 rfl rfl)
theorem dJ0_isPresent_12 : decode cJ0_isPresent 12 = .ok (.ireturn, 1) := dk_172 (dk_at dksJ0_isPresent_0 12 rfl rfl)
abbrev cJ0_get : ByteArray := prog_55_method_5_code
def yJ0_get : MethodName := ⟨RJ0, "get", "()Ljava/lang/Object;"⟩
def dkwJ0_get_0 : List UInt8 := [42, 180, 0, 13, 199, 0, 13, 187, 0, 26, 89, 18, 28, 183, 0, 30, 191, 42, 180, 0, 13, 176]
abbrev dktJ0_get_0 : List UInt8 := dkwJ0_get_0 ++ []
theorem dksJ0_get_0 : cJ0_get.data.toList.drop 0 = dktJ0_get_0 := by decide +kernel
theorem dJ0_get_0 : decode cJ0_get 0 = .ok (.aload_n 0, 1) := dk_42 (dk_at dksJ0_get_0 0 rfl rfl)
theorem dJ0_get_1 : decode cJ0_get 1 = .ok (.getfield 13, 3) := dk_180 0 13 (dk_at dksJ0_get_0 1 rfl rfl)
theorem dJ0_get_4 : decode cJ0_get 4 = .ok (.ifnonnull 13, 3) := dk_199 0 13 (dk_at dksJ0_get_0 4 rfl rfl)
theorem dJ0_get_7 : decode cJ0_get 7 = .ok (.new 26, 3) := dk_187 0 26 (dk_at dksJ0_get_0 7 rfl rfl)
theorem dJ0_get_10 : decode cJ0_get 10 = .ok (.dup, 1) := dk_89 (dk_at dksJ0_get_0 10 rfl rfl)
theorem dJ0_get_11 : decode cJ0_get 11 = .ok (.ldc 28, 2) := dk_18 28 (dk_at dksJ0_get_0 11 rfl rfl)
theorem dJ0_get_13 : decode cJ0_get 13 = .ok (.invokespecial 30, 3) := dk_183 0 30 (dk_at dksJ0_get_0 13 rfl rfl)
theorem dJ0_get_16 : decode cJ0_get 16 = .ok (.athrow, 1) := dk_191 (dk_at dksJ0_get_0 16 rfl rfl)
theorem dJ0_get_17 : decode cJ0_get 17 = .ok (.aload_n 0, 1) := dk_42 (dk_at dksJ0_get_0 17 rfl rfl)
theorem dJ0_get_18 : decode cJ0_get 18 = .ok (.getfield 13, 3) := dk_180 0 13 (dk_at dksJ0_get_0 18 rfl rfl)
theorem dJ0_get_21 : decode cJ0_get 21 = .ok (.areturn, 1) := dk_176 (dk_at dksJ0_get_0 21 rfl rfl)
abbrev cJ0_of : ByteArray := prog_55_method_3_code
def yJ0_of : MethodName := ⟨RJ0, "of", "(Ljava/lang/Object;)Ljava/util/Optional;"⟩
def dkwJ0_of_0 : List UInt8 := [187, 0, 2, 89, 42, 184, 0, 17, 183, 0, 23, 176]
abbrev dktJ0_of_0 : List UInt8 := dkwJ0_of_0 ++ []
theorem dksJ0_of_0 : cJ0_of.data.toList.drop 0 = dktJ0_of_0 := by decide +kernel
theorem dJ0_of_0 : decode cJ0_of 0 = .ok (.new 2, 3) := dk_187 0 2 (dk_at dksJ0_of_0 0 rfl rfl)
theorem dJ0_of_3 : decode cJ0_of 3 = .ok (.dup, 1) := dk_89 (dk_at dksJ0_of_0 3 rfl rfl)
theorem dJ0_of_4 : decode cJ0_of 4 = .ok (.aload_n 0, 1) := dk_42 (dk_at dksJ0_of_0 4 rfl rfl)
theorem dJ0_of_5 : decode cJ0_of 5 = .ok (.invokestatic 17, 3) := dk_184 0 17 (dk_at dksJ0_of_0 5 rfl rfl)
theorem dJ0_of_8 : decode cJ0_of 8 = .ok (.invokespecial 23, 3) := dk_183 0 23 (dk_at dksJ0_of_0 8 rfl rfl)
theorem dJ0_of_11 : decode cJ0_of 11 = .ok (.areturn, 1) := dk_176 (dk_at dksJ0_of_0 11 rfl rfl)
abbrev cJ0_init : ByteArray := prog_55_method_2_code
def yJ0_init : MethodName := ⟨RJ0, "<init>", "(Ljava/lang/Object;)V"⟩
def dkwJ0_init_0 : List UInt8 := [42, 183, 0, 7, 42, 43, 181, 0, 13, 177]
abbrev dktJ0_init_0 : List UInt8 := dkwJ0_init_0 ++ []
theorem dksJ0_init_0 : cJ0_init.data.toList.drop 0 = dktJ0_init_0 := by decide +kernel
theorem dJ0_init_0 : decode cJ0_init 0 = .ok (.aload_n 0, 1) := dk_42 (dk_at dksJ0_init_0 0 rfl rfl)
theorem dJ0_init_1 : decode cJ0_init 1 = .ok (.invokespecial 7, 3) := dk_183 0 7 (dk_at dksJ0_init_0 1 rfl rfl)
theorem dJ0_init_4 : decode cJ0_init 4 = .ok (.aload_n 0, 1) := dk_42 (dk_at dksJ0_init_0 4 rfl rfl)
theorem dJ0_init_5 : decode cJ0_init 5 = .ok (.aload_n 1, 1) := dk_43 (dk_at dksJ0_init_0 5 rfl rfl)
theorem dJ0_init_6 : decode cJ0_init 6 = .ok (.putfield 13, 3) := dk_181 0 13 (dk_at dksJ0_init_0 6 rfl rfl)
theorem dJ0_init_9 : decode cJ0_init 9 = .ok (.return_, 1) := dk_177 (dk_at dksJ0_init_0 9 rfl rfl)
theorem q87 : (Jvm.Cond.initialized "java/util/Optional") ∈ lw_all := lw_g (lw_at lw_m1 2 rfl) rfl
theorem q136 : (Jvm.Cond.static ({ cls := "java/util/Optional", name := "empty", desc := "()Ljava/util/Optional;" } : Jvm.MethodName)) ∈ lw_all := lw_g (lw_at lw_m1 51 rfl) rfl
theorem q137 : (Jvm.Cond.code ({ cls := "java/util/Optional", name := "empty", desc := "()Ljava/util/Optional;" } : Jvm.MethodName) prog_55_method_1_code (1 : Nat) (Option.some (Jvm.ClassFile.FieldType.object "java/util/Optional"))) ∈ lw_all := lw_g (lw_at lw_m1 52 rfl) rfl
theorem q138 : (Jvm.Cond.fieldLink "java/util/Optional" (1 : Nat) "java/util/Optional" "EMPTY" "Ljava/util/Optional;") ∈ lw_all := lw_g (lw_at lw_m1 53 rfl) rfl
theorem q139 : (Jvm.Cond.laysStatic "java/util/Optional" "EMPTY" "Ljava/util/Optional;") ∈ lw_tbl := lw_at lw_m1 54 rfl
theorem q277 : (Jvm.Cond.instanceMethod ({ cls := "java/util/Optional", name := "isPresent", desc := "()Z" } : Jvm.MethodName)) ∈ lw_all := lw_g (lw_at lw_m1 192 rfl) rfl
theorem q278 : (Jvm.Cond.selects "java/util/Optional" ({ cls := "java/util/Optional", name := "isPresent", desc := "()Z" } : Jvm.MethodName) ({ cls := "java/util/Optional", name := "isPresent", desc := "()Z" } : Jvm.MethodName)) ∈ lw_all := lw_g (lw_at lw_m1 193 rfl) rfl
theorem q279 : (Jvm.Cond.code ({ cls := "java/util/Optional", name := "isPresent", desc := "()Z" } : Jvm.MethodName) prog_55_method_6_code (1 : Nat) (Option.some Jvm.ClassFile.FieldType.boolean)) ∈ lw_all := lw_g (lw_at lw_m1 194 rfl) rfl
theorem q281 : (Jvm.Cond.instanceMethod ({ cls := "java/util/Optional", name := "get", desc := "()Ljava/lang/Object;" } : Jvm.MethodName)) ∈ lw_all := lw_g (lw_at lw_m1 196 rfl) rfl
theorem q282 : (Jvm.Cond.selects "java/util/Optional" ({ cls := "java/util/Optional", name := "get", desc := "()Ljava/lang/Object;" } : Jvm.MethodName) ({ cls := "java/util/Optional", name := "get", desc := "()Ljava/lang/Object;" } : Jvm.MethodName)) ∈ lw_all := lw_g (lw_at lw_m1 197 rfl) rfl
theorem q283 : (Jvm.Cond.code ({ cls := "java/util/Optional", name := "get", desc := "()Ljava/lang/Object;" } : Jvm.MethodName) prog_55_method_5_code (1 : Nat) (Option.some (Jvm.ClassFile.FieldType.object "java/lang/Object"))) ∈ lw_all := lw_g (lw_at lw_m1 198 rfl) rfl
theorem q750 : (Jvm.Cond.static ({ cls := "java/util/Optional", name := "of", desc := "(Ljava/lang/Object;)Ljava/util/Optional;" } : Jvm.MethodName)) ∈ lw_all := lw_g (lw_at lw_m3 185 rfl) rfl
theorem q751 : (Jvm.Cond.code ({ cls := "java/util/Optional", name := "of", desc := "(Ljava/lang/Object;)Ljava/util/Optional;" } : Jvm.MethodName) prog_55_method_3_code (1 : Nat) (Option.some (Jvm.ClassFile.FieldType.object "java/util/Optional"))) ∈ lw_all := lw_g (lw_at lw_m3 186 rfl) rfl
theorem q752 : (Jvm.Cond.classLink "java/util/Optional" (2 : Nat) "java/util/Optional") ∈ lw_all := lw_g (lw_at lw_m3 187 rfl) rfl
theorem q753 : (Jvm.Cond.instantiable "java/util/Optional" (1 : Nat)) ∈ lw_all := lw_g (lw_at lw_m3 188 rfl) rfl
theorem q754 : (Jvm.Cond.methodLink "java/util/Optional" (17 : Nat) ({ cls := "java/util/Objects", name := "requireNonNull", desc := "(Ljava/lang/Object;)Ljava/lang/Object;" } : Jvm.MethodName)) ∈ lw_all := lw_g (lw_at lw_m3 189 rfl) rfl
theorem q757 : (Jvm.Cond.methodLink "java/util/Optional" (23 : Nat) ({ cls := "java/util/Optional", name := "<init>", desc := "(Ljava/lang/Object;)V" } : Jvm.MethodName)) ∈ lw_all := lw_g (lw_at lw_m3 192 rfl) rfl
theorem q758 : (Jvm.Cond.instanceMethod ({ cls := "java/util/Optional", name := "<init>", desc := "(Ljava/lang/Object;)V" } : Jvm.MethodName)) ∈ lw_all := lw_g (lw_at lw_m3 193 rfl) rfl
theorem q759 : (Jvm.Cond.code ({ cls := "java/util/Optional", name := "<init>", desc := "(Ljava/lang/Object;)V" } : Jvm.MethodName) prog_55_method_2_code (2 : Nat) (Option.none : Option Jvm.ClassFile.FieldType)) ∈ lw_all := lw_g (lw_at lw_m3 194 rfl) rfl
theorem q760 : (Jvm.Cond.methodLink "java/util/Optional" (7 : Nat) ({ cls := "java/lang/Object", name := "<init>", desc := "()V" } : Jvm.MethodName)) ∈ lw_all := lw_g (lw_at lw_m3 195 rfl) rfl
theorem q761 : (Jvm.Cond.fieldLink "java/util/Optional" (13 : Nat) "java/util/Optional" "value" "Ljava/lang/Object;") ∈ lw_all := lw_g (lw_at lw_m3 196 rfl) rfl
theorem q762 : (Jvm.Cond.laysFinal "java/util/Optional" "java/util/Optional" "value" "Ljava/lang/Object;") ∈ lw_all := lw_g (lw_at lw_m3 197 rfl) rfl
theorem q763 : (Jvm.Cond.soleField "java/util/Optional" "value") ∈ lw_all := lw_g (lw_at lw_m3 198 rfl) rfl
theorem q764 : (Jvm.Cond.superclass "java/util/Optional" "java/lang/Object") ∈ lw_all := lw_g (lw_at lw_m3 199 rfl) rfl
theorem q944 : (Jvm.Cond.selects "java/util/Optional" ({ cls := "java/lang/Object", name := "getClass", desc := "()Ljava/lang/Class;" } : Jvm.MethodName) ({ cls := "java/lang/Object", name := "getClass", desc := "()Ljava/lang/Class;" } : Jvm.MethodName)) ∈ lw_all := lw_g (lw_at lw_m4 139 rfl) rfl
theorem q2121 : (Jvm.Cond.castable "java/util/Optional" "java/lang/Object") ∈ lw_tbl := lw_at lw_m9 116 rfl
theorem in_J0 : ∀ w ∈ wsJ00, w ∈ lw_all := lw_in wsJ00 [762] (by decide +kernel) (by decide +kernel)
/-! java/util/AbstractCollection -/
set_option maxRecDepth 100000
def RJ1 : String := "java/util/AbstractCollection"
abbrev cJ1_init : ByteArray := prog_46_method_1_code
def yJ1_init : MethodName := ⟨RJ1, "<init>", "()V"⟩
theorem dJ1_init_0 : decode cJ1_init 0 = .ok (.aload_n 0, 1) := by decide +kernel
theorem dJ1_init_1 : decode cJ1_init 1 = .ok (.invokespecial 1, 3) := by decide +kernel
theorem dJ1_init_4 : decode cJ1_init 4 = .ok (.return_, 1) := by decide +kernel
theorem q88 : (Jvm.Cond.initialized "java/util/AbstractCollection") ∈ lw_all := lw_g (lw_at lw_m1 3 rfl) rfl
theorem q149 : (Jvm.Cond.instanceMethod ({ cls := "java/util/AbstractCollection", name := "<init>", desc := "()V" } : Jvm.MethodName)) ∈ lw_all := lw_g (lw_at lw_m1 64 rfl) rfl
theorem q150 : (Jvm.Cond.code ({ cls := "java/util/AbstractCollection", name := "<init>", desc := "()V" } : Jvm.MethodName) prog_46_method_1_code (1 : Nat) (Option.none : Option Jvm.ClassFile.FieldType)) ∈ lw_all := lw_g (lw_at lw_m1 65 rfl) rfl
theorem q151 : (Jvm.Cond.methodLink "java/util/AbstractCollection" (1 : Nat) ({ cls := "java/lang/Object", name := "<init>", desc := "()V" } : Jvm.MethodName)) ∈ lw_all := lw_g (lw_at lw_m1 66 rfl) rfl
/-! java/util/AbstractList -/
set_option maxRecDepth 100000
def RJ2 : String := "java/util/AbstractList"
abbrev cJ2_init : ByteArray := prog_47_method_1_code
def yJ2_init : MethodName := ⟨RJ2, "<init>", "()V"⟩
def dkwJ2_init_0 : List UInt8 := [42, 183, 0, 1, 42, 3, 181, 0, 7, 177]
abbrev dktJ2_init_0 : List UInt8 := dkwJ2_init_0 ++ []
theorem dksJ2_init_0 : cJ2_init.data.toList.drop 0 = dktJ2_init_0 := by decide +kernel
theorem dJ2_init_0 : decode cJ2_init 0 = .ok (.aload_n 0, 1) := dk_42 (dk_at dksJ2_init_0 0 rfl rfl)
theorem dJ2_init_1 : decode cJ2_init 1 = .ok (.invokespecial 1, 3) := dk_183 0 1 (dk_at dksJ2_init_0 1 rfl rfl)
theorem dJ2_init_4 : decode cJ2_init 4 = .ok (.aload_n 0, 1) := dk_42 (dk_at dksJ2_init_0 4 rfl rfl)
theorem dJ2_init_5 : decode cJ2_init 5 = .ok (.iconst 0, 1) := dk_3 (dk_at dksJ2_init_0 5 rfl rfl)
theorem dJ2_init_6 : decode cJ2_init 6 = .ok (.putfield 7, 3) := dk_181 0 7 (dk_at dksJ2_init_0 6 rfl rfl)
theorem dJ2_init_9 : decode cJ2_init 9 = .ok (.return_, 1) := dk_177 (dk_at dksJ2_init_0 9 rfl rfl)
theorem q89 : (Jvm.Cond.initialized "java/util/AbstractList") ∈ lw_all := lw_g (lw_at lw_m1 4 rfl) rfl
theorem q146 : (Jvm.Cond.instanceMethod ({ cls := "java/util/AbstractList", name := "<init>", desc := "()V" } : Jvm.MethodName)) ∈ lw_all := lw_g (lw_at lw_m1 61 rfl) rfl
theorem q147 : (Jvm.Cond.code ({ cls := "java/util/AbstractList", name := "<init>", desc := "()V" } : Jvm.MethodName) prog_47_method_1_code (1 : Nat) (Option.none : Option Jvm.ClassFile.FieldType)) ∈ lw_all := lw_g (lw_at lw_m1 62 rfl) rfl
theorem q148 : (Jvm.Cond.methodLink "java/util/AbstractList" (1 : Nat) ({ cls := "java/util/AbstractCollection", name := "<init>", desc := "()V" } : Jvm.MethodName)) ∈ lw_all := lw_g (lw_at lw_m1 63 rfl) rfl
theorem q158 : (Jvm.Cond.fieldLink "java/util/AbstractList" (7 : Nat) "java/util/AbstractList" "modCount" "I") ∈ lw_all := lw_g (lw_at lw_m1 73 rfl) rfl
theorem q167 : (Jvm.Cond.soleField "java/util/AbstractList" "modCount") ∈ lw_all := lw_g (lw_at lw_m1 82 rfl) rfl
/-! java/util/ArrayList -/
set_option maxRecDepth 100000
def RJ3 : String := "java/util/ArrayList"
def TJ3 : u_T := fun k => match k with
  | 0 => ("java/util/AbstractList", "modCount", "I", false)
  | 1 => ("java/util/ArrayList", "elementData", "[Ljava/lang/Object;", false)
  | _ => ("java/util/ArrayList", "size", "I", false)
def tyJ3 : Nat → FieldType := fun k => match k with
  | 0 => .int
  | 1 => .array (.object "java/lang/Object")
  | _ => .int
abbrev wsJ30 : List Cond := u_ws RJ3 TJ3 3
theorem nmJ3 : ∀ a, a < 3 → ∀ b, b < 3 → a ≠ b → (TJ3 a).2.1 ≠ (TJ3 b).2.1 := by decide +kernel
theorem tyJ3_ok : ∀ k, k < 3 → parseFieldDescriptor (TJ3 k).2.2.1 = some (tyJ3 k) := by decide +kernel
abbrev cJ3_init : ByteArray := prog_48_method_2_code
def yJ3_init : MethodName := ⟨RJ3, "<init>", "()V"⟩
def dkwJ3_init_0 : List UInt8 := [42, 183, 0, 1, 42, 178, 0, 39, 181, 0, 9, 177]
abbrev dktJ3_init_0 : List UInt8 := dkwJ3_init_0 ++ []
theorem dksJ3_init_0 : cJ3_init.data.toList.drop 0 = dktJ3_init_0 := by decide +kernel
theorem dJ3_init_0 : decode cJ3_init 0 = .ok (.aload_n 0, 1) := dk_42 (dk_at dksJ3_init_0 0 rfl rfl)
theorem dJ3_init_1 : decode cJ3_init 1 = .ok (.invokespecial 1, 3) := dk_183 0 1 (dk_at dksJ3_init_0 1 rfl rfl)
theorem dJ3_init_4 : decode cJ3_init 4 = .ok (.aload_n 0, 1) := dk_42 (dk_at dksJ3_init_0 4 rfl rfl)
theorem dJ3_init_5 : decode cJ3_init 5 = .ok (.getstatic 39, 3) := dk_178 0 39 (dk_at dksJ3_init_0 5 rfl rfl)
theorem dJ3_init_8 : decode cJ3_init 8 = .ok (.putfield 9, 3) := dk_181 0 9 (dk_at dksJ3_init_0 8 rfl rfl)
theorem dJ3_init_11 : decode cJ3_init 11 = .ok (.return_, 1) := dk_177 (dk_at dksJ3_init_0 11 rfl rfl)
abbrev cJ3_clear : ByteArray := prog_48_method_40_code
def yJ3_clear : MethodName := ⟨RJ3, "clear", "()V"⟩
def dkwJ3_clear_1 : List UInt8 := [181, 0, 48, 62, 29, 28, 162, 0, 13, 43, 29, 1, 83, 132, 3, 1, 167, 255, 244, 177]
abbrev dktJ3_clear_1 : List UInt8 := dkwJ3_clear_1 ++ []
def dkwJ3_clear_0 : List UInt8 := [42, 89, 180, 0, 63, 4, 96, 181, 0, 63, 42, 180, 0, 9, 76, 42, 180, 0, 48, 61, 42, 3, 90]
abbrev dktJ3_clear_0 : List UInt8 := dkwJ3_clear_0 ++ dktJ3_clear_1
theorem dksJ3_clear_0 : cJ3_clear.data.toList.drop 0 = dktJ3_clear_0 := by decide +kernel
theorem dksJ3_clear_1 : cJ3_clear.data.toList.drop 23 = dktJ3_clear_1 := dk_seg dksJ3_clear_0 23 rfl rfl
theorem dJ3_clear_0 : decode cJ3_clear 0 = .ok (.aload_n 0, 1) := dk_42 (dk_at dksJ3_clear_0 0 rfl rfl)
theorem dJ3_clear_1 : decode cJ3_clear 1 = .ok (.dup, 1) := dk_89 (dk_at dksJ3_clear_0 1 rfl rfl)
theorem dJ3_clear_2 : decode cJ3_clear 2 = .ok (.getfield 63, 3) := dk_180 0 63 (dk_at dksJ3_clear_0 2 rfl rfl)
theorem dJ3_clear_5 : decode cJ3_clear 5 = .ok (.iconst 1, 1) := dk_4 (dk_at dksJ3_clear_0 5 rfl rfl)
theorem dJ3_clear_6 : decode cJ3_clear 6 = .ok (.iadd, 1) := dk_96 (dk_at dksJ3_clear_0 6 rfl rfl)
theorem dJ3_clear_7 : decode cJ3_clear 7 = .ok (.putfield 63, 3) := dk_181 0 63 (dk_at dksJ3_clear_0 7 rfl rfl)
theorem dJ3_clear_10 : decode cJ3_clear 10 = .ok (.aload_n 0, 1) := dk_42 (dk_at dksJ3_clear_0 10 rfl rfl)
theorem dJ3_clear_11 : decode cJ3_clear 11 = .ok (.getfield 9, 3) := dk_180 0 9 (dk_at dksJ3_clear_0 11 rfl rfl)
theorem dJ3_clear_14 : decode cJ3_clear 14 = .ok (.astore_n 1, 1) := dk_76 (dk_at dksJ3_clear_0 14 rfl rfl)
theorem dJ3_clear_15 : decode cJ3_clear 15 = .ok (.aload_n 0, 1) := dk_42 (dk_at dksJ3_clear_0 15 rfl rfl)
theorem dJ3_clear_16 : decode cJ3_clear 16 = .ok (.getfield 48, 3) := dk_180 0 48 (dk_at dksJ3_clear_0 16 rfl rfl)
theorem dJ3_clear_19 : decode cJ3_clear 19 = .ok (.istore_n 2, 1) := dk_61 (dk_at dksJ3_clear_0 19 rfl rfl)
theorem dJ3_clear_20 : decode cJ3_clear 20 = .ok (.aload_n 0, 1) := dk_42 (dk_at dksJ3_clear_0 20 rfl rfl)
theorem dJ3_clear_21 : decode cJ3_clear 21 = .ok (.iconst 0, 1) := dk_3 (dk_at dksJ3_clear_0 21 rfl rfl)
theorem dJ3_clear_22 : decode cJ3_clear 22 = .ok (.dup_x1, 1) := dk_90 (dk_at dksJ3_clear_0 22 rfl rfl)
theorem dJ3_clear_23 : decode cJ3_clear 23 = .ok (.putfield 48, 3) := dk_181 0 48 (dk_at dksJ3_clear_1 0 rfl rfl)
theorem dJ3_clear_26 : decode cJ3_clear 26 = .ok (.istore_n 3, 1) := dk_62 (dk_at dksJ3_clear_1 3 rfl rfl)
theorem dJ3_clear_27 : decode cJ3_clear 27 = .ok (.iload_n 3, 1) := dk_29 (dk_at dksJ3_clear_1 4 rfl rfl)
theorem dJ3_clear_28 : decode cJ3_clear 28 = .ok (.iload_n 2, 1) := dk_28 (dk_at dksJ3_clear_1 5 rfl rfl)
theorem dJ3_clear_29 : decode cJ3_clear 29 = .ok (.if_icmp .ge 13, 3) := dk_162 0 13 (dk_at dksJ3_clear_1 6 rfl rfl)
theorem dJ3_clear_32 : decode cJ3_clear 32 = .ok (.aload_n 1, 1) := dk_43 (dk_at dksJ3_clear_1 9 rfl rfl)
theorem dJ3_clear_33 : decode cJ3_clear 33 = .ok (.iload_n 3, 1) := dk_29 (dk_at dksJ3_clear_1 10 rfl rfl)
theorem dJ3_clear_34 : decode cJ3_clear 34 = .ok (.aconst_null, 1) := dk_1 (dk_at dksJ3_clear_1 11 rfl rfl)
theorem dJ3_clear_35 : decode cJ3_clear 35 = .ok (.aastore, 1) := dk_83 (dk_at dksJ3_clear_1 12 rfl rfl)
theorem dJ3_clear_36 : decode cJ3_clear 36 = .ok (.iinc 3 1, 3) := dk_132 3 1 (dk_at dksJ3_clear_1 13 rfl rfl)
theorem dJ3_clear_39 : decode cJ3_clear 39 = .ok (.goto (-12), 3) := dk_167 255 244 (dk_at dksJ3_clear_1 16 rfl rfl)
theorem dJ3_clear_42 : decode cJ3_clear 42 = .ok (.return_, 1) := dk_177 (dk_at dksJ3_clear_1 19 rfl rfl)
abbrev cJ3_iterator : ByteArray := prog_48_method_55_code
def yJ3_iterator : MethodName := ⟨RJ3, "iterator", "()Ljava/util/Iterator;"⟩
def dkwJ3_iterator_0 : List UInt8 := [187, 1, 11, 89, 42, 183, 1, 13, 176]
abbrev dktJ3_iterator_0 : List UInt8 := dkwJ3_iterator_0 ++ []
theorem dksJ3_iterator_0 : cJ3_iterator.data.toList.drop 0 = dktJ3_iterator_0 := by decide +kernel
theorem dJ3_iterator_0 : decode cJ3_iterator 0 = .ok (.new 267, 3) := dk_187 1 11 (dk_at dksJ3_iterator_0 0 rfl rfl)
theorem dJ3_iterator_3 : decode cJ3_iterator 3 = .ok (.dup, 1) := dk_89 (dk_at dksJ3_iterator_0 3 rfl rfl)
theorem dJ3_iterator_4 : decode cJ3_iterator 4 = .ok (.aload_n 0, 1) := dk_42 (dk_at dksJ3_iterator_0 4 rfl rfl)
theorem dJ3_iterator_5 : decode cJ3_iterator 5 = .ok (.invokespecial 269, 3) := dk_183 1 13 (dk_at dksJ3_iterator_0 5 rfl rfl)
theorem dJ3_iterator_8 : decode cJ3_iterator 8 = .ok (.areturn, 1) := dk_176 (dk_at dksJ3_iterator_0 8 rfl rfl)
abbrev cJ3_size : ByteArray := prog_48_method_8_code
def yJ3_size : MethodName := ⟨RJ3, "size", "()I"⟩
theorem dJ3_size_0 : decode cJ3_size 0 = .ok (.aload_n 0, 1) := by decide +kernel
theorem dJ3_size_1 : decode cJ3_size 1 = .ok (.getfield 48, 3) := by decide +kernel
theorem dJ3_size_4 : decode cJ3_size 4 = .ok (.ireturn, 1) := by decide +kernel
abbrev cJ3_get : ByteArray := prog_48_method_20_code
def yJ3_get : MethodName := ⟨RJ3, "get", "(I)Ljava/lang/Object;"⟩
def dkwJ3_get_0 : List UInt8 := [27, 42, 180, 0, 48, 184, 0, 118, 87, 42, 27, 182, 0, 123, 176]
abbrev dktJ3_get_0 : List UInt8 := dkwJ3_get_0 ++ []
theorem dksJ3_get_0 : cJ3_get.data.toList.drop 0 = dktJ3_get_0 := by decide +kernel
theorem dJ3_get_0 : decode cJ3_get 0 = .ok (.iload_n 1, 1) := dk_27 (dk_at dksJ3_get_0 0 rfl rfl)
theorem dJ3_get_1 : decode cJ3_get 1 = .ok (.aload_n 0, 1) := dk_42 (dk_at dksJ3_get_0 1 rfl rfl)
theorem dJ3_get_2 : decode cJ3_get 2 = .ok (.getfield 48, 3) := dk_180 0 48 (dk_at dksJ3_get_0 2 rfl rfl)
theorem dJ3_get_5 : decode cJ3_get 5 = .ok (.invokestatic 118, 3) := dk_184 0 118 (dk_at dksJ3_get_0 5 rfl rfl)
theorem dJ3_get_8 : decode cJ3_get 8 = .ok (.pop, 1) := dk_87 (dk_at dksJ3_get_0 8 rfl rfl)
theorem dJ3_get_9 : decode cJ3_get 9 = .ok (.aload_n 0, 1) := dk_42 (dk_at dksJ3_get_0 9 rfl rfl)
theorem dJ3_get_10 : decode cJ3_get 10 = .ok (.iload_n 1, 1) := dk_27 (dk_at dksJ3_get_0 10 rfl rfl)
theorem dJ3_get_11 : decode cJ3_get 11 = .ok (.invokevirtual 123, 3) := dk_182 0 123 (dk_at dksJ3_get_0 11 rfl rfl)
theorem dJ3_get_14 : decode cJ3_get 14 = .ok (.areturn, 1) := dk_176 (dk_at dksJ3_get_0 14 rfl rfl)
abbrev cJ3_elementData : ByteArray := prog_48_method_18_code
def yJ3_elementData : MethodName := ⟨RJ3, "elementData", "(I)Ljava/lang/Object;"⟩
def dkwJ3_elementData_0 : List UInt8 := [42, 180, 0, 9, 27, 50, 176]
abbrev dktJ3_elementData_0 : List UInt8 := dkwJ3_elementData_0 ++ []
theorem dksJ3_elementData_0 : cJ3_elementData.data.toList.drop 0 = dktJ3_elementData_0 := by decide +kernel
theorem dJ3_elementData_0 : decode cJ3_elementData 0 = .ok (.aload_n 0, 1) := dk_42 (dk_at dksJ3_elementData_0 0 rfl rfl)
theorem dJ3_elementData_1 : decode cJ3_elementData 1 = .ok (.getfield 9, 3) := dk_180 0 9 (dk_at dksJ3_elementData_0 1 rfl rfl)
theorem dJ3_elementData_4 : decode cJ3_elementData 4 = .ok (.iload_n 1, 1) := dk_27 (dk_at dksJ3_elementData_0 4 rfl rfl)
theorem dJ3_elementData_5 : decode cJ3_elementData 5 = .ok (.aaload, 1) := dk_50 (dk_at dksJ3_elementData_0 5 rfl rfl)
theorem dJ3_elementData_6 : decode cJ3_elementData 6 = .ok (.areturn, 1) := dk_176 (dk_at dksJ3_elementData_0 6 rfl rfl)
abbrev cJ3_add : ByteArray := prog_48_method_25_code
def yJ3_add : MethodName := ⟨RJ3, "add", "(Ljava/lang/Object;)Z"⟩
def dkwJ3_add_1 : List UInt8 := [172]
abbrev dktJ3_add_1 : List UInt8 := dkwJ3_add_1 ++ []
def dkwJ3_add_0 : List UInt8 := [42, 89, 180, 0, 63, 4, 96, 181, 0, 63, 42, 43, 42, 180, 0, 9, 42, 180, 0, 48, 182, 0, 131, 4]
abbrev dktJ3_add_0 : List UInt8 := dkwJ3_add_0 ++ dktJ3_add_1
theorem dksJ3_add_0 : cJ3_add.data.toList.drop 0 = dktJ3_add_0 := by decide +kernel
theorem dksJ3_add_1 : cJ3_add.data.toList.drop 24 = dktJ3_add_1 := dk_seg dksJ3_add_0 24 rfl rfl
theorem dJ3_add_0 : decode cJ3_add 0 = .ok (.aload_n 0, 1) := dk_42 (dk_at dksJ3_add_0 0 rfl rfl)
theorem dJ3_add_1 : decode cJ3_add 1 = .ok (.dup, 1) := dk_89 (dk_at dksJ3_add_0 1 rfl rfl)
theorem dJ3_add_2 : decode cJ3_add 2 = .ok (.getfield 63, 3) := dk_180 0 63 (dk_at dksJ3_add_0 2 rfl rfl)
theorem dJ3_add_5 : decode cJ3_add 5 = .ok (.iconst 1, 1) := dk_4 (dk_at dksJ3_add_0 5 rfl rfl)
theorem dJ3_add_6 : decode cJ3_add 6 = .ok (.iadd, 1) := dk_96 (dk_at dksJ3_add_0 6 rfl rfl)
theorem dJ3_add_7 : decode cJ3_add 7 = .ok (.putfield 63, 3) := dk_181 0 63 (dk_at dksJ3_add_0 7 rfl rfl)
theorem dJ3_add_10 : decode cJ3_add 10 = .ok (.aload_n 0, 1) := dk_42 (dk_at dksJ3_add_0 10 rfl rfl)
theorem dJ3_add_11 : decode cJ3_add 11 = .ok (.aload_n 1, 1) := dk_43 (dk_at dksJ3_add_0 11 rfl rfl)
theorem dJ3_add_12 : decode cJ3_add 12 = .ok (.aload_n 0, 1) := dk_42 (dk_at dksJ3_add_0 12 rfl rfl)
theorem dJ3_add_13 : decode cJ3_add 13 = .ok (.getfield 9, 3) := dk_180 0 9 (dk_at dksJ3_add_0 13 rfl rfl)
theorem dJ3_add_16 : decode cJ3_add 16 = .ok (.aload_n 0, 1) := dk_42 (dk_at dksJ3_add_0 16 rfl rfl)
theorem dJ3_add_17 : decode cJ3_add 17 = .ok (.getfield 48, 3) := dk_180 0 48 (dk_at dksJ3_add_0 17 rfl rfl)
theorem dJ3_add_20 : decode cJ3_add 20 = .ok (.invokevirtual 131, 3) := dk_182 0 131 (dk_at dksJ3_add_0 20 rfl rfl)
theorem dJ3_add_23 : decode cJ3_add 23 = .ok (.iconst 1, 1) := dk_4 (dk_at dksJ3_add_0 23 rfl rfl)
theorem dJ3_add_24 : decode cJ3_add 24 = .ok (.ireturn, 1) := dk_172 (dk_at dksJ3_add_1 0 rfl rfl)
abbrev cJ3_add_2 : ByteArray := prog_48_method_24_code
def yJ3_add_2 : MethodName := ⟨RJ3, "add", "(Ljava/lang/Object;[Ljava/lang/Object;I)V"⟩
def dkwJ3_add_2_0 : List UInt8 := [29, 44, 190, 160, 0, 8, 42, 182, 0, 129, 77, 44, 29, 43, 83, 42, 29, 4, 96, 181, 0, 48, 177]
abbrev dktJ3_add_2_0 : List UInt8 := dkwJ3_add_2_0 ++ []
theorem dksJ3_add_2_0 : cJ3_add_2.data.toList.drop 0 = dktJ3_add_2_0 := by decide +kernel
theorem dJ3_add_2_0 : decode cJ3_add_2 0 = .ok (.iload_n 3, 1) := dk_29 (dk_at dksJ3_add_2_0 0 rfl rfl)
theorem dJ3_add_2_1 : decode cJ3_add_2 1 = .ok (.aload_n 2, 1) := dk_44 (dk_at dksJ3_add_2_0 1 rfl rfl)
theorem dJ3_add_2_2 : decode cJ3_add_2 2 = .ok (.arraylength, 1) := dk_190 (dk_at dksJ3_add_2_0 2 rfl rfl)
theorem dJ3_add_2_3 : decode cJ3_add_2 3 = .ok (.if_icmp .ne 8, 3) := dk_160 0 8 (dk_at dksJ3_add_2_0 3 rfl rfl)
theorem dJ3_add_2_6 : decode cJ3_add_2 6 = .ok (.aload_n 0, 1) := dk_42 (dk_at dksJ3_add_2_0 6 rfl rfl)
theorem dJ3_add_2_7 : decode cJ3_add_2 7 = .ok (.invokevirtual 129, 3) := dk_182 0 129 (dk_at dksJ3_add_2_0 7 rfl rfl)
theorem dJ3_add_2_10 : decode cJ3_add_2 10 = .ok (.astore_n 2, 1) := dk_77 (dk_at dksJ3_add_2_0 10 rfl rfl)
theorem dJ3_add_2_11 : decode cJ3_add_2 11 = .ok (.aload_n 2, 1) := dk_44 (dk_at dksJ3_add_2_0 11 rfl rfl)
theorem dJ3_add_2_12 : decode cJ3_add_2 12 = .ok (.iload_n 3, 1) := dk_29 (dk_at dksJ3_add_2_0 12 rfl rfl)
theorem dJ3_add_2_13 : decode cJ3_add_2 13 = .ok (.aload_n 1, 1) := dk_43 (dk_at dksJ3_add_2_0 13 rfl rfl)
theorem dJ3_add_2_14 : decode cJ3_add_2 14 = .ok (.aastore, 1) := dk_83 (dk_at dksJ3_add_2_0 14 rfl rfl)
theorem dJ3_add_2_15 : decode cJ3_add_2 15 = .ok (.aload_n 0, 1) := dk_42 (dk_at dksJ3_add_2_0 15 rfl rfl)
theorem dJ3_add_2_16 : decode cJ3_add_2 16 = .ok (.iload_n 3, 1) := dk_29 (dk_at dksJ3_add_2_0 16 rfl rfl)
theorem dJ3_add_2_17 : decode cJ3_add_2 17 = .ok (.iconst 1, 1) := dk_4 (dk_at dksJ3_add_2_0 17 rfl rfl)
theorem dJ3_add_2_18 : decode cJ3_add_2 18 = .ok (.iadd, 1) := dk_96 (dk_at dksJ3_add_2_0 18 rfl rfl)
theorem dJ3_add_2_19 : decode cJ3_add_2 19 = .ok (.putfield 48, 3) := dk_181 0 48 (dk_at dksJ3_add_2_0 19 rfl rfl)
theorem dJ3_add_2_22 : decode cJ3_add_2 22 = .ok (.return_, 1) := dk_177 (dk_at dksJ3_add_2_0 22 rfl rfl)
abbrev cJ3_grow : ByteArray := prog_48_method_7_code
def yJ3_grow : MethodName := ⟨RJ3, "grow", "()[Ljava/lang/Object;"⟩
def dkwJ3_grow_0 : List UInt8 := [42, 42, 180, 0, 48, 4, 96, 182, 0, 69, 176]
abbrev dktJ3_grow_0 : List UInt8 := dkwJ3_grow_0 ++ []
theorem dksJ3_grow_0 : cJ3_grow.data.toList.drop 0 = dktJ3_grow_0 := by decide +kernel
theorem dJ3_grow_0 : decode cJ3_grow 0 = .ok (.aload_n 0, 1) := dk_42 (dk_at dksJ3_grow_0 0 rfl rfl)
theorem dJ3_grow_1 : decode cJ3_grow 1 = .ok (.aload_n 0, 1) := dk_42 (dk_at dksJ3_grow_0 1 rfl rfl)
theorem dJ3_grow_2 : decode cJ3_grow 2 = .ok (.getfield 48, 3) := dk_180 0 48 (dk_at dksJ3_grow_0 2 rfl rfl)
theorem dJ3_grow_5 : decode cJ3_grow 5 = .ok (.iconst 1, 1) := dk_4 (dk_at dksJ3_grow_0 5 rfl rfl)
theorem dJ3_grow_6 : decode cJ3_grow 6 = .ok (.iadd, 1) := dk_96 (dk_at dksJ3_grow_0 6 rfl rfl)
theorem dJ3_grow_7 : decode cJ3_grow 7 = .ok (.invokevirtual 69, 3) := dk_182 0 69 (dk_at dksJ3_grow_0 7 rfl rfl)
theorem dJ3_grow_10 : decode cJ3_grow 10 = .ok (.areturn, 1) := dk_176 (dk_at dksJ3_grow_0 10 rfl rfl)
abbrev cJ3_grow_2 : ByteArray := prog_48_method_6_code
def yJ3_grow_2 : MethodName := ⟨RJ3, "grow", "(I)[Ljava/lang/Object;"⟩
def dkwJ3_grow_2_2 : List UInt8 := [27, 184, 0, 79, 189, 0, 7, 90, 181, 0, 9, 176]
abbrev dktJ3_grow_2_2 : List UInt8 := dkwJ3_grow_2_2 ++ []
def dkwJ3_grow_2_1 : List UInt8 := [28, 4, 122, 184, 0, 73, 62, 42, 42, 180, 0, 9, 29, 184, 0, 66, 90, 181, 0, 9, 176, 42, 16, 10]
abbrev dktJ3_grow_2_1 : List UInt8 := dkwJ3_grow_2_1 ++ dktJ3_grow_2_2
def dkwJ3_grow_2_0 : List UInt8 := [42, 180, 0, 9, 190, 61, 28, 157, 0, 13, 42, 180, 0, 9, 178, 0, 39, 165, 0, 28, 28, 27, 28, 100]
abbrev dktJ3_grow_2_0 : List UInt8 := dkwJ3_grow_2_0 ++ dktJ3_grow_2_1
theorem dksJ3_grow_2_0 : cJ3_grow_2.data.toList.drop 0 = dktJ3_grow_2_0 := by decide +kernel
theorem dksJ3_grow_2_1 : cJ3_grow_2.data.toList.drop 24 = dktJ3_grow_2_1 := dk_seg dksJ3_grow_2_0 24 rfl rfl
theorem dksJ3_grow_2_2 : cJ3_grow_2.data.toList.drop 48 = dktJ3_grow_2_2 := dk_seg dksJ3_grow_2_1 24 rfl rfl
theorem dJ3_grow_2_0 : decode cJ3_grow_2 0 = .ok (.aload_n 0, 1) := dk_42 (dk_at dksJ3_grow_2_0 0 rfl rfl)
theorem dJ3_grow_2_1 : decode cJ3_grow_2 1 = .ok (.getfield 9, 3) := dk_180 0 9 (dk_at dksJ3_grow_2_0 1 rfl rfl)
theorem dJ3_grow_2_4 : decode cJ3_grow_2 4 = .ok (.arraylength, 1) := dk_190 (dk_at dksJ3_grow_2_0 4 rfl rfl)
theorem dJ3_grow_2_5 : decode cJ3_grow_2 5 = .ok (.istore_n 2, 1) := dk_61 (dk_at dksJ3_grow_2_0 5 rfl rfl)
theorem dJ3_grow_2_6 : decode cJ3_grow_2 6 = .ok (.iload_n 2, 1) := dk_28 (dk_at dksJ3_grow_2_0 6 rfl rfl)
theorem dJ3_grow_2_7 : decode cJ3_grow_2 7 = .ok (.ifCond .gt 13, 3) := dk_157 0 13 (dk_at dksJ3_grow_2_0 7 rfl rfl)
theorem dJ3_grow_2_10 : decode cJ3_grow_2 10 = .ok (.aload_n 0, 1) := dk_42 (dk_at dksJ3_grow_2_0 10 rfl rfl)
theorem dJ3_grow_2_11 : decode cJ3_grow_2 11 = .ok (.getfield 9, 3) := dk_180 0 9 (dk_at dksJ3_grow_2_0 11 rfl rfl)
theorem dJ3_grow_2_14 : decode cJ3_grow_2 14 = .ok (.getstatic 39, 3) := dk_178 0 39 (dk_at dksJ3_grow_2_0 14 rfl rfl)
theorem dJ3_grow_2_17 : decode cJ3_grow_2 17 = .ok (.if_acmp .eq 28, 3) := dk_165 0 28 (dk_at dksJ3_grow_2_0 17 rfl rfl)
theorem dJ3_grow_2_20 : decode cJ3_grow_2 20 = .ok (.iload_n 2, 1) := dk_28 (dk_at dksJ3_grow_2_0 20 rfl rfl)
theorem dJ3_grow_2_21 : decode cJ3_grow_2 21 = .ok (.iload_n 1, 1) := dk_27 (dk_at dksJ3_grow_2_0 21 rfl rfl)
theorem dJ3_grow_2_22 : decode cJ3_grow_2 22 = .ok (.iload_n 2, 1) := dk_28 (dk_at dksJ3_grow_2_0 22 rfl rfl)
theorem dJ3_grow_2_23 : decode cJ3_grow_2 23 = .ok (.isub, 1) := dk_100 (dk_at dksJ3_grow_2_0 23 rfl rfl)
theorem dJ3_grow_2_24 : decode cJ3_grow_2 24 = .ok (.iload_n 2, 1) := dk_28 (dk_at dksJ3_grow_2_1 0 rfl rfl)
theorem dJ3_grow_2_25 : decode cJ3_grow_2 25 = .ok (.iconst 1, 1) := dk_4 (dk_at dksJ3_grow_2_1 1 rfl rfl)
theorem dJ3_grow_2_26 : decode cJ3_grow_2 26 = .ok (.ishr, 1) := dk_122 (dk_at dksJ3_grow_2_1 2 rfl rfl)
theorem dJ3_grow_2_27 : decode cJ3_grow_2 27 = .ok (.invokestatic 73, 3) := dk_184 0 73 (dk_at dksJ3_grow_2_1 3 rfl rfl)
theorem dJ3_grow_2_30 : decode cJ3_grow_2 30 = .ok (.istore_n 3, 1) := dk_62 (dk_at dksJ3_grow_2_1 6 rfl rfl)
theorem dJ3_grow_2_31 : decode cJ3_grow_2 31 = .ok (.aload_n 0, 1) := dk_42 (dk_at dksJ3_grow_2_1 7 rfl rfl)
theorem dJ3_grow_2_32 : decode cJ3_grow_2 32 = .ok (.aload_n 0, 1) := dk_42 (dk_at dksJ3_grow_2_1 8 rfl rfl)
theorem dJ3_grow_2_33 : decode cJ3_grow_2 33 = .ok (.getfield 9, 3) := dk_180 0 9 (dk_at dksJ3_grow_2_1 9 rfl rfl)
theorem dJ3_grow_2_36 : decode cJ3_grow_2 36 = .ok (.iload_n 3, 1) := dk_29 (dk_at dksJ3_grow_2_1 12 rfl rfl)
theorem dJ3_grow_2_37 : decode cJ3_grow_2 37 = .ok (.invokestatic 66, 3) := dk_184 0 66 (dk_at dksJ3_grow_2_1 13 rfl rfl)
theorem dJ3_grow_2_40 : decode cJ3_grow_2 40 = .ok (.dup_x1, 1) := dk_90 (dk_at dksJ3_grow_2_1 16 rfl rfl)
theorem dJ3_grow_2_41 : decode cJ3_grow_2 41 = .ok (.putfield 9, 3) := dk_181 0 9 (dk_at dksJ3_grow_2_1 17 rfl rfl)
theorem dJ3_grow_2_44 : decode cJ3_grow_2 44 = .ok (.areturn, 1) := dk_176 (dk_at dksJ3_grow_2_1 20 rfl rfl)
theorem dJ3_grow_2_45 : decode cJ3_grow_2 45 = .ok (.aload_n 0, 1) := dk_42 (dk_at dksJ3_grow_2_1 21 rfl rfl)
theorem dJ3_grow_2_46 : decode cJ3_grow_2 46 = .ok (.bipush 10, 2) := dk_16 10 (dk_at dksJ3_grow_2_1 22 rfl rfl)
theorem dJ3_grow_2_48 : decode cJ3_grow_2 48 = .ok (.iload_n 1, 1) := dk_27 (dk_at dksJ3_grow_2_2 0 rfl rfl)
theorem dJ3_grow_2_49 : decode cJ3_grow_2 49 = .ok (.invokestatic 79, 3) := dk_184 0 79 (dk_at dksJ3_grow_2_2 1 rfl rfl)
theorem dJ3_grow_2_52 : decode cJ3_grow_2 52 = .ok (.anewarray 7, 3) := dk_189 0 7 (dk_at dksJ3_grow_2_2 4 rfl rfl)
theorem dJ3_grow_2_55 : decode cJ3_grow_2 55 = .ok (.dup_x1, 1) := dk_90 (dk_at dksJ3_grow_2_2 7 rfl rfl)
theorem dJ3_grow_2_56 : decode cJ3_grow_2 56 = .ok (.putfield 9, 3) := dk_181 0 9 (dk_at dksJ3_grow_2_2 8 rfl rfl)
theorem dJ3_grow_2_59 : decode cJ3_grow_2 59 = .ok (.areturn, 1) := dk_176 (dk_at dksJ3_grow_2_2 11 rfl rfl)
abbrev cJ3_remove : ByteArray := prog_48_method_29_code
def yJ3_remove : MethodName := ⟨RJ3, "remove", "(I)Ljava/lang/Object;"⟩
def dkwJ3_remove_1 : List UInt8 := [45, 176]
abbrev dktJ3_remove_1 : List UInt8 := dkwJ3_remove_1 ++ []
def dkwJ3_remove_0 : List UInt8 := [27, 42, 180, 0, 48, 184, 0, 118, 87, 42, 180, 0, 9, 77, 44, 27, 50, 78, 42, 44, 27, 182, 0, 144]
abbrev dktJ3_remove_0 : List UInt8 := dkwJ3_remove_0 ++ dktJ3_remove_1
theorem dksJ3_remove_0 : cJ3_remove.data.toList.drop 0 = dktJ3_remove_0 := by decide +kernel
theorem dksJ3_remove_1 : cJ3_remove.data.toList.drop 24 = dktJ3_remove_1 := dk_seg dksJ3_remove_0 24 rfl rfl
theorem dJ3_remove_0 : decode cJ3_remove 0 = .ok (.iload_n 1, 1) := dk_27 (dk_at dksJ3_remove_0 0 rfl rfl)
theorem dJ3_remove_1 : decode cJ3_remove 1 = .ok (.aload_n 0, 1) := dk_42 (dk_at dksJ3_remove_0 1 rfl rfl)
theorem dJ3_remove_2 : decode cJ3_remove 2 = .ok (.getfield 48, 3) := dk_180 0 48 (dk_at dksJ3_remove_0 2 rfl rfl)
theorem dJ3_remove_5 : decode cJ3_remove 5 = .ok (.invokestatic 118, 3) := dk_184 0 118 (dk_at dksJ3_remove_0 5 rfl rfl)
theorem dJ3_remove_8 : decode cJ3_remove 8 = .ok (.pop, 1) := dk_87 (dk_at dksJ3_remove_0 8 rfl rfl)
theorem dJ3_remove_9 : decode cJ3_remove 9 = .ok (.aload_n 0, 1) := dk_42 (dk_at dksJ3_remove_0 9 rfl rfl)
theorem dJ3_remove_10 : decode cJ3_remove 10 = .ok (.getfield 9, 3) := dk_180 0 9 (dk_at dksJ3_remove_0 10 rfl rfl)
theorem dJ3_remove_13 : decode cJ3_remove 13 = .ok (.astore_n 2, 1) := dk_77 (dk_at dksJ3_remove_0 13 rfl rfl)
theorem dJ3_remove_14 : decode cJ3_remove 14 = .ok (.aload_n 2, 1) := dk_44 (dk_at dksJ3_remove_0 14 rfl rfl)
theorem dJ3_remove_15 : decode cJ3_remove 15 = .ok (.iload_n 1, 1) := dk_27 (dk_at dksJ3_remove_0 15 rfl rfl)
theorem dJ3_remove_16 : decode cJ3_remove 16 = .ok (.aaload, 1) := dk_50 (dk_at dksJ3_remove_0 16 rfl rfl)
theorem dJ3_remove_17 : decode cJ3_remove 17 = .ok (.astore_n 3, 1) := dk_78 (dk_at dksJ3_remove_0 17 rfl rfl)
theorem dJ3_remove_18 : decode cJ3_remove 18 = .ok (.aload_n 0, 1) := dk_42 (dk_at dksJ3_remove_0 18 rfl rfl)
theorem dJ3_remove_19 : decode cJ3_remove 19 = .ok (.aload_n 2, 1) := dk_44 (dk_at dksJ3_remove_0 19 rfl rfl)
theorem dJ3_remove_20 : decode cJ3_remove 20 = .ok (.iload_n 1, 1) := dk_27 (dk_at dksJ3_remove_0 20 rfl rfl)
theorem dJ3_remove_21 : decode cJ3_remove 21 = .ok (.invokevirtual 144, 3) := dk_182 0 144 (dk_at dksJ3_remove_0 21 rfl rfl)
theorem dJ3_remove_24 : decode cJ3_remove 24 = .ok (.aload_n 3, 1) := dk_45 (dk_at dksJ3_remove_1 0 rfl rfl)
theorem dJ3_remove_25 : decode cJ3_remove 25 = .ok (.areturn, 1) := dk_176 (dk_at dksJ3_remove_1 1 rfl rfl)
abbrev cJ3_fastRemove : ByteArray := prog_48_method_39_code
def yJ3_fastRemove : MethodName := ⟨RJ3, "fastRemove", "([Ljava/lang/Object;I)V"⟩
def dkwJ3_fastRemove_1 : List UInt8 := [4, 96, 43, 28, 29, 28, 100, 184, 0, 112, 43, 42, 29, 90, 181, 0, 48, 1, 83, 177]
abbrev dktJ3_fastRemove_1 : List UInt8 := dkwJ3_fastRemove_1 ++ []
def dkwJ3_fastRemove_0 : List UInt8 := [42, 89, 180, 0, 63, 4, 96, 181, 0, 63, 42, 180, 0, 48, 4, 100, 89, 62, 28, 164, 0, 15, 43, 28]
abbrev dktJ3_fastRemove_0 : List UInt8 := dkwJ3_fastRemove_0 ++ dktJ3_fastRemove_1
theorem dksJ3_fastRemove_0 : cJ3_fastRemove.data.toList.drop 0 = dktJ3_fastRemove_0 := by decide +kernel
theorem dksJ3_fastRemove_1 : cJ3_fastRemove.data.toList.drop 24 = dktJ3_fastRemove_1 := dk_seg dksJ3_fastRemove_0 24 rfl rfl
theorem dJ3_fastRemove_0 : decode cJ3_fastRemove 0 = .ok (.aload_n 0, 1) := dk_42 (dk_at dksJ3_fastRemove_0 0 rfl rfl)
theorem dJ3_fastRemove_1 : decode cJ3_fastRemove 1 = .ok (.dup, 1) := dk_89 (dk_at dksJ3_fastRemove_0 1 rfl rfl)
theorem dJ3_fastRemove_2 : decode cJ3_fastRemove 2 = .ok (.getfield 63, 3) := dk_180 0 63 (dk_at dksJ3_fastRemove_0 2 rfl rfl)
theorem dJ3_fastRemove_5 : decode cJ3_fastRemove 5 = .ok (.iconst 1, 1) := dk_4 (dk_at dksJ3_fastRemove_0 5 rfl rfl)
theorem dJ3_fastRemove_6 : decode cJ3_fastRemove 6 = .ok (.iadd, 1) := dk_96 (dk_at dksJ3_fastRemove_0 6 rfl rfl)
theorem dJ3_fastRemove_7 : decode cJ3_fastRemove 7 = .ok (.putfield 63, 3) := dk_181 0 63 (dk_at dksJ3_fastRemove_0 7 rfl rfl)
theorem dJ3_fastRemove_10 : decode cJ3_fastRemove 10 = .ok (.aload_n 0, 1) := dk_42 (dk_at dksJ3_fastRemove_0 10 rfl rfl)
theorem dJ3_fastRemove_11 : decode cJ3_fastRemove 11 = .ok (.getfield 48, 3) := dk_180 0 48 (dk_at dksJ3_fastRemove_0 11 rfl rfl)
theorem dJ3_fastRemove_14 : decode cJ3_fastRemove 14 = .ok (.iconst 1, 1) := dk_4 (dk_at dksJ3_fastRemove_0 14 rfl rfl)
theorem dJ3_fastRemove_15 : decode cJ3_fastRemove 15 = .ok (.isub, 1) := dk_100 (dk_at dksJ3_fastRemove_0 15 rfl rfl)
theorem dJ3_fastRemove_16 : decode cJ3_fastRemove 16 = .ok (.dup, 1) := dk_89 (dk_at dksJ3_fastRemove_0 16 rfl rfl)
theorem dJ3_fastRemove_17 : decode cJ3_fastRemove 17 = .ok (.istore_n 3, 1) := dk_62 (dk_at dksJ3_fastRemove_0 17 rfl rfl)
theorem dJ3_fastRemove_18 : decode cJ3_fastRemove 18 = .ok (.iload_n 2, 1) := dk_28 (dk_at dksJ3_fastRemove_0 18 rfl rfl)
theorem dJ3_fastRemove_19 : decode cJ3_fastRemove 19 = .ok (.if_icmp .le 15, 3) := dk_164 0 15 (dk_at dksJ3_fastRemove_0 19 rfl rfl)
theorem dJ3_fastRemove_22 : decode cJ3_fastRemove 22 = .ok (.aload_n 1, 1) := dk_43 (dk_at dksJ3_fastRemove_0 22 rfl rfl)
theorem dJ3_fastRemove_23 : decode cJ3_fastRemove 23 = .ok (.iload_n 2, 1) := dk_28 (dk_at dksJ3_fastRemove_0 23 rfl rfl)
theorem dJ3_fastRemove_24 : decode cJ3_fastRemove 24 = .ok (.iconst 1, 1) := dk_4 (dk_at dksJ3_fastRemove_1 0 rfl rfl)
theorem dJ3_fastRemove_25 : decode cJ3_fastRemove 25 = .ok (.iadd, 1) := dk_96 (dk_at dksJ3_fastRemove_1 1 rfl rfl)
theorem dJ3_fastRemove_26 : decode cJ3_fastRemove 26 = .ok (.aload_n 1, 1) := dk_43 (dk_at dksJ3_fastRemove_1 2 rfl rfl)
theorem dJ3_fastRemove_27 : decode cJ3_fastRemove 27 = .ok (.iload_n 2, 1) := dk_28 (dk_at dksJ3_fastRemove_1 3 rfl rfl)
theorem dJ3_fastRemove_28 : decode cJ3_fastRemove 28 = .ok (.iload_n 3, 1) := dk_29 (dk_at dksJ3_fastRemove_1 4 rfl rfl)
theorem dJ3_fastRemove_29 : decode cJ3_fastRemove 29 = .ok (.iload_n 2, 1) := dk_28 (dk_at dksJ3_fastRemove_1 5 rfl rfl)
theorem dJ3_fastRemove_30 : decode cJ3_fastRemove 30 = .ok (.isub, 1) := dk_100 (dk_at dksJ3_fastRemove_1 6 rfl rfl)
theorem dJ3_fastRemove_31 : decode cJ3_fastRemove 31 = .ok (.invokestatic 112, 3) := dk_184 0 112 (dk_at dksJ3_fastRemove_1 7 rfl rfl)
theorem dJ3_fastRemove_34 : decode cJ3_fastRemove 34 = .ok (.aload_n 1, 1) := dk_43 (dk_at dksJ3_fastRemove_1 10 rfl rfl)
theorem dJ3_fastRemove_35 : decode cJ3_fastRemove 35 = .ok (.aload_n 0, 1) := dk_42 (dk_at dksJ3_fastRemove_1 11 rfl rfl)
theorem dJ3_fastRemove_36 : decode cJ3_fastRemove 36 = .ok (.iload_n 3, 1) := dk_29 (dk_at dksJ3_fastRemove_1 12 rfl rfl)
theorem dJ3_fastRemove_37 : decode cJ3_fastRemove 37 = .ok (.dup_x1, 1) := dk_90 (dk_at dksJ3_fastRemove_1 13 rfl rfl)
theorem dJ3_fastRemove_38 : decode cJ3_fastRemove 38 = .ok (.putfield 48, 3) := dk_181 0 48 (dk_at dksJ3_fastRemove_1 14 rfl rfl)
theorem dJ3_fastRemove_41 : decode cJ3_fastRemove 41 = .ok (.aconst_null, 1) := dk_1 (dk_at dksJ3_fastRemove_1 17 rfl rfl)
theorem dJ3_fastRemove_42 : decode cJ3_fastRemove 42 = .ok (.aastore, 1) := dk_83 (dk_at dksJ3_fastRemove_1 18 rfl rfl)
theorem dJ3_fastRemove_43 : decode cJ3_fastRemove 43 = .ok (.return_, 1) := dk_177 (dk_at dksJ3_fastRemove_1 19 rfl rfl)
theorem q90 : (Jvm.Cond.initialized "java/util/ArrayList") ∈ lw_all := lw_g (lw_at lw_m1 5 rfl) rfl
theorem q141 : (Jvm.Cond.instantiable "java/util/ArrayList" (3 : Nat)) ∈ lw_all := lw_g (lw_at lw_m1 56 rfl) rfl
theorem q143 : (Jvm.Cond.instanceMethod ({ cls := "java/util/ArrayList", name := "<init>", desc := "()V" } : Jvm.MethodName)) ∈ lw_all := lw_g (lw_at lw_m1 58 rfl) rfl
theorem q144 : (Jvm.Cond.code ({ cls := "java/util/ArrayList", name := "<init>", desc := "()V" } : Jvm.MethodName) prog_48_method_2_code (1 : Nat) (Option.none : Option Jvm.ClassFile.FieldType)) ∈ lw_all := lw_g (lw_at lw_m1 59 rfl) rfl
theorem q145 : (Jvm.Cond.methodLink "java/util/ArrayList" (1 : Nat) ({ cls := "java/util/AbstractList", name := "<init>", desc := "()V" } : Jvm.MethodName)) ∈ lw_all := lw_g (lw_at lw_m1 60 rfl) rfl
theorem q152 : (Jvm.Cond.fieldLink "java/util/ArrayList" (39 : Nat) "java/util/ArrayList" "DEFAULTCAPACITY_EMPTY_ELEMENTDATA" "[Ljava/lang/Object;") ∈ lw_all := lw_g (lw_at lw_m1 67 rfl) rfl
theorem q153 : (Jvm.Cond.laysStatic "java/util/ArrayList" "DEFAULTCAPACITY_EMPTY_ELEMENTDATA" "[Ljava/lang/Object;") ∈ lw_tbl := lw_at lw_m1 68 rfl
theorem q154 : (Jvm.Cond.fieldLink "java/util/ArrayList" (9 : Nat) "java/util/ArrayList" "elementData" "[Ljava/lang/Object;") ∈ lw_all := lw_g (lw_at lw_m1 69 rfl) rfl
theorem q157 : (Jvm.Cond.fieldLink "java/util/ArrayList" (48 : Nat) "java/util/ArrayList" "size" "I") ∈ lw_all := lw_g (lw_at lw_m1 72 rfl) rfl
theorem q160 : (Jvm.Cond.sameField "java/util/ArrayList" "java/util/AbstractList" "modCount" "I") ∈ lw_all := lw_g (lw_at lw_m1 75 rfl) rfl
theorem q161 : (Jvm.Cond.fieldLink "java/util/ArrayList" (63 : Nat) "java/util/ArrayList" "modCount" "I") ∈ lw_all := lw_g (lw_at lw_m1 76 rfl) rfl
theorem q162 : (Jvm.Cond.lays "java/util/ArrayList" "java/util/ArrayList" "elementData" "[Ljava/lang/Object;") ∈ lw_all := lw_g (lw_at lw_m1 77 rfl) rfl
theorem q163 : (Jvm.Cond.soleField "java/util/ArrayList" "elementData") ∈ lw_all := lw_g (lw_at lw_m1 78 rfl) rfl
theorem q164 : (Jvm.Cond.lays "java/util/ArrayList" "java/util/ArrayList" "size" "I") ∈ lw_all := lw_g (lw_at lw_m1 79 rfl) rfl
theorem q165 : (Jvm.Cond.soleField "java/util/ArrayList" "size") ∈ lw_all := lw_g (lw_at lw_m1 80 rfl) rfl
theorem q166 : (Jvm.Cond.lays "java/util/ArrayList" "java/util/AbstractList" "modCount" "I") ∈ lw_all := lw_g (lw_at lw_m1 81 rfl) rfl
theorem q168 : (Jvm.Cond.superclass "java/util/ArrayList" "java/util/AbstractList") ∈ lw_all := lw_g (lw_at lw_m1 83 rfl) rfl
theorem q193 : (Jvm.Cond.instanceMethod ({ cls := "java/util/ArrayList", name := "clear", desc := "()V" } : Jvm.MethodName)) ∈ lw_all := lw_g (lw_at lw_m1 108 rfl) rfl
theorem q194 : (Jvm.Cond.selects "java/util/ArrayList" ({ cls := "java/util/ArrayList", name := "clear", desc := "()V" } : Jvm.MethodName) ({ cls := "java/util/ArrayList", name := "clear", desc := "()V" } : Jvm.MethodName)) ∈ lw_all := lw_g (lw_at lw_m1 109 rfl) rfl
theorem q195 : (Jvm.Cond.code ({ cls := "java/util/ArrayList", name := "clear", desc := "()V" } : Jvm.MethodName) prog_48_method_40_code (4 : Nat) (Option.none : Option Jvm.ClassFile.FieldType)) ∈ lw_all := lw_g (lw_at lw_m1 110 rfl) rfl
theorem q300 : (Jvm.Cond.instanceMethod ({ cls := "java/util/ArrayList", name := "iterator", desc := "()Ljava/util/Iterator;" } : Jvm.MethodName)) ∈ lw_all := lw_g (lw_at lw_m1 215 rfl) rfl
theorem q301 : (Jvm.Cond.selects "java/util/ArrayList" ({ cls := "java/util/ArrayList", name := "iterator", desc := "()Ljava/util/Iterator;" } : Jvm.MethodName) ({ cls := "java/util/ArrayList", name := "iterator", desc := "()Ljava/util/Iterator;" } : Jvm.MethodName)) ∈ lw_all := lw_g (lw_at lw_m1 216 rfl) rfl
theorem q302 : (Jvm.Cond.code ({ cls := "java/util/ArrayList", name := "iterator", desc := "()Ljava/util/Iterator;" } : Jvm.MethodName) prog_48_method_55_code (1 : Nat) (Option.some (Jvm.ClassFile.FieldType.object "java/util/Iterator"))) ∈ lw_all := lw_g (lw_at lw_m1 217 rfl) rfl
theorem q303 : (Jvm.Cond.classLink "java/util/ArrayList" (267 : Nat) "java/util/ArrayList$Itr") ∈ lw_all := lw_g (lw_at lw_m1 218 rfl) rfl
theorem q305 : (Jvm.Cond.methodLink "java/util/ArrayList" (269 : Nat) ({ cls := "java/util/ArrayList$Itr", name := "<init>", desc := "(Ljava/util/ArrayList;)V" } : Jvm.MethodName)) ∈ lw_all := lw_g (lw_at lw_m1 220 rfl) rfl
theorem q347 : (Jvm.Cond.instanceMethod ({ cls := "java/util/ArrayList", name := "size", desc := "()I" } : Jvm.MethodName)) ∈ lw_all := lw_g (lw_at lw_m2 22 rfl) rfl
theorem q348 : (Jvm.Cond.selects "java/util/ArrayList" ({ cls := "java/util/ArrayList", name := "size", desc := "()I" } : Jvm.MethodName) ({ cls := "java/util/ArrayList", name := "size", desc := "()I" } : Jvm.MethodName)) ∈ lw_all := lw_g (lw_at lw_m2 23 rfl) rfl
theorem q349 : (Jvm.Cond.code ({ cls := "java/util/ArrayList", name := "size", desc := "()I" } : Jvm.MethodName) prog_48_method_8_code (1 : Nat) (Option.some Jvm.ClassFile.FieldType.int)) ∈ lw_all := lw_g (lw_at lw_m2 24 rfl) rfl
theorem q351 : (Jvm.Cond.instanceMethod ({ cls := "java/util/ArrayList", name := "get", desc := "(I)Ljava/lang/Object;" } : Jvm.MethodName)) ∈ lw_all := lw_g (lw_at lw_m2 26 rfl) rfl
theorem q352 : (Jvm.Cond.selects "java/util/ArrayList" ({ cls := "java/util/ArrayList", name := "get", desc := "(I)Ljava/lang/Object;" } : Jvm.MethodName) ({ cls := "java/util/ArrayList", name := "get", desc := "(I)Ljava/lang/Object;" } : Jvm.MethodName)) ∈ lw_all := lw_g (lw_at lw_m2 27 rfl) rfl
theorem q353 : (Jvm.Cond.code ({ cls := "java/util/ArrayList", name := "get", desc := "(I)Ljava/lang/Object;" } : Jvm.MethodName) prog_48_method_20_code (2 : Nat) (Option.some (Jvm.ClassFile.FieldType.object "java/lang/Object"))) ∈ lw_all := lw_g (lw_at lw_m2 28 rfl) rfl
theorem q354 : (Jvm.Cond.methodLink "java/util/ArrayList" (118 : Nat) ({ cls := "java/util/Objects", name := "checkIndex", desc := "(II)I" } : Jvm.MethodName)) ∈ lw_all := lw_g (lw_at lw_m2 29 rfl) rfl
theorem q360 : (Jvm.Cond.methodLink "java/util/ArrayList" (123 : Nat) ({ cls := "java/util/ArrayList", name := "elementData", desc := "(I)Ljava/lang/Object;" } : Jvm.MethodName)) ∈ lw_all := lw_g (lw_at lw_m2 35 rfl) rfl
theorem q361 : (Jvm.Cond.instanceMethod ({ cls := "java/util/ArrayList", name := "elementData", desc := "(I)Ljava/lang/Object;" } : Jvm.MethodName)) ∈ lw_all := lw_g (lw_at lw_m2 36 rfl) rfl
theorem q362 : (Jvm.Cond.selects "java/util/ArrayList" ({ cls := "java/util/ArrayList", name := "elementData", desc := "(I)Ljava/lang/Object;" } : Jvm.MethodName) ({ cls := "java/util/ArrayList", name := "elementData", desc := "(I)Ljava/lang/Object;" } : Jvm.MethodName)) ∈ lw_all := lw_g (lw_at lw_m2 37 rfl) rfl
theorem q363 : (Jvm.Cond.code ({ cls := "java/util/ArrayList", name := "elementData", desc := "(I)Ljava/lang/Object;" } : Jvm.MethodName) prog_48_method_18_code (2 : Nat) (Option.some (Jvm.ClassFile.FieldType.object "java/lang/Object"))) ∈ lw_all := lw_g (lw_at lw_m2 38 rfl) rfl
theorem q889 : (Jvm.Cond.instanceMethod ({ cls := "java/util/ArrayList", name := "add", desc := "(Ljava/lang/Object;)Z" } : Jvm.MethodName)) ∈ lw_all := lw_g (lw_at lw_m4 84 rfl) rfl
theorem q890 : (Jvm.Cond.selects "java/util/ArrayList" ({ cls := "java/util/ArrayList", name := "add", desc := "(Ljava/lang/Object;)Z" } : Jvm.MethodName) ({ cls := "java/util/ArrayList", name := "add", desc := "(Ljava/lang/Object;)Z" } : Jvm.MethodName)) ∈ lw_all := lw_g (lw_at lw_m4 85 rfl) rfl
theorem q891 : (Jvm.Cond.code ({ cls := "java/util/ArrayList", name := "add", desc := "(Ljava/lang/Object;)Z" } : Jvm.MethodName) prog_48_method_25_code (2 : Nat) (Option.some Jvm.ClassFile.FieldType.boolean)) ∈ lw_all := lw_g (lw_at lw_m4 86 rfl) rfl
theorem q892 : (Jvm.Cond.methodLink "java/util/ArrayList" (131 : Nat) ({ cls := "java/util/ArrayList", name := "add", desc := "(Ljava/lang/Object;[Ljava/lang/Object;I)V" } : Jvm.MethodName)) ∈ lw_all := lw_g (lw_at lw_m4 87 rfl) rfl
theorem q893 : (Jvm.Cond.privateMethod ({ cls := "java/util/ArrayList", name := "add", desc := "(Ljava/lang/Object;[Ljava/lang/Object;I)V" } : Jvm.MethodName)) ∈ lw_tbl := lw_at lw_m4 88 rfl
theorem q894 : (Jvm.Cond.instanceMethod ({ cls := "java/util/ArrayList", name := "add", desc := "(Ljava/lang/Object;[Ljava/lang/Object;I)V" } : Jvm.MethodName)) ∈ lw_all := lw_g (lw_at lw_m4 89 rfl) rfl
theorem q895 : (Jvm.Cond.code ({ cls := "java/util/ArrayList", name := "add", desc := "(Ljava/lang/Object;[Ljava/lang/Object;I)V" } : Jvm.MethodName) prog_48_method_24_code (4 : Nat) (Option.none : Option Jvm.ClassFile.FieldType)) ∈ lw_all := lw_g (lw_at lw_m4 90 rfl) rfl
theorem q896 : (Jvm.Cond.methodLink "java/util/ArrayList" (129 : Nat) ({ cls := "java/util/ArrayList", name := "grow", desc := "()[Ljava/lang/Object;" } : Jvm.MethodName)) ∈ lw_all := lw_g (lw_at lw_m4 91 rfl) rfl
theorem q897 : (Jvm.Cond.privateMethod ({ cls := "java/util/ArrayList", name := "grow", desc := "()[Ljava/lang/Object;" } : Jvm.MethodName)) ∈ lw_tbl := lw_at lw_m4 92 rfl
theorem q898 : (Jvm.Cond.instanceMethod ({ cls := "java/util/ArrayList", name := "grow", desc := "()[Ljava/lang/Object;" } : Jvm.MethodName)) ∈ lw_all := lw_g (lw_at lw_m4 93 rfl) rfl
theorem q899 : (Jvm.Cond.code ({ cls := "java/util/ArrayList", name := "grow", desc := "()[Ljava/lang/Object;" } : Jvm.MethodName) prog_48_method_7_code (1 : Nat) (Option.some (Jvm.ClassFile.FieldType.array (Jvm.ClassFile.FieldType.object "java/lang/Object")))) ∈ lw_all := lw_g (lw_at lw_m4 94 rfl) rfl
theorem q900 : (Jvm.Cond.methodLink "java/util/ArrayList" (69 : Nat) ({ cls := "java/util/ArrayList", name := "grow", desc := "(I)[Ljava/lang/Object;" } : Jvm.MethodName)) ∈ lw_all := lw_g (lw_at lw_m4 95 rfl) rfl
theorem q901 : (Jvm.Cond.privateMethod ({ cls := "java/util/ArrayList", name := "grow", desc := "(I)[Ljava/lang/Object;" } : Jvm.MethodName)) ∈ lw_tbl := lw_at lw_m4 96 rfl
theorem q902 : (Jvm.Cond.instanceMethod ({ cls := "java/util/ArrayList", name := "grow", desc := "(I)[Ljava/lang/Object;" } : Jvm.MethodName)) ∈ lw_all := lw_g (lw_at lw_m4 97 rfl) rfl
theorem q903 : (Jvm.Cond.code ({ cls := "java/util/ArrayList", name := "grow", desc := "(I)[Ljava/lang/Object;" } : Jvm.MethodName) prog_48_method_6_code (4 : Nat) (Option.some (Jvm.ClassFile.FieldType.array (Jvm.ClassFile.FieldType.object "java/lang/Object")))) ∈ lw_all := lw_g (lw_at lw_m4 98 rfl) rfl
theorem q904 : (Jvm.Cond.methodLink "java/util/ArrayList" (73 : Nat) ({ cls := "jdk/internal/util/ArraysSupport", name := "newLength", desc := "(III)I" } : Jvm.MethodName)) ∈ lw_all := lw_g (lw_at lw_m4 99 rfl) rfl
theorem q912 : (Jvm.Cond.methodLink "java/util/ArrayList" (66 : Nat) ({ cls := "java/util/Arrays", name := "copyOf", desc := "([Ljava/lang/Object;I)[Ljava/lang/Object;" } : Jvm.MethodName)) ∈ lw_all := lw_g (lw_at lw_m4 107 rfl) rfl
theorem q942 : (Jvm.Cond.selects "java/util/ArrayList" ({ cls := "java/lang/Object", name := "getClass", desc := "()Ljava/lang/Class;" } : Jvm.MethodName) ({ cls := "java/lang/Object", name := "getClass", desc := "()Ljava/lang/Class;" } : Jvm.MethodName)) ∈ lw_all := lw_g (lw_at lw_m4 137 rfl) rfl
theorem q956 : (Jvm.Cond.methodLink "java/util/ArrayList" (79 : Nat) ({ cls := "java/lang/Math", name := "max", desc := "(II)I" } : Jvm.MethodName)) ∈ lw_all := lw_g (lw_at lw_m4 151 rfl) rfl
theorem q957 : (Jvm.Cond.classLink "java/util/ArrayList" (7 : Nat) "java/lang/Object") ∈ lw_all := lw_g (lw_at lw_m4 152 rfl) rfl
theorem q1610 : (Jvm.Cond.castable "java/util/ArrayList" "java/util/List") ∈ lw_tbl := lw_at lw_m7 85 rfl
theorem q1611 : (Jvm.Cond.selects "java/util/ArrayList" ({ cls := "java/util/List", name := "size", desc := "()I" } : Jvm.MethodName) ({ cls := "java/util/ArrayList", name := "size", desc := "()I" } : Jvm.MethodName)) ∈ lw_all := lw_g (lw_at lw_m7 86 rfl) rfl
theorem q1612 : (Jvm.Cond.unhidden "java/util/ArrayList" "size" "()I") ∈ lw_tbl := lw_at lw_m7 87 rfl
theorem q1613 : (Jvm.Cond.publicMethod ({ cls := "java/util/ArrayList", name := "size", desc := "()I" } : Jvm.MethodName)) ∈ lw_tbl := lw_at lw_m7 88 rfl
theorem q1618 : (Jvm.Cond.selects "java/util/ArrayList" ({ cls := "java/util/List", name := "get", desc := "(I)Ljava/lang/Object;" } : Jvm.MethodName) ({ cls := "java/util/ArrayList", name := "get", desc := "(I)Ljava/lang/Object;" } : Jvm.MethodName)) ∈ lw_all := lw_g (lw_at lw_m7 93 rfl) rfl
theorem q1619 : (Jvm.Cond.unhidden "java/util/ArrayList" "get" "(I)Ljava/lang/Object;") ∈ lw_tbl := lw_at lw_m7 94 rfl
theorem q1620 : (Jvm.Cond.publicMethod ({ cls := "java/util/ArrayList", name := "get", desc := "(I)Ljava/lang/Object;" } : Jvm.MethodName)) ∈ lw_tbl := lw_at lw_m7 95 rfl
theorem q1733 : (Jvm.Cond.selects "java/util/ArrayList" ({ cls := "java/util/List", name := "add", desc := "(Ljava/lang/Object;)Z" } : Jvm.MethodName) ({ cls := "java/util/ArrayList", name := "add", desc := "(Ljava/lang/Object;)Z" } : Jvm.MethodName)) ∈ lw_all := lw_g (lw_at lw_m7 208 rfl) rfl
theorem q1734 : (Jvm.Cond.unhidden "java/util/ArrayList" "add" "(Ljava/lang/Object;)Z") ∈ lw_tbl := lw_at lw_m7 209 rfl
theorem q1735 : (Jvm.Cond.publicMethod ({ cls := "java/util/ArrayList", name := "add", desc := "(Ljava/lang/Object;)Z" } : Jvm.MethodName)) ∈ lw_tbl := lw_at lw_m7 210 rfl
theorem q2048 : (Jvm.Cond.selects "java/util/ArrayList" ({ cls := "java/util/List", name := "remove", desc := "(I)Ljava/lang/Object;" } : Jvm.MethodName) ({ cls := "java/util/ArrayList", name := "remove", desc := "(I)Ljava/lang/Object;" } : Jvm.MethodName)) ∈ lw_all := lw_g (lw_at lw_m9 43 rfl) rfl
theorem q2049 : (Jvm.Cond.unhidden "java/util/ArrayList" "remove" "(I)Ljava/lang/Object;") ∈ lw_tbl := lw_at lw_m9 44 rfl
theorem q2050 : (Jvm.Cond.instanceMethod ({ cls := "java/util/ArrayList", name := "remove", desc := "(I)Ljava/lang/Object;" } : Jvm.MethodName)) ∈ lw_all := lw_g (lw_at lw_m9 45 rfl) rfl
theorem q2051 : (Jvm.Cond.publicMethod ({ cls := "java/util/ArrayList", name := "remove", desc := "(I)Ljava/lang/Object;" } : Jvm.MethodName)) ∈ lw_tbl := lw_at lw_m9 46 rfl
theorem q2052 : (Jvm.Cond.code ({ cls := "java/util/ArrayList", name := "remove", desc := "(I)Ljava/lang/Object;" } : Jvm.MethodName) prog_48_method_29_code (4 : Nat) (Option.some (Jvm.ClassFile.FieldType.object "java/lang/Object"))) ∈ lw_all := lw_g (lw_at lw_m9 47 rfl) rfl
theorem q2053 : (Jvm.Cond.methodLink "java/util/ArrayList" (144 : Nat) ({ cls := "java/util/ArrayList", name := "fastRemove", desc := "([Ljava/lang/Object;I)V" } : Jvm.MethodName)) ∈ lw_all := lw_g (lw_at lw_m9 48 rfl) rfl
theorem q2054 : (Jvm.Cond.privateMethod ({ cls := "java/util/ArrayList", name := "fastRemove", desc := "([Ljava/lang/Object;I)V" } : Jvm.MethodName)) ∈ lw_tbl := lw_at lw_m9 49 rfl
theorem q2055 : (Jvm.Cond.instanceMethod ({ cls := "java/util/ArrayList", name := "fastRemove", desc := "([Ljava/lang/Object;I)V" } : Jvm.MethodName)) ∈ lw_all := lw_g (lw_at lw_m9 50 rfl) rfl
theorem q2056 : (Jvm.Cond.code ({ cls := "java/util/ArrayList", name := "fastRemove", desc := "([Ljava/lang/Object;I)V" } : Jvm.MethodName) prog_48_method_39_code (4 : Nat) (Option.none : Option Jvm.ClassFile.FieldType)) ∈ lw_all := lw_g (lw_at lw_m9 51 rfl) rfl
theorem q2057 : (Jvm.Cond.methodLink "java/util/ArrayList" (112 : Nat) ({ cls := "java/lang/System", name := "arraycopy", desc := "(Ljava/lang/Object;ILjava/lang/Object;II)V" } : Jvm.MethodName)) ∈ lw_all := lw_g (lw_at lw_m9 52 rfl) rfl
theorem q2122 : (Jvm.Cond.castable "java/util/ArrayList" "java/lang/Object") ∈ lw_tbl := lw_at lw_m9 117 rfl
theorem in_J3 : ∀ w ∈ wsJ30, w ∈ lw_all := lw_in wsJ30 [166, 162, 164] (by decide +kernel) (by decide +kernel)
/-! java/util/Objects -/
set_option maxRecDepth 100000
def RJ4 : String := "java/util/Objects"
abbrev cJ4_checkIndex : ByteArray := prog_54_method_17_code
def yJ4_checkIndex : MethodName := ⟨RJ4, "checkIndex", "(II)I"⟩
def dkwJ4_checkIndex_0 : List UInt8 := [26, 27, 1, 184, 0, 105, 172]
abbrev dktJ4_checkIndex_0 : List UInt8 := dkwJ4_checkIndex_0 ++ []
theorem dksJ4_checkIndex_0 : cJ4_checkIndex.data.toList.drop 0 = dktJ4_checkIndex_0 := by decide +kernel
theorem dJ4_checkIndex_0 : decode cJ4_checkIndex 0 = .ok (.iload_n 0, 1) := dk_26 (dk_at dksJ4_checkIndex_0 0 rfl rfl)
theorem dJ4_checkIndex_1 : decode cJ4_checkIndex 1 = .ok (.iload_n 1, 1) := dk_27 (dk_at dksJ4_checkIndex_0 1 rfl rfl)
theorem dJ4_checkIndex_2 : decode cJ4_checkIndex 2 = .ok (.aconst_null, 1) := dk_1 (dk_at dksJ4_checkIndex_0 2 rfl rfl)
theorem dJ4_checkIndex_3 : decode cJ4_checkIndex 3 = .ok (.invokestatic 105, 3) := dk_184 0 105 (dk_at dksJ4_checkIndex_0 3 rfl rfl)
theorem dJ4_checkIndex_6 : decode cJ4_checkIndex 6 = .ok (.ireturn, 1) := dk_172 (dk_at dksJ4_checkIndex_0 6 rfl rfl)
abbrev cJ4_requireNonNull : ByteArray := prog_54_method_10_code
def yJ4_requireNonNull : MethodName := ⟨RJ4, "requireNonNull", "(Ljava/lang/Object;)Ljava/lang/Object;"⟩
def dkwJ4_requireNonNull_0 : List UInt8 := [42, 199, 0, 11, 187, 0, 84, 89, 183, 0, 86, 191, 42, 176]
abbrev dktJ4_requireNonNull_0 : List UInt8 := dkwJ4_requireNonNull_0 ++ []
theorem dksJ4_requireNonNull_0 : cJ4_requireNonNull.data.toList.drop 0 = dktJ4_requireNonNull_0 := by decide +kernel
theorem dJ4_requireNonNull_0 : decode cJ4_requireNonNull 0 = .ok (.aload_n 0, 1) := dk_42 (dk_at dksJ4_requireNonNull_0 0 rfl rfl)
theorem dJ4_requireNonNull_1 : decode cJ4_requireNonNull 1 = .ok (.ifnonnull 11, 3) := dk_199 0 11 (dk_at dksJ4_requireNonNull_0 1 rfl rfl)
theorem dJ4_requireNonNull_4 : decode cJ4_requireNonNull 4 = .ok (.new 84, 3) := dk_187 0 84 (dk_at dksJ4_requireNonNull_0 4 rfl rfl)
theorem dJ4_requireNonNull_7 : decode cJ4_requireNonNull 7 = .ok (.dup, 1) := dk_89 (dk_at dksJ4_requireNonNull_0 7 rfl rfl)
theorem dJ4_requireNonNull_8 : decode cJ4_requireNonNull 8 = .ok (.invokespecial 86, 3) := dk_183 0 86 (dk_at dksJ4_requireNonNull_0 8 rfl rfl)
theorem dJ4_requireNonNull_11 : decode cJ4_requireNonNull 11 = .ok (.athrow, 1) := dk_191 (dk_at dksJ4_requireNonNull_0 11 rfl rfl)
theorem dJ4_requireNonNull_12 : decode cJ4_requireNonNull 12 = .ok (.aload_n 0, 1) := dk_42 (dk_at dksJ4_requireNonNull_0 12 rfl rfl)
theorem dJ4_requireNonNull_13 : decode cJ4_requireNonNull 13 = .ok (.areturn, 1) := dk_176 (dk_at dksJ4_requireNonNull_0 13 rfl rfl)
theorem q94 : (Jvm.Cond.initialized "java/util/Objects") ∈ lw_all := lw_g (lw_at lw_m1 9 rfl) rfl
theorem q355 : (Jvm.Cond.static ({ cls := "java/util/Objects", name := "checkIndex", desc := "(II)I" } : Jvm.MethodName)) ∈ lw_all := lw_g (lw_at lw_m2 30 rfl) rfl
theorem q356 : (Jvm.Cond.code ({ cls := "java/util/Objects", name := "checkIndex", desc := "(II)I" } : Jvm.MethodName) prog_54_method_17_code (2 : Nat) (Option.some Jvm.ClassFile.FieldType.int)) ∈ lw_all := lw_g (lw_at lw_m2 31 rfl) rfl
theorem q357 : (Jvm.Cond.methodLink "java/util/Objects" (105 : Nat) ({ cls := "jdk/internal/util/Preconditions", name := "checkIndex", desc := "(IILjava/util/function/BiFunction;)I" } : Jvm.MethodName)) ∈ lw_all := lw_g (lw_at lw_m2 32 rfl) rfl
theorem q755 : (Jvm.Cond.static ({ cls := "java/util/Objects", name := "requireNonNull", desc := "(Ljava/lang/Object;)Ljava/lang/Object;" } : Jvm.MethodName)) ∈ lw_all := lw_g (lw_at lw_m3 190 rfl) rfl
theorem q756 : (Jvm.Cond.code ({ cls := "java/util/Objects", name := "requireNonNull", desc := "(Ljava/lang/Object;)Ljava/lang/Object;" } : Jvm.MethodName) prog_54_method_10_code (1 : Nat) (Option.some (Jvm.ClassFile.FieldType.object "java/lang/Object"))) ∈ lw_all := lw_g (lw_at lw_m3 191 rfl) rfl
/-! jdk/internal/util/Preconditions -/
set_option maxRecDepth 100000
def RJ5 : String := "jdk/internal/util/Preconditions"
abbrev cJ5_checkIndex : ByteArray := prog_59_method_11_code
def yJ5_checkIndex : MethodName := ⟨RJ5, "checkIndex", "(IILjava/util/function/BiFunction;)I"⟩
def dkwJ5_checkIndex_0 : List UInt8 := [26, 155, 0, 8, 26, 27, 161, 0, 10, 44, 26, 27, 184, 0, 95, 191, 26, 172]
abbrev dktJ5_checkIndex_0 : List UInt8 := dkwJ5_checkIndex_0 ++ []
theorem dksJ5_checkIndex_0 : cJ5_checkIndex.data.toList.drop 0 = dktJ5_checkIndex_0 := by decide +kernel
theorem dJ5_checkIndex_0 : decode cJ5_checkIndex 0 = .ok (.iload_n 0, 1) := dk_26 (dk_at dksJ5_checkIndex_0 0 rfl rfl)
theorem dJ5_checkIndex_1 : decode cJ5_checkIndex 1 = .ok (.ifCond .lt 8, 3) := dk_155 0 8 (dk_at dksJ5_checkIndex_0 1 rfl rfl)
theorem dJ5_checkIndex_4 : decode cJ5_checkIndex 4 = .ok (.iload_n 0, 1) := dk_26 (dk_at dksJ5_checkIndex_0 4 rfl rfl)
theorem dJ5_checkIndex_5 : decode cJ5_checkIndex 5 = .ok (.iload_n 1, 1) := dk_27 (dk_at dksJ5_checkIndex_0 5 rfl rfl)
theorem dJ5_checkIndex_6 : decode cJ5_checkIndex 6 = .ok (.if_icmp .lt 10, 3) := dk_161 0 10 (dk_at dksJ5_checkIndex_0 6 rfl rfl)
theorem dJ5_checkIndex_9 : decode cJ5_checkIndex 9 = .ok (.aload_n 2, 1) := dk_44 (dk_at dksJ5_checkIndex_0 9 rfl rfl)
theorem dJ5_checkIndex_10 : decode cJ5_checkIndex 10 = .ok (.iload_n 0, 1) := dk_26 (dk_at dksJ5_checkIndex_0 10 rfl rfl)
theorem dJ5_checkIndex_11 : decode cJ5_checkIndex 11 = .ok (.iload_n 1, 1) := dk_27 (dk_at dksJ5_checkIndex_0 11 rfl rfl)
theorem dJ5_checkIndex_12 : decode cJ5_checkIndex 12 = .ok (.invokestatic 95, 3) := dk_184 0 95 (dk_at dksJ5_checkIndex_0 12 rfl rfl)
theorem dJ5_checkIndex_15 : decode cJ5_checkIndex 15 = .ok (.athrow, 1) := dk_191 (dk_at dksJ5_checkIndex_0 15 rfl rfl)
theorem dJ5_checkIndex_16 : decode cJ5_checkIndex 16 = .ok (.iload_n 0, 1) := dk_26 (dk_at dksJ5_checkIndex_0 16 rfl rfl)
theorem dJ5_checkIndex_17 : decode cJ5_checkIndex 17 = .ok (.ireturn, 1) := dk_172 (dk_at dksJ5_checkIndex_0 17 rfl rfl)
abbrev cJ5_checkFromIndexSize : ByteArray := prog_59_method_13_code
def yJ5_checkFromIndexSize : MethodName := ⟨RJ5, "checkFromIndexSize", "(IIILjava/util/function/BiFunction;)I"⟩
def dkwJ5_checkFromIndexSize_1 : List UInt8 := [172]
abbrev dktJ5_checkFromIndexSize_1 : List UInt8 := dkwJ5_checkFromIndexSize_1 ++ []
def dkwJ5_checkFromIndexSize_0 : List UInt8 := [28, 26, 128, 27, 128, 155, 0, 10, 27, 28, 26, 100, 164, 0, 11, 45, 26, 27, 28, 184, 0, 103, 191, 26]
abbrev dktJ5_checkFromIndexSize_0 : List UInt8 := dkwJ5_checkFromIndexSize_0 ++ dktJ5_checkFromIndexSize_1
theorem dksJ5_checkFromIndexSize_0 : cJ5_checkFromIndexSize.data.toList.drop 0 = dktJ5_checkFromIndexSize_0 := by decide +kernel
theorem dksJ5_checkFromIndexSize_1 : cJ5_checkFromIndexSize.data.toList.drop 24 = dktJ5_checkFromIndexSize_1 := dk_seg dksJ5_checkFromIndexSize_0 24 rfl rfl
theorem dJ5_checkFromIndexSize_0 : decode cJ5_checkFromIndexSize 0 = .ok (.iload_n 2, 1) := dk_28 (dk_at dksJ5_checkFromIndexSize_0 0 rfl rfl)
theorem dJ5_checkFromIndexSize_1 : decode cJ5_checkFromIndexSize 1 = .ok (.iload_n 0, 1) := dk_26 (dk_at dksJ5_checkFromIndexSize_0 1 rfl rfl)
theorem dJ5_checkFromIndexSize_2 : decode cJ5_checkFromIndexSize 2 = .ok (.ior, 1) := dk_128 (dk_at dksJ5_checkFromIndexSize_0 2 rfl rfl)
theorem dJ5_checkFromIndexSize_3 : decode cJ5_checkFromIndexSize 3 = .ok (.iload_n 1, 1) := dk_27 (dk_at dksJ5_checkFromIndexSize_0 3 rfl rfl)
theorem dJ5_checkFromIndexSize_4 : decode cJ5_checkFromIndexSize 4 = .ok (.ior, 1) := dk_128 (dk_at dksJ5_checkFromIndexSize_0 4 rfl rfl)
theorem dJ5_checkFromIndexSize_5 : decode cJ5_checkFromIndexSize 5 = .ok (.ifCond .lt 10, 3) := dk_155 0 10 (dk_at dksJ5_checkFromIndexSize_0 5 rfl rfl)
theorem dJ5_checkFromIndexSize_8 : decode cJ5_checkFromIndexSize 8 = .ok (.iload_n 1, 1) := dk_27 (dk_at dksJ5_checkFromIndexSize_0 8 rfl rfl)
theorem dJ5_checkFromIndexSize_9 : decode cJ5_checkFromIndexSize 9 = .ok (.iload_n 2, 1) := dk_28 (dk_at dksJ5_checkFromIndexSize_0 9 rfl rfl)
theorem dJ5_checkFromIndexSize_10 : decode cJ5_checkFromIndexSize 10 = .ok (.iload_n 0, 1) := dk_26 (dk_at dksJ5_checkFromIndexSize_0 10 rfl rfl)
theorem dJ5_checkFromIndexSize_11 : decode cJ5_checkFromIndexSize 11 = .ok (.isub, 1) := dk_100 (dk_at dksJ5_checkFromIndexSize_0 11 rfl rfl)
theorem dJ5_checkFromIndexSize_12 : decode cJ5_checkFromIndexSize 12 = .ok (.if_icmp .le 11, 3) := dk_164 0 11 (dk_at dksJ5_checkFromIndexSize_0 12 rfl rfl)
theorem dJ5_checkFromIndexSize_15 : decode cJ5_checkFromIndexSize 15 = .ok (.aload_n 3, 1) := dk_45 (dk_at dksJ5_checkFromIndexSize_0 15 rfl rfl)
theorem dJ5_checkFromIndexSize_16 : decode cJ5_checkFromIndexSize 16 = .ok (.iload_n 0, 1) := dk_26 (dk_at dksJ5_checkFromIndexSize_0 16 rfl rfl)
theorem dJ5_checkFromIndexSize_17 : decode cJ5_checkFromIndexSize 17 = .ok (.iload_n 1, 1) := dk_27 (dk_at dksJ5_checkFromIndexSize_0 17 rfl rfl)
theorem dJ5_checkFromIndexSize_18 : decode cJ5_checkFromIndexSize 18 = .ok (.iload_n 2, 1) := dk_28 (dk_at dksJ5_checkFromIndexSize_0 18 rfl rfl)
theorem dJ5_checkFromIndexSize_19 : decode cJ5_checkFromIndexSize 19 = .ok (.invokestatic 103, 3) := dk_184 0 103 (dk_at dksJ5_checkFromIndexSize_0 19 rfl rfl)
theorem dJ5_checkFromIndexSize_22 : decode cJ5_checkFromIndexSize 22 = .ok (.athrow, 1) := dk_191 (dk_at dksJ5_checkFromIndexSize_0 22 rfl rfl)
theorem dJ5_checkFromIndexSize_23 : decode cJ5_checkFromIndexSize 23 = .ok (.iload_n 0, 1) := dk_26 (dk_at dksJ5_checkFromIndexSize_0 23 rfl rfl)
theorem dJ5_checkFromIndexSize_24 : decode cJ5_checkFromIndexSize 24 = .ok (.ireturn, 1) := dk_172 (dk_at dksJ5_checkFromIndexSize_1 0 rfl rfl)
abbrev cJ5_checkFromToIndex : ByteArray := prog_59_method_12_code
def yJ5_checkFromToIndex : MethodName := ⟨RJ5, "checkFromToIndex", "(IIILjava/util/function/BiFunction;)I"⟩
def dkwJ5_checkFromToIndex_0 : List UInt8 := [26, 155, 0, 13, 26, 27, 163, 0, 8, 27, 28, 164, 0, 11, 45, 26, 27, 28, 184, 0, 99, 191, 26, 172]
abbrev dktJ5_checkFromToIndex_0 : List UInt8 := dkwJ5_checkFromToIndex_0 ++ []
theorem dksJ5_checkFromToIndex_0 : cJ5_checkFromToIndex.data.toList.drop 0 = dktJ5_checkFromToIndex_0 := by decide +kernel
theorem dJ5_checkFromToIndex_0 : decode cJ5_checkFromToIndex 0 = .ok (.iload_n 0, 1) := dk_26 (dk_at dksJ5_checkFromToIndex_0 0 rfl rfl)
theorem dJ5_checkFromToIndex_1 : decode cJ5_checkFromToIndex 1 = .ok (.ifCond .lt 13, 3) := dk_155 0 13 (dk_at dksJ5_checkFromToIndex_0 1 rfl rfl)
theorem dJ5_checkFromToIndex_4 : decode cJ5_checkFromToIndex 4 = .ok (.iload_n 0, 1) := dk_26 (dk_at dksJ5_checkFromToIndex_0 4 rfl rfl)
theorem dJ5_checkFromToIndex_5 : decode cJ5_checkFromToIndex 5 = .ok (.iload_n 1, 1) := dk_27 (dk_at dksJ5_checkFromToIndex_0 5 rfl rfl)
theorem dJ5_checkFromToIndex_6 : decode cJ5_checkFromToIndex 6 = .ok (.if_icmp .gt 8, 3) := dk_163 0 8 (dk_at dksJ5_checkFromToIndex_0 6 rfl rfl)
theorem dJ5_checkFromToIndex_9 : decode cJ5_checkFromToIndex 9 = .ok (.iload_n 1, 1) := dk_27 (dk_at dksJ5_checkFromToIndex_0 9 rfl rfl)
theorem dJ5_checkFromToIndex_10 : decode cJ5_checkFromToIndex 10 = .ok (.iload_n 2, 1) := dk_28 (dk_at dksJ5_checkFromToIndex_0 10 rfl rfl)
theorem dJ5_checkFromToIndex_11 : decode cJ5_checkFromToIndex 11 = .ok (.if_icmp .le 11, 3) := dk_164 0 11 (dk_at dksJ5_checkFromToIndex_0 11 rfl rfl)
theorem dJ5_checkFromToIndex_14 : decode cJ5_checkFromToIndex 14 = .ok (.aload_n 3, 1) := dk_45 (dk_at dksJ5_checkFromToIndex_0 14 rfl rfl)
theorem dJ5_checkFromToIndex_15 : decode cJ5_checkFromToIndex 15 = .ok (.iload_n 0, 1) := dk_26 (dk_at dksJ5_checkFromToIndex_0 15 rfl rfl)
theorem dJ5_checkFromToIndex_16 : decode cJ5_checkFromToIndex 16 = .ok (.iload_n 1, 1) := dk_27 (dk_at dksJ5_checkFromToIndex_0 16 rfl rfl)
theorem dJ5_checkFromToIndex_17 : decode cJ5_checkFromToIndex 17 = .ok (.iload_n 2, 1) := dk_28 (dk_at dksJ5_checkFromToIndex_0 17 rfl rfl)
theorem dJ5_checkFromToIndex_18 : decode cJ5_checkFromToIndex 18 = .ok (.invokestatic 99, 3) := dk_184 0 99 (dk_at dksJ5_checkFromToIndex_0 18 rfl rfl)
theorem dJ5_checkFromToIndex_21 : decode cJ5_checkFromToIndex 21 = .ok (.athrow, 1) := dk_191 (dk_at dksJ5_checkFromToIndex_0 21 rfl rfl)
theorem dJ5_checkFromToIndex_22 : decode cJ5_checkFromToIndex 22 = .ok (.iload_n 0, 1) := dk_26 (dk_at dksJ5_checkFromToIndex_0 22 rfl rfl)
theorem dJ5_checkFromToIndex_23 : decode cJ5_checkFromToIndex 23 = .ok (.ireturn, 1) := dk_172 (dk_at dksJ5_checkFromToIndex_0 23 rfl rfl)
theorem q95 : (Jvm.Cond.initialized "jdk/internal/util/Preconditions") ∈ lw_all := lw_g (lw_at lw_m1 10 rfl) rfl
theorem q358 : (Jvm.Cond.static ({ cls := "jdk/internal/util/Preconditions", name := "checkIndex", desc := "(IILjava/util/function/BiFunction;)I" } : Jvm.MethodName)) ∈ lw_all := lw_g (lw_at lw_m2 33 rfl) rfl
theorem q359 : (Jvm.Cond.code ({ cls := "jdk/internal/util/Preconditions", name := "checkIndex", desc := "(IILjava/util/function/BiFunction;)I" } : Jvm.MethodName) prog_59_method_11_code (3 : Nat) (Option.some Jvm.ClassFile.FieldType.int)) ∈ lw_all := lw_g (lw_at lw_m2 34 rfl) rfl
theorem q1432 : (Jvm.Cond.laysStatic "jdk/internal/util/Preconditions" "SIOOBE_FORMATTER" "Ljava/util/function/BiFunction;") ∈ lw_tbl := lw_at lw_m6 147 rfl
theorem q1434 : (Jvm.Cond.static ({ cls := "jdk/internal/util/Preconditions", name := "checkFromIndexSize", desc := "(IIILjava/util/function/BiFunction;)I" } : Jvm.MethodName)) ∈ lw_all := lw_g (lw_at lw_m6 149 rfl) rfl
theorem q1435 : (Jvm.Cond.code ({ cls := "jdk/internal/util/Preconditions", name := "checkFromIndexSize", desc := "(IIILjava/util/function/BiFunction;)I" } : Jvm.MethodName) prog_59_method_13_code (4 : Nat) (Option.some Jvm.ClassFile.FieldType.int)) ∈ lw_all := lw_g (lw_at lw_m6 150 rfl) rfl
theorem q1520 : (Jvm.Cond.static ({ cls := "jdk/internal/util/Preconditions", name := "checkFromToIndex", desc := "(IIILjava/util/function/BiFunction;)I" } : Jvm.MethodName)) ∈ lw_all := lw_g (lw_at lw_m6 235 rfl) rfl
theorem q1521 : (Jvm.Cond.code ({ cls := "jdk/internal/util/Preconditions", name := "checkFromToIndex", desc := "(IIILjava/util/function/BiFunction;)I" } : Jvm.MethodName) prog_59_method_12_code (4 : Nat) (Option.some Jvm.ClassFile.FieldType.int)) ∈ lw_all := lw_g (lw_at lw_m6 236 rfl) rfl
/-! java/lang/Throwable -/
set_option maxRecDepth 100000
def RJ6 : String := "java/lang/Throwable"
def TJ6 : u_T := fun k => match k with
  | 0 => ("java/lang/Throwable", "cause", "Ljava/lang/Throwable;", false)
  | 1 => ("java/lang/Throwable", "stackTrace", "[Ljava/lang/StackTraceElement;", false)
  | 2 => ("java/lang/Throwable", "suppressedExceptions", "Ljava/util/List;", false)
  | 3 => ("java/lang/Throwable", "detailMessage", "Ljava/lang/String;", false)
  | _ => ("java/lang/Throwable", "backtrace", "Ljava/lang/Object;", false)
def tyJ6 : Nat → FieldType := fun k => match k with
  | 0 => .object "java/lang/Throwable"
  | 1 => .array (.object "java/lang/StackTraceElement")
  | 2 => .object "java/util/List"
  | 3 => .object "java/lang/String"
  | _ => .object "java/lang/Object"
abbrev wsJ60 : List Cond := u_ws RJ6 TJ6 5
theorem nmJ6 : ∀ a, a < 5 → ∀ b, b < 5 → a ≠ b → (TJ6 a).2.1 ≠ (TJ6 b).2.1 := by decide +kernel
theorem tyJ6_ok : ∀ k, k < 5 → parseFieldDescriptor (TJ6 k).2.2.1 = some (tyJ6 k) := by decide +kernel
abbrev cJ6_init : ByteArray := prog_43_method_1_code
def yJ6_init : MethodName := ⟨RJ6, "<init>", "()V"⟩
def dkwJ6_init_1 : List UInt8 := [182, 0, 27, 87, 177]
abbrev dktJ6_init_1 : List UInt8 := dkwJ6_init_1 ++ []
def dkwJ6_init_0 : List UInt8 := [42, 183, 0, 1, 42, 42, 181, 0, 7, 42, 178, 0, 13, 181, 0, 17, 42, 178, 0, 20, 181, 0, 24, 42]
abbrev dktJ6_init_0 : List UInt8 := dkwJ6_init_0 ++ dktJ6_init_1
theorem dksJ6_init_0 : cJ6_init.data.toList.drop 0 = dktJ6_init_0 := by decide +kernel
theorem dksJ6_init_1 : cJ6_init.data.toList.drop 24 = dktJ6_init_1 := dk_seg dksJ6_init_0 24 rfl rfl
theorem dJ6_init_0 : decode cJ6_init 0 = .ok (.aload_n 0, 1) := dk_42 (dk_at dksJ6_init_0 0 rfl rfl)
theorem dJ6_init_1 : decode cJ6_init 1 = .ok (.invokespecial 1, 3) := dk_183 0 1 (dk_at dksJ6_init_0 1 rfl rfl)
theorem dJ6_init_4 : decode cJ6_init 4 = .ok (.aload_n 0, 1) := dk_42 (dk_at dksJ6_init_0 4 rfl rfl)
theorem dJ6_init_5 : decode cJ6_init 5 = .ok (.aload_n 0, 1) := dk_42 (dk_at dksJ6_init_0 5 rfl rfl)
theorem dJ6_init_6 : decode cJ6_init 6 = .ok (.putfield 7, 3) := dk_181 0 7 (dk_at dksJ6_init_0 6 rfl rfl)
theorem dJ6_init_9 : decode cJ6_init 9 = .ok (.aload_n 0, 1) := dk_42 (dk_at dksJ6_init_0 9 rfl rfl)
theorem dJ6_init_10 : decode cJ6_init 10 = .ok (.getstatic 13, 3) := dk_178 0 13 (dk_at dksJ6_init_0 10 rfl rfl)
theorem dJ6_init_13 : decode cJ6_init 13 = .ok (.putfield 17, 3) := dk_181 0 17 (dk_at dksJ6_init_0 13 rfl rfl)
theorem dJ6_init_16 : decode cJ6_init 16 = .ok (.aload_n 0, 1) := dk_42 (dk_at dksJ6_init_0 16 rfl rfl)
theorem dJ6_init_17 : decode cJ6_init 17 = .ok (.getstatic 20, 3) := dk_178 0 20 (dk_at dksJ6_init_0 17 rfl rfl)
theorem dJ6_init_20 : decode cJ6_init 20 = .ok (.putfield 24, 3) := dk_181 0 24 (dk_at dksJ6_init_0 20 rfl rfl)
theorem dJ6_init_23 : decode cJ6_init 23 = .ok (.aload_n 0, 1) := dk_42 (dk_at dksJ6_init_0 23 rfl rfl)
theorem dJ6_init_24 : decode cJ6_init 24 = .ok (.invokevirtual 27, 3) := dk_182 0 27 (dk_at dksJ6_init_1 0 rfl rfl)
theorem dJ6_init_27 : decode cJ6_init 27 = .ok (.pop, 1) := dk_87 (dk_at dksJ6_init_1 3 rfl rfl)
theorem dJ6_init_28 : decode cJ6_init 28 = .ok (.return_, 1) := dk_177 (dk_at dksJ6_init_1 4 rfl rfl)
abbrev cJ6_init_2 : ByteArray := prog_43_method_2_code
def yJ6_init_2 : MethodName := ⟨RJ6, "<init>", "(Ljava/lang/String;)V"⟩
def dkwJ6_init_2_1 : List UInt8 := [182, 0, 27, 87, 42, 43, 181, 0, 31, 177]
abbrev dktJ6_init_2_1 : List UInt8 := dkwJ6_init_2_1 ++ []
def dkwJ6_init_2_0 : List UInt8 := [42, 183, 0, 1, 42, 42, 181, 0, 7, 42, 178, 0, 13, 181, 0, 17, 42, 178, 0, 20, 181, 0, 24, 42]
abbrev dktJ6_init_2_0 : List UInt8 := dkwJ6_init_2_0 ++ dktJ6_init_2_1
theorem dksJ6_init_2_0 : cJ6_init_2.data.toList.drop 0 = dktJ6_init_2_0 := by decide +kernel
theorem dksJ6_init_2_1 : cJ6_init_2.data.toList.drop 24 = dktJ6_init_2_1 := dk_seg dksJ6_init_2_0 24 rfl rfl
theorem dJ6_init_2_0 : decode cJ6_init_2 0 = .ok (.aload_n 0, 1) := dk_42 (dk_at dksJ6_init_2_0 0 rfl rfl)
theorem dJ6_init_2_1 : decode cJ6_init_2 1 = .ok (.invokespecial 1, 3) := dk_183 0 1 (dk_at dksJ6_init_2_0 1 rfl rfl)
theorem dJ6_init_2_4 : decode cJ6_init_2 4 = .ok (.aload_n 0, 1) := dk_42 (dk_at dksJ6_init_2_0 4 rfl rfl)
theorem dJ6_init_2_5 : decode cJ6_init_2 5 = .ok (.aload_n 0, 1) := dk_42 (dk_at dksJ6_init_2_0 5 rfl rfl)
theorem dJ6_init_2_6 : decode cJ6_init_2 6 = .ok (.putfield 7, 3) := dk_181 0 7 (dk_at dksJ6_init_2_0 6 rfl rfl)
theorem dJ6_init_2_9 : decode cJ6_init_2 9 = .ok (.aload_n 0, 1) := dk_42 (dk_at dksJ6_init_2_0 9 rfl rfl)
theorem dJ6_init_2_10 : decode cJ6_init_2 10 = .ok (.getstatic 13, 3) := dk_178 0 13 (dk_at dksJ6_init_2_0 10 rfl rfl)
theorem dJ6_init_2_13 : decode cJ6_init_2 13 = .ok (.putfield 17, 3) := dk_181 0 17 (dk_at dksJ6_init_2_0 13 rfl rfl)
theorem dJ6_init_2_16 : decode cJ6_init_2 16 = .ok (.aload_n 0, 1) := dk_42 (dk_at dksJ6_init_2_0 16 rfl rfl)
theorem dJ6_init_2_17 : decode cJ6_init_2 17 = .ok (.getstatic 20, 3) := dk_178 0 20 (dk_at dksJ6_init_2_0 17 rfl rfl)
theorem dJ6_init_2_20 : decode cJ6_init_2 20 = .ok (.putfield 24, 3) := dk_181 0 24 (dk_at dksJ6_init_2_0 20 rfl rfl)
theorem dJ6_init_2_23 : decode cJ6_init_2 23 = .ok (.aload_n 0, 1) := dk_42 (dk_at dksJ6_init_2_0 23 rfl rfl)
theorem dJ6_init_2_24 : decode cJ6_init_2 24 = .ok (.invokevirtual 27, 3) := dk_182 0 27 (dk_at dksJ6_init_2_1 0 rfl rfl)
theorem dJ6_init_2_27 : decode cJ6_init_2 27 = .ok (.pop, 1) := dk_87 (dk_at dksJ6_init_2_1 3 rfl rfl)
theorem dJ6_init_2_28 : decode cJ6_init_2 28 = .ok (.aload_n 0, 1) := dk_42 (dk_at dksJ6_init_2_1 4 rfl rfl)
theorem dJ6_init_2_29 : decode cJ6_init_2 29 = .ok (.aload_n 1, 1) := dk_43 (dk_at dksJ6_init_2_1 5 rfl rfl)
theorem dJ6_init_2_30 : decode cJ6_init_2 30 = .ok (.putfield 31, 3) := dk_181 0 31 (dk_at dksJ6_init_2_1 6 rfl rfl)
theorem dJ6_init_2_33 : decode cJ6_init_2 33 = .ok (.return_, 1) := dk_177 (dk_at dksJ6_init_2_1 9 rfl rfl)
theorem q97 : (Jvm.Cond.initialized "java/lang/Throwable") ∈ lw_all := lw_g (lw_at lw_m1 12 rfl) rfl
theorem q665 : (Jvm.Cond.declares ({ cls := "java/lang/Throwable", name := "<init>", desc := "()V" } : Jvm.MethodName)) ∈ lw_tbl := lw_at lw_m3 100 rfl
theorem q666 : (Jvm.Cond.declares ({ cls := "java/lang/Throwable", name := "<init>", desc := "(Ljava/lang/String;)V" } : Jvm.MethodName)) ∈ lw_tbl := lw_at lw_m3 101 rfl
theorem q670 : (Jvm.Cond.lays "java/lang/Throwable" "java/lang/Throwable" "cause" "Ljava/lang/Throwable;") ∈ lw_all := lw_g (lw_at lw_m3 105 rfl) rfl
theorem q672 : (Jvm.Cond.lays "java/lang/Throwable" "java/lang/Throwable" "stackTrace" "[Ljava/lang/StackTraceElement;") ∈ lw_all := lw_g (lw_at lw_m3 107 rfl) rfl
theorem q674 : (Jvm.Cond.lays "java/lang/Throwable" "java/lang/Throwable" "suppressedExceptions" "Ljava/util/List;") ∈ lw_all := lw_g (lw_at lw_m3 109 rfl) rfl
theorem q676 : (Jvm.Cond.lays "java/lang/Throwable" "java/lang/Throwable" "detailMessage" "Ljava/lang/String;") ∈ lw_all := lw_g (lw_at lw_m3 111 rfl) rfl
theorem q678 : (Jvm.Cond.lays "java/lang/Throwable" "java/lang/Throwable" "backtrace" "Ljava/lang/Object;") ∈ lw_all := lw_g (lw_at lw_m3 113 rfl) rfl
theorem q679 : (Jvm.Cond.fieldLink "java/lang/Throwable" (198 : Nat) "java/lang/Throwable" "backtrace" "Ljava/lang/Object;") ∈ lw_all := lw_g (lw_at lw_m3 114 rfl) rfl
theorem q680 : (Jvm.Cond.superclass "java/lang/Throwable" "java/lang/Object") ∈ lw_all := lw_g (lw_at lw_m3 115 rfl) rfl
theorem q681 : (Jvm.Cond.instanceMethod ({ cls := "java/lang/Throwable", name := "<init>", desc := "()V" } : Jvm.MethodName)) ∈ lw_all := lw_g (lw_at lw_m3 116 rfl) rfl
theorem q682 : (Jvm.Cond.code ({ cls := "java/lang/Throwable", name := "<init>", desc := "()V" } : Jvm.MethodName) prog_43_method_1_code (1 : Nat) (Option.none : Option Jvm.ClassFile.FieldType)) ∈ lw_all := lw_g (lw_at lw_m3 117 rfl) rfl
theorem q683 : (Jvm.Cond.methodLink "java/lang/Throwable" (1 : Nat) ({ cls := "java/lang/Object", name := "<init>", desc := "()V" } : Jvm.MethodName)) ∈ lw_all := lw_g (lw_at lw_m3 118 rfl) rfl
theorem q684 : (Jvm.Cond.fieldLink "java/lang/Throwable" (13 : Nat) "java/lang/Throwable" "UNASSIGNED_STACK" "[Ljava/lang/StackTraceElement;") ∈ lw_all := lw_g (lw_at lw_m3 119 rfl) rfl
theorem q685 : (Jvm.Cond.laysStatic "java/lang/Throwable" "UNASSIGNED_STACK" "[Ljava/lang/StackTraceElement;") ∈ lw_tbl := lw_at lw_m3 120 rfl
theorem q686 : (Jvm.Cond.fieldLink "java/lang/Throwable" (20 : Nat) "java/lang/Throwable" "SUPPRESSED_SENTINEL" "Ljava/util/List;") ∈ lw_all := lw_g (lw_at lw_m3 121 rfl) rfl
theorem q687 : (Jvm.Cond.laysStatic "java/lang/Throwable" "SUPPRESSED_SENTINEL" "Ljava/util/List;") ∈ lw_tbl := lw_at lw_m3 122 rfl
theorem q688 : (Jvm.Cond.methodLink "java/lang/Throwable" (27 : Nat) ({ cls := "java/lang/Throwable", name := "fillInStackTrace", desc := "()Ljava/lang/Throwable;" } : Jvm.MethodName)) ∈ lw_all := lw_g (lw_at lw_m3 123 rfl) rfl
theorem q689 : (Jvm.Cond.instanceMethod ({ cls := "java/lang/Throwable", name := "fillInStackTrace", desc := "()Ljava/lang/Throwable;" } : Jvm.MethodName)) ∈ lw_all := lw_g (lw_at lw_m3 124 rfl) rfl
theorem q690 : (Jvm.Cond.sameMethod "java/lang/Throwable" "java/lang/Throwable" "fillInStackTrace" "()Ljava/lang/Throwable;") ∈ lw_all := lw_g (lw_at lw_m3 125 rfl) rfl
theorem q694 : (Jvm.Cond.codeSync ({ cls := "java/lang/Throwable", name := "fillInStackTrace", desc := "()Ljava/lang/Throwable;" } : Jvm.MethodName) prog_43_method_18_code (1 : Nat) (Option.some (Jvm.ClassFile.FieldType.object "java/lang/Throwable"))) ∈ lw_all := lw_g (lw_at lw_m3 129 rfl) rfl
theorem q695 : (Jvm.Cond.methodLink "java/lang/Throwable" (202 : Nat) ({ cls := "java/lang/Throwable", name := "fillInStackTrace", desc := "(I)Ljava/lang/Throwable;" } : Jvm.MethodName)) ∈ lw_all := lw_g (lw_at lw_m3 130 rfl) rfl
theorem q696 : (Jvm.Cond.privateMethod ({ cls := "java/lang/Throwable", name := "fillInStackTrace", desc := "(I)Ljava/lang/Throwable;" } : Jvm.MethodName)) ∈ lw_tbl := lw_at lw_m3 131 rfl
theorem q697 : (Jvm.Cond.instanceMethod ({ cls := "java/lang/Throwable", name := "fillInStackTrace", desc := "(I)Ljava/lang/Throwable;" } : Jvm.MethodName)) ∈ lw_all := lw_g (lw_at lw_m3 132 rfl) rfl
theorem q698 : (Jvm.Cond.instantiable "java/lang/Throwable" (6 : Nat)) ∈ lw_all := lw_g (lw_at lw_m3 133 rfl) rfl
theorem q699 : (Jvm.Cond.native ({ cls := "java/lang/Throwable", name := "fillInStackTrace", desc := "(I)Ljava/lang/Throwable;" } : Jvm.MethodName)) ∈ lw_all := lw_g (lw_at lw_m3 134 rfl) rfl
theorem q710 : (Jvm.Cond.fieldLink "java/lang/Throwable" (198 : Nat) "java/lang/Throwable" "backtrace" "Ljava/lang/Object;") ∈ lw_all := lw_g (lw_at lw_m3 145 rfl) rfl
theorem q711 : (Jvm.Cond.fieldLink "java/lang/Throwable" (31 : Nat) "java/lang/Throwable" "detailMessage" "Ljava/lang/String;") ∈ lw_all := lw_g (lw_at lw_m3 146 rfl) rfl
theorem q712 : (Jvm.Cond.fieldLink "java/lang/Throwable" (7 : Nat) "java/lang/Throwable" "cause" "Ljava/lang/Throwable;") ∈ lw_all := lw_g (lw_at lw_m3 147 rfl) rfl
theorem q713 : (Jvm.Cond.fieldLink "java/lang/Throwable" (17 : Nat) "java/lang/Throwable" "stackTrace" "[Ljava/lang/StackTraceElement;") ∈ lw_all := lw_g (lw_at lw_m3 148 rfl) rfl
theorem q714 : (Jvm.Cond.fieldLink "java/lang/Throwable" (24 : Nat) "java/lang/Throwable" "suppressedExceptions" "Ljava/util/List;") ∈ lw_all := lw_g (lw_at lw_m3 149 rfl) rfl
theorem q715 : (Jvm.Cond.soleField "java/lang/Throwable" "backtrace") ∈ lw_all := lw_g (lw_at lw_m3 150 rfl) rfl
theorem q716 : (Jvm.Cond.soleField "java/lang/Throwable" "detailMessage") ∈ lw_all := lw_g (lw_at lw_m3 151 rfl) rfl
theorem q717 : (Jvm.Cond.soleField "java/lang/Throwable" "cause") ∈ lw_all := lw_g (lw_at lw_m3 152 rfl) rfl
theorem q718 : (Jvm.Cond.soleField "java/lang/Throwable" "stackTrace") ∈ lw_all := lw_g (lw_at lw_m3 153 rfl) rfl
theorem q720 : (Jvm.Cond.soleField "java/lang/Throwable" "depth") ∈ lw_all := lw_g (lw_at lw_m3 155 rfl) rfl
theorem q721 : (Jvm.Cond.soleField "java/lang/Throwable" "suppressedExceptions") ∈ lw_all := lw_g (lw_at lw_m3 156 rfl) rfl
theorem q786 : (Jvm.Cond.instanceMethod ({ cls := "java/lang/Throwable", name := "<init>", desc := "(Ljava/lang/String;)V" } : Jvm.MethodName)) ∈ lw_all := lw_g (lw_at lw_m3 221 rfl) rfl
theorem q787 : (Jvm.Cond.code ({ cls := "java/lang/Throwable", name := "<init>", desc := "(Ljava/lang/String;)V" } : Jvm.MethodName) prog_43_method_2_code (2 : Nat) (Option.none : Option Jvm.ClassFile.FieldType)) ∈ lw_all := lw_g (lw_at lw_m3 222 rfl) rfl
theorem q2107 : (Jvm.Cond.sameMethod "java/lang/Throwable" "java/lang/Throwable" "fillInStackTrace" "(I)Ljava/lang/Throwable;") ∈ lw_all := lw_g (lw_at lw_m9 102 rfl) rfl
theorem q2147 : (Jvm.Cond.castable "java/lang/Throwable" "java/lang/Object") ∈ lw_tbl := lw_at lw_m9 142 rfl
theorem in_J6 : ∀ w ∈ wsJ60, w ∈ lw_all := lw_in wsJ60 [670, 672, 674, 676, 678] (by decide +kernel) (by decide +kernel)
/-! java/lang/Exception -/
set_option maxRecDepth 100000
def RJ7 : String := "java/lang/Exception"
abbrev cJ7_init : ByteArray := prog_28_method_1_code
def yJ7_init : MethodName := ⟨RJ7, "<init>", "()V"⟩
theorem dJ7_init_0 : decode cJ7_init 0 = .ok (.aload_n 0, 1) := by decide +kernel
theorem dJ7_init_1 : decode cJ7_init 1 = .ok (.invokespecial 1, 3) := by decide +kernel
theorem dJ7_init_4 : decode cJ7_init 4 = .ok (.return_, 1) := by decide +kernel
abbrev cJ7_init_2 : ByteArray := prog_28_method_2_code
def yJ7_init_2 : MethodName := ⟨RJ7, "<init>", "(Ljava/lang/String;)V"⟩
def dkwJ7_init_2_0 : List UInt8 := [42, 43, 183, 0, 7, 177]
abbrev dktJ7_init_2_0 : List UInt8 := dkwJ7_init_2_0 ++ []
theorem dksJ7_init_2_0 : cJ7_init_2.data.toList.drop 0 = dktJ7_init_2_0 := by decide +kernel
theorem dJ7_init_2_0 : decode cJ7_init_2 0 = .ok (.aload_n 0, 1) := dk_42 (dk_at dksJ7_init_2_0 0 rfl rfl)
theorem dJ7_init_2_1 : decode cJ7_init_2 1 = .ok (.aload_n 1, 1) := dk_43 (dk_at dksJ7_init_2_0 1 rfl rfl)
theorem dJ7_init_2_2 : decode cJ7_init_2 2 = .ok (.invokespecial 7, 3) := dk_183 0 7 (dk_at dksJ7_init_2_0 2 rfl rfl)
theorem dJ7_init_2_5 : decode cJ7_init_2 5 = .ok (.return_, 1) := dk_177 (dk_at dksJ7_init_2_0 5 rfl rfl)
theorem q98 : (Jvm.Cond.initialized "java/lang/Exception") ∈ lw_all := lw_g (lw_at lw_m1 13 rfl) rfl
theorem q663 : (Jvm.Cond.declares ({ cls := "java/lang/Exception", name := "<init>", desc := "()V" } : Jvm.MethodName)) ∈ lw_tbl := lw_at lw_m3 98 rfl
theorem q664 : (Jvm.Cond.declares ({ cls := "java/lang/Exception", name := "<init>", desc := "(Ljava/lang/String;)V" } : Jvm.MethodName)) ∈ lw_tbl := lw_at lw_m3 99 rfl
theorem q707 : (Jvm.Cond.instanceMethod ({ cls := "java/lang/Exception", name := "<init>", desc := "()V" } : Jvm.MethodName)) ∈ lw_all := lw_g (lw_at lw_m3 142 rfl) rfl
theorem q708 : (Jvm.Cond.code ({ cls := "java/lang/Exception", name := "<init>", desc := "()V" } : Jvm.MethodName) prog_28_method_1_code (1 : Nat) (Option.none : Option Jvm.ClassFile.FieldType)) ∈ lw_all := lw_g (lw_at lw_m3 143 rfl) rfl
theorem q709 : (Jvm.Cond.methodLink "java/lang/Exception" (1 : Nat) ({ cls := "java/lang/Throwable", name := "<init>", desc := "()V" } : Jvm.MethodName)) ∈ lw_all := lw_g (lw_at lw_m3 144 rfl) rfl
theorem q783 : (Jvm.Cond.instanceMethod ({ cls := "java/lang/Exception", name := "<init>", desc := "(Ljava/lang/String;)V" } : Jvm.MethodName)) ∈ lw_all := lw_g (lw_at lw_m3 218 rfl) rfl
theorem q784 : (Jvm.Cond.code ({ cls := "java/lang/Exception", name := "<init>", desc := "(Ljava/lang/String;)V" } : Jvm.MethodName) prog_28_method_2_code (2 : Nat) (Option.none : Option Jvm.ClassFile.FieldType)) ∈ lw_all := lw_g (lw_at lw_m3 219 rfl) rfl
theorem q785 : (Jvm.Cond.methodLink "java/lang/Exception" (7 : Nat) ({ cls := "java/lang/Throwable", name := "<init>", desc := "(Ljava/lang/String;)V" } : Jvm.MethodName)) ∈ lw_all := lw_g (lw_at lw_m3 220 rfl) rfl
/-! java/lang/RuntimeException -/
set_option maxRecDepth 100000
def RJ8 : String := "java/lang/RuntimeException"
abbrev cJ8_init : ByteArray := prog_37_method_1_code
def yJ8_init : MethodName := ⟨RJ8, "<init>", "()V"⟩
theorem dJ8_init_0 : decode cJ8_init 0 = .ok (.aload_n 0, 1) := by decide +kernel
theorem dJ8_init_1 : decode cJ8_init 1 = .ok (.invokespecial 1, 3) := by decide +kernel
theorem dJ8_init_4 : decode cJ8_init 4 = .ok (.return_, 1) := by decide +kernel
abbrev cJ8_init_2 : ByteArray := prog_37_method_2_code
def yJ8_init_2 : MethodName := ⟨RJ8, "<init>", "(Ljava/lang/String;)V"⟩
def dkwJ8_init_2_0 : List UInt8 := [42, 43, 183, 0, 7, 177]
abbrev dktJ8_init_2_0 : List UInt8 := dkwJ8_init_2_0 ++ []
theorem dksJ8_init_2_0 : cJ8_init_2.data.toList.drop 0 = dktJ8_init_2_0 := by decide +kernel
theorem dJ8_init_2_0 : decode cJ8_init_2 0 = .ok (.aload_n 0, 1) := dk_42 (dk_at dksJ8_init_2_0 0 rfl rfl)
theorem dJ8_init_2_1 : decode cJ8_init_2 1 = .ok (.aload_n 1, 1) := dk_43 (dk_at dksJ8_init_2_0 1 rfl rfl)
theorem dJ8_init_2_2 : decode cJ8_init_2 2 = .ok (.invokespecial 7, 3) := dk_183 0 7 (dk_at dksJ8_init_2_0 2 rfl rfl)
theorem dJ8_init_2_5 : decode cJ8_init_2 5 = .ok (.return_, 1) := dk_177 (dk_at dksJ8_init_2_0 5 rfl rfl)
theorem q99 : (Jvm.Cond.initialized "java/lang/RuntimeException") ∈ lw_all := lw_g (lw_at lw_m1 14 rfl) rfl
theorem q661 : (Jvm.Cond.declares ({ cls := "java/lang/RuntimeException", name := "<init>", desc := "()V" } : Jvm.MethodName)) ∈ lw_tbl := lw_at lw_m3 96 rfl
theorem q662 : (Jvm.Cond.declares ({ cls := "java/lang/RuntimeException", name := "<init>", desc := "(Ljava/lang/String;)V" } : Jvm.MethodName)) ∈ lw_tbl := lw_at lw_m3 97 rfl
theorem q704 : (Jvm.Cond.instanceMethod ({ cls := "java/lang/RuntimeException", name := "<init>", desc := "()V" } : Jvm.MethodName)) ∈ lw_all := lw_g (lw_at lw_m3 139 rfl) rfl
theorem q705 : (Jvm.Cond.code ({ cls := "java/lang/RuntimeException", name := "<init>", desc := "()V" } : Jvm.MethodName) prog_37_method_1_code (1 : Nat) (Option.none : Option Jvm.ClassFile.FieldType)) ∈ lw_all := lw_g (lw_at lw_m3 140 rfl) rfl
theorem q706 : (Jvm.Cond.methodLink "java/lang/RuntimeException" (1 : Nat) ({ cls := "java/lang/Exception", name := "<init>", desc := "()V" } : Jvm.MethodName)) ∈ lw_all := lw_g (lw_at lw_m3 141 rfl) rfl
theorem q780 : (Jvm.Cond.instanceMethod ({ cls := "java/lang/RuntimeException", name := "<init>", desc := "(Ljava/lang/String;)V" } : Jvm.MethodName)) ∈ lw_all := lw_g (lw_at lw_m3 215 rfl) rfl
theorem q781 : (Jvm.Cond.code ({ cls := "java/lang/RuntimeException", name := "<init>", desc := "(Ljava/lang/String;)V" } : Jvm.MethodName) prog_37_method_2_code (2 : Nat) (Option.none : Option Jvm.ClassFile.FieldType)) ∈ lw_all := lw_g (lw_at lw_m3 216 rfl) rfl
theorem q782 : (Jvm.Cond.methodLink "java/lang/RuntimeException" (7 : Nat) ({ cls := "java/lang/Exception", name := "<init>", desc := "(Ljava/lang/String;)V" } : Jvm.MethodName)) ∈ lw_all := lw_g (lw_at lw_m3 217 rfl) rfl
/-! java/lang/IllegalArgumentException -/
set_option maxRecDepth 100000
def RJ9 : String := "java/lang/IllegalArgumentException"
def TJ9 : u_T := fun k => match k with
  | 0 => ("java/lang/Throwable", "cause", "Ljava/lang/Throwable;", false)
  | 1 => ("java/lang/Throwable", "stackTrace", "[Ljava/lang/StackTraceElement;", false)
  | 2 => ("java/lang/Throwable", "suppressedExceptions", "Ljava/util/List;", false)
  | 3 => ("java/lang/Throwable", "detailMessage", "Ljava/lang/String;", false)
  | 4 => ("java/lang/Throwable", "backtrace", "Ljava/lang/Object;", false)
  | _ => ("java/lang/Throwable", "depth", "I", false)
def tyJ9 : Nat → FieldType := fun k => match k with
  | 0 => .object "java/lang/Throwable"
  | 1 => .array (.object "java/lang/StackTraceElement")
  | 2 => .object "java/util/List"
  | 3 => .object "java/lang/String"
  | 4 => .object "java/lang/Object"
  | _ => .int
abbrev wsJ90 : List Cond := u_ws RJ9 TJ9 6
theorem nmJ9 : ∀ a, a < 6 → ∀ b, b < 6 → a ≠ b → (TJ9 a).2.1 ≠ (TJ9 b).2.1 := by decide +kernel
theorem tyJ9_ok : ∀ k, k < 6 → parseFieldDescriptor (TJ9 k).2.2.1 = some (tyJ9 k) := by decide +kernel
abbrev cJ9_init : ByteArray := prog_29_method_1_code
def yJ9_init : MethodName := ⟨RJ9, "<init>", "()V"⟩
theorem dJ9_init_0 : decode cJ9_init 0 = .ok (.aload_n 0, 1) := by decide +kernel
theorem dJ9_init_1 : decode cJ9_init 1 = .ok (.invokespecial 1, 3) := by decide +kernel
theorem dJ9_init_4 : decode cJ9_init 4 = .ok (.return_, 1) := by decide +kernel
abbrev cJ9_init_2 : ByteArray := prog_29_method_2_code
def yJ9_init_2 : MethodName := ⟨RJ9, "<init>", "(Ljava/lang/String;)V"⟩
def dkwJ9_init_2_0 : List UInt8 := [42, 43, 183, 0, 7, 177]
abbrev dktJ9_init_2_0 : List UInt8 := dkwJ9_init_2_0 ++ []
theorem dksJ9_init_2_0 : cJ9_init_2.data.toList.drop 0 = dktJ9_init_2_0 := by decide +kernel
theorem dJ9_init_2_0 : decode cJ9_init_2 0 = .ok (.aload_n 0, 1) := dk_42 (dk_at dksJ9_init_2_0 0 rfl rfl)
theorem dJ9_init_2_1 : decode cJ9_init_2 1 = .ok (.aload_n 1, 1) := dk_43 (dk_at dksJ9_init_2_0 1 rfl rfl)
theorem dJ9_init_2_2 : decode cJ9_init_2 2 = .ok (.invokespecial 7, 3) := dk_183 0 7 (dk_at dksJ9_init_2_0 2 rfl rfl)
theorem dJ9_init_2_5 : decode cJ9_init_2 5 = .ok (.return_, 1) := dk_177 (dk_at dksJ9_init_2_0 5 rfl rfl)
theorem q100 : (Jvm.Cond.initialized "java/lang/IllegalArgumentException") ∈ lw_all := lw_g (lw_at lw_m1 15 rfl) rfl
theorem q659 : (Jvm.Cond.instantiable "java/lang/IllegalArgumentException" (6 : Nat)) ∈ lw_all := lw_g (lw_at lw_m3 94 rfl) rfl
theorem q660 : (Jvm.Cond.castable "java/lang/IllegalArgumentException" "java/lang/IllegalArgumentException") ∈ lw_tbl := lw_at lw_m3 95 rfl
theorem q667 : (Jvm.Cond.selects "java/lang/IllegalArgumentException" ({ cls := "java/lang/Throwable", name := "fillInStackTrace", desc := "(I)Ljava/lang/Throwable;" } : Jvm.MethodName) ({ cls := "java/lang/Throwable", name := "fillInStackTrace", desc := "(I)Ljava/lang/Throwable;" } : Jvm.MethodName)) ∈ lw_all := lw_g (lw_at lw_m3 102 rfl) rfl
theorem q668 : (Jvm.Cond.selects "java/lang/IllegalArgumentException" ({ cls := "java/lang/Throwable", name := "fillInStackTrace", desc := "()Ljava/lang/Throwable;" } : Jvm.MethodName) ({ cls := "java/lang/Throwable", name := "fillInStackTrace", desc := "()Ljava/lang/Throwable;" } : Jvm.MethodName)) ∈ lw_all := lw_g (lw_at lw_m3 103 rfl) rfl
theorem q669 : (Jvm.Cond.lays "java/lang/IllegalArgumentException" "java/lang/Throwable" "cause" "Ljava/lang/Throwable;") ∈ lw_all := lw_g (lw_at lw_m3 104 rfl) rfl
theorem q671 : (Jvm.Cond.lays "java/lang/IllegalArgumentException" "java/lang/Throwable" "stackTrace" "[Ljava/lang/StackTraceElement;") ∈ lw_all := lw_g (lw_at lw_m3 106 rfl) rfl
theorem q673 : (Jvm.Cond.lays "java/lang/IllegalArgumentException" "java/lang/Throwable" "suppressedExceptions" "Ljava/util/List;") ∈ lw_all := lw_g (lw_at lw_m3 108 rfl) rfl
theorem q675 : (Jvm.Cond.lays "java/lang/IllegalArgumentException" "java/lang/Throwable" "detailMessage" "Ljava/lang/String;") ∈ lw_all := lw_g (lw_at lw_m3 110 rfl) rfl
theorem q677 : (Jvm.Cond.lays "java/lang/IllegalArgumentException" "java/lang/Throwable" "backtrace" "Ljava/lang/Object;") ∈ lw_all := lw_g (lw_at lw_m3 112 rfl) rfl
theorem q701 : (Jvm.Cond.instanceMethod ({ cls := "java/lang/IllegalArgumentException", name := "<init>", desc := "()V" } : Jvm.MethodName)) ∈ lw_all := lw_g (lw_at lw_m3 136 rfl) rfl
theorem q702 : (Jvm.Cond.code ({ cls := "java/lang/IllegalArgumentException", name := "<init>", desc := "()V" } : Jvm.MethodName) prog_29_method_1_code (1 : Nat) (Option.none : Option Jvm.ClassFile.FieldType)) ∈ lw_all := lw_g (lw_at lw_m3 137 rfl) rfl
theorem q703 : (Jvm.Cond.methodLink "java/lang/IllegalArgumentException" (1 : Nat) ({ cls := "java/lang/RuntimeException", name := "<init>", desc := "()V" } : Jvm.MethodName)) ∈ lw_all := lw_g (lw_at lw_m3 138 rfl) rfl
theorem q719 : (Jvm.Cond.lays "java/lang/IllegalArgumentException" "java/lang/Throwable" "depth" "I") ∈ lw_all := lw_g (lw_at lw_m3 154 rfl) rfl
theorem q722 : (Jvm.Cond.superclass "java/lang/IllegalArgumentException" "java/lang/RuntimeException") ∈ lw_all := lw_g (lw_at lw_m3 157 rfl) rfl
theorem q936 : (Jvm.Cond.selects "java/lang/IllegalArgumentException" ({ cls := "java/lang/Object", name := "getClass", desc := "()Ljava/lang/Class;" } : Jvm.MethodName) ({ cls := "java/lang/Object", name := "getClass", desc := "()Ljava/lang/Class;" } : Jvm.MethodName)) ∈ lw_all := lw_g (lw_at lw_m4 131 rfl) rfl
theorem q1568 : (Jvm.Cond.instanceMethod ({ cls := "java/lang/IllegalArgumentException", name := "<init>", desc := "(Ljava/lang/String;)V" } : Jvm.MethodName)) ∈ lw_all := lw_g (lw_at lw_m7 43 rfl) rfl
theorem q1569 : (Jvm.Cond.code ({ cls := "java/lang/IllegalArgumentException", name := "<init>", desc := "(Ljava/lang/String;)V" } : Jvm.MethodName) prog_29_method_2_code (2 : Nat) (Option.none : Option Jvm.ClassFile.FieldType)) ∈ lw_all := lw_g (lw_at lw_m7 44 rfl) rfl
theorem q1570 : (Jvm.Cond.methodLink "java/lang/IllegalArgumentException" (7 : Nat) ({ cls := "java/lang/RuntimeException", name := "<init>", desc := "(Ljava/lang/String;)V" } : Jvm.MethodName)) ∈ lw_all := lw_g (lw_at lw_m7 45 rfl) rfl
theorem q2127 : (Jvm.Cond.castable "java/lang/IllegalArgumentException" "java/lang/Object") ∈ lw_tbl := lw_at lw_m9 122 rfl
theorem in_J9 : ∀ w ∈ wsJ90, w ∈ lw_all := lw_in wsJ90 [669, 671, 673, 675, 677, 719] (by decide +kernel) (by decide +kernel)
/-! java/lang/IndexOutOfBoundsException -/
set_option maxRecDepth 100000
def RJ10 : String := "java/lang/IndexOutOfBoundsException"
def TJ10 : u_T := fun k => match k with
  | 0 => ("java/lang/Throwable", "cause", "Ljava/lang/Throwable;", false)
  | 1 => ("java/lang/Throwable", "stackTrace", "[Ljava/lang/StackTraceElement;", false)
  | 2 => ("java/lang/Throwable", "suppressedExceptions", "Ljava/util/List;", false)
  | 3 => ("java/lang/Throwable", "detailMessage", "Ljava/lang/String;", false)
  | 4 => ("java/lang/Throwable", "backtrace", "Ljava/lang/Object;", false)
  | _ => ("java/lang/Throwable", "depth", "I", false)
def tyJ10 : Nat → FieldType := fun k => match k with
  | 0 => .object "java/lang/Throwable"
  | 1 => .array (.object "java/lang/StackTraceElement")
  | 2 => .object "java/util/List"
  | 3 => .object "java/lang/String"
  | 4 => .object "java/lang/Object"
  | _ => .int
abbrev wsJ100 : List Cond := u_ws RJ10 TJ10 6
theorem nmJ10 : ∀ a, a < 6 → ∀ b, b < 6 → a ≠ b → (TJ10 a).2.1 ≠ (TJ10 b).2.1 := by decide +kernel
theorem tyJ10_ok : ∀ k, k < 6 → parseFieldDescriptor (TJ10 k).2.2.1 = some (tyJ10 k) := by decide +kernel
abbrev cJ10_init : ByteArray := prog_31_method_2_code
def yJ10_init : MethodName := ⟨RJ10, "<init>", "(Ljava/lang/String;)V"⟩
def dkwJ10_init_0 : List UInt8 := [42, 43, 183, 0, 7, 177]
abbrev dktJ10_init_0 : List UInt8 := dkwJ10_init_0 ++ []
theorem dksJ10_init_0 : cJ10_init.data.toList.drop 0 = dktJ10_init_0 := by decide +kernel
theorem dJ10_init_0 : decode cJ10_init 0 = .ok (.aload_n 0, 1) := dk_42 (dk_at dksJ10_init_0 0 rfl rfl)
theorem dJ10_init_1 : decode cJ10_init 1 = .ok (.aload_n 1, 1) := dk_43 (dk_at dksJ10_init_0 1 rfl rfl)
theorem dJ10_init_2 : decode cJ10_init 2 = .ok (.invokespecial 7, 3) := dk_183 0 7 (dk_at dksJ10_init_0 2 rfl rfl)
theorem dJ10_init_5 : decode cJ10_init 5 = .ok (.return_, 1) := dk_177 (dk_at dksJ10_init_0 5 rfl rfl)
abbrev cJ10_init_2 : ByteArray := prog_31_method_1_code
def yJ10_init_2 : MethodName := ⟨RJ10, "<init>", "()V"⟩
theorem dJ10_init_2_0 : decode cJ10_init_2 0 = .ok (.aload_n 0, 1) := by decide +kernel
theorem dJ10_init_2_1 : decode cJ10_init_2 1 = .ok (.invokespecial 1, 3) := by decide +kernel
theorem dJ10_init_2_4 : decode cJ10_init_2 4 = .ok (.return_, 1) := by decide +kernel
theorem q104 : (Jvm.Cond.initialized "java/lang/IndexOutOfBoundsException") ∈ lw_all := lw_g (lw_at lw_m1 19 rfl) rfl
theorem q693 : (Jvm.Cond.selects "java/lang/IndexOutOfBoundsException" ({ cls := "java/lang/Throwable", name := "fillInStackTrace", desc := "()Ljava/lang/Throwable;" } : Jvm.MethodName) ({ cls := "java/lang/Throwable", name := "fillInStackTrace", desc := "()Ljava/lang/Throwable;" } : Jvm.MethodName)) ∈ lw_all := lw_g (lw_at lw_m3 128 rfl) rfl
theorem q777 : (Jvm.Cond.instanceMethod ({ cls := "java/lang/IndexOutOfBoundsException", name := "<init>", desc := "(Ljava/lang/String;)V" } : Jvm.MethodName)) ∈ lw_all := lw_g (lw_at lw_m3 212 rfl) rfl
theorem q778 : (Jvm.Cond.code ({ cls := "java/lang/IndexOutOfBoundsException", name := "<init>", desc := "(Ljava/lang/String;)V" } : Jvm.MethodName) prog_31_method_2_code (2 : Nat) (Option.none : Option Jvm.ClassFile.FieldType)) ∈ lw_all := lw_g (lw_at lw_m3 213 rfl) rfl
theorem q779 : (Jvm.Cond.methodLink "java/lang/IndexOutOfBoundsException" (7 : Nat) ({ cls := "java/lang/RuntimeException", name := "<init>", desc := "(Ljava/lang/String;)V" } : Jvm.MethodName)) ∈ lw_all := lw_g (lw_at lw_m3 214 rfl) rfl
theorem q796 : (Jvm.Cond.declares ({ cls := "java/lang/IndexOutOfBoundsException", name := "<init>", desc := "()V" } : Jvm.MethodName)) ∈ lw_tbl := lw_at lw_m3 231 rfl
theorem q797 : (Jvm.Cond.declares ({ cls := "java/lang/IndexOutOfBoundsException", name := "<init>", desc := "(Ljava/lang/String;)V" } : Jvm.MethodName)) ∈ lw_tbl := lw_at lw_m3 232 rfl
theorem q818 : (Jvm.Cond.instantiable "java/lang/IndexOutOfBoundsException" (6 : Nat)) ∈ lw_all := lw_g (lw_at lw_m4 13 rfl) rfl
theorem q819 : (Jvm.Cond.castable "java/lang/IndexOutOfBoundsException" "java/lang/IndexOutOfBoundsException") ∈ lw_tbl := lw_at lw_m4 14 rfl
theorem q820 : (Jvm.Cond.selects "java/lang/IndexOutOfBoundsException" ({ cls := "java/lang/Throwable", name := "fillInStackTrace", desc := "(I)Ljava/lang/Throwable;" } : Jvm.MethodName) ({ cls := "java/lang/Throwable", name := "fillInStackTrace", desc := "(I)Ljava/lang/Throwable;" } : Jvm.MethodName)) ∈ lw_all := lw_g (lw_at lw_m4 15 rfl) rfl
theorem q821 : (Jvm.Cond.lays "java/lang/IndexOutOfBoundsException" "java/lang/Throwable" "cause" "Ljava/lang/Throwable;") ∈ lw_all := lw_g (lw_at lw_m4 16 rfl) rfl
theorem q822 : (Jvm.Cond.lays "java/lang/IndexOutOfBoundsException" "java/lang/Throwable" "stackTrace" "[Ljava/lang/StackTraceElement;") ∈ lw_all := lw_g (lw_at lw_m4 17 rfl) rfl
theorem q823 : (Jvm.Cond.lays "java/lang/IndexOutOfBoundsException" "java/lang/Throwable" "suppressedExceptions" "Ljava/util/List;") ∈ lw_all := lw_g (lw_at lw_m4 18 rfl) rfl
theorem q824 : (Jvm.Cond.lays "java/lang/IndexOutOfBoundsException" "java/lang/Throwable" "detailMessage" "Ljava/lang/String;") ∈ lw_all := lw_g (lw_at lw_m4 19 rfl) rfl
theorem q825 : (Jvm.Cond.lays "java/lang/IndexOutOfBoundsException" "java/lang/Throwable" "backtrace" "Ljava/lang/Object;") ∈ lw_all := lw_g (lw_at lw_m4 20 rfl) rfl
theorem q827 : (Jvm.Cond.instanceMethod ({ cls := "java/lang/IndexOutOfBoundsException", name := "<init>", desc := "()V" } : Jvm.MethodName)) ∈ lw_all := lw_g (lw_at lw_m4 22 rfl) rfl
theorem q828 : (Jvm.Cond.code ({ cls := "java/lang/IndexOutOfBoundsException", name := "<init>", desc := "()V" } : Jvm.MethodName) prog_31_method_1_code (1 : Nat) (Option.none : Option Jvm.ClassFile.FieldType)) ∈ lw_all := lw_g (lw_at lw_m4 23 rfl) rfl
theorem q829 : (Jvm.Cond.methodLink "java/lang/IndexOutOfBoundsException" (1 : Nat) ({ cls := "java/lang/RuntimeException", name := "<init>", desc := "()V" } : Jvm.MethodName)) ∈ lw_all := lw_g (lw_at lw_m4 24 rfl) rfl
theorem q830 : (Jvm.Cond.lays "java/lang/IndexOutOfBoundsException" "java/lang/Throwable" "depth" "I") ∈ lw_all := lw_g (lw_at lw_m4 25 rfl) rfl
theorem q831 : (Jvm.Cond.superclass "java/lang/IndexOutOfBoundsException" "java/lang/RuntimeException") ∈ lw_all := lw_g (lw_at lw_m4 26 rfl) rfl
theorem q938 : (Jvm.Cond.selects "java/lang/IndexOutOfBoundsException" ({ cls := "java/lang/Object", name := "getClass", desc := "()Ljava/lang/Class;" } : Jvm.MethodName) ({ cls := "java/lang/Object", name := "getClass", desc := "()Ljava/lang/Class;" } : Jvm.MethodName)) ∈ lw_all := lw_g (lw_at lw_m4 133 rfl) rfl
theorem q2134 : (Jvm.Cond.castable "java/lang/IndexOutOfBoundsException" "java/lang/Object") ∈ lw_tbl := lw_at lw_m9 129 rfl
theorem in_J10 : ∀ w ∈ wsJ100, w ∈ lw_all := lw_in wsJ100 [821, 822, 823, 824, 825, 830] (by decide +kernel) (by decide +kernel)
/-! java/lang/ArrayIndexOutOfBoundsException -/
set_option maxRecDepth 100000
def RJ11 : String := "java/lang/ArrayIndexOutOfBoundsException"
def TJ11 : u_T := fun k => match k with
  | 0 => ("java/lang/Throwable", "backtrace", "Ljava/lang/Object;", false)
  | 1 => ("java/lang/Throwable", "detailMessage", "Ljava/lang/String;", false)
  | 2 => ("java/lang/Throwable", "cause", "Ljava/lang/Throwable;", false)
  | 3 => ("java/lang/Throwable", "stackTrace", "[Ljava/lang/StackTraceElement;", false)
  | 4 => ("java/lang/Throwable", "depth", "I", false)
  | _ => ("java/lang/Throwable", "suppressedExceptions", "Ljava/util/List;", false)
def tyJ11 : Nat → FieldType := fun k => match k with
  | 0 => .object "java/lang/Object"
  | 1 => .object "java/lang/String"
  | 2 => .object "java/lang/Throwable"
  | 3 => .array (.object "java/lang/StackTraceElement")
  | 4 => .int
  | _ => .object "java/util/List"
abbrev wsJ110 : List Cond := u_ws RJ11 TJ11 6
theorem nmJ11 : ∀ a, a < 6 → ∀ b, b < 6 → a ≠ b → (TJ11 a).2.1 ≠ (TJ11 b).2.1 := by decide +kernel
theorem tyJ11_ok : ∀ k, k < 6 → parseFieldDescriptor (TJ11 k).2.2.1 = some (tyJ11 k) := by decide +kernel
abbrev cJ11_init : ByteArray := prog_23_method_2_code
def yJ11_init : MethodName := ⟨RJ11, "<init>", "(Ljava/lang/String;)V"⟩
def dkwJ11_init_0 : List UInt8 := [42, 43, 183, 0, 7, 177]
abbrev dktJ11_init_0 : List UInt8 := dkwJ11_init_0 ++ []
theorem dksJ11_init_0 : cJ11_init.data.toList.drop 0 = dktJ11_init_0 := by decide +kernel
theorem dJ11_init_0 : decode cJ11_init 0 = .ok (.aload_n 0, 1) := dk_42 (dk_at dksJ11_init_0 0 rfl rfl)
theorem dJ11_init_1 : decode cJ11_init 1 = .ok (.aload_n 1, 1) := dk_43 (dk_at dksJ11_init_0 1 rfl rfl)
theorem dJ11_init_2 : decode cJ11_init 2 = .ok (.invokespecial 7, 3) := dk_183 0 7 (dk_at dksJ11_init_0 2 rfl rfl)
theorem dJ11_init_5 : decode cJ11_init 5 = .ok (.return_, 1) := dk_177 (dk_at dksJ11_init_0 5 rfl rfl)
theorem q105 : (Jvm.Cond.initialized "java/lang/ArrayIndexOutOfBoundsException") ∈ lw_all := lw_g (lw_at lw_m1 20 rfl) rfl
theorem q691 : (Jvm.Cond.selects "java/lang/ArrayIndexOutOfBoundsException" ({ cls := "java/lang/Throwable", name := "fillInStackTrace", desc := "()Ljava/lang/Throwable;" } : Jvm.MethodName) ({ cls := "java/lang/Throwable", name := "fillInStackTrace", desc := "()Ljava/lang/Throwable;" } : Jvm.MethodName)) ∈ lw_all := lw_g (lw_at lw_m3 126 rfl) rfl
theorem q773 : (Jvm.Cond.instantiable "java/lang/ArrayIndexOutOfBoundsException" (6 : Nat)) ∈ lw_all := lw_g (lw_at lw_m3 208 rfl) rfl
theorem q774 : (Jvm.Cond.instanceMethod ({ cls := "java/lang/ArrayIndexOutOfBoundsException", name := "<init>", desc := "(Ljava/lang/String;)V" } : Jvm.MethodName)) ∈ lw_all := lw_g (lw_at lw_m3 209 rfl) rfl
theorem q775 : (Jvm.Cond.code ({ cls := "java/lang/ArrayIndexOutOfBoundsException", name := "<init>", desc := "(Ljava/lang/String;)V" } : Jvm.MethodName) prog_23_method_2_code (2 : Nat) (Option.none : Option Jvm.ClassFile.FieldType)) ∈ lw_all := lw_g (lw_at lw_m3 210 rfl) rfl
theorem q776 : (Jvm.Cond.methodLink "java/lang/ArrayIndexOutOfBoundsException" (7 : Nat) ({ cls := "java/lang/IndexOutOfBoundsException", name := "<init>", desc := "(Ljava/lang/String;)V" } : Jvm.MethodName)) ∈ lw_all := lw_g (lw_at lw_m3 211 rfl) rfl
theorem q788 : (Jvm.Cond.lays "java/lang/ArrayIndexOutOfBoundsException" "java/lang/Throwable" "backtrace" "Ljava/lang/Object;") ∈ lw_all := lw_g (lw_at lw_m3 223 rfl) rfl
theorem q789 : (Jvm.Cond.lays "java/lang/ArrayIndexOutOfBoundsException" "java/lang/Throwable" "detailMessage" "Ljava/lang/String;") ∈ lw_all := lw_g (lw_at lw_m3 224 rfl) rfl
theorem q790 : (Jvm.Cond.lays "java/lang/ArrayIndexOutOfBoundsException" "java/lang/Throwable" "cause" "Ljava/lang/Throwable;") ∈ lw_all := lw_g (lw_at lw_m3 225 rfl) rfl
theorem q791 : (Jvm.Cond.lays "java/lang/ArrayIndexOutOfBoundsException" "java/lang/Throwable" "stackTrace" "[Ljava/lang/StackTraceElement;") ∈ lw_all := lw_g (lw_at lw_m3 226 rfl) rfl
theorem q792 : (Jvm.Cond.lays "java/lang/ArrayIndexOutOfBoundsException" "java/lang/Throwable" "depth" "I") ∈ lw_all := lw_g (lw_at lw_m3 227 rfl) rfl
theorem q793 : (Jvm.Cond.lays "java/lang/ArrayIndexOutOfBoundsException" "java/lang/Throwable" "suppressedExceptions" "Ljava/util/List;") ∈ lw_all := lw_g (lw_at lw_m3 228 rfl) rfl
theorem q794 : (Jvm.Cond.superclass "java/lang/ArrayIndexOutOfBoundsException" "java/lang/IndexOutOfBoundsException") ∈ lw_all := lw_g (lw_at lw_m3 229 rfl) rfl
theorem q795 : (Jvm.Cond.castable "java/lang/ArrayIndexOutOfBoundsException" "java/lang/ArrayIndexOutOfBoundsException") ∈ lw_tbl := lw_at lw_m3 230 rfl
theorem q798 : (Jvm.Cond.selects "java/lang/ArrayIndexOutOfBoundsException" ({ cls := "java/lang/Throwable", name := "fillInStackTrace", desc := "(I)Ljava/lang/Throwable;" } : Jvm.MethodName) ({ cls := "java/lang/Throwable", name := "fillInStackTrace", desc := "(I)Ljava/lang/Throwable;" } : Jvm.MethodName)) ∈ lw_all := lw_g (lw_at lw_m3 233 rfl) rfl
theorem q935 : (Jvm.Cond.selects "java/lang/ArrayIndexOutOfBoundsException" ({ cls := "java/lang/Object", name := "getClass", desc := "()Ljava/lang/Class;" } : Jvm.MethodName) ({ cls := "java/lang/Object", name := "getClass", desc := "()Ljava/lang/Class;" } : Jvm.MethodName)) ∈ lw_all := lw_g (lw_at lw_m4 130 rfl) rfl
theorem q2118 : (Jvm.Cond.castable "java/lang/ArrayIndexOutOfBoundsException" "java/lang/IndexOutOfBoundsException") ∈ lw_tbl := lw_at lw_m9 113 rfl
theorem q2133 : (Jvm.Cond.castable "java/lang/ArrayIndexOutOfBoundsException" "java/lang/Object") ∈ lw_tbl := lw_at lw_m9 128 rfl
theorem in_J11 : ∀ w ∈ wsJ110, w ∈ lw_all := lw_in wsJ110 [788, 789, 790, 791, 792, 793] (by decide +kernel) (by decide +kernel)
/-! java/lang/String -/
set_option maxRecDepth 100000
def RJ12 : String := "java/lang/String"
def TJ12 : u_T := fun k => match k with
  | 0 => ("java/lang/String", "value", "[B", true)
  | 1 => ("java/lang/String", "coder", "B", true)
  | 2 => ("java/lang/String", "hash", "I", false)
  | _ => ("java/lang/String", "hashIsZero", "Z", false)
def tyJ12 : Nat → FieldType := fun k => match k with
  | 0 => .array .byte
  | 1 => .byte
  | 2 => .int
  | _ => .boolean
abbrev wsJ120 : List Cond := u_ws RJ12 TJ12 4
theorem nmJ12 : ∀ a, a < 4 → ∀ b, b < 4 → a ≠ b → (TJ12 a).2.1 ≠ (TJ12 b).2.1 := by decide +kernel
theorem tyJ12_ok : ∀ k, k < 4 → parseFieldDescriptor (TJ12 k).2.2.1 = some (tyJ12 k) := by decide +kernel
abbrev cJ12_checkBoundsOffCount : ByteArray := prog_38_method_157_code
def yJ12_checkBoundsOffCount : MethodName := ⟨RJ12, "checkBoundsOffCount", "(III)I"⟩
def dkwJ12_checkBoundsOffCount_0 : List UInt8 := [26, 27, 28, 178, 4, 29, 184, 4, 41, 172]
abbrev dktJ12_checkBoundsOffCount_0 : List UInt8 := dkwJ12_checkBoundsOffCount_0 ++ []
theorem dksJ12_checkBoundsOffCount_0 : cJ12_checkBoundsOffCount.data.toList.drop 0 = dktJ12_checkBoundsOffCount_0 := by decide +kernel
theorem dJ12_checkBoundsOffCount_0 : decode cJ12_checkBoundsOffCount 0 = .ok (.iload_n 0, 1) := dk_26 (dk_at dksJ12_checkBoundsOffCount_0 0 rfl rfl)
theorem dJ12_checkBoundsOffCount_1 : decode cJ12_checkBoundsOffCount 1 = .ok (.iload_n 1, 1) := dk_27 (dk_at dksJ12_checkBoundsOffCount_0 1 rfl rfl)
theorem dJ12_checkBoundsOffCount_2 : decode cJ12_checkBoundsOffCount 2 = .ok (.iload_n 2, 1) := dk_28 (dk_at dksJ12_checkBoundsOffCount_0 2 rfl rfl)
theorem dJ12_checkBoundsOffCount_3 : decode cJ12_checkBoundsOffCount 3 = .ok (.getstatic 1053, 3) := dk_178 4 29 (dk_at dksJ12_checkBoundsOffCount_0 3 rfl rfl)
theorem dJ12_checkBoundsOffCount_6 : decode cJ12_checkBoundsOffCount 6 = .ok (.invokestatic 1065, 3) := dk_184 4 41 (dk_at dksJ12_checkBoundsOffCount_0 6 rfl rfl)
theorem dJ12_checkBoundsOffCount_9 : decode cJ12_checkBoundsOffCount 9 = .ok (.ireturn, 1) := dk_172 (dk_at dksJ12_checkBoundsOffCount_0 9 rfl rfl)
abbrev cJ12_checkIndex : ByteArray := prog_38_method_155_code
def yJ12_checkIndex : MethodName := ⟨RJ12, "checkIndex", "(II)V"⟩
def dkwJ12_checkIndex_0 : List UInt8 := [26, 27, 178, 4, 29, 184, 4, 35, 87, 177]
abbrev dktJ12_checkIndex_0 : List UInt8 := dkwJ12_checkIndex_0 ++ []
theorem dksJ12_checkIndex_0 : cJ12_checkIndex.data.toList.drop 0 = dktJ12_checkIndex_0 := by decide +kernel
theorem dJ12_checkIndex_0 : decode cJ12_checkIndex 0 = .ok (.iload_n 0, 1) := dk_26 (dk_at dksJ12_checkIndex_0 0 rfl rfl)
theorem dJ12_checkIndex_1 : decode cJ12_checkIndex 1 = .ok (.iload_n 1, 1) := dk_27 (dk_at dksJ12_checkIndex_0 1 rfl rfl)
theorem dJ12_checkIndex_2 : decode cJ12_checkIndex 2 = .ok (.getstatic 1053, 3) := dk_178 4 29 (dk_at dksJ12_checkIndex_0 2 rfl rfl)
theorem dJ12_checkIndex_5 : decode cJ12_checkIndex 5 = .ok (.invokestatic 1059, 3) := dk_184 4 35 (dk_at dksJ12_checkIndex_0 5 rfl rfl)
theorem dJ12_checkIndex_8 : decode cJ12_checkIndex 8 = .ok (.pop, 1) := dk_87 (dk_at dksJ12_checkIndex_0 8 rfl rfl)
theorem dJ12_checkIndex_9 : decode cJ12_checkIndex 9 = .ok (.return_, 1) := dk_177 (dk_at dksJ12_checkIndex_0 9 rfl rfl)
abbrev cJ12_init : ByteArray := prog_38_method_53_code
def yJ12_init : MethodName := ⟨RJ12, "<init>", "(Ljava/lang/StringBuilder;)V"⟩
def dkwJ12_init_0 : List UInt8 := [42, 43, 1, 183, 1, 233, 177]
abbrev dktJ12_init_0 : List UInt8 := dkwJ12_init_0 ++ []
theorem dksJ12_init_0 : cJ12_init.data.toList.drop 0 = dktJ12_init_0 := by decide +kernel
theorem dJ12_init_0 : decode cJ12_init 0 = .ok (.aload_n 0, 1) := dk_42 (dk_at dksJ12_init_0 0 rfl rfl)
theorem dJ12_init_1 : decode cJ12_init 1 = .ok (.aload_n 1, 1) := dk_43 (dk_at dksJ12_init_0 1 rfl rfl)
theorem dJ12_init_2 : decode cJ12_init 2 = .ok (.aconst_null, 1) := dk_1 (dk_at dksJ12_init_0 2 rfl rfl)
theorem dJ12_init_3 : decode cJ12_init 3 = .ok (.invokespecial 489, 3) := dk_183 1 233 (dk_at dksJ12_init_0 3 rfl rfl)
theorem dJ12_init_6 : decode cJ12_init 6 = .ok (.return_, 1) := dk_177 (dk_at dksJ12_init_0 6 rfl rfl)
abbrev cJ12_init_2 : ByteArray := prog_38_method_150_code
def yJ12_init_2 : MethodName := ⟨RJ12, "<init>", "(Ljava/lang/AbstractStringBuilder;Ljava/lang/Void;)V"⟩
def dkwJ12_init_2_4 : List UInt8 := [181, 0, 9, 177]
abbrev dktJ12_init_2_4 : List UInt8 := dkwJ12_init_2_4 ++ []
def dkwJ12_init_2_3 : List UInt8 := [184, 0, 47, 181, 0, 15, 177, 42, 4, 181, 0, 15, 42, 45, 3, 21, 4, 4, 120, 184, 0, 54]
abbrev dktJ12_init_2_3 : List UInt8 := dkwJ12_init_2_3 ++ dktJ12_init_2_4
def dkwJ12_init_2_2 : List UInt8 := [180, 4, 24, 153, 0, 28, 42, 45, 3, 21, 4, 184, 4, 27, 181, 0, 9, 42, 42, 180, 0, 9, 21, 4]
abbrev dktJ12_init_2_2 : List UInt8 := dkwJ12_init_2_2 ++ dktJ12_init_2_3
def dkwJ12_init_2_1 : List UInt8 := [181, 0, 15, 42, 45, 3, 21, 4, 184, 0, 54, 181, 0, 9, 167, 0, 59, 178, 0, 38, 153, 0, 35, 43]
abbrev dktJ12_init_2_1 : List UInt8 := dkwJ12_init_2_1 ++ dktJ12_init_2_2
def dkwJ12_init_2_0 : List UInt8 := [42, 183, 0, 1, 43, 182, 2, 40, 78, 43, 182, 2, 37, 54, 4, 43, 182, 4, 23, 153, 0, 22, 42, 3]
abbrev dktJ12_init_2_0 : List UInt8 := dkwJ12_init_2_0 ++ dktJ12_init_2_1
theorem dksJ12_init_2_0 : cJ12_init_2.data.toList.drop 0 = dktJ12_init_2_0 := by decide +kernel
theorem dksJ12_init_2_1 : cJ12_init_2.data.toList.drop 24 = dktJ12_init_2_1 := dk_seg dksJ12_init_2_0 24 rfl rfl
theorem dksJ12_init_2_2 : cJ12_init_2.data.toList.drop 48 = dktJ12_init_2_2 := dk_seg dksJ12_init_2_1 24 rfl rfl
theorem dksJ12_init_2_3 : cJ12_init_2.data.toList.drop 72 = dktJ12_init_2_3 := dk_seg dksJ12_init_2_2 24 rfl rfl
theorem dksJ12_init_2_4 : cJ12_init_2.data.toList.drop 94 = dktJ12_init_2_4 := dk_seg dksJ12_init_2_3 22 rfl rfl
theorem dJ12_init_2_0 : decode cJ12_init_2 0 = .ok (.aload_n 0, 1) := dk_42 (dk_at dksJ12_init_2_0 0 rfl rfl)
theorem dJ12_init_2_1 : decode cJ12_init_2 1 = .ok (.invokespecial 1, 3) := dk_183 0 1 (dk_at dksJ12_init_2_0 1 rfl rfl)
theorem dJ12_init_2_4 : decode cJ12_init_2 4 = .ok (.aload_n 1, 1) := dk_43 (dk_at dksJ12_init_2_0 4 rfl rfl)
theorem dJ12_init_2_5 : decode cJ12_init_2 5 = .ok (.invokevirtual 552, 3) := dk_182 2 40 (dk_at dksJ12_init_2_0 5 rfl rfl)
theorem dJ12_init_2_8 : decode cJ12_init_2 8 = .ok (.astore_n 3, 1) := dk_78 (dk_at dksJ12_init_2_0 8 rfl rfl)
theorem dJ12_init_2_9 : decode cJ12_init_2 9 = .ok (.aload_n 1, 1) := dk_43 (dk_at dksJ12_init_2_0 9 rfl rfl)
theorem dJ12_init_2_10 : decode cJ12_init_2 10 = .ok (.invokevirtual 549, 3) := dk_182 2 37 (dk_at dksJ12_init_2_0 10 rfl rfl)
theorem dJ12_init_2_13 : decode cJ12_init_2 13 = .ok (.istore 4, 2) := dk_54 4 (dk_at dksJ12_init_2_0 13 rfl rfl)
theorem dJ12_init_2_15 : decode cJ12_init_2 15 = .ok (.aload_n 1, 1) := dk_43 (dk_at dksJ12_init_2_0 15 rfl rfl)
theorem dJ12_init_2_16 : decode cJ12_init_2 16 = .ok (.invokevirtual 1047, 3) := dk_182 4 23 (dk_at dksJ12_init_2_0 16 rfl rfl)
theorem dJ12_init_2_19 : decode cJ12_init_2 19 = .ok (.ifCond .eq 22, 3) := dk_153 0 22 (dk_at dksJ12_init_2_0 19 rfl rfl)
theorem dJ12_init_2_22 : decode cJ12_init_2 22 = .ok (.aload_n 0, 1) := dk_42 (dk_at dksJ12_init_2_0 22 rfl rfl)
theorem dJ12_init_2_23 : decode cJ12_init_2 23 = .ok (.iconst 0, 1) := dk_3 (dk_at dksJ12_init_2_0 23 rfl rfl)
theorem dJ12_init_2_24 : decode cJ12_init_2 24 = .ok (.putfield 15, 3) := dk_181 0 15 (dk_at dksJ12_init_2_1 0 rfl rfl)
theorem dJ12_init_2_27 : decode cJ12_init_2 27 = .ok (.aload_n 0, 1) := dk_42 (dk_at dksJ12_init_2_1 3 rfl rfl)
theorem dJ12_init_2_28 : decode cJ12_init_2 28 = .ok (.aload_n 3, 1) := dk_45 (dk_at dksJ12_init_2_1 4 rfl rfl)
theorem dJ12_init_2_29 : decode cJ12_init_2 29 = .ok (.iconst 0, 1) := dk_3 (dk_at dksJ12_init_2_1 5 rfl rfl)
theorem dJ12_init_2_30 : decode cJ12_init_2 30 = .ok (.iload 4, 2) := dk_21 4 (dk_at dksJ12_init_2_1 6 rfl rfl)
theorem dJ12_init_2_32 : decode cJ12_init_2 32 = .ok (.invokestatic 54, 3) := dk_184 0 54 (dk_at dksJ12_init_2_1 8 rfl rfl)
theorem dJ12_init_2_35 : decode cJ12_init_2 35 = .ok (.putfield 9, 3) := dk_181 0 9 (dk_at dksJ12_init_2_1 11 rfl rfl)
theorem dJ12_init_2_38 : decode cJ12_init_2 38 = .ok (.goto 59, 3) := dk_167 0 59 (dk_at dksJ12_init_2_1 14 rfl rfl)
theorem dJ12_init_2_41 : decode cJ12_init_2 41 = .ok (.getstatic 38, 3) := dk_178 0 38 (dk_at dksJ12_init_2_1 17 rfl rfl)
theorem dJ12_init_2_44 : decode cJ12_init_2 44 = .ok (.ifCond .eq 35, 3) := dk_153 0 35 (dk_at dksJ12_init_2_1 20 rfl rfl)
theorem dJ12_init_2_47 : decode cJ12_init_2 47 = .ok (.aload_n 1, 1) := dk_43 (dk_at dksJ12_init_2_1 23 rfl rfl)
theorem dJ12_init_2_48 : decode cJ12_init_2 48 = .ok (.getfield 1048, 3) := dk_180 4 24 (dk_at dksJ12_init_2_2 0 rfl rfl)
theorem dJ12_init_2_51 : decode cJ12_init_2 51 = .ok (.ifCond .eq 28, 3) := dk_153 0 28 (dk_at dksJ12_init_2_2 3 rfl rfl)
theorem dJ12_init_2_54 : decode cJ12_init_2 54 = .ok (.aload_n 0, 1) := dk_42 (dk_at dksJ12_init_2_2 6 rfl rfl)
theorem dJ12_init_2_55 : decode cJ12_init_2 55 = .ok (.aload_n 3, 1) := dk_45 (dk_at dksJ12_init_2_2 7 rfl rfl)
theorem dJ12_init_2_56 : decode cJ12_init_2 56 = .ok (.iconst 0, 1) := dk_3 (dk_at dksJ12_init_2_2 8 rfl rfl)
theorem dJ12_init_2_57 : decode cJ12_init_2 57 = .ok (.iload 4, 2) := dk_21 4 (dk_at dksJ12_init_2_2 9 rfl rfl)
theorem dJ12_init_2_59 : decode cJ12_init_2 59 = .ok (.invokestatic 1051, 3) := dk_184 4 27 (dk_at dksJ12_init_2_2 11 rfl rfl)
theorem dJ12_init_2_62 : decode cJ12_init_2 62 = .ok (.putfield 9, 3) := dk_181 0 9 (dk_at dksJ12_init_2_2 14 rfl rfl)
theorem dJ12_init_2_65 : decode cJ12_init_2 65 = .ok (.aload_n 0, 1) := dk_42 (dk_at dksJ12_init_2_2 17 rfl rfl)
theorem dJ12_init_2_66 : decode cJ12_init_2 66 = .ok (.aload_n 0, 1) := dk_42 (dk_at dksJ12_init_2_2 18 rfl rfl)
theorem dJ12_init_2_67 : decode cJ12_init_2 67 = .ok (.getfield 9, 3) := dk_180 0 9 (dk_at dksJ12_init_2_2 19 rfl rfl)
theorem dJ12_init_2_70 : decode cJ12_init_2 70 = .ok (.iload 4, 2) := dk_21 4 (dk_at dksJ12_init_2_2 22 rfl rfl)
theorem dJ12_init_2_72 : decode cJ12_init_2 72 = .ok (.invokestatic 47, 3) := dk_184 0 47 (dk_at dksJ12_init_2_3 0 rfl rfl)
theorem dJ12_init_2_75 : decode cJ12_init_2 75 = .ok (.putfield 15, 3) := dk_181 0 15 (dk_at dksJ12_init_2_3 3 rfl rfl)
theorem dJ12_init_2_78 : decode cJ12_init_2 78 = .ok (.return_, 1) := dk_177 (dk_at dksJ12_init_2_3 6 rfl rfl)
theorem dJ12_init_2_79 : decode cJ12_init_2 79 = .ok (.aload_n 0, 1) := dk_42 (dk_at dksJ12_init_2_3 7 rfl rfl)
theorem dJ12_init_2_80 : decode cJ12_init_2 80 = .ok (.iconst 1, 1) := dk_4 (dk_at dksJ12_init_2_3 8 rfl rfl)
theorem dJ12_init_2_81 : decode cJ12_init_2 81 = .ok (.putfield 15, 3) := dk_181 0 15 (dk_at dksJ12_init_2_3 9 rfl rfl)
theorem dJ12_init_2_84 : decode cJ12_init_2 84 = .ok (.aload_n 0, 1) := dk_42 (dk_at dksJ12_init_2_3 12 rfl rfl)
theorem dJ12_init_2_85 : decode cJ12_init_2 85 = .ok (.aload_n 3, 1) := dk_45 (dk_at dksJ12_init_2_3 13 rfl rfl)
theorem dJ12_init_2_86 : decode cJ12_init_2 86 = .ok (.iconst 0, 1) := dk_3 (dk_at dksJ12_init_2_3 14 rfl rfl)
theorem dJ12_init_2_87 : decode cJ12_init_2 87 = .ok (.iload 4, 2) := dk_21 4 (dk_at dksJ12_init_2_3 15 rfl rfl)
theorem dJ12_init_2_89 : decode cJ12_init_2 89 = .ok (.iconst 1, 1) := dk_4 (dk_at dksJ12_init_2_3 17 rfl rfl)
theorem dJ12_init_2_90 : decode cJ12_init_2 90 = .ok (.ishl, 1) := dk_120 (dk_at dksJ12_init_2_3 18 rfl rfl)
theorem dJ12_init_2_91 : decode cJ12_init_2 91 = .ok (.invokestatic 54, 3) := dk_184 0 54 (dk_at dksJ12_init_2_3 19 rfl rfl)
theorem dJ12_init_2_94 : decode cJ12_init_2 94 = .ok (.putfield 9, 3) := dk_181 0 9 (dk_at dksJ12_init_2_4 0 rfl rfl)
theorem dJ12_init_2_97 : decode cJ12_init_2 97 = .ok (.return_, 1) := dk_177 (dk_at dksJ12_init_2_4 3 rfl rfl)
abbrev cJ12_checkBoundsBeginEnd : ByteArray := prog_38_method_158_code
def yJ12_checkBoundsBeginEnd : MethodName := ⟨RJ12, "checkBoundsBeginEnd", "(III)V"⟩
def dkwJ12_checkBoundsBeginEnd_0 : List UInt8 := [26, 27, 28, 178, 4, 29, 184, 4, 38, 87, 177]
abbrev dktJ12_checkBoundsBeginEnd_0 : List UInt8 := dkwJ12_checkBoundsBeginEnd_0 ++ []
theorem dksJ12_checkBoundsBeginEnd_0 : cJ12_checkBoundsBeginEnd.data.toList.drop 0 = dktJ12_checkBoundsBeginEnd_0 := by decide +kernel
theorem dJ12_checkBoundsBeginEnd_0 : decode cJ12_checkBoundsBeginEnd 0 = .ok (.iload_n 0, 1) := dk_26 (dk_at dksJ12_checkBoundsBeginEnd_0 0 rfl rfl)
theorem dJ12_checkBoundsBeginEnd_1 : decode cJ12_checkBoundsBeginEnd 1 = .ok (.iload_n 1, 1) := dk_27 (dk_at dksJ12_checkBoundsBeginEnd_0 1 rfl rfl)
theorem dJ12_checkBoundsBeginEnd_2 : decode cJ12_checkBoundsBeginEnd 2 = .ok (.iload_n 2, 1) := dk_28 (dk_at dksJ12_checkBoundsBeginEnd_0 2 rfl rfl)
theorem dJ12_checkBoundsBeginEnd_3 : decode cJ12_checkBoundsBeginEnd 3 = .ok (.getstatic 1053, 3) := dk_178 4 29 (dk_at dksJ12_checkBoundsBeginEnd_0 3 rfl rfl)
theorem dJ12_checkBoundsBeginEnd_6 : decode cJ12_checkBoundsBeginEnd 6 = .ok (.invokestatic 1062, 3) := dk_184 4 38 (dk_at dksJ12_checkBoundsBeginEnd_0 6 rfl rfl)
theorem dJ12_checkBoundsBeginEnd_9 : decode cJ12_checkBoundsBeginEnd 9 = .ok (.pop, 1) := dk_87 (dk_at dksJ12_checkBoundsBeginEnd_0 9 rfl rfl)
theorem dJ12_checkBoundsBeginEnd_10 : decode cJ12_checkBoundsBeginEnd 10 = .ok (.return_, 1) := dk_177 (dk_at dksJ12_checkBoundsBeginEnd_0 10 rfl rfl)
abbrev cJ12_length : ByteArray := prog_38_method_54_code
def yJ12_length : MethodName := ⟨RJ12, "length", "()I"⟩
def dkwJ12_length_0 : List UInt8 := [42, 180, 0, 9, 190, 42, 182, 1, 79, 122, 172]
abbrev dktJ12_length_0 : List UInt8 := dkwJ12_length_0 ++ []
theorem dksJ12_length_0 : cJ12_length.data.toList.drop 0 = dktJ12_length_0 := by decide +kernel
theorem dJ12_length_0 : decode cJ12_length 0 = .ok (.aload_n 0, 1) := dk_42 (dk_at dksJ12_length_0 0 rfl rfl)
theorem dJ12_length_1 : decode cJ12_length 1 = .ok (.getfield 9, 3) := dk_180 0 9 (dk_at dksJ12_length_0 1 rfl rfl)
theorem dJ12_length_4 : decode cJ12_length 4 = .ok (.arraylength, 1) := dk_190 (dk_at dksJ12_length_0 4 rfl rfl)
theorem dJ12_length_5 : decode cJ12_length 5 = .ok (.aload_n 0, 1) := dk_42 (dk_at dksJ12_length_0 5 rfl rfl)
theorem dJ12_length_6 : decode cJ12_length 6 = .ok (.invokevirtual 335, 3) := dk_182 1 79 (dk_at dksJ12_length_0 6 rfl rfl)
theorem dJ12_length_9 : decode cJ12_length 9 = .ok (.ishr, 1) := dk_122 (dk_at dksJ12_length_0 9 rfl rfl)
theorem dJ12_length_10 : decode cJ12_length 10 = .ok (.ireturn, 1) := dk_172 (dk_at dksJ12_length_0 10 rfl rfl)
abbrev cJ12_coder : ByteArray := prog_38_method_152_code
def yJ12_coder : MethodName := ⟨RJ12, "coder", "()B"⟩
def dkwJ12_coder_0 : List UInt8 := [178, 0, 38, 153, 0, 10, 42, 180, 0, 15, 167, 0, 4, 4, 172]
abbrev dktJ12_coder_0 : List UInt8 := dkwJ12_coder_0 ++ []
theorem dksJ12_coder_0 : cJ12_coder.data.toList.drop 0 = dktJ12_coder_0 := by decide +kernel
theorem dJ12_coder_0 : decode cJ12_coder 0 = .ok (.getstatic 38, 3) := dk_178 0 38 (dk_at dksJ12_coder_0 0 rfl rfl)
theorem dJ12_coder_3 : decode cJ12_coder 3 = .ok (.ifCond .eq 10, 3) := dk_153 0 10 (dk_at dksJ12_coder_0 3 rfl rfl)
theorem dJ12_coder_6 : decode cJ12_coder 6 = .ok (.aload_n 0, 1) := dk_42 (dk_at dksJ12_coder_0 6 rfl rfl)
theorem dJ12_coder_7 : decode cJ12_coder 7 = .ok (.getfield 15, 3) := dk_180 0 15 (dk_at dksJ12_coder_0 7 rfl rfl)
theorem dJ12_coder_10 : decode cJ12_coder 10 = .ok (.goto 4, 3) := dk_167 0 4 (dk_at dksJ12_coder_0 10 rfl rfl)
theorem dJ12_coder_13 : decode cJ12_coder 13 = .ok (.iconst 1, 1) := dk_4 (dk_at dksJ12_coder_0 13 rfl rfl)
theorem dJ12_coder_14 : decode cJ12_coder 14 = .ok (.ireturn, 1) := dk_172 (dk_at dksJ12_coder_0 14 rfl rfl)
abbrev cJ12_getBytes : ByteArray := prog_38_method_147_code
def yJ12_getBytes : MethodName := ⟨RJ12, "getBytes", "([BIB)V"⟩
def dkwJ12_getBytes_1 : List UInt8 := [184, 0, 212, 167, 0, 18, 42, 180, 0, 9, 3, 43, 28, 42, 180, 0, 9, 190, 184, 0, 106, 177]
abbrev dktJ12_getBytes_1 : List UInt8 := dkwJ12_getBytes_1 ++ []
def dkwJ12_getBytes_0 : List UInt8 := [42, 182, 1, 79, 29, 160, 0, 23, 42, 180, 0, 9, 3, 43, 28, 29, 120, 42, 180, 0, 9, 190]
abbrev dktJ12_getBytes_0 : List UInt8 := dkwJ12_getBytes_0 ++ dktJ12_getBytes_1
theorem dksJ12_getBytes_0 : cJ12_getBytes.data.toList.drop 0 = dktJ12_getBytes_0 := by decide +kernel
theorem dksJ12_getBytes_1 : cJ12_getBytes.data.toList.drop 22 = dktJ12_getBytes_1 := dk_seg dksJ12_getBytes_0 22 rfl rfl
theorem dJ12_getBytes_0 : decode cJ12_getBytes 0 = .ok (.aload_n 0, 1) := dk_42 (dk_at dksJ12_getBytes_0 0 rfl rfl)
theorem dJ12_getBytes_1 : decode cJ12_getBytes 1 = .ok (.invokevirtual 335, 3) := dk_182 1 79 (dk_at dksJ12_getBytes_0 1 rfl rfl)
theorem dJ12_getBytes_4 : decode cJ12_getBytes 4 = .ok (.iload_n 3, 1) := dk_29 (dk_at dksJ12_getBytes_0 4 rfl rfl)
theorem dJ12_getBytes_5 : decode cJ12_getBytes 5 = .ok (.if_icmp .ne 23, 3) := dk_160 0 23 (dk_at dksJ12_getBytes_0 5 rfl rfl)
theorem dJ12_getBytes_8 : decode cJ12_getBytes 8 = .ok (.aload_n 0, 1) := dk_42 (dk_at dksJ12_getBytes_0 8 rfl rfl)
theorem dJ12_getBytes_9 : decode cJ12_getBytes 9 = .ok (.getfield 9, 3) := dk_180 0 9 (dk_at dksJ12_getBytes_0 9 rfl rfl)
theorem dJ12_getBytes_12 : decode cJ12_getBytes 12 = .ok (.iconst 0, 1) := dk_3 (dk_at dksJ12_getBytes_0 12 rfl rfl)
theorem dJ12_getBytes_13 : decode cJ12_getBytes 13 = .ok (.aload_n 1, 1) := dk_43 (dk_at dksJ12_getBytes_0 13 rfl rfl)
theorem dJ12_getBytes_14 : decode cJ12_getBytes 14 = .ok (.iload_n 2, 1) := dk_28 (dk_at dksJ12_getBytes_0 14 rfl rfl)
theorem dJ12_getBytes_15 : decode cJ12_getBytes 15 = .ok (.iload_n 3, 1) := dk_29 (dk_at dksJ12_getBytes_0 15 rfl rfl)
theorem dJ12_getBytes_16 : decode cJ12_getBytes 16 = .ok (.ishl, 1) := dk_120 (dk_at dksJ12_getBytes_0 16 rfl rfl)
theorem dJ12_getBytes_17 : decode cJ12_getBytes 17 = .ok (.aload_n 0, 1) := dk_42 (dk_at dksJ12_getBytes_0 17 rfl rfl)
theorem dJ12_getBytes_18 : decode cJ12_getBytes 18 = .ok (.getfield 9, 3) := dk_180 0 9 (dk_at dksJ12_getBytes_0 18 rfl rfl)
theorem dJ12_getBytes_21 : decode cJ12_getBytes 21 = .ok (.arraylength, 1) := dk_190 (dk_at dksJ12_getBytes_0 21 rfl rfl)
theorem dJ12_getBytes_22 : decode cJ12_getBytes 22 = .ok (.invokestatic 212, 3) := dk_184 0 212 (dk_at dksJ12_getBytes_1 0 rfl rfl)
theorem dJ12_getBytes_25 : decode cJ12_getBytes 25 = .ok (.goto 18, 3) := dk_167 0 18 (dk_at dksJ12_getBytes_1 3 rfl rfl)
theorem dJ12_getBytes_28 : decode cJ12_getBytes 28 = .ok (.aload_n 0, 1) := dk_42 (dk_at dksJ12_getBytes_1 6 rfl rfl)
theorem dJ12_getBytes_29 : decode cJ12_getBytes 29 = .ok (.getfield 9, 3) := dk_180 0 9 (dk_at dksJ12_getBytes_1 7 rfl rfl)
theorem dJ12_getBytes_32 : decode cJ12_getBytes 32 = .ok (.iconst 0, 1) := dk_3 (dk_at dksJ12_getBytes_1 10 rfl rfl)
theorem dJ12_getBytes_33 : decode cJ12_getBytes 33 = .ok (.aload_n 1, 1) := dk_43 (dk_at dksJ12_getBytes_1 11 rfl rfl)
theorem dJ12_getBytes_34 : decode cJ12_getBytes 34 = .ok (.iload_n 2, 1) := dk_28 (dk_at dksJ12_getBytes_1 12 rfl rfl)
theorem dJ12_getBytes_35 : decode cJ12_getBytes 35 = .ok (.aload_n 0, 1) := dk_42 (dk_at dksJ12_getBytes_1 13 rfl rfl)
theorem dJ12_getBytes_36 : decode cJ12_getBytes 36 = .ok (.getfield 9, 3) := dk_180 0 9 (dk_at dksJ12_getBytes_1 14 rfl rfl)
theorem dJ12_getBytes_39 : decode cJ12_getBytes 39 = .ok (.arraylength, 1) := dk_190 (dk_at dksJ12_getBytes_1 17 rfl rfl)
theorem dJ12_getBytes_40 : decode cJ12_getBytes 40 = .ok (.invokestatic 106, 3) := dk_184 0 106 (dk_at dksJ12_getBytes_1 18 rfl rfl)
theorem dJ12_getBytes_43 : decode cJ12_getBytes 43 = .ok (.return_, 1) := dk_177 (dk_at dksJ12_getBytes_1 21 rfl rfl)
abbrev cJ12_equals : ByteArray := prog_38_method_66_code
def yJ12_equals : MethodName := ⟨RJ12, "equals", "(Ljava/lang/Object;)Z"⟩
def dkwJ12_equals_2 : List UInt8 := [184, 2, 29, 153, 0, 7, 4, 167, 0, 4, 3, 172]
abbrev dktJ12_equals_2 : List UInt8 := dkwJ12_equals_2 ++ []
def dkwJ12_equals_1 : List UInt8 := [153, 0, 14, 42, 180, 0, 15, 44, 180, 0, 15, 160, 0, 21, 42, 180, 0, 9, 44, 180, 0, 9]
abbrev dktJ12_equals_1 : List UInt8 := dkwJ12_equals_1 ++ dktJ12_equals_2
def dkwJ12_equals_0 : List UInt8 := [42, 43, 166, 0, 5, 4, 172, 43, 193, 0, 10, 153, 0, 43, 43, 192, 0, 10, 77, 178, 0, 38]
abbrev dktJ12_equals_0 : List UInt8 := dkwJ12_equals_0 ++ dktJ12_equals_1
theorem dksJ12_equals_0 : cJ12_equals.data.toList.drop 0 = dktJ12_equals_0 := by decide +kernel
theorem dksJ12_equals_1 : cJ12_equals.data.toList.drop 22 = dktJ12_equals_1 := dk_seg dksJ12_equals_0 22 rfl rfl
theorem dksJ12_equals_2 : cJ12_equals.data.toList.drop 44 = dktJ12_equals_2 := dk_seg dksJ12_equals_1 22 rfl rfl
theorem dJ12_equals_0 : decode cJ12_equals 0 = .ok (.aload_n 0, 1) := dk_42 (dk_at dksJ12_equals_0 0 rfl rfl)
theorem dJ12_equals_1 : decode cJ12_equals 1 = .ok (.aload_n 1, 1) := dk_43 (dk_at dksJ12_equals_0 1 rfl rfl)
theorem dJ12_equals_2 : decode cJ12_equals 2 = .ok (.if_acmp .ne 5, 3) := dk_166 0 5 (dk_at dksJ12_equals_0 2 rfl rfl)
theorem dJ12_equals_5 : decode cJ12_equals 5 = .ok (.iconst 1, 1) := dk_4 (dk_at dksJ12_equals_0 5 rfl rfl)
theorem dJ12_equals_6 : decode cJ12_equals 6 = .ok (.ireturn, 1) := dk_172 (dk_at dksJ12_equals_0 6 rfl rfl)
theorem dJ12_equals_7 : decode cJ12_equals 7 = .ok (.aload_n 1, 1) := dk_43 (dk_at dksJ12_equals_0 7 rfl rfl)
theorem dJ12_equals_8 : decode cJ12_equals 8 = .ok (.instanceof 10, 3) := dk_193 0 10 (dk_at dksJ12_equals_0 8 rfl rfl)
theorem dJ12_equals_11 : decode cJ12_equals 11 = .ok (.ifCond .eq 43, 3) := dk_153 0 43 (dk_at dksJ12_equals_0 11 rfl rfl)
theorem dJ12_equals_14 : decode cJ12_equals 14 = .ok (.aload_n 1, 1) := dk_43 (dk_at dksJ12_equals_0 14 rfl rfl)
theorem dJ12_equals_15 : decode cJ12_equals 15 = .ok (.checkcast 10, 3) := dk_192 0 10 (dk_at dksJ12_equals_0 15 rfl rfl)
theorem dJ12_equals_18 : decode cJ12_equals 18 = .ok (.astore_n 2, 1) := dk_77 (dk_at dksJ12_equals_0 18 rfl rfl)
theorem dJ12_equals_19 : decode cJ12_equals 19 = .ok (.getstatic 38, 3) := dk_178 0 38 (dk_at dksJ12_equals_0 19 rfl rfl)
theorem dJ12_equals_22 : decode cJ12_equals 22 = .ok (.ifCond .eq 14, 3) := dk_153 0 14 (dk_at dksJ12_equals_1 0 rfl rfl)
theorem dJ12_equals_25 : decode cJ12_equals 25 = .ok (.aload_n 0, 1) := dk_42 (dk_at dksJ12_equals_1 3 rfl rfl)
theorem dJ12_equals_26 : decode cJ12_equals 26 = .ok (.getfield 15, 3) := dk_180 0 15 (dk_at dksJ12_equals_1 4 rfl rfl)
theorem dJ12_equals_29 : decode cJ12_equals 29 = .ok (.aload_n 2, 1) := dk_44 (dk_at dksJ12_equals_1 7 rfl rfl)
theorem dJ12_equals_30 : decode cJ12_equals 30 = .ok (.getfield 15, 3) := dk_180 0 15 (dk_at dksJ12_equals_1 8 rfl rfl)
theorem dJ12_equals_33 : decode cJ12_equals 33 = .ok (.if_icmp .ne 21, 3) := dk_160 0 21 (dk_at dksJ12_equals_1 11 rfl rfl)
theorem dJ12_equals_36 : decode cJ12_equals 36 = .ok (.aload_n 0, 1) := dk_42 (dk_at dksJ12_equals_1 14 rfl rfl)
theorem dJ12_equals_37 : decode cJ12_equals 37 = .ok (.getfield 9, 3) := dk_180 0 9 (dk_at dksJ12_equals_1 15 rfl rfl)
theorem dJ12_equals_40 : decode cJ12_equals 40 = .ok (.aload_n 2, 1) := dk_44 (dk_at dksJ12_equals_1 18 rfl rfl)
theorem dJ12_equals_41 : decode cJ12_equals 41 = .ok (.getfield 9, 3) := dk_180 0 9 (dk_at dksJ12_equals_1 19 rfl rfl)
theorem dJ12_equals_44 : decode cJ12_equals 44 = .ok (.invokestatic 541, 3) := dk_184 2 29 (dk_at dksJ12_equals_2 0 rfl rfl)
theorem dJ12_equals_47 : decode cJ12_equals 47 = .ok (.ifCond .eq 7, 3) := dk_153 0 7 (dk_at dksJ12_equals_2 3 rfl rfl)
theorem dJ12_equals_50 : decode cJ12_equals 50 = .ok (.iconst 1, 1) := dk_4 (dk_at dksJ12_equals_2 6 rfl rfl)
theorem dJ12_equals_51 : decode cJ12_equals 51 = .ok (.goto 4, 3) := dk_167 0 4 (dk_at dksJ12_equals_2 7 rfl rfl)
theorem dJ12_equals_54 : decode cJ12_equals 54 = .ok (.iconst 0, 1) := dk_3 (dk_at dksJ12_equals_2 10 rfl rfl)
theorem dJ12_equals_55 : decode cJ12_equals 55 = .ok (.ireturn, 1) := dk_172 (dk_at dksJ12_equals_2 11 rfl rfl)
theorem q106 : (Jvm.Cond.initialized "java/lang/String") ∈ lw_all := lw_g (lw_at lw_m1 21 rfl) rfl
theorem q799 : (Jvm.Cond.instantiable "java/lang/String" (4 : Nat)) ∈ lw_all := lw_g (lw_at lw_m3 234 rfl) rfl
theorem q801 : (Jvm.Cond.laysFinal "java/lang/String" "java/lang/String" "value" "[B") ∈ lw_all := lw_g (lw_at lw_m3 236 rfl) rfl
theorem q802 : (Jvm.Cond.soleField "java/lang/String" "value") ∈ lw_all := lw_g (lw_at lw_m3 237 rfl) rfl
theorem q803 : (Jvm.Cond.laysFinal "java/lang/String" "java/lang/String" "coder" "B") ∈ lw_all := lw_g (lw_at lw_m3 238 rfl) rfl
theorem q804 : (Jvm.Cond.soleField "java/lang/String" "coder") ∈ lw_all := lw_g (lw_at lw_m3 239 rfl) rfl
theorem q940 : (Jvm.Cond.selects "java/lang/String" ({ cls := "java/lang/Object", name := "getClass", desc := "()Ljava/lang/Class;" } : Jvm.MethodName) ({ cls := "java/lang/Object", name := "getClass", desc := "()Ljava/lang/Class;" } : Jvm.MethodName)) ∈ lw_all := lw_g (lw_at lw_m4 135 rfl) rfl
theorem q1333 : (Jvm.Cond.laysStatic "java/lang/String" "COMPACT_STRINGS" "Z") ∈ lw_tbl := lw_at lw_m6 48 rfl
theorem q1343 : (Jvm.Cond.fieldLink "java/lang/String" (1048 : Nat) "java/lang/AbstractStringBuilder" "maybeLatin1" "Z") ∈ lw_all := lw_g (lw_at lw_m6 58 rfl) rfl
theorem q1429 : (Jvm.Cond.static ({ cls := "java/lang/String", name := "checkBoundsOffCount", desc := "(III)I" } : Jvm.MethodName)) ∈ lw_all := lw_g (lw_at lw_m6 144 rfl) rfl
theorem q1430 : (Jvm.Cond.code ({ cls := "java/lang/String", name := "checkBoundsOffCount", desc := "(III)I" } : Jvm.MethodName) prog_38_method_157_code (3 : Nat) (Option.some Jvm.ClassFile.FieldType.int)) ∈ lw_all := lw_g (lw_at lw_m6 145 rfl) rfl
theorem q1431 : (Jvm.Cond.fieldLink "java/lang/String" (1053 : Nat) "jdk/internal/util/Preconditions" "SIOOBE_FORMATTER" "Ljava/util/function/BiFunction;") ∈ lw_all := lw_g (lw_at lw_m6 146 rfl) rfl
theorem q1433 : (Jvm.Cond.methodLink "java/lang/String" (1065 : Nat) ({ cls := "jdk/internal/util/Preconditions", name := "checkFromIndexSize", desc := "(IIILjava/util/function/BiFunction;)I" } : Jvm.MethodName)) ∈ lw_all := lw_g (lw_at lw_m6 148 rfl) rfl
theorem q1452 : (Jvm.Cond.static ({ cls := "java/lang/String", name := "checkIndex", desc := "(II)V" } : Jvm.MethodName)) ∈ lw_all := lw_g (lw_at lw_m6 167 rfl) rfl
theorem q1453 : (Jvm.Cond.code ({ cls := "java/lang/String", name := "checkIndex", desc := "(II)V" } : Jvm.MethodName) prog_38_method_155_code (2 : Nat) (Option.none : Option Jvm.ClassFile.FieldType)) ∈ lw_all := lw_g (lw_at lw_m6 168 rfl) rfl
theorem q1454 : (Jvm.Cond.methodLink "java/lang/String" (1059 : Nat) ({ cls := "jdk/internal/util/Preconditions", name := "checkIndex", desc := "(IILjava/util/function/BiFunction;)I" } : Jvm.MethodName)) ∈ lw_all := lw_g (lw_at lw_m6 169 rfl) rfl
theorem q1461 : (Jvm.Cond.instanceMethod ({ cls := "java/lang/String", name := "<init>", desc := "(Ljava/lang/StringBuilder;)V" } : Jvm.MethodName)) ∈ lw_all := lw_g (lw_at lw_m6 176 rfl) rfl
theorem q1462 : (Jvm.Cond.code ({ cls := "java/lang/String", name := "<init>", desc := "(Ljava/lang/StringBuilder;)V" } : Jvm.MethodName) prog_38_method_53_code (2 : Nat) (Option.none : Option Jvm.ClassFile.FieldType)) ∈ lw_all := lw_g (lw_at lw_m6 177 rfl) rfl
theorem q1463 : (Jvm.Cond.methodLink "java/lang/String" (489 : Nat) ({ cls := "java/lang/String", name := "<init>", desc := "(Ljava/lang/AbstractStringBuilder;Ljava/lang/Void;)V" } : Jvm.MethodName)) ∈ lw_all := lw_g (lw_at lw_m6 178 rfl) rfl
theorem q1464 : (Jvm.Cond.instanceMethod ({ cls := "java/lang/String", name := "<init>", desc := "(Ljava/lang/AbstractStringBuilder;Ljava/lang/Void;)V" } : Jvm.MethodName)) ∈ lw_all := lw_g (lw_at lw_m6 179 rfl) rfl
theorem q1465 : (Jvm.Cond.code ({ cls := "java/lang/String", name := "<init>", desc := "(Ljava/lang/AbstractStringBuilder;Ljava/lang/Void;)V" } : Jvm.MethodName) prog_38_method_150_code (5 : Nat) (Option.none : Option Jvm.ClassFile.FieldType)) ∈ lw_all := lw_g (lw_at lw_m6 180 rfl) rfl
theorem q1466 : (Jvm.Cond.methodLink "java/lang/String" (1 : Nat) ({ cls := "java/lang/Object", name := "<init>", desc := "()V" } : Jvm.MethodName)) ∈ lw_all := lw_g (lw_at lw_m6 181 rfl) rfl
theorem q1467 : (Jvm.Cond.methodLink "java/lang/String" (552 : Nat) ({ cls := "java/lang/AbstractStringBuilder", name := "getValue", desc := "()[B" } : Jvm.MethodName)) ∈ lw_all := lw_g (lw_at lw_m6 182 rfl) rfl
theorem q1472 : (Jvm.Cond.methodLink "java/lang/String" (549 : Nat) ({ cls := "java/lang/AbstractStringBuilder", name := "length", desc := "()I" } : Jvm.MethodName)) ∈ lw_all := lw_g (lw_at lw_m6 187 rfl) rfl
theorem q1480 : (Jvm.Cond.methodLink "java/lang/String" (1047 : Nat) ({ cls := "java/lang/AbstractStringBuilder", name := "isLatin1", desc := "()Z" } : Jvm.MethodName)) ∈ lw_all := lw_g (lw_at lw_m6 195 rfl) rfl
theorem q1481 : (Jvm.Cond.methodLink "java/lang/String" (54 : Nat) ({ cls := "java/util/Arrays", name := "copyOfRange", desc := "([BII)[B" } : Jvm.MethodName)) ∈ lw_all := lw_g (lw_at lw_m6 196 rfl) rfl
theorem q1517 : (Jvm.Cond.static ({ cls := "java/lang/String", name := "checkBoundsBeginEnd", desc := "(III)V" } : Jvm.MethodName)) ∈ lw_all := lw_g (lw_at lw_m6 232 rfl) rfl
theorem q1518 : (Jvm.Cond.code ({ cls := "java/lang/String", name := "checkBoundsBeginEnd", desc := "(III)V" } : Jvm.MethodName) prog_38_method_158_code (3 : Nat) (Option.none : Option Jvm.ClassFile.FieldType)) ∈ lw_all := lw_g (lw_at lw_m6 233 rfl) rfl
theorem q1519 : (Jvm.Cond.methodLink "java/lang/String" (1062 : Nat) ({ cls := "jdk/internal/util/Preconditions", name := "checkFromToIndex", desc := "(IIILjava/util/function/BiFunction;)I" } : Jvm.MethodName)) ∈ lw_all := lw_g (lw_at lw_m6 234 rfl) rfl
theorem q1543 : (Jvm.Cond.instanceMethod ({ cls := "java/lang/String", name := "length", desc := "()I" } : Jvm.MethodName)) ∈ lw_all := lw_g (lw_at lw_m7 18 rfl) rfl
theorem q1544 : (Jvm.Cond.selects "java/lang/String" ({ cls := "java/lang/String", name := "length", desc := "()I" } : Jvm.MethodName) ({ cls := "java/lang/String", name := "length", desc := "()I" } : Jvm.MethodName)) ∈ lw_all := lw_g (lw_at lw_m7 19 rfl) rfl
theorem q1545 : (Jvm.Cond.code ({ cls := "java/lang/String", name := "length", desc := "()I" } : Jvm.MethodName) prog_38_method_54_code (1 : Nat) (Option.some Jvm.ClassFile.FieldType.int)) ∈ lw_all := lw_g (lw_at lw_m7 20 rfl) rfl
theorem q1546 : (Jvm.Cond.methodLink "java/lang/String" (335 : Nat) ({ cls := "java/lang/String", name := "coder", desc := "()B" } : Jvm.MethodName)) ∈ lw_all := lw_g (lw_at lw_m7 21 rfl) rfl
theorem q1547 : (Jvm.Cond.instanceMethod ({ cls := "java/lang/String", name := "coder", desc := "()B" } : Jvm.MethodName)) ∈ lw_all := lw_g (lw_at lw_m7 22 rfl) rfl
theorem q1548 : (Jvm.Cond.selects "java/lang/String" ({ cls := "java/lang/String", name := "coder", desc := "()B" } : Jvm.MethodName) ({ cls := "java/lang/String", name := "coder", desc := "()B" } : Jvm.MethodName)) ∈ lw_all := lw_g (lw_at lw_m7 23 rfl) rfl
theorem q1549 : (Jvm.Cond.code ({ cls := "java/lang/String", name := "coder", desc := "()B" } : Jvm.MethodName) prog_38_method_152_code (1 : Nat) (Option.some Jvm.ClassFile.FieldType.byte)) ∈ lw_all := lw_g (lw_at lw_m7 24 rfl) rfl
theorem q1550 : (Jvm.Cond.fieldLink "java/lang/String" (38 : Nat) "java/lang/String" "COMPACT_STRINGS" "Z") ∈ lw_all := lw_g (lw_at lw_m7 25 rfl) rfl
theorem q1561 : (Jvm.Cond.instanceMethod ({ cls := "java/lang/String", name := "getBytes", desc := "([BIB)V" } : Jvm.MethodName)) ∈ lw_all := lw_g (lw_at lw_m7 36 rfl) rfl
theorem q1562 : (Jvm.Cond.selects "java/lang/String" ({ cls := "java/lang/String", name := "getBytes", desc := "([BIB)V" } : Jvm.MethodName) ({ cls := "java/lang/String", name := "getBytes", desc := "([BIB)V" } : Jvm.MethodName)) ∈ lw_all := lw_g (lw_at lw_m7 37 rfl) rfl
theorem q1563 : (Jvm.Cond.code ({ cls := "java/lang/String", name := "getBytes", desc := "([BIB)V" } : Jvm.MethodName) prog_38_method_147_code (4 : Nat) (Option.none : Option Jvm.ClassFile.FieldType)) ∈ lw_all := lw_g (lw_at lw_m7 38 rfl) rfl
theorem q1564 : (Jvm.Cond.methodLink "java/lang/String" (212 : Nat) ({ cls := "java/lang/System", name := "arraycopy", desc := "(Ljava/lang/Object;ILjava/lang/Object;II)V" } : Jvm.MethodName)) ∈ lw_all := lw_g (lw_at lw_m7 39 rfl) rfl
theorem q1565 : (Jvm.Cond.methodLink "java/lang/String" (106 : Nat) ({ cls := "java/lang/StringLatin1", name := "inflate", desc := "([BI[BII)V" } : Jvm.MethodName)) ∈ lw_all := lw_g (lw_at lw_m7 40 rfl) rfl
theorem q1571 : (Jvm.Cond.methodLink "java/lang/String" (1051 : Nat) ({ cls := "java/lang/StringUTF16", name := "compress", desc := "([BII)[B" } : Jvm.MethodName)) ∈ lw_all := lw_g (lw_at lw_m7 46 rfl) rfl
theorem q1581 : (Jvm.Cond.methodLink "java/lang/String" (47 : Nat) ({ cls := "java/lang/StringUTF16", name := "coderFromArrayLen", desc := "([BI)B" } : Jvm.MethodName)) ∈ lw_all := lw_g (lw_at lw_m7 56 rfl) rfl
theorem q1584 : (Jvm.Cond.fieldLink "java/lang/String" (9 : Nat) "java/lang/String" "value" "[B") ∈ lw_all := lw_g (lw_at lw_m7 59 rfl) rfl
theorem q1585 : (Jvm.Cond.fieldLink "java/lang/String" (15 : Nat) "java/lang/String" "coder" "B") ∈ lw_all := lw_g (lw_at lw_m7 60 rfl) rfl
theorem q1586 : (Jvm.Cond.lays "java/lang/String" "java/lang/String" "hash" "I") ∈ lw_all := lw_g (lw_at lw_m7 61 rfl) rfl
theorem q1587 : (Jvm.Cond.soleField "java/lang/String" "hash") ∈ lw_all := lw_g (lw_at lw_m7 62 rfl) rfl
theorem q1588 : (Jvm.Cond.lays "java/lang/String" "java/lang/String" "hashIsZero" "Z") ∈ lw_all := lw_g (lw_at lw_m7 63 rfl) rfl
theorem q1589 : (Jvm.Cond.soleField "java/lang/String" "hashIsZero") ∈ lw_all := lw_g (lw_at lw_m7 64 rfl) rfl
theorem q1590 : (Jvm.Cond.superclass "java/lang/String" "java/lang/Object") ∈ lw_all := lw_g (lw_at lw_m7 65 rfl) rfl
theorem q2100 : (Jvm.Cond.instanceMethod ({ cls := "java/lang/String", name := "equals", desc := "(Ljava/lang/Object;)Z" } : Jvm.MethodName)) ∈ lw_all := lw_g (lw_at lw_m9 95 rfl) rfl
theorem q2101 : (Jvm.Cond.selects "java/lang/String" ({ cls := "java/lang/String", name := "equals", desc := "(Ljava/lang/Object;)Z" } : Jvm.MethodName) ({ cls := "java/lang/String", name := "equals", desc := "(Ljava/lang/Object;)Z" } : Jvm.MethodName)) ∈ lw_all := lw_g (lw_at lw_m9 96 rfl) rfl
theorem q2102 : (Jvm.Cond.code ({ cls := "java/lang/String", name := "equals", desc := "(Ljava/lang/Object;)Z" } : Jvm.MethodName) prog_38_method_66_code (3 : Nat) (Option.some Jvm.ClassFile.FieldType.boolean)) ∈ lw_all := lw_g (lw_at lw_m9 97 rfl) rfl
theorem q2103 : (Jvm.Cond.classLink "java/lang/String" (10 : Nat) "java/lang/String") ∈ lw_all := lw_g (lw_at lw_m9 98 rfl) rfl
theorem q2104 : (Jvm.Cond.methodLink "java/lang/String" (541 : Nat) ({ cls := "java/lang/StringLatin1", name := "equals", desc := "([B[B)Z" } : Jvm.MethodName)) ∈ lw_all := lw_g (lw_at lw_m9 99 rfl) rfl
theorem q2146 : (Jvm.Cond.castable "java/lang/String" "java/lang/Object") ∈ lw_tbl := lw_at lw_m9 141 rfl
theorem in_J12 : ∀ w ∈ wsJ120, w ∈ lw_all := lw_in wsJ120 [801, 803, 1586, 1588] (by decide +kernel) (by decide +kernel)
/-! java/util/ArrayList$Itr -/
set_option maxRecDepth 100000
def RJ13 : String := "java/util/ArrayList$Itr"
def TJ13 : u_T := fun k => match k with
  | 0 => ("java/util/ArrayList$Itr", "cursor", "I", false)
  | 1 => ("java/util/ArrayList$Itr", "lastRet", "I", false)
  | 2 => ("java/util/ArrayList$Itr", "expectedModCount", "I", false)
  | _ => ("java/util/ArrayList$Itr", "this$0", "Ljava/util/ArrayList;", true)
def tyJ13 : Nat → FieldType := fun k => match k with
  | 0 => .int
  | 1 => .int
  | 2 => .int
  | _ => .object "java/util/ArrayList"
abbrev wsJ130 : List Cond := u_ws RJ13 TJ13 4
theorem nmJ13 : ∀ a, a < 4 → ∀ b, b < 4 → a ≠ b → (TJ13 a).2.1 ≠ (TJ13 b).2.1 := by decide +kernel
theorem tyJ13_ok : ∀ k, k < 4 → parseFieldDescriptor (TJ13 k).2.2.1 = some (tyJ13 k) := by decide +kernel
abbrev cJ13_init : ByteArray := prog_49_method_1_code
def yJ13_init : MethodName := ⟨RJ13, "<init>", "(Ljava/util/ArrayList;)V"⟩
def dkwJ13_init_1 : List UInt8 := [181, 0, 22, 177]
abbrev dktJ13_init_1 : List UInt8 := dkwJ13_init_1 ++ []
def dkwJ13_init_0 : List UInt8 := [42, 43, 181, 0, 1, 42, 183, 0, 7, 42, 2, 181, 0, 13, 42, 42, 180, 0, 1, 180, 0, 17]
abbrev dktJ13_init_0 : List UInt8 := dkwJ13_init_0 ++ dktJ13_init_1
theorem dksJ13_init_0 : cJ13_init.data.toList.drop 0 = dktJ13_init_0 := by decide +kernel
theorem dksJ13_init_1 : cJ13_init.data.toList.drop 22 = dktJ13_init_1 := dk_seg dksJ13_init_0 22 rfl rfl
theorem dJ13_init_0 : decode cJ13_init 0 = .ok (.aload_n 0, 1) := dk_42 (dk_at dksJ13_init_0 0 rfl rfl)
theorem dJ13_init_1 : decode cJ13_init 1 = .ok (.aload_n 1, 1) := dk_43 (dk_at dksJ13_init_0 1 rfl rfl)
theorem dJ13_init_2 : decode cJ13_init 2 = .ok (.putfield 1, 3) := dk_181 0 1 (dk_at dksJ13_init_0 2 rfl rfl)
theorem dJ13_init_5 : decode cJ13_init 5 = .ok (.aload_n 0, 1) := dk_42 (dk_at dksJ13_init_0 5 rfl rfl)
theorem dJ13_init_6 : decode cJ13_init 6 = .ok (.invokespecial 7, 3) := dk_183 0 7 (dk_at dksJ13_init_0 6 rfl rfl)
theorem dJ13_init_9 : decode cJ13_init 9 = .ok (.aload_n 0, 1) := dk_42 (dk_at dksJ13_init_0 9 rfl rfl)
theorem dJ13_init_10 : decode cJ13_init 10 = .ok (.iconst (-1), 1) := dk_2 (dk_at dksJ13_init_0 10 rfl rfl)
theorem dJ13_init_11 : decode cJ13_init 11 = .ok (.putfield 13, 3) := dk_181 0 13 (dk_at dksJ13_init_0 11 rfl rfl)
theorem dJ13_init_14 : decode cJ13_init 14 = .ok (.aload_n 0, 1) := dk_42 (dk_at dksJ13_init_0 14 rfl rfl)
theorem dJ13_init_15 : decode cJ13_init 15 = .ok (.aload_n 0, 1) := dk_42 (dk_at dksJ13_init_0 15 rfl rfl)
theorem dJ13_init_16 : decode cJ13_init 16 = .ok (.getfield 1, 3) := dk_180 0 1 (dk_at dksJ13_init_0 16 rfl rfl)
theorem dJ13_init_19 : decode cJ13_init 19 = .ok (.getfield 17, 3) := dk_180 0 17 (dk_at dksJ13_init_0 19 rfl rfl)
theorem dJ13_init_22 : decode cJ13_init 22 = .ok (.putfield 22, 3) := dk_181 0 22 (dk_at dksJ13_init_1 0 rfl rfl)
theorem dJ13_init_25 : decode cJ13_init 25 = .ok (.return_, 1) := dk_177 (dk_at dksJ13_init_1 3 rfl rfl)
abbrev cJ13_hasNext : ByteArray := prog_49_method_2_code
def yJ13_hasNext : MethodName := ⟨RJ13, "hasNext", "()Z"⟩
def dkwJ13_hasNext_0 : List UInt8 := [42, 180, 0, 25, 42, 180, 0, 1, 180, 0, 28, 159, 0, 7, 4, 167, 0, 4, 3, 172]
abbrev dktJ13_hasNext_0 : List UInt8 := dkwJ13_hasNext_0 ++ []
theorem dksJ13_hasNext_0 : cJ13_hasNext.data.toList.drop 0 = dktJ13_hasNext_0 := by decide +kernel
theorem dJ13_hasNext_0 : decode cJ13_hasNext 0 = .ok (.aload_n 0, 1) := dk_42 (dk_at dksJ13_hasNext_0 0 rfl rfl)
theorem dJ13_hasNext_1 : decode cJ13_hasNext 1 = .ok (.getfield 25, 3) := dk_180 0 25 (dk_at dksJ13_hasNext_0 1 rfl rfl)
theorem dJ13_hasNext_4 : decode cJ13_hasNext 4 = .ok (.aload_n 0, 1) := dk_42 (dk_at dksJ13_hasNext_0 4 rfl rfl)
theorem dJ13_hasNext_5 : decode cJ13_hasNext 5 = .ok (.getfield 1, 3) := dk_180 0 1 (dk_at dksJ13_hasNext_0 5 rfl rfl)
theorem dJ13_hasNext_8 : decode cJ13_hasNext 8 = .ok (.getfield 28, 3) := dk_180 0 28 (dk_at dksJ13_hasNext_0 8 rfl rfl)
theorem dJ13_hasNext_11 : decode cJ13_hasNext 11 = .ok (.if_icmp .eq 7, 3) := dk_159 0 7 (dk_at dksJ13_hasNext_0 11 rfl rfl)
theorem dJ13_hasNext_14 : decode cJ13_hasNext 14 = .ok (.iconst 1, 1) := dk_4 (dk_at dksJ13_hasNext_0 14 rfl rfl)
theorem dJ13_hasNext_15 : decode cJ13_hasNext 15 = .ok (.goto 4, 3) := dk_167 0 4 (dk_at dksJ13_hasNext_0 15 rfl rfl)
theorem dJ13_hasNext_18 : decode cJ13_hasNext 18 = .ok (.iconst 0, 1) := dk_3 (dk_at dksJ13_hasNext_0 18 rfl rfl)
theorem dJ13_hasNext_19 : decode cJ13_hasNext 19 = .ok (.ireturn, 1) := dk_172 (dk_at dksJ13_hasNext_0 19 rfl rfl)
abbrev cJ13_next : ByteArray := prog_49_method_3_code
def yJ13_next : MethodName := ⟨RJ13, "next", "()Ljava/lang/Object;"⟩
def dkwJ13_next_2 : List UInt8 := [183, 0, 43, 191, 42, 27, 4, 96, 181, 0, 25, 44, 42, 27, 90, 181, 0, 13, 50, 176]
abbrev dktJ13_next_2 : List UInt8 := dkwJ13_next_2 ++ []
def dkwJ13_next_1 : List UInt8 := [183, 0, 36, 191, 42, 180, 0, 1, 180, 0, 37, 77, 27, 44, 190, 161, 0, 11, 187, 0, 41, 89]
abbrev dktJ13_next_1 : List UInt8 := dkwJ13_next_1 ++ dktJ13_next_2
def dkwJ13_next_0 : List UInt8 := [42, 182, 0, 31, 42, 180, 0, 25, 60, 27, 42, 180, 0, 1, 180, 0, 28, 161, 0, 11, 187, 0, 34, 89]
abbrev dktJ13_next_0 : List UInt8 := dkwJ13_next_0 ++ dktJ13_next_1
theorem dksJ13_next_0 : cJ13_next.data.toList.drop 0 = dktJ13_next_0 := by decide +kernel
theorem dksJ13_next_1 : cJ13_next.data.toList.drop 24 = dktJ13_next_1 := dk_seg dksJ13_next_0 24 rfl rfl
theorem dksJ13_next_2 : cJ13_next.data.toList.drop 46 = dktJ13_next_2 := dk_seg dksJ13_next_1 22 rfl rfl
theorem dJ13_next_0 : decode cJ13_next 0 = .ok (.aload_n 0, 1) := dk_42 (dk_at dksJ13_next_0 0 rfl rfl)
theorem dJ13_next_1 : decode cJ13_next 1 = .ok (.invokevirtual 31, 3) := dk_182 0 31 (dk_at dksJ13_next_0 1 rfl rfl)
theorem dJ13_next_4 : decode cJ13_next 4 = .ok (.aload_n 0, 1) := dk_42 (dk_at dksJ13_next_0 4 rfl rfl)
theorem dJ13_next_5 : decode cJ13_next 5 = .ok (.getfield 25, 3) := dk_180 0 25 (dk_at dksJ13_next_0 5 rfl rfl)
theorem dJ13_next_8 : decode cJ13_next 8 = .ok (.istore_n 1, 1) := dk_60 (dk_at dksJ13_next_0 8 rfl rfl)
theorem dJ13_next_9 : decode cJ13_next 9 = .ok (.iload_n 1, 1) := dk_27 (dk_at dksJ13_next_0 9 rfl rfl)
theorem dJ13_next_10 : decode cJ13_next 10 = .ok (.aload_n 0, 1) := dk_42 (dk_at dksJ13_next_0 10 rfl rfl)
theorem dJ13_next_11 : decode cJ13_next 11 = .ok (.getfield 1, 3) := dk_180 0 1 (dk_at dksJ13_next_0 11 rfl rfl)
theorem dJ13_next_14 : decode cJ13_next 14 = .ok (.getfield 28, 3) := dk_180 0 28 (dk_at dksJ13_next_0 14 rfl rfl)
theorem dJ13_next_17 : decode cJ13_next 17 = .ok (.if_icmp .lt 11, 3) := dk_161 0 11 (dk_at dksJ13_next_0 17 rfl rfl)
theorem dJ13_next_20 : decode cJ13_next 20 = .ok (.new 34, 3) := dk_187 0 34 (dk_at dksJ13_next_0 20 rfl rfl)
theorem dJ13_next_23 : decode cJ13_next 23 = .ok (.dup, 1) := dk_89 (dk_at dksJ13_next_0 23 rfl rfl)
theorem dJ13_next_24 : decode cJ13_next 24 = .ok (.invokespecial 36, 3) := dk_183 0 36 (dk_at dksJ13_next_1 0 rfl rfl)
theorem dJ13_next_27 : decode cJ13_next 27 = .ok (.athrow, 1) := dk_191 (dk_at dksJ13_next_1 3 rfl rfl)
theorem dJ13_next_28 : decode cJ13_next 28 = .ok (.aload_n 0, 1) := dk_42 (dk_at dksJ13_next_1 4 rfl rfl)
theorem dJ13_next_29 : decode cJ13_next 29 = .ok (.getfield 1, 3) := dk_180 0 1 (dk_at dksJ13_next_1 5 rfl rfl)
theorem dJ13_next_32 : decode cJ13_next 32 = .ok (.getfield 37, 3) := dk_180 0 37 (dk_at dksJ13_next_1 8 rfl rfl)
theorem dJ13_next_35 : decode cJ13_next 35 = .ok (.astore_n 2, 1) := dk_77 (dk_at dksJ13_next_1 11 rfl rfl)
theorem dJ13_next_36 : decode cJ13_next 36 = .ok (.iload_n 1, 1) := dk_27 (dk_at dksJ13_next_1 12 rfl rfl)
theorem dJ13_next_37 : decode cJ13_next 37 = .ok (.aload_n 2, 1) := dk_44 (dk_at dksJ13_next_1 13 rfl rfl)
theorem dJ13_next_38 : decode cJ13_next 38 = .ok (.arraylength, 1) := dk_190 (dk_at dksJ13_next_1 14 rfl rfl)
theorem dJ13_next_39 : decode cJ13_next 39 = .ok (.if_icmp .lt 11, 3) := dk_161 0 11 (dk_at dksJ13_next_1 15 rfl rfl)
theorem dJ13_next_42 : decode cJ13_next 42 = .ok (.new 41, 3) := dk_187 0 41 (dk_at dksJ13_next_1 18 rfl rfl)
theorem dJ13_next_45 : decode cJ13_next 45 = .ok (.dup, 1) := dk_89 (dk_at dksJ13_next_1 21 rfl rfl)
theorem dJ13_next_46 : decode cJ13_next 46 = .ok (.invokespecial 43, 3) := dk_183 0 43 (dk_at dksJ13_next_2 0 rfl rfl)
theorem dJ13_next_49 : decode cJ13_next 49 = .ok (.athrow, 1) := dk_191 (dk_at dksJ13_next_2 3 rfl rfl)
theorem dJ13_next_50 : decode cJ13_next 50 = .ok (.aload_n 0, 1) := dk_42 (dk_at dksJ13_next_2 4 rfl rfl)
theorem dJ13_next_51 : decode cJ13_next 51 = .ok (.iload_n 1, 1) := dk_27 (dk_at dksJ13_next_2 5 rfl rfl)
theorem dJ13_next_52 : decode cJ13_next 52 = .ok (.iconst 1, 1) := dk_4 (dk_at dksJ13_next_2 6 rfl rfl)
theorem dJ13_next_53 : decode cJ13_next 53 = .ok (.iadd, 1) := dk_96 (dk_at dksJ13_next_2 7 rfl rfl)
theorem dJ13_next_54 : decode cJ13_next 54 = .ok (.putfield 25, 3) := dk_181 0 25 (dk_at dksJ13_next_2 8 rfl rfl)
theorem dJ13_next_57 : decode cJ13_next 57 = .ok (.aload_n 2, 1) := dk_44 (dk_at dksJ13_next_2 11 rfl rfl)
theorem dJ13_next_58 : decode cJ13_next 58 = .ok (.aload_n 0, 1) := dk_42 (dk_at dksJ13_next_2 12 rfl rfl)
theorem dJ13_next_59 : decode cJ13_next 59 = .ok (.iload_n 1, 1) := dk_27 (dk_at dksJ13_next_2 13 rfl rfl)
theorem dJ13_next_60 : decode cJ13_next 60 = .ok (.dup_x1, 1) := dk_90 (dk_at dksJ13_next_2 14 rfl rfl)
theorem dJ13_next_61 : decode cJ13_next 61 = .ok (.putfield 13, 3) := dk_181 0 13 (dk_at dksJ13_next_2 15 rfl rfl)
theorem dJ13_next_64 : decode cJ13_next 64 = .ok (.aaload, 1) := dk_50 (dk_at dksJ13_next_2 18 rfl rfl)
theorem dJ13_next_65 : decode cJ13_next 65 = .ok (.areturn, 1) := dk_176 (dk_at dksJ13_next_2 19 rfl rfl)
abbrev cJ13_checkForComodification : ByteArray := prog_49_method_6_code
def yJ13_checkForComodification : MethodName := ⟨RJ13, "checkForComodification", "()V"⟩
def dkwJ13_checkForComodification_0 : List UInt8 := [42, 180, 0, 1, 180, 0, 17, 42, 180, 0, 22, 159, 0, 11, 187, 0, 41, 89, 183, 0, 43, 191, 177]
abbrev dktJ13_checkForComodification_0 : List UInt8 := dkwJ13_checkForComodification_0 ++ []
theorem dksJ13_checkForComodification_0 : cJ13_checkForComodification.data.toList.drop 0 = dktJ13_checkForComodification_0 := by decide +kernel
theorem dJ13_checkForComodification_0 : decode cJ13_checkForComodification 0 = .ok (.aload_n 0, 1) := dk_42 (dk_at dksJ13_checkForComodification_0 0 rfl rfl)
theorem dJ13_checkForComodification_1 : decode cJ13_checkForComodification 1 = .ok (.getfield 1, 3) := dk_180 0 1 (dk_at dksJ13_checkForComodification_0 1 rfl rfl)
theorem dJ13_checkForComodification_4 : decode cJ13_checkForComodification 4 = .ok (.getfield 17, 3) := dk_180 0 17 (dk_at dksJ13_checkForComodification_0 4 rfl rfl)
theorem dJ13_checkForComodification_7 : decode cJ13_checkForComodification 7 = .ok (.aload_n 0, 1) := dk_42 (dk_at dksJ13_checkForComodification_0 7 rfl rfl)
theorem dJ13_checkForComodification_8 : decode cJ13_checkForComodification 8 = .ok (.getfield 22, 3) := dk_180 0 22 (dk_at dksJ13_checkForComodification_0 8 rfl rfl)
theorem dJ13_checkForComodification_11 : decode cJ13_checkForComodification 11 = .ok (.if_icmp .eq 11, 3) := dk_159 0 11 (dk_at dksJ13_checkForComodification_0 11 rfl rfl)
theorem dJ13_checkForComodification_14 : decode cJ13_checkForComodification 14 = .ok (.new 41, 3) := dk_187 0 41 (dk_at dksJ13_checkForComodification_0 14 rfl rfl)
theorem dJ13_checkForComodification_17 : decode cJ13_checkForComodification 17 = .ok (.dup, 1) := dk_89 (dk_at dksJ13_checkForComodification_0 17 rfl rfl)
theorem dJ13_checkForComodification_18 : decode cJ13_checkForComodification 18 = .ok (.invokespecial 43, 3) := dk_183 0 43 (dk_at dksJ13_checkForComodification_0 18 rfl rfl)
theorem dJ13_checkForComodification_21 : decode cJ13_checkForComodification 21 = .ok (.athrow, 1) := dk_191 (dk_at dksJ13_checkForComodification_0 21 rfl rfl)
theorem dJ13_checkForComodification_22 : decode cJ13_checkForComodification 22 = .ok (.return_, 1) := dk_177 (dk_at dksJ13_checkForComodification_0 22 rfl rfl)
theorem q107 : (Jvm.Cond.initialized "java/util/ArrayList$Itr") ∈ lw_all := lw_g (lw_at lw_m1 22 rfl) rfl
theorem q155 : (Jvm.Cond.fieldLink "java/util/ArrayList$Itr" (37 : Nat) "java/util/ArrayList" "elementData" "[Ljava/lang/Object;") ∈ lw_all := lw_g (lw_at lw_m1 70 rfl) rfl
theorem q156 : (Jvm.Cond.fieldLinkNest "java/util/ArrayList$Itr" (28 : Nat) "java/util/ArrayList" "size" "I" "java/util/ArrayList") ∈ lw_tbl := lw_at lw_m1 71 rfl
theorem q159 : (Jvm.Cond.fieldLink "java/util/ArrayList$Itr" (17 : Nat) "java/util/ArrayList" "modCount" "I") ∈ lw_all := lw_g (lw_at lw_m1 74 rfl) rfl
theorem q304 : (Jvm.Cond.instantiable "java/util/ArrayList$Itr" (4 : Nat)) ∈ lw_all := lw_g (lw_at lw_m1 219 rfl) rfl
theorem q306 : (Jvm.Cond.instanceMethod ({ cls := "java/util/ArrayList$Itr", name := "<init>", desc := "(Ljava/util/ArrayList;)V" } : Jvm.MethodName)) ∈ lw_all := lw_g (lw_at lw_m1 221 rfl) rfl
theorem q307 : (Jvm.Cond.code ({ cls := "java/util/ArrayList$Itr", name := "<init>", desc := "(Ljava/util/ArrayList;)V" } : Jvm.MethodName) prog_49_method_1_code (2 : Nat) (Option.none : Option Jvm.ClassFile.FieldType)) ∈ lw_all := lw_g (lw_at lw_m1 222 rfl) rfl
theorem q308 : (Jvm.Cond.methodLink "java/util/ArrayList$Itr" (7 : Nat) ({ cls := "java/lang/Object", name := "<init>", desc := "()V" } : Jvm.MethodName)) ∈ lw_all := lw_g (lw_at lw_m1 223 rfl) rfl
theorem q309 : (Jvm.Cond.fieldLink "java/util/ArrayList$Itr" (25 : Nat) "java/util/ArrayList$Itr" "cursor" "I") ∈ lw_all := lw_g (lw_at lw_m1 224 rfl) rfl
theorem q310 : (Jvm.Cond.fieldLink "java/util/ArrayList$Itr" (13 : Nat) "java/util/ArrayList$Itr" "lastRet" "I") ∈ lw_all := lw_g (lw_at lw_m1 225 rfl) rfl
theorem q311 : (Jvm.Cond.fieldLink "java/util/ArrayList$Itr" (22 : Nat) "java/util/ArrayList$Itr" "expectedModCount" "I") ∈ lw_all := lw_g (lw_at lw_m1 226 rfl) rfl
theorem q312 : (Jvm.Cond.fieldLink "java/util/ArrayList$Itr" (1 : Nat) "java/util/ArrayList$Itr" "this$0" "Ljava/util/ArrayList;") ∈ lw_all := lw_g (lw_at lw_m1 227 rfl) rfl
theorem q313 : (Jvm.Cond.lays "java/util/ArrayList$Itr" "java/util/ArrayList$Itr" "cursor" "I") ∈ lw_all := lw_g (lw_at lw_m1 228 rfl) rfl
theorem q314 : (Jvm.Cond.soleField "java/util/ArrayList$Itr" "cursor") ∈ lw_all := lw_g (lw_at lw_m1 229 rfl) rfl
theorem q315 : (Jvm.Cond.lays "java/util/ArrayList$Itr" "java/util/ArrayList$Itr" "lastRet" "I") ∈ lw_all := lw_g (lw_at lw_m1 230 rfl) rfl
theorem q316 : (Jvm.Cond.soleField "java/util/ArrayList$Itr" "lastRet") ∈ lw_all := lw_g (lw_at lw_m1 231 rfl) rfl
theorem q317 : (Jvm.Cond.lays "java/util/ArrayList$Itr" "java/util/ArrayList$Itr" "expectedModCount" "I") ∈ lw_all := lw_g (lw_at lw_m1 232 rfl) rfl
theorem q318 : (Jvm.Cond.soleField "java/util/ArrayList$Itr" "expectedModCount") ∈ lw_all := lw_g (lw_at lw_m1 233 rfl) rfl
theorem q319 : (Jvm.Cond.laysFinal "java/util/ArrayList$Itr" "java/util/ArrayList$Itr" "this$0" "Ljava/util/ArrayList;") ∈ lw_all := lw_g (lw_at lw_m1 234 rfl) rfl
theorem q320 : (Jvm.Cond.soleField "java/util/ArrayList$Itr" "this$0") ∈ lw_all := lw_g (lw_at lw_m1 235 rfl) rfl
theorem q321 : (Jvm.Cond.superclass "java/util/ArrayList$Itr" "java/lang/Object") ∈ lw_all := lw_g (lw_at lw_m1 236 rfl) rfl
theorem q326 : (Jvm.Cond.castable "java/util/ArrayList$Itr" "java/util/Iterator") ∈ lw_tbl := lw_at lw_m2 1 rfl
theorem q327 : (Jvm.Cond.selects "java/util/ArrayList$Itr" ({ cls := "java/util/Iterator", name := "hasNext", desc := "()Z" } : Jvm.MethodName) ({ cls := "java/util/ArrayList$Itr", name := "hasNext", desc := "()Z" } : Jvm.MethodName)) ∈ lw_all := lw_g (lw_at lw_m2 2 rfl) rfl
theorem q328 : (Jvm.Cond.unhidden "java/util/ArrayList$Itr" "hasNext" "()Z") ∈ lw_tbl := lw_at lw_m2 3 rfl
theorem q329 : (Jvm.Cond.instanceMethod ({ cls := "java/util/ArrayList$Itr", name := "hasNext", desc := "()Z" } : Jvm.MethodName)) ∈ lw_all := lw_g (lw_at lw_m2 4 rfl) rfl
theorem q330 : (Jvm.Cond.publicMethod ({ cls := "java/util/ArrayList$Itr", name := "hasNext", desc := "()Z" } : Jvm.MethodName)) ∈ lw_tbl := lw_at lw_m2 5 rfl
theorem q331 : (Jvm.Cond.code ({ cls := "java/util/ArrayList$Itr", name := "hasNext", desc := "()Z" } : Jvm.MethodName) prog_49_method_2_code (1 : Nat) (Option.some Jvm.ClassFile.FieldType.boolean)) ∈ lw_all := lw_g (lw_at lw_m2 6 rfl) rfl
theorem q336 : (Jvm.Cond.selects "java/util/ArrayList$Itr" ({ cls := "java/util/Iterator", name := "next", desc := "()Ljava/lang/Object;" } : Jvm.MethodName) ({ cls := "java/util/ArrayList$Itr", name := "next", desc := "()Ljava/lang/Object;" } : Jvm.MethodName)) ∈ lw_all := lw_g (lw_at lw_m2 11 rfl) rfl
theorem q337 : (Jvm.Cond.unhidden "java/util/ArrayList$Itr" "next" "()Ljava/lang/Object;") ∈ lw_tbl := lw_at lw_m2 12 rfl
theorem q338 : (Jvm.Cond.instanceMethod ({ cls := "java/util/ArrayList$Itr", name := "next", desc := "()Ljava/lang/Object;" } : Jvm.MethodName)) ∈ lw_all := lw_g (lw_at lw_m2 13 rfl) rfl
theorem q339 : (Jvm.Cond.publicMethod ({ cls := "java/util/ArrayList$Itr", name := "next", desc := "()Ljava/lang/Object;" } : Jvm.MethodName)) ∈ lw_tbl := lw_at lw_m2 14 rfl
theorem q340 : (Jvm.Cond.code ({ cls := "java/util/ArrayList$Itr", name := "next", desc := "()Ljava/lang/Object;" } : Jvm.MethodName) prog_49_method_3_code (3 : Nat) (Option.some (Jvm.ClassFile.FieldType.object "java/lang/Object"))) ∈ lw_all := lw_g (lw_at lw_m2 15 rfl) rfl
theorem q341 : (Jvm.Cond.methodLink "java/util/ArrayList$Itr" (31 : Nat) ({ cls := "java/util/ArrayList$Itr", name := "checkForComodification", desc := "()V" } : Jvm.MethodName)) ∈ lw_all := lw_g (lw_at lw_m2 16 rfl) rfl
theorem q342 : (Jvm.Cond.instanceMethod ({ cls := "java/util/ArrayList$Itr", name := "checkForComodification", desc := "()V" } : Jvm.MethodName)) ∈ lw_all := lw_g (lw_at lw_m2 17 rfl) rfl
theorem q343 : (Jvm.Cond.selects "java/util/ArrayList$Itr" ({ cls := "java/util/ArrayList$Itr", name := "checkForComodification", desc := "()V" } : Jvm.MethodName) ({ cls := "java/util/ArrayList$Itr", name := "checkForComodification", desc := "()V" } : Jvm.MethodName)) ∈ lw_all := lw_g (lw_at lw_m2 18 rfl) rfl
theorem q344 : (Jvm.Cond.code ({ cls := "java/util/ArrayList$Itr", name := "checkForComodification", desc := "()V" } : Jvm.MethodName) prog_49_method_6_code (1 : Nat) (Option.none : Option Jvm.ClassFile.FieldType)) ∈ lw_all := lw_g (lw_at lw_m2 19 rfl) rfl
theorem q943 : (Jvm.Cond.selects "java/util/ArrayList$Itr" ({ cls := "java/lang/Object", name := "getClass", desc := "()Ljava/lang/Class;" } : Jvm.MethodName) ({ cls := "java/lang/Object", name := "getClass", desc := "()Ljava/lang/Class;" } : Jvm.MethodName)) ∈ lw_all := lw_g (lw_at lw_m4 138 rfl) rfl
theorem q2135 : (Jvm.Cond.castable "java/util/ArrayList$Itr" "java/lang/Object") ∈ lw_tbl := lw_at lw_m9 130 rfl
theorem in_J13 : ∀ w ∈ wsJ130, w ∈ lw_all := lw_in wsJ130 [313, 315, 317, 319] (by decide +kernel) (by decide +kernel)
/-! java/lang/Math -/
set_option maxRecDepth 100000
def RJ14 : String := "java/lang/Math"
abbrev cJ14_min : ByteArray := prog_35_method_69_code
def yJ14_min : MethodName := ⟨RJ14, "min", "(II)I"⟩
def dkwJ14_min_0 : List UInt8 := [26, 27, 163, 0, 7, 26, 167, 0, 4, 27, 172]
abbrev dktJ14_min_0 : List UInt8 := dkwJ14_min_0 ++ []
theorem dksJ14_min_0 : cJ14_min.data.toList.drop 0 = dktJ14_min_0 := by decide +kernel
theorem dJ14_min_0 : decode cJ14_min 0 = .ok (.iload_n 0, 1) := dk_26 (dk_at dksJ14_min_0 0 rfl rfl)
theorem dJ14_min_1 : decode cJ14_min 1 = .ok (.iload_n 1, 1) := dk_27 (dk_at dksJ14_min_0 1 rfl rfl)
theorem dJ14_min_2 : decode cJ14_min 2 = .ok (.if_icmp .gt 7, 3) := dk_163 0 7 (dk_at dksJ14_min_0 2 rfl rfl)
theorem dJ14_min_5 : decode cJ14_min 5 = .ok (.iload_n 0, 1) := dk_26 (dk_at dksJ14_min_0 5 rfl rfl)
theorem dJ14_min_6 : decode cJ14_min 6 = .ok (.goto 4, 3) := dk_167 0 4 (dk_at dksJ14_min_0 6 rfl rfl)
theorem dJ14_min_9 : decode cJ14_min 9 = .ok (.iload_n 1, 1) := dk_27 (dk_at dksJ14_min_0 9 rfl rfl)
theorem dJ14_min_10 : decode cJ14_min 10 = .ok (.ireturn, 1) := dk_172 (dk_at dksJ14_min_0 10 rfl rfl)
abbrev cJ14_abs : ByteArray := prog_35_method_59_code
def yJ14_abs : MethodName := ⟨RJ14, "abs", "(I)I"⟩
def dkwJ14_abs_0 : List UInt8 := [26, 156, 0, 8, 26, 116, 167, 0, 4, 26, 172]
abbrev dktJ14_abs_0 : List UInt8 := dkwJ14_abs_0 ++ []
theorem dksJ14_abs_0 : cJ14_abs.data.toList.drop 0 = dktJ14_abs_0 := by decide +kernel
theorem dJ14_abs_0 : decode cJ14_abs 0 = .ok (.iload_n 0, 1) := dk_26 (dk_at dksJ14_abs_0 0 rfl rfl)
theorem dJ14_abs_1 : decode cJ14_abs 1 = .ok (.ifCond .ge 8, 3) := dk_156 0 8 (dk_at dksJ14_abs_0 1 rfl rfl)
theorem dJ14_abs_4 : decode cJ14_abs 4 = .ok (.iload_n 0, 1) := dk_26 (dk_at dksJ14_abs_0 4 rfl rfl)
theorem dJ14_abs_5 : decode cJ14_abs 5 = .ok (.ineg, 1) := dk_116 (dk_at dksJ14_abs_0 5 rfl rfl)
theorem dJ14_abs_6 : decode cJ14_abs 6 = .ok (.goto 4, 3) := dk_167 0 4 (dk_at dksJ14_abs_0 6 rfl rfl)
theorem dJ14_abs_9 : decode cJ14_abs 9 = .ok (.iload_n 0, 1) := dk_26 (dk_at dksJ14_abs_0 9 rfl rfl)
theorem dJ14_abs_10 : decode cJ14_abs 10 = .ok (.ireturn, 1) := dk_172 (dk_at dksJ14_abs_0 10 rfl rfl)
abbrev cJ14_max : ByteArray := prog_35_method_65_code
def yJ14_max : MethodName := ⟨RJ14, "max", "(II)I"⟩
def dkwJ14_max_0 : List UInt8 := [26, 27, 161, 0, 7, 26, 167, 0, 4, 27, 172]
abbrev dktJ14_max_0 : List UInt8 := dkwJ14_max_0 ++ []
theorem dksJ14_max_0 : cJ14_max.data.toList.drop 0 = dktJ14_max_0 := by decide +kernel
theorem dJ14_max_0 : decode cJ14_max 0 = .ok (.iload_n 0, 1) := dk_26 (dk_at dksJ14_max_0 0 rfl rfl)
theorem dJ14_max_1 : decode cJ14_max 1 = .ok (.iload_n 1, 1) := dk_27 (dk_at dksJ14_max_0 1 rfl rfl)
theorem dJ14_max_2 : decode cJ14_max 2 = .ok (.if_icmp .lt 7, 3) := dk_161 0 7 (dk_at dksJ14_max_0 2 rfl rfl)
theorem dJ14_max_5 : decode cJ14_max 5 = .ok (.iload_n 0, 1) := dk_26 (dk_at dksJ14_max_0 5 rfl rfl)
theorem dJ14_max_6 : decode cJ14_max 6 = .ok (.goto 4, 3) := dk_167 0 4 (dk_at dksJ14_max_0 6 rfl rfl)
theorem dJ14_max_9 : decode cJ14_max 9 = .ok (.iload_n 1, 1) := dk_27 (dk_at dksJ14_max_0 9 rfl rfl)
theorem dJ14_max_10 : decode cJ14_max 10 = .ok (.ireturn, 1) := dk_172 (dk_at dksJ14_max_0 10 rfl rfl)
theorem q108 : (Jvm.Cond.initialized "java/lang/Math") ∈ lw_all := lw_g (lw_at lw_m1 23 rfl) rfl
theorem q389 : (Jvm.Cond.static ({ cls := "java/lang/Math", name := "min", desc := "(II)I" } : Jvm.MethodName)) ∈ lw_all := lw_g (lw_at lw_m2 64 rfl) rfl
theorem q390 : (Jvm.Cond.code ({ cls := "java/lang/Math", name := "min", desc := "(II)I" } : Jvm.MethodName) prog_35_method_69_code (2 : Nat) (Option.some Jvm.ClassFile.FieldType.int)) ∈ lw_all := lw_g (lw_at lw_m2 65 rfl) rfl
theorem q454 : (Jvm.Cond.static ({ cls := "java/lang/Math", name := "abs", desc := "(I)I" } : Jvm.MethodName)) ∈ lw_all := lw_g (lw_at lw_m2 129 rfl) rfl
theorem q455 : (Jvm.Cond.code ({ cls := "java/lang/Math", name := "abs", desc := "(I)I" } : Jvm.MethodName) prog_35_method_59_code (1 : Nat) (Option.some Jvm.ClassFile.FieldType.int)) ∈ lw_all := lw_g (lw_at lw_m2 130 rfl) rfl
theorem q483 : (Jvm.Cond.static ({ cls := "java/lang/Math", name := "max", desc := "(II)I" } : Jvm.MethodName)) ∈ lw_all := lw_g (lw_at lw_m2 158 rfl) rfl
theorem q484 : (Jvm.Cond.code ({ cls := "java/lang/Math", name := "max", desc := "(II)I" } : Jvm.MethodName) prog_35_method_65_code (2 : Nat) (Option.some Jvm.ClassFile.FieldType.int)) ∈ lw_all := lw_g (lw_at lw_m2 159 rfl) rfl
/-! java/lang/IllegalStateException -/
set_option maxRecDepth 100000
def RJ15 : String := "java/lang/IllegalStateException"
def TJ15 : u_T := fun k => match k with
  | 0 => ("java/lang/Throwable", "cause", "Ljava/lang/Throwable;", false)
  | 1 => ("java/lang/Throwable", "stackTrace", "[Ljava/lang/StackTraceElement;", false)
  | 2 => ("java/lang/Throwable", "suppressedExceptions", "Ljava/util/List;", false)
  | 3 => ("java/lang/Throwable", "detailMessage", "Ljava/lang/String;", false)
  | 4 => ("java/lang/Throwable", "backtrace", "Ljava/lang/Object;", false)
  | _ => ("java/lang/Throwable", "depth", "I", false)
def tyJ15 : Nat → FieldType := fun k => match k with
  | 0 => .object "java/lang/Throwable"
  | 1 => .array (.object "java/lang/StackTraceElement")
  | 2 => .object "java/util/List"
  | 3 => .object "java/lang/String"
  | 4 => .object "java/lang/Object"
  | _ => .int
abbrev wsJ150 : List Cond := u_ws RJ15 TJ15 6
theorem nmJ15 : ∀ a, a < 6 → ∀ b, b < 6 → a ≠ b → (TJ15 a).2.1 ≠ (TJ15 b).2.1 := by decide +kernel
theorem tyJ15_ok : ∀ k, k < 6 → parseFieldDescriptor (TJ15 k).2.2.1 = some (tyJ15 k) := by decide +kernel
abbrev cJ15_init : ByteArray := prog_30_method_1_code
def yJ15_init : MethodName := ⟨RJ15, "<init>", "()V"⟩
theorem dJ15_init_0 : decode cJ15_init 0 = .ok (.aload_n 0, 1) := by decide +kernel
theorem dJ15_init_1 : decode cJ15_init 1 = .ok (.invokespecial 1, 3) := by decide +kernel
theorem dJ15_init_4 : decode cJ15_init 4 = .ok (.return_, 1) := by decide +kernel
theorem q109 : (Jvm.Cond.initialized "java/lang/IllegalStateException") ∈ lw_all := lw_g (lw_at lw_m1 24 rfl) rfl
theorem q692 : (Jvm.Cond.selects "java/lang/IllegalStateException" ({ cls := "java/lang/Throwable", name := "fillInStackTrace", desc := "()Ljava/lang/Throwable;" } : Jvm.MethodName) ({ cls := "java/lang/Throwable", name := "fillInStackTrace", desc := "()Ljava/lang/Throwable;" } : Jvm.MethodName)) ∈ lw_all := lw_g (lw_at lw_m3 127 rfl) rfl
theorem q836 : (Jvm.Cond.instantiable "java/lang/IllegalStateException" (6 : Nat)) ∈ lw_all := lw_g (lw_at lw_m4 31 rfl) rfl
theorem q837 : (Jvm.Cond.castable "java/lang/IllegalStateException" "java/lang/IllegalStateException") ∈ lw_tbl := lw_at lw_m4 32 rfl
theorem q838 : (Jvm.Cond.selects "java/lang/IllegalStateException" ({ cls := "java/lang/Throwable", name := "fillInStackTrace", desc := "(I)Ljava/lang/Throwable;" } : Jvm.MethodName) ({ cls := "java/lang/Throwable", name := "fillInStackTrace", desc := "(I)Ljava/lang/Throwable;" } : Jvm.MethodName)) ∈ lw_all := lw_g (lw_at lw_m4 33 rfl) rfl
theorem q839 : (Jvm.Cond.lays "java/lang/IllegalStateException" "java/lang/Throwable" "cause" "Ljava/lang/Throwable;") ∈ lw_all := lw_g (lw_at lw_m4 34 rfl) rfl
theorem q840 : (Jvm.Cond.lays "java/lang/IllegalStateException" "java/lang/Throwable" "stackTrace" "[Ljava/lang/StackTraceElement;") ∈ lw_all := lw_g (lw_at lw_m4 35 rfl) rfl
theorem q841 : (Jvm.Cond.lays "java/lang/IllegalStateException" "java/lang/Throwable" "suppressedExceptions" "Ljava/util/List;") ∈ lw_all := lw_g (lw_at lw_m4 36 rfl) rfl
theorem q842 : (Jvm.Cond.lays "java/lang/IllegalStateException" "java/lang/Throwable" "detailMessage" "Ljava/lang/String;") ∈ lw_all := lw_g (lw_at lw_m4 37 rfl) rfl
theorem q843 : (Jvm.Cond.lays "java/lang/IllegalStateException" "java/lang/Throwable" "backtrace" "Ljava/lang/Object;") ∈ lw_all := lw_g (lw_at lw_m4 38 rfl) rfl
theorem q845 : (Jvm.Cond.instanceMethod ({ cls := "java/lang/IllegalStateException", name := "<init>", desc := "()V" } : Jvm.MethodName)) ∈ lw_all := lw_g (lw_at lw_m4 40 rfl) rfl
theorem q846 : (Jvm.Cond.code ({ cls := "java/lang/IllegalStateException", name := "<init>", desc := "()V" } : Jvm.MethodName) prog_30_method_1_code (1 : Nat) (Option.none : Option Jvm.ClassFile.FieldType)) ∈ lw_all := lw_g (lw_at lw_m4 41 rfl) rfl
theorem q847 : (Jvm.Cond.methodLink "java/lang/IllegalStateException" (1 : Nat) ({ cls := "java/lang/RuntimeException", name := "<init>", desc := "()V" } : Jvm.MethodName)) ∈ lw_all := lw_g (lw_at lw_m4 42 rfl) rfl
theorem q848 : (Jvm.Cond.lays "java/lang/IllegalStateException" "java/lang/Throwable" "depth" "I") ∈ lw_all := lw_g (lw_at lw_m4 43 rfl) rfl
theorem q849 : (Jvm.Cond.superclass "java/lang/IllegalStateException" "java/lang/RuntimeException") ∈ lw_all := lw_g (lw_at lw_m4 44 rfl) rfl
theorem q937 : (Jvm.Cond.selects "java/lang/IllegalStateException" ({ cls := "java/lang/Object", name := "getClass", desc := "()Ljava/lang/Class;" } : Jvm.MethodName) ({ cls := "java/lang/Object", name := "getClass", desc := "()Ljava/lang/Class;" } : Jvm.MethodName)) ∈ lw_all := lw_g (lw_at lw_m4 132 rfl) rfl
theorem q2136 : (Jvm.Cond.castable "java/lang/IllegalStateException" "java/lang/Object") ∈ lw_tbl := lw_at lw_m9 131 rfl
theorem in_J15 : ∀ w ∈ wsJ150, w ∈ lw_all := lw_in wsJ150 [839, 840, 841, 842, 843, 848] (by decide +kernel) (by decide +kernel)
/-! jdk/internal/util/ArraysSupport -/
set_option maxRecDepth 100000
def RJ16 : String := "jdk/internal/util/ArraysSupport"
abbrev cJ16_newLength : ByteArray := prog_58_method_27_code
def yJ16_newLength : MethodName := ⟨RJ16, "newLength", "(III)I"⟩
def dkwJ16_newLength_1 : List UInt8 := [184, 0, 201, 172]
abbrev dktJ16_newLength_1 : List UInt8 := dkwJ16_newLength_1 ++ []
def dkwJ16_newLength_0 : List UInt8 := [26, 27, 28, 184, 0, 194, 96, 62, 3, 29, 162, 0, 11, 29, 18, 200, 163, 0, 5, 29, 172, 26, 27]
abbrev dktJ16_newLength_0 : List UInt8 := dkwJ16_newLength_0 ++ dktJ16_newLength_1
theorem dksJ16_newLength_0 : cJ16_newLength.data.toList.drop 0 = dktJ16_newLength_0 := by decide +kernel
theorem dksJ16_newLength_1 : cJ16_newLength.data.toList.drop 23 = dktJ16_newLength_1 := dk_seg dksJ16_newLength_0 23 rfl rfl
theorem dJ16_newLength_0 : decode cJ16_newLength 0 = .ok (.iload_n 0, 1) := dk_26 (dk_at dksJ16_newLength_0 0 rfl rfl)
theorem dJ16_newLength_1 : decode cJ16_newLength 1 = .ok (.iload_n 1, 1) := dk_27 (dk_at dksJ16_newLength_0 1 rfl rfl)
theorem dJ16_newLength_2 : decode cJ16_newLength 2 = .ok (.iload_n 2, 1) := dk_28 (dk_at dksJ16_newLength_0 2 rfl rfl)
theorem dJ16_newLength_3 : decode cJ16_newLength 3 = .ok (.invokestatic 194, 3) := dk_184 0 194 (dk_at dksJ16_newLength_0 3 rfl rfl)
theorem dJ16_newLength_6 : decode cJ16_newLength 6 = .ok (.iadd, 1) := dk_96 (dk_at dksJ16_newLength_0 6 rfl rfl)
theorem dJ16_newLength_7 : decode cJ16_newLength 7 = .ok (.istore_n 3, 1) := dk_62 (dk_at dksJ16_newLength_0 7 rfl rfl)
theorem dJ16_newLength_8 : decode cJ16_newLength 8 = .ok (.iconst 0, 1) := dk_3 (dk_at dksJ16_newLength_0 8 rfl rfl)
theorem dJ16_newLength_9 : decode cJ16_newLength 9 = .ok (.iload_n 3, 1) := dk_29 (dk_at dksJ16_newLength_0 9 rfl rfl)
theorem dJ16_newLength_10 : decode cJ16_newLength 10 = .ok (.if_icmp .ge 11, 3) := dk_162 0 11 (dk_at dksJ16_newLength_0 10 rfl rfl)
theorem dJ16_newLength_13 : decode cJ16_newLength 13 = .ok (.iload_n 3, 1) := dk_29 (dk_at dksJ16_newLength_0 13 rfl rfl)
theorem dJ16_newLength_14 : decode cJ16_newLength 14 = .ok (.ldc 200, 2) := dk_18 200 (dk_at dksJ16_newLength_0 14 rfl rfl)
theorem dJ16_newLength_16 : decode cJ16_newLength 16 = .ok (.if_icmp .gt 5, 3) := dk_163 0 5 (dk_at dksJ16_newLength_0 16 rfl rfl)
theorem dJ16_newLength_19 : decode cJ16_newLength 19 = .ok (.iload_n 3, 1) := dk_29 (dk_at dksJ16_newLength_0 19 rfl rfl)
theorem dJ16_newLength_20 : decode cJ16_newLength 20 = .ok (.ireturn, 1) := dk_172 (dk_at dksJ16_newLength_0 20 rfl rfl)
theorem dJ16_newLength_21 : decode cJ16_newLength 21 = .ok (.iload_n 0, 1) := dk_26 (dk_at dksJ16_newLength_0 21 rfl rfl)
theorem dJ16_newLength_22 : decode cJ16_newLength 22 = .ok (.iload_n 1, 1) := dk_27 (dk_at dksJ16_newLength_0 22 rfl rfl)
theorem dJ16_newLength_23 : decode cJ16_newLength 23 = .ok (.invokestatic 201, 3) := dk_184 0 201 (dk_at dksJ16_newLength_1 0 rfl rfl)
theorem dJ16_newLength_26 : decode cJ16_newLength 26 = .ok (.ireturn, 1) := dk_172 (dk_at dksJ16_newLength_1 3 rfl rfl)
abbrev cJ16_hugeLength : ByteArray := prog_58_method_28_code
def yJ16_hugeLength : MethodName := ⟨RJ16, "hugeLength", "(II)I"⟩
def dkwJ16_hugeLength_2 : List UInt8 := [191, 28, 18, 200, 163, 0, 6, 18, 200, 172, 28, 172]
abbrev dktJ16_hugeLength_2 : List UInt8 := dkwJ16_hugeLength_2 ++ []
def dkwJ16_hugeLength_1 : List UInt8 := [26, 182, 0, 98, 18, 208, 182, 0, 94, 27, 182, 0, 98, 18, 210, 182, 0, 94, 182, 0, 101, 183, 0, 212]
abbrev dktJ16_hugeLength_1 : List UInt8 := dkwJ16_hugeLength_1 ++ dktJ16_hugeLength_2
def dkwJ16_hugeLength_0 : List UInt8 := [26, 27, 96, 61, 28, 156, 0, 44, 187, 0, 204, 89, 187, 0, 89, 89, 183, 0, 91, 18, 206, 182, 0, 94]
abbrev dktJ16_hugeLength_0 : List UInt8 := dkwJ16_hugeLength_0 ++ dktJ16_hugeLength_1
theorem dksJ16_hugeLength_0 : cJ16_hugeLength.data.toList.drop 0 = dktJ16_hugeLength_0 := by decide +kernel
theorem dksJ16_hugeLength_1 : cJ16_hugeLength.data.toList.drop 24 = dktJ16_hugeLength_1 := dk_seg dksJ16_hugeLength_0 24 rfl rfl
theorem dksJ16_hugeLength_2 : cJ16_hugeLength.data.toList.drop 48 = dktJ16_hugeLength_2 := dk_seg dksJ16_hugeLength_1 24 rfl rfl
theorem dJ16_hugeLength_0 : decode cJ16_hugeLength 0 = .ok (.iload_n 0, 1) := dk_26 (dk_at dksJ16_hugeLength_0 0 rfl rfl)
theorem dJ16_hugeLength_1 : decode cJ16_hugeLength 1 = .ok (.iload_n 1, 1) := dk_27 (dk_at dksJ16_hugeLength_0 1 rfl rfl)
theorem dJ16_hugeLength_2 : decode cJ16_hugeLength 2 = .ok (.iadd, 1) := dk_96 (dk_at dksJ16_hugeLength_0 2 rfl rfl)
theorem dJ16_hugeLength_3 : decode cJ16_hugeLength 3 = .ok (.istore_n 2, 1) := dk_61 (dk_at dksJ16_hugeLength_0 3 rfl rfl)
theorem dJ16_hugeLength_4 : decode cJ16_hugeLength 4 = .ok (.iload_n 2, 1) := dk_28 (dk_at dksJ16_hugeLength_0 4 rfl rfl)
theorem dJ16_hugeLength_5 : decode cJ16_hugeLength 5 = .ok (.ifCond .ge 44, 3) := dk_156 0 44 (dk_at dksJ16_hugeLength_0 5 rfl rfl)
theorem dJ16_hugeLength_8 : decode cJ16_hugeLength 8 = .ok (.new 204, 3) := dk_187 0 204 (dk_at dksJ16_hugeLength_0 8 rfl rfl)
theorem dJ16_hugeLength_11 : decode cJ16_hugeLength 11 = .ok (.dup, 1) := dk_89 (dk_at dksJ16_hugeLength_0 11 rfl rfl)
theorem dJ16_hugeLength_12 : decode cJ16_hugeLength 12 = .ok (.new 89, 3) := dk_187 0 89 (dk_at dksJ16_hugeLength_0 12 rfl rfl)
theorem dJ16_hugeLength_15 : decode cJ16_hugeLength 15 = .ok (.dup, 1) := dk_89 (dk_at dksJ16_hugeLength_0 15 rfl rfl)
theorem dJ16_hugeLength_16 : decode cJ16_hugeLength 16 = .ok (.invokespecial 91, 3) := dk_183 0 91 (dk_at dksJ16_hugeLength_0 16 rfl rfl)
theorem dJ16_hugeLength_19 : decode cJ16_hugeLength 19 = .ok (.ldc 206, 2) := dk_18 206 (dk_at dksJ16_hugeLength_0 19 rfl rfl)
theorem dJ16_hugeLength_21 : decode cJ16_hugeLength 21 = .ok (.invokevirtual 94, 3) := dk_182 0 94 (dk_at dksJ16_hugeLength_0 21 rfl rfl)
theorem dJ16_hugeLength_24 : decode cJ16_hugeLength 24 = .ok (.iload_n 0, 1) := dk_26 (dk_at dksJ16_hugeLength_1 0 rfl rfl)
theorem dJ16_hugeLength_25 : decode cJ16_hugeLength 25 = .ok (.invokevirtual 98, 3) := dk_182 0 98 (dk_at dksJ16_hugeLength_1 1 rfl rfl)
theorem dJ16_hugeLength_28 : decode cJ16_hugeLength 28 = .ok (.ldc 208, 2) := dk_18 208 (dk_at dksJ16_hugeLength_1 4 rfl rfl)
theorem dJ16_hugeLength_30 : decode cJ16_hugeLength 30 = .ok (.invokevirtual 94, 3) := dk_182 0 94 (dk_at dksJ16_hugeLength_1 6 rfl rfl)
theorem dJ16_hugeLength_33 : decode cJ16_hugeLength 33 = .ok (.iload_n 1, 1) := dk_27 (dk_at dksJ16_hugeLength_1 9 rfl rfl)
theorem dJ16_hugeLength_34 : decode cJ16_hugeLength 34 = .ok (.invokevirtual 98, 3) := dk_182 0 98 (dk_at dksJ16_hugeLength_1 10 rfl rfl)
theorem dJ16_hugeLength_37 : decode cJ16_hugeLength 37 = .ok (.ldc 210, 2) := dk_18 210 (dk_at dksJ16_hugeLength_1 13 rfl rfl)
theorem dJ16_hugeLength_39 : decode cJ16_hugeLength 39 = .ok (.invokevirtual 94, 3) := dk_182 0 94 (dk_at dksJ16_hugeLength_1 15 rfl rfl)
theorem dJ16_hugeLength_42 : decode cJ16_hugeLength 42 = .ok (.invokevirtual 101, 3) := dk_182 0 101 (dk_at dksJ16_hugeLength_1 18 rfl rfl)
theorem dJ16_hugeLength_45 : decode cJ16_hugeLength 45 = .ok (.invokespecial 212, 3) := dk_183 0 212 (dk_at dksJ16_hugeLength_1 21 rfl rfl)
theorem dJ16_hugeLength_48 : decode cJ16_hugeLength 48 = .ok (.athrow, 1) := dk_191 (dk_at dksJ16_hugeLength_2 0 rfl rfl)
theorem dJ16_hugeLength_49 : decode cJ16_hugeLength 49 = .ok (.iload_n 2, 1) := dk_28 (dk_at dksJ16_hugeLength_2 1 rfl rfl)
theorem dJ16_hugeLength_50 : decode cJ16_hugeLength 50 = .ok (.ldc 200, 2) := dk_18 200 (dk_at dksJ16_hugeLength_2 2 rfl rfl)
theorem dJ16_hugeLength_52 : decode cJ16_hugeLength 52 = .ok (.if_icmp .gt 6, 3) := dk_163 0 6 (dk_at dksJ16_hugeLength_2 4 rfl rfl)
theorem dJ16_hugeLength_55 : decode cJ16_hugeLength 55 = .ok (.ldc 200, 2) := dk_18 200 (dk_at dksJ16_hugeLength_2 7 rfl rfl)
theorem dJ16_hugeLength_57 : decode cJ16_hugeLength 57 = .ok (.ireturn, 1) := dk_172 (dk_at dksJ16_hugeLength_2 9 rfl rfl)
theorem dJ16_hugeLength_58 : decode cJ16_hugeLength 58 = .ok (.iload_n 2, 1) := dk_28 (dk_at dksJ16_hugeLength_2 10 rfl rfl)
theorem dJ16_hugeLength_59 : decode cJ16_hugeLength 59 = .ok (.ireturn, 1) := dk_172 (dk_at dksJ16_hugeLength_2 11 rfl rfl)
theorem q111 : (Jvm.Cond.initialized "jdk/internal/util/ArraysSupport") ∈ lw_all := lw_g (lw_at lw_m1 26 rfl) rfl
theorem q905 : (Jvm.Cond.static ({ cls := "jdk/internal/util/ArraysSupport", name := "newLength", desc := "(III)I" } : Jvm.MethodName)) ∈ lw_all := lw_g (lw_at lw_m4 100 rfl) rfl
theorem q906 : (Jvm.Cond.code ({ cls := "jdk/internal/util/ArraysSupport", name := "newLength", desc := "(III)I" } : Jvm.MethodName) prog_58_method_27_code (4 : Nat) (Option.some Jvm.ClassFile.FieldType.int)) ∈ lw_all := lw_g (lw_at lw_m4 101 rfl) rfl
theorem q907 : (Jvm.Cond.methodLink "jdk/internal/util/ArraysSupport" (194 : Nat) ({ cls := "java/lang/Math", name := "max", desc := "(II)I" } : Jvm.MethodName)) ∈ lw_all := lw_g (lw_at lw_m4 102 rfl) rfl
theorem q908 : (Jvm.Cond.constant "jdk/internal/util/ArraysSupport" (200 : Nat) (2147483639 : Int32)) ∈ lw_all := lw_g (lw_at lw_m4 103 rfl) rfl
theorem q909 : (Jvm.Cond.methodLink "jdk/internal/util/ArraysSupport" (201 : Nat) ({ cls := "jdk/internal/util/ArraysSupport", name := "hugeLength", desc := "(II)I" } : Jvm.MethodName)) ∈ lw_all := lw_g (lw_at lw_m4 104 rfl) rfl
theorem q910 : (Jvm.Cond.static ({ cls := "jdk/internal/util/ArraysSupport", name := "hugeLength", desc := "(II)I" } : Jvm.MethodName)) ∈ lw_all := lw_g (lw_at lw_m4 105 rfl) rfl
theorem q911 : (Jvm.Cond.code ({ cls := "jdk/internal/util/ArraysSupport", name := "hugeLength", desc := "(II)I" } : Jvm.MethodName) prog_58_method_28_code (3 : Nat) (Option.some Jvm.ClassFile.FieldType.int)) ∈ lw_all := lw_g (lw_at lw_m4 106 rfl) rfl
/-! java/util/Arrays -/
set_option maxRecDepth 100000
def RJ17 : String := "java/util/Arrays"
abbrev cJ17_copyOf : ByteArray := prog_50_method_119_code
def yJ17_copyOf : MethodName := ⟨RJ17, "copyOf", "([Ljava/lang/Object;I)[Ljava/lang/Object;"⟩
def dkwJ17_copyOf_0 : List UInt8 := [42, 27, 42, 182, 0, 86, 184, 1, 44, 176]
abbrev dktJ17_copyOf_0 : List UInt8 := dkwJ17_copyOf_0 ++ []
theorem dksJ17_copyOf_0 : cJ17_copyOf.data.toList.drop 0 = dktJ17_copyOf_0 := by decide +kernel
theorem dJ17_copyOf_0 : decode cJ17_copyOf 0 = .ok (.aload_n 0, 1) := dk_42 (dk_at dksJ17_copyOf_0 0 rfl rfl)
theorem dJ17_copyOf_1 : decode cJ17_copyOf 1 = .ok (.iload_n 1, 1) := dk_27 (dk_at dksJ17_copyOf_0 1 rfl rfl)
theorem dJ17_copyOf_2 : decode cJ17_copyOf 2 = .ok (.aload_n 0, 1) := dk_42 (dk_at dksJ17_copyOf_0 2 rfl rfl)
theorem dJ17_copyOf_3 : decode cJ17_copyOf 3 = .ok (.invokevirtual 86, 3) := dk_182 0 86 (dk_at dksJ17_copyOf_0 3 rfl rfl)
theorem dJ17_copyOf_6 : decode cJ17_copyOf 6 = .ok (.invokestatic 300, 3) := dk_184 1 44 (dk_at dksJ17_copyOf_0 6 rfl rfl)
theorem dJ17_copyOf_9 : decode cJ17_copyOf 9 = .ok (.areturn, 1) := dk_176 (dk_at dksJ17_copyOf_0 9 rfl rfl)
abbrev cJ17_copyOf_2 : ByteArray := prog_50_method_120_code
def yJ17_copyOf_2 : MethodName := ⟨RJ17, "copyOf", "([Ljava/lang/Object;ILjava/lang/Class;)[Ljava/lang/Object;"⟩
def dkwJ17_copyOf_2_1 : List UInt8 := [78, 42, 3, 45, 3, 42, 190, 27, 184, 1, 48, 184, 0, 150, 45, 176]
abbrev dktJ17_copyOf_2_1 : List UInt8 := dkwJ17_copyOf_2_1 ++ []
def dkwJ17_copyOf_2_0 : List UInt8 := [44, 18, 110, 166, 0, 10, 27, 189, 0, 2, 167, 0, 14, 44, 182, 0, 90, 27, 184, 0, 95, 192, 0, 110]
abbrev dktJ17_copyOf_2_0 : List UInt8 := dkwJ17_copyOf_2_0 ++ dktJ17_copyOf_2_1
theorem dksJ17_copyOf_2_0 : cJ17_copyOf_2.data.toList.drop 0 = dktJ17_copyOf_2_0 := by decide +kernel
theorem dksJ17_copyOf_2_1 : cJ17_copyOf_2.data.toList.drop 24 = dktJ17_copyOf_2_1 := dk_seg dksJ17_copyOf_2_0 24 rfl rfl
theorem dJ17_copyOf_2_0 : decode cJ17_copyOf_2 0 = .ok (.aload_n 2, 1) := dk_44 (dk_at dksJ17_copyOf_2_0 0 rfl rfl)
theorem dJ17_copyOf_2_1 : decode cJ17_copyOf_2 1 = .ok (.ldc 110, 2) := dk_18 110 (dk_at dksJ17_copyOf_2_0 1 rfl rfl)
theorem dJ17_copyOf_2_3 : decode cJ17_copyOf_2 3 = .ok (.if_acmp .ne 10, 3) := dk_166 0 10 (dk_at dksJ17_copyOf_2_0 3 rfl rfl)
theorem dJ17_copyOf_2_6 : decode cJ17_copyOf_2 6 = .ok (.iload_n 1, 1) := dk_27 (dk_at dksJ17_copyOf_2_0 6 rfl rfl)
theorem dJ17_copyOf_2_7 : decode cJ17_copyOf_2 7 = .ok (.anewarray 2, 3) := dk_189 0 2 (dk_at dksJ17_copyOf_2_0 7 rfl rfl)
theorem dJ17_copyOf_2_10 : decode cJ17_copyOf_2 10 = .ok (.goto 14, 3) := dk_167 0 14 (dk_at dksJ17_copyOf_2_0 10 rfl rfl)
theorem dJ17_copyOf_2_13 : decode cJ17_copyOf_2 13 = .ok (.aload_n 2, 1) := dk_44 (dk_at dksJ17_copyOf_2_0 13 rfl rfl)
theorem dJ17_copyOf_2_14 : decode cJ17_copyOf_2 14 = .ok (.invokevirtual 90, 3) := dk_182 0 90 (dk_at dksJ17_copyOf_2_0 14 rfl rfl)
theorem dJ17_copyOf_2_17 : decode cJ17_copyOf_2 17 = .ok (.iload_n 1, 1) := dk_27 (dk_at dksJ17_copyOf_2_0 17 rfl rfl)
theorem dJ17_copyOf_2_18 : decode cJ17_copyOf_2 18 = .ok (.invokestatic 95, 3) := dk_184 0 95 (dk_at dksJ17_copyOf_2_0 18 rfl rfl)
theorem dJ17_copyOf_2_21 : decode cJ17_copyOf_2 21 = .ok (.checkcast 110, 3) := dk_192 0 110 (dk_at dksJ17_copyOf_2_0 21 rfl rfl)
theorem dJ17_copyOf_2_24 : decode cJ17_copyOf_2 24 = .ok (.astore_n 3, 1) := dk_78 (dk_at dksJ17_copyOf_2_1 0 rfl rfl)
theorem dJ17_copyOf_2_25 : decode cJ17_copyOf_2 25 = .ok (.aload_n 0, 1) := dk_42 (dk_at dksJ17_copyOf_2_1 1 rfl rfl)
theorem dJ17_copyOf_2_26 : decode cJ17_copyOf_2 26 = .ok (.iconst 0, 1) := dk_3 (dk_at dksJ17_copyOf_2_1 2 rfl rfl)
theorem dJ17_copyOf_2_27 : decode cJ17_copyOf_2 27 = .ok (.aload_n 3, 1) := dk_45 (dk_at dksJ17_copyOf_2_1 3 rfl rfl)
theorem dJ17_copyOf_2_28 : decode cJ17_copyOf_2 28 = .ok (.iconst 0, 1) := dk_3 (dk_at dksJ17_copyOf_2_1 4 rfl rfl)
theorem dJ17_copyOf_2_29 : decode cJ17_copyOf_2 29 = .ok (.aload_n 0, 1) := dk_42 (dk_at dksJ17_copyOf_2_1 5 rfl rfl)
theorem dJ17_copyOf_2_30 : decode cJ17_copyOf_2 30 = .ok (.arraylength, 1) := dk_190 (dk_at dksJ17_copyOf_2_1 6 rfl rfl)
theorem dJ17_copyOf_2_31 : decode cJ17_copyOf_2 31 = .ok (.iload_n 1, 1) := dk_27 (dk_at dksJ17_copyOf_2_1 7 rfl rfl)
theorem dJ17_copyOf_2_32 : decode cJ17_copyOf_2 32 = .ok (.invokestatic 304, 3) := dk_184 1 48 (dk_at dksJ17_copyOf_2_1 8 rfl rfl)
theorem dJ17_copyOf_2_35 : decode cJ17_copyOf_2 35 = .ok (.invokestatic 150, 3) := dk_184 0 150 (dk_at dksJ17_copyOf_2_1 11 rfl rfl)
theorem dJ17_copyOf_2_38 : decode cJ17_copyOf_2 38 = .ok (.aload_n 3, 1) := dk_45 (dk_at dksJ17_copyOf_2_1 14 rfl rfl)
theorem dJ17_copyOf_2_39 : decode cJ17_copyOf_2 39 = .ok (.areturn, 1) := dk_176 (dk_at dksJ17_copyOf_2_1 15 rfl rfl)
abbrev cJ17_copyOf_3 : ByteArray := prog_50_method_121_code
def yJ17_copyOf_3 : MethodName := ⟨RJ17, "copyOf", "([BI)[B"⟩
def dkwJ17_copyOf_3_1 : List UInt8 := [27, 184, 1, 48, 184, 0, 150, 44, 176]
abbrev dktJ17_copyOf_3_1 : List UInt8 := dkwJ17_copyOf_3_1 ++ []
def dkwJ17_copyOf_3_0 : List UInt8 := [27, 42, 190, 160, 0, 11, 42, 182, 1, 54, 192, 1, 55, 176, 27, 188, 8, 77, 42, 3, 44, 3, 42, 190]
abbrev dktJ17_copyOf_3_0 : List UInt8 := dkwJ17_copyOf_3_0 ++ dktJ17_copyOf_3_1
theorem dksJ17_copyOf_3_0 : cJ17_copyOf_3.data.toList.drop 0 = dktJ17_copyOf_3_0 := by decide +kernel
theorem dksJ17_copyOf_3_1 : cJ17_copyOf_3.data.toList.drop 24 = dktJ17_copyOf_3_1 := dk_seg dksJ17_copyOf_3_0 24 rfl rfl
theorem dJ17_copyOf_3_0 : decode cJ17_copyOf_3 0 = .ok (.iload_n 1, 1) := dk_27 (dk_at dksJ17_copyOf_3_0 0 rfl rfl)
theorem dJ17_copyOf_3_1 : decode cJ17_copyOf_3 1 = .ok (.aload_n 0, 1) := dk_42 (dk_at dksJ17_copyOf_3_0 1 rfl rfl)
theorem dJ17_copyOf_3_2 : decode cJ17_copyOf_3 2 = .ok (.arraylength, 1) := dk_190 (dk_at dksJ17_copyOf_3_0 2 rfl rfl)
theorem dJ17_copyOf_3_3 : decode cJ17_copyOf_3 3 = .ok (.if_icmp .ne 11, 3) := dk_160 0 11 (dk_at dksJ17_copyOf_3_0 3 rfl rfl)
theorem dJ17_copyOf_3_6 : decode cJ17_copyOf_3 6 = .ok (.aload_n 0, 1) := dk_42 (dk_at dksJ17_copyOf_3_0 6 rfl rfl)
theorem dJ17_copyOf_3_7 : decode cJ17_copyOf_3 7 = .ok (.invokevirtual 310, 3) := dk_182 1 54 (dk_at dksJ17_copyOf_3_0 7 rfl rfl)
theorem dJ17_copyOf_3_10 : decode cJ17_copyOf_3 10 = .ok (.checkcast 311, 3) := dk_192 1 55 (dk_at dksJ17_copyOf_3_0 10 rfl rfl)
theorem dJ17_copyOf_3_13 : decode cJ17_copyOf_3 13 = .ok (.areturn, 1) := dk_176 (dk_at dksJ17_copyOf_3_0 13 rfl rfl)
theorem dJ17_copyOf_3_14 : decode cJ17_copyOf_3 14 = .ok (.iload_n 1, 1) := dk_27 (dk_at dksJ17_copyOf_3_0 14 rfl rfl)
theorem dJ17_copyOf_3_15 : decode cJ17_copyOf_3 15 = .ok (.newarray .byte, 2) := dk_188_8 (dk_at dksJ17_copyOf_3_0 15 rfl rfl)
theorem dJ17_copyOf_3_17 : decode cJ17_copyOf_3 17 = .ok (.astore_n 2, 1) := dk_77 (dk_at dksJ17_copyOf_3_0 17 rfl rfl)
theorem dJ17_copyOf_3_18 : decode cJ17_copyOf_3 18 = .ok (.aload_n 0, 1) := dk_42 (dk_at dksJ17_copyOf_3_0 18 rfl rfl)
theorem dJ17_copyOf_3_19 : decode cJ17_copyOf_3 19 = .ok (.iconst 0, 1) := dk_3 (dk_at dksJ17_copyOf_3_0 19 rfl rfl)
theorem dJ17_copyOf_3_20 : decode cJ17_copyOf_3 20 = .ok (.aload_n 2, 1) := dk_44 (dk_at dksJ17_copyOf_3_0 20 rfl rfl)
theorem dJ17_copyOf_3_21 : decode cJ17_copyOf_3 21 = .ok (.iconst 0, 1) := dk_3 (dk_at dksJ17_copyOf_3_0 21 rfl rfl)
theorem dJ17_copyOf_3_22 : decode cJ17_copyOf_3 22 = .ok (.aload_n 0, 1) := dk_42 (dk_at dksJ17_copyOf_3_0 22 rfl rfl)
theorem dJ17_copyOf_3_23 : decode cJ17_copyOf_3 23 = .ok (.arraylength, 1) := dk_190 (dk_at dksJ17_copyOf_3_0 23 rfl rfl)
theorem dJ17_copyOf_3_24 : decode cJ17_copyOf_3 24 = .ok (.iload_n 1, 1) := dk_27 (dk_at dksJ17_copyOf_3_1 0 rfl rfl)
theorem dJ17_copyOf_3_25 : decode cJ17_copyOf_3 25 = .ok (.invokestatic 304, 3) := dk_184 1 48 (dk_at dksJ17_copyOf_3_1 1 rfl rfl)
theorem dJ17_copyOf_3_28 : decode cJ17_copyOf_3 28 = .ok (.invokestatic 150, 3) := dk_184 0 150 (dk_at dksJ17_copyOf_3_1 4 rfl rfl)
theorem dJ17_copyOf_3_31 : decode cJ17_copyOf_3 31 = .ok (.aload_n 2, 1) := dk_44 (dk_at dksJ17_copyOf_3_1 7 rfl rfl)
theorem dJ17_copyOf_3_32 : decode cJ17_copyOf_3 32 = .ok (.areturn, 1) := dk_176 (dk_at dksJ17_copyOf_3_1 8 rfl rfl)
abbrev cJ17_copyOfRange : ByteArray := prog_50_method_132_code
def yJ17_copyOfRange : MethodName := ⟨RJ17, "copyOfRange", "([BII)[B"⟩
def dkwJ17_copyOfRange_1 : List UInt8 := [176]
abbrev dktJ17_copyOfRange_1 : List UInt8 := dkwJ17_copyOfRange_1 ++ []
def dkwJ17_copyOfRange_0 : List UInt8 := [27, 154, 0, 9, 28, 42, 190, 159, 0, 10, 42, 27, 28, 184, 1, 83, 176, 42, 182, 1, 54, 192, 1, 55]
abbrev dktJ17_copyOfRange_0 : List UInt8 := dkwJ17_copyOfRange_0 ++ dktJ17_copyOfRange_1
theorem dksJ17_copyOfRange_0 : cJ17_copyOfRange.data.toList.drop 0 = dktJ17_copyOfRange_0 := by decide +kernel
theorem dksJ17_copyOfRange_1 : cJ17_copyOfRange.data.toList.drop 24 = dktJ17_copyOfRange_1 := dk_seg dksJ17_copyOfRange_0 24 rfl rfl
theorem dJ17_copyOfRange_0 : decode cJ17_copyOfRange 0 = .ok (.iload_n 1, 1) := dk_27 (dk_at dksJ17_copyOfRange_0 0 rfl rfl)
theorem dJ17_copyOfRange_1 : decode cJ17_copyOfRange 1 = .ok (.ifCond .ne 9, 3) := dk_154 0 9 (dk_at dksJ17_copyOfRange_0 1 rfl rfl)
theorem dJ17_copyOfRange_4 : decode cJ17_copyOfRange 4 = .ok (.iload_n 2, 1) := dk_28 (dk_at dksJ17_copyOfRange_0 4 rfl rfl)
theorem dJ17_copyOfRange_5 : decode cJ17_copyOfRange 5 = .ok (.aload_n 0, 1) := dk_42 (dk_at dksJ17_copyOfRange_0 5 rfl rfl)
theorem dJ17_copyOfRange_6 : decode cJ17_copyOfRange 6 = .ok (.arraylength, 1) := dk_190 (dk_at dksJ17_copyOfRange_0 6 rfl rfl)
theorem dJ17_copyOfRange_7 : decode cJ17_copyOfRange 7 = .ok (.if_icmp .eq 10, 3) := dk_159 0 10 (dk_at dksJ17_copyOfRange_0 7 rfl rfl)
theorem dJ17_copyOfRange_10 : decode cJ17_copyOfRange 10 = .ok (.aload_n 0, 1) := dk_42 (dk_at dksJ17_copyOfRange_0 10 rfl rfl)
theorem dJ17_copyOfRange_11 : decode cJ17_copyOfRange 11 = .ok (.iload_n 1, 1) := dk_27 (dk_at dksJ17_copyOfRange_0 11 rfl rfl)
theorem dJ17_copyOfRange_12 : decode cJ17_copyOfRange 12 = .ok (.iload_n 2, 1) := dk_28 (dk_at dksJ17_copyOfRange_0 12 rfl rfl)
theorem dJ17_copyOfRange_13 : decode cJ17_copyOfRange 13 = .ok (.invokestatic 339, 3) := dk_184 1 83 (dk_at dksJ17_copyOfRange_0 13 rfl rfl)
theorem dJ17_copyOfRange_16 : decode cJ17_copyOfRange 16 = .ok (.areturn, 1) := dk_176 (dk_at dksJ17_copyOfRange_0 16 rfl rfl)
theorem dJ17_copyOfRange_17 : decode cJ17_copyOfRange 17 = .ok (.aload_n 0, 1) := dk_42 (dk_at dksJ17_copyOfRange_0 17 rfl rfl)
theorem dJ17_copyOfRange_18 : decode cJ17_copyOfRange 18 = .ok (.invokevirtual 310, 3) := dk_182 1 54 (dk_at dksJ17_copyOfRange_0 18 rfl rfl)
theorem dJ17_copyOfRange_21 : decode cJ17_copyOfRange 21 = .ok (.checkcast 311, 3) := dk_192 1 55 (dk_at dksJ17_copyOfRange_0 21 rfl rfl)
theorem dJ17_copyOfRange_24 : decode cJ17_copyOfRange 24 = .ok (.areturn, 1) := dk_176 (dk_at dksJ17_copyOfRange_1 0 rfl rfl)
abbrev cJ17_copyOfRangeByte : ByteArray := prog_50_method_133_code
def yJ17_copyOfRangeByte : MethodName := ⟨RJ17, "copyOfRangeByte", "([BII)[B"⟩
def dkwJ17_copyOfRangeByte_1 : List UInt8 := [184, 1, 48, 184, 0, 150, 25, 4, 176]
abbrev dktJ17_copyOfRangeByte_1 : List UInt8 := dkwJ17_copyOfRangeByte_1 ++ []
def dkwJ17_copyOfRangeByte_0 : List UInt8 := [27, 28, 184, 1, 87, 28, 27, 100, 62, 29, 188, 8, 58, 4, 42, 27, 25, 4, 3, 42, 190, 27, 100, 29]
abbrev dktJ17_copyOfRangeByte_0 : List UInt8 := dkwJ17_copyOfRangeByte_0 ++ dktJ17_copyOfRangeByte_1
theorem dksJ17_copyOfRangeByte_0 : cJ17_copyOfRangeByte.data.toList.drop 0 = dktJ17_copyOfRangeByte_0 := by decide +kernel
theorem dksJ17_copyOfRangeByte_1 : cJ17_copyOfRangeByte.data.toList.drop 24 = dktJ17_copyOfRangeByte_1 := dk_seg dksJ17_copyOfRangeByte_0 24 rfl rfl
theorem dJ17_copyOfRangeByte_0 : decode cJ17_copyOfRangeByte 0 = .ok (.iload_n 1, 1) := dk_27 (dk_at dksJ17_copyOfRangeByte_0 0 rfl rfl)
theorem dJ17_copyOfRangeByte_1 : decode cJ17_copyOfRangeByte 1 = .ok (.iload_n 2, 1) := dk_28 (dk_at dksJ17_copyOfRangeByte_0 1 rfl rfl)
theorem dJ17_copyOfRangeByte_2 : decode cJ17_copyOfRangeByte 2 = .ok (.invokestatic 343, 3) := dk_184 1 87 (dk_at dksJ17_copyOfRangeByte_0 2 rfl rfl)
theorem dJ17_copyOfRangeByte_5 : decode cJ17_copyOfRangeByte 5 = .ok (.iload_n 2, 1) := dk_28 (dk_at dksJ17_copyOfRangeByte_0 5 rfl rfl)
theorem dJ17_copyOfRangeByte_6 : decode cJ17_copyOfRangeByte 6 = .ok (.iload_n 1, 1) := dk_27 (dk_at dksJ17_copyOfRangeByte_0 6 rfl rfl)
theorem dJ17_copyOfRangeByte_7 : decode cJ17_copyOfRangeByte 7 = .ok (.isub, 1) := dk_100 (dk_at dksJ17_copyOfRangeByte_0 7 rfl rfl)
theorem dJ17_copyOfRangeByte_8 : decode cJ17_copyOfRangeByte 8 = .ok (.istore_n 3, 1) := dk_62 (dk_at dksJ17_copyOfRangeByte_0 8 rfl rfl)
theorem dJ17_copyOfRangeByte_9 : decode cJ17_copyOfRangeByte 9 = .ok (.iload_n 3, 1) := dk_29 (dk_at dksJ17_copyOfRangeByte_0 9 rfl rfl)
theorem dJ17_copyOfRangeByte_10 : decode cJ17_copyOfRangeByte 10 = .ok (.newarray .byte, 2) := dk_188_8 (dk_at dksJ17_copyOfRangeByte_0 10 rfl rfl)
theorem dJ17_copyOfRangeByte_12 : decode cJ17_copyOfRangeByte 12 = .ok (.astore 4, 2) := dk_58 4 (dk_at dksJ17_copyOfRangeByte_0 12 rfl rfl)
theorem dJ17_copyOfRangeByte_14 : decode cJ17_copyOfRangeByte 14 = .ok (.aload_n 0, 1) := dk_42 (dk_at dksJ17_copyOfRangeByte_0 14 rfl rfl)
theorem dJ17_copyOfRangeByte_15 : decode cJ17_copyOfRangeByte 15 = .ok (.iload_n 1, 1) := dk_27 (dk_at dksJ17_copyOfRangeByte_0 15 rfl rfl)
theorem dJ17_copyOfRangeByte_16 : decode cJ17_copyOfRangeByte 16 = .ok (.aload 4, 2) := dk_25 4 (dk_at dksJ17_copyOfRangeByte_0 16 rfl rfl)
theorem dJ17_copyOfRangeByte_18 : decode cJ17_copyOfRangeByte 18 = .ok (.iconst 0, 1) := dk_3 (dk_at dksJ17_copyOfRangeByte_0 18 rfl rfl)
theorem dJ17_copyOfRangeByte_19 : decode cJ17_copyOfRangeByte 19 = .ok (.aload_n 0, 1) := dk_42 (dk_at dksJ17_copyOfRangeByte_0 19 rfl rfl)
theorem dJ17_copyOfRangeByte_20 : decode cJ17_copyOfRangeByte 20 = .ok (.arraylength, 1) := dk_190 (dk_at dksJ17_copyOfRangeByte_0 20 rfl rfl)
theorem dJ17_copyOfRangeByte_21 : decode cJ17_copyOfRangeByte 21 = .ok (.iload_n 1, 1) := dk_27 (dk_at dksJ17_copyOfRangeByte_0 21 rfl rfl)
theorem dJ17_copyOfRangeByte_22 : decode cJ17_copyOfRangeByte 22 = .ok (.isub, 1) := dk_100 (dk_at dksJ17_copyOfRangeByte_0 22 rfl rfl)
theorem dJ17_copyOfRangeByte_23 : decode cJ17_copyOfRangeByte 23 = .ok (.iload_n 3, 1) := dk_29 (dk_at dksJ17_copyOfRangeByte_0 23 rfl rfl)
theorem dJ17_copyOfRangeByte_24 : decode cJ17_copyOfRangeByte 24 = .ok (.invokestatic 304, 3) := dk_184 1 48 (dk_at dksJ17_copyOfRangeByte_1 0 rfl rfl)
theorem dJ17_copyOfRangeByte_27 : decode cJ17_copyOfRangeByte 27 = .ok (.invokestatic 150, 3) := dk_184 0 150 (dk_at dksJ17_copyOfRangeByte_1 3 rfl rfl)
theorem dJ17_copyOfRangeByte_30 : decode cJ17_copyOfRangeByte 30 = .ok (.aload 4, 2) := dk_25 4 (dk_at dksJ17_copyOfRangeByte_1 6 rfl rfl)
theorem dJ17_copyOfRangeByte_32 : decode cJ17_copyOfRangeByte 32 = .ok (.areturn, 1) := dk_176 (dk_at dksJ17_copyOfRangeByte_1 8 rfl rfl)
abbrev cJ17_checkLength : ByteArray := prog_50_method_131_code
def yJ17_checkLength : MethodName := ⟨RJ17, "checkLength", "(II)V"⟩
def dkwJ17_checkLength_1 : List UInt8 := [182, 0, 50, 27, 182, 0, 54, 182, 0, 61, 183, 0, 65, 191, 177]
abbrev dktJ17_checkLength_1 : List UInt8 := dkwJ17_checkLength_1 ++ []
def dkwJ17_checkLength_0 : List UInt8 := [27, 26, 162, 0, 35, 187, 0, 43, 89, 187, 0, 45, 89, 183, 0, 47, 26, 182, 0, 54, 19, 1, 81]
abbrev dktJ17_checkLength_0 : List UInt8 := dkwJ17_checkLength_0 ++ dktJ17_checkLength_1
theorem dksJ17_checkLength_0 : cJ17_checkLength.data.toList.drop 0 = dktJ17_checkLength_0 := by decide +kernel
theorem dksJ17_checkLength_1 : cJ17_checkLength.data.toList.drop 23 = dktJ17_checkLength_1 := dk_seg dksJ17_checkLength_0 23 rfl rfl
theorem dJ17_checkLength_0 : decode cJ17_checkLength 0 = .ok (.iload_n 1, 1) := dk_27 (dk_at dksJ17_checkLength_0 0 rfl rfl)
theorem dJ17_checkLength_1 : decode cJ17_checkLength 1 = .ok (.iload_n 0, 1) := dk_26 (dk_at dksJ17_checkLength_0 1 rfl rfl)
theorem dJ17_checkLength_2 : decode cJ17_checkLength 2 = .ok (.if_icmp .ge 35, 3) := dk_162 0 35 (dk_at dksJ17_checkLength_0 2 rfl rfl)
theorem dJ17_checkLength_5 : decode cJ17_checkLength 5 = .ok (.new 43, 3) := dk_187 0 43 (dk_at dksJ17_checkLength_0 5 rfl rfl)
theorem dJ17_checkLength_8 : decode cJ17_checkLength 8 = .ok (.dup, 1) := dk_89 (dk_at dksJ17_checkLength_0 8 rfl rfl)
theorem dJ17_checkLength_9 : decode cJ17_checkLength 9 = .ok (.new 45, 3) := dk_187 0 45 (dk_at dksJ17_checkLength_0 9 rfl rfl)
theorem dJ17_checkLength_12 : decode cJ17_checkLength 12 = .ok (.dup, 1) := dk_89 (dk_at dksJ17_checkLength_0 12 rfl rfl)
theorem dJ17_checkLength_13 : decode cJ17_checkLength 13 = .ok (.invokespecial 47, 3) := dk_183 0 47 (dk_at dksJ17_checkLength_0 13 rfl rfl)
theorem dJ17_checkLength_16 : decode cJ17_checkLength 16 = .ok (.iload_n 0, 1) := dk_26 (dk_at dksJ17_checkLength_0 16 rfl rfl)
theorem dJ17_checkLength_17 : decode cJ17_checkLength 17 = .ok (.invokevirtual 54, 3) := dk_182 0 54 (dk_at dksJ17_checkLength_0 17 rfl rfl)
theorem dJ17_checkLength_20 : decode cJ17_checkLength 20 = .ok (.ldc_w 337, 3) := dk_19 1 81 (dk_at dksJ17_checkLength_0 20 rfl rfl)
theorem dJ17_checkLength_23 : decode cJ17_checkLength 23 = .ok (.invokevirtual 50, 3) := dk_182 0 50 (dk_at dksJ17_checkLength_1 0 rfl rfl)
theorem dJ17_checkLength_26 : decode cJ17_checkLength 26 = .ok (.iload_n 1, 1) := dk_27 (dk_at dksJ17_checkLength_1 3 rfl rfl)
theorem dJ17_checkLength_27 : decode cJ17_checkLength 27 = .ok (.invokevirtual 54, 3) := dk_182 0 54 (dk_at dksJ17_checkLength_1 4 rfl rfl)
theorem dJ17_checkLength_30 : decode cJ17_checkLength 30 = .ok (.invokevirtual 61, 3) := dk_182 0 61 (dk_at dksJ17_checkLength_1 7 rfl rfl)
theorem dJ17_checkLength_33 : decode cJ17_checkLength 33 = .ok (.invokespecial 65, 3) := dk_183 0 65 (dk_at dksJ17_checkLength_1 10 rfl rfl)
theorem dJ17_checkLength_36 : decode cJ17_checkLength 36 = .ok (.athrow, 1) := dk_191 (dk_at dksJ17_checkLength_1 13 rfl rfl)
theorem dJ17_checkLength_37 : decode cJ17_checkLength 37 = .ok (.return_, 1) := dk_177 (dk_at dksJ17_checkLength_1 14 rfl rfl)
theorem q112 : (Jvm.Cond.initialized "java/util/Arrays") ∈ lw_all := lw_g (lw_at lw_m1 27 rfl) rfl
theorem q913 : (Jvm.Cond.static ({ cls := "java/util/Arrays", name := "copyOf", desc := "([Ljava/lang/Object;I)[Ljava/lang/Object;" } : Jvm.MethodName)) ∈ lw_all := lw_g (lw_at lw_m4 108 rfl) rfl
theorem q914 : (Jvm.Cond.code ({ cls := "java/util/Arrays", name := "copyOf", desc := "([Ljava/lang/Object;I)[Ljava/lang/Object;" } : Jvm.MethodName) prog_50_method_119_code (2 : Nat) (Option.some (Jvm.ClassFile.FieldType.array (Jvm.ClassFile.FieldType.object "java/lang/Object")))) ∈ lw_all := lw_g (lw_at lw_m4 109 rfl) rfl
theorem q915 : (Jvm.Cond.methodLink "java/util/Arrays" (86 : Nat) ({ cls := "java/lang/Object", name := "getClass", desc := "()Ljava/lang/Class;" } : Jvm.MethodName)) ∈ lw_all := lw_g (lw_at lw_m4 110 rfl) rfl
theorem q946 : (Jvm.Cond.methodLink "java/util/Arrays" (300 : Nat) ({ cls := "java/util/Arrays", name := "copyOf", desc := "([Ljava/lang/Object;ILjava/lang/Class;)[Ljava/lang/Object;" } : Jvm.MethodName)) ∈ lw_all := lw_g (lw_at lw_m4 141 rfl) rfl
theorem q947 : (Jvm.Cond.static ({ cls := "java/util/Arrays", name := "copyOf", desc := "([Ljava/lang/Object;ILjava/lang/Class;)[Ljava/lang/Object;" } : Jvm.MethodName)) ∈ lw_all := lw_g (lw_at lw_m4 142 rfl) rfl
theorem q948 : (Jvm.Cond.code ({ cls := "java/util/Arrays", name := "copyOf", desc := "([Ljava/lang/Object;ILjava/lang/Class;)[Ljava/lang/Object;" } : Jvm.MethodName) prog_50_method_120_code (4 : Nat) (Option.some (Jvm.ClassFile.FieldType.array (Jvm.ClassFile.FieldType.object "java/lang/Object")))) ∈ lw_all := lw_g (lw_at lw_m4 143 rfl) rfl
theorem q949 : (Jvm.Cond.classLink "java/util/Arrays" (110 : Nat) "[Ljava/lang/Object;") ∈ lw_all := lw_g (lw_at lw_m4 144 rfl) rfl
theorem q951 : (Jvm.Cond.classLink "java/util/Arrays" (2 : Nat) "java/lang/Object") ∈ lw_all := lw_g (lw_at lw_m4 146 rfl) rfl
theorem q952 : (Jvm.Cond.methodLink "java/util/Arrays" (304 : Nat) ({ cls := "java/lang/Math", name := "min", desc := "(II)I" } : Jvm.MethodName)) ∈ lw_all := lw_g (lw_at lw_m4 147 rfl) rfl
theorem q953 : (Jvm.Cond.methodLink "java/util/Arrays" (150 : Nat) ({ cls := "java/lang/System", name := "arraycopy", desc := "(Ljava/lang/Object;ILjava/lang/Object;II)V" } : Jvm.MethodName)) ∈ lw_all := lw_g (lw_at lw_m4 148 rfl) rfl
theorem q1395 : (Jvm.Cond.static ({ cls := "java/util/Arrays", name := "copyOf", desc := "([BI)[B" } : Jvm.MethodName)) ∈ lw_all := lw_g (lw_at lw_m6 110 rfl) rfl
theorem q1396 : (Jvm.Cond.code ({ cls := "java/util/Arrays", name := "copyOf", desc := "([BI)[B" } : Jvm.MethodName) prog_50_method_121_code (3 : Nat) (Option.some (Jvm.ClassFile.FieldType.array Jvm.ClassFile.FieldType.byte))) ∈ lw_all := lw_g (lw_at lw_m6 111 rfl) rfl
theorem q1397 : (Jvm.Cond.methodLink "java/util/Arrays" (310 : Nat) ({ cls := "[B", name := "clone", desc := "()Ljava/lang/Object;" } : Jvm.MethodName)) ∈ lw_all := lw_g (lw_at lw_m6 112 rfl) rfl
theorem q1403 : (Jvm.Cond.classLink "java/util/Arrays" (311 : Nat) "[B") ∈ lw_all := lw_g (lw_at lw_m6 118 rfl) rfl
theorem q1482 : (Jvm.Cond.static ({ cls := "java/util/Arrays", name := "copyOfRange", desc := "([BII)[B" } : Jvm.MethodName)) ∈ lw_all := lw_g (lw_at lw_m6 197 rfl) rfl
theorem q1483 : (Jvm.Cond.code ({ cls := "java/util/Arrays", name := "copyOfRange", desc := "([BII)[B" } : Jvm.MethodName) prog_50_method_132_code (3 : Nat) (Option.some (Jvm.ClassFile.FieldType.array Jvm.ClassFile.FieldType.byte))) ∈ lw_all := lw_g (lw_at lw_m6 198 rfl) rfl
theorem q1484 : (Jvm.Cond.methodLink "java/util/Arrays" (339 : Nat) ({ cls := "java/util/Arrays", name := "copyOfRangeByte", desc := "([BII)[B" } : Jvm.MethodName)) ∈ lw_all := lw_g (lw_at lw_m6 199 rfl) rfl
theorem q1485 : (Jvm.Cond.static ({ cls := "java/util/Arrays", name := "copyOfRangeByte", desc := "([BII)[B" } : Jvm.MethodName)) ∈ lw_all := lw_g (lw_at lw_m6 200 rfl) rfl
theorem q1486 : (Jvm.Cond.code ({ cls := "java/util/Arrays", name := "copyOfRangeByte", desc := "([BII)[B" } : Jvm.MethodName) prog_50_method_133_code (5 : Nat) (Option.some (Jvm.ClassFile.FieldType.array Jvm.ClassFile.FieldType.byte))) ∈ lw_all := lw_g (lw_at lw_m6 201 rfl) rfl
theorem q1487 : (Jvm.Cond.methodLink "java/util/Arrays" (343 : Nat) ({ cls := "java/util/Arrays", name := "checkLength", desc := "(II)V" } : Jvm.MethodName)) ∈ lw_all := lw_g (lw_at lw_m6 202 rfl) rfl
theorem q1488 : (Jvm.Cond.static ({ cls := "java/util/Arrays", name := "checkLength", desc := "(II)V" } : Jvm.MethodName)) ∈ lw_all := lw_g (lw_at lw_m6 203 rfl) rfl
theorem q1489 : (Jvm.Cond.code ({ cls := "java/util/Arrays", name := "checkLength", desc := "(II)V" } : Jvm.MethodName) prog_50_method_131_code (2 : Nat) (Option.none : Option Jvm.ClassFile.FieldType)) ∈ lw_all := lw_g (lw_at lw_m6 204 rfl) rfl
theorem q1490 : (Jvm.Cond.classLink "java/util/Arrays" (43 : Nat) "java/lang/IllegalArgumentException") ∈ lw_all := lw_g (lw_at lw_m6 205 rfl) rfl
theorem q1491 : (Jvm.Cond.classLink "java/util/Arrays" (45 : Nat) "java/lang/StringBuilder") ∈ lw_all := lw_g (lw_at lw_m6 206 rfl) rfl
theorem q1492 : (Jvm.Cond.methodLink "java/util/Arrays" (47 : Nat) ({ cls := "java/lang/StringBuilder", name := "<init>", desc := "()V" } : Jvm.MethodName)) ∈ lw_all := lw_g (lw_at lw_m6 207 rfl) rfl
theorem q1493 : (Jvm.Cond.methodLink "java/util/Arrays" (54 : Nat) ({ cls := "java/lang/StringBuilder", name := "append", desc := "(I)Ljava/lang/StringBuilder;" } : Jvm.MethodName)) ∈ lw_all := lw_g (lw_at lw_m6 208 rfl) rfl
theorem q1527 : (Jvm.Cond.stringRef "java/util/Arrays" (337 : Nat) " > ") ∈ lw_tbl := lw_at lw_m7 2 rfl
theorem q1528 : (Jvm.Cond.methodLink "java/util/Arrays" (50 : Nat) ({ cls := "java/lang/StringBuilder", name := "append", desc := "(Ljava/lang/String;)Ljava/lang/StringBuilder;" } : Jvm.MethodName)) ∈ lw_all := lw_g (lw_at lw_m7 3 rfl) rfl
theorem q1566 : (Jvm.Cond.methodLink "java/util/Arrays" (61 : Nat) ({ cls := "java/lang/StringBuilder", name := "toString", desc := "()Ljava/lang/String;" } : Jvm.MethodName)) ∈ lw_all := lw_g (lw_at lw_m7 41 rfl) rfl
theorem q1567 : (Jvm.Cond.methodLink "java/util/Arrays" (65 : Nat) ({ cls := "java/lang/IllegalArgumentException", name := "<init>", desc := "(Ljava/lang/String;)V" } : Jvm.MethodName)) ∈ lw_all := lw_g (lw_at lw_m7 42 rfl) rfl
/-! java/lang/Number -/
set_option maxRecDepth 100000
def RJ18 : String := "java/lang/Number"
abbrev cJ18_init : ByteArray := prog_36_method_1_code
def yJ18_init : MethodName := ⟨RJ18, "<init>", "()V"⟩
theorem dJ18_init_0 : decode cJ18_init 0 = .ok (.aload_n 0, 1) := by decide +kernel
theorem dJ18_init_1 : decode cJ18_init 1 = .ok (.invokespecial 1, 3) := by decide +kernel
theorem dJ18_init_4 : decode cJ18_init 4 = .ok (.return_, 1) := by decide +kernel
theorem q114 : (Jvm.Cond.initialized "java/lang/Number") ∈ lw_all := lw_g (lw_at lw_m1 29 rfl) rfl
theorem q1013 : (Jvm.Cond.instanceMethod ({ cls := "java/lang/Number", name := "<init>", desc := "()V" } : Jvm.MethodName)) ∈ lw_all := lw_g (lw_at lw_m4 208 rfl) rfl
theorem q1014 : (Jvm.Cond.code ({ cls := "java/lang/Number", name := "<init>", desc := "()V" } : Jvm.MethodName) prog_36_method_1_code (1 : Nat) (Option.none : Option Jvm.ClassFile.FieldType)) ∈ lw_all := lw_g (lw_at lw_m4 209 rfl) rfl
theorem q1015 : (Jvm.Cond.methodLink "java/lang/Number" (1 : Nat) ({ cls := "java/lang/Object", name := "<init>", desc := "()V" } : Jvm.MethodName)) ∈ lw_all := lw_g (lw_at lw_m4 210 rfl) rfl
/-! java/lang/Integer -/
set_option maxRecDepth 100000
def RJ19 : String := "java/lang/Integer"
def TJ19 : u_T := fun k => match k with
  | _ => ("java/lang/Integer", "value", "I", true)
def tyJ19 : Nat → FieldType := fun k => match k with
  | _ => .int
abbrev wsJ190 : List Cond := u_ws RJ19 TJ19 1
theorem nmJ19 : ∀ a, a < 1 → ∀ b, b < 1 → a ≠ b → (TJ19 a).2.1 ≠ (TJ19 b).2.1 := by decide +kernel
theorem tyJ19_ok : ∀ k, k < 1 → parseFieldDescriptor (TJ19 k).2.2.1 = some (tyJ19 k) := by decide +kernel
abbrev cJ19_intValue : ByteArray := prog_32_method_27_code
def yJ19_intValue : MethodName := ⟨RJ19, "intValue", "()I"⟩
theorem dJ19_intValue_0 : decode cJ19_intValue 0 = .ok (.aload_n 0, 1) := by decide +kernel
theorem dJ19_intValue_1 : decode cJ19_intValue 1 = .ok (.getfield 205, 3) := by decide +kernel
theorem dJ19_intValue_4 : decode cJ19_intValue 4 = .ok (.ireturn, 1) := by decide +kernel
abbrev cJ19_signum : ByteArray := prog_32_method_56_code
def yJ19_signum : MethodName := ⟨RJ19, "signum", "(I)I"⟩
def dkwJ19_signum_0 : List UInt8 := [26, 16, 31, 122, 26, 116, 16, 31, 124, 128, 172]
abbrev dktJ19_signum_0 : List UInt8 := dkwJ19_signum_0 ++ []
theorem dksJ19_signum_0 : cJ19_signum.data.toList.drop 0 = dktJ19_signum_0 := by decide +kernel
theorem dJ19_signum_0 : decode cJ19_signum 0 = .ok (.iload_n 0, 1) := dk_26 (dk_at dksJ19_signum_0 0 rfl rfl)
theorem dJ19_signum_1 : decode cJ19_signum 1 = .ok (.bipush 31, 2) := dk_16 31 (dk_at dksJ19_signum_0 1 rfl rfl)
theorem dJ19_signum_3 : decode cJ19_signum 3 = .ok (.ishr, 1) := dk_122 (dk_at dksJ19_signum_0 3 rfl rfl)
theorem dJ19_signum_4 : decode cJ19_signum 4 = .ok (.iload_n 0, 1) := dk_26 (dk_at dksJ19_signum_0 4 rfl rfl)
theorem dJ19_signum_5 : decode cJ19_signum 5 = .ok (.ineg, 1) := dk_116 (dk_at dksJ19_signum_0 5 rfl rfl)
theorem dJ19_signum_6 : decode cJ19_signum 6 = .ok (.bipush 31, 2) := dk_16 31 (dk_at dksJ19_signum_0 6 rfl rfl)
theorem dJ19_signum_8 : decode cJ19_signum 8 = .ok (.iushr, 1) := dk_124 (dk_at dksJ19_signum_0 8 rfl rfl)
theorem dJ19_signum_9 : decode cJ19_signum 9 = .ok (.ior, 1) := dk_128 (dk_at dksJ19_signum_0 9 rfl rfl)
theorem dJ19_signum_10 : decode cJ19_signum 10 = .ok (.ireturn, 1) := dk_172 (dk_at dksJ19_signum_0 10 rfl rfl)
abbrev cJ19_bitCount : ByteArray := prog_32_method_49_code
def yJ19_bitCount : MethodName := ⟨RJ19, "bitCount", "(I)I"⟩
def dkwJ19_bitCount_2 : List UInt8 := [26, 16, 63, 126, 172]
abbrev dktJ19_bitCount_2 : List UInt8 := dkwJ19_bitCount_2 ++ []
def dkwJ19_bitCount_1 : List UInt8 := [26, 26, 7, 124, 96, 19, 1, 11, 126, 59, 26, 26, 16, 8, 124, 96, 59, 26, 26, 16, 16, 124, 96, 59]
abbrev dktJ19_bitCount_1 : List UInt8 := dkwJ19_bitCount_1 ++ dktJ19_bitCount_2
def dkwJ19_bitCount_0 : List UInt8 := [26, 26, 4, 124, 19, 1, 9, 126, 100, 59, 26, 19, 1, 10, 126, 26, 5, 124, 19, 1, 10, 126, 96, 59]
abbrev dktJ19_bitCount_0 : List UInt8 := dkwJ19_bitCount_0 ++ dktJ19_bitCount_1
theorem dksJ19_bitCount_0 : cJ19_bitCount.data.toList.drop 0 = dktJ19_bitCount_0 := by decide +kernel
theorem dksJ19_bitCount_1 : cJ19_bitCount.data.toList.drop 24 = dktJ19_bitCount_1 := dk_seg dksJ19_bitCount_0 24 rfl rfl
theorem dksJ19_bitCount_2 : cJ19_bitCount.data.toList.drop 48 = dktJ19_bitCount_2 := dk_seg dksJ19_bitCount_1 24 rfl rfl
theorem dJ19_bitCount_0 : decode cJ19_bitCount 0 = .ok (.iload_n 0, 1) := dk_26 (dk_at dksJ19_bitCount_0 0 rfl rfl)
theorem dJ19_bitCount_1 : decode cJ19_bitCount 1 = .ok (.iload_n 0, 1) := dk_26 (dk_at dksJ19_bitCount_0 1 rfl rfl)
theorem dJ19_bitCount_2 : decode cJ19_bitCount 2 = .ok (.iconst 1, 1) := dk_4 (dk_at dksJ19_bitCount_0 2 rfl rfl)
theorem dJ19_bitCount_3 : decode cJ19_bitCount 3 = .ok (.iushr, 1) := dk_124 (dk_at dksJ19_bitCount_0 3 rfl rfl)
theorem dJ19_bitCount_4 : decode cJ19_bitCount 4 = .ok (.ldc_w 265, 3) := dk_19 1 9 (dk_at dksJ19_bitCount_0 4 rfl rfl)
theorem dJ19_bitCount_7 : decode cJ19_bitCount 7 = .ok (.iand, 1) := dk_126 (dk_at dksJ19_bitCount_0 7 rfl rfl)
theorem dJ19_bitCount_8 : decode cJ19_bitCount 8 = .ok (.isub, 1) := dk_100 (dk_at dksJ19_bitCount_0 8 rfl rfl)
theorem dJ19_bitCount_9 : decode cJ19_bitCount 9 = .ok (.istore_n 0, 1) := dk_59 (dk_at dksJ19_bitCount_0 9 rfl rfl)
theorem dJ19_bitCount_10 : decode cJ19_bitCount 10 = .ok (.iload_n 0, 1) := dk_26 (dk_at dksJ19_bitCount_0 10 rfl rfl)
theorem dJ19_bitCount_11 : decode cJ19_bitCount 11 = .ok (.ldc_w 266, 3) := dk_19 1 10 (dk_at dksJ19_bitCount_0 11 rfl rfl)
theorem dJ19_bitCount_14 : decode cJ19_bitCount 14 = .ok (.iand, 1) := dk_126 (dk_at dksJ19_bitCount_0 14 rfl rfl)
theorem dJ19_bitCount_15 : decode cJ19_bitCount 15 = .ok (.iload_n 0, 1) := dk_26 (dk_at dksJ19_bitCount_0 15 rfl rfl)
theorem dJ19_bitCount_16 : decode cJ19_bitCount 16 = .ok (.iconst 2, 1) := dk_5 (dk_at dksJ19_bitCount_0 16 rfl rfl)
theorem dJ19_bitCount_17 : decode cJ19_bitCount 17 = .ok (.iushr, 1) := dk_124 (dk_at dksJ19_bitCount_0 17 rfl rfl)
theorem dJ19_bitCount_18 : decode cJ19_bitCount 18 = .ok (.ldc_w 266, 3) := dk_19 1 10 (dk_at dksJ19_bitCount_0 18 rfl rfl)
theorem dJ19_bitCount_21 : decode cJ19_bitCount 21 = .ok (.iand, 1) := dk_126 (dk_at dksJ19_bitCount_0 21 rfl rfl)
theorem dJ19_bitCount_22 : decode cJ19_bitCount 22 = .ok (.iadd, 1) := dk_96 (dk_at dksJ19_bitCount_0 22 rfl rfl)
theorem dJ19_bitCount_23 : decode cJ19_bitCount 23 = .ok (.istore_n 0, 1) := dk_59 (dk_at dksJ19_bitCount_0 23 rfl rfl)
theorem dJ19_bitCount_24 : decode cJ19_bitCount 24 = .ok (.iload_n 0, 1) := dk_26 (dk_at dksJ19_bitCount_1 0 rfl rfl)
theorem dJ19_bitCount_25 : decode cJ19_bitCount 25 = .ok (.iload_n 0, 1) := dk_26 (dk_at dksJ19_bitCount_1 1 rfl rfl)
theorem dJ19_bitCount_26 : decode cJ19_bitCount 26 = .ok (.iconst 4, 1) := dk_7 (dk_at dksJ19_bitCount_1 2 rfl rfl)
theorem dJ19_bitCount_27 : decode cJ19_bitCount 27 = .ok (.iushr, 1) := dk_124 (dk_at dksJ19_bitCount_1 3 rfl rfl)
theorem dJ19_bitCount_28 : decode cJ19_bitCount 28 = .ok (.iadd, 1) := dk_96 (dk_at dksJ19_bitCount_1 4 rfl rfl)
theorem dJ19_bitCount_29 : decode cJ19_bitCount 29 = .ok (.ldc_w 267, 3) := dk_19 1 11 (dk_at dksJ19_bitCount_1 5 rfl rfl)
theorem dJ19_bitCount_32 : decode cJ19_bitCount 32 = .ok (.iand, 1) := dk_126 (dk_at dksJ19_bitCount_1 8 rfl rfl)
theorem dJ19_bitCount_33 : decode cJ19_bitCount 33 = .ok (.istore_n 0, 1) := dk_59 (dk_at dksJ19_bitCount_1 9 rfl rfl)
theorem dJ19_bitCount_34 : decode cJ19_bitCount 34 = .ok (.iload_n 0, 1) := dk_26 (dk_at dksJ19_bitCount_1 10 rfl rfl)
theorem dJ19_bitCount_35 : decode cJ19_bitCount 35 = .ok (.iload_n 0, 1) := dk_26 (dk_at dksJ19_bitCount_1 11 rfl rfl)
theorem dJ19_bitCount_36 : decode cJ19_bitCount 36 = .ok (.bipush 8, 2) := dk_16 8 (dk_at dksJ19_bitCount_1 12 rfl rfl)
theorem dJ19_bitCount_38 : decode cJ19_bitCount 38 = .ok (.iushr, 1) := dk_124 (dk_at dksJ19_bitCount_1 14 rfl rfl)
theorem dJ19_bitCount_39 : decode cJ19_bitCount 39 = .ok (.iadd, 1) := dk_96 (dk_at dksJ19_bitCount_1 15 rfl rfl)
theorem dJ19_bitCount_40 : decode cJ19_bitCount 40 = .ok (.istore_n 0, 1) := dk_59 (dk_at dksJ19_bitCount_1 16 rfl rfl)
theorem dJ19_bitCount_41 : decode cJ19_bitCount 41 = .ok (.iload_n 0, 1) := dk_26 (dk_at dksJ19_bitCount_1 17 rfl rfl)
theorem dJ19_bitCount_42 : decode cJ19_bitCount 42 = .ok (.iload_n 0, 1) := dk_26 (dk_at dksJ19_bitCount_1 18 rfl rfl)
theorem dJ19_bitCount_43 : decode cJ19_bitCount 43 = .ok (.bipush 16, 2) := dk_16 16 (dk_at dksJ19_bitCount_1 19 rfl rfl)
theorem dJ19_bitCount_45 : decode cJ19_bitCount 45 = .ok (.iushr, 1) := dk_124 (dk_at dksJ19_bitCount_1 21 rfl rfl)
theorem dJ19_bitCount_46 : decode cJ19_bitCount 46 = .ok (.iadd, 1) := dk_96 (dk_at dksJ19_bitCount_1 22 rfl rfl)
theorem dJ19_bitCount_47 : decode cJ19_bitCount 47 = .ok (.istore_n 0, 1) := dk_59 (dk_at dksJ19_bitCount_1 23 rfl rfl)
theorem dJ19_bitCount_48 : decode cJ19_bitCount 48 = .ok (.iload_n 0, 1) := dk_26 (dk_at dksJ19_bitCount_2 0 rfl rfl)
theorem dJ19_bitCount_49 : decode cJ19_bitCount 49 = .ok (.bipush 63, 2) := dk_16 63 (dk_at dksJ19_bitCount_2 1 rfl rfl)
theorem dJ19_bitCount_51 : decode cJ19_bitCount 51 = .ok (.iand, 1) := dk_126 (dk_at dksJ19_bitCount_2 3 rfl rfl)
theorem dJ19_bitCount_52 : decode cJ19_bitCount 52 = .ok (.ireturn, 1) := dk_172 (dk_at dksJ19_bitCount_2 4 rfl rfl)
abbrev cJ19_valueOf : ByteArray := prog_32_method_22_code
def yJ19_valueOf : MethodName := ⟨RJ19, "valueOf", "(I)Ljava/lang/Integer;"⟩
def dkwJ19_valueOf_1 : List UInt8 := [187, 0, 1, 89, 26, 183, 0, 199, 176]
abbrev dktJ19_valueOf_1 : List UInt8 := dkwJ19_valueOf_1 ++ []
def dkwJ19_valueOf_0 : List UInt8 := [26, 16, 128, 161, 0, 20, 26, 178, 0, 191, 163, 0, 13, 178, 0, 195, 26, 17, 0, 128, 96, 50, 176]
abbrev dktJ19_valueOf_0 : List UInt8 := dkwJ19_valueOf_0 ++ dktJ19_valueOf_1
theorem dksJ19_valueOf_0 : cJ19_valueOf.data.toList.drop 0 = dktJ19_valueOf_0 := by decide +kernel
theorem dksJ19_valueOf_1 : cJ19_valueOf.data.toList.drop 23 = dktJ19_valueOf_1 := dk_seg dksJ19_valueOf_0 23 rfl rfl
theorem dJ19_valueOf_0 : decode cJ19_valueOf 0 = .ok (.iload_n 0, 1) := dk_26 (dk_at dksJ19_valueOf_0 0 rfl rfl)
theorem dJ19_valueOf_1 : decode cJ19_valueOf 1 = .ok (.bipush (-128), 2) := dk_16 128 (dk_at dksJ19_valueOf_0 1 rfl rfl)
theorem dJ19_valueOf_3 : decode cJ19_valueOf 3 = .ok (.if_icmp .lt 20, 3) := dk_161 0 20 (dk_at dksJ19_valueOf_0 3 rfl rfl)
theorem dJ19_valueOf_6 : decode cJ19_valueOf 6 = .ok (.iload_n 0, 1) := dk_26 (dk_at dksJ19_valueOf_0 6 rfl rfl)
theorem dJ19_valueOf_7 : decode cJ19_valueOf 7 = .ok (.getstatic 191, 3) := dk_178 0 191 (dk_at dksJ19_valueOf_0 7 rfl rfl)
theorem dJ19_valueOf_10 : decode cJ19_valueOf 10 = .ok (.if_icmp .gt 13, 3) := dk_163 0 13 (dk_at dksJ19_valueOf_0 10 rfl rfl)
theorem dJ19_valueOf_13 : decode cJ19_valueOf 13 = .ok (.getstatic 195, 3) := dk_178 0 195 (dk_at dksJ19_valueOf_0 13 rfl rfl)
theorem dJ19_valueOf_16 : decode cJ19_valueOf 16 = .ok (.iload_n 0, 1) := dk_26 (dk_at dksJ19_valueOf_0 16 rfl rfl)
theorem dJ19_valueOf_17 : decode cJ19_valueOf 17 = .ok (.sipush 128, 3) := dk_17 0 128 (dk_at dksJ19_valueOf_0 17 rfl rfl)
theorem dJ19_valueOf_20 : decode cJ19_valueOf 20 = .ok (.iadd, 1) := dk_96 (dk_at dksJ19_valueOf_0 20 rfl rfl)
theorem dJ19_valueOf_21 : decode cJ19_valueOf 21 = .ok (.aaload, 1) := dk_50 (dk_at dksJ19_valueOf_0 21 rfl rfl)
theorem dJ19_valueOf_22 : decode cJ19_valueOf 22 = .ok (.areturn, 1) := dk_176 (dk_at dksJ19_valueOf_0 22 rfl rfl)
theorem dJ19_valueOf_23 : decode cJ19_valueOf 23 = .ok (.new 1, 3) := dk_187 0 1 (dk_at dksJ19_valueOf_1 0 rfl rfl)
theorem dJ19_valueOf_26 : decode cJ19_valueOf 26 = .ok (.dup, 1) := dk_89 (dk_at dksJ19_valueOf_1 3 rfl rfl)
theorem dJ19_valueOf_27 : decode cJ19_valueOf 27 = .ok (.iload_n 0, 1) := dk_26 (dk_at dksJ19_valueOf_1 4 rfl rfl)
theorem dJ19_valueOf_28 : decode cJ19_valueOf 28 = .ok (.invokespecial 199, 3) := dk_183 0 199 (dk_at dksJ19_valueOf_1 5 rfl rfl)
theorem dJ19_valueOf_31 : decode cJ19_valueOf 31 = .ok (.areturn, 1) := dk_176 (dk_at dksJ19_valueOf_1 8 rfl rfl)
abbrev cJ19_init : ByteArray := prog_32_method_23_code
def yJ19_init : MethodName := ⟨RJ19, "<init>", "(I)V"⟩
def dkwJ19_init_0 : List UInt8 := [42, 183, 0, 202, 42, 27, 181, 0, 205, 177]
abbrev dktJ19_init_0 : List UInt8 := dkwJ19_init_0 ++ []
theorem dksJ19_init_0 : cJ19_init.data.toList.drop 0 = dktJ19_init_0 := by decide +kernel
theorem dJ19_init_0 : decode cJ19_init 0 = .ok (.aload_n 0, 1) := dk_42 (dk_at dksJ19_init_0 0 rfl rfl)
theorem dJ19_init_1 : decode cJ19_init 1 = .ok (.invokespecial 202, 3) := dk_183 0 202 (dk_at dksJ19_init_0 1 rfl rfl)
theorem dJ19_init_4 : decode cJ19_init 4 = .ok (.aload_n 0, 1) := dk_42 (dk_at dksJ19_init_0 4 rfl rfl)
theorem dJ19_init_5 : decode cJ19_init 5 = .ok (.iload_n 1, 1) := dk_27 (dk_at dksJ19_init_0 5 rfl rfl)
theorem dJ19_init_6 : decode cJ19_init 6 = .ok (.putfield 205, 3) := dk_181 0 205 (dk_at dksJ19_init_0 6 rfl rfl)
theorem dJ19_init_9 : decode cJ19_init 9 = .ok (.return_, 1) := dk_177 (dk_at dksJ19_init_0 9 rfl rfl)
abbrev cJ19_numberOfTrailingZeros : ByteArray := prog_32_method_48_code
def yJ19_numberOfTrailingZeros : MethodName := ⟨RJ19, "numberOfTrailingZeros", "(I)I"⟩
def dkwJ19_numberOfTrailingZeros_3 : List UInt8 := [5, 124, 59, 27, 26, 4, 124, 96, 172]
abbrev dktJ19_numberOfTrailingZeros_3 : List UInt8 := dkwJ19_numberOfTrailingZeros_3 ++ []
def dkwJ19_numberOfTrailingZeros_2 : List UInt8 := [124, 59, 26, 16, 16, 164, 0, 10, 132, 1, 4, 26, 7, 124, 59, 26, 7, 164, 0, 10, 132, 1, 2, 26]
abbrev dktJ19_numberOfTrailingZeros_2 : List UInt8 := dkwJ19_numberOfTrailingZeros_2 ++ dktJ19_numberOfTrailingZeros_3
def dkwJ19_numberOfTrailingZeros_1 : List UInt8 := [164, 0, 11, 132, 1, 16, 26, 16, 16, 124, 59, 26, 17, 1, 0, 164, 0, 11, 132, 1, 8, 26, 16, 8]
abbrev dktJ19_numberOfTrailingZeros_1 : List UInt8 := dkwJ19_numberOfTrailingZeros_1 ++ dktJ19_numberOfTrailingZeros_2
def dkwJ19_numberOfTrailingZeros_0 : List UInt8 := [26, 2, 130, 26, 4, 100, 126, 59, 26, 157, 0, 8, 26, 16, 32, 126, 172, 4, 60, 26, 19, 1, 8]
abbrev dktJ19_numberOfTrailingZeros_0 : List UInt8 := dkwJ19_numberOfTrailingZeros_0 ++ dktJ19_numberOfTrailingZeros_1
theorem dksJ19_numberOfTrailingZeros_0 : cJ19_numberOfTrailingZeros.data.toList.drop 0 = dktJ19_numberOfTrailingZeros_0 := by decide +kernel
theorem dksJ19_numberOfTrailingZeros_1 : cJ19_numberOfTrailingZeros.data.toList.drop 23 = dktJ19_numberOfTrailingZeros_1 := dk_seg dksJ19_numberOfTrailingZeros_0 23 rfl rfl
theorem dksJ19_numberOfTrailingZeros_2 : cJ19_numberOfTrailingZeros.data.toList.drop 47 = dktJ19_numberOfTrailingZeros_2 := dk_seg dksJ19_numberOfTrailingZeros_1 24 rfl rfl
theorem dksJ19_numberOfTrailingZeros_3 : cJ19_numberOfTrailingZeros.data.toList.drop 71 = dktJ19_numberOfTrailingZeros_3 := dk_seg dksJ19_numberOfTrailingZeros_2 24 rfl rfl
theorem dJ19_numberOfTrailingZeros_0 : decode cJ19_numberOfTrailingZeros 0 = .ok (.iload_n 0, 1) := dk_26 (dk_at dksJ19_numberOfTrailingZeros_0 0 rfl rfl)
theorem dJ19_numberOfTrailingZeros_1 : decode cJ19_numberOfTrailingZeros 1 = .ok (.iconst (-1), 1) := dk_2 (dk_at dksJ19_numberOfTrailingZeros_0 1 rfl rfl)
theorem dJ19_numberOfTrailingZeros_2 : decode cJ19_numberOfTrailingZeros 2 = .ok (.ixor, 1) := dk_130 (dk_at dksJ19_numberOfTrailingZeros_0 2 rfl rfl)
theorem dJ19_numberOfTrailingZeros_3 : decode cJ19_numberOfTrailingZeros 3 = .ok (.iload_n 0, 1) := dk_26 (dk_at dksJ19_numberOfTrailingZeros_0 3 rfl rfl)
theorem dJ19_numberOfTrailingZeros_4 : decode cJ19_numberOfTrailingZeros 4 = .ok (.iconst 1, 1) := dk_4 (dk_at dksJ19_numberOfTrailingZeros_0 4 rfl rfl)
theorem dJ19_numberOfTrailingZeros_5 : decode cJ19_numberOfTrailingZeros 5 = .ok (.isub, 1) := dk_100 (dk_at dksJ19_numberOfTrailingZeros_0 5 rfl rfl)
theorem dJ19_numberOfTrailingZeros_6 : decode cJ19_numberOfTrailingZeros 6 = .ok (.iand, 1) := dk_126 (dk_at dksJ19_numberOfTrailingZeros_0 6 rfl rfl)
theorem dJ19_numberOfTrailingZeros_7 : decode cJ19_numberOfTrailingZeros 7 = .ok (.istore_n 0, 1) := dk_59 (dk_at dksJ19_numberOfTrailingZeros_0 7 rfl rfl)
theorem dJ19_numberOfTrailingZeros_8 : decode cJ19_numberOfTrailingZeros 8 = .ok (.iload_n 0, 1) := dk_26 (dk_at dksJ19_numberOfTrailingZeros_0 8 rfl rfl)
theorem dJ19_numberOfTrailingZeros_9 : decode cJ19_numberOfTrailingZeros 9 = .ok (.ifCond .gt 8, 3) := dk_157 0 8 (dk_at dksJ19_numberOfTrailingZeros_0 9 rfl rfl)
theorem dJ19_numberOfTrailingZeros_12 : decode cJ19_numberOfTrailingZeros 12 = .ok (.iload_n 0, 1) := dk_26 (dk_at dksJ19_numberOfTrailingZeros_0 12 rfl rfl)
theorem dJ19_numberOfTrailingZeros_13 : decode cJ19_numberOfTrailingZeros 13 = .ok (.bipush 32, 2) := dk_16 32 (dk_at dksJ19_numberOfTrailingZeros_0 13 rfl rfl)
theorem dJ19_numberOfTrailingZeros_15 : decode cJ19_numberOfTrailingZeros 15 = .ok (.iand, 1) := dk_126 (dk_at dksJ19_numberOfTrailingZeros_0 15 rfl rfl)
theorem dJ19_numberOfTrailingZeros_16 : decode cJ19_numberOfTrailingZeros 16 = .ok (.ireturn, 1) := dk_172 (dk_at dksJ19_numberOfTrailingZeros_0 16 rfl rfl)
theorem dJ19_numberOfTrailingZeros_17 : decode cJ19_numberOfTrailingZeros 17 = .ok (.iconst 1, 1) := dk_4 (dk_at dksJ19_numberOfTrailingZeros_0 17 rfl rfl)
theorem dJ19_numberOfTrailingZeros_18 : decode cJ19_numberOfTrailingZeros 18 = .ok (.istore_n 1, 1) := dk_60 (dk_at dksJ19_numberOfTrailingZeros_0 18 rfl rfl)
theorem dJ19_numberOfTrailingZeros_19 : decode cJ19_numberOfTrailingZeros 19 = .ok (.iload_n 0, 1) := dk_26 (dk_at dksJ19_numberOfTrailingZeros_0 19 rfl rfl)
theorem dJ19_numberOfTrailingZeros_20 : decode cJ19_numberOfTrailingZeros 20 = .ok (.ldc_w 264, 3) := dk_19 1 8 (dk_at dksJ19_numberOfTrailingZeros_0 20 rfl rfl)
theorem dJ19_numberOfTrailingZeros_23 : decode cJ19_numberOfTrailingZeros 23 = .ok (.if_icmp .le 11, 3) := dk_164 0 11 (dk_at dksJ19_numberOfTrailingZeros_1 0 rfl rfl)
theorem dJ19_numberOfTrailingZeros_26 : decode cJ19_numberOfTrailingZeros 26 = .ok (.iinc 1 16, 3) := dk_132 1 16 (dk_at dksJ19_numberOfTrailingZeros_1 3 rfl rfl)
theorem dJ19_numberOfTrailingZeros_29 : decode cJ19_numberOfTrailingZeros 29 = .ok (.iload_n 0, 1) := dk_26 (dk_at dksJ19_numberOfTrailingZeros_1 6 rfl rfl)
theorem dJ19_numberOfTrailingZeros_30 : decode cJ19_numberOfTrailingZeros 30 = .ok (.bipush 16, 2) := dk_16 16 (dk_at dksJ19_numberOfTrailingZeros_1 7 rfl rfl)
theorem dJ19_numberOfTrailingZeros_32 : decode cJ19_numberOfTrailingZeros 32 = .ok (.iushr, 1) := dk_124 (dk_at dksJ19_numberOfTrailingZeros_1 9 rfl rfl)
theorem dJ19_numberOfTrailingZeros_33 : decode cJ19_numberOfTrailingZeros 33 = .ok (.istore_n 0, 1) := dk_59 (dk_at dksJ19_numberOfTrailingZeros_1 10 rfl rfl)
theorem dJ19_numberOfTrailingZeros_34 : decode cJ19_numberOfTrailingZeros 34 = .ok (.iload_n 0, 1) := dk_26 (dk_at dksJ19_numberOfTrailingZeros_1 11 rfl rfl)
theorem dJ19_numberOfTrailingZeros_35 : decode cJ19_numberOfTrailingZeros 35 = .ok (.sipush 256, 3) := dk_17 1 0 (dk_at dksJ19_numberOfTrailingZeros_1 12 rfl rfl)
theorem dJ19_numberOfTrailingZeros_38 : decode cJ19_numberOfTrailingZeros 38 = .ok (.if_icmp .le 11, 3) := dk_164 0 11 (dk_at dksJ19_numberOfTrailingZeros_1 15 rfl rfl)
theorem dJ19_numberOfTrailingZeros_41 : decode cJ19_numberOfTrailingZeros 41 = .ok (.iinc 1 8, 3) := dk_132 1 8 (dk_at dksJ19_numberOfTrailingZeros_1 18 rfl rfl)
theorem dJ19_numberOfTrailingZeros_44 : decode cJ19_numberOfTrailingZeros 44 = .ok (.iload_n 0, 1) := dk_26 (dk_at dksJ19_numberOfTrailingZeros_1 21 rfl rfl)
theorem dJ19_numberOfTrailingZeros_45 : decode cJ19_numberOfTrailingZeros 45 = .ok (.bipush 8, 2) := dk_16 8 (dk_at dksJ19_numberOfTrailingZeros_1 22 rfl rfl)
theorem dJ19_numberOfTrailingZeros_47 : decode cJ19_numberOfTrailingZeros 47 = .ok (.iushr, 1) := dk_124 (dk_at dksJ19_numberOfTrailingZeros_2 0 rfl rfl)
theorem dJ19_numberOfTrailingZeros_48 : decode cJ19_numberOfTrailingZeros 48 = .ok (.istore_n 0, 1) := dk_59 (dk_at dksJ19_numberOfTrailingZeros_2 1 rfl rfl)
theorem dJ19_numberOfTrailingZeros_49 : decode cJ19_numberOfTrailingZeros 49 = .ok (.iload_n 0, 1) := dk_26 (dk_at dksJ19_numberOfTrailingZeros_2 2 rfl rfl)
theorem dJ19_numberOfTrailingZeros_50 : decode cJ19_numberOfTrailingZeros 50 = .ok (.bipush 16, 2) := dk_16 16 (dk_at dksJ19_numberOfTrailingZeros_2 3 rfl rfl)
theorem dJ19_numberOfTrailingZeros_52 : decode cJ19_numberOfTrailingZeros 52 = .ok (.if_icmp .le 10, 3) := dk_164 0 10 (dk_at dksJ19_numberOfTrailingZeros_2 5 rfl rfl)
theorem dJ19_numberOfTrailingZeros_55 : decode cJ19_numberOfTrailingZeros 55 = .ok (.iinc 1 4, 3) := dk_132 1 4 (dk_at dksJ19_numberOfTrailingZeros_2 8 rfl rfl)
theorem dJ19_numberOfTrailingZeros_58 : decode cJ19_numberOfTrailingZeros 58 = .ok (.iload_n 0, 1) := dk_26 (dk_at dksJ19_numberOfTrailingZeros_2 11 rfl rfl)
theorem dJ19_numberOfTrailingZeros_59 : decode cJ19_numberOfTrailingZeros 59 = .ok (.iconst 4, 1) := dk_7 (dk_at dksJ19_numberOfTrailingZeros_2 12 rfl rfl)
theorem dJ19_numberOfTrailingZeros_60 : decode cJ19_numberOfTrailingZeros 60 = .ok (.iushr, 1) := dk_124 (dk_at dksJ19_numberOfTrailingZeros_2 13 rfl rfl)
theorem dJ19_numberOfTrailingZeros_61 : decode cJ19_numberOfTrailingZeros 61 = .ok (.istore_n 0, 1) := dk_59 (dk_at dksJ19_numberOfTrailingZeros_2 14 rfl rfl)
theorem dJ19_numberOfTrailingZeros_62 : decode cJ19_numberOfTrailingZeros 62 = .ok (.iload_n 0, 1) := dk_26 (dk_at dksJ19_numberOfTrailingZeros_2 15 rfl rfl)
theorem dJ19_numberOfTrailingZeros_63 : decode cJ19_numberOfTrailingZeros 63 = .ok (.iconst 4, 1) := dk_7 (dk_at dksJ19_numberOfTrailingZeros_2 16 rfl rfl)
theorem dJ19_numberOfTrailingZeros_64 : decode cJ19_numberOfTrailingZeros 64 = .ok (.if_icmp .le 10, 3) := dk_164 0 10 (dk_at dksJ19_numberOfTrailingZeros_2 17 rfl rfl)
theorem dJ19_numberOfTrailingZeros_67 : decode cJ19_numberOfTrailingZeros 67 = .ok (.iinc 1 2, 3) := dk_132 1 2 (dk_at dksJ19_numberOfTrailingZeros_2 20 rfl rfl)
theorem dJ19_numberOfTrailingZeros_70 : decode cJ19_numberOfTrailingZeros 70 = .ok (.iload_n 0, 1) := dk_26 (dk_at dksJ19_numberOfTrailingZeros_2 23 rfl rfl)
theorem dJ19_numberOfTrailingZeros_71 : decode cJ19_numberOfTrailingZeros 71 = .ok (.iconst 2, 1) := dk_5 (dk_at dksJ19_numberOfTrailingZeros_3 0 rfl rfl)
theorem dJ19_numberOfTrailingZeros_72 : decode cJ19_numberOfTrailingZeros 72 = .ok (.iushr, 1) := dk_124 (dk_at dksJ19_numberOfTrailingZeros_3 1 rfl rfl)
theorem dJ19_numberOfTrailingZeros_73 : decode cJ19_numberOfTrailingZeros 73 = .ok (.istore_n 0, 1) := dk_59 (dk_at dksJ19_numberOfTrailingZeros_3 2 rfl rfl)
theorem dJ19_numberOfTrailingZeros_74 : decode cJ19_numberOfTrailingZeros 74 = .ok (.iload_n 1, 1) := dk_27 (dk_at dksJ19_numberOfTrailingZeros_3 3 rfl rfl)
theorem dJ19_numberOfTrailingZeros_75 : decode cJ19_numberOfTrailingZeros 75 = .ok (.iload_n 0, 1) := dk_26 (dk_at dksJ19_numberOfTrailingZeros_3 4 rfl rfl)
theorem dJ19_numberOfTrailingZeros_76 : decode cJ19_numberOfTrailingZeros 76 = .ok (.iconst 1, 1) := dk_4 (dk_at dksJ19_numberOfTrailingZeros_3 5 rfl rfl)
theorem dJ19_numberOfTrailingZeros_77 : decode cJ19_numberOfTrailingZeros 77 = .ok (.iushr, 1) := dk_124 (dk_at dksJ19_numberOfTrailingZeros_3 6 rfl rfl)
theorem dJ19_numberOfTrailingZeros_78 : decode cJ19_numberOfTrailingZeros 78 = .ok (.iadd, 1) := dk_96 (dk_at dksJ19_numberOfTrailingZeros_3 7 rfl rfl)
theorem dJ19_numberOfTrailingZeros_79 : decode cJ19_numberOfTrailingZeros 79 = .ok (.ireturn, 1) := dk_172 (dk_at dksJ19_numberOfTrailingZeros_3 8 rfl rfl)
abbrev cJ19_stringSize : ByteArray := prog_32_method_13_code
def yJ19_stringSize : MethodName := ⟨RJ19, "stringSize", "(I)I"⟩
def dkwJ19_stringSize_1 : List UInt8 := [164, 0, 7, 29, 27, 96, 172, 16, 10, 28, 104, 61, 132, 3, 1, 167, 255, 233, 16, 10, 27, 96, 172]
abbrev dktJ19_stringSize_1 : List UInt8 := dkwJ19_stringSize_1 ++ []
def dkwJ19_stringSize_0 : List UInt8 := [4, 60, 26, 155, 0, 8, 3, 60, 26, 116, 59, 16, 246, 61, 4, 62, 29, 16, 10, 162, 0, 23, 26, 28]
abbrev dktJ19_stringSize_0 : List UInt8 := dkwJ19_stringSize_0 ++ dktJ19_stringSize_1
theorem dksJ19_stringSize_0 : cJ19_stringSize.data.toList.drop 0 = dktJ19_stringSize_0 := by decide +kernel
theorem dksJ19_stringSize_1 : cJ19_stringSize.data.toList.drop 24 = dktJ19_stringSize_1 := dk_seg dksJ19_stringSize_0 24 rfl rfl
theorem dJ19_stringSize_0 : decode cJ19_stringSize 0 = .ok (.iconst 1, 1) := dk_4 (dk_at dksJ19_stringSize_0 0 rfl rfl)
theorem dJ19_stringSize_1 : decode cJ19_stringSize 1 = .ok (.istore_n 1, 1) := dk_60 (dk_at dksJ19_stringSize_0 1 rfl rfl)
theorem dJ19_stringSize_2 : decode cJ19_stringSize 2 = .ok (.iload_n 0, 1) := dk_26 (dk_at dksJ19_stringSize_0 2 rfl rfl)
theorem dJ19_stringSize_3 : decode cJ19_stringSize 3 = .ok (.ifCond .lt 8, 3) := dk_155 0 8 (dk_at dksJ19_stringSize_0 3 rfl rfl)
theorem dJ19_stringSize_6 : decode cJ19_stringSize 6 = .ok (.iconst 0, 1) := dk_3 (dk_at dksJ19_stringSize_0 6 rfl rfl)
theorem dJ19_stringSize_7 : decode cJ19_stringSize 7 = .ok (.istore_n 1, 1) := dk_60 (dk_at dksJ19_stringSize_0 7 rfl rfl)
theorem dJ19_stringSize_8 : decode cJ19_stringSize 8 = .ok (.iload_n 0, 1) := dk_26 (dk_at dksJ19_stringSize_0 8 rfl rfl)
theorem dJ19_stringSize_9 : decode cJ19_stringSize 9 = .ok (.ineg, 1) := dk_116 (dk_at dksJ19_stringSize_0 9 rfl rfl)
theorem dJ19_stringSize_10 : decode cJ19_stringSize 10 = .ok (.istore_n 0, 1) := dk_59 (dk_at dksJ19_stringSize_0 10 rfl rfl)
theorem dJ19_stringSize_11 : decode cJ19_stringSize 11 = .ok (.bipush (-10), 2) := dk_16 246 (dk_at dksJ19_stringSize_0 11 rfl rfl)
theorem dJ19_stringSize_13 : decode cJ19_stringSize 13 = .ok (.istore_n 2, 1) := dk_61 (dk_at dksJ19_stringSize_0 13 rfl rfl)
theorem dJ19_stringSize_14 : decode cJ19_stringSize 14 = .ok (.iconst 1, 1) := dk_4 (dk_at dksJ19_stringSize_0 14 rfl rfl)
theorem dJ19_stringSize_15 : decode cJ19_stringSize 15 = .ok (.istore_n 3, 1) := dk_62 (dk_at dksJ19_stringSize_0 15 rfl rfl)
theorem dJ19_stringSize_16 : decode cJ19_stringSize 16 = .ok (.iload_n 3, 1) := dk_29 (dk_at dksJ19_stringSize_0 16 rfl rfl)
theorem dJ19_stringSize_17 : decode cJ19_stringSize 17 = .ok (.bipush 10, 2) := dk_16 10 (dk_at dksJ19_stringSize_0 17 rfl rfl)
theorem dJ19_stringSize_19 : decode cJ19_stringSize 19 = .ok (.if_icmp .ge 23, 3) := dk_162 0 23 (dk_at dksJ19_stringSize_0 19 rfl rfl)
theorem dJ19_stringSize_22 : decode cJ19_stringSize 22 = .ok (.iload_n 0, 1) := dk_26 (dk_at dksJ19_stringSize_0 22 rfl rfl)
theorem dJ19_stringSize_23 : decode cJ19_stringSize 23 = .ok (.iload_n 2, 1) := dk_28 (dk_at dksJ19_stringSize_0 23 rfl rfl)
theorem dJ19_stringSize_24 : decode cJ19_stringSize 24 = .ok (.if_icmp .le 7, 3) := dk_164 0 7 (dk_at dksJ19_stringSize_1 0 rfl rfl)
theorem dJ19_stringSize_27 : decode cJ19_stringSize 27 = .ok (.iload_n 3, 1) := dk_29 (dk_at dksJ19_stringSize_1 3 rfl rfl)
theorem dJ19_stringSize_28 : decode cJ19_stringSize 28 = .ok (.iload_n 1, 1) := dk_27 (dk_at dksJ19_stringSize_1 4 rfl rfl)
theorem dJ19_stringSize_29 : decode cJ19_stringSize 29 = .ok (.iadd, 1) := dk_96 (dk_at dksJ19_stringSize_1 5 rfl rfl)
theorem dJ19_stringSize_30 : decode cJ19_stringSize 30 = .ok (.ireturn, 1) := dk_172 (dk_at dksJ19_stringSize_1 6 rfl rfl)
theorem dJ19_stringSize_31 : decode cJ19_stringSize 31 = .ok (.bipush 10, 2) := dk_16 10 (dk_at dksJ19_stringSize_1 7 rfl rfl)
theorem dJ19_stringSize_33 : decode cJ19_stringSize 33 = .ok (.iload_n 2, 1) := dk_28 (dk_at dksJ19_stringSize_1 9 rfl rfl)
theorem dJ19_stringSize_34 : decode cJ19_stringSize 34 = .ok (.imul, 1) := dk_104 (dk_at dksJ19_stringSize_1 10 rfl rfl)
theorem dJ19_stringSize_35 : decode cJ19_stringSize 35 = .ok (.istore_n 2, 1) := dk_61 (dk_at dksJ19_stringSize_1 11 rfl rfl)
theorem dJ19_stringSize_36 : decode cJ19_stringSize 36 = .ok (.iinc 3 1, 3) := dk_132 3 1 (dk_at dksJ19_stringSize_1 12 rfl rfl)
theorem dJ19_stringSize_39 : decode cJ19_stringSize 39 = .ok (.goto (-23), 3) := dk_167 255 233 (dk_at dksJ19_stringSize_1 15 rfl rfl)
theorem dJ19_stringSize_42 : decode cJ19_stringSize 42 = .ok (.bipush 10, 2) := dk_16 10 (dk_at dksJ19_stringSize_1 18 rfl rfl)
theorem dJ19_stringSize_44 : decode cJ19_stringSize 44 = .ok (.iload_n 1, 1) := dk_27 (dk_at dksJ19_stringSize_1 20 rfl rfl)
theorem dJ19_stringSize_45 : decode cJ19_stringSize 45 = .ok (.iadd, 1) := dk_96 (dk_at dksJ19_stringSize_1 21 rfl rfl)
theorem dJ19_stringSize_46 : decode cJ19_stringSize 46 = .ok (.ireturn, 1) := dk_172 (dk_at dksJ19_stringSize_1 22 rfl rfl)
abbrev cJ19_getChars : ByteArray := prog_32_method_12_code
def yJ19_getChars : MethodName := ⟨RJ19, "getChars", "(II[B)I"⟩
def dkwJ19_getChars_5 : List UInt8 := [16, 45, 84, 21, 5, 172]
abbrev dktJ19_getChars_5 : List UInt8 := dkwJ19_getChars_5 ++ []
def dkwJ19_getChars_4 : List UInt8 := [132, 5, 255, 21, 5, 178, 0, 87, 26, 116, 51, 84, 21, 6, 153, 0, 12, 44, 132, 5, 255, 21, 5]
abbrev dktJ19_getChars_4 : List UInt8 := dkwJ19_getChars_4 ++ dktJ19_getChars_5
def dkwJ19_getChars_3 : List UInt8 := [167, 255, 209, 44, 132, 5, 255, 21, 5, 178, 0, 83, 26, 116, 51, 84, 26, 16, 247, 162, 0, 16, 44]
abbrev dktJ19_getChars_3 : List UInt8 := dkwJ19_getChars_3 ++ dktJ19_getChars_4
def dkwJ19_getChars_2 : List UInt8 := [21, 5, 178, 0, 83, 21, 4, 51, 84, 44, 132, 5, 255, 21, 5, 178, 0, 87, 21, 4, 51, 84]
abbrev dktJ19_getChars_2 : List UInt8 := dkwJ19_getChars_2 ++ dktJ19_getChars_3
def dkwJ19_getChars_1 : List UInt8 := [16, 156, 163, 0, 47, 26, 16, 100, 108, 62, 29, 16, 100, 104, 26, 100, 54, 4, 29, 59, 44, 132, 5, 255]
abbrev dktJ19_getChars_1 : List UInt8 := dkwJ19_getChars_1 ++ dktJ19_getChars_2
def dkwJ19_getChars_0 : List UInt8 := [27, 54, 5, 26, 156, 0, 7, 4, 167, 0, 4, 3, 54, 6, 21, 6, 154, 0, 6, 26, 116, 59, 26]
abbrev dktJ19_getChars_0 : List UInt8 := dkwJ19_getChars_0 ++ dktJ19_getChars_1
theorem dksJ19_getChars_0 : cJ19_getChars.data.toList.drop 0 = dktJ19_getChars_0 := by decide +kernel
theorem dksJ19_getChars_1 : cJ19_getChars.data.toList.drop 23 = dktJ19_getChars_1 := dk_seg dksJ19_getChars_0 23 rfl rfl
theorem dksJ19_getChars_2 : cJ19_getChars.data.toList.drop 47 = dktJ19_getChars_2 := dk_seg dksJ19_getChars_1 24 rfl rfl
theorem dksJ19_getChars_3 : cJ19_getChars.data.toList.drop 69 = dktJ19_getChars_3 := dk_seg dksJ19_getChars_2 22 rfl rfl
theorem dksJ19_getChars_4 : cJ19_getChars.data.toList.drop 92 = dktJ19_getChars_4 := dk_seg dksJ19_getChars_3 23 rfl rfl
theorem dksJ19_getChars_5 : cJ19_getChars.data.toList.drop 115 = dktJ19_getChars_5 := dk_seg dksJ19_getChars_4 23 rfl rfl
theorem dJ19_getChars_0 : decode cJ19_getChars 0 = .ok (.iload_n 1, 1) := dk_27 (dk_at dksJ19_getChars_0 0 rfl rfl)
theorem dJ19_getChars_1 : decode cJ19_getChars 1 = .ok (.istore 5, 2) := dk_54 5 (dk_at dksJ19_getChars_0 1 rfl rfl)
theorem dJ19_getChars_3 : decode cJ19_getChars 3 = .ok (.iload_n 0, 1) := dk_26 (dk_at dksJ19_getChars_0 3 rfl rfl)
theorem dJ19_getChars_4 : decode cJ19_getChars 4 = .ok (.ifCond .ge 7, 3) := dk_156 0 7 (dk_at dksJ19_getChars_0 4 rfl rfl)
theorem dJ19_getChars_7 : decode cJ19_getChars 7 = .ok (.iconst 1, 1) := dk_4 (dk_at dksJ19_getChars_0 7 rfl rfl)
theorem dJ19_getChars_8 : decode cJ19_getChars 8 = .ok (.goto 4, 3) := dk_167 0 4 (dk_at dksJ19_getChars_0 8 rfl rfl)
theorem dJ19_getChars_11 : decode cJ19_getChars 11 = .ok (.iconst 0, 1) := dk_3 (dk_at dksJ19_getChars_0 11 rfl rfl)
theorem dJ19_getChars_12 : decode cJ19_getChars 12 = .ok (.istore 6, 2) := dk_54 6 (dk_at dksJ19_getChars_0 12 rfl rfl)
theorem dJ19_getChars_14 : decode cJ19_getChars 14 = .ok (.iload 6, 2) := dk_21 6 (dk_at dksJ19_getChars_0 14 rfl rfl)
theorem dJ19_getChars_16 : decode cJ19_getChars 16 = .ok (.ifCond .ne 6, 3) := dk_154 0 6 (dk_at dksJ19_getChars_0 16 rfl rfl)
theorem dJ19_getChars_19 : decode cJ19_getChars 19 = .ok (.iload_n 0, 1) := dk_26 (dk_at dksJ19_getChars_0 19 rfl rfl)
theorem dJ19_getChars_20 : decode cJ19_getChars 20 = .ok (.ineg, 1) := dk_116 (dk_at dksJ19_getChars_0 20 rfl rfl)
theorem dJ19_getChars_21 : decode cJ19_getChars 21 = .ok (.istore_n 0, 1) := dk_59 (dk_at dksJ19_getChars_0 21 rfl rfl)
theorem dJ19_getChars_22 : decode cJ19_getChars 22 = .ok (.iload_n 0, 1) := dk_26 (dk_at dksJ19_getChars_0 22 rfl rfl)
theorem dJ19_getChars_23 : decode cJ19_getChars 23 = .ok (.bipush (-100), 2) := dk_16 156 (dk_at dksJ19_getChars_1 0 rfl rfl)
theorem dJ19_getChars_25 : decode cJ19_getChars 25 = .ok (.if_icmp .gt 47, 3) := dk_163 0 47 (dk_at dksJ19_getChars_1 2 rfl rfl)
theorem dJ19_getChars_28 : decode cJ19_getChars 28 = .ok (.iload_n 0, 1) := dk_26 (dk_at dksJ19_getChars_1 5 rfl rfl)
theorem dJ19_getChars_29 : decode cJ19_getChars 29 = .ok (.bipush 100, 2) := dk_16 100 (dk_at dksJ19_getChars_1 6 rfl rfl)
theorem dJ19_getChars_31 : decode cJ19_getChars 31 = .ok (.idiv, 1) := dk_108 (dk_at dksJ19_getChars_1 8 rfl rfl)
theorem dJ19_getChars_32 : decode cJ19_getChars 32 = .ok (.istore_n 3, 1) := dk_62 (dk_at dksJ19_getChars_1 9 rfl rfl)
theorem dJ19_getChars_33 : decode cJ19_getChars 33 = .ok (.iload_n 3, 1) := dk_29 (dk_at dksJ19_getChars_1 10 rfl rfl)
theorem dJ19_getChars_34 : decode cJ19_getChars 34 = .ok (.bipush 100, 2) := dk_16 100 (dk_at dksJ19_getChars_1 11 rfl rfl)
theorem dJ19_getChars_36 : decode cJ19_getChars 36 = .ok (.imul, 1) := dk_104 (dk_at dksJ19_getChars_1 13 rfl rfl)
theorem dJ19_getChars_37 : decode cJ19_getChars 37 = .ok (.iload_n 0, 1) := dk_26 (dk_at dksJ19_getChars_1 14 rfl rfl)
theorem dJ19_getChars_38 : decode cJ19_getChars 38 = .ok (.isub, 1) := dk_100 (dk_at dksJ19_getChars_1 15 rfl rfl)
theorem dJ19_getChars_39 : decode cJ19_getChars 39 = .ok (.istore 4, 2) := dk_54 4 (dk_at dksJ19_getChars_1 16 rfl rfl)
theorem dJ19_getChars_41 : decode cJ19_getChars 41 = .ok (.iload_n 3, 1) := dk_29 (dk_at dksJ19_getChars_1 18 rfl rfl)
theorem dJ19_getChars_42 : decode cJ19_getChars 42 = .ok (.istore_n 0, 1) := dk_59 (dk_at dksJ19_getChars_1 19 rfl rfl)
theorem dJ19_getChars_43 : decode cJ19_getChars 43 = .ok (.aload_n 2, 1) := dk_44 (dk_at dksJ19_getChars_1 20 rfl rfl)
theorem dJ19_getChars_44 : decode cJ19_getChars 44 = .ok (.iinc 5 (-1), 3) := dk_132 5 255 (dk_at dksJ19_getChars_1 21 rfl rfl)
theorem dJ19_getChars_47 : decode cJ19_getChars 47 = .ok (.iload 5, 2) := dk_21 5 (dk_at dksJ19_getChars_2 0 rfl rfl)
theorem dJ19_getChars_49 : decode cJ19_getChars 49 = .ok (.getstatic 83, 3) := dk_178 0 83 (dk_at dksJ19_getChars_2 2 rfl rfl)
theorem dJ19_getChars_52 : decode cJ19_getChars 52 = .ok (.iload 4, 2) := dk_21 4 (dk_at dksJ19_getChars_2 5 rfl rfl)
theorem dJ19_getChars_54 : decode cJ19_getChars 54 = .ok (.baload, 1) := dk_51 (dk_at dksJ19_getChars_2 7 rfl rfl)
theorem dJ19_getChars_55 : decode cJ19_getChars 55 = .ok (.bastore, 1) := dk_84 (dk_at dksJ19_getChars_2 8 rfl rfl)
theorem dJ19_getChars_56 : decode cJ19_getChars 56 = .ok (.aload_n 2, 1) := dk_44 (dk_at dksJ19_getChars_2 9 rfl rfl)
theorem dJ19_getChars_57 : decode cJ19_getChars 57 = .ok (.iinc 5 (-1), 3) := dk_132 5 255 (dk_at dksJ19_getChars_2 10 rfl rfl)
theorem dJ19_getChars_60 : decode cJ19_getChars 60 = .ok (.iload 5, 2) := dk_21 5 (dk_at dksJ19_getChars_2 13 rfl rfl)
theorem dJ19_getChars_62 : decode cJ19_getChars 62 = .ok (.getstatic 87, 3) := dk_178 0 87 (dk_at dksJ19_getChars_2 15 rfl rfl)
theorem dJ19_getChars_65 : decode cJ19_getChars 65 = .ok (.iload 4, 2) := dk_21 4 (dk_at dksJ19_getChars_2 18 rfl rfl)
theorem dJ19_getChars_67 : decode cJ19_getChars 67 = .ok (.baload, 1) := dk_51 (dk_at dksJ19_getChars_2 20 rfl rfl)
theorem dJ19_getChars_68 : decode cJ19_getChars 68 = .ok (.bastore, 1) := dk_84 (dk_at dksJ19_getChars_2 21 rfl rfl)
theorem dJ19_getChars_69 : decode cJ19_getChars 69 = .ok (.goto (-47), 3) := dk_167 255 209 (dk_at dksJ19_getChars_3 0 rfl rfl)
theorem dJ19_getChars_72 : decode cJ19_getChars 72 = .ok (.aload_n 2, 1) := dk_44 (dk_at dksJ19_getChars_3 3 rfl rfl)
theorem dJ19_getChars_73 : decode cJ19_getChars 73 = .ok (.iinc 5 (-1), 3) := dk_132 5 255 (dk_at dksJ19_getChars_3 4 rfl rfl)
theorem dJ19_getChars_76 : decode cJ19_getChars 76 = .ok (.iload 5, 2) := dk_21 5 (dk_at dksJ19_getChars_3 7 rfl rfl)
theorem dJ19_getChars_78 : decode cJ19_getChars 78 = .ok (.getstatic 83, 3) := dk_178 0 83 (dk_at dksJ19_getChars_3 9 rfl rfl)
theorem dJ19_getChars_81 : decode cJ19_getChars 81 = .ok (.iload_n 0, 1) := dk_26 (dk_at dksJ19_getChars_3 12 rfl rfl)
theorem dJ19_getChars_82 : decode cJ19_getChars 82 = .ok (.ineg, 1) := dk_116 (dk_at dksJ19_getChars_3 13 rfl rfl)
theorem dJ19_getChars_83 : decode cJ19_getChars 83 = .ok (.baload, 1) := dk_51 (dk_at dksJ19_getChars_3 14 rfl rfl)
theorem dJ19_getChars_84 : decode cJ19_getChars 84 = .ok (.bastore, 1) := dk_84 (dk_at dksJ19_getChars_3 15 rfl rfl)
theorem dJ19_getChars_85 : decode cJ19_getChars 85 = .ok (.iload_n 0, 1) := dk_26 (dk_at dksJ19_getChars_3 16 rfl rfl)
theorem dJ19_getChars_86 : decode cJ19_getChars 86 = .ok (.bipush (-9), 2) := dk_16 247 (dk_at dksJ19_getChars_3 17 rfl rfl)
theorem dJ19_getChars_88 : decode cJ19_getChars 88 = .ok (.if_icmp .ge 16, 3) := dk_162 0 16 (dk_at dksJ19_getChars_3 19 rfl rfl)
theorem dJ19_getChars_91 : decode cJ19_getChars 91 = .ok (.aload_n 2, 1) := dk_44 (dk_at dksJ19_getChars_3 22 rfl rfl)
theorem dJ19_getChars_92 : decode cJ19_getChars 92 = .ok (.iinc 5 (-1), 3) := dk_132 5 255 (dk_at dksJ19_getChars_4 0 rfl rfl)
theorem dJ19_getChars_95 : decode cJ19_getChars 95 = .ok (.iload 5, 2) := dk_21 5 (dk_at dksJ19_getChars_4 3 rfl rfl)
theorem dJ19_getChars_97 : decode cJ19_getChars 97 = .ok (.getstatic 87, 3) := dk_178 0 87 (dk_at dksJ19_getChars_4 5 rfl rfl)
theorem dJ19_getChars_100 : decode cJ19_getChars 100 = .ok (.iload_n 0, 1) := dk_26 (dk_at dksJ19_getChars_4 8 rfl rfl)
theorem dJ19_getChars_101 : decode cJ19_getChars 101 = .ok (.ineg, 1) := dk_116 (dk_at dksJ19_getChars_4 9 rfl rfl)
theorem dJ19_getChars_102 : decode cJ19_getChars 102 = .ok (.baload, 1) := dk_51 (dk_at dksJ19_getChars_4 10 rfl rfl)
theorem dJ19_getChars_103 : decode cJ19_getChars 103 = .ok (.bastore, 1) := dk_84 (dk_at dksJ19_getChars_4 11 rfl rfl)
theorem dJ19_getChars_104 : decode cJ19_getChars 104 = .ok (.iload 6, 2) := dk_21 6 (dk_at dksJ19_getChars_4 12 rfl rfl)
theorem dJ19_getChars_106 : decode cJ19_getChars 106 = .ok (.ifCond .eq 12, 3) := dk_153 0 12 (dk_at dksJ19_getChars_4 14 rfl rfl)
theorem dJ19_getChars_109 : decode cJ19_getChars 109 = .ok (.aload_n 2, 1) := dk_44 (dk_at dksJ19_getChars_4 17 rfl rfl)
theorem dJ19_getChars_110 : decode cJ19_getChars 110 = .ok (.iinc 5 (-1), 3) := dk_132 5 255 (dk_at dksJ19_getChars_4 18 rfl rfl)
theorem dJ19_getChars_113 : decode cJ19_getChars 113 = .ok (.iload 5, 2) := dk_21 5 (dk_at dksJ19_getChars_4 21 rfl rfl)
theorem dJ19_getChars_115 : decode cJ19_getChars 115 = .ok (.bipush 45, 2) := dk_16 45 (dk_at dksJ19_getChars_5 0 rfl rfl)
theorem dJ19_getChars_117 : decode cJ19_getChars 117 = .ok (.bastore, 1) := dk_84 (dk_at dksJ19_getChars_5 2 rfl rfl)
theorem dJ19_getChars_118 : decode cJ19_getChars 118 = .ok (.iload 5, 2) := dk_21 5 (dk_at dksJ19_getChars_5 3 rfl rfl)
theorem dJ19_getChars_120 : decode cJ19_getChars 120 = .ok (.ireturn, 1) := dk_172 (dk_at dksJ19_getChars_5 5 rfl rfl)
theorem q115 : (Jvm.Cond.initialized "java/lang/Integer") ∈ lw_all := lw_g (lw_at lw_m1 30 rfl) rfl
theorem q366 : (Jvm.Cond.instanceMethod ({ cls := "java/lang/Integer", name := "intValue", desc := "()I" } : Jvm.MethodName)) ∈ lw_all := lw_g (lw_at lw_m2 41 rfl) rfl
theorem q367 : (Jvm.Cond.selects "java/lang/Integer" ({ cls := "java/lang/Integer", name := "intValue", desc := "()I" } : Jvm.MethodName) ({ cls := "java/lang/Integer", name := "intValue", desc := "()I" } : Jvm.MethodName)) ∈ lw_all := lw_g (lw_at lw_m2 42 rfl) rfl
theorem q368 : (Jvm.Cond.code ({ cls := "java/lang/Integer", name := "intValue", desc := "()I" } : Jvm.MethodName) prog_32_method_27_code (1 : Nat) (Option.some Jvm.ClassFile.FieldType.int)) ∈ lw_all := lw_g (lw_at lw_m2 43 rfl) rfl
theorem q461 : (Jvm.Cond.static ({ cls := "java/lang/Integer", name := "signum", desc := "(I)I" } : Jvm.MethodName)) ∈ lw_all := lw_g (lw_at lw_m2 136 rfl) rfl
theorem q462 : (Jvm.Cond.code ({ cls := "java/lang/Integer", name := "signum", desc := "(I)I" } : Jvm.MethodName) prog_32_method_56_code (1 : Nat) (Option.some Jvm.ClassFile.FieldType.int)) ∈ lw_all := lw_g (lw_at lw_m2 137 rfl) rfl
theorem q512 : (Jvm.Cond.static ({ cls := "java/lang/Integer", name := "bitCount", desc := "(I)I" } : Jvm.MethodName)) ∈ lw_all := lw_g (lw_at lw_m2 187 rfl) rfl
theorem q513 : (Jvm.Cond.code ({ cls := "java/lang/Integer", name := "bitCount", desc := "(I)I" } : Jvm.MethodName) prog_32_method_49_code (1 : Nat) (Option.some Jvm.ClassFile.FieldType.int)) ∈ lw_all := lw_g (lw_at lw_m2 188 rfl) rfl
theorem q514 : (Jvm.Cond.constant "java/lang/Integer" (265 : Nat) (1431655765 : Int32)) ∈ lw_all := lw_g (lw_at lw_m2 189 rfl) rfl
theorem q515 : (Jvm.Cond.constant "java/lang/Integer" (266 : Nat) (858993459 : Int32)) ∈ lw_all := lw_g (lw_at lw_m2 190 rfl) rfl
theorem q516 : (Jvm.Cond.constant "java/lang/Integer" (267 : Nat) (252645135 : Int32)) ∈ lw_all := lw_g (lw_at lw_m2 191 rfl) rfl
theorem q939 : (Jvm.Cond.selects "java/lang/Integer" ({ cls := "java/lang/Object", name := "getClass", desc := "()Ljava/lang/Class;" } : Jvm.MethodName) ({ cls := "java/lang/Object", name := "getClass", desc := "()Ljava/lang/Class;" } : Jvm.MethodName)) ∈ lw_all := lw_g (lw_at lw_m4 134 rfl) rfl
theorem q1001 : (Jvm.Cond.static ({ cls := "java/lang/Integer", name := "valueOf", desc := "(I)Ljava/lang/Integer;" } : Jvm.MethodName)) ∈ lw_all := lw_g (lw_at lw_m4 196 rfl) rfl
theorem q1002 : (Jvm.Cond.code ({ cls := "java/lang/Integer", name := "valueOf", desc := "(I)Ljava/lang/Integer;" } : Jvm.MethodName) prog_32_method_22_code (1 : Nat) (Option.some (Jvm.ClassFile.FieldType.object "java/lang/Integer"))) ∈ lw_all := lw_g (lw_at lw_m4 197 rfl) rfl
theorem q1003 : (Jvm.Cond.fieldLink "java/lang/Integer" (191 : Nat) "java/lang/Integer$IntegerCache" "high" "I") ∈ lw_all := lw_g (lw_at lw_m4 198 rfl) rfl
theorem q1005 : (Jvm.Cond.fieldLink "java/lang/Integer" (195 : Nat) "java/lang/Integer$IntegerCache" "cache" "[Ljava/lang/Integer;") ∈ lw_all := lw_g (lw_at lw_m4 200 rfl) rfl
theorem q1007 : (Jvm.Cond.classLink "java/lang/Integer" (1 : Nat) "java/lang/Integer") ∈ lw_all := lw_g (lw_at lw_m4 202 rfl) rfl
theorem q1008 : (Jvm.Cond.instantiable "java/lang/Integer" (1 : Nat)) ∈ lw_all := lw_g (lw_at lw_m4 203 rfl) rfl
theorem q1009 : (Jvm.Cond.methodLink "java/lang/Integer" (199 : Nat) ({ cls := "java/lang/Integer", name := "<init>", desc := "(I)V" } : Jvm.MethodName)) ∈ lw_all := lw_g (lw_at lw_m4 204 rfl) rfl
theorem q1010 : (Jvm.Cond.instanceMethod ({ cls := "java/lang/Integer", name := "<init>", desc := "(I)V" } : Jvm.MethodName)) ∈ lw_all := lw_g (lw_at lw_m4 205 rfl) rfl
theorem q1011 : (Jvm.Cond.code ({ cls := "java/lang/Integer", name := "<init>", desc := "(I)V" } : Jvm.MethodName) prog_32_method_23_code (2 : Nat) (Option.none : Option Jvm.ClassFile.FieldType)) ∈ lw_all := lw_g (lw_at lw_m4 206 rfl) rfl
theorem q1012 : (Jvm.Cond.methodLink "java/lang/Integer" (202 : Nat) ({ cls := "java/lang/Number", name := "<init>", desc := "()V" } : Jvm.MethodName)) ∈ lw_all := lw_g (lw_at lw_m4 207 rfl) rfl
theorem q1016 : (Jvm.Cond.fieldLink "java/lang/Integer" (205 : Nat) "java/lang/Integer" "value" "I") ∈ lw_all := lw_g (lw_at lw_m4 211 rfl) rfl
theorem q1017 : (Jvm.Cond.laysFinal "java/lang/Integer" "java/lang/Integer" "value" "I") ∈ lw_all := lw_g (lw_at lw_m4 212 rfl) rfl
theorem q1018 : (Jvm.Cond.soleField "java/lang/Integer" "value") ∈ lw_all := lw_g (lw_at lw_m4 213 rfl) rfl
theorem q1019 : (Jvm.Cond.superclass "java/lang/Integer" "java/lang/Number") ∈ lw_all := lw_g (lw_at lw_m4 214 rfl) rfl
theorem q1359 : (Jvm.Cond.static ({ cls := "java/lang/Integer", name := "numberOfTrailingZeros", desc := "(I)I" } : Jvm.MethodName)) ∈ lw_all := lw_g (lw_at lw_m6 74 rfl) rfl
theorem q1360 : (Jvm.Cond.code ({ cls := "java/lang/Integer", name := "numberOfTrailingZeros", desc := "(I)I" } : Jvm.MethodName) prog_32_method_48_code (2 : Nat) (Option.some Jvm.ClassFile.FieldType.int)) ∈ lw_all := lw_g (lw_at lw_m6 75 rfl) rfl
theorem q1361 : (Jvm.Cond.constant "java/lang/Integer" (264 : Nat) (65536 : Int32)) ∈ lw_all := lw_g (lw_at lw_m6 76 rfl) rfl
theorem q1501 : (Jvm.Cond.static ({ cls := "java/lang/Integer", name := "stringSize", desc := "(I)I" } : Jvm.MethodName)) ∈ lw_all := lw_g (lw_at lw_m6 216 rfl) rfl
theorem q1502 : (Jvm.Cond.code ({ cls := "java/lang/Integer", name := "stringSize", desc := "(I)I" } : Jvm.MethodName) prog_32_method_13_code (4 : Nat) (Option.some Jvm.ClassFile.FieldType.int)) ∈ lw_all := lw_g (lw_at lw_m6 217 rfl) rfl
theorem q1504 : (Jvm.Cond.static ({ cls := "java/lang/Integer", name := "getChars", desc := "(II[B)I" } : Jvm.MethodName)) ∈ lw_all := lw_g (lw_at lw_m6 219 rfl) rfl
theorem q1505 : (Jvm.Cond.code ({ cls := "java/lang/Integer", name := "getChars", desc := "(II[B)I" } : Jvm.MethodName) prog_32_method_12_code (7 : Nat) (Option.some Jvm.ClassFile.FieldType.int)) ∈ lw_all := lw_g (lw_at lw_m6 220 rfl) rfl
theorem q1506 : (Jvm.Cond.fieldLink "java/lang/Integer" (83 : Nat) "java/lang/Integer" "DigitOnes" "[B") ∈ lw_all := lw_g (lw_at lw_m6 221 rfl) rfl
theorem q1507 : (Jvm.Cond.laysStatic "java/lang/Integer" "DigitOnes" "[B") ∈ lw_tbl := lw_at lw_m6 222 rfl
theorem q1508 : (Jvm.Cond.fieldLink "java/lang/Integer" (87 : Nat) "java/lang/Integer" "DigitTens" "[B") ∈ lw_all := lw_g (lw_at lw_m6 223 rfl) rfl
theorem q1509 : (Jvm.Cond.laysStatic "java/lang/Integer" "DigitTens" "[B") ∈ lw_tbl := lw_at lw_m6 224 rfl
theorem q2140 : (Jvm.Cond.castable "java/lang/Integer" "java/lang/Object") ∈ lw_tbl := lw_at lw_m9 135 rfl
theorem in_J19 : ∀ w ∈ wsJ190, w ∈ lw_all := lw_in wsJ190 [1017] (by decide +kernel) (by decide +kernel)
/-! java/lang/AbstractStringBuilder -/
set_option maxRecDepth 100000
def RJ20 : String := "java/lang/AbstractStringBuilder"
abbrev cJ20_init : ByteArray := prog_21_method_2_code
def yJ20_init : MethodName := ⟨RJ20, "<init>", "(I)V"⟩
def dkwJ20_init_1 : List UInt8 := [167, 0, 16, 42, 27, 184, 0, 26, 181, 0, 15, 42, 4, 181, 0, 22, 177]
abbrev dktJ20_init_1 : List UInt8 := dkwJ20_init_1 ++ []
def dkwJ20_init_0 : List UInt8 := [42, 183, 0, 3, 178, 0, 18, 153, 0, 18, 42, 27, 188, 8, 181, 0, 15, 42, 3, 181, 0, 22]
abbrev dktJ20_init_0 : List UInt8 := dkwJ20_init_0 ++ dktJ20_init_1
theorem dksJ20_init_0 : cJ20_init.data.toList.drop 0 = dktJ20_init_0 := by decide +kernel
theorem dksJ20_init_1 : cJ20_init.data.toList.drop 22 = dktJ20_init_1 := dk_seg dksJ20_init_0 22 rfl rfl
theorem dJ20_init_0 : decode cJ20_init 0 = .ok (.aload_n 0, 1) := dk_42 (dk_at dksJ20_init_0 0 rfl rfl)
theorem dJ20_init_1 : decode cJ20_init 1 = .ok (.invokespecial 3, 3) := dk_183 0 3 (dk_at dksJ20_init_0 1 rfl rfl)
theorem dJ20_init_4 : decode cJ20_init 4 = .ok (.getstatic 18, 3) := dk_178 0 18 (dk_at dksJ20_init_0 4 rfl rfl)
theorem dJ20_init_7 : decode cJ20_init 7 = .ok (.ifCond .eq 18, 3) := dk_153 0 18 (dk_at dksJ20_init_0 7 rfl rfl)
theorem dJ20_init_10 : decode cJ20_init 10 = .ok (.aload_n 0, 1) := dk_42 (dk_at dksJ20_init_0 10 rfl rfl)
theorem dJ20_init_11 : decode cJ20_init 11 = .ok (.iload_n 1, 1) := dk_27 (dk_at dksJ20_init_0 11 rfl rfl)
theorem dJ20_init_12 : decode cJ20_init 12 = .ok (.newarray .byte, 2) := dk_188_8 (dk_at dksJ20_init_0 12 rfl rfl)
theorem dJ20_init_14 : decode cJ20_init 14 = .ok (.putfield 15, 3) := dk_181 0 15 (dk_at dksJ20_init_0 14 rfl rfl)
theorem dJ20_init_17 : decode cJ20_init 17 = .ok (.aload_n 0, 1) := dk_42 (dk_at dksJ20_init_0 17 rfl rfl)
theorem dJ20_init_18 : decode cJ20_init 18 = .ok (.iconst 0, 1) := dk_3 (dk_at dksJ20_init_0 18 rfl rfl)
theorem dJ20_init_19 : decode cJ20_init 19 = .ok (.putfield 22, 3) := dk_181 0 22 (dk_at dksJ20_init_0 19 rfl rfl)
theorem dJ20_init_22 : decode cJ20_init 22 = .ok (.goto 16, 3) := dk_167 0 16 (dk_at dksJ20_init_1 0 rfl rfl)
theorem dJ20_init_25 : decode cJ20_init 25 = .ok (.aload_n 0, 1) := dk_42 (dk_at dksJ20_init_1 3 rfl rfl)
theorem dJ20_init_26 : decode cJ20_init 26 = .ok (.iload_n 1, 1) := dk_27 (dk_at dksJ20_init_1 4 rfl rfl)
theorem dJ20_init_27 : decode cJ20_init 27 = .ok (.invokestatic 26, 3) := dk_184 0 26 (dk_at dksJ20_init_1 5 rfl rfl)
theorem dJ20_init_30 : decode cJ20_init 30 = .ok (.putfield 15, 3) := dk_181 0 15 (dk_at dksJ20_init_1 8 rfl rfl)
theorem dJ20_init_33 : decode cJ20_init 33 = .ok (.aload_n 0, 1) := dk_42 (dk_at dksJ20_init_1 11 rfl rfl)
theorem dJ20_init_34 : decode cJ20_init 34 = .ok (.iconst 1, 1) := dk_4 (dk_at dksJ20_init_1 12 rfl rfl)
theorem dJ20_init_35 : decode cJ20_init 35 = .ok (.putfield 22, 3) := dk_181 0 22 (dk_at dksJ20_init_1 13 rfl rfl)
theorem dJ20_init_38 : decode cJ20_init 38 = .ok (.return_, 1) := dk_177 (dk_at dksJ20_init_1 16 rfl rfl)
abbrev cJ20_append : ByteArray := prog_21_method_31_code
def yJ20_append : MethodName := ⟨RJ20, "append", "(C)Ljava/lang/AbstractStringBuilder;"⟩
def dkwJ20_append_3 : List UInt8 := [181, 0, 79, 27, 184, 0, 197, 42, 176]
abbrev dktJ20_append_3 : List UInt8 := dkwJ20_append_3 ++ []
def dkwJ20_append_2 : List UInt8 := [182, 0, 83, 153, 0, 7, 42, 182, 0, 195, 42, 180, 0, 15, 42, 89, 180, 0, 79, 90, 4, 96]
abbrev dktJ20_append_2 : List UInt8 := dkwJ20_append_2 ++ dktJ20_append_3
def dkwJ20_append_1 : List UInt8 := [42, 180, 0, 15, 42, 89, 180, 0, 79, 90, 4, 96, 181, 0, 79, 27, 145, 84, 167, 0, 33, 42]
abbrev dktJ20_append_1 : List UInt8 := dkwJ20_append_1 ++ dktJ20_append_2
def dkwJ20_append_0 : List UInt8 := [42, 42, 180, 0, 79, 4, 96, 182, 0, 100, 42, 182, 0, 83, 153, 0, 31, 27, 184, 0, 191, 153, 0, 24]
abbrev dktJ20_append_0 : List UInt8 := dkwJ20_append_0 ++ dktJ20_append_1
theorem dksJ20_append_0 : cJ20_append.data.toList.drop 0 = dktJ20_append_0 := by decide +kernel
theorem dksJ20_append_1 : cJ20_append.data.toList.drop 24 = dktJ20_append_1 := dk_seg dksJ20_append_0 24 rfl rfl
theorem dksJ20_append_2 : cJ20_append.data.toList.drop 46 = dktJ20_append_2 := dk_seg dksJ20_append_1 22 rfl rfl
theorem dksJ20_append_3 : cJ20_append.data.toList.drop 68 = dktJ20_append_3 := dk_seg dksJ20_append_2 22 rfl rfl
theorem dJ20_append_0 : decode cJ20_append 0 = .ok (.aload_n 0, 1) := dk_42 (dk_at dksJ20_append_0 0 rfl rfl)
theorem dJ20_append_1 : decode cJ20_append 1 = .ok (.aload_n 0, 1) := dk_42 (dk_at dksJ20_append_0 1 rfl rfl)
theorem dJ20_append_2 : decode cJ20_append 2 = .ok (.getfield 79, 3) := dk_180 0 79 (dk_at dksJ20_append_0 2 rfl rfl)
theorem dJ20_append_5 : decode cJ20_append 5 = .ok (.iconst 1, 1) := dk_4 (dk_at dksJ20_append_0 5 rfl rfl)
theorem dJ20_append_6 : decode cJ20_append 6 = .ok (.iadd, 1) := dk_96 (dk_at dksJ20_append_0 6 rfl rfl)
theorem dJ20_append_7 : decode cJ20_append 7 = .ok (.invokevirtual 100, 3) := dk_182 0 100 (dk_at dksJ20_append_0 7 rfl rfl)
theorem dJ20_append_10 : decode cJ20_append 10 = .ok (.aload_n 0, 1) := dk_42 (dk_at dksJ20_append_0 10 rfl rfl)
theorem dJ20_append_11 : decode cJ20_append 11 = .ok (.invokevirtual 83, 3) := dk_182 0 83 (dk_at dksJ20_append_0 11 rfl rfl)
theorem dJ20_append_14 : decode cJ20_append 14 = .ok (.ifCond .eq 31, 3) := dk_153 0 31 (dk_at dksJ20_append_0 14 rfl rfl)
theorem dJ20_append_17 : decode cJ20_append 17 = .ok (.iload_n 1, 1) := dk_27 (dk_at dksJ20_append_0 17 rfl rfl)
theorem dJ20_append_18 : decode cJ20_append 18 = .ok (.invokestatic 191, 3) := dk_184 0 191 (dk_at dksJ20_append_0 18 rfl rfl)
theorem dJ20_append_21 : decode cJ20_append 21 = .ok (.ifCond .eq 24, 3) := dk_153 0 24 (dk_at dksJ20_append_0 21 rfl rfl)
theorem dJ20_append_24 : decode cJ20_append 24 = .ok (.aload_n 0, 1) := dk_42 (dk_at dksJ20_append_1 0 rfl rfl)
theorem dJ20_append_25 : decode cJ20_append 25 = .ok (.getfield 15, 3) := dk_180 0 15 (dk_at dksJ20_append_1 1 rfl rfl)
theorem dJ20_append_28 : decode cJ20_append 28 = .ok (.aload_n 0, 1) := dk_42 (dk_at dksJ20_append_1 4 rfl rfl)
theorem dJ20_append_29 : decode cJ20_append 29 = .ok (.dup, 1) := dk_89 (dk_at dksJ20_append_1 5 rfl rfl)
theorem dJ20_append_30 : decode cJ20_append 30 = .ok (.getfield 79, 3) := dk_180 0 79 (dk_at dksJ20_append_1 6 rfl rfl)
theorem dJ20_append_33 : decode cJ20_append 33 = .ok (.dup_x1, 1) := dk_90 (dk_at dksJ20_append_1 9 rfl rfl)
theorem dJ20_append_34 : decode cJ20_append 34 = .ok (.iconst 1, 1) := dk_4 (dk_at dksJ20_append_1 10 rfl rfl)
theorem dJ20_append_35 : decode cJ20_append 35 = .ok (.iadd, 1) := dk_96 (dk_at dksJ20_append_1 11 rfl rfl)
theorem dJ20_append_36 : decode cJ20_append 36 = .ok (.putfield 79, 3) := dk_181 0 79 (dk_at dksJ20_append_1 12 rfl rfl)
theorem dJ20_append_39 : decode cJ20_append 39 = .ok (.iload_n 1, 1) := dk_27 (dk_at dksJ20_append_1 15 rfl rfl)
theorem dJ20_append_40 : decode cJ20_append 40 = .ok (.i2b, 1) := dk_145 (dk_at dksJ20_append_1 16 rfl rfl)
theorem dJ20_append_41 : decode cJ20_append 41 = .ok (.bastore, 1) := dk_84 (dk_at dksJ20_append_1 17 rfl rfl)
theorem dJ20_append_42 : decode cJ20_append 42 = .ok (.goto 33, 3) := dk_167 0 33 (dk_at dksJ20_append_1 18 rfl rfl)
theorem dJ20_append_45 : decode cJ20_append 45 = .ok (.aload_n 0, 1) := dk_42 (dk_at dksJ20_append_1 21 rfl rfl)
theorem dJ20_append_46 : decode cJ20_append 46 = .ok (.invokevirtual 83, 3) := dk_182 0 83 (dk_at dksJ20_append_2 0 rfl rfl)
theorem dJ20_append_49 : decode cJ20_append 49 = .ok (.ifCond .eq 7, 3) := dk_153 0 7 (dk_at dksJ20_append_2 3 rfl rfl)
theorem dJ20_append_52 : decode cJ20_append 52 = .ok (.aload_n 0, 1) := dk_42 (dk_at dksJ20_append_2 6 rfl rfl)
theorem dJ20_append_53 : decode cJ20_append 53 = .ok (.invokevirtual 195, 3) := dk_182 0 195 (dk_at dksJ20_append_2 7 rfl rfl)
theorem dJ20_append_56 : decode cJ20_append 56 = .ok (.aload_n 0, 1) := dk_42 (dk_at dksJ20_append_2 10 rfl rfl)
theorem dJ20_append_57 : decode cJ20_append 57 = .ok (.getfield 15, 3) := dk_180 0 15 (dk_at dksJ20_append_2 11 rfl rfl)
theorem dJ20_append_60 : decode cJ20_append 60 = .ok (.aload_n 0, 1) := dk_42 (dk_at dksJ20_append_2 14 rfl rfl)
theorem dJ20_append_61 : decode cJ20_append 61 = .ok (.dup, 1) := dk_89 (dk_at dksJ20_append_2 15 rfl rfl)
theorem dJ20_append_62 : decode cJ20_append 62 = .ok (.getfield 79, 3) := dk_180 0 79 (dk_at dksJ20_append_2 16 rfl rfl)
theorem dJ20_append_65 : decode cJ20_append 65 = .ok (.dup_x1, 1) := dk_90 (dk_at dksJ20_append_2 19 rfl rfl)
theorem dJ20_append_66 : decode cJ20_append 66 = .ok (.iconst 1, 1) := dk_4 (dk_at dksJ20_append_2 20 rfl rfl)
theorem dJ20_append_67 : decode cJ20_append 67 = .ok (.iadd, 1) := dk_96 (dk_at dksJ20_append_2 21 rfl rfl)
theorem dJ20_append_68 : decode cJ20_append 68 = .ok (.putfield 79, 3) := dk_181 0 79 (dk_at dksJ20_append_3 0 rfl rfl)
theorem dJ20_append_71 : decode cJ20_append 71 = .ok (.iload_n 1, 1) := dk_27 (dk_at dksJ20_append_3 3 rfl rfl)
theorem dJ20_append_72 : decode cJ20_append 72 = .ok (.invokestatic 197, 3) := dk_184 0 197 (dk_at dksJ20_append_3 4 rfl rfl)
theorem dJ20_append_75 : decode cJ20_append 75 = .ok (.aload_n 0, 1) := dk_42 (dk_at dksJ20_append_3 7 rfl rfl)
theorem dJ20_append_76 : decode cJ20_append 76 = .ok (.areturn, 1) := dk_176 (dk_at dksJ20_append_3 8 rfl rfl)
abbrev cJ20_ensureCapacityInternal : ByteArray := prog_21_method_9_code
def yJ20_ensureCapacityInternal : MethodName := ⟨RJ20, "ensureCapacityInternal", "(I)V"⟩
def dkwJ20_ensureCapacityInternal_1 : List UInt8 := [182, 0, 104, 42, 180, 0, 22, 120, 184, 0, 108, 181, 0, 15, 177]
abbrev dktJ20_ensureCapacityInternal_1 : List UInt8 := dkwJ20_ensureCapacityInternal_1 ++ []
def dkwJ20_ensureCapacityInternal_0 : List UInt8 := [42, 180, 0, 15, 190, 42, 180, 0, 22, 122, 61, 27, 28, 100, 158, 0, 24, 42, 42, 180, 0, 15, 42, 27]
abbrev dktJ20_ensureCapacityInternal_0 : List UInt8 := dkwJ20_ensureCapacityInternal_0 ++ dktJ20_ensureCapacityInternal_1
theorem dksJ20_ensureCapacityInternal_0 : cJ20_ensureCapacityInternal.data.toList.drop 0 = dktJ20_ensureCapacityInternal_0 := by decide +kernel
theorem dksJ20_ensureCapacityInternal_1 : cJ20_ensureCapacityInternal.data.toList.drop 24 = dktJ20_ensureCapacityInternal_1 := dk_seg dksJ20_ensureCapacityInternal_0 24 rfl rfl
theorem dJ20_ensureCapacityInternal_0 : decode cJ20_ensureCapacityInternal 0 = .ok (.aload_n 0, 1) := dk_42 (dk_at dksJ20_ensureCapacityInternal_0 0 rfl rfl)
theorem dJ20_ensureCapacityInternal_1 : decode cJ20_ensureCapacityInternal 1 = .ok (.getfield 15, 3) := dk_180 0 15 (dk_at dksJ20_ensureCapacityInternal_0 1 rfl rfl)
theorem dJ20_ensureCapacityInternal_4 : decode cJ20_ensureCapacityInternal 4 = .ok (.arraylength, 1) := dk_190 (dk_at dksJ20_ensureCapacityInternal_0 4 rfl rfl)
theorem dJ20_ensureCapacityInternal_5 : decode cJ20_ensureCapacityInternal 5 = .ok (.aload_n 0, 1) := dk_42 (dk_at dksJ20_ensureCapacityInternal_0 5 rfl rfl)
theorem dJ20_ensureCapacityInternal_6 : decode cJ20_ensureCapacityInternal 6 = .ok (.getfield 22, 3) := dk_180 0 22 (dk_at dksJ20_ensureCapacityInternal_0 6 rfl rfl)
theorem dJ20_ensureCapacityInternal_9 : decode cJ20_ensureCapacityInternal 9 = .ok (.ishr, 1) := dk_122 (dk_at dksJ20_ensureCapacityInternal_0 9 rfl rfl)
theorem dJ20_ensureCapacityInternal_10 : decode cJ20_ensureCapacityInternal 10 = .ok (.istore_n 2, 1) := dk_61 (dk_at dksJ20_ensureCapacityInternal_0 10 rfl rfl)
theorem dJ20_ensureCapacityInternal_11 : decode cJ20_ensureCapacityInternal 11 = .ok (.iload_n 1, 1) := dk_27 (dk_at dksJ20_ensureCapacityInternal_0 11 rfl rfl)
theorem dJ20_ensureCapacityInternal_12 : decode cJ20_ensureCapacityInternal 12 = .ok (.iload_n 2, 1) := dk_28 (dk_at dksJ20_ensureCapacityInternal_0 12 rfl rfl)
theorem dJ20_ensureCapacityInternal_13 : decode cJ20_ensureCapacityInternal 13 = .ok (.isub, 1) := dk_100 (dk_at dksJ20_ensureCapacityInternal_0 13 rfl rfl)
theorem dJ20_ensureCapacityInternal_14 : decode cJ20_ensureCapacityInternal 14 = .ok (.ifCond .le 24, 3) := dk_158 0 24 (dk_at dksJ20_ensureCapacityInternal_0 14 rfl rfl)
theorem dJ20_ensureCapacityInternal_17 : decode cJ20_ensureCapacityInternal 17 = .ok (.aload_n 0, 1) := dk_42 (dk_at dksJ20_ensureCapacityInternal_0 17 rfl rfl)
theorem dJ20_ensureCapacityInternal_18 : decode cJ20_ensureCapacityInternal 18 = .ok (.aload_n 0, 1) := dk_42 (dk_at dksJ20_ensureCapacityInternal_0 18 rfl rfl)
theorem dJ20_ensureCapacityInternal_19 : decode cJ20_ensureCapacityInternal 19 = .ok (.getfield 15, 3) := dk_180 0 15 (dk_at dksJ20_ensureCapacityInternal_0 19 rfl rfl)
theorem dJ20_ensureCapacityInternal_22 : decode cJ20_ensureCapacityInternal 22 = .ok (.aload_n 0, 1) := dk_42 (dk_at dksJ20_ensureCapacityInternal_0 22 rfl rfl)
theorem dJ20_ensureCapacityInternal_23 : decode cJ20_ensureCapacityInternal 23 = .ok (.iload_n 1, 1) := dk_27 (dk_at dksJ20_ensureCapacityInternal_0 23 rfl rfl)
theorem dJ20_ensureCapacityInternal_24 : decode cJ20_ensureCapacityInternal 24 = .ok (.invokevirtual 104, 3) := dk_182 0 104 (dk_at dksJ20_ensureCapacityInternal_1 0 rfl rfl)
theorem dJ20_ensureCapacityInternal_27 : decode cJ20_ensureCapacityInternal 27 = .ok (.aload_n 0, 1) := dk_42 (dk_at dksJ20_ensureCapacityInternal_1 3 rfl rfl)
theorem dJ20_ensureCapacityInternal_28 : decode cJ20_ensureCapacityInternal 28 = .ok (.getfield 22, 3) := dk_180 0 22 (dk_at dksJ20_ensureCapacityInternal_1 4 rfl rfl)
theorem dJ20_ensureCapacityInternal_31 : decode cJ20_ensureCapacityInternal 31 = .ok (.ishl, 1) := dk_120 (dk_at dksJ20_ensureCapacityInternal_1 7 rfl rfl)
theorem dJ20_ensureCapacityInternal_32 : decode cJ20_ensureCapacityInternal 32 = .ok (.invokestatic 108, 3) := dk_184 0 108 (dk_at dksJ20_ensureCapacityInternal_1 8 rfl rfl)
theorem dJ20_ensureCapacityInternal_35 : decode cJ20_ensureCapacityInternal 35 = .ok (.putfield 15, 3) := dk_181 0 15 (dk_at dksJ20_ensureCapacityInternal_1 11 rfl rfl)
theorem dJ20_ensureCapacityInternal_38 : decode cJ20_ensureCapacityInternal 38 = .ok (.return_, 1) := dk_177 (dk_at dksJ20_ensureCapacityInternal_1 14 rfl rfl)
abbrev cJ20_newCapacity : ByteArray := prog_21_method_10_code
def yJ20_newCapacity : MethodName := ⟨RJ20, "newCapacity", "(I)I"⟩
def dkwJ20_newCapacity_2 : List UInt8 := [183, 0, 124, 191, 21, 5, 42, 180, 0, 22, 122, 172]
abbrev dktJ20_newCapacity_2 : List UInt8 := dkwJ20_newCapacity_2 ++ []
def dkwJ20_newCapacity_1 : List UInt8 := [180, 0, 22, 120, 96, 184, 0, 114, 54, 5, 21, 5, 18, 39, 160, 0, 13, 187, 0, 120, 89, 18, 122]
abbrev dktJ20_newCapacity_1 : List UInt8 := dkwJ20_newCapacity_1 ++ dktJ20_newCapacity_2
def dkwJ20_newCapacity_0 : List UInt8 := [42, 180, 0, 15, 190, 61, 27, 42, 180, 0, 22, 120, 62, 29, 28, 100, 54, 4, 28, 21, 4, 28, 5, 42]
abbrev dktJ20_newCapacity_0 : List UInt8 := dkwJ20_newCapacity_0 ++ dktJ20_newCapacity_1
theorem dksJ20_newCapacity_0 : cJ20_newCapacity.data.toList.drop 0 = dktJ20_newCapacity_0 := by decide +kernel
theorem dksJ20_newCapacity_1 : cJ20_newCapacity.data.toList.drop 24 = dktJ20_newCapacity_1 := dk_seg dksJ20_newCapacity_0 24 rfl rfl
theorem dksJ20_newCapacity_2 : cJ20_newCapacity.data.toList.drop 47 = dktJ20_newCapacity_2 := dk_seg dksJ20_newCapacity_1 23 rfl rfl
theorem dJ20_newCapacity_0 : decode cJ20_newCapacity 0 = .ok (.aload_n 0, 1) := dk_42 (dk_at dksJ20_newCapacity_0 0 rfl rfl)
theorem dJ20_newCapacity_1 : decode cJ20_newCapacity 1 = .ok (.getfield 15, 3) := dk_180 0 15 (dk_at dksJ20_newCapacity_0 1 rfl rfl)
theorem dJ20_newCapacity_4 : decode cJ20_newCapacity 4 = .ok (.arraylength, 1) := dk_190 (dk_at dksJ20_newCapacity_0 4 rfl rfl)
theorem dJ20_newCapacity_5 : decode cJ20_newCapacity 5 = .ok (.istore_n 2, 1) := dk_61 (dk_at dksJ20_newCapacity_0 5 rfl rfl)
theorem dJ20_newCapacity_6 : decode cJ20_newCapacity 6 = .ok (.iload_n 1, 1) := dk_27 (dk_at dksJ20_newCapacity_0 6 rfl rfl)
theorem dJ20_newCapacity_7 : decode cJ20_newCapacity 7 = .ok (.aload_n 0, 1) := dk_42 (dk_at dksJ20_newCapacity_0 7 rfl rfl)
theorem dJ20_newCapacity_8 : decode cJ20_newCapacity 8 = .ok (.getfield 22, 3) := dk_180 0 22 (dk_at dksJ20_newCapacity_0 8 rfl rfl)
theorem dJ20_newCapacity_11 : decode cJ20_newCapacity 11 = .ok (.ishl, 1) := dk_120 (dk_at dksJ20_newCapacity_0 11 rfl rfl)
theorem dJ20_newCapacity_12 : decode cJ20_newCapacity 12 = .ok (.istore_n 3, 1) := dk_62 (dk_at dksJ20_newCapacity_0 12 rfl rfl)
theorem dJ20_newCapacity_13 : decode cJ20_newCapacity 13 = .ok (.iload_n 3, 1) := dk_29 (dk_at dksJ20_newCapacity_0 13 rfl rfl)
theorem dJ20_newCapacity_14 : decode cJ20_newCapacity 14 = .ok (.iload_n 2, 1) := dk_28 (dk_at dksJ20_newCapacity_0 14 rfl rfl)
theorem dJ20_newCapacity_15 : decode cJ20_newCapacity 15 = .ok (.isub, 1) := dk_100 (dk_at dksJ20_newCapacity_0 15 rfl rfl)
theorem dJ20_newCapacity_16 : decode cJ20_newCapacity 16 = .ok (.istore 4, 2) := dk_54 4 (dk_at dksJ20_newCapacity_0 16 rfl rfl)
theorem dJ20_newCapacity_18 : decode cJ20_newCapacity 18 = .ok (.iload_n 2, 1) := dk_28 (dk_at dksJ20_newCapacity_0 18 rfl rfl)
theorem dJ20_newCapacity_19 : decode cJ20_newCapacity 19 = .ok (.iload 4, 2) := dk_21 4 (dk_at dksJ20_newCapacity_0 19 rfl rfl)
theorem dJ20_newCapacity_21 : decode cJ20_newCapacity 21 = .ok (.iload_n 2, 1) := dk_28 (dk_at dksJ20_newCapacity_0 21 rfl rfl)
theorem dJ20_newCapacity_22 : decode cJ20_newCapacity 22 = .ok (.iconst 2, 1) := dk_5 (dk_at dksJ20_newCapacity_0 22 rfl rfl)
theorem dJ20_newCapacity_23 : decode cJ20_newCapacity 23 = .ok (.aload_n 0, 1) := dk_42 (dk_at dksJ20_newCapacity_0 23 rfl rfl)
theorem dJ20_newCapacity_24 : decode cJ20_newCapacity 24 = .ok (.getfield 22, 3) := dk_180 0 22 (dk_at dksJ20_newCapacity_1 0 rfl rfl)
theorem dJ20_newCapacity_27 : decode cJ20_newCapacity 27 = .ok (.ishl, 1) := dk_120 (dk_at dksJ20_newCapacity_1 3 rfl rfl)
theorem dJ20_newCapacity_28 : decode cJ20_newCapacity 28 = .ok (.iadd, 1) := dk_96 (dk_at dksJ20_newCapacity_1 4 rfl rfl)
theorem dJ20_newCapacity_29 : decode cJ20_newCapacity 29 = .ok (.invokestatic 114, 3) := dk_184 0 114 (dk_at dksJ20_newCapacity_1 5 rfl rfl)
theorem dJ20_newCapacity_32 : decode cJ20_newCapacity 32 = .ok (.istore 5, 2) := dk_54 5 (dk_at dksJ20_newCapacity_1 8 rfl rfl)
theorem dJ20_newCapacity_34 : decode cJ20_newCapacity 34 = .ok (.iload 5, 2) := dk_21 5 (dk_at dksJ20_newCapacity_1 10 rfl rfl)
theorem dJ20_newCapacity_36 : decode cJ20_newCapacity 36 = .ok (.ldc 39, 2) := dk_18 39 (dk_at dksJ20_newCapacity_1 12 rfl rfl)
theorem dJ20_newCapacity_38 : decode cJ20_newCapacity 38 = .ok (.if_icmp .ne 13, 3) := dk_160 0 13 (dk_at dksJ20_newCapacity_1 14 rfl rfl)
theorem dJ20_newCapacity_41 : decode cJ20_newCapacity 41 = .ok (.new 120, 3) := dk_187 0 120 (dk_at dksJ20_newCapacity_1 17 rfl rfl)
theorem dJ20_newCapacity_44 : decode cJ20_newCapacity 44 = .ok (.dup, 1) := dk_89 (dk_at dksJ20_newCapacity_1 20 rfl rfl)
theorem dJ20_newCapacity_45 : decode cJ20_newCapacity 45 = .ok (.ldc 122, 2) := dk_18 122 (dk_at dksJ20_newCapacity_1 21 rfl rfl)
theorem dJ20_newCapacity_47 : decode cJ20_newCapacity 47 = .ok (.invokespecial 124, 3) := dk_183 0 124 (dk_at dksJ20_newCapacity_2 0 rfl rfl)
theorem dJ20_newCapacity_50 : decode cJ20_newCapacity 50 = .ok (.athrow, 1) := dk_191 (dk_at dksJ20_newCapacity_2 3 rfl rfl)
theorem dJ20_newCapacity_51 : decode cJ20_newCapacity 51 = .ok (.iload 5, 2) := dk_21 5 (dk_at dksJ20_newCapacity_2 4 rfl rfl)
theorem dJ20_newCapacity_53 : decode cJ20_newCapacity 53 = .ok (.aload_n 0, 1) := dk_42 (dk_at dksJ20_newCapacity_2 6 rfl rfl)
theorem dJ20_newCapacity_54 : decode cJ20_newCapacity 54 = .ok (.getfield 22, 3) := dk_180 0 22 (dk_at dksJ20_newCapacity_2 7 rfl rfl)
theorem dJ20_newCapacity_57 : decode cJ20_newCapacity 57 = .ok (.ishr, 1) := dk_122 (dk_at dksJ20_newCapacity_2 10 rfl rfl)
theorem dJ20_newCapacity_58 : decode cJ20_newCapacity 58 = .ok (.ireturn, 1) := dk_172 (dk_at dksJ20_newCapacity_2 11 rfl rfl)
abbrev cJ20_isLatin1 : ByteArray := prog_21_method_68_code
def yJ20_isLatin1 : MethodName := ⟨RJ20, "isLatin1", "()Z"⟩
def dkwJ20_isLatin1_0 : List UInt8 := [178, 0, 18, 153, 0, 14, 42, 180, 0, 22, 154, 0, 7, 4, 167, 0, 4, 3, 172]
abbrev dktJ20_isLatin1_0 : List UInt8 := dkwJ20_isLatin1_0 ++ []
theorem dksJ20_isLatin1_0 : cJ20_isLatin1.data.toList.drop 0 = dktJ20_isLatin1_0 := by decide +kernel
theorem dJ20_isLatin1_0 : decode cJ20_isLatin1 0 = .ok (.getstatic 18, 3) := dk_178 0 18 (dk_at dksJ20_isLatin1_0 0 rfl rfl)
theorem dJ20_isLatin1_3 : decode cJ20_isLatin1 3 = .ok (.ifCond .eq 14, 3) := dk_153 0 14 (dk_at dksJ20_isLatin1_0 3 rfl rfl)
theorem dJ20_isLatin1_6 : decode cJ20_isLatin1 6 = .ok (.aload_n 0, 1) := dk_42 (dk_at dksJ20_isLatin1_0 6 rfl rfl)
theorem dJ20_isLatin1_7 : decode cJ20_isLatin1 7 = .ok (.getfield 22, 3) := dk_180 0 22 (dk_at dksJ20_isLatin1_0 7 rfl rfl)
theorem dJ20_isLatin1_10 : decode cJ20_isLatin1 10 = .ok (.ifCond .ne 7, 3) := dk_154 0 7 (dk_at dksJ20_isLatin1_0 10 rfl rfl)
theorem dJ20_isLatin1_13 : decode cJ20_isLatin1 13 = .ok (.iconst 1, 1) := dk_4 (dk_at dksJ20_isLatin1_0 13 rfl rfl)
theorem dJ20_isLatin1_14 : decode cJ20_isLatin1 14 = .ok (.goto 4, 3) := dk_167 0 4 (dk_at dksJ20_isLatin1_0 14 rfl rfl)
theorem dJ20_isLatin1_17 : decode cJ20_isLatin1 17 = .ok (.iconst 0, 1) := dk_3 (dk_at dksJ20_isLatin1_0 17 rfl rfl)
theorem dJ20_isLatin1_18 : decode cJ20_isLatin1 18 = .ok (.ireturn, 1) := dk_172 (dk_at dksJ20_isLatin1_0 18 rfl rfl)
abbrev cJ20_inflate : ByteArray := prog_21_method_11_code
def yJ20_inflate : MethodName := ⟨RJ20, "inflate", "()V"⟩
def dkwJ20_inflate_1 : List UInt8 := [42, 180, 0, 79, 184, 0, 125, 42, 43, 181, 0, 15, 42, 4, 181, 0, 22, 177]
abbrev dktJ20_inflate_1 : List UInt8 := dkwJ20_inflate_1 ++ []
def dkwJ20_inflate_0 : List UInt8 := [42, 182, 0, 83, 154, 0, 4, 177, 42, 180, 0, 15, 190, 184, 0, 26, 76, 42, 180, 0, 15, 3, 43, 3]
abbrev dktJ20_inflate_0 : List UInt8 := dkwJ20_inflate_0 ++ dktJ20_inflate_1
theorem dksJ20_inflate_0 : cJ20_inflate.data.toList.drop 0 = dktJ20_inflate_0 := by decide +kernel
theorem dksJ20_inflate_1 : cJ20_inflate.data.toList.drop 24 = dktJ20_inflate_1 := dk_seg dksJ20_inflate_0 24 rfl rfl
theorem dJ20_inflate_0 : decode cJ20_inflate 0 = .ok (.aload_n 0, 1) := dk_42 (dk_at dksJ20_inflate_0 0 rfl rfl)
theorem dJ20_inflate_1 : decode cJ20_inflate 1 = .ok (.invokevirtual 83, 3) := dk_182 0 83 (dk_at dksJ20_inflate_0 1 rfl rfl)
theorem dJ20_inflate_4 : decode cJ20_inflate 4 = .ok (.ifCond .ne 4, 3) := dk_154 0 4 (dk_at dksJ20_inflate_0 4 rfl rfl)
theorem dJ20_inflate_7 : decode cJ20_inflate 7 = .ok (.return_, 1) := dk_177 (dk_at dksJ20_inflate_0 7 rfl rfl)
theorem dJ20_inflate_8 : decode cJ20_inflate 8 = .ok (.aload_n 0, 1) := dk_42 (dk_at dksJ20_inflate_0 8 rfl rfl)
theorem dJ20_inflate_9 : decode cJ20_inflate 9 = .ok (.getfield 15, 3) := dk_180 0 15 (dk_at dksJ20_inflate_0 9 rfl rfl)
theorem dJ20_inflate_12 : decode cJ20_inflate 12 = .ok (.arraylength, 1) := dk_190 (dk_at dksJ20_inflate_0 12 rfl rfl)
theorem dJ20_inflate_13 : decode cJ20_inflate 13 = .ok (.invokestatic 26, 3) := dk_184 0 26 (dk_at dksJ20_inflate_0 13 rfl rfl)
theorem dJ20_inflate_16 : decode cJ20_inflate 16 = .ok (.astore_n 1, 1) := dk_76 (dk_at dksJ20_inflate_0 16 rfl rfl)
theorem dJ20_inflate_17 : decode cJ20_inflate 17 = .ok (.aload_n 0, 1) := dk_42 (dk_at dksJ20_inflate_0 17 rfl rfl)
theorem dJ20_inflate_18 : decode cJ20_inflate 18 = .ok (.getfield 15, 3) := dk_180 0 15 (dk_at dksJ20_inflate_0 18 rfl rfl)
theorem dJ20_inflate_21 : decode cJ20_inflate 21 = .ok (.iconst 0, 1) := dk_3 (dk_at dksJ20_inflate_0 21 rfl rfl)
theorem dJ20_inflate_22 : decode cJ20_inflate 22 = .ok (.aload_n 1, 1) := dk_43 (dk_at dksJ20_inflate_0 22 rfl rfl)
theorem dJ20_inflate_23 : decode cJ20_inflate 23 = .ok (.iconst 0, 1) := dk_3 (dk_at dksJ20_inflate_0 23 rfl rfl)
theorem dJ20_inflate_24 : decode cJ20_inflate 24 = .ok (.aload_n 0, 1) := dk_42 (dk_at dksJ20_inflate_1 0 rfl rfl)
theorem dJ20_inflate_25 : decode cJ20_inflate 25 = .ok (.getfield 79, 3) := dk_180 0 79 (dk_at dksJ20_inflate_1 1 rfl rfl)
theorem dJ20_inflate_28 : decode cJ20_inflate 28 = .ok (.invokestatic 125, 3) := dk_184 0 125 (dk_at dksJ20_inflate_1 4 rfl rfl)
theorem dJ20_inflate_31 : decode cJ20_inflate 31 = .ok (.aload_n 0, 1) := dk_42 (dk_at dksJ20_inflate_1 7 rfl rfl)
theorem dJ20_inflate_32 : decode cJ20_inflate 32 = .ok (.aload_n 1, 1) := dk_43 (dk_at dksJ20_inflate_1 8 rfl rfl)
theorem dJ20_inflate_33 : decode cJ20_inflate 33 = .ok (.putfield 15, 3) := dk_181 0 15 (dk_at dksJ20_inflate_1 9 rfl rfl)
theorem dJ20_inflate_36 : decode cJ20_inflate 36 = .ok (.aload_n 0, 1) := dk_42 (dk_at dksJ20_inflate_1 12 rfl rfl)
theorem dJ20_inflate_37 : decode cJ20_inflate 37 = .ok (.iconst 1, 1) := dk_4 (dk_at dksJ20_inflate_1 13 rfl rfl)
theorem dJ20_inflate_38 : decode cJ20_inflate 38 = .ok (.putfield 22, 3) := dk_181 0 22 (dk_at dksJ20_inflate_1 14 rfl rfl)
theorem dJ20_inflate_41 : decode cJ20_inflate 41 = .ok (.return_, 1) := dk_177 (dk_at dksJ20_inflate_1 17 rfl rfl)
abbrev cJ20_getValue : ByteArray := prog_21_method_64_code
def yJ20_getValue : MethodName := ⟨RJ20, "getValue", "()[B"⟩
theorem dJ20_getValue_0 : decode cJ20_getValue 0 = .ok (.aload_n 0, 1) := by decide +kernel
theorem dJ20_getValue_1 : decode cJ20_getValue 1 = .ok (.getfield 15, 3) := by decide +kernel
theorem dJ20_getValue_4 : decode cJ20_getValue 4 = .ok (.areturn, 1) := by decide +kernel
abbrev cJ20_length : ByteArray := prog_21_method_6_code
def yJ20_length : MethodName := ⟨RJ20, "length", "()I"⟩
theorem dJ20_length_0 : decode cJ20_length 0 = .ok (.aload_n 0, 1) := by decide +kernel
theorem dJ20_length_1 : decode cJ20_length 1 = .ok (.getfield 79, 3) := by decide +kernel
theorem dJ20_length_4 : decode cJ20_length 4 = .ok (.ireturn, 1) := by decide +kernel
abbrev cJ20_append_2 : ByteArray := prog_21_method_32_code
def yJ20_append_2 : MethodName := ⟨RJ20, "append", "(I)Ljava/lang/AbstractStringBuilder;"⟩
def dkwJ20_append_2_2 : List UInt8 := [42, 29, 181, 0, 79, 42, 176]
abbrev dktJ20_append_2_2 : List UInt8 := dkwJ20_append_2_2 ++ []
def dkwJ20_append_2_1 : List UInt8 := [27, 29, 42, 180, 0, 15, 184, 0, 248, 87, 167, 0, 14, 27, 28, 29, 42, 180, 0, 15, 184, 0, 251, 87]
abbrev dktJ20_append_2_1 : List UInt8 := dkwJ20_append_2_1 ++ dktJ20_append_2_2
def dkwJ20_append_2_0 : List UInt8 := [42, 180, 0, 79, 61, 28, 27, 184, 0, 245, 96, 62, 42, 29, 182, 0, 100, 42, 182, 0, 83, 153, 0, 16]
abbrev dktJ20_append_2_0 : List UInt8 := dkwJ20_append_2_0 ++ dktJ20_append_2_1
theorem dksJ20_append_2_0 : cJ20_append_2.data.toList.drop 0 = dktJ20_append_2_0 := by decide +kernel
theorem dksJ20_append_2_1 : cJ20_append_2.data.toList.drop 24 = dktJ20_append_2_1 := dk_seg dksJ20_append_2_0 24 rfl rfl
theorem dksJ20_append_2_2 : cJ20_append_2.data.toList.drop 48 = dktJ20_append_2_2 := dk_seg dksJ20_append_2_1 24 rfl rfl
theorem dJ20_append_2_0 : decode cJ20_append_2 0 = .ok (.aload_n 0, 1) := dk_42 (dk_at dksJ20_append_2_0 0 rfl rfl)
theorem dJ20_append_2_1 : decode cJ20_append_2 1 = .ok (.getfield 79, 3) := dk_180 0 79 (dk_at dksJ20_append_2_0 1 rfl rfl)
theorem dJ20_append_2_4 : decode cJ20_append_2 4 = .ok (.istore_n 2, 1) := dk_61 (dk_at dksJ20_append_2_0 4 rfl rfl)
theorem dJ20_append_2_5 : decode cJ20_append_2 5 = .ok (.iload_n 2, 1) := dk_28 (dk_at dksJ20_append_2_0 5 rfl rfl)
theorem dJ20_append_2_6 : decode cJ20_append_2 6 = .ok (.iload_n 1, 1) := dk_27 (dk_at dksJ20_append_2_0 6 rfl rfl)
theorem dJ20_append_2_7 : decode cJ20_append_2 7 = .ok (.invokestatic 245, 3) := dk_184 0 245 (dk_at dksJ20_append_2_0 7 rfl rfl)
theorem dJ20_append_2_10 : decode cJ20_append_2 10 = .ok (.iadd, 1) := dk_96 (dk_at dksJ20_append_2_0 10 rfl rfl)
theorem dJ20_append_2_11 : decode cJ20_append_2 11 = .ok (.istore_n 3, 1) := dk_62 (dk_at dksJ20_append_2_0 11 rfl rfl)
theorem dJ20_append_2_12 : decode cJ20_append_2 12 = .ok (.aload_n 0, 1) := dk_42 (dk_at dksJ20_append_2_0 12 rfl rfl)
theorem dJ20_append_2_13 : decode cJ20_append_2 13 = .ok (.iload_n 3, 1) := dk_29 (dk_at dksJ20_append_2_0 13 rfl rfl)
theorem dJ20_append_2_14 : decode cJ20_append_2 14 = .ok (.invokevirtual 100, 3) := dk_182 0 100 (dk_at dksJ20_append_2_0 14 rfl rfl)
theorem dJ20_append_2_17 : decode cJ20_append_2 17 = .ok (.aload_n 0, 1) := dk_42 (dk_at dksJ20_append_2_0 17 rfl rfl)
theorem dJ20_append_2_18 : decode cJ20_append_2 18 = .ok (.invokevirtual 83, 3) := dk_182 0 83 (dk_at dksJ20_append_2_0 18 rfl rfl)
theorem dJ20_append_2_21 : decode cJ20_append_2 21 = .ok (.ifCond .eq 16, 3) := dk_153 0 16 (dk_at dksJ20_append_2_0 21 rfl rfl)
theorem dJ20_append_2_24 : decode cJ20_append_2 24 = .ok (.iload_n 1, 1) := dk_27 (dk_at dksJ20_append_2_1 0 rfl rfl)
theorem dJ20_append_2_25 : decode cJ20_append_2 25 = .ok (.iload_n 3, 1) := dk_29 (dk_at dksJ20_append_2_1 1 rfl rfl)
theorem dJ20_append_2_26 : decode cJ20_append_2 26 = .ok (.aload_n 0, 1) := dk_42 (dk_at dksJ20_append_2_1 2 rfl rfl)
theorem dJ20_append_2_27 : decode cJ20_append_2 27 = .ok (.getfield 15, 3) := dk_180 0 15 (dk_at dksJ20_append_2_1 3 rfl rfl)
theorem dJ20_append_2_30 : decode cJ20_append_2 30 = .ok (.invokestatic 248, 3) := dk_184 0 248 (dk_at dksJ20_append_2_1 6 rfl rfl)
theorem dJ20_append_2_33 : decode cJ20_append_2 33 = .ok (.pop, 1) := dk_87 (dk_at dksJ20_append_2_1 9 rfl rfl)
theorem dJ20_append_2_34 : decode cJ20_append_2 34 = .ok (.goto 14, 3) := dk_167 0 14 (dk_at dksJ20_append_2_1 10 rfl rfl)
theorem dJ20_append_2_37 : decode cJ20_append_2 37 = .ok (.iload_n 1, 1) := dk_27 (dk_at dksJ20_append_2_1 13 rfl rfl)
theorem dJ20_append_2_38 : decode cJ20_append_2 38 = .ok (.iload_n 2, 1) := dk_28 (dk_at dksJ20_append_2_1 14 rfl rfl)
theorem dJ20_append_2_39 : decode cJ20_append_2 39 = .ok (.iload_n 3, 1) := dk_29 (dk_at dksJ20_append_2_1 15 rfl rfl)
theorem dJ20_append_2_40 : decode cJ20_append_2 40 = .ok (.aload_n 0, 1) := dk_42 (dk_at dksJ20_append_2_1 16 rfl rfl)
theorem dJ20_append_2_41 : decode cJ20_append_2 41 = .ok (.getfield 15, 3) := dk_180 0 15 (dk_at dksJ20_append_2_1 17 rfl rfl)
theorem dJ20_append_2_44 : decode cJ20_append_2 44 = .ok (.invokestatic 251, 3) := dk_184 0 251 (dk_at dksJ20_append_2_1 20 rfl rfl)
theorem dJ20_append_2_47 : decode cJ20_append_2 47 = .ok (.pop, 1) := dk_87 (dk_at dksJ20_append_2_1 23 rfl rfl)
theorem dJ20_append_2_48 : decode cJ20_append_2 48 = .ok (.aload_n 0, 1) := dk_42 (dk_at dksJ20_append_2_2 0 rfl rfl)
theorem dJ20_append_2_49 : decode cJ20_append_2 49 = .ok (.iload_n 3, 1) := dk_29 (dk_at dksJ20_append_2_2 1 rfl rfl)
theorem dJ20_append_2_50 : decode cJ20_append_2 50 = .ok (.putfield 79, 3) := dk_181 0 79 (dk_at dksJ20_append_2_2 2 rfl rfl)
theorem dJ20_append_2_53 : decode cJ20_append_2 53 = .ok (.aload_n 0, 1) := dk_42 (dk_at dksJ20_append_2_2 5 rfl rfl)
theorem dJ20_append_2_54 : decode cJ20_append_2 54 = .ok (.areturn, 1) := dk_176 (dk_at dksJ20_append_2_2 6 rfl rfl)
abbrev cJ20_append_3 : ByteArray := prog_21_method_22_code
def yJ20_append_3 : MethodName := ⟨RJ20, "append", "(Ljava/lang/String;)Ljava/lang/AbstractStringBuilder;"⟩
def dkwJ20_append_3_1 : List UInt8 := [42, 42, 180, 0, 79, 43, 182, 0, 208, 42, 89, 180, 0, 79, 28, 96, 181, 0, 79, 42, 176]
abbrev dktJ20_append_3_1 : List UInt8 := dkwJ20_append_3_1 ++ []
def dkwJ20_append_3_0 : List UInt8 := [43, 199, 0, 8, 42, 182, 0, 204, 176, 43, 182, 0, 32, 61, 42, 42, 180, 0, 79, 28, 96, 182, 0, 100]
abbrev dktJ20_append_3_0 : List UInt8 := dkwJ20_append_3_0 ++ dktJ20_append_3_1
theorem dksJ20_append_3_0 : cJ20_append_3.data.toList.drop 0 = dktJ20_append_3_0 := by decide +kernel
theorem dksJ20_append_3_1 : cJ20_append_3.data.toList.drop 24 = dktJ20_append_3_1 := dk_seg dksJ20_append_3_0 24 rfl rfl
theorem dJ20_append_3_0 : decode cJ20_append_3 0 = .ok (.aload_n 1, 1) := dk_43 (dk_at dksJ20_append_3_0 0 rfl rfl)
theorem dJ20_append_3_1 : decode cJ20_append_3 1 = .ok (.ifnonnull 8, 3) := dk_199 0 8 (dk_at dksJ20_append_3_0 1 rfl rfl)
theorem dJ20_append_3_4 : decode cJ20_append_3 4 = .ok (.aload_n 0, 1) := dk_42 (dk_at dksJ20_append_3_0 4 rfl rfl)
theorem dJ20_append_3_5 : decode cJ20_append_3 5 = .ok (.invokevirtual 204, 3) := dk_182 0 204 (dk_at dksJ20_append_3_0 5 rfl rfl)
theorem dJ20_append_3_8 : decode cJ20_append_3 8 = .ok (.areturn, 1) := dk_176 (dk_at dksJ20_append_3_0 8 rfl rfl)
theorem dJ20_append_3_9 : decode cJ20_append_3 9 = .ok (.aload_n 1, 1) := dk_43 (dk_at dksJ20_append_3_0 9 rfl rfl)
theorem dJ20_append_3_10 : decode cJ20_append_3 10 = .ok (.invokevirtual 32, 3) := dk_182 0 32 (dk_at dksJ20_append_3_0 10 rfl rfl)
theorem dJ20_append_3_13 : decode cJ20_append_3 13 = .ok (.istore_n 2, 1) := dk_61 (dk_at dksJ20_append_3_0 13 rfl rfl)
theorem dJ20_append_3_14 : decode cJ20_append_3 14 = .ok (.aload_n 0, 1) := dk_42 (dk_at dksJ20_append_3_0 14 rfl rfl)
theorem dJ20_append_3_15 : decode cJ20_append_3 15 = .ok (.aload_n 0, 1) := dk_42 (dk_at dksJ20_append_3_0 15 rfl rfl)
theorem dJ20_append_3_16 : decode cJ20_append_3 16 = .ok (.getfield 79, 3) := dk_180 0 79 (dk_at dksJ20_append_3_0 16 rfl rfl)
theorem dJ20_append_3_19 : decode cJ20_append_3 19 = .ok (.iload_n 2, 1) := dk_28 (dk_at dksJ20_append_3_0 19 rfl rfl)
theorem dJ20_append_3_20 : decode cJ20_append_3 20 = .ok (.iadd, 1) := dk_96 (dk_at dksJ20_append_3_0 20 rfl rfl)
theorem dJ20_append_3_21 : decode cJ20_append_3 21 = .ok (.invokevirtual 100, 3) := dk_182 0 100 (dk_at dksJ20_append_3_0 21 rfl rfl)
theorem dJ20_append_3_24 : decode cJ20_append_3 24 = .ok (.aload_n 0, 1) := dk_42 (dk_at dksJ20_append_3_1 0 rfl rfl)
theorem dJ20_append_3_25 : decode cJ20_append_3 25 = .ok (.aload_n 0, 1) := dk_42 (dk_at dksJ20_append_3_1 1 rfl rfl)
theorem dJ20_append_3_26 : decode cJ20_append_3 26 = .ok (.getfield 79, 3) := dk_180 0 79 (dk_at dksJ20_append_3_1 2 rfl rfl)
theorem dJ20_append_3_29 : decode cJ20_append_3 29 = .ok (.aload_n 1, 1) := dk_43 (dk_at dksJ20_append_3_1 5 rfl rfl)
theorem dJ20_append_3_30 : decode cJ20_append_3 30 = .ok (.invokevirtual 208, 3) := dk_182 0 208 (dk_at dksJ20_append_3_1 6 rfl rfl)
theorem dJ20_append_3_33 : decode cJ20_append_3 33 = .ok (.aload_n 0, 1) := dk_42 (dk_at dksJ20_append_3_1 9 rfl rfl)
theorem dJ20_append_3_34 : decode cJ20_append_3 34 = .ok (.dup, 1) := dk_89 (dk_at dksJ20_append_3_1 10 rfl rfl)
theorem dJ20_append_3_35 : decode cJ20_append_3 35 = .ok (.getfield 79, 3) := dk_180 0 79 (dk_at dksJ20_append_3_1 11 rfl rfl)
theorem dJ20_append_3_38 : decode cJ20_append_3 38 = .ok (.iload_n 2, 1) := dk_28 (dk_at dksJ20_append_3_1 14 rfl rfl)
theorem dJ20_append_3_39 : decode cJ20_append_3 39 = .ok (.iadd, 1) := dk_96 (dk_at dksJ20_append_3_1 15 rfl rfl)
theorem dJ20_append_3_40 : decode cJ20_append_3 40 = .ok (.putfield 79, 3) := dk_181 0 79 (dk_at dksJ20_append_3_1 16 rfl rfl)
theorem dJ20_append_3_43 : decode cJ20_append_3 43 = .ok (.aload_n 0, 1) := dk_42 (dk_at dksJ20_append_3_1 19 rfl rfl)
theorem dJ20_append_3_44 : decode cJ20_append_3 44 = .ok (.areturn, 1) := dk_176 (dk_at dksJ20_append_3_1 20 rfl rfl)
abbrev cJ20_appendNull : ByteArray := prog_21_method_26_code
def yJ20_appendNull : MethodName := ⟨RJ20, "appendNull", "()Ljava/lang/AbstractStringBuilder;"⟩
def dkwJ20_appendNull_3 : List UInt8 := [184, 0, 226, 60, 42, 27, 181, 0, 79, 42, 176]
abbrev dktJ20_appendNull_3 : List UInt8 := dkwJ20_appendNull_3 ++ []
def dkwJ20_appendNull_2 : List UInt8 := [16, 108, 84, 44, 27, 132, 1, 1, 16, 108, 84, 167, 0, 17, 44, 27, 16, 110, 16, 117, 16, 108, 16, 108]
abbrev dktJ20_appendNull_2 : List UInt8 := dkwJ20_appendNull_2 ++ dktJ20_appendNull_3
def dkwJ20_appendNull_1 : List UInt8 := [153, 0, 38, 44, 27, 132, 1, 1, 16, 110, 84, 44, 27, 132, 1, 1, 16, 117, 84, 44, 27, 132, 1, 1]
abbrev dktJ20_appendNull_1 : List UInt8 := dkwJ20_appendNull_1 ++ dktJ20_appendNull_2
def dkwJ20_appendNull_0 : List UInt8 := [42, 42, 180, 0, 79, 7, 96, 182, 0, 100, 42, 180, 0, 79, 60, 42, 180, 0, 15, 77, 42, 182, 0, 83]
abbrev dktJ20_appendNull_0 : List UInt8 := dkwJ20_appendNull_0 ++ dktJ20_appendNull_1
theorem dksJ20_appendNull_0 : cJ20_appendNull.data.toList.drop 0 = dktJ20_appendNull_0 := by decide +kernel
theorem dksJ20_appendNull_1 : cJ20_appendNull.data.toList.drop 24 = dktJ20_appendNull_1 := dk_seg dksJ20_appendNull_0 24 rfl rfl
theorem dksJ20_appendNull_2 : cJ20_appendNull.data.toList.drop 48 = dktJ20_appendNull_2 := dk_seg dksJ20_appendNull_1 24 rfl rfl
theorem dksJ20_appendNull_3 : cJ20_appendNull.data.toList.drop 72 = dktJ20_appendNull_3 := dk_seg dksJ20_appendNull_2 24 rfl rfl
theorem dJ20_appendNull_0 : decode cJ20_appendNull 0 = .ok (.aload_n 0, 1) := dk_42 (dk_at dksJ20_appendNull_0 0 rfl rfl)
theorem dJ20_appendNull_1 : decode cJ20_appendNull 1 = .ok (.aload_n 0, 1) := dk_42 (dk_at dksJ20_appendNull_0 1 rfl rfl)
theorem dJ20_appendNull_2 : decode cJ20_appendNull 2 = .ok (.getfield 79, 3) := dk_180 0 79 (dk_at dksJ20_appendNull_0 2 rfl rfl)
theorem dJ20_appendNull_5 : decode cJ20_appendNull 5 = .ok (.iconst 4, 1) := dk_7 (dk_at dksJ20_appendNull_0 5 rfl rfl)
theorem dJ20_appendNull_6 : decode cJ20_appendNull 6 = .ok (.iadd, 1) := dk_96 (dk_at dksJ20_appendNull_0 6 rfl rfl)
theorem dJ20_appendNull_7 : decode cJ20_appendNull 7 = .ok (.invokevirtual 100, 3) := dk_182 0 100 (dk_at dksJ20_appendNull_0 7 rfl rfl)
theorem dJ20_appendNull_10 : decode cJ20_appendNull 10 = .ok (.aload_n 0, 1) := dk_42 (dk_at dksJ20_appendNull_0 10 rfl rfl)
theorem dJ20_appendNull_11 : decode cJ20_appendNull 11 = .ok (.getfield 79, 3) := dk_180 0 79 (dk_at dksJ20_appendNull_0 11 rfl rfl)
theorem dJ20_appendNull_14 : decode cJ20_appendNull 14 = .ok (.istore_n 1, 1) := dk_60 (dk_at dksJ20_appendNull_0 14 rfl rfl)
theorem dJ20_appendNull_15 : decode cJ20_appendNull 15 = .ok (.aload_n 0, 1) := dk_42 (dk_at dksJ20_appendNull_0 15 rfl rfl)
theorem dJ20_appendNull_16 : decode cJ20_appendNull 16 = .ok (.getfield 15, 3) := dk_180 0 15 (dk_at dksJ20_appendNull_0 16 rfl rfl)
theorem dJ20_appendNull_19 : decode cJ20_appendNull 19 = .ok (.astore_n 2, 1) := dk_77 (dk_at dksJ20_appendNull_0 19 rfl rfl)
theorem dJ20_appendNull_20 : decode cJ20_appendNull 20 = .ok (.aload_n 0, 1) := dk_42 (dk_at dksJ20_appendNull_0 20 rfl rfl)
theorem dJ20_appendNull_21 : decode cJ20_appendNull 21 = .ok (.invokevirtual 83, 3) := dk_182 0 83 (dk_at dksJ20_appendNull_0 21 rfl rfl)
theorem dJ20_appendNull_24 : decode cJ20_appendNull 24 = .ok (.ifCond .eq 38, 3) := dk_153 0 38 (dk_at dksJ20_appendNull_1 0 rfl rfl)
theorem dJ20_appendNull_27 : decode cJ20_appendNull 27 = .ok (.aload_n 2, 1) := dk_44 (dk_at dksJ20_appendNull_1 3 rfl rfl)
theorem dJ20_appendNull_28 : decode cJ20_appendNull 28 = .ok (.iload_n 1, 1) := dk_27 (dk_at dksJ20_appendNull_1 4 rfl rfl)
theorem dJ20_appendNull_29 : decode cJ20_appendNull 29 = .ok (.iinc 1 1, 3) := dk_132 1 1 (dk_at dksJ20_appendNull_1 5 rfl rfl)
theorem dJ20_appendNull_32 : decode cJ20_appendNull 32 = .ok (.bipush 110, 2) := dk_16 110 (dk_at dksJ20_appendNull_1 8 rfl rfl)
theorem dJ20_appendNull_34 : decode cJ20_appendNull 34 = .ok (.bastore, 1) := dk_84 (dk_at dksJ20_appendNull_1 10 rfl rfl)
theorem dJ20_appendNull_35 : decode cJ20_appendNull 35 = .ok (.aload_n 2, 1) := dk_44 (dk_at dksJ20_appendNull_1 11 rfl rfl)
theorem dJ20_appendNull_36 : decode cJ20_appendNull 36 = .ok (.iload_n 1, 1) := dk_27 (dk_at dksJ20_appendNull_1 12 rfl rfl)
theorem dJ20_appendNull_37 : decode cJ20_appendNull 37 = .ok (.iinc 1 1, 3) := dk_132 1 1 (dk_at dksJ20_appendNull_1 13 rfl rfl)
theorem dJ20_appendNull_40 : decode cJ20_appendNull 40 = .ok (.bipush 117, 2) := dk_16 117 (dk_at dksJ20_appendNull_1 16 rfl rfl)
theorem dJ20_appendNull_42 : decode cJ20_appendNull 42 = .ok (.bastore, 1) := dk_84 (dk_at dksJ20_appendNull_1 18 rfl rfl)
theorem dJ20_appendNull_43 : decode cJ20_appendNull 43 = .ok (.aload_n 2, 1) := dk_44 (dk_at dksJ20_appendNull_1 19 rfl rfl)
theorem dJ20_appendNull_44 : decode cJ20_appendNull 44 = .ok (.iload_n 1, 1) := dk_27 (dk_at dksJ20_appendNull_1 20 rfl rfl)
theorem dJ20_appendNull_45 : decode cJ20_appendNull 45 = .ok (.iinc 1 1, 3) := dk_132 1 1 (dk_at dksJ20_appendNull_1 21 rfl rfl)
theorem dJ20_appendNull_48 : decode cJ20_appendNull 48 = .ok (.bipush 108, 2) := dk_16 108 (dk_at dksJ20_appendNull_2 0 rfl rfl)
theorem dJ20_appendNull_50 : decode cJ20_appendNull 50 = .ok (.bastore, 1) := dk_84 (dk_at dksJ20_appendNull_2 2 rfl rfl)
theorem dJ20_appendNull_51 : decode cJ20_appendNull 51 = .ok (.aload_n 2, 1) := dk_44 (dk_at dksJ20_appendNull_2 3 rfl rfl)
theorem dJ20_appendNull_52 : decode cJ20_appendNull 52 = .ok (.iload_n 1, 1) := dk_27 (dk_at dksJ20_appendNull_2 4 rfl rfl)
theorem dJ20_appendNull_53 : decode cJ20_appendNull 53 = .ok (.iinc 1 1, 3) := dk_132 1 1 (dk_at dksJ20_appendNull_2 5 rfl rfl)
theorem dJ20_appendNull_56 : decode cJ20_appendNull 56 = .ok (.bipush 108, 2) := dk_16 108 (dk_at dksJ20_appendNull_2 8 rfl rfl)
theorem dJ20_appendNull_58 : decode cJ20_appendNull 58 = .ok (.bastore, 1) := dk_84 (dk_at dksJ20_appendNull_2 10 rfl rfl)
theorem dJ20_appendNull_59 : decode cJ20_appendNull 59 = .ok (.goto 17, 3) := dk_167 0 17 (dk_at dksJ20_appendNull_2 11 rfl rfl)
theorem dJ20_appendNull_62 : decode cJ20_appendNull 62 = .ok (.aload_n 2, 1) := dk_44 (dk_at dksJ20_appendNull_2 14 rfl rfl)
theorem dJ20_appendNull_63 : decode cJ20_appendNull 63 = .ok (.iload_n 1, 1) := dk_27 (dk_at dksJ20_appendNull_2 15 rfl rfl)
theorem dJ20_appendNull_64 : decode cJ20_appendNull 64 = .ok (.bipush 110, 2) := dk_16 110 (dk_at dksJ20_appendNull_2 16 rfl rfl)
theorem dJ20_appendNull_66 : decode cJ20_appendNull 66 = .ok (.bipush 117, 2) := dk_16 117 (dk_at dksJ20_appendNull_2 18 rfl rfl)
theorem dJ20_appendNull_68 : decode cJ20_appendNull 68 = .ok (.bipush 108, 2) := dk_16 108 (dk_at dksJ20_appendNull_2 20 rfl rfl)
theorem dJ20_appendNull_70 : decode cJ20_appendNull 70 = .ok (.bipush 108, 2) := dk_16 108 (dk_at dksJ20_appendNull_2 22 rfl rfl)
theorem dJ20_appendNull_72 : decode cJ20_appendNull 72 = .ok (.invokestatic 226, 3) := dk_184 0 226 (dk_at dksJ20_appendNull_3 0 rfl rfl)
theorem dJ20_appendNull_75 : decode cJ20_appendNull 75 = .ok (.istore_n 1, 1) := dk_60 (dk_at dksJ20_appendNull_3 3 rfl rfl)
theorem dJ20_appendNull_76 : decode cJ20_appendNull 76 = .ok (.aload_n 0, 1) := dk_42 (dk_at dksJ20_appendNull_3 4 rfl rfl)
theorem dJ20_appendNull_77 : decode cJ20_appendNull 77 = .ok (.iload_n 1, 1) := dk_27 (dk_at dksJ20_appendNull_3 5 rfl rfl)
theorem dJ20_appendNull_78 : decode cJ20_appendNull 78 = .ok (.putfield 79, 3) := dk_181 0 79 (dk_at dksJ20_appendNull_3 6 rfl rfl)
theorem dJ20_appendNull_81 : decode cJ20_appendNull 81 = .ok (.aload_n 0, 1) := dk_42 (dk_at dksJ20_appendNull_3 9 rfl rfl)
theorem dJ20_appendNull_82 : decode cJ20_appendNull 82 = .ok (.areturn, 1) := dk_176 (dk_at dksJ20_appendNull_3 10 rfl rfl)
abbrev cJ20_putStringAt : ByteArray := prog_21_method_73_code
def yJ20_putStringAt : MethodName := ⟨RJ20, "putStringAt", "(ILjava/lang/String;)V"⟩
def dkwJ20_putStringAt_0 : List UInt8 := [42, 44, 182, 1, 141, 44, 42, 180, 0, 15, 27, 42, 180, 0, 22, 182, 1, 143, 177]
abbrev dktJ20_putStringAt_0 : List UInt8 := dkwJ20_putStringAt_0 ++ []
theorem dksJ20_putStringAt_0 : cJ20_putStringAt.data.toList.drop 0 = dktJ20_putStringAt_0 := by decide +kernel
theorem dJ20_putStringAt_0 : decode cJ20_putStringAt 0 = .ok (.aload_n 0, 1) := dk_42 (dk_at dksJ20_putStringAt_0 0 rfl rfl)
theorem dJ20_putStringAt_1 : decode cJ20_putStringAt 1 = .ok (.aload_n 2, 1) := dk_44 (dk_at dksJ20_putStringAt_0 1 rfl rfl)
theorem dJ20_putStringAt_2 : decode cJ20_putStringAt 2 = .ok (.invokevirtual 397, 3) := dk_182 1 141 (dk_at dksJ20_putStringAt_0 2 rfl rfl)
theorem dJ20_putStringAt_5 : decode cJ20_putStringAt 5 = .ok (.aload_n 2, 1) := dk_44 (dk_at dksJ20_putStringAt_0 5 rfl rfl)
theorem dJ20_putStringAt_6 : decode cJ20_putStringAt 6 = .ok (.aload_n 0, 1) := dk_42 (dk_at dksJ20_putStringAt_0 6 rfl rfl)
theorem dJ20_putStringAt_7 : decode cJ20_putStringAt 7 = .ok (.getfield 15, 3) := dk_180 0 15 (dk_at dksJ20_putStringAt_0 7 rfl rfl)
theorem dJ20_putStringAt_10 : decode cJ20_putStringAt 10 = .ok (.iload_n 1, 1) := dk_27 (dk_at dksJ20_putStringAt_0 10 rfl rfl)
theorem dJ20_putStringAt_11 : decode cJ20_putStringAt 11 = .ok (.aload_n 0, 1) := dk_42 (dk_at dksJ20_putStringAt_0 11 rfl rfl)
theorem dJ20_putStringAt_12 : decode cJ20_putStringAt 12 = .ok (.getfield 22, 3) := dk_180 0 22 (dk_at dksJ20_putStringAt_0 12 rfl rfl)
theorem dJ20_putStringAt_15 : decode cJ20_putStringAt 15 = .ok (.invokevirtual 399, 3) := dk_182 1 143 (dk_at dksJ20_putStringAt_0 15 rfl rfl)
theorem dJ20_putStringAt_18 : decode cJ20_putStringAt 18 = .ok (.return_, 1) := dk_177 (dk_at dksJ20_putStringAt_0 18 rfl rfl)
abbrev cJ20_inflateIfNeededFor : ByteArray := prog_21_method_71_code
def yJ20_inflateIfNeededFor : MethodName := ⟨RJ20, "inflateIfNeededFor", "(Ljava/lang/String;)V"⟩
def dkwJ20_inflateIfNeededFor_0 : List UInt8 := [178, 0, 18, 153, 0, 18, 42, 180, 0, 22, 43, 182, 0, 40, 159, 0, 7, 42, 182, 0, 195, 177]
abbrev dktJ20_inflateIfNeededFor_0 : List UInt8 := dkwJ20_inflateIfNeededFor_0 ++ []
theorem dksJ20_inflateIfNeededFor_0 : cJ20_inflateIfNeededFor.data.toList.drop 0 = dktJ20_inflateIfNeededFor_0 := by decide +kernel
theorem dJ20_inflateIfNeededFor_0 : decode cJ20_inflateIfNeededFor 0 = .ok (.getstatic 18, 3) := dk_178 0 18 (dk_at dksJ20_inflateIfNeededFor_0 0 rfl rfl)
theorem dJ20_inflateIfNeededFor_3 : decode cJ20_inflateIfNeededFor 3 = .ok (.ifCond .eq 18, 3) := dk_153 0 18 (dk_at dksJ20_inflateIfNeededFor_0 3 rfl rfl)
theorem dJ20_inflateIfNeededFor_6 : decode cJ20_inflateIfNeededFor 6 = .ok (.aload_n 0, 1) := dk_42 (dk_at dksJ20_inflateIfNeededFor_0 6 rfl rfl)
theorem dJ20_inflateIfNeededFor_7 : decode cJ20_inflateIfNeededFor 7 = .ok (.getfield 22, 3) := dk_180 0 22 (dk_at dksJ20_inflateIfNeededFor_0 7 rfl rfl)
theorem dJ20_inflateIfNeededFor_10 : decode cJ20_inflateIfNeededFor 10 = .ok (.aload_n 1, 1) := dk_43 (dk_at dksJ20_inflateIfNeededFor_0 10 rfl rfl)
theorem dJ20_inflateIfNeededFor_11 : decode cJ20_inflateIfNeededFor 11 = .ok (.invokevirtual 40, 3) := dk_182 0 40 (dk_at dksJ20_inflateIfNeededFor_0 11 rfl rfl)
theorem dJ20_inflateIfNeededFor_14 : decode cJ20_inflateIfNeededFor 14 = .ok (.if_icmp .eq 7, 3) := dk_159 0 7 (dk_at dksJ20_inflateIfNeededFor_0 14 rfl rfl)
theorem dJ20_inflateIfNeededFor_17 : decode cJ20_inflateIfNeededFor 17 = .ok (.aload_n 0, 1) := dk_42 (dk_at dksJ20_inflateIfNeededFor_0 17 rfl rfl)
theorem dJ20_inflateIfNeededFor_18 : decode cJ20_inflateIfNeededFor 18 = .ok (.invokevirtual 195, 3) := dk_182 0 195 (dk_at dksJ20_inflateIfNeededFor_0 18 rfl rfl)
theorem dJ20_inflateIfNeededFor_21 : decode cJ20_inflateIfNeededFor 21 = .ok (.return_, 1) := dk_177 (dk_at dksJ20_inflateIfNeededFor_0 21 rfl rfl)
theorem q123 : (Jvm.Cond.initialized "java/lang/AbstractStringBuilder") ∈ lw_all := lw_g (lw_at lw_m1 38 rfl) rfl
theorem q1329 : (Jvm.Cond.instanceMethod ({ cls := "java/lang/AbstractStringBuilder", name := "<init>", desc := "(I)V" } : Jvm.MethodName)) ∈ lw_all := lw_g (lw_at lw_m6 44 rfl) rfl
theorem q1330 : (Jvm.Cond.code ({ cls := "java/lang/AbstractStringBuilder", name := "<init>", desc := "(I)V" } : Jvm.MethodName) prog_21_method_2_code (2 : Nat) (Option.none : Option Jvm.ClassFile.FieldType)) ∈ lw_all := lw_g (lw_at lw_m6 45 rfl) rfl
theorem q1331 : (Jvm.Cond.methodLink "java/lang/AbstractStringBuilder" (3 : Nat) ({ cls := "java/lang/Object", name := "<init>", desc := "()V" } : Jvm.MethodName)) ∈ lw_all := lw_g (lw_at lw_m6 46 rfl) rfl
theorem q1332 : (Jvm.Cond.fieldLink "java/lang/AbstractStringBuilder" (18 : Nat) "java/lang/String" "COMPACT_STRINGS" "Z") ∈ lw_all := lw_g (lw_at lw_m6 47 rfl) rfl
theorem q1334 : (Jvm.Cond.methodLink "java/lang/AbstractStringBuilder" (26 : Nat) ({ cls := "java/lang/StringUTF16", name := "newBytesFor", desc := "(I)[B" } : Jvm.MethodName)) ∈ lw_all := lw_g (lw_at lw_m6 49 rfl) rfl
theorem q1341 : (Jvm.Cond.fieldLink "java/lang/AbstractStringBuilder" (15 : Nat) "java/lang/AbstractStringBuilder" "value" "[B") ∈ lw_all := lw_g (lw_at lw_m6 56 rfl) rfl
theorem q1342 : (Jvm.Cond.fieldLink "java/lang/AbstractStringBuilder" (22 : Nat) "java/lang/AbstractStringBuilder" "coder" "B") ∈ lw_all := lw_g (lw_at lw_m6 57 rfl) rfl
theorem q1344 : (Jvm.Cond.fieldLink "java/lang/AbstractStringBuilder" (79 : Nat) "java/lang/AbstractStringBuilder" "count" "I") ∈ lw_all := lw_g (lw_at lw_m6 59 rfl) rfl
theorem q1346 : (Jvm.Cond.soleField "java/lang/AbstractStringBuilder" "value") ∈ lw_all := lw_g (lw_at lw_m6 61 rfl) rfl
theorem q1348 : (Jvm.Cond.soleField "java/lang/AbstractStringBuilder" "coder") ∈ lw_all := lw_g (lw_at lw_m6 63 rfl) rfl
theorem q1350 : (Jvm.Cond.soleField "java/lang/AbstractStringBuilder" "maybeLatin1") ∈ lw_all := lw_g (lw_at lw_m6 65 rfl) rfl
theorem q1352 : (Jvm.Cond.soleField "java/lang/AbstractStringBuilder" "count") ∈ lw_all := lw_g (lw_at lw_m6 67 rfl) rfl
theorem q1382 : (Jvm.Cond.instanceMethod ({ cls := "java/lang/AbstractStringBuilder", name := "append", desc := "(C)Ljava/lang/AbstractStringBuilder;" } : Jvm.MethodName)) ∈ lw_all := lw_g (lw_at lw_m6 97 rfl) rfl
theorem q1383 : (Jvm.Cond.code ({ cls := "java/lang/AbstractStringBuilder", name := "append", desc := "(C)Ljava/lang/AbstractStringBuilder;" } : Jvm.MethodName) prog_21_method_31_code (2 : Nat) (Option.some (Jvm.ClassFile.FieldType.object "java/lang/AbstractStringBuilder"))) ∈ lw_all := lw_g (lw_at lw_m6 98 rfl) rfl
theorem q1384 : (Jvm.Cond.methodLink "java/lang/AbstractStringBuilder" (100 : Nat) ({ cls := "java/lang/AbstractStringBuilder", name := "ensureCapacityInternal", desc := "(I)V" } : Jvm.MethodName)) ∈ lw_all := lw_g (lw_at lw_m6 99 rfl) rfl
theorem q1385 : (Jvm.Cond.privateMethod ({ cls := "java/lang/AbstractStringBuilder", name := "ensureCapacityInternal", desc := "(I)V" } : Jvm.MethodName)) ∈ lw_tbl := lw_at lw_m6 100 rfl
theorem q1386 : (Jvm.Cond.instanceMethod ({ cls := "java/lang/AbstractStringBuilder", name := "ensureCapacityInternal", desc := "(I)V" } : Jvm.MethodName)) ∈ lw_all := lw_g (lw_at lw_m6 101 rfl) rfl
theorem q1387 : (Jvm.Cond.code ({ cls := "java/lang/AbstractStringBuilder", name := "ensureCapacityInternal", desc := "(I)V" } : Jvm.MethodName) prog_21_method_9_code (3 : Nat) (Option.none : Option Jvm.ClassFile.FieldType)) ∈ lw_all := lw_g (lw_at lw_m6 102 rfl) rfl
theorem q1388 : (Jvm.Cond.methodLink "java/lang/AbstractStringBuilder" (104 : Nat) ({ cls := "java/lang/AbstractStringBuilder", name := "newCapacity", desc := "(I)I" } : Jvm.MethodName)) ∈ lw_all := lw_g (lw_at lw_m6 103 rfl) rfl
theorem q1389 : (Jvm.Cond.privateMethod ({ cls := "java/lang/AbstractStringBuilder", name := "newCapacity", desc := "(I)I" } : Jvm.MethodName)) ∈ lw_tbl := lw_at lw_m6 104 rfl
theorem q1390 : (Jvm.Cond.instanceMethod ({ cls := "java/lang/AbstractStringBuilder", name := "newCapacity", desc := "(I)I" } : Jvm.MethodName)) ∈ lw_all := lw_g (lw_at lw_m6 105 rfl) rfl
theorem q1391 : (Jvm.Cond.code ({ cls := "java/lang/AbstractStringBuilder", name := "newCapacity", desc := "(I)I" } : Jvm.MethodName) prog_21_method_10_code (6 : Nat) (Option.some Jvm.ClassFile.FieldType.int)) ∈ lw_all := lw_g (lw_at lw_m6 106 rfl) rfl
theorem q1392 : (Jvm.Cond.methodLink "java/lang/AbstractStringBuilder" (114 : Nat) ({ cls := "jdk/internal/util/ArraysSupport", name := "newLength", desc := "(III)I" } : Jvm.MethodName)) ∈ lw_all := lw_g (lw_at lw_m6 107 rfl) rfl
theorem q1393 : (Jvm.Cond.constant "java/lang/AbstractStringBuilder" (39 : Nat) (2147483647 : Int32)) ∈ lw_all := lw_g (lw_at lw_m6 108 rfl) rfl
theorem q1394 : (Jvm.Cond.methodLink "java/lang/AbstractStringBuilder" (108 : Nat) ({ cls := "java/util/Arrays", name := "copyOf", desc := "([BI)[B" } : Jvm.MethodName)) ∈ lw_all := lw_g (lw_at lw_m6 109 rfl) rfl
theorem q1404 : (Jvm.Cond.methodLink "java/lang/AbstractStringBuilder" (83 : Nat) ({ cls := "java/lang/AbstractStringBuilder", name := "isLatin1", desc := "()Z" } : Jvm.MethodName)) ∈ lw_all := lw_g (lw_at lw_m6 119 rfl) rfl
theorem q1405 : (Jvm.Cond.instanceMethod ({ cls := "java/lang/AbstractStringBuilder", name := "isLatin1", desc := "()Z" } : Jvm.MethodName)) ∈ lw_all := lw_g (lw_at lw_m6 120 rfl) rfl
theorem q1406 : (Jvm.Cond.sameMethod "java/lang/AbstractStringBuilder" "java/lang/AbstractStringBuilder" "isLatin1" "()Z") ∈ lw_all := lw_g (lw_at lw_m6 121 rfl) rfl
theorem q1408 : (Jvm.Cond.code ({ cls := "java/lang/AbstractStringBuilder", name := "isLatin1", desc := "()Z" } : Jvm.MethodName) prog_21_method_68_code (1 : Nat) (Option.some Jvm.ClassFile.FieldType.boolean)) ∈ lw_all := lw_g (lw_at lw_m6 123 rfl) rfl
theorem q1409 : (Jvm.Cond.methodLink "java/lang/AbstractStringBuilder" (191 : Nat) ({ cls := "java/lang/StringLatin1", name := "canEncode", desc := "(C)Z" } : Jvm.MethodName)) ∈ lw_all := lw_g (lw_at lw_m6 124 rfl) rfl
theorem q1412 : (Jvm.Cond.methodLink "java/lang/AbstractStringBuilder" (195 : Nat) ({ cls := "java/lang/AbstractStringBuilder", name := "inflate", desc := "()V" } : Jvm.MethodName)) ∈ lw_all := lw_g (lw_at lw_m6 127 rfl) rfl
theorem q1413 : (Jvm.Cond.privateMethod ({ cls := "java/lang/AbstractStringBuilder", name := "inflate", desc := "()V" } : Jvm.MethodName)) ∈ lw_tbl := lw_at lw_m6 128 rfl
theorem q1414 : (Jvm.Cond.instanceMethod ({ cls := "java/lang/AbstractStringBuilder", name := "inflate", desc := "()V" } : Jvm.MethodName)) ∈ lw_all := lw_g (lw_at lw_m6 129 rfl) rfl
theorem q1415 : (Jvm.Cond.code ({ cls := "java/lang/AbstractStringBuilder", name := "inflate", desc := "()V" } : Jvm.MethodName) prog_21_method_11_code (2 : Nat) (Option.none : Option Jvm.ClassFile.FieldType)) ∈ lw_all := lw_g (lw_at lw_m6 130 rfl) rfl
theorem q1416 : (Jvm.Cond.methodLink "java/lang/AbstractStringBuilder" (125 : Nat) ({ cls := "java/lang/StringLatin1", name := "inflate", desc := "([BI[BII)V" } : Jvm.MethodName)) ∈ lw_all := lw_g (lw_at lw_m6 131 rfl) rfl
theorem q1445 : (Jvm.Cond.methodLink "java/lang/AbstractStringBuilder" (197 : Nat) ({ cls := "java/lang/StringUTF16", name := "putCharSB", desc := "([BII)V" } : Jvm.MethodName)) ∈ lw_all := lw_g (lw_at lw_m6 160 rfl) rfl
theorem q1468 : (Jvm.Cond.instanceMethod ({ cls := "java/lang/AbstractStringBuilder", name := "getValue", desc := "()[B" } : Jvm.MethodName)) ∈ lw_all := lw_g (lw_at lw_m6 183 rfl) rfl
theorem q1469 : (Jvm.Cond.sameMethod "java/lang/AbstractStringBuilder" "java/lang/AbstractStringBuilder" "getValue" "()[B") ∈ lw_all := lw_g (lw_at lw_m6 184 rfl) rfl
theorem q1471 : (Jvm.Cond.code ({ cls := "java/lang/AbstractStringBuilder", name := "getValue", desc := "()[B" } : Jvm.MethodName) prog_21_method_64_code (1 : Nat) (Option.some (Jvm.ClassFile.FieldType.array Jvm.ClassFile.FieldType.byte))) ∈ lw_all := lw_g (lw_at lw_m6 186 rfl) rfl
theorem q1473 : (Jvm.Cond.instanceMethod ({ cls := "java/lang/AbstractStringBuilder", name := "length", desc := "()I" } : Jvm.MethodName)) ∈ lw_all := lw_g (lw_at lw_m6 188 rfl) rfl
theorem q1474 : (Jvm.Cond.sameMethod "java/lang/AbstractStringBuilder" "java/lang/AbstractStringBuilder" "length" "()I") ∈ lw_all := lw_g (lw_at lw_m6 189 rfl) rfl
theorem q1479 : (Jvm.Cond.code ({ cls := "java/lang/AbstractStringBuilder", name := "length", desc := "()I" } : Jvm.MethodName) prog_21_method_6_code (1 : Nat) (Option.some Jvm.ClassFile.FieldType.int)) ∈ lw_all := lw_g (lw_at lw_m6 194 rfl) rfl
theorem q1498 : (Jvm.Cond.instanceMethod ({ cls := "java/lang/AbstractStringBuilder", name := "append", desc := "(I)Ljava/lang/AbstractStringBuilder;" } : Jvm.MethodName)) ∈ lw_all := lw_g (lw_at lw_m6 213 rfl) rfl
theorem q1499 : (Jvm.Cond.code ({ cls := "java/lang/AbstractStringBuilder", name := "append", desc := "(I)Ljava/lang/AbstractStringBuilder;" } : Jvm.MethodName) prog_21_method_32_code (4 : Nat) (Option.some (Jvm.ClassFile.FieldType.object "java/lang/AbstractStringBuilder"))) ∈ lw_all := lw_g (lw_at lw_m6 214 rfl) rfl
theorem q1500 : (Jvm.Cond.methodLink "java/lang/AbstractStringBuilder" (245 : Nat) ({ cls := "java/lang/Integer", name := "stringSize", desc := "(I)I" } : Jvm.MethodName)) ∈ lw_all := lw_g (lw_at lw_m6 215 rfl) rfl
theorem q1503 : (Jvm.Cond.methodLink "java/lang/AbstractStringBuilder" (248 : Nat) ({ cls := "java/lang/Integer", name := "getChars", desc := "(II[B)I" } : Jvm.MethodName)) ∈ lw_all := lw_g (lw_at lw_m6 218 rfl) rfl
theorem q1510 : (Jvm.Cond.methodLink "java/lang/AbstractStringBuilder" (251 : Nat) ({ cls := "java/lang/StringUTF16", name := "getChars", desc := "(III[B)I" } : Jvm.MethodName)) ∈ lw_all := lw_g (lw_at lw_m6 225 rfl) rfl
theorem q1533 : (Jvm.Cond.instanceMethod ({ cls := "java/lang/AbstractStringBuilder", name := "append", desc := "(Ljava/lang/String;)Ljava/lang/AbstractStringBuilder;" } : Jvm.MethodName)) ∈ lw_all := lw_g (lw_at lw_m7 8 rfl) rfl
theorem q1534 : (Jvm.Cond.code ({ cls := "java/lang/AbstractStringBuilder", name := "append", desc := "(Ljava/lang/String;)Ljava/lang/AbstractStringBuilder;" } : Jvm.MethodName) prog_21_method_22_code (3 : Nat) (Option.some (Jvm.ClassFile.FieldType.object "java/lang/AbstractStringBuilder"))) ∈ lw_all := lw_g (lw_at lw_m7 9 rfl) rfl
theorem q1535 : (Jvm.Cond.methodLink "java/lang/AbstractStringBuilder" (204 : Nat) ({ cls := "java/lang/AbstractStringBuilder", name := "appendNull", desc := "()Ljava/lang/AbstractStringBuilder;" } : Jvm.MethodName)) ∈ lw_all := lw_g (lw_at lw_m7 10 rfl) rfl
theorem q1536 : (Jvm.Cond.privateMethod ({ cls := "java/lang/AbstractStringBuilder", name := "appendNull", desc := "()Ljava/lang/AbstractStringBuilder;" } : Jvm.MethodName)) ∈ lw_tbl := lw_at lw_m7 11 rfl
theorem q1537 : (Jvm.Cond.instanceMethod ({ cls := "java/lang/AbstractStringBuilder", name := "appendNull", desc := "()Ljava/lang/AbstractStringBuilder;" } : Jvm.MethodName)) ∈ lw_all := lw_g (lw_at lw_m7 12 rfl) rfl
theorem q1538 : (Jvm.Cond.code ({ cls := "java/lang/AbstractStringBuilder", name := "appendNull", desc := "()Ljava/lang/AbstractStringBuilder;" } : Jvm.MethodName) prog_21_method_26_code (3 : Nat) (Option.some (Jvm.ClassFile.FieldType.object "java/lang/AbstractStringBuilder"))) ∈ lw_all := lw_g (lw_at lw_m7 13 rfl) rfl
theorem q1539 : (Jvm.Cond.methodLink "java/lang/AbstractStringBuilder" (226 : Nat) ({ cls := "java/lang/StringUTF16", name := "putCharsAt", desc := "([BICCCC)I" } : Jvm.MethodName)) ∈ lw_all := lw_g (lw_at lw_m7 14 rfl) rfl
theorem q1542 : (Jvm.Cond.methodLink "java/lang/AbstractStringBuilder" (32 : Nat) ({ cls := "java/lang/String", name := "length", desc := "()I" } : Jvm.MethodName)) ∈ lw_all := lw_g (lw_at lw_m7 17 rfl) rfl
theorem q1551 : (Jvm.Cond.methodLink "java/lang/AbstractStringBuilder" (208 : Nat) ({ cls := "java/lang/AbstractStringBuilder", name := "putStringAt", desc := "(ILjava/lang/String;)V" } : Jvm.MethodName)) ∈ lw_all := lw_g (lw_at lw_m7 26 rfl) rfl
theorem q1552 : (Jvm.Cond.privateMethod ({ cls := "java/lang/AbstractStringBuilder", name := "putStringAt", desc := "(ILjava/lang/String;)V" } : Jvm.MethodName)) ∈ lw_tbl := lw_at lw_m7 27 rfl
theorem q1553 : (Jvm.Cond.instanceMethod ({ cls := "java/lang/AbstractStringBuilder", name := "putStringAt", desc := "(ILjava/lang/String;)V" } : Jvm.MethodName)) ∈ lw_all := lw_g (lw_at lw_m7 28 rfl) rfl
theorem q1554 : (Jvm.Cond.code ({ cls := "java/lang/AbstractStringBuilder", name := "putStringAt", desc := "(ILjava/lang/String;)V" } : Jvm.MethodName) prog_21_method_73_code (3 : Nat) (Option.none : Option Jvm.ClassFile.FieldType)) ∈ lw_all := lw_g (lw_at lw_m7 29 rfl) rfl
theorem q1555 : (Jvm.Cond.methodLink "java/lang/AbstractStringBuilder" (397 : Nat) ({ cls := "java/lang/AbstractStringBuilder", name := "inflateIfNeededFor", desc := "(Ljava/lang/String;)V" } : Jvm.MethodName)) ∈ lw_all := lw_g (lw_at lw_m7 30 rfl) rfl
theorem q1556 : (Jvm.Cond.privateMethod ({ cls := "java/lang/AbstractStringBuilder", name := "inflateIfNeededFor", desc := "(Ljava/lang/String;)V" } : Jvm.MethodName)) ∈ lw_tbl := lw_at lw_m7 31 rfl
theorem q1557 : (Jvm.Cond.instanceMethod ({ cls := "java/lang/AbstractStringBuilder", name := "inflateIfNeededFor", desc := "(Ljava/lang/String;)V" } : Jvm.MethodName)) ∈ lw_all := lw_g (lw_at lw_m7 32 rfl) rfl
theorem q1558 : (Jvm.Cond.code ({ cls := "java/lang/AbstractStringBuilder", name := "inflateIfNeededFor", desc := "(Ljava/lang/String;)V" } : Jvm.MethodName) prog_21_method_71_code (2 : Nat) (Option.none : Option Jvm.ClassFile.FieldType)) ∈ lw_all := lw_g (lw_at lw_m7 33 rfl) rfl
theorem q1559 : (Jvm.Cond.methodLink "java/lang/AbstractStringBuilder" (40 : Nat) ({ cls := "java/lang/String", name := "coder", desc := "()B" } : Jvm.MethodName)) ∈ lw_all := lw_g (lw_at lw_m7 34 rfl) rfl
theorem q1560 : (Jvm.Cond.methodLink "java/lang/AbstractStringBuilder" (399 : Nat) ({ cls := "java/lang/String", name := "getBytes", desc := "([BIB)V" } : Jvm.MethodName)) ∈ lw_all := lw_g (lw_at lw_m7 35 rfl) rfl
theorem q2108 : (Jvm.Cond.sameMethod "java/lang/AbstractStringBuilder" "java/lang/AbstractStringBuilder" "append" "(C)Ljava/lang/AbstractStringBuilder;") ∈ lw_all := lw_g (lw_at lw_m9 103 rfl) rfl
theorem q2109 : (Jvm.Cond.sameMethod "java/lang/AbstractStringBuilder" "java/lang/AbstractStringBuilder" "ensureCapacityInternal" "(I)V") ∈ lw_all := lw_g (lw_at lw_m9 104 rfl) rfl
theorem q2110 : (Jvm.Cond.sameMethod "java/lang/AbstractStringBuilder" "java/lang/AbstractStringBuilder" "newCapacity" "(I)I") ∈ lw_all := lw_g (lw_at lw_m9 105 rfl) rfl
theorem q2111 : (Jvm.Cond.sameMethod "java/lang/AbstractStringBuilder" "java/lang/AbstractStringBuilder" "inflate" "()V") ∈ lw_all := lw_g (lw_at lw_m9 106 rfl) rfl
theorem q2112 : (Jvm.Cond.sameMethod "java/lang/AbstractStringBuilder" "java/lang/AbstractStringBuilder" "append" "(I)Ljava/lang/AbstractStringBuilder;") ∈ lw_all := lw_g (lw_at lw_m9 107 rfl) rfl
theorem q2113 : (Jvm.Cond.sameMethod "java/lang/AbstractStringBuilder" "java/lang/AbstractStringBuilder" "append" "(Ljava/lang/String;)Ljava/lang/AbstractStringBuilder;") ∈ lw_all := lw_g (lw_at lw_m9 108 rfl) rfl
theorem q2114 : (Jvm.Cond.sameMethod "java/lang/AbstractStringBuilder" "java/lang/AbstractStringBuilder" "appendNull" "()Ljava/lang/AbstractStringBuilder;") ∈ lw_all := lw_g (lw_at lw_m9 109 rfl) rfl
theorem q2115 : (Jvm.Cond.sameMethod "java/lang/AbstractStringBuilder" "java/lang/AbstractStringBuilder" "putStringAt" "(ILjava/lang/String;)V") ∈ lw_all := lw_g (lw_at lw_m9 110 rfl) rfl
theorem q2116 : (Jvm.Cond.sameMethod "java/lang/AbstractStringBuilder" "java/lang/AbstractStringBuilder" "inflateIfNeededFor" "(Ljava/lang/String;)V") ∈ lw_all := lw_g (lw_at lw_m9 111 rfl) rfl
/-! java/lang/StringBuilder -/
set_option maxRecDepth 100000
def RJ21 : String := "java/lang/StringBuilder"
def TJ21 : u_T := fun k => match k with
  | 0 => ("java/lang/AbstractStringBuilder", "value", "[B", false)
  | 1 => ("java/lang/AbstractStringBuilder", "coder", "B", false)
  | 2 => ("java/lang/AbstractStringBuilder", "maybeLatin1", "Z", false)
  | _ => ("java/lang/AbstractStringBuilder", "count", "I", false)
def tyJ21 : Nat → FieldType := fun k => match k with
  | 0 => .array .byte
  | 1 => .byte
  | 2 => .boolean
  | _ => .int
abbrev wsJ210 : List Cond := u_ws RJ21 TJ21 4
theorem nmJ21 : ∀ a, a < 4 → ∀ b, b < 4 → a ≠ b → (TJ21 a).2.1 ≠ (TJ21 b).2.1 := by decide +kernel
theorem tyJ21_ok : ∀ k, k < 4 → parseFieldDescriptor (TJ21 k).2.2.1 = some (tyJ21 k) := by decide +kernel
abbrev cJ21_init : ByteArray := prog_39_method_1_code
def yJ21_init : MethodName := ⟨RJ21, "<init>", "()V"⟩
def dkwJ21_init_0 : List UInt8 := [42, 16, 16, 183, 0, 1, 177]
abbrev dktJ21_init_0 : List UInt8 := dkwJ21_init_0 ++ []
theorem dksJ21_init_0 : cJ21_init.data.toList.drop 0 = dktJ21_init_0 := by decide +kernel
theorem dJ21_init_0 : decode cJ21_init 0 = .ok (.aload_n 0, 1) := dk_42 (dk_at dksJ21_init_0 0 rfl rfl)
theorem dJ21_init_1 : decode cJ21_init 1 = .ok (.bipush 16, 2) := dk_16 16 (dk_at dksJ21_init_0 1 rfl rfl)
theorem dJ21_init_3 : decode cJ21_init 3 = .ok (.invokespecial 1, 3) := dk_183 0 1 (dk_at dksJ21_init_0 3 rfl rfl)
theorem dJ21_init_6 : decode cJ21_init 6 = .ok (.return_, 1) := dk_177 (dk_at dksJ21_init_0 6 rfl rfl)
abbrev cJ21_append : ByteArray := prog_39_method_14_code
def yJ21_append : MethodName := ⟨RJ21, "append", "(C)Ljava/lang/StringBuilder;"⟩
def dkwJ21_append_0 : List UInt8 := [42, 27, 183, 0, 50, 87, 42, 176]
abbrev dktJ21_append_0 : List UInt8 := dkwJ21_append_0 ++ []
theorem dksJ21_append_0 : cJ21_append.data.toList.drop 0 = dktJ21_append_0 := by decide +kernel
theorem dJ21_append_0 : decode cJ21_append 0 = .ok (.aload_n 0, 1) := dk_42 (dk_at dksJ21_append_0 0 rfl rfl)
theorem dJ21_append_1 : decode cJ21_append 1 = .ok (.iload_n 1, 1) := dk_27 (dk_at dksJ21_append_0 1 rfl rfl)
theorem dJ21_append_2 : decode cJ21_append 2 = .ok (.invokespecial 50, 3) := dk_183 0 50 (dk_at dksJ21_append_0 2 rfl rfl)
theorem dJ21_append_5 : decode cJ21_append 5 = .ok (.pop, 1) := dk_87 (dk_at dksJ21_append_0 5 rfl rfl)
theorem dJ21_append_6 : decode cJ21_append 6 = .ok (.aload_n 0, 1) := dk_42 (dk_at dksJ21_append_0 6 rfl rfl)
theorem dJ21_append_7 : decode cJ21_append 7 = .ok (.areturn, 1) := dk_176 (dk_at dksJ21_append_0 7 rfl rfl)
abbrev cJ21_toString : ByteArray := prog_39_method_42_code
def yJ21_toString : MethodName := ⟨RJ21, "toString", "()Ljava/lang/String;"⟩
def dkwJ21_toString_0 : List UInt8 := [187, 0, 18, 89, 42, 183, 0, 137, 176]
abbrev dktJ21_toString_0 : List UInt8 := dkwJ21_toString_0 ++ []
theorem dksJ21_toString_0 : cJ21_toString.data.toList.drop 0 = dktJ21_toString_0 := by decide +kernel
theorem dJ21_toString_0 : decode cJ21_toString 0 = .ok (.new 18, 3) := dk_187 0 18 (dk_at dksJ21_toString_0 0 rfl rfl)
theorem dJ21_toString_3 : decode cJ21_toString 3 = .ok (.dup, 1) := dk_89 (dk_at dksJ21_toString_0 3 rfl rfl)
theorem dJ21_toString_4 : decode cJ21_toString 4 = .ok (.aload_n 0, 1) := dk_42 (dk_at dksJ21_toString_0 4 rfl rfl)
theorem dJ21_toString_5 : decode cJ21_toString 5 = .ok (.invokespecial 137, 3) := dk_183 0 137 (dk_at dksJ21_toString_0 5 rfl rfl)
theorem dJ21_toString_8 : decode cJ21_toString 8 = .ok (.areturn, 1) := dk_176 (dk_at dksJ21_toString_0 8 rfl rfl)
abbrev cJ21_length : ByteArray := prog_39_method_93_code
def yJ21_length : MethodName := ⟨RJ21, "length", "()I"⟩
theorem dJ21_length_0 : decode cJ21_length 0 = .ok (.aload_n 0, 1) := by decide +kernel
theorem dJ21_length_1 : decode cJ21_length 1 = .ok (.invokespecial 343, 3) := by decide +kernel
theorem dJ21_length_4 : decode cJ21_length 4 = .ok (.ireturn, 1) := by decide +kernel
abbrev cJ21_append_2 : ByteArray := prog_39_method_15_code
def yJ21_append_2 : MethodName := ⟨RJ21, "append", "(I)Ljava/lang/StringBuilder;"⟩
def dkwJ21_append_2_0 : List UInt8 := [42, 27, 183, 0, 53, 87, 42, 176]
abbrev dktJ21_append_2_0 : List UInt8 := dkwJ21_append_2_0 ++ []
theorem dksJ21_append_2_0 : cJ21_append_2.data.toList.drop 0 = dktJ21_append_2_0 := by decide +kernel
theorem dJ21_append_2_0 : decode cJ21_append_2 0 = .ok (.aload_n 0, 1) := dk_42 (dk_at dksJ21_append_2_0 0 rfl rfl)
theorem dJ21_append_2_1 : decode cJ21_append_2 1 = .ok (.iload_n 1, 1) := dk_27 (dk_at dksJ21_append_2_0 1 rfl rfl)
theorem dJ21_append_2_2 : decode cJ21_append_2 2 = .ok (.invokespecial 53, 3) := dk_183 0 53 (dk_at dksJ21_append_2_0 2 rfl rfl)
theorem dJ21_append_2_5 : decode cJ21_append_2 5 = .ok (.pop, 1) := dk_87 (dk_at dksJ21_append_2_0 5 rfl rfl)
theorem dJ21_append_2_6 : decode cJ21_append_2 6 = .ok (.aload_n 0, 1) := dk_42 (dk_at dksJ21_append_2_0 6 rfl rfl)
theorem dJ21_append_2_7 : decode cJ21_append_2 7 = .ok (.areturn, 1) := dk_176 (dk_at dksJ21_append_2_0 7 rfl rfl)
abbrev cJ21_append_3 : ByteArray := prog_39_method_7_code
def yJ21_append_3 : MethodName := ⟨RJ21, "append", "(Ljava/lang/String;)Ljava/lang/StringBuilder;"⟩
def dkwJ21_append_3_0 : List UInt8 := [42, 43, 183, 0, 29, 87, 42, 176]
abbrev dktJ21_append_3_0 : List UInt8 := dkwJ21_append_3_0 ++ []
theorem dksJ21_append_3_0 : cJ21_append_3.data.toList.drop 0 = dktJ21_append_3_0 := by decide +kernel
theorem dJ21_append_3_0 : decode cJ21_append_3 0 = .ok (.aload_n 0, 1) := dk_42 (dk_at dksJ21_append_3_0 0 rfl rfl)
theorem dJ21_append_3_1 : decode cJ21_append_3 1 = .ok (.aload_n 1, 1) := dk_43 (dk_at dksJ21_append_3_0 1 rfl rfl)
theorem dJ21_append_3_2 : decode cJ21_append_3 2 = .ok (.invokespecial 29, 3) := dk_183 0 29 (dk_at dksJ21_append_3_0 2 rfl rfl)
theorem dJ21_append_3_5 : decode cJ21_append_3 5 = .ok (.pop, 1) := dk_87 (dk_at dksJ21_append_3_0 5 rfl rfl)
theorem dJ21_append_3_6 : decode cJ21_append_3 6 = .ok (.aload_n 0, 1) := dk_42 (dk_at dksJ21_append_3_0 6 rfl rfl)
theorem dJ21_append_3_7 : decode cJ21_append_3 7 = .ok (.areturn, 1) := dk_176 (dk_at dksJ21_append_3_0 7 rfl rfl)
theorem q124 : (Jvm.Cond.initialized "java/lang/StringBuilder") ∈ lw_all := lw_g (lw_at lw_m1 39 rfl) rfl
theorem q941 : (Jvm.Cond.selects "java/lang/StringBuilder" ({ cls := "java/lang/Object", name := "getClass", desc := "()Ljava/lang/Class;" } : Jvm.MethodName) ({ cls := "java/lang/Object", name := "getClass", desc := "()Ljava/lang/Class;" } : Jvm.MethodName)) ∈ lw_all := lw_g (lw_at lw_m4 136 rfl) rfl
theorem q1324 : (Jvm.Cond.instantiable "java/lang/StringBuilder" (4 : Nat)) ∈ lw_all := lw_g (lw_at lw_m6 39 rfl) rfl
theorem q1326 : (Jvm.Cond.instanceMethod ({ cls := "java/lang/StringBuilder", name := "<init>", desc := "()V" } : Jvm.MethodName)) ∈ lw_all := lw_g (lw_at lw_m6 41 rfl) rfl
theorem q1327 : (Jvm.Cond.code ({ cls := "java/lang/StringBuilder", name := "<init>", desc := "()V" } : Jvm.MethodName) prog_39_method_1_code (1 : Nat) (Option.none : Option Jvm.ClassFile.FieldType)) ∈ lw_all := lw_g (lw_at lw_m6 42 rfl) rfl
theorem q1328 : (Jvm.Cond.methodLink "java/lang/StringBuilder" (1 : Nat) ({ cls := "java/lang/AbstractStringBuilder", name := "<init>", desc := "(I)V" } : Jvm.MethodName)) ∈ lw_all := lw_g (lw_at lw_m6 43 rfl) rfl
theorem q1345 : (Jvm.Cond.lays "java/lang/StringBuilder" "java/lang/AbstractStringBuilder" "value" "[B") ∈ lw_all := lw_g (lw_at lw_m6 60 rfl) rfl
theorem q1347 : (Jvm.Cond.lays "java/lang/StringBuilder" "java/lang/AbstractStringBuilder" "coder" "B") ∈ lw_all := lw_g (lw_at lw_m6 62 rfl) rfl
theorem q1349 : (Jvm.Cond.lays "java/lang/StringBuilder" "java/lang/AbstractStringBuilder" "maybeLatin1" "Z") ∈ lw_all := lw_g (lw_at lw_m6 64 rfl) rfl
theorem q1351 : (Jvm.Cond.lays "java/lang/StringBuilder" "java/lang/AbstractStringBuilder" "count" "I") ∈ lw_all := lw_g (lw_at lw_m6 66 rfl) rfl
theorem q1353 : (Jvm.Cond.superclass "java/lang/StringBuilder" "java/lang/AbstractStringBuilder") ∈ lw_all := lw_g (lw_at lw_m6 68 rfl) rfl
theorem q1378 : (Jvm.Cond.instanceMethod ({ cls := "java/lang/StringBuilder", name := "append", desc := "(C)Ljava/lang/StringBuilder;" } : Jvm.MethodName)) ∈ lw_all := lw_g (lw_at lw_m6 93 rfl) rfl
theorem q1379 : (Jvm.Cond.selects "java/lang/StringBuilder" ({ cls := "java/lang/StringBuilder", name := "append", desc := "(C)Ljava/lang/StringBuilder;" } : Jvm.MethodName) ({ cls := "java/lang/StringBuilder", name := "append", desc := "(C)Ljava/lang/StringBuilder;" } : Jvm.MethodName)) ∈ lw_all := lw_g (lw_at lw_m6 94 rfl) rfl
theorem q1380 : (Jvm.Cond.code ({ cls := "java/lang/StringBuilder", name := "append", desc := "(C)Ljava/lang/StringBuilder;" } : Jvm.MethodName) prog_39_method_14_code (2 : Nat) (Option.some (Jvm.ClassFile.FieldType.object "java/lang/StringBuilder"))) ∈ lw_all := lw_g (lw_at lw_m6 95 rfl) rfl
theorem q1381 : (Jvm.Cond.methodLink "java/lang/StringBuilder" (50 : Nat) ({ cls := "java/lang/AbstractStringBuilder", name := "append", desc := "(C)Ljava/lang/AbstractStringBuilder;" } : Jvm.MethodName)) ∈ lw_all := lw_g (lw_at lw_m6 96 rfl) rfl
theorem q1407 : (Jvm.Cond.selects "java/lang/StringBuilder" ({ cls := "java/lang/AbstractStringBuilder", name := "isLatin1", desc := "()Z" } : Jvm.MethodName) ({ cls := "java/lang/AbstractStringBuilder", name := "isLatin1", desc := "()Z" } : Jvm.MethodName)) ∈ lw_all := lw_g (lw_at lw_m6 122 rfl) rfl
theorem q1456 : (Jvm.Cond.instanceMethod ({ cls := "java/lang/StringBuilder", name := "toString", desc := "()Ljava/lang/String;" } : Jvm.MethodName)) ∈ lw_all := lw_g (lw_at lw_m6 171 rfl) rfl
theorem q1457 : (Jvm.Cond.selects "java/lang/StringBuilder" ({ cls := "java/lang/StringBuilder", name := "toString", desc := "()Ljava/lang/String;" } : Jvm.MethodName) ({ cls := "java/lang/StringBuilder", name := "toString", desc := "()Ljava/lang/String;" } : Jvm.MethodName)) ∈ lw_all := lw_g (lw_at lw_m6 172 rfl) rfl
theorem q1458 : (Jvm.Cond.code ({ cls := "java/lang/StringBuilder", name := "toString", desc := "()Ljava/lang/String;" } : Jvm.MethodName) prog_39_method_42_code (1 : Nat) (Option.some (Jvm.ClassFile.FieldType.object "java/lang/String"))) ∈ lw_all := lw_g (lw_at lw_m6 173 rfl) rfl
theorem q1459 : (Jvm.Cond.classLink "java/lang/StringBuilder" (18 : Nat) "java/lang/String") ∈ lw_all := lw_g (lw_at lw_m6 174 rfl) rfl
theorem q1460 : (Jvm.Cond.methodLink "java/lang/StringBuilder" (137 : Nat) ({ cls := "java/lang/String", name := "<init>", desc := "(Ljava/lang/StringBuilder;)V" } : Jvm.MethodName)) ∈ lw_all := lw_g (lw_at lw_m6 175 rfl) rfl
theorem q1470 : (Jvm.Cond.selects "java/lang/StringBuilder" ({ cls := "java/lang/AbstractStringBuilder", name := "getValue", desc := "()[B" } : Jvm.MethodName) ({ cls := "java/lang/AbstractStringBuilder", name := "getValue", desc := "()[B" } : Jvm.MethodName)) ∈ lw_all := lw_g (lw_at lw_m6 185 rfl) rfl
theorem q1475 : (Jvm.Cond.selects "java/lang/StringBuilder" ({ cls := "java/lang/AbstractStringBuilder", name := "length", desc := "()I" } : Jvm.MethodName) ({ cls := "java/lang/StringBuilder", name := "length", desc := "()I" } : Jvm.MethodName)) ∈ lw_all := lw_g (lw_at lw_m6 190 rfl) rfl
theorem q1476 : (Jvm.Cond.instanceMethod ({ cls := "java/lang/StringBuilder", name := "length", desc := "()I" } : Jvm.MethodName)) ∈ lw_all := lw_g (lw_at lw_m6 191 rfl) rfl
theorem q1477 : (Jvm.Cond.code ({ cls := "java/lang/StringBuilder", name := "length", desc := "()I" } : Jvm.MethodName) prog_39_method_93_code (1 : Nat) (Option.some Jvm.ClassFile.FieldType.int)) ∈ lw_all := lw_g (lw_at lw_m6 192 rfl) rfl
theorem q1478 : (Jvm.Cond.methodLink "java/lang/StringBuilder" (343 : Nat) ({ cls := "java/lang/AbstractStringBuilder", name := "length", desc := "()I" } : Jvm.MethodName)) ∈ lw_all := lw_g (lw_at lw_m6 193 rfl) rfl
theorem q1494 : (Jvm.Cond.instanceMethod ({ cls := "java/lang/StringBuilder", name := "append", desc := "(I)Ljava/lang/StringBuilder;" } : Jvm.MethodName)) ∈ lw_all := lw_g (lw_at lw_m6 209 rfl) rfl
theorem q1495 : (Jvm.Cond.selects "java/lang/StringBuilder" ({ cls := "java/lang/StringBuilder", name := "append", desc := "(I)Ljava/lang/StringBuilder;" } : Jvm.MethodName) ({ cls := "java/lang/StringBuilder", name := "append", desc := "(I)Ljava/lang/StringBuilder;" } : Jvm.MethodName)) ∈ lw_all := lw_g (lw_at lw_m6 210 rfl) rfl
theorem q1496 : (Jvm.Cond.code ({ cls := "java/lang/StringBuilder", name := "append", desc := "(I)Ljava/lang/StringBuilder;" } : Jvm.MethodName) prog_39_method_15_code (2 : Nat) (Option.some (Jvm.ClassFile.FieldType.object "java/lang/StringBuilder"))) ∈ lw_all := lw_g (lw_at lw_m6 211 rfl) rfl
theorem q1497 : (Jvm.Cond.methodLink "java/lang/StringBuilder" (53 : Nat) ({ cls := "java/lang/AbstractStringBuilder", name := "append", desc := "(I)Ljava/lang/AbstractStringBuilder;" } : Jvm.MethodName)) ∈ lw_all := lw_g (lw_at lw_m6 212 rfl) rfl
theorem q1529 : (Jvm.Cond.instanceMethod ({ cls := "java/lang/StringBuilder", name := "append", desc := "(Ljava/lang/String;)Ljava/lang/StringBuilder;" } : Jvm.MethodName)) ∈ lw_all := lw_g (lw_at lw_m7 4 rfl) rfl
theorem q1530 : (Jvm.Cond.selects "java/lang/StringBuilder" ({ cls := "java/lang/StringBuilder", name := "append", desc := "(Ljava/lang/String;)Ljava/lang/StringBuilder;" } : Jvm.MethodName) ({ cls := "java/lang/StringBuilder", name := "append", desc := "(Ljava/lang/String;)Ljava/lang/StringBuilder;" } : Jvm.MethodName)) ∈ lw_all := lw_g (lw_at lw_m7 5 rfl) rfl
theorem q1531 : (Jvm.Cond.code ({ cls := "java/lang/StringBuilder", name := "append", desc := "(Ljava/lang/String;)Ljava/lang/StringBuilder;" } : Jvm.MethodName) prog_39_method_7_code (2 : Nat) (Option.some (Jvm.ClassFile.FieldType.object "java/lang/StringBuilder"))) ∈ lw_all := lw_g (lw_at lw_m7 6 rfl) rfl
theorem q1532 : (Jvm.Cond.methodLink "java/lang/StringBuilder" (29 : Nat) ({ cls := "java/lang/AbstractStringBuilder", name := "append", desc := "(Ljava/lang/String;)Ljava/lang/AbstractStringBuilder;" } : Jvm.MethodName)) ∈ lw_all := lw_g (lw_at lw_m7 7 rfl) rfl
theorem q2145 : (Jvm.Cond.castable "java/lang/StringBuilder" "java/lang/Object") ∈ lw_tbl := lw_at lw_m9 140 rfl
theorem in_J21 : ∀ w ∈ wsJ210, w ∈ lw_all := lw_in wsJ210 [1345, 1347, 1349, 1351] (by decide +kernel) (by decide +kernel)
/-! java/lang/StringUTF16 -/
set_option maxRecDepth 100000
def RJ22 : String := "java/lang/StringUTF16"
abbrev cJ22_newBytesFor : ByteArray := prog_41_method_2_code
def yJ22_newBytesFor : MethodName := ⟨RJ22, "newBytesFor", "(I)[B"⟩
def dkwJ22_newBytesFor_0 : List UInt8 := [26, 184, 0, 11, 188, 8, 176]
abbrev dktJ22_newBytesFor_0 : List UInt8 := dkwJ22_newBytesFor_0 ++ []
theorem dksJ22_newBytesFor_0 : cJ22_newBytesFor.data.toList.drop 0 = dktJ22_newBytesFor_0 := by decide +kernel
theorem dJ22_newBytesFor_0 : decode cJ22_newBytesFor 0 = .ok (.iload_n 0, 1) := dk_26 (dk_at dksJ22_newBytesFor_0 0 rfl rfl)
theorem dJ22_newBytesFor_1 : decode cJ22_newBytesFor 1 = .ok (.invokestatic 11, 3) := dk_184 0 11 (dk_at dksJ22_newBytesFor_0 1 rfl rfl)
theorem dJ22_newBytesFor_4 : decode cJ22_newBytesFor 4 = .ok (.newarray .byte, 2) := dk_188_8 (dk_at dksJ22_newBytesFor_0 4 rfl rfl)
theorem dJ22_newBytesFor_6 : decode cJ22_newBytesFor 6 = .ok (.areturn, 1) := dk_176 (dk_at dksJ22_newBytesFor_0 6 rfl rfl)
abbrev cJ22_newBytesLength : ByteArray := prog_41_method_3_code
def yJ22_newBytesLength : MethodName := ⟨RJ22, "newBytesLength", "(I)I"⟩
def dkwJ22_newBytesLength_2 : List UInt8 := [182, 0, 32, 182, 0, 37, 183, 0, 41, 191, 26, 4, 120, 172]
abbrev dktJ22_newBytesLength_2 : List UInt8 := dkwJ22_newBytesLength_2 ++ []
def dkwJ22_newBytesLength_1 : List UInt8 := [187, 0, 23, 89, 183, 0, 25, 18, 26, 182, 0, 28, 26, 182, 0, 32, 18, 35, 182, 0, 28, 18, 20]
abbrev dktJ22_newBytesLength_1 : List UInt8 := dkwJ22_newBytesLength_1 ++ dktJ22_newBytesLength_2
def dkwJ22_newBytesLength_0 : List UInt8 := [26, 156, 0, 11, 187, 0, 17, 89, 183, 0, 19, 191, 26, 18, 20, 161, 0, 40, 187, 0, 21, 89]
abbrev dktJ22_newBytesLength_0 : List UInt8 := dkwJ22_newBytesLength_0 ++ dktJ22_newBytesLength_1
theorem dksJ22_newBytesLength_0 : cJ22_newBytesLength.data.toList.drop 0 = dktJ22_newBytesLength_0 := by decide +kernel
theorem dksJ22_newBytesLength_1 : cJ22_newBytesLength.data.toList.drop 22 = dktJ22_newBytesLength_1 := dk_seg dksJ22_newBytesLength_0 22 rfl rfl
theorem dksJ22_newBytesLength_2 : cJ22_newBytesLength.data.toList.drop 45 = dktJ22_newBytesLength_2 := dk_seg dksJ22_newBytesLength_1 23 rfl rfl
theorem dJ22_newBytesLength_0 : decode cJ22_newBytesLength 0 = .ok (.iload_n 0, 1) := dk_26 (dk_at dksJ22_newBytesLength_0 0 rfl rfl)
theorem dJ22_newBytesLength_1 : decode cJ22_newBytesLength 1 = .ok (.ifCond .ge 11, 3) := dk_156 0 11 (dk_at dksJ22_newBytesLength_0 1 rfl rfl)
theorem dJ22_newBytesLength_4 : decode cJ22_newBytesLength 4 = .ok (.new 17, 3) := dk_187 0 17 (dk_at dksJ22_newBytesLength_0 4 rfl rfl)
theorem dJ22_newBytesLength_7 : decode cJ22_newBytesLength 7 = .ok (.dup, 1) := dk_89 (dk_at dksJ22_newBytesLength_0 7 rfl rfl)
theorem dJ22_newBytesLength_8 : decode cJ22_newBytesLength 8 = .ok (.invokespecial 19, 3) := dk_183 0 19 (dk_at dksJ22_newBytesLength_0 8 rfl rfl)
theorem dJ22_newBytesLength_11 : decode cJ22_newBytesLength 11 = .ok (.athrow, 1) := dk_191 (dk_at dksJ22_newBytesLength_0 11 rfl rfl)
theorem dJ22_newBytesLength_12 : decode cJ22_newBytesLength 12 = .ok (.iload_n 0, 1) := dk_26 (dk_at dksJ22_newBytesLength_0 12 rfl rfl)
theorem dJ22_newBytesLength_13 : decode cJ22_newBytesLength 13 = .ok (.ldc 20, 2) := dk_18 20 (dk_at dksJ22_newBytesLength_0 13 rfl rfl)
theorem dJ22_newBytesLength_15 : decode cJ22_newBytesLength 15 = .ok (.if_icmp .lt 40, 3) := dk_161 0 40 (dk_at dksJ22_newBytesLength_0 15 rfl rfl)
theorem dJ22_newBytesLength_18 : decode cJ22_newBytesLength 18 = .ok (.new 21, 3) := dk_187 0 21 (dk_at dksJ22_newBytesLength_0 18 rfl rfl)
theorem dJ22_newBytesLength_21 : decode cJ22_newBytesLength 21 = .ok (.dup, 1) := dk_89 (dk_at dksJ22_newBytesLength_0 21 rfl rfl)
theorem dJ22_newBytesLength_22 : decode cJ22_newBytesLength 22 = .ok (.new 23, 3) := dk_187 0 23 (dk_at dksJ22_newBytesLength_1 0 rfl rfl)
theorem dJ22_newBytesLength_25 : decode cJ22_newBytesLength 25 = .ok (.dup, 1) := dk_89 (dk_at dksJ22_newBytesLength_1 3 rfl rfl)
theorem dJ22_newBytesLength_26 : decode cJ22_newBytesLength 26 = .ok (.invokespecial 25, 3) := dk_183 0 25 (dk_at dksJ22_newBytesLength_1 4 rfl rfl)
theorem dJ22_newBytesLength_29 : decode cJ22_newBytesLength 29 = .ok (.ldc 26, 2) := dk_18 26 (dk_at dksJ22_newBytesLength_1 7 rfl rfl)
theorem dJ22_newBytesLength_31 : decode cJ22_newBytesLength 31 = .ok (.invokevirtual 28, 3) := dk_182 0 28 (dk_at dksJ22_newBytesLength_1 9 rfl rfl)
theorem dJ22_newBytesLength_34 : decode cJ22_newBytesLength 34 = .ok (.iload_n 0, 1) := dk_26 (dk_at dksJ22_newBytesLength_1 12 rfl rfl)
theorem dJ22_newBytesLength_35 : decode cJ22_newBytesLength 35 = .ok (.invokevirtual 32, 3) := dk_182 0 32 (dk_at dksJ22_newBytesLength_1 13 rfl rfl)
theorem dJ22_newBytesLength_38 : decode cJ22_newBytesLength 38 = .ok (.ldc 35, 2) := dk_18 35 (dk_at dksJ22_newBytesLength_1 16 rfl rfl)
theorem dJ22_newBytesLength_40 : decode cJ22_newBytesLength 40 = .ok (.invokevirtual 28, 3) := dk_182 0 28 (dk_at dksJ22_newBytesLength_1 18 rfl rfl)
theorem dJ22_newBytesLength_43 : decode cJ22_newBytesLength 43 = .ok (.ldc 20, 2) := dk_18 20 (dk_at dksJ22_newBytesLength_1 21 rfl rfl)
theorem dJ22_newBytesLength_45 : decode cJ22_newBytesLength 45 = .ok (.invokevirtual 32, 3) := dk_182 0 32 (dk_at dksJ22_newBytesLength_2 0 rfl rfl)
theorem dJ22_newBytesLength_48 : decode cJ22_newBytesLength 48 = .ok (.invokevirtual 37, 3) := dk_182 0 37 (dk_at dksJ22_newBytesLength_2 3 rfl rfl)
theorem dJ22_newBytesLength_51 : decode cJ22_newBytesLength 51 = .ok (.invokespecial 41, 3) := dk_183 0 41 (dk_at dksJ22_newBytesLength_2 6 rfl rfl)
theorem dJ22_newBytesLength_54 : decode cJ22_newBytesLength 54 = .ok (.athrow, 1) := dk_191 (dk_at dksJ22_newBytesLength_2 9 rfl rfl)
theorem dJ22_newBytesLength_55 : decode cJ22_newBytesLength 55 = .ok (.iload_n 0, 1) := dk_26 (dk_at dksJ22_newBytesLength_2 10 rfl rfl)
theorem dJ22_newBytesLength_56 : decode cJ22_newBytesLength 56 = .ok (.iconst 1, 1) := dk_4 (dk_at dksJ22_newBytesLength_2 11 rfl rfl)
theorem dJ22_newBytesLength_57 : decode cJ22_newBytesLength 57 = .ok (.ishl, 1) := dk_120 (dk_at dksJ22_newBytesLength_2 12 rfl rfl)
theorem dJ22_newBytesLength_58 : decode cJ22_newBytesLength 58 = .ok (.ireturn, 1) := dk_172 (dk_at dksJ22_newBytesLength_2 13 rfl rfl)
abbrev cJ22_inflate : ByteArray := prog_41_method_86_code
def yJ22_inflate : MethodName := ⟨RJ22, "inflate", "([BI[BII)V"⟩
def dkwJ22_inflate_1 : List UInt8 := [132, 1, 1, 51, 17, 0, 255, 126, 184, 0, 111, 132, 5, 1, 167, 255, 228, 177]
abbrev dktJ22_inflate_1 : List UInt8 := dkwJ22_inflate_1 ++ []
def dkwJ22_inflate_0 : List UInt8 := [29, 21, 4, 44, 184, 0, 173, 3, 54, 5, 21, 5, 21, 4, 162, 0, 27, 44, 29, 132, 3, 1, 42, 27]
abbrev dktJ22_inflate_0 : List UInt8 := dkwJ22_inflate_0 ++ dktJ22_inflate_1
theorem dksJ22_inflate_0 : cJ22_inflate.data.toList.drop 0 = dktJ22_inflate_0 := by decide +kernel
theorem dksJ22_inflate_1 : cJ22_inflate.data.toList.drop 24 = dktJ22_inflate_1 := dk_seg dksJ22_inflate_0 24 rfl rfl
theorem dJ22_inflate_0 : decode cJ22_inflate 0 = .ok (.iload_n 3, 1) := dk_29 (dk_at dksJ22_inflate_0 0 rfl rfl)
theorem dJ22_inflate_1 : decode cJ22_inflate 1 = .ok (.iload 4, 2) := dk_21 4 (dk_at dksJ22_inflate_0 1 rfl rfl)
theorem dJ22_inflate_3 : decode cJ22_inflate 3 = .ok (.aload_n 2, 1) := dk_44 (dk_at dksJ22_inflate_0 3 rfl rfl)
theorem dJ22_inflate_4 : decode cJ22_inflate 4 = .ok (.invokestatic 173, 3) := dk_184 0 173 (dk_at dksJ22_inflate_0 4 rfl rfl)
theorem dJ22_inflate_7 : decode cJ22_inflate 7 = .ok (.iconst 0, 1) := dk_3 (dk_at dksJ22_inflate_0 7 rfl rfl)
theorem dJ22_inflate_8 : decode cJ22_inflate 8 = .ok (.istore 5, 2) := dk_54 5 (dk_at dksJ22_inflate_0 8 rfl rfl)
theorem dJ22_inflate_10 : decode cJ22_inflate 10 = .ok (.iload 5, 2) := dk_21 5 (dk_at dksJ22_inflate_0 10 rfl rfl)
theorem dJ22_inflate_12 : decode cJ22_inflate 12 = .ok (.iload 4, 2) := dk_21 4 (dk_at dksJ22_inflate_0 12 rfl rfl)
theorem dJ22_inflate_14 : decode cJ22_inflate 14 = .ok (.if_icmp .ge 27, 3) := dk_162 0 27 (dk_at dksJ22_inflate_0 14 rfl rfl)
theorem dJ22_inflate_17 : decode cJ22_inflate 17 = .ok (.aload_n 2, 1) := dk_44 (dk_at dksJ22_inflate_0 17 rfl rfl)
theorem dJ22_inflate_18 : decode cJ22_inflate 18 = .ok (.iload_n 3, 1) := dk_29 (dk_at dksJ22_inflate_0 18 rfl rfl)
theorem dJ22_inflate_19 : decode cJ22_inflate 19 = .ok (.iinc 3 1, 3) := dk_132 3 1 (dk_at dksJ22_inflate_0 19 rfl rfl)
theorem dJ22_inflate_22 : decode cJ22_inflate 22 = .ok (.aload_n 0, 1) := dk_42 (dk_at dksJ22_inflate_0 22 rfl rfl)
theorem dJ22_inflate_23 : decode cJ22_inflate 23 = .ok (.iload_n 1, 1) := dk_27 (dk_at dksJ22_inflate_0 23 rfl rfl)
theorem dJ22_inflate_24 : decode cJ22_inflate 24 = .ok (.iinc 1 1, 3) := dk_132 1 1 (dk_at dksJ22_inflate_1 0 rfl rfl)
theorem dJ22_inflate_27 : decode cJ22_inflate 27 = .ok (.baload, 1) := dk_51 (dk_at dksJ22_inflate_1 3 rfl rfl)
theorem dJ22_inflate_28 : decode cJ22_inflate 28 = .ok (.sipush 255, 3) := dk_17 0 255 (dk_at dksJ22_inflate_1 4 rfl rfl)
theorem dJ22_inflate_31 : decode cJ22_inflate 31 = .ok (.iand, 1) := dk_126 (dk_at dksJ22_inflate_1 7 rfl rfl)
theorem dJ22_inflate_32 : decode cJ22_inflate 32 = .ok (.invokestatic 111, 3) := dk_184 0 111 (dk_at dksJ22_inflate_1 8 rfl rfl)
theorem dJ22_inflate_35 : decode cJ22_inflate 35 = .ok (.iinc 5 1, 3) := dk_132 5 1 (dk_at dksJ22_inflate_1 11 rfl rfl)
theorem dJ22_inflate_38 : decode cJ22_inflate 38 = .ok (.goto (-28), 3) := dk_167 255 228 (dk_at dksJ22_inflate_1 14 rfl rfl)
theorem dJ22_inflate_41 : decode cJ22_inflate 41 = .ok (.return_, 1) := dk_177 (dk_at dksJ22_inflate_1 17 rfl rfl)
abbrev cJ22_checkBoundsOffCount : ByteArray := prog_41_method_94_code
def yJ22_checkBoundsOffCount : MethodName := ⟨RJ22, "checkBoundsOffCount", "(II[B)V"⟩
def dkwJ22_checkBoundsOffCount_0 : List UInt8 := [26, 27, 44, 184, 0, 48, 184, 1, 163, 87, 177]
abbrev dktJ22_checkBoundsOffCount_0 : List UInt8 := dkwJ22_checkBoundsOffCount_0 ++ []
theorem dksJ22_checkBoundsOffCount_0 : cJ22_checkBoundsOffCount.data.toList.drop 0 = dktJ22_checkBoundsOffCount_0 := by decide +kernel
theorem dJ22_checkBoundsOffCount_0 : decode cJ22_checkBoundsOffCount 0 = .ok (.iload_n 0, 1) := dk_26 (dk_at dksJ22_checkBoundsOffCount_0 0 rfl rfl)
theorem dJ22_checkBoundsOffCount_1 : decode cJ22_checkBoundsOffCount 1 = .ok (.iload_n 1, 1) := dk_27 (dk_at dksJ22_checkBoundsOffCount_0 1 rfl rfl)
theorem dJ22_checkBoundsOffCount_2 : decode cJ22_checkBoundsOffCount 2 = .ok (.aload_n 2, 1) := dk_44 (dk_at dksJ22_checkBoundsOffCount_0 2 rfl rfl)
theorem dJ22_checkBoundsOffCount_3 : decode cJ22_checkBoundsOffCount 3 = .ok (.invokestatic 48, 3) := dk_184 0 48 (dk_at dksJ22_checkBoundsOffCount_0 3 rfl rfl)
theorem dJ22_checkBoundsOffCount_6 : decode cJ22_checkBoundsOffCount 6 = .ok (.invokestatic 419, 3) := dk_184 1 163 (dk_at dksJ22_checkBoundsOffCount_0 6 rfl rfl)
theorem dJ22_checkBoundsOffCount_9 : decode cJ22_checkBoundsOffCount 9 = .ok (.pop, 1) := dk_87 (dk_at dksJ22_checkBoundsOffCount_0 9 rfl rfl)
theorem dJ22_checkBoundsOffCount_10 : decode cJ22_checkBoundsOffCount 10 = .ok (.return_, 1) := dk_177 (dk_at dksJ22_checkBoundsOffCount_0 10 rfl rfl)
abbrev cJ22_length : ByteArray := prog_41_method_6_code
def yJ22_length : MethodName := ⟨RJ22, "length", "([B)I"⟩
def dkwJ22_length_0 : List UInt8 := [42, 190, 4, 122, 172]
abbrev dktJ22_length_0 : List UInt8 := dkwJ22_length_0 ++ []
theorem dksJ22_length_0 : cJ22_length.data.toList.drop 0 = dktJ22_length_0 := by decide +kernel
theorem dJ22_length_0 : decode cJ22_length 0 = .ok (.aload_n 0, 1) := dk_42 (dk_at dksJ22_length_0 0 rfl rfl)
theorem dJ22_length_1 : decode cJ22_length 1 = .ok (.arraylength, 1) := dk_190 (dk_at dksJ22_length_0 1 rfl rfl)
theorem dJ22_length_2 : decode cJ22_length 2 = .ok (.iconst 1, 1) := dk_4 (dk_at dksJ22_length_0 2 rfl rfl)
theorem dJ22_length_3 : decode cJ22_length 3 = .ok (.ishr, 1) := dk_122 (dk_at dksJ22_length_0 3 rfl rfl)
theorem dJ22_length_4 : decode cJ22_length 4 = .ok (.ireturn, 1) := dk_172 (dk_at dksJ22_length_0 4 rfl rfl)
abbrev cJ22_putChar : ByteArray := prog_41_method_4_code
def yJ22_putChar : MethodName := ⟨RJ22, "putChar", "([BII)V"⟩
def dkwJ22_putChar_2 : List UInt8 := [178, 0, 63, 122, 145, 84, 177]
abbrev dktJ22_putChar_2 : List UInt8 := dkwJ22_putChar_2 ++ []
def dkwJ22_putChar_1 : List UInt8 := [183, 0, 56, 191, 27, 4, 120, 60, 42, 27, 132, 1, 1, 28, 178, 0, 59, 122, 145, 84, 42, 27, 28]
abbrev dktJ22_putChar_1 : List UInt8 := dkwJ22_putChar_1 ++ dktJ22_putChar_2
def dkwJ22_putChar_0 : List UInt8 := [178, 0, 44, 154, 0, 25, 27, 155, 0, 11, 27, 42, 184, 0, 48, 161, 0, 13, 187, 0, 52, 89, 18, 54]
abbrev dktJ22_putChar_0 : List UInt8 := dkwJ22_putChar_0 ++ dktJ22_putChar_1
theorem dksJ22_putChar_0 : cJ22_putChar.data.toList.drop 0 = dktJ22_putChar_0 := by decide +kernel
theorem dksJ22_putChar_1 : cJ22_putChar.data.toList.drop 24 = dktJ22_putChar_1 := dk_seg dksJ22_putChar_0 24 rfl rfl
theorem dksJ22_putChar_2 : cJ22_putChar.data.toList.drop 47 = dktJ22_putChar_2 := dk_seg dksJ22_putChar_1 23 rfl rfl
theorem dJ22_putChar_0 : decode cJ22_putChar 0 = .ok (.getstatic 44, 3) := dk_178 0 44 (dk_at dksJ22_putChar_0 0 rfl rfl)
theorem dJ22_putChar_3 : decode cJ22_putChar 3 = .ok (.ifCond .ne 25, 3) := dk_154 0 25 (dk_at dksJ22_putChar_0 3 rfl rfl)
theorem dJ22_putChar_6 : decode cJ22_putChar 6 = .ok (.iload_n 1, 1) := dk_27 (dk_at dksJ22_putChar_0 6 rfl rfl)
theorem dJ22_putChar_7 : decode cJ22_putChar 7 = .ok (.ifCond .lt 11, 3) := dk_155 0 11 (dk_at dksJ22_putChar_0 7 rfl rfl)
theorem dJ22_putChar_10 : decode cJ22_putChar 10 = .ok (.iload_n 1, 1) := dk_27 (dk_at dksJ22_putChar_0 10 rfl rfl)
theorem dJ22_putChar_11 : decode cJ22_putChar 11 = .ok (.aload_n 0, 1) := dk_42 (dk_at dksJ22_putChar_0 11 rfl rfl)
theorem dJ22_putChar_12 : decode cJ22_putChar 12 = .ok (.invokestatic 48, 3) := dk_184 0 48 (dk_at dksJ22_putChar_0 12 rfl rfl)
theorem dJ22_putChar_15 : decode cJ22_putChar 15 = .ok (.if_icmp .lt 13, 3) := dk_161 0 13 (dk_at dksJ22_putChar_0 15 rfl rfl)
theorem dJ22_putChar_18 : decode cJ22_putChar 18 = .ok (.new 52, 3) := dk_187 0 52 (dk_at dksJ22_putChar_0 18 rfl rfl)
theorem dJ22_putChar_21 : decode cJ22_putChar 21 = .ok (.dup, 1) := dk_89 (dk_at dksJ22_putChar_0 21 rfl rfl)
theorem dJ22_putChar_22 : decode cJ22_putChar 22 = .ok (.ldc 54, 2) := dk_18 54 (dk_at dksJ22_putChar_0 22 rfl rfl)
theorem dJ22_putChar_24 : decode cJ22_putChar 24 = .ok (.invokespecial 56, 3) := dk_183 0 56 (dk_at dksJ22_putChar_1 0 rfl rfl)
theorem dJ22_putChar_27 : decode cJ22_putChar 27 = .ok (.athrow, 1) := dk_191 (dk_at dksJ22_putChar_1 3 rfl rfl)
theorem dJ22_putChar_28 : decode cJ22_putChar 28 = .ok (.iload_n 1, 1) := dk_27 (dk_at dksJ22_putChar_1 4 rfl rfl)
theorem dJ22_putChar_29 : decode cJ22_putChar 29 = .ok (.iconst 1, 1) := dk_4 (dk_at dksJ22_putChar_1 5 rfl rfl)
theorem dJ22_putChar_30 : decode cJ22_putChar 30 = .ok (.ishl, 1) := dk_120 (dk_at dksJ22_putChar_1 6 rfl rfl)
theorem dJ22_putChar_31 : decode cJ22_putChar 31 = .ok (.istore_n 1, 1) := dk_60 (dk_at dksJ22_putChar_1 7 rfl rfl)
theorem dJ22_putChar_32 : decode cJ22_putChar 32 = .ok (.aload_n 0, 1) := dk_42 (dk_at dksJ22_putChar_1 8 rfl rfl)
theorem dJ22_putChar_33 : decode cJ22_putChar 33 = .ok (.iload_n 1, 1) := dk_27 (dk_at dksJ22_putChar_1 9 rfl rfl)
theorem dJ22_putChar_34 : decode cJ22_putChar 34 = .ok (.iinc 1 1, 3) := dk_132 1 1 (dk_at dksJ22_putChar_1 10 rfl rfl)
theorem dJ22_putChar_37 : decode cJ22_putChar 37 = .ok (.iload_n 2, 1) := dk_28 (dk_at dksJ22_putChar_1 13 rfl rfl)
theorem dJ22_putChar_38 : decode cJ22_putChar 38 = .ok (.getstatic 59, 3) := dk_178 0 59 (dk_at dksJ22_putChar_1 14 rfl rfl)
theorem dJ22_putChar_41 : decode cJ22_putChar 41 = .ok (.ishr, 1) := dk_122 (dk_at dksJ22_putChar_1 17 rfl rfl)
theorem dJ22_putChar_42 : decode cJ22_putChar 42 = .ok (.i2b, 1) := dk_145 (dk_at dksJ22_putChar_1 18 rfl rfl)
theorem dJ22_putChar_43 : decode cJ22_putChar 43 = .ok (.bastore, 1) := dk_84 (dk_at dksJ22_putChar_1 19 rfl rfl)
theorem dJ22_putChar_44 : decode cJ22_putChar 44 = .ok (.aload_n 0, 1) := dk_42 (dk_at dksJ22_putChar_1 20 rfl rfl)
theorem dJ22_putChar_45 : decode cJ22_putChar 45 = .ok (.iload_n 1, 1) := dk_27 (dk_at dksJ22_putChar_1 21 rfl rfl)
theorem dJ22_putChar_46 : decode cJ22_putChar 46 = .ok (.iload_n 2, 1) := dk_28 (dk_at dksJ22_putChar_1 22 rfl rfl)
theorem dJ22_putChar_47 : decode cJ22_putChar 47 = .ok (.getstatic 63, 3) := dk_178 0 63 (dk_at dksJ22_putChar_2 0 rfl rfl)
theorem dJ22_putChar_50 : decode cJ22_putChar 50 = .ok (.ishr, 1) := dk_122 (dk_at dksJ22_putChar_2 3 rfl rfl)
theorem dJ22_putChar_51 : decode cJ22_putChar 51 = .ok (.i2b, 1) := dk_145 (dk_at dksJ22_putChar_2 4 rfl rfl)
theorem dJ22_putChar_52 : decode cJ22_putChar 52 = .ok (.bastore, 1) := dk_84 (dk_at dksJ22_putChar_2 5 rfl rfl)
theorem dJ22_putChar_53 : decode cJ22_putChar 53 = .ok (.return_, 1) := dk_177 (dk_at dksJ22_putChar_2 6 rfl rfl)
abbrev cJ22_putCharSB : ByteArray := prog_41_method_71_code
def yJ22_putCharSB : MethodName := ⟨RJ22, "putCharSB", "([BII)V"⟩
def dkwJ22_putCharSB_0 : List UInt8 := [27, 42, 184, 0, 67, 42, 27, 28, 184, 0, 111, 177]
abbrev dktJ22_putCharSB_0 : List UInt8 := dkwJ22_putCharSB_0 ++ []
theorem dksJ22_putCharSB_0 : cJ22_putCharSB.data.toList.drop 0 = dktJ22_putCharSB_0 := by decide +kernel
theorem dJ22_putCharSB_0 : decode cJ22_putCharSB 0 = .ok (.iload_n 1, 1) := dk_27 (dk_at dksJ22_putCharSB_0 0 rfl rfl)
theorem dJ22_putCharSB_1 : decode cJ22_putCharSB 1 = .ok (.aload_n 0, 1) := dk_42 (dk_at dksJ22_putCharSB_0 1 rfl rfl)
theorem dJ22_putCharSB_2 : decode cJ22_putCharSB 2 = .ok (.invokestatic 67, 3) := dk_184 0 67 (dk_at dksJ22_putCharSB_0 2 rfl rfl)
theorem dJ22_putCharSB_5 : decode cJ22_putCharSB 5 = .ok (.aload_n 0, 1) := dk_42 (dk_at dksJ22_putCharSB_0 5 rfl rfl)
theorem dJ22_putCharSB_6 : decode cJ22_putCharSB 6 = .ok (.iload_n 1, 1) := dk_27 (dk_at dksJ22_putCharSB_0 6 rfl rfl)
theorem dJ22_putCharSB_7 : decode cJ22_putCharSB 7 = .ok (.iload_n 2, 1) := dk_28 (dk_at dksJ22_putCharSB_0 7 rfl rfl)
theorem dJ22_putCharSB_8 : decode cJ22_putCharSB 8 = .ok (.invokestatic 111, 3) := dk_184 0 111 (dk_at dksJ22_putCharSB_0 8 rfl rfl)
theorem dJ22_putCharSB_11 : decode cJ22_putCharSB 11 = .ok (.return_, 1) := dk_177 (dk_at dksJ22_putCharSB_0 11 rfl rfl)
abbrev cJ22_checkIndex : ByteArray := prog_41_method_91_code
def yJ22_checkIndex : MethodName := ⟨RJ22, "checkIndex", "(I[B)V"⟩
def dkwJ22_checkIndex_0 : List UInt8 := [26, 43, 184, 0, 48, 184, 1, 158, 177]
abbrev dktJ22_checkIndex_0 : List UInt8 := dkwJ22_checkIndex_0 ++ []
theorem dksJ22_checkIndex_0 : cJ22_checkIndex.data.toList.drop 0 = dktJ22_checkIndex_0 := by decide +kernel
theorem dJ22_checkIndex_0 : decode cJ22_checkIndex 0 = .ok (.iload_n 0, 1) := dk_26 (dk_at dksJ22_checkIndex_0 0 rfl rfl)
theorem dJ22_checkIndex_1 : decode cJ22_checkIndex 1 = .ok (.aload_n 1, 1) := dk_43 (dk_at dksJ22_checkIndex_0 1 rfl rfl)
theorem dJ22_checkIndex_2 : decode cJ22_checkIndex 2 = .ok (.invokestatic 48, 3) := dk_184 0 48 (dk_at dksJ22_checkIndex_0 2 rfl rfl)
theorem dJ22_checkIndex_5 : decode cJ22_checkIndex 5 = .ok (.invokestatic 414, 3) := dk_184 1 158 (dk_at dksJ22_checkIndex_0 5 rfl rfl)
theorem dJ22_checkIndex_8 : decode cJ22_checkIndex 8 = .ok (.return_, 1) := dk_177 (dk_at dksJ22_checkIndex_0 8 rfl rfl)
abbrev cJ22_getChars : ByteArray := prog_41_method_77_code
def yJ22_getChars : MethodName := ⟨RJ22, "getChars", "(III[B)I"⟩
def dkwJ22_getChars_1 : List UInt8 := [159, 0, 11, 187, 0, 52, 89, 183, 0, 66, 191, 21, 4, 172]
abbrev dktJ22_getChars_1 : List UInt8 := dkwJ22_getChars_1 ++ []
def dkwJ22_getChars_0 : List UInt8 := [27, 28, 45, 184, 0, 96, 26, 28, 45, 184, 1, 137, 54, 4, 178, 0, 44, 154, 0, 17, 27, 21, 4]
abbrev dktJ22_getChars_0 : List UInt8 := dkwJ22_getChars_0 ++ dktJ22_getChars_1
theorem dksJ22_getChars_0 : cJ22_getChars.data.toList.drop 0 = dktJ22_getChars_0 := by decide +kernel
theorem dksJ22_getChars_1 : cJ22_getChars.data.toList.drop 23 = dktJ22_getChars_1 := dk_seg dksJ22_getChars_0 23 rfl rfl
theorem dJ22_getChars_0 : decode cJ22_getChars 0 = .ok (.iload_n 1, 1) := dk_27 (dk_at dksJ22_getChars_0 0 rfl rfl)
theorem dJ22_getChars_1 : decode cJ22_getChars 1 = .ok (.iload_n 2, 1) := dk_28 (dk_at dksJ22_getChars_0 1 rfl rfl)
theorem dJ22_getChars_2 : decode cJ22_getChars 2 = .ok (.aload_n 3, 1) := dk_45 (dk_at dksJ22_getChars_0 2 rfl rfl)
theorem dJ22_getChars_3 : decode cJ22_getChars 3 = .ok (.invokestatic 96, 3) := dk_184 0 96 (dk_at dksJ22_getChars_0 3 rfl rfl)
theorem dJ22_getChars_6 : decode cJ22_getChars 6 = .ok (.iload_n 0, 1) := dk_26 (dk_at dksJ22_getChars_0 6 rfl rfl)
theorem dJ22_getChars_7 : decode cJ22_getChars 7 = .ok (.iload_n 2, 1) := dk_28 (dk_at dksJ22_getChars_0 7 rfl rfl)
theorem dJ22_getChars_8 : decode cJ22_getChars 8 = .ok (.aload_n 3, 1) := dk_45 (dk_at dksJ22_getChars_0 8 rfl rfl)
theorem dJ22_getChars_9 : decode cJ22_getChars 9 = .ok (.invokestatic 393, 3) := dk_184 1 137 (dk_at dksJ22_getChars_0 9 rfl rfl)
theorem dJ22_getChars_12 : decode cJ22_getChars 12 = .ok (.istore 4, 2) := dk_54 4 (dk_at dksJ22_getChars_0 12 rfl rfl)
theorem dJ22_getChars_14 : decode cJ22_getChars 14 = .ok (.getstatic 44, 3) := dk_178 0 44 (dk_at dksJ22_getChars_0 14 rfl rfl)
theorem dJ22_getChars_17 : decode cJ22_getChars 17 = .ok (.ifCond .ne 17, 3) := dk_154 0 17 (dk_at dksJ22_getChars_0 17 rfl rfl)
theorem dJ22_getChars_20 : decode cJ22_getChars 20 = .ok (.iload_n 1, 1) := dk_27 (dk_at dksJ22_getChars_0 20 rfl rfl)
theorem dJ22_getChars_21 : decode cJ22_getChars 21 = .ok (.iload 4, 2) := dk_21 4 (dk_at dksJ22_getChars_0 21 rfl rfl)
theorem dJ22_getChars_23 : decode cJ22_getChars 23 = .ok (.if_icmp .eq 11, 3) := dk_159 0 11 (dk_at dksJ22_getChars_1 0 rfl rfl)
theorem dJ22_getChars_26 : decode cJ22_getChars 26 = .ok (.new 52, 3) := dk_187 0 52 (dk_at dksJ22_getChars_1 3 rfl rfl)
theorem dJ22_getChars_29 : decode cJ22_getChars 29 = .ok (.dup, 1) := dk_89 (dk_at dksJ22_getChars_1 6 rfl rfl)
theorem dJ22_getChars_30 : decode cJ22_getChars 30 = .ok (.invokespecial 66, 3) := dk_183 0 66 (dk_at dksJ22_getChars_1 7 rfl rfl)
theorem dJ22_getChars_33 : decode cJ22_getChars 33 = .ok (.athrow, 1) := dk_191 (dk_at dksJ22_getChars_1 10 rfl rfl)
theorem dJ22_getChars_34 : decode cJ22_getChars 34 = .ok (.iload 4, 2) := dk_21 4 (dk_at dksJ22_getChars_1 11 rfl rfl)
theorem dJ22_getChars_36 : decode cJ22_getChars 36 = .ok (.ireturn, 1) := dk_172 (dk_at dksJ22_getChars_1 13 rfl rfl)
abbrev cJ22_checkBoundsBeginEnd : ByteArray := prog_41_method_93_code
def yJ22_checkBoundsBeginEnd : MethodName := ⟨RJ22, "checkBoundsBeginEnd", "(II[B)V"⟩
def dkwJ22_checkBoundsBeginEnd_0 : List UInt8 := [26, 27, 44, 184, 0, 48, 184, 0, 241, 177]
abbrev dktJ22_checkBoundsBeginEnd_0 : List UInt8 := dkwJ22_checkBoundsBeginEnd_0 ++ []
theorem dksJ22_checkBoundsBeginEnd_0 : cJ22_checkBoundsBeginEnd.data.toList.drop 0 = dktJ22_checkBoundsBeginEnd_0 := by decide +kernel
theorem dJ22_checkBoundsBeginEnd_0 : decode cJ22_checkBoundsBeginEnd 0 = .ok (.iload_n 0, 1) := dk_26 (dk_at dksJ22_checkBoundsBeginEnd_0 0 rfl rfl)
theorem dJ22_checkBoundsBeginEnd_1 : decode cJ22_checkBoundsBeginEnd 1 = .ok (.iload_n 1, 1) := dk_27 (dk_at dksJ22_checkBoundsBeginEnd_0 1 rfl rfl)
theorem dJ22_checkBoundsBeginEnd_2 : decode cJ22_checkBoundsBeginEnd 2 = .ok (.aload_n 2, 1) := dk_44 (dk_at dksJ22_checkBoundsBeginEnd_0 2 rfl rfl)
theorem dJ22_checkBoundsBeginEnd_3 : decode cJ22_checkBoundsBeginEnd 3 = .ok (.invokestatic 48, 3) := dk_184 0 48 (dk_at dksJ22_checkBoundsBeginEnd_0 3 rfl rfl)
theorem dJ22_checkBoundsBeginEnd_6 : decode cJ22_checkBoundsBeginEnd 6 = .ok (.invokestatic 241, 3) := dk_184 0 241 (dk_at dksJ22_checkBoundsBeginEnd_0 6 rfl rfl)
theorem dJ22_checkBoundsBeginEnd_9 : decode cJ22_checkBoundsBeginEnd 9 = .ok (.return_, 1) := dk_177 (dk_at dksJ22_checkBoundsBeginEnd_0 9 rfl rfl)
abbrev cJ22_getChars_2 : ByteArray := prog_41_method_89_code
def yJ22_getChars_2 : MethodName := ⟨RJ22, "getChars", "(II[B)I"⟩
def dkwJ22_getChars_2_5 : List UInt8 := [132, 5, 255, 21, 5, 16, 45, 184, 0, 111, 21, 5, 172]
abbrev dktJ22_getChars_2_5 : List UInt8 := dkwJ22_getChars_2_5 ++ []
def dkwJ22_getChars_2_4 : List UInt8 := [162, 0, 18, 44, 132, 5, 255, 21, 5, 178, 1, 151, 26, 116, 51, 184, 0, 111, 21, 6, 153, 0, 14, 44]
abbrev dktJ22_getChars_2_4 : List UInt8 := dkwJ22_getChars_2_4 ++ dktJ22_getChars_2_5
def dkwJ22_getChars_2_3 : List UInt8 := [184, 0, 111, 167, 255, 205, 44, 132, 5, 255, 21, 5, 178, 1, 147, 26, 116, 51, 184, 0, 111, 26, 16, 247]
abbrev dktJ22_getChars_2_3 : List UInt8 := dkwJ22_getChars_2_3 ++ dktJ22_getChars_2_4
def dkwJ22_getChars_2_2 : List UInt8 := [21, 5, 178, 1, 147, 21, 4, 51, 184, 0, 111, 44, 132, 5, 255, 21, 5, 178, 1, 151, 21, 4, 51]
abbrev dktJ22_getChars_2_2 : List UInt8 := dkwJ22_getChars_2_2 ++ dktJ22_getChars_2_3
def dkwJ22_getChars_2_1 : List UInt8 := [16, 156, 163, 0, 51, 26, 16, 100, 108, 62, 29, 16, 100, 104, 26, 100, 54, 4, 29, 59, 44, 132, 5, 255]
abbrev dktJ22_getChars_2_1 : List UInt8 := dkwJ22_getChars_2_1 ++ dktJ22_getChars_2_2
def dkwJ22_getChars_2_0 : List UInt8 := [27, 54, 5, 26, 156, 0, 7, 4, 167, 0, 4, 3, 54, 6, 21, 6, 154, 0, 6, 26, 116, 59, 26]
abbrev dktJ22_getChars_2_0 : List UInt8 := dkwJ22_getChars_2_0 ++ dktJ22_getChars_2_1
theorem dksJ22_getChars_2_0 : cJ22_getChars_2.data.toList.drop 0 = dktJ22_getChars_2_0 := by decide +kernel
theorem dksJ22_getChars_2_1 : cJ22_getChars_2.data.toList.drop 23 = dktJ22_getChars_2_1 := dk_seg dksJ22_getChars_2_0 23 rfl rfl
theorem dksJ22_getChars_2_2 : cJ22_getChars_2.data.toList.drop 47 = dktJ22_getChars_2_2 := dk_seg dksJ22_getChars_2_1 24 rfl rfl
theorem dksJ22_getChars_2_3 : cJ22_getChars_2.data.toList.drop 70 = dktJ22_getChars_2_3 := dk_seg dksJ22_getChars_2_2 23 rfl rfl
theorem dksJ22_getChars_2_4 : cJ22_getChars_2.data.toList.drop 94 = dktJ22_getChars_2_4 := dk_seg dksJ22_getChars_2_3 24 rfl rfl
theorem dksJ22_getChars_2_5 : cJ22_getChars_2.data.toList.drop 118 = dktJ22_getChars_2_5 := dk_seg dksJ22_getChars_2_4 24 rfl rfl
theorem dJ22_getChars_2_0 : decode cJ22_getChars_2 0 = .ok (.iload_n 1, 1) := dk_27 (dk_at dksJ22_getChars_2_0 0 rfl rfl)
theorem dJ22_getChars_2_1 : decode cJ22_getChars_2 1 = .ok (.istore 5, 2) := dk_54 5 (dk_at dksJ22_getChars_2_0 1 rfl rfl)
theorem dJ22_getChars_2_3 : decode cJ22_getChars_2 3 = .ok (.iload_n 0, 1) := dk_26 (dk_at dksJ22_getChars_2_0 3 rfl rfl)
theorem dJ22_getChars_2_4 : decode cJ22_getChars_2 4 = .ok (.ifCond .ge 7, 3) := dk_156 0 7 (dk_at dksJ22_getChars_2_0 4 rfl rfl)
theorem dJ22_getChars_2_7 : decode cJ22_getChars_2 7 = .ok (.iconst 1, 1) := dk_4 (dk_at dksJ22_getChars_2_0 7 rfl rfl)
theorem dJ22_getChars_2_8 : decode cJ22_getChars_2 8 = .ok (.goto 4, 3) := dk_167 0 4 (dk_at dksJ22_getChars_2_0 8 rfl rfl)
theorem dJ22_getChars_2_11 : decode cJ22_getChars_2 11 = .ok (.iconst 0, 1) := dk_3 (dk_at dksJ22_getChars_2_0 11 rfl rfl)
theorem dJ22_getChars_2_12 : decode cJ22_getChars_2 12 = .ok (.istore 6, 2) := dk_54 6 (dk_at dksJ22_getChars_2_0 12 rfl rfl)
theorem dJ22_getChars_2_14 : decode cJ22_getChars_2 14 = .ok (.iload 6, 2) := dk_21 6 (dk_at dksJ22_getChars_2_0 14 rfl rfl)
theorem dJ22_getChars_2_16 : decode cJ22_getChars_2 16 = .ok (.ifCond .ne 6, 3) := dk_154 0 6 (dk_at dksJ22_getChars_2_0 16 rfl rfl)
theorem dJ22_getChars_2_19 : decode cJ22_getChars_2 19 = .ok (.iload_n 0, 1) := dk_26 (dk_at dksJ22_getChars_2_0 19 rfl rfl)
theorem dJ22_getChars_2_20 : decode cJ22_getChars_2 20 = .ok (.ineg, 1) := dk_116 (dk_at dksJ22_getChars_2_0 20 rfl rfl)
theorem dJ22_getChars_2_21 : decode cJ22_getChars_2 21 = .ok (.istore_n 0, 1) := dk_59 (dk_at dksJ22_getChars_2_0 21 rfl rfl)
theorem dJ22_getChars_2_22 : decode cJ22_getChars_2 22 = .ok (.iload_n 0, 1) := dk_26 (dk_at dksJ22_getChars_2_0 22 rfl rfl)
theorem dJ22_getChars_2_23 : decode cJ22_getChars_2 23 = .ok (.bipush (-100), 2) := dk_16 156 (dk_at dksJ22_getChars_2_1 0 rfl rfl)
theorem dJ22_getChars_2_25 : decode cJ22_getChars_2 25 = .ok (.if_icmp .gt 51, 3) := dk_163 0 51 (dk_at dksJ22_getChars_2_1 2 rfl rfl)
theorem dJ22_getChars_2_28 : decode cJ22_getChars_2 28 = .ok (.iload_n 0, 1) := dk_26 (dk_at dksJ22_getChars_2_1 5 rfl rfl)
theorem dJ22_getChars_2_29 : decode cJ22_getChars_2 29 = .ok (.bipush 100, 2) := dk_16 100 (dk_at dksJ22_getChars_2_1 6 rfl rfl)
theorem dJ22_getChars_2_31 : decode cJ22_getChars_2 31 = .ok (.idiv, 1) := dk_108 (dk_at dksJ22_getChars_2_1 8 rfl rfl)
theorem dJ22_getChars_2_32 : decode cJ22_getChars_2 32 = .ok (.istore_n 3, 1) := dk_62 (dk_at dksJ22_getChars_2_1 9 rfl rfl)
theorem dJ22_getChars_2_33 : decode cJ22_getChars_2 33 = .ok (.iload_n 3, 1) := dk_29 (dk_at dksJ22_getChars_2_1 10 rfl rfl)
theorem dJ22_getChars_2_34 : decode cJ22_getChars_2 34 = .ok (.bipush 100, 2) := dk_16 100 (dk_at dksJ22_getChars_2_1 11 rfl rfl)
theorem dJ22_getChars_2_36 : decode cJ22_getChars_2 36 = .ok (.imul, 1) := dk_104 (dk_at dksJ22_getChars_2_1 13 rfl rfl)
theorem dJ22_getChars_2_37 : decode cJ22_getChars_2 37 = .ok (.iload_n 0, 1) := dk_26 (dk_at dksJ22_getChars_2_1 14 rfl rfl)
theorem dJ22_getChars_2_38 : decode cJ22_getChars_2 38 = .ok (.isub, 1) := dk_100 (dk_at dksJ22_getChars_2_1 15 rfl rfl)
theorem dJ22_getChars_2_39 : decode cJ22_getChars_2 39 = .ok (.istore 4, 2) := dk_54 4 (dk_at dksJ22_getChars_2_1 16 rfl rfl)
theorem dJ22_getChars_2_41 : decode cJ22_getChars_2 41 = .ok (.iload_n 3, 1) := dk_29 (dk_at dksJ22_getChars_2_1 18 rfl rfl)
theorem dJ22_getChars_2_42 : decode cJ22_getChars_2 42 = .ok (.istore_n 0, 1) := dk_59 (dk_at dksJ22_getChars_2_1 19 rfl rfl)
theorem dJ22_getChars_2_43 : decode cJ22_getChars_2 43 = .ok (.aload_n 2, 1) := dk_44 (dk_at dksJ22_getChars_2_1 20 rfl rfl)
theorem dJ22_getChars_2_44 : decode cJ22_getChars_2 44 = .ok (.iinc 5 (-1), 3) := dk_132 5 255 (dk_at dksJ22_getChars_2_1 21 rfl rfl)
theorem dJ22_getChars_2_47 : decode cJ22_getChars_2 47 = .ok (.iload 5, 2) := dk_21 5 (dk_at dksJ22_getChars_2_2 0 rfl rfl)
theorem dJ22_getChars_2_49 : decode cJ22_getChars_2 49 = .ok (.getstatic 403, 3) := dk_178 1 147 (dk_at dksJ22_getChars_2_2 2 rfl rfl)
theorem dJ22_getChars_2_52 : decode cJ22_getChars_2 52 = .ok (.iload 4, 2) := dk_21 4 (dk_at dksJ22_getChars_2_2 5 rfl rfl)
theorem dJ22_getChars_2_54 : decode cJ22_getChars_2 54 = .ok (.baload, 1) := dk_51 (dk_at dksJ22_getChars_2_2 7 rfl rfl)
theorem dJ22_getChars_2_55 : decode cJ22_getChars_2 55 = .ok (.invokestatic 111, 3) := dk_184 0 111 (dk_at dksJ22_getChars_2_2 8 rfl rfl)
theorem dJ22_getChars_2_58 : decode cJ22_getChars_2 58 = .ok (.aload_n 2, 1) := dk_44 (dk_at dksJ22_getChars_2_2 11 rfl rfl)
theorem dJ22_getChars_2_59 : decode cJ22_getChars_2 59 = .ok (.iinc 5 (-1), 3) := dk_132 5 255 (dk_at dksJ22_getChars_2_2 12 rfl rfl)
theorem dJ22_getChars_2_62 : decode cJ22_getChars_2 62 = .ok (.iload 5, 2) := dk_21 5 (dk_at dksJ22_getChars_2_2 15 rfl rfl)
theorem dJ22_getChars_2_64 : decode cJ22_getChars_2 64 = .ok (.getstatic 407, 3) := dk_178 1 151 (dk_at dksJ22_getChars_2_2 17 rfl rfl)
theorem dJ22_getChars_2_67 : decode cJ22_getChars_2 67 = .ok (.iload 4, 2) := dk_21 4 (dk_at dksJ22_getChars_2_2 20 rfl rfl)
theorem dJ22_getChars_2_69 : decode cJ22_getChars_2 69 = .ok (.baload, 1) := dk_51 (dk_at dksJ22_getChars_2_2 22 rfl rfl)
theorem dJ22_getChars_2_70 : decode cJ22_getChars_2 70 = .ok (.invokestatic 111, 3) := dk_184 0 111 (dk_at dksJ22_getChars_2_3 0 rfl rfl)
theorem dJ22_getChars_2_73 : decode cJ22_getChars_2 73 = .ok (.goto (-51), 3) := dk_167 255 205 (dk_at dksJ22_getChars_2_3 3 rfl rfl)
theorem dJ22_getChars_2_76 : decode cJ22_getChars_2 76 = .ok (.aload_n 2, 1) := dk_44 (dk_at dksJ22_getChars_2_3 6 rfl rfl)
theorem dJ22_getChars_2_77 : decode cJ22_getChars_2 77 = .ok (.iinc 5 (-1), 3) := dk_132 5 255 (dk_at dksJ22_getChars_2_3 7 rfl rfl)
theorem dJ22_getChars_2_80 : decode cJ22_getChars_2 80 = .ok (.iload 5, 2) := dk_21 5 (dk_at dksJ22_getChars_2_3 10 rfl rfl)
theorem dJ22_getChars_2_82 : decode cJ22_getChars_2 82 = .ok (.getstatic 403, 3) := dk_178 1 147 (dk_at dksJ22_getChars_2_3 12 rfl rfl)
theorem dJ22_getChars_2_85 : decode cJ22_getChars_2 85 = .ok (.iload_n 0, 1) := dk_26 (dk_at dksJ22_getChars_2_3 15 rfl rfl)
theorem dJ22_getChars_2_86 : decode cJ22_getChars_2 86 = .ok (.ineg, 1) := dk_116 (dk_at dksJ22_getChars_2_3 16 rfl rfl)
theorem dJ22_getChars_2_87 : decode cJ22_getChars_2 87 = .ok (.baload, 1) := dk_51 (dk_at dksJ22_getChars_2_3 17 rfl rfl)
theorem dJ22_getChars_2_88 : decode cJ22_getChars_2 88 = .ok (.invokestatic 111, 3) := dk_184 0 111 (dk_at dksJ22_getChars_2_3 18 rfl rfl)
theorem dJ22_getChars_2_91 : decode cJ22_getChars_2 91 = .ok (.iload_n 0, 1) := dk_26 (dk_at dksJ22_getChars_2_3 21 rfl rfl)
theorem dJ22_getChars_2_92 : decode cJ22_getChars_2 92 = .ok (.bipush (-9), 2) := dk_16 247 (dk_at dksJ22_getChars_2_3 22 rfl rfl)
theorem dJ22_getChars_2_94 : decode cJ22_getChars_2 94 = .ok (.if_icmp .ge 18, 3) := dk_162 0 18 (dk_at dksJ22_getChars_2_4 0 rfl rfl)
theorem dJ22_getChars_2_97 : decode cJ22_getChars_2 97 = .ok (.aload_n 2, 1) := dk_44 (dk_at dksJ22_getChars_2_4 3 rfl rfl)
theorem dJ22_getChars_2_98 : decode cJ22_getChars_2 98 = .ok (.iinc 5 (-1), 3) := dk_132 5 255 (dk_at dksJ22_getChars_2_4 4 rfl rfl)
theorem dJ22_getChars_2_101 : decode cJ22_getChars_2 101 = .ok (.iload 5, 2) := dk_21 5 (dk_at dksJ22_getChars_2_4 7 rfl rfl)
theorem dJ22_getChars_2_103 : decode cJ22_getChars_2 103 = .ok (.getstatic 407, 3) := dk_178 1 151 (dk_at dksJ22_getChars_2_4 9 rfl rfl)
theorem dJ22_getChars_2_106 : decode cJ22_getChars_2 106 = .ok (.iload_n 0, 1) := dk_26 (dk_at dksJ22_getChars_2_4 12 rfl rfl)
theorem dJ22_getChars_2_107 : decode cJ22_getChars_2 107 = .ok (.ineg, 1) := dk_116 (dk_at dksJ22_getChars_2_4 13 rfl rfl)
theorem dJ22_getChars_2_108 : decode cJ22_getChars_2 108 = .ok (.baload, 1) := dk_51 (dk_at dksJ22_getChars_2_4 14 rfl rfl)
theorem dJ22_getChars_2_109 : decode cJ22_getChars_2 109 = .ok (.invokestatic 111, 3) := dk_184 0 111 (dk_at dksJ22_getChars_2_4 15 rfl rfl)
theorem dJ22_getChars_2_112 : decode cJ22_getChars_2 112 = .ok (.iload 6, 2) := dk_21 6 (dk_at dksJ22_getChars_2_4 18 rfl rfl)
theorem dJ22_getChars_2_114 : decode cJ22_getChars_2 114 = .ok (.ifCond .eq 14, 3) := dk_153 0 14 (dk_at dksJ22_getChars_2_4 20 rfl rfl)
theorem dJ22_getChars_2_117 : decode cJ22_getChars_2 117 = .ok (.aload_n 2, 1) := dk_44 (dk_at dksJ22_getChars_2_4 23 rfl rfl)
theorem dJ22_getChars_2_118 : decode cJ22_getChars_2 118 = .ok (.iinc 5 (-1), 3) := dk_132 5 255 (dk_at dksJ22_getChars_2_5 0 rfl rfl)
theorem dJ22_getChars_2_121 : decode cJ22_getChars_2 121 = .ok (.iload 5, 2) := dk_21 5 (dk_at dksJ22_getChars_2_5 3 rfl rfl)
theorem dJ22_getChars_2_123 : decode cJ22_getChars_2 123 = .ok (.bipush 45, 2) := dk_16 45 (dk_at dksJ22_getChars_2_5 5 rfl rfl)
theorem dJ22_getChars_2_125 : decode cJ22_getChars_2 125 = .ok (.invokestatic 111, 3) := dk_184 0 111 (dk_at dksJ22_getChars_2_5 7 rfl rfl)
theorem dJ22_getChars_2_128 : decode cJ22_getChars_2 128 = .ok (.iload 5, 2) := dk_21 5 (dk_at dksJ22_getChars_2_5 10 rfl rfl)
theorem dJ22_getChars_2_130 : decode cJ22_getChars_2 130 = .ok (.ireturn, 1) := dk_172 (dk_at dksJ22_getChars_2_5 12 rfl rfl)
abbrev cJ22_putCharsAt : ByteArray := prog_41_method_81_code
def yJ22_putCharsAt : MethodName := ⟨RJ22, "putCharsAt", "([BICCCC)I"⟩
def dkwJ22_putCharsAt_3 : List UInt8 := [21, 6, 172]
abbrev dktJ22_putCharsAt_3 : List UInt8 := dkwJ22_putCharsAt_3 ++ []
def dkwJ22_putCharsAt_2 : List UInt8 := [184, 0, 111, 178, 0, 44, 154, 0, 17, 27, 21, 6, 159, 0, 11, 187, 0, 52, 89, 183, 0, 66, 191]
abbrev dktJ22_putCharsAt_2 : List UInt8 := dkwJ22_putCharsAt_2 ++ dktJ22_putCharsAt_3
def dkwJ22_putCharsAt_1 : List UInt8 := [132, 1, 1, 29, 184, 0, 111, 42, 27, 132, 1, 1, 21, 4, 184, 0, 111, 42, 27, 132, 1, 1, 21, 5]
abbrev dktJ22_putCharsAt_1 : List UInt8 := dkwJ22_putCharsAt_1 ++ dktJ22_putCharsAt_2
def dkwJ22_putCharsAt_0 : List UInt8 := [27, 7, 96, 54, 6, 27, 21, 6, 42, 184, 0, 96, 42, 27, 132, 1, 1, 28, 184, 0, 111, 42, 27]
abbrev dktJ22_putCharsAt_0 : List UInt8 := dkwJ22_putCharsAt_0 ++ dktJ22_putCharsAt_1
theorem dksJ22_putCharsAt_0 : cJ22_putCharsAt.data.toList.drop 0 = dktJ22_putCharsAt_0 := by decide +kernel
theorem dksJ22_putCharsAt_1 : cJ22_putCharsAt.data.toList.drop 23 = dktJ22_putCharsAt_1 := dk_seg dksJ22_putCharsAt_0 23 rfl rfl
theorem dksJ22_putCharsAt_2 : cJ22_putCharsAt.data.toList.drop 47 = dktJ22_putCharsAt_2 := dk_seg dksJ22_putCharsAt_1 24 rfl rfl
theorem dksJ22_putCharsAt_3 : cJ22_putCharsAt.data.toList.drop 70 = dktJ22_putCharsAt_3 := dk_seg dksJ22_putCharsAt_2 23 rfl rfl
theorem dJ22_putCharsAt_0 : decode cJ22_putCharsAt 0 = .ok (.iload_n 1, 1) := dk_27 (dk_at dksJ22_putCharsAt_0 0 rfl rfl)
theorem dJ22_putCharsAt_1 : decode cJ22_putCharsAt 1 = .ok (.iconst 4, 1) := dk_7 (dk_at dksJ22_putCharsAt_0 1 rfl rfl)
theorem dJ22_putCharsAt_2 : decode cJ22_putCharsAt 2 = .ok (.iadd, 1) := dk_96 (dk_at dksJ22_putCharsAt_0 2 rfl rfl)
theorem dJ22_putCharsAt_3 : decode cJ22_putCharsAt 3 = .ok (.istore 6, 2) := dk_54 6 (dk_at dksJ22_putCharsAt_0 3 rfl rfl)
theorem dJ22_putCharsAt_5 : decode cJ22_putCharsAt 5 = .ok (.iload_n 1, 1) := dk_27 (dk_at dksJ22_putCharsAt_0 5 rfl rfl)
theorem dJ22_putCharsAt_6 : decode cJ22_putCharsAt 6 = .ok (.iload 6, 2) := dk_21 6 (dk_at dksJ22_putCharsAt_0 6 rfl rfl)
theorem dJ22_putCharsAt_8 : decode cJ22_putCharsAt 8 = .ok (.aload_n 0, 1) := dk_42 (dk_at dksJ22_putCharsAt_0 8 rfl rfl)
theorem dJ22_putCharsAt_9 : decode cJ22_putCharsAt 9 = .ok (.invokestatic 96, 3) := dk_184 0 96 (dk_at dksJ22_putCharsAt_0 9 rfl rfl)
theorem dJ22_putCharsAt_12 : decode cJ22_putCharsAt 12 = .ok (.aload_n 0, 1) := dk_42 (dk_at dksJ22_putCharsAt_0 12 rfl rfl)
theorem dJ22_putCharsAt_13 : decode cJ22_putCharsAt 13 = .ok (.iload_n 1, 1) := dk_27 (dk_at dksJ22_putCharsAt_0 13 rfl rfl)
theorem dJ22_putCharsAt_14 : decode cJ22_putCharsAt 14 = .ok (.iinc 1 1, 3) := dk_132 1 1 (dk_at dksJ22_putCharsAt_0 14 rfl rfl)
theorem dJ22_putCharsAt_17 : decode cJ22_putCharsAt 17 = .ok (.iload_n 2, 1) := dk_28 (dk_at dksJ22_putCharsAt_0 17 rfl rfl)
theorem dJ22_putCharsAt_18 : decode cJ22_putCharsAt 18 = .ok (.invokestatic 111, 3) := dk_184 0 111 (dk_at dksJ22_putCharsAt_0 18 rfl rfl)
theorem dJ22_putCharsAt_21 : decode cJ22_putCharsAt 21 = .ok (.aload_n 0, 1) := dk_42 (dk_at dksJ22_putCharsAt_0 21 rfl rfl)
theorem dJ22_putCharsAt_22 : decode cJ22_putCharsAt 22 = .ok (.iload_n 1, 1) := dk_27 (dk_at dksJ22_putCharsAt_0 22 rfl rfl)
theorem dJ22_putCharsAt_23 : decode cJ22_putCharsAt 23 = .ok (.iinc 1 1, 3) := dk_132 1 1 (dk_at dksJ22_putCharsAt_1 0 rfl rfl)
theorem dJ22_putCharsAt_26 : decode cJ22_putCharsAt 26 = .ok (.iload_n 3, 1) := dk_29 (dk_at dksJ22_putCharsAt_1 3 rfl rfl)
theorem dJ22_putCharsAt_27 : decode cJ22_putCharsAt 27 = .ok (.invokestatic 111, 3) := dk_184 0 111 (dk_at dksJ22_putCharsAt_1 4 rfl rfl)
theorem dJ22_putCharsAt_30 : decode cJ22_putCharsAt 30 = .ok (.aload_n 0, 1) := dk_42 (dk_at dksJ22_putCharsAt_1 7 rfl rfl)
theorem dJ22_putCharsAt_31 : decode cJ22_putCharsAt 31 = .ok (.iload_n 1, 1) := dk_27 (dk_at dksJ22_putCharsAt_1 8 rfl rfl)
theorem dJ22_putCharsAt_32 : decode cJ22_putCharsAt 32 = .ok (.iinc 1 1, 3) := dk_132 1 1 (dk_at dksJ22_putCharsAt_1 9 rfl rfl)
theorem dJ22_putCharsAt_35 : decode cJ22_putCharsAt 35 = .ok (.iload 4, 2) := dk_21 4 (dk_at dksJ22_putCharsAt_1 12 rfl rfl)
theorem dJ22_putCharsAt_37 : decode cJ22_putCharsAt 37 = .ok (.invokestatic 111, 3) := dk_184 0 111 (dk_at dksJ22_putCharsAt_1 14 rfl rfl)
theorem dJ22_putCharsAt_40 : decode cJ22_putCharsAt 40 = .ok (.aload_n 0, 1) := dk_42 (dk_at dksJ22_putCharsAt_1 17 rfl rfl)
theorem dJ22_putCharsAt_41 : decode cJ22_putCharsAt 41 = .ok (.iload_n 1, 1) := dk_27 (dk_at dksJ22_putCharsAt_1 18 rfl rfl)
theorem dJ22_putCharsAt_42 : decode cJ22_putCharsAt 42 = .ok (.iinc 1 1, 3) := dk_132 1 1 (dk_at dksJ22_putCharsAt_1 19 rfl rfl)
theorem dJ22_putCharsAt_45 : decode cJ22_putCharsAt 45 = .ok (.iload 5, 2) := dk_21 5 (dk_at dksJ22_putCharsAt_1 22 rfl rfl)
theorem dJ22_putCharsAt_47 : decode cJ22_putCharsAt 47 = .ok (.invokestatic 111, 3) := dk_184 0 111 (dk_at dksJ22_putCharsAt_2 0 rfl rfl)
theorem dJ22_putCharsAt_50 : decode cJ22_putCharsAt 50 = .ok (.getstatic 44, 3) := dk_178 0 44 (dk_at dksJ22_putCharsAt_2 3 rfl rfl)
theorem dJ22_putCharsAt_53 : decode cJ22_putCharsAt 53 = .ok (.ifCond .ne 17, 3) := dk_154 0 17 (dk_at dksJ22_putCharsAt_2 6 rfl rfl)
theorem dJ22_putCharsAt_56 : decode cJ22_putCharsAt 56 = .ok (.iload_n 1, 1) := dk_27 (dk_at dksJ22_putCharsAt_2 9 rfl rfl)
theorem dJ22_putCharsAt_57 : decode cJ22_putCharsAt 57 = .ok (.iload 6, 2) := dk_21 6 (dk_at dksJ22_putCharsAt_2 10 rfl rfl)
theorem dJ22_putCharsAt_59 : decode cJ22_putCharsAt 59 = .ok (.if_icmp .eq 11, 3) := dk_159 0 11 (dk_at dksJ22_putCharsAt_2 12 rfl rfl)
theorem dJ22_putCharsAt_62 : decode cJ22_putCharsAt 62 = .ok (.new 52, 3) := dk_187 0 52 (dk_at dksJ22_putCharsAt_2 15 rfl rfl)
theorem dJ22_putCharsAt_65 : decode cJ22_putCharsAt 65 = .ok (.dup, 1) := dk_89 (dk_at dksJ22_putCharsAt_2 18 rfl rfl)
theorem dJ22_putCharsAt_66 : decode cJ22_putCharsAt 66 = .ok (.invokespecial 66, 3) := dk_183 0 66 (dk_at dksJ22_putCharsAt_2 19 rfl rfl)
theorem dJ22_putCharsAt_69 : decode cJ22_putCharsAt 69 = .ok (.athrow, 1) := dk_191 (dk_at dksJ22_putCharsAt_2 22 rfl rfl)
theorem dJ22_putCharsAt_70 : decode cJ22_putCharsAt 70 = .ok (.iload 6, 2) := dk_21 6 (dk_at dksJ22_putCharsAt_3 0 rfl rfl)
theorem dJ22_putCharsAt_72 : decode cJ22_putCharsAt 72 = .ok (.ireturn, 1) := dk_172 (dk_at dksJ22_putCharsAt_3 2 rfl rfl)
abbrev cJ22_compress : ByteArray := prog_41_method_17_code
def yJ22_compress : MethodName := ⟨RJ22, "compress", "([BII)[B"⟩
def dkwJ22_compress_2 : List UInt8 := [25, 5, 3, 45, 3, 28, 184, 0, 123, 28, 159, 0, 6, 25, 5, 176, 45, 176]
abbrev dktJ22_compress_2 : List UInt8 := dkwJ22_compress_2 ++ []
def dkwJ22_compress_1 : List UInt8 := [27, 28, 96, 184, 0, 11, 184, 0, 126, 58, 5, 25, 5, 21, 4, 184, 0, 71, 17, 0, 255, 163, 0, 16]
abbrev dktJ22_compress_1 : List UInt8 := dkwJ22_compress_1 ++ dktJ22_compress_2
def dkwJ22_compress_0 : List UInt8 := [28, 188, 8, 78, 42, 27, 45, 3, 28, 184, 0, 123, 54, 4, 21, 4, 28, 159, 0, 47, 42, 27, 4, 120]
abbrev dktJ22_compress_0 : List UInt8 := dkwJ22_compress_0 ++ dktJ22_compress_1
theorem dksJ22_compress_0 : cJ22_compress.data.toList.drop 0 = dktJ22_compress_0 := by decide +kernel
theorem dksJ22_compress_1 : cJ22_compress.data.toList.drop 24 = dktJ22_compress_1 := dk_seg dksJ22_compress_0 24 rfl rfl
theorem dksJ22_compress_2 : cJ22_compress.data.toList.drop 48 = dktJ22_compress_2 := dk_seg dksJ22_compress_1 24 rfl rfl
theorem dJ22_compress_0 : decode cJ22_compress 0 = .ok (.iload_n 2, 1) := dk_28 (dk_at dksJ22_compress_0 0 rfl rfl)
theorem dJ22_compress_1 : decode cJ22_compress 1 = .ok (.newarray .byte, 2) := dk_188_8 (dk_at dksJ22_compress_0 1 rfl rfl)
theorem dJ22_compress_3 : decode cJ22_compress 3 = .ok (.astore_n 3, 1) := dk_78 (dk_at dksJ22_compress_0 3 rfl rfl)
theorem dJ22_compress_4 : decode cJ22_compress 4 = .ok (.aload_n 0, 1) := dk_42 (dk_at dksJ22_compress_0 4 rfl rfl)
theorem dJ22_compress_5 : decode cJ22_compress 5 = .ok (.iload_n 1, 1) := dk_27 (dk_at dksJ22_compress_0 5 rfl rfl)
theorem dJ22_compress_6 : decode cJ22_compress 6 = .ok (.aload_n 3, 1) := dk_45 (dk_at dksJ22_compress_0 6 rfl rfl)
theorem dJ22_compress_7 : decode cJ22_compress 7 = .ok (.iconst 0, 1) := dk_3 (dk_at dksJ22_compress_0 7 rfl rfl)
theorem dJ22_compress_8 : decode cJ22_compress 8 = .ok (.iload_n 2, 1) := dk_28 (dk_at dksJ22_compress_0 8 rfl rfl)
theorem dJ22_compress_9 : decode cJ22_compress 9 = .ok (.invokestatic 123, 3) := dk_184 0 123 (dk_at dksJ22_compress_0 9 rfl rfl)
theorem dJ22_compress_12 : decode cJ22_compress 12 = .ok (.istore 4, 2) := dk_54 4 (dk_at dksJ22_compress_0 12 rfl rfl)
theorem dJ22_compress_14 : decode cJ22_compress 14 = .ok (.iload 4, 2) := dk_21 4 (dk_at dksJ22_compress_0 14 rfl rfl)
theorem dJ22_compress_16 : decode cJ22_compress 16 = .ok (.iload_n 2, 1) := dk_28 (dk_at dksJ22_compress_0 16 rfl rfl)
theorem dJ22_compress_17 : decode cJ22_compress 17 = .ok (.if_icmp .eq 47, 3) := dk_159 0 47 (dk_at dksJ22_compress_0 17 rfl rfl)
theorem dJ22_compress_20 : decode cJ22_compress 20 = .ok (.aload_n 0, 1) := dk_42 (dk_at dksJ22_compress_0 20 rfl rfl)
theorem dJ22_compress_21 : decode cJ22_compress 21 = .ok (.iload_n 1, 1) := dk_27 (dk_at dksJ22_compress_0 21 rfl rfl)
theorem dJ22_compress_22 : decode cJ22_compress 22 = .ok (.iconst 1, 1) := dk_4 (dk_at dksJ22_compress_0 22 rfl rfl)
theorem dJ22_compress_23 : decode cJ22_compress 23 = .ok (.ishl, 1) := dk_120 (dk_at dksJ22_compress_0 23 rfl rfl)
theorem dJ22_compress_24 : decode cJ22_compress 24 = .ok (.iload_n 1, 1) := dk_27 (dk_at dksJ22_compress_1 0 rfl rfl)
theorem dJ22_compress_25 : decode cJ22_compress 25 = .ok (.iload_n 2, 1) := dk_28 (dk_at dksJ22_compress_1 1 rfl rfl)
theorem dJ22_compress_26 : decode cJ22_compress 26 = .ok (.iadd, 1) := dk_96 (dk_at dksJ22_compress_1 2 rfl rfl)
theorem dJ22_compress_27 : decode cJ22_compress 27 = .ok (.invokestatic 11, 3) := dk_184 0 11 (dk_at dksJ22_compress_1 3 rfl rfl)
theorem dJ22_compress_30 : decode cJ22_compress 30 = .ok (.invokestatic 126, 3) := dk_184 0 126 (dk_at dksJ22_compress_1 6 rfl rfl)
theorem dJ22_compress_33 : decode cJ22_compress 33 = .ok (.astore 5, 2) := dk_58 5 (dk_at dksJ22_compress_1 9 rfl rfl)
theorem dJ22_compress_35 : decode cJ22_compress 35 = .ok (.aload 5, 2) := dk_25 5 (dk_at dksJ22_compress_1 11 rfl rfl)
theorem dJ22_compress_37 : decode cJ22_compress 37 = .ok (.iload 4, 2) := dk_21 4 (dk_at dksJ22_compress_1 13 rfl rfl)
theorem dJ22_compress_39 : decode cJ22_compress 39 = .ok (.invokestatic 71, 3) := dk_184 0 71 (dk_at dksJ22_compress_1 15 rfl rfl)
theorem dJ22_compress_42 : decode cJ22_compress 42 = .ok (.sipush 255, 3) := dk_17 0 255 (dk_at dksJ22_compress_1 18 rfl rfl)
theorem dJ22_compress_45 : decode cJ22_compress 45 = .ok (.if_icmp .gt 16, 3) := dk_163 0 16 (dk_at dksJ22_compress_1 21 rfl rfl)
theorem dJ22_compress_48 : decode cJ22_compress 48 = .ok (.aload 5, 2) := dk_25 5 (dk_at dksJ22_compress_2 0 rfl rfl)
theorem dJ22_compress_50 : decode cJ22_compress 50 = .ok (.iconst 0, 1) := dk_3 (dk_at dksJ22_compress_2 2 rfl rfl)
theorem dJ22_compress_51 : decode cJ22_compress 51 = .ok (.aload_n 3, 1) := dk_45 (dk_at dksJ22_compress_2 3 rfl rfl)
theorem dJ22_compress_52 : decode cJ22_compress 52 = .ok (.iconst 0, 1) := dk_3 (dk_at dksJ22_compress_2 4 rfl rfl)
theorem dJ22_compress_53 : decode cJ22_compress 53 = .ok (.iload_n 2, 1) := dk_28 (dk_at dksJ22_compress_2 5 rfl rfl)
theorem dJ22_compress_54 : decode cJ22_compress 54 = .ok (.invokestatic 123, 3) := dk_184 0 123 (dk_at dksJ22_compress_2 6 rfl rfl)
theorem dJ22_compress_57 : decode cJ22_compress 57 = .ok (.iload_n 2, 1) := dk_28 (dk_at dksJ22_compress_2 9 rfl rfl)
theorem dJ22_compress_58 : decode cJ22_compress 58 = .ok (.if_icmp .eq 6, 3) := dk_159 0 6 (dk_at dksJ22_compress_2 10 rfl rfl)
theorem dJ22_compress_61 : decode cJ22_compress 61 = .ok (.aload 5, 2) := dk_25 5 (dk_at dksJ22_compress_2 13 rfl rfl)
theorem dJ22_compress_63 : decode cJ22_compress 63 = .ok (.areturn, 1) := dk_176 (dk_at dksJ22_compress_2 15 rfl rfl)
theorem dJ22_compress_64 : decode cJ22_compress 64 = .ok (.aload_n 3, 1) := dk_45 (dk_at dksJ22_compress_2 16 rfl rfl)
theorem dJ22_compress_65 : decode cJ22_compress 65 = .ok (.areturn, 1) := dk_176 (dk_at dksJ22_compress_2 17 rfl rfl)
abbrev cJ22_compress_2 : ByteArray := prog_41_method_22_code
def yJ22_compress_2 : MethodName := ⟨RJ22, "compress", "([BI[BII)I"⟩
def dkwJ22_compress_2_2 : List UInt8 := [132, 5, 1, 167, 255, 216, 21, 4, 172]
abbrev dktJ22_compress_2_2 : List UInt8 := dkwJ22_compress_2_2 ++ []
def dkwJ22_compress_2_1 : List UInt8 := [21, 6, 17, 0, 255, 164, 0, 6, 21, 5, 172, 44, 29, 21, 6, 145, 84, 132, 1, 1, 132, 3, 1]
abbrev dktJ22_compress_2_1 : List UInt8 := dkwJ22_compress_2_1 ++ dktJ22_compress_2_2
def dkwJ22_compress_2_0 : List UInt8 := [27, 21, 4, 42, 184, 0, 173, 3, 54, 5, 21, 5, 21, 4, 162, 0, 39, 42, 27, 184, 0, 71, 54, 6]
abbrev dktJ22_compress_2_0 : List UInt8 := dkwJ22_compress_2_0 ++ dktJ22_compress_2_1
theorem dksJ22_compress_2_0 : cJ22_compress_2.data.toList.drop 0 = dktJ22_compress_2_0 := by decide +kernel
theorem dksJ22_compress_2_1 : cJ22_compress_2.data.toList.drop 24 = dktJ22_compress_2_1 := dk_seg dksJ22_compress_2_0 24 rfl rfl
theorem dksJ22_compress_2_2 : cJ22_compress_2.data.toList.drop 47 = dktJ22_compress_2_2 := dk_seg dksJ22_compress_2_1 23 rfl rfl
theorem dJ22_compress_2_0 : decode cJ22_compress_2 0 = .ok (.iload_n 1, 1) := dk_27 (dk_at dksJ22_compress_2_0 0 rfl rfl)
theorem dJ22_compress_2_1 : decode cJ22_compress_2 1 = .ok (.iload 4, 2) := dk_21 4 (dk_at dksJ22_compress_2_0 1 rfl rfl)
theorem dJ22_compress_2_3 : decode cJ22_compress_2 3 = .ok (.aload_n 0, 1) := dk_42 (dk_at dksJ22_compress_2_0 3 rfl rfl)
theorem dJ22_compress_2_4 : decode cJ22_compress_2 4 = .ok (.invokestatic 173, 3) := dk_184 0 173 (dk_at dksJ22_compress_2_0 4 rfl rfl)
theorem dJ22_compress_2_7 : decode cJ22_compress_2 7 = .ok (.iconst 0, 1) := dk_3 (dk_at dksJ22_compress_2_0 7 rfl rfl)
theorem dJ22_compress_2_8 : decode cJ22_compress_2 8 = .ok (.istore 5, 2) := dk_54 5 (dk_at dksJ22_compress_2_0 8 rfl rfl)
theorem dJ22_compress_2_10 : decode cJ22_compress_2 10 = .ok (.iload 5, 2) := dk_21 5 (dk_at dksJ22_compress_2_0 10 rfl rfl)
theorem dJ22_compress_2_12 : decode cJ22_compress_2 12 = .ok (.iload 4, 2) := dk_21 4 (dk_at dksJ22_compress_2_0 12 rfl rfl)
theorem dJ22_compress_2_14 : decode cJ22_compress_2 14 = .ok (.if_icmp .ge 39, 3) := dk_162 0 39 (dk_at dksJ22_compress_2_0 14 rfl rfl)
theorem dJ22_compress_2_17 : decode cJ22_compress_2 17 = .ok (.aload_n 0, 1) := dk_42 (dk_at dksJ22_compress_2_0 17 rfl rfl)
theorem dJ22_compress_2_18 : decode cJ22_compress_2 18 = .ok (.iload_n 1, 1) := dk_27 (dk_at dksJ22_compress_2_0 18 rfl rfl)
theorem dJ22_compress_2_19 : decode cJ22_compress_2 19 = .ok (.invokestatic 71, 3) := dk_184 0 71 (dk_at dksJ22_compress_2_0 19 rfl rfl)
theorem dJ22_compress_2_22 : decode cJ22_compress_2 22 = .ok (.istore 6, 2) := dk_54 6 (dk_at dksJ22_compress_2_0 22 rfl rfl)
theorem dJ22_compress_2_24 : decode cJ22_compress_2 24 = .ok (.iload 6, 2) := dk_21 6 (dk_at dksJ22_compress_2_1 0 rfl rfl)
theorem dJ22_compress_2_26 : decode cJ22_compress_2 26 = .ok (.sipush 255, 3) := dk_17 0 255 (dk_at dksJ22_compress_2_1 2 rfl rfl)
theorem dJ22_compress_2_29 : decode cJ22_compress_2 29 = .ok (.if_icmp .le 6, 3) := dk_164 0 6 (dk_at dksJ22_compress_2_1 5 rfl rfl)
theorem dJ22_compress_2_32 : decode cJ22_compress_2 32 = .ok (.iload 5, 2) := dk_21 5 (dk_at dksJ22_compress_2_1 8 rfl rfl)
theorem dJ22_compress_2_34 : decode cJ22_compress_2 34 = .ok (.ireturn, 1) := dk_172 (dk_at dksJ22_compress_2_1 10 rfl rfl)
theorem dJ22_compress_2_35 : decode cJ22_compress_2 35 = .ok (.aload_n 2, 1) := dk_44 (dk_at dksJ22_compress_2_1 11 rfl rfl)
theorem dJ22_compress_2_36 : decode cJ22_compress_2 36 = .ok (.iload_n 3, 1) := dk_29 (dk_at dksJ22_compress_2_1 12 rfl rfl)
theorem dJ22_compress_2_37 : decode cJ22_compress_2 37 = .ok (.iload 6, 2) := dk_21 6 (dk_at dksJ22_compress_2_1 13 rfl rfl)
theorem dJ22_compress_2_39 : decode cJ22_compress_2 39 = .ok (.i2b, 1) := dk_145 (dk_at dksJ22_compress_2_1 15 rfl rfl)
theorem dJ22_compress_2_40 : decode cJ22_compress_2 40 = .ok (.bastore, 1) := dk_84 (dk_at dksJ22_compress_2_1 16 rfl rfl)
theorem dJ22_compress_2_41 : decode cJ22_compress_2 41 = .ok (.iinc 1 1, 3) := dk_132 1 1 (dk_at dksJ22_compress_2_1 17 rfl rfl)
theorem dJ22_compress_2_44 : decode cJ22_compress_2 44 = .ok (.iinc 3 1, 3) := dk_132 3 1 (dk_at dksJ22_compress_2_1 20 rfl rfl)
theorem dJ22_compress_2_47 : decode cJ22_compress_2 47 = .ok (.iinc 5 1, 3) := dk_132 5 1 (dk_at dksJ22_compress_2_2 0 rfl rfl)
theorem dJ22_compress_2_50 : decode cJ22_compress_2 50 = .ok (.goto (-40), 3) := dk_167 255 216 (dk_at dksJ22_compress_2_2 3 rfl rfl)
theorem dJ22_compress_2_53 : decode cJ22_compress_2 53 = .ok (.iload 4, 2) := dk_21 4 (dk_at dksJ22_compress_2_2 6 rfl rfl)
theorem dJ22_compress_2_55 : decode cJ22_compress_2 55 = .ok (.ireturn, 1) := dk_172 (dk_at dksJ22_compress_2_2 8 rfl rfl)
abbrev cJ22_getChar : ByteArray := prog_41_method_5_code
def yJ22_getChar : MethodName := ⟨RJ22, "getChar", "([BI)C"⟩
def dkwJ22_getChar_2 : List UInt8 := [51, 17, 0, 255, 126, 178, 0, 63, 120, 128, 146, 172]
abbrev dktJ22_getChar_2 : List UInt8 := dkwJ22_getChar_2 ++ []
def dkwJ22_getChar_1 : List UInt8 := [183, 0, 56, 191, 27, 4, 120, 60, 42, 27, 132, 1, 1, 51, 17, 0, 255, 126, 178, 0, 59, 120, 42, 27]
abbrev dktJ22_getChar_1 : List UInt8 := dkwJ22_getChar_1 ++ dktJ22_getChar_2
def dkwJ22_getChar_0 : List UInt8 := [178, 0, 44, 154, 0, 25, 27, 155, 0, 11, 27, 42, 184, 0, 48, 161, 0, 13, 187, 0, 52, 89, 18, 54]
abbrev dktJ22_getChar_0 : List UInt8 := dkwJ22_getChar_0 ++ dktJ22_getChar_1
theorem dksJ22_getChar_0 : cJ22_getChar.data.toList.drop 0 = dktJ22_getChar_0 := by decide +kernel
theorem dksJ22_getChar_1 : cJ22_getChar.data.toList.drop 24 = dktJ22_getChar_1 := dk_seg dksJ22_getChar_0 24 rfl rfl
theorem dksJ22_getChar_2 : cJ22_getChar.data.toList.drop 48 = dktJ22_getChar_2 := dk_seg dksJ22_getChar_1 24 rfl rfl
theorem dJ22_getChar_0 : decode cJ22_getChar 0 = .ok (.getstatic 44, 3) := dk_178 0 44 (dk_at dksJ22_getChar_0 0 rfl rfl)
theorem dJ22_getChar_3 : decode cJ22_getChar 3 = .ok (.ifCond .ne 25, 3) := dk_154 0 25 (dk_at dksJ22_getChar_0 3 rfl rfl)
theorem dJ22_getChar_6 : decode cJ22_getChar 6 = .ok (.iload_n 1, 1) := dk_27 (dk_at dksJ22_getChar_0 6 rfl rfl)
theorem dJ22_getChar_7 : decode cJ22_getChar 7 = .ok (.ifCond .lt 11, 3) := dk_155 0 11 (dk_at dksJ22_getChar_0 7 rfl rfl)
theorem dJ22_getChar_10 : decode cJ22_getChar 10 = .ok (.iload_n 1, 1) := dk_27 (dk_at dksJ22_getChar_0 10 rfl rfl)
theorem dJ22_getChar_11 : decode cJ22_getChar 11 = .ok (.aload_n 0, 1) := dk_42 (dk_at dksJ22_getChar_0 11 rfl rfl)
theorem dJ22_getChar_12 : decode cJ22_getChar 12 = .ok (.invokestatic 48, 3) := dk_184 0 48 (dk_at dksJ22_getChar_0 12 rfl rfl)
theorem dJ22_getChar_15 : decode cJ22_getChar 15 = .ok (.if_icmp .lt 13, 3) := dk_161 0 13 (dk_at dksJ22_getChar_0 15 rfl rfl)
theorem dJ22_getChar_18 : decode cJ22_getChar 18 = .ok (.new 52, 3) := dk_187 0 52 (dk_at dksJ22_getChar_0 18 rfl rfl)
theorem dJ22_getChar_21 : decode cJ22_getChar 21 = .ok (.dup, 1) := dk_89 (dk_at dksJ22_getChar_0 21 rfl rfl)
theorem dJ22_getChar_22 : decode cJ22_getChar 22 = .ok (.ldc 54, 2) := dk_18 54 (dk_at dksJ22_getChar_0 22 rfl rfl)
theorem dJ22_getChar_24 : decode cJ22_getChar 24 = .ok (.invokespecial 56, 3) := dk_183 0 56 (dk_at dksJ22_getChar_1 0 rfl rfl)
theorem dJ22_getChar_27 : decode cJ22_getChar 27 = .ok (.athrow, 1) := dk_191 (dk_at dksJ22_getChar_1 3 rfl rfl)
theorem dJ22_getChar_28 : decode cJ22_getChar 28 = .ok (.iload_n 1, 1) := dk_27 (dk_at dksJ22_getChar_1 4 rfl rfl)
theorem dJ22_getChar_29 : decode cJ22_getChar 29 = .ok (.iconst 1, 1) := dk_4 (dk_at dksJ22_getChar_1 5 rfl rfl)
theorem dJ22_getChar_30 : decode cJ22_getChar 30 = .ok (.ishl, 1) := dk_120 (dk_at dksJ22_getChar_1 6 rfl rfl)
theorem dJ22_getChar_31 : decode cJ22_getChar 31 = .ok (.istore_n 1, 1) := dk_60 (dk_at dksJ22_getChar_1 7 rfl rfl)
theorem dJ22_getChar_32 : decode cJ22_getChar 32 = .ok (.aload_n 0, 1) := dk_42 (dk_at dksJ22_getChar_1 8 rfl rfl)
theorem dJ22_getChar_33 : decode cJ22_getChar 33 = .ok (.iload_n 1, 1) := dk_27 (dk_at dksJ22_getChar_1 9 rfl rfl)
theorem dJ22_getChar_34 : decode cJ22_getChar 34 = .ok (.iinc 1 1, 3) := dk_132 1 1 (dk_at dksJ22_getChar_1 10 rfl rfl)
theorem dJ22_getChar_37 : decode cJ22_getChar 37 = .ok (.baload, 1) := dk_51 (dk_at dksJ22_getChar_1 13 rfl rfl)
theorem dJ22_getChar_38 : decode cJ22_getChar 38 = .ok (.sipush 255, 3) := dk_17 0 255 (dk_at dksJ22_getChar_1 14 rfl rfl)
theorem dJ22_getChar_41 : decode cJ22_getChar 41 = .ok (.iand, 1) := dk_126 (dk_at dksJ22_getChar_1 17 rfl rfl)
theorem dJ22_getChar_42 : decode cJ22_getChar 42 = .ok (.getstatic 59, 3) := dk_178 0 59 (dk_at dksJ22_getChar_1 18 rfl rfl)
theorem dJ22_getChar_45 : decode cJ22_getChar 45 = .ok (.ishl, 1) := dk_120 (dk_at dksJ22_getChar_1 21 rfl rfl)
theorem dJ22_getChar_46 : decode cJ22_getChar 46 = .ok (.aload_n 0, 1) := dk_42 (dk_at dksJ22_getChar_1 22 rfl rfl)
theorem dJ22_getChar_47 : decode cJ22_getChar 47 = .ok (.iload_n 1, 1) := dk_27 (dk_at dksJ22_getChar_1 23 rfl rfl)
theorem dJ22_getChar_48 : decode cJ22_getChar 48 = .ok (.baload, 1) := dk_51 (dk_at dksJ22_getChar_2 0 rfl rfl)
theorem dJ22_getChar_49 : decode cJ22_getChar 49 = .ok (.sipush 255, 3) := dk_17 0 255 (dk_at dksJ22_getChar_2 1 rfl rfl)
theorem dJ22_getChar_52 : decode cJ22_getChar 52 = .ok (.iand, 1) := dk_126 (dk_at dksJ22_getChar_2 4 rfl rfl)
theorem dJ22_getChar_53 : decode cJ22_getChar 53 = .ok (.getstatic 63, 3) := dk_178 0 63 (dk_at dksJ22_getChar_2 5 rfl rfl)
theorem dJ22_getChar_56 : decode cJ22_getChar 56 = .ok (.ishl, 1) := dk_120 (dk_at dksJ22_getChar_2 8 rfl rfl)
theorem dJ22_getChar_57 : decode cJ22_getChar 57 = .ok (.ior, 1) := dk_128 (dk_at dksJ22_getChar_2 9 rfl rfl)
theorem dJ22_getChar_58 : decode cJ22_getChar 58 = .ok (.i2c, 1) := dk_146 (dk_at dksJ22_getChar_2 10 rfl rfl)
theorem dJ22_getChar_59 : decode cJ22_getChar 59 = .ok (.ireturn, 1) := dk_172 (dk_at dksJ22_getChar_2 11 rfl rfl)
abbrev cJ22_coderFromArrayLen : ByteArray := prog_41_method_15_code
def yJ22_coderFromArrayLen : MethodName := ⟨RJ22, "coderFromArrayLen", "([BI)B"⟩
def dkwJ22_coderFromArrayLen_0 : List UInt8 := [27, 42, 190, 100, 16, 31, 124, 145, 172]
abbrev dktJ22_coderFromArrayLen_0 : List UInt8 := dkwJ22_coderFromArrayLen_0 ++ []
theorem dksJ22_coderFromArrayLen_0 : cJ22_coderFromArrayLen.data.toList.drop 0 = dktJ22_coderFromArrayLen_0 := by decide +kernel
theorem dJ22_coderFromArrayLen_0 : decode cJ22_coderFromArrayLen 0 = .ok (.iload_n 1, 1) := dk_27 (dk_at dksJ22_coderFromArrayLen_0 0 rfl rfl)
theorem dJ22_coderFromArrayLen_1 : decode cJ22_coderFromArrayLen 1 = .ok (.aload_n 0, 1) := dk_42 (dk_at dksJ22_coderFromArrayLen_0 1 rfl rfl)
theorem dJ22_coderFromArrayLen_2 : decode cJ22_coderFromArrayLen 2 = .ok (.arraylength, 1) := dk_190 (dk_at dksJ22_coderFromArrayLen_0 2 rfl rfl)
theorem dJ22_coderFromArrayLen_3 : decode cJ22_coderFromArrayLen 3 = .ok (.isub, 1) := dk_100 (dk_at dksJ22_coderFromArrayLen_0 3 rfl rfl)
theorem dJ22_coderFromArrayLen_4 : decode cJ22_coderFromArrayLen 4 = .ok (.bipush 31, 2) := dk_16 31 (dk_at dksJ22_coderFromArrayLen_0 4 rfl rfl)
theorem dJ22_coderFromArrayLen_6 : decode cJ22_coderFromArrayLen 6 = .ok (.iushr, 1) := dk_124 (dk_at dksJ22_coderFromArrayLen_0 6 rfl rfl)
theorem dJ22_coderFromArrayLen_7 : decode cJ22_coderFromArrayLen 7 = .ok (.i2b, 1) := dk_145 (dk_at dksJ22_coderFromArrayLen_0 7 rfl rfl)
theorem dJ22_coderFromArrayLen_8 : decode cJ22_coderFromArrayLen 8 = .ok (.ireturn, 1) := dk_172 (dk_at dksJ22_coderFromArrayLen_0 8 rfl rfl)
theorem q125 : (Jvm.Cond.initialized "java/lang/StringUTF16") ∈ lw_all := lw_g (lw_at lw_m1 40 rfl) rfl
theorem q1335 : (Jvm.Cond.static ({ cls := "java/lang/StringUTF16", name := "newBytesFor", desc := "(I)[B" } : Jvm.MethodName)) ∈ lw_all := lw_g (lw_at lw_m6 50 rfl) rfl
theorem q1336 : (Jvm.Cond.code ({ cls := "java/lang/StringUTF16", name := "newBytesFor", desc := "(I)[B" } : Jvm.MethodName) prog_41_method_2_code (1 : Nat) (Option.some (Jvm.ClassFile.FieldType.array Jvm.ClassFile.FieldType.byte))) ∈ lw_all := lw_g (lw_at lw_m6 51 rfl) rfl
theorem q1337 : (Jvm.Cond.methodLink "java/lang/StringUTF16" (11 : Nat) ({ cls := "java/lang/StringUTF16", name := "newBytesLength", desc := "(I)I" } : Jvm.MethodName)) ∈ lw_all := lw_g (lw_at lw_m6 52 rfl) rfl
theorem q1338 : (Jvm.Cond.static ({ cls := "java/lang/StringUTF16", name := "newBytesLength", desc := "(I)I" } : Jvm.MethodName)) ∈ lw_all := lw_g (lw_at lw_m6 53 rfl) rfl
theorem q1339 : (Jvm.Cond.code ({ cls := "java/lang/StringUTF16", name := "newBytesLength", desc := "(I)I" } : Jvm.MethodName) prog_41_method_3_code (1 : Nat) (Option.some Jvm.ClassFile.FieldType.int)) ∈ lw_all := lw_g (lw_at lw_m6 54 rfl) rfl
theorem q1340 : (Jvm.Cond.constant "java/lang/StringUTF16" (20 : Nat) (1073741823 : Int32)) ∈ lw_all := lw_g (lw_at lw_m6 55 rfl) rfl
theorem q1420 : (Jvm.Cond.static ({ cls := "java/lang/StringUTF16", name := "inflate", desc := "([BI[BII)V" } : Jvm.MethodName)) ∈ lw_all := lw_g (lw_at lw_m6 135 rfl) rfl
theorem q1421 : (Jvm.Cond.code ({ cls := "java/lang/StringUTF16", name := "inflate", desc := "([BI[BII)V" } : Jvm.MethodName) prog_41_method_86_code (6 : Nat) (Option.none : Option Jvm.ClassFile.FieldType)) ∈ lw_all := lw_g (lw_at lw_m6 136 rfl) rfl
theorem q1422 : (Jvm.Cond.methodLink "java/lang/StringUTF16" (173 : Nat) ({ cls := "java/lang/StringUTF16", name := "checkBoundsOffCount", desc := "(II[B)V" } : Jvm.MethodName)) ∈ lw_all := lw_g (lw_at lw_m6 137 rfl) rfl
theorem q1423 : (Jvm.Cond.static ({ cls := "java/lang/StringUTF16", name := "checkBoundsOffCount", desc := "(II[B)V" } : Jvm.MethodName)) ∈ lw_all := lw_g (lw_at lw_m6 138 rfl) rfl
theorem q1424 : (Jvm.Cond.code ({ cls := "java/lang/StringUTF16", name := "checkBoundsOffCount", desc := "(II[B)V" } : Jvm.MethodName) prog_41_method_94_code (3 : Nat) (Option.none : Option Jvm.ClassFile.FieldType)) ∈ lw_all := lw_g (lw_at lw_m6 139 rfl) rfl
theorem q1425 : (Jvm.Cond.methodLink "java/lang/StringUTF16" (48 : Nat) ({ cls := "java/lang/StringUTF16", name := "length", desc := "([B)I" } : Jvm.MethodName)) ∈ lw_all := lw_g (lw_at lw_m6 140 rfl) rfl
theorem q1426 : (Jvm.Cond.static ({ cls := "java/lang/StringUTF16", name := "length", desc := "([B)I" } : Jvm.MethodName)) ∈ lw_all := lw_g (lw_at lw_m6 141 rfl) rfl
theorem q1427 : (Jvm.Cond.code ({ cls := "java/lang/StringUTF16", name := "length", desc := "([B)I" } : Jvm.MethodName) prog_41_method_6_code (1 : Nat) (Option.some Jvm.ClassFile.FieldType.int)) ∈ lw_all := lw_g (lw_at lw_m6 142 rfl) rfl
theorem q1428 : (Jvm.Cond.methodLink "java/lang/StringUTF16" (419 : Nat) ({ cls := "java/lang/String", name := "checkBoundsOffCount", desc := "(III)I" } : Jvm.MethodName)) ∈ lw_all := lw_g (lw_at lw_m6 143 rfl) rfl
theorem q1436 : (Jvm.Cond.methodLink "java/lang/StringUTF16" (111 : Nat) ({ cls := "java/lang/StringUTF16", name := "putChar", desc := "([BII)V" } : Jvm.MethodName)) ∈ lw_all := lw_g (lw_at lw_m6 151 rfl) rfl
theorem q1437 : (Jvm.Cond.static ({ cls := "java/lang/StringUTF16", name := "putChar", desc := "([BII)V" } : Jvm.MethodName)) ∈ lw_all := lw_g (lw_at lw_m6 152 rfl) rfl
theorem q1438 : (Jvm.Cond.code ({ cls := "java/lang/StringUTF16", name := "putChar", desc := "([BII)V" } : Jvm.MethodName) prog_41_method_4_code (3 : Nat) (Option.none : Option Jvm.ClassFile.FieldType)) ∈ lw_all := lw_g (lw_at lw_m6 153 rfl) rfl
theorem q1439 : (Jvm.Cond.fieldLink "java/lang/StringUTF16" (44 : Nat) "java/lang/StringUTF16" "$assertionsDisabled" "Z") ∈ lw_all := lw_g (lw_at lw_m6 154 rfl) rfl
theorem q1440 : (Jvm.Cond.laysStatic "java/lang/StringUTF16" "$assertionsDisabled" "Z") ∈ lw_tbl := lw_at lw_m6 155 rfl
theorem q1441 : (Jvm.Cond.fieldLink "java/lang/StringUTF16" (59 : Nat) "java/lang/StringUTF16" "HI_BYTE_SHIFT" "I") ∈ lw_all := lw_g (lw_at lw_m6 156 rfl) rfl
theorem q1442 : (Jvm.Cond.laysStatic "java/lang/StringUTF16" "HI_BYTE_SHIFT" "I") ∈ lw_tbl := lw_at lw_m6 157 rfl
theorem q1443 : (Jvm.Cond.fieldLink "java/lang/StringUTF16" (63 : Nat) "java/lang/StringUTF16" "LO_BYTE_SHIFT" "I") ∈ lw_all := lw_g (lw_at lw_m6 158 rfl) rfl
theorem q1444 : (Jvm.Cond.laysStatic "java/lang/StringUTF16" "LO_BYTE_SHIFT" "I") ∈ lw_tbl := lw_at lw_m6 159 rfl
theorem q1446 : (Jvm.Cond.static ({ cls := "java/lang/StringUTF16", name := "putCharSB", desc := "([BII)V" } : Jvm.MethodName)) ∈ lw_all := lw_g (lw_at lw_m6 161 rfl) rfl
theorem q1447 : (Jvm.Cond.code ({ cls := "java/lang/StringUTF16", name := "putCharSB", desc := "([BII)V" } : Jvm.MethodName) prog_41_method_71_code (3 : Nat) (Option.none : Option Jvm.ClassFile.FieldType)) ∈ lw_all := lw_g (lw_at lw_m6 162 rfl) rfl
theorem q1448 : (Jvm.Cond.methodLink "java/lang/StringUTF16" (67 : Nat) ({ cls := "java/lang/StringUTF16", name := "checkIndex", desc := "(I[B)V" } : Jvm.MethodName)) ∈ lw_all := lw_g (lw_at lw_m6 163 rfl) rfl
theorem q1449 : (Jvm.Cond.static ({ cls := "java/lang/StringUTF16", name := "checkIndex", desc := "(I[B)V" } : Jvm.MethodName)) ∈ lw_all := lw_g (lw_at lw_m6 164 rfl) rfl
theorem q1450 : (Jvm.Cond.code ({ cls := "java/lang/StringUTF16", name := "checkIndex", desc := "(I[B)V" } : Jvm.MethodName) prog_41_method_91_code (2 : Nat) (Option.none : Option Jvm.ClassFile.FieldType)) ∈ lw_all := lw_g (lw_at lw_m6 165 rfl) rfl
theorem q1451 : (Jvm.Cond.methodLink "java/lang/StringUTF16" (414 : Nat) ({ cls := "java/lang/String", name := "checkIndex", desc := "(II)V" } : Jvm.MethodName)) ∈ lw_all := lw_g (lw_at lw_m6 166 rfl) rfl
theorem q1511 : (Jvm.Cond.static ({ cls := "java/lang/StringUTF16", name := "getChars", desc := "(III[B)I" } : Jvm.MethodName)) ∈ lw_all := lw_g (lw_at lw_m6 226 rfl) rfl
theorem q1512 : (Jvm.Cond.code ({ cls := "java/lang/StringUTF16", name := "getChars", desc := "(III[B)I" } : Jvm.MethodName) prog_41_method_77_code (5 : Nat) (Option.some Jvm.ClassFile.FieldType.int)) ∈ lw_all := lw_g (lw_at lw_m6 227 rfl) rfl
theorem q1513 : (Jvm.Cond.methodLink "java/lang/StringUTF16" (96 : Nat) ({ cls := "java/lang/StringUTF16", name := "checkBoundsBeginEnd", desc := "(II[B)V" } : Jvm.MethodName)) ∈ lw_all := lw_g (lw_at lw_m6 228 rfl) rfl
theorem q1514 : (Jvm.Cond.static ({ cls := "java/lang/StringUTF16", name := "checkBoundsBeginEnd", desc := "(II[B)V" } : Jvm.MethodName)) ∈ lw_all := lw_g (lw_at lw_m6 229 rfl) rfl
theorem q1515 : (Jvm.Cond.code ({ cls := "java/lang/StringUTF16", name := "checkBoundsBeginEnd", desc := "(II[B)V" } : Jvm.MethodName) prog_41_method_93_code (3 : Nat) (Option.none : Option Jvm.ClassFile.FieldType)) ∈ lw_all := lw_g (lw_at lw_m6 230 rfl) rfl
theorem q1516 : (Jvm.Cond.methodLink "java/lang/StringUTF16" (241 : Nat) ({ cls := "java/lang/String", name := "checkBoundsBeginEnd", desc := "(III)V" } : Jvm.MethodName)) ∈ lw_all := lw_g (lw_at lw_m6 231 rfl) rfl
theorem q1522 : (Jvm.Cond.methodLink "java/lang/StringUTF16" (393 : Nat) ({ cls := "java/lang/StringUTF16", name := "getChars", desc := "(II[B)I" } : Jvm.MethodName)) ∈ lw_all := lw_g (lw_at lw_m6 237 rfl) rfl
theorem q1523 : (Jvm.Cond.static ({ cls := "java/lang/StringUTF16", name := "getChars", desc := "(II[B)I" } : Jvm.MethodName)) ∈ lw_all := lw_g (lw_at lw_m6 238 rfl) rfl
theorem q1524 : (Jvm.Cond.code ({ cls := "java/lang/StringUTF16", name := "getChars", desc := "(II[B)I" } : Jvm.MethodName) prog_41_method_89_code (7 : Nat) (Option.some Jvm.ClassFile.FieldType.int)) ∈ lw_all := lw_g (lw_at lw_m6 239 rfl) rfl
theorem q1525 : (Jvm.Cond.fieldLink "java/lang/StringUTF16" (403 : Nat) "java/lang/Integer" "DigitOnes" "[B") ∈ lw_all := lw_g (lw_at lw_m7 0 rfl) rfl
theorem q1526 : (Jvm.Cond.fieldLink "java/lang/StringUTF16" (407 : Nat) "java/lang/Integer" "DigitTens" "[B") ∈ lw_all := lw_g (lw_at lw_m7 1 rfl) rfl
theorem q1540 : (Jvm.Cond.static ({ cls := "java/lang/StringUTF16", name := "putCharsAt", desc := "([BICCCC)I" } : Jvm.MethodName)) ∈ lw_all := lw_g (lw_at lw_m7 15 rfl) rfl
theorem q1541 : (Jvm.Cond.code ({ cls := "java/lang/StringUTF16", name := "putCharsAt", desc := "([BICCCC)I" } : Jvm.MethodName) prog_41_method_81_code (7 : Nat) (Option.some Jvm.ClassFile.FieldType.int)) ∈ lw_all := lw_g (lw_at lw_m7 16 rfl) rfl
theorem q1572 : (Jvm.Cond.static ({ cls := "java/lang/StringUTF16", name := "compress", desc := "([BII)[B" } : Jvm.MethodName)) ∈ lw_all := lw_g (lw_at lw_m7 47 rfl) rfl
theorem q1573 : (Jvm.Cond.code ({ cls := "java/lang/StringUTF16", name := "compress", desc := "([BII)[B" } : Jvm.MethodName) prog_41_method_17_code (6 : Nat) (Option.some (Jvm.ClassFile.FieldType.array Jvm.ClassFile.FieldType.byte))) ∈ lw_all := lw_g (lw_at lw_m7 48 rfl) rfl
theorem q1574 : (Jvm.Cond.methodLink "java/lang/StringUTF16" (123 : Nat) ({ cls := "java/lang/StringUTF16", name := "compress", desc := "([BI[BII)I" } : Jvm.MethodName)) ∈ lw_all := lw_g (lw_at lw_m7 49 rfl) rfl
theorem q1575 : (Jvm.Cond.static ({ cls := "java/lang/StringUTF16", name := "compress", desc := "([BI[BII)I" } : Jvm.MethodName)) ∈ lw_all := lw_g (lw_at lw_m7 50 rfl) rfl
theorem q1576 : (Jvm.Cond.code ({ cls := "java/lang/StringUTF16", name := "compress", desc := "([BI[BII)I" } : Jvm.MethodName) prog_41_method_22_code (7 : Nat) (Option.some Jvm.ClassFile.FieldType.int)) ∈ lw_all := lw_g (lw_at lw_m7 51 rfl) rfl
theorem q1577 : (Jvm.Cond.methodLink "java/lang/StringUTF16" (71 : Nat) ({ cls := "java/lang/StringUTF16", name := "getChar", desc := "([BI)C" } : Jvm.MethodName)) ∈ lw_all := lw_g (lw_at lw_m7 52 rfl) rfl
theorem q1578 : (Jvm.Cond.static ({ cls := "java/lang/StringUTF16", name := "getChar", desc := "([BI)C" } : Jvm.MethodName)) ∈ lw_all := lw_g (lw_at lw_m7 53 rfl) rfl
theorem q1579 : (Jvm.Cond.code ({ cls := "java/lang/StringUTF16", name := "getChar", desc := "([BI)C" } : Jvm.MethodName) prog_41_method_5_code (2 : Nat) (Option.some Jvm.ClassFile.FieldType.char)) ∈ lw_all := lw_g (lw_at lw_m7 54 rfl) rfl
theorem q1580 : (Jvm.Cond.methodLink "java/lang/StringUTF16" (126 : Nat) ({ cls := "java/util/Arrays", name := "copyOfRange", desc := "([BII)[B" } : Jvm.MethodName)) ∈ lw_all := lw_g (lw_at lw_m7 55 rfl) rfl
theorem q1582 : (Jvm.Cond.static ({ cls := "java/lang/StringUTF16", name := "coderFromArrayLen", desc := "([BI)B" } : Jvm.MethodName)) ∈ lw_all := lw_g (lw_at lw_m7 57 rfl) rfl
theorem q1583 : (Jvm.Cond.code ({ cls := "java/lang/StringUTF16", name := "coderFromArrayLen", desc := "([BI)B" } : Jvm.MethodName) prog_41_method_15_code (2 : Nat) (Option.some Jvm.ClassFile.FieldType.byte)) ∈ lw_all := lw_g (lw_at lw_m7 58 rfl) rfl
/-! java/lang/StringLatin1 -/
set_option maxRecDepth 100000
def RJ23 : String := "java/lang/StringLatin1"
abbrev cJ23_canEncode : ByteArray := prog_40_method_3_code
def yJ23_canEncode : MethodName := ⟨RJ23, "canEncode", "(C)Z"⟩
def dkwJ23_canEncode_0 : List UInt8 := [26, 17, 0, 255, 163, 0, 7, 4, 167, 0, 4, 3, 172]
abbrev dktJ23_canEncode_0 : List UInt8 := dkwJ23_canEncode_0 ++ []
theorem dksJ23_canEncode_0 : cJ23_canEncode.data.toList.drop 0 = dktJ23_canEncode_0 := by decide +kernel
theorem dJ23_canEncode_0 : decode cJ23_canEncode 0 = .ok (.iload_n 0, 1) := dk_26 (dk_at dksJ23_canEncode_0 0 rfl rfl)
theorem dJ23_canEncode_1 : decode cJ23_canEncode 1 = .ok (.sipush 255, 3) := dk_17 0 255 (dk_at dksJ23_canEncode_0 1 rfl rfl)
theorem dJ23_canEncode_4 : decode cJ23_canEncode 4 = .ok (.if_icmp .gt 7, 3) := dk_163 0 7 (dk_at dksJ23_canEncode_0 4 rfl rfl)
theorem dJ23_canEncode_7 : decode cJ23_canEncode 7 = .ok (.iconst 1, 1) := dk_4 (dk_at dksJ23_canEncode_0 7 rfl rfl)
theorem dJ23_canEncode_8 : decode cJ23_canEncode 8 = .ok (.goto 4, 3) := dk_167 0 4 (dk_at dksJ23_canEncode_0 8 rfl rfl)
theorem dJ23_canEncode_11 : decode cJ23_canEncode 11 = .ok (.iconst 0, 1) := dk_3 (dk_at dksJ23_canEncode_0 11 rfl rfl)
theorem dJ23_canEncode_12 : decode cJ23_canEncode 12 = .ok (.ireturn, 1) := dk_172 (dk_at dksJ23_canEncode_0 12 rfl rfl)
abbrev cJ23_inflate : ByteArray := prog_40_method_50_code
def yJ23_inflate : MethodName := ⟨RJ23, "inflate", "([BI[BII)V"⟩
def dkwJ23_inflate_0 : List UInt8 := [42, 27, 44, 29, 21, 4, 184, 0, 240, 177]
abbrev dktJ23_inflate_0 : List UInt8 := dkwJ23_inflate_0 ++ []
theorem dksJ23_inflate_0 : cJ23_inflate.data.toList.drop 0 = dktJ23_inflate_0 := by decide +kernel
theorem dJ23_inflate_0 : decode cJ23_inflate 0 = .ok (.aload_n 0, 1) := dk_42 (dk_at dksJ23_inflate_0 0 rfl rfl)
theorem dJ23_inflate_1 : decode cJ23_inflate 1 = .ok (.iload_n 1, 1) := dk_27 (dk_at dksJ23_inflate_0 1 rfl rfl)
theorem dJ23_inflate_2 : decode cJ23_inflate 2 = .ok (.aload_n 2, 1) := dk_44 (dk_at dksJ23_inflate_0 2 rfl rfl)
theorem dJ23_inflate_3 : decode cJ23_inflate 3 = .ok (.iload_n 3, 1) := dk_29 (dk_at dksJ23_inflate_0 3 rfl rfl)
theorem dJ23_inflate_4 : decode cJ23_inflate 4 = .ok (.iload 4, 2) := dk_21 4 (dk_at dksJ23_inflate_0 4 rfl rfl)
theorem dJ23_inflate_6 : decode cJ23_inflate 6 = .ok (.invokestatic 240, 3) := dk_184 0 240 (dk_at dksJ23_inflate_0 6 rfl rfl)
theorem dJ23_inflate_9 : decode cJ23_inflate 9 = .ok (.return_, 1) := dk_177 (dk_at dksJ23_inflate_0 9 rfl rfl)
abbrev cJ23_equals : ByteArray := prog_40_method_13_code
def yJ23_equals : MethodName := ⟨RJ23, "equals", "([B[B)Z"⟩
def dkwJ23_equals_1 : List UInt8 := [3, 172, 132, 2, 1, 167, 255, 236, 4, 172, 3, 172]
abbrev dktJ23_equals_1 : List UInt8 := dkwJ23_equals_1 ++ []
def dkwJ23_equals_0 : List UInt8 := [42, 190, 43, 190, 160, 0, 30, 3, 61, 28, 42, 190, 162, 0, 20, 42, 28, 51, 43, 28, 51, 159, 0, 5]
abbrev dktJ23_equals_0 : List UInt8 := dkwJ23_equals_0 ++ dktJ23_equals_1
theorem dksJ23_equals_0 : cJ23_equals.data.toList.drop 0 = dktJ23_equals_0 := by decide +kernel
theorem dksJ23_equals_1 : cJ23_equals.data.toList.drop 24 = dktJ23_equals_1 := dk_seg dksJ23_equals_0 24 rfl rfl
theorem dJ23_equals_0 : decode cJ23_equals 0 = .ok (.aload_n 0, 1) := dk_42 (dk_at dksJ23_equals_0 0 rfl rfl)
theorem dJ23_equals_1 : decode cJ23_equals 1 = .ok (.arraylength, 1) := dk_190 (dk_at dksJ23_equals_0 1 rfl rfl)
theorem dJ23_equals_2 : decode cJ23_equals 2 = .ok (.aload_n 1, 1) := dk_43 (dk_at dksJ23_equals_0 2 rfl rfl)
theorem dJ23_equals_3 : decode cJ23_equals 3 = .ok (.arraylength, 1) := dk_190 (dk_at dksJ23_equals_0 3 rfl rfl)
theorem dJ23_equals_4 : decode cJ23_equals 4 = .ok (.if_icmp .ne 30, 3) := dk_160 0 30 (dk_at dksJ23_equals_0 4 rfl rfl)
theorem dJ23_equals_7 : decode cJ23_equals 7 = .ok (.iconst 0, 1) := dk_3 (dk_at dksJ23_equals_0 7 rfl rfl)
theorem dJ23_equals_8 : decode cJ23_equals 8 = .ok (.istore_n 2, 1) := dk_61 (dk_at dksJ23_equals_0 8 rfl rfl)
theorem dJ23_equals_9 : decode cJ23_equals 9 = .ok (.iload_n 2, 1) := dk_28 (dk_at dksJ23_equals_0 9 rfl rfl)
theorem dJ23_equals_10 : decode cJ23_equals 10 = .ok (.aload_n 0, 1) := dk_42 (dk_at dksJ23_equals_0 10 rfl rfl)
theorem dJ23_equals_11 : decode cJ23_equals 11 = .ok (.arraylength, 1) := dk_190 (dk_at dksJ23_equals_0 11 rfl rfl)
theorem dJ23_equals_12 : decode cJ23_equals 12 = .ok (.if_icmp .ge 20, 3) := dk_162 0 20 (dk_at dksJ23_equals_0 12 rfl rfl)
theorem dJ23_equals_15 : decode cJ23_equals 15 = .ok (.aload_n 0, 1) := dk_42 (dk_at dksJ23_equals_0 15 rfl rfl)
theorem dJ23_equals_16 : decode cJ23_equals 16 = .ok (.iload_n 2, 1) := dk_28 (dk_at dksJ23_equals_0 16 rfl rfl)
theorem dJ23_equals_17 : decode cJ23_equals 17 = .ok (.baload, 1) := dk_51 (dk_at dksJ23_equals_0 17 rfl rfl)
theorem dJ23_equals_18 : decode cJ23_equals 18 = .ok (.aload_n 1, 1) := dk_43 (dk_at dksJ23_equals_0 18 rfl rfl)
theorem dJ23_equals_19 : decode cJ23_equals 19 = .ok (.iload_n 2, 1) := dk_28 (dk_at dksJ23_equals_0 19 rfl rfl)
theorem dJ23_equals_20 : decode cJ23_equals 20 = .ok (.baload, 1) := dk_51 (dk_at dksJ23_equals_0 20 rfl rfl)
theorem dJ23_equals_21 : decode cJ23_equals 21 = .ok (.if_icmp .eq 5, 3) := dk_159 0 5 (dk_at dksJ23_equals_0 21 rfl rfl)
theorem dJ23_equals_24 : decode cJ23_equals 24 = .ok (.iconst 0, 1) := dk_3 (dk_at dksJ23_equals_1 0 rfl rfl)
theorem dJ23_equals_25 : decode cJ23_equals 25 = .ok (.ireturn, 1) := dk_172 (dk_at dksJ23_equals_1 1 rfl rfl)
theorem dJ23_equals_26 : decode cJ23_equals 26 = .ok (.iinc 2 1, 3) := dk_132 2 1 (dk_at dksJ23_equals_1 2 rfl rfl)
theorem dJ23_equals_29 : decode cJ23_equals 29 = .ok (.goto (-20), 3) := dk_167 255 236 (dk_at dksJ23_equals_1 5 rfl rfl)
theorem dJ23_equals_32 : decode cJ23_equals 32 = .ok (.iconst 1, 1) := dk_4 (dk_at dksJ23_equals_1 8 rfl rfl)
theorem dJ23_equals_33 : decode cJ23_equals 33 = .ok (.ireturn, 1) := dk_172 (dk_at dksJ23_equals_1 9 rfl rfl)
theorem dJ23_equals_34 : decode cJ23_equals 34 = .ok (.iconst 0, 1) := dk_3 (dk_at dksJ23_equals_1 10 rfl rfl)
theorem dJ23_equals_35 : decode cJ23_equals 35 = .ok (.ireturn, 1) := dk_172 (dk_at dksJ23_equals_1 11 rfl rfl)
theorem q126 : (Jvm.Cond.initialized "java/lang/StringLatin1") ∈ lw_all := lw_g (lw_at lw_m1 41 rfl) rfl
theorem q1410 : (Jvm.Cond.static ({ cls := "java/lang/StringLatin1", name := "canEncode", desc := "(C)Z" } : Jvm.MethodName)) ∈ lw_all := lw_g (lw_at lw_m6 125 rfl) rfl
theorem q1411 : (Jvm.Cond.code ({ cls := "java/lang/StringLatin1", name := "canEncode", desc := "(C)Z" } : Jvm.MethodName) prog_40_method_3_code (1 : Nat) (Option.some Jvm.ClassFile.FieldType.boolean)) ∈ lw_all := lw_g (lw_at lw_m6 126 rfl) rfl
theorem q1417 : (Jvm.Cond.static ({ cls := "java/lang/StringLatin1", name := "inflate", desc := "([BI[BII)V" } : Jvm.MethodName)) ∈ lw_all := lw_g (lw_at lw_m6 132 rfl) rfl
theorem q1418 : (Jvm.Cond.code ({ cls := "java/lang/StringLatin1", name := "inflate", desc := "([BI[BII)V" } : Jvm.MethodName) prog_40_method_50_code (5 : Nat) (Option.none : Option Jvm.ClassFile.FieldType)) ∈ lw_all := lw_g (lw_at lw_m6 133 rfl) rfl
theorem q1419 : (Jvm.Cond.methodLink "java/lang/StringLatin1" (240 : Nat) ({ cls := "java/lang/StringUTF16", name := "inflate", desc := "([BI[BII)V" } : Jvm.MethodName)) ∈ lw_all := lw_g (lw_at lw_m6 134 rfl) rfl
theorem q2105 : (Jvm.Cond.static ({ cls := "java/lang/StringLatin1", name := "equals", desc := "([B[B)Z" } : Jvm.MethodName)) ∈ lw_all := lw_g (lw_at lw_m9 100 rfl) rfl
theorem q2106 : (Jvm.Cond.code ({ cls := "java/lang/StringLatin1", name := "equals", desc := "([B[B)Z" } : Jvm.MethodName) prog_40_method_13_code (3 : Nat) (Option.some Jvm.ClassFile.FieldType.boolean)) ∈ lw_all := lw_g (lw_at lw_m9 101 rfl) rfl
/-! java/lang/Object -/
set_option maxRecDepth 100000
def RJ24 : String := "java/lang/Object"
abbrev cJ24_init : ByteArray := object_method_1_code
def yJ24_init : MethodName := ⟨RJ24, "<init>", "()V"⟩
theorem dJ24_init_0 : decode cJ24_init 0 = .ok (.return_, 1) := by decide +kernel
theorem q133 : (Jvm.Cond.instanceMethod ({ cls := "java/lang/Object", name := "<init>", desc := "()V" } : Jvm.MethodName)) ∈ lw_all := lw_g (lw_at lw_m1 48 rfl) rfl
theorem q134 : (Jvm.Cond.code ({ cls := "java/lang/Object", name := "<init>", desc := "()V" } : Jvm.MethodName) object_method_1_code (1 : Nat) (Option.none : Option Jvm.ClassFile.FieldType)) ∈ lw_all := lw_g (lw_at lw_m1 49 rfl) rfl
theorem q916 : (Jvm.Cond.instanceMethod ({ cls := "java/lang/Object", name := "getClass", desc := "()Ljava/lang/Class;" } : Jvm.MethodName)) ∈ lw_all := lw_g (lw_at lw_m4 111 rfl) rfl
theorem q917 : (Jvm.Cond.sameMethod "java/lang/Object" "java/lang/Object" "getClass" "()Ljava/lang/Class;") ∈ lw_all := lw_g (lw_at lw_m4 112 rfl) rfl
theorem q945 : (Jvm.Cond.native ({ cls := "java/lang/Object", name := "getClass", desc := "()Ljava/lang/Class;" } : Jvm.MethodName)) ∈ lw_all := lw_g (lw_at lw_m4 140 rfl) rfl
theorem q1399 : (Jvm.Cond.native ({ cls := "java/lang/Object", name := "clone", desc := "()Ljava/lang/Object;" } : Jvm.MethodName)) ∈ lw_all := lw_g (lw_at lw_m6 114 rfl) rfl
theorem q1400 : (Jvm.Cond.instanceMethod ({ cls := "java/lang/Object", name := "clone", desc := "()Ljava/lang/Object;" } : Jvm.MethodName)) ∈ lw_all := lw_g (lw_at lw_m6 115 rfl) rfl
theorem q2117 : (Jvm.Cond.initialized "java/lang/Object") ∈ lw_all := lw_g (lw_at lw_m9 112 rfl) rfl
theorem q2154 : (Jvm.Cond.declares ({ cls := "java/lang/Object", name := "getClass", desc := "()Ljava/lang/Class;" } : Jvm.MethodName)) ∈ lw_tbl := lw_at lw_m9 149 rfl
theorem q191 : (Jvm.Cond.arrayClass Jvm.ClassFile.FieldType.int) ∈ lw_all := lw_g (lw_at lw_m1 106 rfl) rfl
set_option maxRecDepth 100000
theorem q729 : (Jvm.Cond.arrayOver (Jvm.ClassFile.FieldType.object "NightwatchWall$Kind")) ∈ lw_tbl := lw_at lw_m3 164 rfl
theorem q800 : (Jvm.Cond.arrayClass Jvm.ClassFile.FieldType.byte) ∈ lw_all := lw_g (lw_at lw_m3 235 rfl) rfl
theorem q950 : (Jvm.Cond.arrayOver (Jvm.ClassFile.FieldType.object "java/lang/Object")) ∈ lw_tbl := lw_at lw_m4 145 rfl
theorem q1286 : (Jvm.Cond.arrayClass Jvm.ClassFile.FieldType.boolean) ∈ lw_all := lw_g (lw_at lw_m6 1 rfl) rfl
theorem q102 : (Jvm.Cond.initialized "java/lang/Enum") ∈ lw_all := lw_g (lw_at lw_m1 17 rfl) rfl
set_option maxRecDepth 100000
theorem q113 : (Jvm.Cond.initialized "java/lang/System") ∈ lw_all := lw_g (lw_at lw_m1 28 rfl) rfl
set_option maxRecDepth 100000
theorem q954 : (Jvm.Cond.static ({ cls := "java/lang/System", name := "arraycopy", desc := "(Ljava/lang/Object;ILjava/lang/Object;II)V" } : Jvm.MethodName)) ∈ lw_all := lw_g (lw_at lw_m4 149 rfl) rfl
theorem q955 : (Jvm.Cond.native ({ cls := "java/lang/System", name := "arraycopy", desc := "(Ljava/lang/Object;ILjava/lang/Object;II)V" } : Jvm.MethodName)) ∈ lw_all := lw_g (lw_at lw_m4 150 rfl) rfl
theorem q118 : (Jvm.Cond.initialized "java/lang/Integer$IntegerCache") ∈ lw_all := lw_g (lw_at lw_m1 33 rfl) rfl
set_option maxRecDepth 100000
theorem q1004 : (Jvm.Cond.laysStatic "java/lang/Integer$IntegerCache" "high" "I") ∈ lw_tbl := lw_at lw_m4 199 rfl
theorem q1006 : (Jvm.Cond.laysStatic "java/lang/Integer$IntegerCache" "cache" "[Ljava/lang/Integer;") ∈ lw_tbl := lw_at lw_m4 201 rfl
theorem q324 : (Jvm.Cond.interfaceMethod "java/util/Iterator" "java/util/Iterator" "hasNext" "()Z") ∈ lw_tbl := lw_at lw_m1 239 rfl
set_option maxRecDepth 100000
theorem q325 : (Jvm.Cond.declares ({ cls := "java/util/Iterator", name := "hasNext", desc := "()Z" } : Jvm.MethodName)) ∈ lw_tbl := lw_at lw_m2 0 rfl
theorem q334 : (Jvm.Cond.interfaceMethod "java/util/Iterator" "java/util/Iterator" "next" "()Ljava/lang/Object;") ∈ lw_tbl := lw_at lw_m2 9 rfl
theorem q335 : (Jvm.Cond.declares ({ cls := "java/util/Iterator", name := "next", desc := "()Ljava/lang/Object;" } : Jvm.MethodName)) ∈ lw_tbl := lw_at lw_m2 10 rfl
theorem q1398 : (Jvm.Cond.sameMethod "[B" "java/lang/Object" "clone" "()Ljava/lang/Object;") ∈ lw_all := lw_g (lw_at lw_m6 113 rfl) rfl
set_option maxRecDepth 100000
theorem q1401 : (Jvm.Cond.selects "[B" ({ cls := "[B", name := "clone", desc := "()Ljava/lang/Object;" } : Jvm.MethodName) ({ cls := "java/lang/Object", name := "clone", desc := "()Ljava/lang/Object;" } : Jvm.MethodName)) ∈ lw_all := lw_g (lw_at lw_m6 116 rfl) rfl
theorem q1402 : (Jvm.Cond.castable "[B" "java/lang/Cloneable") ∈ lw_tbl := lw_at lw_m6 117 rfl
theorem q2157 : (Jvm.Cond.castable "[B" "java/lang/Object") ∈ lw_tbl := lw_at lw_m9 152 rfl
theorem q1608 : (Jvm.Cond.interfaceMethod "java/util/List" "java/util/List" "size" "()I") ∈ lw_tbl := lw_at lw_m7 83 rfl
set_option maxRecDepth 100000
theorem q1609 : (Jvm.Cond.declares ({ cls := "java/util/List", name := "size", desc := "()I" } : Jvm.MethodName)) ∈ lw_tbl := lw_at lw_m7 84 rfl
theorem q1616 : (Jvm.Cond.interfaceMethod "java/util/List" "java/util/List" "get" "(I)Ljava/lang/Object;") ∈ lw_tbl := lw_at lw_m7 91 rfl
theorem q1617 : (Jvm.Cond.declares ({ cls := "java/util/List", name := "get", desc := "(I)Ljava/lang/Object;" } : Jvm.MethodName)) ∈ lw_tbl := lw_at lw_m7 92 rfl
theorem q1731 : (Jvm.Cond.interfaceMethod "java/util/List" "java/util/List" "add" "(Ljava/lang/Object;)Z") ∈ lw_tbl := lw_at lw_m7 206 rfl
theorem q1732 : (Jvm.Cond.declares ({ cls := "java/util/List", name := "add", desc := "(Ljava/lang/Object;)Z" } : Jvm.MethodName)) ∈ lw_tbl := lw_at lw_m7 207 rfl
theorem q2046 : (Jvm.Cond.interfaceMethod "java/util/List" "java/util/List" "remove" "(I)Ljava/lang/Object;") ∈ lw_tbl := lw_at lw_m9 41 rfl
theorem q2047 : (Jvm.Cond.declares ({ cls := "java/util/List", name := "remove", desc := "(I)Ljava/lang/Object;" } : Jvm.MethodName)) ∈ lw_tbl := lw_at lw_m9 42 rfl
theorem q2152 : (Jvm.Cond.sameMethod "[Ljava/lang/Object;" "java/lang/Object" "getClass" "()Ljava/lang/Class;") ∈ lw_all := lw_g (lw_at lw_m9 147 rfl) rfl
set_option maxRecDepth 100000
theorem q2153 : (Jvm.Cond.selects "[Ljava/lang/Object;" ({ cls := "java/lang/Object", name := "getClass", desc := "()Ljava/lang/Class;" } : Jvm.MethodName) ({ cls := "java/lang/Object", name := "getClass", desc := "()Ljava/lang/Class;" } : Jvm.MethodName)) ∈ lw_all := lw_g (lw_at lw_m9 148 rfl) rfl
theorem q2158 : (Jvm.Cond.castable "[Ljava/lang/Object;" "java/lang/Object") ∈ lw_tbl := lw_at lw_m9 153 rfl
theorem q2155 : (Jvm.Cond.castable "[I" "java/lang/Object") ∈ lw_tbl := lw_at lw_m9 150 rfl
set_option maxRecDepth 100000
theorem q2156 : (Jvm.Cond.castable "[LNightwatchWall$Kind;" "java/lang/Object") ∈ lw_tbl := lw_at lw_m9 151 rfl
set_option maxRecDepth 100000
theorem q2159 : (Jvm.Cond.castable "[Z" "java/lang/Object") ∈ lw_tbl := lw_at lw_m9 154 rfl
set_option maxRecDepth 100000
