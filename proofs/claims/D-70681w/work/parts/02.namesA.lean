/-! DECODE ROWS BY BYTES: one lemma an opcode; a method's code is cut into short pieces once, and a row reads its own piece alone. -/
set_option maxRecDepth 100000
/-- the code has just these bytes from pc on -/
def DkAt (code : ByteArray) (pc : Nat) (bs : List UInt8) : Prop := ∀ (j : Nat) (b : UInt8), bs[j]? = some b → code.data.toList[pc + j]? = some b
/-- the piece W has the bytes bs from its place j on -/
def dkIn (W : List UInt8) (j : Nat) (bs : List UInt8) : Bool := decide ((W.drop j).take bs.length = bs)
theorem dk_seg {l W T : List UInt8} {o o2 : Nat} (h : l.drop o = W ++ T) (n : Nat) (hn : W.length = n) (ho : o + n = o2) : l.drop o2 = T := by
  subst ho
  rw [← List.drop_drop, h, List.drop_left' hn]
theorem dk_at {code : ByteArray} {W T bs : List UInt8} {o pc : Nat} (h : code.data.toList.drop o = W ++ T) (j : Nat) (hp : o + j = pc) (hw : dkIn W j bs = true) : DkAt code pc bs := by
  subst hp
  intro i b e
  have h1 := of_decide_eq_true hw
  have h2 : i < bs.length := (List.getElem?_eq_some_iff.mp e).1
  have h3 : W[j + i]? = some b := by
    rw [← h1, List.getElem?_take, if_pos h2, List.getElem?_drop] at e
    exact e
  have h4 : j + i < W.length := (List.getElem?_eq_some_iff.mp h3).1
  have h5 : (code.data.toList.drop o)[j + i]? = some b := by
    rw [h, List.getElem?_append_left h4]
    exact h3
  rw [List.getElem?_drop, ← Nat.add_assoc] at h5
  exact h5
theorem dk_u1 {A : ByteArray} {p : Nat} {b : UInt8} (h : A.data.toList[p]? = some b) : (Reader.u1 : Reader DecodeError Nat) A p = .ok (b.toNat, p + 1) := by
  obtain ⟨h1, h2⟩ := List.getElem?_eq_some_iff.mp h
  have h3 : p < A.size := by simpa using h1
  have h4 : A[p]'h3 = b := h2
  have e : (Reader.u1 : Reader DecodeError Nat) A p = (if h : p < A.size then .ok (A[p].toNat, p + 1) else .error (HasTruncated.truncated p)) := by
    show (do if h : p < A.size then do set (p + 1); Pure.pure A[p].toNat else MonadExcept.throw (HasTruncated.truncated p) : Reader DecodeError Nat) A p = _
    by_cases hi : p < A.size
    · rw [dif_pos hi, dif_pos hi]; rfl
    · rw [dif_neg hi, dif_neg hi]; rfl
  rw [e, dif_pos h3, h4]
theorem dk_bind {α β : Type} {r : Reader DecodeError α} {f : α → Reader DecodeError β} {A : ByteArray} {p s : Nat} {a : α} (h : r A p = .ok (a, s)) : (r >>= f) A p = f a A s := by
  show (do let (a, s) ← r A p; f a A s : Except DecodeError (β × Nat)) = _
  rw [h]
  rfl
theorem dk_map {α β : Type} {r : Reader DecodeError α} {g : α → β} {A : ByteArray} {p s : Nat} {a : α} (h : r A p = .ok (a, s)) : (g <$> r) A p = .ok (g a, s) := by
  show (do let (a, s) ← r A p; .ok (g a, s) : Except DecodeError (β × Nat)) = _
  rw [h]
  rfl
theorem dk_u2 {A : ByteArray} {p : Nat} {a b : UInt8} (h : A.data.toList[p]? = some a) (h2 : A.data.toList[p + 1]? = some b) : (Reader.u2 : Reader DecodeError Nat) A p = .ok (a.toNat * 256 + b.toNat, p + 2) := by
  show (Reader.u1 >>= fun hi => Reader.u1 >>= fun lo => Pure.pure (hi * 256 + lo) : Reader DecodeError Nat) A p = _
  rw [dk_bind (dk_u1 h), dk_bind (dk_u1 h2)]
  rfl
theorem dk_of {code : ByteArray} {pc n : Nat} {i : Instr} (h : Decoder.instr pc code pc = .ok (i, pc + n)) : decode code pc = .ok (i, n) := by
  have e : decode code pc = (match Decoder.instr pc code pc with | .error x => .error x | .ok (j, s) => .ok (j, s - pc)) := by
    show (do let (j, s) ← Decoder.instr pc code pc; Pure.pure (j, s - pc) : Except DecodeError (Instr × Nat)) = _
    cases Decoder.instr pc code pc <;> rfl
  rw [e, h]
  show Except.ok (i, pc + n - pc) = _
  rw [Nat.add_sub_cancel_left]
theorem dk_1 {code : ByteArray} {pc : Nat} (h : DkAt code pc [1]) : decode code pc = .ok (.aconst_null, 1) := dk_of ((dk_bind (dk_u1 (h 0 _ rfl))).trans rfl)
theorem dk_2 {code : ByteArray} {pc : Nat} (h : DkAt code pc [2]) : decode code pc = .ok (.iconst (-1), 1) := dk_of ((dk_bind (dk_u1 (h 0 _ rfl))).trans rfl)
theorem dk_3 {code : ByteArray} {pc : Nat} (h : DkAt code pc [3]) : decode code pc = .ok (.iconst 0, 1) := dk_of ((dk_bind (dk_u1 (h 0 _ rfl))).trans rfl)
theorem dk_4 {code : ByteArray} {pc : Nat} (h : DkAt code pc [4]) : decode code pc = .ok (.iconst 1, 1) := dk_of ((dk_bind (dk_u1 (h 0 _ rfl))).trans rfl)
theorem dk_5 {code : ByteArray} {pc : Nat} (h : DkAt code pc [5]) : decode code pc = .ok (.iconst 2, 1) := dk_of ((dk_bind (dk_u1 (h 0 _ rfl))).trans rfl)
theorem dk_6 {code : ByteArray} {pc : Nat} (h : DkAt code pc [6]) : decode code pc = .ok (.iconst 3, 1) := dk_of ((dk_bind (dk_u1 (h 0 _ rfl))).trans rfl)
theorem dk_7 {code : ByteArray} {pc : Nat} (h : DkAt code pc [7]) : decode code pc = .ok (.iconst 4, 1) := dk_of ((dk_bind (dk_u1 (h 0 _ rfl))).trans rfl)
theorem dk_8 {code : ByteArray} {pc : Nat} (h : DkAt code pc [8]) : decode code pc = .ok (.iconst 5, 1) := dk_of ((dk_bind (dk_u1 (h 0 _ rfl))).trans rfl)
theorem dk_9 {code : ByteArray} {pc : Nat} (h : DkAt code pc [9]) : decode code pc = .ok (.lconst 0, 1) := dk_of ((dk_bind (dk_u1 (h 0 _ rfl))).trans rfl)
theorem dk_10 {code : ByteArray} {pc : Nat} (h : DkAt code pc [10]) : decode code pc = .ok (.lconst 1, 1) := dk_of ((dk_bind (dk_u1 (h 0 _ rfl))).trans rfl)
theorem dk_16 {code : ByteArray} {pc : Nat} (a : UInt8) (h : DkAt code pc [16, a]) : decode code pc = .ok (.bipush (Reader.signed 8 a.toNat), 2) := dk_of ((dk_bind (dk_u1 (h 0 _ rfl))).trans ((dk_bind (dk_map (dk_u1 (h 1 _ rfl)))).trans rfl))
theorem dk_17 {code : ByteArray} {pc : Nat} (a b : UInt8) (h : DkAt code pc [17, a, b]) : decode code pc = .ok (.sipush (Reader.signed 16 (a.toNat * 256 + b.toNat)), 3) := dk_of ((dk_bind (dk_u1 (h 0 _ rfl))).trans ((dk_bind (dk_map (dk_u2 (h 1 _ rfl) (h 2 _ rfl)))).trans rfl))
theorem dk_18 {code : ByteArray} {pc : Nat} (a : UInt8) (h : DkAt code pc [18, a]) : decode code pc = .ok (.ldc a.toNat, 2) := dk_of ((dk_bind (dk_u1 (h 0 _ rfl))).trans ((dk_bind (dk_u1 (h 1 _ rfl))).trans rfl))
theorem dk_19 {code : ByteArray} {pc : Nat} (a b : UInt8) (h : DkAt code pc [19, a, b]) : decode code pc = .ok (.ldc_w (a.toNat * 256 + b.toNat), 3) := dk_of ((dk_bind (dk_u1 (h 0 _ rfl))).trans ((dk_bind (dk_u2 (h 1 _ rfl) (h 2 _ rfl))).trans rfl))
theorem dk_20 {code : ByteArray} {pc : Nat} (a b : UInt8) (h : DkAt code pc [20, a, b]) : decode code pc = .ok (.ldc2_w (a.toNat * 256 + b.toNat), 3) := dk_of ((dk_bind (dk_u1 (h 0 _ rfl))).trans ((dk_bind (dk_u2 (h 1 _ rfl) (h 2 _ rfl))).trans rfl))
theorem dk_21 {code : ByteArray} {pc : Nat} (a : UInt8) (h : DkAt code pc [21, a]) : decode code pc = .ok (.iload a.toNat, 2) := dk_of ((dk_bind (dk_u1 (h 0 _ rfl))).trans ((dk_bind (dk_u1 (h 1 _ rfl))).trans rfl))
theorem dk_22 {code : ByteArray} {pc : Nat} (a : UInt8) (h : DkAt code pc [22, a]) : decode code pc = .ok (.lload a.toNat, 2) := dk_of ((dk_bind (dk_u1 (h 0 _ rfl))).trans ((dk_bind (dk_u1 (h 1 _ rfl))).trans rfl))
theorem dk_25 {code : ByteArray} {pc : Nat} (a : UInt8) (h : DkAt code pc [25, a]) : decode code pc = .ok (.aload a.toNat, 2) := dk_of ((dk_bind (dk_u1 (h 0 _ rfl))).trans ((dk_bind (dk_u1 (h 1 _ rfl))).trans rfl))
theorem dk_26 {code : ByteArray} {pc : Nat} (h : DkAt code pc [26]) : decode code pc = .ok (.iload_n 0, 1) := dk_of ((dk_bind (dk_u1 (h 0 _ rfl))).trans rfl)
theorem dk_27 {code : ByteArray} {pc : Nat} (h : DkAt code pc [27]) : decode code pc = .ok (.iload_n 1, 1) := dk_of ((dk_bind (dk_u1 (h 0 _ rfl))).trans rfl)
theorem dk_28 {code : ByteArray} {pc : Nat} (h : DkAt code pc [28]) : decode code pc = .ok (.iload_n 2, 1) := dk_of ((dk_bind (dk_u1 (h 0 _ rfl))).trans rfl)
theorem dk_29 {code : ByteArray} {pc : Nat} (h : DkAt code pc [29]) : decode code pc = .ok (.iload_n 3, 1) := dk_of ((dk_bind (dk_u1 (h 0 _ rfl))).trans rfl)
theorem dk_30 {code : ByteArray} {pc : Nat} (h : DkAt code pc [30]) : decode code pc = .ok (.lload_n 0, 1) := dk_of ((dk_bind (dk_u1 (h 0 _ rfl))).trans rfl)
theorem dk_32 {code : ByteArray} {pc : Nat} (h : DkAt code pc [32]) : decode code pc = .ok (.lload_n 2, 1) := dk_of ((dk_bind (dk_u1 (h 0 _ rfl))).trans rfl)
theorem dk_42 {code : ByteArray} {pc : Nat} (h : DkAt code pc [42]) : decode code pc = .ok (.aload_n 0, 1) := dk_of ((dk_bind (dk_u1 (h 0 _ rfl))).trans rfl)
theorem dk_43 {code : ByteArray} {pc : Nat} (h : DkAt code pc [43]) : decode code pc = .ok (.aload_n 1, 1) := dk_of ((dk_bind (dk_u1 (h 0 _ rfl))).trans rfl)
theorem dk_44 {code : ByteArray} {pc : Nat} (h : DkAt code pc [44]) : decode code pc = .ok (.aload_n 2, 1) := dk_of ((dk_bind (dk_u1 (h 0 _ rfl))).trans rfl)
theorem dk_46 {code : ByteArray} {pc : Nat} (h : DkAt code pc [46]) : decode code pc = .ok (.iaload, 1) := dk_of ((dk_bind (dk_u1 (h 0 _ rfl))).trans rfl)
theorem dk_50 {code : ByteArray} {pc : Nat} (h : DkAt code pc [50]) : decode code pc = .ok (.aaload, 1) := dk_of ((dk_bind (dk_u1 (h 0 _ rfl))).trans rfl)
theorem dk_51 {code : ByteArray} {pc : Nat} (h : DkAt code pc [51]) : decode code pc = .ok (.baload, 1) := dk_of ((dk_bind (dk_u1 (h 0 _ rfl))).trans rfl)
theorem dk_53 {code : ByteArray} {pc : Nat} (h : DkAt code pc [53]) : decode code pc = .ok (.saload, 1) := dk_of ((dk_bind (dk_u1 (h 0 _ rfl))).trans rfl)
theorem dk_54 {code : ByteArray} {pc : Nat} (a : UInt8) (h : DkAt code pc [54, a]) : decode code pc = .ok (.istore a.toNat, 2) := dk_of ((dk_bind (dk_u1 (h 0 _ rfl))).trans ((dk_bind (dk_u1 (h 1 _ rfl))).trans rfl))
theorem dk_55 {code : ByteArray} {pc : Nat} (a : UInt8) (h : DkAt code pc [55, a]) : decode code pc = .ok (.lstore a.toNat, 2) := dk_of ((dk_bind (dk_u1 (h 0 _ rfl))).trans ((dk_bind (dk_u1 (h 1 _ rfl))).trans rfl))
theorem dk_58 {code : ByteArray} {pc : Nat} (a : UInt8) (h : DkAt code pc [58, a]) : decode code pc = .ok (.astore a.toNat, 2) := dk_of ((dk_bind (dk_u1 (h 0 _ rfl))).trans ((dk_bind (dk_u1 (h 1 _ rfl))).trans rfl))
theorem dk_59 {code : ByteArray} {pc : Nat} (h : DkAt code pc [59]) : decode code pc = .ok (.istore_n 0, 1) := dk_of ((dk_bind (dk_u1 (h 0 _ rfl))).trans rfl)
theorem dk_60 {code : ByteArray} {pc : Nat} (h : DkAt code pc [60]) : decode code pc = .ok (.istore_n 1, 1) := dk_of ((dk_bind (dk_u1 (h 0 _ rfl))).trans rfl)
theorem dk_61 {code : ByteArray} {pc : Nat} (h : DkAt code pc [61]) : decode code pc = .ok (.istore_n 2, 1) := dk_of ((dk_bind (dk_u1 (h 0 _ rfl))).trans rfl)
theorem dk_62 {code : ByteArray} {pc : Nat} (h : DkAt code pc [62]) : decode code pc = .ok (.istore_n 3, 1) := dk_of ((dk_bind (dk_u1 (h 0 _ rfl))).trans rfl)
theorem dk_76 {code : ByteArray} {pc : Nat} (h : DkAt code pc [76]) : decode code pc = .ok (.astore_n 1, 1) := dk_of ((dk_bind (dk_u1 (h 0 _ rfl))).trans rfl)
theorem dk_77 {code : ByteArray} {pc : Nat} (h : DkAt code pc [77]) : decode code pc = .ok (.astore_n 2, 1) := dk_of ((dk_bind (dk_u1 (h 0 _ rfl))).trans rfl)
theorem dk_79 {code : ByteArray} {pc : Nat} (h : DkAt code pc [79]) : decode code pc = .ok (.iastore, 1) := dk_of ((dk_bind (dk_u1 (h 0 _ rfl))).trans rfl)
theorem dk_83 {code : ByteArray} {pc : Nat} (h : DkAt code pc [83]) : decode code pc = .ok (.aastore, 1) := dk_of ((dk_bind (dk_u1 (h 0 _ rfl))).trans rfl)
theorem dk_84 {code : ByteArray} {pc : Nat} (h : DkAt code pc [84]) : decode code pc = .ok (.bastore, 1) := dk_of ((dk_bind (dk_u1 (h 0 _ rfl))).trans rfl)
theorem dk_86 {code : ByteArray} {pc : Nat} (h : DkAt code pc [86]) : decode code pc = .ok (.sastore, 1) := dk_of ((dk_bind (dk_u1 (h 0 _ rfl))).trans rfl)
theorem dk_87 {code : ByteArray} {pc : Nat} (h : DkAt code pc [87]) : decode code pc = .ok (.pop, 1) := dk_of ((dk_bind (dk_u1 (h 0 _ rfl))).trans rfl)
theorem dk_89 {code : ByteArray} {pc : Nat} (h : DkAt code pc [89]) : decode code pc = .ok (.dup, 1) := dk_of ((dk_bind (dk_u1 (h 0 _ rfl))).trans rfl)
theorem dk_92 {code : ByteArray} {pc : Nat} (h : DkAt code pc [92]) : decode code pc = .ok (.dup2, 1) := dk_of ((dk_bind (dk_u1 (h 0 _ rfl))).trans rfl)
theorem dk_96 {code : ByteArray} {pc : Nat} (h : DkAt code pc [96]) : decode code pc = .ok (.iadd, 1) := dk_of ((dk_bind (dk_u1 (h 0 _ rfl))).trans rfl)
theorem dk_97 {code : ByteArray} {pc : Nat} (h : DkAt code pc [97]) : decode code pc = .ok (.ladd, 1) := dk_of ((dk_bind (dk_u1 (h 0 _ rfl))).trans rfl)
theorem dk_100 {code : ByteArray} {pc : Nat} (h : DkAt code pc [100]) : decode code pc = .ok (.isub, 1) := dk_of ((dk_bind (dk_u1 (h 0 _ rfl))).trans rfl)
theorem dk_104 {code : ByteArray} {pc : Nat} (h : DkAt code pc [104]) : decode code pc = .ok (.imul, 1) := dk_of ((dk_bind (dk_u1 (h 0 _ rfl))).trans rfl)
theorem dk_105 {code : ByteArray} {pc : Nat} (h : DkAt code pc [105]) : decode code pc = .ok (.lmul, 1) := dk_of ((dk_bind (dk_u1 (h 0 _ rfl))).trans rfl)
theorem dk_108 {code : ByteArray} {pc : Nat} (h : DkAt code pc [108]) : decode code pc = .ok (.idiv, 1) := dk_of ((dk_bind (dk_u1 (h 0 _ rfl))).trans rfl)
theorem dk_109 {code : ByteArray} {pc : Nat} (h : DkAt code pc [109]) : decode code pc = .ok (.ldiv, 1) := dk_of ((dk_bind (dk_u1 (h 0 _ rfl))).trans rfl)
theorem dk_112 {code : ByteArray} {pc : Nat} (h : DkAt code pc [112]) : decode code pc = .ok (.irem, 1) := dk_of ((dk_bind (dk_u1 (h 0 _ rfl))).trans rfl)
theorem dk_113 {code : ByteArray} {pc : Nat} (h : DkAt code pc [113]) : decode code pc = .ok (.lrem, 1) := dk_of ((dk_bind (dk_u1 (h 0 _ rfl))).trans rfl)
theorem dk_120 {code : ByteArray} {pc : Nat} (h : DkAt code pc [120]) : decode code pc = .ok (.ishl, 1) := dk_of ((dk_bind (dk_u1 (h 0 _ rfl))).trans rfl)
theorem dk_122 {code : ByteArray} {pc : Nat} (h : DkAt code pc [122]) : decode code pc = .ok (.ishr, 1) := dk_of ((dk_bind (dk_u1 (h 0 _ rfl))).trans rfl)
theorem dk_124 {code : ByteArray} {pc : Nat} (h : DkAt code pc [124]) : decode code pc = .ok (.iushr, 1) := dk_of ((dk_bind (dk_u1 (h 0 _ rfl))).trans rfl)
theorem dk_126 {code : ByteArray} {pc : Nat} (h : DkAt code pc [126]) : decode code pc = .ok (.iand, 1) := dk_of ((dk_bind (dk_u1 (h 0 _ rfl))).trans rfl)
theorem dk_128 {code : ByteArray} {pc : Nat} (h : DkAt code pc [128]) : decode code pc = .ok (.ior, 1) := dk_of ((dk_bind (dk_u1 (h 0 _ rfl))).trans rfl)
theorem dk_130 {code : ByteArray} {pc : Nat} (h : DkAt code pc [130]) : decode code pc = .ok (.ixor, 1) := dk_of ((dk_bind (dk_u1 (h 0 _ rfl))).trans rfl)
theorem dk_132 {code : ByteArray} {pc : Nat} (a b : UInt8) (h : DkAt code pc [132, a, b]) : decode code pc = .ok (.iinc a.toNat (Reader.signed 8 b.toNat), 3) := dk_of ((dk_bind (dk_u1 (h 0 _ rfl))).trans ((dk_bind (dk_u1 (h 1 _ rfl))).trans ((dk_bind (dk_map (dk_u1 (h 2 _ rfl)))).trans rfl)))
theorem dk_133 {code : ByteArray} {pc : Nat} (h : DkAt code pc [133]) : decode code pc = .ok (.i2l, 1) := dk_of ((dk_bind (dk_u1 (h 0 _ rfl))).trans rfl)
theorem dk_145 {code : ByteArray} {pc : Nat} (h : DkAt code pc [145]) : decode code pc = .ok (.i2b, 1) := dk_of ((dk_bind (dk_u1 (h 0 _ rfl))).trans rfl)
theorem dk_146 {code : ByteArray} {pc : Nat} (h : DkAt code pc [146]) : decode code pc = .ok (.i2c, 1) := dk_of ((dk_bind (dk_u1 (h 0 _ rfl))).trans rfl)
theorem dk_147 {code : ByteArray} {pc : Nat} (h : DkAt code pc [147]) : decode code pc = .ok (.i2s, 1) := dk_of ((dk_bind (dk_u1 (h 0 _ rfl))).trans rfl)
theorem dk_148 {code : ByteArray} {pc : Nat} (h : DkAt code pc [148]) : decode code pc = .ok (.lcmp, 1) := dk_of ((dk_bind (dk_u1 (h 0 _ rfl))).trans rfl)
theorem dk_153 {code : ByteArray} {pc : Nat} (a b : UInt8) (h : DkAt code pc [153, a, b]) : decode code pc = .ok (.ifCond .eq (Reader.signed 16 (a.toNat * 256 + b.toNat)), 3) := dk_of ((dk_bind (dk_u1 (h 0 _ rfl))).trans ((dk_bind (dk_map (dk_u2 (h 1 _ rfl) (h 2 _ rfl)))).trans rfl))
theorem dk_154 {code : ByteArray} {pc : Nat} (a b : UInt8) (h : DkAt code pc [154, a, b]) : decode code pc = .ok (.ifCond .ne (Reader.signed 16 (a.toNat * 256 + b.toNat)), 3) := dk_of ((dk_bind (dk_u1 (h 0 _ rfl))).trans ((dk_bind (dk_map (dk_u2 (h 1 _ rfl) (h 2 _ rfl)))).trans rfl))
theorem dk_155 {code : ByteArray} {pc : Nat} (a b : UInt8) (h : DkAt code pc [155, a, b]) : decode code pc = .ok (.ifCond .lt (Reader.signed 16 (a.toNat * 256 + b.toNat)), 3) := dk_of ((dk_bind (dk_u1 (h 0 _ rfl))).trans ((dk_bind (dk_map (dk_u2 (h 1 _ rfl) (h 2 _ rfl)))).trans rfl))
theorem dk_156 {code : ByteArray} {pc : Nat} (a b : UInt8) (h : DkAt code pc [156, a, b]) : decode code pc = .ok (.ifCond .ge (Reader.signed 16 (a.toNat * 256 + b.toNat)), 3) := dk_of ((dk_bind (dk_u1 (h 0 _ rfl))).trans ((dk_bind (dk_map (dk_u2 (h 1 _ rfl) (h 2 _ rfl)))).trans rfl))
theorem dk_157 {code : ByteArray} {pc : Nat} (a b : UInt8) (h : DkAt code pc [157, a, b]) : decode code pc = .ok (.ifCond .gt (Reader.signed 16 (a.toNat * 256 + b.toNat)), 3) := dk_of ((dk_bind (dk_u1 (h 0 _ rfl))).trans ((dk_bind (dk_map (dk_u2 (h 1 _ rfl) (h 2 _ rfl)))).trans rfl))
theorem dk_158 {code : ByteArray} {pc : Nat} (a b : UInt8) (h : DkAt code pc [158, a, b]) : decode code pc = .ok (.ifCond .le (Reader.signed 16 (a.toNat * 256 + b.toNat)), 3) := dk_of ((dk_bind (dk_u1 (h 0 _ rfl))).trans ((dk_bind (dk_map (dk_u2 (h 1 _ rfl) (h 2 _ rfl)))).trans rfl))
theorem dk_159 {code : ByteArray} {pc : Nat} (a b : UInt8) (h : DkAt code pc [159, a, b]) : decode code pc = .ok (.if_icmp .eq (Reader.signed 16 (a.toNat * 256 + b.toNat)), 3) := dk_of ((dk_bind (dk_u1 (h 0 _ rfl))).trans ((dk_bind (dk_map (dk_u2 (h 1 _ rfl) (h 2 _ rfl)))).trans rfl))
theorem dk_160 {code : ByteArray} {pc : Nat} (a b : UInt8) (h : DkAt code pc [160, a, b]) : decode code pc = .ok (.if_icmp .ne (Reader.signed 16 (a.toNat * 256 + b.toNat)), 3) := dk_of ((dk_bind (dk_u1 (h 0 _ rfl))).trans ((dk_bind (dk_map (dk_u2 (h 1 _ rfl) (h 2 _ rfl)))).trans rfl))
theorem dk_161 {code : ByteArray} {pc : Nat} (a b : UInt8) (h : DkAt code pc [161, a, b]) : decode code pc = .ok (.if_icmp .lt (Reader.signed 16 (a.toNat * 256 + b.toNat)), 3) := dk_of ((dk_bind (dk_u1 (h 0 _ rfl))).trans ((dk_bind (dk_map (dk_u2 (h 1 _ rfl) (h 2 _ rfl)))).trans rfl))
theorem dk_162 {code : ByteArray} {pc : Nat} (a b : UInt8) (h : DkAt code pc [162, a, b]) : decode code pc = .ok (.if_icmp .ge (Reader.signed 16 (a.toNat * 256 + b.toNat)), 3) := dk_of ((dk_bind (dk_u1 (h 0 _ rfl))).trans ((dk_bind (dk_map (dk_u2 (h 1 _ rfl) (h 2 _ rfl)))).trans rfl))
theorem dk_163 {code : ByteArray} {pc : Nat} (a b : UInt8) (h : DkAt code pc [163, a, b]) : decode code pc = .ok (.if_icmp .gt (Reader.signed 16 (a.toNat * 256 + b.toNat)), 3) := dk_of ((dk_bind (dk_u1 (h 0 _ rfl))).trans ((dk_bind (dk_map (dk_u2 (h 1 _ rfl) (h 2 _ rfl)))).trans rfl))
theorem dk_164 {code : ByteArray} {pc : Nat} (a b : UInt8) (h : DkAt code pc [164, a, b]) : decode code pc = .ok (.if_icmp .le (Reader.signed 16 (a.toNat * 256 + b.toNat)), 3) := dk_of ((dk_bind (dk_u1 (h 0 _ rfl))).trans ((dk_bind (dk_map (dk_u2 (h 1 _ rfl) (h 2 _ rfl)))).trans rfl))
theorem dk_167 {code : ByteArray} {pc : Nat} (a b : UInt8) (h : DkAt code pc [167, a, b]) : decode code pc = .ok (.goto (Reader.signed 16 (a.toNat * 256 + b.toNat)), 3) := dk_of ((dk_bind (dk_u1 (h 0 _ rfl))).trans ((dk_bind (dk_map (dk_u2 (h 1 _ rfl) (h 2 _ rfl)))).trans rfl))
theorem dk_172 {code : ByteArray} {pc : Nat} (h : DkAt code pc [172]) : decode code pc = .ok (.ireturn, 1) := dk_of ((dk_bind (dk_u1 (h 0 _ rfl))).trans rfl)
theorem dk_173 {code : ByteArray} {pc : Nat} (h : DkAt code pc [173]) : decode code pc = .ok (.lreturn, 1) := dk_of ((dk_bind (dk_u1 (h 0 _ rfl))).trans rfl)
theorem dk_176 {code : ByteArray} {pc : Nat} (h : DkAt code pc [176]) : decode code pc = .ok (.areturn, 1) := dk_of ((dk_bind (dk_u1 (h 0 _ rfl))).trans rfl)
theorem dk_177 {code : ByteArray} {pc : Nat} (h : DkAt code pc [177]) : decode code pc = .ok (.return_, 1) := dk_of ((dk_bind (dk_u1 (h 0 _ rfl))).trans rfl)
theorem dk_178 {code : ByteArray} {pc : Nat} (a b : UInt8) (h : DkAt code pc [178, a, b]) : decode code pc = .ok (.getstatic (a.toNat * 256 + b.toNat), 3) := dk_of ((dk_bind (dk_u1 (h 0 _ rfl))).trans ((dk_bind (dk_u2 (h 1 _ rfl) (h 2 _ rfl))).trans rfl))
theorem dk_180 {code : ByteArray} {pc : Nat} (a b : UInt8) (h : DkAt code pc [180, a, b]) : decode code pc = .ok (.getfield (a.toNat * 256 + b.toNat), 3) := dk_of ((dk_bind (dk_u1 (h 0 _ rfl))).trans ((dk_bind (dk_u2 (h 1 _ rfl) (h 2 _ rfl))).trans rfl))
theorem dk_181 {code : ByteArray} {pc : Nat} (a b : UInt8) (h : DkAt code pc [181, a, b]) : decode code pc = .ok (.putfield (a.toNat * 256 + b.toNat), 3) := dk_of ((dk_bind (dk_u1 (h 0 _ rfl))).trans ((dk_bind (dk_u2 (h 1 _ rfl) (h 2 _ rfl))).trans rfl))
theorem dk_182 {code : ByteArray} {pc : Nat} (a b : UInt8) (h : DkAt code pc [182, a, b]) : decode code pc = .ok (.invokevirtual (a.toNat * 256 + b.toNat), 3) := dk_of ((dk_bind (dk_u1 (h 0 _ rfl))).trans ((dk_bind (dk_u2 (h 1 _ rfl) (h 2 _ rfl))).trans rfl))
theorem dk_183 {code : ByteArray} {pc : Nat} (a b : UInt8) (h : DkAt code pc [183, a, b]) : decode code pc = .ok (.invokespecial (a.toNat * 256 + b.toNat), 3) := dk_of ((dk_bind (dk_u1 (h 0 _ rfl))).trans ((dk_bind (dk_u2 (h 1 _ rfl) (h 2 _ rfl))).trans rfl))
theorem dk_184 {code : ByteArray} {pc : Nat} (a b : UInt8) (h : DkAt code pc [184, a, b]) : decode code pc = .ok (.invokestatic (a.toNat * 256 + b.toNat), 3) := dk_of ((dk_bind (dk_u1 (h 0 _ rfl))).trans ((dk_bind (dk_u2 (h 1 _ rfl) (h 2 _ rfl))).trans rfl))
theorem dk_187 {code : ByteArray} {pc : Nat} (a b : UInt8) (h : DkAt code pc [187, a, b]) : decode code pc = .ok (.new (a.toNat * 256 + b.toNat), 3) := dk_of ((dk_bind (dk_u1 (h 0 _ rfl))).trans ((dk_bind (dk_u2 (h 1 _ rfl) (h 2 _ rfl))).trans rfl))
theorem dk_188_4 {code : ByteArray} {pc : Nat} (h : DkAt code pc [188, 4]) : decode code pc = .ok (.newarray .boolean, 2) := dk_of ((dk_bind (dk_u1 (h 0 _ rfl))).trans ((dk_bind (dk_u1 (h 1 _ rfl))).trans rfl))
theorem dk_188_8 {code : ByteArray} {pc : Nat} (h : DkAt code pc [188, 8]) : decode code pc = .ok (.newarray .byte, 2) := dk_of ((dk_bind (dk_u1 (h 0 _ rfl))).trans ((dk_bind (dk_u1 (h 1 _ rfl))).trans rfl))
theorem dk_188_9 {code : ByteArray} {pc : Nat} (h : DkAt code pc [188, 9]) : decode code pc = .ok (.newarray .short, 2) := dk_of ((dk_bind (dk_u1 (h 0 _ rfl))).trans ((dk_bind (dk_u1 (h 1 _ rfl))).trans rfl))
theorem dk_188_10 {code : ByteArray} {pc : Nat} (h : DkAt code pc [188, 10]) : decode code pc = .ok (.newarray .int, 2) := dk_of ((dk_bind (dk_u1 (h 0 _ rfl))).trans ((dk_bind (dk_u1 (h 1 _ rfl))).trans rfl))
theorem dk_189 {code : ByteArray} {pc : Nat} (a b : UInt8) (h : DkAt code pc [189, a, b]) : decode code pc = .ok (.anewarray (a.toNat * 256 + b.toNat), 3) := dk_of ((dk_bind (dk_u1 (h 0 _ rfl))).trans ((dk_bind (dk_u2 (h 1 _ rfl) (h 2 _ rfl))).trans rfl))
theorem dk_190 {code : ByteArray} {pc : Nat} (h : DkAt code pc [190]) : decode code pc = .ok (.arraylength, 1) := dk_of ((dk_bind (dk_u1 (h 0 _ rfl))).trans rfl)
theorem dk_191 {code : ByteArray} {pc : Nat} (h : DkAt code pc [191]) : decode code pc = .ok (.athrow, 1) := dk_of ((dk_bind (dk_u1 (h 0 _ rfl))).trans rfl)
theorem dk_192 {code : ByteArray} {pc : Nat} (a b : UInt8) (h : DkAt code pc [192, a, b]) : decode code pc = .ok (.checkcast (a.toNat * 256 + b.toNat), 3) := dk_of ((dk_bind (dk_u1 (h 0 _ rfl))).trans ((dk_bind (dk_u2 (h 1 _ rfl) (h 2 _ rfl))).trans rfl))
theorem dk_193 {code : ByteArray} {pc : Nat} (a b : UInt8) (h : DkAt code pc [193, a, b]) : decode code pc = .ok (.instanceof (a.toNat * 256 + b.toNat), 3) := dk_of ((dk_bind (dk_u1 (h 0 _ rfl))).trans ((dk_bind (dk_u2 (h 1 _ rfl) (h 2 _ rfl))).trans rfl))
/-! TearsQueue$Plain -/
set_option maxRecDepth 100000
def RX1 : String := "TearsQueue$Plain"
abbrev cX1_init : ByteArray := prog_4_method_1_code
def yX1_init : MethodName := ⟨RX1, "<init>", "()V"⟩
theorem dX1_init_0 : decode cX1_init 0 = .ok (.aload_n 0, 1) := by decide +kernel
theorem dX1_init_1 : decode cX1_init 1 = .ok (.invokespecial 1, 3) := by decide +kernel
theorem dX1_init_4 : decode cX1_init 4 = .ok (.return_, 1) := by decide +kernel
abbrev cX1_brim : ByteArray := prog_4_method_2_code
def yX1_brim : MethodName := ⟨RX1, "brim", "()I"⟩
theorem dX1_brim_0 : decode cX1_brim 0 = .ok (.bipush 10, 2) := by decide +kernel
theorem dX1_brim_2 : decode cX1_brim 2 = .ok (.ireturn, 1) := by decide +kernel
theorem q61 : (Jvm.Cond.initialized "TearsQueue$Plain") ∈ lw_all := lw_g (lw_at lw_m1 2 rfl) rfl
theorem q95 : (Jvm.Cond.instantiable "TearsQueue$Plain" (0 : Nat)) ∈ lw_all := lw_g (lw_at lw_m1 36 rfl) rfl
theorem q97 : (Jvm.Cond.instanceMethod ({ cls := "TearsQueue$Plain", name := "<init>", desc := "()V" } : Jvm.MethodName)) ∈ lw_all := lw_g (lw_at lw_m1 38 rfl) rfl
theorem q98 : (Jvm.Cond.code ({ cls := "TearsQueue$Plain", name := "<init>", desc := "()V" } : Jvm.MethodName) prog_4_method_1_code (1 : Nat) (Option.none : Option Jvm.ClassFile.FieldType)) ∈ lw_all := lw_g (lw_at lw_m1 39 rfl) rfl
theorem q99 : (Jvm.Cond.methodLink "TearsQueue$Plain" (1 : Nat) ({ cls := "java/lang/Object", name := "<init>", desc := "()V" } : Jvm.MethodName)) ∈ lw_all := lw_g (lw_at lw_m1 40 rfl) rfl
theorem q100 : (Jvm.Cond.superclass "TearsQueue$Plain" "java/lang/Object") ∈ lw_all := lw_g (lw_at lw_m1 41 rfl) rfl
theorem q531 : (Jvm.Cond.instanceMethod ({ cls := "TearsQueue$Plain", name := "brim", desc := "()I" } : Jvm.MethodName)) ∈ lw_all := lw_g (lw_at lw_m2 232 rfl) rfl
theorem q532 : (Jvm.Cond.selects "TearsQueue$Plain" ({ cls := "TearsQueue$Plain", name := "brim", desc := "()I" } : Jvm.MethodName) ({ cls := "TearsQueue$Plain", name := "brim", desc := "()I" } : Jvm.MethodName)) ∈ lw_all := lw_g (lw_at lw_m2 233 rfl) rfl
theorem q533 : (Jvm.Cond.sameMethod "TearsQueue$Plain" "TearsQueue$Plain" "brim" "()I") ∈ lw_all := lw_g (lw_at lw_m2 234 rfl) rfl
theorem q546 : (Jvm.Cond.code ({ cls := "TearsQueue$Plain", name := "brim", desc := "()I" } : Jvm.MethodName) prog_4_method_2_code (1 : Nat) (Option.some Jvm.ClassFile.FieldType.int)) ∈ lw_all := lw_g (lw_at lw_m3 7 rfl) rfl
/-! TearsQueue$Soft -/
set_option maxRecDepth 100000
def RX2 : String := "TearsQueue$Soft"
abbrev cX2_init : ByteArray := prog_8_method_1_code
def yX2_init : MethodName := ⟨RX2, "<init>", "()V"⟩
theorem dX2_init_0 : decode cX2_init 0 = .ok (.aload_n 0, 1) := by decide +kernel
theorem dX2_init_1 : decode cX2_init 1 = .ok (.invokespecial 1, 3) := by decide +kernel
theorem dX2_init_4 : decode cX2_init 4 = .ok (.return_, 1) := by decide +kernel
abbrev cX2_brim : ByteArray := prog_8_method_2_code
def yX2_brim : MethodName := ⟨RX2, "brim", "()I"⟩
def dkwX2_brim_0 : List UInt8 := [42, 183, 0, 7, 5, 108, 172]
abbrev dktX2_brim_0 : List UInt8 := dkwX2_brim_0 ++ []
theorem dksX2_brim_0 : cX2_brim.data.toList.drop 0 = dktX2_brim_0 := by decide +kernel
theorem dX2_brim_0 : decode cX2_brim 0 = .ok (.aload_n 0, 1) := dk_42 (dk_at dksX2_brim_0 0 rfl rfl)
theorem dX2_brim_1 : decode cX2_brim 1 = .ok (.invokespecial 7, 3) := dk_183 0 7 (dk_at dksX2_brim_0 1 rfl rfl)
theorem dX2_brim_4 : decode cX2_brim 4 = .ok (.iconst 2, 1) := dk_5 (dk_at dksX2_brim_0 4 rfl rfl)
theorem dX2_brim_5 : decode cX2_brim 5 = .ok (.idiv, 1) := dk_108 (dk_at dksX2_brim_0 5 rfl rfl)
theorem dX2_brim_6 : decode cX2_brim 6 = .ok (.ireturn, 1) := dk_172 (dk_at dksX2_brim_0 6 rfl rfl)
theorem q62 : (Jvm.Cond.initialized "TearsQueue$Soft") ∈ lw_all := lw_g (lw_at lw_m1 3 rfl) rfl
theorem q102 : (Jvm.Cond.instantiable "TearsQueue$Soft" (0 : Nat)) ∈ lw_all := lw_g (lw_at lw_m1 43 rfl) rfl
theorem q104 : (Jvm.Cond.instanceMethod ({ cls := "TearsQueue$Soft", name := "<init>", desc := "()V" } : Jvm.MethodName)) ∈ lw_all := lw_g (lw_at lw_m1 45 rfl) rfl
theorem q105 : (Jvm.Cond.code ({ cls := "TearsQueue$Soft", name := "<init>", desc := "()V" } : Jvm.MethodName) prog_8_method_1_code (1 : Nat) (Option.none : Option Jvm.ClassFile.FieldType)) ∈ lw_all := lw_g (lw_at lw_m1 46 rfl) rfl
theorem q106 : (Jvm.Cond.methodLinkNest "TearsQueue$Soft" (1 : Nat) ({ cls := "TearsQueue$Plain", name := "<init>", desc := "()V" } : Jvm.MethodName) "TearsQueue") ∈ lw_tbl := lw_at lw_m1 47 rfl
theorem q107 : (Jvm.Cond.superclass "TearsQueue$Soft" "TearsQueue$Plain") ∈ lw_all := lw_g (lw_at lw_m1 48 rfl) rfl
theorem q542 : (Jvm.Cond.instanceMethod ({ cls := "TearsQueue$Soft", name := "brim", desc := "()I" } : Jvm.MethodName)) ∈ lw_all := lw_g (lw_at lw_m3 3 rfl) rfl
theorem q543 : (Jvm.Cond.code ({ cls := "TearsQueue$Soft", name := "brim", desc := "()I" } : Jvm.MethodName) prog_8_method_2_code (1 : Nat) (Option.some Jvm.ClassFile.FieldType.int)) ∈ lw_all := lw_g (lw_at lw_m3 4 rfl) rfl
theorem q544 : (Jvm.Cond.methodLink "TearsQueue$Soft" (7 : Nat) ({ cls := "TearsQueue$Plain", name := "brim", desc := "()I" } : Jvm.MethodName)) ∈ lw_all := lw_g (lw_at lw_m3 5 rfl) rfl
theorem q545 : (Jvm.Cond.selects "TearsQueue$Soft" ({ cls := "TearsQueue$Plain", name := "brim", desc := "()I" } : Jvm.MethodName) ({ cls := "TearsQueue$Soft", name := "brim", desc := "()I" } : Jvm.MethodName)) ∈ lw_all := lw_g (lw_at lw_m3 6 rfl) rfl
theorem q1332 : (Jvm.Cond.sameMethod "TearsQueue$Soft" "TearsQueue$Soft" "brim" "()I") ∈ lw_all := lw_g (lw_at lw_m6 73 rfl) rfl
theorem q1334 : (Jvm.Cond.castable "TearsQueue$Soft" "TearsQueue$Plain") ∈ lw_tbl := lw_at lw_m6 75 rfl
/-! TearsQueue$Sham -/
set_option maxRecDepth 100000
def RX3 : String := "TearsQueue$Sham"
abbrev cX3_init : ByteArray := prog_6_method_1_code
def yX3_init : MethodName := ⟨RX3, "<init>", "()V"⟩
theorem dX3_init_0 : decode cX3_init 0 = .ok (.aload_n 0, 1) := by decide +kernel
theorem dX3_init_1 : decode cX3_init 1 = .ok (.invokespecial 1, 3) := by decide +kernel
theorem dX3_init_4 : decode cX3_init 4 = .ok (.return_, 1) := by decide +kernel
abbrev cX3_brim : ByteArray := prog_6_method_2_code
def yX3_brim : MethodName := ⟨RX3, "brim", "()I"⟩
def dkwX3_brim_0 : List UInt8 := [42, 183, 0, 7, 4, 100, 172]
abbrev dktX3_brim_0 : List UInt8 := dkwX3_brim_0 ++ []
theorem dksX3_brim_0 : cX3_brim.data.toList.drop 0 = dktX3_brim_0 := by decide +kernel
theorem dX3_brim_0 : decode cX3_brim 0 = .ok (.aload_n 0, 1) := dk_42 (dk_at dksX3_brim_0 0 rfl rfl)
theorem dX3_brim_1 : decode cX3_brim 1 = .ok (.invokespecial 7, 3) := dk_183 0 7 (dk_at dksX3_brim_0 1 rfl rfl)
theorem dX3_brim_4 : decode cX3_brim 4 = .ok (.iconst 1, 1) := dk_4 (dk_at dksX3_brim_0 4 rfl rfl)
theorem dX3_brim_5 : decode cX3_brim 5 = .ok (.isub, 1) := dk_100 (dk_at dksX3_brim_0 5 rfl rfl)
theorem dX3_brim_6 : decode cX3_brim 6 = .ok (.ireturn, 1) := dk_172 (dk_at dksX3_brim_0 6 rfl rfl)
theorem q63 : (Jvm.Cond.initialized "TearsQueue$Sham") ∈ lw_all := lw_g (lw_at lw_m1 4 rfl) rfl
theorem q109 : (Jvm.Cond.instantiable "TearsQueue$Sham" (0 : Nat)) ∈ lw_all := lw_g (lw_at lw_m1 50 rfl) rfl
theorem q111 : (Jvm.Cond.instanceMethod ({ cls := "TearsQueue$Sham", name := "<init>", desc := "()V" } : Jvm.MethodName)) ∈ lw_all := lw_g (lw_at lw_m1 52 rfl) rfl
theorem q112 : (Jvm.Cond.code ({ cls := "TearsQueue$Sham", name := "<init>", desc := "()V" } : Jvm.MethodName) prog_6_method_1_code (1 : Nat) (Option.none : Option Jvm.ClassFile.FieldType)) ∈ lw_all := lw_g (lw_at lw_m1 53 rfl) rfl
theorem q113 : (Jvm.Cond.methodLinkNest "TearsQueue$Sham" (1 : Nat) ({ cls := "TearsQueue$Soft", name := "<init>", desc := "()V" } : Jvm.MethodName) "TearsQueue") ∈ lw_tbl := lw_at lw_m1 54 rfl
theorem q114 : (Jvm.Cond.superclass "TearsQueue$Sham" "TearsQueue$Soft") ∈ lw_all := lw_g (lw_at lw_m1 55 rfl) rfl
theorem q538 : (Jvm.Cond.selects "TearsQueue$Sham" ({ cls := "TearsQueue$Plain", name := "brim", desc := "()I" } : Jvm.MethodName) ({ cls := "TearsQueue$Sham", name := "brim", desc := "()I" } : Jvm.MethodName)) ∈ lw_all := lw_g (lw_at lw_m2 239 rfl) rfl
theorem q539 : (Jvm.Cond.instanceMethod ({ cls := "TearsQueue$Sham", name := "brim", desc := "()I" } : Jvm.MethodName)) ∈ lw_all := lw_g (lw_at lw_m3 0 rfl) rfl
theorem q540 : (Jvm.Cond.code ({ cls := "TearsQueue$Sham", name := "brim", desc := "()I" } : Jvm.MethodName) prog_6_method_2_code (1 : Nat) (Option.some Jvm.ClassFile.FieldType.int)) ∈ lw_all := lw_g (lw_at lw_m3 1 rfl) rfl
theorem q541 : (Jvm.Cond.methodLink "TearsQueue$Sham" (7 : Nat) ({ cls := "TearsQueue$Soft", name := "brim", desc := "()I" } : Jvm.MethodName)) ∈ lw_all := lw_g (lw_at lw_m3 2 rfl) rfl
theorem q1335 : (Jvm.Cond.castable "TearsQueue$Sham" "TearsQueue$Plain") ∈ lw_tbl := lw_at lw_m6 76 rfl
/-! TearsQueue$Dry -/
set_option maxRecDepth 100000
def RX4 : String := "TearsQueue$Dry"
abbrev cX4_init : ByteArray := prog_2_method_1_code
def yX4_init : MethodName := ⟨RX4, "<init>", "()V"⟩
theorem dX4_init_0 : decode cX4_init 0 = .ok (.aload_n 0, 1) := by decide +kernel
theorem dX4_init_1 : decode cX4_init 1 = .ok (.invokespecial 1, 3) := by decide +kernel
theorem dX4_init_4 : decode cX4_init 4 = .ok (.return_, 1) := by decide +kernel
abbrev cX4_brim : ByteArray := prog_2_method_2_code
def yX4_brim : MethodName := ⟨RX4, "brim", "()I"⟩
def dkwX4_brim_0 : List UInt8 := [5, 42, 183, 0, 7, 104, 172]
abbrev dktX4_brim_0 : List UInt8 := dkwX4_brim_0 ++ []
theorem dksX4_brim_0 : cX4_brim.data.toList.drop 0 = dktX4_brim_0 := by decide +kernel
theorem dX4_brim_0 : decode cX4_brim 0 = .ok (.iconst 2, 1) := dk_5 (dk_at dksX4_brim_0 0 rfl rfl)
theorem dX4_brim_1 : decode cX4_brim 1 = .ok (.aload_n 0, 1) := dk_42 (dk_at dksX4_brim_0 1 rfl rfl)
theorem dX4_brim_2 : decode cX4_brim 2 = .ok (.invokespecial 7, 3) := dk_183 0 7 (dk_at dksX4_brim_0 2 rfl rfl)
theorem dX4_brim_5 : decode cX4_brim 5 = .ok (.imul, 1) := dk_104 (dk_at dksX4_brim_0 5 rfl rfl)
theorem dX4_brim_6 : decode cX4_brim 6 = .ok (.ireturn, 1) := dk_172 (dk_at dksX4_brim_0 6 rfl rfl)
theorem q64 : (Jvm.Cond.initialized "TearsQueue$Dry") ∈ lw_all := lw_g (lw_at lw_m1 5 rfl) rfl
theorem q116 : (Jvm.Cond.instantiable "TearsQueue$Dry" (0 : Nat)) ∈ lw_all := lw_g (lw_at lw_m1 57 rfl) rfl
theorem q118 : (Jvm.Cond.instanceMethod ({ cls := "TearsQueue$Dry", name := "<init>", desc := "()V" } : Jvm.MethodName)) ∈ lw_all := lw_g (lw_at lw_m1 59 rfl) rfl
theorem q119 : (Jvm.Cond.code ({ cls := "TearsQueue$Dry", name := "<init>", desc := "()V" } : Jvm.MethodName) prog_2_method_1_code (1 : Nat) (Option.none : Option Jvm.ClassFile.FieldType)) ∈ lw_all := lw_g (lw_at lw_m1 60 rfl) rfl
theorem q120 : (Jvm.Cond.methodLinkNest "TearsQueue$Dry" (1 : Nat) ({ cls := "TearsQueue$Plain", name := "<init>", desc := "()V" } : Jvm.MethodName) "TearsQueue") ∈ lw_tbl := lw_at lw_m1 61 rfl
theorem q121 : (Jvm.Cond.superclass "TearsQueue$Dry" "TearsQueue$Plain") ∈ lw_all := lw_g (lw_at lw_m1 62 rfl) rfl
theorem q534 : (Jvm.Cond.selects "TearsQueue$Dry" ({ cls := "TearsQueue$Plain", name := "brim", desc := "()I" } : Jvm.MethodName) ({ cls := "TearsQueue$Dry", name := "brim", desc := "()I" } : Jvm.MethodName)) ∈ lw_all := lw_g (lw_at lw_m2 235 rfl) rfl
theorem q535 : (Jvm.Cond.instanceMethod ({ cls := "TearsQueue$Dry", name := "brim", desc := "()I" } : Jvm.MethodName)) ∈ lw_all := lw_g (lw_at lw_m2 236 rfl) rfl
theorem q536 : (Jvm.Cond.code ({ cls := "TearsQueue$Dry", name := "brim", desc := "()I" } : Jvm.MethodName) prog_2_method_2_code (1 : Nat) (Option.some Jvm.ClassFile.FieldType.int)) ∈ lw_all := lw_g (lw_at lw_m2 237 rfl) rfl
theorem q537 : (Jvm.Cond.methodLink "TearsQueue$Dry" (7 : Nat) ({ cls := "TearsQueue$Plain", name := "brim", desc := "()I" } : Jvm.MethodName)) ∈ lw_all := lw_g (lw_at lw_m2 238 rfl) rfl
theorem q1336 : (Jvm.Cond.castable "TearsQueue$Dry" "TearsQueue$Plain") ∈ lw_tbl := lw_at lw_m6 77 rfl
/-! TearsQueue$Stop -/
set_option maxRecDepth 100000
def RX5 : String := "TearsQueue$Stop"
def TX5 : u_T := fun k => match k with
  | 0 => ("TearsQueue$Stop", "people", "I", false)
  | 1 => ("TearsQueue$Stop", "one", "[B", true)
  | 2 => ("TearsQueue$Stop", "wept", "[S", true)
  | 3 => ("TearsQueue$Stop", "minute", "I", false)
  | 4 => ("TearsQueue$Stop", "room", "I", false)
  | 5 => ("TearsQueue$Stop", "think", "I", false)
  | 6 => ("TearsQueue$Stop", "planned", "I", false)
  | _ => ("TearsQueue$Stop", "plan", "[B", true)
def tyX5 : Nat → FieldType := fun k => match k with
  | 0 => .int
  | 1 => .array .byte
  | 2 => .array .short
  | 3 => .int
  | 4 => .int
  | 5 => .int
  | 6 => .int
  | _ => .array .byte
abbrev wsX50 : List Cond := u_ws RX5 TX5 8
theorem nmX5 : ∀ a, a < 8 → ∀ b, b < 8 → a ≠ b → (TX5 a).2.1 ≠ (TX5 b).2.1 := by decide +kernel
theorem tyX5_ok : ∀ k, k < 8 → parseFieldDescriptor (TX5 k).2.2.1 = some (tyX5 k) := by decide +kernel
abbrev cX5_init : ByteArray := prog_9_method_1_code
def yX5_init : MethodName := ⟨RX5, "<init>", "()V"⟩
def dkwX5_init_2 : List UInt8 := [27, 16, 252, 86, 132, 1, 1, 167, 255, 240, 177]
abbrev dktX5_init_2 : List UInt8 := dkwX5_init_2 ++ []
def dkwX5_init_1 : List UInt8 := [42, 7, 181, 0, 23, 42, 16, 8, 188, 8, 181, 0, 26, 3, 60, 27, 8, 162, 0, 17, 42, 180, 0, 15]
abbrev dktX5_init_1 : List UInt8 := dkwX5_init_1 ++ dktX5_init_2
def dkwX5_init_0 : List UInt8 := [42, 183, 0, 3, 42, 16, 15, 188, 8, 181, 0, 9, 42, 8, 188, 9, 181, 0, 15, 42, 5, 181, 0, 19]
abbrev dktX5_init_0 : List UInt8 := dkwX5_init_0 ++ dktX5_init_1
theorem dksX5_init_0 : cX5_init.data.toList.drop 0 = dktX5_init_0 := by decide +kernel
theorem dksX5_init_1 : cX5_init.data.toList.drop 24 = dktX5_init_1 := dk_seg dksX5_init_0 24 rfl rfl
theorem dksX5_init_2 : cX5_init.data.toList.drop 48 = dktX5_init_2 := dk_seg dksX5_init_1 24 rfl rfl
theorem dX5_init_0 : decode cX5_init 0 = .ok (.aload_n 0, 1) := dk_42 (dk_at dksX5_init_0 0 rfl rfl)
theorem dX5_init_1 : decode cX5_init 1 = .ok (.invokespecial 3, 3) := dk_183 0 3 (dk_at dksX5_init_0 1 rfl rfl)
theorem dX5_init_4 : decode cX5_init 4 = .ok (.aload_n 0, 1) := dk_42 (dk_at dksX5_init_0 4 rfl rfl)
theorem dX5_init_5 : decode cX5_init 5 = .ok (.bipush 15, 2) := dk_16 15 (dk_at dksX5_init_0 5 rfl rfl)
theorem dX5_init_7 : decode cX5_init 7 = .ok (.newarray .byte, 2) := dk_188_8 (dk_at dksX5_init_0 7 rfl rfl)
theorem dX5_init_9 : decode cX5_init 9 = .ok (.putfield 9, 3) := dk_181 0 9 (dk_at dksX5_init_0 9 rfl rfl)
theorem dX5_init_12 : decode cX5_init 12 = .ok (.aload_n 0, 1) := dk_42 (dk_at dksX5_init_0 12 rfl rfl)
theorem dX5_init_13 : decode cX5_init 13 = .ok (.iconst 5, 1) := dk_8 (dk_at dksX5_init_0 13 rfl rfl)
theorem dX5_init_14 : decode cX5_init 14 = .ok (.newarray .short, 2) := dk_188_9 (dk_at dksX5_init_0 14 rfl rfl)
theorem dX5_init_16 : decode cX5_init 16 = .ok (.putfield 15, 3) := dk_181 0 15 (dk_at dksX5_init_0 16 rfl rfl)
theorem dX5_init_19 : decode cX5_init 19 = .ok (.aload_n 0, 1) := dk_42 (dk_at dksX5_init_0 19 rfl rfl)
theorem dX5_init_20 : decode cX5_init 20 = .ok (.iconst 2, 1) := dk_5 (dk_at dksX5_init_0 20 rfl rfl)
theorem dX5_init_21 : decode cX5_init 21 = .ok (.putfield 19, 3) := dk_181 0 19 (dk_at dksX5_init_0 21 rfl rfl)
theorem dX5_init_24 : decode cX5_init 24 = .ok (.aload_n 0, 1) := dk_42 (dk_at dksX5_init_1 0 rfl rfl)
theorem dX5_init_25 : decode cX5_init 25 = .ok (.iconst 4, 1) := dk_7 (dk_at dksX5_init_1 1 rfl rfl)
theorem dX5_init_26 : decode cX5_init 26 = .ok (.putfield 23, 3) := dk_181 0 23 (dk_at dksX5_init_1 2 rfl rfl)
theorem dX5_init_29 : decode cX5_init 29 = .ok (.aload_n 0, 1) := dk_42 (dk_at dksX5_init_1 5 rfl rfl)
theorem dX5_init_30 : decode cX5_init 30 = .ok (.bipush 8, 2) := dk_16 8 (dk_at dksX5_init_1 6 rfl rfl)
theorem dX5_init_32 : decode cX5_init 32 = .ok (.newarray .byte, 2) := dk_188_8 (dk_at dksX5_init_1 8 rfl rfl)
theorem dX5_init_34 : decode cX5_init 34 = .ok (.putfield 26, 3) := dk_181 0 26 (dk_at dksX5_init_1 10 rfl rfl)
theorem dX5_init_37 : decode cX5_init 37 = .ok (.iconst 0, 1) := dk_3 (dk_at dksX5_init_1 13 rfl rfl)
theorem dX5_init_38 : decode cX5_init 38 = .ok (.istore_n 1, 1) := dk_60 (dk_at dksX5_init_1 14 rfl rfl)
theorem dX5_init_39 : decode cX5_init 39 = .ok (.iload_n 1, 1) := dk_27 (dk_at dksX5_init_1 15 rfl rfl)
theorem dX5_init_40 : decode cX5_init 40 = .ok (.iconst 5, 1) := dk_8 (dk_at dksX5_init_1 16 rfl rfl)
theorem dX5_init_41 : decode cX5_init 41 = .ok (.if_icmp .ge 17, 3) := dk_162 0 17 (dk_at dksX5_init_1 17 rfl rfl)
theorem dX5_init_44 : decode cX5_init 44 = .ok (.aload_n 0, 1) := dk_42 (dk_at dksX5_init_1 20 rfl rfl)
theorem dX5_init_45 : decode cX5_init 45 = .ok (.getfield 15, 3) := dk_180 0 15 (dk_at dksX5_init_1 21 rfl rfl)
theorem dX5_init_48 : decode cX5_init 48 = .ok (.iload_n 1, 1) := dk_27 (dk_at dksX5_init_2 0 rfl rfl)
theorem dX5_init_49 : decode cX5_init 49 = .ok (.bipush (-4), 2) := dk_16 252 (dk_at dksX5_init_2 1 rfl rfl)
theorem dX5_init_51 : decode cX5_init 51 = .ok (.sastore, 1) := dk_86 (dk_at dksX5_init_2 3 rfl rfl)
theorem dX5_init_52 : decode cX5_init 52 = .ok (.iinc 1 1, 3) := dk_132 1 1 (dk_at dksX5_init_2 4 rfl rfl)
theorem dX5_init_55 : decode cX5_init 55 = .ok (.goto (-16), 3) := dk_167 255 240 (dk_at dksX5_init_2 7 rfl rfl)
theorem dX5_init_58 : decode cX5_init 58 = .ok (.return_, 1) := dk_177 (dk_at dksX5_init_2 10 rfl rfl)
abbrev cX5_becomes : ByteArray := prog_9_method_4_code
def yX5_becomes : MethodName := ⟨RX5, "becomes", "(III)V"⟩
def dkwX5_becomes_0 : List UInt8 := [42, 180, 0, 9, 6, 27, 104, 28, 96, 29, 145, 84, 177]
abbrev dktX5_becomes_0 : List UInt8 := dkwX5_becomes_0 ++ []
theorem dksX5_becomes_0 : cX5_becomes.data.toList.drop 0 = dktX5_becomes_0 := by decide +kernel
theorem dX5_becomes_0 : decode cX5_becomes 0 = .ok (.aload_n 0, 1) := dk_42 (dk_at dksX5_becomes_0 0 rfl rfl)
theorem dX5_becomes_1 : decode cX5_becomes 1 = .ok (.getfield 9, 3) := dk_180 0 9 (dk_at dksX5_becomes_0 1 rfl rfl)
theorem dX5_becomes_4 : decode cX5_becomes 4 = .ok (.iconst 3, 1) := dk_6 (dk_at dksX5_becomes_0 4 rfl rfl)
theorem dX5_becomes_5 : decode cX5_becomes 5 = .ok (.iload_n 1, 1) := dk_27 (dk_at dksX5_becomes_0 5 rfl rfl)
theorem dX5_becomes_6 : decode cX5_becomes 6 = .ok (.imul, 1) := dk_104 (dk_at dksX5_becomes_0 6 rfl rfl)
theorem dX5_becomes_7 : decode cX5_becomes 7 = .ok (.iload_n 2, 1) := dk_28 (dk_at dksX5_becomes_0 7 rfl rfl)
theorem dX5_becomes_8 : decode cX5_becomes 8 = .ok (.iadd, 1) := dk_96 (dk_at dksX5_becomes_0 8 rfl rfl)
theorem dX5_becomes_9 : decode cX5_becomes 9 = .ok (.iload_n 3, 1) := dk_29 (dk_at dksX5_becomes_0 9 rfl rfl)
theorem dX5_becomes_10 : decode cX5_becomes 10 = .ok (.i2b, 1) := dk_145 (dk_at dksX5_becomes_0 10 rfl rfl)
theorem dX5_becomes_11 : decode cX5_becomes 11 = .ok (.bastore, 1) := dk_84 (dk_at dksX5_becomes_0 11 rfl rfl)
theorem dX5_becomes_12 : decode cX5_becomes 12 = .ok (.return_, 1) := dk_177 (dk_at dksX5_becomes_0 12 rfl rfl)
abbrev cX5_as : ByteArray := prog_9_method_2_code
def yX5_as : MethodName := ⟨RX5, "as", "(LTearsQueue$Stop;)V"⟩
def dkwX5_as_3 : List UInt8 := [180, 0, 26, 3, 42, 180, 0, 26, 3, 16, 8, 184, 0, 32, 177]
abbrev dktX5_as_3 : List UInt8 := dkwX5_as_3 ++ []
def dkwX5_as_2 : List UInt8 := [180, 0, 19, 181, 0, 19, 42, 43, 180, 0, 23, 181, 0, 23, 42, 43, 180, 0, 41, 181, 0, 41, 43]
abbrev dktX5_as_2 : List UInt8 := dkwX5_as_2 ++ dktX5_as_3
def dkwX5_as_1 : List UInt8 := [180, 0, 15, 3, 42, 180, 0, 15, 3, 8, 184, 0, 32, 42, 43, 180, 0, 38, 181, 0, 38, 42, 43]
abbrev dktX5_as_1 : List UInt8 := dkwX5_as_1 ++ dktX5_as_2
def dkwX5_as_0 : List UInt8 := [42, 43, 180, 0, 29, 181, 0, 29, 43, 180, 0, 9, 3, 42, 180, 0, 9, 3, 16, 15, 184, 0, 32, 43]
abbrev dktX5_as_0 : List UInt8 := dkwX5_as_0 ++ dktX5_as_1
theorem dksX5_as_0 : cX5_as.data.toList.drop 0 = dktX5_as_0 := by decide +kernel
theorem dksX5_as_1 : cX5_as.data.toList.drop 24 = dktX5_as_1 := dk_seg dksX5_as_0 24 rfl rfl
theorem dksX5_as_2 : cX5_as.data.toList.drop 47 = dktX5_as_2 := dk_seg dksX5_as_1 23 rfl rfl
theorem dksX5_as_3 : cX5_as.data.toList.drop 70 = dktX5_as_3 := dk_seg dksX5_as_2 23 rfl rfl
theorem dX5_as_0 : decode cX5_as 0 = .ok (.aload_n 0, 1) := dk_42 (dk_at dksX5_as_0 0 rfl rfl)
theorem dX5_as_1 : decode cX5_as 1 = .ok (.aload_n 1, 1) := dk_43 (dk_at dksX5_as_0 1 rfl rfl)
theorem dX5_as_2 : decode cX5_as 2 = .ok (.getfield 29, 3) := dk_180 0 29 (dk_at dksX5_as_0 2 rfl rfl)
theorem dX5_as_5 : decode cX5_as 5 = .ok (.putfield 29, 3) := dk_181 0 29 (dk_at dksX5_as_0 5 rfl rfl)
theorem dX5_as_8 : decode cX5_as 8 = .ok (.aload_n 1, 1) := dk_43 (dk_at dksX5_as_0 8 rfl rfl)
theorem dX5_as_9 : decode cX5_as 9 = .ok (.getfield 9, 3) := dk_180 0 9 (dk_at dksX5_as_0 9 rfl rfl)
theorem dX5_as_12 : decode cX5_as 12 = .ok (.iconst 0, 1) := dk_3 (dk_at dksX5_as_0 12 rfl rfl)
theorem dX5_as_13 : decode cX5_as 13 = .ok (.aload_n 0, 1) := dk_42 (dk_at dksX5_as_0 13 rfl rfl)
theorem dX5_as_14 : decode cX5_as 14 = .ok (.getfield 9, 3) := dk_180 0 9 (dk_at dksX5_as_0 14 rfl rfl)
theorem dX5_as_17 : decode cX5_as 17 = .ok (.iconst 0, 1) := dk_3 (dk_at dksX5_as_0 17 rfl rfl)
theorem dX5_as_18 : decode cX5_as 18 = .ok (.bipush 15, 2) := dk_16 15 (dk_at dksX5_as_0 18 rfl rfl)
theorem dX5_as_20 : decode cX5_as 20 = .ok (.invokestatic 32, 3) := dk_184 0 32 (dk_at dksX5_as_0 20 rfl rfl)
theorem dX5_as_23 : decode cX5_as 23 = .ok (.aload_n 1, 1) := dk_43 (dk_at dksX5_as_0 23 rfl rfl)
theorem dX5_as_24 : decode cX5_as 24 = .ok (.getfield 15, 3) := dk_180 0 15 (dk_at dksX5_as_1 0 rfl rfl)
theorem dX5_as_27 : decode cX5_as 27 = .ok (.iconst 0, 1) := dk_3 (dk_at dksX5_as_1 3 rfl rfl)
theorem dX5_as_28 : decode cX5_as 28 = .ok (.aload_n 0, 1) := dk_42 (dk_at dksX5_as_1 4 rfl rfl)
theorem dX5_as_29 : decode cX5_as 29 = .ok (.getfield 15, 3) := dk_180 0 15 (dk_at dksX5_as_1 5 rfl rfl)
theorem dX5_as_32 : decode cX5_as 32 = .ok (.iconst 0, 1) := dk_3 (dk_at dksX5_as_1 8 rfl rfl)
theorem dX5_as_33 : decode cX5_as 33 = .ok (.iconst 5, 1) := dk_8 (dk_at dksX5_as_1 9 rfl rfl)
theorem dX5_as_34 : decode cX5_as 34 = .ok (.invokestatic 32, 3) := dk_184 0 32 (dk_at dksX5_as_1 10 rfl rfl)
theorem dX5_as_37 : decode cX5_as 37 = .ok (.aload_n 0, 1) := dk_42 (dk_at dksX5_as_1 13 rfl rfl)
theorem dX5_as_38 : decode cX5_as 38 = .ok (.aload_n 1, 1) := dk_43 (dk_at dksX5_as_1 14 rfl rfl)
theorem dX5_as_39 : decode cX5_as 39 = .ok (.getfield 38, 3) := dk_180 0 38 (dk_at dksX5_as_1 15 rfl rfl)
theorem dX5_as_42 : decode cX5_as 42 = .ok (.putfield 38, 3) := dk_181 0 38 (dk_at dksX5_as_1 18 rfl rfl)
theorem dX5_as_45 : decode cX5_as 45 = .ok (.aload_n 0, 1) := dk_42 (dk_at dksX5_as_1 21 rfl rfl)
theorem dX5_as_46 : decode cX5_as 46 = .ok (.aload_n 1, 1) := dk_43 (dk_at dksX5_as_1 22 rfl rfl)
theorem dX5_as_47 : decode cX5_as 47 = .ok (.getfield 19, 3) := dk_180 0 19 (dk_at dksX5_as_2 0 rfl rfl)
theorem dX5_as_50 : decode cX5_as 50 = .ok (.putfield 19, 3) := dk_181 0 19 (dk_at dksX5_as_2 3 rfl rfl)
theorem dX5_as_53 : decode cX5_as 53 = .ok (.aload_n 0, 1) := dk_42 (dk_at dksX5_as_2 6 rfl rfl)
theorem dX5_as_54 : decode cX5_as 54 = .ok (.aload_n 1, 1) := dk_43 (dk_at dksX5_as_2 7 rfl rfl)
theorem dX5_as_55 : decode cX5_as 55 = .ok (.getfield 23, 3) := dk_180 0 23 (dk_at dksX5_as_2 8 rfl rfl)
theorem dX5_as_58 : decode cX5_as 58 = .ok (.putfield 23, 3) := dk_181 0 23 (dk_at dksX5_as_2 11 rfl rfl)
theorem dX5_as_61 : decode cX5_as 61 = .ok (.aload_n 0, 1) := dk_42 (dk_at dksX5_as_2 14 rfl rfl)
theorem dX5_as_62 : decode cX5_as 62 = .ok (.aload_n 1, 1) := dk_43 (dk_at dksX5_as_2 15 rfl rfl)
theorem dX5_as_63 : decode cX5_as 63 = .ok (.getfield 41, 3) := dk_180 0 41 (dk_at dksX5_as_2 16 rfl rfl)
theorem dX5_as_66 : decode cX5_as 66 = .ok (.putfield 41, 3) := dk_181 0 41 (dk_at dksX5_as_2 19 rfl rfl)
theorem dX5_as_69 : decode cX5_as 69 = .ok (.aload_n 1, 1) := dk_43 (dk_at dksX5_as_2 22 rfl rfl)
theorem dX5_as_70 : decode cX5_as 70 = .ok (.getfield 26, 3) := dk_180 0 26 (dk_at dksX5_as_3 0 rfl rfl)
theorem dX5_as_73 : decode cX5_as 73 = .ok (.iconst 0, 1) := dk_3 (dk_at dksX5_as_3 3 rfl rfl)
theorem dX5_as_74 : decode cX5_as 74 = .ok (.aload_n 0, 1) := dk_42 (dk_at dksX5_as_3 4 rfl rfl)
theorem dX5_as_75 : decode cX5_as 75 = .ok (.getfield 26, 3) := dk_180 0 26 (dk_at dksX5_as_3 5 rfl rfl)
theorem dX5_as_78 : decode cX5_as 78 = .ok (.iconst 0, 1) := dk_3 (dk_at dksX5_as_3 8 rfl rfl)
theorem dX5_as_79 : decode cX5_as 79 = .ok (.bipush 8, 2) := dk_16 8 (dk_at dksX5_as_3 9 rfl rfl)
theorem dX5_as_81 : decode cX5_as 81 = .ok (.invokestatic 32, 3) := dk_184 0 32 (dk_at dksX5_as_3 11 rfl rfl)
theorem dX5_as_84 : decode cX5_as 84 = .ok (.return_, 1) := dk_177 (dk_at dksX5_as_3 14 rfl rfl)
abbrev cX5_waiting : ByteArray := prog_9_method_6_code
def yX5_waiting : MethodName := ⟨RX5, "waiting", "()I"⟩
def dkwX5_waiting_1 : List UInt8 := [167, 0, 4, 3, 128, 60, 132, 2, 1, 167, 255, 227, 27, 172]
abbrev dktX5_waiting_1 : List UInt8 := dkwX5_waiting_1 ++ []
def dkwX5_waiting_0 : List UInt8 := [3, 60, 3, 61, 28, 42, 180, 0, 29, 162, 0, 27, 27, 42, 28, 182, 0, 48, 153, 0, 9, 4, 28, 120]
abbrev dktX5_waiting_0 : List UInt8 := dkwX5_waiting_0 ++ dktX5_waiting_1
theorem dksX5_waiting_0 : cX5_waiting.data.toList.drop 0 = dktX5_waiting_0 := by decide +kernel
theorem dksX5_waiting_1 : cX5_waiting.data.toList.drop 24 = dktX5_waiting_1 := dk_seg dksX5_waiting_0 24 rfl rfl
theorem dX5_waiting_0 : decode cX5_waiting 0 = .ok (.iconst 0, 1) := dk_3 (dk_at dksX5_waiting_0 0 rfl rfl)
theorem dX5_waiting_1 : decode cX5_waiting 1 = .ok (.istore_n 1, 1) := dk_60 (dk_at dksX5_waiting_0 1 rfl rfl)
theorem dX5_waiting_2 : decode cX5_waiting 2 = .ok (.iconst 0, 1) := dk_3 (dk_at dksX5_waiting_0 2 rfl rfl)
theorem dX5_waiting_3 : decode cX5_waiting 3 = .ok (.istore_n 2, 1) := dk_61 (dk_at dksX5_waiting_0 3 rfl rfl)
theorem dX5_waiting_4 : decode cX5_waiting 4 = .ok (.iload_n 2, 1) := dk_28 (dk_at dksX5_waiting_0 4 rfl rfl)
theorem dX5_waiting_5 : decode cX5_waiting 5 = .ok (.aload_n 0, 1) := dk_42 (dk_at dksX5_waiting_0 5 rfl rfl)
theorem dX5_waiting_6 : decode cX5_waiting 6 = .ok (.getfield 29, 3) := dk_180 0 29 (dk_at dksX5_waiting_0 6 rfl rfl)
theorem dX5_waiting_9 : decode cX5_waiting 9 = .ok (.if_icmp .ge 27, 3) := dk_162 0 27 (dk_at dksX5_waiting_0 9 rfl rfl)
theorem dX5_waiting_12 : decode cX5_waiting 12 = .ok (.iload_n 1, 1) := dk_27 (dk_at dksX5_waiting_0 12 rfl rfl)
theorem dX5_waiting_13 : decode cX5_waiting 13 = .ok (.aload_n 0, 1) := dk_42 (dk_at dksX5_waiting_0 13 rfl rfl)
theorem dX5_waiting_14 : decode cX5_waiting 14 = .ok (.iload_n 2, 1) := dk_28 (dk_at dksX5_waiting_0 14 rfl rfl)
theorem dX5_waiting_15 : decode cX5_waiting 15 = .ok (.invokevirtual 48, 3) := dk_182 0 48 (dk_at dksX5_waiting_0 15 rfl rfl)
theorem dX5_waiting_18 : decode cX5_waiting 18 = .ok (.ifCond .eq 9, 3) := dk_153 0 9 (dk_at dksX5_waiting_0 18 rfl rfl)
theorem dX5_waiting_21 : decode cX5_waiting 21 = .ok (.iconst 1, 1) := dk_4 (dk_at dksX5_waiting_0 21 rfl rfl)
theorem dX5_waiting_22 : decode cX5_waiting 22 = .ok (.iload_n 2, 1) := dk_28 (dk_at dksX5_waiting_0 22 rfl rfl)
theorem dX5_waiting_23 : decode cX5_waiting 23 = .ok (.ishl, 1) := dk_120 (dk_at dksX5_waiting_0 23 rfl rfl)
theorem dX5_waiting_24 : decode cX5_waiting 24 = .ok (.goto 4, 3) := dk_167 0 4 (dk_at dksX5_waiting_1 0 rfl rfl)
theorem dX5_waiting_27 : decode cX5_waiting 27 = .ok (.iconst 0, 1) := dk_3 (dk_at dksX5_waiting_1 3 rfl rfl)
theorem dX5_waiting_28 : decode cX5_waiting 28 = .ok (.ior, 1) := dk_128 (dk_at dksX5_waiting_1 4 rfl rfl)
theorem dX5_waiting_29 : decode cX5_waiting 29 = .ok (.istore_n 1, 1) := dk_60 (dk_at dksX5_waiting_1 5 rfl rfl)
theorem dX5_waiting_30 : decode cX5_waiting 30 = .ok (.iinc 2 1, 3) := dk_132 2 1 (dk_at dksX5_waiting_1 6 rfl rfl)
theorem dX5_waiting_33 : decode cX5_waiting 33 = .ok (.goto (-29), 3) := dk_167 255 227 (dk_at dksX5_waiting_1 9 rfl rfl)
theorem dX5_waiting_36 : decode cX5_waiting 36 = .ok (.iload_n 1, 1) := dk_27 (dk_at dksX5_waiting_1 12 rfl rfl)
theorem dX5_waiting_37 : decode cX5_waiting 37 = .ok (.ireturn, 1) := dk_172 (dk_at dksX5_waiting_1 13 rfl rfl)
abbrev cX5_waits : ByteArray := prog_9_method_5_code
def yX5_waits : MethodName := ⟨RX5, "waits", "(I)Z"⟩
def dkwX5_waits_0 : List UInt8 := [42, 27, 5, 182, 0, 44, 154, 0, 7, 4, 167, 0, 4, 3, 172]
abbrev dktX5_waits_0 : List UInt8 := dkwX5_waits_0 ++ []
theorem dksX5_waits_0 : cX5_waits.data.toList.drop 0 = dktX5_waits_0 := by decide +kernel
theorem dX5_waits_0 : decode cX5_waits 0 = .ok (.aload_n 0, 1) := dk_42 (dk_at dksX5_waits_0 0 rfl rfl)
theorem dX5_waits_1 : decode cX5_waits 1 = .ok (.iload_n 1, 1) := dk_27 (dk_at dksX5_waits_0 1 rfl rfl)
theorem dX5_waits_2 : decode cX5_waits 2 = .ok (.iconst 2, 1) := dk_5 (dk_at dksX5_waits_0 2 rfl rfl)
theorem dX5_waits_3 : decode cX5_waits 3 = .ok (.invokevirtual 44, 3) := dk_182 0 44 (dk_at dksX5_waits_0 3 rfl rfl)
theorem dX5_waits_6 : decode cX5_waits 6 = .ok (.ifCond .ne 7, 3) := dk_154 0 7 (dk_at dksX5_waits_0 6 rfl rfl)
theorem dX5_waits_9 : decode cX5_waits 9 = .ok (.iconst 1, 1) := dk_4 (dk_at dksX5_waits_0 9 rfl rfl)
theorem dX5_waits_10 : decode cX5_waits 10 = .ok (.goto 4, 3) := dk_167 0 4 (dk_at dksX5_waits_0 10 rfl rfl)
theorem dX5_waits_13 : decode cX5_waits 13 = .ok (.iconst 0, 1) := dk_3 (dk_at dksX5_waits_0 13 rfl rfl)
theorem dX5_waits_14 : decode cX5_waits 14 = .ok (.ireturn, 1) := dk_172 (dk_at dksX5_waits_0 14 rfl rfl)
abbrev cX5_of : ByteArray := prog_9_method_3_code
def yX5_of : MethodName := ⟨RX5, "of", "(II)I"⟩
def dkwX5_of_0 : List UInt8 := [42, 180, 0, 9, 6, 27, 104, 28, 96, 51, 172]
abbrev dktX5_of_0 : List UInt8 := dkwX5_of_0 ++ []
theorem dksX5_of_0 : cX5_of.data.toList.drop 0 = dktX5_of_0 := by decide +kernel
theorem dX5_of_0 : decode cX5_of 0 = .ok (.aload_n 0, 1) := dk_42 (dk_at dksX5_of_0 0 rfl rfl)
theorem dX5_of_1 : decode cX5_of 1 = .ok (.getfield 9, 3) := dk_180 0 9 (dk_at dksX5_of_0 1 rfl rfl)
theorem dX5_of_4 : decode cX5_of 4 = .ok (.iconst 3, 1) := dk_6 (dk_at dksX5_of_0 4 rfl rfl)
theorem dX5_of_5 : decode cX5_of 5 = .ok (.iload_n 1, 1) := dk_27 (dk_at dksX5_of_0 5 rfl rfl)
theorem dX5_of_6 : decode cX5_of 6 = .ok (.imul, 1) := dk_104 (dk_at dksX5_of_0 6 rfl rfl)
theorem dX5_of_7 : decode cX5_of 7 = .ok (.iload_n 2, 1) := dk_28 (dk_at dksX5_of_0 7 rfl rfl)
theorem dX5_of_8 : decode cX5_of 8 = .ok (.iadd, 1) := dk_96 (dk_at dksX5_of_0 8 rfl rfl)
theorem dX5_of_9 : decode cX5_of 9 = .ok (.baload, 1) := dk_51 (dk_at dksX5_of_0 9 rfl rfl)
theorem dX5_of_10 : decode cX5_of 10 = .ok (.ireturn, 1) := dk_172 (dk_at dksX5_of_0 10 rfl rfl)
abbrev cX5_sorrow : ByteArray := prog_9_method_8_code
def yX5_sorrow : MethodName := ⟨RX5, "sorrow", "()I"⟩
def dkwX5_sorrow_1 : List UInt8 := [182, 0, 44, 167, 0, 4, 3, 96, 60, 132, 2, 1, 167, 255, 224, 27, 172]
abbrev dktX5_sorrow_1 : List UInt8 := dkwX5_sorrow_1 ++ []
def dkwX5_sorrow_0 : List UInt8 := [3, 60, 3, 61, 28, 42, 180, 0, 29, 162, 0, 30, 27, 42, 28, 182, 0, 48, 153, 0, 12, 42, 28, 4]
abbrev dktX5_sorrow_0 : List UInt8 := dkwX5_sorrow_0 ++ dktX5_sorrow_1
theorem dksX5_sorrow_0 : cX5_sorrow.data.toList.drop 0 = dktX5_sorrow_0 := by decide +kernel
theorem dksX5_sorrow_1 : cX5_sorrow.data.toList.drop 24 = dktX5_sorrow_1 := dk_seg dksX5_sorrow_0 24 rfl rfl
theorem dX5_sorrow_0 : decode cX5_sorrow 0 = .ok (.iconst 0, 1) := dk_3 (dk_at dksX5_sorrow_0 0 rfl rfl)
theorem dX5_sorrow_1 : decode cX5_sorrow 1 = .ok (.istore_n 1, 1) := dk_60 (dk_at dksX5_sorrow_0 1 rfl rfl)
theorem dX5_sorrow_2 : decode cX5_sorrow 2 = .ok (.iconst 0, 1) := dk_3 (dk_at dksX5_sorrow_0 2 rfl rfl)
theorem dX5_sorrow_3 : decode cX5_sorrow 3 = .ok (.istore_n 2, 1) := dk_61 (dk_at dksX5_sorrow_0 3 rfl rfl)
theorem dX5_sorrow_4 : decode cX5_sorrow 4 = .ok (.iload_n 2, 1) := dk_28 (dk_at dksX5_sorrow_0 4 rfl rfl)
theorem dX5_sorrow_5 : decode cX5_sorrow 5 = .ok (.aload_n 0, 1) := dk_42 (dk_at dksX5_sorrow_0 5 rfl rfl)
theorem dX5_sorrow_6 : decode cX5_sorrow 6 = .ok (.getfield 29, 3) := dk_180 0 29 (dk_at dksX5_sorrow_0 6 rfl rfl)
theorem dX5_sorrow_9 : decode cX5_sorrow 9 = .ok (.if_icmp .ge 30, 3) := dk_162 0 30 (dk_at dksX5_sorrow_0 9 rfl rfl)
theorem dX5_sorrow_12 : decode cX5_sorrow 12 = .ok (.iload_n 1, 1) := dk_27 (dk_at dksX5_sorrow_0 12 rfl rfl)
theorem dX5_sorrow_13 : decode cX5_sorrow 13 = .ok (.aload_n 0, 1) := dk_42 (dk_at dksX5_sorrow_0 13 rfl rfl)
theorem dX5_sorrow_14 : decode cX5_sorrow 14 = .ok (.iload_n 2, 1) := dk_28 (dk_at dksX5_sorrow_0 14 rfl rfl)
theorem dX5_sorrow_15 : decode cX5_sorrow 15 = .ok (.invokevirtual 48, 3) := dk_182 0 48 (dk_at dksX5_sorrow_0 15 rfl rfl)
theorem dX5_sorrow_18 : decode cX5_sorrow 18 = .ok (.ifCond .eq 12, 3) := dk_153 0 12 (dk_at dksX5_sorrow_0 18 rfl rfl)
theorem dX5_sorrow_21 : decode cX5_sorrow 21 = .ok (.aload_n 0, 1) := dk_42 (dk_at dksX5_sorrow_0 21 rfl rfl)
theorem dX5_sorrow_22 : decode cX5_sorrow 22 = .ok (.iload_n 2, 1) := dk_28 (dk_at dksX5_sorrow_0 22 rfl rfl)
theorem dX5_sorrow_23 : decode cX5_sorrow 23 = .ok (.iconst 1, 1) := dk_4 (dk_at dksX5_sorrow_0 23 rfl rfl)
theorem dX5_sorrow_24 : decode cX5_sorrow 24 = .ok (.invokevirtual 44, 3) := dk_182 0 44 (dk_at dksX5_sorrow_1 0 rfl rfl)
theorem dX5_sorrow_27 : decode cX5_sorrow 27 = .ok (.goto 4, 3) := dk_167 0 4 (dk_at dksX5_sorrow_1 3 rfl rfl)
theorem dX5_sorrow_30 : decode cX5_sorrow 30 = .ok (.iconst 0, 1) := dk_3 (dk_at dksX5_sorrow_1 6 rfl rfl)
theorem dX5_sorrow_31 : decode cX5_sorrow 31 = .ok (.iadd, 1) := dk_96 (dk_at dksX5_sorrow_1 7 rfl rfl)
theorem dX5_sorrow_32 : decode cX5_sorrow 32 = .ok (.istore_n 1, 1) := dk_60 (dk_at dksX5_sorrow_1 8 rfl rfl)
theorem dX5_sorrow_33 : decode cX5_sorrow 33 = .ok (.iinc 2 1, 3) := dk_132 2 1 (dk_at dksX5_sorrow_1 9 rfl rfl)
theorem dX5_sorrow_36 : decode cX5_sorrow 36 = .ok (.goto (-32), 3) := dk_167 255 224 (dk_at dksX5_sorrow_1 12 rfl rfl)
theorem dX5_sorrow_39 : decode cX5_sorrow 39 = .ok (.iload_n 1, 1) := dk_27 (dk_at dksX5_sorrow_1 15 rfl rfl)
theorem dX5_sorrow_40 : decode cX5_sorrow 40 = .ok (.ireturn, 1) := dk_172 (dk_at dksX5_sorrow_1 16 rfl rfl)
abbrev cX5_firstOnes : ByteArray := prog_9_method_15_code
def yX5_firstOnes : MethodName := ⟨RX5, "firstOnes", "(I)I"⟩
def dkwX5_firstOnes_1 : List UInt8 := [2, 130, 126, 61, 132, 3, 1, 167, 255, 232, 42, 182, 0, 52, 28, 2, 130, 126, 172]
abbrev dktX5_firstOnes_1 : List UInt8 := dkwX5_firstOnes_1 ++ []
def dkwX5_firstOnes_0 : List UInt8 := [42, 182, 0, 52, 61, 3, 62, 29, 27, 162, 0, 25, 28, 153, 0, 21, 28, 4, 42, 28, 182, 0, 83, 120]
abbrev dktX5_firstOnes_0 : List UInt8 := dkwX5_firstOnes_0 ++ dktX5_firstOnes_1
theorem dksX5_firstOnes_0 : cX5_firstOnes.data.toList.drop 0 = dktX5_firstOnes_0 := by decide +kernel
theorem dksX5_firstOnes_1 : cX5_firstOnes.data.toList.drop 24 = dktX5_firstOnes_1 := dk_seg dksX5_firstOnes_0 24 rfl rfl
theorem dX5_firstOnes_0 : decode cX5_firstOnes 0 = .ok (.aload_n 0, 1) := dk_42 (dk_at dksX5_firstOnes_0 0 rfl rfl)
theorem dX5_firstOnes_1 : decode cX5_firstOnes 1 = .ok (.invokevirtual 52, 3) := dk_182 0 52 (dk_at dksX5_firstOnes_0 1 rfl rfl)
theorem dX5_firstOnes_4 : decode cX5_firstOnes 4 = .ok (.istore_n 2, 1) := dk_61 (dk_at dksX5_firstOnes_0 4 rfl rfl)
theorem dX5_firstOnes_5 : decode cX5_firstOnes 5 = .ok (.iconst 0, 1) := dk_3 (dk_at dksX5_firstOnes_0 5 rfl rfl)
theorem dX5_firstOnes_6 : decode cX5_firstOnes 6 = .ok (.istore_n 3, 1) := dk_62 (dk_at dksX5_firstOnes_0 6 rfl rfl)
theorem dX5_firstOnes_7 : decode cX5_firstOnes 7 = .ok (.iload_n 3, 1) := dk_29 (dk_at dksX5_firstOnes_0 7 rfl rfl)
theorem dX5_firstOnes_8 : decode cX5_firstOnes 8 = .ok (.iload_n 1, 1) := dk_27 (dk_at dksX5_firstOnes_0 8 rfl rfl)
theorem dX5_firstOnes_9 : decode cX5_firstOnes 9 = .ok (.if_icmp .ge 25, 3) := dk_162 0 25 (dk_at dksX5_firstOnes_0 9 rfl rfl)
theorem dX5_firstOnes_12 : decode cX5_firstOnes 12 = .ok (.iload_n 2, 1) := dk_28 (dk_at dksX5_firstOnes_0 12 rfl rfl)
theorem dX5_firstOnes_13 : decode cX5_firstOnes 13 = .ok (.ifCond .eq 21, 3) := dk_153 0 21 (dk_at dksX5_firstOnes_0 13 rfl rfl)
theorem dX5_firstOnes_16 : decode cX5_firstOnes 16 = .ok (.iload_n 2, 1) := dk_28 (dk_at dksX5_firstOnes_0 16 rfl rfl)
theorem dX5_firstOnes_17 : decode cX5_firstOnes 17 = .ok (.iconst 1, 1) := dk_4 (dk_at dksX5_firstOnes_0 17 rfl rfl)
theorem dX5_firstOnes_18 : decode cX5_firstOnes 18 = .ok (.aload_n 0, 1) := dk_42 (dk_at dksX5_firstOnes_0 18 rfl rfl)
theorem dX5_firstOnes_19 : decode cX5_firstOnes 19 = .ok (.iload_n 2, 1) := dk_28 (dk_at dksX5_firstOnes_0 19 rfl rfl)
theorem dX5_firstOnes_20 : decode cX5_firstOnes 20 = .ok (.invokevirtual 83, 3) := dk_182 0 83 (dk_at dksX5_firstOnes_0 20 rfl rfl)
theorem dX5_firstOnes_23 : decode cX5_firstOnes 23 = .ok (.ishl, 1) := dk_120 (dk_at dksX5_firstOnes_0 23 rfl rfl)
theorem dX5_firstOnes_24 : decode cX5_firstOnes 24 = .ok (.iconst (-1), 1) := dk_2 (dk_at dksX5_firstOnes_1 0 rfl rfl)
theorem dX5_firstOnes_25 : decode cX5_firstOnes 25 = .ok (.ixor, 1) := dk_130 (dk_at dksX5_firstOnes_1 1 rfl rfl)
theorem dX5_firstOnes_26 : decode cX5_firstOnes 26 = .ok (.iand, 1) := dk_126 (dk_at dksX5_firstOnes_1 2 rfl rfl)
theorem dX5_firstOnes_27 : decode cX5_firstOnes 27 = .ok (.istore_n 2, 1) := dk_61 (dk_at dksX5_firstOnes_1 3 rfl rfl)
theorem dX5_firstOnes_28 : decode cX5_firstOnes 28 = .ok (.iinc 3 1, 3) := dk_132 3 1 (dk_at dksX5_firstOnes_1 4 rfl rfl)
theorem dX5_firstOnes_31 : decode cX5_firstOnes 31 = .ok (.goto (-24), 3) := dk_167 255 232 (dk_at dksX5_firstOnes_1 7 rfl rfl)
theorem dX5_firstOnes_34 : decode cX5_firstOnes 34 = .ok (.aload_n 0, 1) := dk_42 (dk_at dksX5_firstOnes_1 10 rfl rfl)
theorem dX5_firstOnes_35 : decode cX5_firstOnes 35 = .ok (.invokevirtual 52, 3) := dk_182 0 52 (dk_at dksX5_firstOnes_1 11 rfl rfl)
theorem dX5_firstOnes_38 : decode cX5_firstOnes 38 = .ok (.iload_n 2, 1) := dk_28 (dk_at dksX5_firstOnes_1 14 rfl rfl)
theorem dX5_firstOnes_39 : decode cX5_firstOnes 39 = .ok (.iconst (-1), 1) := dk_2 (dk_at dksX5_firstOnes_1 15 rfl rfl)
theorem dX5_firstOnes_40 : decode cX5_firstOnes 40 = .ok (.ixor, 1) := dk_130 (dk_at dksX5_firstOnes_1 16 rfl rfl)
theorem dX5_firstOnes_41 : decode cX5_firstOnes 41 = .ok (.iand, 1) := dk_126 (dk_at dksX5_firstOnes_1 17 rfl rfl)
theorem dX5_firstOnes_42 : decode cX5_firstOnes 42 = .ok (.ireturn, 1) := dk_172 (dk_at dksX5_firstOnes_1 18 rfl rfl)
abbrev cX5_firstOf : ByteArray := prog_9_method_14_code
def yX5_firstOf : MethodName := ⟨RX5, "firstOf", "(I)I"⟩
def dkwX5_firstOf_2 : List UInt8 := [28, 172]
abbrev dktX5_firstOf_2 : List UInt8 := dkwX5_firstOf_2 ++ []
def dkwX5_firstOf_1 : List UInt8 := [159, 0, 12, 42, 29, 28, 182, 0, 80, 153, 0, 7, 29, 167, 0, 4, 28, 61, 132, 3, 1, 167, 255, 216]
abbrev dktX5_firstOf_1 : List UInt8 := dkwX5_firstOf_1 ++ dktX5_firstOf_2
def dkwX5_firstOf_0 : List UInt8 := [16, 252, 61, 3, 62, 29, 42, 180, 0, 29, 162, 0, 38, 27, 29, 184, 0, 76, 153, 0, 22, 28, 16, 252]
abbrev dktX5_firstOf_0 : List UInt8 := dkwX5_firstOf_0 ++ dktX5_firstOf_1
theorem dksX5_firstOf_0 : cX5_firstOf.data.toList.drop 0 = dktX5_firstOf_0 := by decide +kernel
theorem dksX5_firstOf_1 : cX5_firstOf.data.toList.drop 24 = dktX5_firstOf_1 := dk_seg dksX5_firstOf_0 24 rfl rfl
theorem dksX5_firstOf_2 : cX5_firstOf.data.toList.drop 48 = dktX5_firstOf_2 := dk_seg dksX5_firstOf_1 24 rfl rfl
theorem dX5_firstOf_0 : decode cX5_firstOf 0 = .ok (.bipush (-4), 2) := dk_16 252 (dk_at dksX5_firstOf_0 0 rfl rfl)
theorem dX5_firstOf_2 : decode cX5_firstOf 2 = .ok (.istore_n 2, 1) := dk_61 (dk_at dksX5_firstOf_0 2 rfl rfl)
theorem dX5_firstOf_3 : decode cX5_firstOf 3 = .ok (.iconst 0, 1) := dk_3 (dk_at dksX5_firstOf_0 3 rfl rfl)
theorem dX5_firstOf_4 : decode cX5_firstOf 4 = .ok (.istore_n 3, 1) := dk_62 (dk_at dksX5_firstOf_0 4 rfl rfl)
theorem dX5_firstOf_5 : decode cX5_firstOf 5 = .ok (.iload_n 3, 1) := dk_29 (dk_at dksX5_firstOf_0 5 rfl rfl)
theorem dX5_firstOf_6 : decode cX5_firstOf 6 = .ok (.aload_n 0, 1) := dk_42 (dk_at dksX5_firstOf_0 6 rfl rfl)
theorem dX5_firstOf_7 : decode cX5_firstOf 7 = .ok (.getfield 29, 3) := dk_180 0 29 (dk_at dksX5_firstOf_0 7 rfl rfl)
theorem dX5_firstOf_10 : decode cX5_firstOf 10 = .ok (.if_icmp .ge 38, 3) := dk_162 0 38 (dk_at dksX5_firstOf_0 10 rfl rfl)
theorem dX5_firstOf_13 : decode cX5_firstOf 13 = .ok (.iload_n 1, 1) := dk_27 (dk_at dksX5_firstOf_0 13 rfl rfl)
theorem dX5_firstOf_14 : decode cX5_firstOf 14 = .ok (.iload_n 3, 1) := dk_29 (dk_at dksX5_firstOf_0 14 rfl rfl)
theorem dX5_firstOf_15 : decode cX5_firstOf 15 = .ok (.invokestatic 76, 3) := dk_184 0 76 (dk_at dksX5_firstOf_0 15 rfl rfl)
theorem dX5_firstOf_18 : decode cX5_firstOf 18 = .ok (.ifCond .eq 22, 3) := dk_153 0 22 (dk_at dksX5_firstOf_0 18 rfl rfl)
theorem dX5_firstOf_21 : decode cX5_firstOf 21 = .ok (.iload_n 2, 1) := dk_28 (dk_at dksX5_firstOf_0 21 rfl rfl)
theorem dX5_firstOf_22 : decode cX5_firstOf 22 = .ok (.bipush (-4), 2) := dk_16 252 (dk_at dksX5_firstOf_0 22 rfl rfl)
theorem dX5_firstOf_24 : decode cX5_firstOf 24 = .ok (.if_icmp .eq 12, 3) := dk_159 0 12 (dk_at dksX5_firstOf_1 0 rfl rfl)
theorem dX5_firstOf_27 : decode cX5_firstOf 27 = .ok (.aload_n 0, 1) := dk_42 (dk_at dksX5_firstOf_1 3 rfl rfl)
theorem dX5_firstOf_28 : decode cX5_firstOf 28 = .ok (.iload_n 3, 1) := dk_29 (dk_at dksX5_firstOf_1 4 rfl rfl)
theorem dX5_firstOf_29 : decode cX5_firstOf 29 = .ok (.iload_n 2, 1) := dk_28 (dk_at dksX5_firstOf_1 5 rfl rfl)
theorem dX5_firstOf_30 : decode cX5_firstOf 30 = .ok (.invokevirtual 80, 3) := dk_182 0 80 (dk_at dksX5_firstOf_1 6 rfl rfl)
theorem dX5_firstOf_33 : decode cX5_firstOf 33 = .ok (.ifCond .eq 7, 3) := dk_153 0 7 (dk_at dksX5_firstOf_1 9 rfl rfl)
theorem dX5_firstOf_36 : decode cX5_firstOf 36 = .ok (.iload_n 3, 1) := dk_29 (dk_at dksX5_firstOf_1 12 rfl rfl)
theorem dX5_firstOf_37 : decode cX5_firstOf 37 = .ok (.goto 4, 3) := dk_167 0 4 (dk_at dksX5_firstOf_1 13 rfl rfl)
theorem dX5_firstOf_40 : decode cX5_firstOf 40 = .ok (.iload_n 2, 1) := dk_28 (dk_at dksX5_firstOf_1 16 rfl rfl)
theorem dX5_firstOf_41 : decode cX5_firstOf 41 = .ok (.istore_n 2, 1) := dk_61 (dk_at dksX5_firstOf_1 17 rfl rfl)
theorem dX5_firstOf_42 : decode cX5_firstOf 42 = .ok (.iinc 3 1, 3) := dk_132 3 1 (dk_at dksX5_firstOf_1 18 rfl rfl)
theorem dX5_firstOf_45 : decode cX5_firstOf 45 = .ok (.goto (-40), 3) := dk_167 255 216 (dk_at dksX5_firstOf_1 21 rfl rfl)
theorem dX5_firstOf_48 : decode cX5_firstOf 48 = .ok (.iload_n 2, 1) := dk_28 (dk_at dksX5_firstOf_2 0 rfl rfl)
theorem dX5_firstOf_49 : decode cX5_firstOf 49 = .ok (.ireturn, 1) := dk_172 (dk_at dksX5_firstOf_2 1 rfl rfl)
abbrev cX5_isAhead : ByteArray := prog_9_method_13_code
def yX5_isAhead : MethodName := ⟨RX5, "isAhead", "(II)Z"⟩
def dkwX5_isAhead_3 : List UInt8 := [164, 0, 7, 4, 167, 0, 17, 3, 167, 0, 13, 27, 28, 162, 0, 7, 4, 167, 0, 4, 3, 172]
abbrev dktX5_isAhead_3 : List UInt8 := dkwX5_isAhead_3 ++ []
def dkwX5_isAhead_2 : List UInt8 := [53, 42, 180, 0, 15, 28, 53, 159, 0, 26, 42, 180, 0, 15, 27, 53, 42, 180, 0, 15, 28, 53]
abbrev dktX5_isAhead_2 : List UInt8 := dkwX5_isAhead_2 ++ dktX5_isAhead_3
def dkwX5_isAhead_1 : List UInt8 := [162, 0, 7, 4, 167, 0, 63, 3, 167, 0, 59, 42, 27, 182, 0, 72, 154, 0, 41, 42, 180, 0, 15, 27]
abbrev dktX5_isAhead_1 : List UInt8 := dkwX5_isAhead_1 ++ dktX5_isAhead_2
def dkwX5_isAhead_0 : List UInt8 := [42, 27, 182, 0, 72, 42, 28, 182, 0, 72, 159, 0, 24, 42, 27, 182, 0, 72, 42, 28, 182, 0, 72]
abbrev dktX5_isAhead_0 : List UInt8 := dkwX5_isAhead_0 ++ dktX5_isAhead_1
theorem dksX5_isAhead_0 : cX5_isAhead.data.toList.drop 0 = dktX5_isAhead_0 := by decide +kernel
theorem dksX5_isAhead_1 : cX5_isAhead.data.toList.drop 23 = dktX5_isAhead_1 := dk_seg dksX5_isAhead_0 23 rfl rfl
theorem dksX5_isAhead_2 : cX5_isAhead.data.toList.drop 47 = dktX5_isAhead_2 := dk_seg dksX5_isAhead_1 24 rfl rfl
theorem dksX5_isAhead_3 : cX5_isAhead.data.toList.drop 69 = dktX5_isAhead_3 := dk_seg dksX5_isAhead_2 22 rfl rfl
theorem dX5_isAhead_0 : decode cX5_isAhead 0 = .ok (.aload_n 0, 1) := dk_42 (dk_at dksX5_isAhead_0 0 rfl rfl)
theorem dX5_isAhead_1 : decode cX5_isAhead 1 = .ok (.iload_n 1, 1) := dk_27 (dk_at dksX5_isAhead_0 1 rfl rfl)
theorem dX5_isAhead_2 : decode cX5_isAhead 2 = .ok (.invokevirtual 72, 3) := dk_182 0 72 (dk_at dksX5_isAhead_0 2 rfl rfl)
theorem dX5_isAhead_5 : decode cX5_isAhead 5 = .ok (.aload_n 0, 1) := dk_42 (dk_at dksX5_isAhead_0 5 rfl rfl)
theorem dX5_isAhead_6 : decode cX5_isAhead 6 = .ok (.iload_n 2, 1) := dk_28 (dk_at dksX5_isAhead_0 6 rfl rfl)
theorem dX5_isAhead_7 : decode cX5_isAhead 7 = .ok (.invokevirtual 72, 3) := dk_182 0 72 (dk_at dksX5_isAhead_0 7 rfl rfl)
theorem dX5_isAhead_10 : decode cX5_isAhead 10 = .ok (.if_icmp .eq 24, 3) := dk_159 0 24 (dk_at dksX5_isAhead_0 10 rfl rfl)
theorem dX5_isAhead_13 : decode cX5_isAhead 13 = .ok (.aload_n 0, 1) := dk_42 (dk_at dksX5_isAhead_0 13 rfl rfl)
theorem dX5_isAhead_14 : decode cX5_isAhead 14 = .ok (.iload_n 1, 1) := dk_27 (dk_at dksX5_isAhead_0 14 rfl rfl)
theorem dX5_isAhead_15 : decode cX5_isAhead 15 = .ok (.invokevirtual 72, 3) := dk_182 0 72 (dk_at dksX5_isAhead_0 15 rfl rfl)
theorem dX5_isAhead_18 : decode cX5_isAhead 18 = .ok (.aload_n 0, 1) := dk_42 (dk_at dksX5_isAhead_0 18 rfl rfl)
theorem dX5_isAhead_19 : decode cX5_isAhead 19 = .ok (.iload_n 2, 1) := dk_28 (dk_at dksX5_isAhead_0 19 rfl rfl)
theorem dX5_isAhead_20 : decode cX5_isAhead 20 = .ok (.invokevirtual 72, 3) := dk_182 0 72 (dk_at dksX5_isAhead_0 20 rfl rfl)
theorem dX5_isAhead_23 : decode cX5_isAhead 23 = .ok (.if_icmp .ge 7, 3) := dk_162 0 7 (dk_at dksX5_isAhead_1 0 rfl rfl)
theorem dX5_isAhead_26 : decode cX5_isAhead 26 = .ok (.iconst 1, 1) := dk_4 (dk_at dksX5_isAhead_1 3 rfl rfl)
theorem dX5_isAhead_27 : decode cX5_isAhead 27 = .ok (.goto 63, 3) := dk_167 0 63 (dk_at dksX5_isAhead_1 4 rfl rfl)
theorem dX5_isAhead_30 : decode cX5_isAhead 30 = .ok (.iconst 0, 1) := dk_3 (dk_at dksX5_isAhead_1 7 rfl rfl)
theorem dX5_isAhead_31 : decode cX5_isAhead 31 = .ok (.goto 59, 3) := dk_167 0 59 (dk_at dksX5_isAhead_1 8 rfl rfl)
theorem dX5_isAhead_34 : decode cX5_isAhead 34 = .ok (.aload_n 0, 1) := dk_42 (dk_at dksX5_isAhead_1 11 rfl rfl)
theorem dX5_isAhead_35 : decode cX5_isAhead 35 = .ok (.iload_n 1, 1) := dk_27 (dk_at dksX5_isAhead_1 12 rfl rfl)
theorem dX5_isAhead_36 : decode cX5_isAhead 36 = .ok (.invokevirtual 72, 3) := dk_182 0 72 (dk_at dksX5_isAhead_1 13 rfl rfl)
theorem dX5_isAhead_39 : decode cX5_isAhead 39 = .ok (.ifCond .ne 41, 3) := dk_154 0 41 (dk_at dksX5_isAhead_1 16 rfl rfl)
theorem dX5_isAhead_42 : decode cX5_isAhead 42 = .ok (.aload_n 0, 1) := dk_42 (dk_at dksX5_isAhead_1 19 rfl rfl)
theorem dX5_isAhead_43 : decode cX5_isAhead 43 = .ok (.getfield 15, 3) := dk_180 0 15 (dk_at dksX5_isAhead_1 20 rfl rfl)
theorem dX5_isAhead_46 : decode cX5_isAhead 46 = .ok (.iload_n 1, 1) := dk_27 (dk_at dksX5_isAhead_1 23 rfl rfl)
theorem dX5_isAhead_47 : decode cX5_isAhead 47 = .ok (.saload, 1) := dk_53 (dk_at dksX5_isAhead_2 0 rfl rfl)
theorem dX5_isAhead_48 : decode cX5_isAhead 48 = .ok (.aload_n 0, 1) := dk_42 (dk_at dksX5_isAhead_2 1 rfl rfl)
theorem dX5_isAhead_49 : decode cX5_isAhead 49 = .ok (.getfield 15, 3) := dk_180 0 15 (dk_at dksX5_isAhead_2 2 rfl rfl)
theorem dX5_isAhead_52 : decode cX5_isAhead 52 = .ok (.iload_n 2, 1) := dk_28 (dk_at dksX5_isAhead_2 5 rfl rfl)
theorem dX5_isAhead_53 : decode cX5_isAhead 53 = .ok (.saload, 1) := dk_53 (dk_at dksX5_isAhead_2 6 rfl rfl)
theorem dX5_isAhead_54 : decode cX5_isAhead 54 = .ok (.if_icmp .eq 26, 3) := dk_159 0 26 (dk_at dksX5_isAhead_2 7 rfl rfl)
theorem dX5_isAhead_57 : decode cX5_isAhead 57 = .ok (.aload_n 0, 1) := dk_42 (dk_at dksX5_isAhead_2 10 rfl rfl)
theorem dX5_isAhead_58 : decode cX5_isAhead 58 = .ok (.getfield 15, 3) := dk_180 0 15 (dk_at dksX5_isAhead_2 11 rfl rfl)
theorem dX5_isAhead_61 : decode cX5_isAhead 61 = .ok (.iload_n 1, 1) := dk_27 (dk_at dksX5_isAhead_2 14 rfl rfl)
theorem dX5_isAhead_62 : decode cX5_isAhead 62 = .ok (.saload, 1) := dk_53 (dk_at dksX5_isAhead_2 15 rfl rfl)
theorem dX5_isAhead_63 : decode cX5_isAhead 63 = .ok (.aload_n 0, 1) := dk_42 (dk_at dksX5_isAhead_2 16 rfl rfl)
theorem dX5_isAhead_64 : decode cX5_isAhead 64 = .ok (.getfield 15, 3) := dk_180 0 15 (dk_at dksX5_isAhead_2 17 rfl rfl)
theorem dX5_isAhead_67 : decode cX5_isAhead 67 = .ok (.iload_n 2, 1) := dk_28 (dk_at dksX5_isAhead_2 20 rfl rfl)
theorem dX5_isAhead_68 : decode cX5_isAhead 68 = .ok (.saload, 1) := dk_53 (dk_at dksX5_isAhead_2 21 rfl rfl)
theorem dX5_isAhead_69 : decode cX5_isAhead 69 = .ok (.if_icmp .le 7, 3) := dk_164 0 7 (dk_at dksX5_isAhead_3 0 rfl rfl)
theorem dX5_isAhead_72 : decode cX5_isAhead 72 = .ok (.iconst 1, 1) := dk_4 (dk_at dksX5_isAhead_3 3 rfl rfl)
theorem dX5_isAhead_73 : decode cX5_isAhead 73 = .ok (.goto 17, 3) := dk_167 0 17 (dk_at dksX5_isAhead_3 4 rfl rfl)
theorem dX5_isAhead_76 : decode cX5_isAhead 76 = .ok (.iconst 0, 1) := dk_3 (dk_at dksX5_isAhead_3 7 rfl rfl)
theorem dX5_isAhead_77 : decode cX5_isAhead 77 = .ok (.goto 13, 3) := dk_167 0 13 (dk_at dksX5_isAhead_3 8 rfl rfl)
theorem dX5_isAhead_80 : decode cX5_isAhead 80 = .ok (.iload_n 1, 1) := dk_27 (dk_at dksX5_isAhead_3 11 rfl rfl)
theorem dX5_isAhead_81 : decode cX5_isAhead 81 = .ok (.iload_n 2, 1) := dk_28 (dk_at dksX5_isAhead_3 12 rfl rfl)
theorem dX5_isAhead_82 : decode cX5_isAhead 82 = .ok (.if_icmp .ge 7, 3) := dk_162 0 7 (dk_at dksX5_isAhead_3 13 rfl rfl)
theorem dX5_isAhead_85 : decode cX5_isAhead 85 = .ok (.iconst 1, 1) := dk_4 (dk_at dksX5_isAhead_3 16 rfl rfl)
theorem dX5_isAhead_86 : decode cX5_isAhead 86 = .ok (.goto 4, 3) := dk_167 0 4 (dk_at dksX5_isAhead_3 17 rfl rfl)
theorem dX5_isAhead_89 : decode cX5_isAhead 89 = .ok (.iconst 0, 1) := dk_3 (dk_at dksX5_isAhead_3 20 rfl rfl)
theorem dX5_isAhead_90 : decode cX5_isAhead 90 = .ok (.ireturn, 1) := dk_172 (dk_at dksX5_isAhead_3 21 rfl rfl)
abbrev cX5_part : ByteArray := prog_9_method_12_code
def yX5_part : MethodName := ⟨RX5, "part", "(I)I"⟩
def dkwX5_part_1 : List UInt8 := [180, 0, 15, 27, 53, 16, 252, 160, 0, 7, 4, 167, 0, 4, 3, 172]
abbrev dktX5_part_1 : List UInt8 := dkwX5_part_1 ++ []
def dkwX5_part_0 : List UInt8 := [42, 27, 3, 182, 0, 44, 5, 160, 0, 16, 42, 27, 4, 182, 0, 44, 154, 0, 7, 5, 167, 0, 19, 42]
abbrev dktX5_part_0 : List UInt8 := dkwX5_part_0 ++ dktX5_part_1
theorem dksX5_part_0 : cX5_part.data.toList.drop 0 = dktX5_part_0 := by decide +kernel
theorem dksX5_part_1 : cX5_part.data.toList.drop 24 = dktX5_part_1 := dk_seg dksX5_part_0 24 rfl rfl
theorem dX5_part_0 : decode cX5_part 0 = .ok (.aload_n 0, 1) := dk_42 (dk_at dksX5_part_0 0 rfl rfl)
theorem dX5_part_1 : decode cX5_part 1 = .ok (.iload_n 1, 1) := dk_27 (dk_at dksX5_part_0 1 rfl rfl)
theorem dX5_part_2 : decode cX5_part 2 = .ok (.iconst 0, 1) := dk_3 (dk_at dksX5_part_0 2 rfl rfl)
theorem dX5_part_3 : decode cX5_part 3 = .ok (.invokevirtual 44, 3) := dk_182 0 44 (dk_at dksX5_part_0 3 rfl rfl)
theorem dX5_part_6 : decode cX5_part 6 = .ok (.iconst 2, 1) := dk_5 (dk_at dksX5_part_0 6 rfl rfl)
theorem dX5_part_7 : decode cX5_part 7 = .ok (.if_icmp .ne 16, 3) := dk_160 0 16 (dk_at dksX5_part_0 7 rfl rfl)
theorem dX5_part_10 : decode cX5_part 10 = .ok (.aload_n 0, 1) := dk_42 (dk_at dksX5_part_0 10 rfl rfl)
theorem dX5_part_11 : decode cX5_part 11 = .ok (.iload_n 1, 1) := dk_27 (dk_at dksX5_part_0 11 rfl rfl)
theorem dX5_part_12 : decode cX5_part 12 = .ok (.iconst 1, 1) := dk_4 (dk_at dksX5_part_0 12 rfl rfl)
theorem dX5_part_13 : decode cX5_part 13 = .ok (.invokevirtual 44, 3) := dk_182 0 44 (dk_at dksX5_part_0 13 rfl rfl)
theorem dX5_part_16 : decode cX5_part 16 = .ok (.ifCond .ne 7, 3) := dk_154 0 7 (dk_at dksX5_part_0 16 rfl rfl)
theorem dX5_part_19 : decode cX5_part 19 = .ok (.iconst 2, 1) := dk_5 (dk_at dksX5_part_0 19 rfl rfl)
theorem dX5_part_20 : decode cX5_part 20 = .ok (.goto 19, 3) := dk_167 0 19 (dk_at dksX5_part_0 20 rfl rfl)
theorem dX5_part_23 : decode cX5_part 23 = .ok (.aload_n 0, 1) := dk_42 (dk_at dksX5_part_0 23 rfl rfl)
theorem dX5_part_24 : decode cX5_part 24 = .ok (.getfield 15, 3) := dk_180 0 15 (dk_at dksX5_part_1 0 rfl rfl)
theorem dX5_part_27 : decode cX5_part 27 = .ok (.iload_n 1, 1) := dk_27 (dk_at dksX5_part_1 3 rfl rfl)
theorem dX5_part_28 : decode cX5_part 28 = .ok (.saload, 1) := dk_53 (dk_at dksX5_part_1 4 rfl rfl)
theorem dX5_part_29 : decode cX5_part 29 = .ok (.bipush (-4), 2) := dk_16 252 (dk_at dksX5_part_1 5 rfl rfl)
theorem dX5_part_31 : decode cX5_part 31 = .ok (.if_icmp .ne 7, 3) := dk_160 0 7 (dk_at dksX5_part_1 7 rfl rfl)
theorem dX5_part_34 : decode cX5_part 34 = .ok (.iconst 1, 1) := dk_4 (dk_at dksX5_part_1 10 rfl rfl)
theorem dX5_part_35 : decode cX5_part 35 = .ok (.goto 4, 3) := dk_167 0 4 (dk_at dksX5_part_1 11 rfl rfl)
theorem dX5_part_38 : decode cX5_part 38 = .ok (.iconst 0, 1) := dk_3 (dk_at dksX5_part_1 14 rfl rfl)
theorem dX5_part_39 : decode cX5_part 39 = .ok (.ireturn, 1) := dk_172 (dk_at dksX5_part_1 15 rfl rfl)
abbrev cX5_saddens : ByteArray := prog_9_method_9_code
def yX5_saddens : MethodName := ⟨RX5, "saddens", "(II)V"⟩
def dkwX5_saddens_0 : List UInt8 := [42, 27, 4, 16, 40, 42, 27, 4, 182, 0, 44, 28, 96, 184, 0, 56, 182, 0, 61, 177]
abbrev dktX5_saddens_0 : List UInt8 := dkwX5_saddens_0 ++ []
theorem dksX5_saddens_0 : cX5_saddens.data.toList.drop 0 = dktX5_saddens_0 := by decide +kernel
theorem dX5_saddens_0 : decode cX5_saddens 0 = .ok (.aload_n 0, 1) := dk_42 (dk_at dksX5_saddens_0 0 rfl rfl)
theorem dX5_saddens_1 : decode cX5_saddens 1 = .ok (.iload_n 1, 1) := dk_27 (dk_at dksX5_saddens_0 1 rfl rfl)
theorem dX5_saddens_2 : decode cX5_saddens 2 = .ok (.iconst 1, 1) := dk_4 (dk_at dksX5_saddens_0 2 rfl rfl)
theorem dX5_saddens_3 : decode cX5_saddens 3 = .ok (.bipush 40, 2) := dk_16 40 (dk_at dksX5_saddens_0 3 rfl rfl)
theorem dX5_saddens_5 : decode cX5_saddens 5 = .ok (.aload_n 0, 1) := dk_42 (dk_at dksX5_saddens_0 5 rfl rfl)
theorem dX5_saddens_6 : decode cX5_saddens 6 = .ok (.iload_n 1, 1) := dk_27 (dk_at dksX5_saddens_0 6 rfl rfl)
theorem dX5_saddens_7 : decode cX5_saddens 7 = .ok (.iconst 1, 1) := dk_4 (dk_at dksX5_saddens_0 7 rfl rfl)
theorem dX5_saddens_8 : decode cX5_saddens 8 = .ok (.invokevirtual 44, 3) := dk_182 0 44 (dk_at dksX5_saddens_0 8 rfl rfl)
theorem dX5_saddens_11 : decode cX5_saddens 11 = .ok (.iload_n 2, 1) := dk_28 (dk_at dksX5_saddens_0 11 rfl rfl)
theorem dX5_saddens_12 : decode cX5_saddens 12 = .ok (.iadd, 1) := dk_96 (dk_at dksX5_saddens_0 12 rfl rfl)
theorem dX5_saddens_13 : decode cX5_saddens 13 = .ok (.invokestatic 56, 3) := dk_184 0 56 (dk_at dksX5_saddens_0 13 rfl rfl)
theorem dX5_saddens_16 : decode cX5_saddens 16 = .ok (.invokevirtual 61, 3) := dk_182 0 61 (dk_at dksX5_saddens_0 16 rfl rfl)
theorem dX5_saddens_19 : decode cX5_saddens 19 = .ok (.return_, 1) := dk_177 (dk_at dksX5_saddens_0 19 rfl rfl)
abbrev cX5_tells : ByteArray := prog_9_method_10_code
def yX5_tells : MethodName := ⟨RX5, "tells", "(II)V"⟩
def dkwX5_tells_2 : List UInt8 := [182, 0, 65, 177]
abbrev dktX5_tells_2 : List UInt8 := dkwX5_tells_2 ++ []
def dkwX5_tells_1 : List UInt8 := [29, 28, 96, 62, 167, 255, 232, 29, 155, 0, 17, 29, 42, 180, 0, 29, 162, 0, 9, 42, 29, 5]
abbrev dktX5_tells_1 : List UInt8 := dkwX5_tells_1 ++ dktX5_tells_2
def dkwX5_tells_0 : List UInt8 := [27, 28, 96, 62, 29, 155, 0, 26, 29, 42, 180, 0, 29, 162, 0, 18, 42, 29, 182, 0, 48, 154, 0, 10]
abbrev dktX5_tells_0 : List UInt8 := dkwX5_tells_0 ++ dktX5_tells_1
theorem dksX5_tells_0 : cX5_tells.data.toList.drop 0 = dktX5_tells_0 := by decide +kernel
theorem dksX5_tells_1 : cX5_tells.data.toList.drop 24 = dktX5_tells_1 := dk_seg dksX5_tells_0 24 rfl rfl
theorem dksX5_tells_2 : cX5_tells.data.toList.drop 46 = dktX5_tells_2 := dk_seg dksX5_tells_1 22 rfl rfl
theorem dX5_tells_0 : decode cX5_tells 0 = .ok (.iload_n 1, 1) := dk_27 (dk_at dksX5_tells_0 0 rfl rfl)
theorem dX5_tells_1 : decode cX5_tells 1 = .ok (.iload_n 2, 1) := dk_28 (dk_at dksX5_tells_0 1 rfl rfl)
theorem dX5_tells_2 : decode cX5_tells 2 = .ok (.iadd, 1) := dk_96 (dk_at dksX5_tells_0 2 rfl rfl)
theorem dX5_tells_3 : decode cX5_tells 3 = .ok (.istore_n 3, 1) := dk_62 (dk_at dksX5_tells_0 3 rfl rfl)
theorem dX5_tells_4 : decode cX5_tells 4 = .ok (.iload_n 3, 1) := dk_29 (dk_at dksX5_tells_0 4 rfl rfl)
theorem dX5_tells_5 : decode cX5_tells 5 = .ok (.ifCond .lt 26, 3) := dk_155 0 26 (dk_at dksX5_tells_0 5 rfl rfl)
theorem dX5_tells_8 : decode cX5_tells 8 = .ok (.iload_n 3, 1) := dk_29 (dk_at dksX5_tells_0 8 rfl rfl)
theorem dX5_tells_9 : decode cX5_tells 9 = .ok (.aload_n 0, 1) := dk_42 (dk_at dksX5_tells_0 9 rfl rfl)
theorem dX5_tells_10 : decode cX5_tells 10 = .ok (.getfield 29, 3) := dk_180 0 29 (dk_at dksX5_tells_0 10 rfl rfl)
theorem dX5_tells_13 : decode cX5_tells 13 = .ok (.if_icmp .ge 18, 3) := dk_162 0 18 (dk_at dksX5_tells_0 13 rfl rfl)
theorem dX5_tells_16 : decode cX5_tells 16 = .ok (.aload_n 0, 1) := dk_42 (dk_at dksX5_tells_0 16 rfl rfl)
theorem dX5_tells_17 : decode cX5_tells 17 = .ok (.iload_n 3, 1) := dk_29 (dk_at dksX5_tells_0 17 rfl rfl)
theorem dX5_tells_18 : decode cX5_tells 18 = .ok (.invokevirtual 48, 3) := dk_182 0 48 (dk_at dksX5_tells_0 18 rfl rfl)
theorem dX5_tells_21 : decode cX5_tells 21 = .ok (.ifCond .ne 10, 3) := dk_154 0 10 (dk_at dksX5_tells_0 21 rfl rfl)
theorem dX5_tells_24 : decode cX5_tells 24 = .ok (.iload_n 3, 1) := dk_29 (dk_at dksX5_tells_1 0 rfl rfl)
theorem dX5_tells_25 : decode cX5_tells 25 = .ok (.iload_n 2, 1) := dk_28 (dk_at dksX5_tells_1 1 rfl rfl)
theorem dX5_tells_26 : decode cX5_tells 26 = .ok (.iadd, 1) := dk_96 (dk_at dksX5_tells_1 2 rfl rfl)
theorem dX5_tells_27 : decode cX5_tells 27 = .ok (.istore_n 3, 1) := dk_62 (dk_at dksX5_tells_1 3 rfl rfl)
theorem dX5_tells_28 : decode cX5_tells 28 = .ok (.goto (-24), 3) := dk_167 255 232 (dk_at dksX5_tells_1 4 rfl rfl)
theorem dX5_tells_31 : decode cX5_tells 31 = .ok (.iload_n 3, 1) := dk_29 (dk_at dksX5_tells_1 7 rfl rfl)
theorem dX5_tells_32 : decode cX5_tells 32 = .ok (.ifCond .lt 17, 3) := dk_155 0 17 (dk_at dksX5_tells_1 8 rfl rfl)
theorem dX5_tells_35 : decode cX5_tells 35 = .ok (.iload_n 3, 1) := dk_29 (dk_at dksX5_tells_1 11 rfl rfl)
theorem dX5_tells_36 : decode cX5_tells 36 = .ok (.aload_n 0, 1) := dk_42 (dk_at dksX5_tells_1 12 rfl rfl)
theorem dX5_tells_37 : decode cX5_tells 37 = .ok (.getfield 29, 3) := dk_180 0 29 (dk_at dksX5_tells_1 13 rfl rfl)
theorem dX5_tells_40 : decode cX5_tells 40 = .ok (.if_icmp .ge 9, 3) := dk_162 0 9 (dk_at dksX5_tells_1 16 rfl rfl)
theorem dX5_tells_43 : decode cX5_tells 43 = .ok (.aload_n 0, 1) := dk_42 (dk_at dksX5_tells_1 19 rfl rfl)
theorem dX5_tells_44 : decode cX5_tells 44 = .ok (.iload_n 3, 1) := dk_29 (dk_at dksX5_tells_1 20 rfl rfl)
theorem dX5_tells_45 : decode cX5_tells 45 = .ok (.iconst 2, 1) := dk_5 (dk_at dksX5_tells_1 21 rfl rfl)
theorem dX5_tells_46 : decode cX5_tells 46 = .ok (.invokevirtual 65, 3) := dk_182 0 65 (dk_at dksX5_tells_2 0 rfl rfl)
theorem dX5_tells_49 : decode cX5_tells 49 = .ok (.return_, 1) := dk_177 (dk_at dksX5_tells_2 3 rfl rfl)
abbrev cX5_minuteGoes : ByteArray := prog_9_method_11_code
def yX5_minuteGoes : MethodName := ⟨RX5, "minuteGoes", "()V"⟩
def dkwX5_minuteGoes_2 : List UInt8 := [167, 255, 210, 42, 17, 3, 231, 42, 180, 0, 38, 4, 96, 184, 0, 56, 181, 0, 38, 177]
abbrev dktX5_minuteGoes_2 : List UInt8 := dkwX5_minuteGoes_2 ++ []
def dkwX5_minuteGoes_1 : List UInt8 := [4, 182, 0, 44, 4, 100, 184, 0, 69, 167, 0, 9, 42, 27, 4, 182, 0, 44, 182, 0, 61, 132, 1, 1]
abbrev dktX5_minuteGoes_1 : List UInt8 := dkwX5_minuteGoes_1 ++ dktX5_minuteGoes_2
def dkwX5_minuteGoes_0 : List UInt8 := [3, 60, 27, 42, 180, 0, 29, 162, 0, 44, 42, 27, 4, 42, 27, 182, 0, 48, 153, 0, 18, 3, 42, 27]
abbrev dktX5_minuteGoes_0 : List UInt8 := dkwX5_minuteGoes_0 ++ dktX5_minuteGoes_1
theorem dksX5_minuteGoes_0 : cX5_minuteGoes.data.toList.drop 0 = dktX5_minuteGoes_0 := by decide +kernel
theorem dksX5_minuteGoes_1 : cX5_minuteGoes.data.toList.drop 24 = dktX5_minuteGoes_1 := dk_seg dksX5_minuteGoes_0 24 rfl rfl
theorem dksX5_minuteGoes_2 : cX5_minuteGoes.data.toList.drop 48 = dktX5_minuteGoes_2 := dk_seg dksX5_minuteGoes_1 24 rfl rfl
theorem dX5_minuteGoes_0 : decode cX5_minuteGoes 0 = .ok (.iconst 0, 1) := dk_3 (dk_at dksX5_minuteGoes_0 0 rfl rfl)
theorem dX5_minuteGoes_1 : decode cX5_minuteGoes 1 = .ok (.istore_n 1, 1) := dk_60 (dk_at dksX5_minuteGoes_0 1 rfl rfl)
theorem dX5_minuteGoes_2 : decode cX5_minuteGoes 2 = .ok (.iload_n 1, 1) := dk_27 (dk_at dksX5_minuteGoes_0 2 rfl rfl)
theorem dX5_minuteGoes_3 : decode cX5_minuteGoes 3 = .ok (.aload_n 0, 1) := dk_42 (dk_at dksX5_minuteGoes_0 3 rfl rfl)
theorem dX5_minuteGoes_4 : decode cX5_minuteGoes 4 = .ok (.getfield 29, 3) := dk_180 0 29 (dk_at dksX5_minuteGoes_0 4 rfl rfl)
theorem dX5_minuteGoes_7 : decode cX5_minuteGoes 7 = .ok (.if_icmp .ge 44, 3) := dk_162 0 44 (dk_at dksX5_minuteGoes_0 7 rfl rfl)
theorem dX5_minuteGoes_10 : decode cX5_minuteGoes 10 = .ok (.aload_n 0, 1) := dk_42 (dk_at dksX5_minuteGoes_0 10 rfl rfl)
theorem dX5_minuteGoes_11 : decode cX5_minuteGoes 11 = .ok (.iload_n 1, 1) := dk_27 (dk_at dksX5_minuteGoes_0 11 rfl rfl)
theorem dX5_minuteGoes_12 : decode cX5_minuteGoes 12 = .ok (.iconst 1, 1) := dk_4 (dk_at dksX5_minuteGoes_0 12 rfl rfl)
theorem dX5_minuteGoes_13 : decode cX5_minuteGoes 13 = .ok (.aload_n 0, 1) := dk_42 (dk_at dksX5_minuteGoes_0 13 rfl rfl)
theorem dX5_minuteGoes_14 : decode cX5_minuteGoes 14 = .ok (.iload_n 1, 1) := dk_27 (dk_at dksX5_minuteGoes_0 14 rfl rfl)
theorem dX5_minuteGoes_15 : decode cX5_minuteGoes 15 = .ok (.invokevirtual 48, 3) := dk_182 0 48 (dk_at dksX5_minuteGoes_0 15 rfl rfl)
theorem dX5_minuteGoes_18 : decode cX5_minuteGoes 18 = .ok (.ifCond .eq 18, 3) := dk_153 0 18 (dk_at dksX5_minuteGoes_0 18 rfl rfl)
theorem dX5_minuteGoes_21 : decode cX5_minuteGoes 21 = .ok (.iconst 0, 1) := dk_3 (dk_at dksX5_minuteGoes_0 21 rfl rfl)
theorem dX5_minuteGoes_22 : decode cX5_minuteGoes 22 = .ok (.aload_n 0, 1) := dk_42 (dk_at dksX5_minuteGoes_0 22 rfl rfl)
theorem dX5_minuteGoes_23 : decode cX5_minuteGoes 23 = .ok (.iload_n 1, 1) := dk_27 (dk_at dksX5_minuteGoes_0 23 rfl rfl)
theorem dX5_minuteGoes_24 : decode cX5_minuteGoes 24 = .ok (.iconst 1, 1) := dk_4 (dk_at dksX5_minuteGoes_1 0 rfl rfl)
theorem dX5_minuteGoes_25 : decode cX5_minuteGoes 25 = .ok (.invokevirtual 44, 3) := dk_182 0 44 (dk_at dksX5_minuteGoes_1 1 rfl rfl)
theorem dX5_minuteGoes_28 : decode cX5_minuteGoes 28 = .ok (.iconst 1, 1) := dk_4 (dk_at dksX5_minuteGoes_1 4 rfl rfl)
theorem dX5_minuteGoes_29 : decode cX5_minuteGoes 29 = .ok (.isub, 1) := dk_100 (dk_at dksX5_minuteGoes_1 5 rfl rfl)
theorem dX5_minuteGoes_30 : decode cX5_minuteGoes 30 = .ok (.invokestatic 69, 3) := dk_184 0 69 (dk_at dksX5_minuteGoes_1 6 rfl rfl)
theorem dX5_minuteGoes_33 : decode cX5_minuteGoes 33 = .ok (.goto 9, 3) := dk_167 0 9 (dk_at dksX5_minuteGoes_1 9 rfl rfl)
theorem dX5_minuteGoes_36 : decode cX5_minuteGoes 36 = .ok (.aload_n 0, 1) := dk_42 (dk_at dksX5_minuteGoes_1 12 rfl rfl)
theorem dX5_minuteGoes_37 : decode cX5_minuteGoes 37 = .ok (.iload_n 1, 1) := dk_27 (dk_at dksX5_minuteGoes_1 13 rfl rfl)
theorem dX5_minuteGoes_38 : decode cX5_minuteGoes 38 = .ok (.iconst 1, 1) := dk_4 (dk_at dksX5_minuteGoes_1 14 rfl rfl)
theorem dX5_minuteGoes_39 : decode cX5_minuteGoes 39 = .ok (.invokevirtual 44, 3) := dk_182 0 44 (dk_at dksX5_minuteGoes_1 15 rfl rfl)
theorem dX5_minuteGoes_42 : decode cX5_minuteGoes 42 = .ok (.invokevirtual 61, 3) := dk_182 0 61 (dk_at dksX5_minuteGoes_1 18 rfl rfl)
theorem dX5_minuteGoes_45 : decode cX5_minuteGoes 45 = .ok (.iinc 1 1, 3) := dk_132 1 1 (dk_at dksX5_minuteGoes_1 21 rfl rfl)
theorem dX5_minuteGoes_48 : decode cX5_minuteGoes 48 = .ok (.goto (-46), 3) := dk_167 255 210 (dk_at dksX5_minuteGoes_2 0 rfl rfl)
theorem dX5_minuteGoes_51 : decode cX5_minuteGoes 51 = .ok (.aload_n 0, 1) := dk_42 (dk_at dksX5_minuteGoes_2 3 rfl rfl)
theorem dX5_minuteGoes_52 : decode cX5_minuteGoes 52 = .ok (.sipush 999, 3) := dk_17 3 231 (dk_at dksX5_minuteGoes_2 4 rfl rfl)
theorem dX5_minuteGoes_55 : decode cX5_minuteGoes 55 = .ok (.aload_n 0, 1) := dk_42 (dk_at dksX5_minuteGoes_2 7 rfl rfl)
theorem dX5_minuteGoes_56 : decode cX5_minuteGoes 56 = .ok (.getfield 38, 3) := dk_180 0 38 (dk_at dksX5_minuteGoes_2 8 rfl rfl)
theorem dX5_minuteGoes_59 : decode cX5_minuteGoes 59 = .ok (.iconst 1, 1) := dk_4 (dk_at dksX5_minuteGoes_2 11 rfl rfl)
theorem dX5_minuteGoes_60 : decode cX5_minuteGoes 60 = .ok (.iadd, 1) := dk_96 (dk_at dksX5_minuteGoes_2 12 rfl rfl)
theorem dX5_minuteGoes_61 : decode cX5_minuteGoes 61 = .ok (.invokestatic 56, 3) := dk_184 0 56 (dk_at dksX5_minuteGoes_2 13 rfl rfl)
theorem dX5_minuteGoes_64 : decode cX5_minuteGoes 64 = .ok (.putfield 38, 3) := dk_181 0 38 (dk_at dksX5_minuteGoes_2 16 rfl rfl)
theorem dX5_minuteGoes_67 : decode cX5_minuteGoes 67 = .ok (.return_, 1) := dk_177 (dk_at dksX5_minuteGoes_2 19 rfl rfl)
abbrev cX5_tramComes : ByteArray := prog_9_method_16_code
def yX5_tramComes : MethodName := ⟨RX5, "tramComes", "()I"⟩
def dkwX5_tramComes_2 : List UInt8 := [167, 255, 221, 27, 172]
abbrev dktX5_tramComes_2 : List UInt8 := dkwX5_tramComes_2 ++ []
def dkwX5_tramComes_1 : List UInt8 := [184, 0, 76, 153, 0, 7, 4, 167, 0, 9, 42, 28, 5, 182, 0, 44, 182, 0, 61, 132, 2, 1]
abbrev dktX5_tramComes_1 : List UInt8 := dkwX5_tramComes_1 ++ dktX5_tramComes_2
def dkwX5_tramComes_0 : List UInt8 := [42, 42, 180, 0, 19, 182, 0, 86, 60, 3, 61, 28, 42, 180, 0, 29, 162, 0, 33, 42, 28, 5, 27, 28]
abbrev dktX5_tramComes_0 : List UInt8 := dkwX5_tramComes_0 ++ dktX5_tramComes_1
theorem dksX5_tramComes_0 : cX5_tramComes.data.toList.drop 0 = dktX5_tramComes_0 := by decide +kernel
theorem dksX5_tramComes_1 : cX5_tramComes.data.toList.drop 24 = dktX5_tramComes_1 := dk_seg dksX5_tramComes_0 24 rfl rfl
theorem dksX5_tramComes_2 : cX5_tramComes.data.toList.drop 46 = dktX5_tramComes_2 := dk_seg dksX5_tramComes_1 22 rfl rfl
theorem dX5_tramComes_0 : decode cX5_tramComes 0 = .ok (.aload_n 0, 1) := dk_42 (dk_at dksX5_tramComes_0 0 rfl rfl)
theorem dX5_tramComes_1 : decode cX5_tramComes 1 = .ok (.aload_n 0, 1) := dk_42 (dk_at dksX5_tramComes_0 1 rfl rfl)
theorem dX5_tramComes_2 : decode cX5_tramComes 2 = .ok (.getfield 19, 3) := dk_180 0 19 (dk_at dksX5_tramComes_0 2 rfl rfl)
theorem dX5_tramComes_5 : decode cX5_tramComes 5 = .ok (.invokevirtual 86, 3) := dk_182 0 86 (dk_at dksX5_tramComes_0 5 rfl rfl)
theorem dX5_tramComes_8 : decode cX5_tramComes 8 = .ok (.istore_n 1, 1) := dk_60 (dk_at dksX5_tramComes_0 8 rfl rfl)
theorem dX5_tramComes_9 : decode cX5_tramComes 9 = .ok (.iconst 0, 1) := dk_3 (dk_at dksX5_tramComes_0 9 rfl rfl)
theorem dX5_tramComes_10 : decode cX5_tramComes 10 = .ok (.istore_n 2, 1) := dk_61 (dk_at dksX5_tramComes_0 10 rfl rfl)
theorem dX5_tramComes_11 : decode cX5_tramComes 11 = .ok (.iload_n 2, 1) := dk_28 (dk_at dksX5_tramComes_0 11 rfl rfl)
theorem dX5_tramComes_12 : decode cX5_tramComes 12 = .ok (.aload_n 0, 1) := dk_42 (dk_at dksX5_tramComes_0 12 rfl rfl)
theorem dX5_tramComes_13 : decode cX5_tramComes 13 = .ok (.getfield 29, 3) := dk_180 0 29 (dk_at dksX5_tramComes_0 13 rfl rfl)
theorem dX5_tramComes_16 : decode cX5_tramComes 16 = .ok (.if_icmp .ge 33, 3) := dk_162 0 33 (dk_at dksX5_tramComes_0 16 rfl rfl)
theorem dX5_tramComes_19 : decode cX5_tramComes 19 = .ok (.aload_n 0, 1) := dk_42 (dk_at dksX5_tramComes_0 19 rfl rfl)
theorem dX5_tramComes_20 : decode cX5_tramComes 20 = .ok (.iload_n 2, 1) := dk_28 (dk_at dksX5_tramComes_0 20 rfl rfl)
theorem dX5_tramComes_21 : decode cX5_tramComes 21 = .ok (.iconst 2, 1) := dk_5 (dk_at dksX5_tramComes_0 21 rfl rfl)
theorem dX5_tramComes_22 : decode cX5_tramComes 22 = .ok (.iload_n 1, 1) := dk_27 (dk_at dksX5_tramComes_0 22 rfl rfl)
theorem dX5_tramComes_23 : decode cX5_tramComes 23 = .ok (.iload_n 2, 1) := dk_28 (dk_at dksX5_tramComes_0 23 rfl rfl)
theorem dX5_tramComes_24 : decode cX5_tramComes 24 = .ok (.invokestatic 76, 3) := dk_184 0 76 (dk_at dksX5_tramComes_1 0 rfl rfl)
theorem dX5_tramComes_27 : decode cX5_tramComes 27 = .ok (.ifCond .eq 7, 3) := dk_153 0 7 (dk_at dksX5_tramComes_1 3 rfl rfl)
theorem dX5_tramComes_30 : decode cX5_tramComes 30 = .ok (.iconst 1, 1) := dk_4 (dk_at dksX5_tramComes_1 6 rfl rfl)
theorem dX5_tramComes_31 : decode cX5_tramComes 31 = .ok (.goto 9, 3) := dk_167 0 9 (dk_at dksX5_tramComes_1 7 rfl rfl)
theorem dX5_tramComes_34 : decode cX5_tramComes 34 = .ok (.aload_n 0, 1) := dk_42 (dk_at dksX5_tramComes_1 10 rfl rfl)
theorem dX5_tramComes_35 : decode cX5_tramComes 35 = .ok (.iload_n 2, 1) := dk_28 (dk_at dksX5_tramComes_1 11 rfl rfl)
theorem dX5_tramComes_36 : decode cX5_tramComes 36 = .ok (.iconst 2, 1) := dk_5 (dk_at dksX5_tramComes_1 12 rfl rfl)
theorem dX5_tramComes_37 : decode cX5_tramComes 37 = .ok (.invokevirtual 44, 3) := dk_182 0 44 (dk_at dksX5_tramComes_1 13 rfl rfl)
theorem dX5_tramComes_40 : decode cX5_tramComes 40 = .ok (.invokevirtual 61, 3) := dk_182 0 61 (dk_at dksX5_tramComes_1 16 rfl rfl)
theorem dX5_tramComes_43 : decode cX5_tramComes 43 = .ok (.iinc 2 1, 3) := dk_132 2 1 (dk_at dksX5_tramComes_1 19 rfl rfl)
theorem dX5_tramComes_46 : decode cX5_tramComes 46 = .ok (.goto (-35), 3) := dk_167 255 221 (dk_at dksX5_tramComes_2 0 rfl rfl)
theorem dX5_tramComes_49 : decode cX5_tramComes 49 = .ok (.iload_n 1, 1) := dk_27 (dk_at dksX5_tramComes_2 3 rfl rfl)
theorem dX5_tramComes_50 : decode cX5_tramComes 50 = .ok (.ireturn, 1) := dk_172 (dk_at dksX5_tramComes_2 4 rfl rfl)
abbrev cX5_gone : ByteArray := prog_9_method_7_code
def yX5_gone : MethodName := ⟨RX5, "gone", "()I"⟩
def dkwX5_gone_0 : List UInt8 := [4, 42, 180, 0, 29, 120, 4, 100, 42, 182, 0, 52, 2, 130, 126, 172]
abbrev dktX5_gone_0 : List UInt8 := dkwX5_gone_0 ++ []
theorem dksX5_gone_0 : cX5_gone.data.toList.drop 0 = dktX5_gone_0 := by decide +kernel
theorem dX5_gone_0 : decode cX5_gone 0 = .ok (.iconst 1, 1) := dk_4 (dk_at dksX5_gone_0 0 rfl rfl)
theorem dX5_gone_1 : decode cX5_gone 1 = .ok (.aload_n 0, 1) := dk_42 (dk_at dksX5_gone_0 1 rfl rfl)
theorem dX5_gone_2 : decode cX5_gone 2 = .ok (.getfield 29, 3) := dk_180 0 29 (dk_at dksX5_gone_0 2 rfl rfl)
theorem dX5_gone_5 : decode cX5_gone 5 = .ok (.ishl, 1) := dk_120 (dk_at dksX5_gone_0 5 rfl rfl)
theorem dX5_gone_6 : decode cX5_gone 6 = .ok (.iconst 1, 1) := dk_4 (dk_at dksX5_gone_0 6 rfl rfl)
theorem dX5_gone_7 : decode cX5_gone 7 = .ok (.isub, 1) := dk_100 (dk_at dksX5_gone_0 7 rfl rfl)
theorem dX5_gone_8 : decode cX5_gone 8 = .ok (.aload_n 0, 1) := dk_42 (dk_at dksX5_gone_0 8 rfl rfl)
theorem dX5_gone_9 : decode cX5_gone 9 = .ok (.invokevirtual 52, 3) := dk_182 0 52 (dk_at dksX5_gone_0 9 rfl rfl)
theorem dX5_gone_12 : decode cX5_gone 12 = .ok (.iconst (-1), 1) := dk_2 (dk_at dksX5_gone_0 12 rfl rfl)
theorem dX5_gone_13 : decode cX5_gone 13 = .ok (.ixor, 1) := dk_130 (dk_at dksX5_gone_0 13 rfl rfl)
theorem dX5_gone_14 : decode cX5_gone 14 = .ok (.iand, 1) := dk_126 (dk_at dksX5_gone_0 14 rfl rfl)
theorem dX5_gone_15 : decode cX5_gone 15 = .ok (.ireturn, 1) := dk_172 (dk_at dksX5_gone_0 15 rfl rfl)
theorem q65 : (Jvm.Cond.initialized "TearsQueue$Stop") ∈ lw_all := lw_g (lw_at lw_m1 6 rfl) rfl
theorem q123 : (Jvm.Cond.instantiable "TearsQueue$Stop" (8 : Nat)) ∈ lw_all := lw_g (lw_at lw_m1 64 rfl) rfl
theorem q125 : (Jvm.Cond.instanceMethod ({ cls := "TearsQueue$Stop", name := "<init>", desc := "()V" } : Jvm.MethodName)) ∈ lw_all := lw_g (lw_at lw_m1 66 rfl) rfl
theorem q126 : (Jvm.Cond.code ({ cls := "TearsQueue$Stop", name := "<init>", desc := "()V" } : Jvm.MethodName) prog_9_method_1_code (2 : Nat) (Option.none : Option Jvm.ClassFile.FieldType)) ∈ lw_all := lw_g (lw_at lw_m1 67 rfl) rfl
theorem q127 : (Jvm.Cond.methodLink "TearsQueue$Stop" (3 : Nat) ({ cls := "java/lang/Object", name := "<init>", desc := "()V" } : Jvm.MethodName)) ∈ lw_all := lw_g (lw_at lw_m1 68 rfl) rfl
theorem q128 : (Jvm.Cond.fieldLink "TearsQueue$Stop" (29 : Nat) "TearsQueue$Stop" "people" "I") ∈ lw_all := lw_g (lw_at lw_m1 69 rfl) rfl
theorem q131 : (Jvm.Cond.fieldLink "TearsQueue$Stop" (9 : Nat) "TearsQueue$Stop" "one" "[B") ∈ lw_all := lw_g (lw_at lw_m1 72 rfl) rfl
theorem q132 : (Jvm.Cond.fieldLink "TearsQueue$Stop" (15 : Nat) "TearsQueue$Stop" "wept" "[S") ∈ lw_all := lw_g (lw_at lw_m1 73 rfl) rfl
theorem q134 : (Jvm.Cond.fieldLink "TearsQueue$Stop" (38 : Nat) "TearsQueue$Stop" "minute" "I") ∈ lw_all := lw_g (lw_at lw_m1 75 rfl) rfl
theorem q136 : (Jvm.Cond.fieldLink "TearsQueue$Stop" (19 : Nat) "TearsQueue$Stop" "room" "I") ∈ lw_all := lw_g (lw_at lw_m1 77 rfl) rfl
theorem q139 : (Jvm.Cond.fieldLink "TearsQueue$Stop" (23 : Nat) "TearsQueue$Stop" "think" "I") ∈ lw_all := lw_g (lw_at lw_m1 80 rfl) rfl
theorem q142 : (Jvm.Cond.fieldLink "TearsQueue$Stop" (41 : Nat) "TearsQueue$Stop" "planned" "I") ∈ lw_all := lw_g (lw_at lw_m1 83 rfl) rfl
theorem q145 : (Jvm.Cond.fieldLink "TearsQueue$Stop" (26 : Nat) "TearsQueue$Stop" "plan" "[B") ∈ lw_all := lw_g (lw_at lw_m1 86 rfl) rfl
theorem q148 : (Jvm.Cond.lays "TearsQueue$Stop" "TearsQueue$Stop" "people" "I") ∈ lw_all := lw_g (lw_at lw_m1 89 rfl) rfl
theorem q149 : (Jvm.Cond.soleField "TearsQueue$Stop" "people") ∈ lw_all := lw_g (lw_at lw_m1 90 rfl) rfl
theorem q150 : (Jvm.Cond.laysFinal "TearsQueue$Stop" "TearsQueue$Stop" "one" "[B") ∈ lw_all := lw_g (lw_at lw_m1 91 rfl) rfl
theorem q151 : (Jvm.Cond.soleField "TearsQueue$Stop" "one") ∈ lw_all := lw_g (lw_at lw_m1 92 rfl) rfl
theorem q152 : (Jvm.Cond.laysFinal "TearsQueue$Stop" "TearsQueue$Stop" "wept" "[S") ∈ lw_all := lw_g (lw_at lw_m1 93 rfl) rfl
theorem q153 : (Jvm.Cond.soleField "TearsQueue$Stop" "wept") ∈ lw_all := lw_g (lw_at lw_m1 94 rfl) rfl
theorem q154 : (Jvm.Cond.lays "TearsQueue$Stop" "TearsQueue$Stop" "minute" "I") ∈ lw_all := lw_g (lw_at lw_m1 95 rfl) rfl
theorem q155 : (Jvm.Cond.soleField "TearsQueue$Stop" "minute") ∈ lw_all := lw_g (lw_at lw_m1 96 rfl) rfl
theorem q156 : (Jvm.Cond.lays "TearsQueue$Stop" "TearsQueue$Stop" "room" "I") ∈ lw_all := lw_g (lw_at lw_m1 97 rfl) rfl
theorem q157 : (Jvm.Cond.soleField "TearsQueue$Stop" "room") ∈ lw_all := lw_g (lw_at lw_m1 98 rfl) rfl
theorem q158 : (Jvm.Cond.lays "TearsQueue$Stop" "TearsQueue$Stop" "think" "I") ∈ lw_all := lw_g (lw_at lw_m1 99 rfl) rfl
theorem q159 : (Jvm.Cond.soleField "TearsQueue$Stop" "think") ∈ lw_all := lw_g (lw_at lw_m1 100 rfl) rfl
theorem q160 : (Jvm.Cond.lays "TearsQueue$Stop" "TearsQueue$Stop" "planned" "I") ∈ lw_all := lw_g (lw_at lw_m1 101 rfl) rfl
theorem q161 : (Jvm.Cond.soleField "TearsQueue$Stop" "planned") ∈ lw_all := lw_g (lw_at lw_m1 102 rfl) rfl
theorem q162 : (Jvm.Cond.laysFinal "TearsQueue$Stop" "TearsQueue$Stop" "plan" "[B") ∈ lw_all := lw_g (lw_at lw_m1 103 rfl) rfl
theorem q163 : (Jvm.Cond.soleField "TearsQueue$Stop" "plan") ∈ lw_all := lw_g (lw_at lw_m1 104 rfl) rfl
theorem q164 : (Jvm.Cond.superclass "TearsQueue$Stop" "java/lang/Object") ∈ lw_all := lw_g (lw_at lw_m1 105 rfl) rfl
theorem q483 : (Jvm.Cond.instanceMethod ({ cls := "TearsQueue$Stop", name := "becomes", desc := "(III)V" } : Jvm.MethodName)) ∈ lw_all := lw_g (lw_at lw_m2 184 rfl) rfl
theorem q484 : (Jvm.Cond.selects "TearsQueue$Stop" ({ cls := "TearsQueue$Stop", name := "becomes", desc := "(III)V" } : Jvm.MethodName) ({ cls := "TearsQueue$Stop", name := "becomes", desc := "(III)V" } : Jvm.MethodName)) ∈ lw_all := lw_g (lw_at lw_m2 185 rfl) rfl
theorem q485 : (Jvm.Cond.code ({ cls := "TearsQueue$Stop", name := "becomes", desc := "(III)V" } : Jvm.MethodName) prog_9_method_4_code (4 : Nat) (Option.none : Option Jvm.ClassFile.FieldType)) ∈ lw_all := lw_g (lw_at lw_m2 186 rfl) rfl
theorem q487 : (Jvm.Cond.instanceMethod ({ cls := "TearsQueue$Stop", name := "as", desc := "(LTearsQueue$Stop;)V" } : Jvm.MethodName)) ∈ lw_all := lw_g (lw_at lw_m2 188 rfl) rfl
theorem q488 : (Jvm.Cond.selects "TearsQueue$Stop" ({ cls := "TearsQueue$Stop", name := "as", desc := "(LTearsQueue$Stop;)V" } : Jvm.MethodName) ({ cls := "TearsQueue$Stop", name := "as", desc := "(LTearsQueue$Stop;)V" } : Jvm.MethodName)) ∈ lw_all := lw_g (lw_at lw_m2 189 rfl) rfl
theorem q489 : (Jvm.Cond.code ({ cls := "TearsQueue$Stop", name := "as", desc := "(LTearsQueue$Stop;)V" } : Jvm.MethodName) prog_9_method_2_code (2 : Nat) (Option.none : Option Jvm.ClassFile.FieldType)) ∈ lw_all := lw_g (lw_at lw_m2 190 rfl) rfl
theorem q490 : (Jvm.Cond.methodLink "TearsQueue$Stop" (32 : Nat) ({ cls := "java/lang/System", name := "arraycopy", desc := "(Ljava/lang/Object;ILjava/lang/Object;II)V" } : Jvm.MethodName)) ∈ lw_all := lw_g (lw_at lw_m2 191 rfl) rfl
theorem q502 : (Jvm.Cond.instanceMethod ({ cls := "TearsQueue$Stop", name := "waiting", desc := "()I" } : Jvm.MethodName)) ∈ lw_all := lw_g (lw_at lw_m2 203 rfl) rfl
theorem q503 : (Jvm.Cond.selects "TearsQueue$Stop" ({ cls := "TearsQueue$Stop", name := "waiting", desc := "()I" } : Jvm.MethodName) ({ cls := "TearsQueue$Stop", name := "waiting", desc := "()I" } : Jvm.MethodName)) ∈ lw_all := lw_g (lw_at lw_m2 204 rfl) rfl
theorem q504 : (Jvm.Cond.code ({ cls := "TearsQueue$Stop", name := "waiting", desc := "()I" } : Jvm.MethodName) prog_9_method_6_code (3 : Nat) (Option.some Jvm.ClassFile.FieldType.int)) ∈ lw_all := lw_g (lw_at lw_m2 205 rfl) rfl
theorem q505 : (Jvm.Cond.methodLink "TearsQueue$Stop" (48 : Nat) ({ cls := "TearsQueue$Stop", name := "waits", desc := "(I)Z" } : Jvm.MethodName)) ∈ lw_all := lw_g (lw_at lw_m2 206 rfl) rfl
theorem q506 : (Jvm.Cond.instanceMethod ({ cls := "TearsQueue$Stop", name := "waits", desc := "(I)Z" } : Jvm.MethodName)) ∈ lw_all := lw_g (lw_at lw_m2 207 rfl) rfl
theorem q507 : (Jvm.Cond.selects "TearsQueue$Stop" ({ cls := "TearsQueue$Stop", name := "waits", desc := "(I)Z" } : Jvm.MethodName) ({ cls := "TearsQueue$Stop", name := "waits", desc := "(I)Z" } : Jvm.MethodName)) ∈ lw_all := lw_g (lw_at lw_m2 208 rfl) rfl
theorem q508 : (Jvm.Cond.code ({ cls := "TearsQueue$Stop", name := "waits", desc := "(I)Z" } : Jvm.MethodName) prog_9_method_5_code (2 : Nat) (Option.some Jvm.ClassFile.FieldType.boolean)) ∈ lw_all := lw_g (lw_at lw_m2 209 rfl) rfl
theorem q509 : (Jvm.Cond.methodLink "TearsQueue$Stop" (44 : Nat) ({ cls := "TearsQueue$Stop", name := "of", desc := "(II)I" } : Jvm.MethodName)) ∈ lw_all := lw_g (lw_at lw_m2 210 rfl) rfl
theorem q510 : (Jvm.Cond.instanceMethod ({ cls := "TearsQueue$Stop", name := "of", desc := "(II)I" } : Jvm.MethodName)) ∈ lw_all := lw_g (lw_at lw_m2 211 rfl) rfl
theorem q511 : (Jvm.Cond.selects "TearsQueue$Stop" ({ cls := "TearsQueue$Stop", name := "of", desc := "(II)I" } : Jvm.MethodName) ({ cls := "TearsQueue$Stop", name := "of", desc := "(II)I" } : Jvm.MethodName)) ∈ lw_all := lw_g (lw_at lw_m2 212 rfl) rfl
theorem q512 : (Jvm.Cond.code ({ cls := "TearsQueue$Stop", name := "of", desc := "(II)I" } : Jvm.MethodName) prog_9_method_3_code (3 : Nat) (Option.some Jvm.ClassFile.FieldType.int)) ∈ lw_all := lw_g (lw_at lw_m2 213 rfl) rfl
theorem q514 : (Jvm.Cond.instanceMethod ({ cls := "TearsQueue$Stop", name := "sorrow", desc := "()I" } : Jvm.MethodName)) ∈ lw_all := lw_g (lw_at lw_m2 215 rfl) rfl
theorem q515 : (Jvm.Cond.selects "TearsQueue$Stop" ({ cls := "TearsQueue$Stop", name := "sorrow", desc := "()I" } : Jvm.MethodName) ({ cls := "TearsQueue$Stop", name := "sorrow", desc := "()I" } : Jvm.MethodName)) ∈ lw_all := lw_g (lw_at lw_m2 216 rfl) rfl
theorem q516 : (Jvm.Cond.code ({ cls := "TearsQueue$Stop", name := "sorrow", desc := "()I" } : Jvm.MethodName) prog_9_method_8_code (3 : Nat) (Option.some Jvm.ClassFile.FieldType.int)) ∈ lw_all := lw_g (lw_at lw_m2 217 rfl) rfl
theorem q557 : (Jvm.Cond.instanceMethod ({ cls := "TearsQueue$Stop", name := "firstOnes", desc := "(I)I" } : Jvm.MethodName)) ∈ lw_all := lw_g (lw_at lw_m3 18 rfl) rfl
theorem q558 : (Jvm.Cond.selects "TearsQueue$Stop" ({ cls := "TearsQueue$Stop", name := "firstOnes", desc := "(I)I" } : Jvm.MethodName) ({ cls := "TearsQueue$Stop", name := "firstOnes", desc := "(I)I" } : Jvm.MethodName)) ∈ lw_all := lw_g (lw_at lw_m3 19 rfl) rfl
theorem q559 : (Jvm.Cond.code ({ cls := "TearsQueue$Stop", name := "firstOnes", desc := "(I)I" } : Jvm.MethodName) prog_9_method_15_code (4 : Nat) (Option.some Jvm.ClassFile.FieldType.int)) ∈ lw_all := lw_g (lw_at lw_m3 20 rfl) rfl
theorem q560 : (Jvm.Cond.methodLink "TearsQueue$Stop" (52 : Nat) ({ cls := "TearsQueue$Stop", name := "waiting", desc := "()I" } : Jvm.MethodName)) ∈ lw_all := lw_g (lw_at lw_m3 21 rfl) rfl
theorem q561 : (Jvm.Cond.methodLink "TearsQueue$Stop" (83 : Nat) ({ cls := "TearsQueue$Stop", name := "firstOf", desc := "(I)I" } : Jvm.MethodName)) ∈ lw_all := lw_g (lw_at lw_m3 22 rfl) rfl
theorem q562 : (Jvm.Cond.instanceMethod ({ cls := "TearsQueue$Stop", name := "firstOf", desc := "(I)I" } : Jvm.MethodName)) ∈ lw_all := lw_g (lw_at lw_m3 23 rfl) rfl
theorem q563 : (Jvm.Cond.selects "TearsQueue$Stop" ({ cls := "TearsQueue$Stop", name := "firstOf", desc := "(I)I" } : Jvm.MethodName) ({ cls := "TearsQueue$Stop", name := "firstOf", desc := "(I)I" } : Jvm.MethodName)) ∈ lw_all := lw_g (lw_at lw_m3 24 rfl) rfl
theorem q564 : (Jvm.Cond.code ({ cls := "TearsQueue$Stop", name := "firstOf", desc := "(I)I" } : Jvm.MethodName) prog_9_method_14_code (4 : Nat) (Option.some Jvm.ClassFile.FieldType.int)) ∈ lw_all := lw_g (lw_at lw_m3 25 rfl) rfl
theorem q565 : (Jvm.Cond.methodLinkNest "TearsQueue$Stop" (76 : Nat) ({ cls := "TearsQueue", name := "has", desc := "(II)Z" } : Jvm.MethodName) "TearsQueue") ∈ lw_tbl := lw_at lw_m3 26 rfl
theorem q566 : (Jvm.Cond.methodLink "TearsQueue$Stop" (80 : Nat) ({ cls := "TearsQueue$Stop", name := "isAhead", desc := "(II)Z" } : Jvm.MethodName)) ∈ lw_all := lw_g (lw_at lw_m3 27 rfl) rfl
theorem q567 : (Jvm.Cond.instanceMethod ({ cls := "TearsQueue$Stop", name := "isAhead", desc := "(II)Z" } : Jvm.MethodName)) ∈ lw_all := lw_g (lw_at lw_m3 28 rfl) rfl
theorem q568 : (Jvm.Cond.selects "TearsQueue$Stop" ({ cls := "TearsQueue$Stop", name := "isAhead", desc := "(II)Z" } : Jvm.MethodName) ({ cls := "TearsQueue$Stop", name := "isAhead", desc := "(II)Z" } : Jvm.MethodName)) ∈ lw_all := lw_g (lw_at lw_m3 29 rfl) rfl
theorem q569 : (Jvm.Cond.code ({ cls := "TearsQueue$Stop", name := "isAhead", desc := "(II)Z" } : Jvm.MethodName) prog_9_method_13_code (3 : Nat) (Option.some Jvm.ClassFile.FieldType.boolean)) ∈ lw_all := lw_g (lw_at lw_m3 30 rfl) rfl
theorem q570 : (Jvm.Cond.methodLink "TearsQueue$Stop" (72 : Nat) ({ cls := "TearsQueue$Stop", name := "part", desc := "(I)I" } : Jvm.MethodName)) ∈ lw_all := lw_g (lw_at lw_m3 31 rfl) rfl
theorem q571 : (Jvm.Cond.instanceMethod ({ cls := "TearsQueue$Stop", name := "part", desc := "(I)I" } : Jvm.MethodName)) ∈ lw_all := lw_g (lw_at lw_m3 32 rfl) rfl
theorem q572 : (Jvm.Cond.selects "TearsQueue$Stop" ({ cls := "TearsQueue$Stop", name := "part", desc := "(I)I" } : Jvm.MethodName) ({ cls := "TearsQueue$Stop", name := "part", desc := "(I)I" } : Jvm.MethodName)) ∈ lw_all := lw_g (lw_at lw_m3 33 rfl) rfl
theorem q573 : (Jvm.Cond.code ({ cls := "TearsQueue$Stop", name := "part", desc := "(I)I" } : Jvm.MethodName) prog_9_method_12_code (2 : Nat) (Option.some Jvm.ClassFile.FieldType.int)) ∈ lw_all := lw_g (lw_at lw_m3 34 rfl) rfl
theorem q617 : (Jvm.Cond.instanceMethod ({ cls := "TearsQueue$Stop", name := "saddens", desc := "(II)V" } : Jvm.MethodName)) ∈ lw_all := lw_g (lw_at lw_m3 78 rfl) rfl
theorem q618 : (Jvm.Cond.selects "TearsQueue$Stop" ({ cls := "TearsQueue$Stop", name := "saddens", desc := "(II)V" } : Jvm.MethodName) ({ cls := "TearsQueue$Stop", name := "saddens", desc := "(II)V" } : Jvm.MethodName)) ∈ lw_all := lw_g (lw_at lw_m3 79 rfl) rfl
theorem q619 : (Jvm.Cond.code ({ cls := "TearsQueue$Stop", name := "saddens", desc := "(II)V" } : Jvm.MethodName) prog_9_method_9_code (3 : Nat) (Option.none : Option Jvm.ClassFile.FieldType)) ∈ lw_all := lw_g (lw_at lw_m3 80 rfl) rfl
theorem q620 : (Jvm.Cond.methodLink "TearsQueue$Stop" (56 : Nat) ({ cls := "java/lang/Math", name := "min", desc := "(II)I" } : Jvm.MethodName)) ∈ lw_all := lw_g (lw_at lw_m3 81 rfl) rfl
theorem q623 : (Jvm.Cond.methodLink "TearsQueue$Stop" (61 : Nat) ({ cls := "TearsQueue$Stop", name := "becomes", desc := "(III)V" } : Jvm.MethodName)) ∈ lw_all := lw_g (lw_at lw_m3 84 rfl) rfl
theorem q630 : (Jvm.Cond.instanceMethod ({ cls := "TearsQueue$Stop", name := "tells", desc := "(II)V" } : Jvm.MethodName)) ∈ lw_all := lw_g (lw_at lw_m3 91 rfl) rfl
theorem q631 : (Jvm.Cond.selects "TearsQueue$Stop" ({ cls := "TearsQueue$Stop", name := "tells", desc := "(II)V" } : Jvm.MethodName) ({ cls := "TearsQueue$Stop", name := "tells", desc := "(II)V" } : Jvm.MethodName)) ∈ lw_all := lw_g (lw_at lw_m3 92 rfl) rfl
theorem q632 : (Jvm.Cond.code ({ cls := "TearsQueue$Stop", name := "tells", desc := "(II)V" } : Jvm.MethodName) prog_9_method_10_code (4 : Nat) (Option.none : Option Jvm.ClassFile.FieldType)) ∈ lw_all := lw_g (lw_at lw_m3 93 rfl) rfl
theorem q633 : (Jvm.Cond.methodLink "TearsQueue$Stop" (65 : Nat) ({ cls := "TearsQueue$Stop", name := "saddens", desc := "(II)V" } : Jvm.MethodName)) ∈ lw_all := lw_g (lw_at lw_m3 94 rfl) rfl
theorem q640 : (Jvm.Cond.instanceMethod ({ cls := "TearsQueue$Stop", name := "minuteGoes", desc := "()V" } : Jvm.MethodName)) ∈ lw_all := lw_g (lw_at lw_m3 101 rfl) rfl
theorem q641 : (Jvm.Cond.selects "TearsQueue$Stop" ({ cls := "TearsQueue$Stop", name := "minuteGoes", desc := "()V" } : Jvm.MethodName) ({ cls := "TearsQueue$Stop", name := "minuteGoes", desc := "()V" } : Jvm.MethodName)) ∈ lw_all := lw_g (lw_at lw_m3 102 rfl) rfl
theorem q642 : (Jvm.Cond.code ({ cls := "TearsQueue$Stop", name := "minuteGoes", desc := "()V" } : Jvm.MethodName) prog_9_method_11_code (2 : Nat) (Option.none : Option Jvm.ClassFile.FieldType)) ∈ lw_all := lw_g (lw_at lw_m3 103 rfl) rfl
theorem q643 : (Jvm.Cond.methodLink "TearsQueue$Stop" (69 : Nat) ({ cls := "java/lang/Math", name := "max", desc := "(II)I" } : Jvm.MethodName)) ∈ lw_all := lw_g (lw_at lw_m3 104 rfl) rfl
theorem q649 : (Jvm.Cond.instanceMethod ({ cls := "TearsQueue$Stop", name := "tramComes", desc := "()I" } : Jvm.MethodName)) ∈ lw_all := lw_g (lw_at lw_m3 110 rfl) rfl
theorem q650 : (Jvm.Cond.selects "TearsQueue$Stop" ({ cls := "TearsQueue$Stop", name := "tramComes", desc := "()I" } : Jvm.MethodName) ({ cls := "TearsQueue$Stop", name := "tramComes", desc := "()I" } : Jvm.MethodName)) ∈ lw_all := lw_g (lw_at lw_m3 111 rfl) rfl
theorem q651 : (Jvm.Cond.code ({ cls := "TearsQueue$Stop", name := "tramComes", desc := "()I" } : Jvm.MethodName) prog_9_method_16_code (3 : Nat) (Option.some Jvm.ClassFile.FieldType.int)) ∈ lw_all := lw_g (lw_at lw_m3 112 rfl) rfl
theorem q652 : (Jvm.Cond.methodLink "TearsQueue$Stop" (86 : Nat) ({ cls := "TearsQueue$Stop", name := "firstOnes", desc := "(I)I" } : Jvm.MethodName)) ∈ lw_all := lw_g (lw_at lw_m3 113 rfl) rfl
theorem q662 : (Jvm.Cond.instanceMethod ({ cls := "TearsQueue$Stop", name := "gone", desc := "()I" } : Jvm.MethodName)) ∈ lw_all := lw_g (lw_at lw_m3 123 rfl) rfl
theorem q663 : (Jvm.Cond.selects "TearsQueue$Stop" ({ cls := "TearsQueue$Stop", name := "gone", desc := "()I" } : Jvm.MethodName) ({ cls := "TearsQueue$Stop", name := "gone", desc := "()I" } : Jvm.MethodName)) ∈ lw_all := lw_g (lw_at lw_m3 124 rfl) rfl
theorem q664 : (Jvm.Cond.code ({ cls := "TearsQueue$Stop", name := "gone", desc := "()I" } : Jvm.MethodName) prog_9_method_7_code (1 : Nat) (Option.some Jvm.ClassFile.FieldType.int)) ∈ lw_all := lw_g (lw_at lw_m3 125 rfl) rfl
theorem in_X5 : ∀ w ∈ wsX50, w ∈ lw_all := lw_in wsX50 [148, 150, 152, 154, 156, 158, 160, 162] (by decide +kernel) (by decide +kernel)
/-! TearsQueue$Sheet -/
set_option maxRecDepth 100000
def RX6 : String := "TearsQueue$Sheet"
def TX6 : u_T := fun k => match k with
  | _ => ("TearsQueue$Sheet", "row", "Ljava/lang/Object;", false)
def tyX6 : Nat → FieldType := fun k => match k with
  | _ => .object "java/lang/Object"
abbrev wsX60 : List Cond := u_ws RX6 TX6 1
theorem nmX6 : ∀ a, a < 1 → ∀ b, b < 1 → a ≠ b → (TX6 a).2.1 ≠ (TX6 b).2.1 := by decide +kernel
theorem tyX6_ok : ∀ k, k < 1 → parseFieldDescriptor (TX6 k).2.2.1 = some (tyX6 k) := by decide +kernel
abbrev cX6_init : ByteArray := prog_7_method_1_code
def yX6_init : MethodName := ⟨RX6, "<init>", "()V"⟩
theorem dX6_init_0 : decode cX6_init 0 = .ok (.aload_n 0, 1) := by decide +kernel
theorem dX6_init_1 : decode cX6_init 1 = .ok (.invokespecial 1, 3) := by decide +kernel
theorem dX6_init_4 : decode cX6_init 4 = .ok (.return_, 1) := by decide +kernel
theorem q66 : (Jvm.Cond.initialized "TearsQueue$Sheet") ∈ lw_all := lw_g (lw_at lw_m1 7 rfl) rfl
theorem q170 : (Jvm.Cond.instantiable "TearsQueue$Sheet" (1 : Nat)) ∈ lw_all := lw_g (lw_at lw_m1 111 rfl) rfl
theorem q172 : (Jvm.Cond.instanceMethod ({ cls := "TearsQueue$Sheet", name := "<init>", desc := "()V" } : Jvm.MethodName)) ∈ lw_all := lw_g (lw_at lw_m1 113 rfl) rfl
theorem q173 : (Jvm.Cond.code ({ cls := "TearsQueue$Sheet", name := "<init>", desc := "()V" } : Jvm.MethodName) prog_7_method_1_code (1 : Nat) (Option.none : Option Jvm.ClassFile.FieldType)) ∈ lw_all := lw_g (lw_at lw_m1 114 rfl) rfl
theorem q174 : (Jvm.Cond.methodLink "TearsQueue$Sheet" (1 : Nat) ({ cls := "java/lang/Object", name := "<init>", desc := "()V" } : Jvm.MethodName)) ∈ lw_all := lw_g (lw_at lw_m1 115 rfl) rfl
theorem q176 : (Jvm.Cond.lays "TearsQueue$Sheet" "TearsQueue$Sheet" "row" "Ljava/lang/Object;") ∈ lw_all := lw_g (lw_at lw_m1 117 rfl) rfl
theorem q177 : (Jvm.Cond.soleField "TearsQueue$Sheet" "row") ∈ lw_all := lw_g (lw_at lw_m1 118 rfl) rfl
theorem q178 : (Jvm.Cond.superclass "TearsQueue$Sheet" "java/lang/Object") ∈ lw_all := lw_g (lw_at lw_m1 119 rfl) rfl
theorem in_X6 : ∀ w ∈ wsX60, w ∈ lw_all := lw_in wsX60 [176] (by decide +kernel) (by decide +kernel)
/-! java/lang/Math -/
set_option maxRecDepth 100000
def RJ6 : String := "java/lang/Math"
abbrev cJ6_max : ByteArray := prog_17_method_65_code
def yJ6_max : MethodName := ⟨RJ6, "max", "(II)I"⟩
def dkwJ6_max_0 : List UInt8 := [26, 27, 161, 0, 7, 26, 167, 0, 4, 27, 172]
abbrev dktJ6_max_0 : List UInt8 := dkwJ6_max_0 ++ []
theorem dksJ6_max_0 : cJ6_max.data.toList.drop 0 = dktJ6_max_0 := by decide +kernel
theorem dJ6_max_0 : decode cJ6_max 0 = .ok (.iload_n 0, 1) := dk_26 (dk_at dksJ6_max_0 0 rfl rfl)
theorem dJ6_max_1 : decode cJ6_max 1 = .ok (.iload_n 1, 1) := dk_27 (dk_at dksJ6_max_0 1 rfl rfl)
theorem dJ6_max_2 : decode cJ6_max 2 = .ok (.if_icmp .lt 7, 3) := dk_161 0 7 (dk_at dksJ6_max_0 2 rfl rfl)
theorem dJ6_max_5 : decode cJ6_max 5 = .ok (.iload_n 0, 1) := dk_26 (dk_at dksJ6_max_0 5 rfl rfl)
theorem dJ6_max_6 : decode cJ6_max 6 = .ok (.goto 4, 3) := dk_167 0 4 (dk_at dksJ6_max_0 6 rfl rfl)
theorem dJ6_max_9 : decode cJ6_max 9 = .ok (.iload_n 1, 1) := dk_27 (dk_at dksJ6_max_0 9 rfl rfl)
theorem dJ6_max_10 : decode cJ6_max 10 = .ok (.ireturn, 1) := dk_172 (dk_at dksJ6_max_0 10 rfl rfl)
abbrev cJ6_min : ByteArray := prog_17_method_69_code
def yJ6_min : MethodName := ⟨RJ6, "min", "(II)I"⟩
def dkwJ6_min_0 : List UInt8 := [26, 27, 163, 0, 7, 26, 167, 0, 4, 27, 172]
abbrev dktJ6_min_0 : List UInt8 := dkwJ6_min_0 ++ []
theorem dksJ6_min_0 : cJ6_min.data.toList.drop 0 = dktJ6_min_0 := by decide +kernel
theorem dJ6_min_0 : decode cJ6_min 0 = .ok (.iload_n 0, 1) := dk_26 (dk_at dksJ6_min_0 0 rfl rfl)
theorem dJ6_min_1 : decode cJ6_min 1 = .ok (.iload_n 1, 1) := dk_27 (dk_at dksJ6_min_0 1 rfl rfl)
theorem dJ6_min_2 : decode cJ6_min 2 = .ok (.if_icmp .gt 7, 3) := dk_163 0 7 (dk_at dksJ6_min_0 2 rfl rfl)
theorem dJ6_min_5 : decode cJ6_min 5 = .ok (.iload_n 0, 1) := dk_26 (dk_at dksJ6_min_0 5 rfl rfl)
theorem dJ6_min_6 : decode cJ6_min 6 = .ok (.goto 4, 3) := dk_167 0 4 (dk_at dksJ6_min_0 6 rfl rfl)
theorem dJ6_min_9 : decode cJ6_min 9 = .ok (.iload_n 1, 1) := dk_27 (dk_at dksJ6_min_0 9 rfl rfl)
theorem dJ6_min_10 : decode cJ6_min 10 = .ok (.ireturn, 1) := dk_172 (dk_at dksJ6_min_0 10 rfl rfl)
theorem q76 : (Jvm.Cond.initialized "java/lang/Math") ∈ lw_all := lw_g (lw_at lw_m1 17 rfl) rfl
theorem q480 : (Jvm.Cond.static ({ cls := "java/lang/Math", name := "max", desc := "(II)I" } : Jvm.MethodName)) ∈ lw_all := lw_g (lw_at lw_m2 181 rfl) rfl
theorem q481 : (Jvm.Cond.code ({ cls := "java/lang/Math", name := "max", desc := "(II)I" } : Jvm.MethodName) prog_17_method_65_code (2 : Nat) (Option.some Jvm.ClassFile.FieldType.int)) ∈ lw_all := lw_g (lw_at lw_m2 182 rfl) rfl
theorem q621 : (Jvm.Cond.static ({ cls := "java/lang/Math", name := "min", desc := "(II)I" } : Jvm.MethodName)) ∈ lw_all := lw_g (lw_at lw_m3 82 rfl) rfl
theorem q622 : (Jvm.Cond.code ({ cls := "java/lang/Math", name := "min", desc := "(II)I" } : Jvm.MethodName) prog_17_method_69_code (2 : Nat) (Option.some Jvm.ClassFile.FieldType.int)) ∈ lw_all := lw_g (lw_at lw_m3 83 rfl) rfl
/-! java/lang/Integer -/
set_option maxRecDepth 100000
def RJ7 : String := "java/lang/Integer"
abbrev cJ7_bitCount : ByteArray := prog_16_method_49_code
def yJ7_bitCount : MethodName := ⟨RJ7, "bitCount", "(I)I"⟩
def dkwJ7_bitCount_2 : List UInt8 := [26, 16, 63, 126, 172]
abbrev dktJ7_bitCount_2 : List UInt8 := dkwJ7_bitCount_2 ++ []
def dkwJ7_bitCount_1 : List UInt8 := [26, 26, 7, 124, 96, 19, 1, 11, 126, 59, 26, 26, 16, 8, 124, 96, 59, 26, 26, 16, 16, 124, 96, 59]
abbrev dktJ7_bitCount_1 : List UInt8 := dkwJ7_bitCount_1 ++ dktJ7_bitCount_2
def dkwJ7_bitCount_0 : List UInt8 := [26, 26, 4, 124, 19, 1, 9, 126, 100, 59, 26, 19, 1, 10, 126, 26, 5, 124, 19, 1, 10, 126, 96, 59]
abbrev dktJ7_bitCount_0 : List UInt8 := dkwJ7_bitCount_0 ++ dktJ7_bitCount_1
theorem dksJ7_bitCount_0 : cJ7_bitCount.data.toList.drop 0 = dktJ7_bitCount_0 := by decide +kernel
theorem dksJ7_bitCount_1 : cJ7_bitCount.data.toList.drop 24 = dktJ7_bitCount_1 := dk_seg dksJ7_bitCount_0 24 rfl rfl
theorem dksJ7_bitCount_2 : cJ7_bitCount.data.toList.drop 48 = dktJ7_bitCount_2 := dk_seg dksJ7_bitCount_1 24 rfl rfl
theorem dJ7_bitCount_0 : decode cJ7_bitCount 0 = .ok (.iload_n 0, 1) := dk_26 (dk_at dksJ7_bitCount_0 0 rfl rfl)
theorem dJ7_bitCount_1 : decode cJ7_bitCount 1 = .ok (.iload_n 0, 1) := dk_26 (dk_at dksJ7_bitCount_0 1 rfl rfl)
theorem dJ7_bitCount_2 : decode cJ7_bitCount 2 = .ok (.iconst 1, 1) := dk_4 (dk_at dksJ7_bitCount_0 2 rfl rfl)
theorem dJ7_bitCount_3 : decode cJ7_bitCount 3 = .ok (.iushr, 1) := dk_124 (dk_at dksJ7_bitCount_0 3 rfl rfl)
theorem dJ7_bitCount_4 : decode cJ7_bitCount 4 = .ok (.ldc_w 265, 3) := dk_19 1 9 (dk_at dksJ7_bitCount_0 4 rfl rfl)
theorem dJ7_bitCount_7 : decode cJ7_bitCount 7 = .ok (.iand, 1) := dk_126 (dk_at dksJ7_bitCount_0 7 rfl rfl)
theorem dJ7_bitCount_8 : decode cJ7_bitCount 8 = .ok (.isub, 1) := dk_100 (dk_at dksJ7_bitCount_0 8 rfl rfl)
theorem dJ7_bitCount_9 : decode cJ7_bitCount 9 = .ok (.istore_n 0, 1) := dk_59 (dk_at dksJ7_bitCount_0 9 rfl rfl)
theorem dJ7_bitCount_10 : decode cJ7_bitCount 10 = .ok (.iload_n 0, 1) := dk_26 (dk_at dksJ7_bitCount_0 10 rfl rfl)
theorem dJ7_bitCount_11 : decode cJ7_bitCount 11 = .ok (.ldc_w 266, 3) := dk_19 1 10 (dk_at dksJ7_bitCount_0 11 rfl rfl)
theorem dJ7_bitCount_14 : decode cJ7_bitCount 14 = .ok (.iand, 1) := dk_126 (dk_at dksJ7_bitCount_0 14 rfl rfl)
theorem dJ7_bitCount_15 : decode cJ7_bitCount 15 = .ok (.iload_n 0, 1) := dk_26 (dk_at dksJ7_bitCount_0 15 rfl rfl)
theorem dJ7_bitCount_16 : decode cJ7_bitCount 16 = .ok (.iconst 2, 1) := dk_5 (dk_at dksJ7_bitCount_0 16 rfl rfl)
theorem dJ7_bitCount_17 : decode cJ7_bitCount 17 = .ok (.iushr, 1) := dk_124 (dk_at dksJ7_bitCount_0 17 rfl rfl)
theorem dJ7_bitCount_18 : decode cJ7_bitCount 18 = .ok (.ldc_w 266, 3) := dk_19 1 10 (dk_at dksJ7_bitCount_0 18 rfl rfl)
theorem dJ7_bitCount_21 : decode cJ7_bitCount 21 = .ok (.iand, 1) := dk_126 (dk_at dksJ7_bitCount_0 21 rfl rfl)
theorem dJ7_bitCount_22 : decode cJ7_bitCount 22 = .ok (.iadd, 1) := dk_96 (dk_at dksJ7_bitCount_0 22 rfl rfl)
theorem dJ7_bitCount_23 : decode cJ7_bitCount 23 = .ok (.istore_n 0, 1) := dk_59 (dk_at dksJ7_bitCount_0 23 rfl rfl)
theorem dJ7_bitCount_24 : decode cJ7_bitCount 24 = .ok (.iload_n 0, 1) := dk_26 (dk_at dksJ7_bitCount_1 0 rfl rfl)
theorem dJ7_bitCount_25 : decode cJ7_bitCount 25 = .ok (.iload_n 0, 1) := dk_26 (dk_at dksJ7_bitCount_1 1 rfl rfl)
theorem dJ7_bitCount_26 : decode cJ7_bitCount 26 = .ok (.iconst 4, 1) := dk_7 (dk_at dksJ7_bitCount_1 2 rfl rfl)
theorem dJ7_bitCount_27 : decode cJ7_bitCount 27 = .ok (.iushr, 1) := dk_124 (dk_at dksJ7_bitCount_1 3 rfl rfl)
theorem dJ7_bitCount_28 : decode cJ7_bitCount 28 = .ok (.iadd, 1) := dk_96 (dk_at dksJ7_bitCount_1 4 rfl rfl)
theorem dJ7_bitCount_29 : decode cJ7_bitCount 29 = .ok (.ldc_w 267, 3) := dk_19 1 11 (dk_at dksJ7_bitCount_1 5 rfl rfl)
theorem dJ7_bitCount_32 : decode cJ7_bitCount 32 = .ok (.iand, 1) := dk_126 (dk_at dksJ7_bitCount_1 8 rfl rfl)
theorem dJ7_bitCount_33 : decode cJ7_bitCount 33 = .ok (.istore_n 0, 1) := dk_59 (dk_at dksJ7_bitCount_1 9 rfl rfl)
theorem dJ7_bitCount_34 : decode cJ7_bitCount 34 = .ok (.iload_n 0, 1) := dk_26 (dk_at dksJ7_bitCount_1 10 rfl rfl)
theorem dJ7_bitCount_35 : decode cJ7_bitCount 35 = .ok (.iload_n 0, 1) := dk_26 (dk_at dksJ7_bitCount_1 11 rfl rfl)
theorem dJ7_bitCount_36 : decode cJ7_bitCount 36 = .ok (.bipush 8, 2) := dk_16 8 (dk_at dksJ7_bitCount_1 12 rfl rfl)
theorem dJ7_bitCount_38 : decode cJ7_bitCount 38 = .ok (.iushr, 1) := dk_124 (dk_at dksJ7_bitCount_1 14 rfl rfl)
theorem dJ7_bitCount_39 : decode cJ7_bitCount 39 = .ok (.iadd, 1) := dk_96 (dk_at dksJ7_bitCount_1 15 rfl rfl)
theorem dJ7_bitCount_40 : decode cJ7_bitCount 40 = .ok (.istore_n 0, 1) := dk_59 (dk_at dksJ7_bitCount_1 16 rfl rfl)
theorem dJ7_bitCount_41 : decode cJ7_bitCount 41 = .ok (.iload_n 0, 1) := dk_26 (dk_at dksJ7_bitCount_1 17 rfl rfl)
theorem dJ7_bitCount_42 : decode cJ7_bitCount 42 = .ok (.iload_n 0, 1) := dk_26 (dk_at dksJ7_bitCount_1 18 rfl rfl)
theorem dJ7_bitCount_43 : decode cJ7_bitCount 43 = .ok (.bipush 16, 2) := dk_16 16 (dk_at dksJ7_bitCount_1 19 rfl rfl)
theorem dJ7_bitCount_45 : decode cJ7_bitCount 45 = .ok (.iushr, 1) := dk_124 (dk_at dksJ7_bitCount_1 21 rfl rfl)
theorem dJ7_bitCount_46 : decode cJ7_bitCount 46 = .ok (.iadd, 1) := dk_96 (dk_at dksJ7_bitCount_1 22 rfl rfl)
theorem dJ7_bitCount_47 : decode cJ7_bitCount 47 = .ok (.istore_n 0, 1) := dk_59 (dk_at dksJ7_bitCount_1 23 rfl rfl)
theorem dJ7_bitCount_48 : decode cJ7_bitCount 48 = .ok (.iload_n 0, 1) := dk_26 (dk_at dksJ7_bitCount_2 0 rfl rfl)
theorem dJ7_bitCount_49 : decode cJ7_bitCount 49 = .ok (.bipush 63, 2) := dk_16 63 (dk_at dksJ7_bitCount_2 1 rfl rfl)
theorem dJ7_bitCount_51 : decode cJ7_bitCount 51 = .ok (.iand, 1) := dk_126 (dk_at dksJ7_bitCount_2 3 rfl rfl)
theorem dJ7_bitCount_52 : decode cJ7_bitCount 52 = .ok (.ireturn, 1) := dk_172 (dk_at dksJ7_bitCount_2 4 rfl rfl)
theorem q78 : (Jvm.Cond.initialized "java/lang/Integer") ∈ lw_all := lw_g (lw_at lw_m1 19 rfl) rfl
theorem q666 : (Jvm.Cond.static ({ cls := "java/lang/Integer", name := "bitCount", desc := "(I)I" } : Jvm.MethodName)) ∈ lw_all := lw_g (lw_at lw_m3 127 rfl) rfl
theorem q667 : (Jvm.Cond.code ({ cls := "java/lang/Integer", name := "bitCount", desc := "(I)I" } : Jvm.MethodName) prog_16_method_49_code (1 : Nat) (Option.some Jvm.ClassFile.FieldType.int)) ∈ lw_all := lw_g (lw_at lw_m3 128 rfl) rfl
theorem q668 : (Jvm.Cond.constant "java/lang/Integer" (265 : Nat) (1431655765 : Int32)) ∈ lw_all := lw_g (lw_at lw_m3 129 rfl) rfl
theorem q669 : (Jvm.Cond.constant "java/lang/Integer" (266 : Nat) (858993459 : Int32)) ∈ lw_all := lw_g (lw_at lw_m3 130 rfl) rfl
theorem q670 : (Jvm.Cond.constant "java/lang/Integer" (267 : Nat) (252645135 : Int32)) ∈ lw_all := lw_g (lw_at lw_m3 131 rfl) rfl
/-! java/lang/Object -/
set_option maxRecDepth 100000
def RJ14 : String := "java/lang/Object"
abbrev cJ14_init : ByteArray := object_method_1_code
def yJ14_init : MethodName := ⟨RJ14, "<init>", "()V"⟩
theorem dJ14_init_0 : decode cJ14_init 0 = .ok (.return_, 1) := by decide +kernel
theorem q91 : (Jvm.Cond.instanceMethod ({ cls := "java/lang/Object", name := "<init>", desc := "()V" } : Jvm.MethodName)) ∈ lw_all := lw_g (lw_at lw_m1 32 rfl) rfl
theorem q92 : (Jvm.Cond.code ({ cls := "java/lang/Object", name := "<init>", desc := "()V" } : Jvm.MethodName) object_method_1_code (1 : Nat) (Option.none : Option Jvm.ClassFile.FieldType)) ∈ lw_all := lw_g (lw_at lw_m1 33 rfl) rfl
theorem q59 : (Jvm.Cond.initialized "TearsQueueLaw") ∈ lw_all := lw_g (lw_at lw_m1 0 rfl) rfl
set_option maxRecDepth 100000
theorem q85 : (Jvm.Cond.classLink "TearsQueueLaw" (7 : Nat) "TearsQueue") ∈ lw_all := lw_g (lw_at lw_m1 26 rfl) rfl
theorem q87 : (Jvm.Cond.methodLink "TearsQueueLaw" (9 : Nat) ({ cls := "TearsQueue", name := "<init>", desc := "()V" } : Jvm.MethodName)) ∈ lw_all := lw_g (lw_at lw_m1 28 rfl) rfl
theorem q238 : (Jvm.Cond.methodLink "TearsQueueLaw" (13 : Nat) ({ cls := "TearsQueue", name := "feed", desc := "(I)I" } : Jvm.MethodName)) ∈ lw_all := lw_g (lw_at lw_m1 179 rfl) rfl
theorem q246 : (Jvm.Cond.methodLink "TearsQueueLaw" (18 : Nat) ({ cls := "TearsQueue", name := "end", desc := "(I)I" } : Jvm.MethodName)) ∈ lw_all := lw_g (lw_at lw_m1 187 rfl) rfl
theorem q250 : (Jvm.Cond.methodLink "TearsQueueLaw" (22 : Nat) ({ cls := "TearsQueue", name := "text", desc := "()I" } : Jvm.MethodName)) ∈ lw_all := lw_g (lw_at lw_m1 191 rfl) rfl
theorem q493 : (Jvm.Cond.methodLink "TearsQueueLaw" (27 : Nat) ({ cls := "TearsQueue", name := "fault", desc := "()I" } : Jvm.MethodName)) ∈ lw_all := lw_g (lw_at lw_m2 194 rfl) rfl
theorem q497 : (Jvm.Cond.methodLink "TearsQueueLaw" (31 : Nat) ({ cls := "TearsQueue", name := "rule", desc := "(I)I" } : Jvm.MethodName)) ∈ lw_all := lw_g (lw_at lw_m2 198 rfl) rfl
theorem q517 : (Jvm.Cond.methodLink "TearsQueueLaw" (35 : Nat) ({ cls := "TearsQueue", name := "one", desc := "(II)I" } : Jvm.MethodName)) ∈ lw_all := lw_g (lw_at lw_m2 218 rfl) rfl
theorem q547 : (Jvm.Cond.methodLink "TearsQueueLaw" (40 : Nat) ({ cls := "TearsQueue", name := "act", desc := "(I)I" } : Jvm.MethodName)) ∈ lw_all := lw_g (lw_at lw_m3 8 rfl) rfl
theorem q551 : (Jvm.Cond.methodLink "TearsQueueLaw" (44 : Nat) ({ cls := "TearsQueue", name := "queue", desc := "(I)I" } : Jvm.MethodName)) ∈ lw_all := lw_g (lw_at lw_m3 12 rfl) rfl
theorem q575 : (Jvm.Cond.methodLink "TearsQueueLaw" (48 : Nat) ({ cls := "TearsQueue", name := "alter", desc := "(III)I" } : Jvm.MethodName)) ∈ lw_all := lw_g (lw_at lw_m3 36 rfl) rfl
theorem q585 : (Jvm.Cond.methodLink "TearsQueueLaw" (53 : Nat) ({ cls := "TearsQueue", name := "room", desc := "(I)I" } : Jvm.MethodName)) ∈ lw_all := lw_g (lw_at lw_m3 46 rfl) rfl
theorem q590 : (Jvm.Cond.methodLink "TearsQueueLaw" (57 : Nat) ({ cls := "TearsQueue", name := "think", desc := "(I)I" } : Jvm.MethodName)) ∈ lw_all := lw_g (lw_at lw_m3 51 rfl) rfl
theorem q595 : (Jvm.Cond.methodLink "TearsQueueLaw" (61 : Nat) ({ cls := "TearsQueue", name := "plan", desc := "(I)I" } : Jvm.MethodName)) ∈ lw_all := lw_g (lw_at lw_m3 56 rfl) rfl
theorem q603 : (Jvm.Cond.methodLink "TearsQueueLaw" (65 : Nat) ({ cls := "TearsQueue", name := "cut", desc := "(I)I" } : Jvm.MethodName)) ∈ lw_all := lw_g (lw_at lw_m3 64 rfl) rfl
theorem q607 : (Jvm.Cond.methodLink "TearsQueueLaw" (69 : Nat) ({ cls := "TearsQueue", name := "thinks", desc := "(I)I" } : Jvm.MethodName)) ∈ lw_all := lw_g (lw_at lw_m3 68 rfl) rfl
theorem q634 : (Jvm.Cond.methodLink "TearsQueueLaw" (73 : Nat) ({ cls := "TearsQueue", name := "minutes", desc := "(I)I" } : Jvm.MethodName)) ∈ lw_all := lw_g (lw_at lw_m3 95 rfl) rfl
theorem q644 : (Jvm.Cond.methodLink "TearsQueueLaw" (77 : Nat) ({ cls := "TearsQueue", name := "tram", desc := "()I" } : Jvm.MethodName)) ∈ lw_all := lw_g (lw_at lw_m3 105 rfl) rfl
theorem q653 : (Jvm.Cond.methodLink "TearsQueueLaw" (81 : Nat) ({ cls := "TearsQueue", name := "joy", desc := "(I)I" } : Jvm.MethodName)) ∈ lw_all := lw_g (lw_at lw_m3 114 rfl) rfl
theorem q657 : (Jvm.Cond.methodLink "TearsQueueLaw" (85 : Nat) ({ cls := "TearsQueue", name := "second", desc := "()I" } : Jvm.MethodName)) ∈ lw_all := lw_g (lw_at lw_m3 118 rfl) rfl
theorem q671 : (Jvm.Cond.methodLink "TearsQueueLaw" (89 : Nat) ({ cls := "TearsQueue", name := "runs", desc := "(I)I" } : Jvm.MethodName)) ∈ lw_all := lw_g (lw_at lw_m3 132 rfl) rfl
theorem q687 : (Jvm.Cond.methodLink "TearsQueueLaw" (93 : Nat) ({ cls := "TearsQueue", name := "ahead", desc := "(II)I" } : Jvm.MethodName)) ∈ lw_all := lw_g (lw_at lw_m3 148 rfl) rfl
theorem q691 : (Jvm.Cond.methodLink "TearsQueueLaw" (97 : Nat) ({ cls := "TearsQueue", name := "soon", desc := "(I)I" } : Jvm.MethodName)) ∈ lw_all := lw_g (lw_at lw_m3 152 rfl) rfl
theorem q695 : (Jvm.Cond.methodLink "TearsQueueLaw" (101 : Nat) ({ cls := "TearsQueue", name := "best", desc := "(II)I" } : Jvm.MethodName)) ∈ lw_all := lw_g (lw_at lw_m3 156 rfl) rfl
theorem q714 : (Jvm.Cond.methodLink "TearsQueueLaw" (105 : Nat) ({ cls := "TearsQueue", name := "home", desc := "(II)I" } : Jvm.MethodName)) ∈ lw_all := lw_g (lw_at lw_m3 175 rfl) rfl
theorem q722 : (Jvm.Cond.methodLink "TearsQueueLaw" (109 : Nat) ({ cls := "TearsQueue", name := "swap", desc := "(I)I" } : Jvm.MethodName)) ∈ lw_all := lw_g (lw_at lw_m3 183 rfl) rfl
theorem q728 : (Jvm.Cond.methodLink "TearsQueueLaw" (113 : Nat) ({ cls := "TearsQueue", name := "enough", desc := "()I" } : Jvm.MethodName)) ∈ lw_all := lw_g (lw_at lw_m3 189 rfl) rfl
theorem q732 : (Jvm.Cond.methodLink "TearsQueueLaw" (117 : Nat) ({ cls := "TearsQueue", name := "luck", desc := "(III)J" } : Jvm.MethodName)) ∈ lw_all := lw_g (lw_at lw_m3 193 rfl) rfl
theorem q744 : (Jvm.Cond.methodLink "TearsQueueLaw" (122 : Nat) ({ cls := "TearsQueue", name := "mean", desc := "(II)J" } : Jvm.MethodName)) ∈ lw_all := lw_g (lw_at lw_m3 205 rfl) rfl
theorem q748 : (Jvm.Cond.methodLink "TearsQueueLaw" (127 : Nat) ({ cls := "TearsQueue", name := "see", desc := "(IZ)I" } : Jvm.MethodName)) ∈ lw_all := lw_g (lw_at lw_m3 209 rfl) rfl
theorem q752 : (Jvm.Cond.methodLink "TearsQueueLaw" (132 : Nat) ({ cls := "TearsQueue", name := "forget", desc := "(I)I" } : Jvm.MethodName)) ∈ lw_all := lw_g (lw_at lw_m3 213 rfl) rfl
theorem q756 : (Jvm.Cond.methodLink "TearsQueueLaw" (136 : Nat) ({ cls := "TearsQueue", name := "kinds", desc := "(I)I" } : Jvm.MethodName)) ∈ lw_all := lw_g (lw_at lw_m3 217 rfl) rfl
theorem q768 : (Jvm.Cond.methodLink "TearsQueueLaw" (140 : Nat) ({ cls := "TearsQueue", name := "sorrows", desc := "(I)I" } : Jvm.MethodName)) ∈ lw_all := lw_g (lw_at lw_m3 229 rfl) rfl
theorem q772 : (Jvm.Cond.methodLink "TearsQueueLaw" (144 : Nat) ({ cls := "TearsQueue", name := "ask", desc := "(II)I" } : Jvm.MethodName)) ∈ lw_all := lw_g (lw_at lw_m3 233 rfl) rfl
theorem q778 : (Jvm.Cond.methodLink "TearsQueueLaw" (148 : Nat) ({ cls := "TearsQueue", name := "drift", desc := "(III)I" } : Jvm.MethodName)) ∈ lw_all := lw_g (lw_at lw_m3 239 rfl) rfl
theorem q783 : (Jvm.Cond.methodLink "TearsQueueLaw" (152 : Nat) ({ cls := "TearsQueue", name := "keep", desc := "(I)I" } : Jvm.MethodName)) ∈ lw_all := lw_g (lw_at lw_m4 4 rfl) rfl
theorem q787 : (Jvm.Cond.methodLink "TearsQueueLaw" (156 : Nat) ({ cls := "TearsQueue", name := "back", desc := "(I)I" } : Jvm.MethodName)) ∈ lw_all := lw_g (lw_at lw_m4 8 rfl) rfl
theorem q791 : (Jvm.Cond.methodLink "TearsQueueLaw" (160 : Nat) ({ cls := "TearsQueue", name := "sheet", desc := "(III)I" } : Jvm.MethodName)) ∈ lw_all := lw_g (lw_at lw_m4 12 rfl) rfl
theorem q829 : (Jvm.Cond.methodLink "TearsQueueLaw" (164 : Nat) ({ cls := "TearsQueue", name := "lay", desc := "(III)I" } : Jvm.MethodName)) ∈ lw_all := lw_g (lw_at lw_m4 50 rfl) rfl
theorem q880 : (Jvm.Cond.methodLink "TearsQueueLaw" (168 : Nat) ({ cls := "TearsQueue", name := "read", desc := "(IIII)I" } : Jvm.MethodName)) ∈ lw_all := lw_g (lw_at lw_m4 101 rfl) rfl
theorem q903 : (Jvm.Cond.methodLink "TearsQueueLaw" (173 : Nat) ({ cls := "TearsQueue", name := "torn", desc := "()I" } : Jvm.MethodName)) ∈ lw_all := lw_g (lw_at lw_m4 124 rfl) rfl
theorem q907 : (Jvm.Cond.methodLink "TearsQueueLaw" (177 : Nat) ({ cls := "TearsQueue", name := "count", desc := "(I)I" } : Jvm.MethodName)) ∈ lw_all := lw_g (lw_at lw_m4 128 rfl) rfl
theorem q911 : (Jvm.Cond.classLink "TearsQueueLaw" (10 : Nat) "TearsQueueModel") ∈ lw_all := lw_g (lw_at lw_m4 132 rfl) rfl
theorem q913 : (Jvm.Cond.methodLink "TearsQueueLaw" (12 : Nat) ({ cls := "TearsQueueModel", name := "<init>", desc := "()V" } : Jvm.MethodName)) ∈ lw_all := lw_g (lw_at lw_m4 134 rfl) rfl
theorem q1006 : (Jvm.Cond.methodLink "TearsQueueLaw" (17 : Nat) ({ cls := "TearsQueueModel", name := "feed", desc := "(I)I" } : Jvm.MethodName)) ∈ lw_all := lw_g (lw_at lw_m4 227 rfl) rfl
theorem q1014 : (Jvm.Cond.methodLink "TearsQueueLaw" (21 : Nat) ({ cls := "TearsQueueModel", name := "end", desc := "(I)I" } : Jvm.MethodName)) ∈ lw_all := lw_g (lw_at lw_m4 235 rfl) rfl
theorem q1018 : (Jvm.Cond.methodLink "TearsQueueLaw" (26 : Nat) ({ cls := "TearsQueueModel", name := "text", desc := "()I" } : Jvm.MethodName)) ∈ lw_all := lw_g (lw_at lw_m4 239 rfl) rfl
theorem q1059 : (Jvm.Cond.methodLink "TearsQueueLaw" (30 : Nat) ({ cls := "TearsQueueModel", name := "fault", desc := "()I" } : Jvm.MethodName)) ∈ lw_all := lw_g (lw_at lw_m5 40 rfl) rfl
theorem q1063 : (Jvm.Cond.methodLink "TearsQueueLaw" (34 : Nat) ({ cls := "TearsQueueModel", name := "rule", desc := "(I)I" } : Jvm.MethodName)) ∈ lw_all := lw_g (lw_at lw_m5 44 rfl) rfl
theorem q1079 : (Jvm.Cond.methodLink "TearsQueueLaw" (39 : Nat) ({ cls := "TearsQueueModel", name := "one", desc := "(II)I" } : Jvm.MethodName)) ∈ lw_all := lw_g (lw_at lw_m5 60 rfl) rfl
theorem q1090 : (Jvm.Cond.methodLink "TearsQueueLaw" (43 : Nat) ({ cls := "TearsQueueModel", name := "act", desc := "(I)I" } : Jvm.MethodName)) ∈ lw_all := lw_g (lw_at lw_m5 71 rfl) rfl
theorem q1094 : (Jvm.Cond.methodLink "TearsQueueLaw" (47 : Nat) ({ cls := "TearsQueueModel", name := "queue", desc := "(I)I" } : Jvm.MethodName)) ∈ lw_all := lw_g (lw_at lw_m5 75 rfl) rfl
theorem q1107 : (Jvm.Cond.methodLink "TearsQueueLaw" (52 : Nat) ({ cls := "TearsQueueModel", name := "alter", desc := "(III)I" } : Jvm.MethodName)) ∈ lw_all := lw_g (lw_at lw_m5 88 rfl) rfl
theorem q1117 : (Jvm.Cond.methodLink "TearsQueueLaw" (56 : Nat) ({ cls := "TearsQueueModel", name := "room", desc := "(I)I" } : Jvm.MethodName)) ∈ lw_all := lw_g (lw_at lw_m5 98 rfl) rfl
theorem q1122 : (Jvm.Cond.methodLink "TearsQueueLaw" (60 : Nat) ({ cls := "TearsQueueModel", name := "think", desc := "(I)I" } : Jvm.MethodName)) ∈ lw_all := lw_g (lw_at lw_m5 103 rfl) rfl
theorem q1127 : (Jvm.Cond.methodLink "TearsQueueLaw" (64 : Nat) ({ cls := "TearsQueueModel", name := "plan", desc := "(I)I" } : Jvm.MethodName)) ∈ lw_all := lw_g (lw_at lw_m5 108 rfl) rfl
theorem q1135 : (Jvm.Cond.methodLink "TearsQueueLaw" (68 : Nat) ({ cls := "TearsQueueModel", name := "cut", desc := "(I)I" } : Jvm.MethodName)) ∈ lw_all := lw_g (lw_at lw_m5 116 rfl) rfl
theorem q1139 : (Jvm.Cond.methodLink "TearsQueueLaw" (72 : Nat) ({ cls := "TearsQueueModel", name := "thinks", desc := "(I)I" } : Jvm.MethodName)) ∈ lw_all := lw_g (lw_at lw_m5 120 rfl) rfl
theorem q1159 : (Jvm.Cond.methodLink "TearsQueueLaw" (76 : Nat) ({ cls := "TearsQueueModel", name := "minutes", desc := "(I)I" } : Jvm.MethodName)) ∈ lw_all := lw_g (lw_at lw_m5 140 rfl) rfl
theorem q1168 : (Jvm.Cond.methodLink "TearsQueueLaw" (80 : Nat) ({ cls := "TearsQueueModel", name := "tram", desc := "()I" } : Jvm.MethodName)) ∈ lw_all := lw_g (lw_at lw_m5 149 rfl) rfl
theorem q1176 : (Jvm.Cond.methodLink "TearsQueueLaw" (84 : Nat) ({ cls := "TearsQueueModel", name := "joy", desc := "(I)I" } : Jvm.MethodName)) ∈ lw_all := lw_g (lw_at lw_m5 157 rfl) rfl
theorem q1180 : (Jvm.Cond.methodLink "TearsQueueLaw" (88 : Nat) ({ cls := "TearsQueueModel", name := "second", desc := "()I" } : Jvm.MethodName)) ∈ lw_all := lw_g (lw_at lw_m5 161 rfl) rfl
theorem q1187 : (Jvm.Cond.methodLink "TearsQueueLaw" (92 : Nat) ({ cls := "TearsQueueModel", name := "runs", desc := "(I)I" } : Jvm.MethodName)) ∈ lw_all := lw_g (lw_at lw_m5 168 rfl) rfl
theorem q1207 : (Jvm.Cond.methodLink "TearsQueueLaw" (96 : Nat) ({ cls := "TearsQueueModel", name := "ahead", desc := "(II)I" } : Jvm.MethodName)) ∈ lw_all := lw_g (lw_at lw_m5 188 rfl) rfl
theorem q1211 : (Jvm.Cond.methodLink "TearsQueueLaw" (100 : Nat) ({ cls := "TearsQueueModel", name := "soon", desc := "(I)I" } : Jvm.MethodName)) ∈ lw_all := lw_g (lw_at lw_m5 192 rfl) rfl
theorem q1215 : (Jvm.Cond.methodLink "TearsQueueLaw" (104 : Nat) ({ cls := "TearsQueueModel", name := "best", desc := "(II)I" } : Jvm.MethodName)) ∈ lw_all := lw_g (lw_at lw_m5 196 rfl) rfl
theorem q1231 : (Jvm.Cond.methodLink "TearsQueueLaw" (108 : Nat) ({ cls := "TearsQueueModel", name := "home", desc := "(II)I" } : Jvm.MethodName)) ∈ lw_all := lw_g (lw_at lw_m5 212 rfl) rfl
theorem q1236 : (Jvm.Cond.methodLink "TearsQueueLaw" (112 : Nat) ({ cls := "TearsQueueModel", name := "swap", desc := "(I)I" } : Jvm.MethodName)) ∈ lw_all := lw_g (lw_at lw_m5 217 rfl) rfl
theorem q1244 : (Jvm.Cond.methodLink "TearsQueueLaw" (116 : Nat) ({ cls := "TearsQueueModel", name := "enough", desc := "()I" } : Jvm.MethodName)) ∈ lw_all := lw_g (lw_at lw_m5 225 rfl) rfl
theorem q1248 : (Jvm.Cond.methodLink "TearsQueueLaw" (121 : Nat) ({ cls := "TearsQueueModel", name := "luck", desc := "(III)J" } : Jvm.MethodName)) ∈ lw_all := lw_g (lw_at lw_m5 229 rfl) rfl
theorem q1260 : (Jvm.Cond.methodLink "TearsQueueLaw" (126 : Nat) ({ cls := "TearsQueueModel", name := "mean", desc := "(II)J" } : Jvm.MethodName)) ∈ lw_all := lw_g (lw_at lw_m6 1 rfl) rfl
theorem q1264 : (Jvm.Cond.methodLink "TearsQueueLaw" (131 : Nat) ({ cls := "TearsQueueModel", name := "see", desc := "(IZ)I" } : Jvm.MethodName)) ∈ lw_all := lw_g (lw_at lw_m6 5 rfl) rfl
theorem q1268 : (Jvm.Cond.methodLink "TearsQueueLaw" (135 : Nat) ({ cls := "TearsQueueModel", name := "forget", desc := "(I)I" } : Jvm.MethodName)) ∈ lw_all := lw_g (lw_at lw_m6 9 rfl) rfl
theorem q1272 : (Jvm.Cond.methodLink "TearsQueueLaw" (139 : Nat) ({ cls := "TearsQueueModel", name := "kinds", desc := "(I)I" } : Jvm.MethodName)) ∈ lw_all := lw_g (lw_at lw_m6 13 rfl) rfl
theorem q1280 : (Jvm.Cond.methodLink "TearsQueueLaw" (143 : Nat) ({ cls := "TearsQueueModel", name := "sorrows", desc := "(I)I" } : Jvm.MethodName)) ∈ lw_all := lw_g (lw_at lw_m6 21 rfl) rfl
theorem q1288 : (Jvm.Cond.methodLink "TearsQueueLaw" (147 : Nat) ({ cls := "TearsQueueModel", name := "ask", desc := "(II)I" } : Jvm.MethodName)) ∈ lw_all := lw_g (lw_at lw_m6 29 rfl) rfl
theorem q1292 : (Jvm.Cond.methodLink "TearsQueueLaw" (151 : Nat) ({ cls := "TearsQueueModel", name := "drift", desc := "(III)I" } : Jvm.MethodName)) ∈ lw_all := lw_g (lw_at lw_m6 33 rfl) rfl
theorem q1297 : (Jvm.Cond.methodLink "TearsQueueLaw" (155 : Nat) ({ cls := "TearsQueueModel", name := "keep", desc := "(I)I" } : Jvm.MethodName)) ∈ lw_all := lw_g (lw_at lw_m6 38 rfl) rfl
theorem q1301 : (Jvm.Cond.methodLink "TearsQueueLaw" (159 : Nat) ({ cls := "TearsQueueModel", name := "back", desc := "(I)I" } : Jvm.MethodName)) ∈ lw_all := lw_g (lw_at lw_m6 42 rfl) rfl
theorem q1305 : (Jvm.Cond.methodLink "TearsQueueLaw" (163 : Nat) ({ cls := "TearsQueueModel", name := "sheet", desc := "(III)I" } : Jvm.MethodName)) ∈ lw_all := lw_g (lw_at lw_m6 46 rfl) rfl
theorem q1310 : (Jvm.Cond.methodLink "TearsQueueLaw" (167 : Nat) ({ cls := "TearsQueueModel", name := "lay", desc := "(III)I" } : Jvm.MethodName)) ∈ lw_all := lw_g (lw_at lw_m6 51 rfl) rfl
theorem q1314 : (Jvm.Cond.methodLink "TearsQueueLaw" (172 : Nat) ({ cls := "TearsQueueModel", name := "read", desc := "(IIII)I" } : Jvm.MethodName)) ∈ lw_all := lw_g (lw_at lw_m6 55 rfl) rfl
theorem q1323 : (Jvm.Cond.methodLink "TearsQueueLaw" (176 : Nat) ({ cls := "TearsQueueModel", name := "torn", desc := "()I" } : Jvm.MethodName)) ∈ lw_all := lw_g (lw_at lw_m6 64 rfl) rfl
theorem q1327 : (Jvm.Cond.methodLink "TearsQueueLaw" (180 : Nat) ({ cls := "TearsQueueModel", name := "count", desc := "(I)I" } : Jvm.MethodName)) ∈ lw_all := lw_g (lw_at lw_m6 68 rfl) rfl
theorem q77 : (Jvm.Cond.initialized "java/lang/System") ∈ lw_all := lw_g (lw_at lw_m1 18 rfl) rfl
set_option maxRecDepth 100000
theorem q491 : (Jvm.Cond.static ({ cls := "java/lang/System", name := "arraycopy", desc := "(Ljava/lang/Object;ILjava/lang/Object;II)V" } : Jvm.MethodName)) ∈ lw_all := lw_g (lw_at lw_m2 192 rfl) rfl
theorem q492 : (Jvm.Cond.native ({ cls := "java/lang/System", name := "arraycopy", desc := "(Ljava/lang/Object;ILjava/lang/Object;II)V" } : Jvm.MethodName)) ∈ lw_all := lw_g (lw_at lw_m2 193 rfl) rfl
theorem q94 : (Jvm.Cond.arrayOver (Jvm.ClassFile.FieldType.object "TearsQueue$Plain")) ∈ lw_tbl := lw_at lw_m1 35 rfl
set_option maxRecDepth 100000
theorem q165 : (Jvm.Cond.arrayClass Jvm.ClassFile.FieldType.byte) ∈ lw_all := lw_g (lw_at lw_m1 106 rfl) rfl
theorem q166 : (Jvm.Cond.arrayClass Jvm.ClassFile.FieldType.short) ∈ lw_all := lw_g (lw_at lw_m1 107 rfl) rfl
theorem q167 : (Jvm.Cond.arrayOver (Jvm.ClassFile.FieldType.object "TearsQueue$Stop")) ∈ lw_tbl := lw_at lw_m1 108 rfl
theorem q169 : (Jvm.Cond.arrayOver (Jvm.ClassFile.FieldType.object "TearsQueue$Sheet")) ∈ lw_tbl := lw_at lw_m1 110 rfl
theorem q828 : (Jvm.Cond.arrayClass Jvm.ClassFile.FieldType.int) ∈ lw_all := lw_g (lw_at lw_m4 49 rfl) rfl
theorem q1005 : (Jvm.Cond.arrayClass Jvm.ClassFile.FieldType.boolean) ∈ lw_all := lw_g (lw_at lw_m4 226 rfl) rfl
