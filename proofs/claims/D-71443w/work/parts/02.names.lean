/-! DECODE ROWS BY BYTES: one lemma an opcode; a method's code is cut into short pieces once, and a row reads its own piece alone. -/
set_option maxRecDepth 100000
/-- the code has just these bytes from pc on -/
def DkAt (code : ByteArray) (pc : Nat) (bs : List UInt8) : Prop := ∀ (j : Nat) (b : UInt8), bs[j]? = some b → code.data.toList[pc + j]? = some b
/-- the piece W has the bytes bs from its place j on -/
def dkIn (W : List UInt8) (j : Nat) (bs : List UInt8) : Bool := decide ((W.drop j).take bs.length = bs)
theorem dk_seg {l W T : List UInt8} {o o2 : Nat} (h : l.drop o = W ++ T) (n : Nat) (hn : W.length = n) (ho : o + n = o2) : l.drop o2 = T := by
  subst ho
  rw [← List.drop_drop, h, List.drop_left' hn]
theorem dk_at {code : ByteArray} {W T bs : List UInt8} {o pc : Nat} (h : code.data.toList.drop o = W ++ T) (j : Nat) (hp : o + j = pc) (hw : dkIn W j bs = true) : DkAt code pc bs := by
  subst hp
  intro i b e
  have h1 := of_decide_eq_true hw
  have h2 : i < bs.length := (List.getElem?_eq_some_iff.mp e).1
  have h3 : W[j + i]? = some b := by
    rw [← h1, List.getElem?_take, if_pos h2, List.getElem?_drop] at e
    exact e
  have h4 : j + i < W.length := (List.getElem?_eq_some_iff.mp h3).1
  have h5 : (code.data.toList.drop o)[j + i]? = some b := by
    rw [h, List.getElem?_append_left h4]
    exact h3
  rw [List.getElem?_drop, ← Nat.add_assoc] at h5
  exact h5
theorem dk_u1 {A : ByteArray} {p : Nat} {b : UInt8} (h : A.data.toList[p]? = some b) : (Reader.u1 : Reader DecodeError Nat) A p = .ok (b.toNat, p + 1) := by
  obtain ⟨h1, h2⟩ := List.getElem?_eq_some_iff.mp h
  have h3 : p < A.size := by simpa using h1
  have h4 : A[p]'h3 = b := h2
  have e : (Reader.u1 : Reader DecodeError Nat) A p = (if h : p < A.size then .ok (A[p].toNat, p + 1) else .error (HasTruncated.truncated p)) := by
    show (do if h : p < A.size then do set (p + 1); Pure.pure A[p].toNat else MonadExcept.throw (HasTruncated.truncated p) : Reader DecodeError Nat) A p = _
    by_cases hi : p < A.size
    · rw [dif_pos hi, dif_pos hi]; rfl
    · rw [dif_neg hi, dif_neg hi]; rfl
  rw [e, dif_pos h3, h4]
theorem dk_bind {α β : Type} {r : Reader DecodeError α} {f : α → Reader DecodeError β} {A : ByteArray} {p s : Nat} {a : α} (h : r A p = .ok (a, s)) : (r >>= f) A p = f a A s := by
  show (do let (a, s) ← r A p; f a A s : Except DecodeError (β × Nat)) = _
  rw [h]
  rfl
theorem dk_map {α β : Type} {r : Reader DecodeError α} {g : α → β} {A : ByteArray} {p s : Nat} {a : α} (h : r A p = .ok (a, s)) : (g <$> r) A p = .ok (g a, s) := by
  show (do let (a, s) ← r A p; .ok (g a, s) : Except DecodeError (β × Nat)) = _
  rw [h]
  rfl
theorem dk_u2 {A : ByteArray} {p : Nat} {a b : UInt8} (h : A.data.toList[p]? = some a) (h2 : A.data.toList[p + 1]? = some b) : (Reader.u2 : Reader DecodeError Nat) A p = .ok (a.toNat * 256 + b.toNat, p + 2) := by
  show (Reader.u1 >>= fun hi => Reader.u1 >>= fun lo => Pure.pure (hi * 256 + lo) : Reader DecodeError Nat) A p = _
  rw [dk_bind (dk_u1 h), dk_bind (dk_u1 h2)]
  rfl
theorem dk_of {code : ByteArray} {pc n : Nat} {i : Instr} (h : Decoder.instr pc code pc = .ok (i, pc + n)) : decode code pc = .ok (i, n) := by
  have e : decode code pc = (match Decoder.instr pc code pc with | .error x => .error x | .ok (j, s) => .ok (j, s - pc)) := by
    show (do let (j, s) ← Decoder.instr pc code pc; Pure.pure (j, s - pc) : Except DecodeError (Instr × Nat)) = _
    cases Decoder.instr pc code pc <;> rfl
  rw [e, h]
  show Except.ok (i, pc + n - pc) = _
  rw [Nat.add_sub_cancel_left]
theorem dk_1 {code : ByteArray} {pc : Nat} (h : DkAt code pc [1]) : decode code pc = .ok (.aconst_null, 1) := dk_of ((dk_bind (dk_u1 (h 0 _ rfl))).trans rfl)
theorem dk_2 {code : ByteArray} {pc : Nat} (h : DkAt code pc [2]) : decode code pc = .ok (.iconst (-1), 1) := dk_of ((dk_bind (dk_u1 (h 0 _ rfl))).trans rfl)
theorem dk_3 {code : ByteArray} {pc : Nat} (h : DkAt code pc [3]) : decode code pc = .ok (.iconst 0, 1) := dk_of ((dk_bind (dk_u1 (h 0 _ rfl))).trans rfl)
theorem dk_4 {code : ByteArray} {pc : Nat} (h : DkAt code pc [4]) : decode code pc = .ok (.iconst 1, 1) := dk_of ((dk_bind (dk_u1 (h 0 _ rfl))).trans rfl)
theorem dk_5 {code : ByteArray} {pc : Nat} (h : DkAt code pc [5]) : decode code pc = .ok (.iconst 2, 1) := dk_of ((dk_bind (dk_u1 (h 0 _ rfl))).trans rfl)
theorem dk_6 {code : ByteArray} {pc : Nat} (h : DkAt code pc [6]) : decode code pc = .ok (.iconst 3, 1) := dk_of ((dk_bind (dk_u1 (h 0 _ rfl))).trans rfl)
theorem dk_7 {code : ByteArray} {pc : Nat} (h : DkAt code pc [7]) : decode code pc = .ok (.iconst 4, 1) := dk_of ((dk_bind (dk_u1 (h 0 _ rfl))).trans rfl)
theorem dk_8 {code : ByteArray} {pc : Nat} (h : DkAt code pc [8]) : decode code pc = .ok (.iconst 5, 1) := dk_of ((dk_bind (dk_u1 (h 0 _ rfl))).trans rfl)
theorem dk_9 {code : ByteArray} {pc : Nat} (h : DkAt code pc [9]) : decode code pc = .ok (.lconst 0, 1) := dk_of ((dk_bind (dk_u1 (h 0 _ rfl))).trans rfl)
theorem dk_10 {code : ByteArray} {pc : Nat} (h : DkAt code pc [10]) : decode code pc = .ok (.lconst 1, 1) := dk_of ((dk_bind (dk_u1 (h 0 _ rfl))).trans rfl)
theorem dk_16 {code : ByteArray} {pc : Nat} (a : UInt8) (h : DkAt code pc [16, a]) : decode code pc = .ok (.bipush (Reader.signed 8 a.toNat), 2) := dk_of ((dk_bind (dk_u1 (h 0 _ rfl))).trans ((dk_bind (dk_map (dk_u1 (h 1 _ rfl)))).trans rfl))
theorem dk_17 {code : ByteArray} {pc : Nat} (a b : UInt8) (h : DkAt code pc [17, a, b]) : decode code pc = .ok (.sipush (Reader.signed 16 (a.toNat * 256 + b.toNat)), 3) := dk_of ((dk_bind (dk_u1 (h 0 _ rfl))).trans ((dk_bind (dk_map (dk_u2 (h 1 _ rfl) (h 2 _ rfl)))).trans rfl))
theorem dk_18 {code : ByteArray} {pc : Nat} (a : UInt8) (h : DkAt code pc [18, a]) : decode code pc = .ok (.ldc a.toNat, 2) := dk_of ((dk_bind (dk_u1 (h 0 _ rfl))).trans ((dk_bind (dk_u1 (h 1 _ rfl))).trans rfl))
theorem dk_19 {code : ByteArray} {pc : Nat} (a b : UInt8) (h : DkAt code pc [19, a, b]) : decode code pc = .ok (.ldc_w (a.toNat * 256 + b.toNat), 3) := dk_of ((dk_bind (dk_u1 (h 0 _ rfl))).trans ((dk_bind (dk_u2 (h 1 _ rfl) (h 2 _ rfl))).trans rfl))
theorem dk_20 {code : ByteArray} {pc : Nat} (a b : UInt8) (h : DkAt code pc [20, a, b]) : decode code pc = .ok (.ldc2_w (a.toNat * 256 + b.toNat), 3) := dk_of ((dk_bind (dk_u1 (h 0 _ rfl))).trans ((dk_bind (dk_u2 (h 1 _ rfl) (h 2 _ rfl))).trans rfl))
theorem dk_21 {code : ByteArray} {pc : Nat} (a : UInt8) (h : DkAt code pc [21, a]) : decode code pc = .ok (.iload a.toNat, 2) := dk_of ((dk_bind (dk_u1 (h 0 _ rfl))).trans ((dk_bind (dk_u1 (h 1 _ rfl))).trans rfl))
theorem dk_22 {code : ByteArray} {pc : Nat} (a : UInt8) (h : DkAt code pc [22, a]) : decode code pc = .ok (.lload a.toNat, 2) := dk_of ((dk_bind (dk_u1 (h 0 _ rfl))).trans ((dk_bind (dk_u1 (h 1 _ rfl))).trans rfl))
theorem dk_25 {code : ByteArray} {pc : Nat} (a : UInt8) (h : DkAt code pc [25, a]) : decode code pc = .ok (.aload a.toNat, 2) := dk_of ((dk_bind (dk_u1 (h 0 _ rfl))).trans ((dk_bind (dk_u1 (h 1 _ rfl))).trans rfl))
theorem dk_26 {code : ByteArray} {pc : Nat} (h : DkAt code pc [26]) : decode code pc = .ok (.iload_n 0, 1) := dk_of ((dk_bind (dk_u1 (h 0 _ rfl))).trans rfl)
theorem dk_27 {code : ByteArray} {pc : Nat} (h : DkAt code pc [27]) : decode code pc = .ok (.iload_n 1, 1) := dk_of ((dk_bind (dk_u1 (h 0 _ rfl))).trans rfl)
theorem dk_28 {code : ByteArray} {pc : Nat} (h : DkAt code pc [28]) : decode code pc = .ok (.iload_n 2, 1) := dk_of ((dk_bind (dk_u1 (h 0 _ rfl))).trans rfl)
theorem dk_29 {code : ByteArray} {pc : Nat} (h : DkAt code pc [29]) : decode code pc = .ok (.iload_n 3, 1) := dk_of ((dk_bind (dk_u1 (h 0 _ rfl))).trans rfl)
theorem dk_30 {code : ByteArray} {pc : Nat} (h : DkAt code pc [30]) : decode code pc = .ok (.lload_n 0, 1) := dk_of ((dk_bind (dk_u1 (h 0 _ rfl))).trans rfl)
theorem dk_32 {code : ByteArray} {pc : Nat} (h : DkAt code pc [32]) : decode code pc = .ok (.lload_n 2, 1) := dk_of ((dk_bind (dk_u1 (h 0 _ rfl))).trans rfl)
theorem dk_42 {code : ByteArray} {pc : Nat} (h : DkAt code pc [42]) : decode code pc = .ok (.aload_n 0, 1) := dk_of ((dk_bind (dk_u1 (h 0 _ rfl))).trans rfl)
theorem dk_43 {code : ByteArray} {pc : Nat} (h : DkAt code pc [43]) : decode code pc = .ok (.aload_n 1, 1) := dk_of ((dk_bind (dk_u1 (h 0 _ rfl))).trans rfl)
theorem dk_44 {code : ByteArray} {pc : Nat} (h : DkAt code pc [44]) : decode code pc = .ok (.aload_n 2, 1) := dk_of ((dk_bind (dk_u1 (h 0 _ rfl))).trans rfl)
theorem dk_46 {code : ByteArray} {pc : Nat} (h : DkAt code pc [46]) : decode code pc = .ok (.iaload, 1) := dk_of ((dk_bind (dk_u1 (h 0 _ rfl))).trans rfl)
theorem dk_50 {code : ByteArray} {pc : Nat} (h : DkAt code pc [50]) : decode code pc = .ok (.aaload, 1) := dk_of ((dk_bind (dk_u1 (h 0 _ rfl))).trans rfl)
theorem dk_51 {code : ByteArray} {pc : Nat} (h : DkAt code pc [51]) : decode code pc = .ok (.baload, 1) := dk_of ((dk_bind (dk_u1 (h 0 _ rfl))).trans rfl)
theorem dk_53 {code : ByteArray} {pc : Nat} (h : DkAt code pc [53]) : decode code pc = .ok (.saload, 1) := dk_of ((dk_bind (dk_u1 (h 0 _ rfl))).trans rfl)
theorem dk_54 {code : ByteArray} {pc : Nat} (a : UInt8) (h : DkAt code pc [54, a]) : decode code pc = .ok (.istore a.toNat, 2) := dk_of ((dk_bind (dk_u1 (h 0 _ rfl))).trans ((dk_bind (dk_u1 (h 1 _ rfl))).trans rfl))
theorem dk_55 {code : ByteArray} {pc : Nat} (a : UInt8) (h : DkAt code pc [55, a]) : decode code pc = .ok (.lstore a.toNat, 2) := dk_of ((dk_bind (dk_u1 (h 0 _ rfl))).trans ((dk_bind (dk_u1 (h 1 _ rfl))).trans rfl))
theorem dk_58 {code : ByteArray} {pc : Nat} (a : UInt8) (h : DkAt code pc [58, a]) : decode code pc = .ok (.astore a.toNat, 2) := dk_of ((dk_bind (dk_u1 (h 0 _ rfl))).trans ((dk_bind (dk_u1 (h 1 _ rfl))).trans rfl))
theorem dk_59 {code : ByteArray} {pc : Nat} (h : DkAt code pc [59]) : decode code pc = .ok (.istore_n 0, 1) := dk_of ((dk_bind (dk_u1 (h 0 _ rfl))).trans rfl)
theorem dk_60 {code : ByteArray} {pc : Nat} (h : DkAt code pc [60]) : decode code pc = .ok (.istore_n 1, 1) := dk_of ((dk_bind (dk_u1 (h 0 _ rfl))).trans rfl)
theorem dk_61 {code : ByteArray} {pc : Nat} (h : DkAt code pc [61]) : decode code pc = .ok (.istore_n 2, 1) := dk_of ((dk_bind (dk_u1 (h 0 _ rfl))).trans rfl)
theorem dk_62 {code : ByteArray} {pc : Nat} (h : DkAt code pc [62]) : decode code pc = .ok (.istore_n 3, 1) := dk_of ((dk_bind (dk_u1 (h 0 _ rfl))).trans rfl)
theorem dk_76 {code : ByteArray} {pc : Nat} (h : DkAt code pc [76]) : decode code pc = .ok (.astore_n 1, 1) := dk_of ((dk_bind (dk_u1 (h 0 _ rfl))).trans rfl)
theorem dk_77 {code : ByteArray} {pc : Nat} (h : DkAt code pc [77]) : decode code pc = .ok (.astore_n 2, 1) := dk_of ((dk_bind (dk_u1 (h 0 _ rfl))).trans rfl)
theorem dk_79 {code : ByteArray} {pc : Nat} (h : DkAt code pc [79]) : decode code pc = .ok (.iastore, 1) := dk_of ((dk_bind (dk_u1 (h 0 _ rfl))).trans rfl)
theorem dk_83 {code : ByteArray} {pc : Nat} (h : DkAt code pc [83]) : decode code pc = .ok (.aastore, 1) := dk_of ((dk_bind (dk_u1 (h 0 _ rfl))).trans rfl)
theorem dk_84 {code : ByteArray} {pc : Nat} (h : DkAt code pc [84]) : decode code pc = .ok (.bastore, 1) := dk_of ((dk_bind (dk_u1 (h 0 _ rfl))).trans rfl)
theorem dk_86 {code : ByteArray} {pc : Nat} (h : DkAt code pc [86]) : decode code pc = .ok (.sastore, 1) := dk_of ((dk_bind (dk_u1 (h 0 _ rfl))).trans rfl)
theorem dk_87 {code : ByteArray} {pc : Nat} (h : DkAt code pc [87]) : decode code pc = .ok (.pop, 1) := dk_of ((dk_bind (dk_u1 (h 0 _ rfl))).trans rfl)
theorem dk_89 {code : ByteArray} {pc : Nat} (h : DkAt code pc [89]) : decode code pc = .ok (.dup, 1) := dk_of ((dk_bind (dk_u1 (h 0 _ rfl))).trans rfl)
theorem dk_92 {code : ByteArray} {pc : Nat} (h : DkAt code pc [92]) : decode code pc = .ok (.dup2, 1) := dk_of ((dk_bind (dk_u1 (h 0 _ rfl))).trans rfl)
theorem dk_96 {code : ByteArray} {pc : Nat} (h : DkAt code pc [96]) : decode code pc = .ok (.iadd, 1) := dk_of ((dk_bind (dk_u1 (h 0 _ rfl))).trans rfl)
theorem dk_97 {code : ByteArray} {pc : Nat} (h : DkAt code pc [97]) : decode code pc = .ok (.ladd, 1) := dk_of ((dk_bind (dk_u1 (h 0 _ rfl))).trans rfl)
theorem dk_100 {code : ByteArray} {pc : Nat} (h : DkAt code pc [100]) : decode code pc = .ok (.isub, 1) := dk_of ((dk_bind (dk_u1 (h 0 _ rfl))).trans rfl)
theorem dk_104 {code : ByteArray} {pc : Nat} (h : DkAt code pc [104]) : decode code pc = .ok (.imul, 1) := dk_of ((dk_bind (dk_u1 (h 0 _ rfl))).trans rfl)
theorem dk_105 {code : ByteArray} {pc : Nat} (h : DkAt code pc [105]) : decode code pc = .ok (.lmul, 1) := dk_of ((dk_bind (dk_u1 (h 0 _ rfl))).trans rfl)
theorem dk_108 {code : ByteArray} {pc : Nat} (h : DkAt code pc [108]) : decode code pc = .ok (.idiv, 1) := dk_of ((dk_bind (dk_u1 (h 0 _ rfl))).trans rfl)
theorem dk_109 {code : ByteArray} {pc : Nat} (h : DkAt code pc [109]) : decode code pc = .ok (.ldiv, 1) := dk_of ((dk_bind (dk_u1 (h 0 _ rfl))).trans rfl)
theorem dk_112 {code : ByteArray} {pc : Nat} (h : DkAt code pc [112]) : decode code pc = .ok (.irem, 1) := dk_of ((dk_bind (dk_u1 (h 0 _ rfl))).trans rfl)
theorem dk_113 {code : ByteArray} {pc : Nat} (h : DkAt code pc [113]) : decode code pc = .ok (.lrem, 1) := dk_of ((dk_bind (dk_u1 (h 0 _ rfl))).trans rfl)
theorem dk_120 {code : ByteArray} {pc : Nat} (h : DkAt code pc [120]) : decode code pc = .ok (.ishl, 1) := dk_of ((dk_bind (dk_u1 (h 0 _ rfl))).trans rfl)
theorem dk_122 {code : ByteArray} {pc : Nat} (h : DkAt code pc [122]) : decode code pc = .ok (.ishr, 1) := dk_of ((dk_bind (dk_u1 (h 0 _ rfl))).trans rfl)
theorem dk_124 {code : ByteArray} {pc : Nat} (h : DkAt code pc [124]) : decode code pc = .ok (.iushr, 1) := dk_of ((dk_bind (dk_u1 (h 0 _ rfl))).trans rfl)
theorem dk_126 {code : ByteArray} {pc : Nat} (h : DkAt code pc [126]) : decode code pc = .ok (.iand, 1) := dk_of ((dk_bind (dk_u1 (h 0 _ rfl))).trans rfl)
theorem dk_128 {code : ByteArray} {pc : Nat} (h : DkAt code pc [128]) : decode code pc = .ok (.ior, 1) := dk_of ((dk_bind (dk_u1 (h 0 _ rfl))).trans rfl)
theorem dk_132 {code : ByteArray} {pc : Nat} (a b : UInt8) (h : DkAt code pc [132, a, b]) : decode code pc = .ok (.iinc a.toNat (Reader.signed 8 b.toNat), 3) := dk_of ((dk_bind (dk_u1 (h 0 _ rfl))).trans ((dk_bind (dk_u1 (h 1 _ rfl))).trans ((dk_bind (dk_map (dk_u1 (h 2 _ rfl)))).trans rfl)))
theorem dk_133 {code : ByteArray} {pc : Nat} (h : DkAt code pc [133]) : decode code pc = .ok (.i2l, 1) := dk_of ((dk_bind (dk_u1 (h 0 _ rfl))).trans rfl)
theorem dk_145 {code : ByteArray} {pc : Nat} (h : DkAt code pc [145]) : decode code pc = .ok (.i2b, 1) := dk_of ((dk_bind (dk_u1 (h 0 _ rfl))).trans rfl)
theorem dk_146 {code : ByteArray} {pc : Nat} (h : DkAt code pc [146]) : decode code pc = .ok (.i2c, 1) := dk_of ((dk_bind (dk_u1 (h 0 _ rfl))).trans rfl)
theorem dk_147 {code : ByteArray} {pc : Nat} (h : DkAt code pc [147]) : decode code pc = .ok (.i2s, 1) := dk_of ((dk_bind (dk_u1 (h 0 _ rfl))).trans rfl)
theorem dk_148 {code : ByteArray} {pc : Nat} (h : DkAt code pc [148]) : decode code pc = .ok (.lcmp, 1) := dk_of ((dk_bind (dk_u1 (h 0 _ rfl))).trans rfl)
theorem dk_153 {code : ByteArray} {pc : Nat} (a b : UInt8) (h : DkAt code pc [153, a, b]) : decode code pc = .ok (.ifCond .eq (Reader.signed 16 (a.toNat * 256 + b.toNat)), 3) := dk_of ((dk_bind (dk_u1 (h 0 _ rfl))).trans ((dk_bind (dk_map (dk_u2 (h 1 _ rfl) (h 2 _ rfl)))).trans rfl))
theorem dk_154 {code : ByteArray} {pc : Nat} (a b : UInt8) (h : DkAt code pc [154, a, b]) : decode code pc = .ok (.ifCond .ne (Reader.signed 16 (a.toNat * 256 + b.toNat)), 3) := dk_of ((dk_bind (dk_u1 (h 0 _ rfl))).trans ((dk_bind (dk_map (dk_u2 (h 1 _ rfl) (h 2 _ rfl)))).trans rfl))
theorem dk_155 {code : ByteArray} {pc : Nat} (a b : UInt8) (h : DkAt code pc [155, a, b]) : decode code pc = .ok (.ifCond .lt (Reader.signed 16 (a.toNat * 256 + b.toNat)), 3) := dk_of ((dk_bind (dk_u1 (h 0 _ rfl))).trans ((dk_bind (dk_map (dk_u2 (h 1 _ rfl) (h 2 _ rfl)))).trans rfl))
theorem dk_156 {code : ByteArray} {pc : Nat} (a b : UInt8) (h : DkAt code pc [156, a, b]) : decode code pc = .ok (.ifCond .ge (Reader.signed 16 (a.toNat * 256 + b.toNat)), 3) := dk_of ((dk_bind (dk_u1 (h 0 _ rfl))).trans ((dk_bind (dk_map (dk_u2 (h 1 _ rfl) (h 2 _ rfl)))).trans rfl))
theorem dk_157 {code : ByteArray} {pc : Nat} (a b : UInt8) (h : DkAt code pc [157, a, b]) : decode code pc = .ok (.ifCond .gt (Reader.signed 16 (a.toNat * 256 + b.toNat)), 3) := dk_of ((dk_bind (dk_u1 (h 0 _ rfl))).trans ((dk_bind (dk_map (dk_u2 (h 1 _ rfl) (h 2 _ rfl)))).trans rfl))
theorem dk_158 {code : ByteArray} {pc : Nat} (a b : UInt8) (h : DkAt code pc [158, a, b]) : decode code pc = .ok (.ifCond .le (Reader.signed 16 (a.toNat * 256 + b.toNat)), 3) := dk_of ((dk_bind (dk_u1 (h 0 _ rfl))).trans ((dk_bind (dk_map (dk_u2 (h 1 _ rfl) (h 2 _ rfl)))).trans rfl))
theorem dk_159 {code : ByteArray} {pc : Nat} (a b : UInt8) (h : DkAt code pc [159, a, b]) : decode code pc = .ok (.if_icmp .eq (Reader.signed 16 (a.toNat * 256 + b.toNat)), 3) := dk_of ((dk_bind (dk_u1 (h 0 _ rfl))).trans ((dk_bind (dk_map (dk_u2 (h 1 _ rfl) (h 2 _ rfl)))).trans rfl))
theorem dk_160 {code : ByteArray} {pc : Nat} (a b : UInt8) (h : DkAt code pc [160, a, b]) : decode code pc = .ok (.if_icmp .ne (Reader.signed 16 (a.toNat * 256 + b.toNat)), 3) := dk_of ((dk_bind (dk_u1 (h 0 _ rfl))).trans ((dk_bind (dk_map (dk_u2 (h 1 _ rfl) (h 2 _ rfl)))).trans rfl))
theorem dk_161 {code : ByteArray} {pc : Nat} (a b : UInt8) (h : DkAt code pc [161, a, b]) : decode code pc = .ok (.if_icmp .lt (Reader.signed 16 (a.toNat * 256 + b.toNat)), 3) := dk_of ((dk_bind (dk_u1 (h 0 _ rfl))).trans ((dk_bind (dk_map (dk_u2 (h 1 _ rfl) (h 2 _ rfl)))).trans rfl))
theorem dk_162 {code : ByteArray} {pc : Nat} (a b : UInt8) (h : DkAt code pc [162, a, b]) : decode code pc = .ok (.if_icmp .ge (Reader.signed 16 (a.toNat * 256 + b.toNat)), 3) := dk_of ((dk_bind (dk_u1 (h 0 _ rfl))).trans ((dk_bind (dk_map (dk_u2 (h 1 _ rfl) (h 2 _ rfl)))).trans rfl))
theorem dk_163 {code : ByteArray} {pc : Nat} (a b : UInt8) (h : DkAt code pc [163, a, b]) : decode code pc = .ok (.if_icmp .gt (Reader.signed 16 (a.toNat * 256 + b.toNat)), 3) := dk_of ((dk_bind (dk_u1 (h 0 _ rfl))).trans ((dk_bind (dk_map (dk_u2 (h 1 _ rfl) (h 2 _ rfl)))).trans rfl))
theorem dk_164 {code : ByteArray} {pc : Nat} (a b : UInt8) (h : DkAt code pc [164, a, b]) : decode code pc = .ok (.if_icmp .le (Reader.signed 16 (a.toNat * 256 + b.toNat)), 3) := dk_of ((dk_bind (dk_u1 (h 0 _ rfl))).trans ((dk_bind (dk_map (dk_u2 (h 1 _ rfl) (h 2 _ rfl)))).trans rfl))
theorem dk_167 {code : ByteArray} {pc : Nat} (a b : UInt8) (h : DkAt code pc [167, a, b]) : decode code pc = .ok (.goto (Reader.signed 16 (a.toNat * 256 + b.toNat)), 3) := dk_of ((dk_bind (dk_u1 (h 0 _ rfl))).trans ((dk_bind (dk_map (dk_u2 (h 1 _ rfl) (h 2 _ rfl)))).trans rfl))
theorem dk_172 {code : ByteArray} {pc : Nat} (h : DkAt code pc [172]) : decode code pc = .ok (.ireturn, 1) := dk_of ((dk_bind (dk_u1 (h 0 _ rfl))).trans rfl)
theorem dk_173 {code : ByteArray} {pc : Nat} (h : DkAt code pc [173]) : decode code pc = .ok (.lreturn, 1) := dk_of ((dk_bind (dk_u1 (h 0 _ rfl))).trans rfl)
theorem dk_176 {code : ByteArray} {pc : Nat} (h : DkAt code pc [176]) : decode code pc = .ok (.areturn, 1) := dk_of ((dk_bind (dk_u1 (h 0 _ rfl))).trans rfl)
theorem dk_177 {code : ByteArray} {pc : Nat} (h : DkAt code pc [177]) : decode code pc = .ok (.return_, 1) := dk_of ((dk_bind (dk_u1 (h 0 _ rfl))).trans rfl)
theorem dk_178 {code : ByteArray} {pc : Nat} (a b : UInt8) (h : DkAt code pc [178, a, b]) : decode code pc = .ok (.getstatic (a.toNat * 256 + b.toNat), 3) := dk_of ((dk_bind (dk_u1 (h 0 _ rfl))).trans ((dk_bind (dk_u2 (h 1 _ rfl) (h 2 _ rfl))).trans rfl))
theorem dk_180 {code : ByteArray} {pc : Nat} (a b : UInt8) (h : DkAt code pc [180, a, b]) : decode code pc = .ok (.getfield (a.toNat * 256 + b.toNat), 3) := dk_of ((dk_bind (dk_u1 (h 0 _ rfl))).trans ((dk_bind (dk_u2 (h 1 _ rfl) (h 2 _ rfl))).trans rfl))
theorem dk_181 {code : ByteArray} {pc : Nat} (a b : UInt8) (h : DkAt code pc [181, a, b]) : decode code pc = .ok (.putfield (a.toNat * 256 + b.toNat), 3) := dk_of ((dk_bind (dk_u1 (h 0 _ rfl))).trans ((dk_bind (dk_u2 (h 1 _ rfl) (h 2 _ rfl))).trans rfl))
theorem dk_182 {code : ByteArray} {pc : Nat} (a b : UInt8) (h : DkAt code pc [182, a, b]) : decode code pc = .ok (.invokevirtual (a.toNat * 256 + b.toNat), 3) := dk_of ((dk_bind (dk_u1 (h 0 _ rfl))).trans ((dk_bind (dk_u2 (h 1 _ rfl) (h 2 _ rfl))).trans rfl))
theorem dk_183 {code : ByteArray} {pc : Nat} (a b : UInt8) (h : DkAt code pc [183, a, b]) : decode code pc = .ok (.invokespecial (a.toNat * 256 + b.toNat), 3) := dk_of ((dk_bind (dk_u1 (h 0 _ rfl))).trans ((dk_bind (dk_u2 (h 1 _ rfl) (h 2 _ rfl))).trans rfl))
theorem dk_184 {code : ByteArray} {pc : Nat} (a b : UInt8) (h : DkAt code pc [184, a, b]) : decode code pc = .ok (.invokestatic (a.toNat * 256 + b.toNat), 3) := dk_of ((dk_bind (dk_u1 (h 0 _ rfl))).trans ((dk_bind (dk_u2 (h 1 _ rfl) (h 2 _ rfl))).trans rfl))
theorem dk_187 {code : ByteArray} {pc : Nat} (a b : UInt8) (h : DkAt code pc [187, a, b]) : decode code pc = .ok (.new (a.toNat * 256 + b.toNat), 3) := dk_of ((dk_bind (dk_u1 (h 0 _ rfl))).trans ((dk_bind (dk_u2 (h 1 _ rfl) (h 2 _ rfl))).trans rfl))
theorem dk_188_4 {code : ByteArray} {pc : Nat} (h : DkAt code pc [188, 4]) : decode code pc = .ok (.newarray .boolean, 2) := dk_of ((dk_bind (dk_u1 (h 0 _ rfl))).trans ((dk_bind (dk_u1 (h 1 _ rfl))).trans rfl))
theorem dk_188_8 {code : ByteArray} {pc : Nat} (h : DkAt code pc [188, 8]) : decode code pc = .ok (.newarray .byte, 2) := dk_of ((dk_bind (dk_u1 (h 0 _ rfl))).trans ((dk_bind (dk_u1 (h 1 _ rfl))).trans rfl))
theorem dk_188_9 {code : ByteArray} {pc : Nat} (h : DkAt code pc [188, 9]) : decode code pc = .ok (.newarray .short, 2) := dk_of ((dk_bind (dk_u1 (h 0 _ rfl))).trans ((dk_bind (dk_u1 (h 1 _ rfl))).trans rfl))
theorem dk_188_10 {code : ByteArray} {pc : Nat} (h : DkAt code pc [188, 10]) : decode code pc = .ok (.newarray .int, 2) := dk_of ((dk_bind (dk_u1 (h 0 _ rfl))).trans ((dk_bind (dk_u1 (h 1 _ rfl))).trans rfl))
theorem dk_189 {code : ByteArray} {pc : Nat} (a b : UInt8) (h : DkAt code pc [189, a, b]) : decode code pc = .ok (.anewarray (a.toNat * 256 + b.toNat), 3) := dk_of ((dk_bind (dk_u1 (h 0 _ rfl))).trans ((dk_bind (dk_u2 (h 1 _ rfl) (h 2 _ rfl))).trans rfl))
theorem dk_190 {code : ByteArray} {pc : Nat} (h : DkAt code pc [190]) : decode code pc = .ok (.arraylength, 1) := dk_of ((dk_bind (dk_u1 (h 0 _ rfl))).trans rfl)
theorem dk_191 {code : ByteArray} {pc : Nat} (h : DkAt code pc [191]) : decode code pc = .ok (.athrow, 1) := dk_of ((dk_bind (dk_u1 (h 0 _ rfl))).trans rfl)
theorem dk_192 {code : ByteArray} {pc : Nat} (a b : UInt8) (h : DkAt code pc [192, a, b]) : decode code pc = .ok (.checkcast (a.toNat * 256 + b.toNat), 3) := dk_of ((dk_bind (dk_u1 (h 0 _ rfl))).trans ((dk_bind (dk_u2 (h 1 _ rfl) (h 2 _ rfl))).trans rfl))
theorem dk_193 {code : ByteArray} {pc : Nat} (a b : UInt8) (h : DkAt code pc [193, a, b]) : decode code pc = .ok (.instanceof (a.toNat * 256 + b.toNat), 3) := dk_of ((dk_bind (dk_u1 (h 0 _ rfl))).trans ((dk_bind (dk_u2 (h 1 _ rfl) (h 2 _ rfl))).trans rfl))

/-! java/lang/Throwable -/
set_option maxRecDepth 100000
def RJ0 : String := "java/lang/Throwable"
def TJ0 : u_T := fun k => match k with
  | 0 => ("java/lang/Throwable", "cause", "Ljava/lang/Throwable;", false)
  | 1 => ("java/lang/Throwable", "stackTrace", "[Ljava/lang/StackTraceElement;", false)
  | 2 => ("java/lang/Throwable", "suppressedExceptions", "Ljava/util/List;", false)
  | 3 => ("java/lang/Throwable", "detailMessage", "Ljava/lang/String;", false)
  | _ => ("java/lang/Throwable", "backtrace", "Ljava/lang/Object;", false)
def tyJ0 : Nat → FieldType := fun k => match k with
  | 0 => .object "java/lang/Throwable"
  | 1 => .array (.object "java/lang/StackTraceElement")
  | 2 => .object "java/util/List"
  | 3 => .object "java/lang/String"
  | _ => .object "java/lang/Object"
abbrev wsJ00 : List Cond := u_ws RJ0 TJ0 5
theorem nmJ0 : ∀ a, a < 5 → ∀ b, b < 5 → a ≠ b → (TJ0 a).2.1 ≠ (TJ0 b).2.1 := by decide +kernel
theorem tyJ0_ok : ∀ k, k < 5 → parseFieldDescriptor (TJ0 k).2.2.1 = some (tyJ0 k) := by decide +kernel
abbrev cJ0_init : ByteArray := prog_25_method_1_code
def yJ0_init : MethodName := ⟨RJ0, "<init>", "()V"⟩
def dkwJ0_init_1 : List UInt8 := [182, 0, 27, 87, 177]
abbrev dktJ0_init_1 : List UInt8 := dkwJ0_init_1 ++ []
def dkwJ0_init_0 : List UInt8 := [42, 183, 0, 1, 42, 42, 181, 0, 7, 42, 178, 0, 13, 181, 0, 17, 42, 178, 0, 20, 181, 0, 24, 42]
abbrev dktJ0_init_0 : List UInt8 := dkwJ0_init_0 ++ dktJ0_init_1
theorem dksJ0_init_0 : cJ0_init.data.toList.drop 0 = dktJ0_init_0 := by decide +kernel
theorem dksJ0_init_1 : cJ0_init.data.toList.drop 24 = dktJ0_init_1 := dk_seg dksJ0_init_0 24 rfl rfl
theorem dJ0_init_0 : decode cJ0_init 0 = .ok (.aload_n 0, 1) := dk_42 (dk_at dksJ0_init_0 0 rfl rfl)
theorem dJ0_init_1 : decode cJ0_init 1 = .ok (.invokespecial 1, 3) := dk_183 0 1 (dk_at dksJ0_init_0 1 rfl rfl)
theorem dJ0_init_4 : decode cJ0_init 4 = .ok (.aload_n 0, 1) := dk_42 (dk_at dksJ0_init_0 4 rfl rfl)
theorem dJ0_init_5 : decode cJ0_init 5 = .ok (.aload_n 0, 1) := dk_42 (dk_at dksJ0_init_0 5 rfl rfl)
theorem dJ0_init_6 : decode cJ0_init 6 = .ok (.putfield 7, 3) := dk_181 0 7 (dk_at dksJ0_init_0 6 rfl rfl)
theorem dJ0_init_9 : decode cJ0_init 9 = .ok (.aload_n 0, 1) := dk_42 (dk_at dksJ0_init_0 9 rfl rfl)
theorem dJ0_init_10 : decode cJ0_init 10 = .ok (.getstatic 13, 3) := dk_178 0 13 (dk_at dksJ0_init_0 10 rfl rfl)
theorem dJ0_init_13 : decode cJ0_init 13 = .ok (.putfield 17, 3) := dk_181 0 17 (dk_at dksJ0_init_0 13 rfl rfl)
theorem dJ0_init_16 : decode cJ0_init 16 = .ok (.aload_n 0, 1) := dk_42 (dk_at dksJ0_init_0 16 rfl rfl)
theorem dJ0_init_17 : decode cJ0_init 17 = .ok (.getstatic 20, 3) := dk_178 0 20 (dk_at dksJ0_init_0 17 rfl rfl)
theorem dJ0_init_20 : decode cJ0_init 20 = .ok (.putfield 24, 3) := dk_181 0 24 (dk_at dksJ0_init_0 20 rfl rfl)
theorem dJ0_init_23 : decode cJ0_init 23 = .ok (.aload_n 0, 1) := dk_42 (dk_at dksJ0_init_0 23 rfl rfl)
theorem dJ0_init_24 : decode cJ0_init 24 = .ok (.invokevirtual 27, 3) := dk_182 0 27 (dk_at dksJ0_init_1 0 rfl rfl)
theorem dJ0_init_27 : decode cJ0_init 27 = .ok (.pop, 1) := dk_87 (dk_at dksJ0_init_1 3 rfl rfl)
theorem dJ0_init_28 : decode cJ0_init 28 = .ok (.return_, 1) := dk_177 (dk_at dksJ0_init_1 4 rfl rfl)
abbrev cJ0_init_2 : ByteArray := prog_25_method_5_code
def yJ0_init_2 : MethodName := ⟨RJ0, "<init>", "(Ljava/lang/String;Ljava/lang/Throwable;ZZ)V"⟩
def dkwJ0_init_2_2 : List UInt8 := [44, 181, 0, 7, 29, 154, 0, 8, 42, 1, 181, 0, 24, 177]
abbrev dktJ0_init_2_2 : List UInt8 := dkwJ0_init_2_2 ++ []
def dkwJ0_init_2_1 : List UInt8 := [21, 4, 153, 0, 11, 42, 182, 0, 27, 87, 167, 0, 8, 42, 1, 181, 0, 17, 42, 43, 181, 0, 31, 42]
abbrev dktJ0_init_2_1 : List UInt8 := dkwJ0_init_2_1 ++ dktJ0_init_2_2
def dkwJ0_init_2_0 : List UInt8 := [42, 183, 0, 1, 42, 42, 181, 0, 7, 42, 178, 0, 13, 181, 0, 17, 42, 178, 0, 20, 181, 0, 24]
abbrev dktJ0_init_2_0 : List UInt8 := dkwJ0_init_2_0 ++ dktJ0_init_2_1
theorem dksJ0_init_2_0 : cJ0_init_2.data.toList.drop 0 = dktJ0_init_2_0 := by decide +kernel
theorem dksJ0_init_2_1 : cJ0_init_2.data.toList.drop 23 = dktJ0_init_2_1 := dk_seg dksJ0_init_2_0 23 rfl rfl
theorem dksJ0_init_2_2 : cJ0_init_2.data.toList.drop 47 = dktJ0_init_2_2 := dk_seg dksJ0_init_2_1 24 rfl rfl
theorem dJ0_init_2_0 : decode cJ0_init_2 0 = .ok (.aload_n 0, 1) := dk_42 (dk_at dksJ0_init_2_0 0 rfl rfl)
theorem dJ0_init_2_1 : decode cJ0_init_2 1 = .ok (.invokespecial 1, 3) := dk_183 0 1 (dk_at dksJ0_init_2_0 1 rfl rfl)
theorem dJ0_init_2_4 : decode cJ0_init_2 4 = .ok (.aload_n 0, 1) := dk_42 (dk_at dksJ0_init_2_0 4 rfl rfl)
theorem dJ0_init_2_5 : decode cJ0_init_2 5 = .ok (.aload_n 0, 1) := dk_42 (dk_at dksJ0_init_2_0 5 rfl rfl)
theorem dJ0_init_2_6 : decode cJ0_init_2 6 = .ok (.putfield 7, 3) := dk_181 0 7 (dk_at dksJ0_init_2_0 6 rfl rfl)
theorem dJ0_init_2_9 : decode cJ0_init_2 9 = .ok (.aload_n 0, 1) := dk_42 (dk_at dksJ0_init_2_0 9 rfl rfl)
theorem dJ0_init_2_10 : decode cJ0_init_2 10 = .ok (.getstatic 13, 3) := dk_178 0 13 (dk_at dksJ0_init_2_0 10 rfl rfl)
theorem dJ0_init_2_13 : decode cJ0_init_2 13 = .ok (.putfield 17, 3) := dk_181 0 17 (dk_at dksJ0_init_2_0 13 rfl rfl)
theorem dJ0_init_2_16 : decode cJ0_init_2 16 = .ok (.aload_n 0, 1) := dk_42 (dk_at dksJ0_init_2_0 16 rfl rfl)
theorem dJ0_init_2_17 : decode cJ0_init_2 17 = .ok (.getstatic 20, 3) := dk_178 0 20 (dk_at dksJ0_init_2_0 17 rfl rfl)
theorem dJ0_init_2_20 : decode cJ0_init_2 20 = .ok (.putfield 24, 3) := dk_181 0 24 (dk_at dksJ0_init_2_0 20 rfl rfl)
theorem dJ0_init_2_23 : decode cJ0_init_2 23 = .ok (.iload 4, 2) := dk_21 4 (dk_at dksJ0_init_2_1 0 rfl rfl)
theorem dJ0_init_2_25 : decode cJ0_init_2 25 = .ok (.ifCond .eq 11, 3) := dk_153 0 11 (dk_at dksJ0_init_2_1 2 rfl rfl)
theorem dJ0_init_2_28 : decode cJ0_init_2 28 = .ok (.aload_n 0, 1) := dk_42 (dk_at dksJ0_init_2_1 5 rfl rfl)
theorem dJ0_init_2_29 : decode cJ0_init_2 29 = .ok (.invokevirtual 27, 3) := dk_182 0 27 (dk_at dksJ0_init_2_1 6 rfl rfl)
theorem dJ0_init_2_32 : decode cJ0_init_2 32 = .ok (.pop, 1) := dk_87 (dk_at dksJ0_init_2_1 9 rfl rfl)
theorem dJ0_init_2_33 : decode cJ0_init_2 33 = .ok (.goto 8, 3) := dk_167 0 8 (dk_at dksJ0_init_2_1 10 rfl rfl)
theorem dJ0_init_2_36 : decode cJ0_init_2 36 = .ok (.aload_n 0, 1) := dk_42 (dk_at dksJ0_init_2_1 13 rfl rfl)
theorem dJ0_init_2_37 : decode cJ0_init_2 37 = .ok (.aconst_null, 1) := dk_1 (dk_at dksJ0_init_2_1 14 rfl rfl)
theorem dJ0_init_2_38 : decode cJ0_init_2 38 = .ok (.putfield 17, 3) := dk_181 0 17 (dk_at dksJ0_init_2_1 15 rfl rfl)
theorem dJ0_init_2_41 : decode cJ0_init_2 41 = .ok (.aload_n 0, 1) := dk_42 (dk_at dksJ0_init_2_1 18 rfl rfl)
theorem dJ0_init_2_42 : decode cJ0_init_2 42 = .ok (.aload_n 1, 1) := dk_43 (dk_at dksJ0_init_2_1 19 rfl rfl)
theorem dJ0_init_2_43 : decode cJ0_init_2 43 = .ok (.putfield 31, 3) := dk_181 0 31 (dk_at dksJ0_init_2_1 20 rfl rfl)
theorem dJ0_init_2_46 : decode cJ0_init_2 46 = .ok (.aload_n 0, 1) := dk_42 (dk_at dksJ0_init_2_1 23 rfl rfl)
theorem dJ0_init_2_47 : decode cJ0_init_2 47 = .ok (.aload_n 2, 1) := dk_44 (dk_at dksJ0_init_2_2 0 rfl rfl)
theorem dJ0_init_2_48 : decode cJ0_init_2 48 = .ok (.putfield 7, 3) := dk_181 0 7 (dk_at dksJ0_init_2_2 1 rfl rfl)
theorem dJ0_init_2_51 : decode cJ0_init_2 51 = .ok (.iload_n 3, 1) := dk_29 (dk_at dksJ0_init_2_2 4 rfl rfl)
theorem dJ0_init_2_52 : decode cJ0_init_2 52 = .ok (.ifCond .ne 8, 3) := dk_154 0 8 (dk_at dksJ0_init_2_2 5 rfl rfl)
theorem dJ0_init_2_55 : decode cJ0_init_2 55 = .ok (.aload_n 0, 1) := dk_42 (dk_at dksJ0_init_2_2 8 rfl rfl)
theorem dJ0_init_2_56 : decode cJ0_init_2 56 = .ok (.aconst_null, 1) := dk_1 (dk_at dksJ0_init_2_2 9 rfl rfl)
theorem dJ0_init_2_57 : decode cJ0_init_2 57 = .ok (.putfield 24, 3) := dk_181 0 24 (dk_at dksJ0_init_2_2 10 rfl rfl)
theorem dJ0_init_2_60 : decode cJ0_init_2 60 = .ok (.return_, 1) := dk_177 (dk_at dksJ0_init_2_2 13 rfl rfl)
abbrev cJ0_init_3 : ByteArray := prog_25_method_2_code
def yJ0_init_3 : MethodName := ⟨RJ0, "<init>", "(Ljava/lang/String;)V"⟩
def dkwJ0_init_3_1 : List UInt8 := [182, 0, 27, 87, 42, 43, 181, 0, 31, 177]
abbrev dktJ0_init_3_1 : List UInt8 := dkwJ0_init_3_1 ++ []
def dkwJ0_init_3_0 : List UInt8 := [42, 183, 0, 1, 42, 42, 181, 0, 7, 42, 178, 0, 13, 181, 0, 17, 42, 178, 0, 20, 181, 0, 24, 42]
abbrev dktJ0_init_3_0 : List UInt8 := dkwJ0_init_3_0 ++ dktJ0_init_3_1
theorem dksJ0_init_3_0 : cJ0_init_3.data.toList.drop 0 = dktJ0_init_3_0 := by decide +kernel
theorem dksJ0_init_3_1 : cJ0_init_3.data.toList.drop 24 = dktJ0_init_3_1 := dk_seg dksJ0_init_3_0 24 rfl rfl
theorem dJ0_init_3_0 : decode cJ0_init_3 0 = .ok (.aload_n 0, 1) := dk_42 (dk_at dksJ0_init_3_0 0 rfl rfl)
theorem dJ0_init_3_1 : decode cJ0_init_3 1 = .ok (.invokespecial 1, 3) := dk_183 0 1 (dk_at dksJ0_init_3_0 1 rfl rfl)
theorem dJ0_init_3_4 : decode cJ0_init_3 4 = .ok (.aload_n 0, 1) := dk_42 (dk_at dksJ0_init_3_0 4 rfl rfl)
theorem dJ0_init_3_5 : decode cJ0_init_3 5 = .ok (.aload_n 0, 1) := dk_42 (dk_at dksJ0_init_3_0 5 rfl rfl)
theorem dJ0_init_3_6 : decode cJ0_init_3 6 = .ok (.putfield 7, 3) := dk_181 0 7 (dk_at dksJ0_init_3_0 6 rfl rfl)
theorem dJ0_init_3_9 : decode cJ0_init_3 9 = .ok (.aload_n 0, 1) := dk_42 (dk_at dksJ0_init_3_0 9 rfl rfl)
theorem dJ0_init_3_10 : decode cJ0_init_3 10 = .ok (.getstatic 13, 3) := dk_178 0 13 (dk_at dksJ0_init_3_0 10 rfl rfl)
theorem dJ0_init_3_13 : decode cJ0_init_3 13 = .ok (.putfield 17, 3) := dk_181 0 17 (dk_at dksJ0_init_3_0 13 rfl rfl)
theorem dJ0_init_3_16 : decode cJ0_init_3 16 = .ok (.aload_n 0, 1) := dk_42 (dk_at dksJ0_init_3_0 16 rfl rfl)
theorem dJ0_init_3_17 : decode cJ0_init_3 17 = .ok (.getstatic 20, 3) := dk_178 0 20 (dk_at dksJ0_init_3_0 17 rfl rfl)
theorem dJ0_init_3_20 : decode cJ0_init_3 20 = .ok (.putfield 24, 3) := dk_181 0 24 (dk_at dksJ0_init_3_0 20 rfl rfl)
theorem dJ0_init_3_23 : decode cJ0_init_3 23 = .ok (.aload_n 0, 1) := dk_42 (dk_at dksJ0_init_3_0 23 rfl rfl)
theorem dJ0_init_3_24 : decode cJ0_init_3 24 = .ok (.invokevirtual 27, 3) := dk_182 0 27 (dk_at dksJ0_init_3_1 0 rfl rfl)
theorem dJ0_init_3_27 : decode cJ0_init_3 27 = .ok (.pop, 1) := dk_87 (dk_at dksJ0_init_3_1 3 rfl rfl)
theorem dJ0_init_3_28 : decode cJ0_init_3 28 = .ok (.aload_n 0, 1) := dk_42 (dk_at dksJ0_init_3_1 4 rfl rfl)
theorem dJ0_init_3_29 : decode cJ0_init_3 29 = .ok (.aload_n 1, 1) := dk_43 (dk_at dksJ0_init_3_1 5 rfl rfl)
theorem dJ0_init_3_30 : decode cJ0_init_3 30 = .ok (.putfield 31, 3) := dk_181 0 31 (dk_at dksJ0_init_3_1 6 rfl rfl)
theorem dJ0_init_3_33 : decode cJ0_init_3 33 = .ok (.return_, 1) := dk_177 (dk_at dksJ0_init_3_1 9 rfl rfl)
theorem q73 : (Jvm.Cond.initialized "java/lang/Throwable") ∈ lw_all := lw_g (lw_at lw_m1 10 rfl) rfl
theorem q291 : (Jvm.Cond.declares ({ cls := "java/lang/Throwable", name := "<init>", desc := "()V" } : Jvm.MethodName)) ∈ lw_tbl := lw_at lw_m1 228 rfl
theorem q292 : (Jvm.Cond.declares ({ cls := "java/lang/Throwable", name := "<init>", desc := "(Ljava/lang/String;)V" } : Jvm.MethodName)) ∈ lw_tbl := lw_at lw_m1 229 rfl
theorem q296 : (Jvm.Cond.lays "java/lang/Throwable" "java/lang/Throwable" "cause" "Ljava/lang/Throwable;") ∈ lw_all := lw_g (lw_at lw_m1 233 rfl) rfl
theorem q298 : (Jvm.Cond.lays "java/lang/Throwable" "java/lang/Throwable" "stackTrace" "[Ljava/lang/StackTraceElement;") ∈ lw_all := lw_g (lw_at lw_m1 235 rfl) rfl
theorem q300 : (Jvm.Cond.lays "java/lang/Throwable" "java/lang/Throwable" "suppressedExceptions" "Ljava/util/List;") ∈ lw_all := lw_g (lw_at lw_m1 237 rfl) rfl
theorem q302 : (Jvm.Cond.lays "java/lang/Throwable" "java/lang/Throwable" "detailMessage" "Ljava/lang/String;") ∈ lw_all := lw_g (lw_at lw_m1 239 rfl) rfl
theorem q304 : (Jvm.Cond.lays "java/lang/Throwable" "java/lang/Throwable" "backtrace" "Ljava/lang/Object;") ∈ lw_all := lw_g (lw_at lw_m2 1 rfl) rfl
theorem q305 : (Jvm.Cond.fieldLink "java/lang/Throwable" (198 : Nat) "java/lang/Throwable" "backtrace" "Ljava/lang/Object;") ∈ lw_all := lw_g (lw_at lw_m2 2 rfl) rfl
theorem q306 : (Jvm.Cond.superclass "java/lang/Throwable" "java/lang/Object") ∈ lw_all := lw_g (lw_at lw_m2 3 rfl) rfl
theorem q307 : (Jvm.Cond.instanceMethod ({ cls := "java/lang/Throwable", name := "<init>", desc := "()V" } : Jvm.MethodName)) ∈ lw_all := lw_g (lw_at lw_m2 4 rfl) rfl
theorem q308 : (Jvm.Cond.code ({ cls := "java/lang/Throwable", name := "<init>", desc := "()V" } : Jvm.MethodName) prog_25_method_1_code (1 : Nat) (Option.none : Option Jvm.ClassFile.FieldType)) ∈ lw_all := lw_g (lw_at lw_m2 5 rfl) rfl
theorem q309 : (Jvm.Cond.methodLink "java/lang/Throwable" (1 : Nat) ({ cls := "java/lang/Object", name := "<init>", desc := "()V" } : Jvm.MethodName)) ∈ lw_all := lw_g (lw_at lw_m2 6 rfl) rfl
theorem q310 : (Jvm.Cond.fieldLink "java/lang/Throwable" (13 : Nat) "java/lang/Throwable" "UNASSIGNED_STACK" "[Ljava/lang/StackTraceElement;") ∈ lw_all := lw_g (lw_at lw_m2 7 rfl) rfl
theorem q311 : (Jvm.Cond.laysStatic "java/lang/Throwable" "UNASSIGNED_STACK" "[Ljava/lang/StackTraceElement;") ∈ lw_tbl := lw_at lw_m2 8 rfl
theorem q312 : (Jvm.Cond.fieldLink "java/lang/Throwable" (20 : Nat) "java/lang/Throwable" "SUPPRESSED_SENTINEL" "Ljava/util/List;") ∈ lw_all := lw_g (lw_at lw_m2 9 rfl) rfl
theorem q313 : (Jvm.Cond.laysStatic "java/lang/Throwable" "SUPPRESSED_SENTINEL" "Ljava/util/List;") ∈ lw_tbl := lw_at lw_m2 10 rfl
theorem q314 : (Jvm.Cond.methodLink "java/lang/Throwable" (27 : Nat) ({ cls := "java/lang/Throwable", name := "fillInStackTrace", desc := "()Ljava/lang/Throwable;" } : Jvm.MethodName)) ∈ lw_all := lw_g (lw_at lw_m2 11 rfl) rfl
theorem q315 : (Jvm.Cond.instanceMethod ({ cls := "java/lang/Throwable", name := "fillInStackTrace", desc := "()Ljava/lang/Throwable;" } : Jvm.MethodName)) ∈ lw_all := lw_g (lw_at lw_m2 12 rfl) rfl
theorem q316 : (Jvm.Cond.sameMethod "java/lang/Throwable" "java/lang/Throwable" "fillInStackTrace" "()Ljava/lang/Throwable;") ∈ lw_all := lw_g (lw_at lw_m2 13 rfl) rfl
theorem q330 : (Jvm.Cond.declares ({ cls := "java/lang/Throwable", name := "fillInStackTrace", desc := "()Ljava/lang/Throwable;" } : Jvm.MethodName)) ∈ lw_tbl := lw_at lw_m2 27 rfl
theorem q334 : (Jvm.Cond.codeSync ({ cls := "java/lang/Throwable", name := "fillInStackTrace", desc := "()Ljava/lang/Throwable;" } : Jvm.MethodName) prog_25_method_18_code (1 : Nat) (Option.some (Jvm.ClassFile.FieldType.object "java/lang/Throwable"))) ∈ lw_all := lw_g (lw_at lw_m2 31 rfl) rfl
theorem q335 : (Jvm.Cond.methodLink "java/lang/Throwable" (202 : Nat) ({ cls := "java/lang/Throwable", name := "fillInStackTrace", desc := "(I)Ljava/lang/Throwable;" } : Jvm.MethodName)) ∈ lw_all := lw_g (lw_at lw_m2 32 rfl) rfl
theorem q336 : (Jvm.Cond.privateMethod ({ cls := "java/lang/Throwable", name := "fillInStackTrace", desc := "(I)Ljava/lang/Throwable;" } : Jvm.MethodName)) ∈ lw_tbl := lw_at lw_m2 33 rfl
theorem q337 : (Jvm.Cond.instanceMethod ({ cls := "java/lang/Throwable", name := "fillInStackTrace", desc := "(I)Ljava/lang/Throwable;" } : Jvm.MethodName)) ∈ lw_all := lw_g (lw_at lw_m2 34 rfl) rfl
theorem q338 : (Jvm.Cond.instantiable "java/lang/Throwable" (6 : Nat)) ∈ lw_all := lw_g (lw_at lw_m2 35 rfl) rfl
theorem q339 : (Jvm.Cond.native ({ cls := "java/lang/Throwable", name := "fillInStackTrace", desc := "(I)Ljava/lang/Throwable;" } : Jvm.MethodName)) ∈ lw_all := lw_g (lw_at lw_m2 36 rfl) rfl
theorem q347 : (Jvm.Cond.instanceMethod ({ cls := "java/lang/Throwable", name := "<init>", desc := "(Ljava/lang/String;Ljava/lang/Throwable;ZZ)V" } : Jvm.MethodName)) ∈ lw_all := lw_g (lw_at lw_m2 44 rfl) rfl
theorem q348 : (Jvm.Cond.code ({ cls := "java/lang/Throwable", name := "<init>", desc := "(Ljava/lang/String;Ljava/lang/Throwable;ZZ)V" } : Jvm.MethodName) prog_25_method_5_code (5 : Nat) (Option.none : Option Jvm.ClassFile.FieldType)) ∈ lw_all := lw_g (lw_at lw_m2 45 rfl) rfl
theorem q353 : (Jvm.Cond.fieldLink "java/lang/Throwable" (198 : Nat) "java/lang/Throwable" "backtrace" "Ljava/lang/Object;") ∈ lw_all := lw_g (lw_at lw_m2 50 rfl) rfl
theorem q354 : (Jvm.Cond.fieldLink "java/lang/Throwable" (31 : Nat) "java/lang/Throwable" "detailMessage" "Ljava/lang/String;") ∈ lw_all := lw_g (lw_at lw_m2 51 rfl) rfl
theorem q355 : (Jvm.Cond.fieldLink "java/lang/Throwable" (7 : Nat) "java/lang/Throwable" "cause" "Ljava/lang/Throwable;") ∈ lw_all := lw_g (lw_at lw_m2 52 rfl) rfl
theorem q356 : (Jvm.Cond.fieldLink "java/lang/Throwable" (17 : Nat) "java/lang/Throwable" "stackTrace" "[Ljava/lang/StackTraceElement;") ∈ lw_all := lw_g (lw_at lw_m2 53 rfl) rfl
theorem q357 : (Jvm.Cond.fieldLink "java/lang/Throwable" (24 : Nat) "java/lang/Throwable" "suppressedExceptions" "Ljava/util/List;") ∈ lw_all := lw_g (lw_at lw_m2 54 rfl) rfl
theorem q362 : (Jvm.Cond.soleField "java/lang/Throwable" "backtrace") ∈ lw_all := lw_g (lw_at lw_m2 59 rfl) rfl
theorem q363 : (Jvm.Cond.soleField "java/lang/Throwable" "detailMessage") ∈ lw_all := lw_g (lw_at lw_m2 60 rfl) rfl
theorem q364 : (Jvm.Cond.soleField "java/lang/Throwable" "cause") ∈ lw_all := lw_g (lw_at lw_m2 61 rfl) rfl
theorem q365 : (Jvm.Cond.soleField "java/lang/Throwable" "stackTrace") ∈ lw_all := lw_g (lw_at lw_m2 62 rfl) rfl
theorem q367 : (Jvm.Cond.soleField "java/lang/Throwable" "depth") ∈ lw_all := lw_g (lw_at lw_m2 64 rfl) rfl
theorem q368 : (Jvm.Cond.soleField "java/lang/Throwable" "suppressedExceptions") ∈ lw_all := lw_g (lw_at lw_m2 65 rfl) rfl
theorem q823 : (Jvm.Cond.instanceMethod ({ cls := "java/lang/Throwable", name := "<init>", desc := "(Ljava/lang/String;)V" } : Jvm.MethodName)) ∈ lw_all := lw_g (lw_at lw_m4 40 rfl) rfl
theorem q824 : (Jvm.Cond.code ({ cls := "java/lang/Throwable", name := "<init>", desc := "(Ljava/lang/String;)V" } : Jvm.MethodName) prog_25_method_2_code (2 : Nat) (Option.none : Option Jvm.ClassFile.FieldType)) ∈ lw_all := lw_g (lw_at lw_m4 41 rfl) rfl
theorem q1319 : (Jvm.Cond.sameMethod "java/lang/Throwable" "java/lang/Throwable" "fillInStackTrace" "(I)Ljava/lang/Throwable;") ∈ lw_all := lw_g (lw_at lw_m6 56 rfl) rfl
theorem in_J0 : ∀ w ∈ wsJ00, w ∈ lw_all := lw_in wsJ00 [296, 298, 300, 302, 304] (by decide +kernel) (by decide +kernel)

/-! java/lang/Exception -/
set_option maxRecDepth 100000
def RJ1 : String := "java/lang/Exception"
abbrev cJ1_init : ByteArray := prog_14_method_5_code
def yJ1_init : MethodName := ⟨RJ1, "<init>", "(Ljava/lang/String;Ljava/lang/Throwable;ZZ)V"⟩
def dkwJ1_init_0 : List UInt8 := [42, 43, 44, 29, 21, 4, 183, 0, 16, 177]
abbrev dktJ1_init_0 : List UInt8 := dkwJ1_init_0 ++ []
theorem dksJ1_init_0 : cJ1_init.data.toList.drop 0 = dktJ1_init_0 := by decide +kernel
theorem dJ1_init_0 : decode cJ1_init 0 = .ok (.aload_n 0, 1) := dk_42 (dk_at dksJ1_init_0 0 rfl rfl)
theorem dJ1_init_1 : decode cJ1_init 1 = .ok (.aload_n 1, 1) := dk_43 (dk_at dksJ1_init_0 1 rfl rfl)
theorem dJ1_init_2 : decode cJ1_init 2 = .ok (.aload_n 2, 1) := dk_44 (dk_at dksJ1_init_0 2 rfl rfl)
theorem dJ1_init_3 : decode cJ1_init 3 = .ok (.iload_n 3, 1) := dk_29 (dk_at dksJ1_init_0 3 rfl rfl)
theorem dJ1_init_4 : decode cJ1_init 4 = .ok (.iload 4, 2) := dk_21 4 (dk_at dksJ1_init_0 4 rfl rfl)
theorem dJ1_init_6 : decode cJ1_init 6 = .ok (.invokespecial 16, 3) := dk_183 0 16 (dk_at dksJ1_init_0 6 rfl rfl)
theorem dJ1_init_9 : decode cJ1_init 9 = .ok (.return_, 1) := dk_177 (dk_at dksJ1_init_0 9 rfl rfl)
abbrev cJ1_init_2 : ByteArray := prog_14_method_2_code
def yJ1_init_2 : MethodName := ⟨RJ1, "<init>", "(Ljava/lang/String;)V"⟩
def dkwJ1_init_2_0 : List UInt8 := [42, 43, 183, 0, 7, 177]
abbrev dktJ1_init_2_0 : List UInt8 := dkwJ1_init_2_0 ++ []
theorem dksJ1_init_2_0 : cJ1_init_2.data.toList.drop 0 = dktJ1_init_2_0 := by decide +kernel
theorem dJ1_init_2_0 : decode cJ1_init_2 0 = .ok (.aload_n 0, 1) := dk_42 (dk_at dksJ1_init_2_0 0 rfl rfl)
theorem dJ1_init_2_1 : decode cJ1_init_2 1 = .ok (.aload_n 1, 1) := dk_43 (dk_at dksJ1_init_2_0 1 rfl rfl)
theorem dJ1_init_2_2 : decode cJ1_init_2 2 = .ok (.invokespecial 7, 3) := dk_183 0 7 (dk_at dksJ1_init_2_0 2 rfl rfl)
theorem dJ1_init_2_5 : decode cJ1_init_2 5 = .ok (.return_, 1) := dk_177 (dk_at dksJ1_init_2_0 5 rfl rfl)
abbrev cJ1_init_3 : ByteArray := prog_14_method_1_code
def yJ1_init_3 : MethodName := ⟨RJ1, "<init>", "()V"⟩
theorem dJ1_init_3_0 : decode cJ1_init_3 0 = .ok (.aload_n 0, 1) := by decide +kernel
theorem dJ1_init_3_1 : decode cJ1_init_3 1 = .ok (.invokespecial 1, 3) := by decide +kernel
theorem dJ1_init_3_4 : decode cJ1_init_3 4 = .ok (.return_, 1) := by decide +kernel
theorem q74 : (Jvm.Cond.initialized "java/lang/Exception") ∈ lw_all := lw_g (lw_at lw_m1 11 rfl) rfl
theorem q289 : (Jvm.Cond.declares ({ cls := "java/lang/Exception", name := "<init>", desc := "()V" } : Jvm.MethodName)) ∈ lw_tbl := lw_at lw_m1 226 rfl
theorem q290 : (Jvm.Cond.declares ({ cls := "java/lang/Exception", name := "<init>", desc := "(Ljava/lang/String;)V" } : Jvm.MethodName)) ∈ lw_tbl := lw_at lw_m1 227 rfl
theorem q333 : (Jvm.Cond.superclass "java/lang/Exception" "java/lang/Throwable") ∈ lw_all := lw_g (lw_at lw_m2 30 rfl) rfl
theorem q344 : (Jvm.Cond.instanceMethod ({ cls := "java/lang/Exception", name := "<init>", desc := "(Ljava/lang/String;Ljava/lang/Throwable;ZZ)V" } : Jvm.MethodName)) ∈ lw_all := lw_g (lw_at lw_m2 41 rfl) rfl
theorem q345 : (Jvm.Cond.code ({ cls := "java/lang/Exception", name := "<init>", desc := "(Ljava/lang/String;Ljava/lang/Throwable;ZZ)V" } : Jvm.MethodName) prog_14_method_5_code (5 : Nat) (Option.none : Option Jvm.ClassFile.FieldType)) ∈ lw_all := lw_g (lw_at lw_m2 42 rfl) rfl
theorem q346 : (Jvm.Cond.methodLink "java/lang/Exception" (16 : Nat) ({ cls := "java/lang/Throwable", name := "<init>", desc := "(Ljava/lang/String;Ljava/lang/Throwable;ZZ)V" } : Jvm.MethodName)) ∈ lw_all := lw_g (lw_at lw_m2 43 rfl) rfl
theorem q820 : (Jvm.Cond.instanceMethod ({ cls := "java/lang/Exception", name := "<init>", desc := "(Ljava/lang/String;)V" } : Jvm.MethodName)) ∈ lw_all := lw_g (lw_at lw_m4 37 rfl) rfl
theorem q821 : (Jvm.Cond.code ({ cls := "java/lang/Exception", name := "<init>", desc := "(Ljava/lang/String;)V" } : Jvm.MethodName) prog_14_method_2_code (2 : Nat) (Option.none : Option Jvm.ClassFile.FieldType)) ∈ lw_all := lw_g (lw_at lw_m4 38 rfl) rfl
theorem q822 : (Jvm.Cond.methodLink "java/lang/Exception" (7 : Nat) ({ cls := "java/lang/Throwable", name := "<init>", desc := "(Ljava/lang/String;)V" } : Jvm.MethodName)) ∈ lw_all := lw_g (lw_at lw_m4 39 rfl) rfl
theorem q856 : (Jvm.Cond.instanceMethod ({ cls := "java/lang/Exception", name := "<init>", desc := "()V" } : Jvm.MethodName)) ∈ lw_all := lw_g (lw_at lw_m4 73 rfl) rfl
theorem q857 : (Jvm.Cond.code ({ cls := "java/lang/Exception", name := "<init>", desc := "()V" } : Jvm.MethodName) prog_14_method_1_code (1 : Nat) (Option.none : Option Jvm.ClassFile.FieldType)) ∈ lw_all := lw_g (lw_at lw_m4 74 rfl) rfl
theorem q858 : (Jvm.Cond.methodLink "java/lang/Exception" (1 : Nat) ({ cls := "java/lang/Throwable", name := "<init>", desc := "()V" } : Jvm.MethodName)) ∈ lw_all := lw_g (lw_at lw_m4 75 rfl) rfl

/-! java/lang/String -/
set_option maxRecDepth 100000
def RJ2 : String := "java/lang/String"
def TJ2 : u_T := fun k => match k with
  | 0 => ("java/lang/String", "value", "[B", true)
  | _ => ("java/lang/String", "coder", "B", true)
def tyJ2 : Nat → FieldType := fun k => match k with
  | 0 => .array .byte
  | _ => .byte
abbrev wsJ20 : List Cond := u_ws RJ2 TJ2 2
theorem nmJ2 : ∀ a, a < 2 → ∀ b, b < 2 → a ≠ b → (TJ2 a).2.1 ≠ (TJ2 b).2.1 := by decide +kernel
theorem tyJ2_ok : ∀ k, k < 2 → parseFieldDescriptor (TJ2 k).2.2.1 = some (tyJ2 k) := by decide +kernel
abbrev cJ2_length : ByteArray := prog_21_method_54_code
def yJ2_length : MethodName := ⟨RJ2, "length", "()I"⟩
def dkwJ2_length_0 : List UInt8 := [42, 180, 0, 9, 190, 42, 182, 1, 79, 122, 172]
abbrev dktJ2_length_0 : List UInt8 := dkwJ2_length_0 ++ []
theorem dksJ2_length_0 : cJ2_length.data.toList.drop 0 = dktJ2_length_0 := by decide +kernel
theorem dJ2_length_0 : decode cJ2_length 0 = .ok (.aload_n 0, 1) := dk_42 (dk_at dksJ2_length_0 0 rfl rfl)
theorem dJ2_length_1 : decode cJ2_length 1 = .ok (.getfield 9, 3) := dk_180 0 9 (dk_at dksJ2_length_0 1 rfl rfl)
theorem dJ2_length_4 : decode cJ2_length 4 = .ok (.arraylength, 1) := dk_190 (dk_at dksJ2_length_0 4 rfl rfl)
theorem dJ2_length_5 : decode cJ2_length 5 = .ok (.aload_n 0, 1) := dk_42 (dk_at dksJ2_length_0 5 rfl rfl)
theorem dJ2_length_6 : decode cJ2_length 6 = .ok (.invokevirtual 335, 3) := dk_182 1 79 (dk_at dksJ2_length_0 6 rfl rfl)
theorem dJ2_length_9 : decode cJ2_length 9 = .ok (.ishr, 1) := dk_122 (dk_at dksJ2_length_0 9 rfl rfl)
theorem dJ2_length_10 : decode cJ2_length 10 = .ok (.ireturn, 1) := dk_172 (dk_at dksJ2_length_0 10 rfl rfl)
abbrev cJ2_coder : ByteArray := prog_21_method_152_code
def yJ2_coder : MethodName := ⟨RJ2, "coder", "()B"⟩
def dkwJ2_coder_0 : List UInt8 := [178, 0, 38, 153, 0, 10, 42, 180, 0, 15, 167, 0, 4, 4, 172]
abbrev dktJ2_coder_0 : List UInt8 := dkwJ2_coder_0 ++ []
theorem dksJ2_coder_0 : cJ2_coder.data.toList.drop 0 = dktJ2_coder_0 := by decide +kernel
theorem dJ2_coder_0 : decode cJ2_coder 0 = .ok (.getstatic 38, 3) := dk_178 0 38 (dk_at dksJ2_coder_0 0 rfl rfl)
theorem dJ2_coder_3 : decode cJ2_coder 3 = .ok (.ifCond .eq 10, 3) := dk_153 0 10 (dk_at dksJ2_coder_0 3 rfl rfl)
theorem dJ2_coder_6 : decode cJ2_coder 6 = .ok (.aload_n 0, 1) := dk_42 (dk_at dksJ2_coder_0 6 rfl rfl)
theorem dJ2_coder_7 : decode cJ2_coder 7 = .ok (.getfield 15, 3) := dk_180 0 15 (dk_at dksJ2_coder_0 7 rfl rfl)
theorem dJ2_coder_10 : decode cJ2_coder 10 = .ok (.goto 4, 3) := dk_167 0 4 (dk_at dksJ2_coder_0 10 rfl rfl)
theorem dJ2_coder_13 : decode cJ2_coder 13 = .ok (.iconst 1, 1) := dk_4 (dk_at dksJ2_coder_0 13 rfl rfl)
theorem dJ2_coder_14 : decode cJ2_coder 14 = .ok (.ireturn, 1) := dk_172 (dk_at dksJ2_coder_0 14 rfl rfl)
abbrev cJ2_charAt : ByteArray := prog_21_method_56_code
def yJ2_charAt : MethodName := ⟨RJ2, "charAt", "(I)C"⟩
def dkwJ2_charAt_1 : List UInt8 := [172]
abbrev dktJ2_charAt_1 : List UInt8 := dkwJ2_charAt_1 ++ []
def dkwJ2_charAt_0 : List UInt8 := [42, 182, 1, 236, 153, 0, 12, 42, 180, 0, 9, 27, 184, 1, 239, 172, 42, 180, 0, 9, 27, 184, 1, 242]
abbrev dktJ2_charAt_0 : List UInt8 := dkwJ2_charAt_0 ++ dktJ2_charAt_1
theorem dksJ2_charAt_0 : cJ2_charAt.data.toList.drop 0 = dktJ2_charAt_0 := by decide +kernel
theorem dksJ2_charAt_1 : cJ2_charAt.data.toList.drop 24 = dktJ2_charAt_1 := dk_seg dksJ2_charAt_0 24 rfl rfl
theorem dJ2_charAt_0 : decode cJ2_charAt 0 = .ok (.aload_n 0, 1) := dk_42 (dk_at dksJ2_charAt_0 0 rfl rfl)
theorem dJ2_charAt_1 : decode cJ2_charAt 1 = .ok (.invokevirtual 492, 3) := dk_182 1 236 (dk_at dksJ2_charAt_0 1 rfl rfl)
theorem dJ2_charAt_4 : decode cJ2_charAt 4 = .ok (.ifCond .eq 12, 3) := dk_153 0 12 (dk_at dksJ2_charAt_0 4 rfl rfl)
theorem dJ2_charAt_7 : decode cJ2_charAt 7 = .ok (.aload_n 0, 1) := dk_42 (dk_at dksJ2_charAt_0 7 rfl rfl)
theorem dJ2_charAt_8 : decode cJ2_charAt 8 = .ok (.getfield 9, 3) := dk_180 0 9 (dk_at dksJ2_charAt_0 8 rfl rfl)
theorem dJ2_charAt_11 : decode cJ2_charAt 11 = .ok (.iload_n 1, 1) := dk_27 (dk_at dksJ2_charAt_0 11 rfl rfl)
theorem dJ2_charAt_12 : decode cJ2_charAt 12 = .ok (.invokestatic 495, 3) := dk_184 1 239 (dk_at dksJ2_charAt_0 12 rfl rfl)
theorem dJ2_charAt_15 : decode cJ2_charAt 15 = .ok (.ireturn, 1) := dk_172 (dk_at dksJ2_charAt_0 15 rfl rfl)
theorem dJ2_charAt_16 : decode cJ2_charAt 16 = .ok (.aload_n 0, 1) := dk_42 (dk_at dksJ2_charAt_0 16 rfl rfl)
theorem dJ2_charAt_17 : decode cJ2_charAt 17 = .ok (.getfield 9, 3) := dk_180 0 9 (dk_at dksJ2_charAt_0 17 rfl rfl)
theorem dJ2_charAt_20 : decode cJ2_charAt 20 = .ok (.iload_n 1, 1) := dk_27 (dk_at dksJ2_charAt_0 20 rfl rfl)
theorem dJ2_charAt_21 : decode cJ2_charAt 21 = .ok (.invokestatic 498, 3) := dk_184 1 242 (dk_at dksJ2_charAt_0 21 rfl rfl)
theorem dJ2_charAt_24 : decode cJ2_charAt 24 = .ok (.ireturn, 1) := dk_172 (dk_at dksJ2_charAt_1 0 rfl rfl)
abbrev cJ2_isLatin1 : ByteArray := prog_21_method_154_code
def yJ2_isLatin1 : MethodName := ⟨RJ2, "isLatin1", "()Z"⟩
def dkwJ2_isLatin1_0 : List UInt8 := [178, 0, 38, 153, 0, 14, 42, 180, 0, 15, 154, 0, 7, 4, 167, 0, 4, 3, 172]
abbrev dktJ2_isLatin1_0 : List UInt8 := dkwJ2_isLatin1_0 ++ []
theorem dksJ2_isLatin1_0 : cJ2_isLatin1.data.toList.drop 0 = dktJ2_isLatin1_0 := by decide +kernel
theorem dJ2_isLatin1_0 : decode cJ2_isLatin1 0 = .ok (.getstatic 38, 3) := dk_178 0 38 (dk_at dksJ2_isLatin1_0 0 rfl rfl)
theorem dJ2_isLatin1_3 : decode cJ2_isLatin1 3 = .ok (.ifCond .eq 14, 3) := dk_153 0 14 (dk_at dksJ2_isLatin1_0 3 rfl rfl)
theorem dJ2_isLatin1_6 : decode cJ2_isLatin1 6 = .ok (.aload_n 0, 1) := dk_42 (dk_at dksJ2_isLatin1_0 6 rfl rfl)
theorem dJ2_isLatin1_7 : decode cJ2_isLatin1 7 = .ok (.getfield 15, 3) := dk_180 0 15 (dk_at dksJ2_isLatin1_0 7 rfl rfl)
theorem dJ2_isLatin1_10 : decode cJ2_isLatin1 10 = .ok (.ifCond .ne 7, 3) := dk_154 0 7 (dk_at dksJ2_isLatin1_0 10 rfl rfl)
theorem dJ2_isLatin1_13 : decode cJ2_isLatin1 13 = .ok (.iconst 1, 1) := dk_4 (dk_at dksJ2_isLatin1_0 13 rfl rfl)
theorem dJ2_isLatin1_14 : decode cJ2_isLatin1 14 = .ok (.goto 4, 3) := dk_167 0 4 (dk_at dksJ2_isLatin1_0 14 rfl rfl)
theorem dJ2_isLatin1_17 : decode cJ2_isLatin1 17 = .ok (.iconst 0, 1) := dk_3 (dk_at dksJ2_isLatin1_0 17 rfl rfl)
theorem dJ2_isLatin1_18 : decode cJ2_isLatin1 18 = .ok (.ireturn, 1) := dk_172 (dk_at dksJ2_isLatin1_0 18 rfl rfl)
abbrev cJ2_checkIndex : ByteArray := prog_21_method_155_code
def yJ2_checkIndex : MethodName := ⟨RJ2, "checkIndex", "(II)V"⟩
def dkwJ2_checkIndex_0 : List UInt8 := [26, 27, 178, 4, 29, 184, 4, 35, 87, 177]
abbrev dktJ2_checkIndex_0 : List UInt8 := dkwJ2_checkIndex_0 ++ []
theorem dksJ2_checkIndex_0 : cJ2_checkIndex.data.toList.drop 0 = dktJ2_checkIndex_0 := by decide +kernel
theorem dJ2_checkIndex_0 : decode cJ2_checkIndex 0 = .ok (.iload_n 0, 1) := dk_26 (dk_at dksJ2_checkIndex_0 0 rfl rfl)
theorem dJ2_checkIndex_1 : decode cJ2_checkIndex 1 = .ok (.iload_n 1, 1) := dk_27 (dk_at dksJ2_checkIndex_0 1 rfl rfl)
theorem dJ2_checkIndex_2 : decode cJ2_checkIndex 2 = .ok (.getstatic 1053, 3) := dk_178 4 29 (dk_at dksJ2_checkIndex_0 2 rfl rfl)
theorem dJ2_checkIndex_5 : decode cJ2_checkIndex 5 = .ok (.invokestatic 1059, 3) := dk_184 4 35 (dk_at dksJ2_checkIndex_0 5 rfl rfl)
theorem dJ2_checkIndex_8 : decode cJ2_checkIndex 8 = .ok (.pop, 1) := dk_87 (dk_at dksJ2_checkIndex_0 8 rfl rfl)
theorem dJ2_checkIndex_9 : decode cJ2_checkIndex 9 = .ok (.return_, 1) := dk_177 (dk_at dksJ2_checkIndex_0 9 rfl rfl)
theorem q76 : (Jvm.Cond.initialized "java/lang/String") ∈ lw_all := lw_g (lw_at lw_m1 13 rfl) rfl
theorem q418 : (Jvm.Cond.instanceMethod ({ cls := "java/lang/String", name := "length", desc := "()I" } : Jvm.MethodName)) ∈ lw_all := lw_g (lw_at lw_m2 115 rfl) rfl
theorem q419 : (Jvm.Cond.selects "java/lang/String" ({ cls := "java/lang/String", name := "length", desc := "()I" } : Jvm.MethodName) ({ cls := "java/lang/String", name := "length", desc := "()I" } : Jvm.MethodName)) ∈ lw_all := lw_g (lw_at lw_m2 116 rfl) rfl
theorem q420 : (Jvm.Cond.code ({ cls := "java/lang/String", name := "length", desc := "()I" } : Jvm.MethodName) prog_21_method_54_code (1 : Nat) (Option.some Jvm.ClassFile.FieldType.int)) ∈ lw_all := lw_g (lw_at lw_m2 117 rfl) rfl
theorem q421 : (Jvm.Cond.methodLink "java/lang/String" (335 : Nat) ({ cls := "java/lang/String", name := "coder", desc := "()B" } : Jvm.MethodName)) ∈ lw_all := lw_g (lw_at lw_m2 118 rfl) rfl
theorem q422 : (Jvm.Cond.instanceMethod ({ cls := "java/lang/String", name := "coder", desc := "()B" } : Jvm.MethodName)) ∈ lw_all := lw_g (lw_at lw_m2 119 rfl) rfl
theorem q423 : (Jvm.Cond.selects "java/lang/String" ({ cls := "java/lang/String", name := "coder", desc := "()B" } : Jvm.MethodName) ({ cls := "java/lang/String", name := "coder", desc := "()B" } : Jvm.MethodName)) ∈ lw_all := lw_g (lw_at lw_m2 120 rfl) rfl
theorem q424 : (Jvm.Cond.code ({ cls := "java/lang/String", name := "coder", desc := "()B" } : Jvm.MethodName) prog_21_method_152_code (1 : Nat) (Option.some Jvm.ClassFile.FieldType.byte)) ∈ lw_all := lw_g (lw_at lw_m2 121 rfl) rfl
theorem q425 : (Jvm.Cond.fieldLink "java/lang/String" (38 : Nat) "java/lang/String" "COMPACT_STRINGS" "Z") ∈ lw_all := lw_g (lw_at lw_m2 122 rfl) rfl
theorem q426 : (Jvm.Cond.laysStatic "java/lang/String" "COMPACT_STRINGS" "Z") ∈ lw_tbl := lw_at lw_m2 123 rfl
theorem q428 : (Jvm.Cond.instanceMethod ({ cls := "java/lang/String", name := "charAt", desc := "(I)C" } : Jvm.MethodName)) ∈ lw_all := lw_g (lw_at lw_m2 125 rfl) rfl
theorem q429 : (Jvm.Cond.selects "java/lang/String" ({ cls := "java/lang/String", name := "charAt", desc := "(I)C" } : Jvm.MethodName) ({ cls := "java/lang/String", name := "charAt", desc := "(I)C" } : Jvm.MethodName)) ∈ lw_all := lw_g (lw_at lw_m2 126 rfl) rfl
theorem q430 : (Jvm.Cond.code ({ cls := "java/lang/String", name := "charAt", desc := "(I)C" } : Jvm.MethodName) prog_21_method_56_code (2 : Nat) (Option.some Jvm.ClassFile.FieldType.char)) ∈ lw_all := lw_g (lw_at lw_m2 127 rfl) rfl
theorem q431 : (Jvm.Cond.methodLink "java/lang/String" (492 : Nat) ({ cls := "java/lang/String", name := "isLatin1", desc := "()Z" } : Jvm.MethodName)) ∈ lw_all := lw_g (lw_at lw_m2 128 rfl) rfl
theorem q432 : (Jvm.Cond.instanceMethod ({ cls := "java/lang/String", name := "isLatin1", desc := "()Z" } : Jvm.MethodName)) ∈ lw_all := lw_g (lw_at lw_m2 129 rfl) rfl
theorem q433 : (Jvm.Cond.selects "java/lang/String" ({ cls := "java/lang/String", name := "isLatin1", desc := "()Z" } : Jvm.MethodName) ({ cls := "java/lang/String", name := "isLatin1", desc := "()Z" } : Jvm.MethodName)) ∈ lw_all := lw_g (lw_at lw_m2 130 rfl) rfl
theorem q434 : (Jvm.Cond.code ({ cls := "java/lang/String", name := "isLatin1", desc := "()Z" } : Jvm.MethodName) prog_21_method_154_code (1 : Nat) (Option.some Jvm.ClassFile.FieldType.boolean)) ∈ lw_all := lw_g (lw_at lw_m2 131 rfl) rfl
theorem q435 : (Jvm.Cond.methodLink "java/lang/String" (495 : Nat) ({ cls := "java/lang/StringLatin1", name := "charAt", desc := "([BI)C" } : Jvm.MethodName)) ∈ lw_all := lw_g (lw_at lw_m2 132 rfl) rfl
theorem q439 : (Jvm.Cond.static ({ cls := "java/lang/String", name := "checkIndex", desc := "(II)V" } : Jvm.MethodName)) ∈ lw_all := lw_g (lw_at lw_m2 136 rfl) rfl
theorem q440 : (Jvm.Cond.code ({ cls := "java/lang/String", name := "checkIndex", desc := "(II)V" } : Jvm.MethodName) prog_21_method_155_code (2 : Nat) (Option.none : Option Jvm.ClassFile.FieldType)) ∈ lw_all := lw_g (lw_at lw_m2 137 rfl) rfl
theorem q441 : (Jvm.Cond.fieldLink "java/lang/String" (1053 : Nat) "jdk/internal/util/Preconditions" "SIOOBE_FORMATTER" "Ljava/util/function/BiFunction;") ∈ lw_all := lw_g (lw_at lw_m2 138 rfl) rfl
theorem q443 : (Jvm.Cond.methodLink "java/lang/String" (1059 : Nat) ({ cls := "jdk/internal/util/Preconditions", name := "checkIndex", desc := "(IILjava/util/function/BiFunction;)I" } : Jvm.MethodName)) ∈ lw_all := lw_g (lw_at lw_m2 140 rfl) rfl
theorem q446 : (Jvm.Cond.methodLink "java/lang/String" (498 : Nat) ({ cls := "java/lang/StringUTF16", name := "charAt", desc := "([BI)C" } : Jvm.MethodName)) ∈ lw_all := lw_g (lw_at lw_m2 143 rfl) rfl
theorem q836 : (Jvm.Cond.instantiable "java/lang/String" (4 : Nat)) ∈ lw_all := lw_g (lw_at lw_m4 53 rfl) rfl
theorem q837 : (Jvm.Cond.laysFinal "java/lang/String" "java/lang/String" "value" "[B") ∈ lw_all := lw_g (lw_at lw_m4 54 rfl) rfl
theorem q838 : (Jvm.Cond.soleField "java/lang/String" "value") ∈ lw_all := lw_g (lw_at lw_m4 55 rfl) rfl
theorem q839 : (Jvm.Cond.laysFinal "java/lang/String" "java/lang/String" "coder" "B") ∈ lw_all := lw_g (lw_at lw_m4 56 rfl) rfl
theorem q840 : (Jvm.Cond.soleField "java/lang/String" "coder") ∈ lw_all := lw_g (lw_at lw_m4 57 rfl) rfl
theorem q1325 : (Jvm.Cond.fieldLink "java/lang/String" (9 : Nat) "java/lang/String" "value" "[B") ∈ lw_all := lw_g (lw_at lw_m6 62 rfl) rfl
theorem q1326 : (Jvm.Cond.fieldLink "java/lang/String" (15 : Nat) "java/lang/String" "coder" "B") ∈ lw_all := lw_g (lw_at lw_m6 63 rfl) rfl
theorem in_J2 : ∀ w ∈ wsJ20, w ∈ lw_all := lw_in wsJ20 [837, 839] (by decide +kernel) (by decide +kernel)

/-! java/lang/StringLatin1 -/
set_option maxRecDepth 100000
def RJ3 : String := "java/lang/StringLatin1"
abbrev cJ3_charAt : ByteArray := prog_22_method_2_code
def yJ3_charAt : MethodName := ⟨RJ3, "charAt", "([BI)C"⟩
def dkwJ3_charAt_0 : List UInt8 := [27, 42, 190, 184, 0, 9, 42, 27, 51, 17, 0, 255, 126, 146, 172]
abbrev dktJ3_charAt_0 : List UInt8 := dkwJ3_charAt_0 ++ []
theorem dksJ3_charAt_0 : cJ3_charAt.data.toList.drop 0 = dktJ3_charAt_0 := by decide +kernel
theorem dJ3_charAt_0 : decode cJ3_charAt 0 = .ok (.iload_n 1, 1) := dk_27 (dk_at dksJ3_charAt_0 0 rfl rfl)
theorem dJ3_charAt_1 : decode cJ3_charAt 1 = .ok (.aload_n 0, 1) := dk_42 (dk_at dksJ3_charAt_0 1 rfl rfl)
theorem dJ3_charAt_2 : decode cJ3_charAt 2 = .ok (.arraylength, 1) := dk_190 (dk_at dksJ3_charAt_0 2 rfl rfl)
theorem dJ3_charAt_3 : decode cJ3_charAt 3 = .ok (.invokestatic 9, 3) := dk_184 0 9 (dk_at dksJ3_charAt_0 3 rfl rfl)
theorem dJ3_charAt_6 : decode cJ3_charAt 6 = .ok (.aload_n 0, 1) := dk_42 (dk_at dksJ3_charAt_0 6 rfl rfl)
theorem dJ3_charAt_7 : decode cJ3_charAt 7 = .ok (.iload_n 1, 1) := dk_27 (dk_at dksJ3_charAt_0 7 rfl rfl)
theorem dJ3_charAt_8 : decode cJ3_charAt 8 = .ok (.baload, 1) := dk_51 (dk_at dksJ3_charAt_0 8 rfl rfl)
theorem dJ3_charAt_9 : decode cJ3_charAt 9 = .ok (.sipush 255, 3) := dk_17 0 255 (dk_at dksJ3_charAt_0 9 rfl rfl)
theorem dJ3_charAt_12 : decode cJ3_charAt 12 = .ok (.iand, 1) := dk_126 (dk_at dksJ3_charAt_0 12 rfl rfl)
theorem dJ3_charAt_13 : decode cJ3_charAt 13 = .ok (.i2c, 1) := dk_146 (dk_at dksJ3_charAt_0 13 rfl rfl)
theorem dJ3_charAt_14 : decode cJ3_charAt 14 = .ok (.ireturn, 1) := dk_172 (dk_at dksJ3_charAt_0 14 rfl rfl)
theorem q77 : (Jvm.Cond.initialized "java/lang/StringLatin1") ∈ lw_all := lw_g (lw_at lw_m1 14 rfl) rfl
theorem q436 : (Jvm.Cond.static ({ cls := "java/lang/StringLatin1", name := "charAt", desc := "([BI)C" } : Jvm.MethodName)) ∈ lw_all := lw_g (lw_at lw_m2 133 rfl) rfl
theorem q437 : (Jvm.Cond.code ({ cls := "java/lang/StringLatin1", name := "charAt", desc := "([BI)C" } : Jvm.MethodName) prog_22_method_2_code (2 : Nat) (Option.some Jvm.ClassFile.FieldType.char)) ∈ lw_all := lw_g (lw_at lw_m2 134 rfl) rfl
theorem q438 : (Jvm.Cond.methodLink "java/lang/StringLatin1" (9 : Nat) ({ cls := "java/lang/String", name := "checkIndex", desc := "(II)V" } : Jvm.MethodName)) ∈ lw_all := lw_g (lw_at lw_m2 135 rfl) rfl

/-! jdk/internal/util/Preconditions -/
set_option maxRecDepth 100000
def RJ4 : String := "jdk/internal/util/Preconditions"
abbrev cJ4_checkIndex : ByteArray := prog_26_method_11_code
def yJ4_checkIndex : MethodName := ⟨RJ4, "checkIndex", "(IILjava/util/function/BiFunction;)I"⟩
def dkwJ4_checkIndex_0 : List UInt8 := [26, 155, 0, 8, 26, 27, 161, 0, 10, 44, 26, 27, 184, 0, 95, 191, 26, 172]
abbrev dktJ4_checkIndex_0 : List UInt8 := dkwJ4_checkIndex_0 ++ []
theorem dksJ4_checkIndex_0 : cJ4_checkIndex.data.toList.drop 0 = dktJ4_checkIndex_0 := by decide +kernel
theorem dJ4_checkIndex_0 : decode cJ4_checkIndex 0 = .ok (.iload_n 0, 1) := dk_26 (dk_at dksJ4_checkIndex_0 0 rfl rfl)
theorem dJ4_checkIndex_1 : decode cJ4_checkIndex 1 = .ok (.ifCond .lt 8, 3) := dk_155 0 8 (dk_at dksJ4_checkIndex_0 1 rfl rfl)
theorem dJ4_checkIndex_4 : decode cJ4_checkIndex 4 = .ok (.iload_n 0, 1) := dk_26 (dk_at dksJ4_checkIndex_0 4 rfl rfl)
theorem dJ4_checkIndex_5 : decode cJ4_checkIndex 5 = .ok (.iload_n 1, 1) := dk_27 (dk_at dksJ4_checkIndex_0 5 rfl rfl)
theorem dJ4_checkIndex_6 : decode cJ4_checkIndex 6 = .ok (.if_icmp .lt 10, 3) := dk_161 0 10 (dk_at dksJ4_checkIndex_0 6 rfl rfl)
theorem dJ4_checkIndex_9 : decode cJ4_checkIndex 9 = .ok (.aload_n 2, 1) := dk_44 (dk_at dksJ4_checkIndex_0 9 rfl rfl)
theorem dJ4_checkIndex_10 : decode cJ4_checkIndex 10 = .ok (.iload_n 0, 1) := dk_26 (dk_at dksJ4_checkIndex_0 10 rfl rfl)
theorem dJ4_checkIndex_11 : decode cJ4_checkIndex 11 = .ok (.iload_n 1, 1) := dk_27 (dk_at dksJ4_checkIndex_0 11 rfl rfl)
theorem dJ4_checkIndex_12 : decode cJ4_checkIndex 12 = .ok (.invokestatic 95, 3) := dk_184 0 95 (dk_at dksJ4_checkIndex_0 12 rfl rfl)
theorem dJ4_checkIndex_15 : decode cJ4_checkIndex 15 = .ok (.athrow, 1) := dk_191 (dk_at dksJ4_checkIndex_0 15 rfl rfl)
theorem dJ4_checkIndex_16 : decode cJ4_checkIndex 16 = .ok (.iload_n 0, 1) := dk_26 (dk_at dksJ4_checkIndex_0 16 rfl rfl)
theorem dJ4_checkIndex_17 : decode cJ4_checkIndex 17 = .ok (.ireturn, 1) := dk_172 (dk_at dksJ4_checkIndex_0 17 rfl rfl)
theorem q78 : (Jvm.Cond.initialized "jdk/internal/util/Preconditions") ∈ lw_all := lw_g (lw_at lw_m1 15 rfl) rfl
theorem q442 : (Jvm.Cond.laysStatic "jdk/internal/util/Preconditions" "SIOOBE_FORMATTER" "Ljava/util/function/BiFunction;") ∈ lw_tbl := lw_at lw_m2 139 rfl
theorem q444 : (Jvm.Cond.static ({ cls := "jdk/internal/util/Preconditions", name := "checkIndex", desc := "(IILjava/util/function/BiFunction;)I" } : Jvm.MethodName)) ∈ lw_all := lw_g (lw_at lw_m2 141 rfl) rfl
theorem q445 : (Jvm.Cond.code ({ cls := "jdk/internal/util/Preconditions", name := "checkIndex", desc := "(IILjava/util/function/BiFunction;)I" } : Jvm.MethodName) prog_26_method_11_code (3 : Nat) (Option.some Jvm.ClassFile.FieldType.int)) ∈ lw_all := lw_g (lw_at lw_m2 142 rfl) rfl

/-! java/lang/StringUTF16 -/
set_option maxRecDepth 100000
def RJ5 : String := "java/lang/StringUTF16"
abbrev cJ5_charAt : ByteArray := prog_23_method_83_code
def yJ5_charAt : MethodName := ⟨RJ5, "charAt", "([BI)C"⟩
def dkwJ5_charAt_0 : List UInt8 := [27, 42, 184, 0, 67, 42, 27, 184, 0, 71, 172]
abbrev dktJ5_charAt_0 : List UInt8 := dkwJ5_charAt_0 ++ []
theorem dksJ5_charAt_0 : cJ5_charAt.data.toList.drop 0 = dktJ5_charAt_0 := by decide +kernel
theorem dJ5_charAt_0 : decode cJ5_charAt 0 = .ok (.iload_n 1, 1) := dk_27 (dk_at dksJ5_charAt_0 0 rfl rfl)
theorem dJ5_charAt_1 : decode cJ5_charAt 1 = .ok (.aload_n 0, 1) := dk_42 (dk_at dksJ5_charAt_0 1 rfl rfl)
theorem dJ5_charAt_2 : decode cJ5_charAt 2 = .ok (.invokestatic 67, 3) := dk_184 0 67 (dk_at dksJ5_charAt_0 2 rfl rfl)
theorem dJ5_charAt_5 : decode cJ5_charAt 5 = .ok (.aload_n 0, 1) := dk_42 (dk_at dksJ5_charAt_0 5 rfl rfl)
theorem dJ5_charAt_6 : decode cJ5_charAt 6 = .ok (.iload_n 1, 1) := dk_27 (dk_at dksJ5_charAt_0 6 rfl rfl)
theorem dJ5_charAt_7 : decode cJ5_charAt 7 = .ok (.invokestatic 71, 3) := dk_184 0 71 (dk_at dksJ5_charAt_0 7 rfl rfl)
theorem dJ5_charAt_10 : decode cJ5_charAt 10 = .ok (.ireturn, 1) := dk_172 (dk_at dksJ5_charAt_0 10 rfl rfl)
abbrev cJ5_checkIndex : ByteArray := prog_23_method_91_code
def yJ5_checkIndex : MethodName := ⟨RJ5, "checkIndex", "(I[B)V"⟩
def dkwJ5_checkIndex_0 : List UInt8 := [26, 43, 184, 0, 48, 184, 1, 158, 177]
abbrev dktJ5_checkIndex_0 : List UInt8 := dkwJ5_checkIndex_0 ++ []
theorem dksJ5_checkIndex_0 : cJ5_checkIndex.data.toList.drop 0 = dktJ5_checkIndex_0 := by decide +kernel
theorem dJ5_checkIndex_0 : decode cJ5_checkIndex 0 = .ok (.iload_n 0, 1) := dk_26 (dk_at dksJ5_checkIndex_0 0 rfl rfl)
theorem dJ5_checkIndex_1 : decode cJ5_checkIndex 1 = .ok (.aload_n 1, 1) := dk_43 (dk_at dksJ5_checkIndex_0 1 rfl rfl)
theorem dJ5_checkIndex_2 : decode cJ5_checkIndex 2 = .ok (.invokestatic 48, 3) := dk_184 0 48 (dk_at dksJ5_checkIndex_0 2 rfl rfl)
theorem dJ5_checkIndex_5 : decode cJ5_checkIndex 5 = .ok (.invokestatic 414, 3) := dk_184 1 158 (dk_at dksJ5_checkIndex_0 5 rfl rfl)
theorem dJ5_checkIndex_8 : decode cJ5_checkIndex 8 = .ok (.return_, 1) := dk_177 (dk_at dksJ5_checkIndex_0 8 rfl rfl)
abbrev cJ5_length : ByteArray := prog_23_method_6_code
def yJ5_length : MethodName := ⟨RJ5, "length", "([B)I"⟩
def dkwJ5_length_0 : List UInt8 := [42, 190, 4, 122, 172]
abbrev dktJ5_length_0 : List UInt8 := dkwJ5_length_0 ++ []
theorem dksJ5_length_0 : cJ5_length.data.toList.drop 0 = dktJ5_length_0 := by decide +kernel
theorem dJ5_length_0 : decode cJ5_length 0 = .ok (.aload_n 0, 1) := dk_42 (dk_at dksJ5_length_0 0 rfl rfl)
theorem dJ5_length_1 : decode cJ5_length 1 = .ok (.arraylength, 1) := dk_190 (dk_at dksJ5_length_0 1 rfl rfl)
theorem dJ5_length_2 : decode cJ5_length 2 = .ok (.iconst 1, 1) := dk_4 (dk_at dksJ5_length_0 2 rfl rfl)
theorem dJ5_length_3 : decode cJ5_length 3 = .ok (.ishr, 1) := dk_122 (dk_at dksJ5_length_0 3 rfl rfl)
theorem dJ5_length_4 : decode cJ5_length 4 = .ok (.ireturn, 1) := dk_172 (dk_at dksJ5_length_0 4 rfl rfl)
abbrev cJ5_getChar : ByteArray := prog_23_method_5_code
def yJ5_getChar : MethodName := ⟨RJ5, "getChar", "([BI)C"⟩
def dkwJ5_getChar_2 : List UInt8 := [51, 17, 0, 255, 126, 178, 0, 63, 120, 128, 146, 172]
abbrev dktJ5_getChar_2 : List UInt8 := dkwJ5_getChar_2 ++ []
def dkwJ5_getChar_1 : List UInt8 := [183, 0, 56, 191, 27, 4, 120, 60, 42, 27, 132, 1, 1, 51, 17, 0, 255, 126, 178, 0, 59, 120, 42, 27]
abbrev dktJ5_getChar_1 : List UInt8 := dkwJ5_getChar_1 ++ dktJ5_getChar_2
def dkwJ5_getChar_0 : List UInt8 := [178, 0, 44, 154, 0, 25, 27, 155, 0, 11, 27, 42, 184, 0, 48, 161, 0, 13, 187, 0, 52, 89, 18, 54]
abbrev dktJ5_getChar_0 : List UInt8 := dkwJ5_getChar_0 ++ dktJ5_getChar_1
theorem dksJ5_getChar_0 : cJ5_getChar.data.toList.drop 0 = dktJ5_getChar_0 := by decide +kernel
theorem dksJ5_getChar_1 : cJ5_getChar.data.toList.drop 24 = dktJ5_getChar_1 := dk_seg dksJ5_getChar_0 24 rfl rfl
theorem dksJ5_getChar_2 : cJ5_getChar.data.toList.drop 48 = dktJ5_getChar_2 := dk_seg dksJ5_getChar_1 24 rfl rfl
theorem dJ5_getChar_0 : decode cJ5_getChar 0 = .ok (.getstatic 44, 3) := dk_178 0 44 (dk_at dksJ5_getChar_0 0 rfl rfl)
theorem dJ5_getChar_3 : decode cJ5_getChar 3 = .ok (.ifCond .ne 25, 3) := dk_154 0 25 (dk_at dksJ5_getChar_0 3 rfl rfl)
theorem dJ5_getChar_6 : decode cJ5_getChar 6 = .ok (.iload_n 1, 1) := dk_27 (dk_at dksJ5_getChar_0 6 rfl rfl)
theorem dJ5_getChar_7 : decode cJ5_getChar 7 = .ok (.ifCond .lt 11, 3) := dk_155 0 11 (dk_at dksJ5_getChar_0 7 rfl rfl)
theorem dJ5_getChar_10 : decode cJ5_getChar 10 = .ok (.iload_n 1, 1) := dk_27 (dk_at dksJ5_getChar_0 10 rfl rfl)
theorem dJ5_getChar_11 : decode cJ5_getChar 11 = .ok (.aload_n 0, 1) := dk_42 (dk_at dksJ5_getChar_0 11 rfl rfl)
theorem dJ5_getChar_12 : decode cJ5_getChar 12 = .ok (.invokestatic 48, 3) := dk_184 0 48 (dk_at dksJ5_getChar_0 12 rfl rfl)
theorem dJ5_getChar_15 : decode cJ5_getChar 15 = .ok (.if_icmp .lt 13, 3) := dk_161 0 13 (dk_at dksJ5_getChar_0 15 rfl rfl)
theorem dJ5_getChar_18 : decode cJ5_getChar 18 = .ok (.new 52, 3) := dk_187 0 52 (dk_at dksJ5_getChar_0 18 rfl rfl)
theorem dJ5_getChar_21 : decode cJ5_getChar 21 = .ok (.dup, 1) := dk_89 (dk_at dksJ5_getChar_0 21 rfl rfl)
theorem dJ5_getChar_22 : decode cJ5_getChar 22 = .ok (.ldc 54, 2) := dk_18 54 (dk_at dksJ5_getChar_0 22 rfl rfl)
theorem dJ5_getChar_24 : decode cJ5_getChar 24 = .ok (.invokespecial 56, 3) := dk_183 0 56 (dk_at dksJ5_getChar_1 0 rfl rfl)
theorem dJ5_getChar_27 : decode cJ5_getChar 27 = .ok (.athrow, 1) := dk_191 (dk_at dksJ5_getChar_1 3 rfl rfl)
theorem dJ5_getChar_28 : decode cJ5_getChar 28 = .ok (.iload_n 1, 1) := dk_27 (dk_at dksJ5_getChar_1 4 rfl rfl)
theorem dJ5_getChar_29 : decode cJ5_getChar 29 = .ok (.iconst 1, 1) := dk_4 (dk_at dksJ5_getChar_1 5 rfl rfl)
theorem dJ5_getChar_30 : decode cJ5_getChar 30 = .ok (.ishl, 1) := dk_120 (dk_at dksJ5_getChar_1 6 rfl rfl)
theorem dJ5_getChar_31 : decode cJ5_getChar 31 = .ok (.istore_n 1, 1) := dk_60 (dk_at dksJ5_getChar_1 7 rfl rfl)
theorem dJ5_getChar_32 : decode cJ5_getChar 32 = .ok (.aload_n 0, 1) := dk_42 (dk_at dksJ5_getChar_1 8 rfl rfl)
theorem dJ5_getChar_33 : decode cJ5_getChar 33 = .ok (.iload_n 1, 1) := dk_27 (dk_at dksJ5_getChar_1 9 rfl rfl)
theorem dJ5_getChar_34 : decode cJ5_getChar 34 = .ok (.iinc 1 1, 3) := dk_132 1 1 (dk_at dksJ5_getChar_1 10 rfl rfl)
theorem dJ5_getChar_37 : decode cJ5_getChar 37 = .ok (.baload, 1) := dk_51 (dk_at dksJ5_getChar_1 13 rfl rfl)
theorem dJ5_getChar_38 : decode cJ5_getChar 38 = .ok (.sipush 255, 3) := dk_17 0 255 (dk_at dksJ5_getChar_1 14 rfl rfl)
theorem dJ5_getChar_41 : decode cJ5_getChar 41 = .ok (.iand, 1) := dk_126 (dk_at dksJ5_getChar_1 17 rfl rfl)
theorem dJ5_getChar_42 : decode cJ5_getChar 42 = .ok (.getstatic 59, 3) := dk_178 0 59 (dk_at dksJ5_getChar_1 18 rfl rfl)
theorem dJ5_getChar_45 : decode cJ5_getChar 45 = .ok (.ishl, 1) := dk_120 (dk_at dksJ5_getChar_1 21 rfl rfl)
theorem dJ5_getChar_46 : decode cJ5_getChar 46 = .ok (.aload_n 0, 1) := dk_42 (dk_at dksJ5_getChar_1 22 rfl rfl)
theorem dJ5_getChar_47 : decode cJ5_getChar 47 = .ok (.iload_n 1, 1) := dk_27 (dk_at dksJ5_getChar_1 23 rfl rfl)
theorem dJ5_getChar_48 : decode cJ5_getChar 48 = .ok (.baload, 1) := dk_51 (dk_at dksJ5_getChar_2 0 rfl rfl)
theorem dJ5_getChar_49 : decode cJ5_getChar 49 = .ok (.sipush 255, 3) := dk_17 0 255 (dk_at dksJ5_getChar_2 1 rfl rfl)
theorem dJ5_getChar_52 : decode cJ5_getChar 52 = .ok (.iand, 1) := dk_126 (dk_at dksJ5_getChar_2 4 rfl rfl)
theorem dJ5_getChar_53 : decode cJ5_getChar 53 = .ok (.getstatic 63, 3) := dk_178 0 63 (dk_at dksJ5_getChar_2 5 rfl rfl)
theorem dJ5_getChar_56 : decode cJ5_getChar 56 = .ok (.ishl, 1) := dk_120 (dk_at dksJ5_getChar_2 8 rfl rfl)
theorem dJ5_getChar_57 : decode cJ5_getChar 57 = .ok (.ior, 1) := dk_128 (dk_at dksJ5_getChar_2 9 rfl rfl)
theorem dJ5_getChar_58 : decode cJ5_getChar 58 = .ok (.i2c, 1) := dk_146 (dk_at dksJ5_getChar_2 10 rfl rfl)
theorem dJ5_getChar_59 : decode cJ5_getChar 59 = .ok (.ireturn, 1) := dk_172 (dk_at dksJ5_getChar_2 11 rfl rfl)
theorem q79 : (Jvm.Cond.initialized "java/lang/StringUTF16") ∈ lw_all := lw_g (lw_at lw_m1 16 rfl) rfl
theorem q447 : (Jvm.Cond.static ({ cls := "java/lang/StringUTF16", name := "charAt", desc := "([BI)C" } : Jvm.MethodName)) ∈ lw_all := lw_g (lw_at lw_m2 144 rfl) rfl
theorem q448 : (Jvm.Cond.code ({ cls := "java/lang/StringUTF16", name := "charAt", desc := "([BI)C" } : Jvm.MethodName) prog_23_method_83_code (2 : Nat) (Option.some Jvm.ClassFile.FieldType.char)) ∈ lw_all := lw_g (lw_at lw_m2 145 rfl) rfl
theorem q449 : (Jvm.Cond.methodLink "java/lang/StringUTF16" (67 : Nat) ({ cls := "java/lang/StringUTF16", name := "checkIndex", desc := "(I[B)V" } : Jvm.MethodName)) ∈ lw_all := lw_g (lw_at lw_m2 146 rfl) rfl
theorem q450 : (Jvm.Cond.static ({ cls := "java/lang/StringUTF16", name := "checkIndex", desc := "(I[B)V" } : Jvm.MethodName)) ∈ lw_all := lw_g (lw_at lw_m2 147 rfl) rfl
theorem q451 : (Jvm.Cond.code ({ cls := "java/lang/StringUTF16", name := "checkIndex", desc := "(I[B)V" } : Jvm.MethodName) prog_23_method_91_code (2 : Nat) (Option.none : Option Jvm.ClassFile.FieldType)) ∈ lw_all := lw_g (lw_at lw_m2 148 rfl) rfl
theorem q452 : (Jvm.Cond.methodLink "java/lang/StringUTF16" (48 : Nat) ({ cls := "java/lang/StringUTF16", name := "length", desc := "([B)I" } : Jvm.MethodName)) ∈ lw_all := lw_g (lw_at lw_m2 149 rfl) rfl
theorem q453 : (Jvm.Cond.static ({ cls := "java/lang/StringUTF16", name := "length", desc := "([B)I" } : Jvm.MethodName)) ∈ lw_all := lw_g (lw_at lw_m2 150 rfl) rfl
theorem q454 : (Jvm.Cond.code ({ cls := "java/lang/StringUTF16", name := "length", desc := "([B)I" } : Jvm.MethodName) prog_23_method_6_code (1 : Nat) (Option.some Jvm.ClassFile.FieldType.int)) ∈ lw_all := lw_g (lw_at lw_m2 151 rfl) rfl
theorem q455 : (Jvm.Cond.methodLink "java/lang/StringUTF16" (414 : Nat) ({ cls := "java/lang/String", name := "checkIndex", desc := "(II)V" } : Jvm.MethodName)) ∈ lw_all := lw_g (lw_at lw_m2 152 rfl) rfl
theorem q456 : (Jvm.Cond.methodLink "java/lang/StringUTF16" (71 : Nat) ({ cls := "java/lang/StringUTF16", name := "getChar", desc := "([BI)C" } : Jvm.MethodName)) ∈ lw_all := lw_g (lw_at lw_m2 153 rfl) rfl
theorem q457 : (Jvm.Cond.static ({ cls := "java/lang/StringUTF16", name := "getChar", desc := "([BI)C" } : Jvm.MethodName)) ∈ lw_all := lw_g (lw_at lw_m2 154 rfl) rfl
theorem q458 : (Jvm.Cond.code ({ cls := "java/lang/StringUTF16", name := "getChar", desc := "([BI)C" } : Jvm.MethodName) prog_23_method_5_code (2 : Nat) (Option.some Jvm.ClassFile.FieldType.char)) ∈ lw_all := lw_g (lw_at lw_m2 155 rfl) rfl
theorem q459 : (Jvm.Cond.fieldLink "java/lang/StringUTF16" (44 : Nat) "java/lang/StringUTF16" "$assertionsDisabled" "Z") ∈ lw_all := lw_g (lw_at lw_m2 156 rfl) rfl
theorem q460 : (Jvm.Cond.laysStatic "java/lang/StringUTF16" "$assertionsDisabled" "Z") ∈ lw_tbl := lw_at lw_m2 157 rfl
theorem q461 : (Jvm.Cond.fieldLink "java/lang/StringUTF16" (59 : Nat) "java/lang/StringUTF16" "HI_BYTE_SHIFT" "I") ∈ lw_all := lw_g (lw_at lw_m2 158 rfl) rfl
theorem q462 : (Jvm.Cond.laysStatic "java/lang/StringUTF16" "HI_BYTE_SHIFT" "I") ∈ lw_tbl := lw_at lw_m2 159 rfl
theorem q463 : (Jvm.Cond.fieldLink "java/lang/StringUTF16" (63 : Nat) "java/lang/StringUTF16" "LO_BYTE_SHIFT" "I") ∈ lw_all := lw_g (lw_at lw_m2 160 rfl) rfl
theorem q464 : (Jvm.Cond.laysStatic "java/lang/StringUTF16" "LO_BYTE_SHIFT" "I") ∈ lw_tbl := lw_at lw_m2 161 rfl

/-! java/lang/Math -/
set_option maxRecDepth 100000
def RJ6 : String := "java/lang/Math"
abbrev cJ6_max : ByteArray := prog_17_method_65_code
def yJ6_max : MethodName := ⟨RJ6, "max", "(II)I"⟩
def dkwJ6_max_0 : List UInt8 := [26, 27, 161, 0, 7, 26, 167, 0, 4, 27, 172]
abbrev dktJ6_max_0 : List UInt8 := dkwJ6_max_0 ++ []
theorem dksJ6_max_0 : cJ6_max.data.toList.drop 0 = dktJ6_max_0 := by decide +kernel
theorem dJ6_max_0 : decode cJ6_max 0 = .ok (.iload_n 0, 1) := dk_26 (dk_at dksJ6_max_0 0 rfl rfl)
theorem dJ6_max_1 : decode cJ6_max 1 = .ok (.iload_n 1, 1) := dk_27 (dk_at dksJ6_max_0 1 rfl rfl)
theorem dJ6_max_2 : decode cJ6_max 2 = .ok (.if_icmp .lt 7, 3) := dk_161 0 7 (dk_at dksJ6_max_0 2 rfl rfl)
theorem dJ6_max_5 : decode cJ6_max 5 = .ok (.iload_n 0, 1) := dk_26 (dk_at dksJ6_max_0 5 rfl rfl)
theorem dJ6_max_6 : decode cJ6_max 6 = .ok (.goto 4, 3) := dk_167 0 4 (dk_at dksJ6_max_0 6 rfl rfl)
theorem dJ6_max_9 : decode cJ6_max 9 = .ok (.iload_n 1, 1) := dk_27 (dk_at dksJ6_max_0 9 rfl rfl)
theorem dJ6_max_10 : decode cJ6_max 10 = .ok (.ireturn, 1) := dk_172 (dk_at dksJ6_max_0 10 rfl rfl)
abbrev cJ6_min : ByteArray := prog_17_method_69_code
def yJ6_min : MethodName := ⟨RJ6, "min", "(II)I"⟩
def dkwJ6_min_0 : List UInt8 := [26, 27, 163, 0, 7, 26, 167, 0, 4, 27, 172]
abbrev dktJ6_min_0 : List UInt8 := dkwJ6_min_0 ++ []
theorem dksJ6_min_0 : cJ6_min.data.toList.drop 0 = dktJ6_min_0 := by decide +kernel
theorem dJ6_min_0 : decode cJ6_min 0 = .ok (.iload_n 0, 1) := dk_26 (dk_at dksJ6_min_0 0 rfl rfl)
theorem dJ6_min_1 : decode cJ6_min 1 = .ok (.iload_n 1, 1) := dk_27 (dk_at dksJ6_min_0 1 rfl rfl)
theorem dJ6_min_2 : decode cJ6_min 2 = .ok (.if_icmp .gt 7, 3) := dk_163 0 7 (dk_at dksJ6_min_0 2 rfl rfl)
theorem dJ6_min_5 : decode cJ6_min 5 = .ok (.iload_n 0, 1) := dk_26 (dk_at dksJ6_min_0 5 rfl rfl)
theorem dJ6_min_6 : decode cJ6_min 6 = .ok (.goto 4, 3) := dk_167 0 4 (dk_at dksJ6_min_0 6 rfl rfl)
theorem dJ6_min_9 : decode cJ6_min 9 = .ok (.iload_n 1, 1) := dk_27 (dk_at dksJ6_min_0 9 rfl rfl)
theorem dJ6_min_10 : decode cJ6_min 10 = .ok (.ireturn, 1) := dk_172 (dk_at dksJ6_min_0 10 rfl rfl)
theorem q80 : (Jvm.Cond.initialized "java/lang/Math") ∈ lw_all := lw_g (lw_at lw_m1 17 rfl) rfl
theorem q475 : (Jvm.Cond.static ({ cls := "java/lang/Math", name := "max", desc := "(II)I" } : Jvm.MethodName)) ∈ lw_all := lw_g (lw_at lw_m2 172 rfl) rfl
theorem q476 : (Jvm.Cond.code ({ cls := "java/lang/Math", name := "max", desc := "(II)I" } : Jvm.MethodName) prog_17_method_65_code (2 : Nat) (Option.some Jvm.ClassFile.FieldType.int)) ∈ lw_all := lw_g (lw_at lw_m2 173 rfl) rfl
theorem q624 : (Jvm.Cond.static ({ cls := "java/lang/Math", name := "min", desc := "(II)I" } : Jvm.MethodName)) ∈ lw_all := lw_g (lw_at lw_m3 81 rfl) rfl
theorem q625 : (Jvm.Cond.code ({ cls := "java/lang/Math", name := "min", desc := "(II)I" } : Jvm.MethodName) prog_17_method_69_code (2 : Nat) (Option.some Jvm.ClassFile.FieldType.int)) ∈ lw_all := lw_g (lw_at lw_m3 82 rfl) rfl

/-! java/lang/RuntimeException -/
set_option maxRecDepth 100000
def RJ7 : String := "java/lang/RuntimeException"
abbrev cJ7_init : ByteArray := prog_20_method_2_code
def yJ7_init : MethodName := ⟨RJ7, "<init>", "(Ljava/lang/String;)V"⟩
def dkwJ7_init_0 : List UInt8 := [42, 43, 183, 0, 7, 177]
abbrev dktJ7_init_0 : List UInt8 := dkwJ7_init_0 ++ []
theorem dksJ7_init_0 : cJ7_init.data.toList.drop 0 = dktJ7_init_0 := by decide +kernel
theorem dJ7_init_0 : decode cJ7_init 0 = .ok (.aload_n 0, 1) := dk_42 (dk_at dksJ7_init_0 0 rfl rfl)
theorem dJ7_init_1 : decode cJ7_init 1 = .ok (.aload_n 1, 1) := dk_43 (dk_at dksJ7_init_0 1 rfl rfl)
theorem dJ7_init_2 : decode cJ7_init 2 = .ok (.invokespecial 7, 3) := dk_183 0 7 (dk_at dksJ7_init_0 2 rfl rfl)
theorem dJ7_init_5 : decode cJ7_init 5 = .ok (.return_, 1) := dk_177 (dk_at dksJ7_init_0 5 rfl rfl)
abbrev cJ7_init_2 : ByteArray := prog_20_method_1_code
def yJ7_init_2 : MethodName := ⟨RJ7, "<init>", "()V"⟩
theorem dJ7_init_2_0 : decode cJ7_init_2 0 = .ok (.aload_n 0, 1) := by decide +kernel
theorem dJ7_init_2_1 : decode cJ7_init_2 1 = .ok (.invokespecial 1, 3) := by decide +kernel
theorem dJ7_init_2_4 : decode cJ7_init_2 4 = .ok (.return_, 1) := by decide +kernel
theorem q82 : (Jvm.Cond.initialized "java/lang/RuntimeException") ∈ lw_all := lw_g (lw_at lw_m1 19 rfl) rfl
theorem q329 : (Jvm.Cond.sameMethod "java/lang/RuntimeException" "java/lang/Throwable" "fillInStackTrace" "()Ljava/lang/Throwable;") ∈ lw_all := lw_g (lw_at lw_m2 26 rfl) rfl
theorem q332 : (Jvm.Cond.superclass "java/lang/RuntimeException" "java/lang/Exception") ∈ lw_all := lw_g (lw_at lw_m2 29 rfl) rfl
theorem q817 : (Jvm.Cond.instanceMethod ({ cls := "java/lang/RuntimeException", name := "<init>", desc := "(Ljava/lang/String;)V" } : Jvm.MethodName)) ∈ lw_all := lw_g (lw_at lw_m4 34 rfl) rfl
theorem q818 : (Jvm.Cond.code ({ cls := "java/lang/RuntimeException", name := "<init>", desc := "(Ljava/lang/String;)V" } : Jvm.MethodName) prog_20_method_2_code (2 : Nat) (Option.none : Option Jvm.ClassFile.FieldType)) ∈ lw_all := lw_g (lw_at lw_m4 35 rfl) rfl
theorem q819 : (Jvm.Cond.methodLink "java/lang/RuntimeException" (7 : Nat) ({ cls := "java/lang/Exception", name := "<init>", desc := "(Ljava/lang/String;)V" } : Jvm.MethodName)) ∈ lw_all := lw_g (lw_at lw_m4 36 rfl) rfl
theorem q833 : (Jvm.Cond.declares ({ cls := "java/lang/RuntimeException", name := "<init>", desc := "()V" } : Jvm.MethodName)) ∈ lw_tbl := lw_at lw_m4 50 rfl
theorem q834 : (Jvm.Cond.declares ({ cls := "java/lang/RuntimeException", name := "<init>", desc := "(Ljava/lang/String;)V" } : Jvm.MethodName)) ∈ lw_tbl := lw_at lw_m4 51 rfl
theorem q853 : (Jvm.Cond.instanceMethod ({ cls := "java/lang/RuntimeException", name := "<init>", desc := "()V" } : Jvm.MethodName)) ∈ lw_all := lw_g (lw_at lw_m4 70 rfl) rfl
theorem q854 : (Jvm.Cond.code ({ cls := "java/lang/RuntimeException", name := "<init>", desc := "()V" } : Jvm.MethodName) prog_20_method_1_code (1 : Nat) (Option.none : Option Jvm.ClassFile.FieldType)) ∈ lw_all := lw_g (lw_at lw_m4 71 rfl) rfl
theorem q855 : (Jvm.Cond.methodLink "java/lang/RuntimeException" (1 : Nat) ({ cls := "java/lang/Exception", name := "<init>", desc := "()V" } : Jvm.MethodName)) ∈ lw_all := lw_g (lw_at lw_m4 72 rfl) rfl
theorem q873 : (Jvm.Cond.castable "java/lang/RuntimeException" "java/lang/Throwable") ∈ lw_tbl := lw_at lw_m4 90 rfl

/-! java/lang/NegativeArraySizeException -/
set_option maxRecDepth 100000
def RJ8 : String := "java/lang/NegativeArraySizeException"
def TJ8 : u_T := fun k => match k with
  | 0 => ("java/lang/Throwable", "backtrace", "Ljava/lang/Object;", false)
  | 1 => ("java/lang/Throwable", "detailMessage", "Ljava/lang/String;", false)
  | 2 => ("java/lang/Throwable", "cause", "Ljava/lang/Throwable;", false)
  | 3 => ("java/lang/Throwable", "stackTrace", "[Ljava/lang/StackTraceElement;", false)
  | 4 => ("java/lang/Throwable", "depth", "I", false)
  | _ => ("java/lang/Throwable", "suppressedExceptions", "Ljava/util/List;", false)
def tyJ8 : Nat → FieldType := fun k => match k with
  | 0 => .object "java/lang/Object"
  | 1 => .object "java/lang/String"
  | 2 => .object "java/lang/Throwable"
  | 3 => .array (.object "java/lang/StackTraceElement")
  | 4 => .int
  | _ => .object "java/util/List"
abbrev wsJ80 : List Cond := u_ws RJ8 TJ8 6
theorem nmJ8 : ∀ a, a < 6 → ∀ b, b < 6 → a ≠ b → (TJ8 a).2.1 ≠ (TJ8 b).2.1 := by decide +kernel
theorem tyJ8_ok : ∀ k, k < 6 → parseFieldDescriptor (TJ8 k).2.2.1 = some (tyJ8 k) := by decide +kernel
abbrev cJ8_init : ByteArray := prog_18_method_2_code
def yJ8_init : MethodName := ⟨RJ8, "<init>", "(Ljava/lang/String;)V"⟩
def dkwJ8_init_0 : List UInt8 := [42, 43, 183, 0, 7, 177]
abbrev dktJ8_init_0 : List UInt8 := dkwJ8_init_0 ++ []
theorem dksJ8_init_0 : cJ8_init.data.toList.drop 0 = dktJ8_init_0 := by decide +kernel
theorem dJ8_init_0 : decode cJ8_init 0 = .ok (.aload_n 0, 1) := dk_42 (dk_at dksJ8_init_0 0 rfl rfl)
theorem dJ8_init_1 : decode cJ8_init 1 = .ok (.aload_n 1, 1) := dk_43 (dk_at dksJ8_init_0 1 rfl rfl)
theorem dJ8_init_2 : decode cJ8_init 2 = .ok (.invokespecial 7, 3) := dk_183 0 7 (dk_at dksJ8_init_0 2 rfl rfl)
theorem dJ8_init_5 : decode cJ8_init 5 = .ok (.return_, 1) := dk_177 (dk_at dksJ8_init_0 5 rfl rfl)
theorem q83 : (Jvm.Cond.initialized "java/lang/NegativeArraySizeException") ∈ lw_all := lw_g (lw_at lw_m1 20 rfl) rfl
theorem q319 : (Jvm.Cond.selects "java/lang/NegativeArraySizeException" ({ cls := "java/lang/Throwable", name := "fillInStackTrace", desc := "()Ljava/lang/Throwable;" } : Jvm.MethodName) ({ cls := "java/lang/Throwable", name := "fillInStackTrace", desc := "()Ljava/lang/Throwable;" } : Jvm.MethodName)) ∈ lw_all := lw_g (lw_at lw_m2 16 rfl) rfl
theorem q813 : (Jvm.Cond.instantiable "java/lang/NegativeArraySizeException" (6 : Nat)) ∈ lw_all := lw_g (lw_at lw_m4 30 rfl) rfl
theorem q814 : (Jvm.Cond.instanceMethod ({ cls := "java/lang/NegativeArraySizeException", name := "<init>", desc := "(Ljava/lang/String;)V" } : Jvm.MethodName)) ∈ lw_all := lw_g (lw_at lw_m4 31 rfl) rfl
theorem q815 : (Jvm.Cond.code ({ cls := "java/lang/NegativeArraySizeException", name := "<init>", desc := "(Ljava/lang/String;)V" } : Jvm.MethodName) prog_18_method_2_code (2 : Nat) (Option.none : Option Jvm.ClassFile.FieldType)) ∈ lw_all := lw_g (lw_at lw_m4 32 rfl) rfl
theorem q816 : (Jvm.Cond.methodLink "java/lang/NegativeArraySizeException" (7 : Nat) ({ cls := "java/lang/RuntimeException", name := "<init>", desc := "(Ljava/lang/String;)V" } : Jvm.MethodName)) ∈ lw_all := lw_g (lw_at lw_m4 33 rfl) rfl
theorem q825 : (Jvm.Cond.lays "java/lang/NegativeArraySizeException" "java/lang/Throwable" "backtrace" "Ljava/lang/Object;") ∈ lw_all := lw_g (lw_at lw_m4 42 rfl) rfl
theorem q826 : (Jvm.Cond.lays "java/lang/NegativeArraySizeException" "java/lang/Throwable" "detailMessage" "Ljava/lang/String;") ∈ lw_all := lw_g (lw_at lw_m4 43 rfl) rfl
theorem q827 : (Jvm.Cond.lays "java/lang/NegativeArraySizeException" "java/lang/Throwable" "cause" "Ljava/lang/Throwable;") ∈ lw_all := lw_g (lw_at lw_m4 44 rfl) rfl
theorem q828 : (Jvm.Cond.lays "java/lang/NegativeArraySizeException" "java/lang/Throwable" "stackTrace" "[Ljava/lang/StackTraceElement;") ∈ lw_all := lw_g (lw_at lw_m4 45 rfl) rfl
theorem q829 : (Jvm.Cond.lays "java/lang/NegativeArraySizeException" "java/lang/Throwable" "depth" "I") ∈ lw_all := lw_g (lw_at lw_m4 46 rfl) rfl
theorem q830 : (Jvm.Cond.lays "java/lang/NegativeArraySizeException" "java/lang/Throwable" "suppressedExceptions" "Ljava/util/List;") ∈ lw_all := lw_g (lw_at lw_m4 47 rfl) rfl
theorem q831 : (Jvm.Cond.superclass "java/lang/NegativeArraySizeException" "java/lang/RuntimeException") ∈ lw_all := lw_g (lw_at lw_m4 48 rfl) rfl
theorem q832 : (Jvm.Cond.castable "java/lang/NegativeArraySizeException" "java/lang/NegativeArraySizeException") ∈ lw_tbl := lw_at lw_m4 49 rfl
theorem q835 : (Jvm.Cond.selects "java/lang/NegativeArraySizeException" ({ cls := "java/lang/Throwable", name := "fillInStackTrace", desc := "(I)Ljava/lang/Throwable;" } : Jvm.MethodName) ({ cls := "java/lang/Throwable", name := "fillInStackTrace", desc := "(I)Ljava/lang/Throwable;" } : Jvm.MethodName)) ∈ lw_all := lw_g (lw_at lw_m4 52 rfl) rfl
theorem in_J8 : ∀ w ∈ wsJ80, w ∈ lw_all := lw_in wsJ80 [825, 826, 827, 828, 829, 830] (by decide +kernel) (by decide +kernel)

/-! java/lang/NullPointerException -/
set_option maxRecDepth 100000
def RJ9 : String := "java/lang/NullPointerException"
def TJ9 : u_T := fun k => match k with
  | 0 => ("java/lang/Throwable", "backtrace", "Ljava/lang/Object;", false)
  | 1 => ("java/lang/Throwable", "detailMessage", "Ljava/lang/String;", false)
  | 2 => ("java/lang/Throwable", "cause", "Ljava/lang/Throwable;", false)
  | 3 => ("java/lang/Throwable", "stackTrace", "[Ljava/lang/StackTraceElement;", false)
  | 4 => ("java/lang/Throwable", "depth", "I", false)
  | 5 => ("java/lang/Throwable", "suppressedExceptions", "Ljava/util/List;", false)
  | 6 => ("java/lang/NullPointerException", "extendedMessageState", "I", false)
  | _ => ("java/lang/NullPointerException", "extendedMessage", "Ljava/lang/String;", false)
def tyJ9 : Nat → FieldType := fun k => match k with
  | 0 => .object "java/lang/Object"
  | 1 => .object "java/lang/String"
  | 2 => .object "java/lang/Throwable"
  | 3 => .array (.object "java/lang/StackTraceElement")
  | 4 => .int
  | 5 => .object "java/util/List"
  | 6 => .int
  | _ => .object "java/lang/String"
abbrev wsJ90 : List Cond := u_ws RJ9 TJ9 8
theorem nmJ9 : ∀ a, a < 8 → ∀ b, b < 8 → a ≠ b → (TJ9 a).2.1 ≠ (TJ9 b).2.1 := by decide +kernel
theorem tyJ9_ok : ∀ k, k < 8 → parseFieldDescriptor (TJ9 k).2.2.1 = some (tyJ9 k) := by decide +kernel
abbrev cJ9_init : ByteArray := prog_19_method_1_code
def yJ9_init : MethodName := ⟨RJ9, "<init>", "()V"⟩
theorem dJ9_init_0 : decode cJ9_init 0 = .ok (.aload_n 0, 1) := by decide +kernel
theorem dJ9_init_1 : decode cJ9_init 1 = .ok (.invokespecial 1, 3) := by decide +kernel
theorem dJ9_init_4 : decode cJ9_init 4 = .ok (.return_, 1) := by decide +kernel
theorem q84 : (Jvm.Cond.initialized "java/lang/NullPointerException") ∈ lw_all := lw_g (lw_at lw_m1 21 rfl) rfl
theorem q320 : (Jvm.Cond.selects "java/lang/NullPointerException" ({ cls := "java/lang/Throwable", name := "fillInStackTrace", desc := "()Ljava/lang/Throwable;" } : Jvm.MethodName) ({ cls := "java/lang/NullPointerException", name := "fillInStackTrace", desc := "()Ljava/lang/Throwable;" } : Jvm.MethodName)) ∈ lw_all := lw_g (lw_at lw_m2 17 rfl) rfl
theorem q321 : (Jvm.Cond.instanceMethod ({ cls := "java/lang/NullPointerException", name := "fillInStackTrace", desc := "()Ljava/lang/Throwable;" } : Jvm.MethodName)) ∈ lw_all := lw_g (lw_at lw_m2 18 rfl) rfl
theorem q322 : (Jvm.Cond.codeSync ({ cls := "java/lang/NullPointerException", name := "fillInStackTrace", desc := "()Ljava/lang/Throwable;" } : Jvm.MethodName) prog_19_method_3_code (1 : Nat) (Option.some (Jvm.ClassFile.FieldType.object "java/lang/Throwable"))) ∈ lw_all := lw_g (lw_at lw_m2 19 rfl) rfl
theorem q323 : (Jvm.Cond.methodLink "java/lang/NullPointerException" (16 : Nat) ({ cls := "java/lang/NullPointerException", name := "getExtendedNPEMessage", desc := "()Ljava/lang/String;" } : Jvm.MethodName)) ∈ lw_all := lw_g (lw_at lw_m2 20 rfl) rfl
theorem q324 : (Jvm.Cond.privateMethod ({ cls := "java/lang/NullPointerException", name := "getExtendedNPEMessage", desc := "()Ljava/lang/String;" } : Jvm.MethodName)) ∈ lw_tbl := lw_at lw_m2 21 rfl
theorem q325 : (Jvm.Cond.instanceMethod ({ cls := "java/lang/NullPointerException", name := "getExtendedNPEMessage", desc := "()Ljava/lang/String;" } : Jvm.MethodName)) ∈ lw_all := lw_g (lw_at lw_m2 22 rfl) rfl
theorem q326 : (Jvm.Cond.instantiable "java/lang/NullPointerException" (8 : Nat)) ∈ lw_all := lw_g (lw_at lw_m2 23 rfl) rfl
theorem q327 : (Jvm.Cond.native ({ cls := "java/lang/NullPointerException", name := "getExtendedNPEMessage", desc := "()Ljava/lang/String;" } : Jvm.MethodName)) ∈ lw_all := lw_g (lw_at lw_m2 24 rfl) rfl
theorem q328 : (Jvm.Cond.methodLink "java/lang/NullPointerException" (24 : Nat) ({ cls := "java/lang/RuntimeException", name := "fillInStackTrace", desc := "()Ljava/lang/Throwable;" } : Jvm.MethodName)) ∈ lw_all := lw_g (lw_at lw_m2 25 rfl) rfl
theorem q331 : (Jvm.Cond.superclass "java/lang/NullPointerException" "java/lang/RuntimeException") ∈ lw_all := lw_g (lw_at lw_m2 28 rfl) rfl
theorem q850 : (Jvm.Cond.instanceMethod ({ cls := "java/lang/NullPointerException", name := "<init>", desc := "()V" } : Jvm.MethodName)) ∈ lw_all := lw_g (lw_at lw_m4 67 rfl) rfl
theorem q851 : (Jvm.Cond.code ({ cls := "java/lang/NullPointerException", name := "<init>", desc := "()V" } : Jvm.MethodName) prog_19_method_1_code (1 : Nat) (Option.none : Option Jvm.ClassFile.FieldType)) ∈ lw_all := lw_g (lw_at lw_m4 68 rfl) rfl
theorem q852 : (Jvm.Cond.methodLink "java/lang/NullPointerException" (1 : Nat) ({ cls := "java/lang/RuntimeException", name := "<init>", desc := "()V" } : Jvm.MethodName)) ∈ lw_all := lw_g (lw_at lw_m4 69 rfl) rfl
theorem q859 : (Jvm.Cond.fieldLink "java/lang/NullPointerException" (10 : Nat) "java/lang/NullPointerException" "extendedMessageState" "I") ∈ lw_all := lw_g (lw_at lw_m4 76 rfl) rfl
theorem q860 : (Jvm.Cond.fieldLink "java/lang/NullPointerException" (20 : Nat) "java/lang/NullPointerException" "extendedMessage" "Ljava/lang/String;") ∈ lw_all := lw_g (lw_at lw_m4 77 rfl) rfl
theorem q861 : (Jvm.Cond.lays "java/lang/NullPointerException" "java/lang/NullPointerException" "extendedMessageState" "I") ∈ lw_all := lw_g (lw_at lw_m4 78 rfl) rfl
theorem q862 : (Jvm.Cond.soleField "java/lang/NullPointerException" "extendedMessageState") ∈ lw_all := lw_g (lw_at lw_m4 79 rfl) rfl
theorem q863 : (Jvm.Cond.lays "java/lang/NullPointerException" "java/lang/NullPointerException" "extendedMessage" "Ljava/lang/String;") ∈ lw_all := lw_g (lw_at lw_m4 80 rfl) rfl
theorem q864 : (Jvm.Cond.soleField "java/lang/NullPointerException" "extendedMessage") ∈ lw_all := lw_g (lw_at lw_m4 81 rfl) rfl
theorem q865 : (Jvm.Cond.lays "java/lang/NullPointerException" "java/lang/Throwable" "backtrace" "Ljava/lang/Object;") ∈ lw_all := lw_g (lw_at lw_m4 82 rfl) rfl
theorem q866 : (Jvm.Cond.lays "java/lang/NullPointerException" "java/lang/Throwable" "detailMessage" "Ljava/lang/String;") ∈ lw_all := lw_g (lw_at lw_m4 83 rfl) rfl
theorem q867 : (Jvm.Cond.lays "java/lang/NullPointerException" "java/lang/Throwable" "cause" "Ljava/lang/Throwable;") ∈ lw_all := lw_g (lw_at lw_m4 84 rfl) rfl
theorem q868 : (Jvm.Cond.lays "java/lang/NullPointerException" "java/lang/Throwable" "stackTrace" "[Ljava/lang/StackTraceElement;") ∈ lw_all := lw_g (lw_at lw_m4 85 rfl) rfl
theorem q869 : (Jvm.Cond.lays "java/lang/NullPointerException" "java/lang/Throwable" "depth" "I") ∈ lw_all := lw_g (lw_at lw_m4 86 rfl) rfl
theorem q870 : (Jvm.Cond.lays "java/lang/NullPointerException" "java/lang/Throwable" "suppressedExceptions" "Ljava/util/List;") ∈ lw_all := lw_g (lw_at lw_m4 87 rfl) rfl
theorem q871 : (Jvm.Cond.castable "java/lang/NullPointerException" "java/lang/NullPointerException") ∈ lw_tbl := lw_at lw_m4 88 rfl
theorem q872 : (Jvm.Cond.selects "java/lang/NullPointerException" ({ cls := "java/lang/Throwable", name := "fillInStackTrace", desc := "(I)Ljava/lang/Throwable;" } : Jvm.MethodName) ({ cls := "java/lang/Throwable", name := "fillInStackTrace", desc := "(I)Ljava/lang/Throwable;" } : Jvm.MethodName)) ∈ lw_all := lw_g (lw_at lw_m4 89 rfl) rfl
theorem in_J9 : ∀ w ∈ wsJ90, w ∈ lw_all := lw_in wsJ90 [865, 866, 867, 868, 869, 870, 861, 863] (by decide +kernel) (by decide +kernel)

/-! java/lang/IndexOutOfBoundsException -/
set_option maxRecDepth 100000
def RJ10 : String := "java/lang/IndexOutOfBoundsException"
abbrev cJ10_init : ByteArray := prog_15_method_2_code
def yJ10_init : MethodName := ⟨RJ10, "<init>", "(Ljava/lang/String;)V"⟩
def dkwJ10_init_0 : List UInt8 := [42, 43, 183, 0, 7, 177]
abbrev dktJ10_init_0 : List UInt8 := dkwJ10_init_0 ++ []
theorem dksJ10_init_0 : cJ10_init.data.toList.drop 0 = dktJ10_init_0 := by decide +kernel
theorem dJ10_init_0 : decode cJ10_init 0 = .ok (.aload_n 0, 1) := dk_42 (dk_at dksJ10_init_0 0 rfl rfl)
theorem dJ10_init_1 : decode cJ10_init 1 = .ok (.aload_n 1, 1) := dk_43 (dk_at dksJ10_init_0 1 rfl rfl)
theorem dJ10_init_2 : decode cJ10_init 2 = .ok (.invokespecial 7, 3) := dk_183 0 7 (dk_at dksJ10_init_0 2 rfl rfl)
theorem dJ10_init_5 : decode cJ10_init 5 = .ok (.return_, 1) := dk_177 (dk_at dksJ10_init_0 5 rfl rfl)
theorem q85 : (Jvm.Cond.initialized "java/lang/IndexOutOfBoundsException") ∈ lw_all := lw_g (lw_at lw_m1 22 rfl) rfl
theorem q879 : (Jvm.Cond.instanceMethod ({ cls := "java/lang/IndexOutOfBoundsException", name := "<init>", desc := "(Ljava/lang/String;)V" } : Jvm.MethodName)) ∈ lw_all := lw_g (lw_at lw_m4 96 rfl) rfl
theorem q880 : (Jvm.Cond.code ({ cls := "java/lang/IndexOutOfBoundsException", name := "<init>", desc := "(Ljava/lang/String;)V" } : Jvm.MethodName) prog_15_method_2_code (2 : Nat) (Option.none : Option Jvm.ClassFile.FieldType)) ∈ lw_all := lw_g (lw_at lw_m4 97 rfl) rfl
theorem q881 : (Jvm.Cond.methodLink "java/lang/IndexOutOfBoundsException" (7 : Nat) ({ cls := "java/lang/RuntimeException", name := "<init>", desc := "(Ljava/lang/String;)V" } : Jvm.MethodName)) ∈ lw_all := lw_g (lw_at lw_m4 98 rfl) rfl
theorem q890 : (Jvm.Cond.declares ({ cls := "java/lang/IndexOutOfBoundsException", name := "<init>", desc := "()V" } : Jvm.MethodName)) ∈ lw_tbl := lw_at lw_m4 107 rfl
theorem q891 : (Jvm.Cond.declares ({ cls := "java/lang/IndexOutOfBoundsException", name := "<init>", desc := "(Ljava/lang/String;)V" } : Jvm.MethodName)) ∈ lw_tbl := lw_at lw_m4 108 rfl

/-! java/lang/ArrayIndexOutOfBoundsException -/
set_option maxRecDepth 100000
def RJ11 : String := "java/lang/ArrayIndexOutOfBoundsException"
def TJ11 : u_T := fun k => match k with
  | 0 => ("java/lang/Throwable", "backtrace", "Ljava/lang/Object;", false)
  | 1 => ("java/lang/Throwable", "detailMessage", "Ljava/lang/String;", false)
  | 2 => ("java/lang/Throwable", "cause", "Ljava/lang/Throwable;", false)
  | 3 => ("java/lang/Throwable", "stackTrace", "[Ljava/lang/StackTraceElement;", false)
  | 4 => ("java/lang/Throwable", "depth", "I", false)
  | _ => ("java/lang/Throwable", "suppressedExceptions", "Ljava/util/List;", false)
def tyJ11 : Nat → FieldType := fun k => match k with
  | 0 => .object "java/lang/Object"
  | 1 => .object "java/lang/String"
  | 2 => .object "java/lang/Throwable"
  | 3 => .array (.object "java/lang/StackTraceElement")
  | 4 => .int
  | _ => .object "java/util/List"
abbrev wsJ110 : List Cond := u_ws RJ11 TJ11 6
theorem nmJ11 : ∀ a, a < 6 → ∀ b, b < 6 → a ≠ b → (TJ11 a).2.1 ≠ (TJ11 b).2.1 := by decide +kernel
theorem tyJ11_ok : ∀ k, k < 6 → parseFieldDescriptor (TJ11 k).2.2.1 = some (tyJ11 k) := by decide +kernel
abbrev cJ11_init : ByteArray := prog_12_method_2_code
def yJ11_init : MethodName := ⟨RJ11, "<init>", "(Ljava/lang/String;)V"⟩
def dkwJ11_init_0 : List UInt8 := [42, 43, 183, 0, 7, 177]
abbrev dktJ11_init_0 : List UInt8 := dkwJ11_init_0 ++ []
theorem dksJ11_init_0 : cJ11_init.data.toList.drop 0 = dktJ11_init_0 := by decide +kernel
theorem dJ11_init_0 : decode cJ11_init 0 = .ok (.aload_n 0, 1) := dk_42 (dk_at dksJ11_init_0 0 rfl rfl)
theorem dJ11_init_1 : decode cJ11_init 1 = .ok (.aload_n 1, 1) := dk_43 (dk_at dksJ11_init_0 1 rfl rfl)
theorem dJ11_init_2 : decode cJ11_init 2 = .ok (.invokespecial 7, 3) := dk_183 0 7 (dk_at dksJ11_init_0 2 rfl rfl)
theorem dJ11_init_5 : decode cJ11_init 5 = .ok (.return_, 1) := dk_177 (dk_at dksJ11_init_0 5 rfl rfl)
theorem q86 : (Jvm.Cond.initialized "java/lang/ArrayIndexOutOfBoundsException") ∈ lw_all := lw_g (lw_at lw_m1 23 rfl) rfl
theorem q317 : (Jvm.Cond.selects "java/lang/ArrayIndexOutOfBoundsException" ({ cls := "java/lang/Throwable", name := "fillInStackTrace", desc := "()Ljava/lang/Throwable;" } : Jvm.MethodName) ({ cls := "java/lang/Throwable", name := "fillInStackTrace", desc := "()Ljava/lang/Throwable;" } : Jvm.MethodName)) ∈ lw_all := lw_g (lw_at lw_m2 14 rfl) rfl
theorem q875 : (Jvm.Cond.instantiable "java/lang/ArrayIndexOutOfBoundsException" (6 : Nat)) ∈ lw_all := lw_g (lw_at lw_m4 92 rfl) rfl
theorem q876 : (Jvm.Cond.instanceMethod ({ cls := "java/lang/ArrayIndexOutOfBoundsException", name := "<init>", desc := "(Ljava/lang/String;)V" } : Jvm.MethodName)) ∈ lw_all := lw_g (lw_at lw_m4 93 rfl) rfl
theorem q877 : (Jvm.Cond.code ({ cls := "java/lang/ArrayIndexOutOfBoundsException", name := "<init>", desc := "(Ljava/lang/String;)V" } : Jvm.MethodName) prog_12_method_2_code (2 : Nat) (Option.none : Option Jvm.ClassFile.FieldType)) ∈ lw_all := lw_g (lw_at lw_m4 94 rfl) rfl
theorem q878 : (Jvm.Cond.methodLink "java/lang/ArrayIndexOutOfBoundsException" (7 : Nat) ({ cls := "java/lang/IndexOutOfBoundsException", name := "<init>", desc := "(Ljava/lang/String;)V" } : Jvm.MethodName)) ∈ lw_all := lw_g (lw_at lw_m4 95 rfl) rfl
theorem q882 : (Jvm.Cond.lays "java/lang/ArrayIndexOutOfBoundsException" "java/lang/Throwable" "backtrace" "Ljava/lang/Object;") ∈ lw_all := lw_g (lw_at lw_m4 99 rfl) rfl
theorem q883 : (Jvm.Cond.lays "java/lang/ArrayIndexOutOfBoundsException" "java/lang/Throwable" "detailMessage" "Ljava/lang/String;") ∈ lw_all := lw_g (lw_at lw_m4 100 rfl) rfl
theorem q884 : (Jvm.Cond.lays "java/lang/ArrayIndexOutOfBoundsException" "java/lang/Throwable" "cause" "Ljava/lang/Throwable;") ∈ lw_all := lw_g (lw_at lw_m4 101 rfl) rfl
theorem q885 : (Jvm.Cond.lays "java/lang/ArrayIndexOutOfBoundsException" "java/lang/Throwable" "stackTrace" "[Ljava/lang/StackTraceElement;") ∈ lw_all := lw_g (lw_at lw_m4 102 rfl) rfl
theorem q886 : (Jvm.Cond.lays "java/lang/ArrayIndexOutOfBoundsException" "java/lang/Throwable" "depth" "I") ∈ lw_all := lw_g (lw_at lw_m4 103 rfl) rfl
theorem q887 : (Jvm.Cond.lays "java/lang/ArrayIndexOutOfBoundsException" "java/lang/Throwable" "suppressedExceptions" "Ljava/util/List;") ∈ lw_all := lw_g (lw_at lw_m4 104 rfl) rfl
theorem q888 : (Jvm.Cond.superclass "java/lang/ArrayIndexOutOfBoundsException" "java/lang/IndexOutOfBoundsException") ∈ lw_all := lw_g (lw_at lw_m4 105 rfl) rfl
theorem q889 : (Jvm.Cond.castable "java/lang/ArrayIndexOutOfBoundsException" "java/lang/ArrayIndexOutOfBoundsException") ∈ lw_tbl := lw_at lw_m4 106 rfl
theorem q892 : (Jvm.Cond.selects "java/lang/ArrayIndexOutOfBoundsException" ({ cls := "java/lang/Throwable", name := "fillInStackTrace", desc := "(I)Ljava/lang/Throwable;" } : Jvm.MethodName) ({ cls := "java/lang/Throwable", name := "fillInStackTrace", desc := "(I)Ljava/lang/Throwable;" } : Jvm.MethodName)) ∈ lw_all := lw_g (lw_at lw_m4 109 rfl) rfl
theorem q1321 : (Jvm.Cond.castable "java/lang/ArrayIndexOutOfBoundsException" "java/lang/IndexOutOfBoundsException") ∈ lw_tbl := lw_at lw_m6 58 rfl
theorem in_J11 : ∀ w ∈ wsJ110, w ∈ lw_all := lw_in wsJ110 [882, 883, 884, 885, 886, 887] (by decide +kernel) (by decide +kernel)

/-! java/lang/ClassCastException -/
set_option maxRecDepth 100000
def RJ12 : String := "java/lang/ClassCastException"
def TJ12 : u_T := fun k => match k with
  | 0 => ("java/lang/Throwable", "backtrace", "Ljava/lang/Object;", false)
  | 1 => ("java/lang/Throwable", "detailMessage", "Ljava/lang/String;", false)
  | 2 => ("java/lang/Throwable", "cause", "Ljava/lang/Throwable;", false)
  | 3 => ("java/lang/Throwable", "stackTrace", "[Ljava/lang/StackTraceElement;", false)
  | 4 => ("java/lang/Throwable", "depth", "I", false)
  | _ => ("java/lang/Throwable", "suppressedExceptions", "Ljava/util/List;", false)
def tyJ12 : Nat → FieldType := fun k => match k with
  | 0 => .object "java/lang/Object"
  | 1 => .object "java/lang/String"
  | 2 => .object "java/lang/Throwable"
  | 3 => .array (.object "java/lang/StackTraceElement")
  | 4 => .int
  | _ => .object "java/util/List"
abbrev wsJ120 : List Cond := u_ws RJ12 TJ12 6
theorem nmJ12 : ∀ a, a < 6 → ∀ b, b < 6 → a ≠ b → (TJ12 a).2.1 ≠ (TJ12 b).2.1 := by decide +kernel
theorem tyJ12_ok : ∀ k, k < 6 → parseFieldDescriptor (TJ12 k).2.2.1 = some (tyJ12 k) := by decide +kernel
abbrev cJ12_init : ByteArray := prog_13_method_2_code
def yJ12_init : MethodName := ⟨RJ12, "<init>", "(Ljava/lang/String;)V"⟩
def dkwJ12_init_0 : List UInt8 := [42, 43, 183, 0, 7, 177]
abbrev dktJ12_init_0 : List UInt8 := dkwJ12_init_0 ++ []
theorem dksJ12_init_0 : cJ12_init.data.toList.drop 0 = dktJ12_init_0 := by decide +kernel
theorem dJ12_init_0 : decode cJ12_init 0 = .ok (.aload_n 0, 1) := dk_42 (dk_at dksJ12_init_0 0 rfl rfl)
theorem dJ12_init_1 : decode cJ12_init 1 = .ok (.aload_n 1, 1) := dk_43 (dk_at dksJ12_init_0 1 rfl rfl)
theorem dJ12_init_2 : decode cJ12_init 2 = .ok (.invokespecial 7, 3) := dk_183 0 7 (dk_at dksJ12_init_0 2 rfl rfl)
theorem dJ12_init_5 : decode cJ12_init 5 = .ok (.return_, 1) := dk_177 (dk_at dksJ12_init_0 5 rfl rfl)
theorem q87 : (Jvm.Cond.initialized "java/lang/ClassCastException") ∈ lw_all := lw_g (lw_at lw_m1 24 rfl) rfl
theorem q318 : (Jvm.Cond.selects "java/lang/ClassCastException" ({ cls := "java/lang/Throwable", name := "fillInStackTrace", desc := "()Ljava/lang/Throwable;" } : Jvm.MethodName) ({ cls := "java/lang/Throwable", name := "fillInStackTrace", desc := "()Ljava/lang/Throwable;" } : Jvm.MethodName)) ∈ lw_all := lw_g (lw_at lw_m2 15 rfl) rfl
theorem q901 : (Jvm.Cond.instantiable "java/lang/ClassCastException" (6 : Nat)) ∈ lw_all := lw_g (lw_at lw_m4 118 rfl) rfl
theorem q902 : (Jvm.Cond.instanceMethod ({ cls := "java/lang/ClassCastException", name := "<init>", desc := "(Ljava/lang/String;)V" } : Jvm.MethodName)) ∈ lw_all := lw_g (lw_at lw_m4 119 rfl) rfl
theorem q903 : (Jvm.Cond.code ({ cls := "java/lang/ClassCastException", name := "<init>", desc := "(Ljava/lang/String;)V" } : Jvm.MethodName) prog_13_method_2_code (2 : Nat) (Option.none : Option Jvm.ClassFile.FieldType)) ∈ lw_all := lw_g (lw_at lw_m4 120 rfl) rfl
theorem q904 : (Jvm.Cond.methodLink "java/lang/ClassCastException" (7 : Nat) ({ cls := "java/lang/RuntimeException", name := "<init>", desc := "(Ljava/lang/String;)V" } : Jvm.MethodName)) ∈ lw_all := lw_g (lw_at lw_m4 121 rfl) rfl
theorem q905 : (Jvm.Cond.lays "java/lang/ClassCastException" "java/lang/Throwable" "backtrace" "Ljava/lang/Object;") ∈ lw_all := lw_g (lw_at lw_m4 122 rfl) rfl
theorem q906 : (Jvm.Cond.lays "java/lang/ClassCastException" "java/lang/Throwable" "detailMessage" "Ljava/lang/String;") ∈ lw_all := lw_g (lw_at lw_m4 123 rfl) rfl
theorem q907 : (Jvm.Cond.lays "java/lang/ClassCastException" "java/lang/Throwable" "cause" "Ljava/lang/Throwable;") ∈ lw_all := lw_g (lw_at lw_m4 124 rfl) rfl
theorem q908 : (Jvm.Cond.lays "java/lang/ClassCastException" "java/lang/Throwable" "stackTrace" "[Ljava/lang/StackTraceElement;") ∈ lw_all := lw_g (lw_at lw_m4 125 rfl) rfl
theorem q909 : (Jvm.Cond.lays "java/lang/ClassCastException" "java/lang/Throwable" "depth" "I") ∈ lw_all := lw_g (lw_at lw_m4 126 rfl) rfl
theorem q910 : (Jvm.Cond.lays "java/lang/ClassCastException" "java/lang/Throwable" "suppressedExceptions" "Ljava/util/List;") ∈ lw_all := lw_g (lw_at lw_m4 127 rfl) rfl
theorem q911 : (Jvm.Cond.superclass "java/lang/ClassCastException" "java/lang/RuntimeException") ∈ lw_all := lw_g (lw_at lw_m4 128 rfl) rfl
theorem q912 : (Jvm.Cond.castable "java/lang/ClassCastException" "java/lang/ClassCastException") ∈ lw_tbl := lw_at lw_m4 129 rfl
theorem q913 : (Jvm.Cond.selects "java/lang/ClassCastException" ({ cls := "java/lang/Throwable", name := "fillInStackTrace", desc := "(I)Ljava/lang/Throwable;" } : Jvm.MethodName) ({ cls := "java/lang/Throwable", name := "fillInStackTrace", desc := "(I)Ljava/lang/Throwable;" } : Jvm.MethodName)) ∈ lw_all := lw_g (lw_at lw_m4 130 rfl) rfl
theorem in_J12 : ∀ w ∈ wsJ120, w ∈ lw_all := lw_in wsJ120 [905, 906, 907, 908, 909, 910] (by decide +kernel) (by decide +kernel)

/-! java/lang/Integer -/
set_option maxRecDepth 100000
def RJ13 : String := "java/lang/Integer"
abbrev cJ13_bitCount : ByteArray := prog_16_method_49_code
def yJ13_bitCount : MethodName := ⟨RJ13, "bitCount", "(I)I"⟩
def dkwJ13_bitCount_2 : List UInt8 := [26, 16, 63, 126, 172]
abbrev dktJ13_bitCount_2 : List UInt8 := dkwJ13_bitCount_2 ++ []
def dkwJ13_bitCount_1 : List UInt8 := [26, 26, 7, 124, 96, 19, 1, 11, 126, 59, 26, 26, 16, 8, 124, 96, 59, 26, 26, 16, 16, 124, 96, 59]
abbrev dktJ13_bitCount_1 : List UInt8 := dkwJ13_bitCount_1 ++ dktJ13_bitCount_2
def dkwJ13_bitCount_0 : List UInt8 := [26, 26, 4, 124, 19, 1, 9, 126, 100, 59, 26, 19, 1, 10, 126, 26, 5, 124, 19, 1, 10, 126, 96, 59]
abbrev dktJ13_bitCount_0 : List UInt8 := dkwJ13_bitCount_0 ++ dktJ13_bitCount_1
theorem dksJ13_bitCount_0 : cJ13_bitCount.data.toList.drop 0 = dktJ13_bitCount_0 := by decide +kernel
theorem dksJ13_bitCount_1 : cJ13_bitCount.data.toList.drop 24 = dktJ13_bitCount_1 := dk_seg dksJ13_bitCount_0 24 rfl rfl
theorem dksJ13_bitCount_2 : cJ13_bitCount.data.toList.drop 48 = dktJ13_bitCount_2 := dk_seg dksJ13_bitCount_1 24 rfl rfl
theorem dJ13_bitCount_0 : decode cJ13_bitCount 0 = .ok (.iload_n 0, 1) := dk_26 (dk_at dksJ13_bitCount_0 0 rfl rfl)
theorem dJ13_bitCount_1 : decode cJ13_bitCount 1 = .ok (.iload_n 0, 1) := dk_26 (dk_at dksJ13_bitCount_0 1 rfl rfl)
theorem dJ13_bitCount_2 : decode cJ13_bitCount 2 = .ok (.iconst 1, 1) := dk_4 (dk_at dksJ13_bitCount_0 2 rfl rfl)
theorem dJ13_bitCount_3 : decode cJ13_bitCount 3 = .ok (.iushr, 1) := dk_124 (dk_at dksJ13_bitCount_0 3 rfl rfl)
theorem dJ13_bitCount_4 : decode cJ13_bitCount 4 = .ok (.ldc_w 265, 3) := dk_19 1 9 (dk_at dksJ13_bitCount_0 4 rfl rfl)
theorem dJ13_bitCount_7 : decode cJ13_bitCount 7 = .ok (.iand, 1) := dk_126 (dk_at dksJ13_bitCount_0 7 rfl rfl)
theorem dJ13_bitCount_8 : decode cJ13_bitCount 8 = .ok (.isub, 1) := dk_100 (dk_at dksJ13_bitCount_0 8 rfl rfl)
theorem dJ13_bitCount_9 : decode cJ13_bitCount 9 = .ok (.istore_n 0, 1) := dk_59 (dk_at dksJ13_bitCount_0 9 rfl rfl)
theorem dJ13_bitCount_10 : decode cJ13_bitCount 10 = .ok (.iload_n 0, 1) := dk_26 (dk_at dksJ13_bitCount_0 10 rfl rfl)
theorem dJ13_bitCount_11 : decode cJ13_bitCount 11 = .ok (.ldc_w 266, 3) := dk_19 1 10 (dk_at dksJ13_bitCount_0 11 rfl rfl)
theorem dJ13_bitCount_14 : decode cJ13_bitCount 14 = .ok (.iand, 1) := dk_126 (dk_at dksJ13_bitCount_0 14 rfl rfl)
theorem dJ13_bitCount_15 : decode cJ13_bitCount 15 = .ok (.iload_n 0, 1) := dk_26 (dk_at dksJ13_bitCount_0 15 rfl rfl)
theorem dJ13_bitCount_16 : decode cJ13_bitCount 16 = .ok (.iconst 2, 1) := dk_5 (dk_at dksJ13_bitCount_0 16 rfl rfl)
theorem dJ13_bitCount_17 : decode cJ13_bitCount 17 = .ok (.iushr, 1) := dk_124 (dk_at dksJ13_bitCount_0 17 rfl rfl)
theorem dJ13_bitCount_18 : decode cJ13_bitCount 18 = .ok (.ldc_w 266, 3) := dk_19 1 10 (dk_at dksJ13_bitCount_0 18 rfl rfl)
theorem dJ13_bitCount_21 : decode cJ13_bitCount 21 = .ok (.iand, 1) := dk_126 (dk_at dksJ13_bitCount_0 21 rfl rfl)
theorem dJ13_bitCount_22 : decode cJ13_bitCount 22 = .ok (.iadd, 1) := dk_96 (dk_at dksJ13_bitCount_0 22 rfl rfl)
theorem dJ13_bitCount_23 : decode cJ13_bitCount 23 = .ok (.istore_n 0, 1) := dk_59 (dk_at dksJ13_bitCount_0 23 rfl rfl)
theorem dJ13_bitCount_24 : decode cJ13_bitCount 24 = .ok (.iload_n 0, 1) := dk_26 (dk_at dksJ13_bitCount_1 0 rfl rfl)
theorem dJ13_bitCount_25 : decode cJ13_bitCount 25 = .ok (.iload_n 0, 1) := dk_26 (dk_at dksJ13_bitCount_1 1 rfl rfl)
theorem dJ13_bitCount_26 : decode cJ13_bitCount 26 = .ok (.iconst 4, 1) := dk_7 (dk_at dksJ13_bitCount_1 2 rfl rfl)
theorem dJ13_bitCount_27 : decode cJ13_bitCount 27 = .ok (.iushr, 1) := dk_124 (dk_at dksJ13_bitCount_1 3 rfl rfl)
theorem dJ13_bitCount_28 : decode cJ13_bitCount 28 = .ok (.iadd, 1) := dk_96 (dk_at dksJ13_bitCount_1 4 rfl rfl)
theorem dJ13_bitCount_29 : decode cJ13_bitCount 29 = .ok (.ldc_w 267, 3) := dk_19 1 11 (dk_at dksJ13_bitCount_1 5 rfl rfl)
theorem dJ13_bitCount_32 : decode cJ13_bitCount 32 = .ok (.iand, 1) := dk_126 (dk_at dksJ13_bitCount_1 8 rfl rfl)
theorem dJ13_bitCount_33 : decode cJ13_bitCount 33 = .ok (.istore_n 0, 1) := dk_59 (dk_at dksJ13_bitCount_1 9 rfl rfl)
theorem dJ13_bitCount_34 : decode cJ13_bitCount 34 = .ok (.iload_n 0, 1) := dk_26 (dk_at dksJ13_bitCount_1 10 rfl rfl)
theorem dJ13_bitCount_35 : decode cJ13_bitCount 35 = .ok (.iload_n 0, 1) := dk_26 (dk_at dksJ13_bitCount_1 11 rfl rfl)
theorem dJ13_bitCount_36 : decode cJ13_bitCount 36 = .ok (.bipush 8, 2) := dk_16 8 (dk_at dksJ13_bitCount_1 12 rfl rfl)
theorem dJ13_bitCount_38 : decode cJ13_bitCount 38 = .ok (.iushr, 1) := dk_124 (dk_at dksJ13_bitCount_1 14 rfl rfl)
theorem dJ13_bitCount_39 : decode cJ13_bitCount 39 = .ok (.iadd, 1) := dk_96 (dk_at dksJ13_bitCount_1 15 rfl rfl)
theorem dJ13_bitCount_40 : decode cJ13_bitCount 40 = .ok (.istore_n 0, 1) := dk_59 (dk_at dksJ13_bitCount_1 16 rfl rfl)
theorem dJ13_bitCount_41 : decode cJ13_bitCount 41 = .ok (.iload_n 0, 1) := dk_26 (dk_at dksJ13_bitCount_1 17 rfl rfl)
theorem dJ13_bitCount_42 : decode cJ13_bitCount 42 = .ok (.iload_n 0, 1) := dk_26 (dk_at dksJ13_bitCount_1 18 rfl rfl)
theorem dJ13_bitCount_43 : decode cJ13_bitCount 43 = .ok (.bipush 16, 2) := dk_16 16 (dk_at dksJ13_bitCount_1 19 rfl rfl)
theorem dJ13_bitCount_45 : decode cJ13_bitCount 45 = .ok (.iushr, 1) := dk_124 (dk_at dksJ13_bitCount_1 21 rfl rfl)
theorem dJ13_bitCount_46 : decode cJ13_bitCount 46 = .ok (.iadd, 1) := dk_96 (dk_at dksJ13_bitCount_1 22 rfl rfl)
theorem dJ13_bitCount_47 : decode cJ13_bitCount 47 = .ok (.istore_n 0, 1) := dk_59 (dk_at dksJ13_bitCount_1 23 rfl rfl)
theorem dJ13_bitCount_48 : decode cJ13_bitCount 48 = .ok (.iload_n 0, 1) := dk_26 (dk_at dksJ13_bitCount_2 0 rfl rfl)
theorem dJ13_bitCount_49 : decode cJ13_bitCount 49 = .ok (.bipush 63, 2) := dk_16 63 (dk_at dksJ13_bitCount_2 1 rfl rfl)
theorem dJ13_bitCount_51 : decode cJ13_bitCount 51 = .ok (.iand, 1) := dk_126 (dk_at dksJ13_bitCount_2 3 rfl rfl)
theorem dJ13_bitCount_52 : decode cJ13_bitCount 52 = .ok (.ireturn, 1) := dk_172 (dk_at dksJ13_bitCount_2 4 rfl rfl)
theorem q88 : (Jvm.Cond.initialized "java/lang/Integer") ∈ lw_all := lw_g (lw_at lw_m1 25 rfl) rfl
theorem q928 : (Jvm.Cond.static ({ cls := "java/lang/Integer", name := "bitCount", desc := "(I)I" } : Jvm.MethodName)) ∈ lw_all := lw_g (lw_at lw_m4 145 rfl) rfl
theorem q929 : (Jvm.Cond.code ({ cls := "java/lang/Integer", name := "bitCount", desc := "(I)I" } : Jvm.MethodName) prog_16_method_49_code (1 : Nat) (Option.some Jvm.ClassFile.FieldType.int)) ∈ lw_all := lw_g (lw_at lw_m4 146 rfl) rfl
theorem q930 : (Jvm.Cond.constant "java/lang/Integer" (265 : Nat) (1431655765 : Int32)) ∈ lw_all := lw_g (lw_at lw_m4 147 rfl) rfl
theorem q931 : (Jvm.Cond.constant "java/lang/Integer" (266 : Nat) (858993459 : Int32)) ∈ lw_all := lw_g (lw_at lw_m4 148 rfl) rfl
theorem q932 : (Jvm.Cond.constant "java/lang/Integer" (267 : Nat) (252645135 : Int32)) ∈ lw_all := lw_g (lw_at lw_m4 149 rfl) rfl

/-! java/lang/Object -/
set_option maxRecDepth 100000
def RJ14 : String := "java/lang/Object"
abbrev cJ14_init : ByteArray := object_method_1_code
def yJ14_init : MethodName := ⟨RJ14, "<init>", "()V"⟩
theorem dJ14_init_0 : decode cJ14_init 0 = .ok (.return_, 1) := by decide +kernel
theorem q95 : (Jvm.Cond.instanceMethod ({ cls := "java/lang/Object", name := "<init>", desc := "()V" } : Jvm.MethodName)) ∈ lw_all := lw_g (lw_at lw_m1 32 rfl) rfl
theorem q96 : (Jvm.Cond.code ({ cls := "java/lang/Object", name := "<init>", desc := "()V" } : Jvm.MethodName) object_method_1_code (1 : Nat) (Option.none : Option Jvm.ClassFile.FieldType)) ∈ lw_all := lw_g (lw_at lw_m1 33 rfl) rfl

/-! LoseLeague$Plain -/
set_option maxRecDepth 100000
def RX1 : String := "LoseLeague$Plain"
abbrev cX1_init : ByteArray := prog_5_method_1_code
def yX1_init : MethodName := ⟨RX1, "<init>", "()V"⟩
theorem dX1_init_0 : decode cX1_init 0 = .ok (.aload_n 0, 1) := by decide +kernel
theorem dX1_init_1 : decode cX1_init 1 = .ok (.invokespecial 1, 3) := by decide +kernel
theorem dX1_init_4 : decode cX1_init 4 = .ok (.return_, 1) := by decide +kernel
abbrev cX1_plays : ByteArray := prog_5_method_2_code
def yX1_plays : MethodName := ⟨RX1, "plays", "(II)I"⟩
theorem dX1_plays_0 : decode cX1_plays 0 = .ok (.iload_n 1, 1) := by decide +kernel
theorem dX1_plays_1 : decode cX1_plays 1 = .ok (.ireturn, 1) := by decide +kernel
abbrev cX1_trains : ByteArray := prog_5_method_3_code
def yX1_trains : MethodName := ⟨RX1, "trains", "()I"⟩
theorem dX1_trains_0 : decode cX1_trains 0 = .ok (.iconst 1, 1) := by decide +kernel
theorem dX1_trains_1 : decode cX1_trains 1 = .ok (.ireturn, 1) := by decide +kernel
theorem q65 : (Jvm.Cond.initialized "LoseLeague$Plain") ∈ lw_all := lw_g (lw_at lw_m1 2 rfl) rfl
theorem q99 : (Jvm.Cond.instantiable "LoseLeague$Plain" (0 : Nat)) ∈ lw_all := lw_g (lw_at lw_m1 36 rfl) rfl
theorem q101 : (Jvm.Cond.instanceMethod ({ cls := "LoseLeague$Plain", name := "<init>", desc := "()V" } : Jvm.MethodName)) ∈ lw_all := lw_g (lw_at lw_m1 38 rfl) rfl
theorem q102 : (Jvm.Cond.code ({ cls := "LoseLeague$Plain", name := "<init>", desc := "()V" } : Jvm.MethodName) prog_5_method_1_code (1 : Nat) (Option.none : Option Jvm.ClassFile.FieldType)) ∈ lw_all := lw_g (lw_at lw_m1 39 rfl) rfl
theorem q103 : (Jvm.Cond.methodLink "LoseLeague$Plain" (1 : Nat) ({ cls := "java/lang/Object", name := "<init>", desc := "()V" } : Jvm.MethodName)) ∈ lw_all := lw_g (lw_at lw_m1 40 rfl) rfl
theorem q104 : (Jvm.Cond.superclass "LoseLeague$Plain" "java/lang/Object") ∈ lw_all := lw_g (lw_at lw_m1 41 rfl) rfl
theorem q535 : (Jvm.Cond.instanceMethod ({ cls := "LoseLeague$Plain", name := "plays", desc := "(II)I" } : Jvm.MethodName)) ∈ lw_all := lw_g (lw_at lw_m2 232 rfl) rfl
theorem q536 : (Jvm.Cond.selects "LoseLeague$Plain" ({ cls := "LoseLeague$Plain", name := "plays", desc := "(II)I" } : Jvm.MethodName) ({ cls := "LoseLeague$Plain", name := "plays", desc := "(II)I" } : Jvm.MethodName)) ∈ lw_all := lw_g (lw_at lw_m2 233 rfl) rfl
theorem q537 : (Jvm.Cond.sameMethod "LoseLeague$Plain" "LoseLeague$Plain" "plays" "(II)I") ∈ lw_all := lw_g (lw_at lw_m2 234 rfl) rfl
theorem q551 : (Jvm.Cond.code ({ cls := "LoseLeague$Plain", name := "plays", desc := "(II)I" } : Jvm.MethodName) prog_5_method_2_code (3 : Nat) (Option.some Jvm.ClassFile.FieldType.int)) ∈ lw_all := lw_g (lw_at lw_m3 8 rfl) rfl
theorem q628 : (Jvm.Cond.instanceMethod ({ cls := "LoseLeague$Plain", name := "trains", desc := "()I" } : Jvm.MethodName)) ∈ lw_all := lw_g (lw_at lw_m3 85 rfl) rfl
theorem q629 : (Jvm.Cond.selects "LoseLeague$Plain" ({ cls := "LoseLeague$Plain", name := "trains", desc := "()I" } : Jvm.MethodName) ({ cls := "LoseLeague$Plain", name := "trains", desc := "()I" } : Jvm.MethodName)) ∈ lw_all := lw_g (lw_at lw_m3 86 rfl) rfl
theorem q630 : (Jvm.Cond.sameMethod "LoseLeague$Plain" "LoseLeague$Plain" "trains" "()I") ∈ lw_all := lw_g (lw_at lw_m3 87 rfl) rfl
theorem q636 : (Jvm.Cond.declares ({ cls := "LoseLeague$Plain", name := "trains", desc := "()I" } : Jvm.MethodName)) ∈ lw_tbl := lw_at lw_m3 93 rfl
theorem q642 : (Jvm.Cond.code ({ cls := "LoseLeague$Plain", name := "trains", desc := "()I" } : Jvm.MethodName) prog_5_method_3_code (1 : Nat) (Option.some Jvm.ClassFile.FieldType.int)) ∈ lw_all := lw_g (lw_at lw_m3 99 rfl) rfl

/-! LoseLeague$Proud -/
set_option maxRecDepth 100000
def RX2 : String := "LoseLeague$Proud"
abbrev cX2_init : ByteArray := prog_6_method_1_code
def yX2_init : MethodName := ⟨RX2, "<init>", "()V"⟩
theorem dX2_init_0 : decode cX2_init 0 = .ok (.aload_n 0, 1) := by decide +kernel
theorem dX2_init_1 : decode cX2_init 1 = .ok (.invokespecial 1, 3) := by decide +kernel
theorem dX2_init_4 : decode cX2_init 4 = .ok (.return_, 1) := by decide +kernel
abbrev cX2_plays : ByteArray := prog_6_method_2_code
def yX2_plays : MethodName := ⟨RX2, "plays", "(II)I"⟩
def dkwX2_plays_0 : List UInt8 := [42, 27, 28, 183, 0, 7, 6, 96, 172]
abbrev dktX2_plays_0 : List UInt8 := dkwX2_plays_0 ++ []
theorem dksX2_plays_0 : cX2_plays.data.toList.drop 0 = dktX2_plays_0 := by decide +kernel
theorem dX2_plays_0 : decode cX2_plays 0 = .ok (.aload_n 0, 1) := dk_42 (dk_at dksX2_plays_0 0 rfl rfl)
theorem dX2_plays_1 : decode cX2_plays 1 = .ok (.iload_n 1, 1) := dk_27 (dk_at dksX2_plays_0 1 rfl rfl)
theorem dX2_plays_2 : decode cX2_plays 2 = .ok (.iload_n 2, 1) := dk_28 (dk_at dksX2_plays_0 2 rfl rfl)
theorem dX2_plays_3 : decode cX2_plays 3 = .ok (.invokespecial 7, 3) := dk_183 0 7 (dk_at dksX2_plays_0 3 rfl rfl)
theorem dX2_plays_6 : decode cX2_plays 6 = .ok (.iconst 3, 1) := dk_6 (dk_at dksX2_plays_0 6 rfl rfl)
theorem dX2_plays_7 : decode cX2_plays 7 = .ok (.iadd, 1) := dk_96 (dk_at dksX2_plays_0 7 rfl rfl)
theorem dX2_plays_8 : decode cX2_plays 8 = .ok (.ireturn, 1) := dk_172 (dk_at dksX2_plays_0 8 rfl rfl)
abbrev cX2_trains : ByteArray := prog_6_method_3_code
def yX2_trains : MethodName := ⟨RX2, "trains", "()I"⟩
def dkwX2_trains_0 : List UInt8 := [42, 183, 0, 11, 4, 96, 172]
abbrev dktX2_trains_0 : List UInt8 := dkwX2_trains_0 ++ []
theorem dksX2_trains_0 : cX2_trains.data.toList.drop 0 = dktX2_trains_0 := by decide +kernel
theorem dX2_trains_0 : decode cX2_trains 0 = .ok (.aload_n 0, 1) := dk_42 (dk_at dksX2_trains_0 0 rfl rfl)
theorem dX2_trains_1 : decode cX2_trains 1 = .ok (.invokespecial 11, 3) := dk_183 0 11 (dk_at dksX2_trains_0 1 rfl rfl)
theorem dX2_trains_4 : decode cX2_trains 4 = .ok (.iconst 1, 1) := dk_4 (dk_at dksX2_trains_0 4 rfl rfl)
theorem dX2_trains_5 : decode cX2_trains 5 = .ok (.iadd, 1) := dk_96 (dk_at dksX2_trains_0 5 rfl rfl)
theorem dX2_trains_6 : decode cX2_trains 6 = .ok (.ireturn, 1) := dk_172 (dk_at dksX2_trains_0 6 rfl rfl)
theorem q66 : (Jvm.Cond.initialized "LoseLeague$Proud") ∈ lw_all := lw_g (lw_at lw_m1 3 rfl) rfl
theorem q106 : (Jvm.Cond.instantiable "LoseLeague$Proud" (0 : Nat)) ∈ lw_all := lw_g (lw_at lw_m1 43 rfl) rfl
theorem q108 : (Jvm.Cond.instanceMethod ({ cls := "LoseLeague$Proud", name := "<init>", desc := "()V" } : Jvm.MethodName)) ∈ lw_all := lw_g (lw_at lw_m1 45 rfl) rfl
theorem q109 : (Jvm.Cond.code ({ cls := "LoseLeague$Proud", name := "<init>", desc := "()V" } : Jvm.MethodName) prog_6_method_1_code (1 : Nat) (Option.none : Option Jvm.ClassFile.FieldType)) ∈ lw_all := lw_g (lw_at lw_m1 46 rfl) rfl
theorem q110 : (Jvm.Cond.methodLinkNest "LoseLeague$Proud" (1 : Nat) ({ cls := "LoseLeague$Plain", name := "<init>", desc := "()V" } : Jvm.MethodName) "LoseLeague") ∈ lw_tbl := lw_at lw_m1 47 rfl
theorem q111 : (Jvm.Cond.superclass "LoseLeague$Proud" "LoseLeague$Plain") ∈ lw_all := lw_g (lw_at lw_m1 48 rfl) rfl
theorem q546 : (Jvm.Cond.selects "LoseLeague$Proud" ({ cls := "LoseLeague$Plain", name := "plays", desc := "(II)I" } : Jvm.MethodName) ({ cls := "LoseLeague$Proud", name := "plays", desc := "(II)I" } : Jvm.MethodName)) ∈ lw_all := lw_g (lw_at lw_m3 3 rfl) rfl
theorem q547 : (Jvm.Cond.instanceMethod ({ cls := "LoseLeague$Proud", name := "plays", desc := "(II)I" } : Jvm.MethodName)) ∈ lw_all := lw_g (lw_at lw_m3 4 rfl) rfl
theorem q548 : (Jvm.Cond.code ({ cls := "LoseLeague$Proud", name := "plays", desc := "(II)I" } : Jvm.MethodName) prog_6_method_2_code (3 : Nat) (Option.some Jvm.ClassFile.FieldType.int)) ∈ lw_all := lw_g (lw_at lw_m3 5 rfl) rfl
theorem q549 : (Jvm.Cond.methodLink "LoseLeague$Proud" (7 : Nat) ({ cls := "LoseLeague$Plain", name := "plays", desc := "(II)I" } : Jvm.MethodName)) ∈ lw_all := lw_g (lw_at lw_m3 6 rfl) rfl
theorem q637 : (Jvm.Cond.selects "LoseLeague$Proud" ({ cls := "LoseLeague$Plain", name := "trains", desc := "()I" } : Jvm.MethodName) ({ cls := "LoseLeague$Proud", name := "trains", desc := "()I" } : Jvm.MethodName)) ∈ lw_all := lw_g (lw_at lw_m3 94 rfl) rfl
theorem q638 : (Jvm.Cond.instanceMethod ({ cls := "LoseLeague$Proud", name := "trains", desc := "()I" } : Jvm.MethodName)) ∈ lw_all := lw_g (lw_at lw_m3 95 rfl) rfl
theorem q639 : (Jvm.Cond.code ({ cls := "LoseLeague$Proud", name := "trains", desc := "()I" } : Jvm.MethodName) prog_6_method_3_code (1 : Nat) (Option.some Jvm.ClassFile.FieldType.int)) ∈ lw_all := lw_g (lw_at lw_m3 96 rfl) rfl
theorem q640 : (Jvm.Cond.methodLink "LoseLeague$Proud" (11 : Nat) ({ cls := "LoseLeague$Plain", name := "trains", desc := "()I" } : Jvm.MethodName)) ∈ lw_all := lw_g (lw_at lw_m3 97 rfl) rfl
theorem q1322 : (Jvm.Cond.castable "LoseLeague$Proud" "LoseLeague$Plain") ∈ lw_tbl := lw_at lw_m6 59 rfl

/-! LoseLeague$Wise -/
set_option maxRecDepth 100000
def RX3 : String := "LoseLeague$Wise"
abbrev cX3_init : ByteArray := prog_9_method_1_code
def yX3_init : MethodName := ⟨RX3, "<init>", "()V"⟩
theorem dX3_init_0 : decode cX3_init 0 = .ok (.aload_n 0, 1) := by decide +kernel
theorem dX3_init_1 : decode cX3_init 1 = .ok (.invokespecial 1, 3) := by decide +kernel
theorem dX3_init_4 : decode cX3_init 4 = .ok (.return_, 1) := by decide +kernel
abbrev cX3_plays : ByteArray := prog_9_method_2_code
def yX3_plays : MethodName := ⟨RX3, "plays", "(II)I"⟩
def dkwX3_plays_0 : List UInt8 := [42, 27, 28, 183, 0, 7, 62, 28, 154, 0, 9, 29, 5, 108, 167, 0, 4, 29, 172]
abbrev dktX3_plays_0 : List UInt8 := dkwX3_plays_0 ++ []
theorem dksX3_plays_0 : cX3_plays.data.toList.drop 0 = dktX3_plays_0 := by decide +kernel
theorem dX3_plays_0 : decode cX3_plays 0 = .ok (.aload_n 0, 1) := dk_42 (dk_at dksX3_plays_0 0 rfl rfl)
theorem dX3_plays_1 : decode cX3_plays 1 = .ok (.iload_n 1, 1) := dk_27 (dk_at dksX3_plays_0 1 rfl rfl)
theorem dX3_plays_2 : decode cX3_plays 2 = .ok (.iload_n 2, 1) := dk_28 (dk_at dksX3_plays_0 2 rfl rfl)
theorem dX3_plays_3 : decode cX3_plays 3 = .ok (.invokespecial 7, 3) := dk_183 0 7 (dk_at dksX3_plays_0 3 rfl rfl)
theorem dX3_plays_6 : decode cX3_plays 6 = .ok (.istore_n 3, 1) := dk_62 (dk_at dksX3_plays_0 6 rfl rfl)
theorem dX3_plays_7 : decode cX3_plays 7 = .ok (.iload_n 2, 1) := dk_28 (dk_at dksX3_plays_0 7 rfl rfl)
theorem dX3_plays_8 : decode cX3_plays 8 = .ok (.ifCond .ne 9, 3) := dk_154 0 9 (dk_at dksX3_plays_0 8 rfl rfl)
theorem dX3_plays_11 : decode cX3_plays 11 = .ok (.iload_n 3, 1) := dk_29 (dk_at dksX3_plays_0 11 rfl rfl)
theorem dX3_plays_12 : decode cX3_plays 12 = .ok (.iconst 2, 1) := dk_5 (dk_at dksX3_plays_0 12 rfl rfl)
theorem dX3_plays_13 : decode cX3_plays 13 = .ok (.idiv, 1) := dk_108 (dk_at dksX3_plays_0 13 rfl rfl)
theorem dX3_plays_14 : decode cX3_plays 14 = .ok (.goto 4, 3) := dk_167 0 4 (dk_at dksX3_plays_0 14 rfl rfl)
theorem dX3_plays_17 : decode cX3_plays 17 = .ok (.iload_n 3, 1) := dk_29 (dk_at dksX3_plays_0 17 rfl rfl)
theorem dX3_plays_18 : decode cX3_plays 18 = .ok (.ireturn, 1) := dk_172 (dk_at dksX3_plays_0 18 rfl rfl)
theorem q67 : (Jvm.Cond.initialized "LoseLeague$Wise") ∈ lw_all := lw_g (lw_at lw_m1 4 rfl) rfl
theorem q113 : (Jvm.Cond.instantiable "LoseLeague$Wise" (0 : Nat)) ∈ lw_all := lw_g (lw_at lw_m1 50 rfl) rfl
theorem q115 : (Jvm.Cond.instanceMethod ({ cls := "LoseLeague$Wise", name := "<init>", desc := "()V" } : Jvm.MethodName)) ∈ lw_all := lw_g (lw_at lw_m1 52 rfl) rfl
theorem q116 : (Jvm.Cond.code ({ cls := "LoseLeague$Wise", name := "<init>", desc := "()V" } : Jvm.MethodName) prog_9_method_1_code (1 : Nat) (Option.none : Option Jvm.ClassFile.FieldType)) ∈ lw_all := lw_g (lw_at lw_m1 53 rfl) rfl
theorem q117 : (Jvm.Cond.methodLinkNest "LoseLeague$Wise" (1 : Nat) ({ cls := "LoseLeague$Plain", name := "<init>", desc := "()V" } : Jvm.MethodName) "LoseLeague") ∈ lw_tbl := lw_at lw_m1 54 rfl
theorem q118 : (Jvm.Cond.superclass "LoseLeague$Wise" "LoseLeague$Plain") ∈ lw_all := lw_g (lw_at lw_m1 55 rfl) rfl
theorem q542 : (Jvm.Cond.instanceMethod ({ cls := "LoseLeague$Wise", name := "plays", desc := "(II)I" } : Jvm.MethodName)) ∈ lw_all := lw_g (lw_at lw_m2 239 rfl) rfl
theorem q543 : (Jvm.Cond.code ({ cls := "LoseLeague$Wise", name := "plays", desc := "(II)I" } : Jvm.MethodName) prog_9_method_2_code (4 : Nat) (Option.some Jvm.ClassFile.FieldType.int)) ∈ lw_all := lw_g (lw_at lw_m3 0 rfl) rfl
theorem q544 : (Jvm.Cond.methodLink "LoseLeague$Wise" (7 : Nat) ({ cls := "LoseLeague$Plain", name := "plays", desc := "(II)I" } : Jvm.MethodName)) ∈ lw_all := lw_g (lw_at lw_m3 1 rfl) rfl
theorem q550 : (Jvm.Cond.selects "LoseLeague$Wise" ({ cls := "LoseLeague$Plain", name := "plays", desc := "(II)I" } : Jvm.MethodName) ({ cls := "LoseLeague$Wise", name := "plays", desc := "(II)I" } : Jvm.MethodName)) ∈ lw_all := lw_g (lw_at lw_m3 7 rfl) rfl
theorem q635 : (Jvm.Cond.sameMethod "LoseLeague$Wise" "LoseLeague$Plain" "trains" "()I") ∈ lw_all := lw_g (lw_at lw_m3 92 rfl) rfl
theorem q641 : (Jvm.Cond.selects "LoseLeague$Wise" ({ cls := "LoseLeague$Plain", name := "trains", desc := "()I" } : Jvm.MethodName) ({ cls := "LoseLeague$Plain", name := "trains", desc := "()I" } : Jvm.MethodName)) ∈ lw_all := lw_g (lw_at lw_m3 98 rfl) rfl
theorem q1320 : (Jvm.Cond.sameMethod "LoseLeague$Wise" "LoseLeague$Wise" "plays" "(II)I") ∈ lw_all := lw_g (lw_at lw_m6 57 rfl) rfl
theorem q1323 : (Jvm.Cond.castable "LoseLeague$Wise" "LoseLeague$Plain") ∈ lw_tbl := lw_at lw_m6 60 rfl

/-! LoseLeague$Careless -/
set_option maxRecDepth 100000
def RX4 : String := "LoseLeague$Careless"
abbrev cX4_init : ByteArray := prog_2_method_1_code
def yX4_init : MethodName := ⟨RX4, "<init>", "()V"⟩
theorem dX4_init_0 : decode cX4_init 0 = .ok (.aload_n 0, 1) := by decide +kernel
theorem dX4_init_1 : decode cX4_init 1 = .ok (.invokespecial 1, 3) := by decide +kernel
theorem dX4_init_4 : decode cX4_init 4 = .ok (.return_, 1) := by decide +kernel
abbrev cX4_plays : ByteArray := prog_2_method_2_code
def yX4_plays : MethodName := ⟨RX4, "plays", "(II)I"⟩
def dkwX4_plays_0 : List UInt8 := [3, 42, 27, 28, 183, 0, 7, 5, 100, 184, 0, 11, 172]
abbrev dktX4_plays_0 : List UInt8 := dkwX4_plays_0 ++ []
theorem dksX4_plays_0 : cX4_plays.data.toList.drop 0 = dktX4_plays_0 := by decide +kernel
theorem dX4_plays_0 : decode cX4_plays 0 = .ok (.iconst 0, 1) := dk_3 (dk_at dksX4_plays_0 0 rfl rfl)
theorem dX4_plays_1 : decode cX4_plays 1 = .ok (.aload_n 0, 1) := dk_42 (dk_at dksX4_plays_0 1 rfl rfl)
theorem dX4_plays_2 : decode cX4_plays 2 = .ok (.iload_n 1, 1) := dk_27 (dk_at dksX4_plays_0 2 rfl rfl)
theorem dX4_plays_3 : decode cX4_plays 3 = .ok (.iload_n 2, 1) := dk_28 (dk_at dksX4_plays_0 3 rfl rfl)
theorem dX4_plays_4 : decode cX4_plays 4 = .ok (.invokespecial 7, 3) := dk_183 0 7 (dk_at dksX4_plays_0 4 rfl rfl)
theorem dX4_plays_7 : decode cX4_plays 7 = .ok (.iconst 2, 1) := dk_5 (dk_at dksX4_plays_0 7 rfl rfl)
theorem dX4_plays_8 : decode cX4_plays 8 = .ok (.isub, 1) := dk_100 (dk_at dksX4_plays_0 8 rfl rfl)
theorem dX4_plays_9 : decode cX4_plays 9 = .ok (.invokestatic 11, 3) := dk_184 0 11 (dk_at dksX4_plays_0 9 rfl rfl)
theorem dX4_plays_12 : decode cX4_plays 12 = .ok (.ireturn, 1) := dk_172 (dk_at dksX4_plays_0 12 rfl rfl)
abbrev cX4_trains : ByteArray := prog_2_method_3_code
def yX4_trains : MethodName := ⟨RX4, "trains", "()I"⟩
def dkwX4_trains_0 : List UInt8 := [42, 183, 0, 16, 4, 100, 172]
abbrev dktX4_trains_0 : List UInt8 := dkwX4_trains_0 ++ []
theorem dksX4_trains_0 : cX4_trains.data.toList.drop 0 = dktX4_trains_0 := by decide +kernel
theorem dX4_trains_0 : decode cX4_trains 0 = .ok (.aload_n 0, 1) := dk_42 (dk_at dksX4_trains_0 0 rfl rfl)
theorem dX4_trains_1 : decode cX4_trains 1 = .ok (.invokespecial 16, 3) := dk_183 0 16 (dk_at dksX4_trains_0 1 rfl rfl)
theorem dX4_trains_4 : decode cX4_trains 4 = .ok (.iconst 1, 1) := dk_4 (dk_at dksX4_trains_0 4 rfl rfl)
theorem dX4_trains_5 : decode cX4_trains 5 = .ok (.isub, 1) := dk_100 (dk_at dksX4_trains_0 5 rfl rfl)
theorem dX4_trains_6 : decode cX4_trains 6 = .ok (.ireturn, 1) := dk_172 (dk_at dksX4_trains_0 6 rfl rfl)
theorem q68 : (Jvm.Cond.initialized "LoseLeague$Careless") ∈ lw_all := lw_g (lw_at lw_m1 5 rfl) rfl
theorem q120 : (Jvm.Cond.instantiable "LoseLeague$Careless" (0 : Nat)) ∈ lw_all := lw_g (lw_at lw_m1 57 rfl) rfl
theorem q122 : (Jvm.Cond.instanceMethod ({ cls := "LoseLeague$Careless", name := "<init>", desc := "()V" } : Jvm.MethodName)) ∈ lw_all := lw_g (lw_at lw_m1 59 rfl) rfl
theorem q123 : (Jvm.Cond.code ({ cls := "LoseLeague$Careless", name := "<init>", desc := "()V" } : Jvm.MethodName) prog_2_method_1_code (1 : Nat) (Option.none : Option Jvm.ClassFile.FieldType)) ∈ lw_all := lw_g (lw_at lw_m1 60 rfl) rfl
theorem q124 : (Jvm.Cond.methodLinkNest "LoseLeague$Careless" (1 : Nat) ({ cls := "LoseLeague$Wise", name := "<init>", desc := "()V" } : Jvm.MethodName) "LoseLeague") ∈ lw_tbl := lw_at lw_m1 61 rfl
theorem q125 : (Jvm.Cond.superclass "LoseLeague$Careless" "LoseLeague$Wise") ∈ lw_all := lw_g (lw_at lw_m1 62 rfl) rfl
theorem q538 : (Jvm.Cond.selects "LoseLeague$Careless" ({ cls := "LoseLeague$Plain", name := "plays", desc := "(II)I" } : Jvm.MethodName) ({ cls := "LoseLeague$Careless", name := "plays", desc := "(II)I" } : Jvm.MethodName)) ∈ lw_all := lw_g (lw_at lw_m2 235 rfl) rfl
theorem q539 : (Jvm.Cond.instanceMethod ({ cls := "LoseLeague$Careless", name := "plays", desc := "(II)I" } : Jvm.MethodName)) ∈ lw_all := lw_g (lw_at lw_m2 236 rfl) rfl
theorem q540 : (Jvm.Cond.code ({ cls := "LoseLeague$Careless", name := "plays", desc := "(II)I" } : Jvm.MethodName) prog_2_method_2_code (3 : Nat) (Option.some Jvm.ClassFile.FieldType.int)) ∈ lw_all := lw_g (lw_at lw_m2 237 rfl) rfl
theorem q541 : (Jvm.Cond.methodLink "LoseLeague$Careless" (7 : Nat) ({ cls := "LoseLeague$Wise", name := "plays", desc := "(II)I" } : Jvm.MethodName)) ∈ lw_all := lw_g (lw_at lw_m2 238 rfl) rfl
theorem q545 : (Jvm.Cond.methodLink "LoseLeague$Careless" (11 : Nat) ({ cls := "java/lang/Math", name := "max", desc := "(II)I" } : Jvm.MethodName)) ∈ lw_all := lw_g (lw_at lw_m3 2 rfl) rfl
theorem q631 : (Jvm.Cond.selects "LoseLeague$Careless" ({ cls := "LoseLeague$Plain", name := "trains", desc := "()I" } : Jvm.MethodName) ({ cls := "LoseLeague$Careless", name := "trains", desc := "()I" } : Jvm.MethodName)) ∈ lw_all := lw_g (lw_at lw_m3 88 rfl) rfl
theorem q632 : (Jvm.Cond.instanceMethod ({ cls := "LoseLeague$Careless", name := "trains", desc := "()I" } : Jvm.MethodName)) ∈ lw_all := lw_g (lw_at lw_m3 89 rfl) rfl
theorem q633 : (Jvm.Cond.code ({ cls := "LoseLeague$Careless", name := "trains", desc := "()I" } : Jvm.MethodName) prog_2_method_3_code (1 : Nat) (Option.some Jvm.ClassFile.FieldType.int)) ∈ lw_all := lw_g (lw_at lw_m3 90 rfl) rfl
theorem q634 : (Jvm.Cond.methodLink "LoseLeague$Careless" (16 : Nat) ({ cls := "LoseLeague$Wise", name := "trains", desc := "()I" } : Jvm.MethodName)) ∈ lw_all := lw_g (lw_at lw_m3 91 rfl) rfl
theorem q1324 : (Jvm.Cond.castable "LoseLeague$Careless" "LoseLeague$Plain") ∈ lw_tbl := lw_at lw_m6 61 rfl

/-! LoseLeague$League -/
set_option maxRecDepth 100000
def RX5 : String := "LoseLeague$League"
def TX5 : u_T := fun k => match k with
  | 0 => ("LoseLeague$League", "towns", "I", false)
  | 1 => ("LoseLeague$League", "town", "[B", true)
  | 2 => ("LoseLeague$League", "fixtures", "I", false)
  | 3 => ("LoseLeague$League", "fixture", "[B", true)
  | 4 => ("LoseLeague$League", "week", "I", false)
  | _ => ("LoseLeague$League", "off", "I", false)
def tyX5 : Nat → FieldType := fun k => match k with
  | 0 => .int
  | 1 => .array .byte
  | 2 => .int
  | 3 => .array .byte
  | 4 => .int
  | _ => .int
abbrev wsX50 : List Cond := u_ws RX5 TX5 6
theorem nmX5 : ∀ a, a < 6 → ∀ b, b < 6 → a ≠ b → (TX5 a).2.1 ≠ (TX5 b).2.1 := by decide +kernel
theorem tyX5_ok : ∀ k, k < 6 → parseFieldDescriptor (TX5 k).2.2.1 = some (tyX5 k) := by decide +kernel
abbrev cX5_init : ByteArray := prog_4_method_1_code
def yX5_init : MethodName := ⟨RX5, "<init>", "()V"⟩
def dkwX5_init_1 : List UInt8 := [181, 0, 18, 177]
abbrev dktX5_init_1 : List UInt8 := dkwX5_init_1 ++ []
def dkwX5_init_0 : List UInt8 := [42, 183, 0, 3, 42, 16, 20, 188, 8, 181, 0, 9, 42, 16, 20, 188, 8, 181, 0, 15, 42, 16, 252]
abbrev dktX5_init_0 : List UInt8 := dkwX5_init_0 ++ dktX5_init_1
theorem dksX5_init_0 : cX5_init.data.toList.drop 0 = dktX5_init_0 := by decide +kernel
theorem dksX5_init_1 : cX5_init.data.toList.drop 23 = dktX5_init_1 := dk_seg dksX5_init_0 23 rfl rfl
theorem dX5_init_0 : decode cX5_init 0 = .ok (.aload_n 0, 1) := dk_42 (dk_at dksX5_init_0 0 rfl rfl)
theorem dX5_init_1 : decode cX5_init 1 = .ok (.invokespecial 3, 3) := dk_183 0 3 (dk_at dksX5_init_0 1 rfl rfl)
theorem dX5_init_4 : decode cX5_init 4 = .ok (.aload_n 0, 1) := dk_42 (dk_at dksX5_init_0 4 rfl rfl)
theorem dX5_init_5 : decode cX5_init 5 = .ok (.bipush 20, 2) := dk_16 20 (dk_at dksX5_init_0 5 rfl rfl)
theorem dX5_init_7 : decode cX5_init 7 = .ok (.newarray .byte, 2) := dk_188_8 (dk_at dksX5_init_0 7 rfl rfl)
theorem dX5_init_9 : decode cX5_init 9 = .ok (.putfield 9, 3) := dk_181 0 9 (dk_at dksX5_init_0 9 rfl rfl)
theorem dX5_init_12 : decode cX5_init 12 = .ok (.aload_n 0, 1) := dk_42 (dk_at dksX5_init_0 12 rfl rfl)
theorem dX5_init_13 : decode cX5_init 13 = .ok (.bipush 20, 2) := dk_16 20 (dk_at dksX5_init_0 13 rfl rfl)
theorem dX5_init_15 : decode cX5_init 15 = .ok (.newarray .byte, 2) := dk_188_8 (dk_at dksX5_init_0 15 rfl rfl)
theorem dX5_init_17 : decode cX5_init 17 = .ok (.putfield 15, 3) := dk_181 0 15 (dk_at dksX5_init_0 17 rfl rfl)
theorem dX5_init_20 : decode cX5_init 20 = .ok (.aload_n 0, 1) := dk_42 (dk_at dksX5_init_0 20 rfl rfl)
theorem dX5_init_21 : decode cX5_init 21 = .ok (.bipush (-4), 2) := dk_16 252 (dk_at dksX5_init_0 21 rfl rfl)
theorem dX5_init_23 : decode cX5_init 23 = .ok (.putfield 18, 3) := dk_181 0 18 (dk_at dksX5_init_1 0 rfl rfl)
theorem dX5_init_26 : decode cX5_init 26 = .ok (.return_, 1) := dk_177 (dk_at dksX5_init_1 3 rfl rfl)
abbrev cX5_books : ByteArray := prog_4_method_7_code
def yX5_books : MethodName := ⟨RX5, "books", "(II)V"⟩
def dkwX5_books_1 : List UInt8 := [96, 28, 145, 84, 42, 89, 180, 0, 31, 4, 96, 181, 0, 31, 177]
abbrev dktX5_books_1 : List UInt8 := dkwX5_books_1 ++ []
def dkwX5_books_0 : List UInt8 := [42, 180, 0, 15, 5, 42, 180, 0, 31, 104, 27, 145, 84, 42, 180, 0, 15, 5, 42, 180, 0, 31, 104, 4]
abbrev dktX5_books_0 : List UInt8 := dkwX5_books_0 ++ dktX5_books_1
theorem dksX5_books_0 : cX5_books.data.toList.drop 0 = dktX5_books_0 := by decide +kernel
theorem dksX5_books_1 : cX5_books.data.toList.drop 24 = dktX5_books_1 := dk_seg dksX5_books_0 24 rfl rfl
theorem dX5_books_0 : decode cX5_books 0 = .ok (.aload_n 0, 1) := dk_42 (dk_at dksX5_books_0 0 rfl rfl)
theorem dX5_books_1 : decode cX5_books 1 = .ok (.getfield 15, 3) := dk_180 0 15 (dk_at dksX5_books_0 1 rfl rfl)
theorem dX5_books_4 : decode cX5_books 4 = .ok (.iconst 2, 1) := dk_5 (dk_at dksX5_books_0 4 rfl rfl)
theorem dX5_books_5 : decode cX5_books 5 = .ok (.aload_n 0, 1) := dk_42 (dk_at dksX5_books_0 5 rfl rfl)
theorem dX5_books_6 : decode cX5_books 6 = .ok (.getfield 31, 3) := dk_180 0 31 (dk_at dksX5_books_0 6 rfl rfl)
theorem dX5_books_9 : decode cX5_books 9 = .ok (.imul, 1) := dk_104 (dk_at dksX5_books_0 9 rfl rfl)
theorem dX5_books_10 : decode cX5_books 10 = .ok (.iload_n 1, 1) := dk_27 (dk_at dksX5_books_0 10 rfl rfl)
theorem dX5_books_11 : decode cX5_books 11 = .ok (.i2b, 1) := dk_145 (dk_at dksX5_books_0 11 rfl rfl)
theorem dX5_books_12 : decode cX5_books 12 = .ok (.bastore, 1) := dk_84 (dk_at dksX5_books_0 12 rfl rfl)
theorem dX5_books_13 : decode cX5_books 13 = .ok (.aload_n 0, 1) := dk_42 (dk_at dksX5_books_0 13 rfl rfl)
theorem dX5_books_14 : decode cX5_books 14 = .ok (.getfield 15, 3) := dk_180 0 15 (dk_at dksX5_books_0 14 rfl rfl)
theorem dX5_books_17 : decode cX5_books 17 = .ok (.iconst 2, 1) := dk_5 (dk_at dksX5_books_0 17 rfl rfl)
theorem dX5_books_18 : decode cX5_books 18 = .ok (.aload_n 0, 1) := dk_42 (dk_at dksX5_books_0 18 rfl rfl)
theorem dX5_books_19 : decode cX5_books 19 = .ok (.getfield 31, 3) := dk_180 0 31 (dk_at dksX5_books_0 19 rfl rfl)
theorem dX5_books_22 : decode cX5_books 22 = .ok (.imul, 1) := dk_104 (dk_at dksX5_books_0 22 rfl rfl)
theorem dX5_books_23 : decode cX5_books 23 = .ok (.iconst 1, 1) := dk_4 (dk_at dksX5_books_0 23 rfl rfl)
theorem dX5_books_24 : decode cX5_books 24 = .ok (.iadd, 1) := dk_96 (dk_at dksX5_books_1 0 rfl rfl)
theorem dX5_books_25 : decode cX5_books 25 = .ok (.iload_n 2, 1) := dk_28 (dk_at dksX5_books_1 1 rfl rfl)
theorem dX5_books_26 : decode cX5_books 26 = .ok (.i2b, 1) := dk_145 (dk_at dksX5_books_1 2 rfl rfl)
theorem dX5_books_27 : decode cX5_books 27 = .ok (.bastore, 1) := dk_84 (dk_at dksX5_books_1 3 rfl rfl)
theorem dX5_books_28 : decode cX5_books 28 = .ok (.aload_n 0, 1) := dk_42 (dk_at dksX5_books_1 4 rfl rfl)
theorem dX5_books_29 : decode cX5_books 29 = .ok (.dup, 1) := dk_89 (dk_at dksX5_books_1 5 rfl rfl)
theorem dX5_books_30 : decode cX5_books 30 = .ok (.getfield 31, 3) := dk_180 0 31 (dk_at dksX5_books_1 6 rfl rfl)
theorem dX5_books_33 : decode cX5_books 33 = .ok (.iconst 1, 1) := dk_4 (dk_at dksX5_books_1 9 rfl rfl)
theorem dX5_books_34 : decode cX5_books 34 = .ok (.iadd, 1) := dk_96 (dk_at dksX5_books_1 10 rfl rfl)
theorem dX5_books_35 : decode cX5_books 35 = .ok (.putfield 31, 3) := dk_181 0 31 (dk_at dksX5_books_1 11 rfl rfl)
theorem dX5_books_38 : decode cX5_books 38 = .ok (.return_, 1) := dk_177 (dk_at dksX5_books_1 14 rfl rfl)
abbrev cX5_joins : ByteArray := prog_4_method_6_code
def yX5_joins : MethodName := ⟨RX5, "joins", "(II)V"⟩
def dkwX5_joins_2 : List UInt8 := [96, 181, 0, 22, 177]
abbrev dktX5_joins_2 : List UInt8 := dkwX5_joins_2 ++ []
def dkwX5_joins_1 : List UInt8 := [180, 0, 22, 5, 3, 182, 0, 49, 42, 42, 180, 0, 22, 6, 3, 182, 0, 49, 42, 89, 180, 0, 22, 4]
abbrev dktX5_joins_1 : List UInt8 := dkwX5_joins_1 ++ dktX5_joins_2
def dkwX5_joins_0 : List UInt8 := [42, 42, 180, 0, 22, 3, 27, 182, 0, 49, 42, 42, 180, 0, 22, 4, 28, 182, 0, 49, 42, 42]
abbrev dktX5_joins_0 : List UInt8 := dkwX5_joins_0 ++ dktX5_joins_1
theorem dksX5_joins_0 : cX5_joins.data.toList.drop 0 = dktX5_joins_0 := by decide +kernel
theorem dksX5_joins_1 : cX5_joins.data.toList.drop 22 = dktX5_joins_1 := dk_seg dksX5_joins_0 22 rfl rfl
theorem dksX5_joins_2 : cX5_joins.data.toList.drop 46 = dktX5_joins_2 := dk_seg dksX5_joins_1 24 rfl rfl
theorem dX5_joins_0 : decode cX5_joins 0 = .ok (.aload_n 0, 1) := dk_42 (dk_at dksX5_joins_0 0 rfl rfl)
theorem dX5_joins_1 : decode cX5_joins 1 = .ok (.aload_n 0, 1) := dk_42 (dk_at dksX5_joins_0 1 rfl rfl)
theorem dX5_joins_2 : decode cX5_joins 2 = .ok (.getfield 22, 3) := dk_180 0 22 (dk_at dksX5_joins_0 2 rfl rfl)
theorem dX5_joins_5 : decode cX5_joins 5 = .ok (.iconst 0, 1) := dk_3 (dk_at dksX5_joins_0 5 rfl rfl)
theorem dX5_joins_6 : decode cX5_joins 6 = .ok (.iload_n 1, 1) := dk_27 (dk_at dksX5_joins_0 6 rfl rfl)
theorem dX5_joins_7 : decode cX5_joins 7 = .ok (.invokevirtual 49, 3) := dk_182 0 49 (dk_at dksX5_joins_0 7 rfl rfl)
theorem dX5_joins_10 : decode cX5_joins 10 = .ok (.aload_n 0, 1) := dk_42 (dk_at dksX5_joins_0 10 rfl rfl)
theorem dX5_joins_11 : decode cX5_joins 11 = .ok (.aload_n 0, 1) := dk_42 (dk_at dksX5_joins_0 11 rfl rfl)
theorem dX5_joins_12 : decode cX5_joins 12 = .ok (.getfield 22, 3) := dk_180 0 22 (dk_at dksX5_joins_0 12 rfl rfl)
theorem dX5_joins_15 : decode cX5_joins 15 = .ok (.iconst 1, 1) := dk_4 (dk_at dksX5_joins_0 15 rfl rfl)
theorem dX5_joins_16 : decode cX5_joins 16 = .ok (.iload_n 2, 1) := dk_28 (dk_at dksX5_joins_0 16 rfl rfl)
theorem dX5_joins_17 : decode cX5_joins 17 = .ok (.invokevirtual 49, 3) := dk_182 0 49 (dk_at dksX5_joins_0 17 rfl rfl)
theorem dX5_joins_20 : decode cX5_joins 20 = .ok (.aload_n 0, 1) := dk_42 (dk_at dksX5_joins_0 20 rfl rfl)
theorem dX5_joins_21 : decode cX5_joins 21 = .ok (.aload_n 0, 1) := dk_42 (dk_at dksX5_joins_0 21 rfl rfl)
theorem dX5_joins_22 : decode cX5_joins 22 = .ok (.getfield 22, 3) := dk_180 0 22 (dk_at dksX5_joins_1 0 rfl rfl)
theorem dX5_joins_25 : decode cX5_joins 25 = .ok (.iconst 2, 1) := dk_5 (dk_at dksX5_joins_1 3 rfl rfl)
theorem dX5_joins_26 : decode cX5_joins 26 = .ok (.iconst 0, 1) := dk_3 (dk_at dksX5_joins_1 4 rfl rfl)
theorem dX5_joins_27 : decode cX5_joins 27 = .ok (.invokevirtual 49, 3) := dk_182 0 49 (dk_at dksX5_joins_1 5 rfl rfl)
theorem dX5_joins_30 : decode cX5_joins 30 = .ok (.aload_n 0, 1) := dk_42 (dk_at dksX5_joins_1 8 rfl rfl)
theorem dX5_joins_31 : decode cX5_joins 31 = .ok (.aload_n 0, 1) := dk_42 (dk_at dksX5_joins_1 9 rfl rfl)
theorem dX5_joins_32 : decode cX5_joins 32 = .ok (.getfield 22, 3) := dk_180 0 22 (dk_at dksX5_joins_1 10 rfl rfl)
theorem dX5_joins_35 : decode cX5_joins 35 = .ok (.iconst 3, 1) := dk_6 (dk_at dksX5_joins_1 13 rfl rfl)
theorem dX5_joins_36 : decode cX5_joins 36 = .ok (.iconst 0, 1) := dk_3 (dk_at dksX5_joins_1 14 rfl rfl)
theorem dX5_joins_37 : decode cX5_joins 37 = .ok (.invokevirtual 49, 3) := dk_182 0 49 (dk_at dksX5_joins_1 15 rfl rfl)
theorem dX5_joins_40 : decode cX5_joins 40 = .ok (.aload_n 0, 1) := dk_42 (dk_at dksX5_joins_1 18 rfl rfl)
theorem dX5_joins_41 : decode cX5_joins 41 = .ok (.dup, 1) := dk_89 (dk_at dksX5_joins_1 19 rfl rfl)
theorem dX5_joins_42 : decode cX5_joins 42 = .ok (.getfield 22, 3) := dk_180 0 22 (dk_at dksX5_joins_1 20 rfl rfl)
theorem dX5_joins_45 : decode cX5_joins 45 = .ok (.iconst 1, 1) := dk_4 (dk_at dksX5_joins_1 23 rfl rfl)
theorem dX5_joins_46 : decode cX5_joins 46 = .ok (.iadd, 1) := dk_96 (dk_at dksX5_joins_2 0 rfl rfl)
theorem dX5_joins_47 : decode cX5_joins 47 = .ok (.putfield 22, 3) := dk_181 0 22 (dk_at dksX5_joins_2 1 rfl rfl)
theorem dX5_joins_50 : decode cX5_joins 50 = .ok (.return_, 1) := dk_177 (dk_at dksX5_joins_2 4 rfl rfl)
abbrev cX5_becomes : ByteArray := prog_4_method_4_code
def yX5_becomes : MethodName := ⟨RX5, "becomes", "(III)V"⟩
def dkwX5_becomes_0 : List UInt8 := [42, 180, 0, 9, 7, 27, 104, 28, 96, 29, 145, 84, 177]
abbrev dktX5_becomes_0 : List UInt8 := dkwX5_becomes_0 ++ []
theorem dksX5_becomes_0 : cX5_becomes.data.toList.drop 0 = dktX5_becomes_0 := by decide +kernel
theorem dX5_becomes_0 : decode cX5_becomes 0 = .ok (.aload_n 0, 1) := dk_42 (dk_at dksX5_becomes_0 0 rfl rfl)
theorem dX5_becomes_1 : decode cX5_becomes 1 = .ok (.getfield 9, 3) := dk_180 0 9 (dk_at dksX5_becomes_0 1 rfl rfl)
theorem dX5_becomes_4 : decode cX5_becomes 4 = .ok (.iconst 4, 1) := dk_7 (dk_at dksX5_becomes_0 4 rfl rfl)
theorem dX5_becomes_5 : decode cX5_becomes 5 = .ok (.iload_n 1, 1) := dk_27 (dk_at dksX5_becomes_0 5 rfl rfl)
theorem dX5_becomes_6 : decode cX5_becomes 6 = .ok (.imul, 1) := dk_104 (dk_at dksX5_becomes_0 6 rfl rfl)
theorem dX5_becomes_7 : decode cX5_becomes 7 = .ok (.iload_n 2, 1) := dk_28 (dk_at dksX5_becomes_0 7 rfl rfl)
theorem dX5_becomes_8 : decode cX5_becomes 8 = .ok (.iadd, 1) := dk_96 (dk_at dksX5_becomes_0 8 rfl rfl)
theorem dX5_becomes_9 : decode cX5_becomes 9 = .ok (.iload_n 3, 1) := dk_29 (dk_at dksX5_becomes_0 9 rfl rfl)
theorem dX5_becomes_10 : decode cX5_becomes 10 = .ok (.i2b, 1) := dk_145 (dk_at dksX5_becomes_0 10 rfl rfl)
theorem dX5_becomes_11 : decode cX5_becomes 11 = .ok (.bastore, 1) := dk_84 (dk_at dksX5_becomes_0 11 rfl rfl)
theorem dX5_becomes_12 : decode cX5_becomes 12 = .ok (.return_, 1) := dk_177 (dk_at dksX5_becomes_0 12 rfl rfl)
abbrev cX5_as : ByteArray := prog_4_method_2_code
def yX5_as : MethodName := ⟨RX5, "as", "(LLoseLeague$League;)V"⟩
def dkwX5_as_2 : List UInt8 := [180, 0, 34, 181, 0, 34, 42, 43, 180, 0, 18, 181, 0, 18, 177]
abbrev dktX5_as_2 : List UInt8 := dkwX5_as_2 ++ []
def dkwX5_as_1 : List UInt8 := [43, 180, 0, 31, 181, 0, 31, 43, 180, 0, 15, 3, 42, 180, 0, 15, 3, 16, 20, 184, 0, 25, 42, 43]
abbrev dktX5_as_1 : List UInt8 := dkwX5_as_1 ++ dktX5_as_2
def dkwX5_as_0 : List UInt8 := [42, 43, 180, 0, 22, 181, 0, 22, 43, 180, 0, 9, 3, 42, 180, 0, 9, 3, 16, 20, 184, 0, 25, 42]
abbrev dktX5_as_0 : List UInt8 := dkwX5_as_0 ++ dktX5_as_1
theorem dksX5_as_0 : cX5_as.data.toList.drop 0 = dktX5_as_0 := by decide +kernel
theorem dksX5_as_1 : cX5_as.data.toList.drop 24 = dktX5_as_1 := dk_seg dksX5_as_0 24 rfl rfl
theorem dksX5_as_2 : cX5_as.data.toList.drop 48 = dktX5_as_2 := dk_seg dksX5_as_1 24 rfl rfl
theorem dX5_as_0 : decode cX5_as 0 = .ok (.aload_n 0, 1) := dk_42 (dk_at dksX5_as_0 0 rfl rfl)
theorem dX5_as_1 : decode cX5_as 1 = .ok (.aload_n 1, 1) := dk_43 (dk_at dksX5_as_0 1 rfl rfl)
theorem dX5_as_2 : decode cX5_as 2 = .ok (.getfield 22, 3) := dk_180 0 22 (dk_at dksX5_as_0 2 rfl rfl)
theorem dX5_as_5 : decode cX5_as 5 = .ok (.putfield 22, 3) := dk_181 0 22 (dk_at dksX5_as_0 5 rfl rfl)
theorem dX5_as_8 : decode cX5_as 8 = .ok (.aload_n 1, 1) := dk_43 (dk_at dksX5_as_0 8 rfl rfl)
theorem dX5_as_9 : decode cX5_as 9 = .ok (.getfield 9, 3) := dk_180 0 9 (dk_at dksX5_as_0 9 rfl rfl)
theorem dX5_as_12 : decode cX5_as 12 = .ok (.iconst 0, 1) := dk_3 (dk_at dksX5_as_0 12 rfl rfl)
theorem dX5_as_13 : decode cX5_as 13 = .ok (.aload_n 0, 1) := dk_42 (dk_at dksX5_as_0 13 rfl rfl)
theorem dX5_as_14 : decode cX5_as 14 = .ok (.getfield 9, 3) := dk_180 0 9 (dk_at dksX5_as_0 14 rfl rfl)
theorem dX5_as_17 : decode cX5_as 17 = .ok (.iconst 0, 1) := dk_3 (dk_at dksX5_as_0 17 rfl rfl)
theorem dX5_as_18 : decode cX5_as 18 = .ok (.bipush 20, 2) := dk_16 20 (dk_at dksX5_as_0 18 rfl rfl)
theorem dX5_as_20 : decode cX5_as 20 = .ok (.invokestatic 25, 3) := dk_184 0 25 (dk_at dksX5_as_0 20 rfl rfl)
theorem dX5_as_23 : decode cX5_as 23 = .ok (.aload_n 0, 1) := dk_42 (dk_at dksX5_as_0 23 rfl rfl)
theorem dX5_as_24 : decode cX5_as 24 = .ok (.aload_n 1, 1) := dk_43 (dk_at dksX5_as_1 0 rfl rfl)
theorem dX5_as_25 : decode cX5_as 25 = .ok (.getfield 31, 3) := dk_180 0 31 (dk_at dksX5_as_1 1 rfl rfl)
theorem dX5_as_28 : decode cX5_as 28 = .ok (.putfield 31, 3) := dk_181 0 31 (dk_at dksX5_as_1 4 rfl rfl)
theorem dX5_as_31 : decode cX5_as 31 = .ok (.aload_n 1, 1) := dk_43 (dk_at dksX5_as_1 7 rfl rfl)
theorem dX5_as_32 : decode cX5_as 32 = .ok (.getfield 15, 3) := dk_180 0 15 (dk_at dksX5_as_1 8 rfl rfl)
theorem dX5_as_35 : decode cX5_as 35 = .ok (.iconst 0, 1) := dk_3 (dk_at dksX5_as_1 11 rfl rfl)
theorem dX5_as_36 : decode cX5_as 36 = .ok (.aload_n 0, 1) := dk_42 (dk_at dksX5_as_1 12 rfl rfl)
theorem dX5_as_37 : decode cX5_as 37 = .ok (.getfield 15, 3) := dk_180 0 15 (dk_at dksX5_as_1 13 rfl rfl)
theorem dX5_as_40 : decode cX5_as 40 = .ok (.iconst 0, 1) := dk_3 (dk_at dksX5_as_1 16 rfl rfl)
theorem dX5_as_41 : decode cX5_as 41 = .ok (.bipush 20, 2) := dk_16 20 (dk_at dksX5_as_1 17 rfl rfl)
theorem dX5_as_43 : decode cX5_as 43 = .ok (.invokestatic 25, 3) := dk_184 0 25 (dk_at dksX5_as_1 19 rfl rfl)
theorem dX5_as_46 : decode cX5_as 46 = .ok (.aload_n 0, 1) := dk_42 (dk_at dksX5_as_1 22 rfl rfl)
theorem dX5_as_47 : decode cX5_as 47 = .ok (.aload_n 1, 1) := dk_43 (dk_at dksX5_as_1 23 rfl rfl)
theorem dX5_as_48 : decode cX5_as 48 = .ok (.getfield 34, 3) := dk_180 0 34 (dk_at dksX5_as_2 0 rfl rfl)
theorem dX5_as_51 : decode cX5_as 51 = .ok (.putfield 34, 3) := dk_181 0 34 (dk_at dksX5_as_2 3 rfl rfl)
theorem dX5_as_54 : decode cX5_as 54 = .ok (.aload_n 0, 1) := dk_42 (dk_at dksX5_as_2 6 rfl rfl)
theorem dX5_as_55 : decode cX5_as 55 = .ok (.aload_n 1, 1) := dk_43 (dk_at dksX5_as_2 7 rfl rfl)
theorem dX5_as_56 : decode cX5_as 56 = .ok (.getfield 18, 3) := dk_180 0 18 (dk_at dksX5_as_2 8 rfl rfl)
theorem dX5_as_59 : decode cX5_as 59 = .ok (.putfield 18, 3) := dk_181 0 18 (dk_at dksX5_as_2 11 rfl rfl)
theorem dX5_as_62 : decode cX5_as 62 = .ok (.return_, 1) := dk_177 (dk_at dksX5_as_2 14 rfl rfl)
abbrev cX5_next : ByteArray := prog_4_method_9_code
def yX5_next : MethodName := ⟨RX5, "next", "()I"⟩
def dkwX5_next_0 : List UInt8 := [42, 180, 0, 31, 154, 0, 8, 16, 252, 167, 0, 12, 42, 180, 0, 34, 42, 180, 0, 31, 112, 172]
abbrev dktX5_next_0 : List UInt8 := dkwX5_next_0 ++ []
theorem dksX5_next_0 : cX5_next.data.toList.drop 0 = dktX5_next_0 := by decide +kernel
theorem dX5_next_0 : decode cX5_next 0 = .ok (.aload_n 0, 1) := dk_42 (dk_at dksX5_next_0 0 rfl rfl)
theorem dX5_next_1 : decode cX5_next 1 = .ok (.getfield 31, 3) := dk_180 0 31 (dk_at dksX5_next_0 1 rfl rfl)
theorem dX5_next_4 : decode cX5_next 4 = .ok (.ifCond .ne 8, 3) := dk_154 0 8 (dk_at dksX5_next_0 4 rfl rfl)
theorem dX5_next_7 : decode cX5_next 7 = .ok (.bipush (-4), 2) := dk_16 252 (dk_at dksX5_next_0 7 rfl rfl)
theorem dX5_next_9 : decode cX5_next 9 = .ok (.goto 12, 3) := dk_167 0 12 (dk_at dksX5_next_0 9 rfl rfl)
theorem dX5_next_12 : decode cX5_next 12 = .ok (.aload_n 0, 1) := dk_42 (dk_at dksX5_next_0 12 rfl rfl)
theorem dX5_next_13 : decode cX5_next 13 = .ok (.getfield 34, 3) := dk_180 0 34 (dk_at dksX5_next_0 13 rfl rfl)
theorem dX5_next_16 : decode cX5_next 16 = .ok (.aload_n 0, 1) := dk_42 (dk_at dksX5_next_0 16 rfl rfl)
theorem dX5_next_17 : decode cX5_next 17 = .ok (.getfield 31, 3) := dk_180 0 31 (dk_at dksX5_next_0 17 rfl rfl)
theorem dX5_next_20 : decode cX5_next 20 = .ok (.irem, 1) := dk_112 (dk_at dksX5_next_0 20 rfl rfl)
theorem dX5_next_21 : decode cX5_next 21 = .ok (.ireturn, 1) := dk_172 (dk_at dksX5_next_0 21 rfl rfl)
abbrev cX5_beaten : ByteArray := prog_4_method_11_code
def yX5_beaten : MethodName := ⟨RX5, "beaten", "()I"⟩
def dkwX5_beaten_1 : List UInt8 := [120, 167, 0, 4, 3, 128, 60, 132, 2, 1, 167, 255, 226, 27, 172]
abbrev dktX5_beaten_1 : List UInt8 := dkwX5_beaten_1 ++ []
def dkwX5_beaten_0 : List UInt8 := [3, 60, 3, 61, 28, 42, 180, 0, 22, 162, 0, 28, 27, 42, 28, 5, 182, 0, 37, 158, 0, 9, 4, 28]
abbrev dktX5_beaten_0 : List UInt8 := dkwX5_beaten_0 ++ dktX5_beaten_1
theorem dksX5_beaten_0 : cX5_beaten.data.toList.drop 0 = dktX5_beaten_0 := by decide +kernel
theorem dksX5_beaten_1 : cX5_beaten.data.toList.drop 24 = dktX5_beaten_1 := dk_seg dksX5_beaten_0 24 rfl rfl
theorem dX5_beaten_0 : decode cX5_beaten 0 = .ok (.iconst 0, 1) := dk_3 (dk_at dksX5_beaten_0 0 rfl rfl)
theorem dX5_beaten_1 : decode cX5_beaten 1 = .ok (.istore_n 1, 1) := dk_60 (dk_at dksX5_beaten_0 1 rfl rfl)
theorem dX5_beaten_2 : decode cX5_beaten 2 = .ok (.iconst 0, 1) := dk_3 (dk_at dksX5_beaten_0 2 rfl rfl)
theorem dX5_beaten_3 : decode cX5_beaten 3 = .ok (.istore_n 2, 1) := dk_61 (dk_at dksX5_beaten_0 3 rfl rfl)
theorem dX5_beaten_4 : decode cX5_beaten 4 = .ok (.iload_n 2, 1) := dk_28 (dk_at dksX5_beaten_0 4 rfl rfl)
theorem dX5_beaten_5 : decode cX5_beaten 5 = .ok (.aload_n 0, 1) := dk_42 (dk_at dksX5_beaten_0 5 rfl rfl)
theorem dX5_beaten_6 : decode cX5_beaten 6 = .ok (.getfield 22, 3) := dk_180 0 22 (dk_at dksX5_beaten_0 6 rfl rfl)
theorem dX5_beaten_9 : decode cX5_beaten 9 = .ok (.if_icmp .ge 28, 3) := dk_162 0 28 (dk_at dksX5_beaten_0 9 rfl rfl)
theorem dX5_beaten_12 : decode cX5_beaten 12 = .ok (.iload_n 1, 1) := dk_27 (dk_at dksX5_beaten_0 12 rfl rfl)
theorem dX5_beaten_13 : decode cX5_beaten 13 = .ok (.aload_n 0, 1) := dk_42 (dk_at dksX5_beaten_0 13 rfl rfl)
theorem dX5_beaten_14 : decode cX5_beaten 14 = .ok (.iload_n 2, 1) := dk_28 (dk_at dksX5_beaten_0 14 rfl rfl)
theorem dX5_beaten_15 : decode cX5_beaten 15 = .ok (.iconst 2, 1) := dk_5 (dk_at dksX5_beaten_0 15 rfl rfl)
theorem dX5_beaten_16 : decode cX5_beaten 16 = .ok (.invokevirtual 37, 3) := dk_182 0 37 (dk_at dksX5_beaten_0 16 rfl rfl)
theorem dX5_beaten_19 : decode cX5_beaten 19 = .ok (.ifCond .le 9, 3) := dk_158 0 9 (dk_at dksX5_beaten_0 19 rfl rfl)
theorem dX5_beaten_22 : decode cX5_beaten 22 = .ok (.iconst 1, 1) := dk_4 (dk_at dksX5_beaten_0 22 rfl rfl)
theorem dX5_beaten_23 : decode cX5_beaten 23 = .ok (.iload_n 2, 1) := dk_28 (dk_at dksX5_beaten_0 23 rfl rfl)
theorem dX5_beaten_24 : decode cX5_beaten 24 = .ok (.ishl, 1) := dk_120 (dk_at dksX5_beaten_1 0 rfl rfl)
theorem dX5_beaten_25 : decode cX5_beaten 25 = .ok (.goto 4, 3) := dk_167 0 4 (dk_at dksX5_beaten_1 1 rfl rfl)
theorem dX5_beaten_28 : decode cX5_beaten 28 = .ok (.iconst 0, 1) := dk_3 (dk_at dksX5_beaten_1 4 rfl rfl)
theorem dX5_beaten_29 : decode cX5_beaten 29 = .ok (.ior, 1) := dk_128 (dk_at dksX5_beaten_1 5 rfl rfl)
theorem dX5_beaten_30 : decode cX5_beaten 30 = .ok (.istore_n 1, 1) := dk_60 (dk_at dksX5_beaten_1 6 rfl rfl)
theorem dX5_beaten_31 : decode cX5_beaten 31 = .ok (.iinc 2 1, 3) := dk_132 2 1 (dk_at dksX5_beaten_1 7 rfl rfl)
theorem dX5_beaten_34 : decode cX5_beaten 34 = .ok (.goto (-30), 3) := dk_167 255 226 (dk_at dksX5_beaten_1 10 rfl rfl)
theorem dX5_beaten_37 : decode cX5_beaten 37 = .ok (.iload_n 1, 1) := dk_27 (dk_at dksX5_beaten_1 13 rfl rfl)
theorem dX5_beaten_38 : decode cX5_beaten 38 = .ok (.ireturn, 1) := dk_172 (dk_at dksX5_beaten_1 14 rfl rfl)
abbrev cX5_of : ByteArray := prog_4_method_3_code
def yX5_of : MethodName := ⟨RX5, "of", "(II)I"⟩
def dkwX5_of_0 : List UInt8 := [42, 180, 0, 9, 7, 27, 104, 28, 96, 51, 172]
abbrev dktX5_of_0 : List UInt8 := dkwX5_of_0 ++ []
theorem dksX5_of_0 : cX5_of.data.toList.drop 0 = dktX5_of_0 := by decide +kernel
theorem dX5_of_0 : decode cX5_of 0 = .ok (.aload_n 0, 1) := dk_42 (dk_at dksX5_of_0 0 rfl rfl)
theorem dX5_of_1 : decode cX5_of 1 = .ok (.getfield 9, 3) := dk_180 0 9 (dk_at dksX5_of_0 1 rfl rfl)
theorem dX5_of_4 : decode cX5_of 4 = .ok (.iconst 4, 1) := dk_7 (dk_at dksX5_of_0 4 rfl rfl)
theorem dX5_of_5 : decode cX5_of 5 = .ok (.iload_n 1, 1) := dk_27 (dk_at dksX5_of_0 5 rfl rfl)
theorem dX5_of_6 : decode cX5_of 6 = .ok (.imul, 1) := dk_104 (dk_at dksX5_of_0 6 rfl rfl)
theorem dX5_of_7 : decode cX5_of 7 = .ok (.iload_n 2, 1) := dk_28 (dk_at dksX5_of_0 7 rfl rfl)
theorem dX5_of_8 : decode cX5_of 8 = .ok (.iadd, 1) := dk_96 (dk_at dksX5_of_0 8 rfl rfl)
theorem dX5_of_9 : decode cX5_of 9 = .ok (.baload, 1) := dk_51 (dk_at dksX5_of_0 9 rfl rfl)
theorem dX5_of_10 : decode cX5_of 10 = .ok (.ireturn, 1) := dk_172 (dk_at dksX5_of_0 10 rfl rfl)
abbrev cX5_sumOf : ByteArray := prog_4_method_10_code
def yX5_sumOf : MethodName := ⟨RX5, "sumOf", "(I)I"⟩
def dkwX5_sumOf_1 : List UInt8 := [167, 255, 236, 28, 172]
abbrev dktX5_sumOf_1 : List UInt8 := dkwX5_sumOf_1 ++ []
def dkwX5_sumOf_0 : List UInt8 := [3, 61, 3, 62, 29, 42, 180, 0, 22, 162, 0, 18, 28, 42, 29, 27, 182, 0, 37, 96, 61, 132, 3, 1]
abbrev dktX5_sumOf_0 : List UInt8 := dkwX5_sumOf_0 ++ dktX5_sumOf_1
theorem dksX5_sumOf_0 : cX5_sumOf.data.toList.drop 0 = dktX5_sumOf_0 := by decide +kernel
theorem dksX5_sumOf_1 : cX5_sumOf.data.toList.drop 24 = dktX5_sumOf_1 := dk_seg dksX5_sumOf_0 24 rfl rfl
theorem dX5_sumOf_0 : decode cX5_sumOf 0 = .ok (.iconst 0, 1) := dk_3 (dk_at dksX5_sumOf_0 0 rfl rfl)
theorem dX5_sumOf_1 : decode cX5_sumOf 1 = .ok (.istore_n 2, 1) := dk_61 (dk_at dksX5_sumOf_0 1 rfl rfl)
theorem dX5_sumOf_2 : decode cX5_sumOf 2 = .ok (.iconst 0, 1) := dk_3 (dk_at dksX5_sumOf_0 2 rfl rfl)
theorem dX5_sumOf_3 : decode cX5_sumOf 3 = .ok (.istore_n 3, 1) := dk_62 (dk_at dksX5_sumOf_0 3 rfl rfl)
theorem dX5_sumOf_4 : decode cX5_sumOf 4 = .ok (.iload_n 3, 1) := dk_29 (dk_at dksX5_sumOf_0 4 rfl rfl)
theorem dX5_sumOf_5 : decode cX5_sumOf 5 = .ok (.aload_n 0, 1) := dk_42 (dk_at dksX5_sumOf_0 5 rfl rfl)
theorem dX5_sumOf_6 : decode cX5_sumOf 6 = .ok (.getfield 22, 3) := dk_180 0 22 (dk_at dksX5_sumOf_0 6 rfl rfl)
theorem dX5_sumOf_9 : decode cX5_sumOf 9 = .ok (.if_icmp .ge 18, 3) := dk_162 0 18 (dk_at dksX5_sumOf_0 9 rfl rfl)
theorem dX5_sumOf_12 : decode cX5_sumOf 12 = .ok (.iload_n 2, 1) := dk_28 (dk_at dksX5_sumOf_0 12 rfl rfl)
theorem dX5_sumOf_13 : decode cX5_sumOf 13 = .ok (.aload_n 0, 1) := dk_42 (dk_at dksX5_sumOf_0 13 rfl rfl)
theorem dX5_sumOf_14 : decode cX5_sumOf 14 = .ok (.iload_n 3, 1) := dk_29 (dk_at dksX5_sumOf_0 14 rfl rfl)
theorem dX5_sumOf_15 : decode cX5_sumOf 15 = .ok (.iload_n 1, 1) := dk_27 (dk_at dksX5_sumOf_0 15 rfl rfl)
theorem dX5_sumOf_16 : decode cX5_sumOf 16 = .ok (.invokevirtual 37, 3) := dk_182 0 37 (dk_at dksX5_sumOf_0 16 rfl rfl)
theorem dX5_sumOf_19 : decode cX5_sumOf 19 = .ok (.iadd, 1) := dk_96 (dk_at dksX5_sumOf_0 19 rfl rfl)
theorem dX5_sumOf_20 : decode cX5_sumOf 20 = .ok (.istore_n 2, 1) := dk_61 (dk_at dksX5_sumOf_0 20 rfl rfl)
theorem dX5_sumOf_21 : decode cX5_sumOf 21 = .ok (.iinc 3 1, 3) := dk_132 3 1 (dk_at dksX5_sumOf_0 21 rfl rfl)
theorem dX5_sumOf_24 : decode cX5_sumOf 24 = .ok (.goto (-20), 3) := dk_167 255 236 (dk_at dksX5_sumOf_1 0 rfl rfl)
theorem dX5_sumOf_27 : decode cX5_sumOf 27 = .ok (.iload_n 2, 1) := dk_28 (dk_at dksX5_sumOf_1 3 rfl rfl)
theorem dX5_sumOf_28 : decode cX5_sumOf 28 = .ok (.ireturn, 1) := dk_172 (dk_at dksX5_sumOf_1 4 rfl rfl)
abbrev cX5_grows : ByteArray := prog_4_method_5_code
def yX5_grows : MethodName := ⟨RX5, "grows", "(IIII)V"⟩
def dkwX5_grows_0 : List UInt8 := [42, 27, 28, 3, 21, 4, 42, 27, 28, 182, 0, 37, 29, 96, 184, 0, 41, 184, 0, 46, 182, 0, 49, 177]
abbrev dktX5_grows_0 : List UInt8 := dkwX5_grows_0 ++ []
theorem dksX5_grows_0 : cX5_grows.data.toList.drop 0 = dktX5_grows_0 := by decide +kernel
theorem dX5_grows_0 : decode cX5_grows 0 = .ok (.aload_n 0, 1) := dk_42 (dk_at dksX5_grows_0 0 rfl rfl)
theorem dX5_grows_1 : decode cX5_grows 1 = .ok (.iload_n 1, 1) := dk_27 (dk_at dksX5_grows_0 1 rfl rfl)
theorem dX5_grows_2 : decode cX5_grows 2 = .ok (.iload_n 2, 1) := dk_28 (dk_at dksX5_grows_0 2 rfl rfl)
theorem dX5_grows_3 : decode cX5_grows 3 = .ok (.iconst 0, 1) := dk_3 (dk_at dksX5_grows_0 3 rfl rfl)
theorem dX5_grows_4 : decode cX5_grows 4 = .ok (.iload 4, 2) := dk_21 4 (dk_at dksX5_grows_0 4 rfl rfl)
theorem dX5_grows_6 : decode cX5_grows 6 = .ok (.aload_n 0, 1) := dk_42 (dk_at dksX5_grows_0 6 rfl rfl)
theorem dX5_grows_7 : decode cX5_grows 7 = .ok (.iload_n 1, 1) := dk_27 (dk_at dksX5_grows_0 7 rfl rfl)
theorem dX5_grows_8 : decode cX5_grows 8 = .ok (.iload_n 2, 1) := dk_28 (dk_at dksX5_grows_0 8 rfl rfl)
theorem dX5_grows_9 : decode cX5_grows 9 = .ok (.invokevirtual 37, 3) := dk_182 0 37 (dk_at dksX5_grows_0 9 rfl rfl)
theorem dX5_grows_12 : decode cX5_grows 12 = .ok (.iload_n 3, 1) := dk_29 (dk_at dksX5_grows_0 12 rfl rfl)
theorem dX5_grows_13 : decode cX5_grows 13 = .ok (.iadd, 1) := dk_96 (dk_at dksX5_grows_0 13 rfl rfl)
theorem dX5_grows_14 : decode cX5_grows 14 = .ok (.invokestatic 41, 3) := dk_184 0 41 (dk_at dksX5_grows_0 14 rfl rfl)
theorem dX5_grows_17 : decode cX5_grows 17 = .ok (.invokestatic 46, 3) := dk_184 0 46 (dk_at dksX5_grows_0 17 rfl rfl)
theorem dX5_grows_20 : decode cX5_grows 20 = .ok (.invokevirtual 49, 3) := dk_182 0 49 (dk_at dksX5_grows_0 20 rfl rfl)
theorem dX5_grows_23 : decode cX5_grows 23 = .ok (.return_, 1) := dk_177 (dk_at dksX5_grows_0 23 rfl rfl)
abbrev cX5_isOver : ByteArray := prog_4_method_12_code
def yX5_isOver : MethodName := ⟨RX5, "isOver", "()V"⟩
def dkwX5_isOver_1 : List UInt8 := [167, 0, 4, 3, 16, 99, 182, 0, 53, 42, 27, 5, 3, 182, 0, 49, 132, 1, 1, 167, 255, 216, 177]
abbrev dktX5_isOver_1 : List UInt8 := dkwX5_isOver_1 ++ []
def dkwX5_isOver_0 : List UInt8 := [3, 60, 27, 42, 180, 0, 22, 162, 0, 38, 42, 27, 6, 42, 27, 5, 182, 0, 37, 154, 0, 7, 4]
abbrev dktX5_isOver_0 : List UInt8 := dkwX5_isOver_0 ++ dktX5_isOver_1
theorem dksX5_isOver_0 : cX5_isOver.data.toList.drop 0 = dktX5_isOver_0 := by decide +kernel
theorem dksX5_isOver_1 : cX5_isOver.data.toList.drop 23 = dktX5_isOver_1 := dk_seg dksX5_isOver_0 23 rfl rfl
theorem dX5_isOver_0 : decode cX5_isOver 0 = .ok (.iconst 0, 1) := dk_3 (dk_at dksX5_isOver_0 0 rfl rfl)
theorem dX5_isOver_1 : decode cX5_isOver 1 = .ok (.istore_n 1, 1) := dk_60 (dk_at dksX5_isOver_0 1 rfl rfl)
theorem dX5_isOver_2 : decode cX5_isOver 2 = .ok (.iload_n 1, 1) := dk_27 (dk_at dksX5_isOver_0 2 rfl rfl)
theorem dX5_isOver_3 : decode cX5_isOver 3 = .ok (.aload_n 0, 1) := dk_42 (dk_at dksX5_isOver_0 3 rfl rfl)
theorem dX5_isOver_4 : decode cX5_isOver 4 = .ok (.getfield 22, 3) := dk_180 0 22 (dk_at dksX5_isOver_0 4 rfl rfl)
theorem dX5_isOver_7 : decode cX5_isOver 7 = .ok (.if_icmp .ge 38, 3) := dk_162 0 38 (dk_at dksX5_isOver_0 7 rfl rfl)
theorem dX5_isOver_10 : decode cX5_isOver 10 = .ok (.aload_n 0, 1) := dk_42 (dk_at dksX5_isOver_0 10 rfl rfl)
theorem dX5_isOver_11 : decode cX5_isOver 11 = .ok (.iload_n 1, 1) := dk_27 (dk_at dksX5_isOver_0 11 rfl rfl)
theorem dX5_isOver_12 : decode cX5_isOver 12 = .ok (.iconst 3, 1) := dk_6 (dk_at dksX5_isOver_0 12 rfl rfl)
theorem dX5_isOver_13 : decode cX5_isOver 13 = .ok (.aload_n 0, 1) := dk_42 (dk_at dksX5_isOver_0 13 rfl rfl)
theorem dX5_isOver_14 : decode cX5_isOver 14 = .ok (.iload_n 1, 1) := dk_27 (dk_at dksX5_isOver_0 14 rfl rfl)
theorem dX5_isOver_15 : decode cX5_isOver 15 = .ok (.iconst 2, 1) := dk_5 (dk_at dksX5_isOver_0 15 rfl rfl)
theorem dX5_isOver_16 : decode cX5_isOver 16 = .ok (.invokevirtual 37, 3) := dk_182 0 37 (dk_at dksX5_isOver_0 16 rfl rfl)
theorem dX5_isOver_19 : decode cX5_isOver 19 = .ok (.ifCond .ne 7, 3) := dk_154 0 7 (dk_at dksX5_isOver_0 19 rfl rfl)
theorem dX5_isOver_22 : decode cX5_isOver 22 = .ok (.iconst 1, 1) := dk_4 (dk_at dksX5_isOver_0 22 rfl rfl)
theorem dX5_isOver_23 : decode cX5_isOver 23 = .ok (.goto 4, 3) := dk_167 0 4 (dk_at dksX5_isOver_1 0 rfl rfl)
theorem dX5_isOver_26 : decode cX5_isOver 26 = .ok (.iconst 0, 1) := dk_3 (dk_at dksX5_isOver_1 3 rfl rfl)
theorem dX5_isOver_27 : decode cX5_isOver 27 = .ok (.bipush 99, 2) := dk_16 99 (dk_at dksX5_isOver_1 4 rfl rfl)
theorem dX5_isOver_29 : decode cX5_isOver 29 = .ok (.invokevirtual 53, 3) := dk_182 0 53 (dk_at dksX5_isOver_1 6 rfl rfl)
theorem dX5_isOver_32 : decode cX5_isOver 32 = .ok (.aload_n 0, 1) := dk_42 (dk_at dksX5_isOver_1 9 rfl rfl)
theorem dX5_isOver_33 : decode cX5_isOver 33 = .ok (.iload_n 1, 1) := dk_27 (dk_at dksX5_isOver_1 10 rfl rfl)
theorem dX5_isOver_34 : decode cX5_isOver 34 = .ok (.iconst 2, 1) := dk_5 (dk_at dksX5_isOver_1 11 rfl rfl)
theorem dX5_isOver_35 : decode cX5_isOver 35 = .ok (.iconst 0, 1) := dk_3 (dk_at dksX5_isOver_1 12 rfl rfl)
theorem dX5_isOver_36 : decode cX5_isOver 36 = .ok (.invokevirtual 49, 3) := dk_182 0 49 (dk_at dksX5_isOver_1 13 rfl rfl)
theorem dX5_isOver_39 : decode cX5_isOver 39 = .ok (.iinc 1 1, 3) := dk_132 1 1 (dk_at dksX5_isOver_1 16 rfl rfl)
theorem dX5_isOver_42 : decode cX5_isOver 42 = .ok (.goto (-40), 3) := dk_167 255 216 (dk_at dksX5_isOver_1 19 rfl rfl)
theorem dX5_isOver_45 : decode cX5_isOver 45 = .ok (.return_, 1) := dk_177 (dk_at dksX5_isOver_1 22 rfl rfl)
abbrev cX5_isPlace : ByteArray := prog_4_method_8_code
def yX5_isPlace : MethodName := ⟨RX5, "isPlace", "(ILLoseLeague$League;I)V"⟩
def dkwX5_isPlace_1 : List UInt8 := [96, 44, 180, 0, 15, 5, 29, 104, 4, 96, 51, 84, 177]
abbrev dktX5_isPlace_1 : List UInt8 := dkwX5_isPlace_1 ++ []
def dkwX5_isPlace_0 : List UInt8 := [42, 180, 0, 15, 5, 27, 104, 44, 180, 0, 15, 5, 29, 104, 51, 84, 42, 180, 0, 15, 5, 27, 104, 4]
abbrev dktX5_isPlace_0 : List UInt8 := dkwX5_isPlace_0 ++ dktX5_isPlace_1
theorem dksX5_isPlace_0 : cX5_isPlace.data.toList.drop 0 = dktX5_isPlace_0 := by decide +kernel
theorem dksX5_isPlace_1 : cX5_isPlace.data.toList.drop 24 = dktX5_isPlace_1 := dk_seg dksX5_isPlace_0 24 rfl rfl
theorem dX5_isPlace_0 : decode cX5_isPlace 0 = .ok (.aload_n 0, 1) := dk_42 (dk_at dksX5_isPlace_0 0 rfl rfl)
theorem dX5_isPlace_1 : decode cX5_isPlace 1 = .ok (.getfield 15, 3) := dk_180 0 15 (dk_at dksX5_isPlace_0 1 rfl rfl)
theorem dX5_isPlace_4 : decode cX5_isPlace 4 = .ok (.iconst 2, 1) := dk_5 (dk_at dksX5_isPlace_0 4 rfl rfl)
theorem dX5_isPlace_5 : decode cX5_isPlace 5 = .ok (.iload_n 1, 1) := dk_27 (dk_at dksX5_isPlace_0 5 rfl rfl)
theorem dX5_isPlace_6 : decode cX5_isPlace 6 = .ok (.imul, 1) := dk_104 (dk_at dksX5_isPlace_0 6 rfl rfl)
theorem dX5_isPlace_7 : decode cX5_isPlace 7 = .ok (.aload_n 2, 1) := dk_44 (dk_at dksX5_isPlace_0 7 rfl rfl)
theorem dX5_isPlace_8 : decode cX5_isPlace 8 = .ok (.getfield 15, 3) := dk_180 0 15 (dk_at dksX5_isPlace_0 8 rfl rfl)
theorem dX5_isPlace_11 : decode cX5_isPlace 11 = .ok (.iconst 2, 1) := dk_5 (dk_at dksX5_isPlace_0 11 rfl rfl)
theorem dX5_isPlace_12 : decode cX5_isPlace 12 = .ok (.iload_n 3, 1) := dk_29 (dk_at dksX5_isPlace_0 12 rfl rfl)
theorem dX5_isPlace_13 : decode cX5_isPlace 13 = .ok (.imul, 1) := dk_104 (dk_at dksX5_isPlace_0 13 rfl rfl)
theorem dX5_isPlace_14 : decode cX5_isPlace 14 = .ok (.baload, 1) := dk_51 (dk_at dksX5_isPlace_0 14 rfl rfl)
theorem dX5_isPlace_15 : decode cX5_isPlace 15 = .ok (.bastore, 1) := dk_84 (dk_at dksX5_isPlace_0 15 rfl rfl)
theorem dX5_isPlace_16 : decode cX5_isPlace 16 = .ok (.aload_n 0, 1) := dk_42 (dk_at dksX5_isPlace_0 16 rfl rfl)
theorem dX5_isPlace_17 : decode cX5_isPlace 17 = .ok (.getfield 15, 3) := dk_180 0 15 (dk_at dksX5_isPlace_0 17 rfl rfl)
theorem dX5_isPlace_20 : decode cX5_isPlace 20 = .ok (.iconst 2, 1) := dk_5 (dk_at dksX5_isPlace_0 20 rfl rfl)
theorem dX5_isPlace_21 : decode cX5_isPlace 21 = .ok (.iload_n 1, 1) := dk_27 (dk_at dksX5_isPlace_0 21 rfl rfl)
theorem dX5_isPlace_22 : decode cX5_isPlace 22 = .ok (.imul, 1) := dk_104 (dk_at dksX5_isPlace_0 22 rfl rfl)
theorem dX5_isPlace_23 : decode cX5_isPlace 23 = .ok (.iconst 1, 1) := dk_4 (dk_at dksX5_isPlace_0 23 rfl rfl)
theorem dX5_isPlace_24 : decode cX5_isPlace 24 = .ok (.iadd, 1) := dk_96 (dk_at dksX5_isPlace_1 0 rfl rfl)
theorem dX5_isPlace_25 : decode cX5_isPlace 25 = .ok (.aload_n 2, 1) := dk_44 (dk_at dksX5_isPlace_1 1 rfl rfl)
theorem dX5_isPlace_26 : decode cX5_isPlace 26 = .ok (.getfield 15, 3) := dk_180 0 15 (dk_at dksX5_isPlace_1 2 rfl rfl)
theorem dX5_isPlace_29 : decode cX5_isPlace 29 = .ok (.iconst 2, 1) := dk_5 (dk_at dksX5_isPlace_1 5 rfl rfl)
theorem dX5_isPlace_30 : decode cX5_isPlace 30 = .ok (.iload_n 3, 1) := dk_29 (dk_at dksX5_isPlace_1 6 rfl rfl)
theorem dX5_isPlace_31 : decode cX5_isPlace 31 = .ok (.imul, 1) := dk_104 (dk_at dksX5_isPlace_1 7 rfl rfl)
theorem dX5_isPlace_32 : decode cX5_isPlace 32 = .ok (.iconst 1, 1) := dk_4 (dk_at dksX5_isPlace_1 8 rfl rfl)
theorem dX5_isPlace_33 : decode cX5_isPlace 33 = .ok (.iadd, 1) := dk_96 (dk_at dksX5_isPlace_1 9 rfl rfl)
theorem dX5_isPlace_34 : decode cX5_isPlace 34 = .ok (.baload, 1) := dk_51 (dk_at dksX5_isPlace_1 10 rfl rfl)
theorem dX5_isPlace_35 : decode cX5_isPlace 35 = .ok (.bastore, 1) := dk_84 (dk_at dksX5_isPlace_1 11 rfl rfl)
theorem dX5_isPlace_36 : decode cX5_isPlace 36 = .ok (.return_, 1) := dk_177 (dk_at dksX5_isPlace_1 12 rfl rfl)
theorem q69 : (Jvm.Cond.initialized "LoseLeague$League") ∈ lw_all := lw_g (lw_at lw_m1 6 rfl) rfl
theorem q127 : (Jvm.Cond.instantiable "LoseLeague$League" (6 : Nat)) ∈ lw_all := lw_g (lw_at lw_m1 64 rfl) rfl
theorem q129 : (Jvm.Cond.instanceMethod ({ cls := "LoseLeague$League", name := "<init>", desc := "()V" } : Jvm.MethodName)) ∈ lw_all := lw_g (lw_at lw_m1 66 rfl) rfl
theorem q130 : (Jvm.Cond.code ({ cls := "LoseLeague$League", name := "<init>", desc := "()V" } : Jvm.MethodName) prog_4_method_1_code (1 : Nat) (Option.none : Option Jvm.ClassFile.FieldType)) ∈ lw_all := lw_g (lw_at lw_m1 67 rfl) rfl
theorem q131 : (Jvm.Cond.methodLink "LoseLeague$League" (3 : Nat) ({ cls := "java/lang/Object", name := "<init>", desc := "()V" } : Jvm.MethodName)) ∈ lw_all := lw_g (lw_at lw_m1 68 rfl) rfl
theorem q132 : (Jvm.Cond.fieldLink "LoseLeague$League" (22 : Nat) "LoseLeague$League" "towns" "I") ∈ lw_all := lw_g (lw_at lw_m1 69 rfl) rfl
theorem q135 : (Jvm.Cond.fieldLink "LoseLeague$League" (9 : Nat) "LoseLeague$League" "town" "[B") ∈ lw_all := lw_g (lw_at lw_m1 72 rfl) rfl
theorem q136 : (Jvm.Cond.fieldLink "LoseLeague$League" (31 : Nat) "LoseLeague$League" "fixtures" "I") ∈ lw_all := lw_g (lw_at lw_m1 73 rfl) rfl
theorem q139 : (Jvm.Cond.fieldLink "LoseLeague$League" (15 : Nat) "LoseLeague$League" "fixture" "[B") ∈ lw_all := lw_g (lw_at lw_m1 76 rfl) rfl
theorem q141 : (Jvm.Cond.fieldLink "LoseLeague$League" (34 : Nat) "LoseLeague$League" "week" "I") ∈ lw_all := lw_g (lw_at lw_m1 78 rfl) rfl
theorem q143 : (Jvm.Cond.fieldLink "LoseLeague$League" (18 : Nat) "LoseLeague$League" "off" "I") ∈ lw_all := lw_g (lw_at lw_m1 80 rfl) rfl
theorem q145 : (Jvm.Cond.lays "LoseLeague$League" "LoseLeague$League" "towns" "I") ∈ lw_all := lw_g (lw_at lw_m1 82 rfl) rfl
theorem q146 : (Jvm.Cond.soleField "LoseLeague$League" "towns") ∈ lw_all := lw_g (lw_at lw_m1 83 rfl) rfl
theorem q147 : (Jvm.Cond.laysFinal "LoseLeague$League" "LoseLeague$League" "town" "[B") ∈ lw_all := lw_g (lw_at lw_m1 84 rfl) rfl
theorem q148 : (Jvm.Cond.soleField "LoseLeague$League" "town") ∈ lw_all := lw_g (lw_at lw_m1 85 rfl) rfl
theorem q149 : (Jvm.Cond.lays "LoseLeague$League" "LoseLeague$League" "fixtures" "I") ∈ lw_all := lw_g (lw_at lw_m1 86 rfl) rfl
theorem q150 : (Jvm.Cond.soleField "LoseLeague$League" "fixtures") ∈ lw_all := lw_g (lw_at lw_m1 87 rfl) rfl
theorem q151 : (Jvm.Cond.laysFinal "LoseLeague$League" "LoseLeague$League" "fixture" "[B") ∈ lw_all := lw_g (lw_at lw_m1 88 rfl) rfl
theorem q152 : (Jvm.Cond.soleField "LoseLeague$League" "fixture") ∈ lw_all := lw_g (lw_at lw_m1 89 rfl) rfl
theorem q153 : (Jvm.Cond.lays "LoseLeague$League" "LoseLeague$League" "week" "I") ∈ lw_all := lw_g (lw_at lw_m1 90 rfl) rfl
theorem q154 : (Jvm.Cond.soleField "LoseLeague$League" "week") ∈ lw_all := lw_g (lw_at lw_m1 91 rfl) rfl
theorem q155 : (Jvm.Cond.lays "LoseLeague$League" "LoseLeague$League" "off" "I") ∈ lw_all := lw_g (lw_at lw_m1 92 rfl) rfl
theorem q156 : (Jvm.Cond.soleField "LoseLeague$League" "off") ∈ lw_all := lw_g (lw_at lw_m1 93 rfl) rfl
theorem q157 : (Jvm.Cond.superclass "LoseLeague$League" "java/lang/Object") ∈ lw_all := lw_g (lw_at lw_m1 94 rfl) rfl
theorem q478 : (Jvm.Cond.instanceMethod ({ cls := "LoseLeague$League", name := "books", desc := "(II)V" } : Jvm.MethodName)) ∈ lw_all := lw_g (lw_at lw_m2 175 rfl) rfl
theorem q479 : (Jvm.Cond.selects "LoseLeague$League" ({ cls := "LoseLeague$League", name := "books", desc := "(II)V" } : Jvm.MethodName) ({ cls := "LoseLeague$League", name := "books", desc := "(II)V" } : Jvm.MethodName)) ∈ lw_all := lw_g (lw_at lw_m2 176 rfl) rfl
theorem q480 : (Jvm.Cond.code ({ cls := "LoseLeague$League", name := "books", desc := "(II)V" } : Jvm.MethodName) prog_4_method_7_code (3 : Nat) (Option.none : Option Jvm.ClassFile.FieldType)) ∈ lw_all := lw_g (lw_at lw_m2 177 rfl) rfl
theorem q482 : (Jvm.Cond.instanceMethod ({ cls := "LoseLeague$League", name := "joins", desc := "(II)V" } : Jvm.MethodName)) ∈ lw_all := lw_g (lw_at lw_m2 179 rfl) rfl
theorem q483 : (Jvm.Cond.selects "LoseLeague$League" ({ cls := "LoseLeague$League", name := "joins", desc := "(II)V" } : Jvm.MethodName) ({ cls := "LoseLeague$League", name := "joins", desc := "(II)V" } : Jvm.MethodName)) ∈ lw_all := lw_g (lw_at lw_m2 180 rfl) rfl
theorem q484 : (Jvm.Cond.code ({ cls := "LoseLeague$League", name := "joins", desc := "(II)V" } : Jvm.MethodName) prog_4_method_6_code (3 : Nat) (Option.none : Option Jvm.ClassFile.FieldType)) ∈ lw_all := lw_g (lw_at lw_m2 181 rfl) rfl
theorem q485 : (Jvm.Cond.methodLink "LoseLeague$League" (49 : Nat) ({ cls := "LoseLeague$League", name := "becomes", desc := "(III)V" } : Jvm.MethodName)) ∈ lw_all := lw_g (lw_at lw_m2 182 rfl) rfl
theorem q486 : (Jvm.Cond.instanceMethod ({ cls := "LoseLeague$League", name := "becomes", desc := "(III)V" } : Jvm.MethodName)) ∈ lw_all := lw_g (lw_at lw_m2 183 rfl) rfl
theorem q487 : (Jvm.Cond.selects "LoseLeague$League" ({ cls := "LoseLeague$League", name := "becomes", desc := "(III)V" } : Jvm.MethodName) ({ cls := "LoseLeague$League", name := "becomes", desc := "(III)V" } : Jvm.MethodName)) ∈ lw_all := lw_g (lw_at lw_m2 184 rfl) rfl
theorem q488 : (Jvm.Cond.code ({ cls := "LoseLeague$League", name := "becomes", desc := "(III)V" } : Jvm.MethodName) prog_4_method_4_code (4 : Nat) (Option.none : Option Jvm.ClassFile.FieldType)) ∈ lw_all := lw_g (lw_at lw_m2 185 rfl) rfl
theorem q490 : (Jvm.Cond.instanceMethod ({ cls := "LoseLeague$League", name := "as", desc := "(LLoseLeague$League;)V" } : Jvm.MethodName)) ∈ lw_all := lw_g (lw_at lw_m2 187 rfl) rfl
theorem q491 : (Jvm.Cond.selects "LoseLeague$League" ({ cls := "LoseLeague$League", name := "as", desc := "(LLoseLeague$League;)V" } : Jvm.MethodName) ({ cls := "LoseLeague$League", name := "as", desc := "(LLoseLeague$League;)V" } : Jvm.MethodName)) ∈ lw_all := lw_g (lw_at lw_m2 188 rfl) rfl
theorem q492 : (Jvm.Cond.code ({ cls := "LoseLeague$League", name := "as", desc := "(LLoseLeague$League;)V" } : Jvm.MethodName) prog_4_method_2_code (2 : Nat) (Option.none : Option Jvm.ClassFile.FieldType)) ∈ lw_all := lw_g (lw_at lw_m2 189 rfl) rfl
theorem q493 : (Jvm.Cond.methodLink "LoseLeague$League" (25 : Nat) ({ cls := "java/lang/System", name := "arraycopy", desc := "(Ljava/lang/Object;ILjava/lang/Object;II)V" } : Jvm.MethodName)) ∈ lw_all := lw_g (lw_at lw_m2 190 rfl) rfl
theorem q505 : (Jvm.Cond.instanceMethod ({ cls := "LoseLeague$League", name := "next", desc := "()I" } : Jvm.MethodName)) ∈ lw_all := lw_g (lw_at lw_m2 202 rfl) rfl
theorem q506 : (Jvm.Cond.selects "LoseLeague$League" ({ cls := "LoseLeague$League", name := "next", desc := "()I" } : Jvm.MethodName) ({ cls := "LoseLeague$League", name := "next", desc := "()I" } : Jvm.MethodName)) ∈ lw_all := lw_g (lw_at lw_m2 203 rfl) rfl
theorem q507 : (Jvm.Cond.code ({ cls := "LoseLeague$League", name := "next", desc := "()I" } : Jvm.MethodName) prog_4_method_9_code (1 : Nat) (Option.some Jvm.ClassFile.FieldType.int)) ∈ lw_all := lw_g (lw_at lw_m2 204 rfl) rfl
theorem q509 : (Jvm.Cond.instanceMethod ({ cls := "LoseLeague$League", name := "beaten", desc := "()I" } : Jvm.MethodName)) ∈ lw_all := lw_g (lw_at lw_m2 206 rfl) rfl
theorem q510 : (Jvm.Cond.selects "LoseLeague$League" ({ cls := "LoseLeague$League", name := "beaten", desc := "()I" } : Jvm.MethodName) ({ cls := "LoseLeague$League", name := "beaten", desc := "()I" } : Jvm.MethodName)) ∈ lw_all := lw_g (lw_at lw_m2 207 rfl) rfl
theorem q511 : (Jvm.Cond.code ({ cls := "LoseLeague$League", name := "beaten", desc := "()I" } : Jvm.MethodName) prog_4_method_11_code (3 : Nat) (Option.some Jvm.ClassFile.FieldType.int)) ∈ lw_all := lw_g (lw_at lw_m2 208 rfl) rfl
theorem q512 : (Jvm.Cond.methodLink "LoseLeague$League" (37 : Nat) ({ cls := "LoseLeague$League", name := "of", desc := "(II)I" } : Jvm.MethodName)) ∈ lw_all := lw_g (lw_at lw_m2 209 rfl) rfl
theorem q513 : (Jvm.Cond.instanceMethod ({ cls := "LoseLeague$League", name := "of", desc := "(II)I" } : Jvm.MethodName)) ∈ lw_all := lw_g (lw_at lw_m2 210 rfl) rfl
theorem q514 : (Jvm.Cond.selects "LoseLeague$League" ({ cls := "LoseLeague$League", name := "of", desc := "(II)I" } : Jvm.MethodName) ({ cls := "LoseLeague$League", name := "of", desc := "(II)I" } : Jvm.MethodName)) ∈ lw_all := lw_g (lw_at lw_m2 211 rfl) rfl
theorem q515 : (Jvm.Cond.code ({ cls := "LoseLeague$League", name := "of", desc := "(II)I" } : Jvm.MethodName) prog_4_method_3_code (3 : Nat) (Option.some Jvm.ClassFile.FieldType.int)) ∈ lw_all := lw_g (lw_at lw_m2 212 rfl) rfl
theorem q517 : (Jvm.Cond.instanceMethod ({ cls := "LoseLeague$League", name := "sumOf", desc := "(I)I" } : Jvm.MethodName)) ∈ lw_all := lw_g (lw_at lw_m2 214 rfl) rfl
theorem q518 : (Jvm.Cond.selects "LoseLeague$League" ({ cls := "LoseLeague$League", name := "sumOf", desc := "(I)I" } : Jvm.MethodName) ({ cls := "LoseLeague$League", name := "sumOf", desc := "(I)I" } : Jvm.MethodName)) ∈ lw_all := lw_g (lw_at lw_m2 215 rfl) rfl
theorem q519 : (Jvm.Cond.code ({ cls := "LoseLeague$League", name := "sumOf", desc := "(I)I" } : Jvm.MethodName) prog_4_method_10_code (4 : Nat) (Option.some Jvm.ClassFile.FieldType.int)) ∈ lw_all := lw_g (lw_at lw_m2 216 rfl) rfl
theorem q620 : (Jvm.Cond.instanceMethod ({ cls := "LoseLeague$League", name := "grows", desc := "(IIII)V" } : Jvm.MethodName)) ∈ lw_all := lw_g (lw_at lw_m3 77 rfl) rfl
theorem q621 : (Jvm.Cond.selects "LoseLeague$League" ({ cls := "LoseLeague$League", name := "grows", desc := "(IIII)V" } : Jvm.MethodName) ({ cls := "LoseLeague$League", name := "grows", desc := "(IIII)V" } : Jvm.MethodName)) ∈ lw_all := lw_g (lw_at lw_m3 78 rfl) rfl
theorem q622 : (Jvm.Cond.code ({ cls := "LoseLeague$League", name := "grows", desc := "(IIII)V" } : Jvm.MethodName) prog_4_method_5_code (5 : Nat) (Option.none : Option Jvm.ClassFile.FieldType)) ∈ lw_all := lw_g (lw_at lw_m3 79 rfl) rfl
theorem q623 : (Jvm.Cond.methodLink "LoseLeague$League" (41 : Nat) ({ cls := "java/lang/Math", name := "min", desc := "(II)I" } : Jvm.MethodName)) ∈ lw_all := lw_g (lw_at lw_m3 80 rfl) rfl
theorem q626 : (Jvm.Cond.methodLink "LoseLeague$League" (46 : Nat) ({ cls := "java/lang/Math", name := "max", desc := "(II)I" } : Jvm.MethodName)) ∈ lw_all := lw_g (lw_at lw_m3 83 rfl) rfl
theorem q648 : (Jvm.Cond.instanceMethod ({ cls := "LoseLeague$League", name := "isOver", desc := "()V" } : Jvm.MethodName)) ∈ lw_all := lw_g (lw_at lw_m3 105 rfl) rfl
theorem q649 : (Jvm.Cond.selects "LoseLeague$League" ({ cls := "LoseLeague$League", name := "isOver", desc := "()V" } : Jvm.MethodName) ({ cls := "LoseLeague$League", name := "isOver", desc := "()V" } : Jvm.MethodName)) ∈ lw_all := lw_g (lw_at lw_m3 106 rfl) rfl
theorem q650 : (Jvm.Cond.code ({ cls := "LoseLeague$League", name := "isOver", desc := "()V" } : Jvm.MethodName) prog_4_method_12_code (2 : Nat) (Option.none : Option Jvm.ClassFile.FieldType)) ∈ lw_all := lw_g (lw_at lw_m3 107 rfl) rfl
theorem q651 : (Jvm.Cond.methodLink "LoseLeague$League" (53 : Nat) ({ cls := "LoseLeague$League", name := "grows", desc := "(IIII)V" } : Jvm.MethodName)) ∈ lw_all := lw_g (lw_at lw_m3 108 rfl) rfl
theorem q689 : (Jvm.Cond.instanceMethod ({ cls := "LoseLeague$League", name := "isPlace", desc := "(ILLoseLeague$League;I)V" } : Jvm.MethodName)) ∈ lw_all := lw_g (lw_at lw_m3 146 rfl) rfl
theorem q690 : (Jvm.Cond.selects "LoseLeague$League" ({ cls := "LoseLeague$League", name := "isPlace", desc := "(ILLoseLeague$League;I)V" } : Jvm.MethodName) ({ cls := "LoseLeague$League", name := "isPlace", desc := "(ILLoseLeague$League;I)V" } : Jvm.MethodName)) ∈ lw_all := lw_g (lw_at lw_m3 147 rfl) rfl
theorem q691 : (Jvm.Cond.code ({ cls := "LoseLeague$League", name := "isPlace", desc := "(ILLoseLeague$League;I)V" } : Jvm.MethodName) prog_4_method_8_code (4 : Nat) (Option.none : Option Jvm.ClassFile.FieldType)) ∈ lw_all := lw_g (lw_at lw_m3 148 rfl) rfl
theorem in_X5 : ∀ w ∈ wsX50, w ∈ lw_all := lw_in wsX50 [145, 147, 149, 151, 153, 155] (by decide +kernel) (by decide +kernel)

/-! LoseLeague$Sheet -/
set_option maxRecDepth 100000
def RX6 : String := "LoseLeague$Sheet"
def TX6 : u_T := fun k => match k with
  | _ => ("LoseLeague$Sheet", "cells", "Ljava/lang/Object;", false)
def tyX6 : Nat → FieldType := fun k => match k with
  | _ => .object "java/lang/Object"
abbrev wsX60 : List Cond := u_ws RX6 TX6 1
theorem nmX6 : ∀ a, a < 1 → ∀ b, b < 1 → a ≠ b → (TX6 a).2.1 ≠ (TX6 b).2.1 := by decide +kernel
theorem tyX6_ok : ∀ k, k < 1 → parseFieldDescriptor (TX6 k).2.2.1 = some (tyX6 k) := by decide +kernel
abbrev cX6_init : ByteArray := prog_8_method_1_code
def yX6_init : MethodName := ⟨RX6, "<init>", "()V"⟩
theorem dX6_init_0 : decode cX6_init 0 = .ok (.aload_n 0, 1) := by decide +kernel
theorem dX6_init_1 : decode cX6_init 1 = .ok (.invokespecial 1, 3) := by decide +kernel
theorem dX6_init_4 : decode cX6_init 4 = .ok (.return_, 1) := by decide +kernel
theorem q70 : (Jvm.Cond.initialized "LoseLeague$Sheet") ∈ lw_all := lw_g (lw_at lw_m1 7 rfl) rfl
theorem q162 : (Jvm.Cond.instantiable "LoseLeague$Sheet" (1 : Nat)) ∈ lw_all := lw_g (lw_at lw_m1 99 rfl) rfl
theorem q164 : (Jvm.Cond.instanceMethod ({ cls := "LoseLeague$Sheet", name := "<init>", desc := "()V" } : Jvm.MethodName)) ∈ lw_all := lw_g (lw_at lw_m1 101 rfl) rfl
theorem q165 : (Jvm.Cond.code ({ cls := "LoseLeague$Sheet", name := "<init>", desc := "()V" } : Jvm.MethodName) prog_8_method_1_code (1 : Nat) (Option.none : Option Jvm.ClassFile.FieldType)) ∈ lw_all := lw_g (lw_at lw_m1 102 rfl) rfl
theorem q166 : (Jvm.Cond.methodLink "LoseLeague$Sheet" (1 : Nat) ({ cls := "java/lang/Object", name := "<init>", desc := "()V" } : Jvm.MethodName)) ∈ lw_all := lw_g (lw_at lw_m1 103 rfl) rfl
theorem q168 : (Jvm.Cond.lays "LoseLeague$Sheet" "LoseLeague$Sheet" "cells" "Ljava/lang/Object;") ∈ lw_all := lw_g (lw_at lw_m1 105 rfl) rfl
theorem q169 : (Jvm.Cond.soleField "LoseLeague$Sheet" "cells") ∈ lw_all := lw_g (lw_at lw_m1 106 rfl) rfl
theorem q170 : (Jvm.Cond.superclass "LoseLeague$Sheet" "java/lang/Object") ∈ lw_all := lw_g (lw_at lw_m1 107 rfl) rfl
theorem in_X6 : ∀ w ∈ wsX60, w ∈ lw_all := lw_in wsX60 [168] (by decide +kernel) (by decide +kernel)

/-! LoseLeague$Reader -/
set_option maxRecDepth 100000
def RX8 : String := "LoseLeague$Reader"
def TX8 : u_T := fun k => match k with
  | 0 => ("LoseLeague$Reader", "size", "I", true)
  | 1 => ("LoseLeague$Reader", "made", "LLoseLeague$League;", true)
  | 2 => ("LoseLeague$Reader", "highest", "I", false)
  | 3 => ("LoseLeague$Reader", "at", "I", false)
  | 4 => ("LoseLeague$Reader", "from", "I", false)
  | 5 => ("LoseLeague$Reader", "sort", "I", false)
  | 6 => ("LoseLeague$Reader", "value", "I", false)
  | _ => ("LoseLeague$Reader", "this$0", "LLoseLeague;", true)
def tyX8 : Nat → FieldType := fun k => match k with
  | 0 => .int
  | 1 => .object "LoseLeague$League"
  | 2 => .int
  | 3 => .int
  | 4 => .int
  | 5 => .int
  | 6 => .int
  | _ => .object "LoseLeague"
abbrev wsX80 : List Cond := u_ws RX8 TX8 8
theorem nmX8 : ∀ a, a < 8 → ∀ b, b < 8 → a ≠ b → (TX8 a).2.1 ≠ (TX8 b).2.1 := by decide +kernel
theorem tyX8_ok : ∀ k, k < 8 → parseFieldDescriptor (TX8 k).2.2.1 = some (tyX8 k) := by decide +kernel
abbrev cX8_init : ByteArray := prog_7_method_1_code
def yX8_init : MethodName := ⟨RX8, "<init>", "(LLoseLeague;I)V"⟩
def dkwX8_init_1 : List UInt8 := [181, 0, 22, 42, 28, 181, 0, 26, 42, 182, 0, 29, 177]
abbrev dktX8_init_1 : List UInt8 := dkwX8_init_1 ++ []
def dkwX8_init_0 : List UInt8 := [42, 43, 181, 0, 3, 42, 183, 0, 9, 42, 187, 0, 15, 89, 183, 0, 17, 181, 0, 18, 42, 16, 252]
abbrev dktX8_init_0 : List UInt8 := dkwX8_init_0 ++ dktX8_init_1
theorem dksX8_init_0 : cX8_init.data.toList.drop 0 = dktX8_init_0 := by decide +kernel
theorem dksX8_init_1 : cX8_init.data.toList.drop 23 = dktX8_init_1 := dk_seg dksX8_init_0 23 rfl rfl
theorem dX8_init_0 : decode cX8_init 0 = .ok (.aload_n 0, 1) := dk_42 (dk_at dksX8_init_0 0 rfl rfl)
theorem dX8_init_1 : decode cX8_init 1 = .ok (.aload_n 1, 1) := dk_43 (dk_at dksX8_init_0 1 rfl rfl)
theorem dX8_init_2 : decode cX8_init 2 = .ok (.putfield 3, 3) := dk_181 0 3 (dk_at dksX8_init_0 2 rfl rfl)
theorem dX8_init_5 : decode cX8_init 5 = .ok (.aload_n 0, 1) := dk_42 (dk_at dksX8_init_0 5 rfl rfl)
theorem dX8_init_6 : decode cX8_init 6 = .ok (.invokespecial 9, 3) := dk_183 0 9 (dk_at dksX8_init_0 6 rfl rfl)
theorem dX8_init_9 : decode cX8_init 9 = .ok (.aload_n 0, 1) := dk_42 (dk_at dksX8_init_0 9 rfl rfl)
theorem dX8_init_10 : decode cX8_init 10 = .ok (.new 15, 3) := dk_187 0 15 (dk_at dksX8_init_0 10 rfl rfl)
theorem dX8_init_13 : decode cX8_init 13 = .ok (.dup, 1) := dk_89 (dk_at dksX8_init_0 13 rfl rfl)
theorem dX8_init_14 : decode cX8_init 14 = .ok (.invokespecial 17, 3) := dk_183 0 17 (dk_at dksX8_init_0 14 rfl rfl)
theorem dX8_init_17 : decode cX8_init 17 = .ok (.putfield 18, 3) := dk_181 0 18 (dk_at dksX8_init_0 17 rfl rfl)
theorem dX8_init_20 : decode cX8_init 20 = .ok (.aload_n 0, 1) := dk_42 (dk_at dksX8_init_0 20 rfl rfl)
theorem dX8_init_21 : decode cX8_init 21 = .ok (.bipush (-4), 2) := dk_16 252 (dk_at dksX8_init_0 21 rfl rfl)
theorem dX8_init_23 : decode cX8_init 23 = .ok (.putfield 22, 3) := dk_181 0 22 (dk_at dksX8_init_1 0 rfl rfl)
theorem dX8_init_26 : decode cX8_init 26 = .ok (.aload_n 0, 1) := dk_42 (dk_at dksX8_init_1 3 rfl rfl)
theorem dX8_init_27 : decode cX8_init 27 = .ok (.iload_n 2, 1) := dk_28 (dk_at dksX8_init_1 4 rfl rfl)
theorem dX8_init_28 : decode cX8_init 28 = .ok (.putfield 26, 3) := dk_181 0 26 (dk_at dksX8_init_1 5 rfl rfl)
theorem dX8_init_31 : decode cX8_init 31 = .ok (.aload_n 0, 1) := dk_42 (dk_at dksX8_init_1 8 rfl rfl)
theorem dX8_init_32 : decode cX8_init 32 = .ok (.invokevirtual 29, 3) := dk_182 0 29 (dk_at dksX8_init_1 9 rfl rfl)
theorem dX8_init_35 : decode cX8_init 35 = .ok (.return_, 1) := dk_177 (dk_at dksX8_init_1 12 rfl rfl)
abbrev cX8_next : ByteArray := prog_7_method_6_code
def yX8_next : MethodName := ⟨RX8, "next", "()V"⟩
def dkwX8_next_10 : List UInt8 := [181, 0, 32, 177]
abbrev dktX8_next_10 : List UInt8 := dkwX8_next_10 ++ []
def dkwX8_next_9 : List UInt8 := [181, 0, 61, 42, 42, 16, 59, 16, 59, 182, 0, 74, 4, 182, 0, 81, 42, 89, 180, 0, 32, 4, 96]
abbrev dktX8_next_9 : List UInt8 := dkwX8_next_9 ++ dktX8_next_10
def dkwX8_next_8 : List UInt8 := [180, 0, 41, 100, 6, 162, 0, 7, 4, 167, 0, 4, 3, 4, 182, 0, 81, 167, 0, 31, 42, 6]
abbrev dktX8_next_8 : List UInt8 := dkwX8_next_8 ++ dktX8_next_9
def dkwX8_next_7 : List UInt8 := [181, 0, 78, 42, 89, 180, 0, 32, 4, 96, 181, 0, 32, 167, 255, 188, 42, 42, 180, 0, 32, 42]
abbrev dktX8_next_7 : List UInt8 := dkwX8_next_7 ++ dktX8_next_8
def dkwX8_next_6 : List UInt8 := [42, 180, 0, 3, 180, 0, 35, 42, 180, 0, 32, 51, 96, 16, 48, 100, 167, 0, 7, 42, 180, 0, 78]
abbrev dktX8_next_6 : List UInt8 := dkwX8_next_6 ++ dktX8_next_7
def dkwX8_next_5 : List UInt8 := [153, 0, 63, 42, 42, 180, 0, 32, 42, 180, 0, 41, 100, 5, 162, 0, 29, 16, 10, 42, 180, 0, 78, 104]
abbrev dktX8_next_5 : List UInt8 := dkwX8_next_5 ++ dktX8_next_6
def dkwX8_next_4 : List UInt8 := [182, 0, 74, 153, 0, 110, 42, 5, 181, 0, 61, 42, 3, 181, 0, 78, 42, 16, 48, 16, 57, 182, 0, 74]
abbrev dktX8_next_4 : List UInt8 := dkwX8_next_4 ++ dktX8_next_5
def dkwX8_next_3 : List UInt8 := [182, 0, 74, 153, 0, 162, 42, 89, 180, 0, 32, 4, 96, 181, 0, 32, 167, 255, 235, 42, 16, 48, 16, 57]
abbrev dktX8_next_3 : List UInt8 := dkwX8_next_3 ++ dktX8_next_4
def dkwX8_next_2 : List UInt8 := [167, 0, 189, 42, 16, 97, 16, 122, 182, 0, 74, 153, 0, 32, 42, 4, 181, 0, 61, 42, 16, 97, 16, 122]
abbrev dktX8_next_2 : List UInt8 := dkwX8_next_2 ++ dktX8_next_3
def dkwX8_next_1 : List UInt8 := [42, 42, 180, 0, 32, 181, 0, 41, 42, 180, 0, 32, 42, 180, 0, 26, 160, 0, 11, 42, 3, 181, 0, 61]
abbrev dktX8_next_1 : List UInt8 := dkwX8_next_1 ++ dktX8_next_2
def dkwX8_next_0 : List UInt8 := [42, 16, 32, 16, 32, 182, 0, 74, 153, 0, 16, 42, 89, 180, 0, 32, 4, 96, 181, 0, 32, 167, 255, 235]
abbrev dktX8_next_0 : List UInt8 := dkwX8_next_0 ++ dktX8_next_1
theorem dksX8_next_0 : cX8_next.data.toList.drop 0 = dktX8_next_0 := by decide +kernel
theorem dksX8_next_1 : cX8_next.data.toList.drop 24 = dktX8_next_1 := dk_seg dksX8_next_0 24 rfl rfl
theorem dksX8_next_2 : cX8_next.data.toList.drop 48 = dktX8_next_2 := dk_seg dksX8_next_1 24 rfl rfl
theorem dksX8_next_3 : cX8_next.data.toList.drop 72 = dktX8_next_3 := dk_seg dksX8_next_2 24 rfl rfl
theorem dksX8_next_4 : cX8_next.data.toList.drop 96 = dktX8_next_4 := dk_seg dksX8_next_3 24 rfl rfl
theorem dksX8_next_5 : cX8_next.data.toList.drop 120 = dktX8_next_5 := dk_seg dksX8_next_4 24 rfl rfl
theorem dksX8_next_6 : cX8_next.data.toList.drop 144 = dktX8_next_6 := dk_seg dksX8_next_5 24 rfl rfl
theorem dksX8_next_7 : cX8_next.data.toList.drop 167 = dktX8_next_7 := dk_seg dksX8_next_6 23 rfl rfl
theorem dksX8_next_8 : cX8_next.data.toList.drop 189 = dktX8_next_8 := dk_seg dksX8_next_7 22 rfl rfl
theorem dksX8_next_9 : cX8_next.data.toList.drop 211 = dktX8_next_9 := dk_seg dksX8_next_8 22 rfl rfl
theorem dksX8_next_10 : cX8_next.data.toList.drop 234 = dktX8_next_10 := dk_seg dksX8_next_9 23 rfl rfl
theorem dX8_next_0 : decode cX8_next 0 = .ok (.aload_n 0, 1) := dk_42 (dk_at dksX8_next_0 0 rfl rfl)
theorem dX8_next_1 : decode cX8_next 1 = .ok (.bipush 32, 2) := dk_16 32 (dk_at dksX8_next_0 1 rfl rfl)
theorem dX8_next_3 : decode cX8_next 3 = .ok (.bipush 32, 2) := dk_16 32 (dk_at dksX8_next_0 3 rfl rfl)
theorem dX8_next_5 : decode cX8_next 5 = .ok (.invokevirtual 74, 3) := dk_182 0 74 (dk_at dksX8_next_0 5 rfl rfl)
theorem dX8_next_8 : decode cX8_next 8 = .ok (.ifCond .eq 16, 3) := dk_153 0 16 (dk_at dksX8_next_0 8 rfl rfl)
theorem dX8_next_11 : decode cX8_next 11 = .ok (.aload_n 0, 1) := dk_42 (dk_at dksX8_next_0 11 rfl rfl)
theorem dX8_next_12 : decode cX8_next 12 = .ok (.dup, 1) := dk_89 (dk_at dksX8_next_0 12 rfl rfl)
theorem dX8_next_13 : decode cX8_next 13 = .ok (.getfield 32, 3) := dk_180 0 32 (dk_at dksX8_next_0 13 rfl rfl)
theorem dX8_next_16 : decode cX8_next 16 = .ok (.iconst 1, 1) := dk_4 (dk_at dksX8_next_0 16 rfl rfl)
theorem dX8_next_17 : decode cX8_next 17 = .ok (.iadd, 1) := dk_96 (dk_at dksX8_next_0 17 rfl rfl)
theorem dX8_next_18 : decode cX8_next 18 = .ok (.putfield 32, 3) := dk_181 0 32 (dk_at dksX8_next_0 18 rfl rfl)
theorem dX8_next_21 : decode cX8_next 21 = .ok (.goto (-21), 3) := dk_167 255 235 (dk_at dksX8_next_0 21 rfl rfl)
theorem dX8_next_24 : decode cX8_next 24 = .ok (.aload_n 0, 1) := dk_42 (dk_at dksX8_next_1 0 rfl rfl)
theorem dX8_next_25 : decode cX8_next 25 = .ok (.aload_n 0, 1) := dk_42 (dk_at dksX8_next_1 1 rfl rfl)
theorem dX8_next_26 : decode cX8_next 26 = .ok (.getfield 32, 3) := dk_180 0 32 (dk_at dksX8_next_1 2 rfl rfl)
theorem dX8_next_29 : decode cX8_next 29 = .ok (.putfield 41, 3) := dk_181 0 41 (dk_at dksX8_next_1 5 rfl rfl)
theorem dX8_next_32 : decode cX8_next 32 = .ok (.aload_n 0, 1) := dk_42 (dk_at dksX8_next_1 8 rfl rfl)
theorem dX8_next_33 : decode cX8_next 33 = .ok (.getfield 32, 3) := dk_180 0 32 (dk_at dksX8_next_1 9 rfl rfl)
theorem dX8_next_36 : decode cX8_next 36 = .ok (.aload_n 0, 1) := dk_42 (dk_at dksX8_next_1 12 rfl rfl)
theorem dX8_next_37 : decode cX8_next 37 = .ok (.getfield 26, 3) := dk_180 0 26 (dk_at dksX8_next_1 13 rfl rfl)
theorem dX8_next_40 : decode cX8_next 40 = .ok (.if_icmp .ne 11, 3) := dk_160 0 11 (dk_at dksX8_next_1 16 rfl rfl)
theorem dX8_next_43 : decode cX8_next 43 = .ok (.aload_n 0, 1) := dk_42 (dk_at dksX8_next_1 19 rfl rfl)
theorem dX8_next_44 : decode cX8_next 44 = .ok (.iconst 0, 1) := dk_3 (dk_at dksX8_next_1 20 rfl rfl)
theorem dX8_next_45 : decode cX8_next 45 = .ok (.putfield 61, 3) := dk_181 0 61 (dk_at dksX8_next_1 21 rfl rfl)
theorem dX8_next_48 : decode cX8_next 48 = .ok (.goto 189, 3) := dk_167 0 189 (dk_at dksX8_next_2 0 rfl rfl)
theorem dX8_next_51 : decode cX8_next 51 = .ok (.aload_n 0, 1) := dk_42 (dk_at dksX8_next_2 3 rfl rfl)
theorem dX8_next_52 : decode cX8_next 52 = .ok (.bipush 97, 2) := dk_16 97 (dk_at dksX8_next_2 4 rfl rfl)
theorem dX8_next_54 : decode cX8_next 54 = .ok (.bipush 122, 2) := dk_16 122 (dk_at dksX8_next_2 6 rfl rfl)
theorem dX8_next_56 : decode cX8_next 56 = .ok (.invokevirtual 74, 3) := dk_182 0 74 (dk_at dksX8_next_2 8 rfl rfl)
theorem dX8_next_59 : decode cX8_next 59 = .ok (.ifCond .eq 32, 3) := dk_153 0 32 (dk_at dksX8_next_2 11 rfl rfl)
theorem dX8_next_62 : decode cX8_next 62 = .ok (.aload_n 0, 1) := dk_42 (dk_at dksX8_next_2 14 rfl rfl)
theorem dX8_next_63 : decode cX8_next 63 = .ok (.iconst 1, 1) := dk_4 (dk_at dksX8_next_2 15 rfl rfl)
theorem dX8_next_64 : decode cX8_next 64 = .ok (.putfield 61, 3) := dk_181 0 61 (dk_at dksX8_next_2 16 rfl rfl)
theorem dX8_next_67 : decode cX8_next 67 = .ok (.aload_n 0, 1) := dk_42 (dk_at dksX8_next_2 19 rfl rfl)
theorem dX8_next_68 : decode cX8_next 68 = .ok (.bipush 97, 2) := dk_16 97 (dk_at dksX8_next_2 20 rfl rfl)
theorem dX8_next_70 : decode cX8_next 70 = .ok (.bipush 122, 2) := dk_16 122 (dk_at dksX8_next_2 22 rfl rfl)
theorem dX8_next_72 : decode cX8_next 72 = .ok (.invokevirtual 74, 3) := dk_182 0 74 (dk_at dksX8_next_3 0 rfl rfl)
theorem dX8_next_75 : decode cX8_next 75 = .ok (.ifCond .eq 162, 3) := dk_153 0 162 (dk_at dksX8_next_3 3 rfl rfl)
theorem dX8_next_78 : decode cX8_next 78 = .ok (.aload_n 0, 1) := dk_42 (dk_at dksX8_next_3 6 rfl rfl)
theorem dX8_next_79 : decode cX8_next 79 = .ok (.dup, 1) := dk_89 (dk_at dksX8_next_3 7 rfl rfl)
theorem dX8_next_80 : decode cX8_next 80 = .ok (.getfield 32, 3) := dk_180 0 32 (dk_at dksX8_next_3 8 rfl rfl)
theorem dX8_next_83 : decode cX8_next 83 = .ok (.iconst 1, 1) := dk_4 (dk_at dksX8_next_3 11 rfl rfl)
theorem dX8_next_84 : decode cX8_next 84 = .ok (.iadd, 1) := dk_96 (dk_at dksX8_next_3 12 rfl rfl)
theorem dX8_next_85 : decode cX8_next 85 = .ok (.putfield 32, 3) := dk_181 0 32 (dk_at dksX8_next_3 13 rfl rfl)
theorem dX8_next_88 : decode cX8_next 88 = .ok (.goto (-21), 3) := dk_167 255 235 (dk_at dksX8_next_3 16 rfl rfl)
theorem dX8_next_91 : decode cX8_next 91 = .ok (.aload_n 0, 1) := dk_42 (dk_at dksX8_next_3 19 rfl rfl)
theorem dX8_next_92 : decode cX8_next 92 = .ok (.bipush 48, 2) := dk_16 48 (dk_at dksX8_next_3 20 rfl rfl)
theorem dX8_next_94 : decode cX8_next 94 = .ok (.bipush 57, 2) := dk_16 57 (dk_at dksX8_next_3 22 rfl rfl)
theorem dX8_next_96 : decode cX8_next 96 = .ok (.invokevirtual 74, 3) := dk_182 0 74 (dk_at dksX8_next_4 0 rfl rfl)
theorem dX8_next_99 : decode cX8_next 99 = .ok (.ifCond .eq 110, 3) := dk_153 0 110 (dk_at dksX8_next_4 3 rfl rfl)
theorem dX8_next_102 : decode cX8_next 102 = .ok (.aload_n 0, 1) := dk_42 (dk_at dksX8_next_4 6 rfl rfl)
theorem dX8_next_103 : decode cX8_next 103 = .ok (.iconst 2, 1) := dk_5 (dk_at dksX8_next_4 7 rfl rfl)
theorem dX8_next_104 : decode cX8_next 104 = .ok (.putfield 61, 3) := dk_181 0 61 (dk_at dksX8_next_4 8 rfl rfl)
theorem dX8_next_107 : decode cX8_next 107 = .ok (.aload_n 0, 1) := dk_42 (dk_at dksX8_next_4 11 rfl rfl)
theorem dX8_next_108 : decode cX8_next 108 = .ok (.iconst 0, 1) := dk_3 (dk_at dksX8_next_4 12 rfl rfl)
theorem dX8_next_109 : decode cX8_next 109 = .ok (.putfield 78, 3) := dk_181 0 78 (dk_at dksX8_next_4 13 rfl rfl)
theorem dX8_next_112 : decode cX8_next 112 = .ok (.aload_n 0, 1) := dk_42 (dk_at dksX8_next_4 16 rfl rfl)
theorem dX8_next_113 : decode cX8_next 113 = .ok (.bipush 48, 2) := dk_16 48 (dk_at dksX8_next_4 17 rfl rfl)
theorem dX8_next_115 : decode cX8_next 115 = .ok (.bipush 57, 2) := dk_16 57 (dk_at dksX8_next_4 19 rfl rfl)
theorem dX8_next_117 : decode cX8_next 117 = .ok (.invokevirtual 74, 3) := dk_182 0 74 (dk_at dksX8_next_4 21 rfl rfl)
theorem dX8_next_120 : decode cX8_next 120 = .ok (.ifCond .eq 63, 3) := dk_153 0 63 (dk_at dksX8_next_5 0 rfl rfl)
theorem dX8_next_123 : decode cX8_next 123 = .ok (.aload_n 0, 1) := dk_42 (dk_at dksX8_next_5 3 rfl rfl)
theorem dX8_next_124 : decode cX8_next 124 = .ok (.aload_n 0, 1) := dk_42 (dk_at dksX8_next_5 4 rfl rfl)
theorem dX8_next_125 : decode cX8_next 125 = .ok (.getfield 32, 3) := dk_180 0 32 (dk_at dksX8_next_5 5 rfl rfl)
theorem dX8_next_128 : decode cX8_next 128 = .ok (.aload_n 0, 1) := dk_42 (dk_at dksX8_next_5 8 rfl rfl)
theorem dX8_next_129 : decode cX8_next 129 = .ok (.getfield 41, 3) := dk_180 0 41 (dk_at dksX8_next_5 9 rfl rfl)
theorem dX8_next_132 : decode cX8_next 132 = .ok (.isub, 1) := dk_100 (dk_at dksX8_next_5 12 rfl rfl)
theorem dX8_next_133 : decode cX8_next 133 = .ok (.iconst 2, 1) := dk_5 (dk_at dksX8_next_5 13 rfl rfl)
theorem dX8_next_134 : decode cX8_next 134 = .ok (.if_icmp .ge 29, 3) := dk_162 0 29 (dk_at dksX8_next_5 14 rfl rfl)
theorem dX8_next_137 : decode cX8_next 137 = .ok (.bipush 10, 2) := dk_16 10 (dk_at dksX8_next_5 17 rfl rfl)
theorem dX8_next_139 : decode cX8_next 139 = .ok (.aload_n 0, 1) := dk_42 (dk_at dksX8_next_5 19 rfl rfl)
theorem dX8_next_140 : decode cX8_next 140 = .ok (.getfield 78, 3) := dk_180 0 78 (dk_at dksX8_next_5 20 rfl rfl)
theorem dX8_next_143 : decode cX8_next 143 = .ok (.imul, 1) := dk_104 (dk_at dksX8_next_5 23 rfl rfl)
theorem dX8_next_144 : decode cX8_next 144 = .ok (.aload_n 0, 1) := dk_42 (dk_at dksX8_next_6 0 rfl rfl)
theorem dX8_next_145 : decode cX8_next 145 = .ok (.getfield 3, 3) := dk_180 0 3 (dk_at dksX8_next_6 1 rfl rfl)
theorem dX8_next_148 : decode cX8_next 148 = .ok (.getfield 35, 3) := dk_180 0 35 (dk_at dksX8_next_6 4 rfl rfl)
theorem dX8_next_151 : decode cX8_next 151 = .ok (.aload_n 0, 1) := dk_42 (dk_at dksX8_next_6 7 rfl rfl)
theorem dX8_next_152 : decode cX8_next 152 = .ok (.getfield 32, 3) := dk_180 0 32 (dk_at dksX8_next_6 8 rfl rfl)
theorem dX8_next_155 : decode cX8_next 155 = .ok (.baload, 1) := dk_51 (dk_at dksX8_next_6 11 rfl rfl)
theorem dX8_next_156 : decode cX8_next 156 = .ok (.iadd, 1) := dk_96 (dk_at dksX8_next_6 12 rfl rfl)
theorem dX8_next_157 : decode cX8_next 157 = .ok (.bipush 48, 2) := dk_16 48 (dk_at dksX8_next_6 13 rfl rfl)
theorem dX8_next_159 : decode cX8_next 159 = .ok (.isub, 1) := dk_100 (dk_at dksX8_next_6 15 rfl rfl)
theorem dX8_next_160 : decode cX8_next 160 = .ok (.goto 7, 3) := dk_167 0 7 (dk_at dksX8_next_6 16 rfl rfl)
theorem dX8_next_163 : decode cX8_next 163 = .ok (.aload_n 0, 1) := dk_42 (dk_at dksX8_next_6 19 rfl rfl)
theorem dX8_next_164 : decode cX8_next 164 = .ok (.getfield 78, 3) := dk_180 0 78 (dk_at dksX8_next_6 20 rfl rfl)
theorem dX8_next_167 : decode cX8_next 167 = .ok (.putfield 78, 3) := dk_181 0 78 (dk_at dksX8_next_7 0 rfl rfl)
theorem dX8_next_170 : decode cX8_next 170 = .ok (.aload_n 0, 1) := dk_42 (dk_at dksX8_next_7 3 rfl rfl)
theorem dX8_next_171 : decode cX8_next 171 = .ok (.dup, 1) := dk_89 (dk_at dksX8_next_7 4 rfl rfl)
theorem dX8_next_172 : decode cX8_next 172 = .ok (.getfield 32, 3) := dk_180 0 32 (dk_at dksX8_next_7 5 rfl rfl)
theorem dX8_next_175 : decode cX8_next 175 = .ok (.iconst 1, 1) := dk_4 (dk_at dksX8_next_7 8 rfl rfl)
theorem dX8_next_176 : decode cX8_next 176 = .ok (.iadd, 1) := dk_96 (dk_at dksX8_next_7 9 rfl rfl)
theorem dX8_next_177 : decode cX8_next 177 = .ok (.putfield 32, 3) := dk_181 0 32 (dk_at dksX8_next_7 10 rfl rfl)
theorem dX8_next_180 : decode cX8_next 180 = .ok (.goto (-68), 3) := dk_167 255 188 (dk_at dksX8_next_7 13 rfl rfl)
theorem dX8_next_183 : decode cX8_next 183 = .ok (.aload_n 0, 1) := dk_42 (dk_at dksX8_next_7 16 rfl rfl)
theorem dX8_next_184 : decode cX8_next 184 = .ok (.aload_n 0, 1) := dk_42 (dk_at dksX8_next_7 17 rfl rfl)
theorem dX8_next_185 : decode cX8_next 185 = .ok (.getfield 32, 3) := dk_180 0 32 (dk_at dksX8_next_7 18 rfl rfl)
theorem dX8_next_188 : decode cX8_next 188 = .ok (.aload_n 0, 1) := dk_42 (dk_at dksX8_next_7 21 rfl rfl)
theorem dX8_next_189 : decode cX8_next 189 = .ok (.getfield 41, 3) := dk_180 0 41 (dk_at dksX8_next_8 0 rfl rfl)
theorem dX8_next_192 : decode cX8_next 192 = .ok (.isub, 1) := dk_100 (dk_at dksX8_next_8 3 rfl rfl)
theorem dX8_next_193 : decode cX8_next 193 = .ok (.iconst 3, 1) := dk_6 (dk_at dksX8_next_8 4 rfl rfl)
theorem dX8_next_194 : decode cX8_next 194 = .ok (.if_icmp .ge 7, 3) := dk_162 0 7 (dk_at dksX8_next_8 5 rfl rfl)
theorem dX8_next_197 : decode cX8_next 197 = .ok (.iconst 1, 1) := dk_4 (dk_at dksX8_next_8 8 rfl rfl)
theorem dX8_next_198 : decode cX8_next 198 = .ok (.goto 4, 3) := dk_167 0 4 (dk_at dksX8_next_8 9 rfl rfl)
theorem dX8_next_201 : decode cX8_next 201 = .ok (.iconst 0, 1) := dk_3 (dk_at dksX8_next_8 12 rfl rfl)
theorem dX8_next_202 : decode cX8_next 202 = .ok (.iconst 1, 1) := dk_4 (dk_at dksX8_next_8 13 rfl rfl)
theorem dX8_next_203 : decode cX8_next 203 = .ok (.invokevirtual 81, 3) := dk_182 0 81 (dk_at dksX8_next_8 14 rfl rfl)
theorem dX8_next_206 : decode cX8_next 206 = .ok (.goto 31, 3) := dk_167 0 31 (dk_at dksX8_next_8 17 rfl rfl)
theorem dX8_next_209 : decode cX8_next 209 = .ok (.aload_n 0, 1) := dk_42 (dk_at dksX8_next_8 20 rfl rfl)
theorem dX8_next_210 : decode cX8_next 210 = .ok (.iconst 3, 1) := dk_6 (dk_at dksX8_next_8 21 rfl rfl)
theorem dX8_next_211 : decode cX8_next 211 = .ok (.putfield 61, 3) := dk_181 0 61 (dk_at dksX8_next_9 0 rfl rfl)
theorem dX8_next_214 : decode cX8_next 214 = .ok (.aload_n 0, 1) := dk_42 (dk_at dksX8_next_9 3 rfl rfl)
theorem dX8_next_215 : decode cX8_next 215 = .ok (.aload_n 0, 1) := dk_42 (dk_at dksX8_next_9 4 rfl rfl)
theorem dX8_next_216 : decode cX8_next 216 = .ok (.bipush 59, 2) := dk_16 59 (dk_at dksX8_next_9 5 rfl rfl)
theorem dX8_next_218 : decode cX8_next 218 = .ok (.bipush 59, 2) := dk_16 59 (dk_at dksX8_next_9 7 rfl rfl)
theorem dX8_next_220 : decode cX8_next 220 = .ok (.invokevirtual 74, 3) := dk_182 0 74 (dk_at dksX8_next_9 9 rfl rfl)
theorem dX8_next_223 : decode cX8_next 223 = .ok (.iconst 1, 1) := dk_4 (dk_at dksX8_next_9 12 rfl rfl)
theorem dX8_next_224 : decode cX8_next 224 = .ok (.invokevirtual 81, 3) := dk_182 0 81 (dk_at dksX8_next_9 13 rfl rfl)
theorem dX8_next_227 : decode cX8_next 227 = .ok (.aload_n 0, 1) := dk_42 (dk_at dksX8_next_9 16 rfl rfl)
theorem dX8_next_228 : decode cX8_next 228 = .ok (.dup, 1) := dk_89 (dk_at dksX8_next_9 17 rfl rfl)
theorem dX8_next_229 : decode cX8_next 229 = .ok (.getfield 32, 3) := dk_180 0 32 (dk_at dksX8_next_9 18 rfl rfl)
theorem dX8_next_232 : decode cX8_next 232 = .ok (.iconst 1, 1) := dk_4 (dk_at dksX8_next_9 21 rfl rfl)
theorem dX8_next_233 : decode cX8_next 233 = .ok (.iadd, 1) := dk_96 (dk_at dksX8_next_9 22 rfl rfl)
theorem dX8_next_234 : decode cX8_next 234 = .ok (.putfield 32, 3) := dk_181 0 32 (dk_at dksX8_next_10 0 rfl rfl)
theorem dX8_next_237 : decode cX8_next 237 = .ok (.return_, 1) := dk_177 (dk_at dksX8_next_10 3 rfl rfl)
abbrev cX8_isIn : ByteArray := prog_7_method_2_code
def yX8_isIn : MethodName := ⟨RX8, "isIn", "(CC)Z"⟩
def dkwX8_isIn_2 : List UInt8 := [172]
abbrev dktX8_isIn_2 : List UInt8 := dkwX8_isIn_2 ++ []
def dkwX8_isIn_1 : List UInt8 := [161, 0, 23, 42, 180, 0, 3, 180, 0, 35, 42, 180, 0, 32, 51, 28, 163, 0, 7, 4, 167, 0, 4, 3]
abbrev dktX8_isIn_1 : List UInt8 := dkwX8_isIn_1 ++ dktX8_isIn_2
def dkwX8_isIn_0 : List UInt8 := [42, 180, 0, 32, 42, 180, 0, 26, 162, 0, 39, 42, 180, 0, 3, 180, 0, 35, 42, 180, 0, 32, 51, 27]
abbrev dktX8_isIn_0 : List UInt8 := dkwX8_isIn_0 ++ dktX8_isIn_1
theorem dksX8_isIn_0 : cX8_isIn.data.toList.drop 0 = dktX8_isIn_0 := by decide +kernel
theorem dksX8_isIn_1 : cX8_isIn.data.toList.drop 24 = dktX8_isIn_1 := dk_seg dksX8_isIn_0 24 rfl rfl
theorem dksX8_isIn_2 : cX8_isIn.data.toList.drop 48 = dktX8_isIn_2 := dk_seg dksX8_isIn_1 24 rfl rfl
theorem dX8_isIn_0 : decode cX8_isIn 0 = .ok (.aload_n 0, 1) := dk_42 (dk_at dksX8_isIn_0 0 rfl rfl)
theorem dX8_isIn_1 : decode cX8_isIn 1 = .ok (.getfield 32, 3) := dk_180 0 32 (dk_at dksX8_isIn_0 1 rfl rfl)
theorem dX8_isIn_4 : decode cX8_isIn 4 = .ok (.aload_n 0, 1) := dk_42 (dk_at dksX8_isIn_0 4 rfl rfl)
theorem dX8_isIn_5 : decode cX8_isIn 5 = .ok (.getfield 26, 3) := dk_180 0 26 (dk_at dksX8_isIn_0 5 rfl rfl)
theorem dX8_isIn_8 : decode cX8_isIn 8 = .ok (.if_icmp .ge 39, 3) := dk_162 0 39 (dk_at dksX8_isIn_0 8 rfl rfl)
theorem dX8_isIn_11 : decode cX8_isIn 11 = .ok (.aload_n 0, 1) := dk_42 (dk_at dksX8_isIn_0 11 rfl rfl)
theorem dX8_isIn_12 : decode cX8_isIn 12 = .ok (.getfield 3, 3) := dk_180 0 3 (dk_at dksX8_isIn_0 12 rfl rfl)
theorem dX8_isIn_15 : decode cX8_isIn 15 = .ok (.getfield 35, 3) := dk_180 0 35 (dk_at dksX8_isIn_0 15 rfl rfl)
theorem dX8_isIn_18 : decode cX8_isIn 18 = .ok (.aload_n 0, 1) := dk_42 (dk_at dksX8_isIn_0 18 rfl rfl)
theorem dX8_isIn_19 : decode cX8_isIn 19 = .ok (.getfield 32, 3) := dk_180 0 32 (dk_at dksX8_isIn_0 19 rfl rfl)
theorem dX8_isIn_22 : decode cX8_isIn 22 = .ok (.baload, 1) := dk_51 (dk_at dksX8_isIn_0 22 rfl rfl)
theorem dX8_isIn_23 : decode cX8_isIn 23 = .ok (.iload_n 1, 1) := dk_27 (dk_at dksX8_isIn_0 23 rfl rfl)
theorem dX8_isIn_24 : decode cX8_isIn 24 = .ok (.if_icmp .lt 23, 3) := dk_161 0 23 (dk_at dksX8_isIn_1 0 rfl rfl)
theorem dX8_isIn_27 : decode cX8_isIn 27 = .ok (.aload_n 0, 1) := dk_42 (dk_at dksX8_isIn_1 3 rfl rfl)
theorem dX8_isIn_28 : decode cX8_isIn 28 = .ok (.getfield 3, 3) := dk_180 0 3 (dk_at dksX8_isIn_1 4 rfl rfl)
theorem dX8_isIn_31 : decode cX8_isIn 31 = .ok (.getfield 35, 3) := dk_180 0 35 (dk_at dksX8_isIn_1 7 rfl rfl)
theorem dX8_isIn_34 : decode cX8_isIn 34 = .ok (.aload_n 0, 1) := dk_42 (dk_at dksX8_isIn_1 10 rfl rfl)
theorem dX8_isIn_35 : decode cX8_isIn 35 = .ok (.getfield 32, 3) := dk_180 0 32 (dk_at dksX8_isIn_1 11 rfl rfl)
theorem dX8_isIn_38 : decode cX8_isIn 38 = .ok (.baload, 1) := dk_51 (dk_at dksX8_isIn_1 14 rfl rfl)
theorem dX8_isIn_39 : decode cX8_isIn 39 = .ok (.iload_n 2, 1) := dk_28 (dk_at dksX8_isIn_1 15 rfl rfl)
theorem dX8_isIn_40 : decode cX8_isIn 40 = .ok (.if_icmp .gt 7, 3) := dk_163 0 7 (dk_at dksX8_isIn_1 16 rfl rfl)
theorem dX8_isIn_43 : decode cX8_isIn 43 = .ok (.iconst 1, 1) := dk_4 (dk_at dksX8_isIn_1 19 rfl rfl)
theorem dX8_isIn_44 : decode cX8_isIn 44 = .ok (.goto 4, 3) := dk_167 0 4 (dk_at dksX8_isIn_1 20 rfl rfl)
theorem dX8_isIn_47 : decode cX8_isIn 47 = .ok (.iconst 0, 1) := dk_3 (dk_at dksX8_isIn_1 23 rfl rfl)
theorem dX8_isIn_48 : decode cX8_isIn 48 = .ok (.ireturn, 1) := dk_172 (dk_at dksX8_isIn_2 0 rfl rfl)
abbrev cX8_need : ByteArray := prog_7_method_3_code
def yX8_need : MethodName := ⟨RX8, "need", "(ZI)V"⟩
def dkwX8_need_0 : List UInt8 := [27, 154, 0, 16, 187, 0, 39, 89, 28, 42, 180, 0, 41, 183, 0, 44, 191, 177]
abbrev dktX8_need_0 : List UInt8 := dkwX8_need_0 ++ []
theorem dksX8_need_0 : cX8_need.data.toList.drop 0 = dktX8_need_0 := by decide +kernel
theorem dX8_need_0 : decode cX8_need 0 = .ok (.iload_n 1, 1) := dk_27 (dk_at dksX8_need_0 0 rfl rfl)
theorem dX8_need_1 : decode cX8_need 1 = .ok (.ifCond .ne 16, 3) := dk_154 0 16 (dk_at dksX8_need_0 1 rfl rfl)
theorem dX8_need_4 : decode cX8_need 4 = .ok (.new 39, 3) := dk_187 0 39 (dk_at dksX8_need_0 4 rfl rfl)
theorem dX8_need_7 : decode cX8_need 7 = .ok (.dup, 1) := dk_89 (dk_at dksX8_need_0 7 rfl rfl)
theorem dX8_need_8 : decode cX8_need 8 = .ok (.iload_n 2, 1) := dk_28 (dk_at dksX8_need_0 8 rfl rfl)
theorem dX8_need_9 : decode cX8_need 9 = .ok (.aload_n 0, 1) := dk_42 (dk_at dksX8_need_0 9 rfl rfl)
theorem dX8_need_10 : decode cX8_need 10 = .ok (.getfield 41, 3) := dk_180 0 41 (dk_at dksX8_need_0 10 rfl rfl)
theorem dX8_need_13 : decode cX8_need 13 = .ok (.invokespecial 44, 3) := dk_183 0 44 (dk_at dksX8_need_0 13 rfl rfl)
theorem dX8_need_16 : decode cX8_need 16 = .ok (.athrow, 1) := dk_191 (dk_at dksX8_need_0 16 rfl rfl)
theorem dX8_need_17 : decode cX8_need 17 = .ok (.return_, 1) := dk_177 (dk_at dksX8_need_0 17 rfl rfl)
abbrev cX8_lines : ByteArray := prog_7_method_10_code
def yX8_lines : MethodName := ⟨RX8, "lines", "()I"⟩
def dkwX8_lines_1 : List UInt8 := [42, 180, 0, 18, 180, 0, 109, 162, 0, 7, 4, 167, 0, 4, 3, 16, 6, 182, 0, 81, 27, 172]
abbrev dktX8_lines_1 : List UInt8 := dkwX8_lines_1 ++ []
def dkwX8_lines_0 : List UInt8 := [3, 60, 42, 180, 0, 61, 153, 0, 13, 42, 182, 0, 117, 132, 1, 1, 167, 255, 242, 42, 42, 180, 0, 22]
abbrev dktX8_lines_0 : List UInt8 := dkwX8_lines_0 ++ dktX8_lines_1
theorem dksX8_lines_0 : cX8_lines.data.toList.drop 0 = dktX8_lines_0 := by decide +kernel
theorem dksX8_lines_1 : cX8_lines.data.toList.drop 24 = dktX8_lines_1 := dk_seg dksX8_lines_0 24 rfl rfl
theorem dX8_lines_0 : decode cX8_lines 0 = .ok (.iconst 0, 1) := dk_3 (dk_at dksX8_lines_0 0 rfl rfl)
theorem dX8_lines_1 : decode cX8_lines 1 = .ok (.istore_n 1, 1) := dk_60 (dk_at dksX8_lines_0 1 rfl rfl)
theorem dX8_lines_2 : decode cX8_lines 2 = .ok (.aload_n 0, 1) := dk_42 (dk_at dksX8_lines_0 2 rfl rfl)
theorem dX8_lines_3 : decode cX8_lines 3 = .ok (.getfield 61, 3) := dk_180 0 61 (dk_at dksX8_lines_0 3 rfl rfl)
theorem dX8_lines_6 : decode cX8_lines 6 = .ok (.ifCond .eq 13, 3) := dk_153 0 13 (dk_at dksX8_lines_0 6 rfl rfl)
theorem dX8_lines_9 : decode cX8_lines 9 = .ok (.aload_n 0, 1) := dk_42 (dk_at dksX8_lines_0 9 rfl rfl)
theorem dX8_lines_10 : decode cX8_lines 10 = .ok (.invokevirtual 117, 3) := dk_182 0 117 (dk_at dksX8_lines_0 10 rfl rfl)
theorem dX8_lines_13 : decode cX8_lines 13 = .ok (.iinc 1 1, 3) := dk_132 1 1 (dk_at dksX8_lines_0 13 rfl rfl)
theorem dX8_lines_16 : decode cX8_lines 16 = .ok (.goto (-14), 3) := dk_167 255 242 (dk_at dksX8_lines_0 16 rfl rfl)
theorem dX8_lines_19 : decode cX8_lines 19 = .ok (.aload_n 0, 1) := dk_42 (dk_at dksX8_lines_0 19 rfl rfl)
theorem dX8_lines_20 : decode cX8_lines 20 = .ok (.aload_n 0, 1) := dk_42 (dk_at dksX8_lines_0 20 rfl rfl)
theorem dX8_lines_21 : decode cX8_lines 21 = .ok (.getfield 22, 3) := dk_180 0 22 (dk_at dksX8_lines_0 21 rfl rfl)
theorem dX8_lines_24 : decode cX8_lines 24 = .ok (.aload_n 0, 1) := dk_42 (dk_at dksX8_lines_1 0 rfl rfl)
theorem dX8_lines_25 : decode cX8_lines 25 = .ok (.getfield 18, 3) := dk_180 0 18 (dk_at dksX8_lines_1 1 rfl rfl)
theorem dX8_lines_28 : decode cX8_lines 28 = .ok (.getfield 109, 3) := dk_180 0 109 (dk_at dksX8_lines_1 4 rfl rfl)
theorem dX8_lines_31 : decode cX8_lines 31 = .ok (.if_icmp .ge 7, 3) := dk_162 0 7 (dk_at dksX8_lines_1 7 rfl rfl)
theorem dX8_lines_34 : decode cX8_lines 34 = .ok (.iconst 1, 1) := dk_4 (dk_at dksX8_lines_1 10 rfl rfl)
theorem dX8_lines_35 : decode cX8_lines 35 = .ok (.goto 4, 3) := dk_167 0 4 (dk_at dksX8_lines_1 11 rfl rfl)
theorem dX8_lines_38 : decode cX8_lines 38 = .ok (.iconst 0, 1) := dk_3 (dk_at dksX8_lines_1 14 rfl rfl)
theorem dX8_lines_39 : decode cX8_lines 39 = .ok (.bipush 6, 2) := dk_16 6 (dk_at dksX8_lines_1 15 rfl rfl)
theorem dX8_lines_41 : decode cX8_lines 41 = .ok (.invokevirtual 81, 3) := dk_182 0 81 (dk_at dksX8_lines_1 17 rfl rfl)
theorem dX8_lines_44 : decode cX8_lines 44 = .ok (.iload_n 1, 1) := dk_27 (dk_at dksX8_lines_1 20 rfl rfl)
theorem dX8_lines_45 : decode cX8_lines 45 = .ok (.ireturn, 1) := dk_172 (dk_at dksX8_lines_1 21 rfl rfl)
abbrev cX8_line : ByteArray := prog_7_method_9_code
def yX8_line : MethodName := ⟨RX8, "line", "()V"⟩
def dkwX8_line_5 : List UInt8 := [42, 42, 180, 0, 61, 6, 160, 0, 7, 4, 167, 0, 4, 3, 5, 182, 0, 81, 42, 182, 0, 29, 177]
abbrev dktX8_line_5 : List UInt8 := dkwX8_line_5 ++ []
def dkwX8_line_4 : List UInt8 := [182, 0, 112, 167, 0, 21, 42, 180, 0, 18, 27, 42, 16, 20, 182, 0, 89, 182, 0, 114, 42, 182, 0, 29]
abbrev dktX8_line_4 : List UInt8 := dkwX8_line_4 ++ dktX8_line_5
def dkwX8_line_3 : List UInt8 := [162, 0, 7, 4, 167, 0, 4, 3, 8, 182, 0, 81, 42, 182, 0, 29, 27, 7, 160, 0, 10, 42]
abbrev dktX8_line_3 : List UInt8 := dkwX8_line_3 ++ dktX8_line_4
def dkwX8_line_2 : List UInt8 := [180, 0, 106, 16, 10, 162, 0, 7, 4, 167, 0, 23, 3, 167, 0, 19, 42, 180, 0, 18, 180, 0, 109, 8]
abbrev dktX8_line_2 : List UInt8 := dkwX8_line_2 ++ dktX8_line_3
def dkwX8_line_1 : List UInt8 := [163, 0, 7, 4, 167, 0, 4, 3, 5, 182, 0, 81, 42, 27, 7, 160, 0, 23, 42, 180, 0, 18]
abbrev dktX8_line_1 : List UInt8 := dkwX8_line_1 ++ dktX8_line_2
def dkwX8_line_0 : List UInt8 := [3, 60, 27, 7, 163, 0, 17, 42, 27, 182, 0, 102, 154, 0, 9, 132, 1, 1, 167, 255, 240, 42, 27, 7]
abbrev dktX8_line_0 : List UInt8 := dkwX8_line_0 ++ dktX8_line_1
theorem dksX8_line_0 : cX8_line.data.toList.drop 0 = dktX8_line_0 := by decide +kernel
theorem dksX8_line_1 : cX8_line.data.toList.drop 24 = dktX8_line_1 := dk_seg dksX8_line_0 24 rfl rfl
theorem dksX8_line_2 : cX8_line.data.toList.drop 46 = dktX8_line_2 := dk_seg dksX8_line_1 22 rfl rfl
theorem dksX8_line_3 : cX8_line.data.toList.drop 70 = dktX8_line_3 := dk_seg dksX8_line_2 24 rfl rfl
theorem dksX8_line_4 : cX8_line.data.toList.drop 92 = dktX8_line_4 := dk_seg dksX8_line_3 22 rfl rfl
theorem dksX8_line_5 : cX8_line.data.toList.drop 116 = dktX8_line_5 := dk_seg dksX8_line_4 24 rfl rfl
theorem dX8_line_0 : decode cX8_line 0 = .ok (.iconst 0, 1) := dk_3 (dk_at dksX8_line_0 0 rfl rfl)
theorem dX8_line_1 : decode cX8_line 1 = .ok (.istore_n 1, 1) := dk_60 (dk_at dksX8_line_0 1 rfl rfl)
theorem dX8_line_2 : decode cX8_line 2 = .ok (.iload_n 1, 1) := dk_27 (dk_at dksX8_line_0 2 rfl rfl)
theorem dX8_line_3 : decode cX8_line 3 = .ok (.iconst 4, 1) := dk_7 (dk_at dksX8_line_0 3 rfl rfl)
theorem dX8_line_4 : decode cX8_line 4 = .ok (.if_icmp .gt 17, 3) := dk_163 0 17 (dk_at dksX8_line_0 4 rfl rfl)
theorem dX8_line_7 : decode cX8_line 7 = .ok (.aload_n 0, 1) := dk_42 (dk_at dksX8_line_0 7 rfl rfl)
theorem dX8_line_8 : decode cX8_line 8 = .ok (.iload_n 1, 1) := dk_27 (dk_at dksX8_line_0 8 rfl rfl)
theorem dX8_line_9 : decode cX8_line 9 = .ok (.invokevirtual 102, 3) := dk_182 0 102 (dk_at dksX8_line_0 9 rfl rfl)
theorem dX8_line_12 : decode cX8_line 12 = .ok (.ifCond .ne 9, 3) := dk_154 0 9 (dk_at dksX8_line_0 12 rfl rfl)
theorem dX8_line_15 : decode cX8_line 15 = .ok (.iinc 1 1, 3) := dk_132 1 1 (dk_at dksX8_line_0 15 rfl rfl)
theorem dX8_line_18 : decode cX8_line 18 = .ok (.goto (-16), 3) := dk_167 255 240 (dk_at dksX8_line_0 18 rfl rfl)
theorem dX8_line_21 : decode cX8_line 21 = .ok (.aload_n 0, 1) := dk_42 (dk_at dksX8_line_0 21 rfl rfl)
theorem dX8_line_22 : decode cX8_line 22 = .ok (.iload_n 1, 1) := dk_27 (dk_at dksX8_line_0 22 rfl rfl)
theorem dX8_line_23 : decode cX8_line 23 = .ok (.iconst 4, 1) := dk_7 (dk_at dksX8_line_0 23 rfl rfl)
theorem dX8_line_24 : decode cX8_line 24 = .ok (.if_icmp .gt 7, 3) := dk_163 0 7 (dk_at dksX8_line_1 0 rfl rfl)
theorem dX8_line_27 : decode cX8_line 27 = .ok (.iconst 1, 1) := dk_4 (dk_at dksX8_line_1 3 rfl rfl)
theorem dX8_line_28 : decode cX8_line 28 = .ok (.goto 4, 3) := dk_167 0 4 (dk_at dksX8_line_1 4 rfl rfl)
theorem dX8_line_31 : decode cX8_line 31 = .ok (.iconst 0, 1) := dk_3 (dk_at dksX8_line_1 7 rfl rfl)
theorem dX8_line_32 : decode cX8_line 32 = .ok (.iconst 2, 1) := dk_5 (dk_at dksX8_line_1 8 rfl rfl)
theorem dX8_line_33 : decode cX8_line 33 = .ok (.invokevirtual 81, 3) := dk_182 0 81 (dk_at dksX8_line_1 9 rfl rfl)
theorem dX8_line_36 : decode cX8_line 36 = .ok (.aload_n 0, 1) := dk_42 (dk_at dksX8_line_1 12 rfl rfl)
theorem dX8_line_37 : decode cX8_line 37 = .ok (.iload_n 1, 1) := dk_27 (dk_at dksX8_line_1 13 rfl rfl)
theorem dX8_line_38 : decode cX8_line 38 = .ok (.iconst 4, 1) := dk_7 (dk_at dksX8_line_1 14 rfl rfl)
theorem dX8_line_39 : decode cX8_line 39 = .ok (.if_icmp .ne 23, 3) := dk_160 0 23 (dk_at dksX8_line_1 15 rfl rfl)
theorem dX8_line_42 : decode cX8_line 42 = .ok (.aload_n 0, 1) := dk_42 (dk_at dksX8_line_1 18 rfl rfl)
theorem dX8_line_43 : decode cX8_line 43 = .ok (.getfield 18, 3) := dk_180 0 18 (dk_at dksX8_line_1 19 rfl rfl)
theorem dX8_line_46 : decode cX8_line 46 = .ok (.getfield 106, 3) := dk_180 0 106 (dk_at dksX8_line_2 0 rfl rfl)
theorem dX8_line_49 : decode cX8_line 49 = .ok (.bipush 10, 2) := dk_16 10 (dk_at dksX8_line_2 3 rfl rfl)
theorem dX8_line_51 : decode cX8_line 51 = .ok (.if_icmp .ge 7, 3) := dk_162 0 7 (dk_at dksX8_line_2 5 rfl rfl)
theorem dX8_line_54 : decode cX8_line 54 = .ok (.iconst 1, 1) := dk_4 (dk_at dksX8_line_2 8 rfl rfl)
theorem dX8_line_55 : decode cX8_line 55 = .ok (.goto 23, 3) := dk_167 0 23 (dk_at dksX8_line_2 9 rfl rfl)
theorem dX8_line_58 : decode cX8_line 58 = .ok (.iconst 0, 1) := dk_3 (dk_at dksX8_line_2 12 rfl rfl)
theorem dX8_line_59 : decode cX8_line 59 = .ok (.goto 19, 3) := dk_167 0 19 (dk_at dksX8_line_2 13 rfl rfl)
theorem dX8_line_62 : decode cX8_line 62 = .ok (.aload_n 0, 1) := dk_42 (dk_at dksX8_line_2 16 rfl rfl)
theorem dX8_line_63 : decode cX8_line 63 = .ok (.getfield 18, 3) := dk_180 0 18 (dk_at dksX8_line_2 17 rfl rfl)
theorem dX8_line_66 : decode cX8_line 66 = .ok (.getfield 109, 3) := dk_180 0 109 (dk_at dksX8_line_2 20 rfl rfl)
theorem dX8_line_69 : decode cX8_line 69 = .ok (.iconst 5, 1) := dk_8 (dk_at dksX8_line_2 23 rfl rfl)
theorem dX8_line_70 : decode cX8_line 70 = .ok (.if_icmp .ge 7, 3) := dk_162 0 7 (dk_at dksX8_line_3 0 rfl rfl)
theorem dX8_line_73 : decode cX8_line 73 = .ok (.iconst 1, 1) := dk_4 (dk_at dksX8_line_3 3 rfl rfl)
theorem dX8_line_74 : decode cX8_line 74 = .ok (.goto 4, 3) := dk_167 0 4 (dk_at dksX8_line_3 4 rfl rfl)
theorem dX8_line_77 : decode cX8_line 77 = .ok (.iconst 0, 1) := dk_3 (dk_at dksX8_line_3 7 rfl rfl)
theorem dX8_line_78 : decode cX8_line 78 = .ok (.iconst 5, 1) := dk_8 (dk_at dksX8_line_3 8 rfl rfl)
theorem dX8_line_79 : decode cX8_line 79 = .ok (.invokevirtual 81, 3) := dk_182 0 81 (dk_at dksX8_line_3 9 rfl rfl)
theorem dX8_line_82 : decode cX8_line 82 = .ok (.aload_n 0, 1) := dk_42 (dk_at dksX8_line_3 12 rfl rfl)
theorem dX8_line_83 : decode cX8_line 83 = .ok (.invokevirtual 29, 3) := dk_182 0 29 (dk_at dksX8_line_3 13 rfl rfl)
theorem dX8_line_86 : decode cX8_line 86 = .ok (.iload_n 1, 1) := dk_27 (dk_at dksX8_line_3 16 rfl rfl)
theorem dX8_line_87 : decode cX8_line 87 = .ok (.iconst 4, 1) := dk_7 (dk_at dksX8_line_3 17 rfl rfl)
theorem dX8_line_88 : decode cX8_line 88 = .ok (.if_icmp .ne 10, 3) := dk_160 0 10 (dk_at dksX8_line_3 18 rfl rfl)
theorem dX8_line_91 : decode cX8_line 91 = .ok (.aload_n 0, 1) := dk_42 (dk_at dksX8_line_3 21 rfl rfl)
theorem dX8_line_92 : decode cX8_line 92 = .ok (.invokevirtual 112, 3) := dk_182 0 112 (dk_at dksX8_line_4 0 rfl rfl)
theorem dX8_line_95 : decode cX8_line 95 = .ok (.goto 21, 3) := dk_167 0 21 (dk_at dksX8_line_4 3 rfl rfl)
theorem dX8_line_98 : decode cX8_line 98 = .ok (.aload_n 0, 1) := dk_42 (dk_at dksX8_line_4 6 rfl rfl)
theorem dX8_line_99 : decode cX8_line 99 = .ok (.getfield 18, 3) := dk_180 0 18 (dk_at dksX8_line_4 7 rfl rfl)
theorem dX8_line_102 : decode cX8_line 102 = .ok (.iload_n 1, 1) := dk_27 (dk_at dksX8_line_4 10 rfl rfl)
theorem dX8_line_103 : decode cX8_line 103 = .ok (.aload_n 0, 1) := dk_42 (dk_at dksX8_line_4 11 rfl rfl)
theorem dX8_line_104 : decode cX8_line 104 = .ok (.bipush 20, 2) := dk_16 20 (dk_at dksX8_line_4 12 rfl rfl)
theorem dX8_line_106 : decode cX8_line 106 = .ok (.invokevirtual 89, 3) := dk_182 0 89 (dk_at dksX8_line_4 14 rfl rfl)
theorem dX8_line_109 : decode cX8_line 109 = .ok (.invokevirtual 114, 3) := dk_182 0 114 (dk_at dksX8_line_4 17 rfl rfl)
theorem dX8_line_112 : decode cX8_line 112 = .ok (.aload_n 0, 1) := dk_42 (dk_at dksX8_line_4 20 rfl rfl)
theorem dX8_line_113 : decode cX8_line 113 = .ok (.invokevirtual 29, 3) := dk_182 0 29 (dk_at dksX8_line_4 21 rfl rfl)
theorem dX8_line_116 : decode cX8_line 116 = .ok (.aload_n 0, 1) := dk_42 (dk_at dksX8_line_5 0 rfl rfl)
theorem dX8_line_117 : decode cX8_line 117 = .ok (.aload_n 0, 1) := dk_42 (dk_at dksX8_line_5 1 rfl rfl)
theorem dX8_line_118 : decode cX8_line 118 = .ok (.getfield 61, 3) := dk_180 0 61 (dk_at dksX8_line_5 2 rfl rfl)
theorem dX8_line_121 : decode cX8_line 121 = .ok (.iconst 3, 1) := dk_6 (dk_at dksX8_line_5 5 rfl rfl)
theorem dX8_line_122 : decode cX8_line 122 = .ok (.if_icmp .ne 7, 3) := dk_160 0 7 (dk_at dksX8_line_5 6 rfl rfl)
theorem dX8_line_125 : decode cX8_line 125 = .ok (.iconst 1, 1) := dk_4 (dk_at dksX8_line_5 9 rfl rfl)
theorem dX8_line_126 : decode cX8_line 126 = .ok (.goto 4, 3) := dk_167 0 4 (dk_at dksX8_line_5 10 rfl rfl)
theorem dX8_line_129 : decode cX8_line 129 = .ok (.iconst 0, 1) := dk_3 (dk_at dksX8_line_5 13 rfl rfl)
theorem dX8_line_130 : decode cX8_line 130 = .ok (.iconst 2, 1) := dk_5 (dk_at dksX8_line_5 14 rfl rfl)
theorem dX8_line_131 : decode cX8_line 131 = .ok (.invokevirtual 81, 3) := dk_182 0 81 (dk_at dksX8_line_5 15 rfl rfl)
theorem dX8_line_134 : decode cX8_line 134 = .ok (.aload_n 0, 1) := dk_42 (dk_at dksX8_line_5 18 rfl rfl)
theorem dX8_line_135 : decode cX8_line 135 = .ok (.invokevirtual 29, 3) := dk_182 0 29 (dk_at dksX8_line_5 19 rfl rfl)
theorem dX8_line_138 : decode cX8_line 138 = .ok (.return_, 1) := dk_177 (dk_at dksX8_line_5 22 rfl rfl)
abbrev cX8_is : ByteArray := prog_7_method_5_code
def yX8_is : MethodName := ⟨RX8, "is", "(I)Z"⟩
def dkwX8_is_3 : List UInt8 := [182, 0, 70, 160, 0, 7, 4, 167, 0, 4, 3, 62, 132, 4, 1, 167, 255, 210, 29, 172]
abbrev dktX8_is_3 : List UInt8 := dkwX8_is_3 ++ []
def dkwX8_is_2 : List UInt8 := [182, 0, 64, 162, 0, 39, 42, 180, 0, 3, 180, 0, 35, 42, 180, 0, 41, 21, 4, 96, 51, 44, 21, 4]
abbrev dktX8_is_2 : List UInt8 := dkwX8_is_2 ++ dktX8_is_3
def dkwX8_is_1 : List UInt8 := [182, 0, 64, 160, 0, 7, 4, 167, 0, 4, 3, 62, 3, 54, 4, 29, 153, 0, 48, 21, 4, 44]
abbrev dktX8_is_1 : List UInt8 := dkwX8_is_1 ++ dktX8_is_2
def dkwX8_is_0 : List UInt8 := [42, 27, 182, 0, 57, 77, 42, 180, 0, 61, 4, 160, 0, 23, 42, 180, 0, 32, 42, 180, 0, 41, 100, 44]
abbrev dktX8_is_0 : List UInt8 := dkwX8_is_0 ++ dktX8_is_1
theorem dksX8_is_0 : cX8_is.data.toList.drop 0 = dktX8_is_0 := by decide +kernel
theorem dksX8_is_1 : cX8_is.data.toList.drop 24 = dktX8_is_1 := dk_seg dksX8_is_0 24 rfl rfl
theorem dksX8_is_2 : cX8_is.data.toList.drop 46 = dktX8_is_2 := dk_seg dksX8_is_1 22 rfl rfl
theorem dksX8_is_3 : cX8_is.data.toList.drop 70 = dktX8_is_3 := dk_seg dksX8_is_2 24 rfl rfl
theorem dX8_is_0 : decode cX8_is 0 = .ok (.aload_n 0, 1) := dk_42 (dk_at dksX8_is_0 0 rfl rfl)
theorem dX8_is_1 : decode cX8_is 1 = .ok (.iload_n 1, 1) := dk_27 (dk_at dksX8_is_0 1 rfl rfl)
theorem dX8_is_2 : decode cX8_is 2 = .ok (.invokevirtual 57, 3) := dk_182 0 57 (dk_at dksX8_is_0 2 rfl rfl)
theorem dX8_is_5 : decode cX8_is 5 = .ok (.astore_n 2, 1) := dk_77 (dk_at dksX8_is_0 5 rfl rfl)
theorem dX8_is_6 : decode cX8_is 6 = .ok (.aload_n 0, 1) := dk_42 (dk_at dksX8_is_0 6 rfl rfl)
theorem dX8_is_7 : decode cX8_is 7 = .ok (.getfield 61, 3) := dk_180 0 61 (dk_at dksX8_is_0 7 rfl rfl)
theorem dX8_is_10 : decode cX8_is 10 = .ok (.iconst 1, 1) := dk_4 (dk_at dksX8_is_0 10 rfl rfl)
theorem dX8_is_11 : decode cX8_is 11 = .ok (.if_icmp .ne 23, 3) := dk_160 0 23 (dk_at dksX8_is_0 11 rfl rfl)
theorem dX8_is_14 : decode cX8_is 14 = .ok (.aload_n 0, 1) := dk_42 (dk_at dksX8_is_0 14 rfl rfl)
theorem dX8_is_15 : decode cX8_is 15 = .ok (.getfield 32, 3) := dk_180 0 32 (dk_at dksX8_is_0 15 rfl rfl)
theorem dX8_is_18 : decode cX8_is 18 = .ok (.aload_n 0, 1) := dk_42 (dk_at dksX8_is_0 18 rfl rfl)
theorem dX8_is_19 : decode cX8_is 19 = .ok (.getfield 41, 3) := dk_180 0 41 (dk_at dksX8_is_0 19 rfl rfl)
theorem dX8_is_22 : decode cX8_is 22 = .ok (.isub, 1) := dk_100 (dk_at dksX8_is_0 22 rfl rfl)
theorem dX8_is_23 : decode cX8_is 23 = .ok (.aload_n 2, 1) := dk_44 (dk_at dksX8_is_0 23 rfl rfl)
theorem dX8_is_24 : decode cX8_is 24 = .ok (.invokevirtual 64, 3) := dk_182 0 64 (dk_at dksX8_is_1 0 rfl rfl)
theorem dX8_is_27 : decode cX8_is 27 = .ok (.if_icmp .ne 7, 3) := dk_160 0 7 (dk_at dksX8_is_1 3 rfl rfl)
theorem dX8_is_30 : decode cX8_is 30 = .ok (.iconst 1, 1) := dk_4 (dk_at dksX8_is_1 6 rfl rfl)
theorem dX8_is_31 : decode cX8_is 31 = .ok (.goto 4, 3) := dk_167 0 4 (dk_at dksX8_is_1 7 rfl rfl)
theorem dX8_is_34 : decode cX8_is 34 = .ok (.iconst 0, 1) := dk_3 (dk_at dksX8_is_1 10 rfl rfl)
theorem dX8_is_35 : decode cX8_is 35 = .ok (.istore_n 3, 1) := dk_62 (dk_at dksX8_is_1 11 rfl rfl)
theorem dX8_is_36 : decode cX8_is 36 = .ok (.iconst 0, 1) := dk_3 (dk_at dksX8_is_1 12 rfl rfl)
theorem dX8_is_37 : decode cX8_is 37 = .ok (.istore 4, 2) := dk_54 4 (dk_at dksX8_is_1 13 rfl rfl)
theorem dX8_is_39 : decode cX8_is 39 = .ok (.iload_n 3, 1) := dk_29 (dk_at dksX8_is_1 15 rfl rfl)
theorem dX8_is_40 : decode cX8_is 40 = .ok (.ifCond .eq 48, 3) := dk_153 0 48 (dk_at dksX8_is_1 16 rfl rfl)
theorem dX8_is_43 : decode cX8_is 43 = .ok (.iload 4, 2) := dk_21 4 (dk_at dksX8_is_1 19 rfl rfl)
theorem dX8_is_45 : decode cX8_is 45 = .ok (.aload_n 2, 1) := dk_44 (dk_at dksX8_is_1 21 rfl rfl)
theorem dX8_is_46 : decode cX8_is 46 = .ok (.invokevirtual 64, 3) := dk_182 0 64 (dk_at dksX8_is_2 0 rfl rfl)
theorem dX8_is_49 : decode cX8_is 49 = .ok (.if_icmp .ge 39, 3) := dk_162 0 39 (dk_at dksX8_is_2 3 rfl rfl)
theorem dX8_is_52 : decode cX8_is 52 = .ok (.aload_n 0, 1) := dk_42 (dk_at dksX8_is_2 6 rfl rfl)
theorem dX8_is_53 : decode cX8_is 53 = .ok (.getfield 3, 3) := dk_180 0 3 (dk_at dksX8_is_2 7 rfl rfl)
theorem dX8_is_56 : decode cX8_is 56 = .ok (.getfield 35, 3) := dk_180 0 35 (dk_at dksX8_is_2 10 rfl rfl)
theorem dX8_is_59 : decode cX8_is 59 = .ok (.aload_n 0, 1) := dk_42 (dk_at dksX8_is_2 13 rfl rfl)
theorem dX8_is_60 : decode cX8_is 60 = .ok (.getfield 41, 3) := dk_180 0 41 (dk_at dksX8_is_2 14 rfl rfl)
theorem dX8_is_63 : decode cX8_is 63 = .ok (.iload 4, 2) := dk_21 4 (dk_at dksX8_is_2 17 rfl rfl)
theorem dX8_is_65 : decode cX8_is 65 = .ok (.iadd, 1) := dk_96 (dk_at dksX8_is_2 19 rfl rfl)
theorem dX8_is_66 : decode cX8_is 66 = .ok (.baload, 1) := dk_51 (dk_at dksX8_is_2 20 rfl rfl)
theorem dX8_is_67 : decode cX8_is 67 = .ok (.aload_n 2, 1) := dk_44 (dk_at dksX8_is_2 21 rfl rfl)
theorem dX8_is_68 : decode cX8_is 68 = .ok (.iload 4, 2) := dk_21 4 (dk_at dksX8_is_2 22 rfl rfl)
theorem dX8_is_70 : decode cX8_is 70 = .ok (.invokevirtual 70, 3) := dk_182 0 70 (dk_at dksX8_is_3 0 rfl rfl)
theorem dX8_is_73 : decode cX8_is 73 = .ok (.if_icmp .ne 7, 3) := dk_160 0 7 (dk_at dksX8_is_3 3 rfl rfl)
theorem dX8_is_76 : decode cX8_is 76 = .ok (.iconst 1, 1) := dk_4 (dk_at dksX8_is_3 6 rfl rfl)
theorem dX8_is_77 : decode cX8_is 77 = .ok (.goto 4, 3) := dk_167 0 4 (dk_at dksX8_is_3 7 rfl rfl)
theorem dX8_is_80 : decode cX8_is 80 = .ok (.iconst 0, 1) := dk_3 (dk_at dksX8_is_3 10 rfl rfl)
theorem dX8_is_81 : decode cX8_is 81 = .ok (.istore_n 3, 1) := dk_62 (dk_at dksX8_is_3 11 rfl rfl)
theorem dX8_is_82 : decode cX8_is 82 = .ok (.iinc 4 1, 3) := dk_132 4 1 (dk_at dksX8_is_3 12 rfl rfl)
theorem dX8_is_85 : decode cX8_is 85 = .ok (.goto (-46), 3) := dk_167 255 210 (dk_at dksX8_is_3 15 rfl rfl)
theorem dX8_is_88 : decode cX8_is 88 = .ok (.iload_n 3, 1) := dk_29 (dk_at dksX8_is_3 18 rfl rfl)
theorem dX8_is_89 : decode cX8_is 89 = .ok (.ireturn, 1) := dk_172 (dk_at dksX8_is_3 19 rfl rfl)
abbrev cX8_name : ByteArray := prog_7_method_4_code
def yX8_name : MethodName := ⟨RX8, "name", "(I)Ljava/lang/String;"⟩
def dkwX8_name_2 : List UInt8 := [18, 47, 176, 18, 49, 176, 18, 51, 176, 18, 53, 176, 18, 55, 176]
abbrev dktX8_name_2 : List UInt8 := dkwX8_name_2 ++ []
def dkwX8_name_1 : List UInt8 := [170, 0, 0, 0, 0, 0, 43, 0, 0, 0, 0, 0, 0, 0, 3, 0, 0, 0, 31, 0, 0, 0, 34, 0, 0, 0, 37, 0, 0, 0, 40]
abbrev dktX8_name_1 : List UInt8 := dkwX8_name_1 ++ dktX8_name_2
def dkwX8_name_0 : List UInt8 := [27]
abbrev dktX8_name_0 : List UInt8 := dkwX8_name_0 ++ dktX8_name_1
theorem dksX8_name_0 : cX8_name.data.toList.drop 0 = dktX8_name_0 := by decide +kernel
theorem dksX8_name_1 : cX8_name.data.toList.drop 1 = dktX8_name_1 := dk_seg dksX8_name_0 1 rfl rfl
theorem dksX8_name_2 : cX8_name.data.toList.drop 32 = dktX8_name_2 := dk_seg dksX8_name_1 31 rfl rfl
theorem dX8_name_0 : decode cX8_name 0 = .ok (.iload_n 1, 1) := dk_27 (dk_at dksX8_name_0 0 rfl rfl)
theorem dX8_name_1 : decode cX8_name 1 = .ok (.tableswitch 43 0 3 #[31, 34, 37, 40], 31) := by decide +kernel
theorem dX8_name_32 : decode cX8_name 32 = .ok (.ldc 47, 2) := dk_18 47 (dk_at dksX8_name_2 0 rfl rfl)
theorem dX8_name_34 : decode cX8_name 34 = .ok (.areturn, 1) := dk_176 (dk_at dksX8_name_2 2 rfl rfl)
theorem dX8_name_35 : decode cX8_name 35 = .ok (.ldc 49, 2) := dk_18 49 (dk_at dksX8_name_2 3 rfl rfl)
theorem dX8_name_37 : decode cX8_name 37 = .ok (.areturn, 1) := dk_176 (dk_at dksX8_name_2 5 rfl rfl)
theorem dX8_name_38 : decode cX8_name 38 = .ok (.ldc 51, 2) := dk_18 51 (dk_at dksX8_name_2 6 rfl rfl)
theorem dX8_name_40 : decode cX8_name 40 = .ok (.areturn, 1) := dk_176 (dk_at dksX8_name_2 8 rfl rfl)
theorem dX8_name_41 : decode cX8_name 41 = .ok (.ldc 53, 2) := dk_18 53 (dk_at dksX8_name_2 9 rfl rfl)
theorem dX8_name_43 : decode cX8_name 43 = .ok (.areturn, 1) := dk_176 (dk_at dksX8_name_2 11 rfl rfl)
theorem dX8_name_44 : decode cX8_name 44 = .ok (.ldc 55, 2) := dk_18 55 (dk_at dksX8_name_2 12 rfl rfl)
theorem dX8_name_46 : decode cX8_name 46 = .ok (.areturn, 1) := dk_176 (dk_at dksX8_name_2 14 rfl rfl)
abbrev cX8_game : ByteArray := prog_7_method_8_code
def yX8_game : MethodName := ⟨RX8, "game", "()V"⟩
def dkwX8_game_2 : List UInt8 := [184, 0, 93, 181, 0, 22, 42, 180, 0, 18, 27, 28, 182, 0, 99, 177]
abbrev dktX8_game_2 : List UInt8 := dkwX8_game_2 ++ []
def dkwX8_game_1 : List UInt8 := [167, 0, 4, 3, 6, 182, 0, 81, 42, 182, 0, 29, 42, 42, 180, 0, 22, 27, 28, 184, 0, 93]
abbrev dktX8_game_1 : List UInt8 := dkwX8_game_1 ++ dktX8_game_2
def dkwX8_game_0 : List UInt8 := [42, 7, 182, 0, 89, 60, 42, 182, 0, 29, 42, 7, 182, 0, 89, 61, 42, 27, 28, 159, 0, 7, 4]
abbrev dktX8_game_0 : List UInt8 := dkwX8_game_0 ++ dktX8_game_1
theorem dksX8_game_0 : cX8_game.data.toList.drop 0 = dktX8_game_0 := by decide +kernel
theorem dksX8_game_1 : cX8_game.data.toList.drop 23 = dktX8_game_1 := dk_seg dksX8_game_0 23 rfl rfl
theorem dksX8_game_2 : cX8_game.data.toList.drop 45 = dktX8_game_2 := dk_seg dksX8_game_1 22 rfl rfl
theorem dX8_game_0 : decode cX8_game 0 = .ok (.aload_n 0, 1) := dk_42 (dk_at dksX8_game_0 0 rfl rfl)
theorem dX8_game_1 : decode cX8_game 1 = .ok (.iconst 4, 1) := dk_7 (dk_at dksX8_game_0 1 rfl rfl)
theorem dX8_game_2 : decode cX8_game 2 = .ok (.invokevirtual 89, 3) := dk_182 0 89 (dk_at dksX8_game_0 2 rfl rfl)
theorem dX8_game_5 : decode cX8_game 5 = .ok (.istore_n 1, 1) := dk_60 (dk_at dksX8_game_0 5 rfl rfl)
theorem dX8_game_6 : decode cX8_game 6 = .ok (.aload_n 0, 1) := dk_42 (dk_at dksX8_game_0 6 rfl rfl)
theorem dX8_game_7 : decode cX8_game 7 = .ok (.invokevirtual 29, 3) := dk_182 0 29 (dk_at dksX8_game_0 7 rfl rfl)
theorem dX8_game_10 : decode cX8_game 10 = .ok (.aload_n 0, 1) := dk_42 (dk_at dksX8_game_0 10 rfl rfl)
theorem dX8_game_11 : decode cX8_game 11 = .ok (.iconst 4, 1) := dk_7 (dk_at dksX8_game_0 11 rfl rfl)
theorem dX8_game_12 : decode cX8_game 12 = .ok (.invokevirtual 89, 3) := dk_182 0 89 (dk_at dksX8_game_0 12 rfl rfl)
theorem dX8_game_15 : decode cX8_game 15 = .ok (.istore_n 2, 1) := dk_61 (dk_at dksX8_game_0 15 rfl rfl)
theorem dX8_game_16 : decode cX8_game 16 = .ok (.aload_n 0, 1) := dk_42 (dk_at dksX8_game_0 16 rfl rfl)
theorem dX8_game_17 : decode cX8_game 17 = .ok (.iload_n 1, 1) := dk_27 (dk_at dksX8_game_0 17 rfl rfl)
theorem dX8_game_18 : decode cX8_game 18 = .ok (.iload_n 2, 1) := dk_28 (dk_at dksX8_game_0 18 rfl rfl)
theorem dX8_game_19 : decode cX8_game 19 = .ok (.if_icmp .eq 7, 3) := dk_159 0 7 (dk_at dksX8_game_0 19 rfl rfl)
theorem dX8_game_22 : decode cX8_game 22 = .ok (.iconst 1, 1) := dk_4 (dk_at dksX8_game_0 22 rfl rfl)
theorem dX8_game_23 : decode cX8_game 23 = .ok (.goto 4, 3) := dk_167 0 4 (dk_at dksX8_game_1 0 rfl rfl)
theorem dX8_game_26 : decode cX8_game 26 = .ok (.iconst 0, 1) := dk_3 (dk_at dksX8_game_1 3 rfl rfl)
theorem dX8_game_27 : decode cX8_game 27 = .ok (.iconst 3, 1) := dk_6 (dk_at dksX8_game_1 4 rfl rfl)
theorem dX8_game_28 : decode cX8_game 28 = .ok (.invokevirtual 81, 3) := dk_182 0 81 (dk_at dksX8_game_1 5 rfl rfl)
theorem dX8_game_31 : decode cX8_game 31 = .ok (.aload_n 0, 1) := dk_42 (dk_at dksX8_game_1 8 rfl rfl)
theorem dX8_game_32 : decode cX8_game 32 = .ok (.invokevirtual 29, 3) := dk_182 0 29 (dk_at dksX8_game_1 9 rfl rfl)
theorem dX8_game_35 : decode cX8_game 35 = .ok (.aload_n 0, 1) := dk_42 (dk_at dksX8_game_1 12 rfl rfl)
theorem dX8_game_36 : decode cX8_game 36 = .ok (.aload_n 0, 1) := dk_42 (dk_at dksX8_game_1 13 rfl rfl)
theorem dX8_game_37 : decode cX8_game 37 = .ok (.getfield 22, 3) := dk_180 0 22 (dk_at dksX8_game_1 14 rfl rfl)
theorem dX8_game_40 : decode cX8_game 40 = .ok (.iload_n 1, 1) := dk_27 (dk_at dksX8_game_1 17 rfl rfl)
theorem dX8_game_41 : decode cX8_game 41 = .ok (.iload_n 2, 1) := dk_28 (dk_at dksX8_game_1 18 rfl rfl)
theorem dX8_game_42 : decode cX8_game 42 = .ok (.invokestatic 93, 3) := dk_184 0 93 (dk_at dksX8_game_1 19 rfl rfl)
theorem dX8_game_45 : decode cX8_game 45 = .ok (.invokestatic 93, 3) := dk_184 0 93 (dk_at dksX8_game_2 0 rfl rfl)
theorem dX8_game_48 : decode cX8_game 48 = .ok (.putfield 22, 3) := dk_181 0 22 (dk_at dksX8_game_2 3 rfl rfl)
theorem dX8_game_51 : decode cX8_game 51 = .ok (.aload_n 0, 1) := dk_42 (dk_at dksX8_game_2 6 rfl rfl)
theorem dX8_game_52 : decode cX8_game 52 = .ok (.getfield 18, 3) := dk_180 0 18 (dk_at dksX8_game_2 7 rfl rfl)
theorem dX8_game_55 : decode cX8_game 55 = .ok (.iload_n 1, 1) := dk_27 (dk_at dksX8_game_2 10 rfl rfl)
theorem dX8_game_56 : decode cX8_game 56 = .ok (.iload_n 2, 1) := dk_28 (dk_at dksX8_game_2 11 rfl rfl)
theorem dX8_game_57 : decode cX8_game 57 = .ok (.invokevirtual 99, 3) := dk_182 0 99 (dk_at dksX8_game_2 12 rfl rfl)
theorem dX8_game_60 : decode cX8_game 60 = .ok (.return_, 1) := dk_177 (dk_at dksX8_game_2 15 rfl rfl)
abbrev cX8_looked : ByteArray := prog_7_method_7_code
def yX8_looked : MethodName := ⟨RX8, "looked", "(I)I"⟩
def dkwX8_looked_1 : List UInt8 := [9, 27, 133, 184, 0, 85, 6, 182, 0, 81, 42, 180, 0, 78, 172]
abbrev dktX8_looked_1 : List UInt8 := dkwX8_looked_1 ++ []
def dkwX8_looked_0 : List UInt8 := [42, 42, 180, 0, 61, 5, 160, 0, 7, 4, 167, 0, 4, 3, 5, 182, 0, 81, 42, 42, 180, 0, 78, 133]
abbrev dktX8_looked_0 : List UInt8 := dkwX8_looked_0 ++ dktX8_looked_1
theorem dksX8_looked_0 : cX8_looked.data.toList.drop 0 = dktX8_looked_0 := by decide +kernel
theorem dksX8_looked_1 : cX8_looked.data.toList.drop 24 = dktX8_looked_1 := dk_seg dksX8_looked_0 24 rfl rfl
theorem dX8_looked_0 : decode cX8_looked 0 = .ok (.aload_n 0, 1) := dk_42 (dk_at dksX8_looked_0 0 rfl rfl)
theorem dX8_looked_1 : decode cX8_looked 1 = .ok (.aload_n 0, 1) := dk_42 (dk_at dksX8_looked_0 1 rfl rfl)
theorem dX8_looked_2 : decode cX8_looked 2 = .ok (.getfield 61, 3) := dk_180 0 61 (dk_at dksX8_looked_0 2 rfl rfl)
theorem dX8_looked_5 : decode cX8_looked 5 = .ok (.iconst 2, 1) := dk_5 (dk_at dksX8_looked_0 5 rfl rfl)
theorem dX8_looked_6 : decode cX8_looked 6 = .ok (.if_icmp .ne 7, 3) := dk_160 0 7 (dk_at dksX8_looked_0 6 rfl rfl)
theorem dX8_looked_9 : decode cX8_looked 9 = .ok (.iconst 1, 1) := dk_4 (dk_at dksX8_looked_0 9 rfl rfl)
theorem dX8_looked_10 : decode cX8_looked 10 = .ok (.goto 4, 3) := dk_167 0 4 (dk_at dksX8_looked_0 10 rfl rfl)
theorem dX8_looked_13 : decode cX8_looked 13 = .ok (.iconst 0, 1) := dk_3 (dk_at dksX8_looked_0 13 rfl rfl)
theorem dX8_looked_14 : decode cX8_looked 14 = .ok (.iconst 2, 1) := dk_5 (dk_at dksX8_looked_0 14 rfl rfl)
theorem dX8_looked_15 : decode cX8_looked 15 = .ok (.invokevirtual 81, 3) := dk_182 0 81 (dk_at dksX8_looked_0 15 rfl rfl)
theorem dX8_looked_18 : decode cX8_looked 18 = .ok (.aload_n 0, 1) := dk_42 (dk_at dksX8_looked_0 18 rfl rfl)
theorem dX8_looked_19 : decode cX8_looked 19 = .ok (.aload_n 0, 1) := dk_42 (dk_at dksX8_looked_0 19 rfl rfl)
theorem dX8_looked_20 : decode cX8_looked 20 = .ok (.getfield 78, 3) := dk_180 0 78 (dk_at dksX8_looked_0 20 rfl rfl)
theorem dX8_looked_23 : decode cX8_looked 23 = .ok (.i2l, 1) := dk_133 (dk_at dksX8_looked_0 23 rfl rfl)
theorem dX8_looked_24 : decode cX8_looked 24 = .ok (.lconst 0, 1) := dk_9 (dk_at dksX8_looked_1 0 rfl rfl)
theorem dX8_looked_25 : decode cX8_looked 25 = .ok (.iload_n 1, 1) := dk_27 (dk_at dksX8_looked_1 1 rfl rfl)
theorem dX8_looked_26 : decode cX8_looked 26 = .ok (.i2l, 1) := dk_133 (dk_at dksX8_looked_1 2 rfl rfl)
theorem dX8_looked_27 : decode cX8_looked 27 = .ok (.invokestatic 85, 3) := dk_184 0 85 (dk_at dksX8_looked_1 3 rfl rfl)
theorem dX8_looked_30 : decode cX8_looked 30 = .ok (.iconst 3, 1) := dk_6 (dk_at dksX8_looked_1 6 rfl rfl)
theorem dX8_looked_31 : decode cX8_looked 31 = .ok (.invokevirtual 81, 3) := dk_182 0 81 (dk_at dksX8_looked_1 7 rfl rfl)
theorem dX8_looked_34 : decode cX8_looked 34 = .ok (.aload_n 0, 1) := dk_42 (dk_at dksX8_looked_1 10 rfl rfl)
theorem dX8_looked_35 : decode cX8_looked 35 = .ok (.getfield 78, 3) := dk_180 0 78 (dk_at dksX8_looked_1 11 rfl rfl)
theorem dX8_looked_38 : decode cX8_looked 38 = .ok (.ireturn, 1) := dk_172 (dk_at dksX8_looked_1 14 rfl rfl)
theorem q72 : (Jvm.Cond.initialized "LoseLeague$Reader") ∈ lw_all := lw_g (lw_at lw_m1 9 rfl) rfl
theorem q133 : (Jvm.Cond.fieldLinkNest "LoseLeague$Reader" (109 : Nat) "LoseLeague$League" "towns" "I" "LoseLeague") ∈ lw_tbl := lw_at lw_m1 70 rfl
theorem q138 : (Jvm.Cond.fieldLinkNest "LoseLeague$Reader" (106 : Nat) "LoseLeague$League" "fixtures" "I" "LoseLeague") ∈ lw_tbl := lw_at lw_m1 75 rfl
theorem q183 : (Jvm.Cond.fieldLinkNest "LoseLeague$Reader" (35 : Nat) "LoseLeague" "tape" "[B" "LoseLeague") ∈ lw_tbl := lw_at lw_m1 120 rfl
theorem q267 : (Jvm.Cond.instantiable "LoseLeague$Reader" (8 : Nat)) ∈ lw_all := lw_g (lw_at lw_m1 204 rfl) rfl
theorem q269 : (Jvm.Cond.instanceMethod ({ cls := "LoseLeague$Reader", name := "<init>", desc := "(LLoseLeague;I)V" } : Jvm.MethodName)) ∈ lw_all := lw_g (lw_at lw_m1 206 rfl) rfl
theorem q270 : (Jvm.Cond.code ({ cls := "LoseLeague$Reader", name := "<init>", desc := "(LLoseLeague;I)V" } : Jvm.MethodName) prog_7_method_1_code (3 : Nat) (Option.none : Option Jvm.ClassFile.FieldType)) ∈ lw_all := lw_g (lw_at lw_m1 207 rfl) rfl
theorem q271 : (Jvm.Cond.methodLink "LoseLeague$Reader" (9 : Nat) ({ cls := "java/lang/Object", name := "<init>", desc := "()V" } : Jvm.MethodName)) ∈ lw_all := lw_g (lw_at lw_m1 208 rfl) rfl
theorem q272 : (Jvm.Cond.classLink "LoseLeague$Reader" (15 : Nat) "LoseLeague$League") ∈ lw_all := lw_g (lw_at lw_m1 209 rfl) rfl
theorem q273 : (Jvm.Cond.methodLinkNest "LoseLeague$Reader" (17 : Nat) ({ cls := "LoseLeague$League", name := "<init>", desc := "()V" } : Jvm.MethodName) "LoseLeague") ∈ lw_tbl := lw_at lw_m1 210 rfl
theorem q274 : (Jvm.Cond.methodLink "LoseLeague$Reader" (29 : Nat) ({ cls := "LoseLeague$Reader", name := "next", desc := "()V" } : Jvm.MethodName)) ∈ lw_all := lw_g (lw_at lw_m1 211 rfl) rfl
theorem q275 : (Jvm.Cond.privateMethod ({ cls := "LoseLeague$Reader", name := "next", desc := "()V" } : Jvm.MethodName)) ∈ lw_tbl := lw_at lw_m1 212 rfl
theorem q276 : (Jvm.Cond.instanceMethod ({ cls := "LoseLeague$Reader", name := "next", desc := "()V" } : Jvm.MethodName)) ∈ lw_all := lw_g (lw_at lw_m1 213 rfl) rfl
theorem q277 : (Jvm.Cond.code ({ cls := "LoseLeague$Reader", name := "next", desc := "()V" } : Jvm.MethodName) prog_7_method_6_code (1 : Nat) (Option.none : Option Jvm.ClassFile.FieldType)) ∈ lw_all := lw_g (lw_at lw_m1 214 rfl) rfl
theorem q278 : (Jvm.Cond.methodLink "LoseLeague$Reader" (74 : Nat) ({ cls := "LoseLeague$Reader", name := "isIn", desc := "(CC)Z" } : Jvm.MethodName)) ∈ lw_all := lw_g (lw_at lw_m1 215 rfl) rfl
theorem q279 : (Jvm.Cond.privateMethod ({ cls := "LoseLeague$Reader", name := "isIn", desc := "(CC)Z" } : Jvm.MethodName)) ∈ lw_tbl := lw_at lw_m1 216 rfl
theorem q280 : (Jvm.Cond.instanceMethod ({ cls := "LoseLeague$Reader", name := "isIn", desc := "(CC)Z" } : Jvm.MethodName)) ∈ lw_all := lw_g (lw_at lw_m1 217 rfl) rfl
theorem q281 : (Jvm.Cond.code ({ cls := "LoseLeague$Reader", name := "isIn", desc := "(CC)Z" } : Jvm.MethodName) prog_7_method_2_code (3 : Nat) (Option.some Jvm.ClassFile.FieldType.boolean)) ∈ lw_all := lw_g (lw_at lw_m1 218 rfl) rfl
theorem q282 : (Jvm.Cond.methodLink "LoseLeague$Reader" (81 : Nat) ({ cls := "LoseLeague$Reader", name := "need", desc := "(ZI)V" } : Jvm.MethodName)) ∈ lw_all := lw_g (lw_at lw_m1 219 rfl) rfl
theorem q283 : (Jvm.Cond.privateMethod ({ cls := "LoseLeague$Reader", name := "need", desc := "(ZI)V" } : Jvm.MethodName)) ∈ lw_tbl := lw_at lw_m1 220 rfl
theorem q284 : (Jvm.Cond.instanceMethod ({ cls := "LoseLeague$Reader", name := "need", desc := "(ZI)V" } : Jvm.MethodName)) ∈ lw_all := lw_g (lw_at lw_m1 221 rfl) rfl
theorem q285 : (Jvm.Cond.code ({ cls := "LoseLeague$Reader", name := "need", desc := "(ZI)V" } : Jvm.MethodName) prog_7_method_3_code (3 : Nat) (Option.none : Option Jvm.ClassFile.FieldType)) ∈ lw_all := lw_g (lw_at lw_m1 222 rfl) rfl
theorem q286 : (Jvm.Cond.classLink "LoseLeague$Reader" (39 : Nat) "LoseLeague$Fault") ∈ lw_all := lw_g (lw_at lw_m1 223 rfl) rfl
theorem q340 : (Jvm.Cond.methodLink "LoseLeague$Reader" (44 : Nat) ({ cls := "LoseLeague$Fault", name := "<init>", desc := "(II)V" } : Jvm.MethodName)) ∈ lw_all := lw_g (lw_at lw_m2 37 rfl) rfl
theorem q370 : (Jvm.Cond.fieldLink "LoseLeague$Reader" (26 : Nat) "LoseLeague$Reader" "size" "I") ∈ lw_all := lw_g (lw_at lw_m2 67 rfl) rfl
theorem q371 : (Jvm.Cond.fieldLink "LoseLeague$Reader" (18 : Nat) "LoseLeague$Reader" "made" "LLoseLeague$League;") ∈ lw_all := lw_g (lw_at lw_m2 68 rfl) rfl
theorem q373 : (Jvm.Cond.fieldLink "LoseLeague$Reader" (22 : Nat) "LoseLeague$Reader" "highest" "I") ∈ lw_all := lw_g (lw_at lw_m2 70 rfl) rfl
theorem q374 : (Jvm.Cond.fieldLink "LoseLeague$Reader" (32 : Nat) "LoseLeague$Reader" "at" "I") ∈ lw_all := lw_g (lw_at lw_m2 71 rfl) rfl
theorem q375 : (Jvm.Cond.fieldLink "LoseLeague$Reader" (41 : Nat) "LoseLeague$Reader" "from" "I") ∈ lw_all := lw_g (lw_at lw_m2 72 rfl) rfl
theorem q376 : (Jvm.Cond.fieldLink "LoseLeague$Reader" (61 : Nat) "LoseLeague$Reader" "sort" "I") ∈ lw_all := lw_g (lw_at lw_m2 73 rfl) rfl
theorem q377 : (Jvm.Cond.fieldLink "LoseLeague$Reader" (78 : Nat) "LoseLeague$Reader" "value" "I") ∈ lw_all := lw_g (lw_at lw_m2 74 rfl) rfl
theorem q378 : (Jvm.Cond.fieldLink "LoseLeague$Reader" (3 : Nat) "LoseLeague$Reader" "this$0" "LLoseLeague;") ∈ lw_all := lw_g (lw_at lw_m2 75 rfl) rfl
theorem q379 : (Jvm.Cond.laysFinal "LoseLeague$Reader" "LoseLeague$Reader" "size" "I") ∈ lw_all := lw_g (lw_at lw_m2 76 rfl) rfl
theorem q380 : (Jvm.Cond.soleField "LoseLeague$Reader" "size") ∈ lw_all := lw_g (lw_at lw_m2 77 rfl) rfl
theorem q381 : (Jvm.Cond.laysFinal "LoseLeague$Reader" "LoseLeague$Reader" "made" "LLoseLeague$League;") ∈ lw_all := lw_g (lw_at lw_m2 78 rfl) rfl
theorem q382 : (Jvm.Cond.soleField "LoseLeague$Reader" "made") ∈ lw_all := lw_g (lw_at lw_m2 79 rfl) rfl
theorem q383 : (Jvm.Cond.lays "LoseLeague$Reader" "LoseLeague$Reader" "highest" "I") ∈ lw_all := lw_g (lw_at lw_m2 80 rfl) rfl
theorem q384 : (Jvm.Cond.soleField "LoseLeague$Reader" "highest") ∈ lw_all := lw_g (lw_at lw_m2 81 rfl) rfl
theorem q385 : (Jvm.Cond.lays "LoseLeague$Reader" "LoseLeague$Reader" "at" "I") ∈ lw_all := lw_g (lw_at lw_m2 82 rfl) rfl
theorem q386 : (Jvm.Cond.soleField "LoseLeague$Reader" "at") ∈ lw_all := lw_g (lw_at lw_m2 83 rfl) rfl
theorem q387 : (Jvm.Cond.lays "LoseLeague$Reader" "LoseLeague$Reader" "from" "I") ∈ lw_all := lw_g (lw_at lw_m2 84 rfl) rfl
theorem q388 : (Jvm.Cond.soleField "LoseLeague$Reader" "from") ∈ lw_all := lw_g (lw_at lw_m2 85 rfl) rfl
theorem q389 : (Jvm.Cond.lays "LoseLeague$Reader" "LoseLeague$Reader" "sort" "I") ∈ lw_all := lw_g (lw_at lw_m2 86 rfl) rfl
theorem q390 : (Jvm.Cond.soleField "LoseLeague$Reader" "sort") ∈ lw_all := lw_g (lw_at lw_m2 87 rfl) rfl
theorem q391 : (Jvm.Cond.lays "LoseLeague$Reader" "LoseLeague$Reader" "value" "I") ∈ lw_all := lw_g (lw_at lw_m2 88 rfl) rfl
theorem q392 : (Jvm.Cond.soleField "LoseLeague$Reader" "value") ∈ lw_all := lw_g (lw_at lw_m2 89 rfl) rfl
theorem q393 : (Jvm.Cond.laysFinal "LoseLeague$Reader" "LoseLeague$Reader" "this$0" "LLoseLeague;") ∈ lw_all := lw_g (lw_at lw_m2 90 rfl) rfl
theorem q394 : (Jvm.Cond.soleField "LoseLeague$Reader" "this$0") ∈ lw_all := lw_g (lw_at lw_m2 91 rfl) rfl
theorem q395 : (Jvm.Cond.superclass "LoseLeague$Reader" "java/lang/Object") ∈ lw_all := lw_g (lw_at lw_m2 92 rfl) rfl
theorem q397 : (Jvm.Cond.instanceMethod ({ cls := "LoseLeague$Reader", name := "lines", desc := "()I" } : Jvm.MethodName)) ∈ lw_all := lw_g (lw_at lw_m2 94 rfl) rfl
theorem q398 : (Jvm.Cond.selects "LoseLeague$Reader" ({ cls := "LoseLeague$Reader", name := "lines", desc := "()I" } : Jvm.MethodName) ({ cls := "LoseLeague$Reader", name := "lines", desc := "()I" } : Jvm.MethodName)) ∈ lw_all := lw_g (lw_at lw_m2 95 rfl) rfl
theorem q399 : (Jvm.Cond.code ({ cls := "LoseLeague$Reader", name := "lines", desc := "()I" } : Jvm.MethodName) prog_7_method_10_code (2 : Nat) (Option.some Jvm.ClassFile.FieldType.int)) ∈ lw_all := lw_g (lw_at lw_m2 96 rfl) rfl
theorem q400 : (Jvm.Cond.methodLink "LoseLeague$Reader" (117 : Nat) ({ cls := "LoseLeague$Reader", name := "line", desc := "()V" } : Jvm.MethodName)) ∈ lw_all := lw_g (lw_at lw_m2 97 rfl) rfl
theorem q401 : (Jvm.Cond.privateMethod ({ cls := "LoseLeague$Reader", name := "line", desc := "()V" } : Jvm.MethodName)) ∈ lw_tbl := lw_at lw_m2 98 rfl
theorem q402 : (Jvm.Cond.instanceMethod ({ cls := "LoseLeague$Reader", name := "line", desc := "()V" } : Jvm.MethodName)) ∈ lw_all := lw_g (lw_at lw_m2 99 rfl) rfl
theorem q403 : (Jvm.Cond.code ({ cls := "LoseLeague$Reader", name := "line", desc := "()V" } : Jvm.MethodName) prog_7_method_9_code (2 : Nat) (Option.none : Option Jvm.ClassFile.FieldType)) ∈ lw_all := lw_g (lw_at lw_m2 100 rfl) rfl
theorem q404 : (Jvm.Cond.methodLink "LoseLeague$Reader" (102 : Nat) ({ cls := "LoseLeague$Reader", name := "is", desc := "(I)Z" } : Jvm.MethodName)) ∈ lw_all := lw_g (lw_at lw_m2 101 rfl) rfl
theorem q405 : (Jvm.Cond.privateMethod ({ cls := "LoseLeague$Reader", name := "is", desc := "(I)Z" } : Jvm.MethodName)) ∈ lw_tbl := lw_at lw_m2 102 rfl
theorem q406 : (Jvm.Cond.instanceMethod ({ cls := "LoseLeague$Reader", name := "is", desc := "(I)Z" } : Jvm.MethodName)) ∈ lw_all := lw_g (lw_at lw_m2 103 rfl) rfl
theorem q407 : (Jvm.Cond.code ({ cls := "LoseLeague$Reader", name := "is", desc := "(I)Z" } : Jvm.MethodName) prog_7_method_5_code (5 : Nat) (Option.some Jvm.ClassFile.FieldType.boolean)) ∈ lw_all := lw_g (lw_at lw_m2 104 rfl) rfl
theorem q408 : (Jvm.Cond.methodLink "LoseLeague$Reader" (57 : Nat) ({ cls := "LoseLeague$Reader", name := "name", desc := "(I)Ljava/lang/String;" } : Jvm.MethodName)) ∈ lw_all := lw_g (lw_at lw_m2 105 rfl) rfl
theorem q409 : (Jvm.Cond.privateMethod ({ cls := "LoseLeague$Reader", name := "name", desc := "(I)Ljava/lang/String;" } : Jvm.MethodName)) ∈ lw_tbl := lw_at lw_m2 106 rfl
theorem q410 : (Jvm.Cond.instanceMethod ({ cls := "LoseLeague$Reader", name := "name", desc := "(I)Ljava/lang/String;" } : Jvm.MethodName)) ∈ lw_all := lw_g (lw_at lw_m2 107 rfl) rfl
theorem q411 : (Jvm.Cond.code ({ cls := "LoseLeague$Reader", name := "name", desc := "(I)Ljava/lang/String;" } : Jvm.MethodName) prog_7_method_4_code (2 : Nat) (Option.some (Jvm.ClassFile.FieldType.object "java/lang/String"))) ∈ lw_all := lw_g (lw_at lw_m2 108 rfl) rfl
theorem q412 : (Jvm.Cond.stringRef "LoseLeague$Reader" (47 : Nat) "plain") ∈ lw_tbl := lw_at lw_m2 109 rfl
theorem q413 : (Jvm.Cond.stringRef "LoseLeague$Reader" (49 : Nat) "proud") ∈ lw_tbl := lw_at lw_m2 110 rfl
theorem q414 : (Jvm.Cond.stringRef "LoseLeague$Reader" (51 : Nat) "wise") ∈ lw_tbl := lw_at lw_m2 111 rfl
theorem q415 : (Jvm.Cond.stringRef "LoseLeague$Reader" (53 : Nat) "careless") ∈ lw_tbl := lw_at lw_m2 112 rfl
theorem q416 : (Jvm.Cond.stringRef "LoseLeague$Reader" (55 : Nat) "game") ∈ lw_tbl := lw_at lw_m2 113 rfl
theorem q417 : (Jvm.Cond.methodLink "LoseLeague$Reader" (64 : Nat) ({ cls := "java/lang/String", name := "length", desc := "()I" } : Jvm.MethodName)) ∈ lw_all := lw_g (lw_at lw_m2 114 rfl) rfl
theorem q427 : (Jvm.Cond.methodLink "LoseLeague$Reader" (70 : Nat) ({ cls := "java/lang/String", name := "charAt", desc := "(I)C" } : Jvm.MethodName)) ∈ lw_all := lw_g (lw_at lw_m2 124 rfl) rfl
theorem q465 : (Jvm.Cond.methodLink "LoseLeague$Reader" (112 : Nat) ({ cls := "LoseLeague$Reader", name := "game", desc := "()V" } : Jvm.MethodName)) ∈ lw_all := lw_g (lw_at lw_m2 162 rfl) rfl
theorem q466 : (Jvm.Cond.privateMethod ({ cls := "LoseLeague$Reader", name := "game", desc := "()V" } : Jvm.MethodName)) ∈ lw_tbl := lw_at lw_m2 163 rfl
theorem q467 : (Jvm.Cond.instanceMethod ({ cls := "LoseLeague$Reader", name := "game", desc := "()V" } : Jvm.MethodName)) ∈ lw_all := lw_g (lw_at lw_m2 164 rfl) rfl
theorem q468 : (Jvm.Cond.code ({ cls := "LoseLeague$Reader", name := "game", desc := "()V" } : Jvm.MethodName) prog_7_method_8_code (3 : Nat) (Option.none : Option Jvm.ClassFile.FieldType)) ∈ lw_all := lw_g (lw_at lw_m2 165 rfl) rfl
theorem q469 : (Jvm.Cond.methodLink "LoseLeague$Reader" (89 : Nat) ({ cls := "LoseLeague$Reader", name := "looked", desc := "(I)I" } : Jvm.MethodName)) ∈ lw_all := lw_g (lw_at lw_m2 166 rfl) rfl
theorem q470 : (Jvm.Cond.privateMethod ({ cls := "LoseLeague$Reader", name := "looked", desc := "(I)I" } : Jvm.MethodName)) ∈ lw_tbl := lw_at lw_m2 167 rfl
theorem q471 : (Jvm.Cond.instanceMethod ({ cls := "LoseLeague$Reader", name := "looked", desc := "(I)I" } : Jvm.MethodName)) ∈ lw_all := lw_g (lw_at lw_m2 168 rfl) rfl
theorem q472 : (Jvm.Cond.code ({ cls := "LoseLeague$Reader", name := "looked", desc := "(I)I" } : Jvm.MethodName) prog_7_method_7_code (2 : Nat) (Option.some Jvm.ClassFile.FieldType.int)) ∈ lw_all := lw_g (lw_at lw_m2 169 rfl) rfl
theorem q473 : (Jvm.Cond.methodLinkNest "LoseLeague$Reader" (85 : Nat) ({ cls := "LoseLeague", name := "in", desc := "(JJJ)Z" } : Jvm.MethodName) "LoseLeague") ∈ lw_tbl := lw_at lw_m2 170 rfl
theorem q474 : (Jvm.Cond.methodLink "LoseLeague$Reader" (93 : Nat) ({ cls := "java/lang/Math", name := "max", desc := "(II)I" } : Jvm.MethodName)) ∈ lw_all := lw_g (lw_at lw_m2 171 rfl) rfl
theorem q477 : (Jvm.Cond.methodLink "LoseLeague$Reader" (99 : Nat) ({ cls := "LoseLeague$League", name := "books", desc := "(II)V" } : Jvm.MethodName)) ∈ lw_all := lw_g (lw_at lw_m2 174 rfl) rfl
theorem q481 : (Jvm.Cond.methodLink "LoseLeague$Reader" (114 : Nat) ({ cls := "LoseLeague$League", name := "joins", desc := "(II)V" } : Jvm.MethodName)) ∈ lw_all := lw_g (lw_at lw_m2 178 rfl) rfl
theorem in_X8 : ∀ w ∈ wsX80, w ∈ lw_all := lw_in wsX80 [379, 381, 383, 385, 387, 389, 391, 393] (by decide +kernel) (by decide +kernel)

/-! LoseLeague$Fault -/
set_option maxRecDepth 100000
def RX9 : String := "LoseLeague$Fault"
def TX9 : u_T := fun k => match k with
  | 0 => ("java/lang/Throwable", "cause", "Ljava/lang/Throwable;", false)
  | 1 => ("java/lang/Throwable", "stackTrace", "[Ljava/lang/StackTraceElement;", false)
  | 2 => ("java/lang/Throwable", "suppressedExceptions", "Ljava/util/List;", false)
  | 3 => ("java/lang/Throwable", "detailMessage", "Ljava/lang/String;", false)
  | 4 => ("java/lang/Throwable", "backtrace", "Ljava/lang/Object;", false)
  | 5 => ("java/lang/Throwable", "depth", "I", false)
  | 6 => ("LoseLeague$Fault", "code", "I", true)
  | _ => ("LoseLeague$Fault", "place", "I", true)
def tyX9 : Nat → FieldType := fun k => match k with
  | 0 => .object "java/lang/Throwable"
  | 1 => .array (.object "java/lang/StackTraceElement")
  | 2 => .object "java/util/List"
  | 3 => .object "java/lang/String"
  | 4 => .object "java/lang/Object"
  | 5 => .int
  | 6 => .int
  | _ => .int
abbrev wsX90 : List Cond := u_ws RX9 TX9 8
theorem nmX9 : ∀ a, a < 8 → ∀ b, b < 8 → a ≠ b → (TX9 a).2.1 ≠ (TX9 b).2.1 := by decide +kernel
theorem tyX9_ok : ∀ k, k < 8 → parseFieldDescriptor (TX9 k).2.2.1 = some (tyX9 k) := by decide +kernel
abbrev cX9_init : ByteArray := prog_3_method_1_code
def yX9_init : MethodName := ⟨RX9, "<init>", "(II)V"⟩
def dkwX9_init_0 : List UInt8 := [42, 1, 1, 3, 3, 183, 0, 1, 42, 27, 181, 0, 7, 42, 28, 181, 0, 13, 177]
abbrev dktX9_init_0 : List UInt8 := dkwX9_init_0 ++ []
theorem dksX9_init_0 : cX9_init.data.toList.drop 0 = dktX9_init_0 := by decide +kernel
theorem dX9_init_0 : decode cX9_init 0 = .ok (.aload_n 0, 1) := dk_42 (dk_at dksX9_init_0 0 rfl rfl)
theorem dX9_init_1 : decode cX9_init 1 = .ok (.aconst_null, 1) := dk_1 (dk_at dksX9_init_0 1 rfl rfl)
theorem dX9_init_2 : decode cX9_init 2 = .ok (.aconst_null, 1) := dk_1 (dk_at dksX9_init_0 2 rfl rfl)
theorem dX9_init_3 : decode cX9_init 3 = .ok (.iconst 0, 1) := dk_3 (dk_at dksX9_init_0 3 rfl rfl)
theorem dX9_init_4 : decode cX9_init 4 = .ok (.iconst 0, 1) := dk_3 (dk_at dksX9_init_0 4 rfl rfl)
theorem dX9_init_5 : decode cX9_init 5 = .ok (.invokespecial 1, 3) := dk_183 0 1 (dk_at dksX9_init_0 5 rfl rfl)
theorem dX9_init_8 : decode cX9_init 8 = .ok (.aload_n 0, 1) := dk_42 (dk_at dksX9_init_0 8 rfl rfl)
theorem dX9_init_9 : decode cX9_init 9 = .ok (.iload_n 1, 1) := dk_27 (dk_at dksX9_init_0 9 rfl rfl)
theorem dX9_init_10 : decode cX9_init 10 = .ok (.putfield 7, 3) := dk_181 0 7 (dk_at dksX9_init_0 10 rfl rfl)
theorem dX9_init_13 : decode cX9_init 13 = .ok (.aload_n 0, 1) := dk_42 (dk_at dksX9_init_0 13 rfl rfl)
theorem dX9_init_14 : decode cX9_init 14 = .ok (.iload_n 2, 1) := dk_28 (dk_at dksX9_init_0 14 rfl rfl)
theorem dX9_init_15 : decode cX9_init 15 = .ok (.putfield 13, 3) := dk_181 0 13 (dk_at dksX9_init_0 15 rfl rfl)
theorem dX9_init_18 : decode cX9_init 18 = .ok (.return_, 1) := dk_177 (dk_at dksX9_init_0 18 rfl rfl)
theorem q75 : (Jvm.Cond.initialized "LoseLeague$Fault") ∈ lw_all := lw_g (lw_at lw_m1 12 rfl) rfl
theorem q287 : (Jvm.Cond.instantiable "LoseLeague$Fault" (8 : Nat)) ∈ lw_all := lw_g (lw_at lw_m1 224 rfl) rfl
theorem q288 : (Jvm.Cond.castable "LoseLeague$Fault" "LoseLeague$Fault") ∈ lw_tbl := lw_at lw_m1 225 rfl
theorem q293 : (Jvm.Cond.selects "LoseLeague$Fault" ({ cls := "java/lang/Throwable", name := "fillInStackTrace", desc := "(I)Ljava/lang/Throwable;" } : Jvm.MethodName) ({ cls := "java/lang/Throwable", name := "fillInStackTrace", desc := "(I)Ljava/lang/Throwable;" } : Jvm.MethodName)) ∈ lw_all := lw_g (lw_at lw_m1 230 rfl) rfl
theorem q294 : (Jvm.Cond.selects "LoseLeague$Fault" ({ cls := "java/lang/Throwable", name := "fillInStackTrace", desc := "()Ljava/lang/Throwable;" } : Jvm.MethodName) ({ cls := "java/lang/Throwable", name := "fillInStackTrace", desc := "()Ljava/lang/Throwable;" } : Jvm.MethodName)) ∈ lw_all := lw_g (lw_at lw_m1 231 rfl) rfl
theorem q295 : (Jvm.Cond.lays "LoseLeague$Fault" "java/lang/Throwable" "cause" "Ljava/lang/Throwable;") ∈ lw_all := lw_g (lw_at lw_m1 232 rfl) rfl
theorem q297 : (Jvm.Cond.lays "LoseLeague$Fault" "java/lang/Throwable" "stackTrace" "[Ljava/lang/StackTraceElement;") ∈ lw_all := lw_g (lw_at lw_m1 234 rfl) rfl
theorem q299 : (Jvm.Cond.lays "LoseLeague$Fault" "java/lang/Throwable" "suppressedExceptions" "Ljava/util/List;") ∈ lw_all := lw_g (lw_at lw_m1 236 rfl) rfl
theorem q301 : (Jvm.Cond.lays "LoseLeague$Fault" "java/lang/Throwable" "detailMessage" "Ljava/lang/String;") ∈ lw_all := lw_g (lw_at lw_m1 238 rfl) rfl
theorem q303 : (Jvm.Cond.lays "LoseLeague$Fault" "java/lang/Throwable" "backtrace" "Ljava/lang/Object;") ∈ lw_all := lw_g (lw_at lw_m2 0 rfl) rfl
theorem q341 : (Jvm.Cond.instanceMethod ({ cls := "LoseLeague$Fault", name := "<init>", desc := "(II)V" } : Jvm.MethodName)) ∈ lw_all := lw_g (lw_at lw_m2 38 rfl) rfl
theorem q342 : (Jvm.Cond.code ({ cls := "LoseLeague$Fault", name := "<init>", desc := "(II)V" } : Jvm.MethodName) prog_3_method_1_code (3 : Nat) (Option.none : Option Jvm.ClassFile.FieldType)) ∈ lw_all := lw_g (lw_at lw_m2 39 rfl) rfl
theorem q343 : (Jvm.Cond.methodLink "LoseLeague$Fault" (1 : Nat) ({ cls := "java/lang/Exception", name := "<init>", desc := "(Ljava/lang/String;Ljava/lang/Throwable;ZZ)V" } : Jvm.MethodName)) ∈ lw_all := lw_g (lw_at lw_m2 40 rfl) rfl
theorem q349 : (Jvm.Cond.fieldLink "LoseLeague$Fault" (7 : Nat) "LoseLeague$Fault" "code" "I") ∈ lw_all := lw_g (lw_at lw_m2 46 rfl) rfl
theorem q351 : (Jvm.Cond.fieldLink "LoseLeague$Fault" (13 : Nat) "LoseLeague$Fault" "place" "I") ∈ lw_all := lw_g (lw_at lw_m2 48 rfl) rfl
theorem q358 : (Jvm.Cond.laysFinal "LoseLeague$Fault" "LoseLeague$Fault" "code" "I") ∈ lw_all := lw_g (lw_at lw_m2 55 rfl) rfl
theorem q359 : (Jvm.Cond.soleField "LoseLeague$Fault" "code") ∈ lw_all := lw_g (lw_at lw_m2 56 rfl) rfl
theorem q360 : (Jvm.Cond.laysFinal "LoseLeague$Fault" "LoseLeague$Fault" "place" "I") ∈ lw_all := lw_g (lw_at lw_m2 57 rfl) rfl
theorem q361 : (Jvm.Cond.soleField "LoseLeague$Fault" "place") ∈ lw_all := lw_g (lw_at lw_m2 58 rfl) rfl
theorem q366 : (Jvm.Cond.lays "LoseLeague$Fault" "java/lang/Throwable" "depth" "I") ∈ lw_all := lw_g (lw_at lw_m2 63 rfl) rfl
theorem q369 : (Jvm.Cond.superclass "LoseLeague$Fault" "java/lang/Exception") ∈ lw_all := lw_g (lw_at lw_m2 66 rfl) rfl
theorem in_X9 : ∀ w ∈ wsX90, w ∈ lw_all := lw_in wsX90 [295, 297, 299, 301, 303, 366, 358, 360] (by decide +kernel) (by decide +kernel)

theorem q63 : (Jvm.Cond.initialized "LoseLeagueLaw") ∈ lw_all := lw_g (lw_at lw_m1 0 rfl) rfl
set_option maxRecDepth 100000
theorem q89 : (Jvm.Cond.classLink "LoseLeagueLaw" (7 : Nat) "LoseLeague") ∈ lw_all := lw_g (lw_at lw_m1 26 rfl) rfl
theorem q91 : (Jvm.Cond.methodLink "LoseLeagueLaw" (9 : Nat) ({ cls := "LoseLeague", name := "<init>", desc := "()V" } : Jvm.MethodName)) ∈ lw_all := lw_g (lw_at lw_m1 28 rfl) rfl
theorem q249 : (Jvm.Cond.methodLink "LoseLeagueLaw" (13 : Nat) ({ cls := "LoseLeague", name := "feed", desc := "(I)I" } : Jvm.MethodName)) ∈ lw_all := lw_g (lw_at lw_m1 186 rfl) rfl
theorem q257 : (Jvm.Cond.methodLink "LoseLeagueLaw" (18 : Nat) ({ cls := "LoseLeague", name := "end", desc := "(I)I" } : Jvm.MethodName)) ∈ lw_all := lw_g (lw_at lw_m1 194 rfl) rfl
theorem q261 : (Jvm.Cond.methodLink "LoseLeagueLaw" (22 : Nat) ({ cls := "LoseLeague", name := "text", desc := "()I" } : Jvm.MethodName)) ∈ lw_all := lw_g (lw_at lw_m1 198 rfl) rfl
theorem q496 : (Jvm.Cond.methodLink "LoseLeagueLaw" (27 : Nat) ({ cls := "LoseLeague", name := "fault", desc := "()I" } : Jvm.MethodName)) ∈ lw_all := lw_g (lw_at lw_m2 193 rfl) rfl
theorem q500 : (Jvm.Cond.methodLink "LoseLeagueLaw" (31 : Nat) ({ cls := "LoseLeague", name := "rule", desc := "(I)I" } : Jvm.MethodName)) ∈ lw_all := lw_g (lw_at lw_m2 197 rfl) rfl
theorem q520 : (Jvm.Cond.methodLink "LoseLeagueLaw" (35 : Nat) ({ cls := "LoseLeague", name := "town", desc := "(II)I" } : Jvm.MethodName)) ∈ lw_all := lw_g (lw_at lw_m2 217 rfl) rfl
theorem q552 : (Jvm.Cond.methodLink "LoseLeagueLaw" (40 : Nat) ({ cls := "LoseLeague", name := "fixture", desc := "(II)I" } : Jvm.MethodName)) ∈ lw_all := lw_g (lw_at lw_m3 9 rfl) rfl
theorem q559 : (Jvm.Cond.methodLink "LoseLeagueLaw" (44 : Nat) ({ cls := "LoseLeague", name := "game", desc := "(II)I" } : Jvm.MethodName)) ∈ lw_all := lw_g (lw_at lw_m3 16 rfl) rfl
theorem q571 : (Jvm.Cond.methodLink "LoseLeagueLaw" (48 : Nat) ({ cls := "LoseLeague", name := "alter", desc := "(III)I" } : Jvm.MethodName)) ∈ lw_all := lw_g (lw_at lw_m3 28 rfl) rfl
theorem q577 : (Jvm.Cond.methodLink "LoseLeagueLaw" (53 : Nat) ({ cls := "LoseLeague", name := "lend", desc := "(III)I" } : Jvm.MethodName)) ∈ lw_all := lw_g (lw_at lw_m3 34 rfl) rfl
theorem q589 : (Jvm.Cond.methodLink "LoseLeagueLaw" (57 : Nat) ({ cls := "LoseLeague", name := "book", desc := "(II)I" } : Jvm.MethodName)) ∈ lw_all := lw_g (lw_at lw_m3 46 rfl) rfl
theorem q594 : (Jvm.Cond.methodLink "LoseLeagueLaw" (61 : Nat) ({ cls := "LoseLeague", name := "strike", desc := "(I)I" } : Jvm.MethodName)) ∈ lw_all := lw_g (lw_at lw_m3 51 rfl) rfl
theorem q598 : (Jvm.Cond.methodLink "LoseLeagueLaw" (65 : Nat) ({ cls := "LoseLeague", name := "weeks", desc := "(I)I" } : Jvm.MethodName)) ∈ lw_all := lw_g (lw_at lw_m3 55 rfl) rfl
theorem q652 : (Jvm.Cond.methodLink "LoseLeagueLaw" (69 : Nat) ({ cls := "LoseLeague", name := "runs", desc := "(II)I" } : Jvm.MethodName)) ∈ lw_all := lw_g (lw_at lw_m3 109 rfl) rfl
theorem q660 : (Jvm.Cond.methodLink "LoseLeagueLaw" (73 : Nat) ({ cls := "LoseLeague", name := "ahead", desc := "(III)I" } : Jvm.MethodName)) ∈ lw_all := lw_g (lw_at lw_m3 117 rfl) rfl
theorem q665 : (Jvm.Cond.methodLink "LoseLeagueLaw" (77 : Nat) ({ cls := "LoseLeague", name := "loser", desc := "(I)I" } : Jvm.MethodName)) ∈ lw_all := lw_g (lw_at lw_m3 122 rfl) rfl
theorem q669 : (Jvm.Cond.methodLink "LoseLeagueLaw" (81 : Nat) ({ cls := "LoseLeague", name := "loses", desc := "(I)I" } : Jvm.MethodName)) ∈ lw_all := lw_g (lw_at lw_m3 126 rfl) rfl
theorem q673 : (Jvm.Cond.methodLink "LoseLeagueLaw" (85 : Nat) ({ cls := "LoseLeague", name := "order", desc := "(I)I" } : Jvm.MethodName)) ∈ lw_all := lw_g (lw_at lw_m3 130 rfl) rfl
theorem q710 : (Jvm.Cond.methodLink "LoseLeagueLaw" (89 : Nat) ({ cls := "LoseLeague", name := "loan", desc := "(II)I" } : Jvm.MethodName)) ∈ lw_all := lw_g (lw_at lw_m3 167 rfl) rfl
theorem q722 : (Jvm.Cond.methodLink "LoseLeagueLaw" (93 : Nat) ({ cls := "LoseLeague", name := "swap", desc := "(II)I" } : Jvm.MethodName)) ∈ lw_all := lw_g (lw_at lw_m3 179 rfl) rfl
theorem q726 : (Jvm.Cond.methodLink "LoseLeagueLaw" (97 : Nat) ({ cls := "LoseLeague", name := "skip", desc := "(II)I" } : Jvm.MethodName)) ∈ lw_all := lw_g (lw_at lw_m3 183 rfl) rfl
theorem q730 : (Jvm.Cond.methodLink "LoseLeagueLaw" (101 : Nat) ({ cls := "LoseLeague", name := "most", desc := "(II)I" } : Jvm.MethodName)) ∈ lw_all := lw_g (lw_at lw_m3 187 rfl) rfl
theorem q737 : (Jvm.Cond.methodLink "LoseLeagueLaw" (105 : Nat) ({ cls := "LoseLeague", name := "kind", desc := "(III)I" } : Jvm.MethodName)) ∈ lw_all := lw_g (lw_at lw_m3 194 rfl) rfl
theorem q741 : (Jvm.Cond.methodLink "LoseLeagueLaw" (109 : Nat) ({ cls := "LoseLeague", name := "luck", desc := "(IIII)J" } : Jvm.MethodName)) ∈ lw_all := lw_g (lw_at lw_m3 198 rfl) rfl
theorem q754 : (Jvm.Cond.methodLink "LoseLeagueLaw" (114 : Nat) ({ cls := "LoseLeague", name := "mean", desc := "(III)J" } : Jvm.MethodName)) ∈ lw_all := lw_g (lw_at lw_m3 211 rfl) rfl
theorem q758 : (Jvm.Cond.methodLink "LoseLeagueLaw" (119 : Nat) ({ cls := "LoseLeague", name := "see", desc := "(II)I" } : Jvm.MethodName)) ∈ lw_all := lw_g (lw_at lw_m3 215 rfl) rfl
theorem q762 : (Jvm.Cond.methodLink "LoseLeagueLaw" (123 : Nat) ({ cls := "LoseLeague", name := "forget", desc := "(I)I" } : Jvm.MethodName)) ∈ lw_all := lw_g (lw_at lw_m3 219 rfl) rfl
theorem q766 : (Jvm.Cond.methodLink "LoseLeagueLaw" (127 : Nat) ({ cls := "LoseLeague", name := "kinds", desc := "(I)I" } : Jvm.MethodName)) ∈ lw_all := lw_g (lw_at lw_m3 223 rfl) rfl
theorem q778 : (Jvm.Cond.methodLink "LoseLeagueLaw" (131 : Nat) ({ cls := "LoseLeague", name := "strengths", desc := "(I)I" } : Jvm.MethodName)) ∈ lw_all := lw_g (lw_at lw_m3 235 rfl) rfl
theorem q782 : (Jvm.Cond.methodLink "LoseLeagueLaw" (135 : Nat) ({ cls := "LoseLeague", name := "ask", desc := "(II)I" } : Jvm.MethodName)) ∈ lw_all := lw_g (lw_at lw_m3 239 rfl) rfl
theorem q795 : (Jvm.Cond.methodLink "LoseLeagueLaw" (139 : Nat) ({ cls := "LoseLeague", name := "drift", desc := "(III)I" } : Jvm.MethodName)) ∈ lw_all := lw_g (lw_at lw_m4 12 rfl) rfl
theorem q800 : (Jvm.Cond.methodLink "LoseLeagueLaw" (143 : Nat) ({ cls := "LoseLeague", name := "keep", desc := "(I)I" } : Jvm.MethodName)) ∈ lw_all := lw_g (lw_at lw_m4 17 rfl) rfl
theorem q804 : (Jvm.Cond.methodLink "LoseLeagueLaw" (147 : Nat) ({ cls := "LoseLeague", name := "back", desc := "(I)I" } : Jvm.MethodName)) ∈ lw_all := lw_g (lw_at lw_m4 21 rfl) rfl
theorem q808 : (Jvm.Cond.methodLink "LoseLeagueLaw" (151 : Nat) ({ cls := "LoseLeague", name := "sheet", desc := "(III)I" } : Jvm.MethodName)) ∈ lw_all := lw_g (lw_at lw_m4 25 rfl) rfl
theorem q845 : (Jvm.Cond.methodLink "LoseLeagueLaw" (155 : Nat) ({ cls := "LoseLeague", name := "lay", desc := "(III)I" } : Jvm.MethodName)) ∈ lw_all := lw_g (lw_at lw_m4 62 rfl) rfl
theorem q896 : (Jvm.Cond.methodLink "LoseLeagueLaw" (159 : Nat) ({ cls := "LoseLeague", name := "read", desc := "(IIII)I" } : Jvm.MethodName)) ∈ lw_all := lw_g (lw_at lw_m4 113 rfl) rfl
theorem q919 : (Jvm.Cond.methodLink "LoseLeagueLaw" (164 : Nat) ({ cls := "LoseLeague", name := "torn", desc := "()I" } : Jvm.MethodName)) ∈ lw_all := lw_g (lw_at lw_m4 136 rfl) rfl
theorem q923 : (Jvm.Cond.methodLink "LoseLeagueLaw" (168 : Nat) ({ cls := "LoseLeague", name := "count", desc := "(I)I" } : Jvm.MethodName)) ∈ lw_all := lw_g (lw_at lw_m4 140 rfl) rfl
theorem q933 : (Jvm.Cond.classLink "LoseLeagueLaw" (10 : Nat) "LoseLeagueModel") ∈ lw_all := lw_g (lw_at lw_m4 150 rfl) rfl
theorem q935 : (Jvm.Cond.methodLink "LoseLeagueLaw" (12 : Nat) ({ cls := "LoseLeagueModel", name := "<init>", desc := "()V" } : Jvm.MethodName)) ∈ lw_all := lw_g (lw_at lw_m4 152 rfl) rfl
theorem q1028 : (Jvm.Cond.methodLink "LoseLeagueLaw" (17 : Nat) ({ cls := "LoseLeagueModel", name := "feed", desc := "(I)I" } : Jvm.MethodName)) ∈ lw_all := lw_g (lw_at lw_m5 5 rfl) rfl
theorem q1036 : (Jvm.Cond.methodLink "LoseLeagueLaw" (21 : Nat) ({ cls := "LoseLeagueModel", name := "end", desc := "(I)I" } : Jvm.MethodName)) ∈ lw_all := lw_g (lw_at lw_m5 13 rfl) rfl
theorem q1040 : (Jvm.Cond.methodLink "LoseLeagueLaw" (26 : Nat) ({ cls := "LoseLeagueModel", name := "text", desc := "()I" } : Jvm.MethodName)) ∈ lw_all := lw_g (lw_at lw_m5 17 rfl) rfl
theorem q1081 : (Jvm.Cond.methodLink "LoseLeagueLaw" (30 : Nat) ({ cls := "LoseLeagueModel", name := "fault", desc := "()I" } : Jvm.MethodName)) ∈ lw_all := lw_g (lw_at lw_m5 58 rfl) rfl
theorem q1085 : (Jvm.Cond.methodLink "LoseLeagueLaw" (34 : Nat) ({ cls := "LoseLeagueModel", name := "rule", desc := "(I)I" } : Jvm.MethodName)) ∈ lw_all := lw_g (lw_at lw_m5 62 rfl) rfl
theorem q1101 : (Jvm.Cond.methodLink "LoseLeagueLaw" (39 : Nat) ({ cls := "LoseLeagueModel", name := "town", desc := "(II)I" } : Jvm.MethodName)) ∈ lw_all := lw_g (lw_at lw_m5 78 rfl) rfl
theorem q1113 : (Jvm.Cond.methodLink "LoseLeagueLaw" (43 : Nat) ({ cls := "LoseLeagueModel", name := "fixture", desc := "(II)I" } : Jvm.MethodName)) ∈ lw_all := lw_g (lw_at lw_m5 90 rfl) rfl
theorem q1121 : (Jvm.Cond.methodLink "LoseLeagueLaw" (47 : Nat) ({ cls := "LoseLeagueModel", name := "game", desc := "(II)I" } : Jvm.MethodName)) ∈ lw_all := lw_g (lw_at lw_m5 98 rfl) rfl
theorem q1133 : (Jvm.Cond.methodLink "LoseLeagueLaw" (52 : Nat) ({ cls := "LoseLeagueModel", name := "alter", desc := "(III)I" } : Jvm.MethodName)) ∈ lw_all := lw_g (lw_at lw_m5 110 rfl) rfl
theorem q1142 : (Jvm.Cond.methodLink "LoseLeagueLaw" (56 : Nat) ({ cls := "LoseLeagueModel", name := "lend", desc := "(III)I" } : Jvm.MethodName)) ∈ lw_all := lw_g (lw_at lw_m5 119 rfl) rfl
theorem q1151 : (Jvm.Cond.methodLink "LoseLeagueLaw" (60 : Nat) ({ cls := "LoseLeagueModel", name := "book", desc := "(II)I" } : Jvm.MethodName)) ∈ lw_all := lw_g (lw_at lw_m5 128 rfl) rfl
theorem q1159 : (Jvm.Cond.methodLink "LoseLeagueLaw" (64 : Nat) ({ cls := "LoseLeagueModel", name := "strike", desc := "(I)I" } : Jvm.MethodName)) ∈ lw_all := lw_g (lw_at lw_m5 136 rfl) rfl
theorem q1163 : (Jvm.Cond.methodLink "LoseLeagueLaw" (68 : Nat) ({ cls := "LoseLeagueModel", name := "weeks", desc := "(I)I" } : Jvm.MethodName)) ∈ lw_all := lw_g (lw_at lw_m5 140 rfl) rfl
theorem q1180 : (Jvm.Cond.methodLink "LoseLeagueLaw" (72 : Nat) ({ cls := "LoseLeagueModel", name := "runs", desc := "(II)I" } : Jvm.MethodName)) ∈ lw_all := lw_g (lw_at lw_m5 157 rfl) rfl
theorem q1193 : (Jvm.Cond.methodLink "LoseLeagueLaw" (76 : Nat) ({ cls := "LoseLeagueModel", name := "ahead", desc := "(III)I" } : Jvm.MethodName)) ∈ lw_all := lw_g (lw_at lw_m5 170 rfl) rfl
theorem q1198 : (Jvm.Cond.methodLink "LoseLeagueLaw" (80 : Nat) ({ cls := "LoseLeagueModel", name := "loser", desc := "(I)I" } : Jvm.MethodName)) ∈ lw_all := lw_g (lw_at lw_m5 175 rfl) rfl
theorem q1202 : (Jvm.Cond.methodLink "LoseLeagueLaw" (84 : Nat) ({ cls := "LoseLeagueModel", name := "loses", desc := "(I)I" } : Jvm.MethodName)) ∈ lw_all := lw_g (lw_at lw_m5 179 rfl) rfl
theorem q1210 : (Jvm.Cond.methodLink "LoseLeagueLaw" (88 : Nat) ({ cls := "LoseLeagueModel", name := "order", desc := "(I)I" } : Jvm.MethodName)) ∈ lw_all := lw_g (lw_at lw_m5 187 rfl) rfl
theorem q1221 : (Jvm.Cond.methodLink "LoseLeagueLaw" (92 : Nat) ({ cls := "LoseLeagueModel", name := "loan", desc := "(II)I" } : Jvm.MethodName)) ∈ lw_all := lw_g (lw_at lw_m5 198 rfl) rfl
theorem q1225 : (Jvm.Cond.methodLink "LoseLeagueLaw" (96 : Nat) ({ cls := "LoseLeagueModel", name := "swap", desc := "(II)I" } : Jvm.MethodName)) ∈ lw_all := lw_g (lw_at lw_m5 202 rfl) rfl
theorem q1229 : (Jvm.Cond.methodLink "LoseLeagueLaw" (100 : Nat) ({ cls := "LoseLeagueModel", name := "skip", desc := "(II)I" } : Jvm.MethodName)) ∈ lw_all := lw_g (lw_at lw_m5 206 rfl) rfl
theorem q1233 : (Jvm.Cond.methodLink "LoseLeagueLaw" (104 : Nat) ({ cls := "LoseLeagueModel", name := "most", desc := "(II)I" } : Jvm.MethodName)) ∈ lw_all := lw_g (lw_at lw_m5 210 rfl) rfl
theorem q1237 : (Jvm.Cond.methodLink "LoseLeagueLaw" (108 : Nat) ({ cls := "LoseLeagueModel", name := "kind", desc := "(III)I" } : Jvm.MethodName)) ∈ lw_all := lw_g (lw_at lw_m5 214 rfl) rfl
theorem q1241 : (Jvm.Cond.methodLink "LoseLeagueLaw" (113 : Nat) ({ cls := "LoseLeagueModel", name := "luck", desc := "(IIII)J" } : Jvm.MethodName)) ∈ lw_all := lw_g (lw_at lw_m5 218 rfl) rfl
theorem q1254 : (Jvm.Cond.methodLink "LoseLeagueLaw" (118 : Nat) ({ cls := "LoseLeagueModel", name := "mean", desc := "(III)J" } : Jvm.MethodName)) ∈ lw_all := lw_g (lw_at lw_m5 231 rfl) rfl
theorem q1258 : (Jvm.Cond.methodLink "LoseLeagueLaw" (122 : Nat) ({ cls := "LoseLeagueModel", name := "see", desc := "(II)I" } : Jvm.MethodName)) ∈ lw_all := lw_g (lw_at lw_m5 235 rfl) rfl
theorem q1262 : (Jvm.Cond.methodLink "LoseLeagueLaw" (126 : Nat) ({ cls := "LoseLeagueModel", name := "forget", desc := "(I)I" } : Jvm.MethodName)) ∈ lw_all := lw_g (lw_at lw_m5 239 rfl) rfl
theorem q1266 : (Jvm.Cond.methodLink "LoseLeagueLaw" (130 : Nat) ({ cls := "LoseLeagueModel", name := "kinds", desc := "(I)I" } : Jvm.MethodName)) ∈ lw_all := lw_g (lw_at lw_m6 3 rfl) rfl
theorem q1278 : (Jvm.Cond.methodLink "LoseLeagueLaw" (134 : Nat) ({ cls := "LoseLeagueModel", name := "strengths", desc := "(I)I" } : Jvm.MethodName)) ∈ lw_all := lw_g (lw_at lw_m6 15 rfl) rfl
theorem q1282 : (Jvm.Cond.methodLink "LoseLeagueLaw" (138 : Nat) ({ cls := "LoseLeagueModel", name := "ask", desc := "(II)I" } : Jvm.MethodName)) ∈ lw_all := lw_g (lw_at lw_m6 19 rfl) rfl
theorem q1286 : (Jvm.Cond.methodLink "LoseLeagueLaw" (142 : Nat) ({ cls := "LoseLeagueModel", name := "drift", desc := "(III)I" } : Jvm.MethodName)) ∈ lw_all := lw_g (lw_at lw_m6 23 rfl) rfl
theorem q1291 : (Jvm.Cond.methodLink "LoseLeagueLaw" (146 : Nat) ({ cls := "LoseLeagueModel", name := "keep", desc := "(I)I" } : Jvm.MethodName)) ∈ lw_all := lw_g (lw_at lw_m6 28 rfl) rfl
theorem q1295 : (Jvm.Cond.methodLink "LoseLeagueLaw" (150 : Nat) ({ cls := "LoseLeagueModel", name := "back", desc := "(I)I" } : Jvm.MethodName)) ∈ lw_all := lw_g (lw_at lw_m6 32 rfl) rfl
theorem q1299 : (Jvm.Cond.methodLink "LoseLeagueLaw" (154 : Nat) ({ cls := "LoseLeagueModel", name := "sheet", desc := "(III)I" } : Jvm.MethodName)) ∈ lw_all := lw_g (lw_at lw_m6 36 rfl) rfl
theorem q1303 : (Jvm.Cond.methodLink "LoseLeagueLaw" (158 : Nat) ({ cls := "LoseLeagueModel", name := "lay", desc := "(III)I" } : Jvm.MethodName)) ∈ lw_all := lw_g (lw_at lw_m6 40 rfl) rfl
theorem q1307 : (Jvm.Cond.methodLink "LoseLeagueLaw" (163 : Nat) ({ cls := "LoseLeagueModel", name := "read", desc := "(IIII)I" } : Jvm.MethodName)) ∈ lw_all := lw_g (lw_at lw_m6 44 rfl) rfl
theorem q1311 : (Jvm.Cond.methodLink "LoseLeagueLaw" (167 : Nat) ({ cls := "LoseLeagueModel", name := "torn", desc := "()I" } : Jvm.MethodName)) ∈ lw_all := lw_g (lw_at lw_m6 48 rfl) rfl
theorem q1315 : (Jvm.Cond.methodLink "LoseLeagueLaw" (171 : Nat) ({ cls := "LoseLeagueModel", name := "count", desc := "(I)I" } : Jvm.MethodName)) ∈ lw_all := lw_g (lw_at lw_m6 52 rfl) rfl

theorem q81 : (Jvm.Cond.initialized "java/lang/System") ∈ lw_all := lw_g (lw_at lw_m1 18 rfl) rfl
set_option maxRecDepth 100000
theorem q494 : (Jvm.Cond.static ({ cls := "java/lang/System", name := "arraycopy", desc := "(Ljava/lang/Object;ILjava/lang/Object;II)V" } : Jvm.MethodName)) ∈ lw_all := lw_g (lw_at lw_m2 191 rfl) rfl
theorem q495 : (Jvm.Cond.native ({ cls := "java/lang/System", name := "arraycopy", desc := "(Ljava/lang/Object;ILjava/lang/Object;II)V" } : Jvm.MethodName)) ∈ lw_all := lw_g (lw_at lw_m2 192 rfl) rfl

theorem q98 : (Jvm.Cond.arrayOver (Jvm.ClassFile.FieldType.object "LoseLeague$Plain")) ∈ lw_tbl := lw_at lw_m1 35 rfl
set_option maxRecDepth 100000
theorem q158 : (Jvm.Cond.arrayClass Jvm.ClassFile.FieldType.byte) ∈ lw_all := lw_g (lw_at lw_m1 95 rfl) rfl
theorem q159 : (Jvm.Cond.arrayOver (Jvm.ClassFile.FieldType.object "LoseLeague$League")) ∈ lw_tbl := lw_at lw_m1 96 rfl
theorem q161 : (Jvm.Cond.arrayOver (Jvm.ClassFile.FieldType.object "LoseLeague$Sheet")) ∈ lw_tbl := lw_at lw_m1 98 rfl
theorem q171 : (Jvm.Cond.arrayClass Jvm.ClassFile.FieldType.int) ∈ lw_all := lw_g (lw_at lw_m1 108 rfl) rfl
theorem q844 : (Jvm.Cond.arrayClass Jvm.ClassFile.FieldType.short) ∈ lw_all := lw_g (lw_at lw_m4 61 rfl) rfl
theorem q1027 : (Jvm.Cond.arrayClass Jvm.ClassFile.FieldType.boolean) ∈ lw_all := lw_g (lw_at lw_m5 4 rfl) rfl
