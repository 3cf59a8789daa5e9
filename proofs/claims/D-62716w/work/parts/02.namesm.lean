/-! DECODE ROWS BY BYTES: one lemma an opcode; a method's code is cut into short pieces once, and a row reads its own piece alone. -/
set_option maxRecDepth 100000
/-- the code has just these bytes from pc on -/
def DkAt (code : ByteArray) (pc : Nat) (bs : List UInt8) : Prop := ∀ (j : Nat) (b : UInt8), bs[j]? = some b → code.data.toList[pc + j]? = some b
/-- the piece W has the bytes bs from its place j on -/
def dkIn (W : List UInt8) (j : Nat) (bs : List UInt8) : Bool := decide ((W.drop j).take bs.length = bs)
theorem dk_seg {l W T : List UInt8} {o o2 : Nat} (h : l.drop o = W ++ T) (n : Nat) (hn : W.length = n) (ho : o + n = o2) : l.drop o2 = T := by
  subst ho
  rw [← List.drop_drop, h, List.drop_left' hn]
theorem dk_at {code : ByteArray} {W T bs : List UInt8} {o pc : Nat} (h : code.data.toList.drop o = W ++ T) (j : Nat) (hp : o + j = pc) (hw : dkIn W j bs = true) : DkAt code pc bs := by
  subst hp
  intro i b e
  have h1 := of_decide_eq_true hw
  have h2 : i < bs.length := (List.getElem?_eq_some_iff.mp e).1
  have h3 : W[j + i]? = some b := by
    rw [← h1, List.getElem?_take, if_pos h2, List.getElem?_drop] at e
    exact e
  have h4 : j + i < W.length := (List.getElem?_eq_some_iff.mp h3).1
  have h5 : (code.data.toList.drop o)[j + i]? = some b := by
    rw [h, List.getElem?_append_left h4]
    exact h3
  rw [List.getElem?_drop, ← Nat.add_assoc] at h5
  exact h5
theorem dk_u1 {A : ByteArray} {p : Nat} {b : UInt8} (h : A.data.toList[p]? = some b) : (Reader.u1 : Reader DecodeError Nat) A p = .ok (b.toNat, p + 1) := by
  obtain ⟨h1, h2⟩ := List.getElem?_eq_some_iff.mp h
  have h3 : p < A.size := by simpa using h1
  have h4 : A[p]'h3 = b := h2
  have e : (Reader.u1 : Reader DecodeError Nat) A p = (if h : p < A.size then .ok (A[p].toNat, p + 1) else .error (HasTruncated.truncated p)) := by
    show (do if h : p < A.size then do set (p + 1); Pure.pure A[p].toNat else MonadExcept.throw (HasTruncated.truncated p) : Reader DecodeError Nat) A p = _
    by_cases hi : p < A.size
    · rw [dif_pos hi, dif_pos hi]; rfl
    · rw [dif_neg hi, dif_neg hi]; rfl
  rw [e, dif_pos h3, h4]
theorem dk_bind {α β : Type} {r : Reader DecodeError α} {f : α → Reader DecodeError β} {A : ByteArray} {p s : Nat} {a : α} (h : r A p = .ok (a, s)) : (r >>= f) A p = f a A s := by
  show (do let (a, s) ← r A p; f a A s : Except DecodeError (β × Nat)) = _
  rw [h]
  rfl
theorem dk_map {α β : Type} {r : Reader DecodeError α} {g : α → β} {A : ByteArray} {p s : Nat} {a : α} (h : r A p = .ok (a, s)) : (g <$> r) A p = .ok (g a, s) := by
  show (do let (a, s) ← r A p; .ok (g a, s) : Except DecodeError (β × Nat)) = _
  rw [h]
  rfl
theorem dk_u2 {A : ByteArray} {p : Nat} {a b : UInt8} (h : A.data.toList[p]? = some a) (h2 : A.data.toList[p + 1]? = some b) : (Reader.u2 : Reader DecodeError Nat) A p = .ok (a.toNat * 256 + b.toNat, p + 2) := by
  show (Reader.u1 >>= fun hi => Reader.u1 >>= fun lo => Pure.pure (hi * 256 + lo) : Reader DecodeError Nat) A p = _
  rw [dk_bind (dk_u1 h), dk_bind (dk_u1 h2)]
  rfl
theorem dk_of {code : ByteArray} {pc n : Nat} {i : Instr} (h : Decoder.instr pc code pc = .ok (i, pc + n)) : decode code pc = .ok (i, n) := by
  have e : decode code pc = (match Decoder.instr pc code pc with | .error x => .error x | .ok (j, s) => .ok (j, s - pc)) := by
    show (do let (j, s) ← Decoder.instr pc code pc; Pure.pure (j, s - pc) : Except DecodeError (Instr × Nat)) = _
    cases Decoder.instr pc code pc <;> rfl
  rw [e, h]
  show Except.ok (i, pc + n - pc) = _
  rw [Nat.add_sub_cancel_left]
theorem dk_1 {code : ByteArray} {pc : Nat} (h : DkAt code pc [1]) : decode code pc = .ok (.aconst_null, 1) := dk_of ((dk_bind (dk_u1 (h 0 _ rfl))).trans rfl)
theorem dk_2 {code : ByteArray} {pc : Nat} (h : DkAt code pc [2]) : decode code pc = .ok (.iconst (-1), 1) := dk_of ((dk_bind (dk_u1 (h 0 _ rfl))).trans rfl)
theorem dk_3 {code : ByteArray} {pc : Nat} (h : DkAt code pc [3]) : decode code pc = .ok (.iconst 0, 1) := dk_of ((dk_bind (dk_u1 (h 0 _ rfl))).trans rfl)
theorem dk_4 {code : ByteArray} {pc : Nat} (h : DkAt code pc [4]) : decode code pc = .ok (.iconst 1, 1) := dk_of ((dk_bind (dk_u1 (h 0 _ rfl))).trans rfl)
theorem dk_5 {code : ByteArray} {pc : Nat} (h : DkAt code pc [5]) : decode code pc = .ok (.iconst 2, 1) := dk_of ((dk_bind (dk_u1 (h 0 _ rfl))).trans rfl)
theorem dk_6 {code : ByteArray} {pc : Nat} (h : DkAt code pc [6]) : decode code pc = .ok (.iconst 3, 1) := dk_of ((dk_bind (dk_u1 (h 0 _ rfl))).trans rfl)
theorem dk_7 {code : ByteArray} {pc : Nat} (h : DkAt code pc [7]) : decode code pc = .ok (.iconst 4, 1) := dk_of ((dk_bind (dk_u1 (h 0 _ rfl))).trans rfl)
theorem dk_8 {code : ByteArray} {pc : Nat} (h : DkAt code pc [8]) : decode code pc = .ok (.iconst 5, 1) := dk_of ((dk_bind (dk_u1 (h 0 _ rfl))).trans rfl)
theorem dk_16 {code : ByteArray} {pc : Nat} (a : UInt8) (h : DkAt code pc [16, a]) : decode code pc = .ok (.bipush (Reader.signed 8 a.toNat), 2) := dk_of ((dk_bind (dk_u1 (h 0 _ rfl))).trans ((dk_bind (dk_map (dk_u1 (h 1 _ rfl)))).trans rfl))
theorem dk_17 {code : ByteArray} {pc : Nat} (a b : UInt8) (h : DkAt code pc [17, a, b]) : decode code pc = .ok (.sipush (Reader.signed 16 (a.toNat * 256 + b.toNat)), 3) := dk_of ((dk_bind (dk_u1 (h 0 _ rfl))).trans ((dk_bind (dk_map (dk_u2 (h 1 _ rfl) (h 2 _ rfl)))).trans rfl))
theorem dk_18 {code : ByteArray} {pc : Nat} (a : UInt8) (h : DkAt code pc [18, a]) : decode code pc = .ok (.ldc a.toNat, 2) := dk_of ((dk_bind (dk_u1 (h 0 _ rfl))).trans ((dk_bind (dk_u1 (h 1 _ rfl))).trans rfl))
theorem dk_20 {code : ByteArray} {pc : Nat} (a b : UInt8) (h : DkAt code pc [20, a, b]) : decode code pc = .ok (.ldc2_w (a.toNat * 256 + b.toNat), 3) := dk_of ((dk_bind (dk_u1 (h 0 _ rfl))).trans ((dk_bind (dk_u2 (h 1 _ rfl) (h 2 _ rfl))).trans rfl))
theorem dk_21 {code : ByteArray} {pc : Nat} (a : UInt8) (h : DkAt code pc [21, a]) : decode code pc = .ok (.iload a.toNat, 2) := dk_of ((dk_bind (dk_u1 (h 0 _ rfl))).trans ((dk_bind (dk_u1 (h 1 _ rfl))).trans rfl))
theorem dk_25 {code : ByteArray} {pc : Nat} (a : UInt8) (h : DkAt code pc [25, a]) : decode code pc = .ok (.aload a.toNat, 2) := dk_of ((dk_bind (dk_u1 (h 0 _ rfl))).trans ((dk_bind (dk_u1 (h 1 _ rfl))).trans rfl))
theorem dk_26 {code : ByteArray} {pc : Nat} (h : DkAt code pc [26]) : decode code pc = .ok (.iload_n 0, 1) := dk_of ((dk_bind (dk_u1 (h 0 _ rfl))).trans rfl)
theorem dk_27 {code : ByteArray} {pc : Nat} (h : DkAt code pc [27]) : decode code pc = .ok (.iload_n 1, 1) := dk_of ((dk_bind (dk_u1 (h 0 _ rfl))).trans rfl)
theorem dk_28 {code : ByteArray} {pc : Nat} (h : DkAt code pc [28]) : decode code pc = .ok (.iload_n 2, 1) := dk_of ((dk_bind (dk_u1 (h 0 _ rfl))).trans rfl)
theorem dk_29 {code : ByteArray} {pc : Nat} (h : DkAt code pc [29]) : decode code pc = .ok (.iload_n 3, 1) := dk_of ((dk_bind (dk_u1 (h 0 _ rfl))).trans rfl)
theorem dk_31 {code : ByteArray} {pc : Nat} (h : DkAt code pc [31]) : decode code pc = .ok (.lload_n 1, 1) := dk_of ((dk_bind (dk_u1 (h 0 _ rfl))).trans rfl)
theorem dk_33 {code : ByteArray} {pc : Nat} (h : DkAt code pc [33]) : decode code pc = .ok (.lload_n 3, 1) := dk_of ((dk_bind (dk_u1 (h 0 _ rfl))).trans rfl)
theorem dk_42 {code : ByteArray} {pc : Nat} (h : DkAt code pc [42]) : decode code pc = .ok (.aload_n 0, 1) := dk_of ((dk_bind (dk_u1 (h 0 _ rfl))).trans rfl)
theorem dk_43 {code : ByteArray} {pc : Nat} (h : DkAt code pc [43]) : decode code pc = .ok (.aload_n 1, 1) := dk_of ((dk_bind (dk_u1 (h 0 _ rfl))).trans rfl)
theorem dk_44 {code : ByteArray} {pc : Nat} (h : DkAt code pc [44]) : decode code pc = .ok (.aload_n 2, 1) := dk_of ((dk_bind (dk_u1 (h 0 _ rfl))).trans rfl)
theorem dk_45 {code : ByteArray} {pc : Nat} (h : DkAt code pc [45]) : decode code pc = .ok (.aload_n 3, 1) := dk_of ((dk_bind (dk_u1 (h 0 _ rfl))).trans rfl)
theorem dk_46 {code : ByteArray} {pc : Nat} (h : DkAt code pc [46]) : decode code pc = .ok (.iaload, 1) := dk_of ((dk_bind (dk_u1 (h 0 _ rfl))).trans rfl)
theorem dk_47 {code : ByteArray} {pc : Nat} (h : DkAt code pc [47]) : decode code pc = .ok (.laload, 1) := dk_of ((dk_bind (dk_u1 (h 0 _ rfl))).trans rfl)
theorem dk_50 {code : ByteArray} {pc : Nat} (h : DkAt code pc [50]) : decode code pc = .ok (.aaload, 1) := dk_of ((dk_bind (dk_u1 (h 0 _ rfl))).trans rfl)
theorem dk_51 {code : ByteArray} {pc : Nat} (h : DkAt code pc [51]) : decode code pc = .ok (.baload, 1) := dk_of ((dk_bind (dk_u1 (h 0 _ rfl))).trans rfl)
theorem dk_53 {code : ByteArray} {pc : Nat} (h : DkAt code pc [53]) : decode code pc = .ok (.saload, 1) := dk_of ((dk_bind (dk_u1 (h 0 _ rfl))).trans rfl)
theorem dk_54 {code : ByteArray} {pc : Nat} (a : UInt8) (h : DkAt code pc [54, a]) : decode code pc = .ok (.istore a.toNat, 2) := dk_of ((dk_bind (dk_u1 (h 0 _ rfl))).trans ((dk_bind (dk_u1 (h 1 _ rfl))).trans rfl))
theorem dk_58 {code : ByteArray} {pc : Nat} (a : UInt8) (h : DkAt code pc [58, a]) : decode code pc = .ok (.astore a.toNat, 2) := dk_of ((dk_bind (dk_u1 (h 0 _ rfl))).trans ((dk_bind (dk_u1 (h 1 _ rfl))).trans rfl))
theorem dk_60 {code : ByteArray} {pc : Nat} (h : DkAt code pc [60]) : decode code pc = .ok (.istore_n 1, 1) := dk_of ((dk_bind (dk_u1 (h 0 _ rfl))).trans rfl)
theorem dk_61 {code : ByteArray} {pc : Nat} (h : DkAt code pc [61]) : decode code pc = .ok (.istore_n 2, 1) := dk_of ((dk_bind (dk_u1 (h 0 _ rfl))).trans rfl)
theorem dk_62 {code : ByteArray} {pc : Nat} (h : DkAt code pc [62]) : decode code pc = .ok (.istore_n 3, 1) := dk_of ((dk_bind (dk_u1 (h 0 _ rfl))).trans rfl)
theorem dk_76 {code : ByteArray} {pc : Nat} (h : DkAt code pc [76]) : decode code pc = .ok (.astore_n 1, 1) := dk_of ((dk_bind (dk_u1 (h 0 _ rfl))).trans rfl)
theorem dk_77 {code : ByteArray} {pc : Nat} (h : DkAt code pc [77]) : decode code pc = .ok (.astore_n 2, 1) := dk_of ((dk_bind (dk_u1 (h 0 _ rfl))).trans rfl)
theorem dk_78 {code : ByteArray} {pc : Nat} (h : DkAt code pc [78]) : decode code pc = .ok (.astore_n 3, 1) := dk_of ((dk_bind (dk_u1 (h 0 _ rfl))).trans rfl)
theorem dk_79 {code : ByteArray} {pc : Nat} (h : DkAt code pc [79]) : decode code pc = .ok (.iastore, 1) := dk_of ((dk_bind (dk_u1 (h 0 _ rfl))).trans rfl)
theorem dk_80 {code : ByteArray} {pc : Nat} (h : DkAt code pc [80]) : decode code pc = .ok (.lastore, 1) := dk_of ((dk_bind (dk_u1 (h 0 _ rfl))).trans rfl)
theorem dk_83 {code : ByteArray} {pc : Nat} (h : DkAt code pc [83]) : decode code pc = .ok (.aastore, 1) := dk_of ((dk_bind (dk_u1 (h 0 _ rfl))).trans rfl)
theorem dk_84 {code : ByteArray} {pc : Nat} (h : DkAt code pc [84]) : decode code pc = .ok (.bastore, 1) := dk_of ((dk_bind (dk_u1 (h 0 _ rfl))).trans rfl)
theorem dk_86 {code : ByteArray} {pc : Nat} (h : DkAt code pc [86]) : decode code pc = .ok (.sastore, 1) := dk_of ((dk_bind (dk_u1 (h 0 _ rfl))).trans rfl)
theorem dk_87 {code : ByteArray} {pc : Nat} (h : DkAt code pc [87]) : decode code pc = .ok (.pop, 1) := dk_of ((dk_bind (dk_u1 (h 0 _ rfl))).trans rfl)
theorem dk_89 {code : ByteArray} {pc : Nat} (h : DkAt code pc [89]) : decode code pc = .ok (.dup, 1) := dk_of ((dk_bind (dk_u1 (h 0 _ rfl))).trans rfl)
theorem dk_90 {code : ByteArray} {pc : Nat} (h : DkAt code pc [90]) : decode code pc = .ok (.dup_x1, 1) := dk_of ((dk_bind (dk_u1 (h 0 _ rfl))).trans rfl)
theorem dk_92 {code : ByteArray} {pc : Nat} (h : DkAt code pc [92]) : decode code pc = .ok (.dup2, 1) := dk_of ((dk_bind (dk_u1 (h 0 _ rfl))).trans rfl)
theorem dk_96 {code : ByteArray} {pc : Nat} (h : DkAt code pc [96]) : decode code pc = .ok (.iadd, 1) := dk_of ((dk_bind (dk_u1 (h 0 _ rfl))).trans rfl)
theorem dk_100 {code : ByteArray} {pc : Nat} (h : DkAt code pc [100]) : decode code pc = .ok (.isub, 1) := dk_of ((dk_bind (dk_u1 (h 0 _ rfl))).trans rfl)
theorem dk_104 {code : ByteArray} {pc : Nat} (h : DkAt code pc [104]) : decode code pc = .ok (.imul, 1) := dk_of ((dk_bind (dk_u1 (h 0 _ rfl))).trans rfl)
theorem dk_116 {code : ByteArray} {pc : Nat} (h : DkAt code pc [116]) : decode code pc = .ok (.ineg, 1) := dk_of ((dk_bind (dk_u1 (h 0 _ rfl))).trans rfl)
theorem dk_120 {code : ByteArray} {pc : Nat} (h : DkAt code pc [120]) : decode code pc = .ok (.ishl, 1) := dk_of ((dk_bind (dk_u1 (h 0 _ rfl))).trans rfl)
theorem dk_121 {code : ByteArray} {pc : Nat} (h : DkAt code pc [121]) : decode code pc = .ok (.lshl, 1) := dk_of ((dk_bind (dk_u1 (h 0 _ rfl))).trans rfl)
theorem dk_122 {code : ByteArray} {pc : Nat} (h : DkAt code pc [122]) : decode code pc = .ok (.ishr, 1) := dk_of ((dk_bind (dk_u1 (h 0 _ rfl))).trans rfl)
theorem dk_123 {code : ByteArray} {pc : Nat} (h : DkAt code pc [123]) : decode code pc = .ok (.lshr, 1) := dk_of ((dk_bind (dk_u1 (h 0 _ rfl))).trans rfl)
theorem dk_125 {code : ByteArray} {pc : Nat} (h : DkAt code pc [125]) : decode code pc = .ok (.lushr, 1) := dk_of ((dk_bind (dk_u1 (h 0 _ rfl))).trans rfl)
theorem dk_126 {code : ByteArray} {pc : Nat} (h : DkAt code pc [126]) : decode code pc = .ok (.iand, 1) := dk_of ((dk_bind (dk_u1 (h 0 _ rfl))).trans rfl)
theorem dk_127 {code : ByteArray} {pc : Nat} (h : DkAt code pc [127]) : decode code pc = .ok (.land, 1) := dk_of ((dk_bind (dk_u1 (h 0 _ rfl))).trans rfl)
theorem dk_128 {code : ByteArray} {pc : Nat} (h : DkAt code pc [128]) : decode code pc = .ok (.ior, 1) := dk_of ((dk_bind (dk_u1 (h 0 _ rfl))).trans rfl)
theorem dk_129 {code : ByteArray} {pc : Nat} (h : DkAt code pc [129]) : decode code pc = .ok (.lor, 1) := dk_of ((dk_bind (dk_u1 (h 0 _ rfl))).trans rfl)
theorem dk_132 {code : ByteArray} {pc : Nat} (a b : UInt8) (h : DkAt code pc [132, a, b]) : decode code pc = .ok (.iinc a.toNat (Reader.signed 8 b.toNat), 3) := dk_of ((dk_bind (dk_u1 (h 0 _ rfl))).trans ((dk_bind (dk_u1 (h 1 _ rfl))).trans ((dk_bind (dk_map (dk_u1 (h 2 _ rfl)))).trans rfl)))
theorem dk_133 {code : ByteArray} {pc : Nat} (h : DkAt code pc [133]) : decode code pc = .ok (.i2l, 1) := dk_of ((dk_bind (dk_u1 (h 0 _ rfl))).trans rfl)
theorem dk_136 {code : ByteArray} {pc : Nat} (h : DkAt code pc [136]) : decode code pc = .ok (.l2i, 1) := dk_of ((dk_bind (dk_u1 (h 0 _ rfl))).trans rfl)
theorem dk_145 {code : ByteArray} {pc : Nat} (h : DkAt code pc [145]) : decode code pc = .ok (.i2b, 1) := dk_of ((dk_bind (dk_u1 (h 0 _ rfl))).trans rfl)
theorem dk_146 {code : ByteArray} {pc : Nat} (h : DkAt code pc [146]) : decode code pc = .ok (.i2c, 1) := dk_of ((dk_bind (dk_u1 (h 0 _ rfl))).trans rfl)
theorem dk_147 {code : ByteArray} {pc : Nat} (h : DkAt code pc [147]) : decode code pc = .ok (.i2s, 1) := dk_of ((dk_bind (dk_u1 (h 0 _ rfl))).trans rfl)
theorem dk_148 {code : ByteArray} {pc : Nat} (h : DkAt code pc [148]) : decode code pc = .ok (.lcmp, 1) := dk_of ((dk_bind (dk_u1 (h 0 _ rfl))).trans rfl)
theorem dk_153 {code : ByteArray} {pc : Nat} (a b : UInt8) (h : DkAt code pc [153, a, b]) : decode code pc = .ok (.ifCond .eq (Reader.signed 16 (a.toNat * 256 + b.toNat)), 3) := dk_of ((dk_bind (dk_u1 (h 0 _ rfl))).trans ((dk_bind (dk_map (dk_u2 (h 1 _ rfl) (h 2 _ rfl)))).trans rfl))
theorem dk_154 {code : ByteArray} {pc : Nat} (a b : UInt8) (h : DkAt code pc [154, a, b]) : decode code pc = .ok (.ifCond .ne (Reader.signed 16 (a.toNat * 256 + b.toNat)), 3) := dk_of ((dk_bind (dk_u1 (h 0 _ rfl))).trans ((dk_bind (dk_map (dk_u2 (h 1 _ rfl) (h 2 _ rfl)))).trans rfl))
theorem dk_155 {code : ByteArray} {pc : Nat} (a b : UInt8) (h : DkAt code pc [155, a, b]) : decode code pc = .ok (.ifCond .lt (Reader.signed 16 (a.toNat * 256 + b.toNat)), 3) := dk_of ((dk_bind (dk_u1 (h 0 _ rfl))).trans ((dk_bind (dk_map (dk_u2 (h 1 _ rfl) (h 2 _ rfl)))).trans rfl))
theorem dk_156 {code : ByteArray} {pc : Nat} (a b : UInt8) (h : DkAt code pc [156, a, b]) : decode code pc = .ok (.ifCond .ge (Reader.signed 16 (a.toNat * 256 + b.toNat)), 3) := dk_of ((dk_bind (dk_u1 (h 0 _ rfl))).trans ((dk_bind (dk_map (dk_u2 (h 1 _ rfl) (h 2 _ rfl)))).trans rfl))
theorem dk_157 {code : ByteArray} {pc : Nat} (a b : UInt8) (h : DkAt code pc [157, a, b]) : decode code pc = .ok (.ifCond .gt (Reader.signed 16 (a.toNat * 256 + b.toNat)), 3) := dk_of ((dk_bind (dk_u1 (h 0 _ rfl))).trans ((dk_bind (dk_map (dk_u2 (h 1 _ rfl) (h 2 _ rfl)))).trans rfl))
theorem dk_158 {code : ByteArray} {pc : Nat} (a b : UInt8) (h : DkAt code pc [158, a, b]) : decode code pc = .ok (.ifCond .le (Reader.signed 16 (a.toNat * 256 + b.toNat)), 3) := dk_of ((dk_bind (dk_u1 (h 0 _ rfl))).trans ((dk_bind (dk_map (dk_u2 (h 1 _ rfl) (h 2 _ rfl)))).trans rfl))
theorem dk_159 {code : ByteArray} {pc : Nat} (a b : UInt8) (h : DkAt code pc [159, a, b]) : decode code pc = .ok (.if_icmp .eq (Reader.signed 16 (a.toNat * 256 + b.toNat)), 3) := dk_of ((dk_bind (dk_u1 (h 0 _ rfl))).trans ((dk_bind (dk_map (dk_u2 (h 1 _ rfl) (h 2 _ rfl)))).trans rfl))
theorem dk_160 {code : ByteArray} {pc : Nat} (a b : UInt8) (h : DkAt code pc [160, a, b]) : decode code pc = .ok (.if_icmp .ne (Reader.signed 16 (a.toNat * 256 + b.toNat)), 3) := dk_of ((dk_bind (dk_u1 (h 0 _ rfl))).trans ((dk_bind (dk_map (dk_u2 (h 1 _ rfl) (h 2 _ rfl)))).trans rfl))
theorem dk_161 {code : ByteArray} {pc : Nat} (a b : UInt8) (h : DkAt code pc [161, a, b]) : decode code pc = .ok (.if_icmp .lt (Reader.signed 16 (a.toNat * 256 + b.toNat)), 3) := dk_of ((dk_bind (dk_u1 (h 0 _ rfl))).trans ((dk_bind (dk_map (dk_u2 (h 1 _ rfl) (h 2 _ rfl)))).trans rfl))
theorem dk_162 {code : ByteArray} {pc : Nat} (a b : UInt8) (h : DkAt code pc [162, a, b]) : decode code pc = .ok (.if_icmp .ge (Reader.signed 16 (a.toNat * 256 + b.toNat)), 3) := dk_of ((dk_bind (dk_u1 (h 0 _ rfl))).trans ((dk_bind (dk_map (dk_u2 (h 1 _ rfl) (h 2 _ rfl)))).trans rfl))
theorem dk_163 {code : ByteArray} {pc : Nat} (a b : UInt8) (h : DkAt code pc [163, a, b]) : decode code pc = .ok (.if_icmp .gt (Reader.signed 16 (a.toNat * 256 + b.toNat)), 3) := dk_of ((dk_bind (dk_u1 (h 0 _ rfl))).trans ((dk_bind (dk_map (dk_u2 (h 1 _ rfl) (h 2 _ rfl)))).trans rfl))
theorem dk_164 {code : ByteArray} {pc : Nat} (a b : UInt8) (h : DkAt code pc [164, a, b]) : decode code pc = .ok (.if_icmp .le (Reader.signed 16 (a.toNat * 256 + b.toNat)), 3) := dk_of ((dk_bind (dk_u1 (h 0 _ rfl))).trans ((dk_bind (dk_map (dk_u2 (h 1 _ rfl) (h 2 _ rfl)))).trans rfl))
theorem dk_165 {code : ByteArray} {pc : Nat} (a b : UInt8) (h : DkAt code pc [165, a, b]) : decode code pc = .ok (.if_acmp .eq (Reader.signed 16 (a.toNat * 256 + b.toNat)), 3) := dk_of ((dk_bind (dk_u1 (h 0 _ rfl))).trans ((dk_bind (dk_map (dk_u2 (h 1 _ rfl) (h 2 _ rfl)))).trans rfl))
theorem dk_166 {code : ByteArray} {pc : Nat} (a b : UInt8) (h : DkAt code pc [166, a, b]) : decode code pc = .ok (.if_acmp .ne (Reader.signed 16 (a.toNat * 256 + b.toNat)), 3) := dk_of ((dk_bind (dk_u1 (h 0 _ rfl))).trans ((dk_bind (dk_map (dk_u2 (h 1 _ rfl) (h 2 _ rfl)))).trans rfl))
theorem dk_167 {code : ByteArray} {pc : Nat} (a b : UInt8) (h : DkAt code pc [167, a, b]) : decode code pc = .ok (.goto (Reader.signed 16 (a.toNat * 256 + b.toNat)), 3) := dk_of ((dk_bind (dk_u1 (h 0 _ rfl))).trans ((dk_bind (dk_map (dk_u2 (h 1 _ rfl) (h 2 _ rfl)))).trans rfl))
theorem dk_172 {code : ByteArray} {pc : Nat} (h : DkAt code pc [172]) : decode code pc = .ok (.ireturn, 1) := dk_of ((dk_bind (dk_u1 (h 0 _ rfl))).trans rfl)
theorem dk_176 {code : ByteArray} {pc : Nat} (h : DkAt code pc [176]) : decode code pc = .ok (.areturn, 1) := dk_of ((dk_bind (dk_u1 (h 0 _ rfl))).trans rfl)
theorem dk_177 {code : ByteArray} {pc : Nat} (h : DkAt code pc [177]) : decode code pc = .ok (.return_, 1) := dk_of ((dk_bind (dk_u1 (h 0 _ rfl))).trans rfl)
theorem dk_178 {code : ByteArray} {pc : Nat} (a b : UInt8) (h : DkAt code pc [178, a, b]) : decode code pc = .ok (.getstatic (a.toNat * 256 + b.toNat), 3) := dk_of ((dk_bind (dk_u1 (h 0 _ rfl))).trans ((dk_bind (dk_u2 (h 1 _ rfl) (h 2 _ rfl))).trans rfl))
theorem dk_180 {code : ByteArray} {pc : Nat} (a b : UInt8) (h : DkAt code pc [180, a, b]) : decode code pc = .ok (.getfield (a.toNat * 256 + b.toNat), 3) := dk_of ((dk_bind (dk_u1 (h 0 _ rfl))).trans ((dk_bind (dk_u2 (h 1 _ rfl) (h 2 _ rfl))).trans rfl))
theorem dk_181 {code : ByteArray} {pc : Nat} (a b : UInt8) (h : DkAt code pc [181, a, b]) : decode code pc = .ok (.putfield (a.toNat * 256 + b.toNat), 3) := dk_of ((dk_bind (dk_u1 (h 0 _ rfl))).trans ((dk_bind (dk_u2 (h 1 _ rfl) (h 2 _ rfl))).trans rfl))
theorem dk_182 {code : ByteArray} {pc : Nat} (a b : UInt8) (h : DkAt code pc [182, a, b]) : decode code pc = .ok (.invokevirtual (a.toNat * 256 + b.toNat), 3) := dk_of ((dk_bind (dk_u1 (h 0 _ rfl))).trans ((dk_bind (dk_u2 (h 1 _ rfl) (h 2 _ rfl))).trans rfl))
theorem dk_183 {code : ByteArray} {pc : Nat} (a b : UInt8) (h : DkAt code pc [183, a, b]) : decode code pc = .ok (.invokespecial (a.toNat * 256 + b.toNat), 3) := dk_of ((dk_bind (dk_u1 (h 0 _ rfl))).trans ((dk_bind (dk_u2 (h 1 _ rfl) (h 2 _ rfl))).trans rfl))
theorem dk_184 {code : ByteArray} {pc : Nat} (a b : UInt8) (h : DkAt code pc [184, a, b]) : decode code pc = .ok (.invokestatic (a.toNat * 256 + b.toNat), 3) := dk_of ((dk_bind (dk_u1 (h 0 _ rfl))).trans ((dk_bind (dk_u2 (h 1 _ rfl) (h 2 _ rfl))).trans rfl))
theorem dk_187 {code : ByteArray} {pc : Nat} (a b : UInt8) (h : DkAt code pc [187, a, b]) : decode code pc = .ok (.new (a.toNat * 256 + b.toNat), 3) := dk_of ((dk_bind (dk_u1 (h 0 _ rfl))).trans ((dk_bind (dk_u2 (h 1 _ rfl) (h 2 _ rfl))).trans rfl))
theorem dk_188_4 {code : ByteArray} {pc : Nat} (h : DkAt code pc [188, 4]) : decode code pc = .ok (.newarray .boolean, 2) := dk_of ((dk_bind (dk_u1 (h 0 _ rfl))).trans ((dk_bind (dk_u1 (h 1 _ rfl))).trans rfl))
theorem dk_188_8 {code : ByteArray} {pc : Nat} (h : DkAt code pc [188, 8]) : decode code pc = .ok (.newarray .byte, 2) := dk_of ((dk_bind (dk_u1 (h 0 _ rfl))).trans ((dk_bind (dk_u1 (h 1 _ rfl))).trans rfl))
theorem dk_188_9 {code : ByteArray} {pc : Nat} (h : DkAt code pc [188, 9]) : decode code pc = .ok (.newarray .short, 2) := dk_of ((dk_bind (dk_u1 (h 0 _ rfl))).trans ((dk_bind (dk_u1 (h 1 _ rfl))).trans rfl))
theorem dk_188_10 {code : ByteArray} {pc : Nat} (h : DkAt code pc [188, 10]) : decode code pc = .ok (.newarray .int, 2) := dk_of ((dk_bind (dk_u1 (h 0 _ rfl))).trans ((dk_bind (dk_u1 (h 1 _ rfl))).trans rfl))
theorem dk_188_11 {code : ByteArray} {pc : Nat} (h : DkAt code pc [188, 11]) : decode code pc = .ok (.newarray .long, 2) := dk_of ((dk_bind (dk_u1 (h 0 _ rfl))).trans ((dk_bind (dk_u1 (h 1 _ rfl))).trans rfl))
theorem dk_189 {code : ByteArray} {pc : Nat} (a b : UInt8) (h : DkAt code pc [189, a, b]) : decode code pc = .ok (.anewarray (a.toNat * 256 + b.toNat), 3) := dk_of ((dk_bind (dk_u1 (h 0 _ rfl))).trans ((dk_bind (dk_u2 (h 1 _ rfl) (h 2 _ rfl))).trans rfl))
theorem dk_190 {code : ByteArray} {pc : Nat} (h : DkAt code pc [190]) : decode code pc = .ok (.arraylength, 1) := dk_of ((dk_bind (dk_u1 (h 0 _ rfl))).trans rfl)
theorem dk_191 {code : ByteArray} {pc : Nat} (h : DkAt code pc [191]) : decode code pc = .ok (.athrow, 1) := dk_of ((dk_bind (dk_u1 (h 0 _ rfl))).trans rfl)
theorem dk_192 {code : ByteArray} {pc : Nat} (a b : UInt8) (h : DkAt code pc [192, a, b]) : decode code pc = .ok (.checkcast (a.toNat * 256 + b.toNat), 3) := dk_of ((dk_bind (dk_u1 (h 0 _ rfl))).trans ((dk_bind (dk_u2 (h 1 _ rfl) (h 2 _ rfl))).trans rfl))
theorem dk_193 {code : ByteArray} {pc : Nat} (a b : UInt8) (h : DkAt code pc [193, a, b]) : decode code pc = .ok (.instanceof (a.toNat * 256 + b.toNat), 3) := dk_of ((dk_bind (dk_u1 (h 0 _ rfl))).trans ((dk_bind (dk_u2 (h 1 _ rfl) (h 2 _ rfl))).trans rfl))
theorem dk_198 {code : ByteArray} {pc : Nat} (a b : UInt8) (h : DkAt code pc [198, a, b]) : decode code pc = .ok (.ifnull (Reader.signed 16 (a.toNat * 256 + b.toNat)), 3) := dk_of ((dk_bind (dk_u1 (h 0 _ rfl))).trans ((dk_bind (dk_map (dk_u2 (h 1 _ rfl) (h 2 _ rfl)))).trans rfl))
theorem dk_199 {code : ByteArray} {pc : Nat} (a b : UInt8) (h : DkAt code pc [199, a, b]) : decode code pc = .ok (.ifnonnull (Reader.signed 16 (a.toNat * 256 + b.toNat)), 3) := dk_of ((dk_bind (dk_u1 (h 0 _ rfl))).trans ((dk_bind (dk_map (dk_u2 (h 1 _ rfl) (h 2 _ rfl)))).trans rfl))
/-! TokenMouthModel -/
set_option maxRecDepth 100000
def RX6 : String := "TokenMouthModel"
def TX6 : u_T := fun k => match k with
  | 0 => ("TokenMouthModel", "thrown", "I", false)
  | 1 => ("TokenMouthModel", "length", "I", false)
  | 2 => ("TokenMouthModel", "text", "[I", true)
  | 3 => ("TokenMouthModel", "at", "I", false)
  | 4 => ("TokenMouthModel", "state", "I", false)
  | 5 => ("TokenMouthModel", "fault", "I", false)
  | 6 => ("TokenMouthModel", "steps", "I", false)
  | 7 => ("TokenMouthModel", "expansions", "I", false)
  | 8 => ("TokenMouthModel", "categories", "[I", true)
  | 9 => ("TokenMouthModel", "pending", "I", false)
  | 10 => ("TokenMouthModel", "waiting", "[I", true)
  | 11 => ("TokenMouthModel", "names", "I", false)
  | 12 => ("TokenMouthModel", "letters", "[I", true)
  | 13 => ("TokenMouthModel", "size", "[I", true)
  | 14 => ("TokenMouthModel", "active", "[Z", true)
  | 15 => ("TokenMouthModel", "means", "[I", true)
  | 16 => ("TokenMouthModel", "spelt", "I", false)
  | 17 => ("TokenMouthModel", "spelling", "[I", true)
  | 18 => ("TokenMouthModel", "groups", "I", false)
  | 19 => ("TokenMouthModel", "kept", "I", false)
  | 20 => ("TokenMouthModel", "keptGroup", "[I", true)
  | 21 => ("TokenMouthModel", "keptOf", "[I", true)
  | 22 => ("TokenMouthModel", "keptWas", "[I", true)
  | 23 => ("TokenMouthModel", "macros", "I", false)
  | 24 => ("TokenMouthModel", "textSize", "[I", true)
  | 25 => ("TokenMouthModel", "texts", "[I", true)
  | 26 => ("TokenMouthModel", "bodySize", "[I", true)
  | 27 => ("TokenMouthModel", "bodies", "[I", true)
  | 28 => ("TokenMouthModel", "parameters", "[I", true)
  | 29 => ("TokenMouthModel", "conditionals", "I", false)
  | 30 => ("TokenMouthModel", "part", "[I", true)
  | 31 => ("TokenMouthModel", "frames", "I", false)
  | 32 => ("TokenMouthModel", "doing", "[I", true)
  | 33 => ("TokenMouthModel", "holds", "[I", true)
  | 34 => ("TokenMouthModel", "stage", "[I", true)
  | 35 => ("TokenMouthModel", "opened", "[I", true)
  | 36 => ("TokenMouthModel", "spell", "[I", true)
  | 37 => ("TokenMouthModel", "outs", "I", false)
  | 38 => ("TokenMouthModel", "outputs", "[I", true)
  | 39 => ("TokenMouthModel", "argument", "[I", true)
  | _ => ("TokenMouthModel", "argumentSize", "[I", true)
def tyX6 : Nat → FieldType := fun k => match k with
  | 0 => .int
  | 1 => .int
  | 2 => .array .int
  | 3 => .int
  | 4 => .int
  | 5 => .int
  | 6 => .int
  | 7 => .int
  | 8 => .array .int
  | 9 => .int
  | 10 => .array .int
  | 11 => .int
  | 12 => .array .int
  | 13 => .array .int
  | 14 => .array .boolean
  | 15 => .array .int
  | 16 => .int
  | 17 => .array .int
  | 18 => .int
  | 19 => .int
  | 20 => .array .int
  | 21 => .array .int
  | 22 => .array .int
  | 23 => .int
  | 24 => .array .int
  | 25 => .array .int
  | 26 => .array .int
  | 27 => .array .int
  | 28 => .array .int
  | 29 => .int
  | 30 => .array .int
  | 31 => .int
  | 32 => .array .int
  | 33 => .array .int
  | 34 => .array .int
  | 35 => .array .int
  | 36 => .array .int
  | 37 => .int
  | 38 => .array .int
  | 39 => .array .int
  | _ => .array .int
abbrev wsX60 : List Cond := u_ws RX6 TX6 41
set_option maxRecDepth 100000 in
theorem nmX6 : ∀ a, a < 41 → ∀ b, b < 41 → a ≠ b → (TX6 a).2.1 ≠ (TX6 b).2.1 := by decide +kernel
set_option maxRecDepth 100000 in
theorem tyX6_ok : ∀ k, k < 41 → parseFieldDescriptor (TX6 k).2.2.1 = some (tyX6 k) := by decide +kernel
abbrev cX6_init : ByteArray := prog_10_method_1_code
def yX6_init : MethodName := ⟨RX6, "<init>", "()V"⟩
def dkwX6_init_16 : List UInt8 := [20, 0, 100, 20, 0, 140, 182, 0, 90, 42, 20, 0, 130, 20, 0, 142, 182, 0, 90, 42, 182, 0, 144, 177]
abbrev dktX6_init_16 : List UInt8 := dkwX6_init_16 ++ []
def dkwX6_init_15 : List UInt8 := [182, 0, 90, 42, 20, 0, 120, 20, 0, 136, 182, 0, 90, 42, 20, 0, 108, 20, 0, 138, 182, 0, 90, 42]
abbrev dktX6_init_15 : List UInt8 := dkwX6_init_15 ++ dktX6_init_16
def dkwX6_init_14 : List UInt8 := [20, 0, 128, 182, 0, 90, 42, 20, 0, 130, 20, 0, 132, 182, 0, 90, 42, 20, 0, 86, 20, 0, 134]
abbrev dktX6_init_14 : List UInt8 := dkwX6_init_14 ++ dktX6_init_15
def dkwX6_init_13 : List UInt8 := [20, 0, 120, 20, 0, 122, 182, 0, 90, 42, 20, 0, 124, 20, 0, 126, 182, 0, 90, 42, 20, 0, 120]
abbrev dktX6_init_13 : List UInt8 := dkwX6_init_13 ++ dktX6_init_14
def dkwX6_init_12 : List UInt8 := [182, 0, 90, 42, 20, 0, 112, 20, 0, 114, 182, 0, 90, 42, 20, 0, 116, 20, 0, 118, 182, 0, 90, 42]
abbrev dktX6_init_12 : List UInt8 := dkwX6_init_12 ++ dktX6_init_13
def dkwX6_init_11 : List UInt8 := [20, 0, 104, 182, 0, 90, 42, 20, 0, 86, 20, 0, 106, 182, 0, 90, 42, 20, 0, 108, 20, 0, 110]
abbrev dktX6_init_11 : List UInt8 := dkwX6_init_11 ++ dktX6_init_12
def dkwX6_init_10 : List UInt8 := [20, 0, 86, 20, 0, 98, 182, 0, 90, 42, 20, 0, 100, 20, 0, 102, 182, 0, 90, 42, 20, 0, 100]
abbrev dktX6_init_10 : List UInt8 := dkwX6_init_10 ++ dktX6_init_11
def dkwX6_init_9 : List UInt8 := [181, 0, 83, 42, 20, 0, 86, 20, 0, 88, 182, 0, 90, 42, 20, 0, 94, 20, 0, 96, 182, 0, 90, 42]
abbrev dktX6_init_9 : List UInt8 := dkwX6_init_9 ++ dktX6_init_10
def dkwX6_init_8 : List UInt8 := [42, 17, 0, 200, 188, 10, 181, 0, 77, 42, 17, 0, 168, 188, 10, 181, 0, 80, 42, 7, 188, 10]
abbrev dktX6_init_8 : List UInt8 := dkwX6_init_8 ++ dktX6_init_9
def dkwX6_init_7 : List UInt8 := [16, 30, 188, 10, 181, 0, 68, 42, 16, 30, 188, 10, 181, 0, 71, 42, 17, 1, 104, 188, 10, 181, 0, 74]
abbrev dktX6_init_7 : List UInt8 := dkwX6_init_7 ++ dktX6_init_8
def dkwX6_init_6 : List UInt8 := [16, 12, 188, 10, 181, 0, 59, 42, 16, 30, 188, 10, 181, 0, 62, 42, 16, 30, 188, 10, 181, 0, 65, 42]
abbrev dktX6_init_6 : List UInt8 := dkwX6_init_6 ++ dktX6_init_7
def dkwX6_init_5 : List UInt8 := [188, 10, 181, 0, 50, 42, 17, 9, 196, 188, 10, 181, 0, 53, 42, 16, 61, 188, 10, 181, 0, 56, 42]
abbrev dktX6_init_5 : List UInt8 := dkwX6_init_5 ++ dktX6_init_6
def dkwX6_init_4 : List UInt8 := [181, 0, 41, 42, 16, 61, 188, 10, 181, 0, 44, 42, 17, 3, 32, 188, 10, 181, 0, 47, 42, 16, 61]
abbrev dktX6_init_4 : List UInt8 := dkwX6_init_4 ++ dktX6_init_5
def dkwX6_init_3 : List UInt8 := [181, 0, 32, 42, 16, 60, 188, 10, 181, 0, 35, 42, 16, 60, 188, 10, 181, 0, 38, 42, 16, 60, 188, 10]
abbrev dktX6_init_3 : List UInt8 := dkwX6_init_3 ++ dktX6_init_4
def dkwX6_init_2 : List UInt8 := [181, 0, 22, 42, 16, 120, 188, 4, 181, 0, 25, 42, 16, 120, 188, 10, 181, 0, 29, 42, 16, 12, 188, 10]
abbrev dktX6_init_2 : List UInt8 := dkwX6_init_2 ++ dktX6_init_3
def dkwX6_init_1 : List UInt8 := [17, 1, 46, 188, 10, 181, 0, 16, 42, 17, 5, 40, 188, 10, 181, 0, 19, 42, 16, 120, 188, 10]
abbrev dktX6_init_1 : List UInt8 := dkwX6_init_1 ++ dktX6_init_2
def dkwX6_init_0 : List UInt8 := [42, 183, 0, 1, 42, 17, 0, 160, 188, 10, 181, 0, 7, 42, 17, 0, 128, 188, 10, 181, 0, 13, 42]
abbrev dktX6_init_0 : List UInt8 := dkwX6_init_0 ++ dktX6_init_1
theorem dksX6_init_0 : cX6_init.data.toList.drop 0 = dktX6_init_0 := by decide +kernel
theorem dksX6_init_1 : cX6_init.data.toList.drop 23 = dktX6_init_1 := dk_seg dksX6_init_0 23 rfl rfl
theorem dksX6_init_2 : cX6_init.data.toList.drop 45 = dktX6_init_2 := dk_seg dksX6_init_1 22 rfl rfl
theorem dksX6_init_3 : cX6_init.data.toList.drop 69 = dktX6_init_3 := dk_seg dksX6_init_2 24 rfl rfl
theorem dksX6_init_4 : cX6_init.data.toList.drop 93 = dktX6_init_4 := dk_seg dksX6_init_3 24 rfl rfl
theorem dksX6_init_5 : cX6_init.data.toList.drop 116 = dktX6_init_5 := dk_seg dksX6_init_4 23 rfl rfl
theorem dksX6_init_6 : cX6_init.data.toList.drop 139 = dktX6_init_6 := dk_seg dksX6_init_5 23 rfl rfl
theorem dksX6_init_7 : cX6_init.data.toList.drop 163 = dktX6_init_7 := dk_seg dksX6_init_6 24 rfl rfl
theorem dksX6_init_8 : cX6_init.data.toList.drop 187 = dktX6_init_8 := dk_seg dksX6_init_7 24 rfl rfl
theorem dksX6_init_9 : cX6_init.data.toList.drop 209 = dktX6_init_9 := dk_seg dksX6_init_8 22 rfl rfl
theorem dksX6_init_10 : cX6_init.data.toList.drop 233 = dktX6_init_10 := dk_seg dksX6_init_9 24 rfl rfl
theorem dksX6_init_11 : cX6_init.data.toList.drop 256 = dktX6_init_11 := dk_seg dksX6_init_10 23 rfl rfl
theorem dksX6_init_12 : cX6_init.data.toList.drop 279 = dktX6_init_12 := dk_seg dksX6_init_11 23 rfl rfl
theorem dksX6_init_13 : cX6_init.data.toList.drop 303 = dktX6_init_13 := dk_seg dksX6_init_12 24 rfl rfl
theorem dksX6_init_14 : cX6_init.data.toList.drop 326 = dktX6_init_14 := dk_seg dksX6_init_13 23 rfl rfl
theorem dksX6_init_15 : cX6_init.data.toList.drop 349 = dktX6_init_15 := dk_seg dksX6_init_14 23 rfl rfl
theorem dksX6_init_16 : cX6_init.data.toList.drop 373 = dktX6_init_16 := dk_seg dksX6_init_15 24 rfl rfl
theorem dX6_init_0 : decode cX6_init 0 = .ok (.aload_n 0, 1) := dk_42 (dk_at dksX6_init_0 0 rfl rfl)
theorem dX6_init_1 : decode cX6_init 1 = .ok (.invokespecial 1, 3) := dk_183 0 1 (dk_at dksX6_init_0 1 rfl rfl)
theorem dX6_init_4 : decode cX6_init 4 = .ok (.aload_n 0, 1) := dk_42 (dk_at dksX6_init_0 4 rfl rfl)
theorem dX6_init_5 : decode cX6_init 5 = .ok (.sipush 160, 3) := dk_17 0 160 (dk_at dksX6_init_0 5 rfl rfl)
theorem dX6_init_8 : decode cX6_init 8 = .ok (.newarray .int, 2) := dk_188_10 (dk_at dksX6_init_0 8 rfl rfl)
theorem dX6_init_10 : decode cX6_init 10 = .ok (.putfield 7, 3) := dk_181 0 7 (dk_at dksX6_init_0 10 rfl rfl)
theorem dX6_init_13 : decode cX6_init 13 = .ok (.aload_n 0, 1) := dk_42 (dk_at dksX6_init_0 13 rfl rfl)
theorem dX6_init_14 : decode cX6_init 14 = .ok (.sipush 128, 3) := dk_17 0 128 (dk_at dksX6_init_0 14 rfl rfl)
theorem dX6_init_17 : decode cX6_init 17 = .ok (.newarray .int, 2) := dk_188_10 (dk_at dksX6_init_0 17 rfl rfl)
theorem dX6_init_19 : decode cX6_init 19 = .ok (.putfield 13, 3) := dk_181 0 13 (dk_at dksX6_init_0 19 rfl rfl)
theorem dX6_init_22 : decode cX6_init 22 = .ok (.aload_n 0, 1) := dk_42 (dk_at dksX6_init_0 22 rfl rfl)
theorem dX6_init_23 : decode cX6_init 23 = .ok (.sipush 302, 3) := dk_17 1 46 (dk_at dksX6_init_1 0 rfl rfl)
theorem dX6_init_26 : decode cX6_init 26 = .ok (.newarray .int, 2) := dk_188_10 (dk_at dksX6_init_1 3 rfl rfl)
theorem dX6_init_28 : decode cX6_init 28 = .ok (.putfield 16, 3) := dk_181 0 16 (dk_at dksX6_init_1 5 rfl rfl)
theorem dX6_init_31 : decode cX6_init 31 = .ok (.aload_n 0, 1) := dk_42 (dk_at dksX6_init_1 8 rfl rfl)
theorem dX6_init_32 : decode cX6_init 32 = .ok (.sipush 1320, 3) := dk_17 5 40 (dk_at dksX6_init_1 9 rfl rfl)
theorem dX6_init_35 : decode cX6_init 35 = .ok (.newarray .int, 2) := dk_188_10 (dk_at dksX6_init_1 12 rfl rfl)
theorem dX6_init_37 : decode cX6_init 37 = .ok (.putfield 19, 3) := dk_181 0 19 (dk_at dksX6_init_1 14 rfl rfl)
theorem dX6_init_40 : decode cX6_init 40 = .ok (.aload_n 0, 1) := dk_42 (dk_at dksX6_init_1 17 rfl rfl)
theorem dX6_init_41 : decode cX6_init 41 = .ok (.bipush 120, 2) := dk_16 120 (dk_at dksX6_init_1 18 rfl rfl)
theorem dX6_init_43 : decode cX6_init 43 = .ok (.newarray .int, 2) := dk_188_10 (dk_at dksX6_init_1 20 rfl rfl)
theorem dX6_init_45 : decode cX6_init 45 = .ok (.putfield 22, 3) := dk_181 0 22 (dk_at dksX6_init_2 0 rfl rfl)
theorem dX6_init_48 : decode cX6_init 48 = .ok (.aload_n 0, 1) := dk_42 (dk_at dksX6_init_2 3 rfl rfl)
theorem dX6_init_49 : decode cX6_init 49 = .ok (.bipush 120, 2) := dk_16 120 (dk_at dksX6_init_2 4 rfl rfl)
theorem dX6_init_51 : decode cX6_init 51 = .ok (.newarray .boolean, 2) := dk_188_4 (dk_at dksX6_init_2 6 rfl rfl)
theorem dX6_init_53 : decode cX6_init 53 = .ok (.putfield 25, 3) := dk_181 0 25 (dk_at dksX6_init_2 8 rfl rfl)
theorem dX6_init_56 : decode cX6_init 56 = .ok (.aload_n 0, 1) := dk_42 (dk_at dksX6_init_2 11 rfl rfl)
theorem dX6_init_57 : decode cX6_init 57 = .ok (.bipush 120, 2) := dk_16 120 (dk_at dksX6_init_2 12 rfl rfl)
theorem dX6_init_59 : decode cX6_init 59 = .ok (.newarray .int, 2) := dk_188_10 (dk_at dksX6_init_2 14 rfl rfl)
theorem dX6_init_61 : decode cX6_init 61 = .ok (.putfield 29, 3) := dk_181 0 29 (dk_at dksX6_init_2 16 rfl rfl)
theorem dX6_init_64 : decode cX6_init 64 = .ok (.aload_n 0, 1) := dk_42 (dk_at dksX6_init_2 19 rfl rfl)
theorem dX6_init_65 : decode cX6_init 65 = .ok (.bipush 12, 2) := dk_16 12 (dk_at dksX6_init_2 20 rfl rfl)
theorem dX6_init_67 : decode cX6_init 67 = .ok (.newarray .int, 2) := dk_188_10 (dk_at dksX6_init_2 22 rfl rfl)
theorem dX6_init_69 : decode cX6_init 69 = .ok (.putfield 32, 3) := dk_181 0 32 (dk_at dksX6_init_3 0 rfl rfl)
theorem dX6_init_72 : decode cX6_init 72 = .ok (.aload_n 0, 1) := dk_42 (dk_at dksX6_init_3 3 rfl rfl)
theorem dX6_init_73 : decode cX6_init 73 = .ok (.bipush 60, 2) := dk_16 60 (dk_at dksX6_init_3 4 rfl rfl)
theorem dX6_init_75 : decode cX6_init 75 = .ok (.newarray .int, 2) := dk_188_10 (dk_at dksX6_init_3 6 rfl rfl)
theorem dX6_init_77 : decode cX6_init 77 = .ok (.putfield 35, 3) := dk_181 0 35 (dk_at dksX6_init_3 8 rfl rfl)
theorem dX6_init_80 : decode cX6_init 80 = .ok (.aload_n 0, 1) := dk_42 (dk_at dksX6_init_3 11 rfl rfl)
theorem dX6_init_81 : decode cX6_init 81 = .ok (.bipush 60, 2) := dk_16 60 (dk_at dksX6_init_3 12 rfl rfl)
theorem dX6_init_83 : decode cX6_init 83 = .ok (.newarray .int, 2) := dk_188_10 (dk_at dksX6_init_3 14 rfl rfl)
theorem dX6_init_85 : decode cX6_init 85 = .ok (.putfield 38, 3) := dk_181 0 38 (dk_at dksX6_init_3 16 rfl rfl)
theorem dX6_init_88 : decode cX6_init 88 = .ok (.aload_n 0, 1) := dk_42 (dk_at dksX6_init_3 19 rfl rfl)
theorem dX6_init_89 : decode cX6_init 89 = .ok (.bipush 60, 2) := dk_16 60 (dk_at dksX6_init_3 20 rfl rfl)
theorem dX6_init_91 : decode cX6_init 91 = .ok (.newarray .int, 2) := dk_188_10 (dk_at dksX6_init_3 22 rfl rfl)
theorem dX6_init_93 : decode cX6_init 93 = .ok (.putfield 41, 3) := dk_181 0 41 (dk_at dksX6_init_4 0 rfl rfl)
theorem dX6_init_96 : decode cX6_init 96 = .ok (.aload_n 0, 1) := dk_42 (dk_at dksX6_init_4 3 rfl rfl)
theorem dX6_init_97 : decode cX6_init 97 = .ok (.bipush 61, 2) := dk_16 61 (dk_at dksX6_init_4 4 rfl rfl)
theorem dX6_init_99 : decode cX6_init 99 = .ok (.newarray .int, 2) := dk_188_10 (dk_at dksX6_init_4 6 rfl rfl)
theorem dX6_init_101 : decode cX6_init 101 = .ok (.putfield 44, 3) := dk_181 0 44 (dk_at dksX6_init_4 8 rfl rfl)
theorem dX6_init_104 : decode cX6_init 104 = .ok (.aload_n 0, 1) := dk_42 (dk_at dksX6_init_4 11 rfl rfl)
theorem dX6_init_105 : decode cX6_init 105 = .ok (.sipush 800, 3) := dk_17 3 32 (dk_at dksX6_init_4 12 rfl rfl)
theorem dX6_init_108 : decode cX6_init 108 = .ok (.newarray .int, 2) := dk_188_10 (dk_at dksX6_init_4 15 rfl rfl)
theorem dX6_init_110 : decode cX6_init 110 = .ok (.putfield 47, 3) := dk_181 0 47 (dk_at dksX6_init_4 17 rfl rfl)
theorem dX6_init_113 : decode cX6_init 113 = .ok (.aload_n 0, 1) := dk_42 (dk_at dksX6_init_4 20 rfl rfl)
theorem dX6_init_114 : decode cX6_init 114 = .ok (.bipush 61, 2) := dk_16 61 (dk_at dksX6_init_4 21 rfl rfl)
theorem dX6_init_116 : decode cX6_init 116 = .ok (.newarray .int, 2) := dk_188_10 (dk_at dksX6_init_5 0 rfl rfl)
theorem dX6_init_118 : decode cX6_init 118 = .ok (.putfield 50, 3) := dk_181 0 50 (dk_at dksX6_init_5 2 rfl rfl)
theorem dX6_init_121 : decode cX6_init 121 = .ok (.aload_n 0, 1) := dk_42 (dk_at dksX6_init_5 5 rfl rfl)
theorem dX6_init_122 : decode cX6_init 122 = .ok (.sipush 2500, 3) := dk_17 9 196 (dk_at dksX6_init_5 6 rfl rfl)
theorem dX6_init_125 : decode cX6_init 125 = .ok (.newarray .int, 2) := dk_188_10 (dk_at dksX6_init_5 9 rfl rfl)
theorem dX6_init_127 : decode cX6_init 127 = .ok (.putfield 53, 3) := dk_181 0 53 (dk_at dksX6_init_5 11 rfl rfl)
theorem dX6_init_130 : decode cX6_init 130 = .ok (.aload_n 0, 1) := dk_42 (dk_at dksX6_init_5 14 rfl rfl)
theorem dX6_init_131 : decode cX6_init 131 = .ok (.bipush 61, 2) := dk_16 61 (dk_at dksX6_init_5 15 rfl rfl)
theorem dX6_init_133 : decode cX6_init 133 = .ok (.newarray .int, 2) := dk_188_10 (dk_at dksX6_init_5 17 rfl rfl)
theorem dX6_init_135 : decode cX6_init 135 = .ok (.putfield 56, 3) := dk_181 0 56 (dk_at dksX6_init_5 19 rfl rfl)
theorem dX6_init_138 : decode cX6_init 138 = .ok (.aload_n 0, 1) := dk_42 (dk_at dksX6_init_5 22 rfl rfl)
theorem dX6_init_139 : decode cX6_init 139 = .ok (.bipush 12, 2) := dk_16 12 (dk_at dksX6_init_6 0 rfl rfl)
theorem dX6_init_141 : decode cX6_init 141 = .ok (.newarray .int, 2) := dk_188_10 (dk_at dksX6_init_6 2 rfl rfl)
theorem dX6_init_143 : decode cX6_init 143 = .ok (.putfield 59, 3) := dk_181 0 59 (dk_at dksX6_init_6 4 rfl rfl)
theorem dX6_init_146 : decode cX6_init 146 = .ok (.aload_n 0, 1) := dk_42 (dk_at dksX6_init_6 7 rfl rfl)
theorem dX6_init_147 : decode cX6_init 147 = .ok (.bipush 30, 2) := dk_16 30 (dk_at dksX6_init_6 8 rfl rfl)
theorem dX6_init_149 : decode cX6_init 149 = .ok (.newarray .int, 2) := dk_188_10 (dk_at dksX6_init_6 10 rfl rfl)
theorem dX6_init_151 : decode cX6_init 151 = .ok (.putfield 62, 3) := dk_181 0 62 (dk_at dksX6_init_6 12 rfl rfl)
theorem dX6_init_154 : decode cX6_init 154 = .ok (.aload_n 0, 1) := dk_42 (dk_at dksX6_init_6 15 rfl rfl)
theorem dX6_init_155 : decode cX6_init 155 = .ok (.bipush 30, 2) := dk_16 30 (dk_at dksX6_init_6 16 rfl rfl)
theorem dX6_init_157 : decode cX6_init 157 = .ok (.newarray .int, 2) := dk_188_10 (dk_at dksX6_init_6 18 rfl rfl)
theorem dX6_init_159 : decode cX6_init 159 = .ok (.putfield 65, 3) := dk_181 0 65 (dk_at dksX6_init_6 20 rfl rfl)
theorem dX6_init_162 : decode cX6_init 162 = .ok (.aload_n 0, 1) := dk_42 (dk_at dksX6_init_6 23 rfl rfl)
theorem dX6_init_163 : decode cX6_init 163 = .ok (.bipush 30, 2) := dk_16 30 (dk_at dksX6_init_7 0 rfl rfl)
theorem dX6_init_165 : decode cX6_init 165 = .ok (.newarray .int, 2) := dk_188_10 (dk_at dksX6_init_7 2 rfl rfl)
theorem dX6_init_167 : decode cX6_init 167 = .ok (.putfield 68, 3) := dk_181 0 68 (dk_at dksX6_init_7 4 rfl rfl)
theorem dX6_init_170 : decode cX6_init 170 = .ok (.aload_n 0, 1) := dk_42 (dk_at dksX6_init_7 7 rfl rfl)
theorem dX6_init_171 : decode cX6_init 171 = .ok (.bipush 30, 2) := dk_16 30 (dk_at dksX6_init_7 8 rfl rfl)
theorem dX6_init_173 : decode cX6_init 173 = .ok (.newarray .int, 2) := dk_188_10 (dk_at dksX6_init_7 10 rfl rfl)
theorem dX6_init_175 : decode cX6_init 175 = .ok (.putfield 71, 3) := dk_181 0 71 (dk_at dksX6_init_7 12 rfl rfl)
theorem dX6_init_178 : decode cX6_init 178 = .ok (.aload_n 0, 1) := dk_42 (dk_at dksX6_init_7 15 rfl rfl)
theorem dX6_init_179 : decode cX6_init 179 = .ok (.sipush 360, 3) := dk_17 1 104 (dk_at dksX6_init_7 16 rfl rfl)
theorem dX6_init_182 : decode cX6_init 182 = .ok (.newarray .int, 2) := dk_188_10 (dk_at dksX6_init_7 19 rfl rfl)
theorem dX6_init_184 : decode cX6_init 184 = .ok (.putfield 74, 3) := dk_181 0 74 (dk_at dksX6_init_7 21 rfl rfl)
theorem dX6_init_187 : decode cX6_init 187 = .ok (.aload_n 0, 1) := dk_42 (dk_at dksX6_init_8 0 rfl rfl)
theorem dX6_init_188 : decode cX6_init 188 = .ok (.sipush 200, 3) := dk_17 0 200 (dk_at dksX6_init_8 1 rfl rfl)
theorem dX6_init_191 : decode cX6_init 191 = .ok (.newarray .int, 2) := dk_188_10 (dk_at dksX6_init_8 4 rfl rfl)
theorem dX6_init_193 : decode cX6_init 193 = .ok (.putfield 77, 3) := dk_181 0 77 (dk_at dksX6_init_8 6 rfl rfl)
theorem dX6_init_196 : decode cX6_init 196 = .ok (.aload_n 0, 1) := dk_42 (dk_at dksX6_init_8 9 rfl rfl)
theorem dX6_init_197 : decode cX6_init 197 = .ok (.sipush 168, 3) := dk_17 0 168 (dk_at dksX6_init_8 10 rfl rfl)
theorem dX6_init_200 : decode cX6_init 200 = .ok (.newarray .int, 2) := dk_188_10 (dk_at dksX6_init_8 13 rfl rfl)
theorem dX6_init_202 : decode cX6_init 202 = .ok (.putfield 80, 3) := dk_181 0 80 (dk_at dksX6_init_8 15 rfl rfl)
theorem dX6_init_205 : decode cX6_init 205 = .ok (.aload_n 0, 1) := dk_42 (dk_at dksX6_init_8 18 rfl rfl)
theorem dX6_init_206 : decode cX6_init 206 = .ok (.iconst 4, 1) := dk_7 (dk_at dksX6_init_8 19 rfl rfl)
theorem dX6_init_207 : decode cX6_init 207 = .ok (.newarray .int, 2) := dk_188_10 (dk_at dksX6_init_8 20 rfl rfl)
theorem dX6_init_209 : decode cX6_init 209 = .ok (.putfield 83, 3) := dk_181 0 83 (dk_at dksX6_init_9 0 rfl rfl)
theorem dX6_init_212 : decode cX6_init 212 = .ok (.aload_n 0, 1) := dk_42 (dk_at dksX6_init_9 3 rfl rfl)
theorem dX6_init_213 : decode cX6_init 213 = .ok (.ldc2_w 86, 3) := dk_20 0 86 (dk_at dksX6_init_9 4 rfl rfl)
theorem dX6_init_216 : decode cX6_init 216 = .ok (.ldc2_w 88, 3) := dk_20 0 88 (dk_at dksX6_init_9 7 rfl rfl)
theorem dX6_init_219 : decode cX6_init 219 = .ok (.invokevirtual 90, 3) := dk_182 0 90 (dk_at dksX6_init_9 10 rfl rfl)
theorem dX6_init_222 : decode cX6_init 222 = .ok (.aload_n 0, 1) := dk_42 (dk_at dksX6_init_9 13 rfl rfl)
theorem dX6_init_223 : decode cX6_init 223 = .ok (.ldc2_w 94, 3) := dk_20 0 94 (dk_at dksX6_init_9 14 rfl rfl)
theorem dX6_init_226 : decode cX6_init 226 = .ok (.ldc2_w 96, 3) := dk_20 0 96 (dk_at dksX6_init_9 17 rfl rfl)
theorem dX6_init_229 : decode cX6_init 229 = .ok (.invokevirtual 90, 3) := dk_182 0 90 (dk_at dksX6_init_9 20 rfl rfl)
theorem dX6_init_232 : decode cX6_init 232 = .ok (.aload_n 0, 1) := dk_42 (dk_at dksX6_init_9 23 rfl rfl)
theorem dX6_init_233 : decode cX6_init 233 = .ok (.ldc2_w 86, 3) := dk_20 0 86 (dk_at dksX6_init_10 0 rfl rfl)
theorem dX6_init_236 : decode cX6_init 236 = .ok (.ldc2_w 98, 3) := dk_20 0 98 (dk_at dksX6_init_10 3 rfl rfl)
theorem dX6_init_239 : decode cX6_init 239 = .ok (.invokevirtual 90, 3) := dk_182 0 90 (dk_at dksX6_init_10 6 rfl rfl)
theorem dX6_init_242 : decode cX6_init 242 = .ok (.aload_n 0, 1) := dk_42 (dk_at dksX6_init_10 9 rfl rfl)
theorem dX6_init_243 : decode cX6_init 243 = .ok (.ldc2_w 100, 3) := dk_20 0 100 (dk_at dksX6_init_10 10 rfl rfl)
theorem dX6_init_246 : decode cX6_init 246 = .ok (.ldc2_w 102, 3) := dk_20 0 102 (dk_at dksX6_init_10 13 rfl rfl)
theorem dX6_init_249 : decode cX6_init 249 = .ok (.invokevirtual 90, 3) := dk_182 0 90 (dk_at dksX6_init_10 16 rfl rfl)
theorem dX6_init_252 : decode cX6_init 252 = .ok (.aload_n 0, 1) := dk_42 (dk_at dksX6_init_10 19 rfl rfl)
theorem dX6_init_253 : decode cX6_init 253 = .ok (.ldc2_w 100, 3) := dk_20 0 100 (dk_at dksX6_init_10 20 rfl rfl)
theorem dX6_init_256 : decode cX6_init 256 = .ok (.ldc2_w 104, 3) := dk_20 0 104 (dk_at dksX6_init_11 0 rfl rfl)
theorem dX6_init_259 : decode cX6_init 259 = .ok (.invokevirtual 90, 3) := dk_182 0 90 (dk_at dksX6_init_11 3 rfl rfl)
theorem dX6_init_262 : decode cX6_init 262 = .ok (.aload_n 0, 1) := dk_42 (dk_at dksX6_init_11 6 rfl rfl)
theorem dX6_init_263 : decode cX6_init 263 = .ok (.ldc2_w 86, 3) := dk_20 0 86 (dk_at dksX6_init_11 7 rfl rfl)
theorem dX6_init_266 : decode cX6_init 266 = .ok (.ldc2_w 106, 3) := dk_20 0 106 (dk_at dksX6_init_11 10 rfl rfl)
theorem dX6_init_269 : decode cX6_init 269 = .ok (.invokevirtual 90, 3) := dk_182 0 90 (dk_at dksX6_init_11 13 rfl rfl)
theorem dX6_init_272 : decode cX6_init 272 = .ok (.aload_n 0, 1) := dk_42 (dk_at dksX6_init_11 16 rfl rfl)
theorem dX6_init_273 : decode cX6_init 273 = .ok (.ldc2_w 108, 3) := dk_20 0 108 (dk_at dksX6_init_11 17 rfl rfl)
theorem dX6_init_276 : decode cX6_init 276 = .ok (.ldc2_w 110, 3) := dk_20 0 110 (dk_at dksX6_init_11 20 rfl rfl)
theorem dX6_init_279 : decode cX6_init 279 = .ok (.invokevirtual 90, 3) := dk_182 0 90 (dk_at dksX6_init_12 0 rfl rfl)
theorem dX6_init_282 : decode cX6_init 282 = .ok (.aload_n 0, 1) := dk_42 (dk_at dksX6_init_12 3 rfl rfl)
theorem dX6_init_283 : decode cX6_init 283 = .ok (.ldc2_w 112, 3) := dk_20 0 112 (dk_at dksX6_init_12 4 rfl rfl)
theorem dX6_init_286 : decode cX6_init 286 = .ok (.ldc2_w 114, 3) := dk_20 0 114 (dk_at dksX6_init_12 7 rfl rfl)
theorem dX6_init_289 : decode cX6_init 289 = .ok (.invokevirtual 90, 3) := dk_182 0 90 (dk_at dksX6_init_12 10 rfl rfl)
theorem dX6_init_292 : decode cX6_init 292 = .ok (.aload_n 0, 1) := dk_42 (dk_at dksX6_init_12 13 rfl rfl)
theorem dX6_init_293 : decode cX6_init 293 = .ok (.ldc2_w 116, 3) := dk_20 0 116 (dk_at dksX6_init_12 14 rfl rfl)
theorem dX6_init_296 : decode cX6_init 296 = .ok (.ldc2_w 118, 3) := dk_20 0 118 (dk_at dksX6_init_12 17 rfl rfl)
theorem dX6_init_299 : decode cX6_init 299 = .ok (.invokevirtual 90, 3) := dk_182 0 90 (dk_at dksX6_init_12 20 rfl rfl)
theorem dX6_init_302 : decode cX6_init 302 = .ok (.aload_n 0, 1) := dk_42 (dk_at dksX6_init_12 23 rfl rfl)
theorem dX6_init_303 : decode cX6_init 303 = .ok (.ldc2_w 120, 3) := dk_20 0 120 (dk_at dksX6_init_13 0 rfl rfl)
theorem dX6_init_306 : decode cX6_init 306 = .ok (.ldc2_w 122, 3) := dk_20 0 122 (dk_at dksX6_init_13 3 rfl rfl)
theorem dX6_init_309 : decode cX6_init 309 = .ok (.invokevirtual 90, 3) := dk_182 0 90 (dk_at dksX6_init_13 6 rfl rfl)
theorem dX6_init_312 : decode cX6_init 312 = .ok (.aload_n 0, 1) := dk_42 (dk_at dksX6_init_13 9 rfl rfl)
theorem dX6_init_313 : decode cX6_init 313 = .ok (.ldc2_w 124, 3) := dk_20 0 124 (dk_at dksX6_init_13 10 rfl rfl)
theorem dX6_init_316 : decode cX6_init 316 = .ok (.ldc2_w 126, 3) := dk_20 0 126 (dk_at dksX6_init_13 13 rfl rfl)
theorem dX6_init_319 : decode cX6_init 319 = .ok (.invokevirtual 90, 3) := dk_182 0 90 (dk_at dksX6_init_13 16 rfl rfl)
theorem dX6_init_322 : decode cX6_init 322 = .ok (.aload_n 0, 1) := dk_42 (dk_at dksX6_init_13 19 rfl rfl)
theorem dX6_init_323 : decode cX6_init 323 = .ok (.ldc2_w 120, 3) := dk_20 0 120 (dk_at dksX6_init_13 20 rfl rfl)
theorem dX6_init_326 : decode cX6_init 326 = .ok (.ldc2_w 128, 3) := dk_20 0 128 (dk_at dksX6_init_14 0 rfl rfl)
theorem dX6_init_329 : decode cX6_init 329 = .ok (.invokevirtual 90, 3) := dk_182 0 90 (dk_at dksX6_init_14 3 rfl rfl)
theorem dX6_init_332 : decode cX6_init 332 = .ok (.aload_n 0, 1) := dk_42 (dk_at dksX6_init_14 6 rfl rfl)
theorem dX6_init_333 : decode cX6_init 333 = .ok (.ldc2_w 130, 3) := dk_20 0 130 (dk_at dksX6_init_14 7 rfl rfl)
theorem dX6_init_336 : decode cX6_init 336 = .ok (.ldc2_w 132, 3) := dk_20 0 132 (dk_at dksX6_init_14 10 rfl rfl)
theorem dX6_init_339 : decode cX6_init 339 = .ok (.invokevirtual 90, 3) := dk_182 0 90 (dk_at dksX6_init_14 13 rfl rfl)
theorem dX6_init_342 : decode cX6_init 342 = .ok (.aload_n 0, 1) := dk_42 (dk_at dksX6_init_14 16 rfl rfl)
theorem dX6_init_343 : decode cX6_init 343 = .ok (.ldc2_w 86, 3) := dk_20 0 86 (dk_at dksX6_init_14 17 rfl rfl)
theorem dX6_init_346 : decode cX6_init 346 = .ok (.ldc2_w 134, 3) := dk_20 0 134 (dk_at dksX6_init_14 20 rfl rfl)
theorem dX6_init_349 : decode cX6_init 349 = .ok (.invokevirtual 90, 3) := dk_182 0 90 (dk_at dksX6_init_15 0 rfl rfl)
theorem dX6_init_352 : decode cX6_init 352 = .ok (.aload_n 0, 1) := dk_42 (dk_at dksX6_init_15 3 rfl rfl)
theorem dX6_init_353 : decode cX6_init 353 = .ok (.ldc2_w 120, 3) := dk_20 0 120 (dk_at dksX6_init_15 4 rfl rfl)
theorem dX6_init_356 : decode cX6_init 356 = .ok (.ldc2_w 136, 3) := dk_20 0 136 (dk_at dksX6_init_15 7 rfl rfl)
theorem dX6_init_359 : decode cX6_init 359 = .ok (.invokevirtual 90, 3) := dk_182 0 90 (dk_at dksX6_init_15 10 rfl rfl)
theorem dX6_init_362 : decode cX6_init 362 = .ok (.aload_n 0, 1) := dk_42 (dk_at dksX6_init_15 13 rfl rfl)
theorem dX6_init_363 : decode cX6_init 363 = .ok (.ldc2_w 108, 3) := dk_20 0 108 (dk_at dksX6_init_15 14 rfl rfl)
theorem dX6_init_366 : decode cX6_init 366 = .ok (.ldc2_w 138, 3) := dk_20 0 138 (dk_at dksX6_init_15 17 rfl rfl)
theorem dX6_init_369 : decode cX6_init 369 = .ok (.invokevirtual 90, 3) := dk_182 0 90 (dk_at dksX6_init_15 20 rfl rfl)
theorem dX6_init_372 : decode cX6_init 372 = .ok (.aload_n 0, 1) := dk_42 (dk_at dksX6_init_15 23 rfl rfl)
theorem dX6_init_373 : decode cX6_init 373 = .ok (.ldc2_w 100, 3) := dk_20 0 100 (dk_at dksX6_init_16 0 rfl rfl)
theorem dX6_init_376 : decode cX6_init 376 = .ok (.ldc2_w 140, 3) := dk_20 0 140 (dk_at dksX6_init_16 3 rfl rfl)
theorem dX6_init_379 : decode cX6_init 379 = .ok (.invokevirtual 90, 3) := dk_182 0 90 (dk_at dksX6_init_16 6 rfl rfl)
theorem dX6_init_382 : decode cX6_init 382 = .ok (.aload_n 0, 1) := dk_42 (dk_at dksX6_init_16 9 rfl rfl)
theorem dX6_init_383 : decode cX6_init 383 = .ok (.ldc2_w 130, 3) := dk_20 0 130 (dk_at dksX6_init_16 10 rfl rfl)
theorem dX6_init_386 : decode cX6_init 386 = .ok (.ldc2_w 142, 3) := dk_20 0 142 (dk_at dksX6_init_16 13 rfl rfl)
theorem dX6_init_389 : decode cX6_init 389 = .ok (.invokevirtual 90, 3) := dk_182 0 90 (dk_at dksX6_init_16 16 rfl rfl)
theorem dX6_init_392 : decode cX6_init 392 = .ok (.aload_n 0, 1) := dk_42 (dk_at dksX6_init_16 19 rfl rfl)
theorem dX6_init_393 : decode cX6_init 393 = .ok (.invokevirtual 144, 3) := dk_182 0 144 (dk_at dksX6_init_16 20 rfl rfl)
theorem dX6_init_396 : decode cX6_init 396 = .ok (.return_, 1) := dk_177 (dk_at dksX6_init_16 23 rfl rfl)
abbrev cX6_command : ByteArray := prog_10_method_2_code
def yX6_command : MethodName := ⟨RX6, "command", "(JJ)V"⟩
def dkwX6_command_3 : List UInt8 := [181, 0, 147, 177]
abbrev dktX6_command_3 : List UInt8 := dkwX6_command_3 ++ []
def dkwX6_command_2 : List UInt8 := [20, 0, 151, 127, 136, 16, 96, 96, 79, 132, 5, 1, 167, 255, 210, 42, 89, 180, 0, 147, 4, 96]
abbrev dktX6_command_2 : List UInt8 := dkwX6_command_2 ++ dktX6_command_3
def dkwX6_command_1 : List UInt8 := [46, 162, 0, 38, 42, 180, 0, 19, 16, 11, 42, 180, 0, 147, 104, 21, 5, 96, 33, 8, 21, 5, 104, 123]
abbrev dktX6_command_1 : List UInt8 := dkwX6_command_1 ++ dktX6_command_2
def dkwX6_command_0 : List UInt8 := [42, 180, 0, 22, 42, 180, 0, 147, 31, 136, 79, 3, 54, 5, 21, 5, 42, 180, 0, 22, 42, 180, 0, 147]
abbrev dktX6_command_0 : List UInt8 := dkwX6_command_0 ++ dktX6_command_1
theorem dksX6_command_0 : cX6_command.data.toList.drop 0 = dktX6_command_0 := by decide +kernel
theorem dksX6_command_1 : cX6_command.data.toList.drop 24 = dktX6_command_1 := dk_seg dksX6_command_0 24 rfl rfl
theorem dksX6_command_2 : cX6_command.data.toList.drop 48 = dktX6_command_2 := dk_seg dksX6_command_1 24 rfl rfl
theorem dksX6_command_3 : cX6_command.data.toList.drop 70 = dktX6_command_3 := dk_seg dksX6_command_2 22 rfl rfl
theorem dX6_command_0 : decode cX6_command 0 = .ok (.aload_n 0, 1) := dk_42 (dk_at dksX6_command_0 0 rfl rfl)
theorem dX6_command_1 : decode cX6_command 1 = .ok (.getfield 22, 3) := dk_180 0 22 (dk_at dksX6_command_0 1 rfl rfl)
theorem dX6_command_4 : decode cX6_command 4 = .ok (.aload_n 0, 1) := dk_42 (dk_at dksX6_command_0 4 rfl rfl)
theorem dX6_command_5 : decode cX6_command 5 = .ok (.getfield 147, 3) := dk_180 0 147 (dk_at dksX6_command_0 5 rfl rfl)
theorem dX6_command_8 : decode cX6_command 8 = .ok (.lload_n 1, 1) := dk_31 (dk_at dksX6_command_0 8 rfl rfl)
theorem dX6_command_9 : decode cX6_command 9 = .ok (.l2i, 1) := dk_136 (dk_at dksX6_command_0 9 rfl rfl)
theorem dX6_command_10 : decode cX6_command 10 = .ok (.iastore, 1) := dk_79 (dk_at dksX6_command_0 10 rfl rfl)
theorem dX6_command_11 : decode cX6_command 11 = .ok (.iconst 0, 1) := dk_3 (dk_at dksX6_command_0 11 rfl rfl)
theorem dX6_command_12 : decode cX6_command 12 = .ok (.istore 5, 2) := dk_54 5 (dk_at dksX6_command_0 12 rfl rfl)
theorem dX6_command_14 : decode cX6_command 14 = .ok (.iload 5, 2) := dk_21 5 (dk_at dksX6_command_0 14 rfl rfl)
theorem dX6_command_16 : decode cX6_command 16 = .ok (.aload_n 0, 1) := dk_42 (dk_at dksX6_command_0 16 rfl rfl)
theorem dX6_command_17 : decode cX6_command 17 = .ok (.getfield 22, 3) := dk_180 0 22 (dk_at dksX6_command_0 17 rfl rfl)
theorem dX6_command_20 : decode cX6_command 20 = .ok (.aload_n 0, 1) := dk_42 (dk_at dksX6_command_0 20 rfl rfl)
theorem dX6_command_21 : decode cX6_command 21 = .ok (.getfield 147, 3) := dk_180 0 147 (dk_at dksX6_command_0 21 rfl rfl)
theorem dX6_command_24 : decode cX6_command 24 = .ok (.iaload, 1) := dk_46 (dk_at dksX6_command_1 0 rfl rfl)
theorem dX6_command_25 : decode cX6_command 25 = .ok (.if_icmp .ge 38, 3) := dk_162 0 38 (dk_at dksX6_command_1 1 rfl rfl)
theorem dX6_command_28 : decode cX6_command 28 = .ok (.aload_n 0, 1) := dk_42 (dk_at dksX6_command_1 4 rfl rfl)
theorem dX6_command_29 : decode cX6_command 29 = .ok (.getfield 19, 3) := dk_180 0 19 (dk_at dksX6_command_1 5 rfl rfl)
theorem dX6_command_32 : decode cX6_command 32 = .ok (.bipush 11, 2) := dk_16 11 (dk_at dksX6_command_1 8 rfl rfl)
theorem dX6_command_34 : decode cX6_command 34 = .ok (.aload_n 0, 1) := dk_42 (dk_at dksX6_command_1 10 rfl rfl)
theorem dX6_command_35 : decode cX6_command 35 = .ok (.getfield 147, 3) := dk_180 0 147 (dk_at dksX6_command_1 11 rfl rfl)
theorem dX6_command_38 : decode cX6_command 38 = .ok (.imul, 1) := dk_104 (dk_at dksX6_command_1 14 rfl rfl)
theorem dX6_command_39 : decode cX6_command 39 = .ok (.iload 5, 2) := dk_21 5 (dk_at dksX6_command_1 15 rfl rfl)
theorem dX6_command_41 : decode cX6_command 41 = .ok (.iadd, 1) := dk_96 (dk_at dksX6_command_1 17 rfl rfl)
theorem dX6_command_42 : decode cX6_command 42 = .ok (.lload_n 3, 1) := dk_33 (dk_at dksX6_command_1 18 rfl rfl)
theorem dX6_command_43 : decode cX6_command 43 = .ok (.iconst 5, 1) := dk_8 (dk_at dksX6_command_1 19 rfl rfl)
theorem dX6_command_44 : decode cX6_command 44 = .ok (.iload 5, 2) := dk_21 5 (dk_at dksX6_command_1 20 rfl rfl)
theorem dX6_command_46 : decode cX6_command 46 = .ok (.imul, 1) := dk_104 (dk_at dksX6_command_1 22 rfl rfl)
theorem dX6_command_47 : decode cX6_command 47 = .ok (.lshr, 1) := dk_123 (dk_at dksX6_command_1 23 rfl rfl)
theorem dX6_command_48 : decode cX6_command 48 = .ok (.ldc2_w 151, 3) := dk_20 0 151 (dk_at dksX6_command_2 0 rfl rfl)
theorem dX6_command_51 : decode cX6_command 51 = .ok (.land, 1) := dk_127 (dk_at dksX6_command_2 3 rfl rfl)
theorem dX6_command_52 : decode cX6_command 52 = .ok (.l2i, 1) := dk_136 (dk_at dksX6_command_2 4 rfl rfl)
theorem dX6_command_53 : decode cX6_command 53 = .ok (.bipush 96, 2) := dk_16 96 (dk_at dksX6_command_2 5 rfl rfl)
theorem dX6_command_55 : decode cX6_command 55 = .ok (.iadd, 1) := dk_96 (dk_at dksX6_command_2 7 rfl rfl)
theorem dX6_command_56 : decode cX6_command 56 = .ok (.iastore, 1) := dk_79 (dk_at dksX6_command_2 8 rfl rfl)
theorem dX6_command_57 : decode cX6_command 57 = .ok (.iinc 5 1, 3) := dk_132 5 1 (dk_at dksX6_command_2 9 rfl rfl)
theorem dX6_command_60 : decode cX6_command 60 = .ok (.goto (-46), 3) := dk_167 255 210 (dk_at dksX6_command_2 12 rfl rfl)
theorem dX6_command_63 : decode cX6_command 63 = .ok (.aload_n 0, 1) := dk_42 (dk_at dksX6_command_2 15 rfl rfl)
theorem dX6_command_64 : decode cX6_command 64 = .ok (.dup, 1) := dk_89 (dk_at dksX6_command_2 16 rfl rfl)
theorem dX6_command_65 : decode cX6_command 65 = .ok (.getfield 147, 3) := dk_180 0 147 (dk_at dksX6_command_2 17 rfl rfl)
theorem dX6_command_68 : decode cX6_command 68 = .ok (.iconst 1, 1) := dk_4 (dk_at dksX6_command_2 20 rfl rfl)
theorem dX6_command_69 : decode cX6_command 69 = .ok (.iadd, 1) := dk_96 (dk_at dksX6_command_2 21 rfl rfl)
theorem dX6_command_70 : decode cX6_command 70 = .ok (.putfield 147, 3) := dk_181 0 147 (dk_at dksX6_command_3 0 rfl rfl)
theorem dX6_command_73 : decode cX6_command 73 = .ok (.return_, 1) := dk_177 (dk_at dksX6_command_3 3 rfl rfl)
abbrev cX6_start : ByteArray := prog_10_method_3_code
def yX6_start : MethodName := ⟨RX6, "start", "()V"⟩
def dkwX6_start_10 : List UInt8 := [16, 126, 16, 13, 79, 42, 180, 0, 13, 16, 37, 16, 14, 79, 177]
abbrev dktX6_start_10 : List UInt8 := dkwX6_start_10 ++ []
def dkwX6_start_9 : List UInt8 := [79, 42, 180, 0, 13, 16, 95, 16, 8, 79, 42, 180, 0, 13, 16, 32, 16, 10, 79, 42, 180, 0, 13]
abbrev dktX6_start_9 : List UInt8 := dkwX6_start_9 ++ dktX6_start_10
def dkwX6_start_8 : List UInt8 := [180, 0, 13, 16, 10, 8, 79, 42, 180, 0, 13, 16, 35, 16, 6, 79, 42, 180, 0, 13, 16, 94, 16, 7]
abbrev dktX6_start_8 : List UInt8 := dkwX6_start_8 ++ dktX6_start_9
def dkwX6_start_7 : List UInt8 := [180, 0, 13, 16, 125, 5, 79, 42, 180, 0, 13, 16, 36, 6, 79, 42, 180, 0, 13, 16, 38, 7, 79, 42]
abbrev dktX6_start_7 : List UInt8 := dkwX6_start_7 ++ dktX6_start_8
def dkwX6_start_6 : List UInt8 := [132, 1, 1, 167, 255, 209, 42, 180, 0, 13, 16, 92, 3, 79, 42, 180, 0, 13, 16, 123, 4, 79, 42]
abbrev dktX6_start_6 : List UInt8 := dkwX6_start_6 ++ dktX6_start_7
def dkwX6_start_5 : List UInt8 := [164, 0, 15, 27, 16, 65, 161, 0, 14, 27, 16, 90, 163, 0, 8, 16, 11, 167, 0, 5, 16, 12, 79]
abbrev dktX6_start_5 : List UInt8 := dkwX6_start_5 ++ dktX6_start_6
def dkwX6_start_4 : List UInt8 := [3, 60, 27, 17, 0, 128, 162, 0, 46, 42, 180, 0, 13, 27, 27, 16, 97, 161, 0, 9, 27, 16, 122]
abbrev dktX6_start_4 : List UInt8 := dkwX6_start_4 ++ dktX6_start_5
def dkwX6_start_3 : List UInt8 := [180, 0, 29, 27, 27, 16, 18, 162, 0, 9, 27, 4, 96, 167, 0, 4, 3, 79, 132, 1, 1, 167, 255, 228]
abbrev dktX6_start_3 : List UInt8 := dkwX6_start_3 ++ dktX6_start_4
def dkwX6_start_2 : List UInt8 := [3, 181, 0, 180, 42, 3, 181, 0, 183, 42, 16, 18, 181, 0, 147, 3, 60, 27, 16, 120, 162, 0, 28, 42]
abbrev dktX6_start_2 : List UInt8 := dkwX6_start_2 ++ dktX6_start_3
def dkwX6_start_1 : List UInt8 := [181, 0, 165, 42, 3, 181, 0, 168, 42, 3, 181, 0, 171, 42, 3, 181, 0, 174, 42, 3, 181, 0, 177, 42]
abbrev dktX6_start_1 : List UInt8 := dkwX6_start_1 ++ dktX6_start_2
def dkwX6_start_0 : List UInt8 := [42, 3, 181, 0, 153, 42, 3, 181, 0, 156, 42, 3, 181, 0, 159, 42, 3, 181, 0, 162, 42, 3]
abbrev dktX6_start_0 : List UInt8 := dkwX6_start_0 ++ dktX6_start_1
theorem dksX6_start_0 : cX6_start.data.toList.drop 0 = dktX6_start_0 := by decide +kernel
theorem dksX6_start_1 : cX6_start.data.toList.drop 22 = dktX6_start_1 := dk_seg dksX6_start_0 22 rfl rfl
theorem dksX6_start_2 : cX6_start.data.toList.drop 46 = dktX6_start_2 := dk_seg dksX6_start_1 24 rfl rfl
theorem dksX6_start_3 : cX6_start.data.toList.drop 70 = dktX6_start_3 := dk_seg dksX6_start_2 24 rfl rfl
theorem dksX6_start_4 : cX6_start.data.toList.drop 94 = dktX6_start_4 := dk_seg dksX6_start_3 24 rfl rfl
theorem dksX6_start_5 : cX6_start.data.toList.drop 117 = dktX6_start_5 := dk_seg dksX6_start_4 23 rfl rfl
theorem dksX6_start_6 : cX6_start.data.toList.drop 140 = dktX6_start_6 := dk_seg dksX6_start_5 23 rfl rfl
theorem dksX6_start_7 : cX6_start.data.toList.drop 163 = dktX6_start_7 := dk_seg dksX6_start_6 23 rfl rfl
theorem dksX6_start_8 : cX6_start.data.toList.drop 187 = dktX6_start_8 := dk_seg dksX6_start_7 24 rfl rfl
theorem dksX6_start_9 : cX6_start.data.toList.drop 211 = dktX6_start_9 := dk_seg dksX6_start_8 24 rfl rfl
theorem dksX6_start_10 : cX6_start.data.toList.drop 234 = dktX6_start_10 := dk_seg dksX6_start_9 23 rfl rfl
theorem dX6_start_0 : decode cX6_start 0 = .ok (.aload_n 0, 1) := dk_42 (dk_at dksX6_start_0 0 rfl rfl)
theorem dX6_start_1 : decode cX6_start 1 = .ok (.iconst 0, 1) := dk_3 (dk_at dksX6_start_0 1 rfl rfl)
theorem dX6_start_2 : decode cX6_start 2 = .ok (.putfield 153, 3) := dk_181 0 153 (dk_at dksX6_start_0 2 rfl rfl)
theorem dX6_start_5 : decode cX6_start 5 = .ok (.aload_n 0, 1) := dk_42 (dk_at dksX6_start_0 5 rfl rfl)
theorem dX6_start_6 : decode cX6_start 6 = .ok (.iconst 0, 1) := dk_3 (dk_at dksX6_start_0 6 rfl rfl)
theorem dX6_start_7 : decode cX6_start 7 = .ok (.putfield 156, 3) := dk_181 0 156 (dk_at dksX6_start_0 7 rfl rfl)
theorem dX6_start_10 : decode cX6_start 10 = .ok (.aload_n 0, 1) := dk_42 (dk_at dksX6_start_0 10 rfl rfl)
theorem dX6_start_11 : decode cX6_start 11 = .ok (.iconst 0, 1) := dk_3 (dk_at dksX6_start_0 11 rfl rfl)
theorem dX6_start_12 : decode cX6_start 12 = .ok (.putfield 159, 3) := dk_181 0 159 (dk_at dksX6_start_0 12 rfl rfl)
theorem dX6_start_15 : decode cX6_start 15 = .ok (.aload_n 0, 1) := dk_42 (dk_at dksX6_start_0 15 rfl rfl)
theorem dX6_start_16 : decode cX6_start 16 = .ok (.iconst 0, 1) := dk_3 (dk_at dksX6_start_0 16 rfl rfl)
theorem dX6_start_17 : decode cX6_start 17 = .ok (.putfield 162, 3) := dk_181 0 162 (dk_at dksX6_start_0 17 rfl rfl)
theorem dX6_start_20 : decode cX6_start 20 = .ok (.aload_n 0, 1) := dk_42 (dk_at dksX6_start_0 20 rfl rfl)
theorem dX6_start_21 : decode cX6_start 21 = .ok (.iconst 0, 1) := dk_3 (dk_at dksX6_start_0 21 rfl rfl)
theorem dX6_start_22 : decode cX6_start 22 = .ok (.putfield 165, 3) := dk_181 0 165 (dk_at dksX6_start_1 0 rfl rfl)
theorem dX6_start_25 : decode cX6_start 25 = .ok (.aload_n 0, 1) := dk_42 (dk_at dksX6_start_1 3 rfl rfl)
theorem dX6_start_26 : decode cX6_start 26 = .ok (.iconst 0, 1) := dk_3 (dk_at dksX6_start_1 4 rfl rfl)
theorem dX6_start_27 : decode cX6_start 27 = .ok (.putfield 168, 3) := dk_181 0 168 (dk_at dksX6_start_1 5 rfl rfl)
theorem dX6_start_30 : decode cX6_start 30 = .ok (.aload_n 0, 1) := dk_42 (dk_at dksX6_start_1 8 rfl rfl)
theorem dX6_start_31 : decode cX6_start 31 = .ok (.iconst 0, 1) := dk_3 (dk_at dksX6_start_1 9 rfl rfl)
theorem dX6_start_32 : decode cX6_start 32 = .ok (.putfield 171, 3) := dk_181 0 171 (dk_at dksX6_start_1 10 rfl rfl)
theorem dX6_start_35 : decode cX6_start 35 = .ok (.aload_n 0, 1) := dk_42 (dk_at dksX6_start_1 13 rfl rfl)
theorem dX6_start_36 : decode cX6_start 36 = .ok (.iconst 0, 1) := dk_3 (dk_at dksX6_start_1 14 rfl rfl)
theorem dX6_start_37 : decode cX6_start 37 = .ok (.putfield 174, 3) := dk_181 0 174 (dk_at dksX6_start_1 15 rfl rfl)
theorem dX6_start_40 : decode cX6_start 40 = .ok (.aload_n 0, 1) := dk_42 (dk_at dksX6_start_1 18 rfl rfl)
theorem dX6_start_41 : decode cX6_start 41 = .ok (.iconst 0, 1) := dk_3 (dk_at dksX6_start_1 19 rfl rfl)
theorem dX6_start_42 : decode cX6_start 42 = .ok (.putfield 177, 3) := dk_181 0 177 (dk_at dksX6_start_1 20 rfl rfl)
theorem dX6_start_45 : decode cX6_start 45 = .ok (.aload_n 0, 1) := dk_42 (dk_at dksX6_start_1 23 rfl rfl)
theorem dX6_start_46 : decode cX6_start 46 = .ok (.iconst 0, 1) := dk_3 (dk_at dksX6_start_2 0 rfl rfl)
theorem dX6_start_47 : decode cX6_start 47 = .ok (.putfield 180, 3) := dk_181 0 180 (dk_at dksX6_start_2 1 rfl rfl)
theorem dX6_start_50 : decode cX6_start 50 = .ok (.aload_n 0, 1) := dk_42 (dk_at dksX6_start_2 4 rfl rfl)
theorem dX6_start_51 : decode cX6_start 51 = .ok (.iconst 0, 1) := dk_3 (dk_at dksX6_start_2 5 rfl rfl)
theorem dX6_start_52 : decode cX6_start 52 = .ok (.putfield 183, 3) := dk_181 0 183 (dk_at dksX6_start_2 6 rfl rfl)
theorem dX6_start_55 : decode cX6_start 55 = .ok (.aload_n 0, 1) := dk_42 (dk_at dksX6_start_2 9 rfl rfl)
theorem dX6_start_56 : decode cX6_start 56 = .ok (.bipush 18, 2) := dk_16 18 (dk_at dksX6_start_2 10 rfl rfl)
theorem dX6_start_58 : decode cX6_start 58 = .ok (.putfield 147, 3) := dk_181 0 147 (dk_at dksX6_start_2 12 rfl rfl)
theorem dX6_start_61 : decode cX6_start 61 = .ok (.iconst 0, 1) := dk_3 (dk_at dksX6_start_2 15 rfl rfl)
theorem dX6_start_62 : decode cX6_start 62 = .ok (.istore_n 1, 1) := dk_60 (dk_at dksX6_start_2 16 rfl rfl)
theorem dX6_start_63 : decode cX6_start 63 = .ok (.iload_n 1, 1) := dk_27 (dk_at dksX6_start_2 17 rfl rfl)
theorem dX6_start_64 : decode cX6_start 64 = .ok (.bipush 120, 2) := dk_16 120 (dk_at dksX6_start_2 18 rfl rfl)
theorem dX6_start_66 : decode cX6_start 66 = .ok (.if_icmp .ge 28, 3) := dk_162 0 28 (dk_at dksX6_start_2 20 rfl rfl)
theorem dX6_start_69 : decode cX6_start 69 = .ok (.aload_n 0, 1) := dk_42 (dk_at dksX6_start_2 23 rfl rfl)
theorem dX6_start_70 : decode cX6_start 70 = .ok (.getfield 29, 3) := dk_180 0 29 (dk_at dksX6_start_3 0 rfl rfl)
theorem dX6_start_73 : decode cX6_start 73 = .ok (.iload_n 1, 1) := dk_27 (dk_at dksX6_start_3 3 rfl rfl)
theorem dX6_start_74 : decode cX6_start 74 = .ok (.iload_n 1, 1) := dk_27 (dk_at dksX6_start_3 4 rfl rfl)
theorem dX6_start_75 : decode cX6_start 75 = .ok (.bipush 18, 2) := dk_16 18 (dk_at dksX6_start_3 5 rfl rfl)
theorem dX6_start_77 : decode cX6_start 77 = .ok (.if_icmp .ge 9, 3) := dk_162 0 9 (dk_at dksX6_start_3 7 rfl rfl)
theorem dX6_start_80 : decode cX6_start 80 = .ok (.iload_n 1, 1) := dk_27 (dk_at dksX6_start_3 10 rfl rfl)
theorem dX6_start_81 : decode cX6_start 81 = .ok (.iconst 1, 1) := dk_4 (dk_at dksX6_start_3 11 rfl rfl)
theorem dX6_start_82 : decode cX6_start 82 = .ok (.iadd, 1) := dk_96 (dk_at dksX6_start_3 12 rfl rfl)
theorem dX6_start_83 : decode cX6_start 83 = .ok (.goto 4, 3) := dk_167 0 4 (dk_at dksX6_start_3 13 rfl rfl)
theorem dX6_start_86 : decode cX6_start 86 = .ok (.iconst 0, 1) := dk_3 (dk_at dksX6_start_3 16 rfl rfl)
theorem dX6_start_87 : decode cX6_start 87 = .ok (.iastore, 1) := dk_79 (dk_at dksX6_start_3 17 rfl rfl)
theorem dX6_start_88 : decode cX6_start 88 = .ok (.iinc 1 1, 3) := dk_132 1 1 (dk_at dksX6_start_3 18 rfl rfl)
theorem dX6_start_91 : decode cX6_start 91 = .ok (.goto (-28), 3) := dk_167 255 228 (dk_at dksX6_start_3 21 rfl rfl)
theorem dX6_start_94 : decode cX6_start 94 = .ok (.iconst 0, 1) := dk_3 (dk_at dksX6_start_4 0 rfl rfl)
theorem dX6_start_95 : decode cX6_start 95 = .ok (.istore_n 1, 1) := dk_60 (dk_at dksX6_start_4 1 rfl rfl)
theorem dX6_start_96 : decode cX6_start 96 = .ok (.iload_n 1, 1) := dk_27 (dk_at dksX6_start_4 2 rfl rfl)
theorem dX6_start_97 : decode cX6_start 97 = .ok (.sipush 128, 3) := dk_17 0 128 (dk_at dksX6_start_4 3 rfl rfl)
theorem dX6_start_100 : decode cX6_start 100 = .ok (.if_icmp .ge 46, 3) := dk_162 0 46 (dk_at dksX6_start_4 6 rfl rfl)
theorem dX6_start_103 : decode cX6_start 103 = .ok (.aload_n 0, 1) := dk_42 (dk_at dksX6_start_4 9 rfl rfl)
theorem dX6_start_104 : decode cX6_start 104 = .ok (.getfield 13, 3) := dk_180 0 13 (dk_at dksX6_start_4 10 rfl rfl)
theorem dX6_start_107 : decode cX6_start 107 = .ok (.iload_n 1, 1) := dk_27 (dk_at dksX6_start_4 13 rfl rfl)
theorem dX6_start_108 : decode cX6_start 108 = .ok (.iload_n 1, 1) := dk_27 (dk_at dksX6_start_4 14 rfl rfl)
theorem dX6_start_109 : decode cX6_start 109 = .ok (.bipush 97, 2) := dk_16 97 (dk_at dksX6_start_4 15 rfl rfl)
theorem dX6_start_111 : decode cX6_start 111 = .ok (.if_icmp .lt 9, 3) := dk_161 0 9 (dk_at dksX6_start_4 17 rfl rfl)
theorem dX6_start_114 : decode cX6_start 114 = .ok (.iload_n 1, 1) := dk_27 (dk_at dksX6_start_4 20 rfl rfl)
theorem dX6_start_115 : decode cX6_start 115 = .ok (.bipush 122, 2) := dk_16 122 (dk_at dksX6_start_4 21 rfl rfl)
theorem dX6_start_117 : decode cX6_start 117 = .ok (.if_icmp .le 15, 3) := dk_164 0 15 (dk_at dksX6_start_5 0 rfl rfl)
theorem dX6_start_120 : decode cX6_start 120 = .ok (.iload_n 1, 1) := dk_27 (dk_at dksX6_start_5 3 rfl rfl)
theorem dX6_start_121 : decode cX6_start 121 = .ok (.bipush 65, 2) := dk_16 65 (dk_at dksX6_start_5 4 rfl rfl)
theorem dX6_start_123 : decode cX6_start 123 = .ok (.if_icmp .lt 14, 3) := dk_161 0 14 (dk_at dksX6_start_5 6 rfl rfl)
theorem dX6_start_126 : decode cX6_start 126 = .ok (.iload_n 1, 1) := dk_27 (dk_at dksX6_start_5 9 rfl rfl)
theorem dX6_start_127 : decode cX6_start 127 = .ok (.bipush 90, 2) := dk_16 90 (dk_at dksX6_start_5 10 rfl rfl)
theorem dX6_start_129 : decode cX6_start 129 = .ok (.if_icmp .gt 8, 3) := dk_163 0 8 (dk_at dksX6_start_5 12 rfl rfl)
theorem dX6_start_132 : decode cX6_start 132 = .ok (.bipush 11, 2) := dk_16 11 (dk_at dksX6_start_5 15 rfl rfl)
theorem dX6_start_134 : decode cX6_start 134 = .ok (.goto 5, 3) := dk_167 0 5 (dk_at dksX6_start_5 17 rfl rfl)
theorem dX6_start_137 : decode cX6_start 137 = .ok (.bipush 12, 2) := dk_16 12 (dk_at dksX6_start_5 20 rfl rfl)
theorem dX6_start_139 : decode cX6_start 139 = .ok (.iastore, 1) := dk_79 (dk_at dksX6_start_5 22 rfl rfl)
theorem dX6_start_140 : decode cX6_start 140 = .ok (.iinc 1 1, 3) := dk_132 1 1 (dk_at dksX6_start_6 0 rfl rfl)
theorem dX6_start_143 : decode cX6_start 143 = .ok (.goto (-47), 3) := dk_167 255 209 (dk_at dksX6_start_6 3 rfl rfl)
theorem dX6_start_146 : decode cX6_start 146 = .ok (.aload_n 0, 1) := dk_42 (dk_at dksX6_start_6 6 rfl rfl)
theorem dX6_start_147 : decode cX6_start 147 = .ok (.getfield 13, 3) := dk_180 0 13 (dk_at dksX6_start_6 7 rfl rfl)
theorem dX6_start_150 : decode cX6_start 150 = .ok (.bipush 92, 2) := dk_16 92 (dk_at dksX6_start_6 10 rfl rfl)
theorem dX6_start_152 : decode cX6_start 152 = .ok (.iconst 0, 1) := dk_3 (dk_at dksX6_start_6 12 rfl rfl)
theorem dX6_start_153 : decode cX6_start 153 = .ok (.iastore, 1) := dk_79 (dk_at dksX6_start_6 13 rfl rfl)
theorem dX6_start_154 : decode cX6_start 154 = .ok (.aload_n 0, 1) := dk_42 (dk_at dksX6_start_6 14 rfl rfl)
theorem dX6_start_155 : decode cX6_start 155 = .ok (.getfield 13, 3) := dk_180 0 13 (dk_at dksX6_start_6 15 rfl rfl)
theorem dX6_start_158 : decode cX6_start 158 = .ok (.bipush 123, 2) := dk_16 123 (dk_at dksX6_start_6 18 rfl rfl)
theorem dX6_start_160 : decode cX6_start 160 = .ok (.iconst 1, 1) := dk_4 (dk_at dksX6_start_6 20 rfl rfl)
theorem dX6_start_161 : decode cX6_start 161 = .ok (.iastore, 1) := dk_79 (dk_at dksX6_start_6 21 rfl rfl)
theorem dX6_start_162 : decode cX6_start 162 = .ok (.aload_n 0, 1) := dk_42 (dk_at dksX6_start_6 22 rfl rfl)
theorem dX6_start_163 : decode cX6_start 163 = .ok (.getfield 13, 3) := dk_180 0 13 (dk_at dksX6_start_7 0 rfl rfl)
theorem dX6_start_166 : decode cX6_start 166 = .ok (.bipush 125, 2) := dk_16 125 (dk_at dksX6_start_7 3 rfl rfl)
theorem dX6_start_168 : decode cX6_start 168 = .ok (.iconst 2, 1) := dk_5 (dk_at dksX6_start_7 5 rfl rfl)
theorem dX6_start_169 : decode cX6_start 169 = .ok (.iastore, 1) := dk_79 (dk_at dksX6_start_7 6 rfl rfl)
theorem dX6_start_170 : decode cX6_start 170 = .ok (.aload_n 0, 1) := dk_42 (dk_at dksX6_start_7 7 rfl rfl)
theorem dX6_start_171 : decode cX6_start 171 = .ok (.getfield 13, 3) := dk_180 0 13 (dk_at dksX6_start_7 8 rfl rfl)
theorem dX6_start_174 : decode cX6_start 174 = .ok (.bipush 36, 2) := dk_16 36 (dk_at dksX6_start_7 11 rfl rfl)
theorem dX6_start_176 : decode cX6_start 176 = .ok (.iconst 3, 1) := dk_6 (dk_at dksX6_start_7 13 rfl rfl)
theorem dX6_start_177 : decode cX6_start 177 = .ok (.iastore, 1) := dk_79 (dk_at dksX6_start_7 14 rfl rfl)
theorem dX6_start_178 : decode cX6_start 178 = .ok (.aload_n 0, 1) := dk_42 (dk_at dksX6_start_7 15 rfl rfl)
theorem dX6_start_179 : decode cX6_start 179 = .ok (.getfield 13, 3) := dk_180 0 13 (dk_at dksX6_start_7 16 rfl rfl)
theorem dX6_start_182 : decode cX6_start 182 = .ok (.bipush 38, 2) := dk_16 38 (dk_at dksX6_start_7 19 rfl rfl)
theorem dX6_start_184 : decode cX6_start 184 = .ok (.iconst 4, 1) := dk_7 (dk_at dksX6_start_7 21 rfl rfl)
theorem dX6_start_185 : decode cX6_start 185 = .ok (.iastore, 1) := dk_79 (dk_at dksX6_start_7 22 rfl rfl)
theorem dX6_start_186 : decode cX6_start 186 = .ok (.aload_n 0, 1) := dk_42 (dk_at dksX6_start_7 23 rfl rfl)
theorem dX6_start_187 : decode cX6_start 187 = .ok (.getfield 13, 3) := dk_180 0 13 (dk_at dksX6_start_8 0 rfl rfl)
theorem dX6_start_190 : decode cX6_start 190 = .ok (.bipush 10, 2) := dk_16 10 (dk_at dksX6_start_8 3 rfl rfl)
theorem dX6_start_192 : decode cX6_start 192 = .ok (.iconst 5, 1) := dk_8 (dk_at dksX6_start_8 5 rfl rfl)
theorem dX6_start_193 : decode cX6_start 193 = .ok (.iastore, 1) := dk_79 (dk_at dksX6_start_8 6 rfl rfl)
theorem dX6_start_194 : decode cX6_start 194 = .ok (.aload_n 0, 1) := dk_42 (dk_at dksX6_start_8 7 rfl rfl)
theorem dX6_start_195 : decode cX6_start 195 = .ok (.getfield 13, 3) := dk_180 0 13 (dk_at dksX6_start_8 8 rfl rfl)
theorem dX6_start_198 : decode cX6_start 198 = .ok (.bipush 35, 2) := dk_16 35 (dk_at dksX6_start_8 11 rfl rfl)
theorem dX6_start_200 : decode cX6_start 200 = .ok (.bipush 6, 2) := dk_16 6 (dk_at dksX6_start_8 13 rfl rfl)
theorem dX6_start_202 : decode cX6_start 202 = .ok (.iastore, 1) := dk_79 (dk_at dksX6_start_8 15 rfl rfl)
theorem dX6_start_203 : decode cX6_start 203 = .ok (.aload_n 0, 1) := dk_42 (dk_at dksX6_start_8 16 rfl rfl)
theorem dX6_start_204 : decode cX6_start 204 = .ok (.getfield 13, 3) := dk_180 0 13 (dk_at dksX6_start_8 17 rfl rfl)
theorem dX6_start_207 : decode cX6_start 207 = .ok (.bipush 94, 2) := dk_16 94 (dk_at dksX6_start_8 20 rfl rfl)
theorem dX6_start_209 : decode cX6_start 209 = .ok (.bipush 7, 2) := dk_16 7 (dk_at dksX6_start_8 22 rfl rfl)
theorem dX6_start_211 : decode cX6_start 211 = .ok (.iastore, 1) := dk_79 (dk_at dksX6_start_9 0 rfl rfl)
theorem dX6_start_212 : decode cX6_start 212 = .ok (.aload_n 0, 1) := dk_42 (dk_at dksX6_start_9 1 rfl rfl)
theorem dX6_start_213 : decode cX6_start 213 = .ok (.getfield 13, 3) := dk_180 0 13 (dk_at dksX6_start_9 2 rfl rfl)
theorem dX6_start_216 : decode cX6_start 216 = .ok (.bipush 95, 2) := dk_16 95 (dk_at dksX6_start_9 5 rfl rfl)
theorem dX6_start_218 : decode cX6_start 218 = .ok (.bipush 8, 2) := dk_16 8 (dk_at dksX6_start_9 7 rfl rfl)
theorem dX6_start_220 : decode cX6_start 220 = .ok (.iastore, 1) := dk_79 (dk_at dksX6_start_9 9 rfl rfl)
theorem dX6_start_221 : decode cX6_start 221 = .ok (.aload_n 0, 1) := dk_42 (dk_at dksX6_start_9 10 rfl rfl)
theorem dX6_start_222 : decode cX6_start 222 = .ok (.getfield 13, 3) := dk_180 0 13 (dk_at dksX6_start_9 11 rfl rfl)
theorem dX6_start_225 : decode cX6_start 225 = .ok (.bipush 32, 2) := dk_16 32 (dk_at dksX6_start_9 14 rfl rfl)
theorem dX6_start_227 : decode cX6_start 227 = .ok (.bipush 10, 2) := dk_16 10 (dk_at dksX6_start_9 16 rfl rfl)
theorem dX6_start_229 : decode cX6_start 229 = .ok (.iastore, 1) := dk_79 (dk_at dksX6_start_9 18 rfl rfl)
theorem dX6_start_230 : decode cX6_start 230 = .ok (.aload_n 0, 1) := dk_42 (dk_at dksX6_start_9 19 rfl rfl)
theorem dX6_start_231 : decode cX6_start 231 = .ok (.getfield 13, 3) := dk_180 0 13 (dk_at dksX6_start_9 20 rfl rfl)
theorem dX6_start_234 : decode cX6_start 234 = .ok (.bipush 126, 2) := dk_16 126 (dk_at dksX6_start_10 0 rfl rfl)
theorem dX6_start_236 : decode cX6_start 236 = .ok (.bipush 13, 2) := dk_16 13 (dk_at dksX6_start_10 2 rfl rfl)
theorem dX6_start_238 : decode cX6_start 238 = .ok (.iastore, 1) := dk_79 (dk_at dksX6_start_10 4 rfl rfl)
theorem dX6_start_239 : decode cX6_start 239 = .ok (.aload_n 0, 1) := dk_42 (dk_at dksX6_start_10 5 rfl rfl)
theorem dX6_start_240 : decode cX6_start 240 = .ok (.getfield 13, 3) := dk_180 0 13 (dk_at dksX6_start_10 6 rfl rfl)
theorem dX6_start_243 : decode cX6_start 243 = .ok (.bipush 37, 2) := dk_16 37 (dk_at dksX6_start_10 9 rfl rfl)
theorem dX6_start_245 : decode cX6_start 245 = .ok (.bipush 14, 2) := dk_16 14 (dk_at dksX6_start_10 11 rfl rfl)
theorem dX6_start_247 : decode cX6_start 247 = .ok (.iastore, 1) := dk_79 (dk_at dksX6_start_10 13 rfl rfl)
theorem dX6_start_248 : decode cX6_start 248 = .ok (.return_, 1) := dk_177 (dk_at dksX6_start_10 14 rfl rfl)
abbrev cX6_thrown : ByteArray := prog_10_method_4_code
def yX6_thrown : MethodName := ⟨RX6, "thrown", "()I"⟩
theorem dX6_thrown_0 : decode cX6_thrown 0 = .ok (.aload_n 0, 1) := by decide +kernel
theorem dX6_thrown_1 : decode cX6_thrown 1 = .ok (.getfield 186, 3) := by decide +kernel
theorem dX6_thrown_4 : decode cX6_thrown 4 = .ok (.ireturn, 1) := by decide +kernel
abbrev cX6_type : ByteArray := prog_10_method_6_code
def yX6_type : MethodName := ⟨RX6, "type", "(J)Z"⟩
def dkwX6_type_6 : List UInt8 := [180, 0, 195, 21, 6, 79, 42, 89, 180, 0, 195, 4, 96, 181, 0, 195, 132, 5, 255, 167, 255, 208, 4, 172]
abbrev dktX6_type_6 : List UInt8 := dkwX6_type_6 ++ []
def dkwX6_type_5 : List UInt8 := [16, 8, 21, 5, 104, 123, 20, 0, 189, 127, 136, 54, 6, 21, 6, 158, 0, 24, 42, 180, 0, 7, 42]
abbrev dktX6_type_5 : List UInt8 := dkwX6_type_5 ++ dktX6_type_6
def dkwX6_type_4 : List UInt8 := [180, 0, 195, 29, 96, 17, 0, 160, 164, 0, 5, 3, 172, 16, 7, 54, 5, 21, 5, 155, 0, 49, 31]
abbrev dktX6_type_4 : List UInt8 := dkwX6_type_4 ++ dktX6_type_5
def dkwX6_type_3 : List UInt8 := [21, 6, 154, 0, 7, 3, 167, 0, 4, 4, 96, 62, 132, 5, 1, 167, 255, 194, 21, 4, 153, 0, 15, 42]
abbrev dktX6_type_3 : List UInt8 := dkwX6_type_3 ++ dktX6_type_4
def dkwX6_type_2 : List UInt8 := [153, 0, 20, 21, 6, 153, 0, 11, 21, 6, 184, 0, 191, 153, 0, 7, 4, 167, 0, 4, 3, 54, 4, 29]
abbrev dktX6_type_2 : List UInt8 := dkwX6_type_2 ++ dktX6_type_3
def dkwX6_type_1 : List UInt8 := [21, 5, 16, 8, 162, 0, 61, 31, 16, 8, 21, 5, 104, 123, 20, 0, 189, 127, 136, 54, 6, 21, 4]
abbrev dktX6_type_1 : List UInt8 := dkwX6_type_1 ++ dktX6_type_2
def dkwX6_type_0 : List UInt8 := [42, 3, 181, 0, 186, 3, 62, 42, 180, 0, 162, 154, 0, 7, 4, 167, 0, 4, 3, 54, 4, 3, 54, 5]
abbrev dktX6_type_0 : List UInt8 := dkwX6_type_0 ++ dktX6_type_1
theorem dksX6_type_0 : cX6_type.data.toList.drop 0 = dktX6_type_0 := by decide +kernel
theorem dksX6_type_1 : cX6_type.data.toList.drop 24 = dktX6_type_1 := dk_seg dksX6_type_0 24 rfl rfl
theorem dksX6_type_2 : cX6_type.data.toList.drop 47 = dktX6_type_2 := dk_seg dksX6_type_1 23 rfl rfl
theorem dksX6_type_3 : cX6_type.data.toList.drop 71 = dktX6_type_3 := dk_seg dksX6_type_2 24 rfl rfl
theorem dksX6_type_4 : cX6_type.data.toList.drop 95 = dktX6_type_4 := dk_seg dksX6_type_3 24 rfl rfl
theorem dksX6_type_5 : cX6_type.data.toList.drop 118 = dktX6_type_5 := dk_seg dksX6_type_4 23 rfl rfl
theorem dksX6_type_6 : cX6_type.data.toList.drop 141 = dktX6_type_6 := dk_seg dksX6_type_5 23 rfl rfl
theorem dX6_type_0 : decode cX6_type 0 = .ok (.aload_n 0, 1) := dk_42 (dk_at dksX6_type_0 0 rfl rfl)
theorem dX6_type_1 : decode cX6_type 1 = .ok (.iconst 0, 1) := dk_3 (dk_at dksX6_type_0 1 rfl rfl)
theorem dX6_type_2 : decode cX6_type 2 = .ok (.putfield 186, 3) := dk_181 0 186 (dk_at dksX6_type_0 2 rfl rfl)
theorem dX6_type_5 : decode cX6_type 5 = .ok (.iconst 0, 1) := dk_3 (dk_at dksX6_type_0 5 rfl rfl)
theorem dX6_type_6 : decode cX6_type 6 = .ok (.istore_n 3, 1) := dk_62 (dk_at dksX6_type_0 6 rfl rfl)
theorem dX6_type_7 : decode cX6_type 7 = .ok (.aload_n 0, 1) := dk_42 (dk_at dksX6_type_0 7 rfl rfl)
theorem dX6_type_8 : decode cX6_type 8 = .ok (.getfield 162, 3) := dk_180 0 162 (dk_at dksX6_type_0 8 rfl rfl)
theorem dX6_type_11 : decode cX6_type 11 = .ok (.ifCond .ne 7, 3) := dk_154 0 7 (dk_at dksX6_type_0 11 rfl rfl)
theorem dX6_type_14 : decode cX6_type 14 = .ok (.iconst 1, 1) := dk_4 (dk_at dksX6_type_0 14 rfl rfl)
theorem dX6_type_15 : decode cX6_type 15 = .ok (.goto 4, 3) := dk_167 0 4 (dk_at dksX6_type_0 15 rfl rfl)
theorem dX6_type_18 : decode cX6_type 18 = .ok (.iconst 0, 1) := dk_3 (dk_at dksX6_type_0 18 rfl rfl)
theorem dX6_type_19 : decode cX6_type 19 = .ok (.istore 4, 2) := dk_54 4 (dk_at dksX6_type_0 19 rfl rfl)
theorem dX6_type_21 : decode cX6_type 21 = .ok (.iconst 0, 1) := dk_3 (dk_at dksX6_type_0 21 rfl rfl)
theorem dX6_type_22 : decode cX6_type 22 = .ok (.istore 5, 2) := dk_54 5 (dk_at dksX6_type_0 22 rfl rfl)
theorem dX6_type_24 : decode cX6_type 24 = .ok (.iload 5, 2) := dk_21 5 (dk_at dksX6_type_1 0 rfl rfl)
theorem dX6_type_26 : decode cX6_type 26 = .ok (.bipush 8, 2) := dk_16 8 (dk_at dksX6_type_1 2 rfl rfl)
theorem dX6_type_28 : decode cX6_type 28 = .ok (.if_icmp .ge 61, 3) := dk_162 0 61 (dk_at dksX6_type_1 4 rfl rfl)
theorem dX6_type_31 : decode cX6_type 31 = .ok (.lload_n 1, 1) := dk_31 (dk_at dksX6_type_1 7 rfl rfl)
theorem dX6_type_32 : decode cX6_type 32 = .ok (.bipush 8, 2) := dk_16 8 (dk_at dksX6_type_1 8 rfl rfl)
theorem dX6_type_34 : decode cX6_type 34 = .ok (.iload 5, 2) := dk_21 5 (dk_at dksX6_type_1 10 rfl rfl)
theorem dX6_type_36 : decode cX6_type 36 = .ok (.imul, 1) := dk_104 (dk_at dksX6_type_1 12 rfl rfl)
theorem dX6_type_37 : decode cX6_type 37 = .ok (.lshr, 1) := dk_123 (dk_at dksX6_type_1 13 rfl rfl)
theorem dX6_type_38 : decode cX6_type 38 = .ok (.ldc2_w 189, 3) := dk_20 0 189 (dk_at dksX6_type_1 14 rfl rfl)
theorem dX6_type_41 : decode cX6_type 41 = .ok (.land, 1) := dk_127 (dk_at dksX6_type_1 17 rfl rfl)
theorem dX6_type_42 : decode cX6_type 42 = .ok (.l2i, 1) := dk_136 (dk_at dksX6_type_1 18 rfl rfl)
theorem dX6_type_43 : decode cX6_type 43 = .ok (.istore 6, 2) := dk_54 6 (dk_at dksX6_type_1 19 rfl rfl)
theorem dX6_type_45 : decode cX6_type 45 = .ok (.iload 4, 2) := dk_21 4 (dk_at dksX6_type_1 21 rfl rfl)
theorem dX6_type_47 : decode cX6_type 47 = .ok (.ifCond .eq 20, 3) := dk_153 0 20 (dk_at dksX6_type_2 0 rfl rfl)
theorem dX6_type_50 : decode cX6_type 50 = .ok (.iload 6, 2) := dk_21 6 (dk_at dksX6_type_2 3 rfl rfl)
theorem dX6_type_52 : decode cX6_type 52 = .ok (.ifCond .eq 11, 3) := dk_153 0 11 (dk_at dksX6_type_2 5 rfl rfl)
theorem dX6_type_55 : decode cX6_type 55 = .ok (.iload 6, 2) := dk_21 6 (dk_at dksX6_type_2 8 rfl rfl)
theorem dX6_type_57 : decode cX6_type 57 = .ok (.invokestatic 191, 3) := dk_184 0 191 (dk_at dksX6_type_2 10 rfl rfl)
theorem dX6_type_60 : decode cX6_type 60 = .ok (.ifCond .eq 7, 3) := dk_153 0 7 (dk_at dksX6_type_2 13 rfl rfl)
theorem dX6_type_63 : decode cX6_type 63 = .ok (.iconst 1, 1) := dk_4 (dk_at dksX6_type_2 16 rfl rfl)
theorem dX6_type_64 : decode cX6_type 64 = .ok (.goto 4, 3) := dk_167 0 4 (dk_at dksX6_type_2 17 rfl rfl)
theorem dX6_type_67 : decode cX6_type 67 = .ok (.iconst 0, 1) := dk_3 (dk_at dksX6_type_2 20 rfl rfl)
theorem dX6_type_68 : decode cX6_type 68 = .ok (.istore 4, 2) := dk_54 4 (dk_at dksX6_type_2 21 rfl rfl)
theorem dX6_type_70 : decode cX6_type 70 = .ok (.iload_n 3, 1) := dk_29 (dk_at dksX6_type_2 23 rfl rfl)
theorem dX6_type_71 : decode cX6_type 71 = .ok (.iload 6, 2) := dk_21 6 (dk_at dksX6_type_3 0 rfl rfl)
theorem dX6_type_73 : decode cX6_type 73 = .ok (.ifCond .ne 7, 3) := dk_154 0 7 (dk_at dksX6_type_3 2 rfl rfl)
theorem dX6_type_76 : decode cX6_type 76 = .ok (.iconst 0, 1) := dk_3 (dk_at dksX6_type_3 5 rfl rfl)
theorem dX6_type_77 : decode cX6_type 77 = .ok (.goto 4, 3) := dk_167 0 4 (dk_at dksX6_type_3 6 rfl rfl)
theorem dX6_type_80 : decode cX6_type 80 = .ok (.iconst 1, 1) := dk_4 (dk_at dksX6_type_3 9 rfl rfl)
theorem dX6_type_81 : decode cX6_type 81 = .ok (.iadd, 1) := dk_96 (dk_at dksX6_type_3 10 rfl rfl)
theorem dX6_type_82 : decode cX6_type 82 = .ok (.istore_n 3, 1) := dk_62 (dk_at dksX6_type_3 11 rfl rfl)
theorem dX6_type_83 : decode cX6_type 83 = .ok (.iinc 5 1, 3) := dk_132 5 1 (dk_at dksX6_type_3 12 rfl rfl)
theorem dX6_type_86 : decode cX6_type 86 = .ok (.goto (-62), 3) := dk_167 255 194 (dk_at dksX6_type_3 15 rfl rfl)
theorem dX6_type_89 : decode cX6_type 89 = .ok (.iload 4, 2) := dk_21 4 (dk_at dksX6_type_3 18 rfl rfl)
theorem dX6_type_91 : decode cX6_type 91 = .ok (.ifCond .eq 15, 3) := dk_153 0 15 (dk_at dksX6_type_3 20 rfl rfl)
theorem dX6_type_94 : decode cX6_type 94 = .ok (.aload_n 0, 1) := dk_42 (dk_at dksX6_type_3 23 rfl rfl)
theorem dX6_type_95 : decode cX6_type 95 = .ok (.getfield 195, 3) := dk_180 0 195 (dk_at dksX6_type_4 0 rfl rfl)
theorem dX6_type_98 : decode cX6_type 98 = .ok (.iload_n 3, 1) := dk_29 (dk_at dksX6_type_4 3 rfl rfl)
theorem dX6_type_99 : decode cX6_type 99 = .ok (.iadd, 1) := dk_96 (dk_at dksX6_type_4 4 rfl rfl)
theorem dX6_type_100 : decode cX6_type 100 = .ok (.sipush 160, 3) := dk_17 0 160 (dk_at dksX6_type_4 5 rfl rfl)
theorem dX6_type_103 : decode cX6_type 103 = .ok (.if_icmp .le 5, 3) := dk_164 0 5 (dk_at dksX6_type_4 8 rfl rfl)
theorem dX6_type_106 : decode cX6_type 106 = .ok (.iconst 0, 1) := dk_3 (dk_at dksX6_type_4 11 rfl rfl)
theorem dX6_type_107 : decode cX6_type 107 = .ok (.ireturn, 1) := dk_172 (dk_at dksX6_type_4 12 rfl rfl)
theorem dX6_type_108 : decode cX6_type 108 = .ok (.bipush 7, 2) := dk_16 7 (dk_at dksX6_type_4 13 rfl rfl)
theorem dX6_type_110 : decode cX6_type 110 = .ok (.istore 5, 2) := dk_54 5 (dk_at dksX6_type_4 15 rfl rfl)
theorem dX6_type_112 : decode cX6_type 112 = .ok (.iload 5, 2) := dk_21 5 (dk_at dksX6_type_4 17 rfl rfl)
theorem dX6_type_114 : decode cX6_type 114 = .ok (.ifCond .lt 49, 3) := dk_155 0 49 (dk_at dksX6_type_4 19 rfl rfl)
theorem dX6_type_117 : decode cX6_type 117 = .ok (.lload_n 1, 1) := dk_31 (dk_at dksX6_type_4 22 rfl rfl)
theorem dX6_type_118 : decode cX6_type 118 = .ok (.bipush 8, 2) := dk_16 8 (dk_at dksX6_type_5 0 rfl rfl)
theorem dX6_type_120 : decode cX6_type 120 = .ok (.iload 5, 2) := dk_21 5 (dk_at dksX6_type_5 2 rfl rfl)
theorem dX6_type_122 : decode cX6_type 122 = .ok (.imul, 1) := dk_104 (dk_at dksX6_type_5 4 rfl rfl)
theorem dX6_type_123 : decode cX6_type 123 = .ok (.lshr, 1) := dk_123 (dk_at dksX6_type_5 5 rfl rfl)
theorem dX6_type_124 : decode cX6_type 124 = .ok (.ldc2_w 189, 3) := dk_20 0 189 (dk_at dksX6_type_5 6 rfl rfl)
theorem dX6_type_127 : decode cX6_type 127 = .ok (.land, 1) := dk_127 (dk_at dksX6_type_5 9 rfl rfl)
theorem dX6_type_128 : decode cX6_type 128 = .ok (.l2i, 1) := dk_136 (dk_at dksX6_type_5 10 rfl rfl)
theorem dX6_type_129 : decode cX6_type 129 = .ok (.istore 6, 2) := dk_54 6 (dk_at dksX6_type_5 11 rfl rfl)
theorem dX6_type_131 : decode cX6_type 131 = .ok (.iload 6, 2) := dk_21 6 (dk_at dksX6_type_5 13 rfl rfl)
theorem dX6_type_133 : decode cX6_type 133 = .ok (.ifCond .le 24, 3) := dk_158 0 24 (dk_at dksX6_type_5 15 rfl rfl)
theorem dX6_type_136 : decode cX6_type 136 = .ok (.aload_n 0, 1) := dk_42 (dk_at dksX6_type_5 18 rfl rfl)
theorem dX6_type_137 : decode cX6_type 137 = .ok (.getfield 7, 3) := dk_180 0 7 (dk_at dksX6_type_5 19 rfl rfl)
theorem dX6_type_140 : decode cX6_type 140 = .ok (.aload_n 0, 1) := dk_42 (dk_at dksX6_type_5 22 rfl rfl)
theorem dX6_type_141 : decode cX6_type 141 = .ok (.getfield 195, 3) := dk_180 0 195 (dk_at dksX6_type_6 0 rfl rfl)
theorem dX6_type_144 : decode cX6_type 144 = .ok (.iload 6, 2) := dk_21 6 (dk_at dksX6_type_6 3 rfl rfl)
theorem dX6_type_146 : decode cX6_type 146 = .ok (.iastore, 1) := dk_79 (dk_at dksX6_type_6 5 rfl rfl)
theorem dX6_type_147 : decode cX6_type 147 = .ok (.aload_n 0, 1) := dk_42 (dk_at dksX6_type_6 6 rfl rfl)
theorem dX6_type_148 : decode cX6_type 148 = .ok (.dup, 1) := dk_89 (dk_at dksX6_type_6 7 rfl rfl)
theorem dX6_type_149 : decode cX6_type 149 = .ok (.getfield 195, 3) := dk_180 0 195 (dk_at dksX6_type_6 8 rfl rfl)
theorem dX6_type_152 : decode cX6_type 152 = .ok (.iconst 1, 1) := dk_4 (dk_at dksX6_type_6 11 rfl rfl)
theorem dX6_type_153 : decode cX6_type 153 = .ok (.iadd, 1) := dk_96 (dk_at dksX6_type_6 12 rfl rfl)
theorem dX6_type_154 : decode cX6_type 154 = .ok (.putfield 195, 3) := dk_181 0 195 (dk_at dksX6_type_6 13 rfl rfl)
theorem dX6_type_157 : decode cX6_type 157 = .ok (.iinc 5 (-1), 3) := dk_132 5 255 (dk_at dksX6_type_6 16 rfl rfl)
theorem dX6_type_160 : decode cX6_type 160 = .ok (.goto (-48), 3) := dk_167 255 208 (dk_at dksX6_type_6 19 rfl rfl)
theorem dX6_type_163 : decode cX6_type 163 = .ok (.iconst 1, 1) := dk_4 (dk_at dksX6_type_6 22 rfl rfl)
theorem dX6_type_164 : decode cX6_type 164 = .ok (.ireturn, 1) := dk_172 (dk_at dksX6_type_6 23 rfl rfl)
abbrev cX6_isCode : ByteArray := prog_10_method_5_code
def yX6_isCode : MethodName := ⟨RX6, "isCode", "(I)Z"⟩
def dkwX6_isCode_0 : List UInt8 := [26, 16, 10, 159, 0, 15, 26, 16, 31, 164, 0, 13, 26, 16, 127, 162, 0, 7, 4, 167, 0, 4, 3, 172]
abbrev dktX6_isCode_0 : List UInt8 := dkwX6_isCode_0 ++ []
theorem dksX6_isCode_0 : cX6_isCode.data.toList.drop 0 = dktX6_isCode_0 := by decide +kernel
theorem dX6_isCode_0 : decode cX6_isCode 0 = .ok (.iload_n 0, 1) := dk_26 (dk_at dksX6_isCode_0 0 rfl rfl)
theorem dX6_isCode_1 : decode cX6_isCode 1 = .ok (.bipush 10, 2) := dk_16 10 (dk_at dksX6_isCode_0 1 rfl rfl)
theorem dX6_isCode_3 : decode cX6_isCode 3 = .ok (.if_icmp .eq 15, 3) := dk_159 0 15 (dk_at dksX6_isCode_0 3 rfl rfl)
theorem dX6_isCode_6 : decode cX6_isCode 6 = .ok (.iload_n 0, 1) := dk_26 (dk_at dksX6_isCode_0 6 rfl rfl)
theorem dX6_isCode_7 : decode cX6_isCode 7 = .ok (.bipush 31, 2) := dk_16 31 (dk_at dksX6_isCode_0 7 rfl rfl)
theorem dX6_isCode_9 : decode cX6_isCode 9 = .ok (.if_icmp .le 13, 3) := dk_164 0 13 (dk_at dksX6_isCode_0 9 rfl rfl)
theorem dX6_isCode_12 : decode cX6_isCode 12 = .ok (.iload_n 0, 1) := dk_26 (dk_at dksX6_isCode_0 12 rfl rfl)
theorem dX6_isCode_13 : decode cX6_isCode 13 = .ok (.bipush 127, 2) := dk_16 127 (dk_at dksX6_isCode_0 13 rfl rfl)
theorem dX6_isCode_15 : decode cX6_isCode 15 = .ok (.if_icmp .ge 7, 3) := dk_162 0 7 (dk_at dksX6_isCode_0 15 rfl rfl)
theorem dX6_isCode_18 : decode cX6_isCode 18 = .ok (.iconst 1, 1) := dk_4 (dk_at dksX6_isCode_0 18 rfl rfl)
theorem dX6_isCode_19 : decode cX6_isCode 19 = .ok (.goto 4, 3) := dk_167 0 4 (dk_at dksX6_isCode_0 19 rfl rfl)
theorem dX6_isCode_22 : decode cX6_isCode 22 = .ok (.iconst 0, 1) := dk_3 (dk_at dksX6_isCode_0 22 rfl rfl)
theorem dX6_isCode_23 : decode cX6_isCode 23 = .ok (.ireturn, 1) := dk_172 (dk_at dksX6_isCode_0 23 rfl rfl)
abbrev cX6_wipe : ByteArray := prog_10_method_7_code
def yX6_wipe : MethodName := ⟨RX6, "wipe", "()V"⟩
def dkwX6_wipe_0 : List UInt8 := [42, 3, 181, 0, 186, 42, 3, 181, 0, 195, 42, 182, 0, 144, 177]
abbrev dktX6_wipe_0 : List UInt8 := dkwX6_wipe_0 ++ []
theorem dksX6_wipe_0 : cX6_wipe.data.toList.drop 0 = dktX6_wipe_0 := by decide +kernel
theorem dX6_wipe_0 : decode cX6_wipe 0 = .ok (.aload_n 0, 1) := dk_42 (dk_at dksX6_wipe_0 0 rfl rfl)
theorem dX6_wipe_1 : decode cX6_wipe 1 = .ok (.iconst 0, 1) := dk_3 (dk_at dksX6_wipe_0 1 rfl rfl)
theorem dX6_wipe_2 : decode cX6_wipe 2 = .ok (.putfield 186, 3) := dk_181 0 186 (dk_at dksX6_wipe_0 2 rfl rfl)
theorem dX6_wipe_5 : decode cX6_wipe 5 = .ok (.aload_n 0, 1) := dk_42 (dk_at dksX6_wipe_0 5 rfl rfl)
theorem dX6_wipe_6 : decode cX6_wipe 6 = .ok (.iconst 0, 1) := dk_3 (dk_at dksX6_wipe_0 6 rfl rfl)
theorem dX6_wipe_7 : decode cX6_wipe 7 = .ok (.putfield 195, 3) := dk_181 0 195 (dk_at dksX6_wipe_0 7 rfl rfl)
theorem dX6_wipe_10 : decode cX6_wipe 10 = .ok (.aload_n 0, 1) := dk_42 (dk_at dksX6_wipe_0 10 rfl rfl)
theorem dX6_wipe_11 : decode cX6_wipe 11 = .ok (.invokevirtual 144, 3) := dk_182 0 144 (dk_at dksX6_wipe_0 11 rfl rfl)
theorem dX6_wipe_14 : decode cX6_wipe 14 = .ok (.return_, 1) := dk_177 (dk_at dksX6_wipe_0 14 rfl rfl)
abbrev cX6_again : ByteArray := prog_10_method_8_code
def yX6_again : MethodName := ⟨RX6, "again", "()V"⟩
def dkwX6_again_0 : List UInt8 := [42, 3, 181, 0, 186, 42, 182, 0, 144, 177]
abbrev dktX6_again_0 : List UInt8 := dkwX6_again_0 ++ []
theorem dksX6_again_0 : cX6_again.data.toList.drop 0 = dktX6_again_0 := by decide +kernel
theorem dX6_again_0 : decode cX6_again 0 = .ok (.aload_n 0, 1) := dk_42 (dk_at dksX6_again_0 0 rfl rfl)
theorem dX6_again_1 : decode cX6_again 1 = .ok (.iconst 0, 1) := dk_3 (dk_at dksX6_again_0 1 rfl rfl)
theorem dX6_again_2 : decode cX6_again 2 = .ok (.putfield 186, 3) := dk_181 0 186 (dk_at dksX6_again_0 2 rfl rfl)
theorem dX6_again_5 : decode cX6_again 5 = .ok (.aload_n 0, 1) := dk_42 (dk_at dksX6_again_0 5 rfl rfl)
theorem dX6_again_6 : decode cX6_again 6 = .ok (.invokevirtual 144, 3) := dk_182 0 144 (dk_at dksX6_again_0 6 rfl rfl)
theorem dX6_again_9 : decode cX6_again 9 = .ok (.return_, 1) := dk_177 (dk_at dksX6_again_0 9 rfl rfl)
abbrev cX6_run : ByteArray := prog_10_method_56_code
def yX6_run : MethodName := ⟨RX6, "run", "(I)I"⟩
def dkwX6_run_3 : List UInt8 := [132, 2, 1, 167, 255, 216, 3, 172]
abbrev dktX6_run_3 : List UInt8 := dkwX6_run_3 ++ []
def dkwX6_run_2 : List UInt8 := [182, 1, 99, 154, 0, 5, 4, 172, 42, 42, 180, 0, 159, 158, 0, 7, 5, 167, 0, 4, 3, 181, 0, 186]
abbrev dktX6_run_2 : List UInt8 := dkwX6_run_2 ++ dktX6_run_3
def dkwX6_run_1 : List UInt8 := [5, 167, 0, 4, 3, 181, 0, 186, 3, 61, 28, 27, 162, 0, 41, 42, 180, 0, 186, 154, 0, 34, 42]
abbrev dktX6_run_1 : List UInt8 := dkwX6_run_1 ++ dktX6_run_2
def dkwX6_run_0 : List UInt8 := [42, 27, 4, 161, 0, 10, 27, 17, 1, 244, 164, 0, 7, 4, 167, 0, 15, 42, 180, 0, 159, 158, 0, 7]
abbrev dktX6_run_0 : List UInt8 := dkwX6_run_0 ++ dktX6_run_1
theorem dksX6_run_0 : cX6_run.data.toList.drop 0 = dktX6_run_0 := by decide +kernel
theorem dksX6_run_1 : cX6_run.data.toList.drop 24 = dktX6_run_1 := dk_seg dksX6_run_0 24 rfl rfl
theorem dksX6_run_2 : cX6_run.data.toList.drop 47 = dktX6_run_2 := dk_seg dksX6_run_1 23 rfl rfl
theorem dksX6_run_3 : cX6_run.data.toList.drop 71 = dktX6_run_3 := dk_seg dksX6_run_2 24 rfl rfl
theorem dX6_run_0 : decode cX6_run 0 = .ok (.aload_n 0, 1) := dk_42 (dk_at dksX6_run_0 0 rfl rfl)
theorem dX6_run_1 : decode cX6_run 1 = .ok (.iload_n 1, 1) := dk_27 (dk_at dksX6_run_0 1 rfl rfl)
theorem dX6_run_2 : decode cX6_run 2 = .ok (.iconst 1, 1) := dk_4 (dk_at dksX6_run_0 2 rfl rfl)
theorem dX6_run_3 : decode cX6_run 3 = .ok (.if_icmp .lt 10, 3) := dk_161 0 10 (dk_at dksX6_run_0 3 rfl rfl)
theorem dX6_run_6 : decode cX6_run 6 = .ok (.iload_n 1, 1) := dk_27 (dk_at dksX6_run_0 6 rfl rfl)
theorem dX6_run_7 : decode cX6_run 7 = .ok (.sipush 500, 3) := dk_17 1 244 (dk_at dksX6_run_0 7 rfl rfl)
theorem dX6_run_10 : decode cX6_run 10 = .ok (.if_icmp .le 7, 3) := dk_164 0 7 (dk_at dksX6_run_0 10 rfl rfl)
theorem dX6_run_13 : decode cX6_run 13 = .ok (.iconst 1, 1) := dk_4 (dk_at dksX6_run_0 13 rfl rfl)
theorem dX6_run_14 : decode cX6_run 14 = .ok (.goto 15, 3) := dk_167 0 15 (dk_at dksX6_run_0 14 rfl rfl)
theorem dX6_run_17 : decode cX6_run 17 = .ok (.aload_n 0, 1) := dk_42 (dk_at dksX6_run_0 17 rfl rfl)
theorem dX6_run_18 : decode cX6_run 18 = .ok (.getfield 159, 3) := dk_180 0 159 (dk_at dksX6_run_0 18 rfl rfl)
theorem dX6_run_21 : decode cX6_run 21 = .ok (.ifCond .le 7, 3) := dk_158 0 7 (dk_at dksX6_run_0 21 rfl rfl)
theorem dX6_run_24 : decode cX6_run 24 = .ok (.iconst 2, 1) := dk_5 (dk_at dksX6_run_1 0 rfl rfl)
theorem dX6_run_25 : decode cX6_run 25 = .ok (.goto 4, 3) := dk_167 0 4 (dk_at dksX6_run_1 1 rfl rfl)
theorem dX6_run_28 : decode cX6_run 28 = .ok (.iconst 0, 1) := dk_3 (dk_at dksX6_run_1 4 rfl rfl)
theorem dX6_run_29 : decode cX6_run 29 = .ok (.putfield 186, 3) := dk_181 0 186 (dk_at dksX6_run_1 5 rfl rfl)
theorem dX6_run_32 : decode cX6_run 32 = .ok (.iconst 0, 1) := dk_3 (dk_at dksX6_run_1 8 rfl rfl)
theorem dX6_run_33 : decode cX6_run 33 = .ok (.istore_n 2, 1) := dk_61 (dk_at dksX6_run_1 9 rfl rfl)
theorem dX6_run_34 : decode cX6_run 34 = .ok (.iload_n 2, 1) := dk_28 (dk_at dksX6_run_1 10 rfl rfl)
theorem dX6_run_35 : decode cX6_run 35 = .ok (.iload_n 1, 1) := dk_27 (dk_at dksX6_run_1 11 rfl rfl)
theorem dX6_run_36 : decode cX6_run 36 = .ok (.if_icmp .ge 41, 3) := dk_162 0 41 (dk_at dksX6_run_1 12 rfl rfl)
theorem dX6_run_39 : decode cX6_run 39 = .ok (.aload_n 0, 1) := dk_42 (dk_at dksX6_run_1 15 rfl rfl)
theorem dX6_run_40 : decode cX6_run 40 = .ok (.getfield 186, 3) := dk_180 0 186 (dk_at dksX6_run_1 16 rfl rfl)
theorem dX6_run_43 : decode cX6_run 43 = .ok (.ifCond .ne 34, 3) := dk_154 0 34 (dk_at dksX6_run_1 19 rfl rfl)
theorem dX6_run_46 : decode cX6_run 46 = .ok (.aload_n 0, 1) := dk_42 (dk_at dksX6_run_1 22 rfl rfl)
theorem dX6_run_47 : decode cX6_run 47 = .ok (.invokevirtual 355, 3) := dk_182 1 99 (dk_at dksX6_run_2 0 rfl rfl)
theorem dX6_run_50 : decode cX6_run 50 = .ok (.ifCond .ne 5, 3) := dk_154 0 5 (dk_at dksX6_run_2 3 rfl rfl)
theorem dX6_run_53 : decode cX6_run 53 = .ok (.iconst 1, 1) := dk_4 (dk_at dksX6_run_2 6 rfl rfl)
theorem dX6_run_54 : decode cX6_run 54 = .ok (.ireturn, 1) := dk_172 (dk_at dksX6_run_2 7 rfl rfl)
theorem dX6_run_55 : decode cX6_run 55 = .ok (.aload_n 0, 1) := dk_42 (dk_at dksX6_run_2 8 rfl rfl)
theorem dX6_run_56 : decode cX6_run 56 = .ok (.aload_n 0, 1) := dk_42 (dk_at dksX6_run_2 9 rfl rfl)
theorem dX6_run_57 : decode cX6_run 57 = .ok (.getfield 159, 3) := dk_180 0 159 (dk_at dksX6_run_2 10 rfl rfl)
theorem dX6_run_60 : decode cX6_run 60 = .ok (.ifCond .le 7, 3) := dk_158 0 7 (dk_at dksX6_run_2 13 rfl rfl)
theorem dX6_run_63 : decode cX6_run 63 = .ok (.iconst 2, 1) := dk_5 (dk_at dksX6_run_2 16 rfl rfl)
theorem dX6_run_64 : decode cX6_run 64 = .ok (.goto 4, 3) := dk_167 0 4 (dk_at dksX6_run_2 17 rfl rfl)
theorem dX6_run_67 : decode cX6_run 67 = .ok (.iconst 0, 1) := dk_3 (dk_at dksX6_run_2 20 rfl rfl)
theorem dX6_run_68 : decode cX6_run 68 = .ok (.putfield 186, 3) := dk_181 0 186 (dk_at dksX6_run_2 21 rfl rfl)
theorem dX6_run_71 : decode cX6_run 71 = .ok (.iinc 2 1, 3) := dk_132 2 1 (dk_at dksX6_run_3 0 rfl rfl)
theorem dX6_run_74 : decode cX6_run 74 = .ok (.goto (-40), 3) := dk_167 255 216 (dk_at dksX6_run_3 3 rfl rfl)
theorem dX6_run_77 : decode cX6_run 77 = .ok (.iconst 0, 1) := dk_3 (dk_at dksX6_run_3 6 rfl rfl)
theorem dX6_run_78 : decode cX6_run 78 = .ok (.ireturn, 1) := dk_172 (dk_at dksX6_run_3 7 rfl rfl)
abbrev cX6_step : ByteArray := prog_10_method_55_code
def yX6_step : MethodName := ⟨RX6, "step", "()Z"⟩
def dkwX6_step_2 : List UInt8 := [182, 1, 24, 153, 0, 11, 42, 27, 182, 1, 62, 167, 0, 8, 42, 27, 182, 1, 96, 4, 172]
abbrev dktX6_step_2 : List UInt8 := dkwX6_step_2 ++ []
def dkwX6_step_1 : List UInt8 := [154, 0, 5, 3, 172, 42, 89, 180, 0, 162, 4, 96, 181, 0, 162, 27, 2, 159, 0, 24, 42, 27]
abbrev dktX6_step_1 : List UInt8 := dkwX6_step_1 ++ dktX6_step_2
def dkwX6_step_0 : List UInt8 := [42, 3, 181, 1, 18, 42, 3, 181, 0, 180, 42, 182, 0, 223, 60, 27, 2, 160, 0, 12, 42, 180, 0, 159]
abbrev dktX6_step_0 : List UInt8 := dkwX6_step_0 ++ dktX6_step_1
theorem dksX6_step_0 : cX6_step.data.toList.drop 0 = dktX6_step_0 := by decide +kernel
theorem dksX6_step_1 : cX6_step.data.toList.drop 24 = dktX6_step_1 := dk_seg dksX6_step_0 24 rfl rfl
theorem dksX6_step_2 : cX6_step.data.toList.drop 46 = dktX6_step_2 := dk_seg dksX6_step_1 22 rfl rfl
theorem dX6_step_0 : decode cX6_step 0 = .ok (.aload_n 0, 1) := dk_42 (dk_at dksX6_step_0 0 rfl rfl)
theorem dX6_step_1 : decode cX6_step 1 = .ok (.iconst 0, 1) := dk_3 (dk_at dksX6_step_0 1 rfl rfl)
theorem dX6_step_2 : decode cX6_step 2 = .ok (.putfield 274, 3) := dk_181 1 18 (dk_at dksX6_step_0 2 rfl rfl)
theorem dX6_step_5 : decode cX6_step 5 = .ok (.aload_n 0, 1) := dk_42 (dk_at dksX6_step_0 5 rfl rfl)
theorem dX6_step_6 : decode cX6_step 6 = .ok (.iconst 0, 1) := dk_3 (dk_at dksX6_step_0 6 rfl rfl)
theorem dX6_step_7 : decode cX6_step 7 = .ok (.putfield 180, 3) := dk_181 0 180 (dk_at dksX6_step_0 7 rfl rfl)
theorem dX6_step_10 : decode cX6_step 10 = .ok (.aload_n 0, 1) := dk_42 (dk_at dksX6_step_0 10 rfl rfl)
theorem dX6_step_11 : decode cX6_step 11 = .ok (.invokevirtual 223, 3) := dk_182 0 223 (dk_at dksX6_step_0 11 rfl rfl)
theorem dX6_step_14 : decode cX6_step 14 = .ok (.istore_n 1, 1) := dk_60 (dk_at dksX6_step_0 14 rfl rfl)
theorem dX6_step_15 : decode cX6_step 15 = .ok (.iload_n 1, 1) := dk_27 (dk_at dksX6_step_0 15 rfl rfl)
theorem dX6_step_16 : decode cX6_step 16 = .ok (.iconst (-1), 1) := dk_2 (dk_at dksX6_step_0 16 rfl rfl)
theorem dX6_step_17 : decode cX6_step 17 = .ok (.if_icmp .ne 12, 3) := dk_160 0 12 (dk_at dksX6_step_0 17 rfl rfl)
theorem dX6_step_20 : decode cX6_step 20 = .ok (.aload_n 0, 1) := dk_42 (dk_at dksX6_step_0 20 rfl rfl)
theorem dX6_step_21 : decode cX6_step 21 = .ok (.getfield 159, 3) := dk_180 0 159 (dk_at dksX6_step_0 21 rfl rfl)
theorem dX6_step_24 : decode cX6_step 24 = .ok (.ifCond .ne 5, 3) := dk_154 0 5 (dk_at dksX6_step_1 0 rfl rfl)
theorem dX6_step_27 : decode cX6_step 27 = .ok (.iconst 0, 1) := dk_3 (dk_at dksX6_step_1 3 rfl rfl)
theorem dX6_step_28 : decode cX6_step 28 = .ok (.ireturn, 1) := dk_172 (dk_at dksX6_step_1 4 rfl rfl)
theorem dX6_step_29 : decode cX6_step 29 = .ok (.aload_n 0, 1) := dk_42 (dk_at dksX6_step_1 5 rfl rfl)
theorem dX6_step_30 : decode cX6_step 30 = .ok (.dup, 1) := dk_89 (dk_at dksX6_step_1 6 rfl rfl)
theorem dX6_step_31 : decode cX6_step 31 = .ok (.getfield 162, 3) := dk_180 0 162 (dk_at dksX6_step_1 7 rfl rfl)
theorem dX6_step_34 : decode cX6_step 34 = .ok (.iconst 1, 1) := dk_4 (dk_at dksX6_step_1 10 rfl rfl)
theorem dX6_step_35 : decode cX6_step 35 = .ok (.iadd, 1) := dk_96 (dk_at dksX6_step_1 11 rfl rfl)
theorem dX6_step_36 : decode cX6_step 36 = .ok (.putfield 162, 3) := dk_181 0 162 (dk_at dksX6_step_1 12 rfl rfl)
theorem dX6_step_39 : decode cX6_step 39 = .ok (.iload_n 1, 1) := dk_27 (dk_at dksX6_step_1 15 rfl rfl)
theorem dX6_step_40 : decode cX6_step 40 = .ok (.iconst (-1), 1) := dk_2 (dk_at dksX6_step_1 16 rfl rfl)
theorem dX6_step_41 : decode cX6_step 41 = .ok (.if_icmp .eq 24, 3) := dk_159 0 24 (dk_at dksX6_step_1 17 rfl rfl)
theorem dX6_step_44 : decode cX6_step 44 = .ok (.aload_n 0, 1) := dk_42 (dk_at dksX6_step_1 20 rfl rfl)
theorem dX6_step_45 : decode cX6_step 45 = .ok (.iload_n 1, 1) := dk_27 (dk_at dksX6_step_1 21 rfl rfl)
theorem dX6_step_46 : decode cX6_step 46 = .ok (.invokevirtual 280, 3) := dk_182 1 24 (dk_at dksX6_step_2 0 rfl rfl)
theorem dX6_step_49 : decode cX6_step 49 = .ok (.ifCond .eq 11, 3) := dk_153 0 11 (dk_at dksX6_step_2 3 rfl rfl)
theorem dX6_step_52 : decode cX6_step 52 = .ok (.aload_n 0, 1) := dk_42 (dk_at dksX6_step_2 6 rfl rfl)
theorem dX6_step_53 : decode cX6_step 53 = .ok (.iload_n 1, 1) := dk_27 (dk_at dksX6_step_2 7 rfl rfl)
theorem dX6_step_54 : decode cX6_step 54 = .ok (.invokevirtual 318, 3) := dk_182 1 62 (dk_at dksX6_step_2 8 rfl rfl)
theorem dX6_step_57 : decode cX6_step 57 = .ok (.goto 8, 3) := dk_167 0 8 (dk_at dksX6_step_2 11 rfl rfl)
theorem dX6_step_60 : decode cX6_step 60 = .ok (.aload_n 0, 1) := dk_42 (dk_at dksX6_step_2 14 rfl rfl)
theorem dX6_step_61 : decode cX6_step 61 = .ok (.iload_n 1, 1) := dk_27 (dk_at dksX6_step_2 15 rfl rfl)
theorem dX6_step_62 : decode cX6_step 62 = .ok (.invokevirtual 352, 3) := dk_182 1 96 (dk_at dksX6_step_2 16 rfl rfl)
theorem dX6_step_65 : decode cX6_step 65 = .ok (.iconst 1, 1) := dk_4 (dk_at dksX6_step_2 19 rfl rfl)
theorem dX6_step_66 : decode cX6_step 66 = .ok (.ireturn, 1) := dk_172 (dk_at dksX6_step_2 20 rfl rfl)
abbrev cX6_get : ByteArray := prog_10_method_15_code
def yX6_get : MethodName := ⟨RX6, "get", "()I"⟩
def dkwX6_get_1 : List UInt8 := [181, 0, 165, 42, 180, 0, 16, 42, 180, 0, 165, 46, 172, 42, 182, 0, 220, 172]
abbrev dktX6_get_1 : List UInt8 := dkwX6_get_1 ++ []
def dkwX6_get_0 : List UInt8 := [42, 180, 0, 159, 158, 0, 5, 2, 172, 42, 180, 0, 165, 158, 0, 23, 42, 89, 180, 0, 165, 4, 100]
abbrev dktX6_get_0 : List UInt8 := dkwX6_get_0 ++ dktX6_get_1
theorem dksX6_get_0 : cX6_get.data.toList.drop 0 = dktX6_get_0 := by decide +kernel
theorem dksX6_get_1 : cX6_get.data.toList.drop 23 = dktX6_get_1 := dk_seg dksX6_get_0 23 rfl rfl
theorem dX6_get_0 : decode cX6_get 0 = .ok (.aload_n 0, 1) := dk_42 (dk_at dksX6_get_0 0 rfl rfl)
theorem dX6_get_1 : decode cX6_get 1 = .ok (.getfield 159, 3) := dk_180 0 159 (dk_at dksX6_get_0 1 rfl rfl)
theorem dX6_get_4 : decode cX6_get 4 = .ok (.ifCond .le 5, 3) := dk_158 0 5 (dk_at dksX6_get_0 4 rfl rfl)
theorem dX6_get_7 : decode cX6_get 7 = .ok (.iconst (-1), 1) := dk_2 (dk_at dksX6_get_0 7 rfl rfl)
theorem dX6_get_8 : decode cX6_get 8 = .ok (.ireturn, 1) := dk_172 (dk_at dksX6_get_0 8 rfl rfl)
theorem dX6_get_9 : decode cX6_get 9 = .ok (.aload_n 0, 1) := dk_42 (dk_at dksX6_get_0 9 rfl rfl)
theorem dX6_get_10 : decode cX6_get 10 = .ok (.getfield 165, 3) := dk_180 0 165 (dk_at dksX6_get_0 10 rfl rfl)
theorem dX6_get_13 : decode cX6_get 13 = .ok (.ifCond .le 23, 3) := dk_158 0 23 (dk_at dksX6_get_0 13 rfl rfl)
theorem dX6_get_16 : decode cX6_get 16 = .ok (.aload_n 0, 1) := dk_42 (dk_at dksX6_get_0 16 rfl rfl)
theorem dX6_get_17 : decode cX6_get 17 = .ok (.dup, 1) := dk_89 (dk_at dksX6_get_0 17 rfl rfl)
theorem dX6_get_18 : decode cX6_get 18 = .ok (.getfield 165, 3) := dk_180 0 165 (dk_at dksX6_get_0 18 rfl rfl)
theorem dX6_get_21 : decode cX6_get 21 = .ok (.iconst 1, 1) := dk_4 (dk_at dksX6_get_0 21 rfl rfl)
theorem dX6_get_22 : decode cX6_get 22 = .ok (.isub, 1) := dk_100 (dk_at dksX6_get_0 22 rfl rfl)
theorem dX6_get_23 : decode cX6_get 23 = .ok (.putfield 165, 3) := dk_181 0 165 (dk_at dksX6_get_1 0 rfl rfl)
theorem dX6_get_26 : decode cX6_get 26 = .ok (.aload_n 0, 1) := dk_42 (dk_at dksX6_get_1 3 rfl rfl)
theorem dX6_get_27 : decode cX6_get 27 = .ok (.getfield 16, 3) := dk_180 0 16 (dk_at dksX6_get_1 4 rfl rfl)
theorem dX6_get_30 : decode cX6_get 30 = .ok (.aload_n 0, 1) := dk_42 (dk_at dksX6_get_1 7 rfl rfl)
theorem dX6_get_31 : decode cX6_get 31 = .ok (.getfield 165, 3) := dk_180 0 165 (dk_at dksX6_get_1 8 rfl rfl)
theorem dX6_get_34 : decode cX6_get 34 = .ok (.iaload, 1) := dk_46 (dk_at dksX6_get_1 11 rfl rfl)
theorem dX6_get_35 : decode cX6_get 35 = .ok (.ireturn, 1) := dk_172 (dk_at dksX6_get_1 12 rfl rfl)
theorem dX6_get_36 : decode cX6_get 36 = .ok (.aload_n 0, 1) := dk_42 (dk_at dksX6_get_1 13 rfl rfl)
theorem dX6_get_37 : decode cX6_get 37 = .ok (.invokevirtual 220, 3) := dk_182 0 220 (dk_at dksX6_get_1 14 rfl rfl)
theorem dX6_get_40 : decode cX6_get 40 = .ok (.ireturn, 1) := dk_172 (dk_at dksX6_get_1 17 rfl rfl)
abbrev cX6_read : ByteArray := prog_10_method_14_code
def yX6_read : MethodName := ⟨RX6, "read", "()I"⟩
def dkwX6_read_9 : List UInt8 := [16, 9, 159, 0, 16, 42, 4, 181, 0, 156, 27, 17, 1, 0, 28, 104, 96, 172, 167, 255, 33, 2, 172]
abbrev dktX6_read_9 : List UInt8 := dkwX6_read_9 ++ []
def dkwX6_read_8 : List UInt8 := [182, 0, 209, 42, 4, 182, 0, 213, 172, 28, 16, 15, 160, 0, 10, 42, 16, 8, 182, 0, 205, 172, 28]
abbrev dktX6_read_8 : List UInt8 := dkwX6_read_8 ++ dktX6_read_9
def dkwX6_read_7 : List UInt8 := [17, 10, 32, 172, 28, 16, 13, 160, 0, 24, 42, 4, 181, 0, 156, 42, 3, 181, 0, 198, 42, 27]
abbrev dktX6_read_7 : List UInt8 := dkwX6_read_7 ++ dktX6_read_8
def dkwX6_read_6 : List UInt8 := [167, 0, 85, 28, 16, 10, 160, 0, 20, 42, 180, 0, 156, 4, 160, 0, 71, 42, 5, 181, 0, 156]
abbrev dktX6_read_6 : List UInt8 := dkwX6_read_6 ++ dktX6_read_7
def dkwX6_read_5 : List UInt8 := [160, 0, 23, 29, 5, 162, 0, 18, 29, 4, 160, 0, 9, 17, 10, 32, 167, 0, 6, 17, 16, 0, 172]
abbrev dktX6_read_5 : List UInt8 := dkwX6_read_5 ++ dktX6_read_6
def dkwX6_read_4 : List UInt8 := [54, 4, 42, 89, 180, 0, 153, 4, 96, 181, 0, 153, 167, 255, 217, 42, 3, 181, 0, 156, 28, 8]
abbrev dktX6_read_4 : List UInt8 := dkwX6_read_4 ++ dktX6_read_5
def dkwX6_read_3 : List UInt8 := [159, 0, 38, 42, 180, 0, 153, 42, 180, 0, 195, 162, 0, 27, 42, 180, 0, 7, 42, 180, 0, 153, 46]
abbrev dktX6_read_3 : List UInt8 := dkwX6_read_3 ++ dktX6_read_4
def dkwX6_read_2 : List UInt8 := [172, 28, 8, 159, 0, 9, 28, 16, 14, 160, 0, 86, 42, 180, 0, 156, 62, 27, 54, 4, 21, 4, 16, 10]
abbrev dktX6_read_2 : List UInt8 := dkwX6_read_2 ++ dktX6_read_3
def dkwX6_read_1 : List UInt8 := [180, 0, 13, 27, 46, 61, 42, 89, 180, 0, 153, 4, 96, 181, 0, 153, 28, 154, 0, 8, 42, 182, 0, 216]
abbrev dktX6_read_1 : List UInt8 := dkwX6_read_1 ++ dktX6_read_2
def dkwX6_read_0 : List UInt8 := [42, 180, 0, 153, 42, 180, 0, 195, 162, 0, 218, 42, 180, 0, 7, 42, 180, 0, 153, 46, 60, 42]
abbrev dktX6_read_0 : List UInt8 := dkwX6_read_0 ++ dktX6_read_1
theorem dksX6_read_0 : cX6_read.data.toList.drop 0 = dktX6_read_0 := by decide +kernel
theorem dksX6_read_1 : cX6_read.data.toList.drop 22 = dktX6_read_1 := dk_seg dksX6_read_0 22 rfl rfl
theorem dksX6_read_2 : cX6_read.data.toList.drop 46 = dktX6_read_2 := dk_seg dksX6_read_1 24 rfl rfl
theorem dksX6_read_3 : cX6_read.data.toList.drop 70 = dktX6_read_3 := dk_seg dksX6_read_2 24 rfl rfl
theorem dksX6_read_4 : cX6_read.data.toList.drop 93 = dktX6_read_4 := dk_seg dksX6_read_3 23 rfl rfl
theorem dksX6_read_5 : cX6_read.data.toList.drop 115 = dktX6_read_5 := dk_seg dksX6_read_4 22 rfl rfl
theorem dksX6_read_6 : cX6_read.data.toList.drop 138 = dktX6_read_6 := dk_seg dksX6_read_5 23 rfl rfl
theorem dksX6_read_7 : cX6_read.data.toList.drop 160 = dktX6_read_7 := dk_seg dksX6_read_6 22 rfl rfl
theorem dksX6_read_8 : cX6_read.data.toList.drop 182 = dktX6_read_8 := dk_seg dksX6_read_7 22 rfl rfl
theorem dksX6_read_9 : cX6_read.data.toList.drop 205 = dktX6_read_9 := dk_seg dksX6_read_8 23 rfl rfl
theorem dX6_read_0 : decode cX6_read 0 = .ok (.aload_n 0, 1) := dk_42 (dk_at dksX6_read_0 0 rfl rfl)
theorem dX6_read_1 : decode cX6_read 1 = .ok (.getfield 153, 3) := dk_180 0 153 (dk_at dksX6_read_0 1 rfl rfl)
theorem dX6_read_4 : decode cX6_read 4 = .ok (.aload_n 0, 1) := dk_42 (dk_at dksX6_read_0 4 rfl rfl)
theorem dX6_read_5 : decode cX6_read 5 = .ok (.getfield 195, 3) := dk_180 0 195 (dk_at dksX6_read_0 5 rfl rfl)
theorem dX6_read_8 : decode cX6_read 8 = .ok (.if_icmp .ge 218, 3) := dk_162 0 218 (dk_at dksX6_read_0 8 rfl rfl)
theorem dX6_read_11 : decode cX6_read 11 = .ok (.aload_n 0, 1) := dk_42 (dk_at dksX6_read_0 11 rfl rfl)
theorem dX6_read_12 : decode cX6_read 12 = .ok (.getfield 7, 3) := dk_180 0 7 (dk_at dksX6_read_0 12 rfl rfl)
theorem dX6_read_15 : decode cX6_read 15 = .ok (.aload_n 0, 1) := dk_42 (dk_at dksX6_read_0 15 rfl rfl)
theorem dX6_read_16 : decode cX6_read 16 = .ok (.getfield 153, 3) := dk_180 0 153 (dk_at dksX6_read_0 16 rfl rfl)
theorem dX6_read_19 : decode cX6_read 19 = .ok (.iaload, 1) := dk_46 (dk_at dksX6_read_0 19 rfl rfl)
theorem dX6_read_20 : decode cX6_read 20 = .ok (.istore_n 1, 1) := dk_60 (dk_at dksX6_read_0 20 rfl rfl)
theorem dX6_read_21 : decode cX6_read 21 = .ok (.aload_n 0, 1) := dk_42 (dk_at dksX6_read_0 21 rfl rfl)
theorem dX6_read_22 : decode cX6_read 22 = .ok (.getfield 13, 3) := dk_180 0 13 (dk_at dksX6_read_1 0 rfl rfl)
theorem dX6_read_25 : decode cX6_read 25 = .ok (.iload_n 1, 1) := dk_27 (dk_at dksX6_read_1 3 rfl rfl)
theorem dX6_read_26 : decode cX6_read 26 = .ok (.iaload, 1) := dk_46 (dk_at dksX6_read_1 4 rfl rfl)
theorem dX6_read_27 : decode cX6_read 27 = .ok (.istore_n 2, 1) := dk_61 (dk_at dksX6_read_1 5 rfl rfl)
theorem dX6_read_28 : decode cX6_read 28 = .ok (.aload_n 0, 1) := dk_42 (dk_at dksX6_read_1 6 rfl rfl)
theorem dX6_read_29 : decode cX6_read 29 = .ok (.dup, 1) := dk_89 (dk_at dksX6_read_1 7 rfl rfl)
theorem dX6_read_30 : decode cX6_read 30 = .ok (.getfield 153, 3) := dk_180 0 153 (dk_at dksX6_read_1 8 rfl rfl)
theorem dX6_read_33 : decode cX6_read 33 = .ok (.iconst 1, 1) := dk_4 (dk_at dksX6_read_1 11 rfl rfl)
theorem dX6_read_34 : decode cX6_read 34 = .ok (.iadd, 1) := dk_96 (dk_at dksX6_read_1 12 rfl rfl)
theorem dX6_read_35 : decode cX6_read 35 = .ok (.putfield 153, 3) := dk_181 0 153 (dk_at dksX6_read_1 13 rfl rfl)
theorem dX6_read_38 : decode cX6_read 38 = .ok (.iload_n 2, 1) := dk_28 (dk_at dksX6_read_1 16 rfl rfl)
theorem dX6_read_39 : decode cX6_read 39 = .ok (.ifCond .ne 8, 3) := dk_154 0 8 (dk_at dksX6_read_1 17 rfl rfl)
theorem dX6_read_42 : decode cX6_read 42 = .ok (.aload_n 0, 1) := dk_42 (dk_at dksX6_read_1 20 rfl rfl)
theorem dX6_read_43 : decode cX6_read 43 = .ok (.invokevirtual 216, 3) := dk_182 0 216 (dk_at dksX6_read_1 21 rfl rfl)
theorem dX6_read_46 : decode cX6_read 46 = .ok (.ireturn, 1) := dk_172 (dk_at dksX6_read_2 0 rfl rfl)
theorem dX6_read_47 : decode cX6_read 47 = .ok (.iload_n 2, 1) := dk_28 (dk_at dksX6_read_2 1 rfl rfl)
theorem dX6_read_48 : decode cX6_read 48 = .ok (.iconst 5, 1) := dk_8 (dk_at dksX6_read_2 2 rfl rfl)
theorem dX6_read_49 : decode cX6_read 49 = .ok (.if_icmp .eq 9, 3) := dk_159 0 9 (dk_at dksX6_read_2 3 rfl rfl)
theorem dX6_read_52 : decode cX6_read 52 = .ok (.iload_n 2, 1) := dk_28 (dk_at dksX6_read_2 6 rfl rfl)
theorem dX6_read_53 : decode cX6_read 53 = .ok (.bipush 14, 2) := dk_16 14 (dk_at dksX6_read_2 7 rfl rfl)
theorem dX6_read_55 : decode cX6_read 55 = .ok (.if_icmp .ne 86, 3) := dk_160 0 86 (dk_at dksX6_read_2 9 rfl rfl)
theorem dX6_read_58 : decode cX6_read 58 = .ok (.aload_n 0, 1) := dk_42 (dk_at dksX6_read_2 12 rfl rfl)
theorem dX6_read_59 : decode cX6_read 59 = .ok (.getfield 156, 3) := dk_180 0 156 (dk_at dksX6_read_2 13 rfl rfl)
theorem dX6_read_62 : decode cX6_read 62 = .ok (.istore_n 3, 1) := dk_62 (dk_at dksX6_read_2 16 rfl rfl)
theorem dX6_read_63 : decode cX6_read 63 = .ok (.iload_n 1, 1) := dk_27 (dk_at dksX6_read_2 17 rfl rfl)
theorem dX6_read_64 : decode cX6_read 64 = .ok (.istore 4, 2) := dk_54 4 (dk_at dksX6_read_2 18 rfl rfl)
theorem dX6_read_66 : decode cX6_read 66 = .ok (.iload 4, 2) := dk_21 4 (dk_at dksX6_read_2 20 rfl rfl)
theorem dX6_read_68 : decode cX6_read 68 = .ok (.bipush 10, 2) := dk_16 10 (dk_at dksX6_read_2 22 rfl rfl)
theorem dX6_read_70 : decode cX6_read 70 = .ok (.if_icmp .eq 38, 3) := dk_159 0 38 (dk_at dksX6_read_3 0 rfl rfl)
theorem dX6_read_73 : decode cX6_read 73 = .ok (.aload_n 0, 1) := dk_42 (dk_at dksX6_read_3 3 rfl rfl)
theorem dX6_read_74 : decode cX6_read 74 = .ok (.getfield 153, 3) := dk_180 0 153 (dk_at dksX6_read_3 4 rfl rfl)
theorem dX6_read_77 : decode cX6_read 77 = .ok (.aload_n 0, 1) := dk_42 (dk_at dksX6_read_3 7 rfl rfl)
theorem dX6_read_78 : decode cX6_read 78 = .ok (.getfield 195, 3) := dk_180 0 195 (dk_at dksX6_read_3 8 rfl rfl)
theorem dX6_read_81 : decode cX6_read 81 = .ok (.if_icmp .ge 27, 3) := dk_162 0 27 (dk_at dksX6_read_3 11 rfl rfl)
theorem dX6_read_84 : decode cX6_read 84 = .ok (.aload_n 0, 1) := dk_42 (dk_at dksX6_read_3 14 rfl rfl)
theorem dX6_read_85 : decode cX6_read 85 = .ok (.getfield 7, 3) := dk_180 0 7 (dk_at dksX6_read_3 15 rfl rfl)
theorem dX6_read_88 : decode cX6_read 88 = .ok (.aload_n 0, 1) := dk_42 (dk_at dksX6_read_3 18 rfl rfl)
theorem dX6_read_89 : decode cX6_read 89 = .ok (.getfield 153, 3) := dk_180 0 153 (dk_at dksX6_read_3 19 rfl rfl)
theorem dX6_read_92 : decode cX6_read 92 = .ok (.iaload, 1) := dk_46 (dk_at dksX6_read_3 22 rfl rfl)
theorem dX6_read_93 : decode cX6_read 93 = .ok (.istore 4, 2) := dk_54 4 (dk_at dksX6_read_4 0 rfl rfl)
theorem dX6_read_95 : decode cX6_read 95 = .ok (.aload_n 0, 1) := dk_42 (dk_at dksX6_read_4 2 rfl rfl)
theorem dX6_read_96 : decode cX6_read 96 = .ok (.dup, 1) := dk_89 (dk_at dksX6_read_4 3 rfl rfl)
theorem dX6_read_97 : decode cX6_read 97 = .ok (.getfield 153, 3) := dk_180 0 153 (dk_at dksX6_read_4 4 rfl rfl)
theorem dX6_read_100 : decode cX6_read 100 = .ok (.iconst 1, 1) := dk_4 (dk_at dksX6_read_4 7 rfl rfl)
theorem dX6_read_101 : decode cX6_read 101 = .ok (.iadd, 1) := dk_96 (dk_at dksX6_read_4 8 rfl rfl)
theorem dX6_read_102 : decode cX6_read 102 = .ok (.putfield 153, 3) := dk_181 0 153 (dk_at dksX6_read_4 9 rfl rfl)
theorem dX6_read_105 : decode cX6_read 105 = .ok (.goto (-39), 3) := dk_167 255 217 (dk_at dksX6_read_4 12 rfl rfl)
theorem dX6_read_108 : decode cX6_read 108 = .ok (.aload_n 0, 1) := dk_42 (dk_at dksX6_read_4 15 rfl rfl)
theorem dX6_read_109 : decode cX6_read 109 = .ok (.iconst 0, 1) := dk_3 (dk_at dksX6_read_4 16 rfl rfl)
theorem dX6_read_110 : decode cX6_read 110 = .ok (.putfield 156, 3) := dk_181 0 156 (dk_at dksX6_read_4 17 rfl rfl)
theorem dX6_read_113 : decode cX6_read 113 = .ok (.iload_n 2, 1) := dk_28 (dk_at dksX6_read_4 20 rfl rfl)
theorem dX6_read_114 : decode cX6_read 114 = .ok (.iconst 5, 1) := dk_8 (dk_at dksX6_read_4 21 rfl rfl)
theorem dX6_read_115 : decode cX6_read 115 = .ok (.if_icmp .ne 23, 3) := dk_160 0 23 (dk_at dksX6_read_5 0 rfl rfl)
theorem dX6_read_118 : decode cX6_read 118 = .ok (.iload_n 3, 1) := dk_29 (dk_at dksX6_read_5 3 rfl rfl)
theorem dX6_read_119 : decode cX6_read 119 = .ok (.iconst 2, 1) := dk_5 (dk_at dksX6_read_5 4 rfl rfl)
theorem dX6_read_120 : decode cX6_read 120 = .ok (.if_icmp .ge 18, 3) := dk_162 0 18 (dk_at dksX6_read_5 5 rfl rfl)
theorem dX6_read_123 : decode cX6_read 123 = .ok (.iload_n 3, 1) := dk_29 (dk_at dksX6_read_5 8 rfl rfl)
theorem dX6_read_124 : decode cX6_read 124 = .ok (.iconst 1, 1) := dk_4 (dk_at dksX6_read_5 9 rfl rfl)
theorem dX6_read_125 : decode cX6_read 125 = .ok (.if_icmp .ne 9, 3) := dk_160 0 9 (dk_at dksX6_read_5 10 rfl rfl)
theorem dX6_read_128 : decode cX6_read 128 = .ok (.sipush 2592, 3) := dk_17 10 32 (dk_at dksX6_read_5 13 rfl rfl)
theorem dX6_read_131 : decode cX6_read 131 = .ok (.goto 6, 3) := dk_167 0 6 (dk_at dksX6_read_5 16 rfl rfl)
theorem dX6_read_134 : decode cX6_read 134 = .ok (.sipush 4096, 3) := dk_17 16 0 (dk_at dksX6_read_5 19 rfl rfl)
theorem dX6_read_137 : decode cX6_read 137 = .ok (.ireturn, 1) := dk_172 (dk_at dksX6_read_5 22 rfl rfl)
theorem dX6_read_138 : decode cX6_read 138 = .ok (.goto 85, 3) := dk_167 0 85 (dk_at dksX6_read_6 0 rfl rfl)
theorem dX6_read_141 : decode cX6_read 141 = .ok (.iload_n 2, 1) := dk_28 (dk_at dksX6_read_6 3 rfl rfl)
theorem dX6_read_142 : decode cX6_read 142 = .ok (.bipush 10, 2) := dk_16 10 (dk_at dksX6_read_6 4 rfl rfl)
theorem dX6_read_144 : decode cX6_read 144 = .ok (.if_icmp .ne 20, 3) := dk_160 0 20 (dk_at dksX6_read_6 6 rfl rfl)
theorem dX6_read_147 : decode cX6_read 147 = .ok (.aload_n 0, 1) := dk_42 (dk_at dksX6_read_6 9 rfl rfl)
theorem dX6_read_148 : decode cX6_read 148 = .ok (.getfield 156, 3) := dk_180 0 156 (dk_at dksX6_read_6 10 rfl rfl)
theorem dX6_read_151 : decode cX6_read 151 = .ok (.iconst 1, 1) := dk_4 (dk_at dksX6_read_6 13 rfl rfl)
theorem dX6_read_152 : decode cX6_read 152 = .ok (.if_icmp .ne 71, 3) := dk_160 0 71 (dk_at dksX6_read_6 14 rfl rfl)
theorem dX6_read_155 : decode cX6_read 155 = .ok (.aload_n 0, 1) := dk_42 (dk_at dksX6_read_6 17 rfl rfl)
theorem dX6_read_156 : decode cX6_read 156 = .ok (.iconst 2, 1) := dk_5 (dk_at dksX6_read_6 18 rfl rfl)
theorem dX6_read_157 : decode cX6_read 157 = .ok (.putfield 156, 3) := dk_181 0 156 (dk_at dksX6_read_6 19 rfl rfl)
theorem dX6_read_160 : decode cX6_read 160 = .ok (.sipush 2592, 3) := dk_17 10 32 (dk_at dksX6_read_7 0 rfl rfl)
theorem dX6_read_163 : decode cX6_read 163 = .ok (.ireturn, 1) := dk_172 (dk_at dksX6_read_7 3 rfl rfl)
theorem dX6_read_164 : decode cX6_read 164 = .ok (.iload_n 2, 1) := dk_28 (dk_at dksX6_read_7 4 rfl rfl)
theorem dX6_read_165 : decode cX6_read 165 = .ok (.bipush 13, 2) := dk_16 13 (dk_at dksX6_read_7 5 rfl rfl)
theorem dX6_read_167 : decode cX6_read 167 = .ok (.if_icmp .ne 24, 3) := dk_160 0 24 (dk_at dksX6_read_7 7 rfl rfl)
theorem dX6_read_170 : decode cX6_read 170 = .ok (.aload_n 0, 1) := dk_42 (dk_at dksX6_read_7 10 rfl rfl)
theorem dX6_read_171 : decode cX6_read 171 = .ok (.iconst 1, 1) := dk_4 (dk_at dksX6_read_7 11 rfl rfl)
theorem dX6_read_172 : decode cX6_read 172 = .ok (.putfield 156, 3) := dk_181 0 156 (dk_at dksX6_read_7 12 rfl rfl)
theorem dX6_read_175 : decode cX6_read 175 = .ok (.aload_n 0, 1) := dk_42 (dk_at dksX6_read_7 15 rfl rfl)
theorem dX6_read_176 : decode cX6_read 176 = .ok (.iconst 0, 1) := dk_3 (dk_at dksX6_read_7 16 rfl rfl)
theorem dX6_read_177 : decode cX6_read 177 = .ok (.putfield 198, 3) := dk_181 0 198 (dk_at dksX6_read_7 17 rfl rfl)
theorem dX6_read_180 : decode cX6_read 180 = .ok (.aload_n 0, 1) := dk_42 (dk_at dksX6_read_7 20 rfl rfl)
theorem dX6_read_181 : decode cX6_read 181 = .ok (.iload_n 1, 1) := dk_27 (dk_at dksX6_read_7 21 rfl rfl)
theorem dX6_read_182 : decode cX6_read 182 = .ok (.invokevirtual 209, 3) := dk_182 0 209 (dk_at dksX6_read_8 0 rfl rfl)
theorem dX6_read_185 : decode cX6_read 185 = .ok (.aload_n 0, 1) := dk_42 (dk_at dksX6_read_8 3 rfl rfl)
theorem dX6_read_186 : decode cX6_read 186 = .ok (.iconst 1, 1) := dk_4 (dk_at dksX6_read_8 4 rfl rfl)
theorem dX6_read_187 : decode cX6_read 187 = .ok (.invokevirtual 213, 3) := dk_182 0 213 (dk_at dksX6_read_8 5 rfl rfl)
theorem dX6_read_190 : decode cX6_read 190 = .ok (.ireturn, 1) := dk_172 (dk_at dksX6_read_8 8 rfl rfl)
theorem dX6_read_191 : decode cX6_read 191 = .ok (.iload_n 2, 1) := dk_28 (dk_at dksX6_read_8 9 rfl rfl)
theorem dX6_read_192 : decode cX6_read 192 = .ok (.bipush 15, 2) := dk_16 15 (dk_at dksX6_read_8 10 rfl rfl)
theorem dX6_read_194 : decode cX6_read 194 = .ok (.if_icmp .ne 10, 3) := dk_160 0 10 (dk_at dksX6_read_8 12 rfl rfl)
theorem dX6_read_197 : decode cX6_read 197 = .ok (.aload_n 0, 1) := dk_42 (dk_at dksX6_read_8 15 rfl rfl)
theorem dX6_read_198 : decode cX6_read 198 = .ok (.bipush 8, 2) := dk_16 8 (dk_at dksX6_read_8 16 rfl rfl)
theorem dX6_read_200 : decode cX6_read 200 = .ok (.invokevirtual 205, 3) := dk_182 0 205 (dk_at dksX6_read_8 18 rfl rfl)
theorem dX6_read_203 : decode cX6_read 203 = .ok (.ireturn, 1) := dk_172 (dk_at dksX6_read_8 21 rfl rfl)
theorem dX6_read_204 : decode cX6_read 204 = .ok (.iload_n 2, 1) := dk_28 (dk_at dksX6_read_8 22 rfl rfl)
theorem dX6_read_205 : decode cX6_read 205 = .ok (.bipush 9, 2) := dk_16 9 (dk_at dksX6_read_9 0 rfl rfl)
theorem dX6_read_207 : decode cX6_read 207 = .ok (.if_icmp .eq 16, 3) := dk_159 0 16 (dk_at dksX6_read_9 2 rfl rfl)
theorem dX6_read_210 : decode cX6_read 210 = .ok (.aload_n 0, 1) := dk_42 (dk_at dksX6_read_9 5 rfl rfl)
theorem dX6_read_211 : decode cX6_read 211 = .ok (.iconst 1, 1) := dk_4 (dk_at dksX6_read_9 6 rfl rfl)
theorem dX6_read_212 : decode cX6_read 212 = .ok (.putfield 156, 3) := dk_181 0 156 (dk_at dksX6_read_9 7 rfl rfl)
theorem dX6_read_215 : decode cX6_read 215 = .ok (.iload_n 1, 1) := dk_27 (dk_at dksX6_read_9 10 rfl rfl)
theorem dX6_read_216 : decode cX6_read 216 = .ok (.sipush 256, 3) := dk_17 1 0 (dk_at dksX6_read_9 11 rfl rfl)
theorem dX6_read_219 : decode cX6_read 219 = .ok (.iload_n 2, 1) := dk_28 (dk_at dksX6_read_9 14 rfl rfl)
theorem dX6_read_220 : decode cX6_read 220 = .ok (.imul, 1) := dk_104 (dk_at dksX6_read_9 15 rfl rfl)
theorem dX6_read_221 : decode cX6_read 221 = .ok (.iadd, 1) := dk_96 (dk_at dksX6_read_9 16 rfl rfl)
theorem dX6_read_222 : decode cX6_read 222 = .ok (.ireturn, 1) := dk_172 (dk_at dksX6_read_9 17 rfl rfl)
theorem dX6_read_223 : decode cX6_read 223 = .ok (.goto (-223), 3) := dk_167 255 33 (dk_at dksX6_read_9 18 rfl rfl)
theorem dX6_read_226 : decode cX6_read 226 = .ok (.iconst (-1), 1) := dk_2 (dk_at dksX6_read_9 21 rfl rfl)
theorem dX6_read_227 : decode cX6_read 227 = .ok (.ireturn, 1) := dk_172 (dk_at dksX6_read_9 22 rfl rfl)
abbrev cX6_readName : ByteArray := prog_10_method_13_code
def yX6_readName : MethodName := ⟨RX6, "readName", "()I"⟩
def dkwX6_readName_6 : List UInt8 := [159, 0, 9, 27, 16, 10, 160, 0, 7, 5, 167, 0, 4, 4, 181, 0, 156, 42, 3, 182, 0, 213, 172]
abbrev dktX6_readName_6 : List UInt8 := dkwX6_readName_6 ++ []
def dkwX6_readName_5 : List UInt8 := [181, 0, 153, 42, 180, 0, 198, 16, 12, 160, 255, 191, 42, 8, 182, 0, 205, 172, 42, 27, 16, 11]
abbrev dktX6_readName_5 : List UInt8 := dkwX6_readName_5 ++ dktX6_readName_6
def dkwX6_readName_4 : List UInt8 := [160, 0, 41, 42, 42, 180, 0, 7, 42, 180, 0, 153, 46, 182, 0, 209, 42, 89, 180, 0, 153, 4, 96]
abbrev dktX6_readName_4 : List UInt8 := dkwX6_readName_4 ++ dktX6_readName_5
def dkwX6_readName_3 : List UInt8 := [180, 0, 195, 162, 0, 60, 42, 180, 0, 13, 42, 180, 0, 7, 42, 180, 0, 153, 46, 46, 16, 11]
abbrev dktX6_readName_3 : List UInt8 := dkwX6_readName_3 ++ dktX6_readName_4
def dkwX6_readName_2 : List UInt8 := [46, 60, 42, 89, 180, 0, 153, 4, 96, 181, 0, 153, 27, 16, 11, 160, 0, 71, 42, 180, 0, 153, 42]
abbrev dktX6_readName_2 : List UInt8 := dkwX6_readName_2 ++ dktX6_readName_3
def dkwX6_readName_1 : List UInt8 := [180, 0, 7, 42, 180, 0, 153, 46, 182, 0, 209, 42, 180, 0, 13, 42, 180, 0, 7, 42, 180, 0, 153, 46]
abbrev dktX6_readName_1 : List UInt8 := dkwX6_readName_1 ++ dktX6_readName_2
def dkwX6_readName_0 : List UInt8 := [42, 180, 0, 153, 42, 180, 0, 195, 160, 0, 9, 42, 6, 182, 0, 205, 172, 42, 3, 181, 0, 198, 42, 42]
abbrev dktX6_readName_0 : List UInt8 := dkwX6_readName_0 ++ dktX6_readName_1
theorem dksX6_readName_0 : cX6_readName.data.toList.drop 0 = dktX6_readName_0 := by decide +kernel
theorem dksX6_readName_1 : cX6_readName.data.toList.drop 24 = dktX6_readName_1 := dk_seg dksX6_readName_0 24 rfl rfl
theorem dksX6_readName_2 : cX6_readName.data.toList.drop 48 = dktX6_readName_2 := dk_seg dksX6_readName_1 24 rfl rfl
theorem dksX6_readName_3 : cX6_readName.data.toList.drop 71 = dktX6_readName_3 := dk_seg dksX6_readName_2 23 rfl rfl
theorem dksX6_readName_4 : cX6_readName.data.toList.drop 93 = dktX6_readName_4 := dk_seg dksX6_readName_3 22 rfl rfl
theorem dksX6_readName_5 : cX6_readName.data.toList.drop 116 = dktX6_readName_5 := dk_seg dksX6_readName_4 23 rfl rfl
theorem dksX6_readName_6 : cX6_readName.data.toList.drop 138 = dktX6_readName_6 := dk_seg dksX6_readName_5 22 rfl rfl
theorem dX6_readName_0 : decode cX6_readName 0 = .ok (.aload_n 0, 1) := dk_42 (dk_at dksX6_readName_0 0 rfl rfl)
theorem dX6_readName_1 : decode cX6_readName 1 = .ok (.getfield 153, 3) := dk_180 0 153 (dk_at dksX6_readName_0 1 rfl rfl)
theorem dX6_readName_4 : decode cX6_readName 4 = .ok (.aload_n 0, 1) := dk_42 (dk_at dksX6_readName_0 4 rfl rfl)
theorem dX6_readName_5 : decode cX6_readName 5 = .ok (.getfield 195, 3) := dk_180 0 195 (dk_at dksX6_readName_0 5 rfl rfl)
theorem dX6_readName_8 : decode cX6_readName 8 = .ok (.if_icmp .ne 9, 3) := dk_160 0 9 (dk_at dksX6_readName_0 8 rfl rfl)
theorem dX6_readName_11 : decode cX6_readName 11 = .ok (.aload_n 0, 1) := dk_42 (dk_at dksX6_readName_0 11 rfl rfl)
theorem dX6_readName_12 : decode cX6_readName 12 = .ok (.iconst 3, 1) := dk_6 (dk_at dksX6_readName_0 12 rfl rfl)
theorem dX6_readName_13 : decode cX6_readName 13 = .ok (.invokevirtual 205, 3) := dk_182 0 205 (dk_at dksX6_readName_0 13 rfl rfl)
theorem dX6_readName_16 : decode cX6_readName 16 = .ok (.ireturn, 1) := dk_172 (dk_at dksX6_readName_0 16 rfl rfl)
theorem dX6_readName_17 : decode cX6_readName 17 = .ok (.aload_n 0, 1) := dk_42 (dk_at dksX6_readName_0 17 rfl rfl)
theorem dX6_readName_18 : decode cX6_readName 18 = .ok (.iconst 0, 1) := dk_3 (dk_at dksX6_readName_0 18 rfl rfl)
theorem dX6_readName_19 : decode cX6_readName 19 = .ok (.putfield 198, 3) := dk_181 0 198 (dk_at dksX6_readName_0 19 rfl rfl)
theorem dX6_readName_22 : decode cX6_readName 22 = .ok (.aload_n 0, 1) := dk_42 (dk_at dksX6_readName_0 22 rfl rfl)
theorem dX6_readName_23 : decode cX6_readName 23 = .ok (.aload_n 0, 1) := dk_42 (dk_at dksX6_readName_0 23 rfl rfl)
theorem dX6_readName_24 : decode cX6_readName 24 = .ok (.getfield 7, 3) := dk_180 0 7 (dk_at dksX6_readName_1 0 rfl rfl)
theorem dX6_readName_27 : decode cX6_readName 27 = .ok (.aload_n 0, 1) := dk_42 (dk_at dksX6_readName_1 3 rfl rfl)
theorem dX6_readName_28 : decode cX6_readName 28 = .ok (.getfield 153, 3) := dk_180 0 153 (dk_at dksX6_readName_1 4 rfl rfl)
theorem dX6_readName_31 : decode cX6_readName 31 = .ok (.iaload, 1) := dk_46 (dk_at dksX6_readName_1 7 rfl rfl)
theorem dX6_readName_32 : decode cX6_readName 32 = .ok (.invokevirtual 209, 3) := dk_182 0 209 (dk_at dksX6_readName_1 8 rfl rfl)
theorem dX6_readName_35 : decode cX6_readName 35 = .ok (.aload_n 0, 1) := dk_42 (dk_at dksX6_readName_1 11 rfl rfl)
theorem dX6_readName_36 : decode cX6_readName 36 = .ok (.getfield 13, 3) := dk_180 0 13 (dk_at dksX6_readName_1 12 rfl rfl)
theorem dX6_readName_39 : decode cX6_readName 39 = .ok (.aload_n 0, 1) := dk_42 (dk_at dksX6_readName_1 15 rfl rfl)
theorem dX6_readName_40 : decode cX6_readName 40 = .ok (.getfield 7, 3) := dk_180 0 7 (dk_at dksX6_readName_1 16 rfl rfl)
theorem dX6_readName_43 : decode cX6_readName 43 = .ok (.aload_n 0, 1) := dk_42 (dk_at dksX6_readName_1 19 rfl rfl)
theorem dX6_readName_44 : decode cX6_readName 44 = .ok (.getfield 153, 3) := dk_180 0 153 (dk_at dksX6_readName_1 20 rfl rfl)
theorem dX6_readName_47 : decode cX6_readName 47 = .ok (.iaload, 1) := dk_46 (dk_at dksX6_readName_1 23 rfl rfl)
theorem dX6_readName_48 : decode cX6_readName 48 = .ok (.iaload, 1) := dk_46 (dk_at dksX6_readName_2 0 rfl rfl)
theorem dX6_readName_49 : decode cX6_readName 49 = .ok (.istore_n 1, 1) := dk_60 (dk_at dksX6_readName_2 1 rfl rfl)
theorem dX6_readName_50 : decode cX6_readName 50 = .ok (.aload_n 0, 1) := dk_42 (dk_at dksX6_readName_2 2 rfl rfl)
theorem dX6_readName_51 : decode cX6_readName 51 = .ok (.dup, 1) := dk_89 (dk_at dksX6_readName_2 3 rfl rfl)
theorem dX6_readName_52 : decode cX6_readName 52 = .ok (.getfield 153, 3) := dk_180 0 153 (dk_at dksX6_readName_2 4 rfl rfl)
theorem dX6_readName_55 : decode cX6_readName 55 = .ok (.iconst 1, 1) := dk_4 (dk_at dksX6_readName_2 7 rfl rfl)
theorem dX6_readName_56 : decode cX6_readName 56 = .ok (.iadd, 1) := dk_96 (dk_at dksX6_readName_2 8 rfl rfl)
theorem dX6_readName_57 : decode cX6_readName 57 = .ok (.putfield 153, 3) := dk_181 0 153 (dk_at dksX6_readName_2 9 rfl rfl)
theorem dX6_readName_60 : decode cX6_readName 60 = .ok (.iload_n 1, 1) := dk_27 (dk_at dksX6_readName_2 12 rfl rfl)
theorem dX6_readName_61 : decode cX6_readName 61 = .ok (.bipush 11, 2) := dk_16 11 (dk_at dksX6_readName_2 13 rfl rfl)
theorem dX6_readName_63 : decode cX6_readName 63 = .ok (.if_icmp .ne 71, 3) := dk_160 0 71 (dk_at dksX6_readName_2 15 rfl rfl)
theorem dX6_readName_66 : decode cX6_readName 66 = .ok (.aload_n 0, 1) := dk_42 (dk_at dksX6_readName_2 18 rfl rfl)
theorem dX6_readName_67 : decode cX6_readName 67 = .ok (.getfield 153, 3) := dk_180 0 153 (dk_at dksX6_readName_2 19 rfl rfl)
theorem dX6_readName_70 : decode cX6_readName 70 = .ok (.aload_n 0, 1) := dk_42 (dk_at dksX6_readName_2 22 rfl rfl)
theorem dX6_readName_71 : decode cX6_readName 71 = .ok (.getfield 195, 3) := dk_180 0 195 (dk_at dksX6_readName_3 0 rfl rfl)
theorem dX6_readName_74 : decode cX6_readName 74 = .ok (.if_icmp .ge 60, 3) := dk_162 0 60 (dk_at dksX6_readName_3 3 rfl rfl)
theorem dX6_readName_77 : decode cX6_readName 77 = .ok (.aload_n 0, 1) := dk_42 (dk_at dksX6_readName_3 6 rfl rfl)
theorem dX6_readName_78 : decode cX6_readName 78 = .ok (.getfield 13, 3) := dk_180 0 13 (dk_at dksX6_readName_3 7 rfl rfl)
theorem dX6_readName_81 : decode cX6_readName 81 = .ok (.aload_n 0, 1) := dk_42 (dk_at dksX6_readName_3 10 rfl rfl)
theorem dX6_readName_82 : decode cX6_readName 82 = .ok (.getfield 7, 3) := dk_180 0 7 (dk_at dksX6_readName_3 11 rfl rfl)
theorem dX6_readName_85 : decode cX6_readName 85 = .ok (.aload_n 0, 1) := dk_42 (dk_at dksX6_readName_3 14 rfl rfl)
theorem dX6_readName_86 : decode cX6_readName 86 = .ok (.getfield 153, 3) := dk_180 0 153 (dk_at dksX6_readName_3 15 rfl rfl)
theorem dX6_readName_89 : decode cX6_readName 89 = .ok (.iaload, 1) := dk_46 (dk_at dksX6_readName_3 18 rfl rfl)
theorem dX6_readName_90 : decode cX6_readName 90 = .ok (.iaload, 1) := dk_46 (dk_at dksX6_readName_3 19 rfl rfl)
theorem dX6_readName_91 : decode cX6_readName 91 = .ok (.bipush 11, 2) := dk_16 11 (dk_at dksX6_readName_3 20 rfl rfl)
theorem dX6_readName_93 : decode cX6_readName 93 = .ok (.if_icmp .ne 41, 3) := dk_160 0 41 (dk_at dksX6_readName_4 0 rfl rfl)
theorem dX6_readName_96 : decode cX6_readName 96 = .ok (.aload_n 0, 1) := dk_42 (dk_at dksX6_readName_4 3 rfl rfl)
theorem dX6_readName_97 : decode cX6_readName 97 = .ok (.aload_n 0, 1) := dk_42 (dk_at dksX6_readName_4 4 rfl rfl)
theorem dX6_readName_98 : decode cX6_readName 98 = .ok (.getfield 7, 3) := dk_180 0 7 (dk_at dksX6_readName_4 5 rfl rfl)
theorem dX6_readName_101 : decode cX6_readName 101 = .ok (.aload_n 0, 1) := dk_42 (dk_at dksX6_readName_4 8 rfl rfl)
theorem dX6_readName_102 : decode cX6_readName 102 = .ok (.getfield 153, 3) := dk_180 0 153 (dk_at dksX6_readName_4 9 rfl rfl)
theorem dX6_readName_105 : decode cX6_readName 105 = .ok (.iaload, 1) := dk_46 (dk_at dksX6_readName_4 12 rfl rfl)
theorem dX6_readName_106 : decode cX6_readName 106 = .ok (.invokevirtual 209, 3) := dk_182 0 209 (dk_at dksX6_readName_4 13 rfl rfl)
theorem dX6_readName_109 : decode cX6_readName 109 = .ok (.aload_n 0, 1) := dk_42 (dk_at dksX6_readName_4 16 rfl rfl)
theorem dX6_readName_110 : decode cX6_readName 110 = .ok (.dup, 1) := dk_89 (dk_at dksX6_readName_4 17 rfl rfl)
theorem dX6_readName_111 : decode cX6_readName 111 = .ok (.getfield 153, 3) := dk_180 0 153 (dk_at dksX6_readName_4 18 rfl rfl)
theorem dX6_readName_114 : decode cX6_readName 114 = .ok (.iconst 1, 1) := dk_4 (dk_at dksX6_readName_4 21 rfl rfl)
theorem dX6_readName_115 : decode cX6_readName 115 = .ok (.iadd, 1) := dk_96 (dk_at dksX6_readName_4 22 rfl rfl)
theorem dX6_readName_116 : decode cX6_readName 116 = .ok (.putfield 153, 3) := dk_181 0 153 (dk_at dksX6_readName_5 0 rfl rfl)
theorem dX6_readName_119 : decode cX6_readName 119 = .ok (.aload_n 0, 1) := dk_42 (dk_at dksX6_readName_5 3 rfl rfl)
theorem dX6_readName_120 : decode cX6_readName 120 = .ok (.getfield 198, 3) := dk_180 0 198 (dk_at dksX6_readName_5 4 rfl rfl)
theorem dX6_readName_123 : decode cX6_readName 123 = .ok (.bipush 12, 2) := dk_16 12 (dk_at dksX6_readName_5 7 rfl rfl)
theorem dX6_readName_125 : decode cX6_readName 125 = .ok (.if_icmp .ne (-65), 3) := dk_160 255 191 (dk_at dksX6_readName_5 9 rfl rfl)
theorem dX6_readName_128 : decode cX6_readName 128 = .ok (.aload_n 0, 1) := dk_42 (dk_at dksX6_readName_5 12 rfl rfl)
theorem dX6_readName_129 : decode cX6_readName 129 = .ok (.iconst 5, 1) := dk_8 (dk_at dksX6_readName_5 13 rfl rfl)
theorem dX6_readName_130 : decode cX6_readName 130 = .ok (.invokevirtual 205, 3) := dk_182 0 205 (dk_at dksX6_readName_5 14 rfl rfl)
theorem dX6_readName_133 : decode cX6_readName 133 = .ok (.ireturn, 1) := dk_172 (dk_at dksX6_readName_5 17 rfl rfl)
theorem dX6_readName_134 : decode cX6_readName 134 = .ok (.aload_n 0, 1) := dk_42 (dk_at dksX6_readName_5 18 rfl rfl)
theorem dX6_readName_135 : decode cX6_readName 135 = .ok (.iload_n 1, 1) := dk_27 (dk_at dksX6_readName_5 19 rfl rfl)
theorem dX6_readName_136 : decode cX6_readName 136 = .ok (.bipush 11, 2) := dk_16 11 (dk_at dksX6_readName_5 20 rfl rfl)
theorem dX6_readName_138 : decode cX6_readName 138 = .ok (.if_icmp .eq 9, 3) := dk_159 0 9 (dk_at dksX6_readName_6 0 rfl rfl)
theorem dX6_readName_141 : decode cX6_readName 141 = .ok (.iload_n 1, 1) := dk_27 (dk_at dksX6_readName_6 3 rfl rfl)
theorem dX6_readName_142 : decode cX6_readName 142 = .ok (.bipush 10, 2) := dk_16 10 (dk_at dksX6_readName_6 4 rfl rfl)
theorem dX6_readName_144 : decode cX6_readName 144 = .ok (.if_icmp .ne 7, 3) := dk_160 0 7 (dk_at dksX6_readName_6 6 rfl rfl)
theorem dX6_readName_147 : decode cX6_readName 147 = .ok (.iconst 2, 1) := dk_5 (dk_at dksX6_readName_6 9 rfl rfl)
theorem dX6_readName_148 : decode cX6_readName 148 = .ok (.goto 4, 3) := dk_167 0 4 (dk_at dksX6_readName_6 10 rfl rfl)
theorem dX6_readName_151 : decode cX6_readName 151 = .ok (.iconst 1, 1) := dk_4 (dk_at dksX6_readName_6 13 rfl rfl)
theorem dX6_readName_152 : decode cX6_readName 152 = .ok (.putfield 156, 3) := dk_181 0 156 (dk_at dksX6_readName_6 14 rfl rfl)
theorem dX6_readName_155 : decode cX6_readName 155 = .ok (.aload_n 0, 1) := dk_42 (dk_at dksX6_readName_6 17 rfl rfl)
theorem dX6_readName_156 : decode cX6_readName 156 = .ok (.iconst 0, 1) := dk_3 (dk_at dksX6_readName_6 18 rfl rfl)
theorem dX6_readName_157 : decode cX6_readName 157 = .ok (.invokevirtual 213, 3) := dk_182 0 213 (dk_at dksX6_readName_6 19 rfl rfl)
theorem dX6_readName_160 : decode cX6_readName 160 = .ok (.ireturn, 1) := dk_172 (dk_at dksX6_readName_6 22 rfl rfl)
abbrev cX6_stop : ByteArray := prog_10_method_9_code
def yX6_stop : MethodName := ⟨RX6, "stop", "(I)I"⟩
def dkwX6_stop_0 : List UInt8 := [42, 42, 180, 0, 159, 154, 0, 7, 27, 167, 0, 7, 42, 180, 0, 159, 181, 0, 159, 2, 172]
abbrev dktX6_stop_0 : List UInt8 := dkwX6_stop_0 ++ []
theorem dksX6_stop_0 : cX6_stop.data.toList.drop 0 = dktX6_stop_0 := by decide +kernel
theorem dX6_stop_0 : decode cX6_stop 0 = .ok (.aload_n 0, 1) := dk_42 (dk_at dksX6_stop_0 0 rfl rfl)
theorem dX6_stop_1 : decode cX6_stop 1 = .ok (.aload_n 0, 1) := dk_42 (dk_at dksX6_stop_0 1 rfl rfl)
theorem dX6_stop_2 : decode cX6_stop 2 = .ok (.getfield 159, 3) := dk_180 0 159 (dk_at dksX6_stop_0 2 rfl rfl)
theorem dX6_stop_5 : decode cX6_stop 5 = .ok (.ifCond .ne 7, 3) := dk_154 0 7 (dk_at dksX6_stop_0 5 rfl rfl)
theorem dX6_stop_8 : decode cX6_stop 8 = .ok (.iload_n 1, 1) := dk_27 (dk_at dksX6_stop_0 8 rfl rfl)
theorem dX6_stop_9 : decode cX6_stop 9 = .ok (.goto 7, 3) := dk_167 0 7 (dk_at dksX6_stop_0 9 rfl rfl)
theorem dX6_stop_12 : decode cX6_stop 12 = .ok (.aload_n 0, 1) := dk_42 (dk_at dksX6_stop_0 12 rfl rfl)
theorem dX6_stop_13 : decode cX6_stop 13 = .ok (.getfield 159, 3) := dk_180 0 159 (dk_at dksX6_stop_0 13 rfl rfl)
theorem dX6_stop_16 : decode cX6_stop 16 = .ok (.putfield 159, 3) := dk_181 0 159 (dk_at dksX6_stop_0 16 rfl rfl)
theorem dX6_stop_19 : decode cX6_stop 19 = .ok (.iconst (-1), 1) := dk_2 (dk_at dksX6_stop_0 19 rfl rfl)
theorem dX6_stop_20 : decode cX6_stop 20 = .ok (.ireturn, 1) := dk_172 (dk_at dksX6_stop_0 20 rfl rfl)
abbrev cX6_say : ByteArray := prog_10_method_10_code
def yX6_say : MethodName := ⟨RX6, "say", "(I)V"⟩
def dkwX6_say_1 : List UInt8 := [4, 96, 181, 0, 198, 177]
abbrev dktX6_say_1 : List UInt8 := dkwX6_say_1 ++ []
def dkwX6_say_0 : List UInt8 := [42, 180, 0, 198, 16, 12, 162, 0, 13, 42, 180, 0, 32, 42, 180, 0, 198, 27, 79, 42, 89, 180, 0, 198]
abbrev dktX6_say_0 : List UInt8 := dkwX6_say_0 ++ dktX6_say_1
theorem dksX6_say_0 : cX6_say.data.toList.drop 0 = dktX6_say_0 := by decide +kernel
theorem dksX6_say_1 : cX6_say.data.toList.drop 24 = dktX6_say_1 := dk_seg dksX6_say_0 24 rfl rfl
theorem dX6_say_0 : decode cX6_say 0 = .ok (.aload_n 0, 1) := dk_42 (dk_at dksX6_say_0 0 rfl rfl)
theorem dX6_say_1 : decode cX6_say 1 = .ok (.getfield 198, 3) := dk_180 0 198 (dk_at dksX6_say_0 1 rfl rfl)
theorem dX6_say_4 : decode cX6_say 4 = .ok (.bipush 12, 2) := dk_16 12 (dk_at dksX6_say_0 4 rfl rfl)
theorem dX6_say_6 : decode cX6_say 6 = .ok (.if_icmp .ge 13, 3) := dk_162 0 13 (dk_at dksX6_say_0 6 rfl rfl)
theorem dX6_say_9 : decode cX6_say 9 = .ok (.aload_n 0, 1) := dk_42 (dk_at dksX6_say_0 9 rfl rfl)
theorem dX6_say_10 : decode cX6_say 10 = .ok (.getfield 32, 3) := dk_180 0 32 (dk_at dksX6_say_0 10 rfl rfl)
theorem dX6_say_13 : decode cX6_say 13 = .ok (.aload_n 0, 1) := dk_42 (dk_at dksX6_say_0 13 rfl rfl)
theorem dX6_say_14 : decode cX6_say 14 = .ok (.getfield 198, 3) := dk_180 0 198 (dk_at dksX6_say_0 14 rfl rfl)
theorem dX6_say_17 : decode cX6_say 17 = .ok (.iload_n 1, 1) := dk_27 (dk_at dksX6_say_0 17 rfl rfl)
theorem dX6_say_18 : decode cX6_say 18 = .ok (.iastore, 1) := dk_79 (dk_at dksX6_say_0 18 rfl rfl)
theorem dX6_say_19 : decode cX6_say 19 = .ok (.aload_n 0, 1) := dk_42 (dk_at dksX6_say_0 19 rfl rfl)
theorem dX6_say_20 : decode cX6_say 20 = .ok (.dup, 1) := dk_89 (dk_at dksX6_say_0 20 rfl rfl)
theorem dX6_say_21 : decode cX6_say 21 = .ok (.getfield 198, 3) := dk_180 0 198 (dk_at dksX6_say_0 21 rfl rfl)
theorem dX6_say_24 : decode cX6_say 24 = .ok (.iconst 1, 1) := dk_4 (dk_at dksX6_say_1 0 rfl rfl)
theorem dX6_say_25 : decode cX6_say 25 = .ok (.iadd, 1) := dk_96 (dk_at dksX6_say_1 1 rfl rfl)
theorem dX6_say_26 : decode cX6_say 26 = .ok (.putfield 198, 3) := dk_181 0 198 (dk_at dksX6_say_1 2 rfl rfl)
theorem dX6_say_29 : decode cX6_say 29 = .ok (.return_, 1) := dk_177 (dk_at dksX6_say_1 5 rfl rfl)
abbrev cX6_named : ByteArray := prog_10_method_12_code
def yX6_named : MethodName := ⟨RX6, "named", "(Z)I"⟩
def dkwX6_named_5 : List UInt8 := [180, 0, 147, 96, 4, 100, 172]
abbrev dktX6_named_5 : List UInt8 := dkwX6_named_5 ++ []
def dkwX6_named_4 : List UInt8 := [46, 79, 132, 3, 1, 167, 255, 225, 42, 89, 180, 0, 147, 4, 96, 181, 0, 147, 17, 16, 0, 42]
abbrev dktX6_named_4 : List UInt8 := dkwX6_named_4 ++ dktX6_named_5
def dkwX6_named_3 : List UInt8 := [180, 0, 198, 162, 0, 29, 42, 180, 0, 19, 16, 11, 42, 180, 0, 147, 104, 29, 96, 42, 180, 0, 32, 29]
abbrev dktX6_named_3 : List UInt8 := dkwX6_named_3 ++ dktX6_named_4
def dkwX6_named_2 : List UInt8 := [180, 0, 25, 42, 180, 0, 147, 27, 84, 42, 180, 0, 29, 42, 180, 0, 147, 3, 79, 3, 62, 29, 42]
abbrev dktX6_named_2 : List UInt8 := dkwX6_named_2 ++ dktX6_named_3
def dkwX6_named_1 : List UInt8 := [160, 0, 9, 42, 8, 182, 0, 205, 172, 42, 180, 0, 22, 42, 180, 0, 147, 42, 180, 0, 198, 79, 42]
abbrev dktX6_named_1 : List UInt8 := dkwX6_named_1 ++ dktX6_named_2
def dkwX6_named_0 : List UInt8 := [42, 27, 182, 0, 201, 61, 28, 155, 0, 9, 17, 16, 0, 28, 96, 172, 42, 180, 0, 147, 16, 118]
abbrev dktX6_named_0 : List UInt8 := dkwX6_named_0 ++ dktX6_named_1
theorem dksX6_named_0 : cX6_named.data.toList.drop 0 = dktX6_named_0 := by decide +kernel
theorem dksX6_named_1 : cX6_named.data.toList.drop 22 = dktX6_named_1 := dk_seg dksX6_named_0 22 rfl rfl
theorem dksX6_named_2 : cX6_named.data.toList.drop 45 = dktX6_named_2 := dk_seg dksX6_named_1 23 rfl rfl
theorem dksX6_named_3 : cX6_named.data.toList.drop 68 = dktX6_named_3 := dk_seg dksX6_named_2 23 rfl rfl
theorem dksX6_named_4 : cX6_named.data.toList.drop 92 = dktX6_named_4 := dk_seg dksX6_named_3 24 rfl rfl
theorem dksX6_named_5 : cX6_named.data.toList.drop 114 = dktX6_named_5 := dk_seg dksX6_named_4 22 rfl rfl
theorem dX6_named_0 : decode cX6_named 0 = .ok (.aload_n 0, 1) := dk_42 (dk_at dksX6_named_0 0 rfl rfl)
theorem dX6_named_1 : decode cX6_named 1 = .ok (.iload_n 1, 1) := dk_27 (dk_at dksX6_named_0 1 rfl rfl)
theorem dX6_named_2 : decode cX6_named 2 = .ok (.invokevirtual 201, 3) := dk_182 0 201 (dk_at dksX6_named_0 2 rfl rfl)
theorem dX6_named_5 : decode cX6_named 5 = .ok (.istore_n 2, 1) := dk_61 (dk_at dksX6_named_0 5 rfl rfl)
theorem dX6_named_6 : decode cX6_named 6 = .ok (.iload_n 2, 1) := dk_28 (dk_at dksX6_named_0 6 rfl rfl)
theorem dX6_named_7 : decode cX6_named 7 = .ok (.ifCond .lt 9, 3) := dk_155 0 9 (dk_at dksX6_named_0 7 rfl rfl)
theorem dX6_named_10 : decode cX6_named 10 = .ok (.sipush 4096, 3) := dk_17 16 0 (dk_at dksX6_named_0 10 rfl rfl)
theorem dX6_named_13 : decode cX6_named 13 = .ok (.iload_n 2, 1) := dk_28 (dk_at dksX6_named_0 13 rfl rfl)
theorem dX6_named_14 : decode cX6_named 14 = .ok (.iadd, 1) := dk_96 (dk_at dksX6_named_0 14 rfl rfl)
theorem dX6_named_15 : decode cX6_named 15 = .ok (.ireturn, 1) := dk_172 (dk_at dksX6_named_0 15 rfl rfl)
theorem dX6_named_16 : decode cX6_named 16 = .ok (.aload_n 0, 1) := dk_42 (dk_at dksX6_named_0 16 rfl rfl)
theorem dX6_named_17 : decode cX6_named 17 = .ok (.getfield 147, 3) := dk_180 0 147 (dk_at dksX6_named_0 17 rfl rfl)
theorem dX6_named_20 : decode cX6_named 20 = .ok (.bipush 118, 2) := dk_16 118 (dk_at dksX6_named_0 20 rfl rfl)
theorem dX6_named_22 : decode cX6_named 22 = .ok (.if_icmp .ne 9, 3) := dk_160 0 9 (dk_at dksX6_named_1 0 rfl rfl)
theorem dX6_named_25 : decode cX6_named 25 = .ok (.aload_n 0, 1) := dk_42 (dk_at dksX6_named_1 3 rfl rfl)
theorem dX6_named_26 : decode cX6_named 26 = .ok (.iconst 5, 1) := dk_8 (dk_at dksX6_named_1 4 rfl rfl)
theorem dX6_named_27 : decode cX6_named 27 = .ok (.invokevirtual 205, 3) := dk_182 0 205 (dk_at dksX6_named_1 5 rfl rfl)
theorem dX6_named_30 : decode cX6_named 30 = .ok (.ireturn, 1) := dk_172 (dk_at dksX6_named_1 8 rfl rfl)
theorem dX6_named_31 : decode cX6_named 31 = .ok (.aload_n 0, 1) := dk_42 (dk_at dksX6_named_1 9 rfl rfl)
theorem dX6_named_32 : decode cX6_named 32 = .ok (.getfield 22, 3) := dk_180 0 22 (dk_at dksX6_named_1 10 rfl rfl)
theorem dX6_named_35 : decode cX6_named 35 = .ok (.aload_n 0, 1) := dk_42 (dk_at dksX6_named_1 13 rfl rfl)
theorem dX6_named_36 : decode cX6_named 36 = .ok (.getfield 147, 3) := dk_180 0 147 (dk_at dksX6_named_1 14 rfl rfl)
theorem dX6_named_39 : decode cX6_named 39 = .ok (.aload_n 0, 1) := dk_42 (dk_at dksX6_named_1 17 rfl rfl)
theorem dX6_named_40 : decode cX6_named 40 = .ok (.getfield 198, 3) := dk_180 0 198 (dk_at dksX6_named_1 18 rfl rfl)
theorem dX6_named_43 : decode cX6_named 43 = .ok (.iastore, 1) := dk_79 (dk_at dksX6_named_1 21 rfl rfl)
theorem dX6_named_44 : decode cX6_named 44 = .ok (.aload_n 0, 1) := dk_42 (dk_at dksX6_named_1 22 rfl rfl)
theorem dX6_named_45 : decode cX6_named 45 = .ok (.getfield 25, 3) := dk_180 0 25 (dk_at dksX6_named_2 0 rfl rfl)
theorem dX6_named_48 : decode cX6_named 48 = .ok (.aload_n 0, 1) := dk_42 (dk_at dksX6_named_2 3 rfl rfl)
theorem dX6_named_49 : decode cX6_named 49 = .ok (.getfield 147, 3) := dk_180 0 147 (dk_at dksX6_named_2 4 rfl rfl)
theorem dX6_named_52 : decode cX6_named 52 = .ok (.iload_n 1, 1) := dk_27 (dk_at dksX6_named_2 7 rfl rfl)
theorem dX6_named_53 : decode cX6_named 53 = .ok (.bastore, 1) := dk_84 (dk_at dksX6_named_2 8 rfl rfl)
theorem dX6_named_54 : decode cX6_named 54 = .ok (.aload_n 0, 1) := dk_42 (dk_at dksX6_named_2 9 rfl rfl)
theorem dX6_named_55 : decode cX6_named 55 = .ok (.getfield 29, 3) := dk_180 0 29 (dk_at dksX6_named_2 10 rfl rfl)
theorem dX6_named_58 : decode cX6_named 58 = .ok (.aload_n 0, 1) := dk_42 (dk_at dksX6_named_2 13 rfl rfl)
theorem dX6_named_59 : decode cX6_named 59 = .ok (.getfield 147, 3) := dk_180 0 147 (dk_at dksX6_named_2 14 rfl rfl)
theorem dX6_named_62 : decode cX6_named 62 = .ok (.iconst 0, 1) := dk_3 (dk_at dksX6_named_2 17 rfl rfl)
theorem dX6_named_63 : decode cX6_named 63 = .ok (.iastore, 1) := dk_79 (dk_at dksX6_named_2 18 rfl rfl)
theorem dX6_named_64 : decode cX6_named 64 = .ok (.iconst 0, 1) := dk_3 (dk_at dksX6_named_2 19 rfl rfl)
theorem dX6_named_65 : decode cX6_named 65 = .ok (.istore_n 3, 1) := dk_62 (dk_at dksX6_named_2 20 rfl rfl)
theorem dX6_named_66 : decode cX6_named 66 = .ok (.iload_n 3, 1) := dk_29 (dk_at dksX6_named_2 21 rfl rfl)
theorem dX6_named_67 : decode cX6_named 67 = .ok (.aload_n 0, 1) := dk_42 (dk_at dksX6_named_2 22 rfl rfl)
theorem dX6_named_68 : decode cX6_named 68 = .ok (.getfield 198, 3) := dk_180 0 198 (dk_at dksX6_named_3 0 rfl rfl)
theorem dX6_named_71 : decode cX6_named 71 = .ok (.if_icmp .ge 29, 3) := dk_162 0 29 (dk_at dksX6_named_3 3 rfl rfl)
theorem dX6_named_74 : decode cX6_named 74 = .ok (.aload_n 0, 1) := dk_42 (dk_at dksX6_named_3 6 rfl rfl)
theorem dX6_named_75 : decode cX6_named 75 = .ok (.getfield 19, 3) := dk_180 0 19 (dk_at dksX6_named_3 7 rfl rfl)
theorem dX6_named_78 : decode cX6_named 78 = .ok (.bipush 11, 2) := dk_16 11 (dk_at dksX6_named_3 10 rfl rfl)
theorem dX6_named_80 : decode cX6_named 80 = .ok (.aload_n 0, 1) := dk_42 (dk_at dksX6_named_3 12 rfl rfl)
theorem dX6_named_81 : decode cX6_named 81 = .ok (.getfield 147, 3) := dk_180 0 147 (dk_at dksX6_named_3 13 rfl rfl)
theorem dX6_named_84 : decode cX6_named 84 = .ok (.imul, 1) := dk_104 (dk_at dksX6_named_3 16 rfl rfl)
theorem dX6_named_85 : decode cX6_named 85 = .ok (.iload_n 3, 1) := dk_29 (dk_at dksX6_named_3 17 rfl rfl)
theorem dX6_named_86 : decode cX6_named 86 = .ok (.iadd, 1) := dk_96 (dk_at dksX6_named_3 18 rfl rfl)
theorem dX6_named_87 : decode cX6_named 87 = .ok (.aload_n 0, 1) := dk_42 (dk_at dksX6_named_3 19 rfl rfl)
theorem dX6_named_88 : decode cX6_named 88 = .ok (.getfield 32, 3) := dk_180 0 32 (dk_at dksX6_named_3 20 rfl rfl)
theorem dX6_named_91 : decode cX6_named 91 = .ok (.iload_n 3, 1) := dk_29 (dk_at dksX6_named_3 23 rfl rfl)
theorem dX6_named_92 : decode cX6_named 92 = .ok (.iaload, 1) := dk_46 (dk_at dksX6_named_4 0 rfl rfl)
theorem dX6_named_93 : decode cX6_named 93 = .ok (.iastore, 1) := dk_79 (dk_at dksX6_named_4 1 rfl rfl)
theorem dX6_named_94 : decode cX6_named 94 = .ok (.iinc 3 1, 3) := dk_132 3 1 (dk_at dksX6_named_4 2 rfl rfl)
theorem dX6_named_97 : decode cX6_named 97 = .ok (.goto (-31), 3) := dk_167 255 225 (dk_at dksX6_named_4 5 rfl rfl)
theorem dX6_named_100 : decode cX6_named 100 = .ok (.aload_n 0, 1) := dk_42 (dk_at dksX6_named_4 8 rfl rfl)
theorem dX6_named_101 : decode cX6_named 101 = .ok (.dup, 1) := dk_89 (dk_at dksX6_named_4 9 rfl rfl)
theorem dX6_named_102 : decode cX6_named 102 = .ok (.getfield 147, 3) := dk_180 0 147 (dk_at dksX6_named_4 10 rfl rfl)
theorem dX6_named_105 : decode cX6_named 105 = .ok (.iconst 1, 1) := dk_4 (dk_at dksX6_named_4 13 rfl rfl)
theorem dX6_named_106 : decode cX6_named 106 = .ok (.iadd, 1) := dk_96 (dk_at dksX6_named_4 14 rfl rfl)
theorem dX6_named_107 : decode cX6_named 107 = .ok (.putfield 147, 3) := dk_181 0 147 (dk_at dksX6_named_4 15 rfl rfl)
theorem dX6_named_110 : decode cX6_named 110 = .ok (.sipush 4096, 3) := dk_17 16 0 (dk_at dksX6_named_4 18 rfl rfl)
theorem dX6_named_113 : decode cX6_named 113 = .ok (.aload_n 0, 1) := dk_42 (dk_at dksX6_named_4 21 rfl rfl)
theorem dX6_named_114 : decode cX6_named 114 = .ok (.getfield 147, 3) := dk_180 0 147 (dk_at dksX6_named_5 0 rfl rfl)
theorem dX6_named_117 : decode cX6_named 117 = .ok (.iadd, 1) := dk_96 (dk_at dksX6_named_5 3 rfl rfl)
theorem dX6_named_118 : decode cX6_named 118 = .ok (.iconst 1, 1) := dk_4 (dk_at dksX6_named_5 4 rfl rfl)
theorem dX6_named_119 : decode cX6_named 119 = .ok (.isub, 1) := dk_100 (dk_at dksX6_named_5 5 rfl rfl)
theorem dX6_named_120 : decode cX6_named 120 = .ok (.ireturn, 1) := dk_172 (dk_at dksX6_named_5 6 rfl rfl)
abbrev cX6_known : ByteArray := prog_10_method_11_code
def yX6_known : MethodName := ⟨RX6, "known", "(Z)I"⟩
def dkwX6_known_4 : List UInt8 := [132, 2, 1, 167, 255, 160, 2, 172]
abbrev dktX6_known_4 : List UInt8 := dkwX6_known_4 ++ []
def dkwX6_known_3 : List UInt8 := [21, 4, 46, 160, 0, 7, 4, 167, 0, 4, 3, 62, 132, 4, 1, 167, 255, 212, 29, 153, 0, 5, 28, 172]
abbrev dktX6_known_3 : List UInt8 := dkwX6_known_3 ++ dktX6_known_4
def dkwX6_known_2 : List UInt8 := [162, 0, 41, 29, 153, 0, 37, 42, 180, 0, 19, 16, 11, 28, 104, 21, 4, 96, 46, 42, 180, 0, 32]
abbrev dktX6_known_2 : List UInt8 := dkwX6_known_2 ++ dktX6_known_3
def dkwX6_known_1 : List UInt8 := [180, 0, 25, 28, 51, 27, 160, 0, 7, 4, 167, 0, 4, 3, 62, 3, 54, 4, 21, 4, 42, 180, 0, 198]
abbrev dktX6_known_1 : List UInt8 := dkwX6_known_1 ++ dktX6_known_2
def dkwX6_known_0 : List UInt8 := [3, 61, 28, 42, 180, 0, 147, 162, 0, 94, 42, 180, 0, 22, 28, 46, 42, 180, 0, 198, 160, 0, 17, 42]
abbrev dktX6_known_0 : List UInt8 := dkwX6_known_0 ++ dktX6_known_1
theorem dksX6_known_0 : cX6_known.data.toList.drop 0 = dktX6_known_0 := by decide +kernel
theorem dksX6_known_1 : cX6_known.data.toList.drop 24 = dktX6_known_1 := dk_seg dksX6_known_0 24 rfl rfl
theorem dksX6_known_2 : cX6_known.data.toList.drop 48 = dktX6_known_2 := dk_seg dksX6_known_1 24 rfl rfl
theorem dksX6_known_3 : cX6_known.data.toList.drop 71 = dktX6_known_3 := dk_seg dksX6_known_2 23 rfl rfl
theorem dksX6_known_4 : cX6_known.data.toList.drop 95 = dktX6_known_4 := dk_seg dksX6_known_3 24 rfl rfl
theorem dX6_known_0 : decode cX6_known 0 = .ok (.iconst 0, 1) := dk_3 (dk_at dksX6_known_0 0 rfl rfl)
theorem dX6_known_1 : decode cX6_known 1 = .ok (.istore_n 2, 1) := dk_61 (dk_at dksX6_known_0 1 rfl rfl)
theorem dX6_known_2 : decode cX6_known 2 = .ok (.iload_n 2, 1) := dk_28 (dk_at dksX6_known_0 2 rfl rfl)
theorem dX6_known_3 : decode cX6_known 3 = .ok (.aload_n 0, 1) := dk_42 (dk_at dksX6_known_0 3 rfl rfl)
theorem dX6_known_4 : decode cX6_known 4 = .ok (.getfield 147, 3) := dk_180 0 147 (dk_at dksX6_known_0 4 rfl rfl)
theorem dX6_known_7 : decode cX6_known 7 = .ok (.if_icmp .ge 94, 3) := dk_162 0 94 (dk_at dksX6_known_0 7 rfl rfl)
theorem dX6_known_10 : decode cX6_known 10 = .ok (.aload_n 0, 1) := dk_42 (dk_at dksX6_known_0 10 rfl rfl)
theorem dX6_known_11 : decode cX6_known 11 = .ok (.getfield 22, 3) := dk_180 0 22 (dk_at dksX6_known_0 11 rfl rfl)
theorem dX6_known_14 : decode cX6_known 14 = .ok (.iload_n 2, 1) := dk_28 (dk_at dksX6_known_0 14 rfl rfl)
theorem dX6_known_15 : decode cX6_known 15 = .ok (.iaload, 1) := dk_46 (dk_at dksX6_known_0 15 rfl rfl)
theorem dX6_known_16 : decode cX6_known 16 = .ok (.aload_n 0, 1) := dk_42 (dk_at dksX6_known_0 16 rfl rfl)
theorem dX6_known_17 : decode cX6_known 17 = .ok (.getfield 198, 3) := dk_180 0 198 (dk_at dksX6_known_0 17 rfl rfl)
theorem dX6_known_20 : decode cX6_known 20 = .ok (.if_icmp .ne 17, 3) := dk_160 0 17 (dk_at dksX6_known_0 20 rfl rfl)
theorem dX6_known_23 : decode cX6_known 23 = .ok (.aload_n 0, 1) := dk_42 (dk_at dksX6_known_0 23 rfl rfl)
theorem dX6_known_24 : decode cX6_known 24 = .ok (.getfield 25, 3) := dk_180 0 25 (dk_at dksX6_known_1 0 rfl rfl)
theorem dX6_known_27 : decode cX6_known 27 = .ok (.iload_n 2, 1) := dk_28 (dk_at dksX6_known_1 3 rfl rfl)
theorem dX6_known_28 : decode cX6_known 28 = .ok (.baload, 1) := dk_51 (dk_at dksX6_known_1 4 rfl rfl)
theorem dX6_known_29 : decode cX6_known 29 = .ok (.iload_n 1, 1) := dk_27 (dk_at dksX6_known_1 5 rfl rfl)
theorem dX6_known_30 : decode cX6_known 30 = .ok (.if_icmp .ne 7, 3) := dk_160 0 7 (dk_at dksX6_known_1 6 rfl rfl)
theorem dX6_known_33 : decode cX6_known 33 = .ok (.iconst 1, 1) := dk_4 (dk_at dksX6_known_1 9 rfl rfl)
theorem dX6_known_34 : decode cX6_known 34 = .ok (.goto 4, 3) := dk_167 0 4 (dk_at dksX6_known_1 10 rfl rfl)
theorem dX6_known_37 : decode cX6_known 37 = .ok (.iconst 0, 1) := dk_3 (dk_at dksX6_known_1 13 rfl rfl)
theorem dX6_known_38 : decode cX6_known 38 = .ok (.istore_n 3, 1) := dk_62 (dk_at dksX6_known_1 14 rfl rfl)
theorem dX6_known_39 : decode cX6_known 39 = .ok (.iconst 0, 1) := dk_3 (dk_at dksX6_known_1 15 rfl rfl)
theorem dX6_known_40 : decode cX6_known 40 = .ok (.istore 4, 2) := dk_54 4 (dk_at dksX6_known_1 16 rfl rfl)
theorem dX6_known_42 : decode cX6_known 42 = .ok (.iload 4, 2) := dk_21 4 (dk_at dksX6_known_1 18 rfl rfl)
theorem dX6_known_44 : decode cX6_known 44 = .ok (.aload_n 0, 1) := dk_42 (dk_at dksX6_known_1 20 rfl rfl)
theorem dX6_known_45 : decode cX6_known 45 = .ok (.getfield 198, 3) := dk_180 0 198 (dk_at dksX6_known_1 21 rfl rfl)
theorem dX6_known_48 : decode cX6_known 48 = .ok (.if_icmp .ge 41, 3) := dk_162 0 41 (dk_at dksX6_known_2 0 rfl rfl)
theorem dX6_known_51 : decode cX6_known 51 = .ok (.iload_n 3, 1) := dk_29 (dk_at dksX6_known_2 3 rfl rfl)
theorem dX6_known_52 : decode cX6_known 52 = .ok (.ifCond .eq 37, 3) := dk_153 0 37 (dk_at dksX6_known_2 4 rfl rfl)
theorem dX6_known_55 : decode cX6_known 55 = .ok (.aload_n 0, 1) := dk_42 (dk_at dksX6_known_2 7 rfl rfl)
theorem dX6_known_56 : decode cX6_known 56 = .ok (.getfield 19, 3) := dk_180 0 19 (dk_at dksX6_known_2 8 rfl rfl)
theorem dX6_known_59 : decode cX6_known 59 = .ok (.bipush 11, 2) := dk_16 11 (dk_at dksX6_known_2 11 rfl rfl)
theorem dX6_known_61 : decode cX6_known 61 = .ok (.iload_n 2, 1) := dk_28 (dk_at dksX6_known_2 13 rfl rfl)
theorem dX6_known_62 : decode cX6_known 62 = .ok (.imul, 1) := dk_104 (dk_at dksX6_known_2 14 rfl rfl)
theorem dX6_known_63 : decode cX6_known 63 = .ok (.iload 4, 2) := dk_21 4 (dk_at dksX6_known_2 15 rfl rfl)
theorem dX6_known_65 : decode cX6_known 65 = .ok (.iadd, 1) := dk_96 (dk_at dksX6_known_2 17 rfl rfl)
theorem dX6_known_66 : decode cX6_known 66 = .ok (.iaload, 1) := dk_46 (dk_at dksX6_known_2 18 rfl rfl)
theorem dX6_known_67 : decode cX6_known 67 = .ok (.aload_n 0, 1) := dk_42 (dk_at dksX6_known_2 19 rfl rfl)
theorem dX6_known_68 : decode cX6_known 68 = .ok (.getfield 32, 3) := dk_180 0 32 (dk_at dksX6_known_2 20 rfl rfl)
theorem dX6_known_71 : decode cX6_known 71 = .ok (.iload 4, 2) := dk_21 4 (dk_at dksX6_known_3 0 rfl rfl)
theorem dX6_known_73 : decode cX6_known 73 = .ok (.iaload, 1) := dk_46 (dk_at dksX6_known_3 2 rfl rfl)
theorem dX6_known_74 : decode cX6_known 74 = .ok (.if_icmp .ne 7, 3) := dk_160 0 7 (dk_at dksX6_known_3 3 rfl rfl)
theorem dX6_known_77 : decode cX6_known 77 = .ok (.iconst 1, 1) := dk_4 (dk_at dksX6_known_3 6 rfl rfl)
theorem dX6_known_78 : decode cX6_known 78 = .ok (.goto 4, 3) := dk_167 0 4 (dk_at dksX6_known_3 7 rfl rfl)
theorem dX6_known_81 : decode cX6_known 81 = .ok (.iconst 0, 1) := dk_3 (dk_at dksX6_known_3 10 rfl rfl)
theorem dX6_known_82 : decode cX6_known 82 = .ok (.istore_n 3, 1) := dk_62 (dk_at dksX6_known_3 11 rfl rfl)
theorem dX6_known_83 : decode cX6_known 83 = .ok (.iinc 4 1, 3) := dk_132 4 1 (dk_at dksX6_known_3 12 rfl rfl)
theorem dX6_known_86 : decode cX6_known 86 = .ok (.goto (-44), 3) := dk_167 255 212 (dk_at dksX6_known_3 15 rfl rfl)
theorem dX6_known_89 : decode cX6_known 89 = .ok (.iload_n 3, 1) := dk_29 (dk_at dksX6_known_3 18 rfl rfl)
theorem dX6_known_90 : decode cX6_known 90 = .ok (.ifCond .eq 5, 3) := dk_153 0 5 (dk_at dksX6_known_3 19 rfl rfl)
theorem dX6_known_93 : decode cX6_known 93 = .ok (.iload_n 2, 1) := dk_28 (dk_at dksX6_known_3 22 rfl rfl)
theorem dX6_known_94 : decode cX6_known 94 = .ok (.ireturn, 1) := dk_172 (dk_at dksX6_known_3 23 rfl rfl)
theorem dX6_known_95 : decode cX6_known 95 = .ok (.iinc 2 1, 3) := dk_132 2 1 (dk_at dksX6_known_4 0 rfl rfl)
theorem dX6_known_98 : decode cX6_known 98 = .ok (.goto (-96), 3) := dk_167 255 160 (dk_at dksX6_known_4 3 rfl rfl)
theorem dX6_known_101 : decode cX6_known 101 = .ok (.iconst (-1), 1) := dk_2 (dk_at dksX6_known_4 6 rfl rfl)
theorem dX6_known_102 : decode cX6_known 102 = .ok (.ireturn, 1) := dk_172 (dk_at dksX6_known_4 7 rfl rfl)
abbrev cX6_isExpandable : ByteArray := prog_10_method_23_code
def yX6_isExpandable : MethodName := ⟨RX6, "isExpandable", "(I)Z"⟩
def dkwX6_isExpandable_2 : List UInt8 := [167, 0, 4, 3, 172]
abbrev dktX6_isExpandable_2 : List UInt8 := dkwX6_isExpandable_2 ++ []
def dkwX6_isExpandable_1 : List UInt8 := [159, 0, 21, 28, 16, 10, 159, 0, 15, 28, 16, 12, 161, 0, 13, 28, 16, 18, 163, 0, 7, 4]
abbrev dktX6_isExpandable_1 : List UInt8 := dkwX6_isExpandable_1 ++ dktX6_isExpandable_2
def dkwX6_isExpandable_0 : List UInt8 := [42, 27, 182, 0, 232, 61, 28, 17, 23, 112, 162, 0, 33, 28, 16, 8, 159, 0, 27, 28, 16, 9]
abbrev dktX6_isExpandable_0 : List UInt8 := dkwX6_isExpandable_0 ++ dktX6_isExpandable_1
theorem dksX6_isExpandable_0 : cX6_isExpandable.data.toList.drop 0 = dktX6_isExpandable_0 := by decide +kernel
theorem dksX6_isExpandable_1 : cX6_isExpandable.data.toList.drop 22 = dktX6_isExpandable_1 := dk_seg dksX6_isExpandable_0 22 rfl rfl
theorem dksX6_isExpandable_2 : cX6_isExpandable.data.toList.drop 44 = dktX6_isExpandable_2 := dk_seg dksX6_isExpandable_1 22 rfl rfl
theorem dX6_isExpandable_0 : decode cX6_isExpandable 0 = .ok (.aload_n 0, 1) := dk_42 (dk_at dksX6_isExpandable_0 0 rfl rfl)
theorem dX6_isExpandable_1 : decode cX6_isExpandable 1 = .ok (.iload_n 1, 1) := dk_27 (dk_at dksX6_isExpandable_0 1 rfl rfl)
theorem dX6_isExpandable_2 : decode cX6_isExpandable 2 = .ok (.invokevirtual 232, 3) := dk_182 0 232 (dk_at dksX6_isExpandable_0 2 rfl rfl)
theorem dX6_isExpandable_5 : decode cX6_isExpandable 5 = .ok (.istore_n 2, 1) := dk_61 (dk_at dksX6_isExpandable_0 5 rfl rfl)
theorem dX6_isExpandable_6 : decode cX6_isExpandable 6 = .ok (.iload_n 2, 1) := dk_28 (dk_at dksX6_isExpandable_0 6 rfl rfl)
theorem dX6_isExpandable_7 : decode cX6_isExpandable 7 = .ok (.sipush 6000, 3) := dk_17 23 112 (dk_at dksX6_isExpandable_0 7 rfl rfl)
theorem dX6_isExpandable_10 : decode cX6_isExpandable 10 = .ok (.if_icmp .ge 33, 3) := dk_162 0 33 (dk_at dksX6_isExpandable_0 10 rfl rfl)
theorem dX6_isExpandable_13 : decode cX6_isExpandable 13 = .ok (.iload_n 2, 1) := dk_28 (dk_at dksX6_isExpandable_0 13 rfl rfl)
theorem dX6_isExpandable_14 : decode cX6_isExpandable 14 = .ok (.bipush 8, 2) := dk_16 8 (dk_at dksX6_isExpandable_0 14 rfl rfl)
theorem dX6_isExpandable_16 : decode cX6_isExpandable 16 = .ok (.if_icmp .eq 27, 3) := dk_159 0 27 (dk_at dksX6_isExpandable_0 16 rfl rfl)
theorem dX6_isExpandable_19 : decode cX6_isExpandable 19 = .ok (.iload_n 2, 1) := dk_28 (dk_at dksX6_isExpandable_0 19 rfl rfl)
theorem dX6_isExpandable_20 : decode cX6_isExpandable 20 = .ok (.bipush 9, 2) := dk_16 9 (dk_at dksX6_isExpandable_0 20 rfl rfl)
theorem dX6_isExpandable_22 : decode cX6_isExpandable 22 = .ok (.if_icmp .eq 21, 3) := dk_159 0 21 (dk_at dksX6_isExpandable_1 0 rfl rfl)
theorem dX6_isExpandable_25 : decode cX6_isExpandable 25 = .ok (.iload_n 2, 1) := dk_28 (dk_at dksX6_isExpandable_1 3 rfl rfl)
theorem dX6_isExpandable_26 : decode cX6_isExpandable 26 = .ok (.bipush 10, 2) := dk_16 10 (dk_at dksX6_isExpandable_1 4 rfl rfl)
theorem dX6_isExpandable_28 : decode cX6_isExpandable 28 = .ok (.if_icmp .eq 15, 3) := dk_159 0 15 (dk_at dksX6_isExpandable_1 6 rfl rfl)
theorem dX6_isExpandable_31 : decode cX6_isExpandable 31 = .ok (.iload_n 2, 1) := dk_28 (dk_at dksX6_isExpandable_1 9 rfl rfl)
theorem dX6_isExpandable_32 : decode cX6_isExpandable 32 = .ok (.bipush 12, 2) := dk_16 12 (dk_at dksX6_isExpandable_1 10 rfl rfl)
theorem dX6_isExpandable_34 : decode cX6_isExpandable 34 = .ok (.if_icmp .lt 13, 3) := dk_161 0 13 (dk_at dksX6_isExpandable_1 12 rfl rfl)
theorem dX6_isExpandable_37 : decode cX6_isExpandable 37 = .ok (.iload_n 2, 1) := dk_28 (dk_at dksX6_isExpandable_1 15 rfl rfl)
theorem dX6_isExpandable_38 : decode cX6_isExpandable 38 = .ok (.bipush 18, 2) := dk_16 18 (dk_at dksX6_isExpandable_1 16 rfl rfl)
theorem dX6_isExpandable_40 : decode cX6_isExpandable 40 = .ok (.if_icmp .gt 7, 3) := dk_163 0 7 (dk_at dksX6_isExpandable_1 18 rfl rfl)
theorem dX6_isExpandable_43 : decode cX6_isExpandable 43 = .ok (.iconst 1, 1) := dk_4 (dk_at dksX6_isExpandable_1 21 rfl rfl)
theorem dX6_isExpandable_44 : decode cX6_isExpandable 44 = .ok (.goto 4, 3) := dk_167 0 4 (dk_at dksX6_isExpandable_2 0 rfl rfl)
theorem dX6_isExpandable_47 : decode cX6_isExpandable 47 = .ok (.iconst 0, 1) := dk_3 (dk_at dksX6_isExpandable_2 3 rfl rfl)
theorem dX6_isExpandable_48 : decode cX6_isExpandable 48 = .ok (.ireturn, 1) := dk_172 (dk_at dksX6_isExpandable_2 4 rfl rfl)
abbrev cX6_meaningOf : ByteArray := prog_10_method_22_code
def yX6_meaningOf : MethodName := ⟨RX6, "meaningOf", "(I)I"⟩
def dkwX6_meaningOf_1 : List UInt8 := [167, 0, 13, 42, 180, 0, 29, 27, 17, 16, 0, 100, 46, 172]
abbrev dktX6_meaningOf_1 : List UInt8 := dkwX6_meaningOf_1 ++ []
def dkwX6_meaningOf_0 : List UInt8 := [27, 17, 16, 0, 162, 0, 11, 17, 3, 232, 27, 96, 167, 0, 24, 27, 184, 0, 229, 153, 0, 7, 5]
abbrev dktX6_meaningOf_0 : List UInt8 := dkwX6_meaningOf_0 ++ dktX6_meaningOf_1
theorem dksX6_meaningOf_0 : cX6_meaningOf.data.toList.drop 0 = dktX6_meaningOf_0 := by decide +kernel
theorem dksX6_meaningOf_1 : cX6_meaningOf.data.toList.drop 23 = dktX6_meaningOf_1 := dk_seg dksX6_meaningOf_0 23 rfl rfl
theorem dX6_meaningOf_0 : decode cX6_meaningOf 0 = .ok (.iload_n 1, 1) := dk_27 (dk_at dksX6_meaningOf_0 0 rfl rfl)
theorem dX6_meaningOf_1 : decode cX6_meaningOf 1 = .ok (.sipush 4096, 3) := dk_17 16 0 (dk_at dksX6_meaningOf_0 1 rfl rfl)
theorem dX6_meaningOf_4 : decode cX6_meaningOf 4 = .ok (.if_icmp .ge 11, 3) := dk_162 0 11 (dk_at dksX6_meaningOf_0 4 rfl rfl)
theorem dX6_meaningOf_7 : decode cX6_meaningOf 7 = .ok (.sipush 1000, 3) := dk_17 3 232 (dk_at dksX6_meaningOf_0 7 rfl rfl)
theorem dX6_meaningOf_10 : decode cX6_meaningOf 10 = .ok (.iload_n 1, 1) := dk_27 (dk_at dksX6_meaningOf_0 10 rfl rfl)
theorem dX6_meaningOf_11 : decode cX6_meaningOf 11 = .ok (.iadd, 1) := dk_96 (dk_at dksX6_meaningOf_0 11 rfl rfl)
theorem dX6_meaningOf_12 : decode cX6_meaningOf 12 = .ok (.goto 24, 3) := dk_167 0 24 (dk_at dksX6_meaningOf_0 12 rfl rfl)
theorem dX6_meaningOf_15 : decode cX6_meaningOf 15 = .ok (.iload_n 1, 1) := dk_27 (dk_at dksX6_meaningOf_0 15 rfl rfl)
theorem dX6_meaningOf_16 : decode cX6_meaningOf 16 = .ok (.invokestatic 229, 3) := dk_184 0 229 (dk_at dksX6_meaningOf_0 16 rfl rfl)
theorem dX6_meaningOf_19 : decode cX6_meaningOf 19 = .ok (.ifCond .eq 7, 3) := dk_153 0 7 (dk_at dksX6_meaningOf_0 19 rfl rfl)
theorem dX6_meaningOf_22 : decode cX6_meaningOf 22 = .ok (.iconst 2, 1) := dk_5 (dk_at dksX6_meaningOf_0 22 rfl rfl)
theorem dX6_meaningOf_23 : decode cX6_meaningOf 23 = .ok (.goto 13, 3) := dk_167 0 13 (dk_at dksX6_meaningOf_1 0 rfl rfl)
theorem dX6_meaningOf_26 : decode cX6_meaningOf 26 = .ok (.aload_n 0, 1) := dk_42 (dk_at dksX6_meaningOf_1 3 rfl rfl)
theorem dX6_meaningOf_27 : decode cX6_meaningOf 27 = .ok (.getfield 29, 3) := dk_180 0 29 (dk_at dksX6_meaningOf_1 4 rfl rfl)
theorem dX6_meaningOf_30 : decode cX6_meaningOf 30 = .ok (.iload_n 1, 1) := dk_27 (dk_at dksX6_meaningOf_1 7 rfl rfl)
theorem dX6_meaningOf_31 : decode cX6_meaningOf 31 = .ok (.sipush 4096, 3) := dk_17 16 0 (dk_at dksX6_meaningOf_1 8 rfl rfl)
theorem dX6_meaningOf_34 : decode cX6_meaningOf 34 = .ok (.isub, 1) := dk_100 (dk_at dksX6_meaningOf_1 11 rfl rfl)
theorem dX6_meaningOf_35 : decode cX6_meaningOf 35 = .ok (.iaload, 1) := dk_46 (dk_at dksX6_meaningOf_1 12 rfl rfl)
theorem dX6_meaningOf_36 : decode cX6_meaningOf 36 = .ok (.ireturn, 1) := dk_172 (dk_at dksX6_meaningOf_1 13 rfl rfl)
abbrev cX6_isMarked : ByteArray := prog_10_method_19_code
def yX6_isMarked : MethodName := ⟨RX6, "isMarked", "(I)Z"⟩
def dkwX6_isMarked_0 : List UInt8 := [26, 184, 0, 226, 153, 0, 15, 26, 17, 32, 0, 126, 153, 0, 7, 4, 167, 0, 4, 3, 172]
abbrev dktX6_isMarked_0 : List UInt8 := dkwX6_isMarked_0 ++ []
theorem dksX6_isMarked_0 : cX6_isMarked.data.toList.drop 0 = dktX6_isMarked_0 := by decide +kernel
theorem dX6_isMarked_0 : decode cX6_isMarked 0 = .ok (.iload_n 0, 1) := dk_26 (dk_at dksX6_isMarked_0 0 rfl rfl)
theorem dX6_isMarked_1 : decode cX6_isMarked 1 = .ok (.invokestatic 226, 3) := dk_184 0 226 (dk_at dksX6_isMarked_0 1 rfl rfl)
theorem dX6_isMarked_4 : decode cX6_isMarked 4 = .ok (.ifCond .eq 15, 3) := dk_153 0 15 (dk_at dksX6_isMarked_0 4 rfl rfl)
theorem dX6_isMarked_7 : decode cX6_isMarked 7 = .ok (.iload_n 0, 1) := dk_26 (dk_at dksX6_isMarked_0 7 rfl rfl)
theorem dX6_isMarked_8 : decode cX6_isMarked 8 = .ok (.sipush 8192, 3) := dk_17 32 0 (dk_at dksX6_isMarked_0 8 rfl rfl)
theorem dX6_isMarked_11 : decode cX6_isMarked 11 = .ok (.iand, 1) := dk_126 (dk_at dksX6_isMarked_0 11 rfl rfl)
theorem dX6_isMarked_12 : decode cX6_isMarked 12 = .ok (.ifCond .eq 7, 3) := dk_153 0 7 (dk_at dksX6_isMarked_0 12 rfl rfl)
theorem dX6_isMarked_15 : decode cX6_isMarked 15 = .ok (.iconst 1, 1) := dk_4 (dk_at dksX6_isMarked_0 15 rfl rfl)
theorem dX6_isMarked_16 : decode cX6_isMarked 16 = .ok (.goto 4, 3) := dk_167 0 4 (dk_at dksX6_isMarked_0 16 rfl rfl)
theorem dX6_isMarked_19 : decode cX6_isMarked 19 = .ok (.iconst 0, 1) := dk_3 (dk_at dksX6_isMarked_0 19 rfl rfl)
theorem dX6_isMarked_20 : decode cX6_isMarked 20 = .ok (.ireturn, 1) := dk_172 (dk_at dksX6_isMarked_0 20 rfl rfl)
abbrev cX6_isName : ByteArray := prog_10_method_18_code
def yX6_isName : MethodName := ⟨RX6, "isName", "(I)Z"⟩
def dkwX6_isName_0 : List UInt8 := [26, 17, 16, 0, 161, 0, 14, 26, 17, 64, 0, 162, 0, 7, 4, 167, 0, 4, 3, 172]
abbrev dktX6_isName_0 : List UInt8 := dkwX6_isName_0 ++ []
theorem dksX6_isName_0 : cX6_isName.data.toList.drop 0 = dktX6_isName_0 := by decide +kernel
theorem dX6_isName_0 : decode cX6_isName 0 = .ok (.iload_n 0, 1) := dk_26 (dk_at dksX6_isName_0 0 rfl rfl)
theorem dX6_isName_1 : decode cX6_isName 1 = .ok (.sipush 4096, 3) := dk_17 16 0 (dk_at dksX6_isName_0 1 rfl rfl)
theorem dX6_isName_4 : decode cX6_isName 4 = .ok (.if_icmp .lt 14, 3) := dk_161 0 14 (dk_at dksX6_isName_0 4 rfl rfl)
theorem dX6_isName_7 : decode cX6_isName 7 = .ok (.iload_n 0, 1) := dk_26 (dk_at dksX6_isName_0 7 rfl rfl)
theorem dX6_isName_8 : decode cX6_isName 8 = .ok (.sipush 16384, 3) := dk_17 64 0 (dk_at dksX6_isName_0 8 rfl rfl)
theorem dX6_isName_11 : decode cX6_isName 11 = .ok (.if_icmp .ge 7, 3) := dk_162 0 7 (dk_at dksX6_isName_0 11 rfl rfl)
theorem dX6_isName_14 : decode cX6_isName 14 = .ok (.iconst 1, 1) := dk_4 (dk_at dksX6_isName_0 14 rfl rfl)
theorem dX6_isName_15 : decode cX6_isName 15 = .ok (.goto 4, 3) := dk_167 0 4 (dk_at dksX6_isName_0 15 rfl rfl)
theorem dX6_isName_18 : decode cX6_isName 18 = .ok (.iconst 0, 1) := dk_3 (dk_at dksX6_isName_0 18 rfl rfl)
theorem dX6_isName_19 : decode cX6_isName 19 = .ok (.ireturn, 1) := dk_172 (dk_at dksX6_isName_0 19 rfl rfl)
abbrev cX6_expand : ByteArray := prog_10_method_44_code
def yX6_expand : MethodName := ⟨RX6, "expand", "(I)V"⟩
def dkwX6_expand_2 : List UInt8 := [177]
abbrev dktX6_expand_2 : List UInt8 := dkwX6_expand_2 ++ []
def dkwX6_expand_1 : List UInt8 := [164, 0, 24, 28, 2, 159, 0, 11, 42, 28, 182, 1, 56, 167, 0, 7, 42, 182, 1, 59, 61, 167, 255, 218]
abbrev dktX6_expand_1 : List UInt8 := dkwX6_expand_1 ++ dktX6_expand_2
def dkwX6_expand_0 : List UInt8 := [27, 61, 42, 180, 0, 180, 62, 42, 180, 0, 159, 154, 0, 37, 28, 2, 160, 0, 11, 42, 180, 0, 180, 29]
abbrev dktX6_expand_0 : List UInt8 := dkwX6_expand_0 ++ dktX6_expand_1
theorem dksX6_expand_0 : cX6_expand.data.toList.drop 0 = dktX6_expand_0 := by decide +kernel
theorem dksX6_expand_1 : cX6_expand.data.toList.drop 24 = dktX6_expand_1 := dk_seg dksX6_expand_0 24 rfl rfl
theorem dksX6_expand_2 : cX6_expand.data.toList.drop 48 = dktX6_expand_2 := dk_seg dksX6_expand_1 24 rfl rfl
theorem dX6_expand_0 : decode cX6_expand 0 = .ok (.iload_n 1, 1) := dk_27 (dk_at dksX6_expand_0 0 rfl rfl)
theorem dX6_expand_1 : decode cX6_expand 1 = .ok (.istore_n 2, 1) := dk_61 (dk_at dksX6_expand_0 1 rfl rfl)
theorem dX6_expand_2 : decode cX6_expand 2 = .ok (.aload_n 0, 1) := dk_42 (dk_at dksX6_expand_0 2 rfl rfl)
theorem dX6_expand_3 : decode cX6_expand 3 = .ok (.getfield 180, 3) := dk_180 0 180 (dk_at dksX6_expand_0 3 rfl rfl)
theorem dX6_expand_6 : decode cX6_expand 6 = .ok (.istore_n 3, 1) := dk_62 (dk_at dksX6_expand_0 6 rfl rfl)
theorem dX6_expand_7 : decode cX6_expand 7 = .ok (.aload_n 0, 1) := dk_42 (dk_at dksX6_expand_0 7 rfl rfl)
theorem dX6_expand_8 : decode cX6_expand 8 = .ok (.getfield 159, 3) := dk_180 0 159 (dk_at dksX6_expand_0 8 rfl rfl)
theorem dX6_expand_11 : decode cX6_expand 11 = .ok (.ifCond .ne 37, 3) := dk_154 0 37 (dk_at dksX6_expand_0 11 rfl rfl)
theorem dX6_expand_14 : decode cX6_expand 14 = .ok (.iload_n 2, 1) := dk_28 (dk_at dksX6_expand_0 14 rfl rfl)
theorem dX6_expand_15 : decode cX6_expand 15 = .ok (.iconst (-1), 1) := dk_2 (dk_at dksX6_expand_0 15 rfl rfl)
theorem dX6_expand_16 : decode cX6_expand 16 = .ok (.if_icmp .ne 11, 3) := dk_160 0 11 (dk_at dksX6_expand_0 16 rfl rfl)
theorem dX6_expand_19 : decode cX6_expand 19 = .ok (.aload_n 0, 1) := dk_42 (dk_at dksX6_expand_0 19 rfl rfl)
theorem dX6_expand_20 : decode cX6_expand 20 = .ok (.getfield 180, 3) := dk_180 0 180 (dk_at dksX6_expand_0 20 rfl rfl)
theorem dX6_expand_23 : decode cX6_expand 23 = .ok (.iload_n 3, 1) := dk_29 (dk_at dksX6_expand_0 23 rfl rfl)
theorem dX6_expand_24 : decode cX6_expand 24 = .ok (.if_icmp .le 24, 3) := dk_164 0 24 (dk_at dksX6_expand_1 0 rfl rfl)
theorem dX6_expand_27 : decode cX6_expand 27 = .ok (.iload_n 2, 1) := dk_28 (dk_at dksX6_expand_1 3 rfl rfl)
theorem dX6_expand_28 : decode cX6_expand 28 = .ok (.iconst (-1), 1) := dk_2 (dk_at dksX6_expand_1 4 rfl rfl)
theorem dX6_expand_29 : decode cX6_expand 29 = .ok (.if_icmp .eq 11, 3) := dk_159 0 11 (dk_at dksX6_expand_1 5 rfl rfl)
theorem dX6_expand_32 : decode cX6_expand 32 = .ok (.aload_n 0, 1) := dk_42 (dk_at dksX6_expand_1 8 rfl rfl)
theorem dX6_expand_33 : decode cX6_expand 33 = .ok (.iload_n 2, 1) := dk_28 (dk_at dksX6_expand_1 9 rfl rfl)
theorem dX6_expand_34 : decode cX6_expand 34 = .ok (.invokevirtual 312, 3) := dk_182 1 56 (dk_at dksX6_expand_1 10 rfl rfl)
theorem dX6_expand_37 : decode cX6_expand 37 = .ok (.goto 7, 3) := dk_167 0 7 (dk_at dksX6_expand_1 13 rfl rfl)
theorem dX6_expand_40 : decode cX6_expand 40 = .ok (.aload_n 0, 1) := dk_42 (dk_at dksX6_expand_1 16 rfl rfl)
theorem dX6_expand_41 : decode cX6_expand 41 = .ok (.invokevirtual 315, 3) := dk_182 1 59 (dk_at dksX6_expand_1 17 rfl rfl)
theorem dX6_expand_44 : decode cX6_expand 44 = .ok (.istore_n 2, 1) := dk_61 (dk_at dksX6_expand_1 20 rfl rfl)
theorem dX6_expand_45 : decode cX6_expand 45 = .ok (.goto (-38), 3) := dk_167 255 218 (dk_at dksX6_expand_1 21 rfl rfl)
theorem dX6_expand_48 : decode cX6_expand 48 = .ok (.return_, 1) := dk_177 (dk_at dksX6_expand_2 0 rfl rfl)
abbrev cX6_begin : ByteArray := prog_10_method_39_code
def yX6_begin : MethodName := ⟨RX6, "begin", "(I)I"⟩
def dkwX6_begin_10 : List UInt8 := [167, 0, 19, 42, 182, 1, 37, 42, 180, 0, 159, 154, 0, 8, 42, 28, 182, 1, 40, 2, 172]
abbrev dktX6_begin_10 : List UInt8 := dkwX6_begin_10 ++ []
def dkwX6_begin_9 : List UInt8 := [182, 1, 27, 167, 0, 39, 28, 16, 17, 159, 0, 9, 28, 16, 18, 160, 0, 11, 42, 28, 182, 1, 34]
abbrev dktX6_begin_9 : List UInt8 := dkwX6_begin_9 ++ dktX6_begin_10
def dkwX6_begin_8 : List UInt8 := [62, 29, 2, 159, 0, 8, 42, 29, 182, 1, 31, 167, 0, 55, 28, 16, 10, 160, 0, 13, 42, 28, 3, 3]
abbrev dktX6_begin_8 : List UInt8 := dkwX6_begin_8 ++ dktX6_begin_9
def dkwX6_begin_7 : List UInt8 := [17, 32, 0, 96, 167, 0, 4, 29, 182, 1, 8, 167, 0, 79, 28, 16, 12, 160, 0, 21, 42, 182, 0, 254]
abbrev dktX6_begin_7 : List UInt8 := dkwX6_begin_7 ++ dktX6_begin_8
def dkwX6_begin_6 : List UInt8 := [29, 2, 159, 0, 31, 42, 29, 184, 0, 226, 153, 0, 19, 42, 29, 182, 1, 24, 153, 0, 11, 29]
abbrev dktX6_begin_6 : List UInt8 := dkwX6_begin_6 ++ dktX6_begin_7
def dkwX6_begin_5 : List UInt8 := [21, 4, 182, 1, 8, 42, 29, 182, 1, 8, 167, 0, 126, 28, 16, 9, 160, 0, 44, 42, 182, 0, 254, 62]
abbrev dktX6_begin_5 : List UInt8 := dkwX6_begin_5 ++ dktX6_begin_6
def dkwX6_begin_4 : List UInt8 := [182, 1, 24, 153, 0, 13, 42, 28, 29, 3, 182, 1, 27, 21, 4, 172, 21, 4, 2, 159, 0, 14, 42]
abbrev dktX6_begin_4 : List UInt8 := dkwX6_begin_4 ++ dktX6_begin_5
def dkwX6_begin_3 : List UInt8 := [2, 160, 0, 7, 2, 167, 0, 7, 42, 182, 0, 254, 54, 4, 21, 4, 2, 159, 0, 22, 42, 21, 4]
abbrev dktX6_begin_3 : List UInt8 := dkwX6_begin_3 ++ dktX6_begin_4
def dkwX6_begin_2 : List UInt8 := [42, 28, 17, 23, 112, 100, 182, 1, 21, 167, 0, 197, 28, 16, 8, 160, 0, 68, 42, 182, 0, 254, 62, 29]
abbrev dktX6_begin_2 : List UInt8 := dkwX6_begin_2 ++ dktX6_begin_3
def dkwX6_begin_1 : List UInt8 := [172, 42, 89, 180, 1, 18, 4, 96, 181, 1, 18, 42, 27, 182, 0, 232, 61, 28, 17, 23, 112, 161, 0, 15]
abbrev dktX6_begin_1 : List UInt8 := dkwX6_begin_1 ++ dktX6_begin_2
def dkwX6_begin_0 : List UInt8 := [42, 180, 1, 18, 17, 0, 200, 159, 0, 12, 42, 180, 0, 180, 16, 30, 160, 0, 9, 42, 8, 182, 0, 205]
abbrev dktX6_begin_0 : List UInt8 := dkwX6_begin_0 ++ dktX6_begin_1
theorem dksX6_begin_0 : cX6_begin.data.toList.drop 0 = dktX6_begin_0 := by decide +kernel
theorem dksX6_begin_1 : cX6_begin.data.toList.drop 24 = dktX6_begin_1 := dk_seg dksX6_begin_0 24 rfl rfl
theorem dksX6_begin_2 : cX6_begin.data.toList.drop 48 = dktX6_begin_2 := dk_seg dksX6_begin_1 24 rfl rfl
theorem dksX6_begin_3 : cX6_begin.data.toList.drop 72 = dktX6_begin_3 := dk_seg dksX6_begin_2 24 rfl rfl
theorem dksX6_begin_4 : cX6_begin.data.toList.drop 95 = dktX6_begin_4 := dk_seg dksX6_begin_3 23 rfl rfl
theorem dksX6_begin_5 : cX6_begin.data.toList.drop 118 = dktX6_begin_5 := dk_seg dksX6_begin_4 23 rfl rfl
theorem dksX6_begin_6 : cX6_begin.data.toList.drop 142 = dktX6_begin_6 := dk_seg dksX6_begin_5 24 rfl rfl
theorem dksX6_begin_7 : cX6_begin.data.toList.drop 164 = dktX6_begin_7 := dk_seg dksX6_begin_6 22 rfl rfl
theorem dksX6_begin_8 : cX6_begin.data.toList.drop 188 = dktX6_begin_8 := dk_seg dksX6_begin_7 24 rfl rfl
theorem dksX6_begin_9 : cX6_begin.data.toList.drop 212 = dktX6_begin_9 := dk_seg dksX6_begin_8 24 rfl rfl
theorem dksX6_begin_10 : cX6_begin.data.toList.drop 235 = dktX6_begin_10 := dk_seg dksX6_begin_9 23 rfl rfl
theorem dX6_begin_0 : decode cX6_begin 0 = .ok (.aload_n 0, 1) := dk_42 (dk_at dksX6_begin_0 0 rfl rfl)
theorem dX6_begin_1 : decode cX6_begin 1 = .ok (.getfield 274, 3) := dk_180 1 18 (dk_at dksX6_begin_0 1 rfl rfl)
theorem dX6_begin_4 : decode cX6_begin 4 = .ok (.sipush 200, 3) := dk_17 0 200 (dk_at dksX6_begin_0 4 rfl rfl)
theorem dX6_begin_7 : decode cX6_begin 7 = .ok (.if_icmp .eq 12, 3) := dk_159 0 12 (dk_at dksX6_begin_0 7 rfl rfl)
theorem dX6_begin_10 : decode cX6_begin 10 = .ok (.aload_n 0, 1) := dk_42 (dk_at dksX6_begin_0 10 rfl rfl)
theorem dX6_begin_11 : decode cX6_begin 11 = .ok (.getfield 180, 3) := dk_180 0 180 (dk_at dksX6_begin_0 11 rfl rfl)
theorem dX6_begin_14 : decode cX6_begin 14 = .ok (.bipush 30, 2) := dk_16 30 (dk_at dksX6_begin_0 14 rfl rfl)
theorem dX6_begin_16 : decode cX6_begin 16 = .ok (.if_icmp .ne 9, 3) := dk_160 0 9 (dk_at dksX6_begin_0 16 rfl rfl)
theorem dX6_begin_19 : decode cX6_begin 19 = .ok (.aload_n 0, 1) := dk_42 (dk_at dksX6_begin_0 19 rfl rfl)
theorem dX6_begin_20 : decode cX6_begin 20 = .ok (.iconst 5, 1) := dk_8 (dk_at dksX6_begin_0 20 rfl rfl)
theorem dX6_begin_21 : decode cX6_begin 21 = .ok (.invokevirtual 205, 3) := dk_182 0 205 (dk_at dksX6_begin_0 21 rfl rfl)
theorem dX6_begin_24 : decode cX6_begin 24 = .ok (.ireturn, 1) := dk_172 (dk_at dksX6_begin_1 0 rfl rfl)
theorem dX6_begin_25 : decode cX6_begin 25 = .ok (.aload_n 0, 1) := dk_42 (dk_at dksX6_begin_1 1 rfl rfl)
theorem dX6_begin_26 : decode cX6_begin 26 = .ok (.dup, 1) := dk_89 (dk_at dksX6_begin_1 2 rfl rfl)
theorem dX6_begin_27 : decode cX6_begin 27 = .ok (.getfield 274, 3) := dk_180 1 18 (dk_at dksX6_begin_1 3 rfl rfl)
theorem dX6_begin_30 : decode cX6_begin 30 = .ok (.iconst 1, 1) := dk_4 (dk_at dksX6_begin_1 6 rfl rfl)
theorem dX6_begin_31 : decode cX6_begin 31 = .ok (.iadd, 1) := dk_96 (dk_at dksX6_begin_1 7 rfl rfl)
theorem dX6_begin_32 : decode cX6_begin 32 = .ok (.putfield 274, 3) := dk_181 1 18 (dk_at dksX6_begin_1 8 rfl rfl)
theorem dX6_begin_35 : decode cX6_begin 35 = .ok (.aload_n 0, 1) := dk_42 (dk_at dksX6_begin_1 11 rfl rfl)
theorem dX6_begin_36 : decode cX6_begin 36 = .ok (.iload_n 1, 1) := dk_27 (dk_at dksX6_begin_1 12 rfl rfl)
theorem dX6_begin_37 : decode cX6_begin 37 = .ok (.invokevirtual 232, 3) := dk_182 0 232 (dk_at dksX6_begin_1 13 rfl rfl)
theorem dX6_begin_40 : decode cX6_begin 40 = .ok (.istore_n 2, 1) := dk_61 (dk_at dksX6_begin_1 16 rfl rfl)
theorem dX6_begin_41 : decode cX6_begin 41 = .ok (.iload_n 2, 1) := dk_28 (dk_at dksX6_begin_1 17 rfl rfl)
theorem dX6_begin_42 : decode cX6_begin 42 = .ok (.sipush 6000, 3) := dk_17 23 112 (dk_at dksX6_begin_1 18 rfl rfl)
theorem dX6_begin_45 : decode cX6_begin 45 = .ok (.if_icmp .lt 15, 3) := dk_161 0 15 (dk_at dksX6_begin_1 21 rfl rfl)
theorem dX6_begin_48 : decode cX6_begin 48 = .ok (.aload_n 0, 1) := dk_42 (dk_at dksX6_begin_2 0 rfl rfl)
theorem dX6_begin_49 : decode cX6_begin 49 = .ok (.iload_n 2, 1) := dk_28 (dk_at dksX6_begin_2 1 rfl rfl)
theorem dX6_begin_50 : decode cX6_begin 50 = .ok (.sipush 6000, 3) := dk_17 23 112 (dk_at dksX6_begin_2 2 rfl rfl)
theorem dX6_begin_53 : decode cX6_begin 53 = .ok (.isub, 1) := dk_100 (dk_at dksX6_begin_2 5 rfl rfl)
theorem dX6_begin_54 : decode cX6_begin 54 = .ok (.invokevirtual 277, 3) := dk_182 1 21 (dk_at dksX6_begin_2 6 rfl rfl)
theorem dX6_begin_57 : decode cX6_begin 57 = .ok (.goto 197, 3) := dk_167 0 197 (dk_at dksX6_begin_2 9 rfl rfl)
theorem dX6_begin_60 : decode cX6_begin 60 = .ok (.iload_n 2, 1) := dk_28 (dk_at dksX6_begin_2 12 rfl rfl)
theorem dX6_begin_61 : decode cX6_begin 61 = .ok (.bipush 8, 2) := dk_16 8 (dk_at dksX6_begin_2 13 rfl rfl)
theorem dX6_begin_63 : decode cX6_begin 63 = .ok (.if_icmp .ne 68, 3) := dk_160 0 68 (dk_at dksX6_begin_2 15 rfl rfl)
theorem dX6_begin_66 : decode cX6_begin 66 = .ok (.aload_n 0, 1) := dk_42 (dk_at dksX6_begin_2 18 rfl rfl)
theorem dX6_begin_67 : decode cX6_begin 67 = .ok (.invokevirtual 254, 3) := dk_182 0 254 (dk_at dksX6_begin_2 19 rfl rfl)
theorem dX6_begin_70 : decode cX6_begin 70 = .ok (.istore_n 3, 1) := dk_62 (dk_at dksX6_begin_2 22 rfl rfl)
theorem dX6_begin_71 : decode cX6_begin 71 = .ok (.iload_n 3, 1) := dk_29 (dk_at dksX6_begin_2 23 rfl rfl)
theorem dX6_begin_72 : decode cX6_begin 72 = .ok (.iconst (-1), 1) := dk_2 (dk_at dksX6_begin_3 0 rfl rfl)
theorem dX6_begin_73 : decode cX6_begin 73 = .ok (.if_icmp .ne 7, 3) := dk_160 0 7 (dk_at dksX6_begin_3 1 rfl rfl)
theorem dX6_begin_76 : decode cX6_begin 76 = .ok (.iconst (-1), 1) := dk_2 (dk_at dksX6_begin_3 4 rfl rfl)
theorem dX6_begin_77 : decode cX6_begin 77 = .ok (.goto 7, 3) := dk_167 0 7 (dk_at dksX6_begin_3 5 rfl rfl)
theorem dX6_begin_80 : decode cX6_begin 80 = .ok (.aload_n 0, 1) := dk_42 (dk_at dksX6_begin_3 8 rfl rfl)
theorem dX6_begin_81 : decode cX6_begin 81 = .ok (.invokevirtual 254, 3) := dk_182 0 254 (dk_at dksX6_begin_3 9 rfl rfl)
theorem dX6_begin_84 : decode cX6_begin 84 = .ok (.istore 4, 2) := dk_54 4 (dk_at dksX6_begin_3 12 rfl rfl)
theorem dX6_begin_86 : decode cX6_begin 86 = .ok (.iload 4, 2) := dk_21 4 (dk_at dksX6_begin_3 14 rfl rfl)
theorem dX6_begin_88 : decode cX6_begin 88 = .ok (.iconst (-1), 1) := dk_2 (dk_at dksX6_begin_3 16 rfl rfl)
theorem dX6_begin_89 : decode cX6_begin 89 = .ok (.if_icmp .eq 22, 3) := dk_159 0 22 (dk_at dksX6_begin_3 17 rfl rfl)
theorem dX6_begin_92 : decode cX6_begin 92 = .ok (.aload_n 0, 1) := dk_42 (dk_at dksX6_begin_3 20 rfl rfl)
theorem dX6_begin_93 : decode cX6_begin 93 = .ok (.iload 4, 2) := dk_21 4 (dk_at dksX6_begin_3 21 rfl rfl)
theorem dX6_begin_95 : decode cX6_begin 95 = .ok (.invokevirtual 280, 3) := dk_182 1 24 (dk_at dksX6_begin_4 0 rfl rfl)
theorem dX6_begin_98 : decode cX6_begin 98 = .ok (.ifCond .eq 13, 3) := dk_153 0 13 (dk_at dksX6_begin_4 3 rfl rfl)
theorem dX6_begin_101 : decode cX6_begin 101 = .ok (.aload_n 0, 1) := dk_42 (dk_at dksX6_begin_4 6 rfl rfl)
theorem dX6_begin_102 : decode cX6_begin 102 = .ok (.iload_n 2, 1) := dk_28 (dk_at dksX6_begin_4 7 rfl rfl)
theorem dX6_begin_103 : decode cX6_begin 103 = .ok (.iload_n 3, 1) := dk_29 (dk_at dksX6_begin_4 8 rfl rfl)
theorem dX6_begin_104 : decode cX6_begin 104 = .ok (.iconst 0, 1) := dk_3 (dk_at dksX6_begin_4 9 rfl rfl)
theorem dX6_begin_105 : decode cX6_begin 105 = .ok (.invokevirtual 283, 3) := dk_182 1 27 (dk_at dksX6_begin_4 10 rfl rfl)
theorem dX6_begin_108 : decode cX6_begin 108 = .ok (.iload 4, 2) := dk_21 4 (dk_at dksX6_begin_4 13 rfl rfl)
theorem dX6_begin_110 : decode cX6_begin 110 = .ok (.ireturn, 1) := dk_172 (dk_at dksX6_begin_4 15 rfl rfl)
theorem dX6_begin_111 : decode cX6_begin 111 = .ok (.iload 4, 2) := dk_21 4 (dk_at dksX6_begin_4 16 rfl rfl)
theorem dX6_begin_113 : decode cX6_begin 113 = .ok (.iconst (-1), 1) := dk_2 (dk_at dksX6_begin_4 18 rfl rfl)
theorem dX6_begin_114 : decode cX6_begin 114 = .ok (.if_icmp .eq 14, 3) := dk_159 0 14 (dk_at dksX6_begin_4 19 rfl rfl)
theorem dX6_begin_117 : decode cX6_begin 117 = .ok (.aload_n 0, 1) := dk_42 (dk_at dksX6_begin_4 22 rfl rfl)
theorem dX6_begin_118 : decode cX6_begin 118 = .ok (.iload 4, 2) := dk_21 4 (dk_at dksX6_begin_5 0 rfl rfl)
theorem dX6_begin_120 : decode cX6_begin 120 = .ok (.invokevirtual 264, 3) := dk_182 1 8 (dk_at dksX6_begin_5 2 rfl rfl)
theorem dX6_begin_123 : decode cX6_begin 123 = .ok (.aload_n 0, 1) := dk_42 (dk_at dksX6_begin_5 5 rfl rfl)
theorem dX6_begin_124 : decode cX6_begin 124 = .ok (.iload_n 3, 1) := dk_29 (dk_at dksX6_begin_5 6 rfl rfl)
theorem dX6_begin_125 : decode cX6_begin 125 = .ok (.invokevirtual 264, 3) := dk_182 1 8 (dk_at dksX6_begin_5 7 rfl rfl)
theorem dX6_begin_128 : decode cX6_begin 128 = .ok (.goto 126, 3) := dk_167 0 126 (dk_at dksX6_begin_5 10 rfl rfl)
theorem dX6_begin_131 : decode cX6_begin 131 = .ok (.iload_n 2, 1) := dk_28 (dk_at dksX6_begin_5 13 rfl rfl)
theorem dX6_begin_132 : decode cX6_begin 132 = .ok (.bipush 9, 2) := dk_16 9 (dk_at dksX6_begin_5 14 rfl rfl)
theorem dX6_begin_134 : decode cX6_begin 134 = .ok (.if_icmp .ne 44, 3) := dk_160 0 44 (dk_at dksX6_begin_5 16 rfl rfl)
theorem dX6_begin_137 : decode cX6_begin 137 = .ok (.aload_n 0, 1) := dk_42 (dk_at dksX6_begin_5 19 rfl rfl)
theorem dX6_begin_138 : decode cX6_begin 138 = .ok (.invokevirtual 254, 3) := dk_182 0 254 (dk_at dksX6_begin_5 20 rfl rfl)
theorem dX6_begin_141 : decode cX6_begin 141 = .ok (.istore_n 3, 1) := dk_62 (dk_at dksX6_begin_5 23 rfl rfl)
theorem dX6_begin_142 : decode cX6_begin 142 = .ok (.iload_n 3, 1) := dk_29 (dk_at dksX6_begin_6 0 rfl rfl)
theorem dX6_begin_143 : decode cX6_begin 143 = .ok (.iconst (-1), 1) := dk_2 (dk_at dksX6_begin_6 1 rfl rfl)
theorem dX6_begin_144 : decode cX6_begin 144 = .ok (.if_icmp .eq 31, 3) := dk_159 0 31 (dk_at dksX6_begin_6 2 rfl rfl)
theorem dX6_begin_147 : decode cX6_begin 147 = .ok (.aload_n 0, 1) := dk_42 (dk_at dksX6_begin_6 5 rfl rfl)
theorem dX6_begin_148 : decode cX6_begin 148 = .ok (.iload_n 3, 1) := dk_29 (dk_at dksX6_begin_6 6 rfl rfl)
theorem dX6_begin_149 : decode cX6_begin 149 = .ok (.invokestatic 226, 3) := dk_184 0 226 (dk_at dksX6_begin_6 7 rfl rfl)
theorem dX6_begin_152 : decode cX6_begin 152 = .ok (.ifCond .eq 19, 3) := dk_153 0 19 (dk_at dksX6_begin_6 10 rfl rfl)
theorem dX6_begin_155 : decode cX6_begin 155 = .ok (.aload_n 0, 1) := dk_42 (dk_at dksX6_begin_6 13 rfl rfl)
theorem dX6_begin_156 : decode cX6_begin 156 = .ok (.iload_n 3, 1) := dk_29 (dk_at dksX6_begin_6 14 rfl rfl)
theorem dX6_begin_157 : decode cX6_begin 157 = .ok (.invokevirtual 280, 3) := dk_182 1 24 (dk_at dksX6_begin_6 15 rfl rfl)
theorem dX6_begin_160 : decode cX6_begin 160 = .ok (.ifCond .eq 11, 3) := dk_153 0 11 (dk_at dksX6_begin_6 18 rfl rfl)
theorem dX6_begin_163 : decode cX6_begin 163 = .ok (.iload_n 3, 1) := dk_29 (dk_at dksX6_begin_6 21 rfl rfl)
theorem dX6_begin_164 : decode cX6_begin 164 = .ok (.sipush 8192, 3) := dk_17 32 0 (dk_at dksX6_begin_7 0 rfl rfl)
theorem dX6_begin_167 : decode cX6_begin 167 = .ok (.iadd, 1) := dk_96 (dk_at dksX6_begin_7 3 rfl rfl)
theorem dX6_begin_168 : decode cX6_begin 168 = .ok (.goto 4, 3) := dk_167 0 4 (dk_at dksX6_begin_7 4 rfl rfl)
theorem dX6_begin_171 : decode cX6_begin 171 = .ok (.iload_n 3, 1) := dk_29 (dk_at dksX6_begin_7 7 rfl rfl)
theorem dX6_begin_172 : decode cX6_begin 172 = .ok (.invokevirtual 264, 3) := dk_182 1 8 (dk_at dksX6_begin_7 8 rfl rfl)
theorem dX6_begin_175 : decode cX6_begin 175 = .ok (.goto 79, 3) := dk_167 0 79 (dk_at dksX6_begin_7 11 rfl rfl)
theorem dX6_begin_178 : decode cX6_begin 178 = .ok (.iload_n 2, 1) := dk_28 (dk_at dksX6_begin_7 14 rfl rfl)
theorem dX6_begin_179 : decode cX6_begin 179 = .ok (.bipush 12, 2) := dk_16 12 (dk_at dksX6_begin_7 15 rfl rfl)
theorem dX6_begin_181 : decode cX6_begin 181 = .ok (.if_icmp .ne 21, 3) := dk_160 0 21 (dk_at dksX6_begin_7 17 rfl rfl)
theorem dX6_begin_184 : decode cX6_begin 184 = .ok (.aload_n 0, 1) := dk_42 (dk_at dksX6_begin_7 20 rfl rfl)
theorem dX6_begin_185 : decode cX6_begin 185 = .ok (.invokevirtual 254, 3) := dk_182 0 254 (dk_at dksX6_begin_7 21 rfl rfl)
theorem dX6_begin_188 : decode cX6_begin 188 = .ok (.istore_n 3, 1) := dk_62 (dk_at dksX6_begin_8 0 rfl rfl)
theorem dX6_begin_189 : decode cX6_begin 189 = .ok (.iload_n 3, 1) := dk_29 (dk_at dksX6_begin_8 1 rfl rfl)
theorem dX6_begin_190 : decode cX6_begin 190 = .ok (.iconst (-1), 1) := dk_2 (dk_at dksX6_begin_8 2 rfl rfl)
theorem dX6_begin_191 : decode cX6_begin 191 = .ok (.if_icmp .eq 8, 3) := dk_159 0 8 (dk_at dksX6_begin_8 3 rfl rfl)
theorem dX6_begin_194 : decode cX6_begin 194 = .ok (.aload_n 0, 1) := dk_42 (dk_at dksX6_begin_8 6 rfl rfl)
theorem dX6_begin_195 : decode cX6_begin 195 = .ok (.iload_n 3, 1) := dk_29 (dk_at dksX6_begin_8 7 rfl rfl)
theorem dX6_begin_196 : decode cX6_begin 196 = .ok (.invokevirtual 287, 3) := dk_182 1 31 (dk_at dksX6_begin_8 8 rfl rfl)
theorem dX6_begin_199 : decode cX6_begin 199 = .ok (.goto 55, 3) := dk_167 0 55 (dk_at dksX6_begin_8 11 rfl rfl)
theorem dX6_begin_202 : decode cX6_begin 202 = .ok (.iload_n 2, 1) := dk_28 (dk_at dksX6_begin_8 14 rfl rfl)
theorem dX6_begin_203 : decode cX6_begin 203 = .ok (.bipush 10, 2) := dk_16 10 (dk_at dksX6_begin_8 15 rfl rfl)
theorem dX6_begin_205 : decode cX6_begin 205 = .ok (.if_icmp .ne 13, 3) := dk_160 0 13 (dk_at dksX6_begin_8 17 rfl rfl)
theorem dX6_begin_208 : decode cX6_begin 208 = .ok (.aload_n 0, 1) := dk_42 (dk_at dksX6_begin_8 20 rfl rfl)
theorem dX6_begin_209 : decode cX6_begin 209 = .ok (.iload_n 2, 1) := dk_28 (dk_at dksX6_begin_8 21 rfl rfl)
theorem dX6_begin_210 : decode cX6_begin 210 = .ok (.iconst 0, 1) := dk_3 (dk_at dksX6_begin_8 22 rfl rfl)
theorem dX6_begin_211 : decode cX6_begin 211 = .ok (.iconst 0, 1) := dk_3 (dk_at dksX6_begin_8 23 rfl rfl)
theorem dX6_begin_212 : decode cX6_begin 212 = .ok (.invokevirtual 283, 3) := dk_182 1 27 (dk_at dksX6_begin_9 0 rfl rfl)
theorem dX6_begin_215 : decode cX6_begin 215 = .ok (.goto 39, 3) := dk_167 0 39 (dk_at dksX6_begin_9 3 rfl rfl)
theorem dX6_begin_218 : decode cX6_begin 218 = .ok (.iload_n 2, 1) := dk_28 (dk_at dksX6_begin_9 6 rfl rfl)
theorem dX6_begin_219 : decode cX6_begin 219 = .ok (.bipush 17, 2) := dk_16 17 (dk_at dksX6_begin_9 7 rfl rfl)
theorem dX6_begin_221 : decode cX6_begin 221 = .ok (.if_icmp .eq 9, 3) := dk_159 0 9 (dk_at dksX6_begin_9 9 rfl rfl)
theorem dX6_begin_224 : decode cX6_begin 224 = .ok (.iload_n 2, 1) := dk_28 (dk_at dksX6_begin_9 12 rfl rfl)
theorem dX6_begin_225 : decode cX6_begin 225 = .ok (.bipush 18, 2) := dk_16 18 (dk_at dksX6_begin_9 13 rfl rfl)
theorem dX6_begin_227 : decode cX6_begin 227 = .ok (.if_icmp .ne 11, 3) := dk_160 0 11 (dk_at dksX6_begin_9 15 rfl rfl)
theorem dX6_begin_230 : decode cX6_begin 230 = .ok (.aload_n 0, 1) := dk_42 (dk_at dksX6_begin_9 18 rfl rfl)
theorem dX6_begin_231 : decode cX6_begin 231 = .ok (.iload_n 2, 1) := dk_28 (dk_at dksX6_begin_9 19 rfl rfl)
theorem dX6_begin_232 : decode cX6_begin 232 = .ok (.invokevirtual 290, 3) := dk_182 1 34 (dk_at dksX6_begin_9 20 rfl rfl)
theorem dX6_begin_235 : decode cX6_begin 235 = .ok (.goto 19, 3) := dk_167 0 19 (dk_at dksX6_begin_10 0 rfl rfl)
theorem dX6_begin_238 : decode cX6_begin 238 = .ok (.aload_n 0, 1) := dk_42 (dk_at dksX6_begin_10 3 rfl rfl)
theorem dX6_begin_239 : decode cX6_begin 239 = .ok (.invokevirtual 293, 3) := dk_182 1 37 (dk_at dksX6_begin_10 4 rfl rfl)
theorem dX6_begin_242 : decode cX6_begin 242 = .ok (.aload_n 0, 1) := dk_42 (dk_at dksX6_begin_10 7 rfl rfl)
theorem dX6_begin_243 : decode cX6_begin 243 = .ok (.getfield 159, 3) := dk_180 0 159 (dk_at dksX6_begin_10 8 rfl rfl)
theorem dX6_begin_246 : decode cX6_begin 246 = .ok (.ifCond .ne 8, 3) := dk_154 0 8 (dk_at dksX6_begin_10 11 rfl rfl)
theorem dX6_begin_249 : decode cX6_begin 249 = .ok (.aload_n 0, 1) := dk_42 (dk_at dksX6_begin_10 14 rfl rfl)
theorem dX6_begin_250 : decode cX6_begin 250 = .ok (.iload_n 2, 1) := dk_28 (dk_at dksX6_begin_10 15 rfl rfl)
theorem dX6_begin_251 : decode cX6_begin 251 = .ok (.invokevirtual 296, 3) := dk_182 1 40 (dk_at dksX6_begin_10 16 rfl rfl)
theorem dX6_begin_254 : decode cX6_begin 254 = .ok (.iconst (-1), 1) := dk_2 (dk_at dksX6_begin_10 19 rfl rfl)
theorem dX6_begin_255 : decode cX6_begin 255 = .ok (.ireturn, 1) := dk_172 (dk_at dksX6_begin_10 20 rfl rfl)
abbrev cX6_call : ByteArray := prog_10_method_31_code
def yX6_call : MethodName := ⟨RX6, "call", "(I)V"⟩
def dkwX6_call_12 : List UInt8 := [132, 6, 255, 167, 255, 224, 132, 3, 255, 167, 255, 156, 177]
abbrev dktX6_call_12 : List UInt8 := dkwX6_call_12 ++ []
def dkwX6_call_11 : List UInt8 := [180, 0, 159, 154, 0, 26, 42, 42, 180, 0, 80, 16, 42, 21, 5, 104, 21, 6, 96, 46, 182, 1, 8]
abbrev dktX6_call_11 : List UInt8 := dkwX6_call_11 ++ dktX6_call_12
def dkwX6_call_10 : List UInt8 := [100, 4, 100, 54, 5, 42, 180, 0, 83, 21, 5, 46, 4, 100, 54, 6, 21, 6, 155, 0, 33, 42]
abbrev dktX6_call_10 : List UInt8 := dkwX6_call_10 ++ dktX6_call_11
def dkwX6_call_9 : List UInt8 := [54, 4, 21, 4, 17, 64, 0, 162, 0, 12, 42, 21, 4, 182, 1, 8, 167, 0, 59, 21, 4, 17, 64, 0]
abbrev dktX6_call_9 : List UInt8 := dkwX6_call_9 ++ dktX6_call_10
def dkwX6_call_8 : List UInt8 := [62, 29, 155, 0, 102, 42, 180, 0, 159, 154, 0, 95, 42, 180, 0, 53, 16, 41, 27, 104, 29, 96, 46]
abbrev dktX6_call_8 : List UInt8 := dkwX6_call_8 ++ dktX6_call_9
def dkwX6_call_7 : List UInt8 := [4, 96, 21, 4, 182, 1, 4, 21, 4, 61, 132, 3, 1, 167, 255, 158, 42, 180, 0, 50, 27, 46, 4, 100]
abbrev dktX6_call_7 : List UInt8 := dkwX6_call_7 ++ dktX6_call_8
def dkwX6_call_6 : List UInt8 := [29, 3, 79, 21, 4, 28, 4, 96, 160, 0, 12, 42, 29, 27, 182, 1, 1, 167, 0, 14, 42, 29, 27, 28]
abbrev dktX6_call_6 : List UInt8 := dkwX6_call_6 ++ dktX6_call_7
def dkwX6_call_5 : List UInt8 := [16, 13, 27, 104, 21, 4, 96, 46, 17, 64, 0, 162, 0, 9, 132, 4, 1, 167, 255, 224, 42, 180, 0, 83]
abbrev dktX6_call_5 : List UInt8 := dkwX6_call_5 ++ dktX6_call_6
def dkwX6_call_4 : List UInt8 := [154, 0, 87, 28, 4, 96, 54, 4, 21, 4, 42, 180, 0, 44, 27, 46, 162, 0, 27, 42, 180, 0, 47]
abbrev dktX6_call_4 : List UInt8 := dkwX6_call_4 ++ dktX6_call_5
def dkwX6_call_3 : List UInt8 := [132, 2, 1, 167, 255, 188, 3, 62, 29, 42, 180, 0, 56, 27, 46, 162, 0, 94, 42, 180, 0, 159]
abbrev dktX6_call_3 : List UInt8 := dkwX6_call_3 ++ dktX6_call_4
def dkwX6_call_2 : List UInt8 := [180, 0, 47, 16, 13, 27, 104, 28, 96, 46, 159, 0, 12, 42, 16, 6, 182, 0, 205, 54, 4, 177]
abbrev dktX6_call_2 : List UInt8 := dkwX6_call_2 ++ dktX6_call_3
def dkwX6_call_1 : List UInt8 := [17, 64, 0, 162, 0, 47, 42, 182, 0, 254, 62, 29, 2, 160, 0, 4, 177, 29, 184, 0, 235, 42]
abbrev dktX6_call_1 : List UInt8 := dkwX6_call_1 ++ dktX6_call_2
def dkwX6_call_0 : List UInt8 := [3, 61, 28, 42, 180, 0, 44, 27, 46, 162, 0, 64, 42, 180, 0, 47, 16, 13, 27, 104, 28, 96, 46]
abbrev dktX6_call_0 : List UInt8 := dkwX6_call_0 ++ dktX6_call_1
theorem dksX6_call_0 : cX6_call.data.toList.drop 0 = dktX6_call_0 := by decide +kernel
theorem dksX6_call_1 : cX6_call.data.toList.drop 23 = dktX6_call_1 := dk_seg dksX6_call_0 23 rfl rfl
theorem dksX6_call_2 : cX6_call.data.toList.drop 45 = dktX6_call_2 := dk_seg dksX6_call_1 22 rfl rfl
theorem dksX6_call_3 : cX6_call.data.toList.drop 67 = dktX6_call_3 := dk_seg dksX6_call_2 22 rfl rfl
theorem dksX6_call_4 : cX6_call.data.toList.drop 89 = dktX6_call_4 := dk_seg dksX6_call_3 22 rfl rfl
theorem dksX6_call_5 : cX6_call.data.toList.drop 112 = dktX6_call_5 := dk_seg dksX6_call_4 23 rfl rfl
theorem dksX6_call_6 : cX6_call.data.toList.drop 136 = dktX6_call_6 := dk_seg dksX6_call_5 24 rfl rfl
theorem dksX6_call_7 : cX6_call.data.toList.drop 160 = dktX6_call_7 := dk_seg dksX6_call_6 24 rfl rfl
theorem dksX6_call_8 : cX6_call.data.toList.drop 184 = dktX6_call_8 := dk_seg dksX6_call_7 24 rfl rfl
theorem dksX6_call_9 : cX6_call.data.toList.drop 207 = dktX6_call_9 := dk_seg dksX6_call_8 23 rfl rfl
theorem dksX6_call_10 : cX6_call.data.toList.drop 231 = dktX6_call_10 := dk_seg dksX6_call_9 24 rfl rfl
theorem dksX6_call_11 : cX6_call.data.toList.drop 253 = dktX6_call_11 := dk_seg dksX6_call_10 22 rfl rfl
theorem dksX6_call_12 : cX6_call.data.toList.drop 276 = dktX6_call_12 := dk_seg dksX6_call_11 23 rfl rfl
theorem dX6_call_0 : decode cX6_call 0 = .ok (.iconst 0, 1) := dk_3 (dk_at dksX6_call_0 0 rfl rfl)
theorem dX6_call_1 : decode cX6_call 1 = .ok (.istore_n 2, 1) := dk_61 (dk_at dksX6_call_0 1 rfl rfl)
theorem dX6_call_2 : decode cX6_call 2 = .ok (.iload_n 2, 1) := dk_28 (dk_at dksX6_call_0 2 rfl rfl)
theorem dX6_call_3 : decode cX6_call 3 = .ok (.aload_n 0, 1) := dk_42 (dk_at dksX6_call_0 3 rfl rfl)
theorem dX6_call_4 : decode cX6_call 4 = .ok (.getfield 44, 3) := dk_180 0 44 (dk_at dksX6_call_0 4 rfl rfl)
theorem dX6_call_7 : decode cX6_call 7 = .ok (.iload_n 1, 1) := dk_27 (dk_at dksX6_call_0 7 rfl rfl)
theorem dX6_call_8 : decode cX6_call 8 = .ok (.iaload, 1) := dk_46 (dk_at dksX6_call_0 8 rfl rfl)
theorem dX6_call_9 : decode cX6_call 9 = .ok (.if_icmp .ge 64, 3) := dk_162 0 64 (dk_at dksX6_call_0 9 rfl rfl)
theorem dX6_call_12 : decode cX6_call 12 = .ok (.aload_n 0, 1) := dk_42 (dk_at dksX6_call_0 12 rfl rfl)
theorem dX6_call_13 : decode cX6_call 13 = .ok (.getfield 47, 3) := dk_180 0 47 (dk_at dksX6_call_0 13 rfl rfl)
theorem dX6_call_16 : decode cX6_call 16 = .ok (.bipush 13, 2) := dk_16 13 (dk_at dksX6_call_0 16 rfl rfl)
theorem dX6_call_18 : decode cX6_call 18 = .ok (.iload_n 1, 1) := dk_27 (dk_at dksX6_call_0 18 rfl rfl)
theorem dX6_call_19 : decode cX6_call 19 = .ok (.imul, 1) := dk_104 (dk_at dksX6_call_0 19 rfl rfl)
theorem dX6_call_20 : decode cX6_call 20 = .ok (.iload_n 2, 1) := dk_28 (dk_at dksX6_call_0 20 rfl rfl)
theorem dX6_call_21 : decode cX6_call 21 = .ok (.iadd, 1) := dk_96 (dk_at dksX6_call_0 21 rfl rfl)
theorem dX6_call_22 : decode cX6_call 22 = .ok (.iaload, 1) := dk_46 (dk_at dksX6_call_0 22 rfl rfl)
theorem dX6_call_23 : decode cX6_call 23 = .ok (.sipush 16384, 3) := dk_17 64 0 (dk_at dksX6_call_1 0 rfl rfl)
theorem dX6_call_26 : decode cX6_call 26 = .ok (.if_icmp .ge 47, 3) := dk_162 0 47 (dk_at dksX6_call_1 3 rfl rfl)
theorem dX6_call_29 : decode cX6_call 29 = .ok (.aload_n 0, 1) := dk_42 (dk_at dksX6_call_1 6 rfl rfl)
theorem dX6_call_30 : decode cX6_call 30 = .ok (.invokevirtual 254, 3) := dk_182 0 254 (dk_at dksX6_call_1 7 rfl rfl)
theorem dX6_call_33 : decode cX6_call 33 = .ok (.istore_n 3, 1) := dk_62 (dk_at dksX6_call_1 10 rfl rfl)
theorem dX6_call_34 : decode cX6_call 34 = .ok (.iload_n 3, 1) := dk_29 (dk_at dksX6_call_1 11 rfl rfl)
theorem dX6_call_35 : decode cX6_call 35 = .ok (.iconst (-1), 1) := dk_2 (dk_at dksX6_call_1 12 rfl rfl)
theorem dX6_call_36 : decode cX6_call 36 = .ok (.if_icmp .ne 4, 3) := dk_160 0 4 (dk_at dksX6_call_1 13 rfl rfl)
theorem dX6_call_39 : decode cX6_call 39 = .ok (.return_, 1) := dk_177 (dk_at dksX6_call_1 16 rfl rfl)
theorem dX6_call_40 : decode cX6_call 40 = .ok (.iload_n 3, 1) := dk_29 (dk_at dksX6_call_1 17 rfl rfl)
theorem dX6_call_41 : decode cX6_call 41 = .ok (.invokestatic 235, 3) := dk_184 0 235 (dk_at dksX6_call_1 18 rfl rfl)
theorem dX6_call_44 : decode cX6_call 44 = .ok (.aload_n 0, 1) := dk_42 (dk_at dksX6_call_1 21 rfl rfl)
theorem dX6_call_45 : decode cX6_call 45 = .ok (.getfield 47, 3) := dk_180 0 47 (dk_at dksX6_call_2 0 rfl rfl)
theorem dX6_call_48 : decode cX6_call 48 = .ok (.bipush 13, 2) := dk_16 13 (dk_at dksX6_call_2 3 rfl rfl)
theorem dX6_call_50 : decode cX6_call 50 = .ok (.iload_n 1, 1) := dk_27 (dk_at dksX6_call_2 5 rfl rfl)
theorem dX6_call_51 : decode cX6_call 51 = .ok (.imul, 1) := dk_104 (dk_at dksX6_call_2 6 rfl rfl)
theorem dX6_call_52 : decode cX6_call 52 = .ok (.iload_n 2, 1) := dk_28 (dk_at dksX6_call_2 7 rfl rfl)
theorem dX6_call_53 : decode cX6_call 53 = .ok (.iadd, 1) := dk_96 (dk_at dksX6_call_2 8 rfl rfl)
theorem dX6_call_54 : decode cX6_call 54 = .ok (.iaload, 1) := dk_46 (dk_at dksX6_call_2 9 rfl rfl)
theorem dX6_call_55 : decode cX6_call 55 = .ok (.if_icmp .eq 12, 3) := dk_159 0 12 (dk_at dksX6_call_2 10 rfl rfl)
theorem dX6_call_58 : decode cX6_call 58 = .ok (.aload_n 0, 1) := dk_42 (dk_at dksX6_call_2 13 rfl rfl)
theorem dX6_call_59 : decode cX6_call 59 = .ok (.bipush 6, 2) := dk_16 6 (dk_at dksX6_call_2 14 rfl rfl)
theorem dX6_call_61 : decode cX6_call 61 = .ok (.invokevirtual 205, 3) := dk_182 0 205 (dk_at dksX6_call_2 16 rfl rfl)
theorem dX6_call_64 : decode cX6_call 64 = .ok (.istore 4, 2) := dk_54 4 (dk_at dksX6_call_2 19 rfl rfl)
theorem dX6_call_66 : decode cX6_call 66 = .ok (.return_, 1) := dk_177 (dk_at dksX6_call_2 21 rfl rfl)
theorem dX6_call_67 : decode cX6_call 67 = .ok (.iinc 2 1, 3) := dk_132 2 1 (dk_at dksX6_call_3 0 rfl rfl)
theorem dX6_call_70 : decode cX6_call 70 = .ok (.goto (-68), 3) := dk_167 255 188 (dk_at dksX6_call_3 3 rfl rfl)
theorem dX6_call_73 : decode cX6_call 73 = .ok (.iconst 0, 1) := dk_3 (dk_at dksX6_call_3 6 rfl rfl)
theorem dX6_call_74 : decode cX6_call 74 = .ok (.istore_n 3, 1) := dk_62 (dk_at dksX6_call_3 7 rfl rfl)
theorem dX6_call_75 : decode cX6_call 75 = .ok (.iload_n 3, 1) := dk_29 (dk_at dksX6_call_3 8 rfl rfl)
theorem dX6_call_76 : decode cX6_call 76 = .ok (.aload_n 0, 1) := dk_42 (dk_at dksX6_call_3 9 rfl rfl)
theorem dX6_call_77 : decode cX6_call 77 = .ok (.getfield 56, 3) := dk_180 0 56 (dk_at dksX6_call_3 10 rfl rfl)
theorem dX6_call_80 : decode cX6_call 80 = .ok (.iload_n 1, 1) := dk_27 (dk_at dksX6_call_3 13 rfl rfl)
theorem dX6_call_81 : decode cX6_call 81 = .ok (.iaload, 1) := dk_46 (dk_at dksX6_call_3 14 rfl rfl)
theorem dX6_call_82 : decode cX6_call 82 = .ok (.if_icmp .ge 94, 3) := dk_162 0 94 (dk_at dksX6_call_3 15 rfl rfl)
theorem dX6_call_85 : decode cX6_call 85 = .ok (.aload_n 0, 1) := dk_42 (dk_at dksX6_call_3 18 rfl rfl)
theorem dX6_call_86 : decode cX6_call 86 = .ok (.getfield 159, 3) := dk_180 0 159 (dk_at dksX6_call_3 19 rfl rfl)
theorem dX6_call_89 : decode cX6_call 89 = .ok (.ifCond .ne 87, 3) := dk_154 0 87 (dk_at dksX6_call_4 0 rfl rfl)
theorem dX6_call_92 : decode cX6_call 92 = .ok (.iload_n 2, 1) := dk_28 (dk_at dksX6_call_4 3 rfl rfl)
theorem dX6_call_93 : decode cX6_call 93 = .ok (.iconst 1, 1) := dk_4 (dk_at dksX6_call_4 4 rfl rfl)
theorem dX6_call_94 : decode cX6_call 94 = .ok (.iadd, 1) := dk_96 (dk_at dksX6_call_4 5 rfl rfl)
theorem dX6_call_95 : decode cX6_call 95 = .ok (.istore 4, 2) := dk_54 4 (dk_at dksX6_call_4 6 rfl rfl)
theorem dX6_call_97 : decode cX6_call 97 = .ok (.iload 4, 2) := dk_21 4 (dk_at dksX6_call_4 8 rfl rfl)
theorem dX6_call_99 : decode cX6_call 99 = .ok (.aload_n 0, 1) := dk_42 (dk_at dksX6_call_4 10 rfl rfl)
theorem dX6_call_100 : decode cX6_call 100 = .ok (.getfield 44, 3) := dk_180 0 44 (dk_at dksX6_call_4 11 rfl rfl)
theorem dX6_call_103 : decode cX6_call 103 = .ok (.iload_n 1, 1) := dk_27 (dk_at dksX6_call_4 14 rfl rfl)
theorem dX6_call_104 : decode cX6_call 104 = .ok (.iaload, 1) := dk_46 (dk_at dksX6_call_4 15 rfl rfl)
theorem dX6_call_105 : decode cX6_call 105 = .ok (.if_icmp .ge 27, 3) := dk_162 0 27 (dk_at dksX6_call_4 16 rfl rfl)
theorem dX6_call_108 : decode cX6_call 108 = .ok (.aload_n 0, 1) := dk_42 (dk_at dksX6_call_4 19 rfl rfl)
theorem dX6_call_109 : decode cX6_call 109 = .ok (.getfield 47, 3) := dk_180 0 47 (dk_at dksX6_call_4 20 rfl rfl)
theorem dX6_call_112 : decode cX6_call 112 = .ok (.bipush 13, 2) := dk_16 13 (dk_at dksX6_call_5 0 rfl rfl)
theorem dX6_call_114 : decode cX6_call 114 = .ok (.iload_n 1, 1) := dk_27 (dk_at dksX6_call_5 2 rfl rfl)
theorem dX6_call_115 : decode cX6_call 115 = .ok (.imul, 1) := dk_104 (dk_at dksX6_call_5 3 rfl rfl)
theorem dX6_call_116 : decode cX6_call 116 = .ok (.iload 4, 2) := dk_21 4 (dk_at dksX6_call_5 4 rfl rfl)
theorem dX6_call_118 : decode cX6_call 118 = .ok (.iadd, 1) := dk_96 (dk_at dksX6_call_5 6 rfl rfl)
theorem dX6_call_119 : decode cX6_call 119 = .ok (.iaload, 1) := dk_46 (dk_at dksX6_call_5 7 rfl rfl)
theorem dX6_call_120 : decode cX6_call 120 = .ok (.sipush 16384, 3) := dk_17 64 0 (dk_at dksX6_call_5 8 rfl rfl)
theorem dX6_call_123 : decode cX6_call 123 = .ok (.if_icmp .ge 9, 3) := dk_162 0 9 (dk_at dksX6_call_5 11 rfl rfl)
theorem dX6_call_126 : decode cX6_call 126 = .ok (.iinc 4 1, 3) := dk_132 4 1 (dk_at dksX6_call_5 14 rfl rfl)
theorem dX6_call_129 : decode cX6_call 129 = .ok (.goto (-32), 3) := dk_167 255 224 (dk_at dksX6_call_5 17 rfl rfl)
theorem dX6_call_132 : decode cX6_call 132 = .ok (.aload_n 0, 1) := dk_42 (dk_at dksX6_call_5 20 rfl rfl)
theorem dX6_call_133 : decode cX6_call 133 = .ok (.getfield 83, 3) := dk_180 0 83 (dk_at dksX6_call_5 21 rfl rfl)
theorem dX6_call_136 : decode cX6_call 136 = .ok (.iload_n 3, 1) := dk_29 (dk_at dksX6_call_6 0 rfl rfl)
theorem dX6_call_137 : decode cX6_call 137 = .ok (.iconst 0, 1) := dk_3 (dk_at dksX6_call_6 1 rfl rfl)
theorem dX6_call_138 : decode cX6_call 138 = .ok (.iastore, 1) := dk_79 (dk_at dksX6_call_6 2 rfl rfl)
theorem dX6_call_139 : decode cX6_call 139 = .ok (.iload 4, 2) := dk_21 4 (dk_at dksX6_call_6 3 rfl rfl)
theorem dX6_call_141 : decode cX6_call 141 = .ok (.iload_n 2, 1) := dk_28 (dk_at dksX6_call_6 5 rfl rfl)
theorem dX6_call_142 : decode cX6_call 142 = .ok (.iconst 1, 1) := dk_4 (dk_at dksX6_call_6 6 rfl rfl)
theorem dX6_call_143 : decode cX6_call 143 = .ok (.iadd, 1) := dk_96 (dk_at dksX6_call_6 7 rfl rfl)
theorem dX6_call_144 : decode cX6_call 144 = .ok (.if_icmp .ne 12, 3) := dk_160 0 12 (dk_at dksX6_call_6 8 rfl rfl)
theorem dX6_call_147 : decode cX6_call 147 = .ok (.aload_n 0, 1) := dk_42 (dk_at dksX6_call_6 11 rfl rfl)
theorem dX6_call_148 : decode cX6_call 148 = .ok (.iload_n 3, 1) := dk_29 (dk_at dksX6_call_6 12 rfl rfl)
theorem dX6_call_149 : decode cX6_call 149 = .ok (.iload_n 1, 1) := dk_27 (dk_at dksX6_call_6 13 rfl rfl)
theorem dX6_call_150 : decode cX6_call 150 = .ok (.invokevirtual 257, 3) := dk_182 1 1 (dk_at dksX6_call_6 14 rfl rfl)
theorem dX6_call_153 : decode cX6_call 153 = .ok (.goto 14, 3) := dk_167 0 14 (dk_at dksX6_call_6 17 rfl rfl)
theorem dX6_call_156 : decode cX6_call 156 = .ok (.aload_n 0, 1) := dk_42 (dk_at dksX6_call_6 20 rfl rfl)
theorem dX6_call_157 : decode cX6_call 157 = .ok (.iload_n 3, 1) := dk_29 (dk_at dksX6_call_6 21 rfl rfl)
theorem dX6_call_158 : decode cX6_call 158 = .ok (.iload_n 1, 1) := dk_27 (dk_at dksX6_call_6 22 rfl rfl)
theorem dX6_call_159 : decode cX6_call 159 = .ok (.iload_n 2, 1) := dk_28 (dk_at dksX6_call_6 23 rfl rfl)
theorem dX6_call_160 : decode cX6_call 160 = .ok (.iconst 1, 1) := dk_4 (dk_at dksX6_call_7 0 rfl rfl)
theorem dX6_call_161 : decode cX6_call 161 = .ok (.iadd, 1) := dk_96 (dk_at dksX6_call_7 1 rfl rfl)
theorem dX6_call_162 : decode cX6_call 162 = .ok (.iload 4, 2) := dk_21 4 (dk_at dksX6_call_7 2 rfl rfl)
theorem dX6_call_164 : decode cX6_call 164 = .ok (.invokevirtual 260, 3) := dk_182 1 4 (dk_at dksX6_call_7 4 rfl rfl)
theorem dX6_call_167 : decode cX6_call 167 = .ok (.iload 4, 2) := dk_21 4 (dk_at dksX6_call_7 7 rfl rfl)
theorem dX6_call_169 : decode cX6_call 169 = .ok (.istore_n 2, 1) := dk_61 (dk_at dksX6_call_7 9 rfl rfl)
theorem dX6_call_170 : decode cX6_call 170 = .ok (.iinc 3 1, 3) := dk_132 3 1 (dk_at dksX6_call_7 10 rfl rfl)
theorem dX6_call_173 : decode cX6_call 173 = .ok (.goto (-98), 3) := dk_167 255 158 (dk_at dksX6_call_7 13 rfl rfl)
theorem dX6_call_176 : decode cX6_call 176 = .ok (.aload_n 0, 1) := dk_42 (dk_at dksX6_call_7 16 rfl rfl)
theorem dX6_call_177 : decode cX6_call 177 = .ok (.getfield 50, 3) := dk_180 0 50 (dk_at dksX6_call_7 17 rfl rfl)
theorem dX6_call_180 : decode cX6_call 180 = .ok (.iload_n 1, 1) := dk_27 (dk_at dksX6_call_7 20 rfl rfl)
theorem dX6_call_181 : decode cX6_call 181 = .ok (.iaload, 1) := dk_46 (dk_at dksX6_call_7 21 rfl rfl)
theorem dX6_call_182 : decode cX6_call 182 = .ok (.iconst 1, 1) := dk_4 (dk_at dksX6_call_7 22 rfl rfl)
theorem dX6_call_183 : decode cX6_call 183 = .ok (.isub, 1) := dk_100 (dk_at dksX6_call_7 23 rfl rfl)
theorem dX6_call_184 : decode cX6_call 184 = .ok (.istore_n 3, 1) := dk_62 (dk_at dksX6_call_8 0 rfl rfl)
theorem dX6_call_185 : decode cX6_call 185 = .ok (.iload_n 3, 1) := dk_29 (dk_at dksX6_call_8 1 rfl rfl)
theorem dX6_call_186 : decode cX6_call 186 = .ok (.ifCond .lt 102, 3) := dk_155 0 102 (dk_at dksX6_call_8 2 rfl rfl)
theorem dX6_call_189 : decode cX6_call 189 = .ok (.aload_n 0, 1) := dk_42 (dk_at dksX6_call_8 5 rfl rfl)
theorem dX6_call_190 : decode cX6_call 190 = .ok (.getfield 159, 3) := dk_180 0 159 (dk_at dksX6_call_8 6 rfl rfl)
theorem dX6_call_193 : decode cX6_call 193 = .ok (.ifCond .ne 95, 3) := dk_154 0 95 (dk_at dksX6_call_8 9 rfl rfl)
theorem dX6_call_196 : decode cX6_call 196 = .ok (.aload_n 0, 1) := dk_42 (dk_at dksX6_call_8 12 rfl rfl)
theorem dX6_call_197 : decode cX6_call 197 = .ok (.getfield 53, 3) := dk_180 0 53 (dk_at dksX6_call_8 13 rfl rfl)
theorem dX6_call_200 : decode cX6_call 200 = .ok (.bipush 41, 2) := dk_16 41 (dk_at dksX6_call_8 16 rfl rfl)
theorem dX6_call_202 : decode cX6_call 202 = .ok (.iload_n 1, 1) := dk_27 (dk_at dksX6_call_8 18 rfl rfl)
theorem dX6_call_203 : decode cX6_call 203 = .ok (.imul, 1) := dk_104 (dk_at dksX6_call_8 19 rfl rfl)
theorem dX6_call_204 : decode cX6_call 204 = .ok (.iload_n 3, 1) := dk_29 (dk_at dksX6_call_8 20 rfl rfl)
theorem dX6_call_205 : decode cX6_call 205 = .ok (.iadd, 1) := dk_96 (dk_at dksX6_call_8 21 rfl rfl)
theorem dX6_call_206 : decode cX6_call 206 = .ok (.iaload, 1) := dk_46 (dk_at dksX6_call_8 22 rfl rfl)
theorem dX6_call_207 : decode cX6_call 207 = .ok (.istore 4, 2) := dk_54 4 (dk_at dksX6_call_9 0 rfl rfl)
theorem dX6_call_209 : decode cX6_call 209 = .ok (.iload 4, 2) := dk_21 4 (dk_at dksX6_call_9 2 rfl rfl)
theorem dX6_call_211 : decode cX6_call 211 = .ok (.sipush 16384, 3) := dk_17 64 0 (dk_at dksX6_call_9 4 rfl rfl)
theorem dX6_call_214 : decode cX6_call 214 = .ok (.if_icmp .ge 12, 3) := dk_162 0 12 (dk_at dksX6_call_9 7 rfl rfl)
theorem dX6_call_217 : decode cX6_call 217 = .ok (.aload_n 0, 1) := dk_42 (dk_at dksX6_call_9 10 rfl rfl)
theorem dX6_call_218 : decode cX6_call 218 = .ok (.iload 4, 2) := dk_21 4 (dk_at dksX6_call_9 11 rfl rfl)
theorem dX6_call_220 : decode cX6_call 220 = .ok (.invokevirtual 264, 3) := dk_182 1 8 (dk_at dksX6_call_9 13 rfl rfl)
theorem dX6_call_223 : decode cX6_call 223 = .ok (.goto 59, 3) := dk_167 0 59 (dk_at dksX6_call_9 16 rfl rfl)
theorem dX6_call_226 : decode cX6_call 226 = .ok (.iload 4, 2) := dk_21 4 (dk_at dksX6_call_9 19 rfl rfl)
theorem dX6_call_228 : decode cX6_call 228 = .ok (.sipush 16384, 3) := dk_17 64 0 (dk_at dksX6_call_9 21 rfl rfl)
theorem dX6_call_231 : decode cX6_call 231 = .ok (.isub, 1) := dk_100 (dk_at dksX6_call_10 0 rfl rfl)
theorem dX6_call_232 : decode cX6_call 232 = .ok (.iconst 1, 1) := dk_4 (dk_at dksX6_call_10 1 rfl rfl)
theorem dX6_call_233 : decode cX6_call 233 = .ok (.isub, 1) := dk_100 (dk_at dksX6_call_10 2 rfl rfl)
theorem dX6_call_234 : decode cX6_call 234 = .ok (.istore 5, 2) := dk_54 5 (dk_at dksX6_call_10 3 rfl rfl)
theorem dX6_call_236 : decode cX6_call 236 = .ok (.aload_n 0, 1) := dk_42 (dk_at dksX6_call_10 5 rfl rfl)
theorem dX6_call_237 : decode cX6_call 237 = .ok (.getfield 83, 3) := dk_180 0 83 (dk_at dksX6_call_10 6 rfl rfl)
theorem dX6_call_240 : decode cX6_call 240 = .ok (.iload 5, 2) := dk_21 5 (dk_at dksX6_call_10 9 rfl rfl)
theorem dX6_call_242 : decode cX6_call 242 = .ok (.iaload, 1) := dk_46 (dk_at dksX6_call_10 11 rfl rfl)
theorem dX6_call_243 : decode cX6_call 243 = .ok (.iconst 1, 1) := dk_4 (dk_at dksX6_call_10 12 rfl rfl)
theorem dX6_call_244 : decode cX6_call 244 = .ok (.isub, 1) := dk_100 (dk_at dksX6_call_10 13 rfl rfl)
theorem dX6_call_245 : decode cX6_call 245 = .ok (.istore 6, 2) := dk_54 6 (dk_at dksX6_call_10 14 rfl rfl)
theorem dX6_call_247 : decode cX6_call 247 = .ok (.iload 6, 2) := dk_21 6 (dk_at dksX6_call_10 16 rfl rfl)
theorem dX6_call_249 : decode cX6_call 249 = .ok (.ifCond .lt 33, 3) := dk_155 0 33 (dk_at dksX6_call_10 18 rfl rfl)
theorem dX6_call_252 : decode cX6_call 252 = .ok (.aload_n 0, 1) := dk_42 (dk_at dksX6_call_10 21 rfl rfl)
theorem dX6_call_253 : decode cX6_call 253 = .ok (.getfield 159, 3) := dk_180 0 159 (dk_at dksX6_call_11 0 rfl rfl)
theorem dX6_call_256 : decode cX6_call 256 = .ok (.ifCond .ne 26, 3) := dk_154 0 26 (dk_at dksX6_call_11 3 rfl rfl)
theorem dX6_call_259 : decode cX6_call 259 = .ok (.aload_n 0, 1) := dk_42 (dk_at dksX6_call_11 6 rfl rfl)
theorem dX6_call_260 : decode cX6_call 260 = .ok (.aload_n 0, 1) := dk_42 (dk_at dksX6_call_11 7 rfl rfl)
theorem dX6_call_261 : decode cX6_call 261 = .ok (.getfield 80, 3) := dk_180 0 80 (dk_at dksX6_call_11 8 rfl rfl)
theorem dX6_call_264 : decode cX6_call 264 = .ok (.bipush 42, 2) := dk_16 42 (dk_at dksX6_call_11 11 rfl rfl)
theorem dX6_call_266 : decode cX6_call 266 = .ok (.iload 5, 2) := dk_21 5 (dk_at dksX6_call_11 13 rfl rfl)
theorem dX6_call_268 : decode cX6_call 268 = .ok (.imul, 1) := dk_104 (dk_at dksX6_call_11 15 rfl rfl)
theorem dX6_call_269 : decode cX6_call 269 = .ok (.iload 6, 2) := dk_21 6 (dk_at dksX6_call_11 16 rfl rfl)
theorem dX6_call_271 : decode cX6_call 271 = .ok (.iadd, 1) := dk_96 (dk_at dksX6_call_11 18 rfl rfl)
theorem dX6_call_272 : decode cX6_call 272 = .ok (.iaload, 1) := dk_46 (dk_at dksX6_call_11 19 rfl rfl)
theorem dX6_call_273 : decode cX6_call 273 = .ok (.invokevirtual 264, 3) := dk_182 1 8 (dk_at dksX6_call_11 20 rfl rfl)
theorem dX6_call_276 : decode cX6_call 276 = .ok (.iinc 6 (-1), 3) := dk_132 6 255 (dk_at dksX6_call_12 0 rfl rfl)
theorem dX6_call_279 : decode cX6_call 279 = .ok (.goto (-32), 3) := dk_167 255 224 (dk_at dksX6_call_12 3 rfl rfl)
theorem dX6_call_282 : decode cX6_call 282 = .ok (.iinc 3 (-1), 3) := dk_132 3 255 (dk_at dksX6_call_12 6 rfl rfl)
theorem dX6_call_285 : decode cX6_call 285 = .ok (.goto (-100), 3) := dk_167 255 156 (dk_at dksX6_call_12 9 rfl rfl)
theorem dX6_call_288 : decode cX6_call 288 = .ok (.return_, 1) := dk_177 (dk_at dksX6_call_12 12 rfl rfl)
abbrev cX6_need : ByteArray := prog_10_method_16_code
def yX6_need : MethodName := ⟨RX6, "need", "()I"⟩
def dkwX6_need_0 : List UInt8 := [42, 182, 0, 223, 60, 27, 2, 160, 0, 11, 42, 6, 182, 0, 205, 167, 0, 4, 27, 172]
abbrev dktX6_need_0 : List UInt8 := dkwX6_need_0 ++ []
theorem dksX6_need_0 : cX6_need.data.toList.drop 0 = dktX6_need_0 := by decide +kernel
theorem dX6_need_0 : decode cX6_need 0 = .ok (.aload_n 0, 1) := dk_42 (dk_at dksX6_need_0 0 rfl rfl)
theorem dX6_need_1 : decode cX6_need 1 = .ok (.invokevirtual 223, 3) := dk_182 0 223 (dk_at dksX6_need_0 1 rfl rfl)
theorem dX6_need_4 : decode cX6_need 4 = .ok (.istore_n 1, 1) := dk_60 (dk_at dksX6_need_0 4 rfl rfl)
theorem dX6_need_5 : decode cX6_need 5 = .ok (.iload_n 1, 1) := dk_27 (dk_at dksX6_need_0 5 rfl rfl)
theorem dX6_need_6 : decode cX6_need 6 = .ok (.iconst (-1), 1) := dk_2 (dk_at dksX6_need_0 6 rfl rfl)
theorem dX6_need_7 : decode cX6_need 7 = .ok (.if_icmp .ne 11, 3) := dk_160 0 11 (dk_at dksX6_need_0 7 rfl rfl)
theorem dX6_need_10 : decode cX6_need 10 = .ok (.aload_n 0, 1) := dk_42 (dk_at dksX6_need_0 10 rfl rfl)
theorem dX6_need_11 : decode cX6_need 11 = .ok (.iconst 3, 1) := dk_6 (dk_at dksX6_need_0 11 rfl rfl)
theorem dX6_need_12 : decode cX6_need 12 = .ok (.invokevirtual 205, 3) := dk_182 0 205 (dk_at dksX6_need_0 12 rfl rfl)
theorem dX6_need_15 : decode cX6_need 15 = .ok (.goto 4, 3) := dk_167 0 4 (dk_at dksX6_need_0 15 rfl rfl)
theorem dX6_need_18 : decode cX6_need 18 = .ok (.iload_n 1, 1) := dk_27 (dk_at dksX6_need_0 18 rfl rfl)
theorem dX6_need_19 : decode cX6_need 19 = .ok (.ireturn, 1) := dk_172 (dk_at dksX6_need_0 19 rfl rfl)
abbrev cX6_plain : ByteArray := prog_10_method_20_code
def yX6_plain : MethodName := ⟨RX6, "plain", "(I)I"⟩
def dkwX6_plain_0 : List UInt8 := [26, 184, 0, 229, 153, 0, 11, 26, 17, 32, 0, 100, 167, 0, 4, 26, 172]
abbrev dktX6_plain_0 : List UInt8 := dkwX6_plain_0 ++ []
theorem dksX6_plain_0 : cX6_plain.data.toList.drop 0 = dktX6_plain_0 := by decide +kernel
theorem dX6_plain_0 : decode cX6_plain 0 = .ok (.iload_n 0, 1) := dk_26 (dk_at dksX6_plain_0 0 rfl rfl)
theorem dX6_plain_1 : decode cX6_plain 1 = .ok (.invokestatic 229, 3) := dk_184 0 229 (dk_at dksX6_plain_0 1 rfl rfl)
theorem dX6_plain_4 : decode cX6_plain 4 = .ok (.ifCond .eq 11, 3) := dk_153 0 11 (dk_at dksX6_plain_0 4 rfl rfl)
theorem dX6_plain_7 : decode cX6_plain 7 = .ok (.iload_n 0, 1) := dk_26 (dk_at dksX6_plain_0 7 rfl rfl)
theorem dX6_plain_8 : decode cX6_plain 8 = .ok (.sipush 8192, 3) := dk_17 32 0 (dk_at dksX6_plain_0 8 rfl rfl)
theorem dX6_plain_11 : decode cX6_plain 11 = .ok (.isub, 1) := dk_100 (dk_at dksX6_plain_0 11 rfl rfl)
theorem dX6_plain_12 : decode cX6_plain 12 = .ok (.goto 4, 3) := dk_167 0 4 (dk_at dksX6_plain_0 12 rfl rfl)
theorem dX6_plain_15 : decode cX6_plain 15 = .ok (.iload_n 0, 1) := dk_26 (dk_at dksX6_plain_0 15 rfl rfl)
theorem dX6_plain_16 : decode cX6_plain 16 = .ok (.ireturn, 1) := dk_172 (dk_at dksX6_plain_0 16 rfl rfl)
abbrev cX6_plainArgument : ByteArray := prog_10_method_29_code
def yX6_plainArgument : MethodName := ⟨RX6, "plainArgument", "(II)V"⟩
def dkwX6_plainArgument_6 : List UInt8 := [132, 6, 1, 167, 255, 178, 177]
abbrev dktX6_plainArgument_6 : List UInt8 := dkwX6_plainArgument_6 ++ []
def dkwX6_plainArgument_5 : List UInt8 := [153, 0, 7, 2, 167, 0, 4, 3, 96, 54, 5, 21, 5, 158, 0, 10, 42, 27, 21, 4, 182, 0, 246]
abbrev dktX6_plainArgument_5 : List UInt8 := dkwX6_plainArgument_5 ++ dktX6_plainArgument_6
def dkwX6_plainArgument_4 : List UInt8 := [177, 21, 5, 21, 4, 4, 184, 0, 238, 153, 0, 7, 4, 167, 0, 17, 21, 4, 5, 184, 0, 238]
abbrev dktX6_plainArgument_4 : List UInt8 := dkwX6_plainArgument_4 ++ dktX6_plainArgument_5
def dkwX6_plainArgument_3 : List UInt8 := [182, 0, 223, 62, 42, 29, 21, 6, 28, 3, 3, 21, 5, 182, 0, 242, 54, 4, 21, 4, 2, 160, 0, 4]
abbrev dktX6_plainArgument_3 : List UInt8 := dkwX6_plainArgument_3 ++ dktX6_plainArgument_4
def dkwX6_plainArgument_2 : List UInt8 := [154, 0, 11, 42, 27, 21, 4, 182, 0, 246, 177, 4, 54, 5, 5, 54, 6, 21, 5, 158, 0, 79, 42]
abbrev dktX6_plainArgument_2 : List UInt8 := dkwX6_plainArgument_2 ++ dktX6_plainArgument_3
def dkwX6_plainArgument_1 : List UInt8 := [29, 4, 28, 3, 3, 3, 182, 0, 242, 54, 4, 21, 4, 2, 160, 0, 4, 177, 21, 4, 4, 184, 0, 238]
abbrev dktX6_plainArgument_1 : List UInt8 := dkwX6_plainArgument_1 ++ dktX6_plainArgument_2
def dkwX6_plainArgument_0 : List UInt8 := [42, 182, 0, 223, 62, 29, 184, 0, 235, 17, 10, 32, 160, 0, 11, 42, 182, 0, 223, 62, 167, 255, 241, 42]
abbrev dktX6_plainArgument_0 : List UInt8 := dkwX6_plainArgument_0 ++ dktX6_plainArgument_1
theorem dksX6_plainArgument_0 : cX6_plainArgument.data.toList.drop 0 = dktX6_plainArgument_0 := by decide +kernel
theorem dksX6_plainArgument_1 : cX6_plainArgument.data.toList.drop 24 = dktX6_plainArgument_1 := dk_seg dksX6_plainArgument_0 24 rfl rfl
theorem dksX6_plainArgument_2 : cX6_plainArgument.data.toList.drop 48 = dktX6_plainArgument_2 := dk_seg dksX6_plainArgument_1 24 rfl rfl
theorem dksX6_plainArgument_3 : cX6_plainArgument.data.toList.drop 71 = dktX6_plainArgument_3 := dk_seg dksX6_plainArgument_2 23 rfl rfl
theorem dksX6_plainArgument_4 : cX6_plainArgument.data.toList.drop 95 = dktX6_plainArgument_4 := dk_seg dksX6_plainArgument_3 24 rfl rfl
theorem dksX6_plainArgument_5 : cX6_plainArgument.data.toList.drop 117 = dktX6_plainArgument_5 := dk_seg dksX6_plainArgument_4 22 rfl rfl
theorem dksX6_plainArgument_6 : cX6_plainArgument.data.toList.drop 140 = dktX6_plainArgument_6 := dk_seg dksX6_plainArgument_5 23 rfl rfl
theorem dX6_plainArgument_0 : decode cX6_plainArgument 0 = .ok (.aload_n 0, 1) := dk_42 (dk_at dksX6_plainArgument_0 0 rfl rfl)
theorem dX6_plainArgument_1 : decode cX6_plainArgument 1 = .ok (.invokevirtual 223, 3) := dk_182 0 223 (dk_at dksX6_plainArgument_0 1 rfl rfl)
theorem dX6_plainArgument_4 : decode cX6_plainArgument 4 = .ok (.istore_n 3, 1) := dk_62 (dk_at dksX6_plainArgument_0 4 rfl rfl)
theorem dX6_plainArgument_5 : decode cX6_plainArgument 5 = .ok (.iload_n 3, 1) := dk_29 (dk_at dksX6_plainArgument_0 5 rfl rfl)
theorem dX6_plainArgument_6 : decode cX6_plainArgument 6 = .ok (.invokestatic 235, 3) := dk_184 0 235 (dk_at dksX6_plainArgument_0 6 rfl rfl)
theorem dX6_plainArgument_9 : decode cX6_plainArgument 9 = .ok (.sipush 2592, 3) := dk_17 10 32 (dk_at dksX6_plainArgument_0 9 rfl rfl)
theorem dX6_plainArgument_12 : decode cX6_plainArgument 12 = .ok (.if_icmp .ne 11, 3) := dk_160 0 11 (dk_at dksX6_plainArgument_0 12 rfl rfl)
theorem dX6_plainArgument_15 : decode cX6_plainArgument 15 = .ok (.aload_n 0, 1) := dk_42 (dk_at dksX6_plainArgument_0 15 rfl rfl)
theorem dX6_plainArgument_16 : decode cX6_plainArgument 16 = .ok (.invokevirtual 223, 3) := dk_182 0 223 (dk_at dksX6_plainArgument_0 16 rfl rfl)
theorem dX6_plainArgument_19 : decode cX6_plainArgument 19 = .ok (.istore_n 3, 1) := dk_62 (dk_at dksX6_plainArgument_0 19 rfl rfl)
theorem dX6_plainArgument_20 : decode cX6_plainArgument 20 = .ok (.goto (-15), 3) := dk_167 255 241 (dk_at dksX6_plainArgument_0 20 rfl rfl)
theorem dX6_plainArgument_23 : decode cX6_plainArgument 23 = .ok (.aload_n 0, 1) := dk_42 (dk_at dksX6_plainArgument_0 23 rfl rfl)
theorem dX6_plainArgument_24 : decode cX6_plainArgument 24 = .ok (.iload_n 3, 1) := dk_29 (dk_at dksX6_plainArgument_1 0 rfl rfl)
theorem dX6_plainArgument_25 : decode cX6_plainArgument 25 = .ok (.iconst 1, 1) := dk_4 (dk_at dksX6_plainArgument_1 1 rfl rfl)
theorem dX6_plainArgument_26 : decode cX6_plainArgument 26 = .ok (.iload_n 2, 1) := dk_28 (dk_at dksX6_plainArgument_1 2 rfl rfl)
theorem dX6_plainArgument_27 : decode cX6_plainArgument 27 = .ok (.iconst 0, 1) := dk_3 (dk_at dksX6_plainArgument_1 3 rfl rfl)
theorem dX6_plainArgument_28 : decode cX6_plainArgument 28 = .ok (.iconst 0, 1) := dk_3 (dk_at dksX6_plainArgument_1 4 rfl rfl)
theorem dX6_plainArgument_29 : decode cX6_plainArgument 29 = .ok (.iconst 0, 1) := dk_3 (dk_at dksX6_plainArgument_1 5 rfl rfl)
theorem dX6_plainArgument_30 : decode cX6_plainArgument 30 = .ok (.invokevirtual 242, 3) := dk_182 0 242 (dk_at dksX6_plainArgument_1 6 rfl rfl)
theorem dX6_plainArgument_33 : decode cX6_plainArgument 33 = .ok (.istore 4, 2) := dk_54 4 (dk_at dksX6_plainArgument_1 9 rfl rfl)
theorem dX6_plainArgument_35 : decode cX6_plainArgument 35 = .ok (.iload 4, 2) := dk_21 4 (dk_at dksX6_plainArgument_1 11 rfl rfl)
theorem dX6_plainArgument_37 : decode cX6_plainArgument 37 = .ok (.iconst (-1), 1) := dk_2 (dk_at dksX6_plainArgument_1 13 rfl rfl)
theorem dX6_plainArgument_38 : decode cX6_plainArgument 38 = .ok (.if_icmp .ne 4, 3) := dk_160 0 4 (dk_at dksX6_plainArgument_1 14 rfl rfl)
theorem dX6_plainArgument_41 : decode cX6_plainArgument 41 = .ok (.return_, 1) := dk_177 (dk_at dksX6_plainArgument_1 17 rfl rfl)
theorem dX6_plainArgument_42 : decode cX6_plainArgument 42 = .ok (.iload 4, 2) := dk_21 4 (dk_at dksX6_plainArgument_1 18 rfl rfl)
theorem dX6_plainArgument_44 : decode cX6_plainArgument 44 = .ok (.iconst 1, 1) := dk_4 (dk_at dksX6_plainArgument_1 20 rfl rfl)
theorem dX6_plainArgument_45 : decode cX6_plainArgument 45 = .ok (.invokestatic 238, 3) := dk_184 0 238 (dk_at dksX6_plainArgument_1 21 rfl rfl)
theorem dX6_plainArgument_48 : decode cX6_plainArgument 48 = .ok (.ifCond .ne 11, 3) := dk_154 0 11 (dk_at dksX6_plainArgument_2 0 rfl rfl)
theorem dX6_plainArgument_51 : decode cX6_plainArgument 51 = .ok (.aload_n 0, 1) := dk_42 (dk_at dksX6_plainArgument_2 3 rfl rfl)
theorem dX6_plainArgument_52 : decode cX6_plainArgument 52 = .ok (.iload_n 1, 1) := dk_27 (dk_at dksX6_plainArgument_2 4 rfl rfl)
theorem dX6_plainArgument_53 : decode cX6_plainArgument 53 = .ok (.iload 4, 2) := dk_21 4 (dk_at dksX6_plainArgument_2 5 rfl rfl)
theorem dX6_plainArgument_55 : decode cX6_plainArgument 55 = .ok (.invokevirtual 246, 3) := dk_182 0 246 (dk_at dksX6_plainArgument_2 7 rfl rfl)
theorem dX6_plainArgument_58 : decode cX6_plainArgument 58 = .ok (.return_, 1) := dk_177 (dk_at dksX6_plainArgument_2 10 rfl rfl)
theorem dX6_plainArgument_59 : decode cX6_plainArgument 59 = .ok (.iconst 1, 1) := dk_4 (dk_at dksX6_plainArgument_2 11 rfl rfl)
theorem dX6_plainArgument_60 : decode cX6_plainArgument 60 = .ok (.istore 5, 2) := dk_54 5 (dk_at dksX6_plainArgument_2 12 rfl rfl)
theorem dX6_plainArgument_62 : decode cX6_plainArgument 62 = .ok (.iconst 2, 1) := dk_5 (dk_at dksX6_plainArgument_2 14 rfl rfl)
theorem dX6_plainArgument_63 : decode cX6_plainArgument 63 = .ok (.istore 6, 2) := dk_54 6 (dk_at dksX6_plainArgument_2 15 rfl rfl)
theorem dX6_plainArgument_65 : decode cX6_plainArgument 65 = .ok (.iload 5, 2) := dk_21 5 (dk_at dksX6_plainArgument_2 17 rfl rfl)
theorem dX6_plainArgument_67 : decode cX6_plainArgument 67 = .ok (.ifCond .le 79, 3) := dk_158 0 79 (dk_at dksX6_plainArgument_2 19 rfl rfl)
theorem dX6_plainArgument_70 : decode cX6_plainArgument 70 = .ok (.aload_n 0, 1) := dk_42 (dk_at dksX6_plainArgument_2 22 rfl rfl)
theorem dX6_plainArgument_71 : decode cX6_plainArgument 71 = .ok (.invokevirtual 223, 3) := dk_182 0 223 (dk_at dksX6_plainArgument_3 0 rfl rfl)
theorem dX6_plainArgument_74 : decode cX6_plainArgument 74 = .ok (.istore_n 3, 1) := dk_62 (dk_at dksX6_plainArgument_3 3 rfl rfl)
theorem dX6_plainArgument_75 : decode cX6_plainArgument 75 = .ok (.aload_n 0, 1) := dk_42 (dk_at dksX6_plainArgument_3 4 rfl rfl)
theorem dX6_plainArgument_76 : decode cX6_plainArgument 76 = .ok (.iload_n 3, 1) := dk_29 (dk_at dksX6_plainArgument_3 5 rfl rfl)
theorem dX6_plainArgument_77 : decode cX6_plainArgument 77 = .ok (.iload 6, 2) := dk_21 6 (dk_at dksX6_plainArgument_3 6 rfl rfl)
theorem dX6_plainArgument_79 : decode cX6_plainArgument 79 = .ok (.iload_n 2, 1) := dk_28 (dk_at dksX6_plainArgument_3 8 rfl rfl)
theorem dX6_plainArgument_80 : decode cX6_plainArgument 80 = .ok (.iconst 0, 1) := dk_3 (dk_at dksX6_plainArgument_3 9 rfl rfl)
theorem dX6_plainArgument_81 : decode cX6_plainArgument 81 = .ok (.iconst 0, 1) := dk_3 (dk_at dksX6_plainArgument_3 10 rfl rfl)
theorem dX6_plainArgument_82 : decode cX6_plainArgument 82 = .ok (.iload 5, 2) := dk_21 5 (dk_at dksX6_plainArgument_3 11 rfl rfl)
theorem dX6_plainArgument_84 : decode cX6_plainArgument 84 = .ok (.invokevirtual 242, 3) := dk_182 0 242 (dk_at dksX6_plainArgument_3 13 rfl rfl)
theorem dX6_plainArgument_87 : decode cX6_plainArgument 87 = .ok (.istore 4, 2) := dk_54 4 (dk_at dksX6_plainArgument_3 16 rfl rfl)
theorem dX6_plainArgument_89 : decode cX6_plainArgument 89 = .ok (.iload 4, 2) := dk_21 4 (dk_at dksX6_plainArgument_3 18 rfl rfl)
theorem dX6_plainArgument_91 : decode cX6_plainArgument 91 = .ok (.iconst (-1), 1) := dk_2 (dk_at dksX6_plainArgument_3 20 rfl rfl)
theorem dX6_plainArgument_92 : decode cX6_plainArgument 92 = .ok (.if_icmp .ne 4, 3) := dk_160 0 4 (dk_at dksX6_plainArgument_3 21 rfl rfl)
theorem dX6_plainArgument_95 : decode cX6_plainArgument 95 = .ok (.return_, 1) := dk_177 (dk_at dksX6_plainArgument_4 0 rfl rfl)
theorem dX6_plainArgument_96 : decode cX6_plainArgument 96 = .ok (.iload 5, 2) := dk_21 5 (dk_at dksX6_plainArgument_4 1 rfl rfl)
theorem dX6_plainArgument_98 : decode cX6_plainArgument 98 = .ok (.iload 4, 2) := dk_21 4 (dk_at dksX6_plainArgument_4 3 rfl rfl)
theorem dX6_plainArgument_100 : decode cX6_plainArgument 100 = .ok (.iconst 1, 1) := dk_4 (dk_at dksX6_plainArgument_4 5 rfl rfl)
theorem dX6_plainArgument_101 : decode cX6_plainArgument 101 = .ok (.invokestatic 238, 3) := dk_184 0 238 (dk_at dksX6_plainArgument_4 6 rfl rfl)
theorem dX6_plainArgument_104 : decode cX6_plainArgument 104 = .ok (.ifCond .eq 7, 3) := dk_153 0 7 (dk_at dksX6_plainArgument_4 9 rfl rfl)
theorem dX6_plainArgument_107 : decode cX6_plainArgument 107 = .ok (.iconst 1, 1) := dk_4 (dk_at dksX6_plainArgument_4 12 rfl rfl)
theorem dX6_plainArgument_108 : decode cX6_plainArgument 108 = .ok (.goto 17, 3) := dk_167 0 17 (dk_at dksX6_plainArgument_4 13 rfl rfl)
theorem dX6_plainArgument_111 : decode cX6_plainArgument 111 = .ok (.iload 4, 2) := dk_21 4 (dk_at dksX6_plainArgument_4 16 rfl rfl)
theorem dX6_plainArgument_113 : decode cX6_plainArgument 113 = .ok (.iconst 2, 1) := dk_5 (dk_at dksX6_plainArgument_4 18 rfl rfl)
theorem dX6_plainArgument_114 : decode cX6_plainArgument 114 = .ok (.invokestatic 238, 3) := dk_184 0 238 (dk_at dksX6_plainArgument_4 19 rfl rfl)
theorem dX6_plainArgument_117 : decode cX6_plainArgument 117 = .ok (.ifCond .eq 7, 3) := dk_153 0 7 (dk_at dksX6_plainArgument_5 0 rfl rfl)
theorem dX6_plainArgument_120 : decode cX6_plainArgument 120 = .ok (.iconst (-1), 1) := dk_2 (dk_at dksX6_plainArgument_5 3 rfl rfl)
theorem dX6_plainArgument_121 : decode cX6_plainArgument 121 = .ok (.goto 4, 3) := dk_167 0 4 (dk_at dksX6_plainArgument_5 4 rfl rfl)
theorem dX6_plainArgument_124 : decode cX6_plainArgument 124 = .ok (.iconst 0, 1) := dk_3 (dk_at dksX6_plainArgument_5 7 rfl rfl)
theorem dX6_plainArgument_125 : decode cX6_plainArgument 125 = .ok (.iadd, 1) := dk_96 (dk_at dksX6_plainArgument_5 8 rfl rfl)
theorem dX6_plainArgument_126 : decode cX6_plainArgument 126 = .ok (.istore 5, 2) := dk_54 5 (dk_at dksX6_plainArgument_5 9 rfl rfl)
theorem dX6_plainArgument_128 : decode cX6_plainArgument 128 = .ok (.iload 5, 2) := dk_21 5 (dk_at dksX6_plainArgument_5 11 rfl rfl)
theorem dX6_plainArgument_130 : decode cX6_plainArgument 130 = .ok (.ifCond .le 10, 3) := dk_158 0 10 (dk_at dksX6_plainArgument_5 13 rfl rfl)
theorem dX6_plainArgument_133 : decode cX6_plainArgument 133 = .ok (.aload_n 0, 1) := dk_42 (dk_at dksX6_plainArgument_5 16 rfl rfl)
theorem dX6_plainArgument_134 : decode cX6_plainArgument 134 = .ok (.iload_n 1, 1) := dk_27 (dk_at dksX6_plainArgument_5 17 rfl rfl)
theorem dX6_plainArgument_135 : decode cX6_plainArgument 135 = .ok (.iload 4, 2) := dk_21 4 (dk_at dksX6_plainArgument_5 18 rfl rfl)
theorem dX6_plainArgument_137 : decode cX6_plainArgument 137 = .ok (.invokevirtual 246, 3) := dk_182 0 246 (dk_at dksX6_plainArgument_5 20 rfl rfl)
theorem dX6_plainArgument_140 : decode cX6_plainArgument 140 = .ok (.iinc 6 1, 3) := dk_132 6 1 (dk_at dksX6_plainArgument_6 0 rfl rfl)
theorem dX6_plainArgument_143 : decode cX6_plainArgument 143 = .ok (.goto (-78), 3) := dk_167 255 178 (dk_at dksX6_plainArgument_6 3 rfl rfl)
theorem dX6_plainArgument_146 : decode cX6_plainArgument 146 = .ok (.return_, 1) := dk_177 (dk_at dksX6_plainArgument_6 6 rfl rfl)
abbrev cX6_piece : ByteArray := prog_10_method_27_code
def yX6_piece : MethodName := ⟨RX6, "piece", "(IIIIII)I"⟩
def dkwX6_piece_5 : List UInt8 := [167, 0, 7, 27, 184, 0, 235, 172]
abbrev dktX6_piece_5 : List UInt8 := dkwX6_piece_5 ++ []
def dkwX6_piece_4 : List UInt8 := [182, 0, 205, 167, 0, 28, 27, 5, 184, 0, 238, 153, 0, 16, 21, 6, 154, 0, 11, 42, 4, 182, 0, 205]
abbrev dktX6_piece_4 : List UInt8 := dkwX6_piece_4 ++ dktX6_piece_5
def dkwX6_piece_3 : List UInt8 := [159, 0, 7, 4, 167, 0, 4, 3, 54, 7, 132, 8, 1, 167, 255, 216, 21, 7, 153, 0, 12, 42, 16, 7]
abbrev dktX6_piece_3 : List UInt8 := dkwX6_piece_3 ++ dktX6_piece_4
def dkwX6_piece_2 : List UInt8 := [162, 0, 39, 21, 7, 153, 0, 25, 42, 180, 0, 47, 16, 13, 29, 104, 21, 8, 96, 46, 17, 16, 0]
abbrev dktX6_piece_2 : List UInt8 := dkwX6_piece_2 ++ dktX6_piece_3
def dkwX6_piece_1 : List UInt8 := [184, 0, 235, 17, 16, 0, 160, 0, 7, 4, 167, 0, 4, 3, 54, 7, 21, 4, 54, 8, 21, 8, 21, 5]
abbrev dktX6_piece_1 : List UInt8 := dkwX6_piece_1 ++ dktX6_piece_2
def dkwX6_piece_0 : List UInt8 := [27, 2, 160, 0, 9, 42, 6, 182, 0, 205, 172, 28, 16, 40, 164, 0, 9, 42, 8, 182, 0, 205, 172, 27]
abbrev dktX6_piece_0 : List UInt8 := dkwX6_piece_0 ++ dktX6_piece_1
theorem dksX6_piece_0 : cX6_piece.data.toList.drop 0 = dktX6_piece_0 := by decide +kernel
theorem dksX6_piece_1 : cX6_piece.data.toList.drop 24 = dktX6_piece_1 := dk_seg dksX6_piece_0 24 rfl rfl
theorem dksX6_piece_2 : cX6_piece.data.toList.drop 48 = dktX6_piece_2 := dk_seg dksX6_piece_1 24 rfl rfl
theorem dksX6_piece_3 : cX6_piece.data.toList.drop 71 = dktX6_piece_3 := dk_seg dksX6_piece_2 23 rfl rfl
theorem dksX6_piece_4 : cX6_piece.data.toList.drop 95 = dktX6_piece_4 := dk_seg dksX6_piece_3 24 rfl rfl
theorem dksX6_piece_5 : cX6_piece.data.toList.drop 119 = dktX6_piece_5 := dk_seg dksX6_piece_4 24 rfl rfl
theorem dX6_piece_0 : decode cX6_piece 0 = .ok (.iload_n 1, 1) := dk_27 (dk_at dksX6_piece_0 0 rfl rfl)
theorem dX6_piece_1 : decode cX6_piece 1 = .ok (.iconst (-1), 1) := dk_2 (dk_at dksX6_piece_0 1 rfl rfl)
theorem dX6_piece_2 : decode cX6_piece 2 = .ok (.if_icmp .ne 9, 3) := dk_160 0 9 (dk_at dksX6_piece_0 2 rfl rfl)
theorem dX6_piece_5 : decode cX6_piece 5 = .ok (.aload_n 0, 1) := dk_42 (dk_at dksX6_piece_0 5 rfl rfl)
theorem dX6_piece_6 : decode cX6_piece 6 = .ok (.iconst 3, 1) := dk_6 (dk_at dksX6_piece_0 6 rfl rfl)
theorem dX6_piece_7 : decode cX6_piece 7 = .ok (.invokevirtual 205, 3) := dk_182 0 205 (dk_at dksX6_piece_0 7 rfl rfl)
theorem dX6_piece_10 : decode cX6_piece 10 = .ok (.ireturn, 1) := dk_172 (dk_at dksX6_piece_0 10 rfl rfl)
theorem dX6_piece_11 : decode cX6_piece 11 = .ok (.iload_n 2, 1) := dk_28 (dk_at dksX6_piece_0 11 rfl rfl)
theorem dX6_piece_12 : decode cX6_piece 12 = .ok (.bipush 40, 2) := dk_16 40 (dk_at dksX6_piece_0 12 rfl rfl)
theorem dX6_piece_14 : decode cX6_piece 14 = .ok (.if_icmp .le 9, 3) := dk_164 0 9 (dk_at dksX6_piece_0 14 rfl rfl)
theorem dX6_piece_17 : decode cX6_piece 17 = .ok (.aload_n 0, 1) := dk_42 (dk_at dksX6_piece_0 17 rfl rfl)
theorem dX6_piece_18 : decode cX6_piece 18 = .ok (.iconst 5, 1) := dk_8 (dk_at dksX6_piece_0 18 rfl rfl)
theorem dX6_piece_19 : decode cX6_piece 19 = .ok (.invokevirtual 205, 3) := dk_182 0 205 (dk_at dksX6_piece_0 19 rfl rfl)
theorem dX6_piece_22 : decode cX6_piece 22 = .ok (.ireturn, 1) := dk_172 (dk_at dksX6_piece_0 22 rfl rfl)
theorem dX6_piece_23 : decode cX6_piece 23 = .ok (.iload_n 1, 1) := dk_27 (dk_at dksX6_piece_0 23 rfl rfl)
theorem dX6_piece_24 : decode cX6_piece 24 = .ok (.invokestatic 235, 3) := dk_184 0 235 (dk_at dksX6_piece_1 0 rfl rfl)
theorem dX6_piece_27 : decode cX6_piece 27 = .ok (.sipush 4096, 3) := dk_17 16 0 (dk_at dksX6_piece_1 3 rfl rfl)
theorem dX6_piece_30 : decode cX6_piece 30 = .ok (.if_icmp .ne 7, 3) := dk_160 0 7 (dk_at dksX6_piece_1 6 rfl rfl)
theorem dX6_piece_33 : decode cX6_piece 33 = .ok (.iconst 1, 1) := dk_4 (dk_at dksX6_piece_1 9 rfl rfl)
theorem dX6_piece_34 : decode cX6_piece 34 = .ok (.goto 4, 3) := dk_167 0 4 (dk_at dksX6_piece_1 10 rfl rfl)
theorem dX6_piece_37 : decode cX6_piece 37 = .ok (.iconst 0, 1) := dk_3 (dk_at dksX6_piece_1 13 rfl rfl)
theorem dX6_piece_38 : decode cX6_piece 38 = .ok (.istore 7, 2) := dk_54 7 (dk_at dksX6_piece_1 14 rfl rfl)
theorem dX6_piece_40 : decode cX6_piece 40 = .ok (.iload 4, 2) := dk_21 4 (dk_at dksX6_piece_1 16 rfl rfl)
theorem dX6_piece_42 : decode cX6_piece 42 = .ok (.istore 8, 2) := dk_54 8 (dk_at dksX6_piece_1 18 rfl rfl)
theorem dX6_piece_44 : decode cX6_piece 44 = .ok (.iload 8, 2) := dk_21 8 (dk_at dksX6_piece_1 20 rfl rfl)
theorem dX6_piece_46 : decode cX6_piece 46 = .ok (.iload 5, 2) := dk_21 5 (dk_at dksX6_piece_1 22 rfl rfl)
theorem dX6_piece_48 : decode cX6_piece 48 = .ok (.if_icmp .ge 39, 3) := dk_162 0 39 (dk_at dksX6_piece_2 0 rfl rfl)
theorem dX6_piece_51 : decode cX6_piece 51 = .ok (.iload 7, 2) := dk_21 7 (dk_at dksX6_piece_2 3 rfl rfl)
theorem dX6_piece_53 : decode cX6_piece 53 = .ok (.ifCond .eq 25, 3) := dk_153 0 25 (dk_at dksX6_piece_2 5 rfl rfl)
theorem dX6_piece_56 : decode cX6_piece 56 = .ok (.aload_n 0, 1) := dk_42 (dk_at dksX6_piece_2 8 rfl rfl)
theorem dX6_piece_57 : decode cX6_piece 57 = .ok (.getfield 47, 3) := dk_180 0 47 (dk_at dksX6_piece_2 9 rfl rfl)
theorem dX6_piece_60 : decode cX6_piece 60 = .ok (.bipush 13, 2) := dk_16 13 (dk_at dksX6_piece_2 12 rfl rfl)
theorem dX6_piece_62 : decode cX6_piece 62 = .ok (.iload_n 3, 1) := dk_29 (dk_at dksX6_piece_2 14 rfl rfl)
theorem dX6_piece_63 : decode cX6_piece 63 = .ok (.imul, 1) := dk_104 (dk_at dksX6_piece_2 15 rfl rfl)
theorem dX6_piece_64 : decode cX6_piece 64 = .ok (.iload 8, 2) := dk_21 8 (dk_at dksX6_piece_2 16 rfl rfl)
theorem dX6_piece_66 : decode cX6_piece 66 = .ok (.iadd, 1) := dk_96 (dk_at dksX6_piece_2 18 rfl rfl)
theorem dX6_piece_67 : decode cX6_piece 67 = .ok (.iaload, 1) := dk_46 (dk_at dksX6_piece_2 19 rfl rfl)
theorem dX6_piece_68 : decode cX6_piece 68 = .ok (.sipush 4096, 3) := dk_17 16 0 (dk_at dksX6_piece_2 20 rfl rfl)
theorem dX6_piece_71 : decode cX6_piece 71 = .ok (.if_icmp .eq 7, 3) := dk_159 0 7 (dk_at dksX6_piece_3 0 rfl rfl)
theorem dX6_piece_74 : decode cX6_piece 74 = .ok (.iconst 1, 1) := dk_4 (dk_at dksX6_piece_3 3 rfl rfl)
theorem dX6_piece_75 : decode cX6_piece 75 = .ok (.goto 4, 3) := dk_167 0 4 (dk_at dksX6_piece_3 4 rfl rfl)
theorem dX6_piece_78 : decode cX6_piece 78 = .ok (.iconst 0, 1) := dk_3 (dk_at dksX6_piece_3 7 rfl rfl)
theorem dX6_piece_79 : decode cX6_piece 79 = .ok (.istore 7, 2) := dk_54 7 (dk_at dksX6_piece_3 8 rfl rfl)
theorem dX6_piece_81 : decode cX6_piece 81 = .ok (.iinc 8 1, 3) := dk_132 8 1 (dk_at dksX6_piece_3 10 rfl rfl)
theorem dX6_piece_84 : decode cX6_piece 84 = .ok (.goto (-40), 3) := dk_167 255 216 (dk_at dksX6_piece_3 13 rfl rfl)
theorem dX6_piece_87 : decode cX6_piece 87 = .ok (.iload 7, 2) := dk_21 7 (dk_at dksX6_piece_3 16 rfl rfl)
theorem dX6_piece_89 : decode cX6_piece 89 = .ok (.ifCond .eq 12, 3) := dk_153 0 12 (dk_at dksX6_piece_3 18 rfl rfl)
theorem dX6_piece_92 : decode cX6_piece 92 = .ok (.aload_n 0, 1) := dk_42 (dk_at dksX6_piece_3 21 rfl rfl)
theorem dX6_piece_93 : decode cX6_piece 93 = .ok (.bipush 7, 2) := dk_16 7 (dk_at dksX6_piece_3 22 rfl rfl)
theorem dX6_piece_95 : decode cX6_piece 95 = .ok (.invokevirtual 205, 3) := dk_182 0 205 (dk_at dksX6_piece_4 0 rfl rfl)
theorem dX6_piece_98 : decode cX6_piece 98 = .ok (.goto 28, 3) := dk_167 0 28 (dk_at dksX6_piece_4 3 rfl rfl)
theorem dX6_piece_101 : decode cX6_piece 101 = .ok (.iload_n 1, 1) := dk_27 (dk_at dksX6_piece_4 6 rfl rfl)
theorem dX6_piece_102 : decode cX6_piece 102 = .ok (.iconst 2, 1) := dk_5 (dk_at dksX6_piece_4 7 rfl rfl)
theorem dX6_piece_103 : decode cX6_piece 103 = .ok (.invokestatic 238, 3) := dk_184 0 238 (dk_at dksX6_piece_4 8 rfl rfl)
theorem dX6_piece_106 : decode cX6_piece 106 = .ok (.ifCond .eq 16, 3) := dk_153 0 16 (dk_at dksX6_piece_4 11 rfl rfl)
theorem dX6_piece_109 : decode cX6_piece 109 = .ok (.iload 6, 2) := dk_21 6 (dk_at dksX6_piece_4 14 rfl rfl)
theorem dX6_piece_111 : decode cX6_piece 111 = .ok (.ifCond .ne 11, 3) := dk_154 0 11 (dk_at dksX6_piece_4 16 rfl rfl)
theorem dX6_piece_114 : decode cX6_piece 114 = .ok (.aload_n 0, 1) := dk_42 (dk_at dksX6_piece_4 19 rfl rfl)
theorem dX6_piece_115 : decode cX6_piece 115 = .ok (.iconst 1, 1) := dk_4 (dk_at dksX6_piece_4 20 rfl rfl)
theorem dX6_piece_116 : decode cX6_piece 116 = .ok (.invokevirtual 205, 3) := dk_182 0 205 (dk_at dksX6_piece_4 21 rfl rfl)
theorem dX6_piece_119 : decode cX6_piece 119 = .ok (.goto 7, 3) := dk_167 0 7 (dk_at dksX6_piece_5 0 rfl rfl)
theorem dX6_piece_122 : decode cX6_piece 122 = .ok (.iload_n 1, 1) := dk_27 (dk_at dksX6_piece_5 3 rfl rfl)
theorem dX6_piece_123 : decode cX6_piece 123 = .ok (.invokestatic 235, 3) := dk_184 0 235 (dk_at dksX6_piece_5 4 rfl rfl)
theorem dX6_piece_126 : decode cX6_piece 126 = .ok (.ireturn, 1) := dk_172 (dk_at dksX6_piece_5 7 rfl rfl)
abbrev cX6_isCharacter : ByteArray := prog_10_method_21_code
def yX6_isCharacter : MethodName := ⟨RX6, "isCharacter", "(II)Z"⟩
def dkwX6_isCharacter_1 : List UInt8 := [172]
abbrev dktX6_isCharacter_1 : List UInt8 := dkwX6_isCharacter_1 ++ []
def dkwX6_isCharacter_0 : List UInt8 := [26, 155, 0, 22, 26, 17, 16, 0, 162, 0, 15, 26, 16, 8, 122, 27, 160, 0, 7, 4, 167, 0, 4, 3]
abbrev dktX6_isCharacter_0 : List UInt8 := dkwX6_isCharacter_0 ++ dktX6_isCharacter_1
theorem dksX6_isCharacter_0 : cX6_isCharacter.data.toList.drop 0 = dktX6_isCharacter_0 := by decide +kernel
theorem dksX6_isCharacter_1 : cX6_isCharacter.data.toList.drop 24 = dktX6_isCharacter_1 := dk_seg dksX6_isCharacter_0 24 rfl rfl
theorem dX6_isCharacter_0 : decode cX6_isCharacter 0 = .ok (.iload_n 0, 1) := dk_26 (dk_at dksX6_isCharacter_0 0 rfl rfl)
theorem dX6_isCharacter_1 : decode cX6_isCharacter 1 = .ok (.ifCond .lt 22, 3) := dk_155 0 22 (dk_at dksX6_isCharacter_0 1 rfl rfl)
theorem dX6_isCharacter_4 : decode cX6_isCharacter 4 = .ok (.iload_n 0, 1) := dk_26 (dk_at dksX6_isCharacter_0 4 rfl rfl)
theorem dX6_isCharacter_5 : decode cX6_isCharacter 5 = .ok (.sipush 4096, 3) := dk_17 16 0 (dk_at dksX6_isCharacter_0 5 rfl rfl)
theorem dX6_isCharacter_8 : decode cX6_isCharacter 8 = .ok (.if_icmp .ge 15, 3) := dk_162 0 15 (dk_at dksX6_isCharacter_0 8 rfl rfl)
theorem dX6_isCharacter_11 : decode cX6_isCharacter 11 = .ok (.iload_n 0, 1) := dk_26 (dk_at dksX6_isCharacter_0 11 rfl rfl)
theorem dX6_isCharacter_12 : decode cX6_isCharacter 12 = .ok (.bipush 8, 2) := dk_16 8 (dk_at dksX6_isCharacter_0 12 rfl rfl)
theorem dX6_isCharacter_14 : decode cX6_isCharacter 14 = .ok (.ishr, 1) := dk_122 (dk_at dksX6_isCharacter_0 14 rfl rfl)
theorem dX6_isCharacter_15 : decode cX6_isCharacter 15 = .ok (.iload_n 1, 1) := dk_27 (dk_at dksX6_isCharacter_0 15 rfl rfl)
theorem dX6_isCharacter_16 : decode cX6_isCharacter 16 = .ok (.if_icmp .ne 7, 3) := dk_160 0 7 (dk_at dksX6_isCharacter_0 16 rfl rfl)
theorem dX6_isCharacter_19 : decode cX6_isCharacter 19 = .ok (.iconst 1, 1) := dk_4 (dk_at dksX6_isCharacter_0 19 rfl rfl)
theorem dX6_isCharacter_20 : decode cX6_isCharacter 20 = .ok (.goto 4, 3) := dk_167 0 4 (dk_at dksX6_isCharacter_0 20 rfl rfl)
theorem dX6_isCharacter_23 : decode cX6_isCharacter 23 = .ok (.iconst 0, 1) := dk_3 (dk_at dksX6_isCharacter_0 23 rfl rfl)
theorem dX6_isCharacter_24 : decode cX6_isCharacter 24 = .ok (.ireturn, 1) := dk_172 (dk_at dksX6_isCharacter_1 0 rfl rfl)
abbrev cX6_add : ByteArray := prog_10_method_28_code
def yX6_add : MethodName := ⟨RX6, "add", "(II)V"⟩
def dkwX6_add_1 : List UInt8 := [4, 96, 79, 177]
abbrev dktX6_add_1 : List UInt8 := dkwX6_add_1 ++ []
def dkwX6_add_0 : List UInt8 := [42, 180, 0, 80, 16, 42, 27, 104, 42, 180, 0, 83, 27, 46, 96, 28, 79, 42, 180, 0, 83, 27, 92, 46]
abbrev dktX6_add_0 : List UInt8 := dkwX6_add_0 ++ dktX6_add_1
theorem dksX6_add_0 : cX6_add.data.toList.drop 0 = dktX6_add_0 := by decide +kernel
theorem dksX6_add_1 : cX6_add.data.toList.drop 24 = dktX6_add_1 := dk_seg dksX6_add_0 24 rfl rfl
theorem dX6_add_0 : decode cX6_add 0 = .ok (.aload_n 0, 1) := dk_42 (dk_at dksX6_add_0 0 rfl rfl)
theorem dX6_add_1 : decode cX6_add 1 = .ok (.getfield 80, 3) := dk_180 0 80 (dk_at dksX6_add_0 1 rfl rfl)
theorem dX6_add_4 : decode cX6_add 4 = .ok (.bipush 42, 2) := dk_16 42 (dk_at dksX6_add_0 4 rfl rfl)
theorem dX6_add_6 : decode cX6_add 6 = .ok (.iload_n 1, 1) := dk_27 (dk_at dksX6_add_0 6 rfl rfl)
theorem dX6_add_7 : decode cX6_add 7 = .ok (.imul, 1) := dk_104 (dk_at dksX6_add_0 7 rfl rfl)
theorem dX6_add_8 : decode cX6_add 8 = .ok (.aload_n 0, 1) := dk_42 (dk_at dksX6_add_0 8 rfl rfl)
theorem dX6_add_9 : decode cX6_add 9 = .ok (.getfield 83, 3) := dk_180 0 83 (dk_at dksX6_add_0 9 rfl rfl)
theorem dX6_add_12 : decode cX6_add 12 = .ok (.iload_n 1, 1) := dk_27 (dk_at dksX6_add_0 12 rfl rfl)
theorem dX6_add_13 : decode cX6_add 13 = .ok (.iaload, 1) := dk_46 (dk_at dksX6_add_0 13 rfl rfl)
theorem dX6_add_14 : decode cX6_add 14 = .ok (.iadd, 1) := dk_96 (dk_at dksX6_add_0 14 rfl rfl)
theorem dX6_add_15 : decode cX6_add 15 = .ok (.iload_n 2, 1) := dk_28 (dk_at dksX6_add_0 15 rfl rfl)
theorem dX6_add_16 : decode cX6_add 16 = .ok (.iastore, 1) := dk_79 (dk_at dksX6_add_0 16 rfl rfl)
theorem dX6_add_17 : decode cX6_add 17 = .ok (.aload_n 0, 1) := dk_42 (dk_at dksX6_add_0 17 rfl rfl)
theorem dX6_add_18 : decode cX6_add 18 = .ok (.getfield 83, 3) := dk_180 0 83 (dk_at dksX6_add_0 18 rfl rfl)
theorem dX6_add_21 : decode cX6_add 21 = .ok (.iload_n 1, 1) := dk_27 (dk_at dksX6_add_0 21 rfl rfl)
theorem dX6_add_22 : decode cX6_add 22 = .ok (.dup2, 1) := dk_92 (dk_at dksX6_add_0 22 rfl rfl)
theorem dX6_add_23 : decode cX6_add 23 = .ok (.iaload, 1) := dk_46 (dk_at dksX6_add_0 23 rfl rfl)
theorem dX6_add_24 : decode cX6_add 24 = .ok (.iconst 1, 1) := dk_4 (dk_at dksX6_add_1 0 rfl rfl)
theorem dX6_add_25 : decode cX6_add 25 = .ok (.iadd, 1) := dk_96 (dk_at dksX6_add_1 1 rfl rfl)
theorem dX6_add_26 : decode cX6_add 26 = .ok (.iastore, 1) := dk_79 (dk_at dksX6_add_1 2 rfl rfl)
theorem dX6_add_27 : decode cX6_add 27 = .ok (.return_, 1) := dk_177 (dk_at dksX6_add_1 3 rfl rfl)
abbrev cX6_longArgument : ByteArray := prog_10_method_30_code
def yX6_longArgument : MethodName := ⟨RX6, "longArgument", "(IIII)V"⟩
def dkwX6_longArgument_11 : List UInt8 := [46, 79, 132, 10, 1, 167, 255, 218, 42, 180, 0, 83, 27, 21, 7, 5, 100, 79, 177]
abbrev dktX6_longArgument_11 : List UInt8 := dkwX6_longArgument_11 ++ []
def dkwX6_longArgument_10 : List UInt8 := [42, 180, 0, 80, 16, 42, 27, 104, 21, 10, 96, 4, 100, 42, 180, 0, 80, 16, 42, 27, 104, 21, 10, 96]
abbrev dktX6_longArgument_10 : List UInt8 := dkwX6_longArgument_10 ++ dktX6_longArgument_11
def dkwX6_longArgument_9 : List UInt8 := [21, 9, 157, 255, 205, 21, 8, 21, 7, 160, 0, 57, 4, 54, 10, 21, 10, 21, 7, 4, 100, 162, 0, 35]
abbrev dktX6_longArgument_9 : List UInt8 := dkwX6_longArgument_9 ++ dktX6_longArgument_10
def dkwX6_longArgument_8 : List UInt8 := [4, 167, 0, 17, 21, 10, 5, 184, 0, 238, 153, 0, 7, 2, 167, 0, 4, 3, 96, 54, 9, 132, 8, 1]
abbrev dktX6_longArgument_8 : List UInt8 := dkwX6_longArgument_8 ++ dktX6_longArgument_9
def dkwX6_longArgument_7 : List UInt8 := [180, 0, 80, 16, 42, 27, 104, 21, 8, 96, 46, 54, 10, 21, 9, 21, 10, 4, 184, 0, 238, 153, 0, 7]
abbrev dktX6_longArgument_7 : List UInt8 := dkwX6_longArgument_7 ++ dktX6_longArgument_8
def dkwX6_longArgument_6 : List UInt8 := [180, 0, 80, 16, 42, 27, 104, 46, 4, 184, 0, 238, 154, 0, 4, 177, 3, 54, 8, 3, 54, 9, 42]
abbrev dktX6_longArgument_6 : List UInt8 := dkwX6_longArgument_6 ++ dktX6_longArgument_7
def dkwX6_longArgument_5 : List UInt8 := [92, 46, 21, 4, 29, 100, 100, 79, 42, 180, 0, 83, 27, 46, 54, 7, 21, 7, 5, 161, 0, 19, 42]
abbrev dktX6_longArgument_5 : List UInt8 := dkwX6_longArgument_5 ++ dktX6_longArgument_6
def dkwX6_longArgument_4 : List UInt8 := [182, 0, 250, 153, 0, 7, 4, 167, 0, 4, 3, 54, 6, 132, 7, 1, 167, 255, 156, 42, 180, 0, 83, 27]
abbrev dktX6_longArgument_4 : List UInt8 := dkwX6_longArgument_4 ++ dktX6_longArgument_5
def dkwX6_longArgument_3 : List UInt8 := [153, 0, 7, 2, 167, 0, 4, 3, 96, 54, 5, 21, 5, 154, 0, 19, 42, 27, 28, 29, 21, 4]
abbrev dktX6_longArgument_3 : List UInt8 := dkwX6_longArgument_3 ++ dktX6_longArgument_4
def dkwX6_longArgument_2 : List UInt8 := [182, 0, 246, 21, 5, 21, 9, 4, 184, 0, 238, 153, 0, 7, 4, 167, 0, 17, 21, 9, 5, 184, 0, 238]
abbrev dktX6_longArgument_2 : List UInt8 := dkwX6_longArgument_2 ++ dktX6_longArgument_3
def dkwX6_longArgument_1 : List UInt8 := [21, 7, 28, 29, 21, 4, 21, 5, 182, 0, 242, 54, 9, 21, 9, 2, 160, 0, 4, 177, 42, 27, 21, 9]
abbrev dktX6_longArgument_1 : List UInt8 := dkwX6_longArgument_1 ++ dktX6_longArgument_2
def dkwX6_longArgument_0 : List UInt8 := [3, 54, 5, 3, 54, 6, 4, 54, 7, 21, 6, 154, 0, 101, 42, 182, 0, 223, 54, 8, 42, 21, 8]
abbrev dktX6_longArgument_0 : List UInt8 := dkwX6_longArgument_0 ++ dktX6_longArgument_1
theorem dksX6_longArgument_0 : cX6_longArgument.data.toList.drop 0 = dktX6_longArgument_0 := by decide +kernel
theorem dksX6_longArgument_1 : cX6_longArgument.data.toList.drop 23 = dktX6_longArgument_1 := dk_seg dksX6_longArgument_0 23 rfl rfl
theorem dksX6_longArgument_2 : cX6_longArgument.data.toList.drop 47 = dktX6_longArgument_2 := dk_seg dksX6_longArgument_1 24 rfl rfl
theorem dksX6_longArgument_3 : cX6_longArgument.data.toList.drop 71 = dktX6_longArgument_3 := dk_seg dksX6_longArgument_2 24 rfl rfl
theorem dksX6_longArgument_4 : cX6_longArgument.data.toList.drop 93 = dktX6_longArgument_4 := dk_seg dksX6_longArgument_3 22 rfl rfl
theorem dksX6_longArgument_5 : cX6_longArgument.data.toList.drop 117 = dktX6_longArgument_5 := dk_seg dksX6_longArgument_4 24 rfl rfl
theorem dksX6_longArgument_6 : cX6_longArgument.data.toList.drop 140 = dktX6_longArgument_6 := dk_seg dksX6_longArgument_5 23 rfl rfl
theorem dksX6_longArgument_7 : cX6_longArgument.data.toList.drop 163 = dktX6_longArgument_7 := dk_seg dksX6_longArgument_6 23 rfl rfl
theorem dksX6_longArgument_8 : cX6_longArgument.data.toList.drop 187 = dktX6_longArgument_8 := dk_seg dksX6_longArgument_7 24 rfl rfl
theorem dksX6_longArgument_9 : cX6_longArgument.data.toList.drop 211 = dktX6_longArgument_9 := dk_seg dksX6_longArgument_8 24 rfl rfl
theorem dksX6_longArgument_10 : cX6_longArgument.data.toList.drop 235 = dktX6_longArgument_10 := dk_seg dksX6_longArgument_9 24 rfl rfl
theorem dksX6_longArgument_11 : cX6_longArgument.data.toList.drop 259 = dktX6_longArgument_11 := dk_seg dksX6_longArgument_10 24 rfl rfl
theorem dX6_longArgument_0 : decode cX6_longArgument 0 = .ok (.iconst 0, 1) := dk_3 (dk_at dksX6_longArgument_0 0 rfl rfl)
theorem dX6_longArgument_1 : decode cX6_longArgument 1 = .ok (.istore 5, 2) := dk_54 5 (dk_at dksX6_longArgument_0 1 rfl rfl)
theorem dX6_longArgument_3 : decode cX6_longArgument 3 = .ok (.iconst 0, 1) := dk_3 (dk_at dksX6_longArgument_0 3 rfl rfl)
theorem dX6_longArgument_4 : decode cX6_longArgument 4 = .ok (.istore 6, 2) := dk_54 6 (dk_at dksX6_longArgument_0 4 rfl rfl)
theorem dX6_longArgument_6 : decode cX6_longArgument 6 = .ok (.iconst 1, 1) := dk_4 (dk_at dksX6_longArgument_0 6 rfl rfl)
theorem dX6_longArgument_7 : decode cX6_longArgument 7 = .ok (.istore 7, 2) := dk_54 7 (dk_at dksX6_longArgument_0 7 rfl rfl)
theorem dX6_longArgument_9 : decode cX6_longArgument 9 = .ok (.iload 6, 2) := dk_21 6 (dk_at dksX6_longArgument_0 9 rfl rfl)
theorem dX6_longArgument_11 : decode cX6_longArgument 11 = .ok (.ifCond .ne 101, 3) := dk_154 0 101 (dk_at dksX6_longArgument_0 11 rfl rfl)
theorem dX6_longArgument_14 : decode cX6_longArgument 14 = .ok (.aload_n 0, 1) := dk_42 (dk_at dksX6_longArgument_0 14 rfl rfl)
theorem dX6_longArgument_15 : decode cX6_longArgument 15 = .ok (.invokevirtual 223, 3) := dk_182 0 223 (dk_at dksX6_longArgument_0 15 rfl rfl)
theorem dX6_longArgument_18 : decode cX6_longArgument 18 = .ok (.istore 8, 2) := dk_54 8 (dk_at dksX6_longArgument_0 18 rfl rfl)
theorem dX6_longArgument_20 : decode cX6_longArgument 20 = .ok (.aload_n 0, 1) := dk_42 (dk_at dksX6_longArgument_0 20 rfl rfl)
theorem dX6_longArgument_21 : decode cX6_longArgument 21 = .ok (.iload 8, 2) := dk_21 8 (dk_at dksX6_longArgument_0 21 rfl rfl)
theorem dX6_longArgument_23 : decode cX6_longArgument 23 = .ok (.iload 7, 2) := dk_21 7 (dk_at dksX6_longArgument_1 0 rfl rfl)
theorem dX6_longArgument_25 : decode cX6_longArgument 25 = .ok (.iload_n 2, 1) := dk_28 (dk_at dksX6_longArgument_1 2 rfl rfl)
theorem dX6_longArgument_26 : decode cX6_longArgument 26 = .ok (.iload_n 3, 1) := dk_29 (dk_at dksX6_longArgument_1 3 rfl rfl)
theorem dX6_longArgument_27 : decode cX6_longArgument 27 = .ok (.iload 4, 2) := dk_21 4 (dk_at dksX6_longArgument_1 4 rfl rfl)
theorem dX6_longArgument_29 : decode cX6_longArgument 29 = .ok (.iload 5, 2) := dk_21 5 (dk_at dksX6_longArgument_1 6 rfl rfl)
theorem dX6_longArgument_31 : decode cX6_longArgument 31 = .ok (.invokevirtual 242, 3) := dk_182 0 242 (dk_at dksX6_longArgument_1 8 rfl rfl)
theorem dX6_longArgument_34 : decode cX6_longArgument 34 = .ok (.istore 9, 2) := dk_54 9 (dk_at dksX6_longArgument_1 11 rfl rfl)
theorem dX6_longArgument_36 : decode cX6_longArgument 36 = .ok (.iload 9, 2) := dk_21 9 (dk_at dksX6_longArgument_1 13 rfl rfl)
theorem dX6_longArgument_38 : decode cX6_longArgument 38 = .ok (.iconst (-1), 1) := dk_2 (dk_at dksX6_longArgument_1 15 rfl rfl)
theorem dX6_longArgument_39 : decode cX6_longArgument 39 = .ok (.if_icmp .ne 4, 3) := dk_160 0 4 (dk_at dksX6_longArgument_1 16 rfl rfl)
theorem dX6_longArgument_42 : decode cX6_longArgument 42 = .ok (.return_, 1) := dk_177 (dk_at dksX6_longArgument_1 19 rfl rfl)
theorem dX6_longArgument_43 : decode cX6_longArgument 43 = .ok (.aload_n 0, 1) := dk_42 (dk_at dksX6_longArgument_1 20 rfl rfl)
theorem dX6_longArgument_44 : decode cX6_longArgument 44 = .ok (.iload_n 1, 1) := dk_27 (dk_at dksX6_longArgument_1 21 rfl rfl)
theorem dX6_longArgument_45 : decode cX6_longArgument 45 = .ok (.iload 9, 2) := dk_21 9 (dk_at dksX6_longArgument_1 22 rfl rfl)
theorem dX6_longArgument_47 : decode cX6_longArgument 47 = .ok (.invokevirtual 246, 3) := dk_182 0 246 (dk_at dksX6_longArgument_2 0 rfl rfl)
theorem dX6_longArgument_50 : decode cX6_longArgument 50 = .ok (.iload 5, 2) := dk_21 5 (dk_at dksX6_longArgument_2 3 rfl rfl)
theorem dX6_longArgument_52 : decode cX6_longArgument 52 = .ok (.iload 9, 2) := dk_21 9 (dk_at dksX6_longArgument_2 5 rfl rfl)
theorem dX6_longArgument_54 : decode cX6_longArgument 54 = .ok (.iconst 1, 1) := dk_4 (dk_at dksX6_longArgument_2 7 rfl rfl)
theorem dX6_longArgument_55 : decode cX6_longArgument 55 = .ok (.invokestatic 238, 3) := dk_184 0 238 (dk_at dksX6_longArgument_2 8 rfl rfl)
theorem dX6_longArgument_58 : decode cX6_longArgument 58 = .ok (.ifCond .eq 7, 3) := dk_153 0 7 (dk_at dksX6_longArgument_2 11 rfl rfl)
theorem dX6_longArgument_61 : decode cX6_longArgument 61 = .ok (.iconst 1, 1) := dk_4 (dk_at dksX6_longArgument_2 14 rfl rfl)
theorem dX6_longArgument_62 : decode cX6_longArgument 62 = .ok (.goto 17, 3) := dk_167 0 17 (dk_at dksX6_longArgument_2 15 rfl rfl)
theorem dX6_longArgument_65 : decode cX6_longArgument 65 = .ok (.iload 9, 2) := dk_21 9 (dk_at dksX6_longArgument_2 18 rfl rfl)
theorem dX6_longArgument_67 : decode cX6_longArgument 67 = .ok (.iconst 2, 1) := dk_5 (dk_at dksX6_longArgument_2 20 rfl rfl)
theorem dX6_longArgument_68 : decode cX6_longArgument 68 = .ok (.invokestatic 238, 3) := dk_184 0 238 (dk_at dksX6_longArgument_2 21 rfl rfl)
theorem dX6_longArgument_71 : decode cX6_longArgument 71 = .ok (.ifCond .eq 7, 3) := dk_153 0 7 (dk_at dksX6_longArgument_3 0 rfl rfl)
theorem dX6_longArgument_74 : decode cX6_longArgument 74 = .ok (.iconst (-1), 1) := dk_2 (dk_at dksX6_longArgument_3 3 rfl rfl)
theorem dX6_longArgument_75 : decode cX6_longArgument 75 = .ok (.goto 4, 3) := dk_167 0 4 (dk_at dksX6_longArgument_3 4 rfl rfl)
theorem dX6_longArgument_78 : decode cX6_longArgument 78 = .ok (.iconst 0, 1) := dk_3 (dk_at dksX6_longArgument_3 7 rfl rfl)
theorem dX6_longArgument_79 : decode cX6_longArgument 79 = .ok (.iadd, 1) := dk_96 (dk_at dksX6_longArgument_3 8 rfl rfl)
theorem dX6_longArgument_80 : decode cX6_longArgument 80 = .ok (.istore 5, 2) := dk_54 5 (dk_at dksX6_longArgument_3 9 rfl rfl)
theorem dX6_longArgument_82 : decode cX6_longArgument 82 = .ok (.iload 5, 2) := dk_21 5 (dk_at dksX6_longArgument_3 11 rfl rfl)
theorem dX6_longArgument_84 : decode cX6_longArgument 84 = .ok (.ifCond .ne 19, 3) := dk_154 0 19 (dk_at dksX6_longArgument_3 13 rfl rfl)
theorem dX6_longArgument_87 : decode cX6_longArgument 87 = .ok (.aload_n 0, 1) := dk_42 (dk_at dksX6_longArgument_3 16 rfl rfl)
theorem dX6_longArgument_88 : decode cX6_longArgument 88 = .ok (.iload_n 1, 1) := dk_27 (dk_at dksX6_longArgument_3 17 rfl rfl)
theorem dX6_longArgument_89 : decode cX6_longArgument 89 = .ok (.iload_n 2, 1) := dk_28 (dk_at dksX6_longArgument_3 18 rfl rfl)
theorem dX6_longArgument_90 : decode cX6_longArgument 90 = .ok (.iload_n 3, 1) := dk_29 (dk_at dksX6_longArgument_3 19 rfl rfl)
theorem dX6_longArgument_91 : decode cX6_longArgument 91 = .ok (.iload 4, 2) := dk_21 4 (dk_at dksX6_longArgument_3 20 rfl rfl)
theorem dX6_longArgument_93 : decode cX6_longArgument 93 = .ok (.invokevirtual 250, 3) := dk_182 0 250 (dk_at dksX6_longArgument_4 0 rfl rfl)
theorem dX6_longArgument_96 : decode cX6_longArgument 96 = .ok (.ifCond .eq 7, 3) := dk_153 0 7 (dk_at dksX6_longArgument_4 3 rfl rfl)
theorem dX6_longArgument_99 : decode cX6_longArgument 99 = .ok (.iconst 1, 1) := dk_4 (dk_at dksX6_longArgument_4 6 rfl rfl)
theorem dX6_longArgument_100 : decode cX6_longArgument 100 = .ok (.goto 4, 3) := dk_167 0 4 (dk_at dksX6_longArgument_4 7 rfl rfl)
theorem dX6_longArgument_103 : decode cX6_longArgument 103 = .ok (.iconst 0, 1) := dk_3 (dk_at dksX6_longArgument_4 10 rfl rfl)
theorem dX6_longArgument_104 : decode cX6_longArgument 104 = .ok (.istore 6, 2) := dk_54 6 (dk_at dksX6_longArgument_4 11 rfl rfl)
theorem dX6_longArgument_106 : decode cX6_longArgument 106 = .ok (.iinc 7 1, 3) := dk_132 7 1 (dk_at dksX6_longArgument_4 13 rfl rfl)
theorem dX6_longArgument_109 : decode cX6_longArgument 109 = .ok (.goto (-100), 3) := dk_167 255 156 (dk_at dksX6_longArgument_4 16 rfl rfl)
theorem dX6_longArgument_112 : decode cX6_longArgument 112 = .ok (.aload_n 0, 1) := dk_42 (dk_at dksX6_longArgument_4 19 rfl rfl)
theorem dX6_longArgument_113 : decode cX6_longArgument 113 = .ok (.getfield 83, 3) := dk_180 0 83 (dk_at dksX6_longArgument_4 20 rfl rfl)
theorem dX6_longArgument_116 : decode cX6_longArgument 116 = .ok (.iload_n 1, 1) := dk_27 (dk_at dksX6_longArgument_4 23 rfl rfl)
theorem dX6_longArgument_117 : decode cX6_longArgument 117 = .ok (.dup2, 1) := dk_92 (dk_at dksX6_longArgument_5 0 rfl rfl)
theorem dX6_longArgument_118 : decode cX6_longArgument 118 = .ok (.iaload, 1) := dk_46 (dk_at dksX6_longArgument_5 1 rfl rfl)
theorem dX6_longArgument_119 : decode cX6_longArgument 119 = .ok (.iload 4, 2) := dk_21 4 (dk_at dksX6_longArgument_5 2 rfl rfl)
theorem dX6_longArgument_121 : decode cX6_longArgument 121 = .ok (.iload_n 3, 1) := dk_29 (dk_at dksX6_longArgument_5 4 rfl rfl)
theorem dX6_longArgument_122 : decode cX6_longArgument 122 = .ok (.isub, 1) := dk_100 (dk_at dksX6_longArgument_5 5 rfl rfl)
theorem dX6_longArgument_123 : decode cX6_longArgument 123 = .ok (.isub, 1) := dk_100 (dk_at dksX6_longArgument_5 6 rfl rfl)
theorem dX6_longArgument_124 : decode cX6_longArgument 124 = .ok (.iastore, 1) := dk_79 (dk_at dksX6_longArgument_5 7 rfl rfl)
theorem dX6_longArgument_125 : decode cX6_longArgument 125 = .ok (.aload_n 0, 1) := dk_42 (dk_at dksX6_longArgument_5 8 rfl rfl)
theorem dX6_longArgument_126 : decode cX6_longArgument 126 = .ok (.getfield 83, 3) := dk_180 0 83 (dk_at dksX6_longArgument_5 9 rfl rfl)
theorem dX6_longArgument_129 : decode cX6_longArgument 129 = .ok (.iload_n 1, 1) := dk_27 (dk_at dksX6_longArgument_5 12 rfl rfl)
theorem dX6_longArgument_130 : decode cX6_longArgument 130 = .ok (.iaload, 1) := dk_46 (dk_at dksX6_longArgument_5 13 rfl rfl)
theorem dX6_longArgument_131 : decode cX6_longArgument 131 = .ok (.istore 7, 2) := dk_54 7 (dk_at dksX6_longArgument_5 14 rfl rfl)
theorem dX6_longArgument_133 : decode cX6_longArgument 133 = .ok (.iload 7, 2) := dk_21 7 (dk_at dksX6_longArgument_5 16 rfl rfl)
theorem dX6_longArgument_135 : decode cX6_longArgument 135 = .ok (.iconst 2, 1) := dk_5 (dk_at dksX6_longArgument_5 18 rfl rfl)
theorem dX6_longArgument_136 : decode cX6_longArgument 136 = .ok (.if_icmp .lt 19, 3) := dk_161 0 19 (dk_at dksX6_longArgument_5 19 rfl rfl)
theorem dX6_longArgument_139 : decode cX6_longArgument 139 = .ok (.aload_n 0, 1) := dk_42 (dk_at dksX6_longArgument_5 22 rfl rfl)
theorem dX6_longArgument_140 : decode cX6_longArgument 140 = .ok (.getfield 80, 3) := dk_180 0 80 (dk_at dksX6_longArgument_6 0 rfl rfl)
theorem dX6_longArgument_143 : decode cX6_longArgument 143 = .ok (.bipush 42, 2) := dk_16 42 (dk_at dksX6_longArgument_6 3 rfl rfl)
theorem dX6_longArgument_145 : decode cX6_longArgument 145 = .ok (.iload_n 1, 1) := dk_27 (dk_at dksX6_longArgument_6 5 rfl rfl)
theorem dX6_longArgument_146 : decode cX6_longArgument 146 = .ok (.imul, 1) := dk_104 (dk_at dksX6_longArgument_6 6 rfl rfl)
theorem dX6_longArgument_147 : decode cX6_longArgument 147 = .ok (.iaload, 1) := dk_46 (dk_at dksX6_longArgument_6 7 rfl rfl)
theorem dX6_longArgument_148 : decode cX6_longArgument 148 = .ok (.iconst 1, 1) := dk_4 (dk_at dksX6_longArgument_6 8 rfl rfl)
theorem dX6_longArgument_149 : decode cX6_longArgument 149 = .ok (.invokestatic 238, 3) := dk_184 0 238 (dk_at dksX6_longArgument_6 9 rfl rfl)
theorem dX6_longArgument_152 : decode cX6_longArgument 152 = .ok (.ifCond .ne 4, 3) := dk_154 0 4 (dk_at dksX6_longArgument_6 12 rfl rfl)
theorem dX6_longArgument_155 : decode cX6_longArgument 155 = .ok (.return_, 1) := dk_177 (dk_at dksX6_longArgument_6 15 rfl rfl)
theorem dX6_longArgument_156 : decode cX6_longArgument 156 = .ok (.iconst 0, 1) := dk_3 (dk_at dksX6_longArgument_6 16 rfl rfl)
theorem dX6_longArgument_157 : decode cX6_longArgument 157 = .ok (.istore 8, 2) := dk_54 8 (dk_at dksX6_longArgument_6 17 rfl rfl)
theorem dX6_longArgument_159 : decode cX6_longArgument 159 = .ok (.iconst 0, 1) := dk_3 (dk_at dksX6_longArgument_6 19 rfl rfl)
theorem dX6_longArgument_160 : decode cX6_longArgument 160 = .ok (.istore 9, 2) := dk_54 9 (dk_at dksX6_longArgument_6 20 rfl rfl)
theorem dX6_longArgument_162 : decode cX6_longArgument 162 = .ok (.aload_n 0, 1) := dk_42 (dk_at dksX6_longArgument_6 22 rfl rfl)
theorem dX6_longArgument_163 : decode cX6_longArgument 163 = .ok (.getfield 80, 3) := dk_180 0 80 (dk_at dksX6_longArgument_7 0 rfl rfl)
theorem dX6_longArgument_166 : decode cX6_longArgument 166 = .ok (.bipush 42, 2) := dk_16 42 (dk_at dksX6_longArgument_7 3 rfl rfl)
theorem dX6_longArgument_168 : decode cX6_longArgument 168 = .ok (.iload_n 1, 1) := dk_27 (dk_at dksX6_longArgument_7 5 rfl rfl)
theorem dX6_longArgument_169 : decode cX6_longArgument 169 = .ok (.imul, 1) := dk_104 (dk_at dksX6_longArgument_7 6 rfl rfl)
theorem dX6_longArgument_170 : decode cX6_longArgument 170 = .ok (.iload 8, 2) := dk_21 8 (dk_at dksX6_longArgument_7 7 rfl rfl)
theorem dX6_longArgument_172 : decode cX6_longArgument 172 = .ok (.iadd, 1) := dk_96 (dk_at dksX6_longArgument_7 9 rfl rfl)
theorem dX6_longArgument_173 : decode cX6_longArgument 173 = .ok (.iaload, 1) := dk_46 (dk_at dksX6_longArgument_7 10 rfl rfl)
theorem dX6_longArgument_174 : decode cX6_longArgument 174 = .ok (.istore 10, 2) := dk_54 10 (dk_at dksX6_longArgument_7 11 rfl rfl)
theorem dX6_longArgument_176 : decode cX6_longArgument 176 = .ok (.iload 9, 2) := dk_21 9 (dk_at dksX6_longArgument_7 13 rfl rfl)
theorem dX6_longArgument_178 : decode cX6_longArgument 178 = .ok (.iload 10, 2) := dk_21 10 (dk_at dksX6_longArgument_7 15 rfl rfl)
theorem dX6_longArgument_180 : decode cX6_longArgument 180 = .ok (.iconst 1, 1) := dk_4 (dk_at dksX6_longArgument_7 17 rfl rfl)
theorem dX6_longArgument_181 : decode cX6_longArgument 181 = .ok (.invokestatic 238, 3) := dk_184 0 238 (dk_at dksX6_longArgument_7 18 rfl rfl)
theorem dX6_longArgument_184 : decode cX6_longArgument 184 = .ok (.ifCond .eq 7, 3) := dk_153 0 7 (dk_at dksX6_longArgument_7 21 rfl rfl)
theorem dX6_longArgument_187 : decode cX6_longArgument 187 = .ok (.iconst 1, 1) := dk_4 (dk_at dksX6_longArgument_8 0 rfl rfl)
theorem dX6_longArgument_188 : decode cX6_longArgument 188 = .ok (.goto 17, 3) := dk_167 0 17 (dk_at dksX6_longArgument_8 1 rfl rfl)
theorem dX6_longArgument_191 : decode cX6_longArgument 191 = .ok (.iload 10, 2) := dk_21 10 (dk_at dksX6_longArgument_8 4 rfl rfl)
theorem dX6_longArgument_193 : decode cX6_longArgument 193 = .ok (.iconst 2, 1) := dk_5 (dk_at dksX6_longArgument_8 6 rfl rfl)
theorem dX6_longArgument_194 : decode cX6_longArgument 194 = .ok (.invokestatic 238, 3) := dk_184 0 238 (dk_at dksX6_longArgument_8 7 rfl rfl)
theorem dX6_longArgument_197 : decode cX6_longArgument 197 = .ok (.ifCond .eq 7, 3) := dk_153 0 7 (dk_at dksX6_longArgument_8 10 rfl rfl)
theorem dX6_longArgument_200 : decode cX6_longArgument 200 = .ok (.iconst (-1), 1) := dk_2 (dk_at dksX6_longArgument_8 13 rfl rfl)
theorem dX6_longArgument_201 : decode cX6_longArgument 201 = .ok (.goto 4, 3) := dk_167 0 4 (dk_at dksX6_longArgument_8 14 rfl rfl)
theorem dX6_longArgument_204 : decode cX6_longArgument 204 = .ok (.iconst 0, 1) := dk_3 (dk_at dksX6_longArgument_8 17 rfl rfl)
theorem dX6_longArgument_205 : decode cX6_longArgument 205 = .ok (.iadd, 1) := dk_96 (dk_at dksX6_longArgument_8 18 rfl rfl)
theorem dX6_longArgument_206 : decode cX6_longArgument 206 = .ok (.istore 9, 2) := dk_54 9 (dk_at dksX6_longArgument_8 19 rfl rfl)
theorem dX6_longArgument_208 : decode cX6_longArgument 208 = .ok (.iinc 8 1, 3) := dk_132 8 1 (dk_at dksX6_longArgument_8 21 rfl rfl)
theorem dX6_longArgument_211 : decode cX6_longArgument 211 = .ok (.iload 9, 2) := dk_21 9 (dk_at dksX6_longArgument_9 0 rfl rfl)
theorem dX6_longArgument_213 : decode cX6_longArgument 213 = .ok (.ifCond .gt (-51), 3) := dk_157 255 205 (dk_at dksX6_longArgument_9 2 rfl rfl)
theorem dX6_longArgument_216 : decode cX6_longArgument 216 = .ok (.iload 8, 2) := dk_21 8 (dk_at dksX6_longArgument_9 5 rfl rfl)
theorem dX6_longArgument_218 : decode cX6_longArgument 218 = .ok (.iload 7, 2) := dk_21 7 (dk_at dksX6_longArgument_9 7 rfl rfl)
theorem dX6_longArgument_220 : decode cX6_longArgument 220 = .ok (.if_icmp .ne 57, 3) := dk_160 0 57 (dk_at dksX6_longArgument_9 9 rfl rfl)
theorem dX6_longArgument_223 : decode cX6_longArgument 223 = .ok (.iconst 1, 1) := dk_4 (dk_at dksX6_longArgument_9 12 rfl rfl)
theorem dX6_longArgument_224 : decode cX6_longArgument 224 = .ok (.istore 10, 2) := dk_54 10 (dk_at dksX6_longArgument_9 13 rfl rfl)
theorem dX6_longArgument_226 : decode cX6_longArgument 226 = .ok (.iload 10, 2) := dk_21 10 (dk_at dksX6_longArgument_9 15 rfl rfl)
theorem dX6_longArgument_228 : decode cX6_longArgument 228 = .ok (.iload 7, 2) := dk_21 7 (dk_at dksX6_longArgument_9 17 rfl rfl)
theorem dX6_longArgument_230 : decode cX6_longArgument 230 = .ok (.iconst 1, 1) := dk_4 (dk_at dksX6_longArgument_9 19 rfl rfl)
theorem dX6_longArgument_231 : decode cX6_longArgument 231 = .ok (.isub, 1) := dk_100 (dk_at dksX6_longArgument_9 20 rfl rfl)
theorem dX6_longArgument_232 : decode cX6_longArgument 232 = .ok (.if_icmp .ge 35, 3) := dk_162 0 35 (dk_at dksX6_longArgument_9 21 rfl rfl)
theorem dX6_longArgument_235 : decode cX6_longArgument 235 = .ok (.aload_n 0, 1) := dk_42 (dk_at dksX6_longArgument_10 0 rfl rfl)
theorem dX6_longArgument_236 : decode cX6_longArgument 236 = .ok (.getfield 80, 3) := dk_180 0 80 (dk_at dksX6_longArgument_10 1 rfl rfl)
theorem dX6_longArgument_239 : decode cX6_longArgument 239 = .ok (.bipush 42, 2) := dk_16 42 (dk_at dksX6_longArgument_10 4 rfl rfl)
theorem dX6_longArgument_241 : decode cX6_longArgument 241 = .ok (.iload_n 1, 1) := dk_27 (dk_at dksX6_longArgument_10 6 rfl rfl)
theorem dX6_longArgument_242 : decode cX6_longArgument 242 = .ok (.imul, 1) := dk_104 (dk_at dksX6_longArgument_10 7 rfl rfl)
theorem dX6_longArgument_243 : decode cX6_longArgument 243 = .ok (.iload 10, 2) := dk_21 10 (dk_at dksX6_longArgument_10 8 rfl rfl)
theorem dX6_longArgument_245 : decode cX6_longArgument 245 = .ok (.iadd, 1) := dk_96 (dk_at dksX6_longArgument_10 10 rfl rfl)
theorem dX6_longArgument_246 : decode cX6_longArgument 246 = .ok (.iconst 1, 1) := dk_4 (dk_at dksX6_longArgument_10 11 rfl rfl)
theorem dX6_longArgument_247 : decode cX6_longArgument 247 = .ok (.isub, 1) := dk_100 (dk_at dksX6_longArgument_10 12 rfl rfl)
theorem dX6_longArgument_248 : decode cX6_longArgument 248 = .ok (.aload_n 0, 1) := dk_42 (dk_at dksX6_longArgument_10 13 rfl rfl)
theorem dX6_longArgument_249 : decode cX6_longArgument 249 = .ok (.getfield 80, 3) := dk_180 0 80 (dk_at dksX6_longArgument_10 14 rfl rfl)
theorem dX6_longArgument_252 : decode cX6_longArgument 252 = .ok (.bipush 42, 2) := dk_16 42 (dk_at dksX6_longArgument_10 17 rfl rfl)
theorem dX6_longArgument_254 : decode cX6_longArgument 254 = .ok (.iload_n 1, 1) := dk_27 (dk_at dksX6_longArgument_10 19 rfl rfl)
theorem dX6_longArgument_255 : decode cX6_longArgument 255 = .ok (.imul, 1) := dk_104 (dk_at dksX6_longArgument_10 20 rfl rfl)
theorem dX6_longArgument_256 : decode cX6_longArgument 256 = .ok (.iload 10, 2) := dk_21 10 (dk_at dksX6_longArgument_10 21 rfl rfl)
theorem dX6_longArgument_258 : decode cX6_longArgument 258 = .ok (.iadd, 1) := dk_96 (dk_at dksX6_longArgument_10 23 rfl rfl)
theorem dX6_longArgument_259 : decode cX6_longArgument 259 = .ok (.iaload, 1) := dk_46 (dk_at dksX6_longArgument_11 0 rfl rfl)
theorem dX6_longArgument_260 : decode cX6_longArgument 260 = .ok (.iastore, 1) := dk_79 (dk_at dksX6_longArgument_11 1 rfl rfl)
theorem dX6_longArgument_261 : decode cX6_longArgument 261 = .ok (.iinc 10 1, 3) := dk_132 10 1 (dk_at dksX6_longArgument_11 2 rfl rfl)
theorem dX6_longArgument_264 : decode cX6_longArgument 264 = .ok (.goto (-38), 3) := dk_167 255 218 (dk_at dksX6_longArgument_11 5 rfl rfl)
theorem dX6_longArgument_267 : decode cX6_longArgument 267 = .ok (.aload_n 0, 1) := dk_42 (dk_at dksX6_longArgument_11 8 rfl rfl)
theorem dX6_longArgument_268 : decode cX6_longArgument 268 = .ok (.getfield 83, 3) := dk_180 0 83 (dk_at dksX6_longArgument_11 9 rfl rfl)
theorem dX6_longArgument_271 : decode cX6_longArgument 271 = .ok (.iload_n 1, 1) := dk_27 (dk_at dksX6_longArgument_11 12 rfl rfl)
theorem dX6_longArgument_272 : decode cX6_longArgument 272 = .ok (.iload 7, 2) := dk_21 7 (dk_at dksX6_longArgument_11 13 rfl rfl)
theorem dX6_longArgument_274 : decode cX6_longArgument 274 = .ok (.iconst 2, 1) := dk_5 (dk_at dksX6_longArgument_11 15 rfl rfl)
theorem dX6_longArgument_275 : decode cX6_longArgument 275 = .ok (.isub, 1) := dk_100 (dk_at dksX6_longArgument_11 16 rfl rfl)
theorem dX6_longArgument_276 : decode cX6_longArgument 276 = .ok (.iastore, 1) := dk_79 (dk_at dksX6_longArgument_11 17 rfl rfl)
theorem dX6_longArgument_277 : decode cX6_longArgument 277 = .ok (.return_, 1) := dk_177 (dk_at dksX6_longArgument_11 18 rfl rfl)
abbrev cX6_isBehind : ByteArray := prog_10_method_26_code
def yX6_isBehind : MethodName := ⟨RX6, "isBehind", "(IIII)Z"⟩
def dkwX6_isBehind_3 : List UInt8 := [21, 7, 96, 46, 160, 0, 7, 4, 167, 0, 4, 3, 54, 6, 132, 7, 1, 167, 255, 195, 21, 6, 172]
abbrev dktX6_isBehind_3 : List UInt8 := dkwX6_isBehind_3 ++ []
def dkwX6_isBehind_2 : List UInt8 := [180, 0, 83, 27, 46, 96, 21, 5, 100, 21, 7, 96, 46, 42, 180, 0, 47, 16, 13, 28, 104, 29, 96]
abbrev dktX6_isBehind_2 : List UInt8 := dkwX6_isBehind_2 ++ dktX6_isBehind_3
def dkwX6_isBehind_1 : List UInt8 := [3, 54, 7, 21, 7, 21, 5, 162, 0, 60, 21, 6, 153, 0, 55, 42, 180, 0, 80, 16, 42, 27, 104, 42]
abbrev dktX6_isBehind_1 : List UInt8 := dkwX6_isBehind_1 ++ dktX6_isBehind_2
def dkwX6_isBehind_0 : List UInt8 := [21, 4, 29, 100, 54, 5, 42, 180, 0, 83, 27, 46, 21, 5, 161, 0, 7, 4, 167, 0, 4, 3, 54, 6]
abbrev dktX6_isBehind_0 : List UInt8 := dkwX6_isBehind_0 ++ dktX6_isBehind_1
theorem dksX6_isBehind_0 : cX6_isBehind.data.toList.drop 0 = dktX6_isBehind_0 := by decide +kernel
theorem dksX6_isBehind_1 : cX6_isBehind.data.toList.drop 24 = dktX6_isBehind_1 := dk_seg dksX6_isBehind_0 24 rfl rfl
theorem dksX6_isBehind_2 : cX6_isBehind.data.toList.drop 48 = dktX6_isBehind_2 := dk_seg dksX6_isBehind_1 24 rfl rfl
theorem dksX6_isBehind_3 : cX6_isBehind.data.toList.drop 71 = dktX6_isBehind_3 := dk_seg dksX6_isBehind_2 23 rfl rfl
theorem dX6_isBehind_0 : decode cX6_isBehind 0 = .ok (.iload 4, 2) := dk_21 4 (dk_at dksX6_isBehind_0 0 rfl rfl)
theorem dX6_isBehind_2 : decode cX6_isBehind 2 = .ok (.iload_n 3, 1) := dk_29 (dk_at dksX6_isBehind_0 2 rfl rfl)
theorem dX6_isBehind_3 : decode cX6_isBehind 3 = .ok (.isub, 1) := dk_100 (dk_at dksX6_isBehind_0 3 rfl rfl)
theorem dX6_isBehind_4 : decode cX6_isBehind 4 = .ok (.istore 5, 2) := dk_54 5 (dk_at dksX6_isBehind_0 4 rfl rfl)
theorem dX6_isBehind_6 : decode cX6_isBehind 6 = .ok (.aload_n 0, 1) := dk_42 (dk_at dksX6_isBehind_0 6 rfl rfl)
theorem dX6_isBehind_7 : decode cX6_isBehind 7 = .ok (.getfield 83, 3) := dk_180 0 83 (dk_at dksX6_isBehind_0 7 rfl rfl)
theorem dX6_isBehind_10 : decode cX6_isBehind 10 = .ok (.iload_n 1, 1) := dk_27 (dk_at dksX6_isBehind_0 10 rfl rfl)
theorem dX6_isBehind_11 : decode cX6_isBehind 11 = .ok (.iaload, 1) := dk_46 (dk_at dksX6_isBehind_0 11 rfl rfl)
theorem dX6_isBehind_12 : decode cX6_isBehind 12 = .ok (.iload 5, 2) := dk_21 5 (dk_at dksX6_isBehind_0 12 rfl rfl)
theorem dX6_isBehind_14 : decode cX6_isBehind 14 = .ok (.if_icmp .lt 7, 3) := dk_161 0 7 (dk_at dksX6_isBehind_0 14 rfl rfl)
theorem dX6_isBehind_17 : decode cX6_isBehind 17 = .ok (.iconst 1, 1) := dk_4 (dk_at dksX6_isBehind_0 17 rfl rfl)
theorem dX6_isBehind_18 : decode cX6_isBehind 18 = .ok (.goto 4, 3) := dk_167 0 4 (dk_at dksX6_isBehind_0 18 rfl rfl)
theorem dX6_isBehind_21 : decode cX6_isBehind 21 = .ok (.iconst 0, 1) := dk_3 (dk_at dksX6_isBehind_0 21 rfl rfl)
theorem dX6_isBehind_22 : decode cX6_isBehind 22 = .ok (.istore 6, 2) := dk_54 6 (dk_at dksX6_isBehind_0 22 rfl rfl)
theorem dX6_isBehind_24 : decode cX6_isBehind 24 = .ok (.iconst 0, 1) := dk_3 (dk_at dksX6_isBehind_1 0 rfl rfl)
theorem dX6_isBehind_25 : decode cX6_isBehind 25 = .ok (.istore 7, 2) := dk_54 7 (dk_at dksX6_isBehind_1 1 rfl rfl)
theorem dX6_isBehind_27 : decode cX6_isBehind 27 = .ok (.iload 7, 2) := dk_21 7 (dk_at dksX6_isBehind_1 3 rfl rfl)
theorem dX6_isBehind_29 : decode cX6_isBehind 29 = .ok (.iload 5, 2) := dk_21 5 (dk_at dksX6_isBehind_1 5 rfl rfl)
theorem dX6_isBehind_31 : decode cX6_isBehind 31 = .ok (.if_icmp .ge 60, 3) := dk_162 0 60 (dk_at dksX6_isBehind_1 7 rfl rfl)
theorem dX6_isBehind_34 : decode cX6_isBehind 34 = .ok (.iload 6, 2) := dk_21 6 (dk_at dksX6_isBehind_1 10 rfl rfl)
theorem dX6_isBehind_36 : decode cX6_isBehind 36 = .ok (.ifCond .eq 55, 3) := dk_153 0 55 (dk_at dksX6_isBehind_1 12 rfl rfl)
theorem dX6_isBehind_39 : decode cX6_isBehind 39 = .ok (.aload_n 0, 1) := dk_42 (dk_at dksX6_isBehind_1 15 rfl rfl)
theorem dX6_isBehind_40 : decode cX6_isBehind 40 = .ok (.getfield 80, 3) := dk_180 0 80 (dk_at dksX6_isBehind_1 16 rfl rfl)
theorem dX6_isBehind_43 : decode cX6_isBehind 43 = .ok (.bipush 42, 2) := dk_16 42 (dk_at dksX6_isBehind_1 19 rfl rfl)
theorem dX6_isBehind_45 : decode cX6_isBehind 45 = .ok (.iload_n 1, 1) := dk_27 (dk_at dksX6_isBehind_1 21 rfl rfl)
theorem dX6_isBehind_46 : decode cX6_isBehind 46 = .ok (.imul, 1) := dk_104 (dk_at dksX6_isBehind_1 22 rfl rfl)
theorem dX6_isBehind_47 : decode cX6_isBehind 47 = .ok (.aload_n 0, 1) := dk_42 (dk_at dksX6_isBehind_1 23 rfl rfl)
theorem dX6_isBehind_48 : decode cX6_isBehind 48 = .ok (.getfield 83, 3) := dk_180 0 83 (dk_at dksX6_isBehind_2 0 rfl rfl)
theorem dX6_isBehind_51 : decode cX6_isBehind 51 = .ok (.iload_n 1, 1) := dk_27 (dk_at dksX6_isBehind_2 3 rfl rfl)
theorem dX6_isBehind_52 : decode cX6_isBehind 52 = .ok (.iaload, 1) := dk_46 (dk_at dksX6_isBehind_2 4 rfl rfl)
theorem dX6_isBehind_53 : decode cX6_isBehind 53 = .ok (.iadd, 1) := dk_96 (dk_at dksX6_isBehind_2 5 rfl rfl)
theorem dX6_isBehind_54 : decode cX6_isBehind 54 = .ok (.iload 5, 2) := dk_21 5 (dk_at dksX6_isBehind_2 6 rfl rfl)
theorem dX6_isBehind_56 : decode cX6_isBehind 56 = .ok (.isub, 1) := dk_100 (dk_at dksX6_isBehind_2 8 rfl rfl)
theorem dX6_isBehind_57 : decode cX6_isBehind 57 = .ok (.iload 7, 2) := dk_21 7 (dk_at dksX6_isBehind_2 9 rfl rfl)
theorem dX6_isBehind_59 : decode cX6_isBehind 59 = .ok (.iadd, 1) := dk_96 (dk_at dksX6_isBehind_2 11 rfl rfl)
theorem dX6_isBehind_60 : decode cX6_isBehind 60 = .ok (.iaload, 1) := dk_46 (dk_at dksX6_isBehind_2 12 rfl rfl)
theorem dX6_isBehind_61 : decode cX6_isBehind 61 = .ok (.aload_n 0, 1) := dk_42 (dk_at dksX6_isBehind_2 13 rfl rfl)
theorem dX6_isBehind_62 : decode cX6_isBehind 62 = .ok (.getfield 47, 3) := dk_180 0 47 (dk_at dksX6_isBehind_2 14 rfl rfl)
theorem dX6_isBehind_65 : decode cX6_isBehind 65 = .ok (.bipush 13, 2) := dk_16 13 (dk_at dksX6_isBehind_2 17 rfl rfl)
theorem dX6_isBehind_67 : decode cX6_isBehind 67 = .ok (.iload_n 2, 1) := dk_28 (dk_at dksX6_isBehind_2 19 rfl rfl)
theorem dX6_isBehind_68 : decode cX6_isBehind 68 = .ok (.imul, 1) := dk_104 (dk_at dksX6_isBehind_2 20 rfl rfl)
theorem dX6_isBehind_69 : decode cX6_isBehind 69 = .ok (.iload_n 3, 1) := dk_29 (dk_at dksX6_isBehind_2 21 rfl rfl)
theorem dX6_isBehind_70 : decode cX6_isBehind 70 = .ok (.iadd, 1) := dk_96 (dk_at dksX6_isBehind_2 22 rfl rfl)
theorem dX6_isBehind_71 : decode cX6_isBehind 71 = .ok (.iload 7, 2) := dk_21 7 (dk_at dksX6_isBehind_3 0 rfl rfl)
theorem dX6_isBehind_73 : decode cX6_isBehind 73 = .ok (.iadd, 1) := dk_96 (dk_at dksX6_isBehind_3 2 rfl rfl)
theorem dX6_isBehind_74 : decode cX6_isBehind 74 = .ok (.iaload, 1) := dk_46 (dk_at dksX6_isBehind_3 3 rfl rfl)
theorem dX6_isBehind_75 : decode cX6_isBehind 75 = .ok (.if_icmp .ne 7, 3) := dk_160 0 7 (dk_at dksX6_isBehind_3 4 rfl rfl)
theorem dX6_isBehind_78 : decode cX6_isBehind 78 = .ok (.iconst 1, 1) := dk_4 (dk_at dksX6_isBehind_3 7 rfl rfl)
theorem dX6_isBehind_79 : decode cX6_isBehind 79 = .ok (.goto 4, 3) := dk_167 0 4 (dk_at dksX6_isBehind_3 8 rfl rfl)
theorem dX6_isBehind_82 : decode cX6_isBehind 82 = .ok (.iconst 0, 1) := dk_3 (dk_at dksX6_isBehind_3 11 rfl rfl)
theorem dX6_isBehind_83 : decode cX6_isBehind 83 = .ok (.istore 6, 2) := dk_54 6 (dk_at dksX6_isBehind_3 12 rfl rfl)
theorem dX6_isBehind_85 : decode cX6_isBehind 85 = .ok (.iinc 7 1, 3) := dk_132 7 1 (dk_at dksX6_isBehind_3 14 rfl rfl)
theorem dX6_isBehind_88 : decode cX6_isBehind 88 = .ok (.goto (-61), 3) := dk_167 255 195 (dk_at dksX6_isBehind_3 17 rfl rfl)
theorem dX6_isBehind_91 : decode cX6_isBehind 91 = .ok (.iload 6, 2) := dk_21 6 (dk_at dksX6_isBehind_3 20 rfl rfl)
theorem dX6_isBehind_93 : decode cX6_isBehind 93 = .ok (.ireturn, 1) := dk_172 (dk_at dksX6_isBehind_3 22 rfl rfl)
abbrev cX6_putBack : ByteArray := prog_10_method_17_code
def yX6_putBack : MethodName := ⟨RX6, "putBack", "(I)V"⟩
def dkwX6_putBack_1 : List UInt8 := [180, 0, 165, 27, 79, 42, 89, 180, 0, 165, 4, 96, 181, 0, 165, 177]
abbrev dktX6_putBack_1 : List UInt8 := dkwX6_putBack_1 ++ []
def dkwX6_putBack_0 : List UInt8 := [42, 180, 0, 165, 17, 1, 44, 160, 0, 10, 42, 8, 182, 0, 205, 61, 177, 42, 180, 0, 16, 42]
abbrev dktX6_putBack_0 : List UInt8 := dkwX6_putBack_0 ++ dktX6_putBack_1
theorem dksX6_putBack_0 : cX6_putBack.data.toList.drop 0 = dktX6_putBack_0 := by decide +kernel
theorem dksX6_putBack_1 : cX6_putBack.data.toList.drop 22 = dktX6_putBack_1 := dk_seg dksX6_putBack_0 22 rfl rfl
theorem dX6_putBack_0 : decode cX6_putBack 0 = .ok (.aload_n 0, 1) := dk_42 (dk_at dksX6_putBack_0 0 rfl rfl)
theorem dX6_putBack_1 : decode cX6_putBack 1 = .ok (.getfield 165, 3) := dk_180 0 165 (dk_at dksX6_putBack_0 1 rfl rfl)
theorem dX6_putBack_4 : decode cX6_putBack 4 = .ok (.sipush 300, 3) := dk_17 1 44 (dk_at dksX6_putBack_0 4 rfl rfl)
theorem dX6_putBack_7 : decode cX6_putBack 7 = .ok (.if_icmp .ne 10, 3) := dk_160 0 10 (dk_at dksX6_putBack_0 7 rfl rfl)
theorem dX6_putBack_10 : decode cX6_putBack 10 = .ok (.aload_n 0, 1) := dk_42 (dk_at dksX6_putBack_0 10 rfl rfl)
theorem dX6_putBack_11 : decode cX6_putBack 11 = .ok (.iconst 5, 1) := dk_8 (dk_at dksX6_putBack_0 11 rfl rfl)
theorem dX6_putBack_12 : decode cX6_putBack 12 = .ok (.invokevirtual 205, 3) := dk_182 0 205 (dk_at dksX6_putBack_0 12 rfl rfl)
theorem dX6_putBack_15 : decode cX6_putBack 15 = .ok (.istore_n 2, 1) := dk_61 (dk_at dksX6_putBack_0 15 rfl rfl)
theorem dX6_putBack_16 : decode cX6_putBack 16 = .ok (.return_, 1) := dk_177 (dk_at dksX6_putBack_0 16 rfl rfl)
theorem dX6_putBack_17 : decode cX6_putBack 17 = .ok (.aload_n 0, 1) := dk_42 (dk_at dksX6_putBack_0 17 rfl rfl)
theorem dX6_putBack_18 : decode cX6_putBack 18 = .ok (.getfield 16, 3) := dk_180 0 16 (dk_at dksX6_putBack_0 18 rfl rfl)
theorem dX6_putBack_21 : decode cX6_putBack 21 = .ok (.aload_n 0, 1) := dk_42 (dk_at dksX6_putBack_0 21 rfl rfl)
theorem dX6_putBack_22 : decode cX6_putBack 22 = .ok (.getfield 165, 3) := dk_180 0 165 (dk_at dksX6_putBack_1 0 rfl rfl)
theorem dX6_putBack_25 : decode cX6_putBack 25 = .ok (.iload_n 1, 1) := dk_27 (dk_at dksX6_putBack_1 3 rfl rfl)
theorem dX6_putBack_26 : decode cX6_putBack 26 = .ok (.iastore, 1) := dk_79 (dk_at dksX6_putBack_1 4 rfl rfl)
theorem dX6_putBack_27 : decode cX6_putBack 27 = .ok (.aload_n 0, 1) := dk_42 (dk_at dksX6_putBack_1 5 rfl rfl)
theorem dX6_putBack_28 : decode cX6_putBack 28 = .ok (.dup, 1) := dk_89 (dk_at dksX6_putBack_1 6 rfl rfl)
theorem dX6_putBack_29 : decode cX6_putBack 29 = .ok (.getfield 165, 3) := dk_180 0 165 (dk_at dksX6_putBack_1 7 rfl rfl)
theorem dX6_putBack_32 : decode cX6_putBack 32 = .ok (.iconst 1, 1) := dk_4 (dk_at dksX6_putBack_1 10 rfl rfl)
theorem dX6_putBack_33 : decode cX6_putBack 33 = .ok (.iadd, 1) := dk_96 (dk_at dksX6_putBack_1 11 rfl rfl)
theorem dX6_putBack_34 : decode cX6_putBack 34 = .ok (.putfield 165, 3) := dk_181 0 165 (dk_at dksX6_putBack_1 12 rfl rfl)
theorem dX6_putBack_37 : decode cX6_putBack 37 = .ok (.return_, 1) := dk_177 (dk_at dksX6_putBack_1 15 rfl rfl)
abbrev cX6_push : ByteArray := prog_10_method_38_code
def yX6_push : MethodName := ⟨RX6, "push", "(III)V"⟩
def dkwX6_push_2 : List UInt8 := [181, 0, 180, 177]
abbrev dktX6_push_2 : List UInt8 := dkwX6_push_2 ++ []
def dkwX6_push_1 : List UInt8 := [42, 180, 0, 180, 3, 79, 42, 180, 0, 71, 42, 180, 0, 180, 29, 79, 42, 89, 180, 0, 180, 4, 96]
abbrev dktX6_push_1 : List UInt8 := dkwX6_push_1 ++ dktX6_push_2
def dkwX6_push_0 : List UInt8 := [42, 180, 0, 62, 42, 180, 0, 180, 27, 79, 42, 180, 0, 65, 42, 180, 0, 180, 28, 79, 42, 180, 0, 68]
abbrev dktX6_push_0 : List UInt8 := dkwX6_push_0 ++ dktX6_push_1
theorem dksX6_push_0 : cX6_push.data.toList.drop 0 = dktX6_push_0 := by decide +kernel
theorem dksX6_push_1 : cX6_push.data.toList.drop 24 = dktX6_push_1 := dk_seg dksX6_push_0 24 rfl rfl
theorem dksX6_push_2 : cX6_push.data.toList.drop 47 = dktX6_push_2 := dk_seg dksX6_push_1 23 rfl rfl
theorem dX6_push_0 : decode cX6_push 0 = .ok (.aload_n 0, 1) := dk_42 (dk_at dksX6_push_0 0 rfl rfl)
theorem dX6_push_1 : decode cX6_push 1 = .ok (.getfield 62, 3) := dk_180 0 62 (dk_at dksX6_push_0 1 rfl rfl)
theorem dX6_push_4 : decode cX6_push 4 = .ok (.aload_n 0, 1) := dk_42 (dk_at dksX6_push_0 4 rfl rfl)
theorem dX6_push_5 : decode cX6_push 5 = .ok (.getfield 180, 3) := dk_180 0 180 (dk_at dksX6_push_0 5 rfl rfl)
theorem dX6_push_8 : decode cX6_push 8 = .ok (.iload_n 1, 1) := dk_27 (dk_at dksX6_push_0 8 rfl rfl)
theorem dX6_push_9 : decode cX6_push 9 = .ok (.iastore, 1) := dk_79 (dk_at dksX6_push_0 9 rfl rfl)
theorem dX6_push_10 : decode cX6_push 10 = .ok (.aload_n 0, 1) := dk_42 (dk_at dksX6_push_0 10 rfl rfl)
theorem dX6_push_11 : decode cX6_push 11 = .ok (.getfield 65, 3) := dk_180 0 65 (dk_at dksX6_push_0 11 rfl rfl)
theorem dX6_push_14 : decode cX6_push 14 = .ok (.aload_n 0, 1) := dk_42 (dk_at dksX6_push_0 14 rfl rfl)
theorem dX6_push_15 : decode cX6_push 15 = .ok (.getfield 180, 3) := dk_180 0 180 (dk_at dksX6_push_0 15 rfl rfl)
theorem dX6_push_18 : decode cX6_push 18 = .ok (.iload_n 2, 1) := dk_28 (dk_at dksX6_push_0 18 rfl rfl)
theorem dX6_push_19 : decode cX6_push 19 = .ok (.iastore, 1) := dk_79 (dk_at dksX6_push_0 19 rfl rfl)
theorem dX6_push_20 : decode cX6_push 20 = .ok (.aload_n 0, 1) := dk_42 (dk_at dksX6_push_0 20 rfl rfl)
theorem dX6_push_21 : decode cX6_push 21 = .ok (.getfield 68, 3) := dk_180 0 68 (dk_at dksX6_push_0 21 rfl rfl)
theorem dX6_push_24 : decode cX6_push 24 = .ok (.aload_n 0, 1) := dk_42 (dk_at dksX6_push_1 0 rfl rfl)
theorem dX6_push_25 : decode cX6_push 25 = .ok (.getfield 180, 3) := dk_180 0 180 (dk_at dksX6_push_1 1 rfl rfl)
theorem dX6_push_28 : decode cX6_push 28 = .ok (.iconst 0, 1) := dk_3 (dk_at dksX6_push_1 4 rfl rfl)
theorem dX6_push_29 : decode cX6_push 29 = .ok (.iastore, 1) := dk_79 (dk_at dksX6_push_1 5 rfl rfl)
theorem dX6_push_30 : decode cX6_push 30 = .ok (.aload_n 0, 1) := dk_42 (dk_at dksX6_push_1 6 rfl rfl)
theorem dX6_push_31 : decode cX6_push 31 = .ok (.getfield 71, 3) := dk_180 0 71 (dk_at dksX6_push_1 7 rfl rfl)
theorem dX6_push_34 : decode cX6_push 34 = .ok (.aload_n 0, 1) := dk_42 (dk_at dksX6_push_1 10 rfl rfl)
theorem dX6_push_35 : decode cX6_push 35 = .ok (.getfield 180, 3) := dk_180 0 180 (dk_at dksX6_push_1 11 rfl rfl)
theorem dX6_push_38 : decode cX6_push 38 = .ok (.iload_n 3, 1) := dk_29 (dk_at dksX6_push_1 14 rfl rfl)
theorem dX6_push_39 : decode cX6_push 39 = .ok (.iastore, 1) := dk_79 (dk_at dksX6_push_1 15 rfl rfl)
theorem dX6_push_40 : decode cX6_push 40 = .ok (.aload_n 0, 1) := dk_42 (dk_at dksX6_push_1 16 rfl rfl)
theorem dX6_push_41 : decode cX6_push 41 = .ok (.dup, 1) := dk_89 (dk_at dksX6_push_1 17 rfl rfl)
theorem dX6_push_42 : decode cX6_push 42 = .ok (.getfield 180, 3) := dk_180 0 180 (dk_at dksX6_push_1 18 rfl rfl)
theorem dX6_push_45 : decode cX6_push 45 = .ok (.iconst 1, 1) := dk_4 (dk_at dksX6_push_1 21 rfl rfl)
theorem dX6_push_46 : decode cX6_push 46 = .ok (.iadd, 1) := dk_96 (dk_at dksX6_push_1 22 rfl rfl)
theorem dX6_push_47 : decode cX6_push 47 = .ok (.putfield 180, 3) := dk_181 0 180 (dk_at dksX6_push_2 0 rfl rfl)
theorem dX6_push_50 : decode cX6_push 50 = .ok (.return_, 1) := dk_177 (dk_at dksX6_push_2 3 rfl rfl)
abbrev cX6_string : ByteArray := prog_10_method_37_code
def yX6_string : MethodName := ⟨RX6, "string", "(I)V"⟩
def dkwX6_string_4 : List UInt8 := [184, 1, 15, 182, 1, 8, 177]
abbrev dktX6_string_4 : List UInt8 := dkwX6_string_4 ++ []
def dkwX6_string_3 : List UInt8 := [167, 255, 224, 42, 180, 0, 25, 28, 51, 154, 0, 19, 42, 180, 0, 159, 154, 0, 12, 42, 16, 92]
abbrev dktX6_string_3 : List UInt8 := dkwX6_string_3 ++ dktX6_string_4
def dkwX6_string_2 : List UInt8 := [154, 0, 27, 42, 42, 180, 0, 19, 16, 11, 28, 104, 29, 96, 46, 184, 1, 15, 182, 1, 8, 132, 3, 255]
abbrev dktX6_string_2 : List UInt8 := dkwX6_string_2 ++ dktX6_string_3
def dkwX6_string_1 : List UInt8 := [17, 16, 0, 100, 61, 42, 180, 0, 22, 28, 46, 4, 100, 62, 29, 155, 0, 34, 42, 180, 0, 159]
abbrev dktX6_string_1 : List UInt8 := dkwX6_string_1 ++ dktX6_string_2
def dkwX6_string_0 : List UInt8 := [27, 17, 16, 0, 162, 0, 16, 42, 27, 17, 0, 255, 126, 184, 1, 15, 182, 1, 8, 177, 27, 184, 0, 235]
abbrev dktX6_string_0 : List UInt8 := dkwX6_string_0 ++ dktX6_string_1
theorem dksX6_string_0 : cX6_string.data.toList.drop 0 = dktX6_string_0 := by decide +kernel
theorem dksX6_string_1 : cX6_string.data.toList.drop 24 = dktX6_string_1 := dk_seg dksX6_string_0 24 rfl rfl
theorem dksX6_string_2 : cX6_string.data.toList.drop 46 = dktX6_string_2 := dk_seg dksX6_string_1 22 rfl rfl
theorem dksX6_string_3 : cX6_string.data.toList.drop 70 = dktX6_string_3 := dk_seg dksX6_string_2 24 rfl rfl
theorem dksX6_string_4 : cX6_string.data.toList.drop 92 = dktX6_string_4 := dk_seg dksX6_string_3 22 rfl rfl
theorem dX6_string_0 : decode cX6_string 0 = .ok (.iload_n 1, 1) := dk_27 (dk_at dksX6_string_0 0 rfl rfl)
theorem dX6_string_1 : decode cX6_string 1 = .ok (.sipush 4096, 3) := dk_17 16 0 (dk_at dksX6_string_0 1 rfl rfl)
theorem dX6_string_4 : decode cX6_string 4 = .ok (.if_icmp .ge 16, 3) := dk_162 0 16 (dk_at dksX6_string_0 4 rfl rfl)
theorem dX6_string_7 : decode cX6_string 7 = .ok (.aload_n 0, 1) := dk_42 (dk_at dksX6_string_0 7 rfl rfl)
theorem dX6_string_8 : decode cX6_string 8 = .ok (.iload_n 1, 1) := dk_27 (dk_at dksX6_string_0 8 rfl rfl)
theorem dX6_string_9 : decode cX6_string 9 = .ok (.sipush 255, 3) := dk_17 0 255 (dk_at dksX6_string_0 9 rfl rfl)
theorem dX6_string_12 : decode cX6_string 12 = .ok (.iand, 1) := dk_126 (dk_at dksX6_string_0 12 rfl rfl)
theorem dX6_string_13 : decode cX6_string 13 = .ok (.invokestatic 271, 3) := dk_184 1 15 (dk_at dksX6_string_0 13 rfl rfl)
theorem dX6_string_16 : decode cX6_string 16 = .ok (.invokevirtual 264, 3) := dk_182 1 8 (dk_at dksX6_string_0 16 rfl rfl)
theorem dX6_string_19 : decode cX6_string 19 = .ok (.return_, 1) := dk_177 (dk_at dksX6_string_0 19 rfl rfl)
theorem dX6_string_20 : decode cX6_string 20 = .ok (.iload_n 1, 1) := dk_27 (dk_at dksX6_string_0 20 rfl rfl)
theorem dX6_string_21 : decode cX6_string 21 = .ok (.invokestatic 235, 3) := dk_184 0 235 (dk_at dksX6_string_0 21 rfl rfl)
theorem dX6_string_24 : decode cX6_string 24 = .ok (.sipush 4096, 3) := dk_17 16 0 (dk_at dksX6_string_1 0 rfl rfl)
theorem dX6_string_27 : decode cX6_string 27 = .ok (.isub, 1) := dk_100 (dk_at dksX6_string_1 3 rfl rfl)
theorem dX6_string_28 : decode cX6_string 28 = .ok (.istore_n 2, 1) := dk_61 (dk_at dksX6_string_1 4 rfl rfl)
theorem dX6_string_29 : decode cX6_string 29 = .ok (.aload_n 0, 1) := dk_42 (dk_at dksX6_string_1 5 rfl rfl)
theorem dX6_string_30 : decode cX6_string 30 = .ok (.getfield 22, 3) := dk_180 0 22 (dk_at dksX6_string_1 6 rfl rfl)
theorem dX6_string_33 : decode cX6_string 33 = .ok (.iload_n 2, 1) := dk_28 (dk_at dksX6_string_1 9 rfl rfl)
theorem dX6_string_34 : decode cX6_string 34 = .ok (.iaload, 1) := dk_46 (dk_at dksX6_string_1 10 rfl rfl)
theorem dX6_string_35 : decode cX6_string 35 = .ok (.iconst 1, 1) := dk_4 (dk_at dksX6_string_1 11 rfl rfl)
theorem dX6_string_36 : decode cX6_string 36 = .ok (.isub, 1) := dk_100 (dk_at dksX6_string_1 12 rfl rfl)
theorem dX6_string_37 : decode cX6_string 37 = .ok (.istore_n 3, 1) := dk_62 (dk_at dksX6_string_1 13 rfl rfl)
theorem dX6_string_38 : decode cX6_string 38 = .ok (.iload_n 3, 1) := dk_29 (dk_at dksX6_string_1 14 rfl rfl)
theorem dX6_string_39 : decode cX6_string 39 = .ok (.ifCond .lt 34, 3) := dk_155 0 34 (dk_at dksX6_string_1 15 rfl rfl)
theorem dX6_string_42 : decode cX6_string 42 = .ok (.aload_n 0, 1) := dk_42 (dk_at dksX6_string_1 18 rfl rfl)
theorem dX6_string_43 : decode cX6_string 43 = .ok (.getfield 159, 3) := dk_180 0 159 (dk_at dksX6_string_1 19 rfl rfl)
theorem dX6_string_46 : decode cX6_string 46 = .ok (.ifCond .ne 27, 3) := dk_154 0 27 (dk_at dksX6_string_2 0 rfl rfl)
theorem dX6_string_49 : decode cX6_string 49 = .ok (.aload_n 0, 1) := dk_42 (dk_at dksX6_string_2 3 rfl rfl)
theorem dX6_string_50 : decode cX6_string 50 = .ok (.aload_n 0, 1) := dk_42 (dk_at dksX6_string_2 4 rfl rfl)
theorem dX6_string_51 : decode cX6_string 51 = .ok (.getfield 19, 3) := dk_180 0 19 (dk_at dksX6_string_2 5 rfl rfl)
theorem dX6_string_54 : decode cX6_string 54 = .ok (.bipush 11, 2) := dk_16 11 (dk_at dksX6_string_2 8 rfl rfl)
theorem dX6_string_56 : decode cX6_string 56 = .ok (.iload_n 2, 1) := dk_28 (dk_at dksX6_string_2 10 rfl rfl)
theorem dX6_string_57 : decode cX6_string 57 = .ok (.imul, 1) := dk_104 (dk_at dksX6_string_2 11 rfl rfl)
theorem dX6_string_58 : decode cX6_string 58 = .ok (.iload_n 3, 1) := dk_29 (dk_at dksX6_string_2 12 rfl rfl)
theorem dX6_string_59 : decode cX6_string 59 = .ok (.iadd, 1) := dk_96 (dk_at dksX6_string_2 13 rfl rfl)
theorem dX6_string_60 : decode cX6_string 60 = .ok (.iaload, 1) := dk_46 (dk_at dksX6_string_2 14 rfl rfl)
theorem dX6_string_61 : decode cX6_string 61 = .ok (.invokestatic 271, 3) := dk_184 1 15 (dk_at dksX6_string_2 15 rfl rfl)
theorem dX6_string_64 : decode cX6_string 64 = .ok (.invokevirtual 264, 3) := dk_182 1 8 (dk_at dksX6_string_2 18 rfl rfl)
theorem dX6_string_67 : decode cX6_string 67 = .ok (.iinc 3 (-1), 3) := dk_132 3 255 (dk_at dksX6_string_2 21 rfl rfl)
theorem dX6_string_70 : decode cX6_string 70 = .ok (.goto (-32), 3) := dk_167 255 224 (dk_at dksX6_string_3 0 rfl rfl)
theorem dX6_string_73 : decode cX6_string 73 = .ok (.aload_n 0, 1) := dk_42 (dk_at dksX6_string_3 3 rfl rfl)
theorem dX6_string_74 : decode cX6_string 74 = .ok (.getfield 25, 3) := dk_180 0 25 (dk_at dksX6_string_3 4 rfl rfl)
theorem dX6_string_77 : decode cX6_string 77 = .ok (.iload_n 2, 1) := dk_28 (dk_at dksX6_string_3 7 rfl rfl)
theorem dX6_string_78 : decode cX6_string 78 = .ok (.baload, 1) := dk_51 (dk_at dksX6_string_3 8 rfl rfl)
theorem dX6_string_79 : decode cX6_string 79 = .ok (.ifCond .ne 19, 3) := dk_154 0 19 (dk_at dksX6_string_3 9 rfl rfl)
theorem dX6_string_82 : decode cX6_string 82 = .ok (.aload_n 0, 1) := dk_42 (dk_at dksX6_string_3 12 rfl rfl)
theorem dX6_string_83 : decode cX6_string 83 = .ok (.getfield 159, 3) := dk_180 0 159 (dk_at dksX6_string_3 13 rfl rfl)
theorem dX6_string_86 : decode cX6_string 86 = .ok (.ifCond .ne 12, 3) := dk_154 0 12 (dk_at dksX6_string_3 16 rfl rfl)
theorem dX6_string_89 : decode cX6_string 89 = .ok (.aload_n 0, 1) := dk_42 (dk_at dksX6_string_3 19 rfl rfl)
theorem dX6_string_90 : decode cX6_string 90 = .ok (.bipush 92, 2) := dk_16 92 (dk_at dksX6_string_3 20 rfl rfl)
theorem dX6_string_92 : decode cX6_string 92 = .ok (.invokestatic 271, 3) := dk_184 1 15 (dk_at dksX6_string_4 0 rfl rfl)
theorem dX6_string_95 : decode cX6_string 95 = .ok (.invokevirtual 264, 3) := dk_182 1 8 (dk_at dksX6_string_4 3 rfl rfl)
theorem dX6_string_98 : decode cX6_string 98 = .ok (.return_, 1) := dk_177 (dk_at dksX6_string_4 6 rfl rfl)
abbrev cX6_other : ByteArray := prog_10_method_36_code
def yX6_other : MethodName := ⟨RX6, "other", "(I)I"⟩
def dkwX6_other_0 : List UInt8 := [26, 16, 32, 160, 0, 9, 17, 10, 32, 167, 0, 8, 26, 17, 12, 0, 96, 172]
abbrev dktX6_other_0 : List UInt8 := dkwX6_other_0 ++ []
theorem dksX6_other_0 : cX6_other.data.toList.drop 0 = dktX6_other_0 := by decide +kernel
theorem dX6_other_0 : decode cX6_other 0 = .ok (.iload_n 0, 1) := dk_26 (dk_at dksX6_other_0 0 rfl rfl)
theorem dX6_other_1 : decode cX6_other 1 = .ok (.bipush 32, 2) := dk_16 32 (dk_at dksX6_other_0 1 rfl rfl)
theorem dX6_other_3 : decode cX6_other 3 = .ok (.if_icmp .ne 9, 3) := dk_160 0 9 (dk_at dksX6_other_0 3 rfl rfl)
theorem dX6_other_6 : decode cX6_other 6 = .ok (.sipush 2592, 3) := dk_17 10 32 (dk_at dksX6_other_0 6 rfl rfl)
theorem dX6_other_9 : decode cX6_other 9 = .ok (.goto 8, 3) := dk_167 0 8 (dk_at dksX6_other_0 9 rfl rfl)
theorem dX6_other_12 : decode cX6_other 12 = .ok (.iload_n 0, 1) := dk_26 (dk_at dksX6_other_0 12 rfl rfl)
theorem dX6_other_13 : decode cX6_other 13 = .ok (.sipush 3072, 3) := dk_17 12 0 (dk_at dksX6_other_0 13 rfl rfl)
theorem dX6_other_16 : decode cX6_other 16 = .ok (.iadd, 1) := dk_96 (dk_at dksX6_other_0 16 rfl rfl)
theorem dX6_other_17 : decode cX6_other 17 = .ok (.ireturn, 1) := dk_172 (dk_at dksX6_other_0 17 rfl rfl)
abbrev cX6_close : ByteArray := prog_10_method_40_code
def yX6_close : MethodName := ⟨RX6, "close", "(I)V"⟩
def dkwX6_close_4 : List UInt8 := [4, 167, 0, 4, 3, 100, 181, 0, 177, 177]
abbrev dktX6_close_4 : List UInt8 := dkwX6_close_4 ++ []
def dkwX6_close_3 : List UInt8 := [182, 1, 11, 153, 0, 7, 4, 167, 0, 4, 3, 62, 42, 89, 180, 0, 177, 42, 180, 0, 159, 154, 0, 7]
abbrev dktX6_close_3 : List UInt8 := dkwX6_close_3 ++ dktX6_close_4
def dkwX6_close_2 : List UInt8 := [167, 0, 4, 3, 61, 28, 154, 0, 10, 42, 4, 182, 0, 205, 62, 177, 27, 16, 17, 160, 0, 15, 42, 3]
abbrev dktX6_close_2 : List UInt8 := dkwX6_close_2 ++ dktX6_close_3
def dkwX6_close_1 : List UInt8 := [4, 160, 0, 24, 167, 0, 17, 42, 180, 0, 59, 42, 180, 0, 177, 4, 100, 46, 158, 0, 7, 4]
abbrev dktX6_close_1 : List UInt8 := dkwX6_close_1 ++ dktX6_close_2
def dkwX6_close_0 : List UInt8 := [42, 180, 0, 177, 158, 0, 45, 27, 16, 17, 160, 0, 21, 42, 180, 0, 59, 42, 180, 0, 177, 4, 100, 46]
abbrev dktX6_close_0 : List UInt8 := dkwX6_close_0 ++ dktX6_close_1
theorem dksX6_close_0 : cX6_close.data.toList.drop 0 = dktX6_close_0 := by decide +kernel
theorem dksX6_close_1 : cX6_close.data.toList.drop 24 = dktX6_close_1 := dk_seg dksX6_close_0 24 rfl rfl
theorem dksX6_close_2 : cX6_close.data.toList.drop 46 = dktX6_close_2 := dk_seg dksX6_close_1 22 rfl rfl
theorem dksX6_close_3 : cX6_close.data.toList.drop 70 = dktX6_close_3 := dk_seg dksX6_close_2 24 rfl rfl
theorem dksX6_close_4 : cX6_close.data.toList.drop 94 = dktX6_close_4 := dk_seg dksX6_close_3 24 rfl rfl
theorem dX6_close_0 : decode cX6_close 0 = .ok (.aload_n 0, 1) := dk_42 (dk_at dksX6_close_0 0 rfl rfl)
theorem dX6_close_1 : decode cX6_close 1 = .ok (.getfield 177, 3) := dk_180 0 177 (dk_at dksX6_close_0 1 rfl rfl)
theorem dX6_close_4 : decode cX6_close 4 = .ok (.ifCond .le 45, 3) := dk_158 0 45 (dk_at dksX6_close_0 4 rfl rfl)
theorem dX6_close_7 : decode cX6_close 7 = .ok (.iload_n 1, 1) := dk_27 (dk_at dksX6_close_0 7 rfl rfl)
theorem dX6_close_8 : decode cX6_close 8 = .ok (.bipush 17, 2) := dk_16 17 (dk_at dksX6_close_0 8 rfl rfl)
theorem dX6_close_10 : decode cX6_close 10 = .ok (.if_icmp .ne 21, 3) := dk_160 0 21 (dk_at dksX6_close_0 10 rfl rfl)
theorem dX6_close_13 : decode cX6_close 13 = .ok (.aload_n 0, 1) := dk_42 (dk_at dksX6_close_0 13 rfl rfl)
theorem dX6_close_14 : decode cX6_close 14 = .ok (.getfield 59, 3) := dk_180 0 59 (dk_at dksX6_close_0 14 rfl rfl)
theorem dX6_close_17 : decode cX6_close 17 = .ok (.aload_n 0, 1) := dk_42 (dk_at dksX6_close_0 17 rfl rfl)
theorem dX6_close_18 : decode cX6_close 18 = .ok (.getfield 177, 3) := dk_180 0 177 (dk_at dksX6_close_0 18 rfl rfl)
theorem dX6_close_21 : decode cX6_close 21 = .ok (.iconst 1, 1) := dk_4 (dk_at dksX6_close_0 21 rfl rfl)
theorem dX6_close_22 : decode cX6_close 22 = .ok (.isub, 1) := dk_100 (dk_at dksX6_close_0 22 rfl rfl)
theorem dX6_close_23 : decode cX6_close 23 = .ok (.iaload, 1) := dk_46 (dk_at dksX6_close_0 23 rfl rfl)
theorem dX6_close_24 : decode cX6_close 24 = .ok (.iconst 1, 1) := dk_4 (dk_at dksX6_close_1 0 rfl rfl)
theorem dX6_close_25 : decode cX6_close 25 = .ok (.if_icmp .ne 24, 3) := dk_160 0 24 (dk_at dksX6_close_1 1 rfl rfl)
theorem dX6_close_28 : decode cX6_close 28 = .ok (.goto 17, 3) := dk_167 0 17 (dk_at dksX6_close_1 4 rfl rfl)
theorem dX6_close_31 : decode cX6_close 31 = .ok (.aload_n 0, 1) := dk_42 (dk_at dksX6_close_1 7 rfl rfl)
theorem dX6_close_32 : decode cX6_close 32 = .ok (.getfield 59, 3) := dk_180 0 59 (dk_at dksX6_close_1 8 rfl rfl)
theorem dX6_close_35 : decode cX6_close 35 = .ok (.aload_n 0, 1) := dk_42 (dk_at dksX6_close_1 11 rfl rfl)
theorem dX6_close_36 : decode cX6_close 36 = .ok (.getfield 177, 3) := dk_180 0 177 (dk_at dksX6_close_1 12 rfl rfl)
theorem dX6_close_39 : decode cX6_close 39 = .ok (.iconst 1, 1) := dk_4 (dk_at dksX6_close_1 15 rfl rfl)
theorem dX6_close_40 : decode cX6_close 40 = .ok (.isub, 1) := dk_100 (dk_at dksX6_close_1 16 rfl rfl)
theorem dX6_close_41 : decode cX6_close 41 = .ok (.iaload, 1) := dk_46 (dk_at dksX6_close_1 17 rfl rfl)
theorem dX6_close_42 : decode cX6_close 42 = .ok (.ifCond .le 7, 3) := dk_158 0 7 (dk_at dksX6_close_1 18 rfl rfl)
theorem dX6_close_45 : decode cX6_close 45 = .ok (.iconst 1, 1) := dk_4 (dk_at dksX6_close_1 21 rfl rfl)
theorem dX6_close_46 : decode cX6_close 46 = .ok (.goto 4, 3) := dk_167 0 4 (dk_at dksX6_close_2 0 rfl rfl)
theorem dX6_close_49 : decode cX6_close 49 = .ok (.iconst 0, 1) := dk_3 (dk_at dksX6_close_2 3 rfl rfl)
theorem dX6_close_50 : decode cX6_close 50 = .ok (.istore_n 2, 1) := dk_61 (dk_at dksX6_close_2 4 rfl rfl)
theorem dX6_close_51 : decode cX6_close 51 = .ok (.iload_n 2, 1) := dk_28 (dk_at dksX6_close_2 5 rfl rfl)
theorem dX6_close_52 : decode cX6_close 52 = .ok (.ifCond .ne 10, 3) := dk_154 0 10 (dk_at dksX6_close_2 6 rfl rfl)
theorem dX6_close_55 : decode cX6_close 55 = .ok (.aload_n 0, 1) := dk_42 (dk_at dksX6_close_2 9 rfl rfl)
theorem dX6_close_56 : decode cX6_close 56 = .ok (.iconst 1, 1) := dk_4 (dk_at dksX6_close_2 10 rfl rfl)
theorem dX6_close_57 : decode cX6_close 57 = .ok (.invokevirtual 205, 3) := dk_182 0 205 (dk_at dksX6_close_2 11 rfl rfl)
theorem dX6_close_60 : decode cX6_close 60 = .ok (.istore_n 3, 1) := dk_62 (dk_at dksX6_close_2 14 rfl rfl)
theorem dX6_close_61 : decode cX6_close 61 = .ok (.return_, 1) := dk_177 (dk_at dksX6_close_2 15 rfl rfl)
theorem dX6_close_62 : decode cX6_close 62 = .ok (.iload_n 1, 1) := dk_27 (dk_at dksX6_close_2 16 rfl rfl)
theorem dX6_close_63 : decode cX6_close 63 = .ok (.bipush 17, 2) := dk_16 17 (dk_at dksX6_close_2 17 rfl rfl)
theorem dX6_close_65 : decode cX6_close 65 = .ok (.if_icmp .ne 15, 3) := dk_160 0 15 (dk_at dksX6_close_2 19 rfl rfl)
theorem dX6_close_68 : decode cX6_close 68 = .ok (.aload_n 0, 1) := dk_42 (dk_at dksX6_close_2 22 rfl rfl)
theorem dX6_close_69 : decode cX6_close 69 = .ok (.iconst 0, 1) := dk_3 (dk_at dksX6_close_2 23 rfl rfl)
theorem dX6_close_70 : decode cX6_close 70 = .ok (.invokevirtual 267, 3) := dk_182 1 11 (dk_at dksX6_close_3 0 rfl rfl)
theorem dX6_close_73 : decode cX6_close 73 = .ok (.ifCond .eq 7, 3) := dk_153 0 7 (dk_at dksX6_close_3 3 rfl rfl)
theorem dX6_close_76 : decode cX6_close 76 = .ok (.iconst 1, 1) := dk_4 (dk_at dksX6_close_3 6 rfl rfl)
theorem dX6_close_77 : decode cX6_close 77 = .ok (.goto 4, 3) := dk_167 0 4 (dk_at dksX6_close_3 7 rfl rfl)
theorem dX6_close_80 : decode cX6_close 80 = .ok (.iconst 0, 1) := dk_3 (dk_at dksX6_close_3 10 rfl rfl)
theorem dX6_close_81 : decode cX6_close 81 = .ok (.istore_n 3, 1) := dk_62 (dk_at dksX6_close_3 11 rfl rfl)
theorem dX6_close_82 : decode cX6_close 82 = .ok (.aload_n 0, 1) := dk_42 (dk_at dksX6_close_3 12 rfl rfl)
theorem dX6_close_83 : decode cX6_close 83 = .ok (.dup, 1) := dk_89 (dk_at dksX6_close_3 13 rfl rfl)
theorem dX6_close_84 : decode cX6_close 84 = .ok (.getfield 177, 3) := dk_180 0 177 (dk_at dksX6_close_3 14 rfl rfl)
theorem dX6_close_87 : decode cX6_close 87 = .ok (.aload_n 0, 1) := dk_42 (dk_at dksX6_close_3 17 rfl rfl)
theorem dX6_close_88 : decode cX6_close 88 = .ok (.getfield 159, 3) := dk_180 0 159 (dk_at dksX6_close_3 18 rfl rfl)
theorem dX6_close_91 : decode cX6_close 91 = .ok (.ifCond .ne 7, 3) := dk_154 0 7 (dk_at dksX6_close_3 21 rfl rfl)
theorem dX6_close_94 : decode cX6_close 94 = .ok (.iconst 1, 1) := dk_4 (dk_at dksX6_close_4 0 rfl rfl)
theorem dX6_close_95 : decode cX6_close 95 = .ok (.goto 4, 3) := dk_167 0 4 (dk_at dksX6_close_4 1 rfl rfl)
theorem dX6_close_98 : decode cX6_close 98 = .ok (.iconst 0, 1) := dk_3 (dk_at dksX6_close_4 4 rfl rfl)
theorem dX6_close_99 : decode cX6_close 99 = .ok (.isub, 1) := dk_100 (dk_at dksX6_close_4 5 rfl rfl)
theorem dX6_close_100 : decode cX6_close 100 = .ok (.putfield 177, 3) := dk_181 0 177 (dk_at dksX6_close_4 6 rfl rfl)
theorem dX6_close_103 : decode cX6_close 103 = .ok (.return_, 1) := dk_177 (dk_at dksX6_close_4 9 rfl rfl)
abbrev cX6_pass : ByteArray := prog_10_method_33_code
def yX6_pass : MethodName := ⟨RX6, "pass", "(Z)Z"⟩
def dkwX6_pass_3 : List UInt8 := [153, 0, 5, 4, 172, 167, 255, 184]
abbrev dktX6_pass_3 : List UInt8 := dkwX6_pass_3 ++ []
def dkwX6_pass_2 : List UInt8 := [160, 0, 12, 132, 2, 255, 28, 156, 0, 22, 3, 172, 21, 4, 16, 17, 160, 0, 13, 28, 154, 0, 9, 27]
abbrev dktX6_pass_2 : List UInt8 := dkwX6_pass_2 ++ dktX6_pass_3
def dkwX6_pass_1 : List UInt8 := [16, 13, 161, 0, 16, 21, 4, 16, 16, 163, 0, 9, 132, 2, 1, 167, 0, 36, 21, 4, 16, 18]
abbrev dktX6_pass_1 : List UInt8 := dkwX6_pass_1 ++ dktX6_pass_2
def dkwX6_pass_0 : List UInt8 := [3, 61, 42, 182, 0, 254, 62, 29, 2, 160, 0, 5, 3, 172, 42, 29, 182, 0, 232, 54, 4, 21, 4]
abbrev dktX6_pass_0 : List UInt8 := dkwX6_pass_0 ++ dktX6_pass_1
theorem dksX6_pass_0 : cX6_pass.data.toList.drop 0 = dktX6_pass_0 := by decide +kernel
theorem dksX6_pass_1 : cX6_pass.data.toList.drop 23 = dktX6_pass_1 := dk_seg dksX6_pass_0 23 rfl rfl
theorem dksX6_pass_2 : cX6_pass.data.toList.drop 45 = dktX6_pass_2 := dk_seg dksX6_pass_1 22 rfl rfl
theorem dksX6_pass_3 : cX6_pass.data.toList.drop 69 = dktX6_pass_3 := dk_seg dksX6_pass_2 24 rfl rfl
theorem dX6_pass_0 : decode cX6_pass 0 = .ok (.iconst 0, 1) := dk_3 (dk_at dksX6_pass_0 0 rfl rfl)
theorem dX6_pass_1 : decode cX6_pass 1 = .ok (.istore_n 2, 1) := dk_61 (dk_at dksX6_pass_0 1 rfl rfl)
theorem dX6_pass_2 : decode cX6_pass 2 = .ok (.aload_n 0, 1) := dk_42 (dk_at dksX6_pass_0 2 rfl rfl)
theorem dX6_pass_3 : decode cX6_pass 3 = .ok (.invokevirtual 254, 3) := dk_182 0 254 (dk_at dksX6_pass_0 3 rfl rfl)
theorem dX6_pass_6 : decode cX6_pass 6 = .ok (.istore_n 3, 1) := dk_62 (dk_at dksX6_pass_0 6 rfl rfl)
theorem dX6_pass_7 : decode cX6_pass 7 = .ok (.iload_n 3, 1) := dk_29 (dk_at dksX6_pass_0 7 rfl rfl)
theorem dX6_pass_8 : decode cX6_pass 8 = .ok (.iconst (-1), 1) := dk_2 (dk_at dksX6_pass_0 8 rfl rfl)
theorem dX6_pass_9 : decode cX6_pass 9 = .ok (.if_icmp .ne 5, 3) := dk_160 0 5 (dk_at dksX6_pass_0 9 rfl rfl)
theorem dX6_pass_12 : decode cX6_pass 12 = .ok (.iconst 0, 1) := dk_3 (dk_at dksX6_pass_0 12 rfl rfl)
theorem dX6_pass_13 : decode cX6_pass 13 = .ok (.ireturn, 1) := dk_172 (dk_at dksX6_pass_0 13 rfl rfl)
theorem dX6_pass_14 : decode cX6_pass 14 = .ok (.aload_n 0, 1) := dk_42 (dk_at dksX6_pass_0 14 rfl rfl)
theorem dX6_pass_15 : decode cX6_pass 15 = .ok (.iload_n 3, 1) := dk_29 (dk_at dksX6_pass_0 15 rfl rfl)
theorem dX6_pass_16 : decode cX6_pass 16 = .ok (.invokevirtual 232, 3) := dk_182 0 232 (dk_at dksX6_pass_0 16 rfl rfl)
theorem dX6_pass_19 : decode cX6_pass 19 = .ok (.istore 4, 2) := dk_54 4 (dk_at dksX6_pass_0 19 rfl rfl)
theorem dX6_pass_21 : decode cX6_pass 21 = .ok (.iload 4, 2) := dk_21 4 (dk_at dksX6_pass_0 21 rfl rfl)
theorem dX6_pass_23 : decode cX6_pass 23 = .ok (.bipush 13, 2) := dk_16 13 (dk_at dksX6_pass_1 0 rfl rfl)
theorem dX6_pass_25 : decode cX6_pass 25 = .ok (.if_icmp .lt 16, 3) := dk_161 0 16 (dk_at dksX6_pass_1 2 rfl rfl)
theorem dX6_pass_28 : decode cX6_pass 28 = .ok (.iload 4, 2) := dk_21 4 (dk_at dksX6_pass_1 5 rfl rfl)
theorem dX6_pass_30 : decode cX6_pass 30 = .ok (.bipush 16, 2) := dk_16 16 (dk_at dksX6_pass_1 7 rfl rfl)
theorem dX6_pass_32 : decode cX6_pass 32 = .ok (.if_icmp .gt 9, 3) := dk_163 0 9 (dk_at dksX6_pass_1 9 rfl rfl)
theorem dX6_pass_35 : decode cX6_pass 35 = .ok (.iinc 2 1, 3) := dk_132 2 1 (dk_at dksX6_pass_1 12 rfl rfl)
theorem dX6_pass_38 : decode cX6_pass 38 = .ok (.goto 36, 3) := dk_167 0 36 (dk_at dksX6_pass_1 15 rfl rfl)
theorem dX6_pass_41 : decode cX6_pass 41 = .ok (.iload 4, 2) := dk_21 4 (dk_at dksX6_pass_1 18 rfl rfl)
theorem dX6_pass_43 : decode cX6_pass 43 = .ok (.bipush 18, 2) := dk_16 18 (dk_at dksX6_pass_1 20 rfl rfl)
theorem dX6_pass_45 : decode cX6_pass 45 = .ok (.if_icmp .ne 12, 3) := dk_160 0 12 (dk_at dksX6_pass_2 0 rfl rfl)
theorem dX6_pass_48 : decode cX6_pass 48 = .ok (.iinc 2 (-1), 3) := dk_132 2 255 (dk_at dksX6_pass_2 3 rfl rfl)
theorem dX6_pass_51 : decode cX6_pass 51 = .ok (.iload_n 2, 1) := dk_28 (dk_at dksX6_pass_2 6 rfl rfl)
theorem dX6_pass_52 : decode cX6_pass 52 = .ok (.ifCond .ge 22, 3) := dk_156 0 22 (dk_at dksX6_pass_2 7 rfl rfl)
theorem dX6_pass_55 : decode cX6_pass 55 = .ok (.iconst 0, 1) := dk_3 (dk_at dksX6_pass_2 10 rfl rfl)
theorem dX6_pass_56 : decode cX6_pass 56 = .ok (.ireturn, 1) := dk_172 (dk_at dksX6_pass_2 11 rfl rfl)
theorem dX6_pass_57 : decode cX6_pass 57 = .ok (.iload 4, 2) := dk_21 4 (dk_at dksX6_pass_2 12 rfl rfl)
theorem dX6_pass_59 : decode cX6_pass 59 = .ok (.bipush 17, 2) := dk_16 17 (dk_at dksX6_pass_2 14 rfl rfl)
theorem dX6_pass_61 : decode cX6_pass 61 = .ok (.if_icmp .ne 13, 3) := dk_160 0 13 (dk_at dksX6_pass_2 16 rfl rfl)
theorem dX6_pass_64 : decode cX6_pass 64 = .ok (.iload_n 2, 1) := dk_28 (dk_at dksX6_pass_2 19 rfl rfl)
theorem dX6_pass_65 : decode cX6_pass 65 = .ok (.ifCond .ne 9, 3) := dk_154 0 9 (dk_at dksX6_pass_2 20 rfl rfl)
theorem dX6_pass_68 : decode cX6_pass 68 = .ok (.iload_n 1, 1) := dk_27 (dk_at dksX6_pass_2 23 rfl rfl)
theorem dX6_pass_69 : decode cX6_pass 69 = .ok (.ifCond .eq 5, 3) := dk_153 0 5 (dk_at dksX6_pass_3 0 rfl rfl)
theorem dX6_pass_72 : decode cX6_pass 72 = .ok (.iconst 1, 1) := dk_4 (dk_at dksX6_pass_3 3 rfl rfl)
theorem dX6_pass_73 : decode cX6_pass 73 = .ok (.ireturn, 1) := dk_172 (dk_at dksX6_pass_3 4 rfl rfl)
theorem dX6_pass_74 : decode cX6_pass 74 = .ok (.goto (-72), 3) := dk_167 255 184 (dk_at dksX6_pass_3 5 rfl rfl)
abbrev cX6_open : ByteArray := prog_10_method_32_code
def yX6_open : MethodName := ⟨RX6, "open", "()V"⟩
def dkwX6_open_1 : List UInt8 := [3, 79, 42, 89, 180, 0, 177, 4, 96, 181, 0, 177, 177]
abbrev dktX6_open_1 : List UInt8 := dkwX6_open_1 ++ []
def dkwX6_open_0 : List UInt8 := [42, 180, 0, 177, 16, 12, 160, 0, 10, 42, 8, 182, 0, 205, 60, 177, 42, 180, 0, 59, 42, 180, 0, 177]
abbrev dktX6_open_0 : List UInt8 := dkwX6_open_0 ++ dktX6_open_1
theorem dksX6_open_0 : cX6_open.data.toList.drop 0 = dktX6_open_0 := by decide +kernel
theorem dksX6_open_1 : cX6_open.data.toList.drop 24 = dktX6_open_1 := dk_seg dksX6_open_0 24 rfl rfl
theorem dX6_open_0 : decode cX6_open 0 = .ok (.aload_n 0, 1) := dk_42 (dk_at dksX6_open_0 0 rfl rfl)
theorem dX6_open_1 : decode cX6_open 1 = .ok (.getfield 177, 3) := dk_180 0 177 (dk_at dksX6_open_0 1 rfl rfl)
theorem dX6_open_4 : decode cX6_open 4 = .ok (.bipush 12, 2) := dk_16 12 (dk_at dksX6_open_0 4 rfl rfl)
theorem dX6_open_6 : decode cX6_open 6 = .ok (.if_icmp .ne 10, 3) := dk_160 0 10 (dk_at dksX6_open_0 6 rfl rfl)
theorem dX6_open_9 : decode cX6_open 9 = .ok (.aload_n 0, 1) := dk_42 (dk_at dksX6_open_0 9 rfl rfl)
theorem dX6_open_10 : decode cX6_open 10 = .ok (.iconst 5, 1) := dk_8 (dk_at dksX6_open_0 10 rfl rfl)
theorem dX6_open_11 : decode cX6_open 11 = .ok (.invokevirtual 205, 3) := dk_182 0 205 (dk_at dksX6_open_0 11 rfl rfl)
theorem dX6_open_14 : decode cX6_open 14 = .ok (.istore_n 1, 1) := dk_60 (dk_at dksX6_open_0 14 rfl rfl)
theorem dX6_open_15 : decode cX6_open 15 = .ok (.return_, 1) := dk_177 (dk_at dksX6_open_0 15 rfl rfl)
theorem dX6_open_16 : decode cX6_open 16 = .ok (.aload_n 0, 1) := dk_42 (dk_at dksX6_open_0 16 rfl rfl)
theorem dX6_open_17 : decode cX6_open 17 = .ok (.getfield 59, 3) := dk_180 0 59 (dk_at dksX6_open_0 17 rfl rfl)
theorem dX6_open_20 : decode cX6_open 20 = .ok (.aload_n 0, 1) := dk_42 (dk_at dksX6_open_0 20 rfl rfl)
theorem dX6_open_21 : decode cX6_open 21 = .ok (.getfield 177, 3) := dk_180 0 177 (dk_at dksX6_open_0 21 rfl rfl)
theorem dX6_open_24 : decode cX6_open 24 = .ok (.iconst 0, 1) := dk_3 (dk_at dksX6_open_1 0 rfl rfl)
theorem dX6_open_25 : decode cX6_open 25 = .ok (.iastore, 1) := dk_79 (dk_at dksX6_open_1 1 rfl rfl)
theorem dX6_open_26 : decode cX6_open 26 = .ok (.aload_n 0, 1) := dk_42 (dk_at dksX6_open_1 2 rfl rfl)
theorem dX6_open_27 : decode cX6_open 27 = .ok (.dup, 1) := dk_89 (dk_at dksX6_open_1 3 rfl rfl)
theorem dX6_open_28 : decode cX6_open 28 = .ok (.getfield 177, 3) := dk_180 0 177 (dk_at dksX6_open_1 4 rfl rfl)
theorem dX6_open_31 : decode cX6_open 31 = .ok (.iconst 1, 1) := dk_4 (dk_at dksX6_open_1 7 rfl rfl)
theorem dX6_open_32 : decode cX6_open 32 = .ok (.iadd, 1) := dk_96 (dk_at dksX6_open_1 8 rfl rfl)
theorem dX6_open_33 : decode cX6_open 33 = .ok (.putfield 177, 3) := dk_181 0 177 (dk_at dksX6_open_1 9 rfl rfl)
theorem dX6_open_36 : decode cX6_open 36 = .ok (.return_, 1) := dk_177 (dk_at dksX6_open_1 12 rfl rfl)
abbrev cX6_test : ByteArray := prog_10_method_41_code
def yX6_test : MethodName := ⟨RX6, "test", "(I)V"⟩
def dkwX6_test_4 : List UInt8 := [182, 1, 46, 177]
abbrev dktX6_test_4 : List UInt8 := dkwX6_test_4 ++ []
def dkwX6_test_3 : List UInt8 := [182, 1, 43, 182, 1, 46, 167, 0, 19, 42, 28, 27, 16, 15, 160, 0, 7, 4, 167, 0, 4, 3]
abbrev dktX6_test_3 : List UInt8 := dkwX6_test_3 ++ dktX6_test_4
def dkwX6_test_2 : List UInt8 := [54, 4, 21, 4, 2, 159, 0, 23, 42, 28, 42, 42, 29, 182, 0, 232, 42, 21, 4, 182, 0, 232]
abbrev dktX6_test_2 : List UInt8 := dkwX6_test_2 ++ dktX6_test_3
def dkwX6_test_1 : List UInt8 := [16, 14, 160, 0, 52, 42, 182, 0, 254, 62, 29, 2, 160, 0, 7, 2, 167, 0, 7, 42, 182, 0, 254]
abbrev dktX6_test_1 : List UInt8 := dkwX6_test_1 ++ dktX6_test_2
def dkwX6_test_0 : List UInt8 := [42, 180, 0, 177, 4, 100, 61, 27, 16, 13, 160, 0, 13, 42, 27, 3, 28, 182, 1, 27, 167, 0, 74, 27]
abbrev dktX6_test_0 : List UInt8 := dkwX6_test_0 ++ dktX6_test_1
theorem dksX6_test_0 : cX6_test.data.toList.drop 0 = dktX6_test_0 := by decide +kernel
theorem dksX6_test_1 : cX6_test.data.toList.drop 24 = dktX6_test_1 := dk_seg dksX6_test_0 24 rfl rfl
theorem dksX6_test_2 : cX6_test.data.toList.drop 47 = dktX6_test_2 := dk_seg dksX6_test_1 23 rfl rfl
theorem dksX6_test_3 : cX6_test.data.toList.drop 69 = dktX6_test_3 := dk_seg dksX6_test_2 22 rfl rfl
theorem dksX6_test_4 : cX6_test.data.toList.drop 91 = dktX6_test_4 := dk_seg dksX6_test_3 22 rfl rfl
theorem dX6_test_0 : decode cX6_test 0 = .ok (.aload_n 0, 1) := dk_42 (dk_at dksX6_test_0 0 rfl rfl)
theorem dX6_test_1 : decode cX6_test 1 = .ok (.getfield 177, 3) := dk_180 0 177 (dk_at dksX6_test_0 1 rfl rfl)
theorem dX6_test_4 : decode cX6_test 4 = .ok (.iconst 1, 1) := dk_4 (dk_at dksX6_test_0 4 rfl rfl)
theorem dX6_test_5 : decode cX6_test 5 = .ok (.isub, 1) := dk_100 (dk_at dksX6_test_0 5 rfl rfl)
theorem dX6_test_6 : decode cX6_test 6 = .ok (.istore_n 2, 1) := dk_61 (dk_at dksX6_test_0 6 rfl rfl)
theorem dX6_test_7 : decode cX6_test 7 = .ok (.iload_n 1, 1) := dk_27 (dk_at dksX6_test_0 7 rfl rfl)
theorem dX6_test_8 : decode cX6_test 8 = .ok (.bipush 13, 2) := dk_16 13 (dk_at dksX6_test_0 8 rfl rfl)
theorem dX6_test_10 : decode cX6_test 10 = .ok (.if_icmp .ne 13, 3) := dk_160 0 13 (dk_at dksX6_test_0 10 rfl rfl)
theorem dX6_test_13 : decode cX6_test 13 = .ok (.aload_n 0, 1) := dk_42 (dk_at dksX6_test_0 13 rfl rfl)
theorem dX6_test_14 : decode cX6_test 14 = .ok (.iload_n 1, 1) := dk_27 (dk_at dksX6_test_0 14 rfl rfl)
theorem dX6_test_15 : decode cX6_test 15 = .ok (.iconst 0, 1) := dk_3 (dk_at dksX6_test_0 15 rfl rfl)
theorem dX6_test_16 : decode cX6_test 16 = .ok (.iload_n 2, 1) := dk_28 (dk_at dksX6_test_0 16 rfl rfl)
theorem dX6_test_17 : decode cX6_test 17 = .ok (.invokevirtual 283, 3) := dk_182 1 27 (dk_at dksX6_test_0 17 rfl rfl)
theorem dX6_test_20 : decode cX6_test 20 = .ok (.goto 74, 3) := dk_167 0 74 (dk_at dksX6_test_0 20 rfl rfl)
theorem dX6_test_23 : decode cX6_test 23 = .ok (.iload_n 1, 1) := dk_27 (dk_at dksX6_test_0 23 rfl rfl)
theorem dX6_test_24 : decode cX6_test 24 = .ok (.bipush 14, 2) := dk_16 14 (dk_at dksX6_test_1 0 rfl rfl)
theorem dX6_test_26 : decode cX6_test 26 = .ok (.if_icmp .ne 52, 3) := dk_160 0 52 (dk_at dksX6_test_1 2 rfl rfl)
theorem dX6_test_29 : decode cX6_test 29 = .ok (.aload_n 0, 1) := dk_42 (dk_at dksX6_test_1 5 rfl rfl)
theorem dX6_test_30 : decode cX6_test 30 = .ok (.invokevirtual 254, 3) := dk_182 0 254 (dk_at dksX6_test_1 6 rfl rfl)
theorem dX6_test_33 : decode cX6_test 33 = .ok (.istore_n 3, 1) := dk_62 (dk_at dksX6_test_1 9 rfl rfl)
theorem dX6_test_34 : decode cX6_test 34 = .ok (.iload_n 3, 1) := dk_29 (dk_at dksX6_test_1 10 rfl rfl)
theorem dX6_test_35 : decode cX6_test 35 = .ok (.iconst (-1), 1) := dk_2 (dk_at dksX6_test_1 11 rfl rfl)
theorem dX6_test_36 : decode cX6_test 36 = .ok (.if_icmp .ne 7, 3) := dk_160 0 7 (dk_at dksX6_test_1 12 rfl rfl)
theorem dX6_test_39 : decode cX6_test 39 = .ok (.iconst (-1), 1) := dk_2 (dk_at dksX6_test_1 15 rfl rfl)
theorem dX6_test_40 : decode cX6_test 40 = .ok (.goto 7, 3) := dk_167 0 7 (dk_at dksX6_test_1 16 rfl rfl)
theorem dX6_test_43 : decode cX6_test 43 = .ok (.aload_n 0, 1) := dk_42 (dk_at dksX6_test_1 19 rfl rfl)
theorem dX6_test_44 : decode cX6_test 44 = .ok (.invokevirtual 254, 3) := dk_182 0 254 (dk_at dksX6_test_1 20 rfl rfl)
theorem dX6_test_47 : decode cX6_test 47 = .ok (.istore 4, 2) := dk_54 4 (dk_at dksX6_test_2 0 rfl rfl)
theorem dX6_test_49 : decode cX6_test 49 = .ok (.iload 4, 2) := dk_21 4 (dk_at dksX6_test_2 2 rfl rfl)
theorem dX6_test_51 : decode cX6_test 51 = .ok (.iconst (-1), 1) := dk_2 (dk_at dksX6_test_2 4 rfl rfl)
theorem dX6_test_52 : decode cX6_test 52 = .ok (.if_icmp .eq 23, 3) := dk_159 0 23 (dk_at dksX6_test_2 5 rfl rfl)
theorem dX6_test_55 : decode cX6_test 55 = .ok (.aload_n 0, 1) := dk_42 (dk_at dksX6_test_2 8 rfl rfl)
theorem dX6_test_56 : decode cX6_test 56 = .ok (.iload_n 2, 1) := dk_28 (dk_at dksX6_test_2 9 rfl rfl)
theorem dX6_test_57 : decode cX6_test 57 = .ok (.aload_n 0, 1) := dk_42 (dk_at dksX6_test_2 10 rfl rfl)
theorem dX6_test_58 : decode cX6_test 58 = .ok (.aload_n 0, 1) := dk_42 (dk_at dksX6_test_2 11 rfl rfl)
theorem dX6_test_59 : decode cX6_test 59 = .ok (.iload_n 3, 1) := dk_29 (dk_at dksX6_test_2 12 rfl rfl)
theorem dX6_test_60 : decode cX6_test 60 = .ok (.invokevirtual 232, 3) := dk_182 0 232 (dk_at dksX6_test_2 13 rfl rfl)
theorem dX6_test_63 : decode cX6_test 63 = .ok (.aload_n 0, 1) := dk_42 (dk_at dksX6_test_2 16 rfl rfl)
theorem dX6_test_64 : decode cX6_test 64 = .ok (.iload 4, 2) := dk_21 4 (dk_at dksX6_test_2 17 rfl rfl)
theorem dX6_test_66 : decode cX6_test 66 = .ok (.invokevirtual 232, 3) := dk_182 0 232 (dk_at dksX6_test_2 19 rfl rfl)
theorem dX6_test_69 : decode cX6_test 69 = .ok (.invokevirtual 299, 3) := dk_182 1 43 (dk_at dksX6_test_3 0 rfl rfl)
theorem dX6_test_72 : decode cX6_test 72 = .ok (.invokevirtual 302, 3) := dk_182 1 46 (dk_at dksX6_test_3 3 rfl rfl)
theorem dX6_test_75 : decode cX6_test 75 = .ok (.goto 19, 3) := dk_167 0 19 (dk_at dksX6_test_3 6 rfl rfl)
theorem dX6_test_78 : decode cX6_test 78 = .ok (.aload_n 0, 1) := dk_42 (dk_at dksX6_test_3 9 rfl rfl)
theorem dX6_test_79 : decode cX6_test 79 = .ok (.iload_n 2, 1) := dk_28 (dk_at dksX6_test_3 10 rfl rfl)
theorem dX6_test_80 : decode cX6_test 80 = .ok (.iload_n 1, 1) := dk_27 (dk_at dksX6_test_3 11 rfl rfl)
theorem dX6_test_81 : decode cX6_test 81 = .ok (.bipush 15, 2) := dk_16 15 (dk_at dksX6_test_3 12 rfl rfl)
theorem dX6_test_83 : decode cX6_test 83 = .ok (.if_icmp .ne 7, 3) := dk_160 0 7 (dk_at dksX6_test_3 14 rfl rfl)
theorem dX6_test_86 : decode cX6_test 86 = .ok (.iconst 1, 1) := dk_4 (dk_at dksX6_test_3 17 rfl rfl)
theorem dX6_test_87 : decode cX6_test 87 = .ok (.goto 4, 3) := dk_167 0 4 (dk_at dksX6_test_3 18 rfl rfl)
theorem dX6_test_90 : decode cX6_test 90 = .ok (.iconst 0, 1) := dk_3 (dk_at dksX6_test_3 21 rfl rfl)
theorem dX6_test_91 : decode cX6_test 91 = .ok (.invokevirtual 302, 3) := dk_182 1 46 (dk_at dksX6_test_4 0 rfl rfl)
theorem dX6_test_94 : decode cX6_test 94 = .ok (.return_, 1) := dk_177 (dk_at dksX6_test_4 3 rfl rfl)
abbrev cX6_alike : ByteArray := prog_10_method_35_code
def yX6_alike : MethodName := ⟨RX6, "alike", "(II)Z"⟩
def dkwX6_alike_8 : List UInt8 := [132, 6, 1, 167, 255, 202, 21, 5, 172]
abbrev dktX6_alike_8 : List UInt8 := dkwX6_alike_8 ++ []
def dkwX6_alike_7 : List UInt8 := [46, 42, 180, 0, 53, 16, 41, 21, 4, 104, 21, 6, 96, 46, 160, 0, 7, 4, 167, 0, 4, 3, 54, 5]
abbrev dktX6_alike_7 : List UInt8 := dkwX6_alike_7 ++ dktX6_alike_8
def dkwX6_alike_6 : List UInt8 := [180, 0, 50, 29, 46, 162, 0, 49, 21, 5, 153, 0, 44, 42, 180, 0, 53, 16, 41, 29, 104, 21, 6, 96]
abbrev dktX6_alike_6 : List UInt8 := dkwX6_alike_6 ++ dktX6_alike_7
def dkwX6_alike_5 : List UInt8 := [160, 0, 7, 4, 167, 0, 4, 3, 54, 5, 132, 6, 1, 167, 255, 202, 3, 54, 6, 21, 6, 42]
abbrev dktX6_alike_5 : List UInt8 := dkwX6_alike_5 ++ dktX6_alike_6
def dkwX6_alike_4 : List UInt8 := [180, 0, 47, 16, 13, 29, 104, 21, 6, 96, 46, 42, 180, 0, 47, 16, 13, 21, 4, 104, 21, 6, 96, 46]
abbrev dktX6_alike_4 : List UInt8 := dkwX6_alike_4 ++ dktX6_alike_5
def dkwX6_alike_3 : List UInt8 := [3, 54, 5, 3, 54, 6, 21, 6, 42, 180, 0, 44, 29, 46, 162, 0, 49, 21, 5, 153, 0, 44, 42]
abbrev dktX6_alike_3 : List UInt8 := dkwX6_alike_3 ++ dktX6_alike_4
def dkwX6_alike_2 : List UInt8 := [46, 160, 0, 23, 42, 180, 0, 50, 29, 46, 42, 180, 0, 50, 21, 4, 46, 160, 0, 7, 4, 167, 0, 4]
abbrev dktX6_alike_2 : List UInt8 := dkwX6_alike_2 ++ dktX6_alike_3
def dkwX6_alike_1 : List UInt8 := [17, 23, 112, 100, 62, 28, 17, 23, 112, 100, 54, 4, 42, 180, 0, 44, 29, 46, 42, 180, 0, 44, 21, 4]
abbrev dktX6_alike_1 : List UInt8 := dkwX6_alike_1 ++ dktX6_alike_2
def dkwX6_alike_0 : List UInt8 := [27, 28, 160, 0, 5, 4, 172, 27, 17, 23, 112, 161, 0, 10, 28, 17, 23, 112, 162, 0, 5, 3, 172, 27]
abbrev dktX6_alike_0 : List UInt8 := dkwX6_alike_0 ++ dktX6_alike_1
theorem dksX6_alike_0 : cX6_alike.data.toList.drop 0 = dktX6_alike_0 := by decide +kernel
theorem dksX6_alike_1 : cX6_alike.data.toList.drop 24 = dktX6_alike_1 := dk_seg dksX6_alike_0 24 rfl rfl
theorem dksX6_alike_2 : cX6_alike.data.toList.drop 48 = dktX6_alike_2 := dk_seg dksX6_alike_1 24 rfl rfl
theorem dksX6_alike_3 : cX6_alike.data.toList.drop 72 = dktX6_alike_3 := dk_seg dksX6_alike_2 24 rfl rfl
theorem dksX6_alike_4 : cX6_alike.data.toList.drop 95 = dktX6_alike_4 := dk_seg dksX6_alike_3 23 rfl rfl
theorem dksX6_alike_5 : cX6_alike.data.toList.drop 119 = dktX6_alike_5 := dk_seg dksX6_alike_4 24 rfl rfl
theorem dksX6_alike_6 : cX6_alike.data.toList.drop 141 = dktX6_alike_6 := dk_seg dksX6_alike_5 22 rfl rfl
theorem dksX6_alike_7 : cX6_alike.data.toList.drop 165 = dktX6_alike_7 := dk_seg dksX6_alike_6 24 rfl rfl
theorem dksX6_alike_8 : cX6_alike.data.toList.drop 189 = dktX6_alike_8 := dk_seg dksX6_alike_7 24 rfl rfl
theorem dX6_alike_0 : decode cX6_alike 0 = .ok (.iload_n 1, 1) := dk_27 (dk_at dksX6_alike_0 0 rfl rfl)
theorem dX6_alike_1 : decode cX6_alike 1 = .ok (.iload_n 2, 1) := dk_28 (dk_at dksX6_alike_0 1 rfl rfl)
theorem dX6_alike_2 : decode cX6_alike 2 = .ok (.if_icmp .ne 5, 3) := dk_160 0 5 (dk_at dksX6_alike_0 2 rfl rfl)
theorem dX6_alike_5 : decode cX6_alike 5 = .ok (.iconst 1, 1) := dk_4 (dk_at dksX6_alike_0 5 rfl rfl)
theorem dX6_alike_6 : decode cX6_alike 6 = .ok (.ireturn, 1) := dk_172 (dk_at dksX6_alike_0 6 rfl rfl)
theorem dX6_alike_7 : decode cX6_alike 7 = .ok (.iload_n 1, 1) := dk_27 (dk_at dksX6_alike_0 7 rfl rfl)
theorem dX6_alike_8 : decode cX6_alike 8 = .ok (.sipush 6000, 3) := dk_17 23 112 (dk_at dksX6_alike_0 8 rfl rfl)
theorem dX6_alike_11 : decode cX6_alike 11 = .ok (.if_icmp .lt 10, 3) := dk_161 0 10 (dk_at dksX6_alike_0 11 rfl rfl)
theorem dX6_alike_14 : decode cX6_alike 14 = .ok (.iload_n 2, 1) := dk_28 (dk_at dksX6_alike_0 14 rfl rfl)
theorem dX6_alike_15 : decode cX6_alike 15 = .ok (.sipush 6000, 3) := dk_17 23 112 (dk_at dksX6_alike_0 15 rfl rfl)
theorem dX6_alike_18 : decode cX6_alike 18 = .ok (.if_icmp .ge 5, 3) := dk_162 0 5 (dk_at dksX6_alike_0 18 rfl rfl)
theorem dX6_alike_21 : decode cX6_alike 21 = .ok (.iconst 0, 1) := dk_3 (dk_at dksX6_alike_0 21 rfl rfl)
theorem dX6_alike_22 : decode cX6_alike 22 = .ok (.ireturn, 1) := dk_172 (dk_at dksX6_alike_0 22 rfl rfl)
theorem dX6_alike_23 : decode cX6_alike 23 = .ok (.iload_n 1, 1) := dk_27 (dk_at dksX6_alike_0 23 rfl rfl)
theorem dX6_alike_24 : decode cX6_alike 24 = .ok (.sipush 6000, 3) := dk_17 23 112 (dk_at dksX6_alike_1 0 rfl rfl)
theorem dX6_alike_27 : decode cX6_alike 27 = .ok (.isub, 1) := dk_100 (dk_at dksX6_alike_1 3 rfl rfl)
theorem dX6_alike_28 : decode cX6_alike 28 = .ok (.istore_n 3, 1) := dk_62 (dk_at dksX6_alike_1 4 rfl rfl)
theorem dX6_alike_29 : decode cX6_alike 29 = .ok (.iload_n 2, 1) := dk_28 (dk_at dksX6_alike_1 5 rfl rfl)
theorem dX6_alike_30 : decode cX6_alike 30 = .ok (.sipush 6000, 3) := dk_17 23 112 (dk_at dksX6_alike_1 6 rfl rfl)
theorem dX6_alike_33 : decode cX6_alike 33 = .ok (.isub, 1) := dk_100 (dk_at dksX6_alike_1 9 rfl rfl)
theorem dX6_alike_34 : decode cX6_alike 34 = .ok (.istore 4, 2) := dk_54 4 (dk_at dksX6_alike_1 10 rfl rfl)
theorem dX6_alike_36 : decode cX6_alike 36 = .ok (.aload_n 0, 1) := dk_42 (dk_at dksX6_alike_1 12 rfl rfl)
theorem dX6_alike_37 : decode cX6_alike 37 = .ok (.getfield 44, 3) := dk_180 0 44 (dk_at dksX6_alike_1 13 rfl rfl)
theorem dX6_alike_40 : decode cX6_alike 40 = .ok (.iload_n 3, 1) := dk_29 (dk_at dksX6_alike_1 16 rfl rfl)
theorem dX6_alike_41 : decode cX6_alike 41 = .ok (.iaload, 1) := dk_46 (dk_at dksX6_alike_1 17 rfl rfl)
theorem dX6_alike_42 : decode cX6_alike 42 = .ok (.aload_n 0, 1) := dk_42 (dk_at dksX6_alike_1 18 rfl rfl)
theorem dX6_alike_43 : decode cX6_alike 43 = .ok (.getfield 44, 3) := dk_180 0 44 (dk_at dksX6_alike_1 19 rfl rfl)
theorem dX6_alike_46 : decode cX6_alike 46 = .ok (.iload 4, 2) := dk_21 4 (dk_at dksX6_alike_1 22 rfl rfl)
theorem dX6_alike_48 : decode cX6_alike 48 = .ok (.iaload, 1) := dk_46 (dk_at dksX6_alike_2 0 rfl rfl)
theorem dX6_alike_49 : decode cX6_alike 49 = .ok (.if_icmp .ne 23, 3) := dk_160 0 23 (dk_at dksX6_alike_2 1 rfl rfl)
theorem dX6_alike_52 : decode cX6_alike 52 = .ok (.aload_n 0, 1) := dk_42 (dk_at dksX6_alike_2 4 rfl rfl)
theorem dX6_alike_53 : decode cX6_alike 53 = .ok (.getfield 50, 3) := dk_180 0 50 (dk_at dksX6_alike_2 5 rfl rfl)
theorem dX6_alike_56 : decode cX6_alike 56 = .ok (.iload_n 3, 1) := dk_29 (dk_at dksX6_alike_2 8 rfl rfl)
theorem dX6_alike_57 : decode cX6_alike 57 = .ok (.iaload, 1) := dk_46 (dk_at dksX6_alike_2 9 rfl rfl)
theorem dX6_alike_58 : decode cX6_alike 58 = .ok (.aload_n 0, 1) := dk_42 (dk_at dksX6_alike_2 10 rfl rfl)
theorem dX6_alike_59 : decode cX6_alike 59 = .ok (.getfield 50, 3) := dk_180 0 50 (dk_at dksX6_alike_2 11 rfl rfl)
theorem dX6_alike_62 : decode cX6_alike 62 = .ok (.iload 4, 2) := dk_21 4 (dk_at dksX6_alike_2 14 rfl rfl)
theorem dX6_alike_64 : decode cX6_alike 64 = .ok (.iaload, 1) := dk_46 (dk_at dksX6_alike_2 16 rfl rfl)
theorem dX6_alike_65 : decode cX6_alike 65 = .ok (.if_icmp .ne 7, 3) := dk_160 0 7 (dk_at dksX6_alike_2 17 rfl rfl)
theorem dX6_alike_68 : decode cX6_alike 68 = .ok (.iconst 1, 1) := dk_4 (dk_at dksX6_alike_2 20 rfl rfl)
theorem dX6_alike_69 : decode cX6_alike 69 = .ok (.goto 4, 3) := dk_167 0 4 (dk_at dksX6_alike_2 21 rfl rfl)
theorem dX6_alike_72 : decode cX6_alike 72 = .ok (.iconst 0, 1) := dk_3 (dk_at dksX6_alike_3 0 rfl rfl)
theorem dX6_alike_73 : decode cX6_alike 73 = .ok (.istore 5, 2) := dk_54 5 (dk_at dksX6_alike_3 1 rfl rfl)
theorem dX6_alike_75 : decode cX6_alike 75 = .ok (.iconst 0, 1) := dk_3 (dk_at dksX6_alike_3 3 rfl rfl)
theorem dX6_alike_76 : decode cX6_alike 76 = .ok (.istore 6, 2) := dk_54 6 (dk_at dksX6_alike_3 4 rfl rfl)
theorem dX6_alike_78 : decode cX6_alike 78 = .ok (.iload 6, 2) := dk_21 6 (dk_at dksX6_alike_3 6 rfl rfl)
theorem dX6_alike_80 : decode cX6_alike 80 = .ok (.aload_n 0, 1) := dk_42 (dk_at dksX6_alike_3 8 rfl rfl)
theorem dX6_alike_81 : decode cX6_alike 81 = .ok (.getfield 44, 3) := dk_180 0 44 (dk_at dksX6_alike_3 9 rfl rfl)
theorem dX6_alike_84 : decode cX6_alike 84 = .ok (.iload_n 3, 1) := dk_29 (dk_at dksX6_alike_3 12 rfl rfl)
theorem dX6_alike_85 : decode cX6_alike 85 = .ok (.iaload, 1) := dk_46 (dk_at dksX6_alike_3 13 rfl rfl)
theorem dX6_alike_86 : decode cX6_alike 86 = .ok (.if_icmp .ge 49, 3) := dk_162 0 49 (dk_at dksX6_alike_3 14 rfl rfl)
theorem dX6_alike_89 : decode cX6_alike 89 = .ok (.iload 5, 2) := dk_21 5 (dk_at dksX6_alike_3 17 rfl rfl)
theorem dX6_alike_91 : decode cX6_alike 91 = .ok (.ifCond .eq 44, 3) := dk_153 0 44 (dk_at dksX6_alike_3 19 rfl rfl)
theorem dX6_alike_94 : decode cX6_alike 94 = .ok (.aload_n 0, 1) := dk_42 (dk_at dksX6_alike_3 22 rfl rfl)
theorem dX6_alike_95 : decode cX6_alike 95 = .ok (.getfield 47, 3) := dk_180 0 47 (dk_at dksX6_alike_4 0 rfl rfl)
theorem dX6_alike_98 : decode cX6_alike 98 = .ok (.bipush 13, 2) := dk_16 13 (dk_at dksX6_alike_4 3 rfl rfl)
theorem dX6_alike_100 : decode cX6_alike 100 = .ok (.iload_n 3, 1) := dk_29 (dk_at dksX6_alike_4 5 rfl rfl)
theorem dX6_alike_101 : decode cX6_alike 101 = .ok (.imul, 1) := dk_104 (dk_at dksX6_alike_4 6 rfl rfl)
theorem dX6_alike_102 : decode cX6_alike 102 = .ok (.iload 6, 2) := dk_21 6 (dk_at dksX6_alike_4 7 rfl rfl)
theorem dX6_alike_104 : decode cX6_alike 104 = .ok (.iadd, 1) := dk_96 (dk_at dksX6_alike_4 9 rfl rfl)
theorem dX6_alike_105 : decode cX6_alike 105 = .ok (.iaload, 1) := dk_46 (dk_at dksX6_alike_4 10 rfl rfl)
theorem dX6_alike_106 : decode cX6_alike 106 = .ok (.aload_n 0, 1) := dk_42 (dk_at dksX6_alike_4 11 rfl rfl)
theorem dX6_alike_107 : decode cX6_alike 107 = .ok (.getfield 47, 3) := dk_180 0 47 (dk_at dksX6_alike_4 12 rfl rfl)
theorem dX6_alike_110 : decode cX6_alike 110 = .ok (.bipush 13, 2) := dk_16 13 (dk_at dksX6_alike_4 15 rfl rfl)
theorem dX6_alike_112 : decode cX6_alike 112 = .ok (.iload 4, 2) := dk_21 4 (dk_at dksX6_alike_4 17 rfl rfl)
theorem dX6_alike_114 : decode cX6_alike 114 = .ok (.imul, 1) := dk_104 (dk_at dksX6_alike_4 19 rfl rfl)
theorem dX6_alike_115 : decode cX6_alike 115 = .ok (.iload 6, 2) := dk_21 6 (dk_at dksX6_alike_4 20 rfl rfl)
theorem dX6_alike_117 : decode cX6_alike 117 = .ok (.iadd, 1) := dk_96 (dk_at dksX6_alike_4 22 rfl rfl)
theorem dX6_alike_118 : decode cX6_alike 118 = .ok (.iaload, 1) := dk_46 (dk_at dksX6_alike_4 23 rfl rfl)
theorem dX6_alike_119 : decode cX6_alike 119 = .ok (.if_icmp .ne 7, 3) := dk_160 0 7 (dk_at dksX6_alike_5 0 rfl rfl)
theorem dX6_alike_122 : decode cX6_alike 122 = .ok (.iconst 1, 1) := dk_4 (dk_at dksX6_alike_5 3 rfl rfl)
theorem dX6_alike_123 : decode cX6_alike 123 = .ok (.goto 4, 3) := dk_167 0 4 (dk_at dksX6_alike_5 4 rfl rfl)
theorem dX6_alike_126 : decode cX6_alike 126 = .ok (.iconst 0, 1) := dk_3 (dk_at dksX6_alike_5 7 rfl rfl)
theorem dX6_alike_127 : decode cX6_alike 127 = .ok (.istore 5, 2) := dk_54 5 (dk_at dksX6_alike_5 8 rfl rfl)
theorem dX6_alike_129 : decode cX6_alike 129 = .ok (.iinc 6 1, 3) := dk_132 6 1 (dk_at dksX6_alike_5 10 rfl rfl)
theorem dX6_alike_132 : decode cX6_alike 132 = .ok (.goto (-54), 3) := dk_167 255 202 (dk_at dksX6_alike_5 13 rfl rfl)
theorem dX6_alike_135 : decode cX6_alike 135 = .ok (.iconst 0, 1) := dk_3 (dk_at dksX6_alike_5 16 rfl rfl)
theorem dX6_alike_136 : decode cX6_alike 136 = .ok (.istore 6, 2) := dk_54 6 (dk_at dksX6_alike_5 17 rfl rfl)
theorem dX6_alike_138 : decode cX6_alike 138 = .ok (.iload 6, 2) := dk_21 6 (dk_at dksX6_alike_5 19 rfl rfl)
theorem dX6_alike_140 : decode cX6_alike 140 = .ok (.aload_n 0, 1) := dk_42 (dk_at dksX6_alike_5 21 rfl rfl)
theorem dX6_alike_141 : decode cX6_alike 141 = .ok (.getfield 50, 3) := dk_180 0 50 (dk_at dksX6_alike_6 0 rfl rfl)
theorem dX6_alike_144 : decode cX6_alike 144 = .ok (.iload_n 3, 1) := dk_29 (dk_at dksX6_alike_6 3 rfl rfl)
theorem dX6_alike_145 : decode cX6_alike 145 = .ok (.iaload, 1) := dk_46 (dk_at dksX6_alike_6 4 rfl rfl)
theorem dX6_alike_146 : decode cX6_alike 146 = .ok (.if_icmp .ge 49, 3) := dk_162 0 49 (dk_at dksX6_alike_6 5 rfl rfl)
theorem dX6_alike_149 : decode cX6_alike 149 = .ok (.iload 5, 2) := dk_21 5 (dk_at dksX6_alike_6 8 rfl rfl)
theorem dX6_alike_151 : decode cX6_alike 151 = .ok (.ifCond .eq 44, 3) := dk_153 0 44 (dk_at dksX6_alike_6 10 rfl rfl)
theorem dX6_alike_154 : decode cX6_alike 154 = .ok (.aload_n 0, 1) := dk_42 (dk_at dksX6_alike_6 13 rfl rfl)
theorem dX6_alike_155 : decode cX6_alike 155 = .ok (.getfield 53, 3) := dk_180 0 53 (dk_at dksX6_alike_6 14 rfl rfl)
theorem dX6_alike_158 : decode cX6_alike 158 = .ok (.bipush 41, 2) := dk_16 41 (dk_at dksX6_alike_6 17 rfl rfl)
theorem dX6_alike_160 : decode cX6_alike 160 = .ok (.iload_n 3, 1) := dk_29 (dk_at dksX6_alike_6 19 rfl rfl)
theorem dX6_alike_161 : decode cX6_alike 161 = .ok (.imul, 1) := dk_104 (dk_at dksX6_alike_6 20 rfl rfl)
theorem dX6_alike_162 : decode cX6_alike 162 = .ok (.iload 6, 2) := dk_21 6 (dk_at dksX6_alike_6 21 rfl rfl)
theorem dX6_alike_164 : decode cX6_alike 164 = .ok (.iadd, 1) := dk_96 (dk_at dksX6_alike_6 23 rfl rfl)
theorem dX6_alike_165 : decode cX6_alike 165 = .ok (.iaload, 1) := dk_46 (dk_at dksX6_alike_7 0 rfl rfl)
theorem dX6_alike_166 : decode cX6_alike 166 = .ok (.aload_n 0, 1) := dk_42 (dk_at dksX6_alike_7 1 rfl rfl)
theorem dX6_alike_167 : decode cX6_alike 167 = .ok (.getfield 53, 3) := dk_180 0 53 (dk_at dksX6_alike_7 2 rfl rfl)
theorem dX6_alike_170 : decode cX6_alike 170 = .ok (.bipush 41, 2) := dk_16 41 (dk_at dksX6_alike_7 5 rfl rfl)
theorem dX6_alike_172 : decode cX6_alike 172 = .ok (.iload 4, 2) := dk_21 4 (dk_at dksX6_alike_7 7 rfl rfl)
theorem dX6_alike_174 : decode cX6_alike 174 = .ok (.imul, 1) := dk_104 (dk_at dksX6_alike_7 9 rfl rfl)
theorem dX6_alike_175 : decode cX6_alike 175 = .ok (.iload 6, 2) := dk_21 6 (dk_at dksX6_alike_7 10 rfl rfl)
theorem dX6_alike_177 : decode cX6_alike 177 = .ok (.iadd, 1) := dk_96 (dk_at dksX6_alike_7 12 rfl rfl)
theorem dX6_alike_178 : decode cX6_alike 178 = .ok (.iaload, 1) := dk_46 (dk_at dksX6_alike_7 13 rfl rfl)
theorem dX6_alike_179 : decode cX6_alike 179 = .ok (.if_icmp .ne 7, 3) := dk_160 0 7 (dk_at dksX6_alike_7 14 rfl rfl)
theorem dX6_alike_182 : decode cX6_alike 182 = .ok (.iconst 1, 1) := dk_4 (dk_at dksX6_alike_7 17 rfl rfl)
theorem dX6_alike_183 : decode cX6_alike 183 = .ok (.goto 4, 3) := dk_167 0 4 (dk_at dksX6_alike_7 18 rfl rfl)
theorem dX6_alike_186 : decode cX6_alike 186 = .ok (.iconst 0, 1) := dk_3 (dk_at dksX6_alike_7 21 rfl rfl)
theorem dX6_alike_187 : decode cX6_alike 187 = .ok (.istore 5, 2) := dk_54 5 (dk_at dksX6_alike_7 22 rfl rfl)
theorem dX6_alike_189 : decode cX6_alike 189 = .ok (.iinc 6 1, 3) := dk_132 6 1 (dk_at dksX6_alike_8 0 rfl rfl)
theorem dX6_alike_192 : decode cX6_alike 192 = .ok (.goto (-54), 3) := dk_167 255 202 (dk_at dksX6_alike_8 3 rfl rfl)
theorem dX6_alike_195 : decode cX6_alike 195 = .ok (.iload 5, 2) := dk_21 5 (dk_at dksX6_alike_8 6 rfl rfl)
theorem dX6_alike_197 : decode cX6_alike 197 = .ok (.ireturn, 1) := dk_172 (dk_at dksX6_alike_8 8 rfl rfl)
abbrev cX6_decide : ByteArray := prog_10_method_34_code
def yX6_decide : MethodName := ⟨RX6, "decide", "(IZ)V"⟩
def dkwX6_decide_2 : List UInt8 := [27, 181, 0, 177, 177]
abbrev dktX6_decide_2 : List UInt8 := dkwX6_decide_2 ++ []
def dkwX6_decide_1 : List UInt8 := [182, 1, 11, 153, 0, 13, 42, 180, 0, 59, 27, 5, 79, 167, 0, 15, 42, 180, 0, 159, 154, 0, 8, 42]
abbrev dktX6_decide_1 : List UInt8 := dkwX6_decide_1 ++ dktX6_decide_2
def dkwX6_decide_0 : List UInt8 := [42, 27, 4, 96, 181, 0, 177, 28, 153, 0, 13, 42, 180, 0, 59, 27, 4, 79, 167, 0, 33, 42, 4]
abbrev dktX6_decide_0 : List UInt8 := dkwX6_decide_0 ++ dktX6_decide_1
theorem dksX6_decide_0 : cX6_decide.data.toList.drop 0 = dktX6_decide_0 := by decide +kernel
theorem dksX6_decide_1 : cX6_decide.data.toList.drop 23 = dktX6_decide_1 := dk_seg dksX6_decide_0 23 rfl rfl
theorem dksX6_decide_2 : cX6_decide.data.toList.drop 47 = dktX6_decide_2 := dk_seg dksX6_decide_1 24 rfl rfl
theorem dX6_decide_0 : decode cX6_decide 0 = .ok (.aload_n 0, 1) := dk_42 (dk_at dksX6_decide_0 0 rfl rfl)
theorem dX6_decide_1 : decode cX6_decide 1 = .ok (.iload_n 1, 1) := dk_27 (dk_at dksX6_decide_0 1 rfl rfl)
theorem dX6_decide_2 : decode cX6_decide 2 = .ok (.iconst 1, 1) := dk_4 (dk_at dksX6_decide_0 2 rfl rfl)
theorem dX6_decide_3 : decode cX6_decide 3 = .ok (.iadd, 1) := dk_96 (dk_at dksX6_decide_0 3 rfl rfl)
theorem dX6_decide_4 : decode cX6_decide 4 = .ok (.putfield 177, 3) := dk_181 0 177 (dk_at dksX6_decide_0 4 rfl rfl)
theorem dX6_decide_7 : decode cX6_decide 7 = .ok (.iload_n 2, 1) := dk_28 (dk_at dksX6_decide_0 7 rfl rfl)
theorem dX6_decide_8 : decode cX6_decide 8 = .ok (.ifCond .eq 13, 3) := dk_153 0 13 (dk_at dksX6_decide_0 8 rfl rfl)
theorem dX6_decide_11 : decode cX6_decide 11 = .ok (.aload_n 0, 1) := dk_42 (dk_at dksX6_decide_0 11 rfl rfl)
theorem dX6_decide_12 : decode cX6_decide 12 = .ok (.getfield 59, 3) := dk_180 0 59 (dk_at dksX6_decide_0 12 rfl rfl)
theorem dX6_decide_15 : decode cX6_decide 15 = .ok (.iload_n 1, 1) := dk_27 (dk_at dksX6_decide_0 15 rfl rfl)
theorem dX6_decide_16 : decode cX6_decide 16 = .ok (.iconst 1, 1) := dk_4 (dk_at dksX6_decide_0 16 rfl rfl)
theorem dX6_decide_17 : decode cX6_decide 17 = .ok (.iastore, 1) := dk_79 (dk_at dksX6_decide_0 17 rfl rfl)
theorem dX6_decide_18 : decode cX6_decide 18 = .ok (.goto 33, 3) := dk_167 0 33 (dk_at dksX6_decide_0 18 rfl rfl)
theorem dX6_decide_21 : decode cX6_decide 21 = .ok (.aload_n 0, 1) := dk_42 (dk_at dksX6_decide_0 21 rfl rfl)
theorem dX6_decide_22 : decode cX6_decide 22 = .ok (.iconst 1, 1) := dk_4 (dk_at dksX6_decide_0 22 rfl rfl)
theorem dX6_decide_23 : decode cX6_decide 23 = .ok (.invokevirtual 267, 3) := dk_182 1 11 (dk_at dksX6_decide_1 0 rfl rfl)
theorem dX6_decide_26 : decode cX6_decide 26 = .ok (.ifCond .eq 13, 3) := dk_153 0 13 (dk_at dksX6_decide_1 3 rfl rfl)
theorem dX6_decide_29 : decode cX6_decide 29 = .ok (.aload_n 0, 1) := dk_42 (dk_at dksX6_decide_1 6 rfl rfl)
theorem dX6_decide_30 : decode cX6_decide 30 = .ok (.getfield 59, 3) := dk_180 0 59 (dk_at dksX6_decide_1 7 rfl rfl)
theorem dX6_decide_33 : decode cX6_decide 33 = .ok (.iload_n 1, 1) := dk_27 (dk_at dksX6_decide_1 10 rfl rfl)
theorem dX6_decide_34 : decode cX6_decide 34 = .ok (.iconst 2, 1) := dk_5 (dk_at dksX6_decide_1 11 rfl rfl)
theorem dX6_decide_35 : decode cX6_decide 35 = .ok (.iastore, 1) := dk_79 (dk_at dksX6_decide_1 12 rfl rfl)
theorem dX6_decide_36 : decode cX6_decide 36 = .ok (.goto 15, 3) := dk_167 0 15 (dk_at dksX6_decide_1 13 rfl rfl)
theorem dX6_decide_39 : decode cX6_decide 39 = .ok (.aload_n 0, 1) := dk_42 (dk_at dksX6_decide_1 16 rfl rfl)
theorem dX6_decide_40 : decode cX6_decide 40 = .ok (.getfield 159, 3) := dk_180 0 159 (dk_at dksX6_decide_1 17 rfl rfl)
theorem dX6_decide_43 : decode cX6_decide 43 = .ok (.ifCond .ne 8, 3) := dk_154 0 8 (dk_at dksX6_decide_1 20 rfl rfl)
theorem dX6_decide_46 : decode cX6_decide 46 = .ok (.aload_n 0, 1) := dk_42 (dk_at dksX6_decide_1 23 rfl rfl)
theorem dX6_decide_47 : decode cX6_decide 47 = .ok (.iload_n 1, 1) := dk_27 (dk_at dksX6_decide_2 0 rfl rfl)
theorem dX6_decide_48 : decode cX6_decide 48 = .ok (.putfield 177, 3) := dk_181 0 177 (dk_at dksX6_decide_2 1 rfl rfl)
theorem dX6_decide_51 : decode cX6_decide 51 = .ok (.return_, 1) := dk_177 (dk_at dksX6_decide_2 4 rfl rfl)
abbrev cX6_goOn : ByteArray := prog_10_method_42_code
def yX6_goOn : MethodName := ⟨RX6, "goOn", "()I"⟩
def dkwX6_goOn_10 : List UInt8 := [28, 17, 0, 255, 126, 79, 42, 180, 0, 68, 27, 92, 46, 4, 96, 79, 2, 172]
abbrev dktX6_goOn_10 : List UInt8 := dkwX6_goOn_10 ++ []
def dkwX6_goOn_9 : List UInt8 := [160, 0, 9, 42, 8, 182, 0, 205, 172, 42, 180, 0, 74, 16, 12, 27, 104, 42, 180, 0, 68, 27, 46, 96]
abbrev dktX6_goOn_9 : List UInt8 := dkwX6_goOn_9 ++ dktX6_goOn_10
def dkwX6_goOn_8 : List UInt8 := [167, 0, 64, 28, 17, 16, 0, 161, 0, 9, 42, 7, 182, 0, 205, 172, 42, 180, 0, 68, 27, 46, 16, 11]
abbrev dktX6_goOn_8 : List UInt8 := dkwX6_goOn_8 ++ dktX6_goOn_9
def dkwX6_goOn_7 : List UInt8 := [167, 0, 88, 29, 16, 11, 160, 0, 21, 42, 89, 180, 0, 180, 4, 100, 181, 0, 180, 42, 27, 182, 1, 50]
abbrev dktX6_goOn_7 : List UInt8 := dkwX6_goOn_7 ++ dktX6_goOn_8
def dkwX6_goOn_6 : List UInt8 := [180, 0, 65, 27, 46, 160, 0, 7, 4, 167, 0, 4, 3, 182, 1, 46, 42, 180, 0, 65, 27, 21, 4, 79]
abbrev dktX6_goOn_6 : List UInt8 := dkwX6_goOn_6 ++ dktX6_goOn_7
def dkwX6_goOn_5 : List UInt8 := [160, 0, 39, 42, 89, 180, 0, 180, 4, 100, 181, 0, 180, 42, 42, 180, 0, 71, 27, 46, 21, 4, 42]
abbrev dktX6_goOn_5 : List UInt8 := dkwX6_goOn_5 ++ dktX6_goOn_6
def dkwX6_goOn_4 : List UInt8 := [17, 0, 255, 126, 54, 4, 42, 180, 0, 68, 27, 92, 46, 4, 96, 79, 42, 180, 0, 68, 27, 46, 5]
abbrev dktX6_goOn_4 : List UInt8 := dkwX6_goOn_4 ++ dktX6_goOn_5
def dkwX6_goOn_3 : List UInt8 := [46, 16, 13, 160, 0, 94, 29, 17, 3, 232, 162, 0, 9, 17, 1, 0, 167, 0, 12, 29, 17, 3, 232, 100]
abbrev dktX6_goOn_3 : List UInt8 := dkwX6_goOn_3 ++ dktX6_goOn_4
def dkwX6_goOn_2 : List UInt8 := [159, 0, 11, 42, 28, 182, 1, 24, 153, 0, 5, 28, 172, 42, 28, 182, 0, 232, 62, 42, 180, 0, 62, 27]
abbrev dktX6_goOn_2 : List UInt8 := dkwX6_goOn_2 ++ dktX6_goOn_3
def dkwX6_goOn_1 : List UInt8 := [100, 181, 0, 180, 42, 42, 180, 0, 65, 27, 46, 182, 1, 8, 2, 172, 42, 182, 0, 254, 61, 28, 2]
abbrev dktX6_goOn_1 : List UInt8 := dkwX6_goOn_1 ++ dktX6_goOn_2
def dkwX6_goOn_0 : List UInt8 := [42, 180, 0, 180, 4, 100, 60, 42, 180, 0, 62, 27, 46, 16, 8, 160, 0, 25, 42, 89, 180, 0, 180, 4]
abbrev dktX6_goOn_0 : List UInt8 := dkwX6_goOn_0 ++ dktX6_goOn_1
theorem dksX6_goOn_0 : cX6_goOn.data.toList.drop 0 = dktX6_goOn_0 := by decide +kernel
theorem dksX6_goOn_1 : cX6_goOn.data.toList.drop 24 = dktX6_goOn_1 := dk_seg dksX6_goOn_0 24 rfl rfl
theorem dksX6_goOn_2 : cX6_goOn.data.toList.drop 47 = dktX6_goOn_2 := dk_seg dksX6_goOn_1 23 rfl rfl
theorem dksX6_goOn_3 : cX6_goOn.data.toList.drop 71 = dktX6_goOn_3 := dk_seg dksX6_goOn_2 24 rfl rfl
theorem dksX6_goOn_4 : cX6_goOn.data.toList.drop 95 = dktX6_goOn_4 := dk_seg dksX6_goOn_3 24 rfl rfl
theorem dksX6_goOn_5 : cX6_goOn.data.toList.drop 118 = dktX6_goOn_5 := dk_seg dksX6_goOn_4 23 rfl rfl
theorem dksX6_goOn_6 : cX6_goOn.data.toList.drop 141 = dktX6_goOn_6 := dk_seg dksX6_goOn_5 23 rfl rfl
theorem dksX6_goOn_7 : cX6_goOn.data.toList.drop 165 = dktX6_goOn_7 := dk_seg dksX6_goOn_6 24 rfl rfl
theorem dksX6_goOn_8 : cX6_goOn.data.toList.drop 189 = dktX6_goOn_8 := dk_seg dksX6_goOn_7 24 rfl rfl
theorem dksX6_goOn_9 : cX6_goOn.data.toList.drop 213 = dktX6_goOn_9 := dk_seg dksX6_goOn_8 24 rfl rfl
theorem dksX6_goOn_10 : cX6_goOn.data.toList.drop 237 = dktX6_goOn_10 := dk_seg dksX6_goOn_9 24 rfl rfl
theorem dX6_goOn_0 : decode cX6_goOn 0 = .ok (.aload_n 0, 1) := dk_42 (dk_at dksX6_goOn_0 0 rfl rfl)
theorem dX6_goOn_1 : decode cX6_goOn 1 = .ok (.getfield 180, 3) := dk_180 0 180 (dk_at dksX6_goOn_0 1 rfl rfl)
theorem dX6_goOn_4 : decode cX6_goOn 4 = .ok (.iconst 1, 1) := dk_4 (dk_at dksX6_goOn_0 4 rfl rfl)
theorem dX6_goOn_5 : decode cX6_goOn 5 = .ok (.isub, 1) := dk_100 (dk_at dksX6_goOn_0 5 rfl rfl)
theorem dX6_goOn_6 : decode cX6_goOn 6 = .ok (.istore_n 1, 1) := dk_60 (dk_at dksX6_goOn_0 6 rfl rfl)
theorem dX6_goOn_7 : decode cX6_goOn 7 = .ok (.aload_n 0, 1) := dk_42 (dk_at dksX6_goOn_0 7 rfl rfl)
theorem dX6_goOn_8 : decode cX6_goOn 8 = .ok (.getfield 62, 3) := dk_180 0 62 (dk_at dksX6_goOn_0 8 rfl rfl)
theorem dX6_goOn_11 : decode cX6_goOn 11 = .ok (.iload_n 1, 1) := dk_27 (dk_at dksX6_goOn_0 11 rfl rfl)
theorem dX6_goOn_12 : decode cX6_goOn 12 = .ok (.iaload, 1) := dk_46 (dk_at dksX6_goOn_0 12 rfl rfl)
theorem dX6_goOn_13 : decode cX6_goOn 13 = .ok (.bipush 8, 2) := dk_16 8 (dk_at dksX6_goOn_0 13 rfl rfl)
theorem dX6_goOn_15 : decode cX6_goOn 15 = .ok (.if_icmp .ne 25, 3) := dk_160 0 25 (dk_at dksX6_goOn_0 15 rfl rfl)
theorem dX6_goOn_18 : decode cX6_goOn 18 = .ok (.aload_n 0, 1) := dk_42 (dk_at dksX6_goOn_0 18 rfl rfl)
theorem dX6_goOn_19 : decode cX6_goOn 19 = .ok (.dup, 1) := dk_89 (dk_at dksX6_goOn_0 19 rfl rfl)
theorem dX6_goOn_20 : decode cX6_goOn 20 = .ok (.getfield 180, 3) := dk_180 0 180 (dk_at dksX6_goOn_0 20 rfl rfl)
theorem dX6_goOn_23 : decode cX6_goOn 23 = .ok (.iconst 1, 1) := dk_4 (dk_at dksX6_goOn_0 23 rfl rfl)
theorem dX6_goOn_24 : decode cX6_goOn 24 = .ok (.isub, 1) := dk_100 (dk_at dksX6_goOn_1 0 rfl rfl)
theorem dX6_goOn_25 : decode cX6_goOn 25 = .ok (.putfield 180, 3) := dk_181 0 180 (dk_at dksX6_goOn_1 1 rfl rfl)
theorem dX6_goOn_28 : decode cX6_goOn 28 = .ok (.aload_n 0, 1) := dk_42 (dk_at dksX6_goOn_1 4 rfl rfl)
theorem dX6_goOn_29 : decode cX6_goOn 29 = .ok (.aload_n 0, 1) := dk_42 (dk_at dksX6_goOn_1 5 rfl rfl)
theorem dX6_goOn_30 : decode cX6_goOn 30 = .ok (.getfield 65, 3) := dk_180 0 65 (dk_at dksX6_goOn_1 6 rfl rfl)
theorem dX6_goOn_33 : decode cX6_goOn 33 = .ok (.iload_n 1, 1) := dk_27 (dk_at dksX6_goOn_1 9 rfl rfl)
theorem dX6_goOn_34 : decode cX6_goOn 34 = .ok (.iaload, 1) := dk_46 (dk_at dksX6_goOn_1 10 rfl rfl)
theorem dX6_goOn_35 : decode cX6_goOn 35 = .ok (.invokevirtual 264, 3) := dk_182 1 8 (dk_at dksX6_goOn_1 11 rfl rfl)
theorem dX6_goOn_38 : decode cX6_goOn 38 = .ok (.iconst (-1), 1) := dk_2 (dk_at dksX6_goOn_1 14 rfl rfl)
theorem dX6_goOn_39 : decode cX6_goOn 39 = .ok (.ireturn, 1) := dk_172 (dk_at dksX6_goOn_1 15 rfl rfl)
theorem dX6_goOn_40 : decode cX6_goOn 40 = .ok (.aload_n 0, 1) := dk_42 (dk_at dksX6_goOn_1 16 rfl rfl)
theorem dX6_goOn_41 : decode cX6_goOn 41 = .ok (.invokevirtual 254, 3) := dk_182 0 254 (dk_at dksX6_goOn_1 17 rfl rfl)
theorem dX6_goOn_44 : decode cX6_goOn 44 = .ok (.istore_n 2, 1) := dk_61 (dk_at dksX6_goOn_1 20 rfl rfl)
theorem dX6_goOn_45 : decode cX6_goOn 45 = .ok (.iload_n 2, 1) := dk_28 (dk_at dksX6_goOn_1 21 rfl rfl)
theorem dX6_goOn_46 : decode cX6_goOn 46 = .ok (.iconst (-1), 1) := dk_2 (dk_at dksX6_goOn_1 22 rfl rfl)
theorem dX6_goOn_47 : decode cX6_goOn 47 = .ok (.if_icmp .eq 11, 3) := dk_159 0 11 (dk_at dksX6_goOn_2 0 rfl rfl)
theorem dX6_goOn_50 : decode cX6_goOn 50 = .ok (.aload_n 0, 1) := dk_42 (dk_at dksX6_goOn_2 3 rfl rfl)
theorem dX6_goOn_51 : decode cX6_goOn 51 = .ok (.iload_n 2, 1) := dk_28 (dk_at dksX6_goOn_2 4 rfl rfl)
theorem dX6_goOn_52 : decode cX6_goOn 52 = .ok (.invokevirtual 280, 3) := dk_182 1 24 (dk_at dksX6_goOn_2 5 rfl rfl)
theorem dX6_goOn_55 : decode cX6_goOn 55 = .ok (.ifCond .eq 5, 3) := dk_153 0 5 (dk_at dksX6_goOn_2 8 rfl rfl)
theorem dX6_goOn_58 : decode cX6_goOn 58 = .ok (.iload_n 2, 1) := dk_28 (dk_at dksX6_goOn_2 11 rfl rfl)
theorem dX6_goOn_59 : decode cX6_goOn 59 = .ok (.ireturn, 1) := dk_172 (dk_at dksX6_goOn_2 12 rfl rfl)
theorem dX6_goOn_60 : decode cX6_goOn 60 = .ok (.aload_n 0, 1) := dk_42 (dk_at dksX6_goOn_2 13 rfl rfl)
theorem dX6_goOn_61 : decode cX6_goOn 61 = .ok (.iload_n 2, 1) := dk_28 (dk_at dksX6_goOn_2 14 rfl rfl)
theorem dX6_goOn_62 : decode cX6_goOn 62 = .ok (.invokevirtual 232, 3) := dk_182 0 232 (dk_at dksX6_goOn_2 15 rfl rfl)
theorem dX6_goOn_65 : decode cX6_goOn 65 = .ok (.istore_n 3, 1) := dk_62 (dk_at dksX6_goOn_2 18 rfl rfl)
theorem dX6_goOn_66 : decode cX6_goOn 66 = .ok (.aload_n 0, 1) := dk_42 (dk_at dksX6_goOn_2 19 rfl rfl)
theorem dX6_goOn_67 : decode cX6_goOn 67 = .ok (.getfield 62, 3) := dk_180 0 62 (dk_at dksX6_goOn_2 20 rfl rfl)
theorem dX6_goOn_70 : decode cX6_goOn 70 = .ok (.iload_n 1, 1) := dk_27 (dk_at dksX6_goOn_2 23 rfl rfl)
theorem dX6_goOn_71 : decode cX6_goOn 71 = .ok (.iaload, 1) := dk_46 (dk_at dksX6_goOn_3 0 rfl rfl)
theorem dX6_goOn_72 : decode cX6_goOn 72 = .ok (.bipush 13, 2) := dk_16 13 (dk_at dksX6_goOn_3 1 rfl rfl)
theorem dX6_goOn_74 : decode cX6_goOn 74 = .ok (.if_icmp .ne 94, 3) := dk_160 0 94 (dk_at dksX6_goOn_3 3 rfl rfl)
theorem dX6_goOn_77 : decode cX6_goOn 77 = .ok (.iload_n 3, 1) := dk_29 (dk_at dksX6_goOn_3 6 rfl rfl)
theorem dX6_goOn_78 : decode cX6_goOn 78 = .ok (.sipush 1000, 3) := dk_17 3 232 (dk_at dksX6_goOn_3 7 rfl rfl)
theorem dX6_goOn_81 : decode cX6_goOn 81 = .ok (.if_icmp .ge 9, 3) := dk_162 0 9 (dk_at dksX6_goOn_3 10 rfl rfl)
theorem dX6_goOn_84 : decode cX6_goOn 84 = .ok (.sipush 256, 3) := dk_17 1 0 (dk_at dksX6_goOn_3 13 rfl rfl)
theorem dX6_goOn_87 : decode cX6_goOn 87 = .ok (.goto 12, 3) := dk_167 0 12 (dk_at dksX6_goOn_3 16 rfl rfl)
theorem dX6_goOn_90 : decode cX6_goOn 90 = .ok (.iload_n 3, 1) := dk_29 (dk_at dksX6_goOn_3 19 rfl rfl)
theorem dX6_goOn_91 : decode cX6_goOn 91 = .ok (.sipush 1000, 3) := dk_17 3 232 (dk_at dksX6_goOn_3 20 rfl rfl)
theorem dX6_goOn_94 : decode cX6_goOn 94 = .ok (.isub, 1) := dk_100 (dk_at dksX6_goOn_3 23 rfl rfl)
theorem dX6_goOn_95 : decode cX6_goOn 95 = .ok (.sipush 255, 3) := dk_17 0 255 (dk_at dksX6_goOn_4 0 rfl rfl)
theorem dX6_goOn_98 : decode cX6_goOn 98 = .ok (.iand, 1) := dk_126 (dk_at dksX6_goOn_4 3 rfl rfl)
theorem dX6_goOn_99 : decode cX6_goOn 99 = .ok (.istore 4, 2) := dk_54 4 (dk_at dksX6_goOn_4 4 rfl rfl)
theorem dX6_goOn_101 : decode cX6_goOn 101 = .ok (.aload_n 0, 1) := dk_42 (dk_at dksX6_goOn_4 6 rfl rfl)
theorem dX6_goOn_102 : decode cX6_goOn 102 = .ok (.getfield 68, 3) := dk_180 0 68 (dk_at dksX6_goOn_4 7 rfl rfl)
theorem dX6_goOn_105 : decode cX6_goOn 105 = .ok (.iload_n 1, 1) := dk_27 (dk_at dksX6_goOn_4 10 rfl rfl)
theorem dX6_goOn_106 : decode cX6_goOn 106 = .ok (.dup2, 1) := dk_92 (dk_at dksX6_goOn_4 11 rfl rfl)
theorem dX6_goOn_107 : decode cX6_goOn 107 = .ok (.iaload, 1) := dk_46 (dk_at dksX6_goOn_4 12 rfl rfl)
theorem dX6_goOn_108 : decode cX6_goOn 108 = .ok (.iconst 1, 1) := dk_4 (dk_at dksX6_goOn_4 13 rfl rfl)
theorem dX6_goOn_109 : decode cX6_goOn 109 = .ok (.iadd, 1) := dk_96 (dk_at dksX6_goOn_4 14 rfl rfl)
theorem dX6_goOn_110 : decode cX6_goOn 110 = .ok (.iastore, 1) := dk_79 (dk_at dksX6_goOn_4 15 rfl rfl)
theorem dX6_goOn_111 : decode cX6_goOn 111 = .ok (.aload_n 0, 1) := dk_42 (dk_at dksX6_goOn_4 16 rfl rfl)
theorem dX6_goOn_112 : decode cX6_goOn 112 = .ok (.getfield 68, 3) := dk_180 0 68 (dk_at dksX6_goOn_4 17 rfl rfl)
theorem dX6_goOn_115 : decode cX6_goOn 115 = .ok (.iload_n 1, 1) := dk_27 (dk_at dksX6_goOn_4 20 rfl rfl)
theorem dX6_goOn_116 : decode cX6_goOn 116 = .ok (.iaload, 1) := dk_46 (dk_at dksX6_goOn_4 21 rfl rfl)
theorem dX6_goOn_117 : decode cX6_goOn 117 = .ok (.iconst 2, 1) := dk_5 (dk_at dksX6_goOn_4 22 rfl rfl)
theorem dX6_goOn_118 : decode cX6_goOn 118 = .ok (.if_icmp .ne 39, 3) := dk_160 0 39 (dk_at dksX6_goOn_5 0 rfl rfl)
theorem dX6_goOn_121 : decode cX6_goOn 121 = .ok (.aload_n 0, 1) := dk_42 (dk_at dksX6_goOn_5 3 rfl rfl)
theorem dX6_goOn_122 : decode cX6_goOn 122 = .ok (.dup, 1) := dk_89 (dk_at dksX6_goOn_5 4 rfl rfl)
theorem dX6_goOn_123 : decode cX6_goOn 123 = .ok (.getfield 180, 3) := dk_180 0 180 (dk_at dksX6_goOn_5 5 rfl rfl)
theorem dX6_goOn_126 : decode cX6_goOn 126 = .ok (.iconst 1, 1) := dk_4 (dk_at dksX6_goOn_5 8 rfl rfl)
theorem dX6_goOn_127 : decode cX6_goOn 127 = .ok (.isub, 1) := dk_100 (dk_at dksX6_goOn_5 9 rfl rfl)
theorem dX6_goOn_128 : decode cX6_goOn 128 = .ok (.putfield 180, 3) := dk_181 0 180 (dk_at dksX6_goOn_5 10 rfl rfl)
theorem dX6_goOn_131 : decode cX6_goOn 131 = .ok (.aload_n 0, 1) := dk_42 (dk_at dksX6_goOn_5 13 rfl rfl)
theorem dX6_goOn_132 : decode cX6_goOn 132 = .ok (.aload_n 0, 1) := dk_42 (dk_at dksX6_goOn_5 14 rfl rfl)
theorem dX6_goOn_133 : decode cX6_goOn 133 = .ok (.getfield 71, 3) := dk_180 0 71 (dk_at dksX6_goOn_5 15 rfl rfl)
theorem dX6_goOn_136 : decode cX6_goOn 136 = .ok (.iload_n 1, 1) := dk_27 (dk_at dksX6_goOn_5 18 rfl rfl)
theorem dX6_goOn_137 : decode cX6_goOn 137 = .ok (.iaload, 1) := dk_46 (dk_at dksX6_goOn_5 19 rfl rfl)
theorem dX6_goOn_138 : decode cX6_goOn 138 = .ok (.iload 4, 2) := dk_21 4 (dk_at dksX6_goOn_5 20 rfl rfl)
theorem dX6_goOn_140 : decode cX6_goOn 140 = .ok (.aload_n 0, 1) := dk_42 (dk_at dksX6_goOn_5 22 rfl rfl)
theorem dX6_goOn_141 : decode cX6_goOn 141 = .ok (.getfield 65, 3) := dk_180 0 65 (dk_at dksX6_goOn_6 0 rfl rfl)
theorem dX6_goOn_144 : decode cX6_goOn 144 = .ok (.iload_n 1, 1) := dk_27 (dk_at dksX6_goOn_6 3 rfl rfl)
theorem dX6_goOn_145 : decode cX6_goOn 145 = .ok (.iaload, 1) := dk_46 (dk_at dksX6_goOn_6 4 rfl rfl)
theorem dX6_goOn_146 : decode cX6_goOn 146 = .ok (.if_icmp .ne 7, 3) := dk_160 0 7 (dk_at dksX6_goOn_6 5 rfl rfl)
theorem dX6_goOn_149 : decode cX6_goOn 149 = .ok (.iconst 1, 1) := dk_4 (dk_at dksX6_goOn_6 8 rfl rfl)
theorem dX6_goOn_150 : decode cX6_goOn 150 = .ok (.goto 4, 3) := dk_167 0 4 (dk_at dksX6_goOn_6 9 rfl rfl)
theorem dX6_goOn_153 : decode cX6_goOn 153 = .ok (.iconst 0, 1) := dk_3 (dk_at dksX6_goOn_6 12 rfl rfl)
theorem dX6_goOn_154 : decode cX6_goOn 154 = .ok (.invokevirtual 302, 3) := dk_182 1 46 (dk_at dksX6_goOn_6 13 rfl rfl)
theorem dX6_goOn_157 : decode cX6_goOn 157 = .ok (.aload_n 0, 1) := dk_42 (dk_at dksX6_goOn_6 16 rfl rfl)
theorem dX6_goOn_158 : decode cX6_goOn 158 = .ok (.getfield 65, 3) := dk_180 0 65 (dk_at dksX6_goOn_6 17 rfl rfl)
theorem dX6_goOn_161 : decode cX6_goOn 161 = .ok (.iload_n 1, 1) := dk_27 (dk_at dksX6_goOn_6 20 rfl rfl)
theorem dX6_goOn_162 : decode cX6_goOn 162 = .ok (.iload 4, 2) := dk_21 4 (dk_at dksX6_goOn_6 21 rfl rfl)
theorem dX6_goOn_164 : decode cX6_goOn 164 = .ok (.iastore, 1) := dk_79 (dk_at dksX6_goOn_6 23 rfl rfl)
theorem dX6_goOn_165 : decode cX6_goOn 165 = .ok (.goto 88, 3) := dk_167 0 88 (dk_at dksX6_goOn_7 0 rfl rfl)
theorem dX6_goOn_168 : decode cX6_goOn 168 = .ok (.iload_n 3, 1) := dk_29 (dk_at dksX6_goOn_7 3 rfl rfl)
theorem dX6_goOn_169 : decode cX6_goOn 169 = .ok (.bipush 11, 2) := dk_16 11 (dk_at dksX6_goOn_7 4 rfl rfl)
theorem dX6_goOn_171 : decode cX6_goOn 171 = .ok (.if_icmp .ne 21, 3) := dk_160 0 21 (dk_at dksX6_goOn_7 6 rfl rfl)
theorem dX6_goOn_174 : decode cX6_goOn 174 = .ok (.aload_n 0, 1) := dk_42 (dk_at dksX6_goOn_7 9 rfl rfl)
theorem dX6_goOn_175 : decode cX6_goOn 175 = .ok (.dup, 1) := dk_89 (dk_at dksX6_goOn_7 10 rfl rfl)
theorem dX6_goOn_176 : decode cX6_goOn 176 = .ok (.getfield 180, 3) := dk_180 0 180 (dk_at dksX6_goOn_7 11 rfl rfl)
theorem dX6_goOn_179 : decode cX6_goOn 179 = .ok (.iconst 1, 1) := dk_4 (dk_at dksX6_goOn_7 14 rfl rfl)
theorem dX6_goOn_180 : decode cX6_goOn 180 = .ok (.isub, 1) := dk_100 (dk_at dksX6_goOn_7 15 rfl rfl)
theorem dX6_goOn_181 : decode cX6_goOn 181 = .ok (.putfield 180, 3) := dk_181 0 180 (dk_at dksX6_goOn_7 16 rfl rfl)
theorem dX6_goOn_184 : decode cX6_goOn 184 = .ok (.aload_n 0, 1) := dk_42 (dk_at dksX6_goOn_7 19 rfl rfl)
theorem dX6_goOn_185 : decode cX6_goOn 185 = .ok (.iload_n 1, 1) := dk_27 (dk_at dksX6_goOn_7 20 rfl rfl)
theorem dX6_goOn_186 : decode cX6_goOn 186 = .ok (.invokevirtual 306, 3) := dk_182 1 50 (dk_at dksX6_goOn_7 21 rfl rfl)
theorem dX6_goOn_189 : decode cX6_goOn 189 = .ok (.goto 64, 3) := dk_167 0 64 (dk_at dksX6_goOn_8 0 rfl rfl)
theorem dX6_goOn_192 : decode cX6_goOn 192 = .ok (.iload_n 2, 1) := dk_28 (dk_at dksX6_goOn_8 3 rfl rfl)
theorem dX6_goOn_193 : decode cX6_goOn 193 = .ok (.sipush 4096, 3) := dk_17 16 0 (dk_at dksX6_goOn_8 4 rfl rfl)
theorem dX6_goOn_196 : decode cX6_goOn 196 = .ok (.if_icmp .lt 9, 3) := dk_161 0 9 (dk_at dksX6_goOn_8 7 rfl rfl)
theorem dX6_goOn_199 : decode cX6_goOn 199 = .ok (.aload_n 0, 1) := dk_42 (dk_at dksX6_goOn_8 10 rfl rfl)
theorem dX6_goOn_200 : decode cX6_goOn 200 = .ok (.iconst 4, 1) := dk_7 (dk_at dksX6_goOn_8 11 rfl rfl)
theorem dX6_goOn_201 : decode cX6_goOn 201 = .ok (.invokevirtual 205, 3) := dk_182 0 205 (dk_at dksX6_goOn_8 12 rfl rfl)
theorem dX6_goOn_204 : decode cX6_goOn 204 = .ok (.ireturn, 1) := dk_172 (dk_at dksX6_goOn_8 15 rfl rfl)
theorem dX6_goOn_205 : decode cX6_goOn 205 = .ok (.aload_n 0, 1) := dk_42 (dk_at dksX6_goOn_8 16 rfl rfl)
theorem dX6_goOn_206 : decode cX6_goOn 206 = .ok (.getfield 68, 3) := dk_180 0 68 (dk_at dksX6_goOn_8 17 rfl rfl)
theorem dX6_goOn_209 : decode cX6_goOn 209 = .ok (.iload_n 1, 1) := dk_27 (dk_at dksX6_goOn_8 20 rfl rfl)
theorem dX6_goOn_210 : decode cX6_goOn 210 = .ok (.iaload, 1) := dk_46 (dk_at dksX6_goOn_8 21 rfl rfl)
theorem dX6_goOn_211 : decode cX6_goOn 211 = .ok (.bipush 11, 2) := dk_16 11 (dk_at dksX6_goOn_8 22 rfl rfl)
theorem dX6_goOn_213 : decode cX6_goOn 213 = .ok (.if_icmp .ne 9, 3) := dk_160 0 9 (dk_at dksX6_goOn_9 0 rfl rfl)
theorem dX6_goOn_216 : decode cX6_goOn 216 = .ok (.aload_n 0, 1) := dk_42 (dk_at dksX6_goOn_9 3 rfl rfl)
theorem dX6_goOn_217 : decode cX6_goOn 217 = .ok (.iconst 5, 1) := dk_8 (dk_at dksX6_goOn_9 4 rfl rfl)
theorem dX6_goOn_218 : decode cX6_goOn 218 = .ok (.invokevirtual 205, 3) := dk_182 0 205 (dk_at dksX6_goOn_9 5 rfl rfl)
theorem dX6_goOn_221 : decode cX6_goOn 221 = .ok (.ireturn, 1) := dk_172 (dk_at dksX6_goOn_9 8 rfl rfl)
theorem dX6_goOn_222 : decode cX6_goOn 222 = .ok (.aload_n 0, 1) := dk_42 (dk_at dksX6_goOn_9 9 rfl rfl)
theorem dX6_goOn_223 : decode cX6_goOn 223 = .ok (.getfield 74, 3) := dk_180 0 74 (dk_at dksX6_goOn_9 10 rfl rfl)
theorem dX6_goOn_226 : decode cX6_goOn 226 = .ok (.bipush 12, 2) := dk_16 12 (dk_at dksX6_goOn_9 13 rfl rfl)
theorem dX6_goOn_228 : decode cX6_goOn 228 = .ok (.iload_n 1, 1) := dk_27 (dk_at dksX6_goOn_9 15 rfl rfl)
theorem dX6_goOn_229 : decode cX6_goOn 229 = .ok (.imul, 1) := dk_104 (dk_at dksX6_goOn_9 16 rfl rfl)
theorem dX6_goOn_230 : decode cX6_goOn 230 = .ok (.aload_n 0, 1) := dk_42 (dk_at dksX6_goOn_9 17 rfl rfl)
theorem dX6_goOn_231 : decode cX6_goOn 231 = .ok (.getfield 68, 3) := dk_180 0 68 (dk_at dksX6_goOn_9 18 rfl rfl)
theorem dX6_goOn_234 : decode cX6_goOn 234 = .ok (.iload_n 1, 1) := dk_27 (dk_at dksX6_goOn_9 21 rfl rfl)
theorem dX6_goOn_235 : decode cX6_goOn 235 = .ok (.iaload, 1) := dk_46 (dk_at dksX6_goOn_9 22 rfl rfl)
theorem dX6_goOn_236 : decode cX6_goOn 236 = .ok (.iadd, 1) := dk_96 (dk_at dksX6_goOn_9 23 rfl rfl)
theorem dX6_goOn_237 : decode cX6_goOn 237 = .ok (.iload_n 2, 1) := dk_28 (dk_at dksX6_goOn_10 0 rfl rfl)
theorem dX6_goOn_238 : decode cX6_goOn 238 = .ok (.sipush 255, 3) := dk_17 0 255 (dk_at dksX6_goOn_10 1 rfl rfl)
theorem dX6_goOn_241 : decode cX6_goOn 241 = .ok (.iand, 1) := dk_126 (dk_at dksX6_goOn_10 4 rfl rfl)
theorem dX6_goOn_242 : decode cX6_goOn 242 = .ok (.iastore, 1) := dk_79 (dk_at dksX6_goOn_10 5 rfl rfl)
theorem dX6_goOn_243 : decode cX6_goOn 243 = .ok (.aload_n 0, 1) := dk_42 (dk_at dksX6_goOn_10 6 rfl rfl)
theorem dX6_goOn_244 : decode cX6_goOn 244 = .ok (.getfield 68, 3) := dk_180 0 68 (dk_at dksX6_goOn_10 7 rfl rfl)
theorem dX6_goOn_247 : decode cX6_goOn 247 = .ok (.iload_n 1, 1) := dk_27 (dk_at dksX6_goOn_10 10 rfl rfl)
theorem dX6_goOn_248 : decode cX6_goOn 248 = .ok (.dup2, 1) := dk_92 (dk_at dksX6_goOn_10 11 rfl rfl)
theorem dX6_goOn_249 : decode cX6_goOn 249 = .ok (.iaload, 1) := dk_46 (dk_at dksX6_goOn_10 12 rfl rfl)
theorem dX6_goOn_250 : decode cX6_goOn 250 = .ok (.iconst 1, 1) := dk_4 (dk_at dksX6_goOn_10 13 rfl rfl)
theorem dX6_goOn_251 : decode cX6_goOn 251 = .ok (.iadd, 1) := dk_96 (dk_at dksX6_goOn_10 14 rfl rfl)
theorem dX6_goOn_252 : decode cX6_goOn 252 = .ok (.iastore, 1) := dk_79 (dk_at dksX6_goOn_10 15 rfl rfl)
theorem dX6_goOn_253 : decode cX6_goOn 253 = .ok (.iconst (-1), 1) := dk_2 (dk_at dksX6_goOn_10 16 rfl rfl)
theorem dX6_goOn_254 : decode cX6_goOn 254 = .ok (.ireturn, 1) := dk_172 (dk_at dksX6_goOn_10 17 rfl rfl)
abbrev cX6_spelled : ByteArray := prog_10_method_43_code
def yX6_spelled : MethodName := ⟨RX6, "spelled", "(I)V"⟩
def dkwX6_spelled_4 : List UInt8 := [154, 0, 8, 42, 28, 182, 1, 8, 177]
abbrev dktX6_spelled_4 : List UInt8 := dkwX6_spelled_4 ++ []
def dkwX6_spelled_3 : List UInt8 := [17, 16, 0, 100, 46, 154, 0, 13, 42, 28, 17, 16, 0, 100, 5, 182, 1, 53, 42, 180, 0, 159]
abbrev dktX6_spelled_3 : List UInt8 := dkwX6_spelled_3 ++ dktX6_spelled_4
def dkwX6_spelled_2 : List UInt8 := [132, 2, 1, 167, 255, 228, 42, 3, 182, 0, 213, 61, 28, 2, 159, 0, 26, 42, 180, 0, 29, 28]
abbrev dktX6_spelled_2 : List UInt8 := dkwX6_spelled_2 ++ dktX6_spelled_3
def dkwX6_spelled_1 : List UInt8 := [42, 180, 0, 68, 27, 46, 162, 0, 24, 42, 42, 180, 0, 74, 16, 12, 27, 104, 28, 96, 46, 182, 0, 209]
abbrev dktX6_spelled_1 : List UInt8 := dkwX6_spelled_1 ++ dktX6_spelled_2
def dkwX6_spelled_0 : List UInt8 := [42, 180, 0, 68, 27, 46, 154, 0, 10, 42, 7, 182, 0, 205, 61, 177, 42, 3, 181, 0, 198, 3, 61, 28]
abbrev dktX6_spelled_0 : List UInt8 := dkwX6_spelled_0 ++ dktX6_spelled_1
theorem dksX6_spelled_0 : cX6_spelled.data.toList.drop 0 = dktX6_spelled_0 := by decide +kernel
theorem dksX6_spelled_1 : cX6_spelled.data.toList.drop 24 = dktX6_spelled_1 := dk_seg dksX6_spelled_0 24 rfl rfl
theorem dksX6_spelled_2 : cX6_spelled.data.toList.drop 48 = dktX6_spelled_2 := dk_seg dksX6_spelled_1 24 rfl rfl
theorem dksX6_spelled_3 : cX6_spelled.data.toList.drop 70 = dktX6_spelled_3 := dk_seg dksX6_spelled_2 22 rfl rfl
theorem dksX6_spelled_4 : cX6_spelled.data.toList.drop 92 = dktX6_spelled_4 := dk_seg dksX6_spelled_3 22 rfl rfl
theorem dX6_spelled_0 : decode cX6_spelled 0 = .ok (.aload_n 0, 1) := dk_42 (dk_at dksX6_spelled_0 0 rfl rfl)
theorem dX6_spelled_1 : decode cX6_spelled 1 = .ok (.getfield 68, 3) := dk_180 0 68 (dk_at dksX6_spelled_0 1 rfl rfl)
theorem dX6_spelled_4 : decode cX6_spelled 4 = .ok (.iload_n 1, 1) := dk_27 (dk_at dksX6_spelled_0 4 rfl rfl)
theorem dX6_spelled_5 : decode cX6_spelled 5 = .ok (.iaload, 1) := dk_46 (dk_at dksX6_spelled_0 5 rfl rfl)
theorem dX6_spelled_6 : decode cX6_spelled 6 = .ok (.ifCond .ne 10, 3) := dk_154 0 10 (dk_at dksX6_spelled_0 6 rfl rfl)
theorem dX6_spelled_9 : decode cX6_spelled 9 = .ok (.aload_n 0, 1) := dk_42 (dk_at dksX6_spelled_0 9 rfl rfl)
theorem dX6_spelled_10 : decode cX6_spelled 10 = .ok (.iconst 4, 1) := dk_7 (dk_at dksX6_spelled_0 10 rfl rfl)
theorem dX6_spelled_11 : decode cX6_spelled 11 = .ok (.invokevirtual 205, 3) := dk_182 0 205 (dk_at dksX6_spelled_0 11 rfl rfl)
theorem dX6_spelled_14 : decode cX6_spelled 14 = .ok (.istore_n 2, 1) := dk_61 (dk_at dksX6_spelled_0 14 rfl rfl)
theorem dX6_spelled_15 : decode cX6_spelled 15 = .ok (.return_, 1) := dk_177 (dk_at dksX6_spelled_0 15 rfl rfl)
theorem dX6_spelled_16 : decode cX6_spelled 16 = .ok (.aload_n 0, 1) := dk_42 (dk_at dksX6_spelled_0 16 rfl rfl)
theorem dX6_spelled_17 : decode cX6_spelled 17 = .ok (.iconst 0, 1) := dk_3 (dk_at dksX6_spelled_0 17 rfl rfl)
theorem dX6_spelled_18 : decode cX6_spelled 18 = .ok (.putfield 198, 3) := dk_181 0 198 (dk_at dksX6_spelled_0 18 rfl rfl)
theorem dX6_spelled_21 : decode cX6_spelled 21 = .ok (.iconst 0, 1) := dk_3 (dk_at dksX6_spelled_0 21 rfl rfl)
theorem dX6_spelled_22 : decode cX6_spelled 22 = .ok (.istore_n 2, 1) := dk_61 (dk_at dksX6_spelled_0 22 rfl rfl)
theorem dX6_spelled_23 : decode cX6_spelled 23 = .ok (.iload_n 2, 1) := dk_28 (dk_at dksX6_spelled_0 23 rfl rfl)
theorem dX6_spelled_24 : decode cX6_spelled 24 = .ok (.aload_n 0, 1) := dk_42 (dk_at dksX6_spelled_1 0 rfl rfl)
theorem dX6_spelled_25 : decode cX6_spelled 25 = .ok (.getfield 68, 3) := dk_180 0 68 (dk_at dksX6_spelled_1 1 rfl rfl)
theorem dX6_spelled_28 : decode cX6_spelled 28 = .ok (.iload_n 1, 1) := dk_27 (dk_at dksX6_spelled_1 4 rfl rfl)
theorem dX6_spelled_29 : decode cX6_spelled 29 = .ok (.iaload, 1) := dk_46 (dk_at dksX6_spelled_1 5 rfl rfl)
theorem dX6_spelled_30 : decode cX6_spelled 30 = .ok (.if_icmp .ge 24, 3) := dk_162 0 24 (dk_at dksX6_spelled_1 6 rfl rfl)
theorem dX6_spelled_33 : decode cX6_spelled 33 = .ok (.aload_n 0, 1) := dk_42 (dk_at dksX6_spelled_1 9 rfl rfl)
theorem dX6_spelled_34 : decode cX6_spelled 34 = .ok (.aload_n 0, 1) := dk_42 (dk_at dksX6_spelled_1 10 rfl rfl)
theorem dX6_spelled_35 : decode cX6_spelled 35 = .ok (.getfield 74, 3) := dk_180 0 74 (dk_at dksX6_spelled_1 11 rfl rfl)
theorem dX6_spelled_38 : decode cX6_spelled 38 = .ok (.bipush 12, 2) := dk_16 12 (dk_at dksX6_spelled_1 14 rfl rfl)
theorem dX6_spelled_40 : decode cX6_spelled 40 = .ok (.iload_n 1, 1) := dk_27 (dk_at dksX6_spelled_1 16 rfl rfl)
theorem dX6_spelled_41 : decode cX6_spelled 41 = .ok (.imul, 1) := dk_104 (dk_at dksX6_spelled_1 17 rfl rfl)
theorem dX6_spelled_42 : decode cX6_spelled 42 = .ok (.iload_n 2, 1) := dk_28 (dk_at dksX6_spelled_1 18 rfl rfl)
theorem dX6_spelled_43 : decode cX6_spelled 43 = .ok (.iadd, 1) := dk_96 (dk_at dksX6_spelled_1 19 rfl rfl)
theorem dX6_spelled_44 : decode cX6_spelled 44 = .ok (.iaload, 1) := dk_46 (dk_at dksX6_spelled_1 20 rfl rfl)
theorem dX6_spelled_45 : decode cX6_spelled 45 = .ok (.invokevirtual 209, 3) := dk_182 0 209 (dk_at dksX6_spelled_1 21 rfl rfl)
theorem dX6_spelled_48 : decode cX6_spelled 48 = .ok (.iinc 2 1, 3) := dk_132 2 1 (dk_at dksX6_spelled_2 0 rfl rfl)
theorem dX6_spelled_51 : decode cX6_spelled 51 = .ok (.goto (-28), 3) := dk_167 255 228 (dk_at dksX6_spelled_2 3 rfl rfl)
theorem dX6_spelled_54 : decode cX6_spelled 54 = .ok (.aload_n 0, 1) := dk_42 (dk_at dksX6_spelled_2 6 rfl rfl)
theorem dX6_spelled_55 : decode cX6_spelled 55 = .ok (.iconst 0, 1) := dk_3 (dk_at dksX6_spelled_2 7 rfl rfl)
theorem dX6_spelled_56 : decode cX6_spelled 56 = .ok (.invokevirtual 213, 3) := dk_182 0 213 (dk_at dksX6_spelled_2 8 rfl rfl)
theorem dX6_spelled_59 : decode cX6_spelled 59 = .ok (.istore_n 2, 1) := dk_61 (dk_at dksX6_spelled_2 11 rfl rfl)
theorem dX6_spelled_60 : decode cX6_spelled 60 = .ok (.iload_n 2, 1) := dk_28 (dk_at dksX6_spelled_2 12 rfl rfl)
theorem dX6_spelled_61 : decode cX6_spelled 61 = .ok (.iconst (-1), 1) := dk_2 (dk_at dksX6_spelled_2 13 rfl rfl)
theorem dX6_spelled_62 : decode cX6_spelled 62 = .ok (.if_icmp .eq 26, 3) := dk_159 0 26 (dk_at dksX6_spelled_2 14 rfl rfl)
theorem dX6_spelled_65 : decode cX6_spelled 65 = .ok (.aload_n 0, 1) := dk_42 (dk_at dksX6_spelled_2 17 rfl rfl)
theorem dX6_spelled_66 : decode cX6_spelled 66 = .ok (.getfield 29, 3) := dk_180 0 29 (dk_at dksX6_spelled_2 18 rfl rfl)
theorem dX6_spelled_69 : decode cX6_spelled 69 = .ok (.iload_n 2, 1) := dk_28 (dk_at dksX6_spelled_2 21 rfl rfl)
theorem dX6_spelled_70 : decode cX6_spelled 70 = .ok (.sipush 4096, 3) := dk_17 16 0 (dk_at dksX6_spelled_3 0 rfl rfl)
theorem dX6_spelled_73 : decode cX6_spelled 73 = .ok (.isub, 1) := dk_100 (dk_at dksX6_spelled_3 3 rfl rfl)
theorem dX6_spelled_74 : decode cX6_spelled 74 = .ok (.iaload, 1) := dk_46 (dk_at dksX6_spelled_3 4 rfl rfl)
theorem dX6_spelled_75 : decode cX6_spelled 75 = .ok (.ifCond .ne 13, 3) := dk_154 0 13 (dk_at dksX6_spelled_3 5 rfl rfl)
theorem dX6_spelled_78 : decode cX6_spelled 78 = .ok (.aload_n 0, 1) := dk_42 (dk_at dksX6_spelled_3 8 rfl rfl)
theorem dX6_spelled_79 : decode cX6_spelled 79 = .ok (.iload_n 2, 1) := dk_28 (dk_at dksX6_spelled_3 9 rfl rfl)
theorem dX6_spelled_80 : decode cX6_spelled 80 = .ok (.sipush 4096, 3) := dk_17 16 0 (dk_at dksX6_spelled_3 10 rfl rfl)
theorem dX6_spelled_83 : decode cX6_spelled 83 = .ok (.isub, 1) := dk_100 (dk_at dksX6_spelled_3 13 rfl rfl)
theorem dX6_spelled_84 : decode cX6_spelled 84 = .ok (.iconst 2, 1) := dk_5 (dk_at dksX6_spelled_3 14 rfl rfl)
theorem dX6_spelled_85 : decode cX6_spelled 85 = .ok (.invokevirtual 309, 3) := dk_182 1 53 (dk_at dksX6_spelled_3 15 rfl rfl)
theorem dX6_spelled_88 : decode cX6_spelled 88 = .ok (.aload_n 0, 1) := dk_42 (dk_at dksX6_spelled_3 18 rfl rfl)
theorem dX6_spelled_89 : decode cX6_spelled 89 = .ok (.getfield 159, 3) := dk_180 0 159 (dk_at dksX6_spelled_3 19 rfl rfl)
theorem dX6_spelled_92 : decode cX6_spelled 92 = .ok (.ifCond .ne 8, 3) := dk_154 0 8 (dk_at dksX6_spelled_4 0 rfl rfl)
theorem dX6_spelled_95 : decode cX6_spelled 95 = .ok (.aload_n 0, 1) := dk_42 (dk_at dksX6_spelled_4 3 rfl rfl)
theorem dX6_spelled_96 : decode cX6_spelled 96 = .ok (.iload_n 2, 1) := dk_28 (dk_at dksX6_spelled_4 4 rfl rfl)
theorem dX6_spelled_97 : decode cX6_spelled 97 = .ok (.invokevirtual 264, 3) := dk_182 1 8 (dk_at dksX6_spelled_4 5 rfl rfl)
theorem dX6_spelled_100 : decode cX6_spelled 100 = .ok (.return_, 1) := dk_177 (dk_at dksX6_spelled_4 8 rfl rfl)
abbrev cX6_change : ByteArray := prog_10_method_24_code
def yX6_change : MethodName := ⟨RX6, "change", "(II)V"⟩
def dkwX6_change_7 : List UInt8 := [180, 0, 29, 27, 28, 79, 167, 0, 14, 42, 180, 0, 13, 27, 17, 0, 200, 100, 28, 79, 177]
abbrev dktX6_change_7 : List UInt8 := dkwX6_change_7 ++ []
def dkwX6_change_6 : List UInt8 := [17, 0, 200, 100, 46, 79, 42, 89, 180, 0, 171, 4, 96, 181, 0, 171, 27, 17, 0, 200, 162, 0, 13, 42]
abbrev dktX6_change_6 : List UInt8 := dkwX6_change_6 ++ dktX6_change_7
def dkwX6_change_5 : List UInt8 := [180, 0, 171, 27, 17, 0, 200, 162, 0, 12, 42, 180, 0, 29, 27, 46, 167, 0, 13, 42, 180, 0, 13, 27]
abbrev dktX6_change_5 : List UInt8 := dkwX6_change_5 ++ dktX6_change_6
def dkwX6_change_4 : List UInt8 := [42, 180, 0, 171, 42, 180, 0, 168, 79, 42, 180, 0, 38, 42, 180, 0, 171, 27, 79, 42, 180, 0, 41, 42]
abbrev dktX6_change_4 : List UInt8 := dkwX6_change_4 ++ dktX6_change_5
def dkwX6_change_3 : List UInt8 := [154, 0, 88, 42, 180, 0, 171, 16, 60, 160, 0, 11, 42, 8, 182, 0, 205, 54, 4, 177, 42, 180, 0, 35]
abbrev dktX6_change_3 : List UInt8 := dkwX6_change_3 ++ dktX6_change_4
def dkwX6_change_2 : List UInt8 := [180, 0, 38, 21, 4, 46, 27, 160, 0, 7, 4, 167, 0, 4, 3, 62, 132, 4, 1, 167, 255, 209, 29]
abbrev dktX6_change_2 : List UInt8 := dkwX6_change_2 ++ dktX6_change_3
def dkwX6_change_1 : List UInt8 := [162, 0, 44, 29, 154, 0, 28, 42, 180, 0, 35, 21, 4, 46, 42, 180, 0, 168, 160, 0, 18, 42]
abbrev dktX6_change_1 : List UInt8 := dkwX6_change_1 ++ dktX6_change_2
def dkwX6_change_0 : List UInt8 := [42, 180, 0, 168, 154, 0, 7, 4, 167, 0, 4, 3, 62, 3, 54, 4, 21, 4, 42, 180, 0, 171]
abbrev dktX6_change_0 : List UInt8 := dkwX6_change_0 ++ dktX6_change_1
theorem dksX6_change_0 : cX6_change.data.toList.drop 0 = dktX6_change_0 := by decide +kernel
theorem dksX6_change_1 : cX6_change.data.toList.drop 22 = dktX6_change_1 := dk_seg dksX6_change_0 22 rfl rfl
theorem dksX6_change_2 : cX6_change.data.toList.drop 44 = dktX6_change_2 := dk_seg dksX6_change_1 22 rfl rfl
theorem dksX6_change_3 : cX6_change.data.toList.drop 67 = dktX6_change_3 := dk_seg dksX6_change_2 23 rfl rfl
theorem dksX6_change_4 : cX6_change.data.toList.drop 91 = dktX6_change_4 := dk_seg dksX6_change_3 24 rfl rfl
theorem dksX6_change_5 : cX6_change.data.toList.drop 115 = dktX6_change_5 := dk_seg dksX6_change_4 24 rfl rfl
theorem dksX6_change_6 : cX6_change.data.toList.drop 139 = dktX6_change_6 := dk_seg dksX6_change_5 24 rfl rfl
theorem dksX6_change_7 : cX6_change.data.toList.drop 163 = dktX6_change_7 := dk_seg dksX6_change_6 24 rfl rfl
theorem dX6_change_0 : decode cX6_change 0 = .ok (.aload_n 0, 1) := dk_42 (dk_at dksX6_change_0 0 rfl rfl)
theorem dX6_change_1 : decode cX6_change 1 = .ok (.getfield 168, 3) := dk_180 0 168 (dk_at dksX6_change_0 1 rfl rfl)
theorem dX6_change_4 : decode cX6_change 4 = .ok (.ifCond .ne 7, 3) := dk_154 0 7 (dk_at dksX6_change_0 4 rfl rfl)
theorem dX6_change_7 : decode cX6_change 7 = .ok (.iconst 1, 1) := dk_4 (dk_at dksX6_change_0 7 rfl rfl)
theorem dX6_change_8 : decode cX6_change 8 = .ok (.goto 4, 3) := dk_167 0 4 (dk_at dksX6_change_0 8 rfl rfl)
theorem dX6_change_11 : decode cX6_change 11 = .ok (.iconst 0, 1) := dk_3 (dk_at dksX6_change_0 11 rfl rfl)
theorem dX6_change_12 : decode cX6_change 12 = .ok (.istore_n 3, 1) := dk_62 (dk_at dksX6_change_0 12 rfl rfl)
theorem dX6_change_13 : decode cX6_change 13 = .ok (.iconst 0, 1) := dk_3 (dk_at dksX6_change_0 13 rfl rfl)
theorem dX6_change_14 : decode cX6_change 14 = .ok (.istore 4, 2) := dk_54 4 (dk_at dksX6_change_0 14 rfl rfl)
theorem dX6_change_16 : decode cX6_change 16 = .ok (.iload 4, 2) := dk_21 4 (dk_at dksX6_change_0 16 rfl rfl)
theorem dX6_change_18 : decode cX6_change 18 = .ok (.aload_n 0, 1) := dk_42 (dk_at dksX6_change_0 18 rfl rfl)
theorem dX6_change_19 : decode cX6_change 19 = .ok (.getfield 171, 3) := dk_180 0 171 (dk_at dksX6_change_0 19 rfl rfl)
theorem dX6_change_22 : decode cX6_change 22 = .ok (.if_icmp .ge 44, 3) := dk_162 0 44 (dk_at dksX6_change_1 0 rfl rfl)
theorem dX6_change_25 : decode cX6_change 25 = .ok (.iload_n 3, 1) := dk_29 (dk_at dksX6_change_1 3 rfl rfl)
theorem dX6_change_26 : decode cX6_change 26 = .ok (.ifCond .ne 28, 3) := dk_154 0 28 (dk_at dksX6_change_1 4 rfl rfl)
theorem dX6_change_29 : decode cX6_change 29 = .ok (.aload_n 0, 1) := dk_42 (dk_at dksX6_change_1 7 rfl rfl)
theorem dX6_change_30 : decode cX6_change 30 = .ok (.getfield 35, 3) := dk_180 0 35 (dk_at dksX6_change_1 8 rfl rfl)
theorem dX6_change_33 : decode cX6_change 33 = .ok (.iload 4, 2) := dk_21 4 (dk_at dksX6_change_1 11 rfl rfl)
theorem dX6_change_35 : decode cX6_change 35 = .ok (.iaload, 1) := dk_46 (dk_at dksX6_change_1 13 rfl rfl)
theorem dX6_change_36 : decode cX6_change 36 = .ok (.aload_n 0, 1) := dk_42 (dk_at dksX6_change_1 14 rfl rfl)
theorem dX6_change_37 : decode cX6_change 37 = .ok (.getfield 168, 3) := dk_180 0 168 (dk_at dksX6_change_1 15 rfl rfl)
theorem dX6_change_40 : decode cX6_change 40 = .ok (.if_icmp .ne 18, 3) := dk_160 0 18 (dk_at dksX6_change_1 18 rfl rfl)
theorem dX6_change_43 : decode cX6_change 43 = .ok (.aload_n 0, 1) := dk_42 (dk_at dksX6_change_1 21 rfl rfl)
theorem dX6_change_44 : decode cX6_change 44 = .ok (.getfield 38, 3) := dk_180 0 38 (dk_at dksX6_change_2 0 rfl rfl)
theorem dX6_change_47 : decode cX6_change 47 = .ok (.iload 4, 2) := dk_21 4 (dk_at dksX6_change_2 3 rfl rfl)
theorem dX6_change_49 : decode cX6_change 49 = .ok (.iaload, 1) := dk_46 (dk_at dksX6_change_2 5 rfl rfl)
theorem dX6_change_50 : decode cX6_change 50 = .ok (.iload_n 1, 1) := dk_27 (dk_at dksX6_change_2 6 rfl rfl)
theorem dX6_change_51 : decode cX6_change 51 = .ok (.if_icmp .ne 7, 3) := dk_160 0 7 (dk_at dksX6_change_2 7 rfl rfl)
theorem dX6_change_54 : decode cX6_change 54 = .ok (.iconst 1, 1) := dk_4 (dk_at dksX6_change_2 10 rfl rfl)
theorem dX6_change_55 : decode cX6_change 55 = .ok (.goto 4, 3) := dk_167 0 4 (dk_at dksX6_change_2 11 rfl rfl)
theorem dX6_change_58 : decode cX6_change 58 = .ok (.iconst 0, 1) := dk_3 (dk_at dksX6_change_2 14 rfl rfl)
theorem dX6_change_59 : decode cX6_change 59 = .ok (.istore_n 3, 1) := dk_62 (dk_at dksX6_change_2 15 rfl rfl)
theorem dX6_change_60 : decode cX6_change 60 = .ok (.iinc 4 1, 3) := dk_132 4 1 (dk_at dksX6_change_2 16 rfl rfl)
theorem dX6_change_63 : decode cX6_change 63 = .ok (.goto (-47), 3) := dk_167 255 209 (dk_at dksX6_change_2 19 rfl rfl)
theorem dX6_change_66 : decode cX6_change 66 = .ok (.iload_n 3, 1) := dk_29 (dk_at dksX6_change_2 22 rfl rfl)
theorem dX6_change_67 : decode cX6_change 67 = .ok (.ifCond .ne 88, 3) := dk_154 0 88 (dk_at dksX6_change_3 0 rfl rfl)
theorem dX6_change_70 : decode cX6_change 70 = .ok (.aload_n 0, 1) := dk_42 (dk_at dksX6_change_3 3 rfl rfl)
theorem dX6_change_71 : decode cX6_change 71 = .ok (.getfield 171, 3) := dk_180 0 171 (dk_at dksX6_change_3 4 rfl rfl)
theorem dX6_change_74 : decode cX6_change 74 = .ok (.bipush 60, 2) := dk_16 60 (dk_at dksX6_change_3 7 rfl rfl)
theorem dX6_change_76 : decode cX6_change 76 = .ok (.if_icmp .ne 11, 3) := dk_160 0 11 (dk_at dksX6_change_3 9 rfl rfl)
theorem dX6_change_79 : decode cX6_change 79 = .ok (.aload_n 0, 1) := dk_42 (dk_at dksX6_change_3 12 rfl rfl)
theorem dX6_change_80 : decode cX6_change 80 = .ok (.iconst 5, 1) := dk_8 (dk_at dksX6_change_3 13 rfl rfl)
theorem dX6_change_81 : decode cX6_change 81 = .ok (.invokevirtual 205, 3) := dk_182 0 205 (dk_at dksX6_change_3 14 rfl rfl)
theorem dX6_change_84 : decode cX6_change 84 = .ok (.istore 4, 2) := dk_54 4 (dk_at dksX6_change_3 17 rfl rfl)
theorem dX6_change_86 : decode cX6_change 86 = .ok (.return_, 1) := dk_177 (dk_at dksX6_change_3 19 rfl rfl)
theorem dX6_change_87 : decode cX6_change 87 = .ok (.aload_n 0, 1) := dk_42 (dk_at dksX6_change_3 20 rfl rfl)
theorem dX6_change_88 : decode cX6_change 88 = .ok (.getfield 35, 3) := dk_180 0 35 (dk_at dksX6_change_3 21 rfl rfl)
theorem dX6_change_91 : decode cX6_change 91 = .ok (.aload_n 0, 1) := dk_42 (dk_at dksX6_change_4 0 rfl rfl)
theorem dX6_change_92 : decode cX6_change 92 = .ok (.getfield 171, 3) := dk_180 0 171 (dk_at dksX6_change_4 1 rfl rfl)
theorem dX6_change_95 : decode cX6_change 95 = .ok (.aload_n 0, 1) := dk_42 (dk_at dksX6_change_4 4 rfl rfl)
theorem dX6_change_96 : decode cX6_change 96 = .ok (.getfield 168, 3) := dk_180 0 168 (dk_at dksX6_change_4 5 rfl rfl)
theorem dX6_change_99 : decode cX6_change 99 = .ok (.iastore, 1) := dk_79 (dk_at dksX6_change_4 8 rfl rfl)
theorem dX6_change_100 : decode cX6_change 100 = .ok (.aload_n 0, 1) := dk_42 (dk_at dksX6_change_4 9 rfl rfl)
theorem dX6_change_101 : decode cX6_change 101 = .ok (.getfield 38, 3) := dk_180 0 38 (dk_at dksX6_change_4 10 rfl rfl)
theorem dX6_change_104 : decode cX6_change 104 = .ok (.aload_n 0, 1) := dk_42 (dk_at dksX6_change_4 13 rfl rfl)
theorem dX6_change_105 : decode cX6_change 105 = .ok (.getfield 171, 3) := dk_180 0 171 (dk_at dksX6_change_4 14 rfl rfl)
theorem dX6_change_108 : decode cX6_change 108 = .ok (.iload_n 1, 1) := dk_27 (dk_at dksX6_change_4 17 rfl rfl)
theorem dX6_change_109 : decode cX6_change 109 = .ok (.iastore, 1) := dk_79 (dk_at dksX6_change_4 18 rfl rfl)
theorem dX6_change_110 : decode cX6_change 110 = .ok (.aload_n 0, 1) := dk_42 (dk_at dksX6_change_4 19 rfl rfl)
theorem dX6_change_111 : decode cX6_change 111 = .ok (.getfield 41, 3) := dk_180 0 41 (dk_at dksX6_change_4 20 rfl rfl)
theorem dX6_change_114 : decode cX6_change 114 = .ok (.aload_n 0, 1) := dk_42 (dk_at dksX6_change_4 23 rfl rfl)
theorem dX6_change_115 : decode cX6_change 115 = .ok (.getfield 171, 3) := dk_180 0 171 (dk_at dksX6_change_5 0 rfl rfl)
theorem dX6_change_118 : decode cX6_change 118 = .ok (.iload_n 1, 1) := dk_27 (dk_at dksX6_change_5 3 rfl rfl)
theorem dX6_change_119 : decode cX6_change 119 = .ok (.sipush 200, 3) := dk_17 0 200 (dk_at dksX6_change_5 4 rfl rfl)
theorem dX6_change_122 : decode cX6_change 122 = .ok (.if_icmp .ge 12, 3) := dk_162 0 12 (dk_at dksX6_change_5 7 rfl rfl)
theorem dX6_change_125 : decode cX6_change 125 = .ok (.aload_n 0, 1) := dk_42 (dk_at dksX6_change_5 10 rfl rfl)
theorem dX6_change_126 : decode cX6_change 126 = .ok (.getfield 29, 3) := dk_180 0 29 (dk_at dksX6_change_5 11 rfl rfl)
theorem dX6_change_129 : decode cX6_change 129 = .ok (.iload_n 1, 1) := dk_27 (dk_at dksX6_change_5 14 rfl rfl)
theorem dX6_change_130 : decode cX6_change 130 = .ok (.iaload, 1) := dk_46 (dk_at dksX6_change_5 15 rfl rfl)
theorem dX6_change_131 : decode cX6_change 131 = .ok (.goto 13, 3) := dk_167 0 13 (dk_at dksX6_change_5 16 rfl rfl)
theorem dX6_change_134 : decode cX6_change 134 = .ok (.aload_n 0, 1) := dk_42 (dk_at dksX6_change_5 19 rfl rfl)
theorem dX6_change_135 : decode cX6_change 135 = .ok (.getfield 13, 3) := dk_180 0 13 (dk_at dksX6_change_5 20 rfl rfl)
theorem dX6_change_138 : decode cX6_change 138 = .ok (.iload_n 1, 1) := dk_27 (dk_at dksX6_change_5 23 rfl rfl)
theorem dX6_change_139 : decode cX6_change 139 = .ok (.sipush 200, 3) := dk_17 0 200 (dk_at dksX6_change_6 0 rfl rfl)
theorem dX6_change_142 : decode cX6_change 142 = .ok (.isub, 1) := dk_100 (dk_at dksX6_change_6 3 rfl rfl)
theorem dX6_change_143 : decode cX6_change 143 = .ok (.iaload, 1) := dk_46 (dk_at dksX6_change_6 4 rfl rfl)
theorem dX6_change_144 : decode cX6_change 144 = .ok (.iastore, 1) := dk_79 (dk_at dksX6_change_6 5 rfl rfl)
theorem dX6_change_145 : decode cX6_change 145 = .ok (.aload_n 0, 1) := dk_42 (dk_at dksX6_change_6 6 rfl rfl)
theorem dX6_change_146 : decode cX6_change 146 = .ok (.dup, 1) := dk_89 (dk_at dksX6_change_6 7 rfl rfl)
theorem dX6_change_147 : decode cX6_change 147 = .ok (.getfield 171, 3) := dk_180 0 171 (dk_at dksX6_change_6 8 rfl rfl)
theorem dX6_change_150 : decode cX6_change 150 = .ok (.iconst 1, 1) := dk_4 (dk_at dksX6_change_6 11 rfl rfl)
theorem dX6_change_151 : decode cX6_change 151 = .ok (.iadd, 1) := dk_96 (dk_at dksX6_change_6 12 rfl rfl)
theorem dX6_change_152 : decode cX6_change 152 = .ok (.putfield 171, 3) := dk_181 0 171 (dk_at dksX6_change_6 13 rfl rfl)
theorem dX6_change_155 : decode cX6_change 155 = .ok (.iload_n 1, 1) := dk_27 (dk_at dksX6_change_6 16 rfl rfl)
theorem dX6_change_156 : decode cX6_change 156 = .ok (.sipush 200, 3) := dk_17 0 200 (dk_at dksX6_change_6 17 rfl rfl)
theorem dX6_change_159 : decode cX6_change 159 = .ok (.if_icmp .ge 13, 3) := dk_162 0 13 (dk_at dksX6_change_6 20 rfl rfl)
theorem dX6_change_162 : decode cX6_change 162 = .ok (.aload_n 0, 1) := dk_42 (dk_at dksX6_change_6 23 rfl rfl)
theorem dX6_change_163 : decode cX6_change 163 = .ok (.getfield 29, 3) := dk_180 0 29 (dk_at dksX6_change_7 0 rfl rfl)
theorem dX6_change_166 : decode cX6_change 166 = .ok (.iload_n 1, 1) := dk_27 (dk_at dksX6_change_7 3 rfl rfl)
theorem dX6_change_167 : decode cX6_change 167 = .ok (.iload_n 2, 1) := dk_28 (dk_at dksX6_change_7 4 rfl rfl)
theorem dX6_change_168 : decode cX6_change 168 = .ok (.iastore, 1) := dk_79 (dk_at dksX6_change_7 5 rfl rfl)
theorem dX6_change_169 : decode cX6_change 169 = .ok (.goto 14, 3) := dk_167 0 14 (dk_at dksX6_change_7 6 rfl rfl)
theorem dX6_change_172 : decode cX6_change 172 = .ok (.aload_n 0, 1) := dk_42 (dk_at dksX6_change_7 9 rfl rfl)
theorem dX6_change_173 : decode cX6_change 173 = .ok (.getfield 13, 3) := dk_180 0 13 (dk_at dksX6_change_7 10 rfl rfl)
theorem dX6_change_176 : decode cX6_change 176 = .ok (.iload_n 1, 1) := dk_27 (dk_at dksX6_change_7 13 rfl rfl)
theorem dX6_change_177 : decode cX6_change 177 = .ok (.sipush 200, 3) := dk_17 0 200 (dk_at dksX6_change_7 14 rfl rfl)
theorem dX6_change_180 : decode cX6_change 180 = .ok (.isub, 1) := dk_100 (dk_at dksX6_change_7 17 rfl rfl)
theorem dX6_change_181 : decode cX6_change 181 = .ok (.iload_n 2, 1) := dk_28 (dk_at dksX6_change_7 18 rfl rfl)
theorem dX6_change_182 : decode cX6_change 182 = .ok (.iastore, 1) := dk_79 (dk_at dksX6_change_7 19 rfl rfl)
theorem dX6_change_183 : decode cX6_change 183 = .ok (.return_, 1) := dk_177 (dk_at dksX6_change_7 20 rfl rfl)
abbrev cX6_act : ByteArray := prog_10_method_54_code
def yX6_act : MethodName := ⟨RX6, "act", "(I)V"⟩
def dkwX6_act_7 : List UInt8 := [182, 1, 93, 177]
abbrev dktX6_act_7 : List UInt8 := dkwX6_act_7 ++ []
def dkwX6_act_6 : List UInt8 := [167, 0, 26, 28, 16, 7, 160, 0, 10, 42, 182, 1, 90, 167, 0, 13, 28, 5, 159, 0, 8, 42, 28]
abbrev dktX6_act_6 : List UInt8 := dkwX6_act_6 ++ dktX6_act_7
def dkwX6_act_5 : List UInt8 := [160, 0, 13, 42, 17, 16, 0, 182, 1, 84, 167, 0, 39, 28, 16, 6, 160, 0, 10, 42, 182, 1, 87]
abbrev dktX6_act_5 : List UInt8 := dkwX6_act_5 ++ dktX6_act_6
def dkwX6_act_4 : List UInt8 := [16, 11, 160, 0, 20, 42, 28, 154, 0, 7, 5, 167, 0, 4, 4, 182, 0, 205, 62, 167, 0, 54, 28, 4]
abbrev dktX6_act_4 : List UInt8 := dkwX6_act_4 ++ dktX6_act_5
def dkwX6_act_3 : List UInt8 := [153, 0, 10, 42, 182, 1, 81, 167, 0, 8, 42, 29, 182, 1, 84, 167, 0, 81, 28, 153, 0, 9, 28]
abbrev dktX6_act_3 : List UInt8 := dkwX6_act_3 ++ dktX6_act_4
def dkwX6_act_2 : List UInt8 := [180, 0, 168, 4, 100, 181, 0, 168, 42, 8, 182, 0, 205, 54, 4, 167, 0, 23, 29, 5, 184, 0, 238]
abbrev dktX6_act_2 : List UInt8 := dkwX6_act_2 ++ dktX6_act_3
def dkwX6_act_1 : List UInt8 := [153, 0, 42, 42, 89, 180, 0, 168, 4, 96, 181, 0, 168, 42, 180, 0, 168, 16, 30, 164, 0, 43, 42, 89]
abbrev dktX6_act_1 : List UInt8 := dkwX6_act_1 ++ dktX6_act_2
def dkwX6_act_0 : List UInt8 := [42, 27, 182, 0, 232, 61, 28, 17, 3, 232, 161, 0, 79, 28, 17, 3, 232, 100, 62, 29, 4, 184, 0, 238]
abbrev dktX6_act_0 : List UInt8 := dkwX6_act_0 ++ dktX6_act_1
theorem dksX6_act_0 : cX6_act.data.toList.drop 0 = dktX6_act_0 := by decide +kernel
theorem dksX6_act_1 : cX6_act.data.toList.drop 24 = dktX6_act_1 := dk_seg dksX6_act_0 24 rfl rfl
theorem dksX6_act_2 : cX6_act.data.toList.drop 48 = dktX6_act_2 := dk_seg dksX6_act_1 24 rfl rfl
theorem dksX6_act_3 : cX6_act.data.toList.drop 71 = dktX6_act_3 := dk_seg dksX6_act_2 23 rfl rfl
theorem dksX6_act_4 : cX6_act.data.toList.drop 94 = dktX6_act_4 := dk_seg dksX6_act_3 23 rfl rfl
theorem dksX6_act_5 : cX6_act.data.toList.drop 118 = dktX6_act_5 := dk_seg dksX6_act_4 24 rfl rfl
theorem dksX6_act_6 : cX6_act.data.toList.drop 141 = dktX6_act_6 := dk_seg dksX6_act_5 23 rfl rfl
theorem dksX6_act_7 : cX6_act.data.toList.drop 164 = dktX6_act_7 := dk_seg dksX6_act_6 23 rfl rfl
theorem dX6_act_0 : decode cX6_act 0 = .ok (.aload_n 0, 1) := dk_42 (dk_at dksX6_act_0 0 rfl rfl)
theorem dX6_act_1 : decode cX6_act 1 = .ok (.iload_n 1, 1) := dk_27 (dk_at dksX6_act_0 1 rfl rfl)
theorem dX6_act_2 : decode cX6_act 2 = .ok (.invokevirtual 232, 3) := dk_182 0 232 (dk_at dksX6_act_0 2 rfl rfl)
theorem dX6_act_5 : decode cX6_act 5 = .ok (.istore_n 2, 1) := dk_61 (dk_at dksX6_act_0 5 rfl rfl)
theorem dX6_act_6 : decode cX6_act 6 = .ok (.iload_n 2, 1) := dk_28 (dk_at dksX6_act_0 6 rfl rfl)
theorem dX6_act_7 : decode cX6_act 7 = .ok (.sipush 1000, 3) := dk_17 3 232 (dk_at dksX6_act_0 7 rfl rfl)
theorem dX6_act_10 : decode cX6_act 10 = .ok (.if_icmp .lt 79, 3) := dk_161 0 79 (dk_at dksX6_act_0 10 rfl rfl)
theorem dX6_act_13 : decode cX6_act 13 = .ok (.iload_n 2, 1) := dk_28 (dk_at dksX6_act_0 13 rfl rfl)
theorem dX6_act_14 : decode cX6_act 14 = .ok (.sipush 1000, 3) := dk_17 3 232 (dk_at dksX6_act_0 14 rfl rfl)
theorem dX6_act_17 : decode cX6_act 17 = .ok (.isub, 1) := dk_100 (dk_at dksX6_act_0 17 rfl rfl)
theorem dX6_act_18 : decode cX6_act 18 = .ok (.istore_n 3, 1) := dk_62 (dk_at dksX6_act_0 18 rfl rfl)
theorem dX6_act_19 : decode cX6_act 19 = .ok (.iload_n 3, 1) := dk_29 (dk_at dksX6_act_0 19 rfl rfl)
theorem dX6_act_20 : decode cX6_act 20 = .ok (.iconst 1, 1) := dk_4 (dk_at dksX6_act_0 20 rfl rfl)
theorem dX6_act_21 : decode cX6_act 21 = .ok (.invokestatic 238, 3) := dk_184 0 238 (dk_at dksX6_act_0 21 rfl rfl)
theorem dX6_act_24 : decode cX6_act 24 = .ok (.ifCond .eq 42, 3) := dk_153 0 42 (dk_at dksX6_act_1 0 rfl rfl)
theorem dX6_act_27 : decode cX6_act 27 = .ok (.aload_n 0, 1) := dk_42 (dk_at dksX6_act_1 3 rfl rfl)
theorem dX6_act_28 : decode cX6_act 28 = .ok (.dup, 1) := dk_89 (dk_at dksX6_act_1 4 rfl rfl)
theorem dX6_act_29 : decode cX6_act 29 = .ok (.getfield 168, 3) := dk_180 0 168 (dk_at dksX6_act_1 5 rfl rfl)
theorem dX6_act_32 : decode cX6_act 32 = .ok (.iconst 1, 1) := dk_4 (dk_at dksX6_act_1 8 rfl rfl)
theorem dX6_act_33 : decode cX6_act 33 = .ok (.iadd, 1) := dk_96 (dk_at dksX6_act_1 9 rfl rfl)
theorem dX6_act_34 : decode cX6_act 34 = .ok (.putfield 168, 3) := dk_181 0 168 (dk_at dksX6_act_1 10 rfl rfl)
theorem dX6_act_37 : decode cX6_act 37 = .ok (.aload_n 0, 1) := dk_42 (dk_at dksX6_act_1 13 rfl rfl)
theorem dX6_act_38 : decode cX6_act 38 = .ok (.getfield 168, 3) := dk_180 0 168 (dk_at dksX6_act_1 14 rfl rfl)
theorem dX6_act_41 : decode cX6_act 41 = .ok (.bipush 30, 2) := dk_16 30 (dk_at dksX6_act_1 17 rfl rfl)
theorem dX6_act_43 : decode cX6_act 43 = .ok (.if_icmp .le 43, 3) := dk_164 0 43 (dk_at dksX6_act_1 19 rfl rfl)
theorem dX6_act_46 : decode cX6_act 46 = .ok (.aload_n 0, 1) := dk_42 (dk_at dksX6_act_1 22 rfl rfl)
theorem dX6_act_47 : decode cX6_act 47 = .ok (.dup, 1) := dk_89 (dk_at dksX6_act_1 23 rfl rfl)
theorem dX6_act_48 : decode cX6_act 48 = .ok (.getfield 168, 3) := dk_180 0 168 (dk_at dksX6_act_2 0 rfl rfl)
theorem dX6_act_51 : decode cX6_act 51 = .ok (.iconst 1, 1) := dk_4 (dk_at dksX6_act_2 3 rfl rfl)
theorem dX6_act_52 : decode cX6_act 52 = .ok (.isub, 1) := dk_100 (dk_at dksX6_act_2 4 rfl rfl)
theorem dX6_act_53 : decode cX6_act 53 = .ok (.putfield 168, 3) := dk_181 0 168 (dk_at dksX6_act_2 5 rfl rfl)
theorem dX6_act_56 : decode cX6_act 56 = .ok (.aload_n 0, 1) := dk_42 (dk_at dksX6_act_2 8 rfl rfl)
theorem dX6_act_57 : decode cX6_act 57 = .ok (.iconst 5, 1) := dk_8 (dk_at dksX6_act_2 9 rfl rfl)
theorem dX6_act_58 : decode cX6_act 58 = .ok (.invokevirtual 205, 3) := dk_182 0 205 (dk_at dksX6_act_2 10 rfl rfl)
theorem dX6_act_61 : decode cX6_act 61 = .ok (.istore 4, 2) := dk_54 4 (dk_at dksX6_act_2 13 rfl rfl)
theorem dX6_act_63 : decode cX6_act 63 = .ok (.goto 23, 3) := dk_167 0 23 (dk_at dksX6_act_2 15 rfl rfl)
theorem dX6_act_66 : decode cX6_act 66 = .ok (.iload_n 3, 1) := dk_29 (dk_at dksX6_act_2 18 rfl rfl)
theorem dX6_act_67 : decode cX6_act 67 = .ok (.iconst 2, 1) := dk_5 (dk_at dksX6_act_2 19 rfl rfl)
theorem dX6_act_68 : decode cX6_act 68 = .ok (.invokestatic 238, 3) := dk_184 0 238 (dk_at dksX6_act_2 20 rfl rfl)
theorem dX6_act_71 : decode cX6_act 71 = .ok (.ifCond .eq 10, 3) := dk_153 0 10 (dk_at dksX6_act_3 0 rfl rfl)
theorem dX6_act_74 : decode cX6_act 74 = .ok (.aload_n 0, 1) := dk_42 (dk_at dksX6_act_3 3 rfl rfl)
theorem dX6_act_75 : decode cX6_act 75 = .ok (.invokevirtual 337, 3) := dk_182 1 81 (dk_at dksX6_act_3 4 rfl rfl)
theorem dX6_act_78 : decode cX6_act 78 = .ok (.goto 8, 3) := dk_167 0 8 (dk_at dksX6_act_3 7 rfl rfl)
theorem dX6_act_81 : decode cX6_act 81 = .ok (.aload_n 0, 1) := dk_42 (dk_at dksX6_act_3 10 rfl rfl)
theorem dX6_act_82 : decode cX6_act 82 = .ok (.iload_n 3, 1) := dk_29 (dk_at dksX6_act_3 11 rfl rfl)
theorem dX6_act_83 : decode cX6_act 83 = .ok (.invokevirtual 340, 3) := dk_182 1 84 (dk_at dksX6_act_3 12 rfl rfl)
theorem dX6_act_86 : decode cX6_act 86 = .ok (.goto 81, 3) := dk_167 0 81 (dk_at dksX6_act_3 15 rfl rfl)
theorem dX6_act_89 : decode cX6_act 89 = .ok (.iload_n 2, 1) := dk_28 (dk_at dksX6_act_3 18 rfl rfl)
theorem dX6_act_90 : decode cX6_act 90 = .ok (.ifCond .eq 9, 3) := dk_153 0 9 (dk_at dksX6_act_3 19 rfl rfl)
theorem dX6_act_93 : decode cX6_act 93 = .ok (.iload_n 2, 1) := dk_28 (dk_at dksX6_act_3 22 rfl rfl)
theorem dX6_act_94 : decode cX6_act 94 = .ok (.bipush 11, 2) := dk_16 11 (dk_at dksX6_act_4 0 rfl rfl)
theorem dX6_act_96 : decode cX6_act 96 = .ok (.if_icmp .ne 20, 3) := dk_160 0 20 (dk_at dksX6_act_4 2 rfl rfl)
theorem dX6_act_99 : decode cX6_act 99 = .ok (.aload_n 0, 1) := dk_42 (dk_at dksX6_act_4 5 rfl rfl)
theorem dX6_act_100 : decode cX6_act 100 = .ok (.iload_n 2, 1) := dk_28 (dk_at dksX6_act_4 6 rfl rfl)
theorem dX6_act_101 : decode cX6_act 101 = .ok (.ifCond .ne 7, 3) := dk_154 0 7 (dk_at dksX6_act_4 7 rfl rfl)
theorem dX6_act_104 : decode cX6_act 104 = .ok (.iconst 2, 1) := dk_5 (dk_at dksX6_act_4 10 rfl rfl)
theorem dX6_act_105 : decode cX6_act 105 = .ok (.goto 4, 3) := dk_167 0 4 (dk_at dksX6_act_4 11 rfl rfl)
theorem dX6_act_108 : decode cX6_act 108 = .ok (.iconst 1, 1) := dk_4 (dk_at dksX6_act_4 14 rfl rfl)
theorem dX6_act_109 : decode cX6_act 109 = .ok (.invokevirtual 205, 3) := dk_182 0 205 (dk_at dksX6_act_4 15 rfl rfl)
theorem dX6_act_112 : decode cX6_act 112 = .ok (.istore_n 3, 1) := dk_62 (dk_at dksX6_act_4 18 rfl rfl)
theorem dX6_act_113 : decode cX6_act 113 = .ok (.goto 54, 3) := dk_167 0 54 (dk_at dksX6_act_4 19 rfl rfl)
theorem dX6_act_116 : decode cX6_act 116 = .ok (.iload_n 2, 1) := dk_28 (dk_at dksX6_act_4 22 rfl rfl)
theorem dX6_act_117 : decode cX6_act 117 = .ok (.iconst 1, 1) := dk_4 (dk_at dksX6_act_4 23 rfl rfl)
theorem dX6_act_118 : decode cX6_act 118 = .ok (.if_icmp .ne 13, 3) := dk_160 0 13 (dk_at dksX6_act_5 0 rfl rfl)
theorem dX6_act_121 : decode cX6_act 121 = .ok (.aload_n 0, 1) := dk_42 (dk_at dksX6_act_5 3 rfl rfl)
theorem dX6_act_122 : decode cX6_act 122 = .ok (.sipush 4096, 3) := dk_17 16 0 (dk_at dksX6_act_5 4 rfl rfl)
theorem dX6_act_125 : decode cX6_act 125 = .ok (.invokevirtual 340, 3) := dk_182 1 84 (dk_at dksX6_act_5 7 rfl rfl)
theorem dX6_act_128 : decode cX6_act 128 = .ok (.goto 39, 3) := dk_167 0 39 (dk_at dksX6_act_5 10 rfl rfl)
theorem dX6_act_131 : decode cX6_act 131 = .ok (.iload_n 2, 1) := dk_28 (dk_at dksX6_act_5 13 rfl rfl)
theorem dX6_act_132 : decode cX6_act 132 = .ok (.bipush 6, 2) := dk_16 6 (dk_at dksX6_act_5 14 rfl rfl)
theorem dX6_act_134 : decode cX6_act 134 = .ok (.if_icmp .ne 10, 3) := dk_160 0 10 (dk_at dksX6_act_5 16 rfl rfl)
theorem dX6_act_137 : decode cX6_act 137 = .ok (.aload_n 0, 1) := dk_42 (dk_at dksX6_act_5 19 rfl rfl)
theorem dX6_act_138 : decode cX6_act 138 = .ok (.invokevirtual 343, 3) := dk_182 1 87 (dk_at dksX6_act_5 20 rfl rfl)
theorem dX6_act_141 : decode cX6_act 141 = .ok (.goto 26, 3) := dk_167 0 26 (dk_at dksX6_act_6 0 rfl rfl)
theorem dX6_act_144 : decode cX6_act 144 = .ok (.iload_n 2, 1) := dk_28 (dk_at dksX6_act_6 3 rfl rfl)
theorem dX6_act_145 : decode cX6_act 145 = .ok (.bipush 7, 2) := dk_16 7 (dk_at dksX6_act_6 4 rfl rfl)
theorem dX6_act_147 : decode cX6_act 147 = .ok (.if_icmp .ne 10, 3) := dk_160 0 10 (dk_at dksX6_act_6 6 rfl rfl)
theorem dX6_act_150 : decode cX6_act 150 = .ok (.aload_n 0, 1) := dk_42 (dk_at dksX6_act_6 9 rfl rfl)
theorem dX6_act_151 : decode cX6_act 151 = .ok (.invokevirtual 346, 3) := dk_182 1 90 (dk_at dksX6_act_6 10 rfl rfl)
theorem dX6_act_154 : decode cX6_act 154 = .ok (.goto 13, 3) := dk_167 0 13 (dk_at dksX6_act_6 13 rfl rfl)
theorem dX6_act_157 : decode cX6_act 157 = .ok (.iload_n 2, 1) := dk_28 (dk_at dksX6_act_6 16 rfl rfl)
theorem dX6_act_158 : decode cX6_act 158 = .ok (.iconst 2, 1) := dk_5 (dk_at dksX6_act_6 17 rfl rfl)
theorem dX6_act_159 : decode cX6_act 159 = .ok (.if_icmp .eq 8, 3) := dk_159 0 8 (dk_at dksX6_act_6 18 rfl rfl)
theorem dX6_act_162 : decode cX6_act 162 = .ok (.aload_n 0, 1) := dk_42 (dk_at dksX6_act_6 21 rfl rfl)
theorem dX6_act_163 : decode cX6_act 163 = .ok (.iload_n 2, 1) := dk_28 (dk_at dksX6_act_6 22 rfl rfl)
theorem dX6_act_164 : decode cX6_act 164 = .ok (.invokevirtual 349, 3) := dk_182 1 93 (dk_at dksX6_act_7 0 rfl rfl)
theorem dX6_act_167 : decode cX6_act 167 = .ok (.return_, 1) := dk_177 (dk_at dksX6_act_7 3 rfl rfl)
abbrev cX6_closeGroup : ByteArray := prog_10_method_25_code
def yX6_closeGroup : MethodName := ⟨RX6, "closeGroup", "()V"⟩
def dkwX6_closeGroup_4 : List UInt8 := [180, 0, 41, 42, 180, 0, 171, 46, 79, 167, 255, 167, 42, 89, 180, 0, 168, 4, 100, 181, 0, 168, 177]
abbrev dktX6_closeGroup_4 : List UInt8 := dkwX6_closeGroup_4 ++ []
def dkwX6_closeGroup_3 : List UInt8 := [27, 42, 180, 0, 41, 42, 180, 0, 171, 46, 79, 167, 0, 22, 42, 180, 0, 13, 27, 17, 0, 200, 100, 42]
abbrev dktX6_closeGroup_3 : List UInt8 := dkwX6_closeGroup_3 ++ dktX6_closeGroup_4
def dkwX6_closeGroup_2 : List UInt8 := [181, 0, 171, 42, 180, 0, 38, 42, 180, 0, 171, 46, 60, 27, 17, 0, 200, 162, 0, 21, 42, 180, 0, 29]
abbrev dktX6_closeGroup_2 : List UInt8 := dkwX6_closeGroup_2 ++ dktX6_closeGroup_3
def dkwX6_closeGroup_1 : List UInt8 := [180, 0, 35, 42, 180, 0, 171, 4, 100, 46, 42, 180, 0, 168, 160, 0, 70, 42, 89, 180, 0, 171, 4, 100]
abbrev dktX6_closeGroup_1 : List UInt8 := dkwX6_closeGroup_1 ++ dktX6_closeGroup_2
def dkwX6_closeGroup_0 : List UInt8 := [42, 180, 0, 168, 154, 0, 10, 42, 4, 182, 0, 205, 60, 177, 42, 180, 0, 171, 158, 0, 88, 42]
abbrev dktX6_closeGroup_0 : List UInt8 := dkwX6_closeGroup_0 ++ dktX6_closeGroup_1
theorem dksX6_closeGroup_0 : cX6_closeGroup.data.toList.drop 0 = dktX6_closeGroup_0 := by decide +kernel
theorem dksX6_closeGroup_1 : cX6_closeGroup.data.toList.drop 22 = dktX6_closeGroup_1 := dk_seg dksX6_closeGroup_0 22 rfl rfl
theorem dksX6_closeGroup_2 : cX6_closeGroup.data.toList.drop 46 = dktX6_closeGroup_2 := dk_seg dksX6_closeGroup_1 24 rfl rfl
theorem dksX6_closeGroup_3 : cX6_closeGroup.data.toList.drop 70 = dktX6_closeGroup_3 := dk_seg dksX6_closeGroup_2 24 rfl rfl
theorem dksX6_closeGroup_4 : cX6_closeGroup.data.toList.drop 94 = dktX6_closeGroup_4 := dk_seg dksX6_closeGroup_3 24 rfl rfl
theorem dX6_closeGroup_0 : decode cX6_closeGroup 0 = .ok (.aload_n 0, 1) := dk_42 (dk_at dksX6_closeGroup_0 0 rfl rfl)
theorem dX6_closeGroup_1 : decode cX6_closeGroup 1 = .ok (.getfield 168, 3) := dk_180 0 168 (dk_at dksX6_closeGroup_0 1 rfl rfl)
theorem dX6_closeGroup_4 : decode cX6_closeGroup 4 = .ok (.ifCond .ne 10, 3) := dk_154 0 10 (dk_at dksX6_closeGroup_0 4 rfl rfl)
theorem dX6_closeGroup_7 : decode cX6_closeGroup 7 = .ok (.aload_n 0, 1) := dk_42 (dk_at dksX6_closeGroup_0 7 rfl rfl)
theorem dX6_closeGroup_8 : decode cX6_closeGroup 8 = .ok (.iconst 1, 1) := dk_4 (dk_at dksX6_closeGroup_0 8 rfl rfl)
theorem dX6_closeGroup_9 : decode cX6_closeGroup 9 = .ok (.invokevirtual 205, 3) := dk_182 0 205 (dk_at dksX6_closeGroup_0 9 rfl rfl)
theorem dX6_closeGroup_12 : decode cX6_closeGroup 12 = .ok (.istore_n 1, 1) := dk_60 (dk_at dksX6_closeGroup_0 12 rfl rfl)
theorem dX6_closeGroup_13 : decode cX6_closeGroup 13 = .ok (.return_, 1) := dk_177 (dk_at dksX6_closeGroup_0 13 rfl rfl)
theorem dX6_closeGroup_14 : decode cX6_closeGroup 14 = .ok (.aload_n 0, 1) := dk_42 (dk_at dksX6_closeGroup_0 14 rfl rfl)
theorem dX6_closeGroup_15 : decode cX6_closeGroup 15 = .ok (.getfield 171, 3) := dk_180 0 171 (dk_at dksX6_closeGroup_0 15 rfl rfl)
theorem dX6_closeGroup_18 : decode cX6_closeGroup 18 = .ok (.ifCond .le 88, 3) := dk_158 0 88 (dk_at dksX6_closeGroup_0 18 rfl rfl)
theorem dX6_closeGroup_21 : decode cX6_closeGroup 21 = .ok (.aload_n 0, 1) := dk_42 (dk_at dksX6_closeGroup_0 21 rfl rfl)
theorem dX6_closeGroup_22 : decode cX6_closeGroup 22 = .ok (.getfield 35, 3) := dk_180 0 35 (dk_at dksX6_closeGroup_1 0 rfl rfl)
theorem dX6_closeGroup_25 : decode cX6_closeGroup 25 = .ok (.aload_n 0, 1) := dk_42 (dk_at dksX6_closeGroup_1 3 rfl rfl)
theorem dX6_closeGroup_26 : decode cX6_closeGroup 26 = .ok (.getfield 171, 3) := dk_180 0 171 (dk_at dksX6_closeGroup_1 4 rfl rfl)
theorem dX6_closeGroup_29 : decode cX6_closeGroup 29 = .ok (.iconst 1, 1) := dk_4 (dk_at dksX6_closeGroup_1 7 rfl rfl)
theorem dX6_closeGroup_30 : decode cX6_closeGroup 30 = .ok (.isub, 1) := dk_100 (dk_at dksX6_closeGroup_1 8 rfl rfl)
theorem dX6_closeGroup_31 : decode cX6_closeGroup 31 = .ok (.iaload, 1) := dk_46 (dk_at dksX6_closeGroup_1 9 rfl rfl)
theorem dX6_closeGroup_32 : decode cX6_closeGroup 32 = .ok (.aload_n 0, 1) := dk_42 (dk_at dksX6_closeGroup_1 10 rfl rfl)
theorem dX6_closeGroup_33 : decode cX6_closeGroup 33 = .ok (.getfield 168, 3) := dk_180 0 168 (dk_at dksX6_closeGroup_1 11 rfl rfl)
theorem dX6_closeGroup_36 : decode cX6_closeGroup 36 = .ok (.if_icmp .ne 70, 3) := dk_160 0 70 (dk_at dksX6_closeGroup_1 14 rfl rfl)
theorem dX6_closeGroup_39 : decode cX6_closeGroup 39 = .ok (.aload_n 0, 1) := dk_42 (dk_at dksX6_closeGroup_1 17 rfl rfl)
theorem dX6_closeGroup_40 : decode cX6_closeGroup 40 = .ok (.dup, 1) := dk_89 (dk_at dksX6_closeGroup_1 18 rfl rfl)
theorem dX6_closeGroup_41 : decode cX6_closeGroup 41 = .ok (.getfield 171, 3) := dk_180 0 171 (dk_at dksX6_closeGroup_1 19 rfl rfl)
theorem dX6_closeGroup_44 : decode cX6_closeGroup 44 = .ok (.iconst 1, 1) := dk_4 (dk_at dksX6_closeGroup_1 22 rfl rfl)
theorem dX6_closeGroup_45 : decode cX6_closeGroup 45 = .ok (.isub, 1) := dk_100 (dk_at dksX6_closeGroup_1 23 rfl rfl)
theorem dX6_closeGroup_46 : decode cX6_closeGroup 46 = .ok (.putfield 171, 3) := dk_181 0 171 (dk_at dksX6_closeGroup_2 0 rfl rfl)
theorem dX6_closeGroup_49 : decode cX6_closeGroup 49 = .ok (.aload_n 0, 1) := dk_42 (dk_at dksX6_closeGroup_2 3 rfl rfl)
theorem dX6_closeGroup_50 : decode cX6_closeGroup 50 = .ok (.getfield 38, 3) := dk_180 0 38 (dk_at dksX6_closeGroup_2 4 rfl rfl)
theorem dX6_closeGroup_53 : decode cX6_closeGroup 53 = .ok (.aload_n 0, 1) := dk_42 (dk_at dksX6_closeGroup_2 7 rfl rfl)
theorem dX6_closeGroup_54 : decode cX6_closeGroup 54 = .ok (.getfield 171, 3) := dk_180 0 171 (dk_at dksX6_closeGroup_2 8 rfl rfl)
theorem dX6_closeGroup_57 : decode cX6_closeGroup 57 = .ok (.iaload, 1) := dk_46 (dk_at dksX6_closeGroup_2 11 rfl rfl)
theorem dX6_closeGroup_58 : decode cX6_closeGroup 58 = .ok (.istore_n 1, 1) := dk_60 (dk_at dksX6_closeGroup_2 12 rfl rfl)
theorem dX6_closeGroup_59 : decode cX6_closeGroup 59 = .ok (.iload_n 1, 1) := dk_27 (dk_at dksX6_closeGroup_2 13 rfl rfl)
theorem dX6_closeGroup_60 : decode cX6_closeGroup 60 = .ok (.sipush 200, 3) := dk_17 0 200 (dk_at dksX6_closeGroup_2 14 rfl rfl)
theorem dX6_closeGroup_63 : decode cX6_closeGroup 63 = .ok (.if_icmp .ge 21, 3) := dk_162 0 21 (dk_at dksX6_closeGroup_2 17 rfl rfl)
theorem dX6_closeGroup_66 : decode cX6_closeGroup 66 = .ok (.aload_n 0, 1) := dk_42 (dk_at dksX6_closeGroup_2 20 rfl rfl)
theorem dX6_closeGroup_67 : decode cX6_closeGroup 67 = .ok (.getfield 29, 3) := dk_180 0 29 (dk_at dksX6_closeGroup_2 21 rfl rfl)
theorem dX6_closeGroup_70 : decode cX6_closeGroup 70 = .ok (.iload_n 1, 1) := dk_27 (dk_at dksX6_closeGroup_3 0 rfl rfl)
theorem dX6_closeGroup_71 : decode cX6_closeGroup 71 = .ok (.aload_n 0, 1) := dk_42 (dk_at dksX6_closeGroup_3 1 rfl rfl)
theorem dX6_closeGroup_72 : decode cX6_closeGroup 72 = .ok (.getfield 41, 3) := dk_180 0 41 (dk_at dksX6_closeGroup_3 2 rfl rfl)
theorem dX6_closeGroup_75 : decode cX6_closeGroup 75 = .ok (.aload_n 0, 1) := dk_42 (dk_at dksX6_closeGroup_3 5 rfl rfl)
theorem dX6_closeGroup_76 : decode cX6_closeGroup 76 = .ok (.getfield 171, 3) := dk_180 0 171 (dk_at dksX6_closeGroup_3 6 rfl rfl)
theorem dX6_closeGroup_79 : decode cX6_closeGroup 79 = .ok (.iaload, 1) := dk_46 (dk_at dksX6_closeGroup_3 9 rfl rfl)
theorem dX6_closeGroup_80 : decode cX6_closeGroup 80 = .ok (.iastore, 1) := dk_79 (dk_at dksX6_closeGroup_3 10 rfl rfl)
theorem dX6_closeGroup_81 : decode cX6_closeGroup 81 = .ok (.goto 22, 3) := dk_167 0 22 (dk_at dksX6_closeGroup_3 11 rfl rfl)
theorem dX6_closeGroup_84 : decode cX6_closeGroup 84 = .ok (.aload_n 0, 1) := dk_42 (dk_at dksX6_closeGroup_3 14 rfl rfl)
theorem dX6_closeGroup_85 : decode cX6_closeGroup 85 = .ok (.getfield 13, 3) := dk_180 0 13 (dk_at dksX6_closeGroup_3 15 rfl rfl)
theorem dX6_closeGroup_88 : decode cX6_closeGroup 88 = .ok (.iload_n 1, 1) := dk_27 (dk_at dksX6_closeGroup_3 18 rfl rfl)
theorem dX6_closeGroup_89 : decode cX6_closeGroup 89 = .ok (.sipush 200, 3) := dk_17 0 200 (dk_at dksX6_closeGroup_3 19 rfl rfl)
theorem dX6_closeGroup_92 : decode cX6_closeGroup 92 = .ok (.isub, 1) := dk_100 (dk_at dksX6_closeGroup_3 22 rfl rfl)
theorem dX6_closeGroup_93 : decode cX6_closeGroup 93 = .ok (.aload_n 0, 1) := dk_42 (dk_at dksX6_closeGroup_3 23 rfl rfl)
theorem dX6_closeGroup_94 : decode cX6_closeGroup 94 = .ok (.getfield 41, 3) := dk_180 0 41 (dk_at dksX6_closeGroup_4 0 rfl rfl)
theorem dX6_closeGroup_97 : decode cX6_closeGroup 97 = .ok (.aload_n 0, 1) := dk_42 (dk_at dksX6_closeGroup_4 3 rfl rfl)
theorem dX6_closeGroup_98 : decode cX6_closeGroup 98 = .ok (.getfield 171, 3) := dk_180 0 171 (dk_at dksX6_closeGroup_4 4 rfl rfl)
theorem dX6_closeGroup_101 : decode cX6_closeGroup 101 = .ok (.iaload, 1) := dk_46 (dk_at dksX6_closeGroup_4 7 rfl rfl)
theorem dX6_closeGroup_102 : decode cX6_closeGroup 102 = .ok (.iastore, 1) := dk_79 (dk_at dksX6_closeGroup_4 8 rfl rfl)
theorem dX6_closeGroup_103 : decode cX6_closeGroup 103 = .ok (.goto (-89), 3) := dk_167 255 167 (dk_at dksX6_closeGroup_4 9 rfl rfl)
theorem dX6_closeGroup_106 : decode cX6_closeGroup 106 = .ok (.aload_n 0, 1) := dk_42 (dk_at dksX6_closeGroup_4 12 rfl rfl)
theorem dX6_closeGroup_107 : decode cX6_closeGroup 107 = .ok (.dup, 1) := dk_89 (dk_at dksX6_closeGroup_4 13 rfl rfl)
theorem dX6_closeGroup_108 : decode cX6_closeGroup 108 = .ok (.getfield 168, 3) := dk_180 0 168 (dk_at dksX6_closeGroup_4 14 rfl rfl)
theorem dX6_closeGroup_111 : decode cX6_closeGroup 111 = .ok (.iconst 1, 1) := dk_4 (dk_at dksX6_closeGroup_4 17 rfl rfl)
theorem dX6_closeGroup_112 : decode cX6_closeGroup 112 = .ok (.isub, 1) := dk_100 (dk_at dksX6_closeGroup_4 18 rfl rfl)
theorem dX6_closeGroup_113 : decode cX6_closeGroup 113 = .ok (.putfield 168, 3) := dk_181 0 168 (dk_at dksX6_closeGroup_4 19 rfl rfl)
theorem dX6_closeGroup_116 : decode cX6_closeGroup 116 = .ok (.return_, 1) := dk_177 (dk_at dksX6_closeGroup_4 22 rfl rfl)
abbrev cX6_send : ByteArray := prog_10_method_53_code
def yX6_send : MethodName := ⟨RX6, "send", "(I)V"⟩
def dkwX6_send_1 : List UInt8 := [180, 0, 183, 27, 79, 42, 89, 180, 0, 183, 4, 96, 181, 0, 183, 177]
abbrev dktX6_send_1 : List UInt8 := dkwX6_send_1 ++ []
def dkwX6_send_0 : List UInt8 := [42, 180, 0, 183, 17, 0, 200, 160, 0, 10, 42, 8, 182, 0, 205, 61, 177, 42, 180, 0, 77, 42]
abbrev dktX6_send_0 : List UInt8 := dkwX6_send_0 ++ dktX6_send_1
theorem dksX6_send_0 : cX6_send.data.toList.drop 0 = dktX6_send_0 := by decide +kernel
theorem dksX6_send_1 : cX6_send.data.toList.drop 22 = dktX6_send_1 := dk_seg dksX6_send_0 22 rfl rfl
theorem dX6_send_0 : decode cX6_send 0 = .ok (.aload_n 0, 1) := dk_42 (dk_at dksX6_send_0 0 rfl rfl)
theorem dX6_send_1 : decode cX6_send 1 = .ok (.getfield 183, 3) := dk_180 0 183 (dk_at dksX6_send_0 1 rfl rfl)
theorem dX6_send_4 : decode cX6_send 4 = .ok (.sipush 200, 3) := dk_17 0 200 (dk_at dksX6_send_0 4 rfl rfl)
theorem dX6_send_7 : decode cX6_send 7 = .ok (.if_icmp .ne 10, 3) := dk_160 0 10 (dk_at dksX6_send_0 7 rfl rfl)
theorem dX6_send_10 : decode cX6_send 10 = .ok (.aload_n 0, 1) := dk_42 (dk_at dksX6_send_0 10 rfl rfl)
theorem dX6_send_11 : decode cX6_send 11 = .ok (.iconst 5, 1) := dk_8 (dk_at dksX6_send_0 11 rfl rfl)
theorem dX6_send_12 : decode cX6_send 12 = .ok (.invokevirtual 205, 3) := dk_182 0 205 (dk_at dksX6_send_0 12 rfl rfl)
theorem dX6_send_15 : decode cX6_send 15 = .ok (.istore_n 2, 1) := dk_61 (dk_at dksX6_send_0 15 rfl rfl)
theorem dX6_send_16 : decode cX6_send 16 = .ok (.return_, 1) := dk_177 (dk_at dksX6_send_0 16 rfl rfl)
theorem dX6_send_17 : decode cX6_send 17 = .ok (.aload_n 0, 1) := dk_42 (dk_at dksX6_send_0 17 rfl rfl)
theorem dX6_send_18 : decode cX6_send 18 = .ok (.getfield 77, 3) := dk_180 0 77 (dk_at dksX6_send_0 18 rfl rfl)
theorem dX6_send_21 : decode cX6_send 21 = .ok (.aload_n 0, 1) := dk_42 (dk_at dksX6_send_0 21 rfl rfl)
theorem dX6_send_22 : decode cX6_send 22 = .ok (.getfield 183, 3) := dk_180 0 183 (dk_at dksX6_send_1 0 rfl rfl)
theorem dX6_send_25 : decode cX6_send 25 = .ok (.iload_n 1, 1) := dk_27 (dk_at dksX6_send_1 3 rfl rfl)
theorem dX6_send_26 : decode cX6_send 26 = .ok (.iastore, 1) := dk_79 (dk_at dksX6_send_1 4 rfl rfl)
theorem dX6_send_27 : decode cX6_send 27 = .ok (.aload_n 0, 1) := dk_42 (dk_at dksX6_send_1 5 rfl rfl)
theorem dX6_send_28 : decode cX6_send 28 = .ok (.dup, 1) := dk_89 (dk_at dksX6_send_1 6 rfl rfl)
theorem dX6_send_29 : decode cX6_send 29 = .ok (.getfield 183, 3) := dk_180 0 183 (dk_at dksX6_send_1 7 rfl rfl)
theorem dX6_send_32 : decode cX6_send 32 = .ok (.iconst 1, 1) := dk_4 (dk_at dksX6_send_1 10 rfl rfl)
theorem dX6_send_33 : decode cX6_send 33 = .ok (.iadd, 1) := dk_96 (dk_at dksX6_send_1 11 rfl rfl)
theorem dX6_send_34 : decode cX6_send 34 = .ok (.putfield 183, 3) := dk_181 0 183 (dk_at dksX6_send_1 12 rfl rfl)
theorem dX6_send_37 : decode cX6_send 37 = .ok (.return_, 1) := dk_177 (dk_at dksX6_send_1 15 rfl rfl)
abbrev cX6_let : ByteArray := prog_10_method_50_code
def yX6_let : MethodName := ⟨RX6, "let", "()V"⟩
def dkwX6_let_1 : List UInt8 := [160, 0, 8, 42, 182, 0, 254, 61, 28, 2, 159, 0, 13, 42, 27, 42, 28, 182, 0, 232, 182, 1, 53, 177]
abbrev dktX6_let_1 : List UInt8 := dkwX6_let_1 ++ []
def dkwX6_let_0 : List UInt8 := [42, 182, 1, 68, 60, 27, 2, 160, 0, 7, 2, 167, 0, 7, 42, 182, 0, 254, 61, 28, 17, 12, 61]
abbrev dktX6_let_0 : List UInt8 := dkwX6_let_0 ++ dktX6_let_1
theorem dksX6_let_0 : cX6_let.data.toList.drop 0 = dktX6_let_0 := by decide +kernel
theorem dksX6_let_1 : cX6_let.data.toList.drop 23 = dktX6_let_1 := dk_seg dksX6_let_0 23 rfl rfl
theorem dX6_let_0 : decode cX6_let 0 = .ok (.aload_n 0, 1) := dk_42 (dk_at dksX6_let_0 0 rfl rfl)
theorem dX6_let_1 : decode cX6_let 1 = .ok (.invokevirtual 324, 3) := dk_182 1 68 (dk_at dksX6_let_0 1 rfl rfl)
theorem dX6_let_4 : decode cX6_let 4 = .ok (.istore_n 1, 1) := dk_60 (dk_at dksX6_let_0 4 rfl rfl)
theorem dX6_let_5 : decode cX6_let 5 = .ok (.iload_n 1, 1) := dk_27 (dk_at dksX6_let_0 5 rfl rfl)
theorem dX6_let_6 : decode cX6_let 6 = .ok (.iconst (-1), 1) := dk_2 (dk_at dksX6_let_0 6 rfl rfl)
theorem dX6_let_7 : decode cX6_let 7 = .ok (.if_icmp .ne 7, 3) := dk_160 0 7 (dk_at dksX6_let_0 7 rfl rfl)
theorem dX6_let_10 : decode cX6_let 10 = .ok (.iconst (-1), 1) := dk_2 (dk_at dksX6_let_0 10 rfl rfl)
theorem dX6_let_11 : decode cX6_let 11 = .ok (.goto 7, 3) := dk_167 0 7 (dk_at dksX6_let_0 11 rfl rfl)
theorem dX6_let_14 : decode cX6_let 14 = .ok (.aload_n 0, 1) := dk_42 (dk_at dksX6_let_0 14 rfl rfl)
theorem dX6_let_15 : decode cX6_let 15 = .ok (.invokevirtual 254, 3) := dk_182 0 254 (dk_at dksX6_let_0 15 rfl rfl)
theorem dX6_let_18 : decode cX6_let 18 = .ok (.istore_n 2, 1) := dk_61 (dk_at dksX6_let_0 18 rfl rfl)
theorem dX6_let_19 : decode cX6_let 19 = .ok (.iload_n 2, 1) := dk_28 (dk_at dksX6_let_0 19 rfl rfl)
theorem dX6_let_20 : decode cX6_let 20 = .ok (.sipush 3133, 3) := dk_17 12 61 (dk_at dksX6_let_0 20 rfl rfl)
theorem dX6_let_23 : decode cX6_let 23 = .ok (.if_icmp .ne 8, 3) := dk_160 0 8 (dk_at dksX6_let_1 0 rfl rfl)
theorem dX6_let_26 : decode cX6_let 26 = .ok (.aload_n 0, 1) := dk_42 (dk_at dksX6_let_1 3 rfl rfl)
theorem dX6_let_27 : decode cX6_let 27 = .ok (.invokevirtual 254, 3) := dk_182 0 254 (dk_at dksX6_let_1 4 rfl rfl)
theorem dX6_let_30 : decode cX6_let 30 = .ok (.istore_n 2, 1) := dk_61 (dk_at dksX6_let_1 7 rfl rfl)
theorem dX6_let_31 : decode cX6_let 31 = .ok (.iload_n 2, 1) := dk_28 (dk_at dksX6_let_1 8 rfl rfl)
theorem dX6_let_32 : decode cX6_let 32 = .ok (.iconst (-1), 1) := dk_2 (dk_at dksX6_let_1 9 rfl rfl)
theorem dX6_let_33 : decode cX6_let 33 = .ok (.if_icmp .eq 13, 3) := dk_159 0 13 (dk_at dksX6_let_1 10 rfl rfl)
theorem dX6_let_36 : decode cX6_let 36 = .ok (.aload_n 0, 1) := dk_42 (dk_at dksX6_let_1 13 rfl rfl)
theorem dX6_let_37 : decode cX6_let 37 = .ok (.iload_n 1, 1) := dk_27 (dk_at dksX6_let_1 14 rfl rfl)
theorem dX6_let_38 : decode cX6_let 38 = .ok (.aload_n 0, 1) := dk_42 (dk_at dksX6_let_1 15 rfl rfl)
theorem dX6_let_39 : decode cX6_let 39 = .ok (.iload_n 2, 1) := dk_28 (dk_at dksX6_let_1 16 rfl rfl)
theorem dX6_let_40 : decode cX6_let 40 = .ok (.invokevirtual 232, 3) := dk_182 0 232 (dk_at dksX6_let_1 17 rfl rfl)
theorem dX6_let_43 : decode cX6_let 43 = .ok (.invokevirtual 309, 3) := dk_182 1 53 (dk_at dksX6_let_1 20 rfl rfl)
theorem dX6_let_46 : decode cX6_let 46 = .ok (.return_, 1) := dk_177 (dk_at dksX6_let_1 23 rfl rfl)
abbrev cX6_needName : ByteArray := prog_10_method_46_code
def yX6_needName : MethodName := ⟨RX6, "needName", "()I"⟩
def dkwX6_needName_1 : List UInt8 := [17, 16, 0, 100, 167, 0, 8, 42, 7, 182, 0, 205, 172]
abbrev dktX6_needName_1 : List UInt8 := dkwX6_needName_1 ++ []
def dkwX6_needName_0 : List UInt8 := [42, 182, 0, 254, 60, 27, 2, 160, 0, 5, 2, 172, 27, 184, 0, 226, 153, 0, 14, 27, 184, 0, 235]
abbrev dktX6_needName_0 : List UInt8 := dkwX6_needName_0 ++ dktX6_needName_1
theorem dksX6_needName_0 : cX6_needName.data.toList.drop 0 = dktX6_needName_0 := by decide +kernel
theorem dksX6_needName_1 : cX6_needName.data.toList.drop 23 = dktX6_needName_1 := dk_seg dksX6_needName_0 23 rfl rfl
theorem dX6_needName_0 : decode cX6_needName 0 = .ok (.aload_n 0, 1) := dk_42 (dk_at dksX6_needName_0 0 rfl rfl)
theorem dX6_needName_1 : decode cX6_needName 1 = .ok (.invokevirtual 254, 3) := dk_182 0 254 (dk_at dksX6_needName_0 1 rfl rfl)
theorem dX6_needName_4 : decode cX6_needName 4 = .ok (.istore_n 1, 1) := dk_60 (dk_at dksX6_needName_0 4 rfl rfl)
theorem dX6_needName_5 : decode cX6_needName 5 = .ok (.iload_n 1, 1) := dk_27 (dk_at dksX6_needName_0 5 rfl rfl)
theorem dX6_needName_6 : decode cX6_needName 6 = .ok (.iconst (-1), 1) := dk_2 (dk_at dksX6_needName_0 6 rfl rfl)
theorem dX6_needName_7 : decode cX6_needName 7 = .ok (.if_icmp .ne 5, 3) := dk_160 0 5 (dk_at dksX6_needName_0 7 rfl rfl)
theorem dX6_needName_10 : decode cX6_needName 10 = .ok (.iconst (-1), 1) := dk_2 (dk_at dksX6_needName_0 10 rfl rfl)
theorem dX6_needName_11 : decode cX6_needName 11 = .ok (.ireturn, 1) := dk_172 (dk_at dksX6_needName_0 11 rfl rfl)
theorem dX6_needName_12 : decode cX6_needName 12 = .ok (.iload_n 1, 1) := dk_27 (dk_at dksX6_needName_0 12 rfl rfl)
theorem dX6_needName_13 : decode cX6_needName 13 = .ok (.invokestatic 226, 3) := dk_184 0 226 (dk_at dksX6_needName_0 13 rfl rfl)
theorem dX6_needName_16 : decode cX6_needName 16 = .ok (.ifCond .eq 14, 3) := dk_153 0 14 (dk_at dksX6_needName_0 16 rfl rfl)
theorem dX6_needName_19 : decode cX6_needName 19 = .ok (.iload_n 1, 1) := dk_27 (dk_at dksX6_needName_0 19 rfl rfl)
theorem dX6_needName_20 : decode cX6_needName 20 = .ok (.invokestatic 235, 3) := dk_184 0 235 (dk_at dksX6_needName_0 20 rfl rfl)
theorem dX6_needName_23 : decode cX6_needName 23 = .ok (.sipush 4096, 3) := dk_17 16 0 (dk_at dksX6_needName_1 0 rfl rfl)
theorem dX6_needName_26 : decode cX6_needName 26 = .ok (.isub, 1) := dk_100 (dk_at dksX6_needName_1 3 rfl rfl)
theorem dX6_needName_27 : decode cX6_needName 27 = .ok (.goto 8, 3) := dk_167 0 8 (dk_at dksX6_needName_1 4 rfl rfl)
theorem dX6_needName_30 : decode cX6_needName 30 = .ok (.aload_n 0, 1) := dk_42 (dk_at dksX6_needName_1 7 rfl rfl)
theorem dX6_needName_31 : decode cX6_needName 31 = .ok (.iconst 4, 1) := dk_7 (dk_at dksX6_needName_1 8 rfl rfl)
theorem dX6_needName_32 : decode cX6_needName 32 = .ok (.invokevirtual 205, 3) := dk_182 0 205 (dk_at dksX6_needName_1 9 rfl rfl)
theorem dX6_needName_35 : decode cX6_needName 35 = .ok (.ireturn, 1) := dk_172 (dk_at dksX6_needName_1 12 rfl rfl)
abbrev cX6_catcode : ByteArray := prog_10_method_52_code
def yX6_catcode : MethodName := ⟨RX6, "catcode", "()V"⟩
def dkwX6_catcode_8 : List UInt8 := [154, 0, 14, 42, 17, 0, 200, 29, 96, 21, 5, 182, 1, 53, 177]
abbrev dktX6_catcode_8 : List UInt8 := dkwX6_catcode_8 ++ []
def dkwX6_catcode_7 : List UInt8 := [180, 0, 159, 154, 0, 17, 21, 5, 16, 15, 164, 0, 10, 42, 7, 182, 0, 205, 54, 7, 42, 180, 0, 159]
abbrev dktX6_catcode_7 : List UInt8 := dkwX6_catcode_7 ++ dktX6_catcode_8
def dkwX6_catcode_6 : List UInt8 := [184, 1, 78, 96, 54, 5, 167, 0, 15, 21, 6, 2, 159, 0, 9, 42, 21, 6, 182, 1, 8, 42]
abbrev dktX6_catcode_6 : List UInt8 := dkwX6_catcode_6 ++ dktX6_catcode_7
def dkwX6_catcode_5 : List UInt8 := [54, 6, 21, 6, 2, 159, 0, 27, 21, 6, 184, 1, 78, 155, 0, 19, 16, 10, 21, 5, 104, 21, 6]
abbrev dktX6_catcode_5 : List UInt8 := dkwX6_catcode_5 ++ dktX6_catcode_6
def dkwX6_catcode_4 : List UInt8 := [21, 4, 184, 1, 78, 54, 5, 21, 5, 156, 0, 11, 42, 7, 182, 0, 205, 54, 6, 177, 42, 182, 0, 223]
abbrev dktX6_catcode_4 : List UInt8 := dkwX6_catcode_4 ++ dktX6_catcode_5
def dkwX6_catcode_3 : List UInt8 := [104, 46, 167, 0, 8, 27, 17, 0, 255, 126, 62, 42, 182, 0, 254, 54, 4, 21, 4, 2, 160, 0, 4, 177]
abbrev dktX6_catcode_3 : List UInt8 := dkwX6_catcode_3 ++ dktX6_catcode_4
def dkwX6_catcode_2 : List UInt8 := [159, 0, 10, 42, 7, 182, 0, 205, 62, 177, 27, 184, 0, 226, 153, 0, 15, 42, 180, 0, 19, 16, 11, 28]
abbrev dktX6_catcode_2 : List UInt8 := dkwX6_catcode_2 ++ dktX6_catcode_3
def dkwX6_catcode_1 : List UInt8 := [17, 16, 0, 100, 167, 0, 4, 3, 61, 27, 184, 0, 226, 153, 0, 20, 42, 180, 0, 22, 28, 46, 4]
abbrev dktX6_catcode_1 : List UInt8 := dkwX6_catcode_1 ++ dktX6_catcode_2
def dkwX6_catcode_0 : List UInt8 := [42, 182, 0, 254, 60, 27, 2, 160, 0, 4, 177, 27, 184, 0, 226, 153, 0, 14, 27, 184, 0, 235]
abbrev dktX6_catcode_0 : List UInt8 := dkwX6_catcode_0 ++ dktX6_catcode_1
theorem dksX6_catcode_0 : cX6_catcode.data.toList.drop 0 = dktX6_catcode_0 := by decide +kernel
theorem dksX6_catcode_1 : cX6_catcode.data.toList.drop 22 = dktX6_catcode_1 := dk_seg dksX6_catcode_0 22 rfl rfl
theorem dksX6_catcode_2 : cX6_catcode.data.toList.drop 45 = dktX6_catcode_2 := dk_seg dksX6_catcode_1 23 rfl rfl
theorem dksX6_catcode_3 : cX6_catcode.data.toList.drop 69 = dktX6_catcode_3 := dk_seg dksX6_catcode_2 24 rfl rfl
theorem dksX6_catcode_4 : cX6_catcode.data.toList.drop 93 = dktX6_catcode_4 := dk_seg dksX6_catcode_3 24 rfl rfl
theorem dksX6_catcode_5 : cX6_catcode.data.toList.drop 117 = dktX6_catcode_5 := dk_seg dksX6_catcode_4 24 rfl rfl
theorem dksX6_catcode_6 : cX6_catcode.data.toList.drop 140 = dktX6_catcode_6 := dk_seg dksX6_catcode_5 23 rfl rfl
theorem dksX6_catcode_7 : cX6_catcode.data.toList.drop 162 = dktX6_catcode_7 := dk_seg dksX6_catcode_6 22 rfl rfl
theorem dksX6_catcode_8 : cX6_catcode.data.toList.drop 186 = dktX6_catcode_8 := dk_seg dksX6_catcode_7 24 rfl rfl
theorem dX6_catcode_0 : decode cX6_catcode 0 = .ok (.aload_n 0, 1) := dk_42 (dk_at dksX6_catcode_0 0 rfl rfl)
theorem dX6_catcode_1 : decode cX6_catcode 1 = .ok (.invokevirtual 254, 3) := dk_182 0 254 (dk_at dksX6_catcode_0 1 rfl rfl)
theorem dX6_catcode_4 : decode cX6_catcode 4 = .ok (.istore_n 1, 1) := dk_60 (dk_at dksX6_catcode_0 4 rfl rfl)
theorem dX6_catcode_5 : decode cX6_catcode 5 = .ok (.iload_n 1, 1) := dk_27 (dk_at dksX6_catcode_0 5 rfl rfl)
theorem dX6_catcode_6 : decode cX6_catcode 6 = .ok (.iconst (-1), 1) := dk_2 (dk_at dksX6_catcode_0 6 rfl rfl)
theorem dX6_catcode_7 : decode cX6_catcode 7 = .ok (.if_icmp .ne 4, 3) := dk_160 0 4 (dk_at dksX6_catcode_0 7 rfl rfl)
theorem dX6_catcode_10 : decode cX6_catcode 10 = .ok (.return_, 1) := dk_177 (dk_at dksX6_catcode_0 10 rfl rfl)
theorem dX6_catcode_11 : decode cX6_catcode 11 = .ok (.iload_n 1, 1) := dk_27 (dk_at dksX6_catcode_0 11 rfl rfl)
theorem dX6_catcode_12 : decode cX6_catcode 12 = .ok (.invokestatic 226, 3) := dk_184 0 226 (dk_at dksX6_catcode_0 12 rfl rfl)
theorem dX6_catcode_15 : decode cX6_catcode 15 = .ok (.ifCond .eq 14, 3) := dk_153 0 14 (dk_at dksX6_catcode_0 15 rfl rfl)
theorem dX6_catcode_18 : decode cX6_catcode 18 = .ok (.iload_n 1, 1) := dk_27 (dk_at dksX6_catcode_0 18 rfl rfl)
theorem dX6_catcode_19 : decode cX6_catcode 19 = .ok (.invokestatic 235, 3) := dk_184 0 235 (dk_at dksX6_catcode_0 19 rfl rfl)
theorem dX6_catcode_22 : decode cX6_catcode 22 = .ok (.sipush 4096, 3) := dk_17 16 0 (dk_at dksX6_catcode_1 0 rfl rfl)
theorem dX6_catcode_25 : decode cX6_catcode 25 = .ok (.isub, 1) := dk_100 (dk_at dksX6_catcode_1 3 rfl rfl)
theorem dX6_catcode_26 : decode cX6_catcode 26 = .ok (.goto 4, 3) := dk_167 0 4 (dk_at dksX6_catcode_1 4 rfl rfl)
theorem dX6_catcode_29 : decode cX6_catcode 29 = .ok (.iconst 0, 1) := dk_3 (dk_at dksX6_catcode_1 7 rfl rfl)
theorem dX6_catcode_30 : decode cX6_catcode 30 = .ok (.istore_n 2, 1) := dk_61 (dk_at dksX6_catcode_1 8 rfl rfl)
theorem dX6_catcode_31 : decode cX6_catcode 31 = .ok (.iload_n 1, 1) := dk_27 (dk_at dksX6_catcode_1 9 rfl rfl)
theorem dX6_catcode_32 : decode cX6_catcode 32 = .ok (.invokestatic 226, 3) := dk_184 0 226 (dk_at dksX6_catcode_1 10 rfl rfl)
theorem dX6_catcode_35 : decode cX6_catcode 35 = .ok (.ifCond .eq 20, 3) := dk_153 0 20 (dk_at dksX6_catcode_1 13 rfl rfl)
theorem dX6_catcode_38 : decode cX6_catcode 38 = .ok (.aload_n 0, 1) := dk_42 (dk_at dksX6_catcode_1 16 rfl rfl)
theorem dX6_catcode_39 : decode cX6_catcode 39 = .ok (.getfield 22, 3) := dk_180 0 22 (dk_at dksX6_catcode_1 17 rfl rfl)
theorem dX6_catcode_42 : decode cX6_catcode 42 = .ok (.iload_n 2, 1) := dk_28 (dk_at dksX6_catcode_1 20 rfl rfl)
theorem dX6_catcode_43 : decode cX6_catcode 43 = .ok (.iaload, 1) := dk_46 (dk_at dksX6_catcode_1 21 rfl rfl)
theorem dX6_catcode_44 : decode cX6_catcode 44 = .ok (.iconst 1, 1) := dk_4 (dk_at dksX6_catcode_1 22 rfl rfl)
theorem dX6_catcode_45 : decode cX6_catcode 45 = .ok (.if_icmp .eq 10, 3) := dk_159 0 10 (dk_at dksX6_catcode_2 0 rfl rfl)
theorem dX6_catcode_48 : decode cX6_catcode 48 = .ok (.aload_n 0, 1) := dk_42 (dk_at dksX6_catcode_2 3 rfl rfl)
theorem dX6_catcode_49 : decode cX6_catcode 49 = .ok (.iconst 4, 1) := dk_7 (dk_at dksX6_catcode_2 4 rfl rfl)
theorem dX6_catcode_50 : decode cX6_catcode 50 = .ok (.invokevirtual 205, 3) := dk_182 0 205 (dk_at dksX6_catcode_2 5 rfl rfl)
theorem dX6_catcode_53 : decode cX6_catcode 53 = .ok (.istore_n 3, 1) := dk_62 (dk_at dksX6_catcode_2 8 rfl rfl)
theorem dX6_catcode_54 : decode cX6_catcode 54 = .ok (.return_, 1) := dk_177 (dk_at dksX6_catcode_2 9 rfl rfl)
theorem dX6_catcode_55 : decode cX6_catcode 55 = .ok (.iload_n 1, 1) := dk_27 (dk_at dksX6_catcode_2 10 rfl rfl)
theorem dX6_catcode_56 : decode cX6_catcode 56 = .ok (.invokestatic 226, 3) := dk_184 0 226 (dk_at dksX6_catcode_2 11 rfl rfl)
theorem dX6_catcode_59 : decode cX6_catcode 59 = .ok (.ifCond .eq 15, 3) := dk_153 0 15 (dk_at dksX6_catcode_2 14 rfl rfl)
theorem dX6_catcode_62 : decode cX6_catcode 62 = .ok (.aload_n 0, 1) := dk_42 (dk_at dksX6_catcode_2 17 rfl rfl)
theorem dX6_catcode_63 : decode cX6_catcode 63 = .ok (.getfield 19, 3) := dk_180 0 19 (dk_at dksX6_catcode_2 18 rfl rfl)
theorem dX6_catcode_66 : decode cX6_catcode 66 = .ok (.bipush 11, 2) := dk_16 11 (dk_at dksX6_catcode_2 21 rfl rfl)
theorem dX6_catcode_68 : decode cX6_catcode 68 = .ok (.iload_n 2, 1) := dk_28 (dk_at dksX6_catcode_2 23 rfl rfl)
theorem dX6_catcode_69 : decode cX6_catcode 69 = .ok (.imul, 1) := dk_104 (dk_at dksX6_catcode_3 0 rfl rfl)
theorem dX6_catcode_70 : decode cX6_catcode 70 = .ok (.iaload, 1) := dk_46 (dk_at dksX6_catcode_3 1 rfl rfl)
theorem dX6_catcode_71 : decode cX6_catcode 71 = .ok (.goto 8, 3) := dk_167 0 8 (dk_at dksX6_catcode_3 2 rfl rfl)
theorem dX6_catcode_74 : decode cX6_catcode 74 = .ok (.iload_n 1, 1) := dk_27 (dk_at dksX6_catcode_3 5 rfl rfl)
theorem dX6_catcode_75 : decode cX6_catcode 75 = .ok (.sipush 255, 3) := dk_17 0 255 (dk_at dksX6_catcode_3 6 rfl rfl)
theorem dX6_catcode_78 : decode cX6_catcode 78 = .ok (.iand, 1) := dk_126 (dk_at dksX6_catcode_3 9 rfl rfl)
theorem dX6_catcode_79 : decode cX6_catcode 79 = .ok (.istore_n 3, 1) := dk_62 (dk_at dksX6_catcode_3 10 rfl rfl)
theorem dX6_catcode_80 : decode cX6_catcode 80 = .ok (.aload_n 0, 1) := dk_42 (dk_at dksX6_catcode_3 11 rfl rfl)
theorem dX6_catcode_81 : decode cX6_catcode 81 = .ok (.invokevirtual 254, 3) := dk_182 0 254 (dk_at dksX6_catcode_3 12 rfl rfl)
theorem dX6_catcode_84 : decode cX6_catcode 84 = .ok (.istore 4, 2) := dk_54 4 (dk_at dksX6_catcode_3 15 rfl rfl)
theorem dX6_catcode_86 : decode cX6_catcode 86 = .ok (.iload 4, 2) := dk_21 4 (dk_at dksX6_catcode_3 17 rfl rfl)
theorem dX6_catcode_88 : decode cX6_catcode 88 = .ok (.iconst (-1), 1) := dk_2 (dk_at dksX6_catcode_3 19 rfl rfl)
theorem dX6_catcode_89 : decode cX6_catcode 89 = .ok (.if_icmp .ne 4, 3) := dk_160 0 4 (dk_at dksX6_catcode_3 20 rfl rfl)
theorem dX6_catcode_92 : decode cX6_catcode 92 = .ok (.return_, 1) := dk_177 (dk_at dksX6_catcode_3 23 rfl rfl)
theorem dX6_catcode_93 : decode cX6_catcode 93 = .ok (.iload 4, 2) := dk_21 4 (dk_at dksX6_catcode_4 0 rfl rfl)
theorem dX6_catcode_95 : decode cX6_catcode 95 = .ok (.invokestatic 334, 3) := dk_184 1 78 (dk_at dksX6_catcode_4 2 rfl rfl)
theorem dX6_catcode_98 : decode cX6_catcode 98 = .ok (.istore 5, 2) := dk_54 5 (dk_at dksX6_catcode_4 5 rfl rfl)
theorem dX6_catcode_100 : decode cX6_catcode 100 = .ok (.iload 5, 2) := dk_21 5 (dk_at dksX6_catcode_4 7 rfl rfl)
theorem dX6_catcode_102 : decode cX6_catcode 102 = .ok (.ifCond .ge 11, 3) := dk_156 0 11 (dk_at dksX6_catcode_4 9 rfl rfl)
theorem dX6_catcode_105 : decode cX6_catcode 105 = .ok (.aload_n 0, 1) := dk_42 (dk_at dksX6_catcode_4 12 rfl rfl)
theorem dX6_catcode_106 : decode cX6_catcode 106 = .ok (.iconst 4, 1) := dk_7 (dk_at dksX6_catcode_4 13 rfl rfl)
theorem dX6_catcode_107 : decode cX6_catcode 107 = .ok (.invokevirtual 205, 3) := dk_182 0 205 (dk_at dksX6_catcode_4 14 rfl rfl)
theorem dX6_catcode_110 : decode cX6_catcode 110 = .ok (.istore 6, 2) := dk_54 6 (dk_at dksX6_catcode_4 17 rfl rfl)
theorem dX6_catcode_112 : decode cX6_catcode 112 = .ok (.return_, 1) := dk_177 (dk_at dksX6_catcode_4 19 rfl rfl)
theorem dX6_catcode_113 : decode cX6_catcode 113 = .ok (.aload_n 0, 1) := dk_42 (dk_at dksX6_catcode_4 20 rfl rfl)
theorem dX6_catcode_114 : decode cX6_catcode 114 = .ok (.invokevirtual 223, 3) := dk_182 0 223 (dk_at dksX6_catcode_4 21 rfl rfl)
theorem dX6_catcode_117 : decode cX6_catcode 117 = .ok (.istore 6, 2) := dk_54 6 (dk_at dksX6_catcode_5 0 rfl rfl)
theorem dX6_catcode_119 : decode cX6_catcode 119 = .ok (.iload 6, 2) := dk_21 6 (dk_at dksX6_catcode_5 2 rfl rfl)
theorem dX6_catcode_121 : decode cX6_catcode 121 = .ok (.iconst (-1), 1) := dk_2 (dk_at dksX6_catcode_5 4 rfl rfl)
theorem dX6_catcode_122 : decode cX6_catcode 122 = .ok (.if_icmp .eq 27, 3) := dk_159 0 27 (dk_at dksX6_catcode_5 5 rfl rfl)
theorem dX6_catcode_125 : decode cX6_catcode 125 = .ok (.iload 6, 2) := dk_21 6 (dk_at dksX6_catcode_5 8 rfl rfl)
theorem dX6_catcode_127 : decode cX6_catcode 127 = .ok (.invokestatic 334, 3) := dk_184 1 78 (dk_at dksX6_catcode_5 10 rfl rfl)
theorem dX6_catcode_130 : decode cX6_catcode 130 = .ok (.ifCond .lt 19, 3) := dk_155 0 19 (dk_at dksX6_catcode_5 13 rfl rfl)
theorem dX6_catcode_133 : decode cX6_catcode 133 = .ok (.bipush 10, 2) := dk_16 10 (dk_at dksX6_catcode_5 16 rfl rfl)
theorem dX6_catcode_135 : decode cX6_catcode 135 = .ok (.iload 5, 2) := dk_21 5 (dk_at dksX6_catcode_5 18 rfl rfl)
theorem dX6_catcode_137 : decode cX6_catcode 137 = .ok (.imul, 1) := dk_104 (dk_at dksX6_catcode_5 20 rfl rfl)
theorem dX6_catcode_138 : decode cX6_catcode 138 = .ok (.iload 6, 2) := dk_21 6 (dk_at dksX6_catcode_5 21 rfl rfl)
theorem dX6_catcode_140 : decode cX6_catcode 140 = .ok (.invokestatic 334, 3) := dk_184 1 78 (dk_at dksX6_catcode_6 0 rfl rfl)
theorem dX6_catcode_143 : decode cX6_catcode 143 = .ok (.iadd, 1) := dk_96 (dk_at dksX6_catcode_6 3 rfl rfl)
theorem dX6_catcode_144 : decode cX6_catcode 144 = .ok (.istore 5, 2) := dk_54 5 (dk_at dksX6_catcode_6 4 rfl rfl)
theorem dX6_catcode_146 : decode cX6_catcode 146 = .ok (.goto 15, 3) := dk_167 0 15 (dk_at dksX6_catcode_6 6 rfl rfl)
theorem dX6_catcode_149 : decode cX6_catcode 149 = .ok (.iload 6, 2) := dk_21 6 (dk_at dksX6_catcode_6 9 rfl rfl)
theorem dX6_catcode_151 : decode cX6_catcode 151 = .ok (.iconst (-1), 1) := dk_2 (dk_at dksX6_catcode_6 11 rfl rfl)
theorem dX6_catcode_152 : decode cX6_catcode 152 = .ok (.if_icmp .eq 9, 3) := dk_159 0 9 (dk_at dksX6_catcode_6 12 rfl rfl)
theorem dX6_catcode_155 : decode cX6_catcode 155 = .ok (.aload_n 0, 1) := dk_42 (dk_at dksX6_catcode_6 15 rfl rfl)
theorem dX6_catcode_156 : decode cX6_catcode 156 = .ok (.iload 6, 2) := dk_21 6 (dk_at dksX6_catcode_6 16 rfl rfl)
theorem dX6_catcode_158 : decode cX6_catcode 158 = .ok (.invokevirtual 264, 3) := dk_182 1 8 (dk_at dksX6_catcode_6 18 rfl rfl)
theorem dX6_catcode_161 : decode cX6_catcode 161 = .ok (.aload_n 0, 1) := dk_42 (dk_at dksX6_catcode_6 21 rfl rfl)
theorem dX6_catcode_162 : decode cX6_catcode 162 = .ok (.getfield 159, 3) := dk_180 0 159 (dk_at dksX6_catcode_7 0 rfl rfl)
theorem dX6_catcode_165 : decode cX6_catcode 165 = .ok (.ifCond .ne 17, 3) := dk_154 0 17 (dk_at dksX6_catcode_7 3 rfl rfl)
theorem dX6_catcode_168 : decode cX6_catcode 168 = .ok (.iload 5, 2) := dk_21 5 (dk_at dksX6_catcode_7 6 rfl rfl)
theorem dX6_catcode_170 : decode cX6_catcode 170 = .ok (.bipush 15, 2) := dk_16 15 (dk_at dksX6_catcode_7 8 rfl rfl)
theorem dX6_catcode_172 : decode cX6_catcode 172 = .ok (.if_icmp .le 10, 3) := dk_164 0 10 (dk_at dksX6_catcode_7 10 rfl rfl)
theorem dX6_catcode_175 : decode cX6_catcode 175 = .ok (.aload_n 0, 1) := dk_42 (dk_at dksX6_catcode_7 13 rfl rfl)
theorem dX6_catcode_176 : decode cX6_catcode 176 = .ok (.iconst 4, 1) := dk_7 (dk_at dksX6_catcode_7 14 rfl rfl)
theorem dX6_catcode_177 : decode cX6_catcode 177 = .ok (.invokevirtual 205, 3) := dk_182 0 205 (dk_at dksX6_catcode_7 15 rfl rfl)
theorem dX6_catcode_180 : decode cX6_catcode 180 = .ok (.istore 7, 2) := dk_54 7 (dk_at dksX6_catcode_7 18 rfl rfl)
theorem dX6_catcode_182 : decode cX6_catcode 182 = .ok (.aload_n 0, 1) := dk_42 (dk_at dksX6_catcode_7 20 rfl rfl)
theorem dX6_catcode_183 : decode cX6_catcode 183 = .ok (.getfield 159, 3) := dk_180 0 159 (dk_at dksX6_catcode_7 21 rfl rfl)
theorem dX6_catcode_186 : decode cX6_catcode 186 = .ok (.ifCond .ne 14, 3) := dk_154 0 14 (dk_at dksX6_catcode_8 0 rfl rfl)
theorem dX6_catcode_189 : decode cX6_catcode 189 = .ok (.aload_n 0, 1) := dk_42 (dk_at dksX6_catcode_8 3 rfl rfl)
theorem dX6_catcode_190 : decode cX6_catcode 190 = .ok (.sipush 200, 3) := dk_17 0 200 (dk_at dksX6_catcode_8 4 rfl rfl)
theorem dX6_catcode_193 : decode cX6_catcode 193 = .ok (.iload_n 3, 1) := dk_29 (dk_at dksX6_catcode_8 7 rfl rfl)
theorem dX6_catcode_194 : decode cX6_catcode 194 = .ok (.iadd, 1) := dk_96 (dk_at dksX6_catcode_8 8 rfl rfl)
theorem dX6_catcode_195 : decode cX6_catcode 195 = .ok (.iload 5, 2) := dk_21 5 (dk_at dksX6_catcode_8 9 rfl rfl)
theorem dX6_catcode_197 : decode cX6_catcode 197 = .ok (.invokevirtual 309, 3) := dk_182 1 53 (dk_at dksX6_catcode_8 11 rfl rfl)
theorem dX6_catcode_200 : decode cX6_catcode 200 = .ok (.return_, 1) := dk_177 (dk_at dksX6_catcode_8 14 rfl rfl)
abbrev cX6_digit : ByteArray := prog_10_method_51_code
def yX6_digit : MethodName := ⟨RX6, "digit", "(I)I"⟩
def dkwX6_digit_1 : List UInt8 := [16, 58, 162, 0, 14, 26, 17, 0, 255, 126, 16, 48, 100, 167, 0, 4, 2, 172]
abbrev dktX6_digit_1 : List UInt8 := dkwX6_digit_1 ++ []
def dkwX6_digit_0 : List UInt8 := [26, 16, 12, 184, 0, 238, 153, 0, 34, 26, 17, 0, 255, 126, 16, 47, 164, 0, 24, 26, 17, 0, 255, 126]
abbrev dktX6_digit_0 : List UInt8 := dkwX6_digit_0 ++ dktX6_digit_1
theorem dksX6_digit_0 : cX6_digit.data.toList.drop 0 = dktX6_digit_0 := by decide +kernel
theorem dksX6_digit_1 : cX6_digit.data.toList.drop 24 = dktX6_digit_1 := dk_seg dksX6_digit_0 24 rfl rfl
theorem dX6_digit_0 : decode cX6_digit 0 = .ok (.iload_n 0, 1) := dk_26 (dk_at dksX6_digit_0 0 rfl rfl)
theorem dX6_digit_1 : decode cX6_digit 1 = .ok (.bipush 12, 2) := dk_16 12 (dk_at dksX6_digit_0 1 rfl rfl)
theorem dX6_digit_3 : decode cX6_digit 3 = .ok (.invokestatic 238, 3) := dk_184 0 238 (dk_at dksX6_digit_0 3 rfl rfl)
theorem dX6_digit_6 : decode cX6_digit 6 = .ok (.ifCond .eq 34, 3) := dk_153 0 34 (dk_at dksX6_digit_0 6 rfl rfl)
theorem dX6_digit_9 : decode cX6_digit 9 = .ok (.iload_n 0, 1) := dk_26 (dk_at dksX6_digit_0 9 rfl rfl)
theorem dX6_digit_10 : decode cX6_digit 10 = .ok (.sipush 255, 3) := dk_17 0 255 (dk_at dksX6_digit_0 10 rfl rfl)
theorem dX6_digit_13 : decode cX6_digit 13 = .ok (.iand, 1) := dk_126 (dk_at dksX6_digit_0 13 rfl rfl)
theorem dX6_digit_14 : decode cX6_digit 14 = .ok (.bipush 47, 2) := dk_16 47 (dk_at dksX6_digit_0 14 rfl rfl)
theorem dX6_digit_16 : decode cX6_digit 16 = .ok (.if_icmp .le 24, 3) := dk_164 0 24 (dk_at dksX6_digit_0 16 rfl rfl)
theorem dX6_digit_19 : decode cX6_digit 19 = .ok (.iload_n 0, 1) := dk_26 (dk_at dksX6_digit_0 19 rfl rfl)
theorem dX6_digit_20 : decode cX6_digit 20 = .ok (.sipush 255, 3) := dk_17 0 255 (dk_at dksX6_digit_0 20 rfl rfl)
theorem dX6_digit_23 : decode cX6_digit 23 = .ok (.iand, 1) := dk_126 (dk_at dksX6_digit_0 23 rfl rfl)
theorem dX6_digit_24 : decode cX6_digit 24 = .ok (.bipush 58, 2) := dk_16 58 (dk_at dksX6_digit_1 0 rfl rfl)
theorem dX6_digit_26 : decode cX6_digit 26 = .ok (.if_icmp .ge 14, 3) := dk_162 0 14 (dk_at dksX6_digit_1 2 rfl rfl)
theorem dX6_digit_29 : decode cX6_digit 29 = .ok (.iload_n 0, 1) := dk_26 (dk_at dksX6_digit_1 5 rfl rfl)
theorem dX6_digit_30 : decode cX6_digit 30 = .ok (.sipush 255, 3) := dk_17 0 255 (dk_at dksX6_digit_1 6 rfl rfl)
theorem dX6_digit_33 : decode cX6_digit 33 = .ok (.iand, 1) := dk_126 (dk_at dksX6_digit_1 9 rfl rfl)
theorem dX6_digit_34 : decode cX6_digit 34 = .ok (.bipush 48, 2) := dk_16 48 (dk_at dksX6_digit_1 10 rfl rfl)
theorem dX6_digit_36 : decode cX6_digit 36 = .ok (.isub, 1) := dk_100 (dk_at dksX6_digit_1 12 rfl rfl)
theorem dX6_digit_37 : decode cX6_digit 37 = .ok (.goto 4, 3) := dk_167 0 4 (dk_at dksX6_digit_1 13 rfl rfl)
theorem dX6_digit_40 : decode cX6_digit 40 = .ok (.iconst (-1), 1) := dk_2 (dk_at dksX6_digit_1 16 rfl rfl)
theorem dX6_digit_41 : decode cX6_digit 41 = .ok (.ireturn, 1) := dk_172 (dk_at dksX6_digit_1 17 rfl rfl)
abbrev cX6_define : ByteArray := prog_10_method_49_code
def yX6_define : MethodName := ⟨RX6, "define", "(I)V"⟩
def dkwX6_define_5 : List UInt8 := [29, 167, 0, 10, 42, 180, 0, 41, 21, 4, 46, 79, 132, 4, 1, 167, 255, 215, 177]
abbrev dktX6_define_5 : List UInt8 := dkwX6_define_5 ++ []
def dkwX6_define_4 : List UInt8 := [42, 180, 0, 171, 162, 0, 38, 42, 180, 0, 41, 21, 4, 42, 180, 0, 38, 21, 4, 46, 28, 160, 0, 7]
abbrev dktX6_define_4 : List UInt8 := dkwX6_define_4 ++ dktX6_define_5
def dkwX6_define_3 : List UInt8 := [27, 7, 159, 0, 10, 42, 28, 29, 182, 1, 53, 177, 42, 180, 0, 29, 28, 29, 79, 3, 54, 4, 21, 4]
abbrev dktX6_define_3 : List UInt8 := dkwX6_define_3 ++ dktX6_define_4
def dkwX6_define_2 : List UInt8 := [182, 0, 205, 62, 177, 17, 23, 112, 42, 180, 0, 174, 96, 62, 42, 89, 180, 0, 174, 4, 96, 181, 0, 174]
abbrev dktX6_define_2 : List UInt8 := dkwX6_define_2 ++ dktX6_define_3
def dkwX6_define_1 : List UInt8 := [167, 0, 4, 3, 182, 1, 75, 154, 0, 4, 177, 42, 180, 0, 174, 16, 60, 160, 0, 10, 42, 8]
abbrev dktX6_define_1 : List UInt8 := dkwX6_define_1 ++ dktX6_define_2
def dkwX6_define_0 : List UInt8 := [42, 182, 1, 68, 61, 28, 2, 159, 0, 27, 42, 182, 1, 71, 153, 0, 20, 42, 27, 8, 160, 0, 7, 4]
abbrev dktX6_define_0 : List UInt8 := dkwX6_define_0 ++ dktX6_define_1
theorem dksX6_define_0 : cX6_define.data.toList.drop 0 = dktX6_define_0 := by decide +kernel
theorem dksX6_define_1 : cX6_define.data.toList.drop 24 = dktX6_define_1 := dk_seg dksX6_define_0 24 rfl rfl
theorem dksX6_define_2 : cX6_define.data.toList.drop 46 = dktX6_define_2 := dk_seg dksX6_define_1 22 rfl rfl
theorem dksX6_define_3 : cX6_define.data.toList.drop 70 = dktX6_define_3 := dk_seg dksX6_define_2 24 rfl rfl
theorem dksX6_define_4 : cX6_define.data.toList.drop 94 = dktX6_define_4 := dk_seg dksX6_define_3 24 rfl rfl
theorem dksX6_define_5 : cX6_define.data.toList.drop 118 = dktX6_define_5 := dk_seg dksX6_define_4 24 rfl rfl
theorem dX6_define_0 : decode cX6_define 0 = .ok (.aload_n 0, 1) := dk_42 (dk_at dksX6_define_0 0 rfl rfl)
theorem dX6_define_1 : decode cX6_define 1 = .ok (.invokevirtual 324, 3) := dk_182 1 68 (dk_at dksX6_define_0 1 rfl rfl)
theorem dX6_define_4 : decode cX6_define 4 = .ok (.istore_n 2, 1) := dk_61 (dk_at dksX6_define_0 4 rfl rfl)
theorem dX6_define_5 : decode cX6_define 5 = .ok (.iload_n 2, 1) := dk_28 (dk_at dksX6_define_0 5 rfl rfl)
theorem dX6_define_6 : decode cX6_define 6 = .ok (.iconst (-1), 1) := dk_2 (dk_at dksX6_define_0 6 rfl rfl)
theorem dX6_define_7 : decode cX6_define 7 = .ok (.if_icmp .eq 27, 3) := dk_159 0 27 (dk_at dksX6_define_0 7 rfl rfl)
theorem dX6_define_10 : decode cX6_define 10 = .ok (.aload_n 0, 1) := dk_42 (dk_at dksX6_define_0 10 rfl rfl)
theorem dX6_define_11 : decode cX6_define 11 = .ok (.invokevirtual 327, 3) := dk_182 1 71 (dk_at dksX6_define_0 11 rfl rfl)
theorem dX6_define_14 : decode cX6_define 14 = .ok (.ifCond .eq 20, 3) := dk_153 0 20 (dk_at dksX6_define_0 14 rfl rfl)
theorem dX6_define_17 : decode cX6_define 17 = .ok (.aload_n 0, 1) := dk_42 (dk_at dksX6_define_0 17 rfl rfl)
theorem dX6_define_18 : decode cX6_define 18 = .ok (.iload_n 1, 1) := dk_27 (dk_at dksX6_define_0 18 rfl rfl)
theorem dX6_define_19 : decode cX6_define 19 = .ok (.iconst 5, 1) := dk_8 (dk_at dksX6_define_0 19 rfl rfl)
theorem dX6_define_20 : decode cX6_define 20 = .ok (.if_icmp .ne 7, 3) := dk_160 0 7 (dk_at dksX6_define_0 20 rfl rfl)
theorem dX6_define_23 : decode cX6_define 23 = .ok (.iconst 1, 1) := dk_4 (dk_at dksX6_define_0 23 rfl rfl)
theorem dX6_define_24 : decode cX6_define 24 = .ok (.goto 4, 3) := dk_167 0 4 (dk_at dksX6_define_1 0 rfl rfl)
theorem dX6_define_27 : decode cX6_define 27 = .ok (.iconst 0, 1) := dk_3 (dk_at dksX6_define_1 3 rfl rfl)
theorem dX6_define_28 : decode cX6_define 28 = .ok (.invokevirtual 331, 3) := dk_182 1 75 (dk_at dksX6_define_1 4 rfl rfl)
theorem dX6_define_31 : decode cX6_define 31 = .ok (.ifCond .ne 4, 3) := dk_154 0 4 (dk_at dksX6_define_1 7 rfl rfl)
theorem dX6_define_34 : decode cX6_define 34 = .ok (.return_, 1) := dk_177 (dk_at dksX6_define_1 10 rfl rfl)
theorem dX6_define_35 : decode cX6_define 35 = .ok (.aload_n 0, 1) := dk_42 (dk_at dksX6_define_1 11 rfl rfl)
theorem dX6_define_36 : decode cX6_define 36 = .ok (.getfield 174, 3) := dk_180 0 174 (dk_at dksX6_define_1 12 rfl rfl)
theorem dX6_define_39 : decode cX6_define 39 = .ok (.bipush 60, 2) := dk_16 60 (dk_at dksX6_define_1 15 rfl rfl)
theorem dX6_define_41 : decode cX6_define 41 = .ok (.if_icmp .ne 10, 3) := dk_160 0 10 (dk_at dksX6_define_1 17 rfl rfl)
theorem dX6_define_44 : decode cX6_define 44 = .ok (.aload_n 0, 1) := dk_42 (dk_at dksX6_define_1 20 rfl rfl)
theorem dX6_define_45 : decode cX6_define 45 = .ok (.iconst 5, 1) := dk_8 (dk_at dksX6_define_1 21 rfl rfl)
theorem dX6_define_46 : decode cX6_define 46 = .ok (.invokevirtual 205, 3) := dk_182 0 205 (dk_at dksX6_define_2 0 rfl rfl)
theorem dX6_define_49 : decode cX6_define 49 = .ok (.istore_n 3, 1) := dk_62 (dk_at dksX6_define_2 3 rfl rfl)
theorem dX6_define_50 : decode cX6_define 50 = .ok (.return_, 1) := dk_177 (dk_at dksX6_define_2 4 rfl rfl)
theorem dX6_define_51 : decode cX6_define 51 = .ok (.sipush 6000, 3) := dk_17 23 112 (dk_at dksX6_define_2 5 rfl rfl)
theorem dX6_define_54 : decode cX6_define 54 = .ok (.aload_n 0, 1) := dk_42 (dk_at dksX6_define_2 8 rfl rfl)
theorem dX6_define_55 : decode cX6_define 55 = .ok (.getfield 174, 3) := dk_180 0 174 (dk_at dksX6_define_2 9 rfl rfl)
theorem dX6_define_58 : decode cX6_define 58 = .ok (.iadd, 1) := dk_96 (dk_at dksX6_define_2 12 rfl rfl)
theorem dX6_define_59 : decode cX6_define 59 = .ok (.istore_n 3, 1) := dk_62 (dk_at dksX6_define_2 13 rfl rfl)
theorem dX6_define_60 : decode cX6_define 60 = .ok (.aload_n 0, 1) := dk_42 (dk_at dksX6_define_2 14 rfl rfl)
theorem dX6_define_61 : decode cX6_define 61 = .ok (.dup, 1) := dk_89 (dk_at dksX6_define_2 15 rfl rfl)
theorem dX6_define_62 : decode cX6_define 62 = .ok (.getfield 174, 3) := dk_180 0 174 (dk_at dksX6_define_2 16 rfl rfl)
theorem dX6_define_65 : decode cX6_define 65 = .ok (.iconst 1, 1) := dk_4 (dk_at dksX6_define_2 19 rfl rfl)
theorem dX6_define_66 : decode cX6_define 66 = .ok (.iadd, 1) := dk_96 (dk_at dksX6_define_2 20 rfl rfl)
theorem dX6_define_67 : decode cX6_define 67 = .ok (.putfield 174, 3) := dk_181 0 174 (dk_at dksX6_define_2 21 rfl rfl)
theorem dX6_define_70 : decode cX6_define 70 = .ok (.iload_n 1, 1) := dk_27 (dk_at dksX6_define_3 0 rfl rfl)
theorem dX6_define_71 : decode cX6_define 71 = .ok (.iconst 4, 1) := dk_7 (dk_at dksX6_define_3 1 rfl rfl)
theorem dX6_define_72 : decode cX6_define 72 = .ok (.if_icmp .eq 10, 3) := dk_159 0 10 (dk_at dksX6_define_3 2 rfl rfl)
theorem dX6_define_75 : decode cX6_define 75 = .ok (.aload_n 0, 1) := dk_42 (dk_at dksX6_define_3 5 rfl rfl)
theorem dX6_define_76 : decode cX6_define 76 = .ok (.iload_n 2, 1) := dk_28 (dk_at dksX6_define_3 6 rfl rfl)
theorem dX6_define_77 : decode cX6_define 77 = .ok (.iload_n 3, 1) := dk_29 (dk_at dksX6_define_3 7 rfl rfl)
theorem dX6_define_78 : decode cX6_define 78 = .ok (.invokevirtual 309, 3) := dk_182 1 53 (dk_at dksX6_define_3 8 rfl rfl)
theorem dX6_define_81 : decode cX6_define 81 = .ok (.return_, 1) := dk_177 (dk_at dksX6_define_3 11 rfl rfl)
theorem dX6_define_82 : decode cX6_define 82 = .ok (.aload_n 0, 1) := dk_42 (dk_at dksX6_define_3 12 rfl rfl)
theorem dX6_define_83 : decode cX6_define 83 = .ok (.getfield 29, 3) := dk_180 0 29 (dk_at dksX6_define_3 13 rfl rfl)
theorem dX6_define_86 : decode cX6_define 86 = .ok (.iload_n 2, 1) := dk_28 (dk_at dksX6_define_3 16 rfl rfl)
theorem dX6_define_87 : decode cX6_define 87 = .ok (.iload_n 3, 1) := dk_29 (dk_at dksX6_define_3 17 rfl rfl)
theorem dX6_define_88 : decode cX6_define 88 = .ok (.iastore, 1) := dk_79 (dk_at dksX6_define_3 18 rfl rfl)
theorem dX6_define_89 : decode cX6_define 89 = .ok (.iconst 0, 1) := dk_3 (dk_at dksX6_define_3 19 rfl rfl)
theorem dX6_define_90 : decode cX6_define 90 = .ok (.istore 4, 2) := dk_54 4 (dk_at dksX6_define_3 20 rfl rfl)
theorem dX6_define_92 : decode cX6_define 92 = .ok (.iload 4, 2) := dk_21 4 (dk_at dksX6_define_3 22 rfl rfl)
theorem dX6_define_94 : decode cX6_define 94 = .ok (.aload_n 0, 1) := dk_42 (dk_at dksX6_define_4 0 rfl rfl)
theorem dX6_define_95 : decode cX6_define 95 = .ok (.getfield 171, 3) := dk_180 0 171 (dk_at dksX6_define_4 1 rfl rfl)
theorem dX6_define_98 : decode cX6_define 98 = .ok (.if_icmp .ge 38, 3) := dk_162 0 38 (dk_at dksX6_define_4 4 rfl rfl)
theorem dX6_define_101 : decode cX6_define 101 = .ok (.aload_n 0, 1) := dk_42 (dk_at dksX6_define_4 7 rfl rfl)
theorem dX6_define_102 : decode cX6_define 102 = .ok (.getfield 41, 3) := dk_180 0 41 (dk_at dksX6_define_4 8 rfl rfl)
theorem dX6_define_105 : decode cX6_define 105 = .ok (.iload 4, 2) := dk_21 4 (dk_at dksX6_define_4 11 rfl rfl)
theorem dX6_define_107 : decode cX6_define 107 = .ok (.aload_n 0, 1) := dk_42 (dk_at dksX6_define_4 13 rfl rfl)
theorem dX6_define_108 : decode cX6_define 108 = .ok (.getfield 38, 3) := dk_180 0 38 (dk_at dksX6_define_4 14 rfl rfl)
theorem dX6_define_111 : decode cX6_define 111 = .ok (.iload 4, 2) := dk_21 4 (dk_at dksX6_define_4 17 rfl rfl)
theorem dX6_define_113 : decode cX6_define 113 = .ok (.iaload, 1) := dk_46 (dk_at dksX6_define_4 19 rfl rfl)
theorem dX6_define_114 : decode cX6_define 114 = .ok (.iload_n 2, 1) := dk_28 (dk_at dksX6_define_4 20 rfl rfl)
theorem dX6_define_115 : decode cX6_define 115 = .ok (.if_icmp .ne 7, 3) := dk_160 0 7 (dk_at dksX6_define_4 21 rfl rfl)
theorem dX6_define_118 : decode cX6_define 118 = .ok (.iload_n 3, 1) := dk_29 (dk_at dksX6_define_5 0 rfl rfl)
theorem dX6_define_119 : decode cX6_define 119 = .ok (.goto 10, 3) := dk_167 0 10 (dk_at dksX6_define_5 1 rfl rfl)
theorem dX6_define_122 : decode cX6_define 122 = .ok (.aload_n 0, 1) := dk_42 (dk_at dksX6_define_5 4 rfl rfl)
theorem dX6_define_123 : decode cX6_define 123 = .ok (.getfield 41, 3) := dk_180 0 41 (dk_at dksX6_define_5 5 rfl rfl)
theorem dX6_define_126 : decode cX6_define 126 = .ok (.iload 4, 2) := dk_21 4 (dk_at dksX6_define_5 8 rfl rfl)
theorem dX6_define_128 : decode cX6_define 128 = .ok (.iaload, 1) := dk_46 (dk_at dksX6_define_5 10 rfl rfl)
theorem dX6_define_129 : decode cX6_define 129 = .ok (.iastore, 1) := dk_79 (dk_at dksX6_define_5 11 rfl rfl)
theorem dX6_define_130 : decode cX6_define 130 = .ok (.iinc 4 1, 3) := dk_132 4 1 (dk_at dksX6_define_5 12 rfl rfl)
theorem dX6_define_133 : decode cX6_define 133 = .ok (.goto (-41), 3) := dk_167 255 215 (dk_at dksX6_define_5 15 rfl rfl)
theorem dX6_define_136 : decode cX6_define 136 = .ok (.return_, 1) := dk_177 (dk_at dksX6_define_5 18 rfl rfl)
abbrev cX6_readText : ByteArray := prog_10_method_47_code
def yX6_readText : MethodName := ⟨RX6, "readText", "()Z"⟩
def dkwX6_readText_9 : List UInt8 := [28, 79, 42, 180, 0, 44, 27, 92, 46, 4, 96, 79, 167, 255, 54]
abbrev dktX6_readText_9 : List UInt8 := dkwX6_readText_9 ++ []
def dkwX6_readText_8 : List UInt8 := [159, 0, 7, 4, 167, 0, 4, 3, 172, 42, 180, 0, 47, 16, 13, 27, 104, 42, 180, 0, 44, 27, 46, 96]
abbrev dktX6_readText_8 : List UInt8 := dkwX6_readText_8 ++ dktX6_readText_9
def dkwX6_readText_7 : List UInt8 := [167, 0, 4, 3, 172, 42, 180, 0, 44, 27, 46, 16, 12, 160, 0, 18, 42, 8, 182, 0, 205, 2]
abbrev dktX6_readText_7 : List UInt8 := dkwX6_readText_7 ++ dktX6_readText_8
def dkwX6_readText_6 : List UInt8 := [96, 61, 167, 0, 26, 28, 5, 184, 0, 238, 153, 0, 18, 42, 4, 182, 0, 205, 2, 159, 0, 7, 4]
abbrev dktX6_readText_6 : List UInt8 := dkwX6_readText_6 ++ dktX6_readText_7
def dkwX6_readText_5 : List UInt8 := [167, 0, 4, 3, 172, 42, 180, 0, 56, 27, 92, 46, 4, 96, 79, 17, 64, 0, 42, 180, 0, 56, 27, 46]
abbrev dktX6_readText_5 : List UInt8 := dkwX6_readText_5 ++ dktX6_readText_6
def dkwX6_readText_4 : List UInt8 := [16, 49, 42, 180, 0, 56, 27, 46, 96, 159, 0, 18, 42, 7, 182, 0, 205, 2, 159, 0, 7, 4]
abbrev dktX6_readText_4 : List UInt8 := dkwX6_readText_4 ++ dktX6_readText_5
def dkwX6_readText_3 : List UInt8 := [3, 172, 29, 17, 16, 0, 162, 0, 30, 42, 180, 0, 56, 27, 46, 7, 159, 0, 20, 29, 17, 0, 255, 126]
abbrev dktX6_readText_3 : List UInt8 := dkwX6_readText_3 ++ dktX6_readText_4
def dkwX6_readText_2 : List UInt8 := [167, 0, 4, 3, 172, 28, 16, 6, 184, 0, 238, 153, 0, 88, 42, 182, 0, 254, 62, 29, 2, 160, 0, 5]
abbrev dktX6_readText_2 : List UInt8 := dkwX6_readText_2 ++ dktX6_readText_3
def dkwX6_readText_1 : List UInt8 := [184, 0, 235, 61, 28, 2, 159, 0, 11, 28, 4, 184, 0, 238, 153, 0, 14, 28, 2, 159, 0, 7, 4]
abbrev dktX6_readText_1 : List UInt8 := dkwX6_readText_1 ++ dktX6_readText_2
def dkwX6_readText_0 : List UInt8 := [42, 180, 0, 174, 60, 42, 180, 0, 44, 27, 3, 79, 42, 180, 0, 56, 27, 3, 79, 42, 182, 0, 254]
abbrev dktX6_readText_0 : List UInt8 := dkwX6_readText_0 ++ dktX6_readText_1
theorem dksX6_readText_0 : cX6_readText.data.toList.drop 0 = dktX6_readText_0 := by decide +kernel
theorem dksX6_readText_1 : cX6_readText.data.toList.drop 23 = dktX6_readText_1 := dk_seg dksX6_readText_0 23 rfl rfl
theorem dksX6_readText_2 : cX6_readText.data.toList.drop 46 = dktX6_readText_2 := dk_seg dksX6_readText_1 23 rfl rfl
theorem dksX6_readText_3 : cX6_readText.data.toList.drop 70 = dktX6_readText_3 := dk_seg dksX6_readText_2 24 rfl rfl
theorem dksX6_readText_4 : cX6_readText.data.toList.drop 94 = dktX6_readText_4 := dk_seg dksX6_readText_3 24 rfl rfl
theorem dksX6_readText_5 : cX6_readText.data.toList.drop 116 = dktX6_readText_5 := dk_seg dksX6_readText_4 22 rfl rfl
theorem dksX6_readText_6 : cX6_readText.data.toList.drop 140 = dktX6_readText_6 := dk_seg dksX6_readText_5 24 rfl rfl
theorem dksX6_readText_7 : cX6_readText.data.toList.drop 163 = dktX6_readText_7 := dk_seg dksX6_readText_6 23 rfl rfl
theorem dksX6_readText_8 : cX6_readText.data.toList.drop 185 = dktX6_readText_8 := dk_seg dksX6_readText_7 22 rfl rfl
theorem dksX6_readText_9 : cX6_readText.data.toList.drop 209 = dktX6_readText_9 := dk_seg dksX6_readText_8 24 rfl rfl
theorem dX6_readText_0 : decode cX6_readText 0 = .ok (.aload_n 0, 1) := dk_42 (dk_at dksX6_readText_0 0 rfl rfl)
theorem dX6_readText_1 : decode cX6_readText 1 = .ok (.getfield 174, 3) := dk_180 0 174 (dk_at dksX6_readText_0 1 rfl rfl)
theorem dX6_readText_4 : decode cX6_readText 4 = .ok (.istore_n 1, 1) := dk_60 (dk_at dksX6_readText_0 4 rfl rfl)
theorem dX6_readText_5 : decode cX6_readText 5 = .ok (.aload_n 0, 1) := dk_42 (dk_at dksX6_readText_0 5 rfl rfl)
theorem dX6_readText_6 : decode cX6_readText 6 = .ok (.getfield 44, 3) := dk_180 0 44 (dk_at dksX6_readText_0 6 rfl rfl)
theorem dX6_readText_9 : decode cX6_readText 9 = .ok (.iload_n 1, 1) := dk_27 (dk_at dksX6_readText_0 9 rfl rfl)
theorem dX6_readText_10 : decode cX6_readText 10 = .ok (.iconst 0, 1) := dk_3 (dk_at dksX6_readText_0 10 rfl rfl)
theorem dX6_readText_11 : decode cX6_readText 11 = .ok (.iastore, 1) := dk_79 (dk_at dksX6_readText_0 11 rfl rfl)
theorem dX6_readText_12 : decode cX6_readText 12 = .ok (.aload_n 0, 1) := dk_42 (dk_at dksX6_readText_0 12 rfl rfl)
theorem dX6_readText_13 : decode cX6_readText 13 = .ok (.getfield 56, 3) := dk_180 0 56 (dk_at dksX6_readText_0 13 rfl rfl)
theorem dX6_readText_16 : decode cX6_readText 16 = .ok (.iload_n 1, 1) := dk_27 (dk_at dksX6_readText_0 16 rfl rfl)
theorem dX6_readText_17 : decode cX6_readText 17 = .ok (.iconst 0, 1) := dk_3 (dk_at dksX6_readText_0 17 rfl rfl)
theorem dX6_readText_18 : decode cX6_readText 18 = .ok (.iastore, 1) := dk_79 (dk_at dksX6_readText_0 18 rfl rfl)
theorem dX6_readText_19 : decode cX6_readText 19 = .ok (.aload_n 0, 1) := dk_42 (dk_at dksX6_readText_0 19 rfl rfl)
theorem dX6_readText_20 : decode cX6_readText 20 = .ok (.invokevirtual 254, 3) := dk_182 0 254 (dk_at dksX6_readText_0 20 rfl rfl)
theorem dX6_readText_23 : decode cX6_readText 23 = .ok (.invokestatic 235, 3) := dk_184 0 235 (dk_at dksX6_readText_1 0 rfl rfl)
theorem dX6_readText_26 : decode cX6_readText 26 = .ok (.istore_n 2, 1) := dk_61 (dk_at dksX6_readText_1 3 rfl rfl)
theorem dX6_readText_27 : decode cX6_readText 27 = .ok (.iload_n 2, 1) := dk_28 (dk_at dksX6_readText_1 4 rfl rfl)
theorem dX6_readText_28 : decode cX6_readText 28 = .ok (.iconst (-1), 1) := dk_2 (dk_at dksX6_readText_1 5 rfl rfl)
theorem dX6_readText_29 : decode cX6_readText 29 = .ok (.if_icmp .eq 11, 3) := dk_159 0 11 (dk_at dksX6_readText_1 6 rfl rfl)
theorem dX6_readText_32 : decode cX6_readText 32 = .ok (.iload_n 2, 1) := dk_28 (dk_at dksX6_readText_1 9 rfl rfl)
theorem dX6_readText_33 : decode cX6_readText 33 = .ok (.iconst 1, 1) := dk_4 (dk_at dksX6_readText_1 10 rfl rfl)
theorem dX6_readText_34 : decode cX6_readText 34 = .ok (.invokestatic 238, 3) := dk_184 0 238 (dk_at dksX6_readText_1 11 rfl rfl)
theorem dX6_readText_37 : decode cX6_readText 37 = .ok (.ifCond .eq 14, 3) := dk_153 0 14 (dk_at dksX6_readText_1 14 rfl rfl)
theorem dX6_readText_40 : decode cX6_readText 40 = .ok (.iload_n 2, 1) := dk_28 (dk_at dksX6_readText_1 17 rfl rfl)
theorem dX6_readText_41 : decode cX6_readText 41 = .ok (.iconst (-1), 1) := dk_2 (dk_at dksX6_readText_1 18 rfl rfl)
theorem dX6_readText_42 : decode cX6_readText 42 = .ok (.if_icmp .eq 7, 3) := dk_159 0 7 (dk_at dksX6_readText_1 19 rfl rfl)
theorem dX6_readText_45 : decode cX6_readText 45 = .ok (.iconst 1, 1) := dk_4 (dk_at dksX6_readText_1 22 rfl rfl)
theorem dX6_readText_46 : decode cX6_readText 46 = .ok (.goto 4, 3) := dk_167 0 4 (dk_at dksX6_readText_2 0 rfl rfl)
theorem dX6_readText_49 : decode cX6_readText 49 = .ok (.iconst 0, 1) := dk_3 (dk_at dksX6_readText_2 3 rfl rfl)
theorem dX6_readText_50 : decode cX6_readText 50 = .ok (.ireturn, 1) := dk_172 (dk_at dksX6_readText_2 4 rfl rfl)
theorem dX6_readText_51 : decode cX6_readText 51 = .ok (.iload_n 2, 1) := dk_28 (dk_at dksX6_readText_2 5 rfl rfl)
theorem dX6_readText_52 : decode cX6_readText 52 = .ok (.bipush 6, 2) := dk_16 6 (dk_at dksX6_readText_2 6 rfl rfl)
theorem dX6_readText_54 : decode cX6_readText 54 = .ok (.invokestatic 238, 3) := dk_184 0 238 (dk_at dksX6_readText_2 8 rfl rfl)
theorem dX6_readText_57 : decode cX6_readText 57 = .ok (.ifCond .eq 88, 3) := dk_153 0 88 (dk_at dksX6_readText_2 11 rfl rfl)
theorem dX6_readText_60 : decode cX6_readText 60 = .ok (.aload_n 0, 1) := dk_42 (dk_at dksX6_readText_2 14 rfl rfl)
theorem dX6_readText_61 : decode cX6_readText 61 = .ok (.invokevirtual 254, 3) := dk_182 0 254 (dk_at dksX6_readText_2 15 rfl rfl)
theorem dX6_readText_64 : decode cX6_readText 64 = .ok (.istore_n 3, 1) := dk_62 (dk_at dksX6_readText_2 18 rfl rfl)
theorem dX6_readText_65 : decode cX6_readText 65 = .ok (.iload_n 3, 1) := dk_29 (dk_at dksX6_readText_2 19 rfl rfl)
theorem dX6_readText_66 : decode cX6_readText 66 = .ok (.iconst (-1), 1) := dk_2 (dk_at dksX6_readText_2 20 rfl rfl)
theorem dX6_readText_67 : decode cX6_readText 67 = .ok (.if_icmp .ne 5, 3) := dk_160 0 5 (dk_at dksX6_readText_2 21 rfl rfl)
theorem dX6_readText_70 : decode cX6_readText 70 = .ok (.iconst 0, 1) := dk_3 (dk_at dksX6_readText_3 0 rfl rfl)
theorem dX6_readText_71 : decode cX6_readText 71 = .ok (.ireturn, 1) := dk_172 (dk_at dksX6_readText_3 1 rfl rfl)
theorem dX6_readText_72 : decode cX6_readText 72 = .ok (.iload_n 3, 1) := dk_29 (dk_at dksX6_readText_3 2 rfl rfl)
theorem dX6_readText_73 : decode cX6_readText 73 = .ok (.sipush 4096, 3) := dk_17 16 0 (dk_at dksX6_readText_3 3 rfl rfl)
theorem dX6_readText_76 : decode cX6_readText 76 = .ok (.if_icmp .ge 30, 3) := dk_162 0 30 (dk_at dksX6_readText_3 6 rfl rfl)
theorem dX6_readText_79 : decode cX6_readText 79 = .ok (.aload_n 0, 1) := dk_42 (dk_at dksX6_readText_3 9 rfl rfl)
theorem dX6_readText_80 : decode cX6_readText 80 = .ok (.getfield 56, 3) := dk_180 0 56 (dk_at dksX6_readText_3 10 rfl rfl)
theorem dX6_readText_83 : decode cX6_readText 83 = .ok (.iload_n 1, 1) := dk_27 (dk_at dksX6_readText_3 13 rfl rfl)
theorem dX6_readText_84 : decode cX6_readText 84 = .ok (.iaload, 1) := dk_46 (dk_at dksX6_readText_3 14 rfl rfl)
theorem dX6_readText_85 : decode cX6_readText 85 = .ok (.iconst 4, 1) := dk_7 (dk_at dksX6_readText_3 15 rfl rfl)
theorem dX6_readText_86 : decode cX6_readText 86 = .ok (.if_icmp .eq 20, 3) := dk_159 0 20 (dk_at dksX6_readText_3 16 rfl rfl)
theorem dX6_readText_89 : decode cX6_readText 89 = .ok (.iload_n 3, 1) := dk_29 (dk_at dksX6_readText_3 19 rfl rfl)
theorem dX6_readText_90 : decode cX6_readText 90 = .ok (.sipush 255, 3) := dk_17 0 255 (dk_at dksX6_readText_3 20 rfl rfl)
theorem dX6_readText_93 : decode cX6_readText 93 = .ok (.iand, 1) := dk_126 (dk_at dksX6_readText_3 23 rfl rfl)
theorem dX6_readText_94 : decode cX6_readText 94 = .ok (.bipush 49, 2) := dk_16 49 (dk_at dksX6_readText_4 0 rfl rfl)
theorem dX6_readText_96 : decode cX6_readText 96 = .ok (.aload_n 0, 1) := dk_42 (dk_at dksX6_readText_4 2 rfl rfl)
theorem dX6_readText_97 : decode cX6_readText 97 = .ok (.getfield 56, 3) := dk_180 0 56 (dk_at dksX6_readText_4 3 rfl rfl)
theorem dX6_readText_100 : decode cX6_readText 100 = .ok (.iload_n 1, 1) := dk_27 (dk_at dksX6_readText_4 6 rfl rfl)
theorem dX6_readText_101 : decode cX6_readText 101 = .ok (.iaload, 1) := dk_46 (dk_at dksX6_readText_4 7 rfl rfl)
theorem dX6_readText_102 : decode cX6_readText 102 = .ok (.iadd, 1) := dk_96 (dk_at dksX6_readText_4 8 rfl rfl)
theorem dX6_readText_103 : decode cX6_readText 103 = .ok (.if_icmp .eq 18, 3) := dk_159 0 18 (dk_at dksX6_readText_4 9 rfl rfl)
theorem dX6_readText_106 : decode cX6_readText 106 = .ok (.aload_n 0, 1) := dk_42 (dk_at dksX6_readText_4 12 rfl rfl)
theorem dX6_readText_107 : decode cX6_readText 107 = .ok (.iconst 4, 1) := dk_7 (dk_at dksX6_readText_4 13 rfl rfl)
theorem dX6_readText_108 : decode cX6_readText 108 = .ok (.invokevirtual 205, 3) := dk_182 0 205 (dk_at dksX6_readText_4 14 rfl rfl)
theorem dX6_readText_111 : decode cX6_readText 111 = .ok (.iconst (-1), 1) := dk_2 (dk_at dksX6_readText_4 17 rfl rfl)
theorem dX6_readText_112 : decode cX6_readText 112 = .ok (.if_icmp .eq 7, 3) := dk_159 0 7 (dk_at dksX6_readText_4 18 rfl rfl)
theorem dX6_readText_115 : decode cX6_readText 115 = .ok (.iconst 1, 1) := dk_4 (dk_at dksX6_readText_4 21 rfl rfl)
theorem dX6_readText_116 : decode cX6_readText 116 = .ok (.goto 4, 3) := dk_167 0 4 (dk_at dksX6_readText_5 0 rfl rfl)
theorem dX6_readText_119 : decode cX6_readText 119 = .ok (.iconst 0, 1) := dk_3 (dk_at dksX6_readText_5 3 rfl rfl)
theorem dX6_readText_120 : decode cX6_readText 120 = .ok (.ireturn, 1) := dk_172 (dk_at dksX6_readText_5 4 rfl rfl)
theorem dX6_readText_121 : decode cX6_readText 121 = .ok (.aload_n 0, 1) := dk_42 (dk_at dksX6_readText_5 5 rfl rfl)
theorem dX6_readText_122 : decode cX6_readText 122 = .ok (.getfield 56, 3) := dk_180 0 56 (dk_at dksX6_readText_5 6 rfl rfl)
theorem dX6_readText_125 : decode cX6_readText 125 = .ok (.iload_n 1, 1) := dk_27 (dk_at dksX6_readText_5 9 rfl rfl)
theorem dX6_readText_126 : decode cX6_readText 126 = .ok (.dup2, 1) := dk_92 (dk_at dksX6_readText_5 10 rfl rfl)
theorem dX6_readText_127 : decode cX6_readText 127 = .ok (.iaload, 1) := dk_46 (dk_at dksX6_readText_5 11 rfl rfl)
theorem dX6_readText_128 : decode cX6_readText 128 = .ok (.iconst 1, 1) := dk_4 (dk_at dksX6_readText_5 12 rfl rfl)
theorem dX6_readText_129 : decode cX6_readText 129 = .ok (.iadd, 1) := dk_96 (dk_at dksX6_readText_5 13 rfl rfl)
theorem dX6_readText_130 : decode cX6_readText 130 = .ok (.iastore, 1) := dk_79 (dk_at dksX6_readText_5 14 rfl rfl)
theorem dX6_readText_131 : decode cX6_readText 131 = .ok (.sipush 16384, 3) := dk_17 64 0 (dk_at dksX6_readText_5 15 rfl rfl)
theorem dX6_readText_134 : decode cX6_readText 134 = .ok (.aload_n 0, 1) := dk_42 (dk_at dksX6_readText_5 18 rfl rfl)
theorem dX6_readText_135 : decode cX6_readText 135 = .ok (.getfield 56, 3) := dk_180 0 56 (dk_at dksX6_readText_5 19 rfl rfl)
theorem dX6_readText_138 : decode cX6_readText 138 = .ok (.iload_n 1, 1) := dk_27 (dk_at dksX6_readText_5 22 rfl rfl)
theorem dX6_readText_139 : decode cX6_readText 139 = .ok (.iaload, 1) := dk_46 (dk_at dksX6_readText_5 23 rfl rfl)
theorem dX6_readText_140 : decode cX6_readText 140 = .ok (.iadd, 1) := dk_96 (dk_at dksX6_readText_6 0 rfl rfl)
theorem dX6_readText_141 : decode cX6_readText 141 = .ok (.istore_n 2, 1) := dk_61 (dk_at dksX6_readText_6 1 rfl rfl)
theorem dX6_readText_142 : decode cX6_readText 142 = .ok (.goto 26, 3) := dk_167 0 26 (dk_at dksX6_readText_6 2 rfl rfl)
theorem dX6_readText_145 : decode cX6_readText 145 = .ok (.iload_n 2, 1) := dk_28 (dk_at dksX6_readText_6 5 rfl rfl)
theorem dX6_readText_146 : decode cX6_readText 146 = .ok (.iconst 2, 1) := dk_5 (dk_at dksX6_readText_6 6 rfl rfl)
theorem dX6_readText_147 : decode cX6_readText 147 = .ok (.invokestatic 238, 3) := dk_184 0 238 (dk_at dksX6_readText_6 7 rfl rfl)
theorem dX6_readText_150 : decode cX6_readText 150 = .ok (.ifCond .eq 18, 3) := dk_153 0 18 (dk_at dksX6_readText_6 10 rfl rfl)
theorem dX6_readText_153 : decode cX6_readText 153 = .ok (.aload_n 0, 1) := dk_42 (dk_at dksX6_readText_6 13 rfl rfl)
theorem dX6_readText_154 : decode cX6_readText 154 = .ok (.iconst 1, 1) := dk_4 (dk_at dksX6_readText_6 14 rfl rfl)
theorem dX6_readText_155 : decode cX6_readText 155 = .ok (.invokevirtual 205, 3) := dk_182 0 205 (dk_at dksX6_readText_6 15 rfl rfl)
theorem dX6_readText_158 : decode cX6_readText 158 = .ok (.iconst (-1), 1) := dk_2 (dk_at dksX6_readText_6 18 rfl rfl)
theorem dX6_readText_159 : decode cX6_readText 159 = .ok (.if_icmp .eq 7, 3) := dk_159 0 7 (dk_at dksX6_readText_6 19 rfl rfl)
theorem dX6_readText_162 : decode cX6_readText 162 = .ok (.iconst 1, 1) := dk_4 (dk_at dksX6_readText_6 22 rfl rfl)
theorem dX6_readText_163 : decode cX6_readText 163 = .ok (.goto 4, 3) := dk_167 0 4 (dk_at dksX6_readText_7 0 rfl rfl)
theorem dX6_readText_166 : decode cX6_readText 166 = .ok (.iconst 0, 1) := dk_3 (dk_at dksX6_readText_7 3 rfl rfl)
theorem dX6_readText_167 : decode cX6_readText 167 = .ok (.ireturn, 1) := dk_172 (dk_at dksX6_readText_7 4 rfl rfl)
theorem dX6_readText_168 : decode cX6_readText 168 = .ok (.aload_n 0, 1) := dk_42 (dk_at dksX6_readText_7 5 rfl rfl)
theorem dX6_readText_169 : decode cX6_readText 169 = .ok (.getfield 44, 3) := dk_180 0 44 (dk_at dksX6_readText_7 6 rfl rfl)
theorem dX6_readText_172 : decode cX6_readText 172 = .ok (.iload_n 1, 1) := dk_27 (dk_at dksX6_readText_7 9 rfl rfl)
theorem dX6_readText_173 : decode cX6_readText 173 = .ok (.iaload, 1) := dk_46 (dk_at dksX6_readText_7 10 rfl rfl)
theorem dX6_readText_174 : decode cX6_readText 174 = .ok (.bipush 12, 2) := dk_16 12 (dk_at dksX6_readText_7 11 rfl rfl)
theorem dX6_readText_176 : decode cX6_readText 176 = .ok (.if_icmp .ne 18, 3) := dk_160 0 18 (dk_at dksX6_readText_7 13 rfl rfl)
theorem dX6_readText_179 : decode cX6_readText 179 = .ok (.aload_n 0, 1) := dk_42 (dk_at dksX6_readText_7 16 rfl rfl)
theorem dX6_readText_180 : decode cX6_readText 180 = .ok (.iconst 5, 1) := dk_8 (dk_at dksX6_readText_7 17 rfl rfl)
theorem dX6_readText_181 : decode cX6_readText 181 = .ok (.invokevirtual 205, 3) := dk_182 0 205 (dk_at dksX6_readText_7 18 rfl rfl)
theorem dX6_readText_184 : decode cX6_readText 184 = .ok (.iconst (-1), 1) := dk_2 (dk_at dksX6_readText_7 21 rfl rfl)
theorem dX6_readText_185 : decode cX6_readText 185 = .ok (.if_icmp .eq 7, 3) := dk_159 0 7 (dk_at dksX6_readText_8 0 rfl rfl)
theorem dX6_readText_188 : decode cX6_readText 188 = .ok (.iconst 1, 1) := dk_4 (dk_at dksX6_readText_8 3 rfl rfl)
theorem dX6_readText_189 : decode cX6_readText 189 = .ok (.goto 4, 3) := dk_167 0 4 (dk_at dksX6_readText_8 4 rfl rfl)
theorem dX6_readText_192 : decode cX6_readText 192 = .ok (.iconst 0, 1) := dk_3 (dk_at dksX6_readText_8 7 rfl rfl)
theorem dX6_readText_193 : decode cX6_readText 193 = .ok (.ireturn, 1) := dk_172 (dk_at dksX6_readText_8 8 rfl rfl)
theorem dX6_readText_194 : decode cX6_readText 194 = .ok (.aload_n 0, 1) := dk_42 (dk_at dksX6_readText_8 9 rfl rfl)
theorem dX6_readText_195 : decode cX6_readText 195 = .ok (.getfield 47, 3) := dk_180 0 47 (dk_at dksX6_readText_8 10 rfl rfl)
theorem dX6_readText_198 : decode cX6_readText 198 = .ok (.bipush 13, 2) := dk_16 13 (dk_at dksX6_readText_8 13 rfl rfl)
theorem dX6_readText_200 : decode cX6_readText 200 = .ok (.iload_n 1, 1) := dk_27 (dk_at dksX6_readText_8 15 rfl rfl)
theorem dX6_readText_201 : decode cX6_readText 201 = .ok (.imul, 1) := dk_104 (dk_at dksX6_readText_8 16 rfl rfl)
theorem dX6_readText_202 : decode cX6_readText 202 = .ok (.aload_n 0, 1) := dk_42 (dk_at dksX6_readText_8 17 rfl rfl)
theorem dX6_readText_203 : decode cX6_readText 203 = .ok (.getfield 44, 3) := dk_180 0 44 (dk_at dksX6_readText_8 18 rfl rfl)
theorem dX6_readText_206 : decode cX6_readText 206 = .ok (.iload_n 1, 1) := dk_27 (dk_at dksX6_readText_8 21 rfl rfl)
theorem dX6_readText_207 : decode cX6_readText 207 = .ok (.iaload, 1) := dk_46 (dk_at dksX6_readText_8 22 rfl rfl)
theorem dX6_readText_208 : decode cX6_readText 208 = .ok (.iadd, 1) := dk_96 (dk_at dksX6_readText_8 23 rfl rfl)
theorem dX6_readText_209 : decode cX6_readText 209 = .ok (.iload_n 2, 1) := dk_28 (dk_at dksX6_readText_9 0 rfl rfl)
theorem dX6_readText_210 : decode cX6_readText 210 = .ok (.iastore, 1) := dk_79 (dk_at dksX6_readText_9 1 rfl rfl)
theorem dX6_readText_211 : decode cX6_readText 211 = .ok (.aload_n 0, 1) := dk_42 (dk_at dksX6_readText_9 2 rfl rfl)
theorem dX6_readText_212 : decode cX6_readText 212 = .ok (.getfield 44, 3) := dk_180 0 44 (dk_at dksX6_readText_9 3 rfl rfl)
theorem dX6_readText_215 : decode cX6_readText 215 = .ok (.iload_n 1, 1) := dk_27 (dk_at dksX6_readText_9 6 rfl rfl)
theorem dX6_readText_216 : decode cX6_readText 216 = .ok (.dup2, 1) := dk_92 (dk_at dksX6_readText_9 7 rfl rfl)
theorem dX6_readText_217 : decode cX6_readText 217 = .ok (.iaload, 1) := dk_46 (dk_at dksX6_readText_9 8 rfl rfl)
theorem dX6_readText_218 : decode cX6_readText 218 = .ok (.iconst 1, 1) := dk_4 (dk_at dksX6_readText_9 9 rfl rfl)
theorem dX6_readText_219 : decode cX6_readText 219 = .ok (.iadd, 1) := dk_96 (dk_at dksX6_readText_9 10 rfl rfl)
theorem dX6_readText_220 : decode cX6_readText 220 = .ok (.iastore, 1) := dk_79 (dk_at dksX6_readText_9 11 rfl rfl)
theorem dX6_readText_221 : decode cX6_readText 221 = .ok (.goto (-202), 3) := dk_167 255 54 (dk_at dksX6_readText_9 12 rfl rfl)
abbrev cX6_readBody : ByteArray := prog_10_method_48_code
def yX6_readBody : MethodName := ⟨RX6, "readBody", "(Z)Z"⟩
def dkwX6_readBody_12 : List UInt8 := [167, 254, 248]
abbrev dktX6_readBody_12 : List UInt8 := dkwX6_readBody_12 ++ []
def dkwX6_readBody_11 : List UInt8 := [28, 104, 42, 180, 0, 50, 28, 46, 96, 21, 4, 79, 42, 180, 0, 50, 28, 92, 46, 4, 96, 79]
abbrev dktX6_readBody_11 : List UInt8 := dkwX6_readBody_11 ++ dktX6_readBody_12
def dkwX6_readBody_10 : List UInt8 := [160, 0, 18, 42, 8, 182, 0, 205, 2, 159, 0, 7, 4, 167, 0, 4, 3, 172, 42, 180, 0, 53, 16, 41]
abbrev dktX6_readBody_10 : List UInt8 := dkwX6_readBody_10 ++ dktX6_readBody_11
def dkwX6_readBody_9 : List UInt8 := [5, 184, 0, 238, 153, 0, 7, 2, 167, 0, 4, 3, 96, 62, 42, 180, 0, 50, 28, 46, 16, 40]
abbrev dktX6_readBody_9 : List UInt8 := dkwX6_readBody_9 ++ dktX6_readBody_10
def dkwX6_readBody_8 : List UInt8 := [21, 6, 96, 54, 4, 167, 0, 33, 29, 21, 4, 4, 184, 0, 238, 153, 0, 7, 4, 167, 0, 17, 21, 4]
abbrev dktX6_readBody_8 : List UInt8 := dkwX6_readBody_8 ++ dktX6_readBody_9
def dkwX6_readBody_7 : List UInt8 := [167, 0, 4, 3, 172, 21, 5, 16, 6, 184, 0, 238, 153, 0, 8, 21, 5, 167, 0, 9, 17, 64, 0]
abbrev dktX6_readBody_7 : List UInt8 := dkwX6_readBody_7 ++ dktX6_readBody_8
def dkwX6_readBody_6 : List UInt8 := [161, 0, 14, 21, 6, 42, 180, 0, 56, 28, 46, 164, 0, 18, 42, 7, 182, 0, 205, 2, 159, 0, 7, 4]
abbrev dktX6_readBody_6 : List UInt8 := dkwX6_readBody_6 ++ dktX6_readBody_7
def dkwX6_readBody_5 : List UInt8 := [16, 48, 100, 167, 0, 4, 3, 54, 6, 21, 5, 16, 6, 184, 0, 238, 154, 0, 35, 21, 6, 4]
abbrev dktX6_readBody_5 : List UInt8 := dkwX6_readBody_5 ++ dktX6_readBody_6
def dkwX6_readBody_4 : List UInt8 := [54, 5, 21, 5, 2, 160, 0, 5, 3, 172, 21, 5, 17, 16, 0, 162, 0, 15, 21, 5, 17, 0, 255, 126]
abbrev dktX6_readBody_4 : List UInt8 := dkwX6_readBody_4 ++ dktX6_readBody_5
def dkwX6_readBody_3 : List UInt8 := [184, 0, 238, 153, 0, 122, 27, 153, 0, 10, 42, 182, 1, 65, 167, 0, 7, 42, 182, 0, 254, 184, 0, 235]
abbrev dktX6_readBody_3 : List UInt8 := dkwX6_readBody_3 ++ dktX6_readBody_4
def dkwX6_readBody_2 : List UInt8 := [153, 0, 19, 29, 154, 0, 15, 21, 4, 2, 159, 0, 7, 4, 167, 0, 4, 3, 172, 21, 4, 16, 6]
abbrev dktX6_readBody_2 : List UInt8 := dkwX6_readBody_2 ++ dktX6_readBody_3
def dkwX6_readBody_1 : List UInt8 := [167, 0, 7, 42, 182, 0, 254, 184, 0, 235, 54, 4, 21, 4, 2, 159, 0, 16, 21, 4, 5, 184, 0, 238]
abbrev dktX6_readBody_1 : List UInt8 := dkwX6_readBody_1 ++ dktX6_readBody_2
def dkwX6_readBody_0 : List UInt8 := [42, 180, 0, 174, 61, 42, 180, 0, 50, 28, 3, 79, 3, 62, 27, 153, 0, 10, 42, 182, 1, 65]
abbrev dktX6_readBody_0 : List UInt8 := dkwX6_readBody_0 ++ dktX6_readBody_1
theorem dksX6_readBody_0 : cX6_readBody.data.toList.drop 0 = dktX6_readBody_0 := by decide +kernel
theorem dksX6_readBody_1 : cX6_readBody.data.toList.drop 22 = dktX6_readBody_1 := dk_seg dksX6_readBody_0 22 rfl rfl
theorem dksX6_readBody_2 : cX6_readBody.data.toList.drop 46 = dktX6_readBody_2 := dk_seg dksX6_readBody_1 24 rfl rfl
theorem dksX6_readBody_3 : cX6_readBody.data.toList.drop 69 = dktX6_readBody_3 := dk_seg dksX6_readBody_2 23 rfl rfl
theorem dksX6_readBody_4 : cX6_readBody.data.toList.drop 93 = dktX6_readBody_4 := dk_seg dksX6_readBody_3 24 rfl rfl
theorem dksX6_readBody_5 : cX6_readBody.data.toList.drop 117 = dktX6_readBody_5 := dk_seg dksX6_readBody_4 24 rfl rfl
theorem dksX6_readBody_6 : cX6_readBody.data.toList.drop 139 = dktX6_readBody_6 := dk_seg dksX6_readBody_5 22 rfl rfl
theorem dksX6_readBody_7 : cX6_readBody.data.toList.drop 163 = dktX6_readBody_7 := dk_seg dksX6_readBody_6 24 rfl rfl
theorem dksX6_readBody_8 : cX6_readBody.data.toList.drop 186 = dktX6_readBody_8 := dk_seg dksX6_readBody_7 23 rfl rfl
theorem dksX6_readBody_9 : cX6_readBody.data.toList.drop 210 = dktX6_readBody_9 := dk_seg dksX6_readBody_8 24 rfl rfl
theorem dksX6_readBody_10 : cX6_readBody.data.toList.drop 232 = dktX6_readBody_10 := dk_seg dksX6_readBody_9 22 rfl rfl
theorem dksX6_readBody_11 : cX6_readBody.data.toList.drop 256 = dktX6_readBody_11 := dk_seg dksX6_readBody_10 24 rfl rfl
theorem dksX6_readBody_12 : cX6_readBody.data.toList.drop 278 = dktX6_readBody_12 := dk_seg dksX6_readBody_11 22 rfl rfl
theorem dX6_readBody_0 : decode cX6_readBody 0 = .ok (.aload_n 0, 1) := dk_42 (dk_at dksX6_readBody_0 0 rfl rfl)
theorem dX6_readBody_1 : decode cX6_readBody 1 = .ok (.getfield 174, 3) := dk_180 0 174 (dk_at dksX6_readBody_0 1 rfl rfl)
theorem dX6_readBody_4 : decode cX6_readBody 4 = .ok (.istore_n 2, 1) := dk_61 (dk_at dksX6_readBody_0 4 rfl rfl)
theorem dX6_readBody_5 : decode cX6_readBody 5 = .ok (.aload_n 0, 1) := dk_42 (dk_at dksX6_readBody_0 5 rfl rfl)
theorem dX6_readBody_6 : decode cX6_readBody 6 = .ok (.getfield 50, 3) := dk_180 0 50 (dk_at dksX6_readBody_0 6 rfl rfl)
theorem dX6_readBody_9 : decode cX6_readBody 9 = .ok (.iload_n 2, 1) := dk_28 (dk_at dksX6_readBody_0 9 rfl rfl)
theorem dX6_readBody_10 : decode cX6_readBody 10 = .ok (.iconst 0, 1) := dk_3 (dk_at dksX6_readBody_0 10 rfl rfl)
theorem dX6_readBody_11 : decode cX6_readBody 11 = .ok (.iastore, 1) := dk_79 (dk_at dksX6_readBody_0 11 rfl rfl)
theorem dX6_readBody_12 : decode cX6_readBody 12 = .ok (.iconst 0, 1) := dk_3 (dk_at dksX6_readBody_0 12 rfl rfl)
theorem dX6_readBody_13 : decode cX6_readBody 13 = .ok (.istore_n 3, 1) := dk_62 (dk_at dksX6_readBody_0 13 rfl rfl)
theorem dX6_readBody_14 : decode cX6_readBody 14 = .ok (.iload_n 1, 1) := dk_27 (dk_at dksX6_readBody_0 14 rfl rfl)
theorem dX6_readBody_15 : decode cX6_readBody 15 = .ok (.ifCond .eq 10, 3) := dk_153 0 10 (dk_at dksX6_readBody_0 15 rfl rfl)
theorem dX6_readBody_18 : decode cX6_readBody 18 = .ok (.aload_n 0, 1) := dk_42 (dk_at dksX6_readBody_0 18 rfl rfl)
theorem dX6_readBody_19 : decode cX6_readBody 19 = .ok (.invokevirtual 321, 3) := dk_182 1 65 (dk_at dksX6_readBody_0 19 rfl rfl)
theorem dX6_readBody_22 : decode cX6_readBody 22 = .ok (.goto 7, 3) := dk_167 0 7 (dk_at dksX6_readBody_1 0 rfl rfl)
theorem dX6_readBody_25 : decode cX6_readBody 25 = .ok (.aload_n 0, 1) := dk_42 (dk_at dksX6_readBody_1 3 rfl rfl)
theorem dX6_readBody_26 : decode cX6_readBody 26 = .ok (.invokevirtual 254, 3) := dk_182 0 254 (dk_at dksX6_readBody_1 4 rfl rfl)
theorem dX6_readBody_29 : decode cX6_readBody 29 = .ok (.invokestatic 235, 3) := dk_184 0 235 (dk_at dksX6_readBody_1 7 rfl rfl)
theorem dX6_readBody_32 : decode cX6_readBody 32 = .ok (.istore 4, 2) := dk_54 4 (dk_at dksX6_readBody_1 10 rfl rfl)
theorem dX6_readBody_34 : decode cX6_readBody 34 = .ok (.iload 4, 2) := dk_21 4 (dk_at dksX6_readBody_1 12 rfl rfl)
theorem dX6_readBody_36 : decode cX6_readBody 36 = .ok (.iconst (-1), 1) := dk_2 (dk_at dksX6_readBody_1 14 rfl rfl)
theorem dX6_readBody_37 : decode cX6_readBody 37 = .ok (.if_icmp .eq 16, 3) := dk_159 0 16 (dk_at dksX6_readBody_1 15 rfl rfl)
theorem dX6_readBody_40 : decode cX6_readBody 40 = .ok (.iload 4, 2) := dk_21 4 (dk_at dksX6_readBody_1 18 rfl rfl)
theorem dX6_readBody_42 : decode cX6_readBody 42 = .ok (.iconst 2, 1) := dk_5 (dk_at dksX6_readBody_1 20 rfl rfl)
theorem dX6_readBody_43 : decode cX6_readBody 43 = .ok (.invokestatic 238, 3) := dk_184 0 238 (dk_at dksX6_readBody_1 21 rfl rfl)
theorem dX6_readBody_46 : decode cX6_readBody 46 = .ok (.ifCond .eq 19, 3) := dk_153 0 19 (dk_at dksX6_readBody_2 0 rfl rfl)
theorem dX6_readBody_49 : decode cX6_readBody 49 = .ok (.iload_n 3, 1) := dk_29 (dk_at dksX6_readBody_2 3 rfl rfl)
theorem dX6_readBody_50 : decode cX6_readBody 50 = .ok (.ifCond .ne 15, 3) := dk_154 0 15 (dk_at dksX6_readBody_2 4 rfl rfl)
theorem dX6_readBody_53 : decode cX6_readBody 53 = .ok (.iload 4, 2) := dk_21 4 (dk_at dksX6_readBody_2 7 rfl rfl)
theorem dX6_readBody_55 : decode cX6_readBody 55 = .ok (.iconst (-1), 1) := dk_2 (dk_at dksX6_readBody_2 9 rfl rfl)
theorem dX6_readBody_56 : decode cX6_readBody 56 = .ok (.if_icmp .eq 7, 3) := dk_159 0 7 (dk_at dksX6_readBody_2 10 rfl rfl)
theorem dX6_readBody_59 : decode cX6_readBody 59 = .ok (.iconst 1, 1) := dk_4 (dk_at dksX6_readBody_2 13 rfl rfl)
theorem dX6_readBody_60 : decode cX6_readBody 60 = .ok (.goto 4, 3) := dk_167 0 4 (dk_at dksX6_readBody_2 14 rfl rfl)
theorem dX6_readBody_63 : decode cX6_readBody 63 = .ok (.iconst 0, 1) := dk_3 (dk_at dksX6_readBody_2 17 rfl rfl)
theorem dX6_readBody_64 : decode cX6_readBody 64 = .ok (.ireturn, 1) := dk_172 (dk_at dksX6_readBody_2 18 rfl rfl)
theorem dX6_readBody_65 : decode cX6_readBody 65 = .ok (.iload 4, 2) := dk_21 4 (dk_at dksX6_readBody_2 19 rfl rfl)
theorem dX6_readBody_67 : decode cX6_readBody 67 = .ok (.bipush 6, 2) := dk_16 6 (dk_at dksX6_readBody_2 21 rfl rfl)
theorem dX6_readBody_69 : decode cX6_readBody 69 = .ok (.invokestatic 238, 3) := dk_184 0 238 (dk_at dksX6_readBody_3 0 rfl rfl)
theorem dX6_readBody_72 : decode cX6_readBody 72 = .ok (.ifCond .eq 122, 3) := dk_153 0 122 (dk_at dksX6_readBody_3 3 rfl rfl)
theorem dX6_readBody_75 : decode cX6_readBody 75 = .ok (.iload_n 1, 1) := dk_27 (dk_at dksX6_readBody_3 6 rfl rfl)
theorem dX6_readBody_76 : decode cX6_readBody 76 = .ok (.ifCond .eq 10, 3) := dk_153 0 10 (dk_at dksX6_readBody_3 7 rfl rfl)
theorem dX6_readBody_79 : decode cX6_readBody 79 = .ok (.aload_n 0, 1) := dk_42 (dk_at dksX6_readBody_3 10 rfl rfl)
theorem dX6_readBody_80 : decode cX6_readBody 80 = .ok (.invokevirtual 321, 3) := dk_182 1 65 (dk_at dksX6_readBody_3 11 rfl rfl)
theorem dX6_readBody_83 : decode cX6_readBody 83 = .ok (.goto 7, 3) := dk_167 0 7 (dk_at dksX6_readBody_3 14 rfl rfl)
theorem dX6_readBody_86 : decode cX6_readBody 86 = .ok (.aload_n 0, 1) := dk_42 (dk_at dksX6_readBody_3 17 rfl rfl)
theorem dX6_readBody_87 : decode cX6_readBody 87 = .ok (.invokevirtual 254, 3) := dk_182 0 254 (dk_at dksX6_readBody_3 18 rfl rfl)
theorem dX6_readBody_90 : decode cX6_readBody 90 = .ok (.invokestatic 235, 3) := dk_184 0 235 (dk_at dksX6_readBody_3 21 rfl rfl)
theorem dX6_readBody_93 : decode cX6_readBody 93 = .ok (.istore 5, 2) := dk_54 5 (dk_at dksX6_readBody_4 0 rfl rfl)
theorem dX6_readBody_95 : decode cX6_readBody 95 = .ok (.iload 5, 2) := dk_21 5 (dk_at dksX6_readBody_4 2 rfl rfl)
theorem dX6_readBody_97 : decode cX6_readBody 97 = .ok (.iconst (-1), 1) := dk_2 (dk_at dksX6_readBody_4 4 rfl rfl)
theorem dX6_readBody_98 : decode cX6_readBody 98 = .ok (.if_icmp .ne 5, 3) := dk_160 0 5 (dk_at dksX6_readBody_4 5 rfl rfl)
theorem dX6_readBody_101 : decode cX6_readBody 101 = .ok (.iconst 0, 1) := dk_3 (dk_at dksX6_readBody_4 8 rfl rfl)
theorem dX6_readBody_102 : decode cX6_readBody 102 = .ok (.ireturn, 1) := dk_172 (dk_at dksX6_readBody_4 9 rfl rfl)
theorem dX6_readBody_103 : decode cX6_readBody 103 = .ok (.iload 5, 2) := dk_21 5 (dk_at dksX6_readBody_4 10 rfl rfl)
theorem dX6_readBody_105 : decode cX6_readBody 105 = .ok (.sipush 4096, 3) := dk_17 16 0 (dk_at dksX6_readBody_4 12 rfl rfl)
theorem dX6_readBody_108 : decode cX6_readBody 108 = .ok (.if_icmp .ge 15, 3) := dk_162 0 15 (dk_at dksX6_readBody_4 15 rfl rfl)
theorem dX6_readBody_111 : decode cX6_readBody 111 = .ok (.iload 5, 2) := dk_21 5 (dk_at dksX6_readBody_4 18 rfl rfl)
theorem dX6_readBody_113 : decode cX6_readBody 113 = .ok (.sipush 255, 3) := dk_17 0 255 (dk_at dksX6_readBody_4 20 rfl rfl)
theorem dX6_readBody_116 : decode cX6_readBody 116 = .ok (.iand, 1) := dk_126 (dk_at dksX6_readBody_4 23 rfl rfl)
theorem dX6_readBody_117 : decode cX6_readBody 117 = .ok (.bipush 48, 2) := dk_16 48 (dk_at dksX6_readBody_5 0 rfl rfl)
theorem dX6_readBody_119 : decode cX6_readBody 119 = .ok (.isub, 1) := dk_100 (dk_at dksX6_readBody_5 2 rfl rfl)
theorem dX6_readBody_120 : decode cX6_readBody 120 = .ok (.goto 4, 3) := dk_167 0 4 (dk_at dksX6_readBody_5 3 rfl rfl)
theorem dX6_readBody_123 : decode cX6_readBody 123 = .ok (.iconst 0, 1) := dk_3 (dk_at dksX6_readBody_5 6 rfl rfl)
theorem dX6_readBody_124 : decode cX6_readBody 124 = .ok (.istore 6, 2) := dk_54 6 (dk_at dksX6_readBody_5 7 rfl rfl)
theorem dX6_readBody_126 : decode cX6_readBody 126 = .ok (.iload 5, 2) := dk_21 5 (dk_at dksX6_readBody_5 9 rfl rfl)
theorem dX6_readBody_128 : decode cX6_readBody 128 = .ok (.bipush 6, 2) := dk_16 6 (dk_at dksX6_readBody_5 11 rfl rfl)
theorem dX6_readBody_130 : decode cX6_readBody 130 = .ok (.invokestatic 238, 3) := dk_184 0 238 (dk_at dksX6_readBody_5 13 rfl rfl)
theorem dX6_readBody_133 : decode cX6_readBody 133 = .ok (.ifCond .ne 35, 3) := dk_154 0 35 (dk_at dksX6_readBody_5 16 rfl rfl)
theorem dX6_readBody_136 : decode cX6_readBody 136 = .ok (.iload 6, 2) := dk_21 6 (dk_at dksX6_readBody_5 19 rfl rfl)
theorem dX6_readBody_138 : decode cX6_readBody 138 = .ok (.iconst 1, 1) := dk_4 (dk_at dksX6_readBody_5 21 rfl rfl)
theorem dX6_readBody_139 : decode cX6_readBody 139 = .ok (.if_icmp .lt 14, 3) := dk_161 0 14 (dk_at dksX6_readBody_6 0 rfl rfl)
theorem dX6_readBody_142 : decode cX6_readBody 142 = .ok (.iload 6, 2) := dk_21 6 (dk_at dksX6_readBody_6 3 rfl rfl)
theorem dX6_readBody_144 : decode cX6_readBody 144 = .ok (.aload_n 0, 1) := dk_42 (dk_at dksX6_readBody_6 5 rfl rfl)
theorem dX6_readBody_145 : decode cX6_readBody 145 = .ok (.getfield 56, 3) := dk_180 0 56 (dk_at dksX6_readBody_6 6 rfl rfl)
theorem dX6_readBody_148 : decode cX6_readBody 148 = .ok (.iload_n 2, 1) := dk_28 (dk_at dksX6_readBody_6 9 rfl rfl)
theorem dX6_readBody_149 : decode cX6_readBody 149 = .ok (.iaload, 1) := dk_46 (dk_at dksX6_readBody_6 10 rfl rfl)
theorem dX6_readBody_150 : decode cX6_readBody 150 = .ok (.if_icmp .le 18, 3) := dk_164 0 18 (dk_at dksX6_readBody_6 11 rfl rfl)
theorem dX6_readBody_153 : decode cX6_readBody 153 = .ok (.aload_n 0, 1) := dk_42 (dk_at dksX6_readBody_6 14 rfl rfl)
theorem dX6_readBody_154 : decode cX6_readBody 154 = .ok (.iconst 4, 1) := dk_7 (dk_at dksX6_readBody_6 15 rfl rfl)
theorem dX6_readBody_155 : decode cX6_readBody 155 = .ok (.invokevirtual 205, 3) := dk_182 0 205 (dk_at dksX6_readBody_6 16 rfl rfl)
theorem dX6_readBody_158 : decode cX6_readBody 158 = .ok (.iconst (-1), 1) := dk_2 (dk_at dksX6_readBody_6 19 rfl rfl)
theorem dX6_readBody_159 : decode cX6_readBody 159 = .ok (.if_icmp .eq 7, 3) := dk_159 0 7 (dk_at dksX6_readBody_6 20 rfl rfl)
theorem dX6_readBody_162 : decode cX6_readBody 162 = .ok (.iconst 1, 1) := dk_4 (dk_at dksX6_readBody_6 23 rfl rfl)
theorem dX6_readBody_163 : decode cX6_readBody 163 = .ok (.goto 4, 3) := dk_167 0 4 (dk_at dksX6_readBody_7 0 rfl rfl)
theorem dX6_readBody_166 : decode cX6_readBody 166 = .ok (.iconst 0, 1) := dk_3 (dk_at dksX6_readBody_7 3 rfl rfl)
theorem dX6_readBody_167 : decode cX6_readBody 167 = .ok (.ireturn, 1) := dk_172 (dk_at dksX6_readBody_7 4 rfl rfl)
theorem dX6_readBody_168 : decode cX6_readBody 168 = .ok (.iload 5, 2) := dk_21 5 (dk_at dksX6_readBody_7 5 rfl rfl)
theorem dX6_readBody_170 : decode cX6_readBody 170 = .ok (.bipush 6, 2) := dk_16 6 (dk_at dksX6_readBody_7 7 rfl rfl)
theorem dX6_readBody_172 : decode cX6_readBody 172 = .ok (.invokestatic 238, 3) := dk_184 0 238 (dk_at dksX6_readBody_7 9 rfl rfl)
theorem dX6_readBody_175 : decode cX6_readBody 175 = .ok (.ifCond .eq 8, 3) := dk_153 0 8 (dk_at dksX6_readBody_7 12 rfl rfl)
theorem dX6_readBody_178 : decode cX6_readBody 178 = .ok (.iload 5, 2) := dk_21 5 (dk_at dksX6_readBody_7 15 rfl rfl)
theorem dX6_readBody_180 : decode cX6_readBody 180 = .ok (.goto 9, 3) := dk_167 0 9 (dk_at dksX6_readBody_7 17 rfl rfl)
theorem dX6_readBody_183 : decode cX6_readBody 183 = .ok (.sipush 16384, 3) := dk_17 64 0 (dk_at dksX6_readBody_7 20 rfl rfl)
theorem dX6_readBody_186 : decode cX6_readBody 186 = .ok (.iload 6, 2) := dk_21 6 (dk_at dksX6_readBody_8 0 rfl rfl)
theorem dX6_readBody_188 : decode cX6_readBody 188 = .ok (.iadd, 1) := dk_96 (dk_at dksX6_readBody_8 2 rfl rfl)
theorem dX6_readBody_189 : decode cX6_readBody 189 = .ok (.istore 4, 2) := dk_54 4 (dk_at dksX6_readBody_8 3 rfl rfl)
theorem dX6_readBody_191 : decode cX6_readBody 191 = .ok (.goto 33, 3) := dk_167 0 33 (dk_at dksX6_readBody_8 5 rfl rfl)
theorem dX6_readBody_194 : decode cX6_readBody 194 = .ok (.iload_n 3, 1) := dk_29 (dk_at dksX6_readBody_8 8 rfl rfl)
theorem dX6_readBody_195 : decode cX6_readBody 195 = .ok (.iload 4, 2) := dk_21 4 (dk_at dksX6_readBody_8 9 rfl rfl)
theorem dX6_readBody_197 : decode cX6_readBody 197 = .ok (.iconst 1, 1) := dk_4 (dk_at dksX6_readBody_8 11 rfl rfl)
theorem dX6_readBody_198 : decode cX6_readBody 198 = .ok (.invokestatic 238, 3) := dk_184 0 238 (dk_at dksX6_readBody_8 12 rfl rfl)
theorem dX6_readBody_201 : decode cX6_readBody 201 = .ok (.ifCond .eq 7, 3) := dk_153 0 7 (dk_at dksX6_readBody_8 15 rfl rfl)
theorem dX6_readBody_204 : decode cX6_readBody 204 = .ok (.iconst 1, 1) := dk_4 (dk_at dksX6_readBody_8 18 rfl rfl)
theorem dX6_readBody_205 : decode cX6_readBody 205 = .ok (.goto 17, 3) := dk_167 0 17 (dk_at dksX6_readBody_8 19 rfl rfl)
theorem dX6_readBody_208 : decode cX6_readBody 208 = .ok (.iload 4, 2) := dk_21 4 (dk_at dksX6_readBody_8 22 rfl rfl)
theorem dX6_readBody_210 : decode cX6_readBody 210 = .ok (.iconst 2, 1) := dk_5 (dk_at dksX6_readBody_9 0 rfl rfl)
theorem dX6_readBody_211 : decode cX6_readBody 211 = .ok (.invokestatic 238, 3) := dk_184 0 238 (dk_at dksX6_readBody_9 1 rfl rfl)
theorem dX6_readBody_214 : decode cX6_readBody 214 = .ok (.ifCond .eq 7, 3) := dk_153 0 7 (dk_at dksX6_readBody_9 4 rfl rfl)
theorem dX6_readBody_217 : decode cX6_readBody 217 = .ok (.iconst (-1), 1) := dk_2 (dk_at dksX6_readBody_9 7 rfl rfl)
theorem dX6_readBody_218 : decode cX6_readBody 218 = .ok (.goto 4, 3) := dk_167 0 4 (dk_at dksX6_readBody_9 8 rfl rfl)
theorem dX6_readBody_221 : decode cX6_readBody 221 = .ok (.iconst 0, 1) := dk_3 (dk_at dksX6_readBody_9 11 rfl rfl)
theorem dX6_readBody_222 : decode cX6_readBody 222 = .ok (.iadd, 1) := dk_96 (dk_at dksX6_readBody_9 12 rfl rfl)
theorem dX6_readBody_223 : decode cX6_readBody 223 = .ok (.istore_n 3, 1) := dk_62 (dk_at dksX6_readBody_9 13 rfl rfl)
theorem dX6_readBody_224 : decode cX6_readBody 224 = .ok (.aload_n 0, 1) := dk_42 (dk_at dksX6_readBody_9 14 rfl rfl)
theorem dX6_readBody_225 : decode cX6_readBody 225 = .ok (.getfield 50, 3) := dk_180 0 50 (dk_at dksX6_readBody_9 15 rfl rfl)
theorem dX6_readBody_228 : decode cX6_readBody 228 = .ok (.iload_n 2, 1) := dk_28 (dk_at dksX6_readBody_9 18 rfl rfl)
theorem dX6_readBody_229 : decode cX6_readBody 229 = .ok (.iaload, 1) := dk_46 (dk_at dksX6_readBody_9 19 rfl rfl)
theorem dX6_readBody_230 : decode cX6_readBody 230 = .ok (.bipush 40, 2) := dk_16 40 (dk_at dksX6_readBody_9 20 rfl rfl)
theorem dX6_readBody_232 : decode cX6_readBody 232 = .ok (.if_icmp .ne 18, 3) := dk_160 0 18 (dk_at dksX6_readBody_10 0 rfl rfl)
theorem dX6_readBody_235 : decode cX6_readBody 235 = .ok (.aload_n 0, 1) := dk_42 (dk_at dksX6_readBody_10 3 rfl rfl)
theorem dX6_readBody_236 : decode cX6_readBody 236 = .ok (.iconst 5, 1) := dk_8 (dk_at dksX6_readBody_10 4 rfl rfl)
theorem dX6_readBody_237 : decode cX6_readBody 237 = .ok (.invokevirtual 205, 3) := dk_182 0 205 (dk_at dksX6_readBody_10 5 rfl rfl)
theorem dX6_readBody_240 : decode cX6_readBody 240 = .ok (.iconst (-1), 1) := dk_2 (dk_at dksX6_readBody_10 8 rfl rfl)
theorem dX6_readBody_241 : decode cX6_readBody 241 = .ok (.if_icmp .eq 7, 3) := dk_159 0 7 (dk_at dksX6_readBody_10 9 rfl rfl)
theorem dX6_readBody_244 : decode cX6_readBody 244 = .ok (.iconst 1, 1) := dk_4 (dk_at dksX6_readBody_10 12 rfl rfl)
theorem dX6_readBody_245 : decode cX6_readBody 245 = .ok (.goto 4, 3) := dk_167 0 4 (dk_at dksX6_readBody_10 13 rfl rfl)
theorem dX6_readBody_248 : decode cX6_readBody 248 = .ok (.iconst 0, 1) := dk_3 (dk_at dksX6_readBody_10 16 rfl rfl)
theorem dX6_readBody_249 : decode cX6_readBody 249 = .ok (.ireturn, 1) := dk_172 (dk_at dksX6_readBody_10 17 rfl rfl)
theorem dX6_readBody_250 : decode cX6_readBody 250 = .ok (.aload_n 0, 1) := dk_42 (dk_at dksX6_readBody_10 18 rfl rfl)
theorem dX6_readBody_251 : decode cX6_readBody 251 = .ok (.getfield 53, 3) := dk_180 0 53 (dk_at dksX6_readBody_10 19 rfl rfl)
theorem dX6_readBody_254 : decode cX6_readBody 254 = .ok (.bipush 41, 2) := dk_16 41 (dk_at dksX6_readBody_10 22 rfl rfl)
theorem dX6_readBody_256 : decode cX6_readBody 256 = .ok (.iload_n 2, 1) := dk_28 (dk_at dksX6_readBody_11 0 rfl rfl)
theorem dX6_readBody_257 : decode cX6_readBody 257 = .ok (.imul, 1) := dk_104 (dk_at dksX6_readBody_11 1 rfl rfl)
theorem dX6_readBody_258 : decode cX6_readBody 258 = .ok (.aload_n 0, 1) := dk_42 (dk_at dksX6_readBody_11 2 rfl rfl)
theorem dX6_readBody_259 : decode cX6_readBody 259 = .ok (.getfield 50, 3) := dk_180 0 50 (dk_at dksX6_readBody_11 3 rfl rfl)
theorem dX6_readBody_262 : decode cX6_readBody 262 = .ok (.iload_n 2, 1) := dk_28 (dk_at dksX6_readBody_11 6 rfl rfl)
theorem dX6_readBody_263 : decode cX6_readBody 263 = .ok (.iaload, 1) := dk_46 (dk_at dksX6_readBody_11 7 rfl rfl)
theorem dX6_readBody_264 : decode cX6_readBody 264 = .ok (.iadd, 1) := dk_96 (dk_at dksX6_readBody_11 8 rfl rfl)
theorem dX6_readBody_265 : decode cX6_readBody 265 = .ok (.iload 4, 2) := dk_21 4 (dk_at dksX6_readBody_11 9 rfl rfl)
theorem dX6_readBody_267 : decode cX6_readBody 267 = .ok (.iastore, 1) := dk_79 (dk_at dksX6_readBody_11 11 rfl rfl)
theorem dX6_readBody_268 : decode cX6_readBody 268 = .ok (.aload_n 0, 1) := dk_42 (dk_at dksX6_readBody_11 12 rfl rfl)
theorem dX6_readBody_269 : decode cX6_readBody 269 = .ok (.getfield 50, 3) := dk_180 0 50 (dk_at dksX6_readBody_11 13 rfl rfl)
theorem dX6_readBody_272 : decode cX6_readBody 272 = .ok (.iload_n 2, 1) := dk_28 (dk_at dksX6_readBody_11 16 rfl rfl)
theorem dX6_readBody_273 : decode cX6_readBody 273 = .ok (.dup2, 1) := dk_92 (dk_at dksX6_readBody_11 17 rfl rfl)
theorem dX6_readBody_274 : decode cX6_readBody 274 = .ok (.iaload, 1) := dk_46 (dk_at dksX6_readBody_11 18 rfl rfl)
theorem dX6_readBody_275 : decode cX6_readBody 275 = .ok (.iconst 1, 1) := dk_4 (dk_at dksX6_readBody_11 19 rfl rfl)
theorem dX6_readBody_276 : decode cX6_readBody 276 = .ok (.iadd, 1) := dk_96 (dk_at dksX6_readBody_11 20 rfl rfl)
theorem dX6_readBody_277 : decode cX6_readBody 277 = .ok (.iastore, 1) := dk_79 (dk_at dksX6_readBody_11 21 rfl rfl)
theorem dX6_readBody_278 : decode cX6_readBody 278 = .ok (.goto (-264), 3) := dk_167 254 248 (dk_at dksX6_readBody_12 0 rfl rfl)
abbrev cX6_needExpanded : ByteArray := prog_10_method_45_code
def yX6_needExpanded : MethodName := ⟨RX6, "needExpanded", "()I"⟩
def dkwX6_needExpanded_2 : List UInt8 := [180, 0, 159, 154, 0, 7, 27, 167, 0, 4, 2, 172]
abbrev dktX6_needExpanded_2 : List UInt8 := dkwX6_needExpanded_2 ++ []
def dkwX6_needExpanded_1 : List UInt8 := [182, 1, 62, 42, 180, 0, 159, 154, 0, 10, 42, 182, 0, 254, 167, 0, 4, 2, 60, 167, 255, 220, 42]
abbrev dktX6_needExpanded_1 : List UInt8 := dkwX6_needExpanded_1 ++ dktX6_needExpanded_2
def dkwX6_needExpanded_0 : List UInt8 := [42, 182, 0, 254, 60, 42, 180, 0, 159, 154, 0, 35, 42, 27, 182, 1, 24, 153, 0, 27, 42, 27]
abbrev dktX6_needExpanded_0 : List UInt8 := dkwX6_needExpanded_0 ++ dktX6_needExpanded_1
theorem dksX6_needExpanded_0 : cX6_needExpanded.data.toList.drop 0 = dktX6_needExpanded_0 := by decide +kernel
theorem dksX6_needExpanded_1 : cX6_needExpanded.data.toList.drop 22 = dktX6_needExpanded_1 := dk_seg dksX6_needExpanded_0 22 rfl rfl
theorem dksX6_needExpanded_2 : cX6_needExpanded.data.toList.drop 45 = dktX6_needExpanded_2 := dk_seg dksX6_needExpanded_1 23 rfl rfl
theorem dX6_needExpanded_0 : decode cX6_needExpanded 0 = .ok (.aload_n 0, 1) := dk_42 (dk_at dksX6_needExpanded_0 0 rfl rfl)
theorem dX6_needExpanded_1 : decode cX6_needExpanded 1 = .ok (.invokevirtual 254, 3) := dk_182 0 254 (dk_at dksX6_needExpanded_0 1 rfl rfl)
theorem dX6_needExpanded_4 : decode cX6_needExpanded 4 = .ok (.istore_n 1, 1) := dk_60 (dk_at dksX6_needExpanded_0 4 rfl rfl)
theorem dX6_needExpanded_5 : decode cX6_needExpanded 5 = .ok (.aload_n 0, 1) := dk_42 (dk_at dksX6_needExpanded_0 5 rfl rfl)
theorem dX6_needExpanded_6 : decode cX6_needExpanded 6 = .ok (.getfield 159, 3) := dk_180 0 159 (dk_at dksX6_needExpanded_0 6 rfl rfl)
theorem dX6_needExpanded_9 : decode cX6_needExpanded 9 = .ok (.ifCond .ne 35, 3) := dk_154 0 35 (dk_at dksX6_needExpanded_0 9 rfl rfl)
theorem dX6_needExpanded_12 : decode cX6_needExpanded 12 = .ok (.aload_n 0, 1) := dk_42 (dk_at dksX6_needExpanded_0 12 rfl rfl)
theorem dX6_needExpanded_13 : decode cX6_needExpanded 13 = .ok (.iload_n 1, 1) := dk_27 (dk_at dksX6_needExpanded_0 13 rfl rfl)
theorem dX6_needExpanded_14 : decode cX6_needExpanded 14 = .ok (.invokevirtual 280, 3) := dk_182 1 24 (dk_at dksX6_needExpanded_0 14 rfl rfl)
theorem dX6_needExpanded_17 : decode cX6_needExpanded 17 = .ok (.ifCond .eq 27, 3) := dk_153 0 27 (dk_at dksX6_needExpanded_0 17 rfl rfl)
theorem dX6_needExpanded_20 : decode cX6_needExpanded 20 = .ok (.aload_n 0, 1) := dk_42 (dk_at dksX6_needExpanded_0 20 rfl rfl)
theorem dX6_needExpanded_21 : decode cX6_needExpanded 21 = .ok (.iload_n 1, 1) := dk_27 (dk_at dksX6_needExpanded_0 21 rfl rfl)
theorem dX6_needExpanded_22 : decode cX6_needExpanded 22 = .ok (.invokevirtual 318, 3) := dk_182 1 62 (dk_at dksX6_needExpanded_1 0 rfl rfl)
theorem dX6_needExpanded_25 : decode cX6_needExpanded 25 = .ok (.aload_n 0, 1) := dk_42 (dk_at dksX6_needExpanded_1 3 rfl rfl)
theorem dX6_needExpanded_26 : decode cX6_needExpanded 26 = .ok (.getfield 159, 3) := dk_180 0 159 (dk_at dksX6_needExpanded_1 4 rfl rfl)
theorem dX6_needExpanded_29 : decode cX6_needExpanded 29 = .ok (.ifCond .ne 10, 3) := dk_154 0 10 (dk_at dksX6_needExpanded_1 7 rfl rfl)
theorem dX6_needExpanded_32 : decode cX6_needExpanded 32 = .ok (.aload_n 0, 1) := dk_42 (dk_at dksX6_needExpanded_1 10 rfl rfl)
theorem dX6_needExpanded_33 : decode cX6_needExpanded 33 = .ok (.invokevirtual 254, 3) := dk_182 0 254 (dk_at dksX6_needExpanded_1 11 rfl rfl)
theorem dX6_needExpanded_36 : decode cX6_needExpanded 36 = .ok (.goto 4, 3) := dk_167 0 4 (dk_at dksX6_needExpanded_1 14 rfl rfl)
theorem dX6_needExpanded_39 : decode cX6_needExpanded 39 = .ok (.iconst (-1), 1) := dk_2 (dk_at dksX6_needExpanded_1 17 rfl rfl)
theorem dX6_needExpanded_40 : decode cX6_needExpanded 40 = .ok (.istore_n 1, 1) := dk_60 (dk_at dksX6_needExpanded_1 18 rfl rfl)
theorem dX6_needExpanded_41 : decode cX6_needExpanded 41 = .ok (.goto (-36), 3) := dk_167 255 220 (dk_at dksX6_needExpanded_1 19 rfl rfl)
theorem dX6_needExpanded_44 : decode cX6_needExpanded 44 = .ok (.aload_n 0, 1) := dk_42 (dk_at dksX6_needExpanded_1 22 rfl rfl)
theorem dX6_needExpanded_45 : decode cX6_needExpanded 45 = .ok (.getfield 159, 3) := dk_180 0 159 (dk_at dksX6_needExpanded_2 0 rfl rfl)
theorem dX6_needExpanded_48 : decode cX6_needExpanded 48 = .ok (.ifCond .ne 7, 3) := dk_154 0 7 (dk_at dksX6_needExpanded_2 3 rfl rfl)
theorem dX6_needExpanded_51 : decode cX6_needExpanded 51 = .ok (.iload_n 1, 1) := dk_27 (dk_at dksX6_needExpanded_2 6 rfl rfl)
theorem dX6_needExpanded_52 : decode cX6_needExpanded 52 = .ok (.goto 4, 3) := dk_167 0 4 (dk_at dksX6_needExpanded_2 7 rfl rfl)
theorem dX6_needExpanded_55 : decode cX6_needExpanded 55 = .ok (.iconst (-1), 1) := dk_2 (dk_at dksX6_needExpanded_2 10 rfl rfl)
theorem dX6_needExpanded_56 : decode cX6_needExpanded 56 = .ok (.ireturn, 1) := dk_172 (dk_at dksX6_needExpanded_2 11 rfl rfl)
abbrev cX6_fault : ByteArray := prog_10_method_58_code
def yX6_fault : MethodName := ⟨RX6, "fault", "(I)I"⟩
def dkwX6_fault_1 : List UInt8 := [180, 0, 153, 167, 0, 7, 42, 182, 1, 102, 172]
abbrev dktX6_fault_1 : List UInt8 := dkwX6_fault_1 ++ []
def dkwX6_fault_0 : List UInt8 := [42, 3, 181, 0, 186, 27, 154, 0, 10, 42, 180, 0, 159, 167, 0, 19, 27, 4, 160, 0, 10, 42]
abbrev dktX6_fault_0 : List UInt8 := dkwX6_fault_0 ++ dktX6_fault_1
theorem dksX6_fault_0 : cX6_fault.data.toList.drop 0 = dktX6_fault_0 := by decide +kernel
theorem dksX6_fault_1 : cX6_fault.data.toList.drop 22 = dktX6_fault_1 := dk_seg dksX6_fault_0 22 rfl rfl
theorem dX6_fault_0 : decode cX6_fault 0 = .ok (.aload_n 0, 1) := dk_42 (dk_at dksX6_fault_0 0 rfl rfl)
theorem dX6_fault_1 : decode cX6_fault 1 = .ok (.iconst 0, 1) := dk_3 (dk_at dksX6_fault_0 1 rfl rfl)
theorem dX6_fault_2 : decode cX6_fault 2 = .ok (.putfield 186, 3) := dk_181 0 186 (dk_at dksX6_fault_0 2 rfl rfl)
theorem dX6_fault_5 : decode cX6_fault 5 = .ok (.iload_n 1, 1) := dk_27 (dk_at dksX6_fault_0 5 rfl rfl)
theorem dX6_fault_6 : decode cX6_fault 6 = .ok (.ifCond .ne 10, 3) := dk_154 0 10 (dk_at dksX6_fault_0 6 rfl rfl)
theorem dX6_fault_9 : decode cX6_fault 9 = .ok (.aload_n 0, 1) := dk_42 (dk_at dksX6_fault_0 9 rfl rfl)
theorem dX6_fault_10 : decode cX6_fault 10 = .ok (.getfield 159, 3) := dk_180 0 159 (dk_at dksX6_fault_0 10 rfl rfl)
theorem dX6_fault_13 : decode cX6_fault 13 = .ok (.goto 19, 3) := dk_167 0 19 (dk_at dksX6_fault_0 13 rfl rfl)
theorem dX6_fault_16 : decode cX6_fault 16 = .ok (.iload_n 1, 1) := dk_27 (dk_at dksX6_fault_0 16 rfl rfl)
theorem dX6_fault_17 : decode cX6_fault 17 = .ok (.iconst 1, 1) := dk_4 (dk_at dksX6_fault_0 17 rfl rfl)
theorem dX6_fault_18 : decode cX6_fault 18 = .ok (.if_icmp .ne 10, 3) := dk_160 0 10 (dk_at dksX6_fault_0 18 rfl rfl)
theorem dX6_fault_21 : decode cX6_fault 21 = .ok (.aload_n 0, 1) := dk_42 (dk_at dksX6_fault_0 21 rfl rfl)
theorem dX6_fault_22 : decode cX6_fault 22 = .ok (.getfield 153, 3) := dk_180 0 153 (dk_at dksX6_fault_1 0 rfl rfl)
theorem dX6_fault_25 : decode cX6_fault 25 = .ok (.goto 7, 3) := dk_167 0 7 (dk_at dksX6_fault_1 3 rfl rfl)
theorem dX6_fault_28 : decode cX6_fault 28 = .ok (.aload_n 0, 1) := dk_42 (dk_at dksX6_fault_1 6 rfl rfl)
theorem dX6_fault_29 : decode cX6_fault 29 = .ok (.invokevirtual 358, 3) := dk_182 1 102 (dk_at dksX6_fault_1 7 rfl rfl)
theorem dX6_fault_32 : decode cX6_fault 32 = .ok (.ireturn, 1) := dk_172 (dk_at dksX6_fault_1 10 rfl rfl)
abbrev cX6_fails : ByteArray := prog_10_method_57_code
def yX6_fails : MethodName := ⟨RX6, "fails", "()I"⟩
def dkwX6_fails_0 : List UInt8 := [42, 4, 181, 0, 186, 3, 172]
abbrev dktX6_fails_0 : List UInt8 := dkwX6_fails_0 ++ []
theorem dksX6_fails_0 : cX6_fails.data.toList.drop 0 = dktX6_fails_0 := by decide +kernel
theorem dX6_fails_0 : decode cX6_fails 0 = .ok (.aload_n 0, 1) := dk_42 (dk_at dksX6_fails_0 0 rfl rfl)
theorem dX6_fails_1 : decode cX6_fails 1 = .ok (.iconst 1, 1) := dk_4 (dk_at dksX6_fails_0 1 rfl rfl)
theorem dX6_fails_2 : decode cX6_fails 2 = .ok (.putfield 186, 3) := dk_181 0 186 (dk_at dksX6_fails_0 2 rfl rfl)
theorem dX6_fails_5 : decode cX6_fails 5 = .ok (.iconst 0, 1) := dk_3 (dk_at dksX6_fails_0 5 rfl rfl)
theorem dX6_fails_6 : decode cX6_fails 6 = .ok (.ireturn, 1) := dk_172 (dk_at dksX6_fails_0 6 rfl rfl)
abbrev cX6_out : ByteArray := prog_10_method_59_code
def yX6_out : MethodName := ⟨RX6, "out", "(I)I"⟩
def dkwX6_out_1 : List UInt8 := [42, 180, 0, 77, 27, 46, 172]
abbrev dktX6_out_1 : List UInt8 := dkwX6_out_1 ++ []
def dkwX6_out_0 : List UInt8 := [42, 3, 181, 0, 186, 27, 155, 0, 11, 27, 42, 180, 0, 183, 161, 0, 10, 42, 182, 1, 102, 167, 0, 9]
abbrev dktX6_out_0 : List UInt8 := dkwX6_out_0 ++ dktX6_out_1
theorem dksX6_out_0 : cX6_out.data.toList.drop 0 = dktX6_out_0 := by decide +kernel
theorem dksX6_out_1 : cX6_out.data.toList.drop 24 = dktX6_out_1 := dk_seg dksX6_out_0 24 rfl rfl
theorem dX6_out_0 : decode cX6_out 0 = .ok (.aload_n 0, 1) := dk_42 (dk_at dksX6_out_0 0 rfl rfl)
theorem dX6_out_1 : decode cX6_out 1 = .ok (.iconst 0, 1) := dk_3 (dk_at dksX6_out_0 1 rfl rfl)
theorem dX6_out_2 : decode cX6_out 2 = .ok (.putfield 186, 3) := dk_181 0 186 (dk_at dksX6_out_0 2 rfl rfl)
theorem dX6_out_5 : decode cX6_out 5 = .ok (.iload_n 1, 1) := dk_27 (dk_at dksX6_out_0 5 rfl rfl)
theorem dX6_out_6 : decode cX6_out 6 = .ok (.ifCond .lt 11, 3) := dk_155 0 11 (dk_at dksX6_out_0 6 rfl rfl)
theorem dX6_out_9 : decode cX6_out 9 = .ok (.iload_n 1, 1) := dk_27 (dk_at dksX6_out_0 9 rfl rfl)
theorem dX6_out_10 : decode cX6_out 10 = .ok (.aload_n 0, 1) := dk_42 (dk_at dksX6_out_0 10 rfl rfl)
theorem dX6_out_11 : decode cX6_out 11 = .ok (.getfield 183, 3) := dk_180 0 183 (dk_at dksX6_out_0 11 rfl rfl)
theorem dX6_out_14 : decode cX6_out 14 = .ok (.if_icmp .lt 10, 3) := dk_161 0 10 (dk_at dksX6_out_0 14 rfl rfl)
theorem dX6_out_17 : decode cX6_out 17 = .ok (.aload_n 0, 1) := dk_42 (dk_at dksX6_out_0 17 rfl rfl)
theorem dX6_out_18 : decode cX6_out 18 = .ok (.invokevirtual 358, 3) := dk_182 1 102 (dk_at dksX6_out_0 18 rfl rfl)
theorem dX6_out_21 : decode cX6_out 21 = .ok (.goto 9, 3) := dk_167 0 9 (dk_at dksX6_out_0 21 rfl rfl)
theorem dX6_out_24 : decode cX6_out 24 = .ok (.aload_n 0, 1) := dk_42 (dk_at dksX6_out_1 0 rfl rfl)
theorem dX6_out_25 : decode cX6_out 25 = .ok (.getfield 77, 3) := dk_180 0 77 (dk_at dksX6_out_1 1 rfl rfl)
theorem dX6_out_28 : decode cX6_out 28 = .ok (.iload_n 1, 1) := dk_27 (dk_at dksX6_out_1 4 rfl rfl)
theorem dX6_out_29 : decode cX6_out 29 = .ok (.iaload, 1) := dk_46 (dk_at dksX6_out_1 5 rfl rfl)
theorem dX6_out_30 : decode cX6_out 30 = .ok (.ireturn, 1) := dk_172 (dk_at dksX6_out_1 6 rfl rfl)
abbrev cX6_count : ByteArray := prog_10_method_60_code
def yX6_count : MethodName := ⟨RX6, "count", "(I)I"⟩
def dkwX6_count_2 : List UInt8 := [180, 0, 177, 167, 0, 19, 27, 7, 160, 0, 10, 42, 180, 0, 174, 167, 0, 7, 42, 182, 1, 102, 172]
abbrev dktX6_count_2 : List UInt8 := dkwX6_count_2 ++ []
def dkwX6_count_1 : List UInt8 := [180, 0, 162, 167, 0, 43, 27, 5, 160, 0, 10, 42, 180, 0, 168, 167, 0, 31, 27, 6, 160, 0, 10, 42]
abbrev dktX6_count_1 : List UInt8 := dkwX6_count_1 ++ dktX6_count_2
def dkwX6_count_0 : List UInt8 := [42, 3, 181, 0, 186, 27, 154, 0, 10, 42, 180, 0, 183, 167, 0, 55, 27, 4, 160, 0, 10, 42]
abbrev dktX6_count_0 : List UInt8 := dkwX6_count_0 ++ dktX6_count_1
theorem dksX6_count_0 : cX6_count.data.toList.drop 0 = dktX6_count_0 := by decide +kernel
theorem dksX6_count_1 : cX6_count.data.toList.drop 22 = dktX6_count_1 := dk_seg dksX6_count_0 22 rfl rfl
theorem dksX6_count_2 : cX6_count.data.toList.drop 46 = dktX6_count_2 := dk_seg dksX6_count_1 24 rfl rfl
theorem dX6_count_0 : decode cX6_count 0 = .ok (.aload_n 0, 1) := dk_42 (dk_at dksX6_count_0 0 rfl rfl)
theorem dX6_count_1 : decode cX6_count 1 = .ok (.iconst 0, 1) := dk_3 (dk_at dksX6_count_0 1 rfl rfl)
theorem dX6_count_2 : decode cX6_count 2 = .ok (.putfield 186, 3) := dk_181 0 186 (dk_at dksX6_count_0 2 rfl rfl)
theorem dX6_count_5 : decode cX6_count 5 = .ok (.iload_n 1, 1) := dk_27 (dk_at dksX6_count_0 5 rfl rfl)
theorem dX6_count_6 : decode cX6_count 6 = .ok (.ifCond .ne 10, 3) := dk_154 0 10 (dk_at dksX6_count_0 6 rfl rfl)
theorem dX6_count_9 : decode cX6_count 9 = .ok (.aload_n 0, 1) := dk_42 (dk_at dksX6_count_0 9 rfl rfl)
theorem dX6_count_10 : decode cX6_count 10 = .ok (.getfield 183, 3) := dk_180 0 183 (dk_at dksX6_count_0 10 rfl rfl)
theorem dX6_count_13 : decode cX6_count 13 = .ok (.goto 55, 3) := dk_167 0 55 (dk_at dksX6_count_0 13 rfl rfl)
theorem dX6_count_16 : decode cX6_count 16 = .ok (.iload_n 1, 1) := dk_27 (dk_at dksX6_count_0 16 rfl rfl)
theorem dX6_count_17 : decode cX6_count 17 = .ok (.iconst 1, 1) := dk_4 (dk_at dksX6_count_0 17 rfl rfl)
theorem dX6_count_18 : decode cX6_count 18 = .ok (.if_icmp .ne 10, 3) := dk_160 0 10 (dk_at dksX6_count_0 18 rfl rfl)
theorem dX6_count_21 : decode cX6_count 21 = .ok (.aload_n 0, 1) := dk_42 (dk_at dksX6_count_0 21 rfl rfl)
theorem dX6_count_22 : decode cX6_count 22 = .ok (.getfield 162, 3) := dk_180 0 162 (dk_at dksX6_count_1 0 rfl rfl)
theorem dX6_count_25 : decode cX6_count 25 = .ok (.goto 43, 3) := dk_167 0 43 (dk_at dksX6_count_1 3 rfl rfl)
theorem dX6_count_28 : decode cX6_count 28 = .ok (.iload_n 1, 1) := dk_27 (dk_at dksX6_count_1 6 rfl rfl)
theorem dX6_count_29 : decode cX6_count 29 = .ok (.iconst 2, 1) := dk_5 (dk_at dksX6_count_1 7 rfl rfl)
theorem dX6_count_30 : decode cX6_count 30 = .ok (.if_icmp .ne 10, 3) := dk_160 0 10 (dk_at dksX6_count_1 8 rfl rfl)
theorem dX6_count_33 : decode cX6_count 33 = .ok (.aload_n 0, 1) := dk_42 (dk_at dksX6_count_1 11 rfl rfl)
theorem dX6_count_34 : decode cX6_count 34 = .ok (.getfield 168, 3) := dk_180 0 168 (dk_at dksX6_count_1 12 rfl rfl)
theorem dX6_count_37 : decode cX6_count 37 = .ok (.goto 31, 3) := dk_167 0 31 (dk_at dksX6_count_1 15 rfl rfl)
theorem dX6_count_40 : decode cX6_count 40 = .ok (.iload_n 1, 1) := dk_27 (dk_at dksX6_count_1 18 rfl rfl)
theorem dX6_count_41 : decode cX6_count 41 = .ok (.iconst 3, 1) := dk_6 (dk_at dksX6_count_1 19 rfl rfl)
theorem dX6_count_42 : decode cX6_count 42 = .ok (.if_icmp .ne 10, 3) := dk_160 0 10 (dk_at dksX6_count_1 20 rfl rfl)
theorem dX6_count_45 : decode cX6_count 45 = .ok (.aload_n 0, 1) := dk_42 (dk_at dksX6_count_1 23 rfl rfl)
theorem dX6_count_46 : decode cX6_count 46 = .ok (.getfield 177, 3) := dk_180 0 177 (dk_at dksX6_count_2 0 rfl rfl)
theorem dX6_count_49 : decode cX6_count 49 = .ok (.goto 19, 3) := dk_167 0 19 (dk_at dksX6_count_2 3 rfl rfl)
theorem dX6_count_52 : decode cX6_count 52 = .ok (.iload_n 1, 1) := dk_27 (dk_at dksX6_count_2 6 rfl rfl)
theorem dX6_count_53 : decode cX6_count 53 = .ok (.iconst 4, 1) := dk_7 (dk_at dksX6_count_2 7 rfl rfl)
theorem dX6_count_54 : decode cX6_count 54 = .ok (.if_icmp .ne 10, 3) := dk_160 0 10 (dk_at dksX6_count_2 8 rfl rfl)
theorem dX6_count_57 : decode cX6_count 57 = .ok (.aload_n 0, 1) := dk_42 (dk_at dksX6_count_2 11 rfl rfl)
theorem dX6_count_58 : decode cX6_count 58 = .ok (.getfield 174, 3) := dk_180 0 174 (dk_at dksX6_count_2 12 rfl rfl)
theorem dX6_count_61 : decode cX6_count 61 = .ok (.goto 7, 3) := dk_167 0 7 (dk_at dksX6_count_2 15 rfl rfl)
theorem dX6_count_64 : decode cX6_count 64 = .ok (.aload_n 0, 1) := dk_42 (dk_at dksX6_count_2 18 rfl rfl)
theorem dX6_count_65 : decode cX6_count 65 = .ok (.invokevirtual 358, 3) := dk_182 1 102 (dk_at dksX6_count_2 19 rfl rfl)
theorem dX6_count_68 : decode cX6_count 68 = .ok (.ireturn, 1) := dk_172 (dk_at dksX6_count_2 22 rfl rfl)
abbrev cX6_category : ByteArray := prog_10_method_61_code
def yX6_category : MethodName := ⟨RX6, "category", "(I)I"⟩
def dkwX6_category_1 : List UInt8 := [180, 0, 13, 27, 46, 167, 0, 7, 42, 182, 1, 102, 172]
abbrev dktX6_category_1 : List UInt8 := dkwX6_category_1 ++ []
def dkwX6_category_0 : List UInt8 := [42, 3, 181, 0, 186, 27, 16, 10, 159, 0, 15, 27, 16, 31, 164, 0, 18, 27, 16, 127, 162, 0, 12, 42]
abbrev dktX6_category_0 : List UInt8 := dkwX6_category_0 ++ dktX6_category_1
theorem dksX6_category_0 : cX6_category.data.toList.drop 0 = dktX6_category_0 := by decide +kernel
theorem dksX6_category_1 : cX6_category.data.toList.drop 24 = dktX6_category_1 := dk_seg dksX6_category_0 24 rfl rfl
theorem dX6_category_0 : decode cX6_category 0 = .ok (.aload_n 0, 1) := dk_42 (dk_at dksX6_category_0 0 rfl rfl)
theorem dX6_category_1 : decode cX6_category 1 = .ok (.iconst 0, 1) := dk_3 (dk_at dksX6_category_0 1 rfl rfl)
theorem dX6_category_2 : decode cX6_category 2 = .ok (.putfield 186, 3) := dk_181 0 186 (dk_at dksX6_category_0 2 rfl rfl)
theorem dX6_category_5 : decode cX6_category 5 = .ok (.iload_n 1, 1) := dk_27 (dk_at dksX6_category_0 5 rfl rfl)
theorem dX6_category_6 : decode cX6_category 6 = .ok (.bipush 10, 2) := dk_16 10 (dk_at dksX6_category_0 6 rfl rfl)
theorem dX6_category_8 : decode cX6_category 8 = .ok (.if_icmp .eq 15, 3) := dk_159 0 15 (dk_at dksX6_category_0 8 rfl rfl)
theorem dX6_category_11 : decode cX6_category 11 = .ok (.iload_n 1, 1) := dk_27 (dk_at dksX6_category_0 11 rfl rfl)
theorem dX6_category_12 : decode cX6_category 12 = .ok (.bipush 31, 2) := dk_16 31 (dk_at dksX6_category_0 12 rfl rfl)
theorem dX6_category_14 : decode cX6_category 14 = .ok (.if_icmp .le 18, 3) := dk_164 0 18 (dk_at dksX6_category_0 14 rfl rfl)
theorem dX6_category_17 : decode cX6_category 17 = .ok (.iload_n 1, 1) := dk_27 (dk_at dksX6_category_0 17 rfl rfl)
theorem dX6_category_18 : decode cX6_category 18 = .ok (.bipush 127, 2) := dk_16 127 (dk_at dksX6_category_0 18 rfl rfl)
theorem dX6_category_20 : decode cX6_category 20 = .ok (.if_icmp .ge 12, 3) := dk_162 0 12 (dk_at dksX6_category_0 20 rfl rfl)
theorem dX6_category_23 : decode cX6_category 23 = .ok (.aload_n 0, 1) := dk_42 (dk_at dksX6_category_0 23 rfl rfl)
theorem dX6_category_24 : decode cX6_category 24 = .ok (.getfield 13, 3) := dk_180 0 13 (dk_at dksX6_category_1 0 rfl rfl)
theorem dX6_category_27 : decode cX6_category 27 = .ok (.iload_n 1, 1) := dk_27 (dk_at dksX6_category_1 3 rfl rfl)
theorem dX6_category_28 : decode cX6_category 28 = .ok (.iaload, 1) := dk_46 (dk_at dksX6_category_1 4 rfl rfl)
theorem dX6_category_29 : decode cX6_category 29 = .ok (.goto 7, 3) := dk_167 0 7 (dk_at dksX6_category_1 5 rfl rfl)
theorem dX6_category_32 : decode cX6_category 32 = .ok (.aload_n 0, 1) := dk_42 (dk_at dksX6_category_1 8 rfl rfl)
theorem dX6_category_33 : decode cX6_category 33 = .ok (.invokevirtual 358, 3) := dk_182 1 102 (dk_at dksX6_category_1 9 rfl rfl)
theorem dX6_category_36 : decode cX6_category 36 = .ok (.ireturn, 1) := dk_172 (dk_at dksX6_category_1 12 rfl rfl)
abbrev cX6_meaning : ByteArray := prog_10_method_63_code
def yX6_meaning : MethodName := ⟨RX6, "meaning", "(JZ)I"⟩
def dkwX6_meaning_2 : List UInt8 := [21, 4, 17, 23, 112, 162, 0, 7, 5, 167, 0, 4, 6, 172]
abbrev dktX6_meaning_2 : List UInt8 := dkwX6_meaning_2 ++ []
def dkwX6_meaning_1 : List UInt8 := [167, 0, 37, 21, 4, 154, 0, 7, 3, 167, 0, 28, 21, 4, 17, 3, 232, 162, 0, 7, 4, 167, 0, 16]
abbrev dktX6_meaning_1 : List UInt8 := dkwX6_meaning_1 ++ dktX6_meaning_2
def dkwX6_meaning_0 : List UInt8 := [42, 3, 181, 0, 186, 42, 31, 29, 182, 1, 105, 54, 4, 21, 4, 156, 0, 10, 42, 182, 1, 102]
abbrev dktX6_meaning_0 : List UInt8 := dkwX6_meaning_0 ++ dktX6_meaning_1
theorem dksX6_meaning_0 : cX6_meaning.data.toList.drop 0 = dktX6_meaning_0 := by decide +kernel
theorem dksX6_meaning_1 : cX6_meaning.data.toList.drop 22 = dktX6_meaning_1 := dk_seg dksX6_meaning_0 22 rfl rfl
theorem dksX6_meaning_2 : cX6_meaning.data.toList.drop 46 = dktX6_meaning_2 := dk_seg dksX6_meaning_1 24 rfl rfl
theorem dX6_meaning_0 : decode cX6_meaning 0 = .ok (.aload_n 0, 1) := dk_42 (dk_at dksX6_meaning_0 0 rfl rfl)
theorem dX6_meaning_1 : decode cX6_meaning 1 = .ok (.iconst 0, 1) := dk_3 (dk_at dksX6_meaning_0 1 rfl rfl)
theorem dX6_meaning_2 : decode cX6_meaning 2 = .ok (.putfield 186, 3) := dk_181 0 186 (dk_at dksX6_meaning_0 2 rfl rfl)
theorem dX6_meaning_5 : decode cX6_meaning 5 = .ok (.aload_n 0, 1) := dk_42 (dk_at dksX6_meaning_0 5 rfl rfl)
theorem dX6_meaning_6 : decode cX6_meaning 6 = .ok (.lload_n 1, 1) := dk_31 (dk_at dksX6_meaning_0 6 rfl rfl)
theorem dX6_meaning_7 : decode cX6_meaning 7 = .ok (.iload_n 3, 1) := dk_29 (dk_at dksX6_meaning_0 7 rfl rfl)
theorem dX6_meaning_8 : decode cX6_meaning 8 = .ok (.invokevirtual 361, 3) := dk_182 1 105 (dk_at dksX6_meaning_0 8 rfl rfl)
theorem dX6_meaning_11 : decode cX6_meaning 11 = .ok (.istore 4, 2) := dk_54 4 (dk_at dksX6_meaning_0 11 rfl rfl)
theorem dX6_meaning_13 : decode cX6_meaning 13 = .ok (.iload 4, 2) := dk_21 4 (dk_at dksX6_meaning_0 13 rfl rfl)
theorem dX6_meaning_15 : decode cX6_meaning 15 = .ok (.ifCond .ge 10, 3) := dk_156 0 10 (dk_at dksX6_meaning_0 15 rfl rfl)
theorem dX6_meaning_18 : decode cX6_meaning 18 = .ok (.aload_n 0, 1) := dk_42 (dk_at dksX6_meaning_0 18 rfl rfl)
theorem dX6_meaning_19 : decode cX6_meaning 19 = .ok (.invokevirtual 358, 3) := dk_182 1 102 (dk_at dksX6_meaning_0 19 rfl rfl)
theorem dX6_meaning_22 : decode cX6_meaning 22 = .ok (.goto 37, 3) := dk_167 0 37 (dk_at dksX6_meaning_1 0 rfl rfl)
theorem dX6_meaning_25 : decode cX6_meaning 25 = .ok (.iload 4, 2) := dk_21 4 (dk_at dksX6_meaning_1 3 rfl rfl)
theorem dX6_meaning_27 : decode cX6_meaning 27 = .ok (.ifCond .ne 7, 3) := dk_154 0 7 (dk_at dksX6_meaning_1 5 rfl rfl)
theorem dX6_meaning_30 : decode cX6_meaning 30 = .ok (.iconst 0, 1) := dk_3 (dk_at dksX6_meaning_1 8 rfl rfl)
theorem dX6_meaning_31 : decode cX6_meaning 31 = .ok (.goto 28, 3) := dk_167 0 28 (dk_at dksX6_meaning_1 9 rfl rfl)
theorem dX6_meaning_34 : decode cX6_meaning 34 = .ok (.iload 4, 2) := dk_21 4 (dk_at dksX6_meaning_1 12 rfl rfl)
theorem dX6_meaning_36 : decode cX6_meaning 36 = .ok (.sipush 1000, 3) := dk_17 3 232 (dk_at dksX6_meaning_1 14 rfl rfl)
theorem dX6_meaning_39 : decode cX6_meaning 39 = .ok (.if_icmp .ge 7, 3) := dk_162 0 7 (dk_at dksX6_meaning_1 17 rfl rfl)
theorem dX6_meaning_42 : decode cX6_meaning 42 = .ok (.iconst 1, 1) := dk_4 (dk_at dksX6_meaning_1 20 rfl rfl)
theorem dX6_meaning_43 : decode cX6_meaning 43 = .ok (.goto 16, 3) := dk_167 0 16 (dk_at dksX6_meaning_1 21 rfl rfl)
theorem dX6_meaning_46 : decode cX6_meaning 46 = .ok (.iload 4, 2) := dk_21 4 (dk_at dksX6_meaning_2 0 rfl rfl)
theorem dX6_meaning_48 : decode cX6_meaning 48 = .ok (.sipush 6000, 3) := dk_17 23 112 (dk_at dksX6_meaning_2 2 rfl rfl)
theorem dX6_meaning_51 : decode cX6_meaning 51 = .ok (.if_icmp .ge 7, 3) := dk_162 0 7 (dk_at dksX6_meaning_2 5 rfl rfl)
theorem dX6_meaning_54 : decode cX6_meaning 54 = .ok (.iconst 2, 1) := dk_5 (dk_at dksX6_meaning_2 8 rfl rfl)
theorem dX6_meaning_55 : decode cX6_meaning 55 = .ok (.goto 4, 3) := dk_167 0 4 (dk_at dksX6_meaning_2 9 rfl rfl)
theorem dX6_meaning_58 : decode cX6_meaning 58 = .ok (.iconst 3, 1) := dk_6 (dk_at dksX6_meaning_2 12 rfl rfl)
theorem dX6_meaning_59 : decode cX6_meaning 59 = .ok (.ireturn, 1) := dk_172 (dk_at dksX6_meaning_2 13 rfl rfl)
abbrev cX6_lookUp : ByteArray := prog_10_method_62_code
def yX6_lookUp : MethodName := ⟨RX6, "lookUp", "(JZ)I"⟩
def dkwX6_lookUp_5 : List UInt8 := [180, 0, 29, 21, 5, 46, 172]
abbrev dktX6_lookUp_5 : List UInt8 := dkwX6_lookUp_5 ++ []
def dkwX6_lookUp_4 : List UInt8 := [164, 0, 5, 2, 172, 42, 29, 182, 0, 201, 54, 5, 21, 5, 156, 0, 7, 3, 167, 0, 10, 42]
abbrev dktX6_lookUp_4 : List UInt8 := dkwX6_lookUp_4 ++ dktX6_lookUp_5
def dkwX6_lookUp_3 : List UInt8 := [167, 255, 198, 21, 4, 153, 0, 22, 42, 180, 0, 198, 153, 0, 15, 29, 153, 0, 13, 42, 180, 0, 198, 4]
abbrev dktX6_lookUp_3 : List UInt8 := dkwX6_lookUp_3 ++ dktX6_lookUp_4
def dkwX6_lookUp_2 : List UInt8 := [153, 0, 7, 4, 167, 0, 4, 3, 54, 4, 21, 6, 158, 0, 9, 42, 21, 6, 182, 0, 209, 132, 5, 255]
abbrev dktX6_lookUp_2 : List UInt8 := dkwX6_lookUp_2 ++ dktX6_lookUp_3
def dkwX6_lookUp_1 : List UInt8 := [20, 0, 189, 127, 136, 54, 6, 21, 4, 153, 0, 20, 21, 6, 153, 0, 11, 21, 6, 184, 0, 191]
abbrev dktX6_lookUp_1 : List UInt8 := dkwX6_lookUp_1 ++ dktX6_lookUp_2
def dkwX6_lookUp_0 : List UInt8 := [42, 3, 181, 0, 198, 4, 54, 4, 16, 7, 54, 5, 21, 5, 155, 0, 59, 31, 16, 8, 21, 5, 104, 123]
abbrev dktX6_lookUp_0 : List UInt8 := dkwX6_lookUp_0 ++ dktX6_lookUp_1
theorem dksX6_lookUp_0 : cX6_lookUp.data.toList.drop 0 = dktX6_lookUp_0 := by decide +kernel
theorem dksX6_lookUp_1 : cX6_lookUp.data.toList.drop 24 = dktX6_lookUp_1 := dk_seg dksX6_lookUp_0 24 rfl rfl
theorem dksX6_lookUp_2 : cX6_lookUp.data.toList.drop 46 = dktX6_lookUp_2 := dk_seg dksX6_lookUp_1 22 rfl rfl
theorem dksX6_lookUp_3 : cX6_lookUp.data.toList.drop 70 = dktX6_lookUp_3 := dk_seg dksX6_lookUp_2 24 rfl rfl
theorem dksX6_lookUp_4 : cX6_lookUp.data.toList.drop 94 = dktX6_lookUp_4 := dk_seg dksX6_lookUp_3 24 rfl rfl
theorem dksX6_lookUp_5 : cX6_lookUp.data.toList.drop 116 = dktX6_lookUp_5 := dk_seg dksX6_lookUp_4 22 rfl rfl
theorem dX6_lookUp_0 : decode cX6_lookUp 0 = .ok (.aload_n 0, 1) := dk_42 (dk_at dksX6_lookUp_0 0 rfl rfl)
theorem dX6_lookUp_1 : decode cX6_lookUp 1 = .ok (.iconst 0, 1) := dk_3 (dk_at dksX6_lookUp_0 1 rfl rfl)
theorem dX6_lookUp_2 : decode cX6_lookUp 2 = .ok (.putfield 198, 3) := dk_181 0 198 (dk_at dksX6_lookUp_0 2 rfl rfl)
theorem dX6_lookUp_5 : decode cX6_lookUp 5 = .ok (.iconst 1, 1) := dk_4 (dk_at dksX6_lookUp_0 5 rfl rfl)
theorem dX6_lookUp_6 : decode cX6_lookUp 6 = .ok (.istore 4, 2) := dk_54 4 (dk_at dksX6_lookUp_0 6 rfl rfl)
theorem dX6_lookUp_8 : decode cX6_lookUp 8 = .ok (.bipush 7, 2) := dk_16 7 (dk_at dksX6_lookUp_0 8 rfl rfl)
theorem dX6_lookUp_10 : decode cX6_lookUp 10 = .ok (.istore 5, 2) := dk_54 5 (dk_at dksX6_lookUp_0 10 rfl rfl)
theorem dX6_lookUp_12 : decode cX6_lookUp 12 = .ok (.iload 5, 2) := dk_21 5 (dk_at dksX6_lookUp_0 12 rfl rfl)
theorem dX6_lookUp_14 : decode cX6_lookUp 14 = .ok (.ifCond .lt 59, 3) := dk_155 0 59 (dk_at dksX6_lookUp_0 14 rfl rfl)
theorem dX6_lookUp_17 : decode cX6_lookUp 17 = .ok (.lload_n 1, 1) := dk_31 (dk_at dksX6_lookUp_0 17 rfl rfl)
theorem dX6_lookUp_18 : decode cX6_lookUp 18 = .ok (.bipush 8, 2) := dk_16 8 (dk_at dksX6_lookUp_0 18 rfl rfl)
theorem dX6_lookUp_20 : decode cX6_lookUp 20 = .ok (.iload 5, 2) := dk_21 5 (dk_at dksX6_lookUp_0 20 rfl rfl)
theorem dX6_lookUp_22 : decode cX6_lookUp 22 = .ok (.imul, 1) := dk_104 (dk_at dksX6_lookUp_0 22 rfl rfl)
theorem dX6_lookUp_23 : decode cX6_lookUp 23 = .ok (.lshr, 1) := dk_123 (dk_at dksX6_lookUp_0 23 rfl rfl)
theorem dX6_lookUp_24 : decode cX6_lookUp 24 = .ok (.ldc2_w 189, 3) := dk_20 0 189 (dk_at dksX6_lookUp_1 0 rfl rfl)
theorem dX6_lookUp_27 : decode cX6_lookUp 27 = .ok (.land, 1) := dk_127 (dk_at dksX6_lookUp_1 3 rfl rfl)
theorem dX6_lookUp_28 : decode cX6_lookUp 28 = .ok (.l2i, 1) := dk_136 (dk_at dksX6_lookUp_1 4 rfl rfl)
theorem dX6_lookUp_29 : decode cX6_lookUp 29 = .ok (.istore 6, 2) := dk_54 6 (dk_at dksX6_lookUp_1 5 rfl rfl)
theorem dX6_lookUp_31 : decode cX6_lookUp 31 = .ok (.iload 4, 2) := dk_21 4 (dk_at dksX6_lookUp_1 7 rfl rfl)
theorem dX6_lookUp_33 : decode cX6_lookUp 33 = .ok (.ifCond .eq 20, 3) := dk_153 0 20 (dk_at dksX6_lookUp_1 9 rfl rfl)
theorem dX6_lookUp_36 : decode cX6_lookUp 36 = .ok (.iload 6, 2) := dk_21 6 (dk_at dksX6_lookUp_1 12 rfl rfl)
theorem dX6_lookUp_38 : decode cX6_lookUp 38 = .ok (.ifCond .eq 11, 3) := dk_153 0 11 (dk_at dksX6_lookUp_1 14 rfl rfl)
theorem dX6_lookUp_41 : decode cX6_lookUp 41 = .ok (.iload 6, 2) := dk_21 6 (dk_at dksX6_lookUp_1 17 rfl rfl)
theorem dX6_lookUp_43 : decode cX6_lookUp 43 = .ok (.invokestatic 191, 3) := dk_184 0 191 (dk_at dksX6_lookUp_1 19 rfl rfl)
theorem dX6_lookUp_46 : decode cX6_lookUp 46 = .ok (.ifCond .eq 7, 3) := dk_153 0 7 (dk_at dksX6_lookUp_2 0 rfl rfl)
theorem dX6_lookUp_49 : decode cX6_lookUp 49 = .ok (.iconst 1, 1) := dk_4 (dk_at dksX6_lookUp_2 3 rfl rfl)
theorem dX6_lookUp_50 : decode cX6_lookUp 50 = .ok (.goto 4, 3) := dk_167 0 4 (dk_at dksX6_lookUp_2 4 rfl rfl)
theorem dX6_lookUp_53 : decode cX6_lookUp 53 = .ok (.iconst 0, 1) := dk_3 (dk_at dksX6_lookUp_2 7 rfl rfl)
theorem dX6_lookUp_54 : decode cX6_lookUp 54 = .ok (.istore 4, 2) := dk_54 4 (dk_at dksX6_lookUp_2 8 rfl rfl)
theorem dX6_lookUp_56 : decode cX6_lookUp 56 = .ok (.iload 6, 2) := dk_21 6 (dk_at dksX6_lookUp_2 10 rfl rfl)
theorem dX6_lookUp_58 : decode cX6_lookUp 58 = .ok (.ifCond .le 9, 3) := dk_158 0 9 (dk_at dksX6_lookUp_2 12 rfl rfl)
theorem dX6_lookUp_61 : decode cX6_lookUp 61 = .ok (.aload_n 0, 1) := dk_42 (dk_at dksX6_lookUp_2 15 rfl rfl)
theorem dX6_lookUp_62 : decode cX6_lookUp 62 = .ok (.iload 6, 2) := dk_21 6 (dk_at dksX6_lookUp_2 16 rfl rfl)
theorem dX6_lookUp_64 : decode cX6_lookUp 64 = .ok (.invokevirtual 209, 3) := dk_182 0 209 (dk_at dksX6_lookUp_2 18 rfl rfl)
theorem dX6_lookUp_67 : decode cX6_lookUp 67 = .ok (.iinc 5 (-1), 3) := dk_132 5 255 (dk_at dksX6_lookUp_2 21 rfl rfl)
theorem dX6_lookUp_70 : decode cX6_lookUp 70 = .ok (.goto (-58), 3) := dk_167 255 198 (dk_at dksX6_lookUp_3 0 rfl rfl)
theorem dX6_lookUp_73 : decode cX6_lookUp 73 = .ok (.iload 4, 2) := dk_21 4 (dk_at dksX6_lookUp_3 3 rfl rfl)
theorem dX6_lookUp_75 : decode cX6_lookUp 75 = .ok (.ifCond .eq 22, 3) := dk_153 0 22 (dk_at dksX6_lookUp_3 5 rfl rfl)
theorem dX6_lookUp_78 : decode cX6_lookUp 78 = .ok (.aload_n 0, 1) := dk_42 (dk_at dksX6_lookUp_3 8 rfl rfl)
theorem dX6_lookUp_79 : decode cX6_lookUp 79 = .ok (.getfield 198, 3) := dk_180 0 198 (dk_at dksX6_lookUp_3 9 rfl rfl)
theorem dX6_lookUp_82 : decode cX6_lookUp 82 = .ok (.ifCond .eq 15, 3) := dk_153 0 15 (dk_at dksX6_lookUp_3 12 rfl rfl)
theorem dX6_lookUp_85 : decode cX6_lookUp 85 = .ok (.iload_n 3, 1) := dk_29 (dk_at dksX6_lookUp_3 15 rfl rfl)
theorem dX6_lookUp_86 : decode cX6_lookUp 86 = .ok (.ifCond .eq 13, 3) := dk_153 0 13 (dk_at dksX6_lookUp_3 16 rfl rfl)
theorem dX6_lookUp_89 : decode cX6_lookUp 89 = .ok (.aload_n 0, 1) := dk_42 (dk_at dksX6_lookUp_3 19 rfl rfl)
theorem dX6_lookUp_90 : decode cX6_lookUp 90 = .ok (.getfield 198, 3) := dk_180 0 198 (dk_at dksX6_lookUp_3 20 rfl rfl)
theorem dX6_lookUp_93 : decode cX6_lookUp 93 = .ok (.iconst 1, 1) := dk_4 (dk_at dksX6_lookUp_3 23 rfl rfl)
theorem dX6_lookUp_94 : decode cX6_lookUp 94 = .ok (.if_icmp .le 5, 3) := dk_164 0 5 (dk_at dksX6_lookUp_4 0 rfl rfl)
theorem dX6_lookUp_97 : decode cX6_lookUp 97 = .ok (.iconst (-1), 1) := dk_2 (dk_at dksX6_lookUp_4 3 rfl rfl)
theorem dX6_lookUp_98 : decode cX6_lookUp 98 = .ok (.ireturn, 1) := dk_172 (dk_at dksX6_lookUp_4 4 rfl rfl)
theorem dX6_lookUp_99 : decode cX6_lookUp 99 = .ok (.aload_n 0, 1) := dk_42 (dk_at dksX6_lookUp_4 5 rfl rfl)
theorem dX6_lookUp_100 : decode cX6_lookUp 100 = .ok (.iload_n 3, 1) := dk_29 (dk_at dksX6_lookUp_4 6 rfl rfl)
theorem dX6_lookUp_101 : decode cX6_lookUp 101 = .ok (.invokevirtual 201, 3) := dk_182 0 201 (dk_at dksX6_lookUp_4 7 rfl rfl)
theorem dX6_lookUp_104 : decode cX6_lookUp 104 = .ok (.istore 5, 2) := dk_54 5 (dk_at dksX6_lookUp_4 10 rfl rfl)
theorem dX6_lookUp_106 : decode cX6_lookUp 106 = .ok (.iload 5, 2) := dk_21 5 (dk_at dksX6_lookUp_4 12 rfl rfl)
theorem dX6_lookUp_108 : decode cX6_lookUp 108 = .ok (.ifCond .ge 7, 3) := dk_156 0 7 (dk_at dksX6_lookUp_4 14 rfl rfl)
theorem dX6_lookUp_111 : decode cX6_lookUp 111 = .ok (.iconst 0, 1) := dk_3 (dk_at dksX6_lookUp_4 17 rfl rfl)
theorem dX6_lookUp_112 : decode cX6_lookUp 112 = .ok (.goto 10, 3) := dk_167 0 10 (dk_at dksX6_lookUp_4 18 rfl rfl)
theorem dX6_lookUp_115 : decode cX6_lookUp 115 = .ok (.aload_n 0, 1) := dk_42 (dk_at dksX6_lookUp_4 21 rfl rfl)
theorem dX6_lookUp_116 : decode cX6_lookUp 116 = .ok (.getfield 29, 3) := dk_180 0 29 (dk_at dksX6_lookUp_5 0 rfl rfl)
theorem dX6_lookUp_119 : decode cX6_lookUp 119 = .ok (.iload 5, 2) := dk_21 5 (dk_at dksX6_lookUp_5 3 rfl rfl)
theorem dX6_lookUp_121 : decode cX6_lookUp 121 = .ok (.iaload, 1) := dk_46 (dk_at dksX6_lookUp_5 5 rfl rfl)
theorem dX6_lookUp_122 : decode cX6_lookUp 122 = .ok (.ireturn, 1) := dk_172 (dk_at dksX6_lookUp_5 6 rfl rfl)
abbrev cX6_detail : ByteArray := prog_10_method_64_code
def yX6_detail : MethodName := ⟨RX6, "detail", "(JZI)I"⟩
def dkwX6_detail_9 : List UInt8 := [17, 64, 0, 162, 0, 9, 17, 16, 0, 167, 0, 13, 17, 16, 0, 21, 8, 96, 17, 64, 0, 100, 172]
abbrev dktX6_detail_9 : List UInt8 := dkwX6_detail_9 ++ []
def dkwX6_detail_8 : List UInt8 := [21, 4, 96, 6, 100, 46, 54, 8, 21, 8, 17, 16, 0, 162, 0, 8, 21, 8, 167, 0, 27, 21, 8]
abbrev dktX6_detail_8 : List UInt8 := dkwX6_detail_8 ++ dktX6_detail_9
def dkwX6_detail_7 : List UInt8 := [6, 100, 42, 180, 0, 50, 21, 7, 46, 161, 0, 5, 2, 172, 42, 180, 0, 53, 16, 41, 21, 7, 104]
abbrev dktX6_detail_7 : List UInt8 := dkwX6_detail_7 ++ dktX6_detail_8
def dkwX6_detail_6 : List UInt8 := [167, 0, 10, 42, 180, 0, 50, 21, 7, 46, 172, 21, 6, 153, 0, 23, 21, 4, 6, 161, 0, 17, 21, 4]
abbrev dktX6_detail_6 : List UInt8 := dkwX6_detail_6 ++ dktX6_detail_7
def dkwX6_detail_5 : List UInt8 := [21, 6, 154, 0, 7, 3, 167, 0, 26, 21, 4, 4, 160, 0, 13, 42, 180, 0, 44, 21, 7, 46]
abbrev dktX6_detail_5 : List UInt8 := dkwX6_detail_5 ++ dktX6_detail_6
def dkwX6_detail_4 : List UInt8 := [21, 5, 167, 0, 9, 21, 5, 17, 3, 232, 100, 172, 21, 4, 4, 159, 0, 9, 21, 4, 5, 160, 0, 36]
abbrev dktX6_detail_4 : List UInt8 := dkwX6_detail_4 ++ dktX6_detail_5
def dkwX6_detail_3 : List UInt8 := [21, 6, 153, 0, 13, 42, 180, 0, 56, 21, 7, 46, 167, 0, 22, 21, 5, 17, 3, 232, 162, 0, 8]
abbrev dktX6_detail_3 : List UInt8 := dkwX6_detail_3 ++ dktX6_detail_4
def dkwX6_detail_2 : List UInt8 := [17, 23, 112, 100, 167, 0, 4, 3, 54, 7, 21, 4, 154, 0, 47, 21, 5, 154, 0, 7, 2, 167, 0, 37]
abbrev dktX6_detail_2 : List UInt8 := dkwX6_detail_2 ++ dktX6_detail_3
def dkwX6_detail_1 : List UInt8 := [21, 5, 17, 23, 112, 161, 0, 7, 4, 167, 0, 4, 3, 54, 6, 21, 6, 153, 0, 12, 21, 5]
abbrev dktX6_detail_1 : List UInt8 := dkwX6_detail_1 ++ dktX6_detail_2
def dkwX6_detail_0 : List UInt8 := [42, 3, 181, 0, 186, 42, 31, 29, 182, 1, 105, 54, 5, 21, 5, 156, 0, 8, 42, 182, 1, 102, 172]
abbrev dktX6_detail_0 : List UInt8 := dkwX6_detail_0 ++ dktX6_detail_1
theorem dksX6_detail_0 : cX6_detail.data.toList.drop 0 = dktX6_detail_0 := by decide +kernel
theorem dksX6_detail_1 : cX6_detail.data.toList.drop 23 = dktX6_detail_1 := dk_seg dksX6_detail_0 23 rfl rfl
theorem dksX6_detail_2 : cX6_detail.data.toList.drop 45 = dktX6_detail_2 := dk_seg dksX6_detail_1 22 rfl rfl
theorem dksX6_detail_3 : cX6_detail.data.toList.drop 69 = dktX6_detail_3 := dk_seg dksX6_detail_2 24 rfl rfl
theorem dksX6_detail_4 : cX6_detail.data.toList.drop 92 = dktX6_detail_4 := dk_seg dksX6_detail_3 23 rfl rfl
theorem dksX6_detail_5 : cX6_detail.data.toList.drop 116 = dktX6_detail_5 := dk_seg dksX6_detail_4 24 rfl rfl
theorem dksX6_detail_6 : cX6_detail.data.toList.drop 138 = dktX6_detail_6 := dk_seg dksX6_detail_5 22 rfl rfl
theorem dksX6_detail_7 : cX6_detail.data.toList.drop 162 = dktX6_detail_7 := dk_seg dksX6_detail_6 24 rfl rfl
theorem dksX6_detail_8 : cX6_detail.data.toList.drop 185 = dktX6_detail_8 := dk_seg dksX6_detail_7 23 rfl rfl
theorem dksX6_detail_9 : cX6_detail.data.toList.drop 208 = dktX6_detail_9 := dk_seg dksX6_detail_8 23 rfl rfl
theorem dX6_detail_0 : decode cX6_detail 0 = .ok (.aload_n 0, 1) := dk_42 (dk_at dksX6_detail_0 0 rfl rfl)
theorem dX6_detail_1 : decode cX6_detail 1 = .ok (.iconst 0, 1) := dk_3 (dk_at dksX6_detail_0 1 rfl rfl)
theorem dX6_detail_2 : decode cX6_detail 2 = .ok (.putfield 186, 3) := dk_181 0 186 (dk_at dksX6_detail_0 2 rfl rfl)
theorem dX6_detail_5 : decode cX6_detail 5 = .ok (.aload_n 0, 1) := dk_42 (dk_at dksX6_detail_0 5 rfl rfl)
theorem dX6_detail_6 : decode cX6_detail 6 = .ok (.lload_n 1, 1) := dk_31 (dk_at dksX6_detail_0 6 rfl rfl)
theorem dX6_detail_7 : decode cX6_detail 7 = .ok (.iload_n 3, 1) := dk_29 (dk_at dksX6_detail_0 7 rfl rfl)
theorem dX6_detail_8 : decode cX6_detail 8 = .ok (.invokevirtual 361, 3) := dk_182 1 105 (dk_at dksX6_detail_0 8 rfl rfl)
theorem dX6_detail_11 : decode cX6_detail 11 = .ok (.istore 5, 2) := dk_54 5 (dk_at dksX6_detail_0 11 rfl rfl)
theorem dX6_detail_13 : decode cX6_detail 13 = .ok (.iload 5, 2) := dk_21 5 (dk_at dksX6_detail_0 13 rfl rfl)
theorem dX6_detail_15 : decode cX6_detail 15 = .ok (.ifCond .ge 8, 3) := dk_156 0 8 (dk_at dksX6_detail_0 15 rfl rfl)
theorem dX6_detail_18 : decode cX6_detail 18 = .ok (.aload_n 0, 1) := dk_42 (dk_at dksX6_detail_0 18 rfl rfl)
theorem dX6_detail_19 : decode cX6_detail 19 = .ok (.invokevirtual 358, 3) := dk_182 1 102 (dk_at dksX6_detail_0 19 rfl rfl)
theorem dX6_detail_22 : decode cX6_detail 22 = .ok (.ireturn, 1) := dk_172 (dk_at dksX6_detail_0 22 rfl rfl)
theorem dX6_detail_23 : decode cX6_detail 23 = .ok (.iload 5, 2) := dk_21 5 (dk_at dksX6_detail_1 0 rfl rfl)
theorem dX6_detail_25 : decode cX6_detail 25 = .ok (.sipush 6000, 3) := dk_17 23 112 (dk_at dksX6_detail_1 2 rfl rfl)
theorem dX6_detail_28 : decode cX6_detail 28 = .ok (.if_icmp .lt 7, 3) := dk_161 0 7 (dk_at dksX6_detail_1 5 rfl rfl)
theorem dX6_detail_31 : decode cX6_detail 31 = .ok (.iconst 1, 1) := dk_4 (dk_at dksX6_detail_1 8 rfl rfl)
theorem dX6_detail_32 : decode cX6_detail 32 = .ok (.goto 4, 3) := dk_167 0 4 (dk_at dksX6_detail_1 9 rfl rfl)
theorem dX6_detail_35 : decode cX6_detail 35 = .ok (.iconst 0, 1) := dk_3 (dk_at dksX6_detail_1 12 rfl rfl)
theorem dX6_detail_36 : decode cX6_detail 36 = .ok (.istore 6, 2) := dk_54 6 (dk_at dksX6_detail_1 13 rfl rfl)
theorem dX6_detail_38 : decode cX6_detail 38 = .ok (.iload 6, 2) := dk_21 6 (dk_at dksX6_detail_1 15 rfl rfl)
theorem dX6_detail_40 : decode cX6_detail 40 = .ok (.ifCond .eq 12, 3) := dk_153 0 12 (dk_at dksX6_detail_1 17 rfl rfl)
theorem dX6_detail_43 : decode cX6_detail 43 = .ok (.iload 5, 2) := dk_21 5 (dk_at dksX6_detail_1 20 rfl rfl)
theorem dX6_detail_45 : decode cX6_detail 45 = .ok (.sipush 6000, 3) := dk_17 23 112 (dk_at dksX6_detail_2 0 rfl rfl)
theorem dX6_detail_48 : decode cX6_detail 48 = .ok (.isub, 1) := dk_100 (dk_at dksX6_detail_2 3 rfl rfl)
theorem dX6_detail_49 : decode cX6_detail 49 = .ok (.goto 4, 3) := dk_167 0 4 (dk_at dksX6_detail_2 4 rfl rfl)
theorem dX6_detail_52 : decode cX6_detail 52 = .ok (.iconst 0, 1) := dk_3 (dk_at dksX6_detail_2 7 rfl rfl)
theorem dX6_detail_53 : decode cX6_detail 53 = .ok (.istore 7, 2) := dk_54 7 (dk_at dksX6_detail_2 8 rfl rfl)
theorem dX6_detail_55 : decode cX6_detail 55 = .ok (.iload 4, 2) := dk_21 4 (dk_at dksX6_detail_2 10 rfl rfl)
theorem dX6_detail_57 : decode cX6_detail 57 = .ok (.ifCond .ne 47, 3) := dk_154 0 47 (dk_at dksX6_detail_2 12 rfl rfl)
theorem dX6_detail_60 : decode cX6_detail 60 = .ok (.iload 5, 2) := dk_21 5 (dk_at dksX6_detail_2 15 rfl rfl)
theorem dX6_detail_62 : decode cX6_detail 62 = .ok (.ifCond .ne 7, 3) := dk_154 0 7 (dk_at dksX6_detail_2 17 rfl rfl)
theorem dX6_detail_65 : decode cX6_detail 65 = .ok (.iconst (-1), 1) := dk_2 (dk_at dksX6_detail_2 20 rfl rfl)
theorem dX6_detail_66 : decode cX6_detail 66 = .ok (.goto 37, 3) := dk_167 0 37 (dk_at dksX6_detail_2 21 rfl rfl)
theorem dX6_detail_69 : decode cX6_detail 69 = .ok (.iload 6, 2) := dk_21 6 (dk_at dksX6_detail_3 0 rfl rfl)
theorem dX6_detail_71 : decode cX6_detail 71 = .ok (.ifCond .eq 13, 3) := dk_153 0 13 (dk_at dksX6_detail_3 2 rfl rfl)
theorem dX6_detail_74 : decode cX6_detail 74 = .ok (.aload_n 0, 1) := dk_42 (dk_at dksX6_detail_3 5 rfl rfl)
theorem dX6_detail_75 : decode cX6_detail 75 = .ok (.getfield 56, 3) := dk_180 0 56 (dk_at dksX6_detail_3 6 rfl rfl)
theorem dX6_detail_78 : decode cX6_detail 78 = .ok (.iload 7, 2) := dk_21 7 (dk_at dksX6_detail_3 9 rfl rfl)
theorem dX6_detail_80 : decode cX6_detail 80 = .ok (.iaload, 1) := dk_46 (dk_at dksX6_detail_3 11 rfl rfl)
theorem dX6_detail_81 : decode cX6_detail 81 = .ok (.goto 22, 3) := dk_167 0 22 (dk_at dksX6_detail_3 12 rfl rfl)
theorem dX6_detail_84 : decode cX6_detail 84 = .ok (.iload 5, 2) := dk_21 5 (dk_at dksX6_detail_3 15 rfl rfl)
theorem dX6_detail_86 : decode cX6_detail 86 = .ok (.sipush 1000, 3) := dk_17 3 232 (dk_at dksX6_detail_3 17 rfl rfl)
theorem dX6_detail_89 : decode cX6_detail 89 = .ok (.if_icmp .ge 8, 3) := dk_162 0 8 (dk_at dksX6_detail_3 20 rfl rfl)
theorem dX6_detail_92 : decode cX6_detail 92 = .ok (.iload 5, 2) := dk_21 5 (dk_at dksX6_detail_4 0 rfl rfl)
theorem dX6_detail_94 : decode cX6_detail 94 = .ok (.goto 9, 3) := dk_167 0 9 (dk_at dksX6_detail_4 2 rfl rfl)
theorem dX6_detail_97 : decode cX6_detail 97 = .ok (.iload 5, 2) := dk_21 5 (dk_at dksX6_detail_4 5 rfl rfl)
theorem dX6_detail_99 : decode cX6_detail 99 = .ok (.sipush 1000, 3) := dk_17 3 232 (dk_at dksX6_detail_4 7 rfl rfl)
theorem dX6_detail_102 : decode cX6_detail 102 = .ok (.isub, 1) := dk_100 (dk_at dksX6_detail_4 10 rfl rfl)
theorem dX6_detail_103 : decode cX6_detail 103 = .ok (.ireturn, 1) := dk_172 (dk_at dksX6_detail_4 11 rfl rfl)
theorem dX6_detail_104 : decode cX6_detail 104 = .ok (.iload 4, 2) := dk_21 4 (dk_at dksX6_detail_4 12 rfl rfl)
theorem dX6_detail_106 : decode cX6_detail 106 = .ok (.iconst 1, 1) := dk_4 (dk_at dksX6_detail_4 14 rfl rfl)
theorem dX6_detail_107 : decode cX6_detail 107 = .ok (.if_icmp .eq 9, 3) := dk_159 0 9 (dk_at dksX6_detail_4 15 rfl rfl)
theorem dX6_detail_110 : decode cX6_detail 110 = .ok (.iload 4, 2) := dk_21 4 (dk_at dksX6_detail_4 18 rfl rfl)
theorem dX6_detail_112 : decode cX6_detail 112 = .ok (.iconst 2, 1) := dk_5 (dk_at dksX6_detail_4 20 rfl rfl)
theorem dX6_detail_113 : decode cX6_detail 113 = .ok (.if_icmp .ne 36, 3) := dk_160 0 36 (dk_at dksX6_detail_4 21 rfl rfl)
theorem dX6_detail_116 : decode cX6_detail 116 = .ok (.iload 6, 2) := dk_21 6 (dk_at dksX6_detail_5 0 rfl rfl)
theorem dX6_detail_118 : decode cX6_detail 118 = .ok (.ifCond .ne 7, 3) := dk_154 0 7 (dk_at dksX6_detail_5 2 rfl rfl)
theorem dX6_detail_121 : decode cX6_detail 121 = .ok (.iconst 0, 1) := dk_3 (dk_at dksX6_detail_5 5 rfl rfl)
theorem dX6_detail_122 : decode cX6_detail 122 = .ok (.goto 26, 3) := dk_167 0 26 (dk_at dksX6_detail_5 6 rfl rfl)
theorem dX6_detail_125 : decode cX6_detail 125 = .ok (.iload 4, 2) := dk_21 4 (dk_at dksX6_detail_5 9 rfl rfl)
theorem dX6_detail_127 : decode cX6_detail 127 = .ok (.iconst 1, 1) := dk_4 (dk_at dksX6_detail_5 11 rfl rfl)
theorem dX6_detail_128 : decode cX6_detail 128 = .ok (.if_icmp .ne 13, 3) := dk_160 0 13 (dk_at dksX6_detail_5 12 rfl rfl)
theorem dX6_detail_131 : decode cX6_detail 131 = .ok (.aload_n 0, 1) := dk_42 (dk_at dksX6_detail_5 15 rfl rfl)
theorem dX6_detail_132 : decode cX6_detail 132 = .ok (.getfield 44, 3) := dk_180 0 44 (dk_at dksX6_detail_5 16 rfl rfl)
theorem dX6_detail_135 : decode cX6_detail 135 = .ok (.iload 7, 2) := dk_21 7 (dk_at dksX6_detail_5 19 rfl rfl)
theorem dX6_detail_137 : decode cX6_detail 137 = .ok (.iaload, 1) := dk_46 (dk_at dksX6_detail_5 21 rfl rfl)
theorem dX6_detail_138 : decode cX6_detail 138 = .ok (.goto 10, 3) := dk_167 0 10 (dk_at dksX6_detail_6 0 rfl rfl)
theorem dX6_detail_141 : decode cX6_detail 141 = .ok (.aload_n 0, 1) := dk_42 (dk_at dksX6_detail_6 3 rfl rfl)
theorem dX6_detail_142 : decode cX6_detail 142 = .ok (.getfield 50, 3) := dk_180 0 50 (dk_at dksX6_detail_6 4 rfl rfl)
theorem dX6_detail_145 : decode cX6_detail 145 = .ok (.iload 7, 2) := dk_21 7 (dk_at dksX6_detail_6 7 rfl rfl)
theorem dX6_detail_147 : decode cX6_detail 147 = .ok (.iaload, 1) := dk_46 (dk_at dksX6_detail_6 9 rfl rfl)
theorem dX6_detail_148 : decode cX6_detail 148 = .ok (.ireturn, 1) := dk_172 (dk_at dksX6_detail_6 10 rfl rfl)
theorem dX6_detail_149 : decode cX6_detail 149 = .ok (.iload 6, 2) := dk_21 6 (dk_at dksX6_detail_6 11 rfl rfl)
theorem dX6_detail_151 : decode cX6_detail 151 = .ok (.ifCond .eq 23, 3) := dk_153 0 23 (dk_at dksX6_detail_6 13 rfl rfl)
theorem dX6_detail_154 : decode cX6_detail 154 = .ok (.iload 4, 2) := dk_21 4 (dk_at dksX6_detail_6 16 rfl rfl)
theorem dX6_detail_156 : decode cX6_detail 156 = .ok (.iconst 3, 1) := dk_6 (dk_at dksX6_detail_6 18 rfl rfl)
theorem dX6_detail_157 : decode cX6_detail 157 = .ok (.if_icmp .lt 17, 3) := dk_161 0 17 (dk_at dksX6_detail_6 19 rfl rfl)
theorem dX6_detail_160 : decode cX6_detail 160 = .ok (.iload 4, 2) := dk_21 4 (dk_at dksX6_detail_6 22 rfl rfl)
theorem dX6_detail_162 : decode cX6_detail 162 = .ok (.iconst 3, 1) := dk_6 (dk_at dksX6_detail_7 0 rfl rfl)
theorem dX6_detail_163 : decode cX6_detail 163 = .ok (.isub, 1) := dk_100 (dk_at dksX6_detail_7 1 rfl rfl)
theorem dX6_detail_164 : decode cX6_detail 164 = .ok (.aload_n 0, 1) := dk_42 (dk_at dksX6_detail_7 2 rfl rfl)
theorem dX6_detail_165 : decode cX6_detail 165 = .ok (.getfield 50, 3) := dk_180 0 50 (dk_at dksX6_detail_7 3 rfl rfl)
theorem dX6_detail_168 : decode cX6_detail 168 = .ok (.iload 7, 2) := dk_21 7 (dk_at dksX6_detail_7 6 rfl rfl)
theorem dX6_detail_170 : decode cX6_detail 170 = .ok (.iaload, 1) := dk_46 (dk_at dksX6_detail_7 8 rfl rfl)
theorem dX6_detail_171 : decode cX6_detail 171 = .ok (.if_icmp .lt 5, 3) := dk_161 0 5 (dk_at dksX6_detail_7 9 rfl rfl)
theorem dX6_detail_174 : decode cX6_detail 174 = .ok (.iconst (-1), 1) := dk_2 (dk_at dksX6_detail_7 12 rfl rfl)
theorem dX6_detail_175 : decode cX6_detail 175 = .ok (.ireturn, 1) := dk_172 (dk_at dksX6_detail_7 13 rfl rfl)
theorem dX6_detail_176 : decode cX6_detail 176 = .ok (.aload_n 0, 1) := dk_42 (dk_at dksX6_detail_7 14 rfl rfl)
theorem dX6_detail_177 : decode cX6_detail 177 = .ok (.getfield 53, 3) := dk_180 0 53 (dk_at dksX6_detail_7 15 rfl rfl)
theorem dX6_detail_180 : decode cX6_detail 180 = .ok (.bipush 41, 2) := dk_16 41 (dk_at dksX6_detail_7 18 rfl rfl)
theorem dX6_detail_182 : decode cX6_detail 182 = .ok (.iload 7, 2) := dk_21 7 (dk_at dksX6_detail_7 20 rfl rfl)
theorem dX6_detail_184 : decode cX6_detail 184 = .ok (.imul, 1) := dk_104 (dk_at dksX6_detail_7 22 rfl rfl)
theorem dX6_detail_185 : decode cX6_detail 185 = .ok (.iload 4, 2) := dk_21 4 (dk_at dksX6_detail_8 0 rfl rfl)
theorem dX6_detail_187 : decode cX6_detail 187 = .ok (.iadd, 1) := dk_96 (dk_at dksX6_detail_8 2 rfl rfl)
theorem dX6_detail_188 : decode cX6_detail 188 = .ok (.iconst 3, 1) := dk_6 (dk_at dksX6_detail_8 3 rfl rfl)
theorem dX6_detail_189 : decode cX6_detail 189 = .ok (.isub, 1) := dk_100 (dk_at dksX6_detail_8 4 rfl rfl)
theorem dX6_detail_190 : decode cX6_detail 190 = .ok (.iaload, 1) := dk_46 (dk_at dksX6_detail_8 5 rfl rfl)
theorem dX6_detail_191 : decode cX6_detail 191 = .ok (.istore 8, 2) := dk_54 8 (dk_at dksX6_detail_8 6 rfl rfl)
theorem dX6_detail_193 : decode cX6_detail 193 = .ok (.iload 8, 2) := dk_21 8 (dk_at dksX6_detail_8 8 rfl rfl)
theorem dX6_detail_195 : decode cX6_detail 195 = .ok (.sipush 4096, 3) := dk_17 16 0 (dk_at dksX6_detail_8 10 rfl rfl)
theorem dX6_detail_198 : decode cX6_detail 198 = .ok (.if_icmp .ge 8, 3) := dk_162 0 8 (dk_at dksX6_detail_8 13 rfl rfl)
theorem dX6_detail_201 : decode cX6_detail 201 = .ok (.iload 8, 2) := dk_21 8 (dk_at dksX6_detail_8 16 rfl rfl)
theorem dX6_detail_203 : decode cX6_detail 203 = .ok (.goto 27, 3) := dk_167 0 27 (dk_at dksX6_detail_8 18 rfl rfl)
theorem dX6_detail_206 : decode cX6_detail 206 = .ok (.iload 8, 2) := dk_21 8 (dk_at dksX6_detail_8 21 rfl rfl)
theorem dX6_detail_208 : decode cX6_detail 208 = .ok (.sipush 16384, 3) := dk_17 64 0 (dk_at dksX6_detail_9 0 rfl rfl)
theorem dX6_detail_211 : decode cX6_detail 211 = .ok (.if_icmp .ge 9, 3) := dk_162 0 9 (dk_at dksX6_detail_9 3 rfl rfl)
theorem dX6_detail_214 : decode cX6_detail 214 = .ok (.sipush 4096, 3) := dk_17 16 0 (dk_at dksX6_detail_9 6 rfl rfl)
theorem dX6_detail_217 : decode cX6_detail 217 = .ok (.goto 13, 3) := dk_167 0 13 (dk_at dksX6_detail_9 9 rfl rfl)
theorem dX6_detail_220 : decode cX6_detail 220 = .ok (.sipush 4096, 3) := dk_17 16 0 (dk_at dksX6_detail_9 12 rfl rfl)
theorem dX6_detail_223 : decode cX6_detail 223 = .ok (.iload 8, 2) := dk_21 8 (dk_at dksX6_detail_9 15 rfl rfl)
theorem dX6_detail_225 : decode cX6_detail 225 = .ok (.iadd, 1) := dk_96 (dk_at dksX6_detail_9 17 rfl rfl)
theorem dX6_detail_226 : decode cX6_detail 226 = .ok (.sipush 16384, 3) := dk_17 64 0 (dk_at dksX6_detail_9 18 rfl rfl)
theorem dX6_detail_229 : decode cX6_detail 229 = .ok (.isub, 1) := dk_100 (dk_at dksX6_detail_9 21 rfl rfl)
theorem dX6_detail_230 : decode cX6_detail 230 = .ok (.ireturn, 1) := dk_172 (dk_at dksX6_detail_9 22 rfl rfl)
theorem q113 : (Jvm.Cond.initialized "TokenMouthModel") ∈ lw_all := lw_g (lw_at lw_m1 19 rfl) rfl
theorem q325 : (Jvm.Cond.selects "TokenMouthModel" ({ cls := "java/lang/Object", name := "getClass", desc := "()Ljava/lang/Class;" } : Jvm.MethodName) ({ cls := "java/lang/Object", name := "getClass", desc := "()Ljava/lang/Class;" } : Jvm.MethodName)) ∈ lw_all := lw_g (lw_at lw_m1 231 rfl) rfl
theorem q1064 : (Jvm.Cond.instantiable "TokenMouthModel" (41 : Nat)) ∈ lw_all := lw_g (lw_at lw_m5 10 rfl) rfl
theorem q1066 : (Jvm.Cond.instanceMethod ({ cls := "TokenMouthModel", name := "<init>", desc := "()V" } : Jvm.MethodName)) ∈ lw_all := lw_g (lw_at lw_m5 12 rfl) rfl
theorem q1067 : (Jvm.Cond.code ({ cls := "TokenMouthModel", name := "<init>", desc := "()V" } : Jvm.MethodName) prog_10_method_1_code (1 : Nat) (Option.none : Option Jvm.ClassFile.FieldType)) ∈ lw_all := lw_g (lw_at lw_m5 13 rfl) rfl
theorem q1068 : (Jvm.Cond.methodLink "TokenMouthModel" (1 : Nat) ({ cls := "java/lang/Object", name := "<init>", desc := "()V" } : Jvm.MethodName)) ∈ lw_all := lw_g (lw_at lw_m5 14 rfl) rfl
theorem q1069 : (Jvm.Cond.constantLong "TokenMouthModel" (86 : Nat) (3 : Int64)) ∈ lw_all := lw_g (lw_at lw_m5 15 rfl) rfl
theorem q1070 : (Jvm.Cond.constantLong "TokenMouthModel" (88 : Nat) (18480 : Int64)) ∈ lw_all := lw_g (lw_at lw_m5 16 rfl) rfl
theorem q1071 : (Jvm.Cond.methodLink "TokenMouthModel" (90 : Nat) ({ cls := "TokenMouthModel", name := "command", desc := "(JJ)V" } : Jvm.MethodName)) ∈ lw_all := lw_g (lw_at lw_m5 17 rfl) rfl
theorem q1072 : (Jvm.Cond.privateMethod ({ cls := "TokenMouthModel", name := "command", desc := "(JJ)V" } : Jvm.MethodName)) ∈ lw_tbl := lw_at lw_m5 18 rfl
theorem q1073 : (Jvm.Cond.instanceMethod ({ cls := "TokenMouthModel", name := "command", desc := "(JJ)V" } : Jvm.MethodName)) ∈ lw_all := lw_g (lw_at lw_m5 19 rfl) rfl
theorem q1074 : (Jvm.Cond.code ({ cls := "TokenMouthModel", name := "command", desc := "(JJ)V" } : Jvm.MethodName) prog_10_method_2_code (6 : Nat) (Option.none : Option Jvm.ClassFile.FieldType)) ∈ lw_all := lw_g (lw_at lw_m5 20 rfl) rfl
theorem q1075 : (Jvm.Cond.constantLong "TokenMouthModel" (151 : Nat) (31 : Int64)) ∈ lw_all := lw_g (lw_at lw_m5 21 rfl) rfl
theorem q1076 : (Jvm.Cond.constantLong "TokenMouthModel" (94 : Nat) (5 : Int64)) ∈ lw_all := lw_g (lw_at lw_m5 22 rfl) rfl
theorem q1077 : (Jvm.Cond.constantLong "TokenMouthModel" (96 : Nat) (25211058 : Int64)) ∈ lw_all := lw_g (lw_at lw_m5 23 rfl) rfl
theorem q1078 : (Jvm.Cond.constantLong "TokenMouthModel" (98 : Nat) (6308 : Int64)) ∈ lw_all := lw_g (lw_at lw_m5 24 rfl) rfl
theorem q1079 : (Jvm.Cond.constantLong "TokenMouthModel" (100 : Nat) (4 : Int64)) ∈ lw_all := lw_g (lw_at lw_m5 25 rfl) rfl
theorem q1080 : (Jvm.Cond.constantLong "TokenMouthModel" (102 : Nat) (201863 : Int64)) ∈ lw_all := lw_g (lw_at lw_m5 26 rfl) rfl
theorem q1081 : (Jvm.Cond.constantLong "TokenMouthModel" (104 : Nat) (201861 : Int64)) ∈ lw_all := lw_g (lw_at lw_m5 27 rfl) rfl
theorem q1082 : (Jvm.Cond.constantLong "TokenMouthModel" (106 : Nat) (20652 : Int64)) ∈ lw_all := lw_g (lw_at lw_m5 28 rfl) rfl
theorem q1083 : (Jvm.Cond.constantLong "TokenMouthModel" (108 : Nat) (7 : Int64)) ∈ lw_all := lw_g (lw_at lw_m5 29 rfl) rfl
theorem q1084 : (Jvm.Cond.constantLong "TokenMouthModel" (110 : Nat) (5518774307 : Int64)) ∈ lw_all := lw_g (lw_at lw_m5 30 rfl) rfl
theorem q1085 : (Jvm.Cond.constantLong "TokenMouthModel" (112 : Nat) (11 : Int64)) ∈ lw_all := lw_g (lw_at lw_m5 31 rfl) rfl
theorem q1086 : (Jvm.Cond.constantLong "TokenMouthModel" (114 : Nat) (20464317797286661 : Int64)) ∈ lw_all := lw_g (lw_at lw_m5 32 rfl) rfl
theorem q1087 : (Jvm.Cond.constantLong "TokenMouthModel" (116 : Nat) (8 : Int64)) ∈ lw_all := lw_g (lw_at lw_m5 33 rfl) rfl
theorem q1088 : (Jvm.Cond.constantLong "TokenMouthModel" (118 : Nat) (152522462702 : Int64)) ∈ lw_all := lw_g (lw_at lw_m5 34 rfl) rfl
theorem q1089 : (Jvm.Cond.constantLong "TokenMouthModel" (120 : Nat) (6 : Int64)) ∈ lw_all := lw_g (lw_at lw_m5 35 rfl) rfl
theorem q1090 : (Jvm.Cond.constantLong "TokenMouthModel" (122 : Nat) (181451363 : Int64)) ∈ lw_all := lw_g (lw_at lw_m5 36 rfl) rfl
theorem q1091 : (Jvm.Cond.constantLong "TokenMouthModel" (124 : Nat) (9 : Int64)) ∈ lw_all := lw_g (lw_at lw_m5 37 rfl) rfl
theorem q1092 : (Jvm.Cond.constantLong "TokenMouthModel" (126 : Nat) (5945798267333 : Int64)) ∈ lw_all := lw_g (lw_at lw_m5 38 rfl) rfl
theorem q1093 : (Jvm.Cond.constantLong "TokenMouthModel" (128 : Nat) (249875091 : Int64)) ∈ lw_all := lw_g (lw_at lw_m5 39 rfl) rfl
theorem q1094 : (Jvm.Cond.constantLong "TokenMouthModel" (130 : Nat) (2 : Int64)) ∈ lw_all := lw_g (lw_at lw_m5 40 rfl) rfl
theorem q1095 : (Jvm.Cond.constantLong "TokenMouthModel" (132 : Nat) (201 : Int64)) ∈ lw_all := lw_g (lw_at lw_m5 41 rfl) rfl
theorem q1096 : (Jvm.Cond.constantLong "TokenMouthModel" (134 : Nat) (24777 : Int64)) ∈ lw_all := lw_g (lw_at lw_m5 42 rfl) rfl
theorem q1097 : (Jvm.Cond.constantLong "TokenMouthModel" (136 : Nat) (190402761 : Int64)) ∈ lw_all := lw_g (lw_at lw_m5 43 rfl) rfl
theorem q1098 : (Jvm.Cond.constantLong "TokenMouthModel" (138 : Nat) (6018865353 : Int64)) ∈ lw_all := lw_g (lw_at lw_m5 44 rfl) rfl
theorem q1099 : (Jvm.Cond.constantLong "TokenMouthModel" (140 : Nat) (183685 : Int64)) ∈ lw_all := lw_g (lw_at lw_m5 45 rfl) rfl
theorem q1100 : (Jvm.Cond.constantLong "TokenMouthModel" (142 : Nat) (294 : Int64)) ∈ lw_all := lw_g (lw_at lw_m5 46 rfl) rfl
theorem q1101 : (Jvm.Cond.methodLink "TokenMouthModel" (144 : Nat) ({ cls := "TokenMouthModel", name := "start", desc := "()V" } : Jvm.MethodName)) ∈ lw_all := lw_g (lw_at lw_m5 47 rfl) rfl
theorem q1102 : (Jvm.Cond.privateMethod ({ cls := "TokenMouthModel", name := "start", desc := "()V" } : Jvm.MethodName)) ∈ lw_tbl := lw_at lw_m5 48 rfl
theorem q1103 : (Jvm.Cond.instanceMethod ({ cls := "TokenMouthModel", name := "start", desc := "()V" } : Jvm.MethodName)) ∈ lw_all := lw_g (lw_at lw_m5 49 rfl) rfl
theorem q1104 : (Jvm.Cond.code ({ cls := "TokenMouthModel", name := "start", desc := "()V" } : Jvm.MethodName) prog_10_method_3_code (2 : Nat) (Option.none : Option Jvm.ClassFile.FieldType)) ∈ lw_all := lw_g (lw_at lw_m5 50 rfl) rfl
theorem q1105 : (Jvm.Cond.fieldLink "TokenMouthModel" (186 : Nat) "TokenMouthModel" "thrown" "I") ∈ lw_all := lw_g (lw_at lw_m5 51 rfl) rfl
theorem q1106 : (Jvm.Cond.fieldLink "TokenMouthModel" (195 : Nat) "TokenMouthModel" "length" "I") ∈ lw_all := lw_g (lw_at lw_m5 52 rfl) rfl
theorem q1107 : (Jvm.Cond.fieldLink "TokenMouthModel" (7 : Nat) "TokenMouthModel" "text" "[I") ∈ lw_all := lw_g (lw_at lw_m5 53 rfl) rfl
theorem q1108 : (Jvm.Cond.fieldLink "TokenMouthModel" (153 : Nat) "TokenMouthModel" "at" "I") ∈ lw_all := lw_g (lw_at lw_m5 54 rfl) rfl
theorem q1109 : (Jvm.Cond.fieldLink "TokenMouthModel" (156 : Nat) "TokenMouthModel" "state" "I") ∈ lw_all := lw_g (lw_at lw_m5 55 rfl) rfl
theorem q1110 : (Jvm.Cond.fieldLink "TokenMouthModel" (159 : Nat) "TokenMouthModel" "fault" "I") ∈ lw_all := lw_g (lw_at lw_m5 56 rfl) rfl
theorem q1111 : (Jvm.Cond.fieldLink "TokenMouthModel" (162 : Nat) "TokenMouthModel" "steps" "I") ∈ lw_all := lw_g (lw_at lw_m5 57 rfl) rfl
theorem q1112 : (Jvm.Cond.fieldLink "TokenMouthModel" (274 : Nat) "TokenMouthModel" "expansions" "I") ∈ lw_all := lw_g (lw_at lw_m5 58 rfl) rfl
theorem q1113 : (Jvm.Cond.fieldLink "TokenMouthModel" (13 : Nat) "TokenMouthModel" "categories" "[I") ∈ lw_all := lw_g (lw_at lw_m5 59 rfl) rfl
theorem q1114 : (Jvm.Cond.fieldLink "TokenMouthModel" (165 : Nat) "TokenMouthModel" "pending" "I") ∈ lw_all := lw_g (lw_at lw_m5 60 rfl) rfl
theorem q1115 : (Jvm.Cond.fieldLink "TokenMouthModel" (16 : Nat) "TokenMouthModel" "waiting" "[I") ∈ lw_all := lw_g (lw_at lw_m5 61 rfl) rfl
theorem q1116 : (Jvm.Cond.fieldLink "TokenMouthModel" (147 : Nat) "TokenMouthModel" "names" "I") ∈ lw_all := lw_g (lw_at lw_m5 62 rfl) rfl
theorem q1117 : (Jvm.Cond.fieldLink "TokenMouthModel" (19 : Nat) "TokenMouthModel" "letters" "[I") ∈ lw_all := lw_g (lw_at lw_m5 63 rfl) rfl
theorem q1118 : (Jvm.Cond.fieldLink "TokenMouthModel" (22 : Nat) "TokenMouthModel" "size" "[I") ∈ lw_all := lw_g (lw_at lw_m5 64 rfl) rfl
theorem q1119 : (Jvm.Cond.fieldLink "TokenMouthModel" (25 : Nat) "TokenMouthModel" "active" "[Z") ∈ lw_all := lw_g (lw_at lw_m5 65 rfl) rfl
theorem q1120 : (Jvm.Cond.fieldLink "TokenMouthModel" (29 : Nat) "TokenMouthModel" "means" "[I") ∈ lw_all := lw_g (lw_at lw_m5 66 rfl) rfl
theorem q1121 : (Jvm.Cond.fieldLink "TokenMouthModel" (198 : Nat) "TokenMouthModel" "spelt" "I") ∈ lw_all := lw_g (lw_at lw_m5 67 rfl) rfl
theorem q1122 : (Jvm.Cond.fieldLink "TokenMouthModel" (32 : Nat) "TokenMouthModel" "spelling" "[I") ∈ lw_all := lw_g (lw_at lw_m5 68 rfl) rfl
theorem q1123 : (Jvm.Cond.fieldLink "TokenMouthModel" (168 : Nat) "TokenMouthModel" "groups" "I") ∈ lw_all := lw_g (lw_at lw_m5 69 rfl) rfl
theorem q1124 : (Jvm.Cond.fieldLink "TokenMouthModel" (171 : Nat) "TokenMouthModel" "kept" "I") ∈ lw_all := lw_g (lw_at lw_m5 70 rfl) rfl
theorem q1125 : (Jvm.Cond.fieldLink "TokenMouthModel" (35 : Nat) "TokenMouthModel" "keptGroup" "[I") ∈ lw_all := lw_g (lw_at lw_m5 71 rfl) rfl
theorem q1126 : (Jvm.Cond.fieldLink "TokenMouthModel" (38 : Nat) "TokenMouthModel" "keptOf" "[I") ∈ lw_all := lw_g (lw_at lw_m5 72 rfl) rfl
theorem q1127 : (Jvm.Cond.fieldLink "TokenMouthModel" (41 : Nat) "TokenMouthModel" "keptWas" "[I") ∈ lw_all := lw_g (lw_at lw_m5 73 rfl) rfl
theorem q1128 : (Jvm.Cond.fieldLink "TokenMouthModel" (174 : Nat) "TokenMouthModel" "macros" "I") ∈ lw_all := lw_g (lw_at lw_m5 74 rfl) rfl
theorem q1129 : (Jvm.Cond.fieldLink "TokenMouthModel" (44 : Nat) "TokenMouthModel" "textSize" "[I") ∈ lw_all := lw_g (lw_at lw_m5 75 rfl) rfl
theorem q1130 : (Jvm.Cond.fieldLink "TokenMouthModel" (47 : Nat) "TokenMouthModel" "texts" "[I") ∈ lw_all := lw_g (lw_at lw_m5 76 rfl) rfl
theorem q1131 : (Jvm.Cond.fieldLink "TokenMouthModel" (50 : Nat) "TokenMouthModel" "bodySize" "[I") ∈ lw_all := lw_g (lw_at lw_m5 77 rfl) rfl
theorem q1132 : (Jvm.Cond.fieldLink "TokenMouthModel" (53 : Nat) "TokenMouthModel" "bodies" "[I") ∈ lw_all := lw_g (lw_at lw_m5 78 rfl) rfl
theorem q1133 : (Jvm.Cond.fieldLink "TokenMouthModel" (56 : Nat) "TokenMouthModel" "parameters" "[I") ∈ lw_all := lw_g (lw_at lw_m5 79 rfl) rfl
theorem q1134 : (Jvm.Cond.fieldLink "TokenMouthModel" (177 : Nat) "TokenMouthModel" "conditionals" "I") ∈ lw_all := lw_g (lw_at lw_m5 80 rfl) rfl
theorem q1135 : (Jvm.Cond.fieldLink "TokenMouthModel" (59 : Nat) "TokenMouthModel" "part" "[I") ∈ lw_all := lw_g (lw_at lw_m5 81 rfl) rfl
theorem q1136 : (Jvm.Cond.fieldLink "TokenMouthModel" (180 : Nat) "TokenMouthModel" "frames" "I") ∈ lw_all := lw_g (lw_at lw_m5 82 rfl) rfl
theorem q1137 : (Jvm.Cond.fieldLink "TokenMouthModel" (62 : Nat) "TokenMouthModel" "doing" "[I") ∈ lw_all := lw_g (lw_at lw_m5 83 rfl) rfl
theorem q1138 : (Jvm.Cond.fieldLink "TokenMouthModel" (65 : Nat) "TokenMouthModel" "holds" "[I") ∈ lw_all := lw_g (lw_at lw_m5 84 rfl) rfl
theorem q1139 : (Jvm.Cond.fieldLink "TokenMouthModel" (68 : Nat) "TokenMouthModel" "stage" "[I") ∈ lw_all := lw_g (lw_at lw_m5 85 rfl) rfl
theorem q1140 : (Jvm.Cond.fieldLink "TokenMouthModel" (71 : Nat) "TokenMouthModel" "opened" "[I") ∈ lw_all := lw_g (lw_at lw_m5 86 rfl) rfl
theorem q1141 : (Jvm.Cond.fieldLink "TokenMouthModel" (74 : Nat) "TokenMouthModel" "spell" "[I") ∈ lw_all := lw_g (lw_at lw_m5 87 rfl) rfl
theorem q1142 : (Jvm.Cond.fieldLink "TokenMouthModel" (183 : Nat) "TokenMouthModel" "outs" "I") ∈ lw_all := lw_g (lw_at lw_m5 88 rfl) rfl
theorem q1143 : (Jvm.Cond.fieldLink "TokenMouthModel" (77 : Nat) "TokenMouthModel" "outputs" "[I") ∈ lw_all := lw_g (lw_at lw_m5 89 rfl) rfl
theorem q1144 : (Jvm.Cond.fieldLink "TokenMouthModel" (80 : Nat) "TokenMouthModel" "argument" "[I") ∈ lw_all := lw_g (lw_at lw_m5 90 rfl) rfl
theorem q1145 : (Jvm.Cond.fieldLink "TokenMouthModel" (83 : Nat) "TokenMouthModel" "argumentSize" "[I") ∈ lw_all := lw_g (lw_at lw_m5 91 rfl) rfl
theorem q1146 : (Jvm.Cond.lays "TokenMouthModel" "TokenMouthModel" "thrown" "I") ∈ lw_all := lw_g (lw_at lw_m5 92 rfl) rfl
theorem q1147 : (Jvm.Cond.soleField "TokenMouthModel" "thrown") ∈ lw_all := lw_g (lw_at lw_m5 93 rfl) rfl
theorem q1148 : (Jvm.Cond.lays "TokenMouthModel" "TokenMouthModel" "length" "I") ∈ lw_all := lw_g (lw_at lw_m5 94 rfl) rfl
theorem q1149 : (Jvm.Cond.soleField "TokenMouthModel" "length") ∈ lw_all := lw_g (lw_at lw_m5 95 rfl) rfl
theorem q1150 : (Jvm.Cond.laysFinal "TokenMouthModel" "TokenMouthModel" "text" "[I") ∈ lw_all := lw_g (lw_at lw_m5 96 rfl) rfl
theorem q1151 : (Jvm.Cond.soleField "TokenMouthModel" "text") ∈ lw_all := lw_g (lw_at lw_m5 97 rfl) rfl
theorem q1152 : (Jvm.Cond.lays "TokenMouthModel" "TokenMouthModel" "at" "I") ∈ lw_all := lw_g (lw_at lw_m5 98 rfl) rfl
theorem q1153 : (Jvm.Cond.soleField "TokenMouthModel" "at") ∈ lw_all := lw_g (lw_at lw_m5 99 rfl) rfl
theorem q1154 : (Jvm.Cond.lays "TokenMouthModel" "TokenMouthModel" "state" "I") ∈ lw_all := lw_g (lw_at lw_m5 100 rfl) rfl
theorem q1155 : (Jvm.Cond.soleField "TokenMouthModel" "state") ∈ lw_all := lw_g (lw_at lw_m5 101 rfl) rfl
theorem q1156 : (Jvm.Cond.lays "TokenMouthModel" "TokenMouthModel" "fault" "I") ∈ lw_all := lw_g (lw_at lw_m5 102 rfl) rfl
theorem q1157 : (Jvm.Cond.soleField "TokenMouthModel" "fault") ∈ lw_all := lw_g (lw_at lw_m5 103 rfl) rfl
theorem q1158 : (Jvm.Cond.lays "TokenMouthModel" "TokenMouthModel" "steps" "I") ∈ lw_all := lw_g (lw_at lw_m5 104 rfl) rfl
theorem q1159 : (Jvm.Cond.soleField "TokenMouthModel" "steps") ∈ lw_all := lw_g (lw_at lw_m5 105 rfl) rfl
theorem q1160 : (Jvm.Cond.lays "TokenMouthModel" "TokenMouthModel" "expansions" "I") ∈ lw_all := lw_g (lw_at lw_m5 106 rfl) rfl
theorem q1161 : (Jvm.Cond.soleField "TokenMouthModel" "expansions") ∈ lw_all := lw_g (lw_at lw_m5 107 rfl) rfl
theorem q1162 : (Jvm.Cond.laysFinal "TokenMouthModel" "TokenMouthModel" "categories" "[I") ∈ lw_all := lw_g (lw_at lw_m5 108 rfl) rfl
theorem q1163 : (Jvm.Cond.soleField "TokenMouthModel" "categories") ∈ lw_all := lw_g (lw_at lw_m5 109 rfl) rfl
theorem q1164 : (Jvm.Cond.lays "TokenMouthModel" "TokenMouthModel" "pending" "I") ∈ lw_all := lw_g (lw_at lw_m5 110 rfl) rfl
theorem q1165 : (Jvm.Cond.soleField "TokenMouthModel" "pending") ∈ lw_all := lw_g (lw_at lw_m5 111 rfl) rfl
theorem q1166 : (Jvm.Cond.laysFinal "TokenMouthModel" "TokenMouthModel" "waiting" "[I") ∈ lw_all := lw_g (lw_at lw_m5 112 rfl) rfl
theorem q1167 : (Jvm.Cond.soleField "TokenMouthModel" "waiting") ∈ lw_all := lw_g (lw_at lw_m5 113 rfl) rfl
theorem q1168 : (Jvm.Cond.lays "TokenMouthModel" "TokenMouthModel" "names" "I") ∈ lw_all := lw_g (lw_at lw_m5 114 rfl) rfl
theorem q1169 : (Jvm.Cond.soleField "TokenMouthModel" "names") ∈ lw_all := lw_g (lw_at lw_m5 115 rfl) rfl
theorem q1170 : (Jvm.Cond.laysFinal "TokenMouthModel" "TokenMouthModel" "letters" "[I") ∈ lw_all := lw_g (lw_at lw_m5 116 rfl) rfl
theorem q1171 : (Jvm.Cond.soleField "TokenMouthModel" "letters") ∈ lw_all := lw_g (lw_at lw_m5 117 rfl) rfl
theorem q1172 : (Jvm.Cond.laysFinal "TokenMouthModel" "TokenMouthModel" "size" "[I") ∈ lw_all := lw_g (lw_at lw_m5 118 rfl) rfl
theorem q1173 : (Jvm.Cond.soleField "TokenMouthModel" "size") ∈ lw_all := lw_g (lw_at lw_m5 119 rfl) rfl
theorem q1174 : (Jvm.Cond.laysFinal "TokenMouthModel" "TokenMouthModel" "active" "[Z") ∈ lw_all := lw_g (lw_at lw_m5 120 rfl) rfl
theorem q1175 : (Jvm.Cond.soleField "TokenMouthModel" "active") ∈ lw_all := lw_g (lw_at lw_m5 121 rfl) rfl
theorem q1176 : (Jvm.Cond.laysFinal "TokenMouthModel" "TokenMouthModel" "means" "[I") ∈ lw_all := lw_g (lw_at lw_m5 122 rfl) rfl
theorem q1177 : (Jvm.Cond.soleField "TokenMouthModel" "means") ∈ lw_all := lw_g (lw_at lw_m5 123 rfl) rfl
theorem q1178 : (Jvm.Cond.lays "TokenMouthModel" "TokenMouthModel" "spelt" "I") ∈ lw_all := lw_g (lw_at lw_m5 124 rfl) rfl
theorem q1179 : (Jvm.Cond.soleField "TokenMouthModel" "spelt") ∈ lw_all := lw_g (lw_at lw_m5 125 rfl) rfl
theorem q1180 : (Jvm.Cond.laysFinal "TokenMouthModel" "TokenMouthModel" "spelling" "[I") ∈ lw_all := lw_g (lw_at lw_m5 126 rfl) rfl
theorem q1181 : (Jvm.Cond.soleField "TokenMouthModel" "spelling") ∈ lw_all := lw_g (lw_at lw_m5 127 rfl) rfl
theorem q1182 : (Jvm.Cond.lays "TokenMouthModel" "TokenMouthModel" "groups" "I") ∈ lw_all := lw_g (lw_at lw_m5 128 rfl) rfl
theorem q1183 : (Jvm.Cond.soleField "TokenMouthModel" "groups") ∈ lw_all := lw_g (lw_at lw_m5 129 rfl) rfl
theorem q1184 : (Jvm.Cond.lays "TokenMouthModel" "TokenMouthModel" "kept" "I") ∈ lw_all := lw_g (lw_at lw_m5 130 rfl) rfl
theorem q1185 : (Jvm.Cond.soleField "TokenMouthModel" "kept") ∈ lw_all := lw_g (lw_at lw_m5 131 rfl) rfl
theorem q1186 : (Jvm.Cond.laysFinal "TokenMouthModel" "TokenMouthModel" "keptGroup" "[I") ∈ lw_all := lw_g (lw_at lw_m5 132 rfl) rfl
theorem q1187 : (Jvm.Cond.soleField "TokenMouthModel" "keptGroup") ∈ lw_all := lw_g (lw_at lw_m5 133 rfl) rfl
theorem q1188 : (Jvm.Cond.laysFinal "TokenMouthModel" "TokenMouthModel" "keptOf" "[I") ∈ lw_all := lw_g (lw_at lw_m5 134 rfl) rfl
theorem q1189 : (Jvm.Cond.soleField "TokenMouthModel" "keptOf") ∈ lw_all := lw_g (lw_at lw_m5 135 rfl) rfl
theorem q1190 : (Jvm.Cond.laysFinal "TokenMouthModel" "TokenMouthModel" "keptWas" "[I") ∈ lw_all := lw_g (lw_at lw_m5 136 rfl) rfl
theorem q1191 : (Jvm.Cond.soleField "TokenMouthModel" "keptWas") ∈ lw_all := lw_g (lw_at lw_m5 137 rfl) rfl
theorem q1192 : (Jvm.Cond.lays "TokenMouthModel" "TokenMouthModel" "macros" "I") ∈ lw_all := lw_g (lw_at lw_m5 138 rfl) rfl
theorem q1193 : (Jvm.Cond.soleField "TokenMouthModel" "macros") ∈ lw_all := lw_g (lw_at lw_m5 139 rfl) rfl
theorem q1194 : (Jvm.Cond.laysFinal "TokenMouthModel" "TokenMouthModel" "textSize" "[I") ∈ lw_all := lw_g (lw_at lw_m5 140 rfl) rfl
theorem q1195 : (Jvm.Cond.soleField "TokenMouthModel" "textSize") ∈ lw_all := lw_g (lw_at lw_m5 141 rfl) rfl
theorem q1196 : (Jvm.Cond.laysFinal "TokenMouthModel" "TokenMouthModel" "texts" "[I") ∈ lw_all := lw_g (lw_at lw_m5 142 rfl) rfl
theorem q1197 : (Jvm.Cond.soleField "TokenMouthModel" "texts") ∈ lw_all := lw_g (lw_at lw_m5 143 rfl) rfl
theorem q1198 : (Jvm.Cond.laysFinal "TokenMouthModel" "TokenMouthModel" "bodySize" "[I") ∈ lw_all := lw_g (lw_at lw_m5 144 rfl) rfl
theorem q1199 : (Jvm.Cond.soleField "TokenMouthModel" "bodySize") ∈ lw_all := lw_g (lw_at lw_m5 145 rfl) rfl
theorem q1200 : (Jvm.Cond.laysFinal "TokenMouthModel" "TokenMouthModel" "bodies" "[I") ∈ lw_all := lw_g (lw_at lw_m5 146 rfl) rfl
theorem q1201 : (Jvm.Cond.soleField "TokenMouthModel" "bodies") ∈ lw_all := lw_g (lw_at lw_m5 147 rfl) rfl
theorem q1202 : (Jvm.Cond.laysFinal "TokenMouthModel" "TokenMouthModel" "parameters" "[I") ∈ lw_all := lw_g (lw_at lw_m5 148 rfl) rfl
theorem q1203 : (Jvm.Cond.soleField "TokenMouthModel" "parameters") ∈ lw_all := lw_g (lw_at lw_m5 149 rfl) rfl
theorem q1204 : (Jvm.Cond.lays "TokenMouthModel" "TokenMouthModel" "conditionals" "I") ∈ lw_all := lw_g (lw_at lw_m5 150 rfl) rfl
theorem q1205 : (Jvm.Cond.soleField "TokenMouthModel" "conditionals") ∈ lw_all := lw_g (lw_at lw_m5 151 rfl) rfl
theorem q1206 : (Jvm.Cond.laysFinal "TokenMouthModel" "TokenMouthModel" "part" "[I") ∈ lw_all := lw_g (lw_at lw_m5 152 rfl) rfl
theorem q1207 : (Jvm.Cond.soleField "TokenMouthModel" "part") ∈ lw_all := lw_g (lw_at lw_m5 153 rfl) rfl
theorem q1208 : (Jvm.Cond.lays "TokenMouthModel" "TokenMouthModel" "frames" "I") ∈ lw_all := lw_g (lw_at lw_m5 154 rfl) rfl
theorem q1209 : (Jvm.Cond.soleField "TokenMouthModel" "frames") ∈ lw_all := lw_g (lw_at lw_m5 155 rfl) rfl
theorem q1210 : (Jvm.Cond.laysFinal "TokenMouthModel" "TokenMouthModel" "doing" "[I") ∈ lw_all := lw_g (lw_at lw_m5 156 rfl) rfl
theorem q1211 : (Jvm.Cond.soleField "TokenMouthModel" "doing") ∈ lw_all := lw_g (lw_at lw_m5 157 rfl) rfl
theorem q1212 : (Jvm.Cond.laysFinal "TokenMouthModel" "TokenMouthModel" "holds" "[I") ∈ lw_all := lw_g (lw_at lw_m5 158 rfl) rfl
theorem q1213 : (Jvm.Cond.soleField "TokenMouthModel" "holds") ∈ lw_all := lw_g (lw_at lw_m5 159 rfl) rfl
theorem q1214 : (Jvm.Cond.laysFinal "TokenMouthModel" "TokenMouthModel" "stage" "[I") ∈ lw_all := lw_g (lw_at lw_m5 160 rfl) rfl
theorem q1215 : (Jvm.Cond.soleField "TokenMouthModel" "stage") ∈ lw_all := lw_g (lw_at lw_m5 161 rfl) rfl
theorem q1216 : (Jvm.Cond.laysFinal "TokenMouthModel" "TokenMouthModel" "opened" "[I") ∈ lw_all := lw_g (lw_at lw_m5 162 rfl) rfl
theorem q1217 : (Jvm.Cond.soleField "TokenMouthModel" "opened") ∈ lw_all := lw_g (lw_at lw_m5 163 rfl) rfl
theorem q1218 : (Jvm.Cond.laysFinal "TokenMouthModel" "TokenMouthModel" "spell" "[I") ∈ lw_all := lw_g (lw_at lw_m5 164 rfl) rfl
theorem q1219 : (Jvm.Cond.soleField "TokenMouthModel" "spell") ∈ lw_all := lw_g (lw_at lw_m5 165 rfl) rfl
theorem q1220 : (Jvm.Cond.lays "TokenMouthModel" "TokenMouthModel" "outs" "I") ∈ lw_all := lw_g (lw_at lw_m5 166 rfl) rfl
theorem q1221 : (Jvm.Cond.soleField "TokenMouthModel" "outs") ∈ lw_all := lw_g (lw_at lw_m5 167 rfl) rfl
theorem q1222 : (Jvm.Cond.laysFinal "TokenMouthModel" "TokenMouthModel" "outputs" "[I") ∈ lw_all := lw_g (lw_at lw_m5 168 rfl) rfl
theorem q1223 : (Jvm.Cond.soleField "TokenMouthModel" "outputs") ∈ lw_all := lw_g (lw_at lw_m5 169 rfl) rfl
theorem q1224 : (Jvm.Cond.laysFinal "TokenMouthModel" "TokenMouthModel" "argument" "[I") ∈ lw_all := lw_g (lw_at lw_m5 170 rfl) rfl
theorem q1225 : (Jvm.Cond.soleField "TokenMouthModel" "argument") ∈ lw_all := lw_g (lw_at lw_m5 171 rfl) rfl
theorem q1226 : (Jvm.Cond.laysFinal "TokenMouthModel" "TokenMouthModel" "argumentSize" "[I") ∈ lw_all := lw_g (lw_at lw_m5 172 rfl) rfl
theorem q1227 : (Jvm.Cond.soleField "TokenMouthModel" "argumentSize") ∈ lw_all := lw_g (lw_at lw_m5 173 rfl) rfl
theorem q1228 : (Jvm.Cond.superclass "TokenMouthModel" "java/lang/Object") ∈ lw_all := lw_g (lw_at lw_m5 174 rfl) rfl
theorem q1232 : (Jvm.Cond.instanceMethod ({ cls := "TokenMouthModel", name := "thrown", desc := "()I" } : Jvm.MethodName)) ∈ lw_all := lw_g (lw_at lw_m5 178 rfl) rfl
theorem q1233 : (Jvm.Cond.selects "TokenMouthModel" ({ cls := "TokenMouthModel", name := "thrown", desc := "()I" } : Jvm.MethodName) ({ cls := "TokenMouthModel", name := "thrown", desc := "()I" } : Jvm.MethodName)) ∈ lw_all := lw_g (lw_at lw_m5 179 rfl) rfl
theorem q1234 : (Jvm.Cond.code ({ cls := "TokenMouthModel", name := "thrown", desc := "()I" } : Jvm.MethodName) prog_10_method_4_code (1 : Nat) (Option.some Jvm.ClassFile.FieldType.int)) ∈ lw_all := lw_g (lw_at lw_m5 180 rfl) rfl
theorem q1236 : (Jvm.Cond.instanceMethod ({ cls := "TokenMouthModel", name := "type", desc := "(J)Z" } : Jvm.MethodName)) ∈ lw_all := lw_g (lw_at lw_m5 182 rfl) rfl
theorem q1237 : (Jvm.Cond.selects "TokenMouthModel" ({ cls := "TokenMouthModel", name := "type", desc := "(J)Z" } : Jvm.MethodName) ({ cls := "TokenMouthModel", name := "type", desc := "(J)Z" } : Jvm.MethodName)) ∈ lw_all := lw_g (lw_at lw_m5 183 rfl) rfl
theorem q1238 : (Jvm.Cond.code ({ cls := "TokenMouthModel", name := "type", desc := "(J)Z" } : Jvm.MethodName) prog_10_method_6_code (7 : Nat) (Option.some Jvm.ClassFile.FieldType.boolean)) ∈ lw_all := lw_g (lw_at lw_m5 184 rfl) rfl
theorem q1239 : (Jvm.Cond.constantLong "TokenMouthModel" (189 : Nat) (255 : Int64)) ∈ lw_all := lw_g (lw_at lw_m5 185 rfl) rfl
theorem q1240 : (Jvm.Cond.methodLink "TokenMouthModel" (191 : Nat) ({ cls := "TokenMouthModel", name := "isCode", desc := "(I)Z" } : Jvm.MethodName)) ∈ lw_all := lw_g (lw_at lw_m5 186 rfl) rfl
theorem q1241 : (Jvm.Cond.static ({ cls := "TokenMouthModel", name := "isCode", desc := "(I)Z" } : Jvm.MethodName)) ∈ lw_all := lw_g (lw_at lw_m5 187 rfl) rfl
theorem q1242 : (Jvm.Cond.code ({ cls := "TokenMouthModel", name := "isCode", desc := "(I)Z" } : Jvm.MethodName) prog_10_method_5_code (1 : Nat) (Option.some Jvm.ClassFile.FieldType.boolean)) ∈ lw_all := lw_g (lw_at lw_m5 188 rfl) rfl
theorem q1244 : (Jvm.Cond.instanceMethod ({ cls := "TokenMouthModel", name := "wipe", desc := "()V" } : Jvm.MethodName)) ∈ lw_all := lw_g (lw_at lw_m5 190 rfl) rfl
theorem q1245 : (Jvm.Cond.selects "TokenMouthModel" ({ cls := "TokenMouthModel", name := "wipe", desc := "()V" } : Jvm.MethodName) ({ cls := "TokenMouthModel", name := "wipe", desc := "()V" } : Jvm.MethodName)) ∈ lw_all := lw_g (lw_at lw_m5 191 rfl) rfl
theorem q1246 : (Jvm.Cond.code ({ cls := "TokenMouthModel", name := "wipe", desc := "()V" } : Jvm.MethodName) prog_10_method_7_code (1 : Nat) (Option.none : Option Jvm.ClassFile.FieldType)) ∈ lw_all := lw_g (lw_at lw_m5 192 rfl) rfl
theorem q1248 : (Jvm.Cond.instanceMethod ({ cls := "TokenMouthModel", name := "again", desc := "()V" } : Jvm.MethodName)) ∈ lw_all := lw_g (lw_at lw_m5 194 rfl) rfl
theorem q1249 : (Jvm.Cond.selects "TokenMouthModel" ({ cls := "TokenMouthModel", name := "again", desc := "()V" } : Jvm.MethodName) ({ cls := "TokenMouthModel", name := "again", desc := "()V" } : Jvm.MethodName)) ∈ lw_all := lw_g (lw_at lw_m5 195 rfl) rfl
theorem q1250 : (Jvm.Cond.code ({ cls := "TokenMouthModel", name := "again", desc := "()V" } : Jvm.MethodName) prog_10_method_8_code (1 : Nat) (Option.none : Option Jvm.ClassFile.FieldType)) ∈ lw_all := lw_g (lw_at lw_m5 196 rfl) rfl
theorem q1252 : (Jvm.Cond.instanceMethod ({ cls := "TokenMouthModel", name := "run", desc := "(I)I" } : Jvm.MethodName)) ∈ lw_all := lw_g (lw_at lw_m5 198 rfl) rfl
theorem q1253 : (Jvm.Cond.selects "TokenMouthModel" ({ cls := "TokenMouthModel", name := "run", desc := "(I)I" } : Jvm.MethodName) ({ cls := "TokenMouthModel", name := "run", desc := "(I)I" } : Jvm.MethodName)) ∈ lw_all := lw_g (lw_at lw_m5 199 rfl) rfl
theorem q1254 : (Jvm.Cond.code ({ cls := "TokenMouthModel", name := "run", desc := "(I)I" } : Jvm.MethodName) prog_10_method_56_code (3 : Nat) (Option.some Jvm.ClassFile.FieldType.int)) ∈ lw_all := lw_g (lw_at lw_m5 200 rfl) rfl
theorem q1255 : (Jvm.Cond.methodLink "TokenMouthModel" (355 : Nat) ({ cls := "TokenMouthModel", name := "step", desc := "()Z" } : Jvm.MethodName)) ∈ lw_all := lw_g (lw_at lw_m5 201 rfl) rfl
theorem q1256 : (Jvm.Cond.privateMethod ({ cls := "TokenMouthModel", name := "step", desc := "()Z" } : Jvm.MethodName)) ∈ lw_tbl := lw_at lw_m5 202 rfl
theorem q1257 : (Jvm.Cond.instanceMethod ({ cls := "TokenMouthModel", name := "step", desc := "()Z" } : Jvm.MethodName)) ∈ lw_all := lw_g (lw_at lw_m5 203 rfl) rfl
theorem q1258 : (Jvm.Cond.code ({ cls := "TokenMouthModel", name := "step", desc := "()Z" } : Jvm.MethodName) prog_10_method_55_code (2 : Nat) (Option.some Jvm.ClassFile.FieldType.boolean)) ∈ lw_all := lw_g (lw_at lw_m5 204 rfl) rfl
theorem q1259 : (Jvm.Cond.methodLink "TokenMouthModel" (223 : Nat) ({ cls := "TokenMouthModel", name := "get", desc := "()I" } : Jvm.MethodName)) ∈ lw_all := lw_g (lw_at lw_m5 205 rfl) rfl
theorem q1260 : (Jvm.Cond.privateMethod ({ cls := "TokenMouthModel", name := "get", desc := "()I" } : Jvm.MethodName)) ∈ lw_tbl := lw_at lw_m5 206 rfl
theorem q1261 : (Jvm.Cond.instanceMethod ({ cls := "TokenMouthModel", name := "get", desc := "()I" } : Jvm.MethodName)) ∈ lw_all := lw_g (lw_at lw_m5 207 rfl) rfl
theorem q1262 : (Jvm.Cond.code ({ cls := "TokenMouthModel", name := "get", desc := "()I" } : Jvm.MethodName) prog_10_method_15_code (1 : Nat) (Option.some Jvm.ClassFile.FieldType.int)) ∈ lw_all := lw_g (lw_at lw_m5 208 rfl) rfl
theorem q1263 : (Jvm.Cond.methodLink "TokenMouthModel" (220 : Nat) ({ cls := "TokenMouthModel", name := "read", desc := "()I" } : Jvm.MethodName)) ∈ lw_all := lw_g (lw_at lw_m5 209 rfl) rfl
theorem q1264 : (Jvm.Cond.privateMethod ({ cls := "TokenMouthModel", name := "read", desc := "()I" } : Jvm.MethodName)) ∈ lw_tbl := lw_at lw_m5 210 rfl
theorem q1265 : (Jvm.Cond.instanceMethod ({ cls := "TokenMouthModel", name := "read", desc := "()I" } : Jvm.MethodName)) ∈ lw_all := lw_g (lw_at lw_m5 211 rfl) rfl
theorem q1266 : (Jvm.Cond.code ({ cls := "TokenMouthModel", name := "read", desc := "()I" } : Jvm.MethodName) prog_10_method_14_code (5 : Nat) (Option.some Jvm.ClassFile.FieldType.int)) ∈ lw_all := lw_g (lw_at lw_m5 212 rfl) rfl
theorem q1267 : (Jvm.Cond.methodLink "TokenMouthModel" (216 : Nat) ({ cls := "TokenMouthModel", name := "readName", desc := "()I" } : Jvm.MethodName)) ∈ lw_all := lw_g (lw_at lw_m5 213 rfl) rfl
theorem q1268 : (Jvm.Cond.privateMethod ({ cls := "TokenMouthModel", name := "readName", desc := "()I" } : Jvm.MethodName)) ∈ lw_tbl := lw_at lw_m5 214 rfl
theorem q1269 : (Jvm.Cond.instanceMethod ({ cls := "TokenMouthModel", name := "readName", desc := "()I" } : Jvm.MethodName)) ∈ lw_all := lw_g (lw_at lw_m5 215 rfl) rfl
theorem q1270 : (Jvm.Cond.code ({ cls := "TokenMouthModel", name := "readName", desc := "()I" } : Jvm.MethodName) prog_10_method_13_code (2 : Nat) (Option.some Jvm.ClassFile.FieldType.int)) ∈ lw_all := lw_g (lw_at lw_m5 216 rfl) rfl
theorem q1271 : (Jvm.Cond.methodLink "TokenMouthModel" (205 : Nat) ({ cls := "TokenMouthModel", name := "stop", desc := "(I)I" } : Jvm.MethodName)) ∈ lw_all := lw_g (lw_at lw_m5 217 rfl) rfl
theorem q1272 : (Jvm.Cond.privateMethod ({ cls := "TokenMouthModel", name := "stop", desc := "(I)I" } : Jvm.MethodName)) ∈ lw_tbl := lw_at lw_m5 218 rfl
theorem q1273 : (Jvm.Cond.instanceMethod ({ cls := "TokenMouthModel", name := "stop", desc := "(I)I" } : Jvm.MethodName)) ∈ lw_all := lw_g (lw_at lw_m5 219 rfl) rfl
theorem q1274 : (Jvm.Cond.code ({ cls := "TokenMouthModel", name := "stop", desc := "(I)I" } : Jvm.MethodName) prog_10_method_9_code (2 : Nat) (Option.some Jvm.ClassFile.FieldType.int)) ∈ lw_all := lw_g (lw_at lw_m5 220 rfl) rfl
theorem q1275 : (Jvm.Cond.methodLink "TokenMouthModel" (209 : Nat) ({ cls := "TokenMouthModel", name := "say", desc := "(I)V" } : Jvm.MethodName)) ∈ lw_all := lw_g (lw_at lw_m5 221 rfl) rfl
theorem q1276 : (Jvm.Cond.privateMethod ({ cls := "TokenMouthModel", name := "say", desc := "(I)V" } : Jvm.MethodName)) ∈ lw_tbl := lw_at lw_m5 222 rfl
theorem q1277 : (Jvm.Cond.instanceMethod ({ cls := "TokenMouthModel", name := "say", desc := "(I)V" } : Jvm.MethodName)) ∈ lw_all := lw_g (lw_at lw_m5 223 rfl) rfl
theorem q1278 : (Jvm.Cond.code ({ cls := "TokenMouthModel", name := "say", desc := "(I)V" } : Jvm.MethodName) prog_10_method_10_code (2 : Nat) (Option.none : Option Jvm.ClassFile.FieldType)) ∈ lw_all := lw_g (lw_at lw_m5 224 rfl) rfl
theorem q1279 : (Jvm.Cond.methodLink "TokenMouthModel" (213 : Nat) ({ cls := "TokenMouthModel", name := "named", desc := "(Z)I" } : Jvm.MethodName)) ∈ lw_all := lw_g (lw_at lw_m5 225 rfl) rfl
theorem q1280 : (Jvm.Cond.privateMethod ({ cls := "TokenMouthModel", name := "named", desc := "(Z)I" } : Jvm.MethodName)) ∈ lw_tbl := lw_at lw_m5 226 rfl
theorem q1281 : (Jvm.Cond.instanceMethod ({ cls := "TokenMouthModel", name := "named", desc := "(Z)I" } : Jvm.MethodName)) ∈ lw_all := lw_g (lw_at lw_m5 227 rfl) rfl
theorem q1282 : (Jvm.Cond.code ({ cls := "TokenMouthModel", name := "named", desc := "(Z)I" } : Jvm.MethodName) prog_10_method_12_code (4 : Nat) (Option.some Jvm.ClassFile.FieldType.int)) ∈ lw_all := lw_g (lw_at lw_m5 228 rfl) rfl
theorem q1283 : (Jvm.Cond.methodLink "TokenMouthModel" (201 : Nat) ({ cls := "TokenMouthModel", name := "known", desc := "(Z)I" } : Jvm.MethodName)) ∈ lw_all := lw_g (lw_at lw_m5 229 rfl) rfl
theorem q1284 : (Jvm.Cond.privateMethod ({ cls := "TokenMouthModel", name := "known", desc := "(Z)I" } : Jvm.MethodName)) ∈ lw_tbl := lw_at lw_m5 230 rfl
theorem q1285 : (Jvm.Cond.instanceMethod ({ cls := "TokenMouthModel", name := "known", desc := "(Z)I" } : Jvm.MethodName)) ∈ lw_all := lw_g (lw_at lw_m5 231 rfl) rfl
theorem q1286 : (Jvm.Cond.code ({ cls := "TokenMouthModel", name := "known", desc := "(Z)I" } : Jvm.MethodName) prog_10_method_11_code (5 : Nat) (Option.some Jvm.ClassFile.FieldType.int)) ∈ lw_all := lw_g (lw_at lw_m5 232 rfl) rfl
theorem q1287 : (Jvm.Cond.methodLink "TokenMouthModel" (280 : Nat) ({ cls := "TokenMouthModel", name := "isExpandable", desc := "(I)Z" } : Jvm.MethodName)) ∈ lw_all := lw_g (lw_at lw_m5 233 rfl) rfl
theorem q1288 : (Jvm.Cond.privateMethod ({ cls := "TokenMouthModel", name := "isExpandable", desc := "(I)Z" } : Jvm.MethodName)) ∈ lw_tbl := lw_at lw_m5 234 rfl
theorem q1289 : (Jvm.Cond.instanceMethod ({ cls := "TokenMouthModel", name := "isExpandable", desc := "(I)Z" } : Jvm.MethodName)) ∈ lw_all := lw_g (lw_at lw_m5 235 rfl) rfl
theorem q1290 : (Jvm.Cond.code ({ cls := "TokenMouthModel", name := "isExpandable", desc := "(I)Z" } : Jvm.MethodName) prog_10_method_23_code (3 : Nat) (Option.some Jvm.ClassFile.FieldType.boolean)) ∈ lw_all := lw_g (lw_at lw_m5 236 rfl) rfl
theorem q1291 : (Jvm.Cond.methodLink "TokenMouthModel" (232 : Nat) ({ cls := "TokenMouthModel", name := "meaningOf", desc := "(I)I" } : Jvm.MethodName)) ∈ lw_all := lw_g (lw_at lw_m5 237 rfl) rfl
theorem q1292 : (Jvm.Cond.privateMethod ({ cls := "TokenMouthModel", name := "meaningOf", desc := "(I)I" } : Jvm.MethodName)) ∈ lw_tbl := lw_at lw_m5 238 rfl
theorem q1293 : (Jvm.Cond.instanceMethod ({ cls := "TokenMouthModel", name := "meaningOf", desc := "(I)I" } : Jvm.MethodName)) ∈ lw_all := lw_g (lw_at lw_m5 239 rfl) rfl
theorem q1294 : (Jvm.Cond.code ({ cls := "TokenMouthModel", name := "meaningOf", desc := "(I)I" } : Jvm.MethodName) prog_10_method_22_code (2 : Nat) (Option.some Jvm.ClassFile.FieldType.int)) ∈ lw_all := lw_g (lw_at lw_m6 0 rfl) rfl
theorem q1295 : (Jvm.Cond.methodLink "TokenMouthModel" (229 : Nat) ({ cls := "TokenMouthModel", name := "isMarked", desc := "(I)Z" } : Jvm.MethodName)) ∈ lw_all := lw_g (lw_at lw_m6 1 rfl) rfl
theorem q1296 : (Jvm.Cond.static ({ cls := "TokenMouthModel", name := "isMarked", desc := "(I)Z" } : Jvm.MethodName)) ∈ lw_all := lw_g (lw_at lw_m6 2 rfl) rfl
theorem q1297 : (Jvm.Cond.code ({ cls := "TokenMouthModel", name := "isMarked", desc := "(I)Z" } : Jvm.MethodName) prog_10_method_19_code (1 : Nat) (Option.some Jvm.ClassFile.FieldType.boolean)) ∈ lw_all := lw_g (lw_at lw_m6 3 rfl) rfl
theorem q1298 : (Jvm.Cond.methodLink "TokenMouthModel" (226 : Nat) ({ cls := "TokenMouthModel", name := "isName", desc := "(I)Z" } : Jvm.MethodName)) ∈ lw_all := lw_g (lw_at lw_m6 4 rfl) rfl
theorem q1299 : (Jvm.Cond.static ({ cls := "TokenMouthModel", name := "isName", desc := "(I)Z" } : Jvm.MethodName)) ∈ lw_all := lw_g (lw_at lw_m6 5 rfl) rfl
theorem q1300 : (Jvm.Cond.code ({ cls := "TokenMouthModel", name := "isName", desc := "(I)Z" } : Jvm.MethodName) prog_10_method_18_code (1 : Nat) (Option.some Jvm.ClassFile.FieldType.boolean)) ∈ lw_all := lw_g (lw_at lw_m6 6 rfl) rfl
theorem q1301 : (Jvm.Cond.methodLink "TokenMouthModel" (318 : Nat) ({ cls := "TokenMouthModel", name := "expand", desc := "(I)V" } : Jvm.MethodName)) ∈ lw_all := lw_g (lw_at lw_m6 7 rfl) rfl
theorem q1302 : (Jvm.Cond.privateMethod ({ cls := "TokenMouthModel", name := "expand", desc := "(I)V" } : Jvm.MethodName)) ∈ lw_tbl := lw_at lw_m6 8 rfl
theorem q1303 : (Jvm.Cond.instanceMethod ({ cls := "TokenMouthModel", name := "expand", desc := "(I)V" } : Jvm.MethodName)) ∈ lw_all := lw_g (lw_at lw_m6 9 rfl) rfl
theorem q1304 : (Jvm.Cond.code ({ cls := "TokenMouthModel", name := "expand", desc := "(I)V" } : Jvm.MethodName) prog_10_method_44_code (4 : Nat) (Option.none : Option Jvm.ClassFile.FieldType)) ∈ lw_all := lw_g (lw_at lw_m6 10 rfl) rfl
theorem q1305 : (Jvm.Cond.methodLink "TokenMouthModel" (312 : Nat) ({ cls := "TokenMouthModel", name := "begin", desc := "(I)I" } : Jvm.MethodName)) ∈ lw_all := lw_g (lw_at lw_m6 11 rfl) rfl
theorem q1306 : (Jvm.Cond.privateMethod ({ cls := "TokenMouthModel", name := "begin", desc := "(I)I" } : Jvm.MethodName)) ∈ lw_tbl := lw_at lw_m6 12 rfl
theorem q1307 : (Jvm.Cond.instanceMethod ({ cls := "TokenMouthModel", name := "begin", desc := "(I)I" } : Jvm.MethodName)) ∈ lw_all := lw_g (lw_at lw_m6 13 rfl) rfl
theorem q1308 : (Jvm.Cond.code ({ cls := "TokenMouthModel", name := "begin", desc := "(I)I" } : Jvm.MethodName) prog_10_method_39_code (5 : Nat) (Option.some Jvm.ClassFile.FieldType.int)) ∈ lw_all := lw_g (lw_at lw_m6 14 rfl) rfl
theorem q1309 : (Jvm.Cond.methodLink "TokenMouthModel" (277 : Nat) ({ cls := "TokenMouthModel", name := "call", desc := "(I)V" } : Jvm.MethodName)) ∈ lw_all := lw_g (lw_at lw_m6 15 rfl) rfl
theorem q1310 : (Jvm.Cond.privateMethod ({ cls := "TokenMouthModel", name := "call", desc := "(I)V" } : Jvm.MethodName)) ∈ lw_tbl := lw_at lw_m6 16 rfl
theorem q1311 : (Jvm.Cond.instanceMethod ({ cls := "TokenMouthModel", name := "call", desc := "(I)V" } : Jvm.MethodName)) ∈ lw_all := lw_g (lw_at lw_m6 17 rfl) rfl
theorem q1312 : (Jvm.Cond.code ({ cls := "TokenMouthModel", name := "call", desc := "(I)V" } : Jvm.MethodName) prog_10_method_31_code (7 : Nat) (Option.none : Option Jvm.ClassFile.FieldType)) ∈ lw_all := lw_g (lw_at lw_m6 18 rfl) rfl
theorem q1313 : (Jvm.Cond.methodLink "TokenMouthModel" (254 : Nat) ({ cls := "TokenMouthModel", name := "need", desc := "()I" } : Jvm.MethodName)) ∈ lw_all := lw_g (lw_at lw_m6 19 rfl) rfl
theorem q1314 : (Jvm.Cond.privateMethod ({ cls := "TokenMouthModel", name := "need", desc := "()I" } : Jvm.MethodName)) ∈ lw_tbl := lw_at lw_m6 20 rfl
theorem q1315 : (Jvm.Cond.instanceMethod ({ cls := "TokenMouthModel", name := "need", desc := "()I" } : Jvm.MethodName)) ∈ lw_all := lw_g (lw_at lw_m6 21 rfl) rfl
theorem q1316 : (Jvm.Cond.code ({ cls := "TokenMouthModel", name := "need", desc := "()I" } : Jvm.MethodName) prog_10_method_16_code (2 : Nat) (Option.some Jvm.ClassFile.FieldType.int)) ∈ lw_all := lw_g (lw_at lw_m6 22 rfl) rfl
theorem q1317 : (Jvm.Cond.methodLink "TokenMouthModel" (235 : Nat) ({ cls := "TokenMouthModel", name := "plain", desc := "(I)I" } : Jvm.MethodName)) ∈ lw_all := lw_g (lw_at lw_m6 23 rfl) rfl
theorem q1318 : (Jvm.Cond.static ({ cls := "TokenMouthModel", name := "plain", desc := "(I)I" } : Jvm.MethodName)) ∈ lw_all := lw_g (lw_at lw_m6 24 rfl) rfl
theorem q1319 : (Jvm.Cond.code ({ cls := "TokenMouthModel", name := "plain", desc := "(I)I" } : Jvm.MethodName) prog_10_method_20_code (1 : Nat) (Option.some Jvm.ClassFile.FieldType.int)) ∈ lw_all := lw_g (lw_at lw_m6 25 rfl) rfl
theorem q1320 : (Jvm.Cond.methodLink "TokenMouthModel" (257 : Nat) ({ cls := "TokenMouthModel", name := "plainArgument", desc := "(II)V" } : Jvm.MethodName)) ∈ lw_all := lw_g (lw_at lw_m6 26 rfl) rfl
theorem q1321 : (Jvm.Cond.privateMethod ({ cls := "TokenMouthModel", name := "plainArgument", desc := "(II)V" } : Jvm.MethodName)) ∈ lw_tbl := lw_at lw_m6 27 rfl
theorem q1322 : (Jvm.Cond.instanceMethod ({ cls := "TokenMouthModel", name := "plainArgument", desc := "(II)V" } : Jvm.MethodName)) ∈ lw_all := lw_g (lw_at lw_m6 28 rfl) rfl
theorem q1323 : (Jvm.Cond.code ({ cls := "TokenMouthModel", name := "plainArgument", desc := "(II)V" } : Jvm.MethodName) prog_10_method_29_code (7 : Nat) (Option.none : Option Jvm.ClassFile.FieldType)) ∈ lw_all := lw_g (lw_at lw_m6 29 rfl) rfl
theorem q1324 : (Jvm.Cond.methodLink "TokenMouthModel" (242 : Nat) ({ cls := "TokenMouthModel", name := "piece", desc := "(IIIIII)I" } : Jvm.MethodName)) ∈ lw_all := lw_g (lw_at lw_m6 30 rfl) rfl
theorem q1325 : (Jvm.Cond.privateMethod ({ cls := "TokenMouthModel", name := "piece", desc := "(IIIIII)I" } : Jvm.MethodName)) ∈ lw_tbl := lw_at lw_m6 31 rfl
theorem q1326 : (Jvm.Cond.instanceMethod ({ cls := "TokenMouthModel", name := "piece", desc := "(IIIIII)I" } : Jvm.MethodName)) ∈ lw_all := lw_g (lw_at lw_m6 32 rfl) rfl
theorem q1327 : (Jvm.Cond.code ({ cls := "TokenMouthModel", name := "piece", desc := "(IIIIII)I" } : Jvm.MethodName) prog_10_method_27_code (9 : Nat) (Option.some Jvm.ClassFile.FieldType.int)) ∈ lw_all := lw_g (lw_at lw_m6 33 rfl) rfl
theorem q1328 : (Jvm.Cond.methodLink "TokenMouthModel" (238 : Nat) ({ cls := "TokenMouthModel", name := "isCharacter", desc := "(II)Z" } : Jvm.MethodName)) ∈ lw_all := lw_g (lw_at lw_m6 34 rfl) rfl
theorem q1329 : (Jvm.Cond.static ({ cls := "TokenMouthModel", name := "isCharacter", desc := "(II)Z" } : Jvm.MethodName)) ∈ lw_all := lw_g (lw_at lw_m6 35 rfl) rfl
theorem q1330 : (Jvm.Cond.code ({ cls := "TokenMouthModel", name := "isCharacter", desc := "(II)Z" } : Jvm.MethodName) prog_10_method_21_code (2 : Nat) (Option.some Jvm.ClassFile.FieldType.boolean)) ∈ lw_all := lw_g (lw_at lw_m6 36 rfl) rfl
theorem q1331 : (Jvm.Cond.methodLink "TokenMouthModel" (246 : Nat) ({ cls := "TokenMouthModel", name := "add", desc := "(II)V" } : Jvm.MethodName)) ∈ lw_all := lw_g (lw_at lw_m6 37 rfl) rfl
theorem q1332 : (Jvm.Cond.privateMethod ({ cls := "TokenMouthModel", name := "add", desc := "(II)V" } : Jvm.MethodName)) ∈ lw_tbl := lw_at lw_m6 38 rfl
theorem q1333 : (Jvm.Cond.instanceMethod ({ cls := "TokenMouthModel", name := "add", desc := "(II)V" } : Jvm.MethodName)) ∈ lw_all := lw_g (lw_at lw_m6 39 rfl) rfl
theorem q1334 : (Jvm.Cond.code ({ cls := "TokenMouthModel", name := "add", desc := "(II)V" } : Jvm.MethodName) prog_10_method_28_code (3 : Nat) (Option.none : Option Jvm.ClassFile.FieldType)) ∈ lw_all := lw_g (lw_at lw_m6 40 rfl) rfl
theorem q1335 : (Jvm.Cond.methodLink "TokenMouthModel" (260 : Nat) ({ cls := "TokenMouthModel", name := "longArgument", desc := "(IIII)V" } : Jvm.MethodName)) ∈ lw_all := lw_g (lw_at lw_m6 41 rfl) rfl
theorem q1336 : (Jvm.Cond.privateMethod ({ cls := "TokenMouthModel", name := "longArgument", desc := "(IIII)V" } : Jvm.MethodName)) ∈ lw_tbl := lw_at lw_m6 42 rfl
theorem q1337 : (Jvm.Cond.instanceMethod ({ cls := "TokenMouthModel", name := "longArgument", desc := "(IIII)V" } : Jvm.MethodName)) ∈ lw_all := lw_g (lw_at lw_m6 43 rfl) rfl
theorem q1338 : (Jvm.Cond.code ({ cls := "TokenMouthModel", name := "longArgument", desc := "(IIII)V" } : Jvm.MethodName) prog_10_method_30_code (11 : Nat) (Option.none : Option Jvm.ClassFile.FieldType)) ∈ lw_all := lw_g (lw_at lw_m6 44 rfl) rfl
theorem q1339 : (Jvm.Cond.methodLink "TokenMouthModel" (250 : Nat) ({ cls := "TokenMouthModel", name := "isBehind", desc := "(IIII)Z" } : Jvm.MethodName)) ∈ lw_all := lw_g (lw_at lw_m6 45 rfl) rfl
theorem q1340 : (Jvm.Cond.privateMethod ({ cls := "TokenMouthModel", name := "isBehind", desc := "(IIII)Z" } : Jvm.MethodName)) ∈ lw_tbl := lw_at lw_m6 46 rfl
theorem q1341 : (Jvm.Cond.instanceMethod ({ cls := "TokenMouthModel", name := "isBehind", desc := "(IIII)Z" } : Jvm.MethodName)) ∈ lw_all := lw_g (lw_at lw_m6 47 rfl) rfl
theorem q1342 : (Jvm.Cond.code ({ cls := "TokenMouthModel", name := "isBehind", desc := "(IIII)Z" } : Jvm.MethodName) prog_10_method_26_code (8 : Nat) (Option.some Jvm.ClassFile.FieldType.boolean)) ∈ lw_all := lw_g (lw_at lw_m6 48 rfl) rfl
theorem q1343 : (Jvm.Cond.methodLink "TokenMouthModel" (264 : Nat) ({ cls := "TokenMouthModel", name := "putBack", desc := "(I)V" } : Jvm.MethodName)) ∈ lw_all := lw_g (lw_at lw_m6 49 rfl) rfl
theorem q1344 : (Jvm.Cond.privateMethod ({ cls := "TokenMouthModel", name := "putBack", desc := "(I)V" } : Jvm.MethodName)) ∈ lw_tbl := lw_at lw_m6 50 rfl
theorem q1345 : (Jvm.Cond.instanceMethod ({ cls := "TokenMouthModel", name := "putBack", desc := "(I)V" } : Jvm.MethodName)) ∈ lw_all := lw_g (lw_at lw_m6 51 rfl) rfl
theorem q1346 : (Jvm.Cond.code ({ cls := "TokenMouthModel", name := "putBack", desc := "(I)V" } : Jvm.MethodName) prog_10_method_17_code (3 : Nat) (Option.none : Option Jvm.ClassFile.FieldType)) ∈ lw_all := lw_g (lw_at lw_m6 52 rfl) rfl
theorem q1347 : (Jvm.Cond.methodLink "TokenMouthModel" (283 : Nat) ({ cls := "TokenMouthModel", name := "push", desc := "(III)V" } : Jvm.MethodName)) ∈ lw_all := lw_g (lw_at lw_m6 53 rfl) rfl
theorem q1348 : (Jvm.Cond.privateMethod ({ cls := "TokenMouthModel", name := "push", desc := "(III)V" } : Jvm.MethodName)) ∈ lw_tbl := lw_at lw_m6 54 rfl
theorem q1349 : (Jvm.Cond.instanceMethod ({ cls := "TokenMouthModel", name := "push", desc := "(III)V" } : Jvm.MethodName)) ∈ lw_all := lw_g (lw_at lw_m6 55 rfl) rfl
theorem q1350 : (Jvm.Cond.code ({ cls := "TokenMouthModel", name := "push", desc := "(III)V" } : Jvm.MethodName) prog_10_method_38_code (4 : Nat) (Option.none : Option Jvm.ClassFile.FieldType)) ∈ lw_all := lw_g (lw_at lw_m6 56 rfl) rfl
theorem q1351 : (Jvm.Cond.methodLink "TokenMouthModel" (287 : Nat) ({ cls := "TokenMouthModel", name := "string", desc := "(I)V" } : Jvm.MethodName)) ∈ lw_all := lw_g (lw_at lw_m6 57 rfl) rfl
theorem q1352 : (Jvm.Cond.privateMethod ({ cls := "TokenMouthModel", name := "string", desc := "(I)V" } : Jvm.MethodName)) ∈ lw_tbl := lw_at lw_m6 58 rfl
theorem q1353 : (Jvm.Cond.instanceMethod ({ cls := "TokenMouthModel", name := "string", desc := "(I)V" } : Jvm.MethodName)) ∈ lw_all := lw_g (lw_at lw_m6 59 rfl) rfl
theorem q1354 : (Jvm.Cond.code ({ cls := "TokenMouthModel", name := "string", desc := "(I)V" } : Jvm.MethodName) prog_10_method_37_code (4 : Nat) (Option.none : Option Jvm.ClassFile.FieldType)) ∈ lw_all := lw_g (lw_at lw_m6 60 rfl) rfl
theorem q1355 : (Jvm.Cond.methodLink "TokenMouthModel" (271 : Nat) ({ cls := "TokenMouthModel", name := "other", desc := "(I)I" } : Jvm.MethodName)) ∈ lw_all := lw_g (lw_at lw_m6 61 rfl) rfl
theorem q1356 : (Jvm.Cond.static ({ cls := "TokenMouthModel", name := "other", desc := "(I)I" } : Jvm.MethodName)) ∈ lw_all := lw_g (lw_at lw_m6 62 rfl) rfl
theorem q1357 : (Jvm.Cond.code ({ cls := "TokenMouthModel", name := "other", desc := "(I)I" } : Jvm.MethodName) prog_10_method_36_code (1 : Nat) (Option.some Jvm.ClassFile.FieldType.int)) ∈ lw_all := lw_g (lw_at lw_m6 63 rfl) rfl
theorem q1358 : (Jvm.Cond.methodLink "TokenMouthModel" (290 : Nat) ({ cls := "TokenMouthModel", name := "close", desc := "(I)V" } : Jvm.MethodName)) ∈ lw_all := lw_g (lw_at lw_m6 64 rfl) rfl
theorem q1359 : (Jvm.Cond.privateMethod ({ cls := "TokenMouthModel", name := "close", desc := "(I)V" } : Jvm.MethodName)) ∈ lw_tbl := lw_at lw_m6 65 rfl
theorem q1360 : (Jvm.Cond.instanceMethod ({ cls := "TokenMouthModel", name := "close", desc := "(I)V" } : Jvm.MethodName)) ∈ lw_all := lw_g (lw_at lw_m6 66 rfl) rfl
theorem q1361 : (Jvm.Cond.code ({ cls := "TokenMouthModel", name := "close", desc := "(I)V" } : Jvm.MethodName) prog_10_method_40_code (4 : Nat) (Option.none : Option Jvm.ClassFile.FieldType)) ∈ lw_all := lw_g (lw_at lw_m6 67 rfl) rfl
theorem q1362 : (Jvm.Cond.methodLink "TokenMouthModel" (267 : Nat) ({ cls := "TokenMouthModel", name := "pass", desc := "(Z)Z" } : Jvm.MethodName)) ∈ lw_all := lw_g (lw_at lw_m6 68 rfl) rfl
theorem q1363 : (Jvm.Cond.privateMethod ({ cls := "TokenMouthModel", name := "pass", desc := "(Z)Z" } : Jvm.MethodName)) ∈ lw_tbl := lw_at lw_m6 69 rfl
theorem q1364 : (Jvm.Cond.instanceMethod ({ cls := "TokenMouthModel", name := "pass", desc := "(Z)Z" } : Jvm.MethodName)) ∈ lw_all := lw_g (lw_at lw_m6 70 rfl) rfl
theorem q1365 : (Jvm.Cond.code ({ cls := "TokenMouthModel", name := "pass", desc := "(Z)Z" } : Jvm.MethodName) prog_10_method_33_code (5 : Nat) (Option.some Jvm.ClassFile.FieldType.boolean)) ∈ lw_all := lw_g (lw_at lw_m6 71 rfl) rfl
theorem q1366 : (Jvm.Cond.methodLink "TokenMouthModel" (293 : Nat) ({ cls := "TokenMouthModel", name := "open", desc := "()V" } : Jvm.MethodName)) ∈ lw_all := lw_g (lw_at lw_m6 72 rfl) rfl
theorem q1367 : (Jvm.Cond.privateMethod ({ cls := "TokenMouthModel", name := "open", desc := "()V" } : Jvm.MethodName)) ∈ lw_tbl := lw_at lw_m6 73 rfl
theorem q1368 : (Jvm.Cond.instanceMethod ({ cls := "TokenMouthModel", name := "open", desc := "()V" } : Jvm.MethodName)) ∈ lw_all := lw_g (lw_at lw_m6 74 rfl) rfl
theorem q1369 : (Jvm.Cond.code ({ cls := "TokenMouthModel", name := "open", desc := "()V" } : Jvm.MethodName) prog_10_method_32_code (2 : Nat) (Option.none : Option Jvm.ClassFile.FieldType)) ∈ lw_all := lw_g (lw_at lw_m6 75 rfl) rfl
theorem q1370 : (Jvm.Cond.methodLink "TokenMouthModel" (296 : Nat) ({ cls := "TokenMouthModel", name := "test", desc := "(I)V" } : Jvm.MethodName)) ∈ lw_all := lw_g (lw_at lw_m6 76 rfl) rfl
theorem q1371 : (Jvm.Cond.privateMethod ({ cls := "TokenMouthModel", name := "test", desc := "(I)V" } : Jvm.MethodName)) ∈ lw_tbl := lw_at lw_m6 77 rfl
theorem q1372 : (Jvm.Cond.instanceMethod ({ cls := "TokenMouthModel", name := "test", desc := "(I)V" } : Jvm.MethodName)) ∈ lw_all := lw_g (lw_at lw_m6 78 rfl) rfl
theorem q1373 : (Jvm.Cond.code ({ cls := "TokenMouthModel", name := "test", desc := "(I)V" } : Jvm.MethodName) prog_10_method_41_code (5 : Nat) (Option.none : Option Jvm.ClassFile.FieldType)) ∈ lw_all := lw_g (lw_at lw_m6 79 rfl) rfl
theorem q1374 : (Jvm.Cond.methodLink "TokenMouthModel" (299 : Nat) ({ cls := "TokenMouthModel", name := "alike", desc := "(II)Z" } : Jvm.MethodName)) ∈ lw_all := lw_g (lw_at lw_m6 80 rfl) rfl
theorem q1375 : (Jvm.Cond.privateMethod ({ cls := "TokenMouthModel", name := "alike", desc := "(II)Z" } : Jvm.MethodName)) ∈ lw_tbl := lw_at lw_m6 81 rfl
theorem q1376 : (Jvm.Cond.instanceMethod ({ cls := "TokenMouthModel", name := "alike", desc := "(II)Z" } : Jvm.MethodName)) ∈ lw_all := lw_g (lw_at lw_m6 82 rfl) rfl
theorem q1377 : (Jvm.Cond.code ({ cls := "TokenMouthModel", name := "alike", desc := "(II)Z" } : Jvm.MethodName) prog_10_method_35_code (7 : Nat) (Option.some Jvm.ClassFile.FieldType.boolean)) ∈ lw_all := lw_g (lw_at lw_m6 83 rfl) rfl
theorem q1378 : (Jvm.Cond.methodLink "TokenMouthModel" (302 : Nat) ({ cls := "TokenMouthModel", name := "decide", desc := "(IZ)V" } : Jvm.MethodName)) ∈ lw_all := lw_g (lw_at lw_m6 84 rfl) rfl
theorem q1379 : (Jvm.Cond.privateMethod ({ cls := "TokenMouthModel", name := "decide", desc := "(IZ)V" } : Jvm.MethodName)) ∈ lw_tbl := lw_at lw_m6 85 rfl
theorem q1380 : (Jvm.Cond.instanceMethod ({ cls := "TokenMouthModel", name := "decide", desc := "(IZ)V" } : Jvm.MethodName)) ∈ lw_all := lw_g (lw_at lw_m6 86 rfl) rfl
theorem q1381 : (Jvm.Cond.code ({ cls := "TokenMouthModel", name := "decide", desc := "(IZ)V" } : Jvm.MethodName) prog_10_method_34_code (3 : Nat) (Option.none : Option Jvm.ClassFile.FieldType)) ∈ lw_all := lw_g (lw_at lw_m6 87 rfl) rfl
theorem q1382 : (Jvm.Cond.methodLink "TokenMouthModel" (315 : Nat) ({ cls := "TokenMouthModel", name := "goOn", desc := "()I" } : Jvm.MethodName)) ∈ lw_all := lw_g (lw_at lw_m6 88 rfl) rfl
theorem q1383 : (Jvm.Cond.privateMethod ({ cls := "TokenMouthModel", name := "goOn", desc := "()I" } : Jvm.MethodName)) ∈ lw_tbl := lw_at lw_m6 89 rfl
theorem q1384 : (Jvm.Cond.instanceMethod ({ cls := "TokenMouthModel", name := "goOn", desc := "()I" } : Jvm.MethodName)) ∈ lw_all := lw_g (lw_at lw_m6 90 rfl) rfl
theorem q1385 : (Jvm.Cond.code ({ cls := "TokenMouthModel", name := "goOn", desc := "()I" } : Jvm.MethodName) prog_10_method_42_code (5 : Nat) (Option.some Jvm.ClassFile.FieldType.int)) ∈ lw_all := lw_g (lw_at lw_m6 91 rfl) rfl
theorem q1386 : (Jvm.Cond.methodLink "TokenMouthModel" (306 : Nat) ({ cls := "TokenMouthModel", name := "spelled", desc := "(I)V" } : Jvm.MethodName)) ∈ lw_all := lw_g (lw_at lw_m6 92 rfl) rfl
theorem q1387 : (Jvm.Cond.privateMethod ({ cls := "TokenMouthModel", name := "spelled", desc := "(I)V" } : Jvm.MethodName)) ∈ lw_tbl := lw_at lw_m6 93 rfl
theorem q1388 : (Jvm.Cond.instanceMethod ({ cls := "TokenMouthModel", name := "spelled", desc := "(I)V" } : Jvm.MethodName)) ∈ lw_all := lw_g (lw_at lw_m6 94 rfl) rfl
theorem q1389 : (Jvm.Cond.code ({ cls := "TokenMouthModel", name := "spelled", desc := "(I)V" } : Jvm.MethodName) prog_10_method_43_code (3 : Nat) (Option.none : Option Jvm.ClassFile.FieldType)) ∈ lw_all := lw_g (lw_at lw_m6 95 rfl) rfl
theorem q1390 : (Jvm.Cond.methodLink "TokenMouthModel" (309 : Nat) ({ cls := "TokenMouthModel", name := "change", desc := "(II)V" } : Jvm.MethodName)) ∈ lw_all := lw_g (lw_at lw_m6 96 rfl) rfl
theorem q1391 : (Jvm.Cond.privateMethod ({ cls := "TokenMouthModel", name := "change", desc := "(II)V" } : Jvm.MethodName)) ∈ lw_tbl := lw_at lw_m6 97 rfl
theorem q1392 : (Jvm.Cond.instanceMethod ({ cls := "TokenMouthModel", name := "change", desc := "(II)V" } : Jvm.MethodName)) ∈ lw_all := lw_g (lw_at lw_m6 98 rfl) rfl
theorem q1393 : (Jvm.Cond.code ({ cls := "TokenMouthModel", name := "change", desc := "(II)V" } : Jvm.MethodName) prog_10_method_24_code (5 : Nat) (Option.none : Option Jvm.ClassFile.FieldType)) ∈ lw_all := lw_g (lw_at lw_m6 99 rfl) rfl
theorem q1394 : (Jvm.Cond.methodLink "TokenMouthModel" (352 : Nat) ({ cls := "TokenMouthModel", name := "act", desc := "(I)V" } : Jvm.MethodName)) ∈ lw_all := lw_g (lw_at lw_m6 100 rfl) rfl
theorem q1395 : (Jvm.Cond.privateMethod ({ cls := "TokenMouthModel", name := "act", desc := "(I)V" } : Jvm.MethodName)) ∈ lw_tbl := lw_at lw_m6 101 rfl
theorem q1396 : (Jvm.Cond.instanceMethod ({ cls := "TokenMouthModel", name := "act", desc := "(I)V" } : Jvm.MethodName)) ∈ lw_all := lw_g (lw_at lw_m6 102 rfl) rfl
theorem q1397 : (Jvm.Cond.code ({ cls := "TokenMouthModel", name := "act", desc := "(I)V" } : Jvm.MethodName) prog_10_method_54_code (5 : Nat) (Option.none : Option Jvm.ClassFile.FieldType)) ∈ lw_all := lw_g (lw_at lw_m6 103 rfl) rfl
theorem q1398 : (Jvm.Cond.methodLink "TokenMouthModel" (337 : Nat) ({ cls := "TokenMouthModel", name := "closeGroup", desc := "()V" } : Jvm.MethodName)) ∈ lw_all := lw_g (lw_at lw_m6 104 rfl) rfl
theorem q1399 : (Jvm.Cond.privateMethod ({ cls := "TokenMouthModel", name := "closeGroup", desc := "()V" } : Jvm.MethodName)) ∈ lw_tbl := lw_at lw_m6 105 rfl
theorem q1400 : (Jvm.Cond.instanceMethod ({ cls := "TokenMouthModel", name := "closeGroup", desc := "()V" } : Jvm.MethodName)) ∈ lw_all := lw_g (lw_at lw_m6 106 rfl) rfl
theorem q1401 : (Jvm.Cond.code ({ cls := "TokenMouthModel", name := "closeGroup", desc := "()V" } : Jvm.MethodName) prog_10_method_25_code (2 : Nat) (Option.none : Option Jvm.ClassFile.FieldType)) ∈ lw_all := lw_g (lw_at lw_m6 107 rfl) rfl
theorem q1402 : (Jvm.Cond.methodLink "TokenMouthModel" (340 : Nat) ({ cls := "TokenMouthModel", name := "send", desc := "(I)V" } : Jvm.MethodName)) ∈ lw_all := lw_g (lw_at lw_m6 108 rfl) rfl
theorem q1403 : (Jvm.Cond.privateMethod ({ cls := "TokenMouthModel", name := "send", desc := "(I)V" } : Jvm.MethodName)) ∈ lw_tbl := lw_at lw_m6 109 rfl
theorem q1404 : (Jvm.Cond.instanceMethod ({ cls := "TokenMouthModel", name := "send", desc := "(I)V" } : Jvm.MethodName)) ∈ lw_all := lw_g (lw_at lw_m6 110 rfl) rfl
theorem q1405 : (Jvm.Cond.code ({ cls := "TokenMouthModel", name := "send", desc := "(I)V" } : Jvm.MethodName) prog_10_method_53_code (3 : Nat) (Option.none : Option Jvm.ClassFile.FieldType)) ∈ lw_all := lw_g (lw_at lw_m6 111 rfl) rfl
theorem q1406 : (Jvm.Cond.methodLink "TokenMouthModel" (343 : Nat) ({ cls := "TokenMouthModel", name := "let", desc := "()V" } : Jvm.MethodName)) ∈ lw_all := lw_g (lw_at lw_m6 112 rfl) rfl
theorem q1407 : (Jvm.Cond.privateMethod ({ cls := "TokenMouthModel", name := "let", desc := "()V" } : Jvm.MethodName)) ∈ lw_tbl := lw_at lw_m6 113 rfl
theorem q1408 : (Jvm.Cond.instanceMethod ({ cls := "TokenMouthModel", name := "let", desc := "()V" } : Jvm.MethodName)) ∈ lw_all := lw_g (lw_at lw_m6 114 rfl) rfl
theorem q1409 : (Jvm.Cond.code ({ cls := "TokenMouthModel", name := "let", desc := "()V" } : Jvm.MethodName) prog_10_method_50_code (3 : Nat) (Option.none : Option Jvm.ClassFile.FieldType)) ∈ lw_all := lw_g (lw_at lw_m6 115 rfl) rfl
theorem q1410 : (Jvm.Cond.methodLink "TokenMouthModel" (324 : Nat) ({ cls := "TokenMouthModel", name := "needName", desc := "()I" } : Jvm.MethodName)) ∈ lw_all := lw_g (lw_at lw_m6 116 rfl) rfl
theorem q1411 : (Jvm.Cond.privateMethod ({ cls := "TokenMouthModel", name := "needName", desc := "()I" } : Jvm.MethodName)) ∈ lw_tbl := lw_at lw_m6 117 rfl
theorem q1412 : (Jvm.Cond.instanceMethod ({ cls := "TokenMouthModel", name := "needName", desc := "()I" } : Jvm.MethodName)) ∈ lw_all := lw_g (lw_at lw_m6 118 rfl) rfl
theorem q1413 : (Jvm.Cond.code ({ cls := "TokenMouthModel", name := "needName", desc := "()I" } : Jvm.MethodName) prog_10_method_46_code (2 : Nat) (Option.some Jvm.ClassFile.FieldType.int)) ∈ lw_all := lw_g (lw_at lw_m6 119 rfl) rfl
theorem q1414 : (Jvm.Cond.methodLink "TokenMouthModel" (346 : Nat) ({ cls := "TokenMouthModel", name := "catcode", desc := "()V" } : Jvm.MethodName)) ∈ lw_all := lw_g (lw_at lw_m6 120 rfl) rfl
theorem q1415 : (Jvm.Cond.privateMethod ({ cls := "TokenMouthModel", name := "catcode", desc := "()V" } : Jvm.MethodName)) ∈ lw_tbl := lw_at lw_m6 121 rfl
theorem q1416 : (Jvm.Cond.instanceMethod ({ cls := "TokenMouthModel", name := "catcode", desc := "()V" } : Jvm.MethodName)) ∈ lw_all := lw_g (lw_at lw_m6 122 rfl) rfl
theorem q1417 : (Jvm.Cond.code ({ cls := "TokenMouthModel", name := "catcode", desc := "()V" } : Jvm.MethodName) prog_10_method_52_code (8 : Nat) (Option.none : Option Jvm.ClassFile.FieldType)) ∈ lw_all := lw_g (lw_at lw_m6 123 rfl) rfl
theorem q1418 : (Jvm.Cond.methodLink "TokenMouthModel" (334 : Nat) ({ cls := "TokenMouthModel", name := "digit", desc := "(I)I" } : Jvm.MethodName)) ∈ lw_all := lw_g (lw_at lw_m6 124 rfl) rfl
theorem q1419 : (Jvm.Cond.static ({ cls := "TokenMouthModel", name := "digit", desc := "(I)I" } : Jvm.MethodName)) ∈ lw_all := lw_g (lw_at lw_m6 125 rfl) rfl
theorem q1420 : (Jvm.Cond.code ({ cls := "TokenMouthModel", name := "digit", desc := "(I)I" } : Jvm.MethodName) prog_10_method_51_code (1 : Nat) (Option.some Jvm.ClassFile.FieldType.int)) ∈ lw_all := lw_g (lw_at lw_m6 126 rfl) rfl
theorem q1421 : (Jvm.Cond.methodLink "TokenMouthModel" (349 : Nat) ({ cls := "TokenMouthModel", name := "define", desc := "(I)V" } : Jvm.MethodName)) ∈ lw_all := lw_g (lw_at lw_m6 127 rfl) rfl
theorem q1422 : (Jvm.Cond.privateMethod ({ cls := "TokenMouthModel", name := "define", desc := "(I)V" } : Jvm.MethodName)) ∈ lw_tbl := lw_at lw_m6 128 rfl
theorem q1423 : (Jvm.Cond.instanceMethod ({ cls := "TokenMouthModel", name := "define", desc := "(I)V" } : Jvm.MethodName)) ∈ lw_all := lw_g (lw_at lw_m6 129 rfl) rfl
theorem q1424 : (Jvm.Cond.code ({ cls := "TokenMouthModel", name := "define", desc := "(I)V" } : Jvm.MethodName) prog_10_method_49_code (5 : Nat) (Option.none : Option Jvm.ClassFile.FieldType)) ∈ lw_all := lw_g (lw_at lw_m6 130 rfl) rfl
theorem q1425 : (Jvm.Cond.methodLink "TokenMouthModel" (327 : Nat) ({ cls := "TokenMouthModel", name := "readText", desc := "()Z" } : Jvm.MethodName)) ∈ lw_all := lw_g (lw_at lw_m6 131 rfl) rfl
theorem q1426 : (Jvm.Cond.privateMethod ({ cls := "TokenMouthModel", name := "readText", desc := "()Z" } : Jvm.MethodName)) ∈ lw_tbl := lw_at lw_m6 132 rfl
theorem q1427 : (Jvm.Cond.instanceMethod ({ cls := "TokenMouthModel", name := "readText", desc := "()Z" } : Jvm.MethodName)) ∈ lw_all := lw_g (lw_at lw_m6 133 rfl) rfl
theorem q1428 : (Jvm.Cond.code ({ cls := "TokenMouthModel", name := "readText", desc := "()Z" } : Jvm.MethodName) prog_10_method_47_code (4 : Nat) (Option.some Jvm.ClassFile.FieldType.boolean)) ∈ lw_all := lw_g (lw_at lw_m6 134 rfl) rfl
theorem q1429 : (Jvm.Cond.methodLink "TokenMouthModel" (331 : Nat) ({ cls := "TokenMouthModel", name := "readBody", desc := "(Z)Z" } : Jvm.MethodName)) ∈ lw_all := lw_g (lw_at lw_m6 135 rfl) rfl
theorem q1430 : (Jvm.Cond.privateMethod ({ cls := "TokenMouthModel", name := "readBody", desc := "(Z)Z" } : Jvm.MethodName)) ∈ lw_tbl := lw_at lw_m6 136 rfl
theorem q1431 : (Jvm.Cond.instanceMethod ({ cls := "TokenMouthModel", name := "readBody", desc := "(Z)Z" } : Jvm.MethodName)) ∈ lw_all := lw_g (lw_at lw_m6 137 rfl) rfl
theorem q1432 : (Jvm.Cond.code ({ cls := "TokenMouthModel", name := "readBody", desc := "(Z)Z" } : Jvm.MethodName) prog_10_method_48_code (7 : Nat) (Option.some Jvm.ClassFile.FieldType.boolean)) ∈ lw_all := lw_g (lw_at lw_m6 138 rfl) rfl
theorem q1433 : (Jvm.Cond.methodLink "TokenMouthModel" (321 : Nat) ({ cls := "TokenMouthModel", name := "needExpanded", desc := "()I" } : Jvm.MethodName)) ∈ lw_all := lw_g (lw_at lw_m6 139 rfl) rfl
theorem q1434 : (Jvm.Cond.privateMethod ({ cls := "TokenMouthModel", name := "needExpanded", desc := "()I" } : Jvm.MethodName)) ∈ lw_tbl := lw_at lw_m6 140 rfl
theorem q1435 : (Jvm.Cond.instanceMethod ({ cls := "TokenMouthModel", name := "needExpanded", desc := "()I" } : Jvm.MethodName)) ∈ lw_all := lw_g (lw_at lw_m6 141 rfl) rfl
theorem q1436 : (Jvm.Cond.code ({ cls := "TokenMouthModel", name := "needExpanded", desc := "()I" } : Jvm.MethodName) prog_10_method_45_code (2 : Nat) (Option.some Jvm.ClassFile.FieldType.int)) ∈ lw_all := lw_g (lw_at lw_m6 142 rfl) rfl
theorem q1438 : (Jvm.Cond.instanceMethod ({ cls := "TokenMouthModel", name := "fault", desc := "(I)I" } : Jvm.MethodName)) ∈ lw_all := lw_g (lw_at lw_m6 144 rfl) rfl
theorem q1439 : (Jvm.Cond.selects "TokenMouthModel" ({ cls := "TokenMouthModel", name := "fault", desc := "(I)I" } : Jvm.MethodName) ({ cls := "TokenMouthModel", name := "fault", desc := "(I)I" } : Jvm.MethodName)) ∈ lw_all := lw_g (lw_at lw_m6 145 rfl) rfl
theorem q1440 : (Jvm.Cond.code ({ cls := "TokenMouthModel", name := "fault", desc := "(I)I" } : Jvm.MethodName) prog_10_method_58_code (2 : Nat) (Option.some Jvm.ClassFile.FieldType.int)) ∈ lw_all := lw_g (lw_at lw_m6 146 rfl) rfl
theorem q1441 : (Jvm.Cond.methodLink "TokenMouthModel" (358 : Nat) ({ cls := "TokenMouthModel", name := "fails", desc := "()I" } : Jvm.MethodName)) ∈ lw_all := lw_g (lw_at lw_m6 147 rfl) rfl
theorem q1442 : (Jvm.Cond.privateMethod ({ cls := "TokenMouthModel", name := "fails", desc := "()I" } : Jvm.MethodName)) ∈ lw_tbl := lw_at lw_m6 148 rfl
theorem q1443 : (Jvm.Cond.instanceMethod ({ cls := "TokenMouthModel", name := "fails", desc := "()I" } : Jvm.MethodName)) ∈ lw_all := lw_g (lw_at lw_m6 149 rfl) rfl
theorem q1444 : (Jvm.Cond.code ({ cls := "TokenMouthModel", name := "fails", desc := "()I" } : Jvm.MethodName) prog_10_method_57_code (1 : Nat) (Option.some Jvm.ClassFile.FieldType.int)) ∈ lw_all := lw_g (lw_at lw_m6 150 rfl) rfl
theorem q1446 : (Jvm.Cond.instanceMethod ({ cls := "TokenMouthModel", name := "out", desc := "(I)I" } : Jvm.MethodName)) ∈ lw_all := lw_g (lw_at lw_m6 152 rfl) rfl
theorem q1447 : (Jvm.Cond.selects "TokenMouthModel" ({ cls := "TokenMouthModel", name := "out", desc := "(I)I" } : Jvm.MethodName) ({ cls := "TokenMouthModel", name := "out", desc := "(I)I" } : Jvm.MethodName)) ∈ lw_all := lw_g (lw_at lw_m6 153 rfl) rfl
theorem q1448 : (Jvm.Cond.code ({ cls := "TokenMouthModel", name := "out", desc := "(I)I" } : Jvm.MethodName) prog_10_method_59_code (2 : Nat) (Option.some Jvm.ClassFile.FieldType.int)) ∈ lw_all := lw_g (lw_at lw_m6 154 rfl) rfl
theorem q1450 : (Jvm.Cond.instanceMethod ({ cls := "TokenMouthModel", name := "count", desc := "(I)I" } : Jvm.MethodName)) ∈ lw_all := lw_g (lw_at lw_m6 156 rfl) rfl
theorem q1451 : (Jvm.Cond.selects "TokenMouthModel" ({ cls := "TokenMouthModel", name := "count", desc := "(I)I" } : Jvm.MethodName) ({ cls := "TokenMouthModel", name := "count", desc := "(I)I" } : Jvm.MethodName)) ∈ lw_all := lw_g (lw_at lw_m6 157 rfl) rfl
theorem q1452 : (Jvm.Cond.code ({ cls := "TokenMouthModel", name := "count", desc := "(I)I" } : Jvm.MethodName) prog_10_method_60_code (2 : Nat) (Option.some Jvm.ClassFile.FieldType.int)) ∈ lw_all := lw_g (lw_at lw_m6 158 rfl) rfl
theorem q1454 : (Jvm.Cond.instanceMethod ({ cls := "TokenMouthModel", name := "category", desc := "(I)I" } : Jvm.MethodName)) ∈ lw_all := lw_g (lw_at lw_m6 160 rfl) rfl
theorem q1455 : (Jvm.Cond.selects "TokenMouthModel" ({ cls := "TokenMouthModel", name := "category", desc := "(I)I" } : Jvm.MethodName) ({ cls := "TokenMouthModel", name := "category", desc := "(I)I" } : Jvm.MethodName)) ∈ lw_all := lw_g (lw_at lw_m6 161 rfl) rfl
theorem q1456 : (Jvm.Cond.code ({ cls := "TokenMouthModel", name := "category", desc := "(I)I" } : Jvm.MethodName) prog_10_method_61_code (2 : Nat) (Option.some Jvm.ClassFile.FieldType.int)) ∈ lw_all := lw_g (lw_at lw_m6 162 rfl) rfl
theorem q1458 : (Jvm.Cond.instanceMethod ({ cls := "TokenMouthModel", name := "meaning", desc := "(JZ)I" } : Jvm.MethodName)) ∈ lw_all := lw_g (lw_at lw_m6 164 rfl) rfl
theorem q1459 : (Jvm.Cond.selects "TokenMouthModel" ({ cls := "TokenMouthModel", name := "meaning", desc := "(JZ)I" } : Jvm.MethodName) ({ cls := "TokenMouthModel", name := "meaning", desc := "(JZ)I" } : Jvm.MethodName)) ∈ lw_all := lw_g (lw_at lw_m6 165 rfl) rfl
theorem q1460 : (Jvm.Cond.code ({ cls := "TokenMouthModel", name := "meaning", desc := "(JZ)I" } : Jvm.MethodName) prog_10_method_63_code (5 : Nat) (Option.some Jvm.ClassFile.FieldType.int)) ∈ lw_all := lw_g (lw_at lw_m6 166 rfl) rfl
theorem q1461 : (Jvm.Cond.methodLink "TokenMouthModel" (361 : Nat) ({ cls := "TokenMouthModel", name := "lookUp", desc := "(JZ)I" } : Jvm.MethodName)) ∈ lw_all := lw_g (lw_at lw_m6 167 rfl) rfl
theorem q1462 : (Jvm.Cond.privateMethod ({ cls := "TokenMouthModel", name := "lookUp", desc := "(JZ)I" } : Jvm.MethodName)) ∈ lw_tbl := lw_at lw_m6 168 rfl
theorem q1463 : (Jvm.Cond.instanceMethod ({ cls := "TokenMouthModel", name := "lookUp", desc := "(JZ)I" } : Jvm.MethodName)) ∈ lw_all := lw_g (lw_at lw_m6 169 rfl) rfl
theorem q1464 : (Jvm.Cond.code ({ cls := "TokenMouthModel", name := "lookUp", desc := "(JZ)I" } : Jvm.MethodName) prog_10_method_62_code (7 : Nat) (Option.some Jvm.ClassFile.FieldType.int)) ∈ lw_all := lw_g (lw_at lw_m6 170 rfl) rfl
theorem q1466 : (Jvm.Cond.instanceMethod ({ cls := "TokenMouthModel", name := "detail", desc := "(JZI)I" } : Jvm.MethodName)) ∈ lw_all := lw_g (lw_at lw_m6 172 rfl) rfl
theorem q1467 : (Jvm.Cond.selects "TokenMouthModel" ({ cls := "TokenMouthModel", name := "detail", desc := "(JZI)I" } : Jvm.MethodName) ({ cls := "TokenMouthModel", name := "detail", desc := "(JZI)I" } : Jvm.MethodName)) ∈ lw_all := lw_g (lw_at lw_m6 173 rfl) rfl
theorem q1468 : (Jvm.Cond.code ({ cls := "TokenMouthModel", name := "detail", desc := "(JZI)I" } : Jvm.MethodName) prog_10_method_64_code (9 : Nat) (Option.some Jvm.ClassFile.FieldType.int)) ∈ lw_all := lw_g (lw_at lw_m6 174 rfl) rfl
theorem q1480 : (Jvm.Cond.castable "TokenMouthModel" "java/lang/Object") ∈ lw_tbl := lw_at lw_m6 186 rfl
theorem in_X6 : ∀ w ∈ wsX60, w ∈ lw_all := lw_in wsX60 [1146, 1148, 1150, 1152, 1154, 1156, 1158, 1160, 1162, 1164, 1166, 1168, 1170, 1172, 1174, 1176, 1178, 1180, 1182, 1184, 1186, 1188, 1190, 1192, 1194, 1196, 1198, 1200, 1202, 1204, 1206, 1208, 1210, 1212, 1214, 1216, 1218, 1220, 1222, 1224, 1226] (by decide +kernel) (by decide +kernel)
theorem q1500 : (Jvm.Cond.castable "[I" "java/lang/Object") ∈ lw_tbl := lw_at lw_m6 206 rfl
set_option maxRecDepth 100000
theorem q1501 : (Jvm.Cond.castable "[Z" "java/lang/Object") ∈ lw_tbl := lw_at lw_m6 207 rfl
set_option maxRecDepth 100000
theorem q1502 : (Jvm.Cond.castable "[J" "java/lang/Object") ∈ lw_tbl := lw_at lw_m6 208 rfl
set_option maxRecDepth 100000
