/-! names, decode rows, words: out of claim/names -/
set_option maxRecDepth 100000
/-- the code has just these bytes from pc on -/
def DkAt (code : ByteArray) (pc : Nat) (bs : List UInt8) : Prop := ∀ (j : Nat) (b : UInt8), bs[j]? = some b → code.data.toList[pc + j]? = some b
/-- the piece W has the bytes bs from its place j on -/
def dkIn (W : List UInt8) (j : Nat) (bs : List UInt8) : Bool := decide ((W.drop j).take bs.length = bs)
theorem dk_seg {l W T : List UInt8} {o o2 : Nat} (h : l.drop o = W ++ T) (n : Nat) (hn : W.length = n) (ho : o + n = o2) : l.drop o2 = T := by
  subst ho
  rw [← List.drop_drop, h, List.drop_left' hn]
theorem dk_at {code : ByteArray} {W T bs : List UInt8} {o pc : Nat} (h : code.data.toList.drop o = W ++ T) (j : Nat) (hp : o + j = pc) (hw : dkIn W j bs = true) : DkAt code pc bs := by
  subst hp
  intro i b e
  have h1 := of_decide_eq_true hw
  have h2 : i < bs.length := (List.getElem?_eq_some_iff.mp e).1
  have h3 : W[j + i]? = some b := by
    rw [← h1, List.getElem?_take, if_pos h2, List.getElem?_drop] at e
    exact e
  have h4 : j + i < W.length := (List.getElem?_eq_some_iff.mp h3).1
  have h5 : (code.data.toList.drop o)[j + i]? = some b := by
    rw [h, List.getElem?_append_left h4]
    exact h3
  rw [List.getElem?_drop, ← Nat.add_assoc] at h5
  exact h5
theorem dk_u1 {A : ByteArray} {p : Nat} {b : UInt8} (h : A.data.toList[p]? = some b) : (Reader.u1 : Reader DecodeError Nat) A p = .ok (b.toNat, p + 1) := by
  obtain ⟨h1, h2⟩ := List.getElem?_eq_some_iff.mp h
  have h3 : p < A.size := by simpa using h1
  have h4 : A[p]'h3 = b := h2
  have e : (Reader.u1 : Reader DecodeError Nat) A p = (if h : p < A.size then .ok (A[p].toNat, p + 1) else .error (HasTruncated.truncated p)) := by
    show (do if h : p < A.size then do set (p + 1); Pure.pure A[p].toNat else MonadExcept.throw (HasTruncated.truncated p) : Reader DecodeError Nat) A p = _
    by_cases hi : p < A.size
    · rw [dif_pos hi, dif_pos hi]; rfl
    · rw [dif_neg hi, dif_neg hi]; rfl
  rw [e, dif_pos h3, h4]
theorem dk_bind {α β : Type} {r : Reader DecodeError α} {f : α → Reader DecodeError β} {A : ByteArray} {p s : Nat} {a : α} (h : r A p = .ok (a, s)) : (r >>= f) A p = f a A s := by
  show (do let (a, s) ← r A p; f a A s : Except DecodeError (β × Nat)) = _
  rw [h]
  rfl
theorem dk_map {α β : Type} {r : Reader DecodeError α} {g : α → β} {A : ByteArray} {p s : Nat} {a : α} (h : r A p = .ok (a, s)) : (g <$> r) A p = .ok (g a, s) := by
  show (do let (a, s) ← r A p; .ok (g a, s) : Except DecodeError (β × Nat)) = _
  rw [h]
  rfl
theorem dk_u2 {A : ByteArray} {p : Nat} {a b : UInt8} (h : A.data.toList[p]? = some a) (h2 : A.data.toList[p + 1]? = some b) : (Reader.u2 : Reader DecodeError Nat) A p = .ok (a.toNat * 256 + b.toNat, p + 2) := by
  show (Reader.u1 >>= fun hi => Reader.u1 >>= fun lo => Pure.pure (hi * 256 + lo) : Reader DecodeError Nat) A p = _
  rw [dk_bind (dk_u1 h), dk_bind (dk_u1 h2)]
  rfl
theorem dk_of {code : ByteArray} {pc n : Nat} {i : Instr} (h : Decoder.instr pc code pc = .ok (i, pc + n)) : decode code pc = .ok (i, n) := by
  have e : decode code pc = (match Decoder.instr pc code pc with | .error x => .error x | .ok (j, s) => .ok (j, s - pc)) := by
    show (do let (j, s) ← Decoder.instr pc code pc; Pure.pure (j, s - pc) : Except DecodeError (Instr × Nat)) = _
    cases Decoder.instr pc code pc <;> rfl
  rw [e, h]
  show Except.ok (i, pc + n - pc) = _
  rw [Nat.add_sub_cancel_left]
theorem dk_1 {code : ByteArray} {pc : Nat} (h : DkAt code pc [1]) : decode code pc = .ok (.aconst_null, 1) := dk_of ((dk_bind (dk_u1 (h 0 _ rfl))).trans rfl)
theorem dk_2 {code : ByteArray} {pc : Nat} (h : DkAt code pc [2]) : decode code pc = .ok (.iconst (-1), 1) := dk_of ((dk_bind (dk_u1 (h 0 _ rfl))).trans rfl)
theorem dk_3 {code : ByteArray} {pc : Nat} (h : DkAt code pc [3]) : decode code pc = .ok (.iconst 0, 1) := dk_of ((dk_bind (dk_u1 (h 0 _ rfl))).trans rfl)
theorem dk_4 {code : ByteArray} {pc : Nat} (h : DkAt code pc [4]) : decode code pc = .ok (.iconst 1, 1) := dk_of ((dk_bind (dk_u1 (h 0 _ rfl))).trans rfl)
theorem dk_5 {code : ByteArray} {pc : Nat} (h : DkAt code pc [5]) : decode code pc = .ok (.iconst 2, 1) := dk_of ((dk_bind (dk_u1 (h 0 _ rfl))).trans rfl)
theorem dk_6 {code : ByteArray} {pc : Nat} (h : DkAt code pc [6]) : decode code pc = .ok (.iconst 3, 1) := dk_of ((dk_bind (dk_u1 (h 0 _ rfl))).trans rfl)
theorem dk_7 {code : ByteArray} {pc : Nat} (h : DkAt code pc [7]) : decode code pc = .ok (.iconst 4, 1) := dk_of ((dk_bind (dk_u1 (h 0 _ rfl))).trans rfl)
theorem dk_8 {code : ByteArray} {pc : Nat} (h : DkAt code pc [8]) : decode code pc = .ok (.iconst 5, 1) := dk_of ((dk_bind (dk_u1 (h 0 _ rfl))).trans rfl)
theorem dk_16 {code : ByteArray} {pc : Nat} (a : UInt8) (h : DkAt code pc [16, a]) : decode code pc = .ok (.bipush (Reader.signed 8 a.toNat), 2) := dk_of ((dk_bind (dk_u1 (h 0 _ rfl))).trans ((dk_bind (dk_map (dk_u1 (h 1 _ rfl)))).trans rfl))
theorem dk_17 {code : ByteArray} {pc : Nat} (a b : UInt8) (h : DkAt code pc [17, a, b]) : decode code pc = .ok (.sipush (Reader.signed 16 (a.toNat * 256 + b.toNat)), 3) := dk_of ((dk_bind (dk_u1 (h 0 _ rfl))).trans ((dk_bind (dk_map (dk_u2 (h 1 _ rfl) (h 2 _ rfl)))).trans rfl))
theorem dk_18 {code : ByteArray} {pc : Nat} (a : UInt8) (h : DkAt code pc [18, a]) : decode code pc = .ok (.ldc a.toNat, 2) := dk_of ((dk_bind (dk_u1 (h 0 _ rfl))).trans ((dk_bind (dk_u1 (h 1 _ rfl))).trans rfl))
theorem dk_19 {code : ByteArray} {pc : Nat} (a b : UInt8) (h : DkAt code pc [19, a, b]) : decode code pc = .ok (.ldc_w (a.toNat * 256 + b.toNat), 3) := dk_of ((dk_bind (dk_u1 (h 0 _ rfl))).trans ((dk_bind (dk_u2 (h 1 _ rfl) (h 2 _ rfl))).trans rfl))
theorem dk_20 {code : ByteArray} {pc : Nat} (a b : UInt8) (h : DkAt code pc [20, a, b]) : decode code pc = .ok (.ldc2_w (a.toNat * 256 + b.toNat), 3) := dk_of ((dk_bind (dk_u1 (h 0 _ rfl))).trans ((dk_bind (dk_u2 (h 1 _ rfl) (h 2 _ rfl))).trans rfl))
theorem dk_21 {code : ByteArray} {pc : Nat} (a : UInt8) (h : DkAt code pc [21, a]) : decode code pc = .ok (.iload a.toNat, 2) := dk_of ((dk_bind (dk_u1 (h 0 _ rfl))).trans ((dk_bind (dk_u1 (h 1 _ rfl))).trans rfl))
theorem dk_25 {code : ByteArray} {pc : Nat} (a : UInt8) (h : DkAt code pc [25, a]) : decode code pc = .ok (.aload a.toNat, 2) := dk_of ((dk_bind (dk_u1 (h 0 _ rfl))).trans ((dk_bind (dk_u1 (h 1 _ rfl))).trans rfl))
theorem dk_26 {code : ByteArray} {pc : Nat} (h : DkAt code pc [26]) : decode code pc = .ok (.iload_n 0, 1) := dk_of ((dk_bind (dk_u1 (h 0 _ rfl))).trans rfl)
theorem dk_27 {code : ByteArray} {pc : Nat} (h : DkAt code pc [27]) : decode code pc = .ok (.iload_n 1, 1) := dk_of ((dk_bind (dk_u1 (h 0 _ rfl))).trans rfl)
theorem dk_28 {code : ByteArray} {pc : Nat} (h : DkAt code pc [28]) : decode code pc = .ok (.iload_n 2, 1) := dk_of ((dk_bind (dk_u1 (h 0 _ rfl))).trans rfl)
theorem dk_29 {code : ByteArray} {pc : Nat} (h : DkAt code pc [29]) : decode code pc = .ok (.iload_n 3, 1) := dk_of ((dk_bind (dk_u1 (h 0 _ rfl))).trans rfl)
theorem dk_31 {code : ByteArray} {pc : Nat} (h : DkAt code pc [31]) : decode code pc = .ok (.lload_n 1, 1) := dk_of ((dk_bind (dk_u1 (h 0 _ rfl))).trans rfl)
theorem dk_42 {code : ByteArray} {pc : Nat} (h : DkAt code pc [42]) : decode code pc = .ok (.aload_n 0, 1) := dk_of ((dk_bind (dk_u1 (h 0 _ rfl))).trans rfl)
theorem dk_43 {code : ByteArray} {pc : Nat} (h : DkAt code pc [43]) : decode code pc = .ok (.aload_n 1, 1) := dk_of ((dk_bind (dk_u1 (h 0 _ rfl))).trans rfl)
theorem dk_44 {code : ByteArray} {pc : Nat} (h : DkAt code pc [44]) : decode code pc = .ok (.aload_n 2, 1) := dk_of ((dk_bind (dk_u1 (h 0 _ rfl))).trans rfl)
theorem dk_45 {code : ByteArray} {pc : Nat} (h : DkAt code pc [45]) : decode code pc = .ok (.aload_n 3, 1) := dk_of ((dk_bind (dk_u1 (h 0 _ rfl))).trans rfl)
theorem dk_46 {code : ByteArray} {pc : Nat} (h : DkAt code pc [46]) : decode code pc = .ok (.iaload, 1) := dk_of ((dk_bind (dk_u1 (h 0 _ rfl))).trans rfl)
theorem dk_50 {code : ByteArray} {pc : Nat} (h : DkAt code pc [50]) : decode code pc = .ok (.aaload, 1) := dk_of ((dk_bind (dk_u1 (h 0 _ rfl))).trans rfl)
theorem dk_51 {code : ByteArray} {pc : Nat} (h : DkAt code pc [51]) : decode code pc = .ok (.baload, 1) := dk_of ((dk_bind (dk_u1 (h 0 _ rfl))).trans rfl)
theorem dk_53 {code : ByteArray} {pc : Nat} (h : DkAt code pc [53]) : decode code pc = .ok (.saload, 1) := dk_of ((dk_bind (dk_u1 (h 0 _ rfl))).trans rfl)
theorem dk_54 {code : ByteArray} {pc : Nat} (a : UInt8) (h : DkAt code pc [54, a]) : decode code pc = .ok (.istore a.toNat, 2) := dk_of ((dk_bind (dk_u1 (h 0 _ rfl))).trans ((dk_bind (dk_u1 (h 1 _ rfl))).trans rfl))
theorem dk_58 {code : ByteArray} {pc : Nat} (a : UInt8) (h : DkAt code pc [58, a]) : decode code pc = .ok (.astore a.toNat, 2) := dk_of ((dk_bind (dk_u1 (h 0 _ rfl))).trans ((dk_bind (dk_u1 (h 1 _ rfl))).trans rfl))
theorem dk_59 {code : ByteArray} {pc : Nat} (h : DkAt code pc [59]) : decode code pc = .ok (.istore_n 0, 1) := dk_of ((dk_bind (dk_u1 (h 0 _ rfl))).trans rfl)
theorem dk_60 {code : ByteArray} {pc : Nat} (h : DkAt code pc [60]) : decode code pc = .ok (.istore_n 1, 1) := dk_of ((dk_bind (dk_u1 (h 0 _ rfl))).trans rfl)
theorem dk_61 {code : ByteArray} {pc : Nat} (h : DkAt code pc [61]) : decode code pc = .ok (.istore_n 2, 1) := dk_of ((dk_bind (dk_u1 (h 0 _ rfl))).trans rfl)
theorem dk_62 {code : ByteArray} {pc : Nat} (h : DkAt code pc [62]) : decode code pc = .ok (.istore_n 3, 1) := dk_of ((dk_bind (dk_u1 (h 0 _ rfl))).trans rfl)
theorem dk_76 {code : ByteArray} {pc : Nat} (h : DkAt code pc [76]) : decode code pc = .ok (.astore_n 1, 1) := dk_of ((dk_bind (dk_u1 (h 0 _ rfl))).trans rfl)
theorem dk_77 {code : ByteArray} {pc : Nat} (h : DkAt code pc [77]) : decode code pc = .ok (.astore_n 2, 1) := dk_of ((dk_bind (dk_u1 (h 0 _ rfl))).trans rfl)
theorem dk_78 {code : ByteArray} {pc : Nat} (h : DkAt code pc [78]) : decode code pc = .ok (.astore_n 3, 1) := dk_of ((dk_bind (dk_u1 (h 0 _ rfl))).trans rfl)
theorem dk_79 {code : ByteArray} {pc : Nat} (h : DkAt code pc [79]) : decode code pc = .ok (.iastore, 1) := dk_of ((dk_bind (dk_u1 (h 0 _ rfl))).trans rfl)
theorem dk_83 {code : ByteArray} {pc : Nat} (h : DkAt code pc [83]) : decode code pc = .ok (.aastore, 1) := dk_of ((dk_bind (dk_u1 (h 0 _ rfl))).trans rfl)
theorem dk_84 {code : ByteArray} {pc : Nat} (h : DkAt code pc [84]) : decode code pc = .ok (.bastore, 1) := dk_of ((dk_bind (dk_u1 (h 0 _ rfl))).trans rfl)
theorem dk_86 {code : ByteArray} {pc : Nat} (h : DkAt code pc [86]) : decode code pc = .ok (.sastore, 1) := dk_of ((dk_bind (dk_u1 (h 0 _ rfl))).trans rfl)
theorem dk_87 {code : ByteArray} {pc : Nat} (h : DkAt code pc [87]) : decode code pc = .ok (.pop, 1) := dk_of ((dk_bind (dk_u1 (h 0 _ rfl))).trans rfl)
theorem dk_89 {code : ByteArray} {pc : Nat} (h : DkAt code pc [89]) : decode code pc = .ok (.dup, 1) := dk_of ((dk_bind (dk_u1 (h 0 _ rfl))).trans rfl)
theorem dk_92 {code : ByteArray} {pc : Nat} (h : DkAt code pc [92]) : decode code pc = .ok (.dup2, 1) := dk_of ((dk_bind (dk_u1 (h 0 _ rfl))).trans rfl)
theorem dk_96 {code : ByteArray} {pc : Nat} (h : DkAt code pc [96]) : decode code pc = .ok (.iadd, 1) := dk_of ((dk_bind (dk_u1 (h 0 _ rfl))).trans rfl)
theorem dk_100 {code : ByteArray} {pc : Nat} (h : DkAt code pc [100]) : decode code pc = .ok (.isub, 1) := dk_of ((dk_bind (dk_u1 (h 0 _ rfl))).trans rfl)
theorem dk_104 {code : ByteArray} {pc : Nat} (h : DkAt code pc [104]) : decode code pc = .ok (.imul, 1) := dk_of ((dk_bind (dk_u1 (h 0 _ rfl))).trans rfl)
theorem dk_108 {code : ByteArray} {pc : Nat} (h : DkAt code pc [108]) : decode code pc = .ok (.idiv, 1) := dk_of ((dk_bind (dk_u1 (h 0 _ rfl))).trans rfl)
theorem dk_112 {code : ByteArray} {pc : Nat} (h : DkAt code pc [112]) : decode code pc = .ok (.irem, 1) := dk_of ((dk_bind (dk_u1 (h 0 _ rfl))).trans rfl)
theorem dk_116 {code : ByteArray} {pc : Nat} (h : DkAt code pc [116]) : decode code pc = .ok (.ineg, 1) := dk_of ((dk_bind (dk_u1 (h 0 _ rfl))).trans rfl)
theorem dk_120 {code : ByteArray} {pc : Nat} (h : DkAt code pc [120]) : decode code pc = .ok (.ishl, 1) := dk_of ((dk_bind (dk_u1 (h 0 _ rfl))).trans rfl)
theorem dk_121 {code : ByteArray} {pc : Nat} (h : DkAt code pc [121]) : decode code pc = .ok (.lshl, 1) := dk_of ((dk_bind (dk_u1 (h 0 _ rfl))).trans rfl)
theorem dk_122 {code : ByteArray} {pc : Nat} (h : DkAt code pc [122]) : decode code pc = .ok (.ishr, 1) := dk_of ((dk_bind (dk_u1 (h 0 _ rfl))).trans rfl)
theorem dk_123 {code : ByteArray} {pc : Nat} (h : DkAt code pc [123]) : decode code pc = .ok (.lshr, 1) := dk_of ((dk_bind (dk_u1 (h 0 _ rfl))).trans rfl)
theorem dk_124 {code : ByteArray} {pc : Nat} (h : DkAt code pc [124]) : decode code pc = .ok (.iushr, 1) := dk_of ((dk_bind (dk_u1 (h 0 _ rfl))).trans rfl)
theorem dk_126 {code : ByteArray} {pc : Nat} (h : DkAt code pc [126]) : decode code pc = .ok (.iand, 1) := dk_of ((dk_bind (dk_u1 (h 0 _ rfl))).trans rfl)
theorem dk_127 {code : ByteArray} {pc : Nat} (h : DkAt code pc [127]) : decode code pc = .ok (.land, 1) := dk_of ((dk_bind (dk_u1 (h 0 _ rfl))).trans rfl)
theorem dk_128 {code : ByteArray} {pc : Nat} (h : DkAt code pc [128]) : decode code pc = .ok (.ior, 1) := dk_of ((dk_bind (dk_u1 (h 0 _ rfl))).trans rfl)
theorem dk_129 {code : ByteArray} {pc : Nat} (h : DkAt code pc [129]) : decode code pc = .ok (.lor, 1) := dk_of ((dk_bind (dk_u1 (h 0 _ rfl))).trans rfl)
theorem dk_130 {code : ByteArray} {pc : Nat} (h : DkAt code pc [130]) : decode code pc = .ok (.ixor, 1) := dk_of ((dk_bind (dk_u1 (h 0 _ rfl))).trans rfl)
theorem dk_132 {code : ByteArray} {pc : Nat} (a b : UInt8) (h : DkAt code pc [132, a, b]) : decode code pc = .ok (.iinc a.toNat (Reader.signed 8 b.toNat), 3) := dk_of ((dk_bind (dk_u1 (h 0 _ rfl))).trans ((dk_bind (dk_u1 (h 1 _ rfl))).trans ((dk_bind (dk_map (dk_u1 (h 2 _ rfl)))).trans rfl)))
theorem dk_133 {code : ByteArray} {pc : Nat} (h : DkAt code pc [133]) : decode code pc = .ok (.i2l, 1) := dk_of ((dk_bind (dk_u1 (h 0 _ rfl))).trans rfl)
theorem dk_136 {code : ByteArray} {pc : Nat} (h : DkAt code pc [136]) : decode code pc = .ok (.l2i, 1) := dk_of ((dk_bind (dk_u1 (h 0 _ rfl))).trans rfl)
theorem dk_145 {code : ByteArray} {pc : Nat} (h : DkAt code pc [145]) : decode code pc = .ok (.i2b, 1) := dk_of ((dk_bind (dk_u1 (h 0 _ rfl))).trans rfl)
theorem dk_146 {code : ByteArray} {pc : Nat} (h : DkAt code pc [146]) : decode code pc = .ok (.i2c, 1) := dk_of ((dk_bind (dk_u1 (h 0 _ rfl))).trans rfl)
theorem dk_147 {code : ByteArray} {pc : Nat} (h : DkAt code pc [147]) : decode code pc = .ok (.i2s, 1) := dk_of ((dk_bind (dk_u1 (h 0 _ rfl))).trans rfl)
theorem dk_153 {code : ByteArray} {pc : Nat} (a b : UInt8) (h : DkAt code pc [153, a, b]) : decode code pc = .ok (.ifCond .eq (Reader.signed 16 (a.toNat * 256 + b.toNat)), 3) := dk_of ((dk_bind (dk_u1 (h 0 _ rfl))).trans ((dk_bind (dk_map (dk_u2 (h 1 _ rfl) (h 2 _ rfl)))).trans rfl))
theorem dk_154 {code : ByteArray} {pc : Nat} (a b : UInt8) (h : DkAt code pc [154, a, b]) : decode code pc = .ok (.ifCond .ne (Reader.signed 16 (a.toNat * 256 + b.toNat)), 3) := dk_of ((dk_bind (dk_u1 (h 0 _ rfl))).trans ((dk_bind (dk_map (dk_u2 (h 1 _ rfl) (h 2 _ rfl)))).trans rfl))
theorem dk_155 {code : ByteArray} {pc : Nat} (a b : UInt8) (h : DkAt code pc [155, a, b]) : decode code pc = .ok (.ifCond .lt (Reader.signed 16 (a.toNat * 256 + b.toNat)), 3) := dk_of ((dk_bind (dk_u1 (h 0 _ rfl))).trans ((dk_bind (dk_map (dk_u2 (h 1 _ rfl) (h 2 _ rfl)))).trans rfl))
theorem dk_156 {code : ByteArray} {pc : Nat} (a b : UInt8) (h : DkAt code pc [156, a, b]) : decode code pc = .ok (.ifCond .ge (Reader.signed 16 (a.toNat * 256 + b.toNat)), 3) := dk_of ((dk_bind (dk_u1 (h 0 _ rfl))).trans ((dk_bind (dk_map (dk_u2 (h 1 _ rfl) (h 2 _ rfl)))).trans rfl))
theorem dk_158 {code : ByteArray} {pc : Nat} (a b : UInt8) (h : DkAt code pc [158, a, b]) : decode code pc = .ok (.ifCond .le (Reader.signed 16 (a.toNat * 256 + b.toNat)), 3) := dk_of ((dk_bind (dk_u1 (h 0 _ rfl))).trans ((dk_bind (dk_map (dk_u2 (h 1 _ rfl) (h 2 _ rfl)))).trans rfl))
theorem dk_159 {code : ByteArray} {pc : Nat} (a b : UInt8) (h : DkAt code pc [159, a, b]) : decode code pc = .ok (.if_icmp .eq (Reader.signed 16 (a.toNat * 256 + b.toNat)), 3) := dk_of ((dk_bind (dk_u1 (h 0 _ rfl))).trans ((dk_bind (dk_map (dk_u2 (h 1 _ rfl) (h 2 _ rfl)))).trans rfl))
theorem dk_160 {code : ByteArray} {pc : Nat} (a b : UInt8) (h : DkAt code pc [160, a, b]) : decode code pc = .ok (.if_icmp .ne (Reader.signed 16 (a.toNat * 256 + b.toNat)), 3) := dk_of ((dk_bind (dk_u1 (h 0 _ rfl))).trans ((dk_bind (dk_map (dk_u2 (h 1 _ rfl) (h 2 _ rfl)))).trans rfl))
theorem dk_161 {code : ByteArray} {pc : Nat} (a b : UInt8) (h : DkAt code pc [161, a, b]) : decode code pc = .ok (.if_icmp .lt (Reader.signed 16 (a.toNat * 256 + b.toNat)), 3) := dk_of ((dk_bind (dk_u1 (h 0 _ rfl))).trans ((dk_bind (dk_map (dk_u2 (h 1 _ rfl) (h 2 _ rfl)))).trans rfl))
theorem dk_162 {code : ByteArray} {pc : Nat} (a b : UInt8) (h : DkAt code pc [162, a, b]) : decode code pc = .ok (.if_icmp .ge (Reader.signed 16 (a.toNat * 256 + b.toNat)), 3) := dk_of ((dk_bind (dk_u1 (h 0 _ rfl))).trans ((dk_bind (dk_map (dk_u2 (h 1 _ rfl) (h 2 _ rfl)))).trans rfl))
theorem dk_163 {code : ByteArray} {pc : Nat} (a b : UInt8) (h : DkAt code pc [163, a, b]) : decode code pc = .ok (.if_icmp .gt (Reader.signed 16 (a.toNat * 256 + b.toNat)), 3) := dk_of ((dk_bind (dk_u1 (h 0 _ rfl))).trans ((dk_bind (dk_map (dk_u2 (h 1 _ rfl) (h 2 _ rfl)))).trans rfl))
theorem dk_164 {code : ByteArray} {pc : Nat} (a b : UInt8) (h : DkAt code pc [164, a, b]) : decode code pc = .ok (.if_icmp .le (Reader.signed 16 (a.toNat * 256 + b.toNat)), 3) := dk_of ((dk_bind (dk_u1 (h 0 _ rfl))).trans ((dk_bind (dk_map (dk_u2 (h 1 _ rfl) (h 2 _ rfl)))).trans rfl))
theorem dk_167 {code : ByteArray} {pc : Nat} (a b : UInt8) (h : DkAt code pc [167, a, b]) : decode code pc = .ok (.goto (Reader.signed 16 (a.toNat * 256 + b.toNat)), 3) := dk_of ((dk_bind (dk_u1 (h 0 _ rfl))).trans ((dk_bind (dk_map (dk_u2 (h 1 _ rfl) (h 2 _ rfl)))).trans rfl))
theorem dk_172 {code : ByteArray} {pc : Nat} (h : DkAt code pc [172]) : decode code pc = .ok (.ireturn, 1) := dk_of ((dk_bind (dk_u1 (h 0 _ rfl))).trans rfl)
theorem dk_176 {code : ByteArray} {pc : Nat} (h : DkAt code pc [176]) : decode code pc = .ok (.areturn, 1) := dk_of ((dk_bind (dk_u1 (h 0 _ rfl))).trans rfl)
theorem dk_177 {code : ByteArray} {pc : Nat} (h : DkAt code pc [177]) : decode code pc = .ok (.return_, 1) := dk_of ((dk_bind (dk_u1 (h 0 _ rfl))).trans rfl)
theorem dk_178 {code : ByteArray} {pc : Nat} (a b : UInt8) (h : DkAt code pc [178, a, b]) : decode code pc = .ok (.getstatic (a.toNat * 256 + b.toNat), 3) := dk_of ((dk_bind (dk_u1 (h 0 _ rfl))).trans ((dk_bind (dk_u2 (h 1 _ rfl) (h 2 _ rfl))).trans rfl))
theorem dk_180 {code : ByteArray} {pc : Nat} (a b : UInt8) (h : DkAt code pc [180, a, b]) : decode code pc = .ok (.getfield (a.toNat * 256 + b.toNat), 3) := dk_of ((dk_bind (dk_u1 (h 0 _ rfl))).trans ((dk_bind (dk_u2 (h 1 _ rfl) (h 2 _ rfl))).trans rfl))
theorem dk_181 {code : ByteArray} {pc : Nat} (a b : UInt8) (h : DkAt code pc [181, a, b]) : decode code pc = .ok (.putfield (a.toNat * 256 + b.toNat), 3) := dk_of ((dk_bind (dk_u1 (h 0 _ rfl))).trans ((dk_bind (dk_u2 (h 1 _ rfl) (h 2 _ rfl))).trans rfl))
theorem dk_182 {code : ByteArray} {pc : Nat} (a b : UInt8) (h : DkAt code pc [182, a, b]) : decode code pc = .ok (.invokevirtual (a.toNat * 256 + b.toNat), 3) := dk_of ((dk_bind (dk_u1 (h 0 _ rfl))).trans ((dk_bind (dk_u2 (h 1 _ rfl) (h 2 _ rfl))).trans rfl))
theorem dk_183 {code : ByteArray} {pc : Nat} (a b : UInt8) (h : DkAt code pc [183, a, b]) : decode code pc = .ok (.invokespecial (a.toNat * 256 + b.toNat), 3) := dk_of ((dk_bind (dk_u1 (h 0 _ rfl))).trans ((dk_bind (dk_u2 (h 1 _ rfl) (h 2 _ rfl))).trans rfl))
theorem dk_184 {code : ByteArray} {pc : Nat} (a b : UInt8) (h : DkAt code pc [184, a, b]) : decode code pc = .ok (.invokestatic (a.toNat * 256 + b.toNat), 3) := dk_of ((dk_bind (dk_u1 (h 0 _ rfl))).trans ((dk_bind (dk_u2 (h 1 _ rfl) (h 2 _ rfl))).trans rfl))
theorem dk_187 {code : ByteArray} {pc : Nat} (a b : UInt8) (h : DkAt code pc [187, a, b]) : decode code pc = .ok (.new (a.toNat * 256 + b.toNat), 3) := dk_of ((dk_bind (dk_u1 (h 0 _ rfl))).trans ((dk_bind (dk_u2 (h 1 _ rfl) (h 2 _ rfl))).trans rfl))
theorem dk_188_4 {code : ByteArray} {pc : Nat} (h : DkAt code pc [188, 4]) : decode code pc = .ok (.newarray .boolean, 2) := dk_of ((dk_bind (dk_u1 (h 0 _ rfl))).trans ((dk_bind (dk_u1 (h 1 _ rfl))).trans rfl))
theorem dk_188_8 {code : ByteArray} {pc : Nat} (h : DkAt code pc [188, 8]) : decode code pc = .ok (.newarray .byte, 2) := dk_of ((dk_bind (dk_u1 (h 0 _ rfl))).trans ((dk_bind (dk_u1 (h 1 _ rfl))).trans rfl))
theorem dk_188_9 {code : ByteArray} {pc : Nat} (h : DkAt code pc [188, 9]) : decode code pc = .ok (.newarray .short, 2) := dk_of ((dk_bind (dk_u1 (h 0 _ rfl))).trans ((dk_bind (dk_u1 (h 1 _ rfl))).trans rfl))
theorem dk_188_10 {code : ByteArray} {pc : Nat} (h : DkAt code pc [188, 10]) : decode code pc = .ok (.newarray .int, 2) := dk_of ((dk_bind (dk_u1 (h 0 _ rfl))).trans ((dk_bind (dk_u1 (h 1 _ rfl))).trans rfl))
theorem dk_189 {code : ByteArray} {pc : Nat} (a b : UInt8) (h : DkAt code pc [189, a, b]) : decode code pc = .ok (.anewarray (a.toNat * 256 + b.toNat), 3) := dk_of ((dk_bind (dk_u1 (h 0 _ rfl))).trans ((dk_bind (dk_u2 (h 1 _ rfl) (h 2 _ rfl))).trans rfl))
theorem dk_190 {code : ByteArray} {pc : Nat} (h : DkAt code pc [190]) : decode code pc = .ok (.arraylength, 1) := dk_of ((dk_bind (dk_u1 (h 0 _ rfl))).trans rfl)
theorem dk_191 {code : ByteArray} {pc : Nat} (h : DkAt code pc [191]) : decode code pc = .ok (.athrow, 1) := dk_of ((dk_bind (dk_u1 (h 0 _ rfl))).trans rfl)
theorem dk_192 {code : ByteArray} {pc : Nat} (a b : UInt8) (h : DkAt code pc [192, a, b]) : decode code pc = .ok (.checkcast (a.toNat * 256 + b.toNat), 3) := dk_of ((dk_bind (dk_u1 (h 0 _ rfl))).trans ((dk_bind (dk_u2 (h 1 _ rfl) (h 2 _ rfl))).trans rfl))
theorem dk_198 {code : ByteArray} {pc : Nat} (a b : UInt8) (h : DkAt code pc [198, a, b]) : decode code pc = .ok (.ifnull (Reader.signed 16 (a.toNat * 256 + b.toNat)), 3) := dk_of ((dk_bind (dk_u1 (h 0 _ rfl))).trans ((dk_bind (dk_map (dk_u2 (h 1 _ rfl) (h 2 _ rfl)))).trans rfl))
theorem dk_199 {code : ByteArray} {pc : Nat} (a b : UInt8) (h : DkAt code pc [199, a, b]) : decode code pc = .ok (.ifnonnull (Reader.signed 16 (a.toNat * 256 + b.toNat)), 3) := dk_of ((dk_bind (dk_u1 (h 0 _ rfl))).trans ((dk_bind (dk_map (dk_u2 (h 1 _ rfl) (h 2 _ rfl)))).trans rfl))
def TJ0 : u_T := fun k => match k with
  | 0 => ("java/lang/Throwable", "cause", "Ljava/lang/Throwable;", false)
  | 1 => ("java/lang/Throwable", "stackTrace", "[Ljava/lang/StackTraceElement;", false)
  | 2 => ("java/lang/Throwable", "suppressedExceptions", "Ljava/util/List;", false)
  | 3 => ("java/lang/Throwable", "detailMessage", "Ljava/lang/String;", false)
  | _ => ("java/lang/Throwable", "backtrace", "Ljava/lang/Object;", false)
def tyJ0 : Nat → FieldType := fun k => match k with
  | 0 => .object "java/lang/Throwable"
  | 1 => .array (.object "java/lang/StackTraceElement")
  | 2 => .object "java/util/List"
  | 3 => .object "java/lang/String"
  | _ => .object "java/lang/Object"
abbrev wsJ00 : List Cond := u_ws RJ0 TJ0 5
theorem nmJ0 : ∀ a, a < 5 → ∀ b, b < 5 → a ≠ b → (TJ0 a).2.1 ≠ (TJ0 b).2.1 := by decide +kernel
theorem tyJ0_ok : ∀ k, k < 5 → parseFieldDescriptor (TJ0 k).2.2.1 = some (tyJ0 k) := by decide +kernel
abbrev cJ0_init : ByteArray := prog_40_method_1_code
def yJ0_init : MethodName := ⟨RJ0, "<init>", "()V"⟩
def dkwJ0_init_1 : List UInt8 := [182, 0, 27, 87, 177]
abbrev dktJ0_init_1 : List UInt8 := dkwJ0_init_1 ++ []
def dkwJ0_init_0 : List UInt8 := [42, 183, 0, 1, 42, 42, 181, 0, 7, 42, 178, 0, 13, 181, 0, 17, 42, 178, 0, 20, 181, 0, 24, 42]
abbrev dktJ0_init_0 : List UInt8 := dkwJ0_init_0 ++ dktJ0_init_1
theorem dksJ0_init_0 : cJ0_init.data.toList.drop 0 = dktJ0_init_0 := by decide +kernel
theorem dksJ0_init_1 : cJ0_init.data.toList.drop 24 = dktJ0_init_1 := dk_seg dksJ0_init_0 24 rfl rfl
theorem dJ0_init_0 : decode cJ0_init 0 = .ok (.aload_n 0, 1) := dk_42 (dk_at dksJ0_init_0 0 rfl rfl)
theorem dJ0_init_1 : decode cJ0_init 1 = .ok (.invokespecial 1, 3) := dk_183 0 1 (dk_at dksJ0_init_0 1 rfl rfl)
theorem dJ0_init_4 : decode cJ0_init 4 = .ok (.aload_n 0, 1) := dk_42 (dk_at dksJ0_init_0 4 rfl rfl)
theorem dJ0_init_5 : decode cJ0_init 5 = .ok (.aload_n 0, 1) := dk_42 (dk_at dksJ0_init_0 5 rfl rfl)
theorem dJ0_init_6 : decode cJ0_init 6 = .ok (.putfield 7, 3) := dk_181 0 7 (dk_at dksJ0_init_0 6 rfl rfl)
theorem dJ0_init_9 : decode cJ0_init 9 = .ok (.aload_n 0, 1) := dk_42 (dk_at dksJ0_init_0 9 rfl rfl)
theorem dJ0_init_10 : decode cJ0_init 10 = .ok (.getstatic 13, 3) := dk_178 0 13 (dk_at dksJ0_init_0 10 rfl rfl)
theorem dJ0_init_13 : decode cJ0_init 13 = .ok (.putfield 17, 3) := dk_181 0 17 (dk_at dksJ0_init_0 13 rfl rfl)
theorem dJ0_init_16 : decode cJ0_init 16 = .ok (.aload_n 0, 1) := dk_42 (dk_at dksJ0_init_0 16 rfl rfl)
theorem dJ0_init_17 : decode cJ0_init 17 = .ok (.getstatic 20, 3) := dk_178 0 20 (dk_at dksJ0_init_0 17 rfl rfl)
theorem dJ0_init_20 : decode cJ0_init 20 = .ok (.putfield 24, 3) := dk_181 0 24 (dk_at dksJ0_init_0 20 rfl rfl)
theorem dJ0_init_23 : decode cJ0_init 23 = .ok (.aload_n 0, 1) := dk_42 (dk_at dksJ0_init_0 23 rfl rfl)
theorem dJ0_init_24 : decode cJ0_init 24 = .ok (.invokevirtual 27, 3) := dk_182 0 27 (dk_at dksJ0_init_1 0 rfl rfl)
theorem dJ0_init_27 : decode cJ0_init 27 = .ok (.pop, 1) := dk_87 (dk_at dksJ0_init_1 3 rfl rfl)
theorem dJ0_init_28 : decode cJ0_init 28 = .ok (.return_, 1) := dk_177 (dk_at dksJ0_init_1 4 rfl rfl)
abbrev cJ0_init_2 : ByteArray := prog_40_method_5_code
def yJ0_init_2 : MethodName := ⟨RJ0, "<init>", "(Ljava/lang/String;Ljava/lang/Throwable;ZZ)V"⟩
def dkwJ0_init_2_2 : List UInt8 := [44, 181, 0, 7, 29, 154, 0, 8, 42, 1, 181, 0, 24, 177]
abbrev dktJ0_init_2_2 : List UInt8 := dkwJ0_init_2_2 ++ []
def dkwJ0_init_2_1 : List UInt8 := [21, 4, 153, 0, 11, 42, 182, 0, 27, 87, 167, 0, 8, 42, 1, 181, 0, 17, 42, 43, 181, 0, 31, 42]
abbrev dktJ0_init_2_1 : List UInt8 := dkwJ0_init_2_1 ++ dktJ0_init_2_2
def dkwJ0_init_2_0 : List UInt8 := [42, 183, 0, 1, 42, 42, 181, 0, 7, 42, 178, 0, 13, 181, 0, 17, 42, 178, 0, 20, 181, 0, 24]
abbrev dktJ0_init_2_0 : List UInt8 := dkwJ0_init_2_0 ++ dktJ0_init_2_1
theorem dksJ0_init_2_0 : cJ0_init_2.data.toList.drop 0 = dktJ0_init_2_0 := by decide +kernel
theorem dksJ0_init_2_1 : cJ0_init_2.data.toList.drop 23 = dktJ0_init_2_1 := dk_seg dksJ0_init_2_0 23 rfl rfl
theorem dksJ0_init_2_2 : cJ0_init_2.data.toList.drop 47 = dktJ0_init_2_2 := dk_seg dksJ0_init_2_1 24 rfl rfl
theorem dJ0_init_2_0 : decode cJ0_init_2 0 = .ok (.aload_n 0, 1) := dk_42 (dk_at dksJ0_init_2_0 0 rfl rfl)
theorem dJ0_init_2_1 : decode cJ0_init_2 1 = .ok (.invokespecial 1, 3) := dk_183 0 1 (dk_at dksJ0_init_2_0 1 rfl rfl)
theorem dJ0_init_2_4 : decode cJ0_init_2 4 = .ok (.aload_n 0, 1) := dk_42 (dk_at dksJ0_init_2_0 4 rfl rfl)
theorem dJ0_init_2_5 : decode cJ0_init_2 5 = .ok (.aload_n 0, 1) := dk_42 (dk_at dksJ0_init_2_0 5 rfl rfl)
theorem dJ0_init_2_6 : decode cJ0_init_2 6 = .ok (.putfield 7, 3) := dk_181 0 7 (dk_at dksJ0_init_2_0 6 rfl rfl)
theorem dJ0_init_2_9 : decode cJ0_init_2 9 = .ok (.aload_n 0, 1) := dk_42 (dk_at dksJ0_init_2_0 9 rfl rfl)
theorem dJ0_init_2_10 : decode cJ0_init_2 10 = .ok (.getstatic 13, 3) := dk_178 0 13 (dk_at dksJ0_init_2_0 10 rfl rfl)
theorem dJ0_init_2_13 : decode cJ0_init_2 13 = .ok (.putfield 17, 3) := dk_181 0 17 (dk_at dksJ0_init_2_0 13 rfl rfl)
theorem dJ0_init_2_16 : decode cJ0_init_2 16 = .ok (.aload_n 0, 1) := dk_42 (dk_at dksJ0_init_2_0 16 rfl rfl)
theorem dJ0_init_2_17 : decode cJ0_init_2 17 = .ok (.getstatic 20, 3) := dk_178 0 20 (dk_at dksJ0_init_2_0 17 rfl rfl)
theorem dJ0_init_2_20 : decode cJ0_init_2 20 = .ok (.putfield 24, 3) := dk_181 0 24 (dk_at dksJ0_init_2_0 20 rfl rfl)
theorem dJ0_init_2_23 : decode cJ0_init_2 23 = .ok (.iload 4, 2) := dk_21 4 (dk_at dksJ0_init_2_1 0 rfl rfl)
theorem dJ0_init_2_25 : decode cJ0_init_2 25 = .ok (.ifCond .eq 11, 3) := dk_153 0 11 (dk_at dksJ0_init_2_1 2 rfl rfl)
theorem dJ0_init_2_28 : decode cJ0_init_2 28 = .ok (.aload_n 0, 1) := dk_42 (dk_at dksJ0_init_2_1 5 rfl rfl)
theorem dJ0_init_2_29 : decode cJ0_init_2 29 = .ok (.invokevirtual 27, 3) := dk_182 0 27 (dk_at dksJ0_init_2_1 6 rfl rfl)
theorem dJ0_init_2_32 : decode cJ0_init_2 32 = .ok (.pop, 1) := dk_87 (dk_at dksJ0_init_2_1 9 rfl rfl)
theorem dJ0_init_2_33 : decode cJ0_init_2 33 = .ok (.goto 8, 3) := dk_167 0 8 (dk_at dksJ0_init_2_1 10 rfl rfl)
theorem dJ0_init_2_36 : decode cJ0_init_2 36 = .ok (.aload_n 0, 1) := dk_42 (dk_at dksJ0_init_2_1 13 rfl rfl)
theorem dJ0_init_2_37 : decode cJ0_init_2 37 = .ok (.aconst_null, 1) := dk_1 (dk_at dksJ0_init_2_1 14 rfl rfl)
theorem dJ0_init_2_38 : decode cJ0_init_2 38 = .ok (.putfield 17, 3) := dk_181 0 17 (dk_at dksJ0_init_2_1 15 rfl rfl)
theorem dJ0_init_2_41 : decode cJ0_init_2 41 = .ok (.aload_n 0, 1) := dk_42 (dk_at dksJ0_init_2_1 18 rfl rfl)
theorem dJ0_init_2_42 : decode cJ0_init_2 42 = .ok (.aload_n 1, 1) := dk_43 (dk_at dksJ0_init_2_1 19 rfl rfl)
theorem dJ0_init_2_43 : decode cJ0_init_2 43 = .ok (.putfield 31, 3) := dk_181 0 31 (dk_at dksJ0_init_2_1 20 rfl rfl)
theorem dJ0_init_2_46 : decode cJ0_init_2 46 = .ok (.aload_n 0, 1) := dk_42 (dk_at dksJ0_init_2_1 23 rfl rfl)
theorem dJ0_init_2_47 : decode cJ0_init_2 47 = .ok (.aload_n 2, 1) := dk_44 (dk_at dksJ0_init_2_2 0 rfl rfl)
theorem dJ0_init_2_48 : decode cJ0_init_2 48 = .ok (.putfield 7, 3) := dk_181 0 7 (dk_at dksJ0_init_2_2 1 rfl rfl)
theorem dJ0_init_2_51 : decode cJ0_init_2 51 = .ok (.iload_n 3, 1) := dk_29 (dk_at dksJ0_init_2_2 4 rfl rfl)
theorem dJ0_init_2_52 : decode cJ0_init_2 52 = .ok (.ifCond .ne 8, 3) := dk_154 0 8 (dk_at dksJ0_init_2_2 5 rfl rfl)
theorem dJ0_init_2_55 : decode cJ0_init_2 55 = .ok (.aload_n 0, 1) := dk_42 (dk_at dksJ0_init_2_2 8 rfl rfl)
theorem dJ0_init_2_56 : decode cJ0_init_2 56 = .ok (.aconst_null, 1) := dk_1 (dk_at dksJ0_init_2_2 9 rfl rfl)
theorem dJ0_init_2_57 : decode cJ0_init_2 57 = .ok (.putfield 24, 3) := dk_181 0 24 (dk_at dksJ0_init_2_2 10 rfl rfl)
theorem dJ0_init_2_60 : decode cJ0_init_2 60 = .ok (.return_, 1) := dk_177 (dk_at dksJ0_init_2_2 13 rfl rfl)
theorem q83 : (Jvm.Cond.initialized "java/lang/Throwable") ∈ lw_all := lw_g (lw_at lw_m1 2 rfl) rfl
theorem q133 : (Jvm.Cond.declares ({ cls := "java/lang/Throwable", name := "<init>", desc := "()V" } : Jvm.MethodName)) ∈ lw_tbl := lw_at lw_m1 52 rfl
theorem q134 : (Jvm.Cond.declares ({ cls := "java/lang/Throwable", name := "<init>", desc := "(Ljava/lang/String;)V" } : Jvm.MethodName)) ∈ lw_tbl := lw_at lw_m1 53 rfl
theorem q138 : (Jvm.Cond.lays "java/lang/Throwable" "java/lang/Throwable" "cause" "Ljava/lang/Throwable;") ∈ lw_all := lw_g (lw_at lw_m1 57 rfl) rfl
theorem q140 : (Jvm.Cond.lays "java/lang/Throwable" "java/lang/Throwable" "stackTrace" "[Ljava/lang/StackTraceElement;") ∈ lw_all := lw_g (lw_at lw_m1 59 rfl) rfl
theorem q142 : (Jvm.Cond.lays "java/lang/Throwable" "java/lang/Throwable" "suppressedExceptions" "Ljava/util/List;") ∈ lw_all := lw_g (lw_at lw_m1 61 rfl) rfl
theorem q144 : (Jvm.Cond.lays "java/lang/Throwable" "java/lang/Throwable" "detailMessage" "Ljava/lang/String;") ∈ lw_all := lw_g (lw_at lw_m1 63 rfl) rfl
theorem q146 : (Jvm.Cond.lays "java/lang/Throwable" "java/lang/Throwable" "backtrace" "Ljava/lang/Object;") ∈ lw_all := lw_g (lw_at lw_m1 65 rfl) rfl
theorem q147 : (Jvm.Cond.fieldLink "java/lang/Throwable" (198 : Nat) "java/lang/Throwable" "backtrace" "Ljava/lang/Object;") ∈ lw_all := lw_g (lw_at lw_m1 66 rfl) rfl
theorem q148 : (Jvm.Cond.superclass "java/lang/Throwable" "java/lang/Object") ∈ lw_all := lw_g (lw_at lw_m1 67 rfl) rfl
theorem q149 : (Jvm.Cond.instanceMethod ({ cls := "java/lang/Throwable", name := "<init>", desc := "()V" } : Jvm.MethodName)) ∈ lw_all := lw_g (lw_at lw_m1 68 rfl) rfl
theorem q150 : (Jvm.Cond.code ({ cls := "java/lang/Throwable", name := "<init>", desc := "()V" } : Jvm.MethodName) prog_40_method_1_code (1 : Nat) (Option.none : Option Jvm.ClassFile.FieldType)) ∈ lw_all := lw_g (lw_at lw_m1 69 rfl) rfl
theorem q151 : (Jvm.Cond.methodLink "java/lang/Throwable" (1 : Nat) ({ cls := "java/lang/Object", name := "<init>", desc := "()V" } : Jvm.MethodName)) ∈ lw_all := lw_g (lw_at lw_m1 70 rfl) rfl
theorem q152 : (Jvm.Cond.fieldLink "java/lang/Throwable" (13 : Nat) "java/lang/Throwable" "UNASSIGNED_STACK" "[Ljava/lang/StackTraceElement;") ∈ lw_all := lw_g (lw_at lw_m1 71 rfl) rfl
theorem q153 : (Jvm.Cond.laysStatic "java/lang/Throwable" "UNASSIGNED_STACK" "[Ljava/lang/StackTraceElement;") ∈ lw_tbl := lw_at lw_m1 72 rfl
theorem q154 : (Jvm.Cond.fieldLink "java/lang/Throwable" (20 : Nat) "java/lang/Throwable" "SUPPRESSED_SENTINEL" "Ljava/util/List;") ∈ lw_all := lw_g (lw_at lw_m1 73 rfl) rfl
theorem q155 : (Jvm.Cond.laysStatic "java/lang/Throwable" "SUPPRESSED_SENTINEL" "Ljava/util/List;") ∈ lw_tbl := lw_at lw_m1 74 rfl
theorem q156 : (Jvm.Cond.methodLink "java/lang/Throwable" (27 : Nat) ({ cls := "java/lang/Throwable", name := "fillInStackTrace", desc := "()Ljava/lang/Throwable;" } : Jvm.MethodName)) ∈ lw_all := lw_g (lw_at lw_m1 75 rfl) rfl
theorem q157 : (Jvm.Cond.instanceMethod ({ cls := "java/lang/Throwable", name := "fillInStackTrace", desc := "()Ljava/lang/Throwable;" } : Jvm.MethodName)) ∈ lw_all := lw_g (lw_at lw_m1 76 rfl) rfl
theorem q158 : (Jvm.Cond.sameMethod "java/lang/Throwable" "java/lang/Throwable" "fillInStackTrace" "()Ljava/lang/Throwable;") ∈ lw_all := lw_g (lw_at lw_m1 77 rfl) rfl
theorem q160 : (Jvm.Cond.codeSync ({ cls := "java/lang/Throwable", name := "fillInStackTrace", desc := "()Ljava/lang/Throwable;" } : Jvm.MethodName) prog_40_method_18_code (1 : Nat) (Option.some (Jvm.ClassFile.FieldType.object "java/lang/Throwable"))) ∈ lw_all := lw_g (lw_at lw_m1 79 rfl) rfl
theorem q161 : (Jvm.Cond.methodLink "java/lang/Throwable" (202 : Nat) ({ cls := "java/lang/Throwable", name := "fillInStackTrace", desc := "(I)Ljava/lang/Throwable;" } : Jvm.MethodName)) ∈ lw_all := lw_g (lw_at lw_m1 80 rfl) rfl
theorem q162 : (Jvm.Cond.privateMethod ({ cls := "java/lang/Throwable", name := "fillInStackTrace", desc := "(I)Ljava/lang/Throwable;" } : Jvm.MethodName)) ∈ lw_tbl := lw_at lw_m1 81 rfl
theorem q163 : (Jvm.Cond.instanceMethod ({ cls := "java/lang/Throwable", name := "fillInStackTrace", desc := "(I)Ljava/lang/Throwable;" } : Jvm.MethodName)) ∈ lw_all := lw_g (lw_at lw_m1 82 rfl) rfl
theorem q164 : (Jvm.Cond.instantiable "java/lang/Throwable" (6 : Nat)) ∈ lw_all := lw_g (lw_at lw_m1 83 rfl) rfl
theorem q165 : (Jvm.Cond.native ({ cls := "java/lang/Throwable", name := "fillInStackTrace", desc := "(I)Ljava/lang/Throwable;" } : Jvm.MethodName)) ∈ lw_all := lw_g (lw_at lw_m1 84 rfl) rfl
theorem q176 : (Jvm.Cond.instanceMethod ({ cls := "java/lang/Throwable", name := "<init>", desc := "(Ljava/lang/String;Ljava/lang/Throwable;ZZ)V" } : Jvm.MethodName)) ∈ lw_all := lw_g (lw_at lw_m1 95 rfl) rfl
theorem q177 : (Jvm.Cond.code ({ cls := "java/lang/Throwable", name := "<init>", desc := "(Ljava/lang/String;Ljava/lang/Throwable;ZZ)V" } : Jvm.MethodName) prog_40_method_5_code (5 : Nat) (Option.none : Option Jvm.ClassFile.FieldType)) ∈ lw_all := lw_g (lw_at lw_m1 96 rfl) rfl
theorem q180 : (Jvm.Cond.fieldLink "java/lang/Throwable" (198 : Nat) "java/lang/Throwable" "backtrace" "Ljava/lang/Object;") ∈ lw_all := lw_g (lw_at lw_m1 99 rfl) rfl
theorem q181 : (Jvm.Cond.fieldLink "java/lang/Throwable" (31 : Nat) "java/lang/Throwable" "detailMessage" "Ljava/lang/String;") ∈ lw_all := lw_g (lw_at lw_m1 100 rfl) rfl
theorem q182 : (Jvm.Cond.fieldLink "java/lang/Throwable" (7 : Nat) "java/lang/Throwable" "cause" "Ljava/lang/Throwable;") ∈ lw_all := lw_g (lw_at lw_m1 101 rfl) rfl
theorem q183 : (Jvm.Cond.fieldLink "java/lang/Throwable" (17 : Nat) "java/lang/Throwable" "stackTrace" "[Ljava/lang/StackTraceElement;") ∈ lw_all := lw_g (lw_at lw_m1 102 rfl) rfl
theorem q184 : (Jvm.Cond.fieldLink "java/lang/Throwable" (24 : Nat) "java/lang/Throwable" "suppressedExceptions" "Ljava/util/List;") ∈ lw_all := lw_g (lw_at lw_m1 103 rfl) rfl
theorem q187 : (Jvm.Cond.soleField "java/lang/Throwable" "backtrace") ∈ lw_all := lw_g (lw_at lw_m1 106 rfl) rfl
theorem q188 : (Jvm.Cond.soleField "java/lang/Throwable" "detailMessage") ∈ lw_all := lw_g (lw_at lw_m1 107 rfl) rfl
theorem q189 : (Jvm.Cond.soleField "java/lang/Throwable" "cause") ∈ lw_all := lw_g (lw_at lw_m1 108 rfl) rfl
theorem q190 : (Jvm.Cond.soleField "java/lang/Throwable" "stackTrace") ∈ lw_all := lw_g (lw_at lw_m1 109 rfl) rfl
theorem q192 : (Jvm.Cond.soleField "java/lang/Throwable" "depth") ∈ lw_all := lw_g (lw_at lw_m1 111 rfl) rfl
theorem q193 : (Jvm.Cond.soleField "java/lang/Throwable" "suppressedExceptions") ∈ lw_all := lw_g (lw_at lw_m1 112 rfl) rfl
theorem q1872 : (Jvm.Cond.sameMethod "java/lang/Throwable" "java/lang/Throwable" "fillInStackTrace" "(I)Ljava/lang/Throwable;") ∈ lw_all := lw_g (lw_at lw_m8 111 rfl) rfl
theorem in_J0 : ∀ w ∈ wsJ00, w ∈ lw_all := lw_in wsJ00 [138, 140, 142, 144, 146] (by decide +kernel) (by decide +kernel)
abbrev cJ1_init : ByteArray := prog_32_method_5_code
def yJ1_init : MethodName := ⟨RJ1, "<init>", "(Ljava/lang/String;Ljava/lang/Throwable;ZZ)V"⟩
def dkwJ1_init_0 : List UInt8 := [42, 43, 44, 29, 21, 4, 183, 0, 16, 177]
abbrev dktJ1_init_0 : List UInt8 := dkwJ1_init_0 ++ []
theorem dksJ1_init_0 : cJ1_init.data.toList.drop 0 = dktJ1_init_0 := by decide +kernel
theorem dJ1_init_0 : decode cJ1_init 0 = .ok (.aload_n 0, 1) := dk_42 (dk_at dksJ1_init_0 0 rfl rfl)
theorem dJ1_init_1 : decode cJ1_init 1 = .ok (.aload_n 1, 1) := dk_43 (dk_at dksJ1_init_0 1 rfl rfl)
theorem dJ1_init_2 : decode cJ1_init 2 = .ok (.aload_n 2, 1) := dk_44 (dk_at dksJ1_init_0 2 rfl rfl)
theorem dJ1_init_3 : decode cJ1_init 3 = .ok (.iload_n 3, 1) := dk_29 (dk_at dksJ1_init_0 3 rfl rfl)
theorem dJ1_init_4 : decode cJ1_init 4 = .ok (.iload 4, 2) := dk_21 4 (dk_at dksJ1_init_0 4 rfl rfl)
theorem dJ1_init_6 : decode cJ1_init 6 = .ok (.invokespecial 16, 3) := dk_183 0 16 (dk_at dksJ1_init_0 6 rfl rfl)
theorem dJ1_init_9 : decode cJ1_init 9 = .ok (.return_, 1) := dk_177 (dk_at dksJ1_init_0 9 rfl rfl)
theorem q84 : (Jvm.Cond.initialized "java/lang/Exception") ∈ lw_all := lw_g (lw_at lw_m1 3 rfl) rfl
theorem q131 : (Jvm.Cond.declares ({ cls := "java/lang/Exception", name := "<init>", desc := "()V" } : Jvm.MethodName)) ∈ lw_tbl := lw_at lw_m1 50 rfl
theorem q132 : (Jvm.Cond.declares ({ cls := "java/lang/Exception", name := "<init>", desc := "(Ljava/lang/String;)V" } : Jvm.MethodName)) ∈ lw_tbl := lw_at lw_m1 51 rfl
theorem q173 : (Jvm.Cond.instanceMethod ({ cls := "java/lang/Exception", name := "<init>", desc := "(Ljava/lang/String;Ljava/lang/Throwable;ZZ)V" } : Jvm.MethodName)) ∈ lw_all := lw_g (lw_at lw_m1 92 rfl) rfl
theorem q174 : (Jvm.Cond.code ({ cls := "java/lang/Exception", name := "<init>", desc := "(Ljava/lang/String;Ljava/lang/Throwable;ZZ)V" } : Jvm.MethodName) prog_32_method_5_code (5 : Nat) (Option.none : Option Jvm.ClassFile.FieldType)) ∈ lw_all := lw_g (lw_at lw_m1 93 rfl) rfl
theorem q175 : (Jvm.Cond.methodLink "java/lang/Exception" (16 : Nat) ({ cls := "java/lang/Throwable", name := "<init>", desc := "(Ljava/lang/String;Ljava/lang/Throwable;ZZ)V" } : Jvm.MethodName)) ∈ lw_all := lw_g (lw_at lw_m1 94 rfl) rfl
abbrev cJ2_init : ByteArray := prog_35_method_5_code
def yJ2_init : MethodName := ⟨RJ2, "<init>", "(Ljava/lang/String;Ljava/lang/Throwable;ZZ)V"⟩
def dkwJ2_init_0 : List UInt8 := [42, 43, 44, 29, 21, 4, 183, 0, 16, 177]
abbrev dktJ2_init_0 : List UInt8 := dkwJ2_init_0 ++ []
theorem dksJ2_init_0 : cJ2_init.data.toList.drop 0 = dktJ2_init_0 := by decide +kernel
theorem dJ2_init_0 : decode cJ2_init 0 = .ok (.aload_n 0, 1) := dk_42 (dk_at dksJ2_init_0 0 rfl rfl)
theorem dJ2_init_1 : decode cJ2_init 1 = .ok (.aload_n 1, 1) := dk_43 (dk_at dksJ2_init_0 1 rfl rfl)
theorem dJ2_init_2 : decode cJ2_init 2 = .ok (.aload_n 2, 1) := dk_44 (dk_at dksJ2_init_0 2 rfl rfl)
theorem dJ2_init_3 : decode cJ2_init 3 = .ok (.iload_n 3, 1) := dk_29 (dk_at dksJ2_init_0 3 rfl rfl)
theorem dJ2_init_4 : decode cJ2_init 4 = .ok (.iload 4, 2) := dk_21 4 (dk_at dksJ2_init_0 4 rfl rfl)
theorem dJ2_init_6 : decode cJ2_init 6 = .ok (.invokespecial 16, 3) := dk_183 0 16 (dk_at dksJ2_init_0 6 rfl rfl)
theorem dJ2_init_9 : decode cJ2_init 9 = .ok (.return_, 1) := dk_177 (dk_at dksJ2_init_0 9 rfl rfl)
theorem q85 : (Jvm.Cond.initialized "java/lang/RuntimeException") ∈ lw_all := lw_g (lw_at lw_m1 4 rfl) rfl
theorem q129 : (Jvm.Cond.declares ({ cls := "java/lang/RuntimeException", name := "<init>", desc := "()V" } : Jvm.MethodName)) ∈ lw_tbl := lw_at lw_m1 48 rfl
theorem q130 : (Jvm.Cond.declares ({ cls := "java/lang/RuntimeException", name := "<init>", desc := "(Ljava/lang/String;)V" } : Jvm.MethodName)) ∈ lw_tbl := lw_at lw_m1 49 rfl
theorem q170 : (Jvm.Cond.instanceMethod ({ cls := "java/lang/RuntimeException", name := "<init>", desc := "(Ljava/lang/String;Ljava/lang/Throwable;ZZ)V" } : Jvm.MethodName)) ∈ lw_all := lw_g (lw_at lw_m1 89 rfl) rfl
theorem q171 : (Jvm.Cond.code ({ cls := "java/lang/RuntimeException", name := "<init>", desc := "(Ljava/lang/String;Ljava/lang/Throwable;ZZ)V" } : Jvm.MethodName) prog_35_method_5_code (5 : Nat) (Option.none : Option Jvm.ClassFile.FieldType)) ∈ lw_all := lw_g (lw_at lw_m1 90 rfl) rfl
theorem q172 : (Jvm.Cond.methodLink "java/lang/RuntimeException" (16 : Nat) ({ cls := "java/lang/Exception", name := "<init>", desc := "(Ljava/lang/String;Ljava/lang/Throwable;ZZ)V" } : Jvm.MethodName)) ∈ lw_all := lw_g (lw_at lw_m1 91 rfl) rfl
abbrev cJ3_min : ByteArray := prog_34_method_69_code
def yJ3_min : MethodName := ⟨RJ3, "min", "(II)I"⟩
def dkwJ3_min_0 : List UInt8 := [26, 27, 163, 0, 7, 26, 167, 0, 4, 27, 172]
abbrev dktJ3_min_0 : List UInt8 := dkwJ3_min_0 ++ []
theorem dksJ3_min_0 : cJ3_min.data.toList.drop 0 = dktJ3_min_0 := by decide +kernel
theorem dJ3_min_0 : decode cJ3_min 0 = .ok (.iload_n 0, 1) := dk_26 (dk_at dksJ3_min_0 0 rfl rfl)
theorem dJ3_min_1 : decode cJ3_min 1 = .ok (.iload_n 1, 1) := dk_27 (dk_at dksJ3_min_0 1 rfl rfl)
theorem dJ3_min_2 : decode cJ3_min 2 = .ok (.if_icmp .gt 7, 3) := dk_163 0 7 (dk_at dksJ3_min_0 2 rfl rfl)
theorem dJ3_min_5 : decode cJ3_min 5 = .ok (.iload_n 0, 1) := dk_26 (dk_at dksJ3_min_0 5 rfl rfl)
theorem dJ3_min_6 : decode cJ3_min 6 = .ok (.goto 4, 3) := dk_167 0 4 (dk_at dksJ3_min_0 6 rfl rfl)
theorem dJ3_min_9 : decode cJ3_min 9 = .ok (.iload_n 1, 1) := dk_27 (dk_at dksJ3_min_0 9 rfl rfl)
theorem dJ3_min_10 : decode cJ3_min 10 = .ok (.ireturn, 1) := dk_172 (dk_at dksJ3_min_0 10 rfl rfl)
abbrev cJ3_max : ByteArray := prog_34_method_65_code
def yJ3_max : MethodName := ⟨RJ3, "max", "(II)I"⟩
def dkwJ3_max_0 : List UInt8 := [26, 27, 161, 0, 7, 26, 167, 0, 4, 27, 172]
abbrev dktJ3_max_0 : List UInt8 := dkwJ3_max_0 ++ []
theorem dksJ3_max_0 : cJ3_max.data.toList.drop 0 = dktJ3_max_0 := by decide +kernel
theorem dJ3_max_0 : decode cJ3_max 0 = .ok (.iload_n 0, 1) := dk_26 (dk_at dksJ3_max_0 0 rfl rfl)
theorem dJ3_max_1 : decode cJ3_max 1 = .ok (.iload_n 1, 1) := dk_27 (dk_at dksJ3_max_0 1 rfl rfl)
theorem dJ3_max_2 : decode cJ3_max 2 = .ok (.if_icmp .lt 7, 3) := dk_161 0 7 (dk_at dksJ3_max_0 2 rfl rfl)
theorem dJ3_max_5 : decode cJ3_max 5 = .ok (.iload_n 0, 1) := dk_26 (dk_at dksJ3_max_0 5 rfl rfl)
theorem dJ3_max_6 : decode cJ3_max 6 = .ok (.goto 4, 3) := dk_167 0 4 (dk_at dksJ3_max_0 6 rfl rfl)
theorem dJ3_max_9 : decode cJ3_max 9 = .ok (.iload_n 1, 1) := dk_27 (dk_at dksJ3_max_0 9 rfl rfl)
theorem dJ3_max_10 : decode cJ3_max 10 = .ok (.ireturn, 1) := dk_172 (dk_at dksJ3_max_0 10 rfl rfl)
abbrev cJ3_abs : ByteArray := prog_34_method_59_code
def yJ3_abs : MethodName := ⟨RJ3, "abs", "(I)I"⟩
def dkwJ3_abs_0 : List UInt8 := [26, 156, 0, 8, 26, 116, 167, 0, 4, 26, 172]
abbrev dktJ3_abs_0 : List UInt8 := dkwJ3_abs_0 ++ []
theorem dksJ3_abs_0 : cJ3_abs.data.toList.drop 0 = dktJ3_abs_0 := by decide +kernel
theorem dJ3_abs_0 : decode cJ3_abs 0 = .ok (.iload_n 0, 1) := dk_26 (dk_at dksJ3_abs_0 0 rfl rfl)
theorem dJ3_abs_1 : decode cJ3_abs 1 = .ok (.ifCond .ge 8, 3) := dk_156 0 8 (dk_at dksJ3_abs_0 1 rfl rfl)
theorem dJ3_abs_4 : decode cJ3_abs 4 = .ok (.iload_n 0, 1) := dk_26 (dk_at dksJ3_abs_0 4 rfl rfl)
theorem dJ3_abs_5 : decode cJ3_abs 5 = .ok (.ineg, 1) := dk_116 (dk_at dksJ3_abs_0 5 rfl rfl)
theorem dJ3_abs_6 : decode cJ3_abs 6 = .ok (.goto 4, 3) := dk_167 0 4 (dk_at dksJ3_abs_0 6 rfl rfl)
theorem dJ3_abs_9 : decode cJ3_abs 9 = .ok (.iload_n 0, 1) := dk_26 (dk_at dksJ3_abs_0 9 rfl rfl)
theorem dJ3_abs_10 : decode cJ3_abs 10 = .ok (.ireturn, 1) := dk_172 (dk_at dksJ3_abs_0 10 rfl rfl)
theorem q101 : (Jvm.Cond.initialized "java/lang/Math") ∈ lw_all := lw_g (lw_at lw_m1 20 rfl) rfl
theorem q580 : (Jvm.Cond.static ({ cls := "java/lang/Math", name := "min", desc := "(II)I" } : Jvm.MethodName)) ∈ lw_all := lw_g (lw_at lw_m3 19 rfl) rfl
theorem q581 : (Jvm.Cond.code ({ cls := "java/lang/Math", name := "min", desc := "(II)I" } : Jvm.MethodName) prog_34_method_69_code (2 : Nat) (Option.some Jvm.ClassFile.FieldType.int)) ∈ lw_all := lw_g (lw_at lw_m3 20 rfl) rfl
theorem q583 : (Jvm.Cond.static ({ cls := "java/lang/Math", name := "max", desc := "(II)I" } : Jvm.MethodName)) ∈ lw_all := lw_g (lw_at lw_m3 22 rfl) rfl
theorem q584 : (Jvm.Cond.code ({ cls := "java/lang/Math", name := "max", desc := "(II)I" } : Jvm.MethodName) prog_34_method_65_code (2 : Nat) (Option.some Jvm.ClassFile.FieldType.int)) ∈ lw_all := lw_g (lw_at lw_m3 23 rfl) rfl
theorem q1049 : (Jvm.Cond.static ({ cls := "java/lang/Math", name := "abs", desc := "(I)I" } : Jvm.MethodName)) ∈ lw_all := lw_g (lw_at lw_m5 8 rfl) rfl
theorem q1050 : (Jvm.Cond.code ({ cls := "java/lang/Math", name := "abs", desc := "(I)I" } : Jvm.MethodName) prog_34_method_59_code (1 : Nat) (Option.some Jvm.ClassFile.FieldType.int)) ∈ lw_all := lw_g (lw_at lw_m5 9 rfl) rfl
abbrev cJ4_indexOf : ByteArray := prog_36_method_79_code
def yJ4_indexOf : MethodName := ⟨RJ4, "indexOf", "(I)I"⟩
def dkwJ4_indexOf_0 : List UInt8 := [42, 27, 3, 182, 2, 121, 172]
abbrev dktJ4_indexOf_0 : List UInt8 := dkwJ4_indexOf_0 ++ []
theorem dksJ4_indexOf_0 : cJ4_indexOf.data.toList.drop 0 = dktJ4_indexOf_0 := by decide +kernel
theorem dJ4_indexOf_0 : decode cJ4_indexOf 0 = .ok (.aload_n 0, 1) := dk_42 (dk_at dksJ4_indexOf_0 0 rfl rfl)
theorem dJ4_indexOf_1 : decode cJ4_indexOf 1 = .ok (.iload_n 1, 1) := dk_27 (dk_at dksJ4_indexOf_0 1 rfl rfl)
theorem dJ4_indexOf_2 : decode cJ4_indexOf 2 = .ok (.iconst 0, 1) := dk_3 (dk_at dksJ4_indexOf_0 2 rfl rfl)
theorem dJ4_indexOf_3 : decode cJ4_indexOf 3 = .ok (.invokevirtual 633, 3) := dk_182 2 121 (dk_at dksJ4_indexOf_0 3 rfl rfl)
theorem dJ4_indexOf_6 : decode cJ4_indexOf 6 = .ok (.ireturn, 1) := dk_172 (dk_at dksJ4_indexOf_0 6 rfl rfl)
abbrev cJ4_indexOf_2 : ByteArray := prog_36_method_80_code
def yJ4_indexOf_2 : MethodName := ⟨RJ4, "indexOf", "(II)I"⟩
def dkwJ4_indexOf_2_1 : List UInt8 := [180, 0, 9, 27, 28, 42, 182, 1, 249, 184, 2, 128, 172]
abbrev dktJ4_indexOf_2_1 : List UInt8 := dkwJ4_indexOf_2_1 ++ []
def dkwJ4_indexOf_2_0 : List UInt8 := [42, 182, 1, 236, 153, 0, 19, 42, 180, 0, 9, 27, 28, 42, 182, 1, 249, 184, 2, 125, 167, 0, 16, 42]
abbrev dktJ4_indexOf_2_0 : List UInt8 := dkwJ4_indexOf_2_0 ++ dktJ4_indexOf_2_1
theorem dksJ4_indexOf_2_0 : cJ4_indexOf_2.data.toList.drop 0 = dktJ4_indexOf_2_0 := by decide +kernel
theorem dksJ4_indexOf_2_1 : cJ4_indexOf_2.data.toList.drop 24 = dktJ4_indexOf_2_1 := dk_seg dksJ4_indexOf_2_0 24 rfl rfl
theorem dJ4_indexOf_2_0 : decode cJ4_indexOf_2 0 = .ok (.aload_n 0, 1) := dk_42 (dk_at dksJ4_indexOf_2_0 0 rfl rfl)
theorem dJ4_indexOf_2_1 : decode cJ4_indexOf_2 1 = .ok (.invokevirtual 492, 3) := dk_182 1 236 (dk_at dksJ4_indexOf_2_0 1 rfl rfl)
theorem dJ4_indexOf_2_4 : decode cJ4_indexOf_2 4 = .ok (.ifCond .eq 19, 3) := dk_153 0 19 (dk_at dksJ4_indexOf_2_0 4 rfl rfl)
theorem dJ4_indexOf_2_7 : decode cJ4_indexOf_2 7 = .ok (.aload_n 0, 1) := dk_42 (dk_at dksJ4_indexOf_2_0 7 rfl rfl)
theorem dJ4_indexOf_2_8 : decode cJ4_indexOf_2 8 = .ok (.getfield 9, 3) := dk_180 0 9 (dk_at dksJ4_indexOf_2_0 8 rfl rfl)
theorem dJ4_indexOf_2_11 : decode cJ4_indexOf_2 11 = .ok (.iload_n 1, 1) := dk_27 (dk_at dksJ4_indexOf_2_0 11 rfl rfl)
theorem dJ4_indexOf_2_12 : decode cJ4_indexOf_2 12 = .ok (.iload_n 2, 1) := dk_28 (dk_at dksJ4_indexOf_2_0 12 rfl rfl)
theorem dJ4_indexOf_2_13 : decode cJ4_indexOf_2 13 = .ok (.aload_n 0, 1) := dk_42 (dk_at dksJ4_indexOf_2_0 13 rfl rfl)
theorem dJ4_indexOf_2_14 : decode cJ4_indexOf_2 14 = .ok (.invokevirtual 505, 3) := dk_182 1 249 (dk_at dksJ4_indexOf_2_0 14 rfl rfl)
theorem dJ4_indexOf_2_17 : decode cJ4_indexOf_2 17 = .ok (.invokestatic 637, 3) := dk_184 2 125 (dk_at dksJ4_indexOf_2_0 17 rfl rfl)
theorem dJ4_indexOf_2_20 : decode cJ4_indexOf_2 20 = .ok (.goto 16, 3) := dk_167 0 16 (dk_at dksJ4_indexOf_2_0 20 rfl rfl)
theorem dJ4_indexOf_2_23 : decode cJ4_indexOf_2 23 = .ok (.aload_n 0, 1) := dk_42 (dk_at dksJ4_indexOf_2_0 23 rfl rfl)
theorem dJ4_indexOf_2_24 : decode cJ4_indexOf_2 24 = .ok (.getfield 9, 3) := dk_180 0 9 (dk_at dksJ4_indexOf_2_1 0 rfl rfl)
theorem dJ4_indexOf_2_27 : decode cJ4_indexOf_2 27 = .ok (.iload_n 1, 1) := dk_27 (dk_at dksJ4_indexOf_2_1 3 rfl rfl)
theorem dJ4_indexOf_2_28 : decode cJ4_indexOf_2 28 = .ok (.iload_n 2, 1) := dk_28 (dk_at dksJ4_indexOf_2_1 4 rfl rfl)
theorem dJ4_indexOf_2_29 : decode cJ4_indexOf_2 29 = .ok (.aload_n 0, 1) := dk_42 (dk_at dksJ4_indexOf_2_1 5 rfl rfl)
theorem dJ4_indexOf_2_30 : decode cJ4_indexOf_2 30 = .ok (.invokevirtual 505, 3) := dk_182 1 249 (dk_at dksJ4_indexOf_2_1 6 rfl rfl)
theorem dJ4_indexOf_2_33 : decode cJ4_indexOf_2 33 = .ok (.invokestatic 640, 3) := dk_184 2 128 (dk_at dksJ4_indexOf_2_1 9 rfl rfl)
theorem dJ4_indexOf_2_36 : decode cJ4_indexOf_2 36 = .ok (.ireturn, 1) := dk_172 (dk_at dksJ4_indexOf_2_1 12 rfl rfl)
abbrev cJ4_isLatin1 : ByteArray := prog_36_method_154_code
def yJ4_isLatin1 : MethodName := ⟨RJ4, "isLatin1", "()Z"⟩
def dkwJ4_isLatin1_0 : List UInt8 := [178, 0, 38, 153, 0, 14, 42, 180, 0, 15, 154, 0, 7, 4, 167, 0, 4, 3, 172]
abbrev dktJ4_isLatin1_0 : List UInt8 := dkwJ4_isLatin1_0 ++ []
theorem dksJ4_isLatin1_0 : cJ4_isLatin1.data.toList.drop 0 = dktJ4_isLatin1_0 := by decide +kernel
theorem dJ4_isLatin1_0 : decode cJ4_isLatin1 0 = .ok (.getstatic 38, 3) := dk_178 0 38 (dk_at dksJ4_isLatin1_0 0 rfl rfl)
theorem dJ4_isLatin1_3 : decode cJ4_isLatin1 3 = .ok (.ifCond .eq 14, 3) := dk_153 0 14 (dk_at dksJ4_isLatin1_0 3 rfl rfl)
theorem dJ4_isLatin1_6 : decode cJ4_isLatin1 6 = .ok (.aload_n 0, 1) := dk_42 (dk_at dksJ4_isLatin1_0 6 rfl rfl)
theorem dJ4_isLatin1_7 : decode cJ4_isLatin1 7 = .ok (.getfield 15, 3) := dk_180 0 15 (dk_at dksJ4_isLatin1_0 7 rfl rfl)
theorem dJ4_isLatin1_10 : decode cJ4_isLatin1 10 = .ok (.ifCond .ne 7, 3) := dk_154 0 7 (dk_at dksJ4_isLatin1_0 10 rfl rfl)
theorem dJ4_isLatin1_13 : decode cJ4_isLatin1 13 = .ok (.iconst 1, 1) := dk_4 (dk_at dksJ4_isLatin1_0 13 rfl rfl)
theorem dJ4_isLatin1_14 : decode cJ4_isLatin1 14 = .ok (.goto 4, 3) := dk_167 0 4 (dk_at dksJ4_isLatin1_0 14 rfl rfl)
theorem dJ4_isLatin1_17 : decode cJ4_isLatin1 17 = .ok (.iconst 0, 1) := dk_3 (dk_at dksJ4_isLatin1_0 17 rfl rfl)
theorem dJ4_isLatin1_18 : decode cJ4_isLatin1 18 = .ok (.ireturn, 1) := dk_172 (dk_at dksJ4_isLatin1_0 18 rfl rfl)
abbrev cJ4_length : ByteArray := prog_36_method_54_code
def yJ4_length : MethodName := ⟨RJ4, "length", "()I"⟩
def dkwJ4_length_0 : List UInt8 := [42, 180, 0, 9, 190, 42, 182, 1, 79, 122, 172]
abbrev dktJ4_length_0 : List UInt8 := dkwJ4_length_0 ++ []
theorem dksJ4_length_0 : cJ4_length.data.toList.drop 0 = dktJ4_length_0 := by decide +kernel
theorem dJ4_length_0 : decode cJ4_length 0 = .ok (.aload_n 0, 1) := dk_42 (dk_at dksJ4_length_0 0 rfl rfl)
theorem dJ4_length_1 : decode cJ4_length 1 = .ok (.getfield 9, 3) := dk_180 0 9 (dk_at dksJ4_length_0 1 rfl rfl)
theorem dJ4_length_4 : decode cJ4_length 4 = .ok (.arraylength, 1) := dk_190 (dk_at dksJ4_length_0 4 rfl rfl)
theorem dJ4_length_5 : decode cJ4_length 5 = .ok (.aload_n 0, 1) := dk_42 (dk_at dksJ4_length_0 5 rfl rfl)
theorem dJ4_length_6 : decode cJ4_length 6 = .ok (.invokevirtual 335, 3) := dk_182 1 79 (dk_at dksJ4_length_0 6 rfl rfl)
theorem dJ4_length_9 : decode cJ4_length 9 = .ok (.ishr, 1) := dk_122 (dk_at dksJ4_length_0 9 rfl rfl)
theorem dJ4_length_10 : decode cJ4_length 10 = .ok (.ireturn, 1) := dk_172 (dk_at dksJ4_length_0 10 rfl rfl)
abbrev cJ4_coder : ByteArray := prog_36_method_152_code
def yJ4_coder : MethodName := ⟨RJ4, "coder", "()B"⟩
def dkwJ4_coder_0 : List UInt8 := [178, 0, 38, 153, 0, 10, 42, 180, 0, 15, 167, 0, 4, 4, 172]
abbrev dktJ4_coder_0 : List UInt8 := dkwJ4_coder_0 ++ []
theorem dksJ4_coder_0 : cJ4_coder.data.toList.drop 0 = dktJ4_coder_0 := by decide +kernel
theorem dJ4_coder_0 : decode cJ4_coder 0 = .ok (.getstatic 38, 3) := dk_178 0 38 (dk_at dksJ4_coder_0 0 rfl rfl)
theorem dJ4_coder_3 : decode cJ4_coder 3 = .ok (.ifCond .eq 10, 3) := dk_153 0 10 (dk_at dksJ4_coder_0 3 rfl rfl)
theorem dJ4_coder_6 : decode cJ4_coder 6 = .ok (.aload_n 0, 1) := dk_42 (dk_at dksJ4_coder_0 6 rfl rfl)
theorem dJ4_coder_7 : decode cJ4_coder 7 = .ok (.getfield 15, 3) := dk_180 0 15 (dk_at dksJ4_coder_0 7 rfl rfl)
theorem dJ4_coder_10 : decode cJ4_coder 10 = .ok (.goto 4, 3) := dk_167 0 4 (dk_at dksJ4_coder_0 10 rfl rfl)
theorem dJ4_coder_13 : decode cJ4_coder 13 = .ok (.iconst 1, 1) := dk_4 (dk_at dksJ4_coder_0 13 rfl rfl)
theorem dJ4_coder_14 : decode cJ4_coder 14 = .ok (.ireturn, 1) := dk_172 (dk_at dksJ4_coder_0 14 rfl rfl)
abbrev cJ4_checkBoundsBeginEnd : ByteArray := prog_36_method_158_code
def yJ4_checkBoundsBeginEnd : MethodName := ⟨RJ4, "checkBoundsBeginEnd", "(III)V"⟩
def dkwJ4_checkBoundsBeginEnd_0 : List UInt8 := [26, 27, 28, 178, 4, 29, 184, 4, 38, 87, 177]
abbrev dktJ4_checkBoundsBeginEnd_0 : List UInt8 := dkwJ4_checkBoundsBeginEnd_0 ++ []
theorem dksJ4_checkBoundsBeginEnd_0 : cJ4_checkBoundsBeginEnd.data.toList.drop 0 = dktJ4_checkBoundsBeginEnd_0 := by decide +kernel
theorem dJ4_checkBoundsBeginEnd_0 : decode cJ4_checkBoundsBeginEnd 0 = .ok (.iload_n 0, 1) := dk_26 (dk_at dksJ4_checkBoundsBeginEnd_0 0 rfl rfl)
theorem dJ4_checkBoundsBeginEnd_1 : decode cJ4_checkBoundsBeginEnd 1 = .ok (.iload_n 1, 1) := dk_27 (dk_at dksJ4_checkBoundsBeginEnd_0 1 rfl rfl)
theorem dJ4_checkBoundsBeginEnd_2 : decode cJ4_checkBoundsBeginEnd 2 = .ok (.iload_n 2, 1) := dk_28 (dk_at dksJ4_checkBoundsBeginEnd_0 2 rfl rfl)
theorem dJ4_checkBoundsBeginEnd_3 : decode cJ4_checkBoundsBeginEnd 3 = .ok (.getstatic 1053, 3) := dk_178 4 29 (dk_at dksJ4_checkBoundsBeginEnd_0 3 rfl rfl)
theorem dJ4_checkBoundsBeginEnd_6 : decode cJ4_checkBoundsBeginEnd 6 = .ok (.invokestatic 1062, 3) := dk_184 4 38 (dk_at dksJ4_checkBoundsBeginEnd_0 6 rfl rfl)
theorem dJ4_checkBoundsBeginEnd_9 : decode cJ4_checkBoundsBeginEnd 9 = .ok (.pop, 1) := dk_87 (dk_at dksJ4_checkBoundsBeginEnd_0 9 rfl rfl)
theorem dJ4_checkBoundsBeginEnd_10 : decode cJ4_checkBoundsBeginEnd 10 = .ok (.return_, 1) := dk_177 (dk_at dksJ4_checkBoundsBeginEnd_0 10 rfl rfl)
theorem q103 : (Jvm.Cond.initialized "java/lang/String") ∈ lw_all := lw_g (lw_at lw_m1 22 rfl) rfl
theorem q708 : (Jvm.Cond.instanceMethod ({ cls := "java/lang/String", name := "indexOf", desc := "(I)I" } : Jvm.MethodName)) ∈ lw_all := lw_g (lw_at lw_m3 147 rfl) rfl
theorem q709 : (Jvm.Cond.selects "java/lang/String" ({ cls := "java/lang/String", name := "indexOf", desc := "(I)I" } : Jvm.MethodName) ({ cls := "java/lang/String", name := "indexOf", desc := "(I)I" } : Jvm.MethodName)) ∈ lw_all := lw_g (lw_at lw_m3 148 rfl) rfl
theorem q710 : (Jvm.Cond.code ({ cls := "java/lang/String", name := "indexOf", desc := "(I)I" } : Jvm.MethodName) prog_36_method_79_code (2 : Nat) (Option.some Jvm.ClassFile.FieldType.int)) ∈ lw_all := lw_g (lw_at lw_m3 149 rfl) rfl
theorem q711 : (Jvm.Cond.methodLink "java/lang/String" (633 : Nat) ({ cls := "java/lang/String", name := "indexOf", desc := "(II)I" } : Jvm.MethodName)) ∈ lw_all := lw_g (lw_at lw_m3 150 rfl) rfl
theorem q712 : (Jvm.Cond.instanceMethod ({ cls := "java/lang/String", name := "indexOf", desc := "(II)I" } : Jvm.MethodName)) ∈ lw_all := lw_g (lw_at lw_m3 151 rfl) rfl
theorem q713 : (Jvm.Cond.selects "java/lang/String" ({ cls := "java/lang/String", name := "indexOf", desc := "(II)I" } : Jvm.MethodName) ({ cls := "java/lang/String", name := "indexOf", desc := "(II)I" } : Jvm.MethodName)) ∈ lw_all := lw_g (lw_at lw_m3 152 rfl) rfl
theorem q714 : (Jvm.Cond.code ({ cls := "java/lang/String", name := "indexOf", desc := "(II)I" } : Jvm.MethodName) prog_36_method_80_code (3 : Nat) (Option.some Jvm.ClassFile.FieldType.int)) ∈ lw_all := lw_g (lw_at lw_m3 153 rfl) rfl
theorem q715 : (Jvm.Cond.methodLink "java/lang/String" (492 : Nat) ({ cls := "java/lang/String", name := "isLatin1", desc := "()Z" } : Jvm.MethodName)) ∈ lw_all := lw_g (lw_at lw_m3 154 rfl) rfl
theorem q716 : (Jvm.Cond.instanceMethod ({ cls := "java/lang/String", name := "isLatin1", desc := "()Z" } : Jvm.MethodName)) ∈ lw_all := lw_g (lw_at lw_m3 155 rfl) rfl
theorem q717 : (Jvm.Cond.selects "java/lang/String" ({ cls := "java/lang/String", name := "isLatin1", desc := "()Z" } : Jvm.MethodName) ({ cls := "java/lang/String", name := "isLatin1", desc := "()Z" } : Jvm.MethodName)) ∈ lw_all := lw_g (lw_at lw_m3 156 rfl) rfl
theorem q718 : (Jvm.Cond.code ({ cls := "java/lang/String", name := "isLatin1", desc := "()Z" } : Jvm.MethodName) prog_36_method_154_code (1 : Nat) (Option.some Jvm.ClassFile.FieldType.boolean)) ∈ lw_all := lw_g (lw_at lw_m3 157 rfl) rfl
theorem q719 : (Jvm.Cond.fieldLink "java/lang/String" (38 : Nat) "java/lang/String" "COMPACT_STRINGS" "Z") ∈ lw_all := lw_g (lw_at lw_m3 158 rfl) rfl
theorem q720 : (Jvm.Cond.laysStatic "java/lang/String" "COMPACT_STRINGS" "Z") ∈ lw_tbl := lw_at lw_m3 159 rfl
theorem q721 : (Jvm.Cond.methodLink "java/lang/String" (505 : Nat) ({ cls := "java/lang/String", name := "length", desc := "()I" } : Jvm.MethodName)) ∈ lw_all := lw_g (lw_at lw_m3 160 rfl) rfl
theorem q722 : (Jvm.Cond.instanceMethod ({ cls := "java/lang/String", name := "length", desc := "()I" } : Jvm.MethodName)) ∈ lw_all := lw_g (lw_at lw_m3 161 rfl) rfl
theorem q723 : (Jvm.Cond.selects "java/lang/String" ({ cls := "java/lang/String", name := "length", desc := "()I" } : Jvm.MethodName) ({ cls := "java/lang/String", name := "length", desc := "()I" } : Jvm.MethodName)) ∈ lw_all := lw_g (lw_at lw_m3 162 rfl) rfl
theorem q724 : (Jvm.Cond.code ({ cls := "java/lang/String", name := "length", desc := "()I" } : Jvm.MethodName) prog_36_method_54_code (1 : Nat) (Option.some Jvm.ClassFile.FieldType.int)) ∈ lw_all := lw_g (lw_at lw_m3 163 rfl) rfl
theorem q725 : (Jvm.Cond.methodLink "java/lang/String" (335 : Nat) ({ cls := "java/lang/String", name := "coder", desc := "()B" } : Jvm.MethodName)) ∈ lw_all := lw_g (lw_at lw_m3 164 rfl) rfl
theorem q726 : (Jvm.Cond.instanceMethod ({ cls := "java/lang/String", name := "coder", desc := "()B" } : Jvm.MethodName)) ∈ lw_all := lw_g (lw_at lw_m3 165 rfl) rfl
theorem q727 : (Jvm.Cond.selects "java/lang/String" ({ cls := "java/lang/String", name := "coder", desc := "()B" } : Jvm.MethodName) ({ cls := "java/lang/String", name := "coder", desc := "()B" } : Jvm.MethodName)) ∈ lw_all := lw_g (lw_at lw_m3 166 rfl) rfl
theorem q728 : (Jvm.Cond.code ({ cls := "java/lang/String", name := "coder", desc := "()B" } : Jvm.MethodName) prog_36_method_152_code (1 : Nat) (Option.some Jvm.ClassFile.FieldType.byte)) ∈ lw_all := lw_g (lw_at lw_m3 167 rfl) rfl
theorem q729 : (Jvm.Cond.methodLink "java/lang/String" (637 : Nat) ({ cls := "java/lang/StringLatin1", name := "indexOf", desc := "([BIII)I" } : Jvm.MethodName)) ∈ lw_all := lw_g (lw_at lw_m3 168 rfl) rfl
theorem q740 : (Jvm.Cond.methodLink "java/lang/String" (640 : Nat) ({ cls := "java/lang/StringUTF16", name := "indexOf", desc := "([BIII)I" } : Jvm.MethodName)) ∈ lw_all := lw_g (lw_at lw_m3 179 rfl) rfl
theorem q756 : (Jvm.Cond.static ({ cls := "java/lang/String", name := "checkBoundsBeginEnd", desc := "(III)V" } : Jvm.MethodName)) ∈ lw_all := lw_g (lw_at lw_m3 195 rfl) rfl
theorem q757 : (Jvm.Cond.code ({ cls := "java/lang/String", name := "checkBoundsBeginEnd", desc := "(III)V" } : Jvm.MethodName) prog_36_method_158_code (3 : Nat) (Option.none : Option Jvm.ClassFile.FieldType)) ∈ lw_all := lw_g (lw_at lw_m3 196 rfl) rfl
theorem q758 : (Jvm.Cond.fieldLink "java/lang/String" (1053 : Nat) "jdk/internal/util/Preconditions" "SIOOBE_FORMATTER" "Ljava/util/function/BiFunction;") ∈ lw_all := lw_g (lw_at lw_m3 197 rfl) rfl
theorem q760 : (Jvm.Cond.methodLink "java/lang/String" (1062 : Nat) ({ cls := "jdk/internal/util/Preconditions", name := "checkFromToIndex", desc := "(IIILjava/util/function/BiFunction;)I" } : Jvm.MethodName)) ∈ lw_all := lw_g (lw_at lw_m3 199 rfl) rfl
theorem q1919 : (Jvm.Cond.fieldLink "java/lang/String" (15 : Nat) "java/lang/String" "coder" "B") ∈ lw_all := lw_g (lw_at lw_m8 158 rfl) rfl
theorem q1920 : (Jvm.Cond.fieldLink "java/lang/String" (9 : Nat) "java/lang/String" "value" "[B") ∈ lw_all := lw_g (lw_at lw_m8 159 rfl) rfl
abbrev cJ5_indexOf : ByteArray := prog_37_method_22_code
def yJ5_indexOf : MethodName := ⟨RJ5, "indexOf", "([BIII)I"⟩
def dkwJ5_indexOf_1 : List UInt8 := [161, 0, 5, 2, 172, 42, 27, 28, 29, 184, 0, 95, 172]
abbrev dktJ5_indexOf_1 : List UInt8 := dkwJ5_indexOf_1 ++ []
def dkwJ5_indexOf_0 : List UInt8 := [27, 184, 0, 88, 154, 0, 5, 2, 172, 28, 3, 184, 0, 92, 61, 29, 42, 190, 184, 0, 38, 62, 28, 29]
abbrev dktJ5_indexOf_0 : List UInt8 := dkwJ5_indexOf_0 ++ dktJ5_indexOf_1
theorem dksJ5_indexOf_0 : cJ5_indexOf.data.toList.drop 0 = dktJ5_indexOf_0 := by decide +kernel
theorem dksJ5_indexOf_1 : cJ5_indexOf.data.toList.drop 24 = dktJ5_indexOf_1 := dk_seg dksJ5_indexOf_0 24 rfl rfl
theorem dJ5_indexOf_0 : decode cJ5_indexOf 0 = .ok (.iload_n 1, 1) := dk_27 (dk_at dksJ5_indexOf_0 0 rfl rfl)
theorem dJ5_indexOf_1 : decode cJ5_indexOf 1 = .ok (.invokestatic 88, 3) := dk_184 0 88 (dk_at dksJ5_indexOf_0 1 rfl rfl)
theorem dJ5_indexOf_4 : decode cJ5_indexOf 4 = .ok (.ifCond .ne 5, 3) := dk_154 0 5 (dk_at dksJ5_indexOf_0 4 rfl rfl)
theorem dJ5_indexOf_7 : decode cJ5_indexOf 7 = .ok (.iconst (-1), 1) := dk_2 (dk_at dksJ5_indexOf_0 7 rfl rfl)
theorem dJ5_indexOf_8 : decode cJ5_indexOf 8 = .ok (.ireturn, 1) := dk_172 (dk_at dksJ5_indexOf_0 8 rfl rfl)
theorem dJ5_indexOf_9 : decode cJ5_indexOf 9 = .ok (.iload_n 2, 1) := dk_28 (dk_at dksJ5_indexOf_0 9 rfl rfl)
theorem dJ5_indexOf_10 : decode cJ5_indexOf 10 = .ok (.iconst 0, 1) := dk_3 (dk_at dksJ5_indexOf_0 10 rfl rfl)
theorem dJ5_indexOf_11 : decode cJ5_indexOf 11 = .ok (.invokestatic 92, 3) := dk_184 0 92 (dk_at dksJ5_indexOf_0 11 rfl rfl)
theorem dJ5_indexOf_14 : decode cJ5_indexOf 14 = .ok (.istore_n 2, 1) := dk_61 (dk_at dksJ5_indexOf_0 14 rfl rfl)
theorem dJ5_indexOf_15 : decode cJ5_indexOf 15 = .ok (.iload_n 3, 1) := dk_29 (dk_at dksJ5_indexOf_0 15 rfl rfl)
theorem dJ5_indexOf_16 : decode cJ5_indexOf 16 = .ok (.aload_n 0, 1) := dk_42 (dk_at dksJ5_indexOf_0 16 rfl rfl)
theorem dJ5_indexOf_17 : decode cJ5_indexOf 17 = .ok (.arraylength, 1) := dk_190 (dk_at dksJ5_indexOf_0 17 rfl rfl)
theorem dJ5_indexOf_18 : decode cJ5_indexOf 18 = .ok (.invokestatic 38, 3) := dk_184 0 38 (dk_at dksJ5_indexOf_0 18 rfl rfl)
theorem dJ5_indexOf_21 : decode cJ5_indexOf 21 = .ok (.istore_n 3, 1) := dk_62 (dk_at dksJ5_indexOf_0 21 rfl rfl)
theorem dJ5_indexOf_22 : decode cJ5_indexOf 22 = .ok (.iload_n 2, 1) := dk_28 (dk_at dksJ5_indexOf_0 22 rfl rfl)
theorem dJ5_indexOf_23 : decode cJ5_indexOf 23 = .ok (.iload_n 3, 1) := dk_29 (dk_at dksJ5_indexOf_0 23 rfl rfl)
theorem dJ5_indexOf_24 : decode cJ5_indexOf 24 = .ok (.if_icmp .lt 5, 3) := dk_161 0 5 (dk_at dksJ5_indexOf_1 0 rfl rfl)
theorem dJ5_indexOf_27 : decode cJ5_indexOf 27 = .ok (.iconst (-1), 1) := dk_2 (dk_at dksJ5_indexOf_1 3 rfl rfl)
theorem dJ5_indexOf_28 : decode cJ5_indexOf 28 = .ok (.ireturn, 1) := dk_172 (dk_at dksJ5_indexOf_1 4 rfl rfl)
theorem dJ5_indexOf_29 : decode cJ5_indexOf 29 = .ok (.aload_n 0, 1) := dk_42 (dk_at dksJ5_indexOf_1 5 rfl rfl)
theorem dJ5_indexOf_30 : decode cJ5_indexOf 30 = .ok (.iload_n 1, 1) := dk_27 (dk_at dksJ5_indexOf_1 6 rfl rfl)
theorem dJ5_indexOf_31 : decode cJ5_indexOf 31 = .ok (.iload_n 2, 1) := dk_28 (dk_at dksJ5_indexOf_1 7 rfl rfl)
theorem dJ5_indexOf_32 : decode cJ5_indexOf 32 = .ok (.iload_n 3, 1) := dk_29 (dk_at dksJ5_indexOf_1 8 rfl rfl)
theorem dJ5_indexOf_33 : decode cJ5_indexOf 33 = .ok (.invokestatic 95, 3) := dk_184 0 95 (dk_at dksJ5_indexOf_1 9 rfl rfl)
theorem dJ5_indexOf_36 : decode cJ5_indexOf 36 = .ok (.ireturn, 1) := dk_172 (dk_at dksJ5_indexOf_1 12 rfl rfl)
abbrev cJ5_canEncode : ByteArray := prog_37_method_4_code
def yJ5_canEncode : MethodName := ⟨RJ5, "canEncode", "(I)Z"⟩
def dkwJ5_canEncode_0 : List UInt8 := [26, 155, 0, 14, 26, 17, 0, 255, 163, 0, 7, 4, 167, 0, 4, 3, 172]
abbrev dktJ5_canEncode_0 : List UInt8 := dkwJ5_canEncode_0 ++ []
theorem dksJ5_canEncode_0 : cJ5_canEncode.data.toList.drop 0 = dktJ5_canEncode_0 := by decide +kernel
theorem dJ5_canEncode_0 : decode cJ5_canEncode 0 = .ok (.iload_n 0, 1) := dk_26 (dk_at dksJ5_canEncode_0 0 rfl rfl)
theorem dJ5_canEncode_1 : decode cJ5_canEncode 1 = .ok (.ifCond .lt 14, 3) := dk_155 0 14 (dk_at dksJ5_canEncode_0 1 rfl rfl)
theorem dJ5_canEncode_4 : decode cJ5_canEncode 4 = .ok (.iload_n 0, 1) := dk_26 (dk_at dksJ5_canEncode_0 4 rfl rfl)
theorem dJ5_canEncode_5 : decode cJ5_canEncode 5 = .ok (.sipush 255, 3) := dk_17 0 255 (dk_at dksJ5_canEncode_0 5 rfl rfl)
theorem dJ5_canEncode_8 : decode cJ5_canEncode 8 = .ok (.if_icmp .gt 7, 3) := dk_163 0 7 (dk_at dksJ5_canEncode_0 8 rfl rfl)
theorem dJ5_canEncode_11 : decode cJ5_canEncode 11 = .ok (.iconst 1, 1) := dk_4 (dk_at dksJ5_canEncode_0 11 rfl rfl)
theorem dJ5_canEncode_12 : decode cJ5_canEncode 12 = .ok (.goto 4, 3) := dk_167 0 4 (dk_at dksJ5_canEncode_0 12 rfl rfl)
theorem dJ5_canEncode_15 : decode cJ5_canEncode 15 = .ok (.iconst 0, 1) := dk_3 (dk_at dksJ5_canEncode_0 15 rfl rfl)
theorem dJ5_canEncode_16 : decode cJ5_canEncode 16 = .ok (.ireturn, 1) := dk_172 (dk_at dksJ5_canEncode_0 16 rfl rfl)
abbrev cJ5_indexOfChar : ByteArray := prog_37_method_23_code
def yJ5_indexOfChar : MethodName := ⟨RJ5, "indexOfChar", "([BIII)I"⟩
def dkwJ5_indexOfChar_1 : List UInt8 := [172, 132, 5, 1, 167, 255, 235, 2, 172]
abbrev dktJ5_indexOfChar_1 : List UInt8 := dkwJ5_indexOfChar_1 ++ []
def dkwJ5_indexOfChar_0 : List UInt8 := [27, 145, 54, 4, 28, 54, 5, 21, 5, 29, 162, 0, 21, 42, 21, 5, 51, 21, 4, 160, 0, 6, 21, 5]
abbrev dktJ5_indexOfChar_0 : List UInt8 := dkwJ5_indexOfChar_0 ++ dktJ5_indexOfChar_1
theorem dksJ5_indexOfChar_0 : cJ5_indexOfChar.data.toList.drop 0 = dktJ5_indexOfChar_0 := by decide +kernel
theorem dksJ5_indexOfChar_1 : cJ5_indexOfChar.data.toList.drop 24 = dktJ5_indexOfChar_1 := dk_seg dksJ5_indexOfChar_0 24 rfl rfl
theorem dJ5_indexOfChar_0 : decode cJ5_indexOfChar 0 = .ok (.iload_n 1, 1) := dk_27 (dk_at dksJ5_indexOfChar_0 0 rfl rfl)
theorem dJ5_indexOfChar_1 : decode cJ5_indexOfChar 1 = .ok (.i2b, 1) := dk_145 (dk_at dksJ5_indexOfChar_0 1 rfl rfl)
theorem dJ5_indexOfChar_2 : decode cJ5_indexOfChar 2 = .ok (.istore 4, 2) := dk_54 4 (dk_at dksJ5_indexOfChar_0 2 rfl rfl)
theorem dJ5_indexOfChar_4 : decode cJ5_indexOfChar 4 = .ok (.iload_n 2, 1) := dk_28 (dk_at dksJ5_indexOfChar_0 4 rfl rfl)
theorem dJ5_indexOfChar_5 : decode cJ5_indexOfChar 5 = .ok (.istore 5, 2) := dk_54 5 (dk_at dksJ5_indexOfChar_0 5 rfl rfl)
theorem dJ5_indexOfChar_7 : decode cJ5_indexOfChar 7 = .ok (.iload 5, 2) := dk_21 5 (dk_at dksJ5_indexOfChar_0 7 rfl rfl)
theorem dJ5_indexOfChar_9 : decode cJ5_indexOfChar 9 = .ok (.iload_n 3, 1) := dk_29 (dk_at dksJ5_indexOfChar_0 9 rfl rfl)
theorem dJ5_indexOfChar_10 : decode cJ5_indexOfChar 10 = .ok (.if_icmp .ge 21, 3) := dk_162 0 21 (dk_at dksJ5_indexOfChar_0 10 rfl rfl)
theorem dJ5_indexOfChar_13 : decode cJ5_indexOfChar 13 = .ok (.aload_n 0, 1) := dk_42 (dk_at dksJ5_indexOfChar_0 13 rfl rfl)
theorem dJ5_indexOfChar_14 : decode cJ5_indexOfChar 14 = .ok (.iload 5, 2) := dk_21 5 (dk_at dksJ5_indexOfChar_0 14 rfl rfl)
theorem dJ5_indexOfChar_16 : decode cJ5_indexOfChar 16 = .ok (.baload, 1) := dk_51 (dk_at dksJ5_indexOfChar_0 16 rfl rfl)
theorem dJ5_indexOfChar_17 : decode cJ5_indexOfChar 17 = .ok (.iload 4, 2) := dk_21 4 (dk_at dksJ5_indexOfChar_0 17 rfl rfl)
theorem dJ5_indexOfChar_19 : decode cJ5_indexOfChar 19 = .ok (.if_icmp .ne 6, 3) := dk_160 0 6 (dk_at dksJ5_indexOfChar_0 19 rfl rfl)
theorem dJ5_indexOfChar_22 : decode cJ5_indexOfChar 22 = .ok (.iload 5, 2) := dk_21 5 (dk_at dksJ5_indexOfChar_0 22 rfl rfl)
theorem dJ5_indexOfChar_24 : decode cJ5_indexOfChar 24 = .ok (.ireturn, 1) := dk_172 (dk_at dksJ5_indexOfChar_1 0 rfl rfl)
theorem dJ5_indexOfChar_25 : decode cJ5_indexOfChar 25 = .ok (.iinc 5 1, 3) := dk_132 5 1 (dk_at dksJ5_indexOfChar_1 1 rfl rfl)
theorem dJ5_indexOfChar_28 : decode cJ5_indexOfChar 28 = .ok (.goto (-21), 3) := dk_167 255 235 (dk_at dksJ5_indexOfChar_1 4 rfl rfl)
theorem dJ5_indexOfChar_31 : decode cJ5_indexOfChar 31 = .ok (.iconst (-1), 1) := dk_2 (dk_at dksJ5_indexOfChar_1 7 rfl rfl)
theorem dJ5_indexOfChar_32 : decode cJ5_indexOfChar 32 = .ok (.ireturn, 1) := dk_172 (dk_at dksJ5_indexOfChar_1 8 rfl rfl)
theorem q104 : (Jvm.Cond.initialized "java/lang/StringLatin1") ∈ lw_all := lw_g (lw_at lw_m1 23 rfl) rfl
theorem q730 : (Jvm.Cond.static ({ cls := "java/lang/StringLatin1", name := "indexOf", desc := "([BIII)I" } : Jvm.MethodName)) ∈ lw_all := lw_g (lw_at lw_m3 169 rfl) rfl
theorem q731 : (Jvm.Cond.code ({ cls := "java/lang/StringLatin1", name := "indexOf", desc := "([BIII)I" } : Jvm.MethodName) prog_37_method_22_code (4 : Nat) (Option.some Jvm.ClassFile.FieldType.int)) ∈ lw_all := lw_g (lw_at lw_m3 170 rfl) rfl
theorem q732 : (Jvm.Cond.methodLink "java/lang/StringLatin1" (88 : Nat) ({ cls := "java/lang/StringLatin1", name := "canEncode", desc := "(I)Z" } : Jvm.MethodName)) ∈ lw_all := lw_g (lw_at lw_m3 171 rfl) rfl
theorem q733 : (Jvm.Cond.static ({ cls := "java/lang/StringLatin1", name := "canEncode", desc := "(I)Z" } : Jvm.MethodName)) ∈ lw_all := lw_g (lw_at lw_m3 172 rfl) rfl
theorem q734 : (Jvm.Cond.code ({ cls := "java/lang/StringLatin1", name := "canEncode", desc := "(I)Z" } : Jvm.MethodName) prog_37_method_4_code (1 : Nat) (Option.some Jvm.ClassFile.FieldType.boolean)) ∈ lw_all := lw_g (lw_at lw_m3 173 rfl) rfl
theorem q735 : (Jvm.Cond.methodLink "java/lang/StringLatin1" (92 : Nat) ({ cls := "java/lang/Math", name := "max", desc := "(II)I" } : Jvm.MethodName)) ∈ lw_all := lw_g (lw_at lw_m3 174 rfl) rfl
theorem q736 : (Jvm.Cond.methodLink "java/lang/StringLatin1" (38 : Nat) ({ cls := "java/lang/Math", name := "min", desc := "(II)I" } : Jvm.MethodName)) ∈ lw_all := lw_g (lw_at lw_m3 175 rfl) rfl
theorem q737 : (Jvm.Cond.methodLink "java/lang/StringLatin1" (95 : Nat) ({ cls := "java/lang/StringLatin1", name := "indexOfChar", desc := "([BIII)I" } : Jvm.MethodName)) ∈ lw_all := lw_g (lw_at lw_m3 176 rfl) rfl
theorem q738 : (Jvm.Cond.static ({ cls := "java/lang/StringLatin1", name := "indexOfChar", desc := "([BIII)I" } : Jvm.MethodName)) ∈ lw_all := lw_g (lw_at lw_m3 177 rfl) rfl
theorem q739 : (Jvm.Cond.code ({ cls := "java/lang/StringLatin1", name := "indexOfChar", desc := "([BIII)I" } : Jvm.MethodName) prog_37_method_23_code (6 : Nat) (Option.some Jvm.ClassFile.FieldType.int)) ∈ lw_all := lw_g (lw_at lw_m3 178 rfl) rfl
abbrev cJ6_indexOf : ByteArray := prog_38_method_40_code
def yJ6_indexOf : MethodName := ⟨RJ6, "indexOf", "([BIII)I"⟩
def dkwJ6_indexOf_1 : List UInt8 := [18, 227, 162, 0, 11, 42, 27, 28, 29, 184, 0, 228, 172, 42, 27, 28, 29, 184, 0, 232, 172]
abbrev dktJ6_indexOf_1 : List UInt8 := dkwJ6_indexOf_1 ++ []
def dkwJ6_indexOf_0 : List UInt8 := [28, 3, 184, 0, 224, 61, 29, 42, 190, 4, 122, 184, 0, 183, 62, 28, 29, 161, 0, 5, 2, 172, 27]
abbrev dktJ6_indexOf_0 : List UInt8 := dkwJ6_indexOf_0 ++ dktJ6_indexOf_1
theorem dksJ6_indexOf_0 : cJ6_indexOf.data.toList.drop 0 = dktJ6_indexOf_0 := by decide +kernel
theorem dksJ6_indexOf_1 : cJ6_indexOf.data.toList.drop 23 = dktJ6_indexOf_1 := dk_seg dksJ6_indexOf_0 23 rfl rfl
theorem dJ6_indexOf_0 : decode cJ6_indexOf 0 = .ok (.iload_n 2, 1) := dk_28 (dk_at dksJ6_indexOf_0 0 rfl rfl)
theorem dJ6_indexOf_1 : decode cJ6_indexOf 1 = .ok (.iconst 0, 1) := dk_3 (dk_at dksJ6_indexOf_0 1 rfl rfl)
theorem dJ6_indexOf_2 : decode cJ6_indexOf 2 = .ok (.invokestatic 224, 3) := dk_184 0 224 (dk_at dksJ6_indexOf_0 2 rfl rfl)
theorem dJ6_indexOf_5 : decode cJ6_indexOf 5 = .ok (.istore_n 2, 1) := dk_61 (dk_at dksJ6_indexOf_0 5 rfl rfl)
theorem dJ6_indexOf_6 : decode cJ6_indexOf 6 = .ok (.iload_n 3, 1) := dk_29 (dk_at dksJ6_indexOf_0 6 rfl rfl)
theorem dJ6_indexOf_7 : decode cJ6_indexOf 7 = .ok (.aload_n 0, 1) := dk_42 (dk_at dksJ6_indexOf_0 7 rfl rfl)
theorem dJ6_indexOf_8 : decode cJ6_indexOf 8 = .ok (.arraylength, 1) := dk_190 (dk_at dksJ6_indexOf_0 8 rfl rfl)
theorem dJ6_indexOf_9 : decode cJ6_indexOf 9 = .ok (.iconst 1, 1) := dk_4 (dk_at dksJ6_indexOf_0 9 rfl rfl)
theorem dJ6_indexOf_10 : decode cJ6_indexOf 10 = .ok (.ishr, 1) := dk_122 (dk_at dksJ6_indexOf_0 10 rfl rfl)
theorem dJ6_indexOf_11 : decode cJ6_indexOf 11 = .ok (.invokestatic 183, 3) := dk_184 0 183 (dk_at dksJ6_indexOf_0 11 rfl rfl)
theorem dJ6_indexOf_14 : decode cJ6_indexOf 14 = .ok (.istore_n 3, 1) := dk_62 (dk_at dksJ6_indexOf_0 14 rfl rfl)
theorem dJ6_indexOf_15 : decode cJ6_indexOf 15 = .ok (.iload_n 2, 1) := dk_28 (dk_at dksJ6_indexOf_0 15 rfl rfl)
theorem dJ6_indexOf_16 : decode cJ6_indexOf 16 = .ok (.iload_n 3, 1) := dk_29 (dk_at dksJ6_indexOf_0 16 rfl rfl)
theorem dJ6_indexOf_17 : decode cJ6_indexOf 17 = .ok (.if_icmp .lt 5, 3) := dk_161 0 5 (dk_at dksJ6_indexOf_0 17 rfl rfl)
theorem dJ6_indexOf_20 : decode cJ6_indexOf 20 = .ok (.iconst (-1), 1) := dk_2 (dk_at dksJ6_indexOf_0 20 rfl rfl)
theorem dJ6_indexOf_21 : decode cJ6_indexOf 21 = .ok (.ireturn, 1) := dk_172 (dk_at dksJ6_indexOf_0 21 rfl rfl)
theorem dJ6_indexOf_22 : decode cJ6_indexOf 22 = .ok (.iload_n 1, 1) := dk_27 (dk_at dksJ6_indexOf_0 22 rfl rfl)
theorem dJ6_indexOf_23 : decode cJ6_indexOf 23 = .ok (.ldc 227, 2) := dk_18 227 (dk_at dksJ6_indexOf_1 0 rfl rfl)
theorem dJ6_indexOf_25 : decode cJ6_indexOf 25 = .ok (.if_icmp .ge 11, 3) := dk_162 0 11 (dk_at dksJ6_indexOf_1 2 rfl rfl)
theorem dJ6_indexOf_28 : decode cJ6_indexOf 28 = .ok (.aload_n 0, 1) := dk_42 (dk_at dksJ6_indexOf_1 5 rfl rfl)
theorem dJ6_indexOf_29 : decode cJ6_indexOf 29 = .ok (.iload_n 1, 1) := dk_27 (dk_at dksJ6_indexOf_1 6 rfl rfl)
theorem dJ6_indexOf_30 : decode cJ6_indexOf 30 = .ok (.iload_n 2, 1) := dk_28 (dk_at dksJ6_indexOf_1 7 rfl rfl)
theorem dJ6_indexOf_31 : decode cJ6_indexOf 31 = .ok (.iload_n 3, 1) := dk_29 (dk_at dksJ6_indexOf_1 8 rfl rfl)
theorem dJ6_indexOf_32 : decode cJ6_indexOf 32 = .ok (.invokestatic 228, 3) := dk_184 0 228 (dk_at dksJ6_indexOf_1 9 rfl rfl)
theorem dJ6_indexOf_35 : decode cJ6_indexOf 35 = .ok (.ireturn, 1) := dk_172 (dk_at dksJ6_indexOf_1 12 rfl rfl)
theorem dJ6_indexOf_36 : decode cJ6_indexOf 36 = .ok (.aload_n 0, 1) := dk_42 (dk_at dksJ6_indexOf_1 13 rfl rfl)
theorem dJ6_indexOf_37 : decode cJ6_indexOf 37 = .ok (.iload_n 1, 1) := dk_27 (dk_at dksJ6_indexOf_1 14 rfl rfl)
theorem dJ6_indexOf_38 : decode cJ6_indexOf 38 = .ok (.iload_n 2, 1) := dk_28 (dk_at dksJ6_indexOf_1 15 rfl rfl)
theorem dJ6_indexOf_39 : decode cJ6_indexOf 39 = .ok (.iload_n 3, 1) := dk_29 (dk_at dksJ6_indexOf_1 16 rfl rfl)
theorem dJ6_indexOf_40 : decode cJ6_indexOf 40 = .ok (.invokestatic 232, 3) := dk_184 0 232 (dk_at dksJ6_indexOf_1 17 rfl rfl)
theorem dJ6_indexOf_43 : decode cJ6_indexOf 43 = .ok (.ireturn, 1) := dk_172 (dk_at dksJ6_indexOf_1 20 rfl rfl)
abbrev cJ6_indexOfChar : ByteArray := prog_38_method_47_code
def yJ6_indexOfChar : MethodName := ⟨RJ6, "indexOfChar", "([BIII)I"⟩
def dkwJ6_indexOfChar_0 : List UInt8 := [28, 29, 42, 184, 0, 96, 42, 27, 28, 29, 184, 0, 244, 172]
abbrev dktJ6_indexOfChar_0 : List UInt8 := dkwJ6_indexOfChar_0 ++ []
theorem dksJ6_indexOfChar_0 : cJ6_indexOfChar.data.toList.drop 0 = dktJ6_indexOfChar_0 := by decide +kernel
theorem dJ6_indexOfChar_0 : decode cJ6_indexOfChar 0 = .ok (.iload_n 2, 1) := dk_28 (dk_at dksJ6_indexOfChar_0 0 rfl rfl)
theorem dJ6_indexOfChar_1 : decode cJ6_indexOfChar 1 = .ok (.iload_n 3, 1) := dk_29 (dk_at dksJ6_indexOfChar_0 1 rfl rfl)
theorem dJ6_indexOfChar_2 : decode cJ6_indexOfChar 2 = .ok (.aload_n 0, 1) := dk_42 (dk_at dksJ6_indexOfChar_0 2 rfl rfl)
theorem dJ6_indexOfChar_3 : decode cJ6_indexOfChar 3 = .ok (.invokestatic 96, 3) := dk_184 0 96 (dk_at dksJ6_indexOfChar_0 3 rfl rfl)
theorem dJ6_indexOfChar_6 : decode cJ6_indexOfChar 6 = .ok (.aload_n 0, 1) := dk_42 (dk_at dksJ6_indexOfChar_0 6 rfl rfl)
theorem dJ6_indexOfChar_7 : decode cJ6_indexOfChar 7 = .ok (.iload_n 1, 1) := dk_27 (dk_at dksJ6_indexOfChar_0 7 rfl rfl)
theorem dJ6_indexOfChar_8 : decode cJ6_indexOfChar 8 = .ok (.iload_n 2, 1) := dk_28 (dk_at dksJ6_indexOfChar_0 8 rfl rfl)
theorem dJ6_indexOfChar_9 : decode cJ6_indexOfChar 9 = .ok (.iload_n 3, 1) := dk_29 (dk_at dksJ6_indexOfChar_0 9 rfl rfl)
theorem dJ6_indexOfChar_10 : decode cJ6_indexOfChar 10 = .ok (.invokestatic 244, 3) := dk_184 0 244 (dk_at dksJ6_indexOfChar_0 10 rfl rfl)
theorem dJ6_indexOfChar_13 : decode cJ6_indexOfChar 13 = .ok (.ireturn, 1) := dk_172 (dk_at dksJ6_indexOfChar_0 13 rfl rfl)
abbrev cJ6_checkBoundsBeginEnd : ByteArray := prog_38_method_93_code
def yJ6_checkBoundsBeginEnd : MethodName := ⟨RJ6, "checkBoundsBeginEnd", "(II[B)V"⟩
def dkwJ6_checkBoundsBeginEnd_0 : List UInt8 := [26, 27, 44, 184, 0, 48, 184, 0, 241, 177]
abbrev dktJ6_checkBoundsBeginEnd_0 : List UInt8 := dkwJ6_checkBoundsBeginEnd_0 ++ []
theorem dksJ6_checkBoundsBeginEnd_0 : cJ6_checkBoundsBeginEnd.data.toList.drop 0 = dktJ6_checkBoundsBeginEnd_0 := by decide +kernel
theorem dJ6_checkBoundsBeginEnd_0 : decode cJ6_checkBoundsBeginEnd 0 = .ok (.iload_n 0, 1) := dk_26 (dk_at dksJ6_checkBoundsBeginEnd_0 0 rfl rfl)
theorem dJ6_checkBoundsBeginEnd_1 : decode cJ6_checkBoundsBeginEnd 1 = .ok (.iload_n 1, 1) := dk_27 (dk_at dksJ6_checkBoundsBeginEnd_0 1 rfl rfl)
theorem dJ6_checkBoundsBeginEnd_2 : decode cJ6_checkBoundsBeginEnd 2 = .ok (.aload_n 2, 1) := dk_44 (dk_at dksJ6_checkBoundsBeginEnd_0 2 rfl rfl)
theorem dJ6_checkBoundsBeginEnd_3 : decode cJ6_checkBoundsBeginEnd 3 = .ok (.invokestatic 48, 3) := dk_184 0 48 (dk_at dksJ6_checkBoundsBeginEnd_0 3 rfl rfl)
theorem dJ6_checkBoundsBeginEnd_6 : decode cJ6_checkBoundsBeginEnd 6 = .ok (.invokestatic 241, 3) := dk_184 0 241 (dk_at dksJ6_checkBoundsBeginEnd_0 6 rfl rfl)
theorem dJ6_checkBoundsBeginEnd_9 : decode cJ6_checkBoundsBeginEnd 9 = .ok (.return_, 1) := dk_177 (dk_at dksJ6_checkBoundsBeginEnd_0 9 rfl rfl)
abbrev cJ6_length : ByteArray := prog_38_method_6_code
def yJ6_length : MethodName := ⟨RJ6, "length", "([B)I"⟩
def dkwJ6_length_0 : List UInt8 := [42, 190, 4, 122, 172]
abbrev dktJ6_length_0 : List UInt8 := dkwJ6_length_0 ++ []
theorem dksJ6_length_0 : cJ6_length.data.toList.drop 0 = dktJ6_length_0 := by decide +kernel
theorem dJ6_length_0 : decode cJ6_length 0 = .ok (.aload_n 0, 1) := dk_42 (dk_at dksJ6_length_0 0 rfl rfl)
theorem dJ6_length_1 : decode cJ6_length 1 = .ok (.arraylength, 1) := dk_190 (dk_at dksJ6_length_0 1 rfl rfl)
theorem dJ6_length_2 : decode cJ6_length 2 = .ok (.iconst 1, 1) := dk_4 (dk_at dksJ6_length_0 2 rfl rfl)
theorem dJ6_length_3 : decode cJ6_length 3 = .ok (.ishr, 1) := dk_122 (dk_at dksJ6_length_0 3 rfl rfl)
theorem dJ6_length_4 : decode cJ6_length 4 = .ok (.ireturn, 1) := dk_172 (dk_at dksJ6_length_0 4 rfl rfl)
abbrev cJ6_indexOfCharUnsafe : ByteArray := prog_38_method_48_code
def yJ6_indexOfCharUnsafe : MethodName := ⟨RJ6, "indexOfCharUnsafe", "([BIII)I"⟩
def dkwJ6_indexOfCharUnsafe_1 : List UInt8 := [132, 4, 1, 167, 255, 234, 2, 172]
abbrev dktJ6_indexOfCharUnsafe_1 : List UInt8 := dkwJ6_indexOfCharUnsafe_1 ++ []
def dkwJ6_indexOfCharUnsafe_0 : List UInt8 := [28, 54, 4, 21, 4, 29, 162, 0, 22, 42, 21, 4, 184, 0, 71, 27, 160, 0, 6, 21, 4, 172]
abbrev dktJ6_indexOfCharUnsafe_0 : List UInt8 := dkwJ6_indexOfCharUnsafe_0 ++ dktJ6_indexOfCharUnsafe_1
theorem dksJ6_indexOfCharUnsafe_0 : cJ6_indexOfCharUnsafe.data.toList.drop 0 = dktJ6_indexOfCharUnsafe_0 := by decide +kernel
theorem dksJ6_indexOfCharUnsafe_1 : cJ6_indexOfCharUnsafe.data.toList.drop 22 = dktJ6_indexOfCharUnsafe_1 := dk_seg dksJ6_indexOfCharUnsafe_0 22 rfl rfl
theorem dJ6_indexOfCharUnsafe_0 : decode cJ6_indexOfCharUnsafe 0 = .ok (.iload_n 2, 1) := dk_28 (dk_at dksJ6_indexOfCharUnsafe_0 0 rfl rfl)
theorem dJ6_indexOfCharUnsafe_1 : decode cJ6_indexOfCharUnsafe 1 = .ok (.istore 4, 2) := dk_54 4 (dk_at dksJ6_indexOfCharUnsafe_0 1 rfl rfl)
theorem dJ6_indexOfCharUnsafe_3 : decode cJ6_indexOfCharUnsafe 3 = .ok (.iload 4, 2) := dk_21 4 (dk_at dksJ6_indexOfCharUnsafe_0 3 rfl rfl)
theorem dJ6_indexOfCharUnsafe_5 : decode cJ6_indexOfCharUnsafe 5 = .ok (.iload_n 3, 1) := dk_29 (dk_at dksJ6_indexOfCharUnsafe_0 5 rfl rfl)
theorem dJ6_indexOfCharUnsafe_6 : decode cJ6_indexOfCharUnsafe 6 = .ok (.if_icmp .ge 22, 3) := dk_162 0 22 (dk_at dksJ6_indexOfCharUnsafe_0 6 rfl rfl)
theorem dJ6_indexOfCharUnsafe_9 : decode cJ6_indexOfCharUnsafe 9 = .ok (.aload_n 0, 1) := dk_42 (dk_at dksJ6_indexOfCharUnsafe_0 9 rfl rfl)
theorem dJ6_indexOfCharUnsafe_10 : decode cJ6_indexOfCharUnsafe 10 = .ok (.iload 4, 2) := dk_21 4 (dk_at dksJ6_indexOfCharUnsafe_0 10 rfl rfl)
theorem dJ6_indexOfCharUnsafe_12 : decode cJ6_indexOfCharUnsafe 12 = .ok (.invokestatic 71, 3) := dk_184 0 71 (dk_at dksJ6_indexOfCharUnsafe_0 12 rfl rfl)
theorem dJ6_indexOfCharUnsafe_15 : decode cJ6_indexOfCharUnsafe 15 = .ok (.iload_n 1, 1) := dk_27 (dk_at dksJ6_indexOfCharUnsafe_0 15 rfl rfl)
theorem dJ6_indexOfCharUnsafe_16 : decode cJ6_indexOfCharUnsafe 16 = .ok (.if_icmp .ne 6, 3) := dk_160 0 6 (dk_at dksJ6_indexOfCharUnsafe_0 16 rfl rfl)
theorem dJ6_indexOfCharUnsafe_19 : decode cJ6_indexOfCharUnsafe 19 = .ok (.iload 4, 2) := dk_21 4 (dk_at dksJ6_indexOfCharUnsafe_0 19 rfl rfl)
theorem dJ6_indexOfCharUnsafe_21 : decode cJ6_indexOfCharUnsafe 21 = .ok (.ireturn, 1) := dk_172 (dk_at dksJ6_indexOfCharUnsafe_0 21 rfl rfl)
theorem dJ6_indexOfCharUnsafe_22 : decode cJ6_indexOfCharUnsafe 22 = .ok (.iinc 4 1, 3) := dk_132 4 1 (dk_at dksJ6_indexOfCharUnsafe_1 0 rfl rfl)
theorem dJ6_indexOfCharUnsafe_25 : decode cJ6_indexOfCharUnsafe 25 = .ok (.goto (-22), 3) := dk_167 255 234 (dk_at dksJ6_indexOfCharUnsafe_1 3 rfl rfl)
theorem dJ6_indexOfCharUnsafe_28 : decode cJ6_indexOfCharUnsafe 28 = .ok (.iconst (-1), 1) := dk_2 (dk_at dksJ6_indexOfCharUnsafe_1 6 rfl rfl)
theorem dJ6_indexOfCharUnsafe_29 : decode cJ6_indexOfCharUnsafe 29 = .ok (.ireturn, 1) := dk_172 (dk_at dksJ6_indexOfCharUnsafe_1 7 rfl rfl)
abbrev cJ6_getChar : ByteArray := prog_38_method_5_code
def yJ6_getChar : MethodName := ⟨RJ6, "getChar", "([BI)C"⟩
def dkwJ6_getChar_2 : List UInt8 := [51, 17, 0, 255, 126, 178, 0, 63, 120, 128, 146, 172]
abbrev dktJ6_getChar_2 : List UInt8 := dkwJ6_getChar_2 ++ []
def dkwJ6_getChar_1 : List UInt8 := [183, 0, 56, 191, 27, 4, 120, 60, 42, 27, 132, 1, 1, 51, 17, 0, 255, 126, 178, 0, 59, 120, 42, 27]
abbrev dktJ6_getChar_1 : List UInt8 := dkwJ6_getChar_1 ++ dktJ6_getChar_2
def dkwJ6_getChar_0 : List UInt8 := [178, 0, 44, 154, 0, 25, 27, 155, 0, 11, 27, 42, 184, 0, 48, 161, 0, 13, 187, 0, 52, 89, 18, 54]
abbrev dktJ6_getChar_0 : List UInt8 := dkwJ6_getChar_0 ++ dktJ6_getChar_1
theorem dksJ6_getChar_0 : cJ6_getChar.data.toList.drop 0 = dktJ6_getChar_0 := by decide +kernel
theorem dksJ6_getChar_1 : cJ6_getChar.data.toList.drop 24 = dktJ6_getChar_1 := dk_seg dksJ6_getChar_0 24 rfl rfl
theorem dksJ6_getChar_2 : cJ6_getChar.data.toList.drop 48 = dktJ6_getChar_2 := dk_seg dksJ6_getChar_1 24 rfl rfl
theorem dJ6_getChar_0 : decode cJ6_getChar 0 = .ok (.getstatic 44, 3) := dk_178 0 44 (dk_at dksJ6_getChar_0 0 rfl rfl)
theorem dJ6_getChar_3 : decode cJ6_getChar 3 = .ok (.ifCond .ne 25, 3) := dk_154 0 25 (dk_at dksJ6_getChar_0 3 rfl rfl)
theorem dJ6_getChar_6 : decode cJ6_getChar 6 = .ok (.iload_n 1, 1) := dk_27 (dk_at dksJ6_getChar_0 6 rfl rfl)
theorem dJ6_getChar_7 : decode cJ6_getChar 7 = .ok (.ifCond .lt 11, 3) := dk_155 0 11 (dk_at dksJ6_getChar_0 7 rfl rfl)
theorem dJ6_getChar_10 : decode cJ6_getChar 10 = .ok (.iload_n 1, 1) := dk_27 (dk_at dksJ6_getChar_0 10 rfl rfl)
theorem dJ6_getChar_11 : decode cJ6_getChar 11 = .ok (.aload_n 0, 1) := dk_42 (dk_at dksJ6_getChar_0 11 rfl rfl)
theorem dJ6_getChar_12 : decode cJ6_getChar 12 = .ok (.invokestatic 48, 3) := dk_184 0 48 (dk_at dksJ6_getChar_0 12 rfl rfl)
theorem dJ6_getChar_15 : decode cJ6_getChar 15 = .ok (.if_icmp .lt 13, 3) := dk_161 0 13 (dk_at dksJ6_getChar_0 15 rfl rfl)
theorem dJ6_getChar_18 : decode cJ6_getChar 18 = .ok (.new 52, 3) := dk_187 0 52 (dk_at dksJ6_getChar_0 18 rfl rfl)
theorem dJ6_getChar_21 : decode cJ6_getChar 21 = .ok (.dup, 1) := dk_89 (dk_at dksJ6_getChar_0 21 rfl rfl)
theorem dJ6_getChar_22 : decode cJ6_getChar 22 = .ok (.ldc 54, 2) := dk_18 54 (dk_at dksJ6_getChar_0 22 rfl rfl)
theorem dJ6_getChar_24 : decode cJ6_getChar 24 = .ok (.invokespecial 56, 3) := dk_183 0 56 (dk_at dksJ6_getChar_1 0 rfl rfl)
theorem dJ6_getChar_27 : decode cJ6_getChar 27 = .ok (.athrow, 1) := dk_191 (dk_at dksJ6_getChar_1 3 rfl rfl)
theorem dJ6_getChar_28 : decode cJ6_getChar 28 = .ok (.iload_n 1, 1) := dk_27 (dk_at dksJ6_getChar_1 4 rfl rfl)
theorem dJ6_getChar_29 : decode cJ6_getChar 29 = .ok (.iconst 1, 1) := dk_4 (dk_at dksJ6_getChar_1 5 rfl rfl)
theorem dJ6_getChar_30 : decode cJ6_getChar 30 = .ok (.ishl, 1) := dk_120 (dk_at dksJ6_getChar_1 6 rfl rfl)
theorem dJ6_getChar_31 : decode cJ6_getChar 31 = .ok (.istore_n 1, 1) := dk_60 (dk_at dksJ6_getChar_1 7 rfl rfl)
theorem dJ6_getChar_32 : decode cJ6_getChar 32 = .ok (.aload_n 0, 1) := dk_42 (dk_at dksJ6_getChar_1 8 rfl rfl)
theorem dJ6_getChar_33 : decode cJ6_getChar 33 = .ok (.iload_n 1, 1) := dk_27 (dk_at dksJ6_getChar_1 9 rfl rfl)
theorem dJ6_getChar_34 : decode cJ6_getChar 34 = .ok (.iinc 1 1, 3) := dk_132 1 1 (dk_at dksJ6_getChar_1 10 rfl rfl)
theorem dJ6_getChar_37 : decode cJ6_getChar 37 = .ok (.baload, 1) := dk_51 (dk_at dksJ6_getChar_1 13 rfl rfl)
theorem dJ6_getChar_38 : decode cJ6_getChar 38 = .ok (.sipush 255, 3) := dk_17 0 255 (dk_at dksJ6_getChar_1 14 rfl rfl)
theorem dJ6_getChar_41 : decode cJ6_getChar 41 = .ok (.iand, 1) := dk_126 (dk_at dksJ6_getChar_1 17 rfl rfl)
theorem dJ6_getChar_42 : decode cJ6_getChar 42 = .ok (.getstatic 59, 3) := dk_178 0 59 (dk_at dksJ6_getChar_1 18 rfl rfl)
theorem dJ6_getChar_45 : decode cJ6_getChar 45 = .ok (.ishl, 1) := dk_120 (dk_at dksJ6_getChar_1 21 rfl rfl)
theorem dJ6_getChar_46 : decode cJ6_getChar 46 = .ok (.aload_n 0, 1) := dk_42 (dk_at dksJ6_getChar_1 22 rfl rfl)
theorem dJ6_getChar_47 : decode cJ6_getChar 47 = .ok (.iload_n 1, 1) := dk_27 (dk_at dksJ6_getChar_1 23 rfl rfl)
theorem dJ6_getChar_48 : decode cJ6_getChar 48 = .ok (.baload, 1) := dk_51 (dk_at dksJ6_getChar_2 0 rfl rfl)
theorem dJ6_getChar_49 : decode cJ6_getChar 49 = .ok (.sipush 255, 3) := dk_17 0 255 (dk_at dksJ6_getChar_2 1 rfl rfl)
theorem dJ6_getChar_52 : decode cJ6_getChar 52 = .ok (.iand, 1) := dk_126 (dk_at dksJ6_getChar_2 4 rfl rfl)
theorem dJ6_getChar_53 : decode cJ6_getChar 53 = .ok (.getstatic 63, 3) := dk_178 0 63 (dk_at dksJ6_getChar_2 5 rfl rfl)
theorem dJ6_getChar_56 : decode cJ6_getChar 56 = .ok (.ishl, 1) := dk_120 (dk_at dksJ6_getChar_2 8 rfl rfl)
theorem dJ6_getChar_57 : decode cJ6_getChar 57 = .ok (.ior, 1) := dk_128 (dk_at dksJ6_getChar_2 9 rfl rfl)
theorem dJ6_getChar_58 : decode cJ6_getChar 58 = .ok (.i2c, 1) := dk_146 (dk_at dksJ6_getChar_2 10 rfl rfl)
theorem dJ6_getChar_59 : decode cJ6_getChar 59 = .ok (.ireturn, 1) := dk_172 (dk_at dksJ6_getChar_2 11 rfl rfl)
abbrev cJ6_indexOfSupplementary : ByteArray := prog_38_method_49_code
def yJ6_indexOfSupplementary : MethodName := ⟨RJ6, "indexOfSupplementary", "([BIII)I"⟩
def dkwJ6_indexOfSupplementary_3 : List UInt8 := [167, 255, 218, 2, 172]
abbrev dktJ6_indexOfSupplementary_3 : List UInt8 := dkwJ6_indexOfSupplementary_3 ++ []
def dkwJ6_indexOfSupplementary_2 : List UInt8 := [160, 0, 19, 42, 21, 6, 4, 96, 184, 0, 71, 21, 5, 160, 0, 6, 21, 6, 172, 132, 6, 1]
abbrev dktJ6_indexOfSupplementary_2 : List UInt8 := dkwJ6_indexOfSupplementary_2 ++ dktJ6_indexOfSupplementary_3
def dkwJ6_indexOfSupplementary_1 : List UInt8 := [184, 0, 96, 28, 54, 6, 21, 6, 29, 4, 100, 162, 0, 36, 42, 21, 6, 184, 0, 71, 21, 4]
abbrev dktJ6_indexOfSupplementary_1 : List UInt8 := dkwJ6_indexOfSupplementary_1 ++ dktJ6_indexOfSupplementary_2
def dkwJ6_indexOfSupplementary_0 : List UInt8 := [27, 184, 0, 164, 153, 0, 65, 27, 184, 0, 157, 54, 4, 27, 184, 0, 161, 54, 5, 28, 29, 42]
abbrev dktJ6_indexOfSupplementary_0 : List UInt8 := dkwJ6_indexOfSupplementary_0 ++ dktJ6_indexOfSupplementary_1
theorem dksJ6_indexOfSupplementary_0 : cJ6_indexOfSupplementary.data.toList.drop 0 = dktJ6_indexOfSupplementary_0 := by decide +kernel
theorem dksJ6_indexOfSupplementary_1 : cJ6_indexOfSupplementary.data.toList.drop 22 = dktJ6_indexOfSupplementary_1 := dk_seg dksJ6_indexOfSupplementary_0 22 rfl rfl
theorem dksJ6_indexOfSupplementary_2 : cJ6_indexOfSupplementary.data.toList.drop 44 = dktJ6_indexOfSupplementary_2 := dk_seg dksJ6_indexOfSupplementary_1 22 rfl rfl
theorem dksJ6_indexOfSupplementary_3 : cJ6_indexOfSupplementary.data.toList.drop 66 = dktJ6_indexOfSupplementary_3 := dk_seg dksJ6_indexOfSupplementary_2 22 rfl rfl
theorem dJ6_indexOfSupplementary_0 : decode cJ6_indexOfSupplementary 0 = .ok (.iload_n 1, 1) := dk_27 (dk_at dksJ6_indexOfSupplementary_0 0 rfl rfl)
theorem dJ6_indexOfSupplementary_1 : decode cJ6_indexOfSupplementary 1 = .ok (.invokestatic 164, 3) := dk_184 0 164 (dk_at dksJ6_indexOfSupplementary_0 1 rfl rfl)
theorem dJ6_indexOfSupplementary_4 : decode cJ6_indexOfSupplementary 4 = .ok (.ifCond .eq 65, 3) := dk_153 0 65 (dk_at dksJ6_indexOfSupplementary_0 4 rfl rfl)
theorem dJ6_indexOfSupplementary_7 : decode cJ6_indexOfSupplementary 7 = .ok (.iload_n 1, 1) := dk_27 (dk_at dksJ6_indexOfSupplementary_0 7 rfl rfl)
theorem dJ6_indexOfSupplementary_8 : decode cJ6_indexOfSupplementary 8 = .ok (.invokestatic 157, 3) := dk_184 0 157 (dk_at dksJ6_indexOfSupplementary_0 8 rfl rfl)
theorem dJ6_indexOfSupplementary_11 : decode cJ6_indexOfSupplementary 11 = .ok (.istore 4, 2) := dk_54 4 (dk_at dksJ6_indexOfSupplementary_0 11 rfl rfl)
theorem dJ6_indexOfSupplementary_13 : decode cJ6_indexOfSupplementary 13 = .ok (.iload_n 1, 1) := dk_27 (dk_at dksJ6_indexOfSupplementary_0 13 rfl rfl)
theorem dJ6_indexOfSupplementary_14 : decode cJ6_indexOfSupplementary 14 = .ok (.invokestatic 161, 3) := dk_184 0 161 (dk_at dksJ6_indexOfSupplementary_0 14 rfl rfl)
theorem dJ6_indexOfSupplementary_17 : decode cJ6_indexOfSupplementary 17 = .ok (.istore 5, 2) := dk_54 5 (dk_at dksJ6_indexOfSupplementary_0 17 rfl rfl)
theorem dJ6_indexOfSupplementary_19 : decode cJ6_indexOfSupplementary 19 = .ok (.iload_n 2, 1) := dk_28 (dk_at dksJ6_indexOfSupplementary_0 19 rfl rfl)
theorem dJ6_indexOfSupplementary_20 : decode cJ6_indexOfSupplementary 20 = .ok (.iload_n 3, 1) := dk_29 (dk_at dksJ6_indexOfSupplementary_0 20 rfl rfl)
theorem dJ6_indexOfSupplementary_21 : decode cJ6_indexOfSupplementary 21 = .ok (.aload_n 0, 1) := dk_42 (dk_at dksJ6_indexOfSupplementary_0 21 rfl rfl)
theorem dJ6_indexOfSupplementary_22 : decode cJ6_indexOfSupplementary 22 = .ok (.invokestatic 96, 3) := dk_184 0 96 (dk_at dksJ6_indexOfSupplementary_1 0 rfl rfl)
theorem dJ6_indexOfSupplementary_25 : decode cJ6_indexOfSupplementary 25 = .ok (.iload_n 2, 1) := dk_28 (dk_at dksJ6_indexOfSupplementary_1 3 rfl rfl)
theorem dJ6_indexOfSupplementary_26 : decode cJ6_indexOfSupplementary 26 = .ok (.istore 6, 2) := dk_54 6 (dk_at dksJ6_indexOfSupplementary_1 4 rfl rfl)
theorem dJ6_indexOfSupplementary_28 : decode cJ6_indexOfSupplementary 28 = .ok (.iload 6, 2) := dk_21 6 (dk_at dksJ6_indexOfSupplementary_1 6 rfl rfl)
theorem dJ6_indexOfSupplementary_30 : decode cJ6_indexOfSupplementary 30 = .ok (.iload_n 3, 1) := dk_29 (dk_at dksJ6_indexOfSupplementary_1 8 rfl rfl)
theorem dJ6_indexOfSupplementary_31 : decode cJ6_indexOfSupplementary 31 = .ok (.iconst 1, 1) := dk_4 (dk_at dksJ6_indexOfSupplementary_1 9 rfl rfl)
theorem dJ6_indexOfSupplementary_32 : decode cJ6_indexOfSupplementary 32 = .ok (.isub, 1) := dk_100 (dk_at dksJ6_indexOfSupplementary_1 10 rfl rfl)
theorem dJ6_indexOfSupplementary_33 : decode cJ6_indexOfSupplementary 33 = .ok (.if_icmp .ge 36, 3) := dk_162 0 36 (dk_at dksJ6_indexOfSupplementary_1 11 rfl rfl)
theorem dJ6_indexOfSupplementary_36 : decode cJ6_indexOfSupplementary 36 = .ok (.aload_n 0, 1) := dk_42 (dk_at dksJ6_indexOfSupplementary_1 14 rfl rfl)
theorem dJ6_indexOfSupplementary_37 : decode cJ6_indexOfSupplementary 37 = .ok (.iload 6, 2) := dk_21 6 (dk_at dksJ6_indexOfSupplementary_1 15 rfl rfl)
theorem dJ6_indexOfSupplementary_39 : decode cJ6_indexOfSupplementary 39 = .ok (.invokestatic 71, 3) := dk_184 0 71 (dk_at dksJ6_indexOfSupplementary_1 17 rfl rfl)
theorem dJ6_indexOfSupplementary_42 : decode cJ6_indexOfSupplementary 42 = .ok (.iload 4, 2) := dk_21 4 (dk_at dksJ6_indexOfSupplementary_1 20 rfl rfl)
theorem dJ6_indexOfSupplementary_44 : decode cJ6_indexOfSupplementary 44 = .ok (.if_icmp .ne 19, 3) := dk_160 0 19 (dk_at dksJ6_indexOfSupplementary_2 0 rfl rfl)
theorem dJ6_indexOfSupplementary_47 : decode cJ6_indexOfSupplementary 47 = .ok (.aload_n 0, 1) := dk_42 (dk_at dksJ6_indexOfSupplementary_2 3 rfl rfl)
theorem dJ6_indexOfSupplementary_48 : decode cJ6_indexOfSupplementary 48 = .ok (.iload 6, 2) := dk_21 6 (dk_at dksJ6_indexOfSupplementary_2 4 rfl rfl)
theorem dJ6_indexOfSupplementary_50 : decode cJ6_indexOfSupplementary 50 = .ok (.iconst 1, 1) := dk_4 (dk_at dksJ6_indexOfSupplementary_2 6 rfl rfl)
theorem dJ6_indexOfSupplementary_51 : decode cJ6_indexOfSupplementary 51 = .ok (.iadd, 1) := dk_96 (dk_at dksJ6_indexOfSupplementary_2 7 rfl rfl)
theorem dJ6_indexOfSupplementary_52 : decode cJ6_indexOfSupplementary 52 = .ok (.invokestatic 71, 3) := dk_184 0 71 (dk_at dksJ6_indexOfSupplementary_2 8 rfl rfl)
theorem dJ6_indexOfSupplementary_55 : decode cJ6_indexOfSupplementary 55 = .ok (.iload 5, 2) := dk_21 5 (dk_at dksJ6_indexOfSupplementary_2 11 rfl rfl)
theorem dJ6_indexOfSupplementary_57 : decode cJ6_indexOfSupplementary 57 = .ok (.if_icmp .ne 6, 3) := dk_160 0 6 (dk_at dksJ6_indexOfSupplementary_2 13 rfl rfl)
theorem dJ6_indexOfSupplementary_60 : decode cJ6_indexOfSupplementary 60 = .ok (.iload 6, 2) := dk_21 6 (dk_at dksJ6_indexOfSupplementary_2 16 rfl rfl)
theorem dJ6_indexOfSupplementary_62 : decode cJ6_indexOfSupplementary 62 = .ok (.ireturn, 1) := dk_172 (dk_at dksJ6_indexOfSupplementary_2 18 rfl rfl)
theorem dJ6_indexOfSupplementary_63 : decode cJ6_indexOfSupplementary 63 = .ok (.iinc 6 1, 3) := dk_132 6 1 (dk_at dksJ6_indexOfSupplementary_2 19 rfl rfl)
theorem dJ6_indexOfSupplementary_66 : decode cJ6_indexOfSupplementary 66 = .ok (.goto (-38), 3) := dk_167 255 218 (dk_at dksJ6_indexOfSupplementary_3 0 rfl rfl)
theorem dJ6_indexOfSupplementary_69 : decode cJ6_indexOfSupplementary 69 = .ok (.iconst (-1), 1) := dk_2 (dk_at dksJ6_indexOfSupplementary_3 3 rfl rfl)
theorem dJ6_indexOfSupplementary_70 : decode cJ6_indexOfSupplementary 70 = .ok (.ireturn, 1) := dk_172 (dk_at dksJ6_indexOfSupplementary_3 4 rfl rfl)
theorem q105 : (Jvm.Cond.initialized "java/lang/StringUTF16") ∈ lw_all := lw_g (lw_at lw_m1 24 rfl) rfl
theorem q741 : (Jvm.Cond.static ({ cls := "java/lang/StringUTF16", name := "indexOf", desc := "([BIII)I" } : Jvm.MethodName)) ∈ lw_all := lw_g (lw_at lw_m3 180 rfl) rfl
theorem q742 : (Jvm.Cond.code ({ cls := "java/lang/StringUTF16", name := "indexOf", desc := "([BIII)I" } : Jvm.MethodName) prog_38_method_40_code (4 : Nat) (Option.some Jvm.ClassFile.FieldType.int)) ∈ lw_all := lw_g (lw_at lw_m3 181 rfl) rfl
theorem q743 : (Jvm.Cond.methodLink "java/lang/StringUTF16" (224 : Nat) ({ cls := "java/lang/Math", name := "max", desc := "(II)I" } : Jvm.MethodName)) ∈ lw_all := lw_g (lw_at lw_m3 182 rfl) rfl
theorem q744 : (Jvm.Cond.methodLink "java/lang/StringUTF16" (183 : Nat) ({ cls := "java/lang/Math", name := "min", desc := "(II)I" } : Jvm.MethodName)) ∈ lw_all := lw_g (lw_at lw_m3 183 rfl) rfl
theorem q745 : (Jvm.Cond.constant "java/lang/StringUTF16" (227 : Nat) (65536 : Int32)) ∈ lw_all := lw_g (lw_at lw_m3 184 rfl) rfl
theorem q746 : (Jvm.Cond.methodLink "java/lang/StringUTF16" (228 : Nat) ({ cls := "java/lang/StringUTF16", name := "indexOfChar", desc := "([BIII)I" } : Jvm.MethodName)) ∈ lw_all := lw_g (lw_at lw_m3 185 rfl) rfl
theorem q747 : (Jvm.Cond.static ({ cls := "java/lang/StringUTF16", name := "indexOfChar", desc := "([BIII)I" } : Jvm.MethodName)) ∈ lw_all := lw_g (lw_at lw_m3 186 rfl) rfl
theorem q748 : (Jvm.Cond.code ({ cls := "java/lang/StringUTF16", name := "indexOfChar", desc := "([BIII)I" } : Jvm.MethodName) prog_38_method_47_code (4 : Nat) (Option.some Jvm.ClassFile.FieldType.int)) ∈ lw_all := lw_g (lw_at lw_m3 187 rfl) rfl
theorem q749 : (Jvm.Cond.methodLink "java/lang/StringUTF16" (96 : Nat) ({ cls := "java/lang/StringUTF16", name := "checkBoundsBeginEnd", desc := "(II[B)V" } : Jvm.MethodName)) ∈ lw_all := lw_g (lw_at lw_m3 188 rfl) rfl
theorem q750 : (Jvm.Cond.static ({ cls := "java/lang/StringUTF16", name := "checkBoundsBeginEnd", desc := "(II[B)V" } : Jvm.MethodName)) ∈ lw_all := lw_g (lw_at lw_m3 189 rfl) rfl
theorem q751 : (Jvm.Cond.code ({ cls := "java/lang/StringUTF16", name := "checkBoundsBeginEnd", desc := "(II[B)V" } : Jvm.MethodName) prog_38_method_93_code (3 : Nat) (Option.none : Option Jvm.ClassFile.FieldType)) ∈ lw_all := lw_g (lw_at lw_m3 190 rfl) rfl
theorem q752 : (Jvm.Cond.methodLink "java/lang/StringUTF16" (48 : Nat) ({ cls := "java/lang/StringUTF16", name := "length", desc := "([B)I" } : Jvm.MethodName)) ∈ lw_all := lw_g (lw_at lw_m3 191 rfl) rfl
theorem q753 : (Jvm.Cond.static ({ cls := "java/lang/StringUTF16", name := "length", desc := "([B)I" } : Jvm.MethodName)) ∈ lw_all := lw_g (lw_at lw_m3 192 rfl) rfl
theorem q754 : (Jvm.Cond.code ({ cls := "java/lang/StringUTF16", name := "length", desc := "([B)I" } : Jvm.MethodName) prog_38_method_6_code (1 : Nat) (Option.some Jvm.ClassFile.FieldType.int)) ∈ lw_all := lw_g (lw_at lw_m3 193 rfl) rfl
theorem q755 : (Jvm.Cond.methodLink "java/lang/StringUTF16" (241 : Nat) ({ cls := "java/lang/String", name := "checkBoundsBeginEnd", desc := "(III)V" } : Jvm.MethodName)) ∈ lw_all := lw_g (lw_at lw_m3 194 rfl) rfl
theorem q763 : (Jvm.Cond.methodLink "java/lang/StringUTF16" (244 : Nat) ({ cls := "java/lang/StringUTF16", name := "indexOfCharUnsafe", desc := "([BIII)I" } : Jvm.MethodName)) ∈ lw_all := lw_g (lw_at lw_m3 202 rfl) rfl
theorem q764 : (Jvm.Cond.static ({ cls := "java/lang/StringUTF16", name := "indexOfCharUnsafe", desc := "([BIII)I" } : Jvm.MethodName)) ∈ lw_all := lw_g (lw_at lw_m3 203 rfl) rfl
theorem q765 : (Jvm.Cond.code ({ cls := "java/lang/StringUTF16", name := "indexOfCharUnsafe", desc := "([BIII)I" } : Jvm.MethodName) prog_38_method_48_code (5 : Nat) (Option.some Jvm.ClassFile.FieldType.int)) ∈ lw_all := lw_g (lw_at lw_m3 204 rfl) rfl
theorem q766 : (Jvm.Cond.methodLink "java/lang/StringUTF16" (71 : Nat) ({ cls := "java/lang/StringUTF16", name := "getChar", desc := "([BI)C" } : Jvm.MethodName)) ∈ lw_all := lw_g (lw_at lw_m3 205 rfl) rfl
theorem q767 : (Jvm.Cond.static ({ cls := "java/lang/StringUTF16", name := "getChar", desc := "([BI)C" } : Jvm.MethodName)) ∈ lw_all := lw_g (lw_at lw_m3 206 rfl) rfl
theorem q768 : (Jvm.Cond.code ({ cls := "java/lang/StringUTF16", name := "getChar", desc := "([BI)C" } : Jvm.MethodName) prog_38_method_5_code (2 : Nat) (Option.some Jvm.ClassFile.FieldType.char)) ∈ lw_all := lw_g (lw_at lw_m3 207 rfl) rfl
theorem q769 : (Jvm.Cond.fieldLink "java/lang/StringUTF16" (44 : Nat) "java/lang/StringUTF16" "$assertionsDisabled" "Z") ∈ lw_all := lw_g (lw_at lw_m3 208 rfl) rfl
theorem q770 : (Jvm.Cond.laysStatic "java/lang/StringUTF16" "$assertionsDisabled" "Z") ∈ lw_tbl := lw_at lw_m3 209 rfl
theorem q771 : (Jvm.Cond.fieldLink "java/lang/StringUTF16" (59 : Nat) "java/lang/StringUTF16" "HI_BYTE_SHIFT" "I") ∈ lw_all := lw_g (lw_at lw_m3 210 rfl) rfl
theorem q772 : (Jvm.Cond.laysStatic "java/lang/StringUTF16" "HI_BYTE_SHIFT" "I") ∈ lw_tbl := lw_at lw_m3 211 rfl
theorem q773 : (Jvm.Cond.fieldLink "java/lang/StringUTF16" (63 : Nat) "java/lang/StringUTF16" "LO_BYTE_SHIFT" "I") ∈ lw_all := lw_g (lw_at lw_m3 212 rfl) rfl
theorem q774 : (Jvm.Cond.laysStatic "java/lang/StringUTF16" "LO_BYTE_SHIFT" "I") ∈ lw_tbl := lw_at lw_m3 213 rfl
theorem q775 : (Jvm.Cond.methodLink "java/lang/StringUTF16" (232 : Nat) ({ cls := "java/lang/StringUTF16", name := "indexOfSupplementary", desc := "([BIII)I" } : Jvm.MethodName)) ∈ lw_all := lw_g (lw_at lw_m3 214 rfl) rfl
theorem q776 : (Jvm.Cond.static ({ cls := "java/lang/StringUTF16", name := "indexOfSupplementary", desc := "([BIII)I" } : Jvm.MethodName)) ∈ lw_all := lw_g (lw_at lw_m3 215 rfl) rfl
theorem q777 : (Jvm.Cond.code ({ cls := "java/lang/StringUTF16", name := "indexOfSupplementary", desc := "([BIII)I" } : Jvm.MethodName) prog_38_method_49_code (7 : Nat) (Option.some Jvm.ClassFile.FieldType.int)) ∈ lw_all := lw_g (lw_at lw_m3 216 rfl) rfl
theorem q778 : (Jvm.Cond.methodLink "java/lang/StringUTF16" (164 : Nat) ({ cls := "java/lang/Character", name := "isValidCodePoint", desc := "(I)Z" } : Jvm.MethodName)) ∈ lw_all := lw_g (lw_at lw_m3 217 rfl) rfl
theorem q781 : (Jvm.Cond.methodLink "java/lang/StringUTF16" (157 : Nat) ({ cls := "java/lang/Character", name := "highSurrogate", desc := "(I)C" } : Jvm.MethodName)) ∈ lw_all := lw_g (lw_at lw_m3 220 rfl) rfl
theorem q785 : (Jvm.Cond.methodLink "java/lang/StringUTF16" (161 : Nat) ({ cls := "java/lang/Character", name := "lowSurrogate", desc := "(I)C" } : Jvm.MethodName)) ∈ lw_all := lw_g (lw_at lw_m3 224 rfl) rfl
abbrev cJ7_checkFromToIndex : ByteArray := prog_41_method_12_code
def yJ7_checkFromToIndex : MethodName := ⟨RJ7, "checkFromToIndex", "(IIILjava/util/function/BiFunction;)I"⟩
def dkwJ7_checkFromToIndex_0 : List UInt8 := [26, 155, 0, 13, 26, 27, 163, 0, 8, 27, 28, 164, 0, 11, 45, 26, 27, 28, 184, 0, 99, 191, 26, 172]
abbrev dktJ7_checkFromToIndex_0 : List UInt8 := dkwJ7_checkFromToIndex_0 ++ []
theorem dksJ7_checkFromToIndex_0 : cJ7_checkFromToIndex.data.toList.drop 0 = dktJ7_checkFromToIndex_0 := by decide +kernel
theorem dJ7_checkFromToIndex_0 : decode cJ7_checkFromToIndex 0 = .ok (.iload_n 0, 1) := dk_26 (dk_at dksJ7_checkFromToIndex_0 0 rfl rfl)
theorem dJ7_checkFromToIndex_1 : decode cJ7_checkFromToIndex 1 = .ok (.ifCond .lt 13, 3) := dk_155 0 13 (dk_at dksJ7_checkFromToIndex_0 1 rfl rfl)
theorem dJ7_checkFromToIndex_4 : decode cJ7_checkFromToIndex 4 = .ok (.iload_n 0, 1) := dk_26 (dk_at dksJ7_checkFromToIndex_0 4 rfl rfl)
theorem dJ7_checkFromToIndex_5 : decode cJ7_checkFromToIndex 5 = .ok (.iload_n 1, 1) := dk_27 (dk_at dksJ7_checkFromToIndex_0 5 rfl rfl)
theorem dJ7_checkFromToIndex_6 : decode cJ7_checkFromToIndex 6 = .ok (.if_icmp .gt 8, 3) := dk_163 0 8 (dk_at dksJ7_checkFromToIndex_0 6 rfl rfl)
theorem dJ7_checkFromToIndex_9 : decode cJ7_checkFromToIndex 9 = .ok (.iload_n 1, 1) := dk_27 (dk_at dksJ7_checkFromToIndex_0 9 rfl rfl)
theorem dJ7_checkFromToIndex_10 : decode cJ7_checkFromToIndex 10 = .ok (.iload_n 2, 1) := dk_28 (dk_at dksJ7_checkFromToIndex_0 10 rfl rfl)
theorem dJ7_checkFromToIndex_11 : decode cJ7_checkFromToIndex 11 = .ok (.if_icmp .le 11, 3) := dk_164 0 11 (dk_at dksJ7_checkFromToIndex_0 11 rfl rfl)
theorem dJ7_checkFromToIndex_14 : decode cJ7_checkFromToIndex 14 = .ok (.aload_n 3, 1) := dk_45 (dk_at dksJ7_checkFromToIndex_0 14 rfl rfl)
theorem dJ7_checkFromToIndex_15 : decode cJ7_checkFromToIndex 15 = .ok (.iload_n 0, 1) := dk_26 (dk_at dksJ7_checkFromToIndex_0 15 rfl rfl)
theorem dJ7_checkFromToIndex_16 : decode cJ7_checkFromToIndex 16 = .ok (.iload_n 1, 1) := dk_27 (dk_at dksJ7_checkFromToIndex_0 16 rfl rfl)
theorem dJ7_checkFromToIndex_17 : decode cJ7_checkFromToIndex 17 = .ok (.iload_n 2, 1) := dk_28 (dk_at dksJ7_checkFromToIndex_0 17 rfl rfl)
theorem dJ7_checkFromToIndex_18 : decode cJ7_checkFromToIndex 18 = .ok (.invokestatic 99, 3) := dk_184 0 99 (dk_at dksJ7_checkFromToIndex_0 18 rfl rfl)
theorem dJ7_checkFromToIndex_21 : decode cJ7_checkFromToIndex 21 = .ok (.athrow, 1) := dk_191 (dk_at dksJ7_checkFromToIndex_0 21 rfl rfl)
theorem dJ7_checkFromToIndex_22 : decode cJ7_checkFromToIndex 22 = .ok (.iload_n 0, 1) := dk_26 (dk_at dksJ7_checkFromToIndex_0 22 rfl rfl)
theorem dJ7_checkFromToIndex_23 : decode cJ7_checkFromToIndex 23 = .ok (.ireturn, 1) := dk_172 (dk_at dksJ7_checkFromToIndex_0 23 rfl rfl)
theorem q106 : (Jvm.Cond.initialized "jdk/internal/util/Preconditions") ∈ lw_all := lw_g (lw_at lw_m1 25 rfl) rfl
theorem q759 : (Jvm.Cond.laysStatic "jdk/internal/util/Preconditions" "SIOOBE_FORMATTER" "Ljava/util/function/BiFunction;") ∈ lw_tbl := lw_at lw_m3 198 rfl
theorem q761 : (Jvm.Cond.static ({ cls := "jdk/internal/util/Preconditions", name := "checkFromToIndex", desc := "(IIILjava/util/function/BiFunction;)I" } : Jvm.MethodName)) ∈ lw_all := lw_g (lw_at lw_m3 200 rfl) rfl
theorem q762 : (Jvm.Cond.code ({ cls := "jdk/internal/util/Preconditions", name := "checkFromToIndex", desc := "(IIILjava/util/function/BiFunction;)I" } : Jvm.MethodName) prog_41_method_12_code (4 : Nat) (Option.some Jvm.ClassFile.FieldType.int)) ∈ lw_all := lw_g (lw_at lw_m3 201 rfl) rfl
abbrev cJ8_isValidCodePoint : ByteArray := prog_31_method_11_code
def yJ8_isValidCodePoint : MethodName := ⟨RJ8, "isValidCodePoint", "(I)Z"⟩
def dkwJ8_isValidCodePoint_0 : List UInt8 := [26, 16, 16, 124, 60, 27, 16, 17, 162, 0, 7, 4, 167, 0, 4, 3, 172]
abbrev dktJ8_isValidCodePoint_0 : List UInt8 := dkwJ8_isValidCodePoint_0 ++ []
theorem dksJ8_isValidCodePoint_0 : cJ8_isValidCodePoint.data.toList.drop 0 = dktJ8_isValidCodePoint_0 := by decide +kernel
theorem dJ8_isValidCodePoint_0 : decode cJ8_isValidCodePoint 0 = .ok (.iload_n 0, 1) := dk_26 (dk_at dksJ8_isValidCodePoint_0 0 rfl rfl)
theorem dJ8_isValidCodePoint_1 : decode cJ8_isValidCodePoint 1 = .ok (.bipush 16, 2) := dk_16 16 (dk_at dksJ8_isValidCodePoint_0 1 rfl rfl)
theorem dJ8_isValidCodePoint_3 : decode cJ8_isValidCodePoint 3 = .ok (.iushr, 1) := dk_124 (dk_at dksJ8_isValidCodePoint_0 3 rfl rfl)
theorem dJ8_isValidCodePoint_4 : decode cJ8_isValidCodePoint 4 = .ok (.istore_n 1, 1) := dk_60 (dk_at dksJ8_isValidCodePoint_0 4 rfl rfl)
theorem dJ8_isValidCodePoint_5 : decode cJ8_isValidCodePoint 5 = .ok (.iload_n 1, 1) := dk_27 (dk_at dksJ8_isValidCodePoint_0 5 rfl rfl)
theorem dJ8_isValidCodePoint_6 : decode cJ8_isValidCodePoint 6 = .ok (.bipush 17, 2) := dk_16 17 (dk_at dksJ8_isValidCodePoint_0 6 rfl rfl)
theorem dJ8_isValidCodePoint_8 : decode cJ8_isValidCodePoint 8 = .ok (.if_icmp .ge 7, 3) := dk_162 0 7 (dk_at dksJ8_isValidCodePoint_0 8 rfl rfl)
theorem dJ8_isValidCodePoint_11 : decode cJ8_isValidCodePoint 11 = .ok (.iconst 1, 1) := dk_4 (dk_at dksJ8_isValidCodePoint_0 11 rfl rfl)
theorem dJ8_isValidCodePoint_12 : decode cJ8_isValidCodePoint 12 = .ok (.goto 4, 3) := dk_167 0 4 (dk_at dksJ8_isValidCodePoint_0 12 rfl rfl)
theorem dJ8_isValidCodePoint_15 : decode cJ8_isValidCodePoint 15 = .ok (.iconst 0, 1) := dk_3 (dk_at dksJ8_isValidCodePoint_0 15 rfl rfl)
theorem dJ8_isValidCodePoint_16 : decode cJ8_isValidCodePoint 16 = .ok (.ireturn, 1) := dk_172 (dk_at dksJ8_isValidCodePoint_0 16 rfl rfl)
abbrev cJ8_highSurrogate : ByteArray := prog_31_method_28_code
def yJ8_highSurrogate : MethodName := ⟨RJ8, "highSurrogate", "(I)C"⟩
def dkwJ8_highSurrogate_0 : List UInt8 := [26, 16, 10, 124, 18, 110, 96, 146, 172]
abbrev dktJ8_highSurrogate_0 : List UInt8 := dkwJ8_highSurrogate_0 ++ []
theorem dksJ8_highSurrogate_0 : cJ8_highSurrogate.data.toList.drop 0 = dktJ8_highSurrogate_0 := by decide +kernel
theorem dJ8_highSurrogate_0 : decode cJ8_highSurrogate 0 = .ok (.iload_n 0, 1) := dk_26 (dk_at dksJ8_highSurrogate_0 0 rfl rfl)
theorem dJ8_highSurrogate_1 : decode cJ8_highSurrogate 1 = .ok (.bipush 10, 2) := dk_16 10 (dk_at dksJ8_highSurrogate_0 1 rfl rfl)
theorem dJ8_highSurrogate_3 : decode cJ8_highSurrogate 3 = .ok (.iushr, 1) := dk_124 (dk_at dksJ8_highSurrogate_0 3 rfl rfl)
theorem dJ8_highSurrogate_4 : decode cJ8_highSurrogate 4 = .ok (.ldc 110, 2) := dk_18 110 (dk_at dksJ8_highSurrogate_0 4 rfl rfl)
theorem dJ8_highSurrogate_6 : decode cJ8_highSurrogate 6 = .ok (.iadd, 1) := dk_96 (dk_at dksJ8_highSurrogate_0 6 rfl rfl)
theorem dJ8_highSurrogate_7 : decode cJ8_highSurrogate 7 = .ok (.i2c, 1) := dk_146 (dk_at dksJ8_highSurrogate_0 7 rfl rfl)
theorem dJ8_highSurrogate_8 : decode cJ8_highSurrogate 8 = .ok (.ireturn, 1) := dk_172 (dk_at dksJ8_highSurrogate_0 8 rfl rfl)
abbrev cJ8_lowSurrogate : ByteArray := prog_31_method_29_code
def yJ8_lowSurrogate : MethodName := ⟨RJ8, "lowSurrogate", "(I)C"⟩
def dkwJ8_lowSurrogate_0 : List UInt8 := [26, 17, 3, 255, 126, 18, 76, 96, 146, 172]
abbrev dktJ8_lowSurrogate_0 : List UInt8 := dkwJ8_lowSurrogate_0 ++ []
theorem dksJ8_lowSurrogate_0 : cJ8_lowSurrogate.data.toList.drop 0 = dktJ8_lowSurrogate_0 := by decide +kernel
theorem dJ8_lowSurrogate_0 : decode cJ8_lowSurrogate 0 = .ok (.iload_n 0, 1) := dk_26 (dk_at dksJ8_lowSurrogate_0 0 rfl rfl)
theorem dJ8_lowSurrogate_1 : decode cJ8_lowSurrogate 1 = .ok (.sipush 1023, 3) := dk_17 3 255 (dk_at dksJ8_lowSurrogate_0 1 rfl rfl)
theorem dJ8_lowSurrogate_4 : decode cJ8_lowSurrogate 4 = .ok (.iand, 1) := dk_126 (dk_at dksJ8_lowSurrogate_0 4 rfl rfl)
theorem dJ8_lowSurrogate_5 : decode cJ8_lowSurrogate 5 = .ok (.ldc 76, 2) := dk_18 76 (dk_at dksJ8_lowSurrogate_0 5 rfl rfl)
theorem dJ8_lowSurrogate_7 : decode cJ8_lowSurrogate 7 = .ok (.iadd, 1) := dk_96 (dk_at dksJ8_lowSurrogate_0 7 rfl rfl)
theorem dJ8_lowSurrogate_8 : decode cJ8_lowSurrogate 8 = .ok (.i2c, 1) := dk_146 (dk_at dksJ8_lowSurrogate_0 8 rfl rfl)
theorem dJ8_lowSurrogate_9 : decode cJ8_lowSurrogate 9 = .ok (.ireturn, 1) := dk_172 (dk_at dksJ8_lowSurrogate_0 9 rfl rfl)
theorem q107 : (Jvm.Cond.initialized "java/lang/Character") ∈ lw_all := lw_g (lw_at lw_m1 26 rfl) rfl
theorem q779 : (Jvm.Cond.static ({ cls := "java/lang/Character", name := "isValidCodePoint", desc := "(I)Z" } : Jvm.MethodName)) ∈ lw_all := lw_g (lw_at lw_m3 218 rfl) rfl
theorem q780 : (Jvm.Cond.code ({ cls := "java/lang/Character", name := "isValidCodePoint", desc := "(I)Z" } : Jvm.MethodName) prog_31_method_11_code (2 : Nat) (Option.some Jvm.ClassFile.FieldType.boolean)) ∈ lw_all := lw_g (lw_at lw_m3 219 rfl) rfl
theorem q782 : (Jvm.Cond.static ({ cls := "java/lang/Character", name := "highSurrogate", desc := "(I)C" } : Jvm.MethodName)) ∈ lw_all := lw_g (lw_at lw_m3 221 rfl) rfl
theorem q783 : (Jvm.Cond.code ({ cls := "java/lang/Character", name := "highSurrogate", desc := "(I)C" } : Jvm.MethodName) prog_31_method_28_code (1 : Nat) (Option.some Jvm.ClassFile.FieldType.char)) ∈ lw_all := lw_g (lw_at lw_m3 222 rfl) rfl
theorem q784 : (Jvm.Cond.constant "java/lang/Character" (110 : Nat) (55232 : Int32)) ∈ lw_all := lw_g (lw_at lw_m3 223 rfl) rfl
theorem q786 : (Jvm.Cond.static ({ cls := "java/lang/Character", name := "lowSurrogate", desc := "(I)C" } : Jvm.MethodName)) ∈ lw_all := lw_g (lw_at lw_m3 225 rfl) rfl
theorem q787 : (Jvm.Cond.code ({ cls := "java/lang/Character", name := "lowSurrogate", desc := "(I)C" } : Jvm.MethodName) prog_31_method_29_code (1 : Nat) (Option.some Jvm.ClassFile.FieldType.char)) ∈ lw_all := lw_g (lw_at lw_m3 226 rfl) rfl
theorem q788 : (Jvm.Cond.constant "java/lang/Character" (76 : Nat) (56320 : Int32)) ∈ lw_all := lw_g (lw_at lw_m3 227 rfl) rfl
abbrev cJ9_bitCount : ByteArray := prog_33_method_49_code
def yJ9_bitCount : MethodName := ⟨RJ9, "bitCount", "(I)I"⟩
def dkwJ9_bitCount_2 : List UInt8 := [26, 16, 63, 126, 172]
abbrev dktJ9_bitCount_2 : List UInt8 := dkwJ9_bitCount_2 ++ []
def dkwJ9_bitCount_1 : List UInt8 := [26, 26, 7, 124, 96, 19, 1, 11, 126, 59, 26, 26, 16, 8, 124, 96, 59, 26, 26, 16, 16, 124, 96, 59]
abbrev dktJ9_bitCount_1 : List UInt8 := dkwJ9_bitCount_1 ++ dktJ9_bitCount_2
def dkwJ9_bitCount_0 : List UInt8 := [26, 26, 4, 124, 19, 1, 9, 126, 100, 59, 26, 19, 1, 10, 126, 26, 5, 124, 19, 1, 10, 126, 96, 59]
abbrev dktJ9_bitCount_0 : List UInt8 := dkwJ9_bitCount_0 ++ dktJ9_bitCount_1
theorem dksJ9_bitCount_0 : cJ9_bitCount.data.toList.drop 0 = dktJ9_bitCount_0 := by decide +kernel
theorem dksJ9_bitCount_1 : cJ9_bitCount.data.toList.drop 24 = dktJ9_bitCount_1 := dk_seg dksJ9_bitCount_0 24 rfl rfl
theorem dksJ9_bitCount_2 : cJ9_bitCount.data.toList.drop 48 = dktJ9_bitCount_2 := dk_seg dksJ9_bitCount_1 24 rfl rfl
theorem dJ9_bitCount_0 : decode cJ9_bitCount 0 = .ok (.iload_n 0, 1) := dk_26 (dk_at dksJ9_bitCount_0 0 rfl rfl)
theorem dJ9_bitCount_1 : decode cJ9_bitCount 1 = .ok (.iload_n 0, 1) := dk_26 (dk_at dksJ9_bitCount_0 1 rfl rfl)
theorem dJ9_bitCount_2 : decode cJ9_bitCount 2 = .ok (.iconst 1, 1) := dk_4 (dk_at dksJ9_bitCount_0 2 rfl rfl)
theorem dJ9_bitCount_3 : decode cJ9_bitCount 3 = .ok (.iushr, 1) := dk_124 (dk_at dksJ9_bitCount_0 3 rfl rfl)
theorem dJ9_bitCount_4 : decode cJ9_bitCount 4 = .ok (.ldc_w 265, 3) := dk_19 1 9 (dk_at dksJ9_bitCount_0 4 rfl rfl)
theorem dJ9_bitCount_7 : decode cJ9_bitCount 7 = .ok (.iand, 1) := dk_126 (dk_at dksJ9_bitCount_0 7 rfl rfl)
theorem dJ9_bitCount_8 : decode cJ9_bitCount 8 = .ok (.isub, 1) := dk_100 (dk_at dksJ9_bitCount_0 8 rfl rfl)
theorem dJ9_bitCount_9 : decode cJ9_bitCount 9 = .ok (.istore_n 0, 1) := dk_59 (dk_at dksJ9_bitCount_0 9 rfl rfl)
theorem dJ9_bitCount_10 : decode cJ9_bitCount 10 = .ok (.iload_n 0, 1) := dk_26 (dk_at dksJ9_bitCount_0 10 rfl rfl)
theorem dJ9_bitCount_11 : decode cJ9_bitCount 11 = .ok (.ldc_w 266, 3) := dk_19 1 10 (dk_at dksJ9_bitCount_0 11 rfl rfl)
theorem dJ9_bitCount_14 : decode cJ9_bitCount 14 = .ok (.iand, 1) := dk_126 (dk_at dksJ9_bitCount_0 14 rfl rfl)
theorem dJ9_bitCount_15 : decode cJ9_bitCount 15 = .ok (.iload_n 0, 1) := dk_26 (dk_at dksJ9_bitCount_0 15 rfl rfl)
theorem dJ9_bitCount_16 : decode cJ9_bitCount 16 = .ok (.iconst 2, 1) := dk_5 (dk_at dksJ9_bitCount_0 16 rfl rfl)
theorem dJ9_bitCount_17 : decode cJ9_bitCount 17 = .ok (.iushr, 1) := dk_124 (dk_at dksJ9_bitCount_0 17 rfl rfl)
theorem dJ9_bitCount_18 : decode cJ9_bitCount 18 = .ok (.ldc_w 266, 3) := dk_19 1 10 (dk_at dksJ9_bitCount_0 18 rfl rfl)
theorem dJ9_bitCount_21 : decode cJ9_bitCount 21 = .ok (.iand, 1) := dk_126 (dk_at dksJ9_bitCount_0 21 rfl rfl)
theorem dJ9_bitCount_22 : decode cJ9_bitCount 22 = .ok (.iadd, 1) := dk_96 (dk_at dksJ9_bitCount_0 22 rfl rfl)
theorem dJ9_bitCount_23 : decode cJ9_bitCount 23 = .ok (.istore_n 0, 1) := dk_59 (dk_at dksJ9_bitCount_0 23 rfl rfl)
theorem dJ9_bitCount_24 : decode cJ9_bitCount 24 = .ok (.iload_n 0, 1) := dk_26 (dk_at dksJ9_bitCount_1 0 rfl rfl)
theorem dJ9_bitCount_25 : decode cJ9_bitCount 25 = .ok (.iload_n 0, 1) := dk_26 (dk_at dksJ9_bitCount_1 1 rfl rfl)
theorem dJ9_bitCount_26 : decode cJ9_bitCount 26 = .ok (.iconst 4, 1) := dk_7 (dk_at dksJ9_bitCount_1 2 rfl rfl)
theorem dJ9_bitCount_27 : decode cJ9_bitCount 27 = .ok (.iushr, 1) := dk_124 (dk_at dksJ9_bitCount_1 3 rfl rfl)
theorem dJ9_bitCount_28 : decode cJ9_bitCount 28 = .ok (.iadd, 1) := dk_96 (dk_at dksJ9_bitCount_1 4 rfl rfl)
theorem dJ9_bitCount_29 : decode cJ9_bitCount 29 = .ok (.ldc_w 267, 3) := dk_19 1 11 (dk_at dksJ9_bitCount_1 5 rfl rfl)
theorem dJ9_bitCount_32 : decode cJ9_bitCount 32 = .ok (.iand, 1) := dk_126 (dk_at dksJ9_bitCount_1 8 rfl rfl)
theorem dJ9_bitCount_33 : decode cJ9_bitCount 33 = .ok (.istore_n 0, 1) := dk_59 (dk_at dksJ9_bitCount_1 9 rfl rfl)
theorem dJ9_bitCount_34 : decode cJ9_bitCount 34 = .ok (.iload_n 0, 1) := dk_26 (dk_at dksJ9_bitCount_1 10 rfl rfl)
theorem dJ9_bitCount_35 : decode cJ9_bitCount 35 = .ok (.iload_n 0, 1) := dk_26 (dk_at dksJ9_bitCount_1 11 rfl rfl)
theorem dJ9_bitCount_36 : decode cJ9_bitCount 36 = .ok (.bipush 8, 2) := dk_16 8 (dk_at dksJ9_bitCount_1 12 rfl rfl)
theorem dJ9_bitCount_38 : decode cJ9_bitCount 38 = .ok (.iushr, 1) := dk_124 (dk_at dksJ9_bitCount_1 14 rfl rfl)
theorem dJ9_bitCount_39 : decode cJ9_bitCount 39 = .ok (.iadd, 1) := dk_96 (dk_at dksJ9_bitCount_1 15 rfl rfl)
theorem dJ9_bitCount_40 : decode cJ9_bitCount 40 = .ok (.istore_n 0, 1) := dk_59 (dk_at dksJ9_bitCount_1 16 rfl rfl)
theorem dJ9_bitCount_41 : decode cJ9_bitCount 41 = .ok (.iload_n 0, 1) := dk_26 (dk_at dksJ9_bitCount_1 17 rfl rfl)
theorem dJ9_bitCount_42 : decode cJ9_bitCount 42 = .ok (.iload_n 0, 1) := dk_26 (dk_at dksJ9_bitCount_1 18 rfl rfl)
theorem dJ9_bitCount_43 : decode cJ9_bitCount 43 = .ok (.bipush 16, 2) := dk_16 16 (dk_at dksJ9_bitCount_1 19 rfl rfl)
theorem dJ9_bitCount_45 : decode cJ9_bitCount 45 = .ok (.iushr, 1) := dk_124 (dk_at dksJ9_bitCount_1 21 rfl rfl)
theorem dJ9_bitCount_46 : decode cJ9_bitCount 46 = .ok (.iadd, 1) := dk_96 (dk_at dksJ9_bitCount_1 22 rfl rfl)
theorem dJ9_bitCount_47 : decode cJ9_bitCount 47 = .ok (.istore_n 0, 1) := dk_59 (dk_at dksJ9_bitCount_1 23 rfl rfl)
theorem dJ9_bitCount_48 : decode cJ9_bitCount 48 = .ok (.iload_n 0, 1) := dk_26 (dk_at dksJ9_bitCount_2 0 rfl rfl)
theorem dJ9_bitCount_49 : decode cJ9_bitCount 49 = .ok (.bipush 63, 2) := dk_16 63 (dk_at dksJ9_bitCount_2 1 rfl rfl)
theorem dJ9_bitCount_51 : decode cJ9_bitCount 51 = .ok (.iand, 1) := dk_126 (dk_at dksJ9_bitCount_2 3 rfl rfl)
theorem dJ9_bitCount_52 : decode cJ9_bitCount 52 = .ok (.ireturn, 1) := dk_172 (dk_at dksJ9_bitCount_2 4 rfl rfl)
theorem q113 : (Jvm.Cond.initialized "java/lang/Integer") ∈ lw_all := lw_g (lw_at lw_m1 32 rfl) rfl
theorem q1074 : (Jvm.Cond.static ({ cls := "java/lang/Integer", name := "bitCount", desc := "(I)I" } : Jvm.MethodName)) ∈ lw_all := lw_g (lw_at lw_m5 33 rfl) rfl
theorem q1075 : (Jvm.Cond.code ({ cls := "java/lang/Integer", name := "bitCount", desc := "(I)I" } : Jvm.MethodName) prog_33_method_49_code (1 : Nat) (Option.some Jvm.ClassFile.FieldType.int)) ∈ lw_all := lw_g (lw_at lw_m5 34 rfl) rfl
theorem q1076 : (Jvm.Cond.constant "java/lang/Integer" (265 : Nat) (1431655765 : Int32)) ∈ lw_all := lw_g (lw_at lw_m5 35 rfl) rfl
theorem q1077 : (Jvm.Cond.constant "java/lang/Integer" (266 : Nat) (858993459 : Int32)) ∈ lw_all := lw_g (lw_at lw_m5 36 rfl) rfl
theorem q1078 : (Jvm.Cond.constant "java/lang/Integer" (267 : Nat) (252645135 : Int32)) ∈ lw_all := lw_g (lw_at lw_m5 37 rfl) rfl
abbrev cJ10_init : ByteArray := object_method_1_code
def yJ10_init : MethodName := ⟨RJ10, "<init>", "()V"⟩
theorem dJ10_init_0 : decode cJ10_init 0 = .ok (.return_, 1) := by decide +kernel
theorem q124 : (Jvm.Cond.instanceMethod ({ cls := "java/lang/Object", name := "<init>", desc := "()V" } : Jvm.MethodName)) ∈ lw_all := lw_g (lw_at lw_m1 43 rfl) rfl
theorem q125 : (Jvm.Cond.code ({ cls := "java/lang/Object", name := "<init>", desc := "()V" } : Jvm.MethodName) object_method_1_code (1 : Nat) (Option.none : Option Jvm.ClassFile.FieldType)) ∈ lw_all := lw_g (lw_at lw_m1 44 rfl) rfl
theorem q81 : (Jvm.Cond.initialized "WellRefusesLaw") ∈ lw_all := lw_g (lw_at lw_m1 0 rfl) rfl
theorem q118 : (Jvm.Cond.classLink "WellRefusesLaw" (7 : Nat) "WellRefuses") ∈ lw_all := lw_g (lw_at lw_m1 37 rfl) rfl
theorem q120 : (Jvm.Cond.methodLink "WellRefusesLaw" (9 : Nat) ({ cls := "WellRefuses", name := "<init>", desc := "()V" } : Jvm.MethodName)) ∈ lw_all := lw_g (lw_at lw_m1 39 rfl) rfl
theorem q336 : (Jvm.Cond.methodLink "WellRefusesLaw" (13 : Nat) ({ cls := "WellRefuses", name := "person", desc := "(II)I" } : Jvm.MethodName)) ∈ lw_all := lw_g (lw_at lw_m2 15 rfl) rfl
theorem q458 : (Jvm.Cond.methodLink "WellRefusesLaw" (18 : Nat) ({ cls := "WellRefuses", name := "ofPerson", desc := "(II)I" } : Jvm.MethodName)) ∈ lw_all := lw_g (lw_at lw_m2 137 rfl) rfl
theorem q585 : (Jvm.Cond.methodLink "WellRefusesLaw" (22 : Nat) ({ cls := "WellRefuses", name := "change", desc := "(III)I" } : Jvm.MethodName)) ∈ lw_all := lw_g (lw_at lw_m3 24 rfl) rfl
theorem q589 : (Jvm.Cond.methodLink "WellRefusesLaw" (27 : Nat) ({ cls := "WellRefuses", name := "owe", desc := "(III)I" } : Jvm.MethodName)) ∈ lw_all := lw_g (lw_at lw_m3 28 rfl) rfl
theorem q597 : (Jvm.Cond.methodLink "WellRefusesLaw" (31 : Nat) ({ cls := "WellRefuses", name := "owes", desc := "(II)I" } : Jvm.MethodName)) ∈ lw_all := lw_g (lw_at lw_m3 36 rfl) rfl
theorem q601 : (Jvm.Cond.methodLink "WellRefusesLaw" (35 : Nat) ({ cls := "WellRefuses", name := "become", desc := "(II)I" } : Jvm.MethodName)) ∈ lw_all := lw_g (lw_at lw_m3 40 rfl) rfl
theorem q605 : (Jvm.Cond.methodLink "WellRefusesLaw" (39 : Nat) ({ cls := "WellRefuses", name := "as", desc := "(II)I" } : Jvm.MethodName)) ∈ lw_all := lw_g (lw_at lw_m3 44 rfl) rfl
theorem q638 : (Jvm.Cond.methodLink "WellRefusesLaw" (45 : Nat) ({ cls := "WellRefuses", name := "feed", desc := "(JI)I" } : Jvm.MethodName)) ∈ lw_all := lw_g (lw_at lw_m3 77 rfl) rfl
theorem q642 : (Jvm.Cond.methodLink "WellRefusesLaw" (50 : Nat) ({ cls := "WellRefuses", name := "text", desc := "(I)I" } : Jvm.MethodName)) ∈ lw_all := lw_g (lw_at lw_m3 81 rfl) rfl
theorem q873 : (Jvm.Cond.methodLink "WellRefusesLaw" (55 : Nat) ({ cls := "WellRefuses", name := "law", desc := "(IIII)I" } : Jvm.MethodName)) ∈ lw_all := lw_g (lw_at lw_m4 72 rfl) rfl
theorem q882 : (Jvm.Cond.methodLink "WellRefusesLaw" (60 : Nat) ({ cls := "WellRefuses", name := "days", desc := "(I)I" } : Jvm.MethodName)) ∈ lw_all := lw_g (lw_at lw_m4 81 rfl) rfl
theorem q930 : (Jvm.Cond.methodLink "WellRefusesLaw" (64 : Nat) ({ cls := "WellRefuses", name := "loose", desc := "(I)I" } : Jvm.MethodName)) ∈ lw_all := lw_g (lw_at lw_m4 129 rfl) rfl
theorem q943 : (Jvm.Cond.methodLink "WellRefusesLaw" (68 : Nat) ({ cls := "WellRefuses", name := "strike", desc := "()I" } : Jvm.MethodName)) ∈ lw_all := lw_g (lw_at lw_m4 142 rfl) rfl
theorem q963 : (Jvm.Cond.methodLink "WellRefusesLaw" (73 : Nat) ({ cls := "WellRefuses", name := "then", desc := "(III)I" } : Jvm.MethodName)) ∈ lw_all := lw_g (lw_at lw_m4 162 rfl) rfl
theorem q977 : (Jvm.Cond.methodLink "WellRefusesLaw" (77 : Nat) ({ cls := "WellRefuses", name := "first", desc := "(II)I" } : Jvm.MethodName)) ∈ lw_all := lw_g (lw_at lw_m4 176 rfl) rfl
theorem q986 : (Jvm.Cond.methodLink "WellRefusesLaw" (81 : Nat) ({ cls := "WellRefuses", name := "rules", desc := "(II)I" } : Jvm.MethodName)) ∈ lw_all := lw_g (lw_at lw_m4 185 rfl) rfl
theorem q1051 : (Jvm.Cond.methodLink "WellRefusesLaw" (85 : Nat) ({ cls := "WellRefuses", name := "turn", desc := "(II)I" } : Jvm.MethodName)) ∈ lw_all := lw_g (lw_at lw_m5 10 rfl) rfl
theorem q1061 : (Jvm.Cond.methodLink "WellRefusesLaw" (89 : Nat) ({ cls := "WellRefuses", name := "cover", desc := "()I" } : Jvm.MethodName)) ∈ lw_all := lw_g (lw_at lw_m5 20 rfl) rfl
theorem q1086 : (Jvm.Cond.methodLink "WellRefusesLaw" (93 : Nat) ({ cls := "WellRefuses", name := "kept", desc := "(II)I" } : Jvm.MethodName)) ∈ lw_all := lw_g (lw_at lw_m5 45 rfl) rfl
theorem q1091 : (Jvm.Cond.methodLink "WellRefusesLaw" (97 : Nat) ({ cls := "WellRefuses", name := "net", desc := "(I)I" } : Jvm.MethodName)) ∈ lw_all := lw_g (lw_at lw_m5 50 rfl) rfl
theorem q1095 : (Jvm.Cond.methodLink "WellRefusesLaw" (101 : Nat) ({ cls := "WellRefuses", name := "struck", desc := "(I)I" } : Jvm.MethodName)) ∈ lw_all := lw_g (lw_at lw_m5 54 rfl) rfl
theorem q1103 : (Jvm.Cond.methodLink "WellRefusesLaw" (105 : Nat) ({ cls := "WellRefuses", name := "odds", desc := "(II)I" } : Jvm.MethodName)) ∈ lw_all := lw_g (lw_at lw_m5 62 rfl) rfl
theorem q1110 : (Jvm.Cond.methodLink "WellRefusesLaw" (109 : Nat) ({ cls := "WellRefuses", name := "dry", desc := "()I" } : Jvm.MethodName)) ∈ lw_all := lw_g (lw_at lw_m5 69 rfl) rfl
theorem q1114 : (Jvm.Cond.methodLink "WellRefusesLaw" (113 : Nat) ({ cls := "WellRefuses", name := "seed", desc := "(I)I" } : Jvm.MethodName)) ∈ lw_all := lw_g (lw_at lw_m5 73 rfl) rfl
theorem q1118 : (Jvm.Cond.methodLink "WellRefusesLaw" (117 : Nat) ({ cls := "WellRefuses", name := "voice", desc := "(III)I" } : Jvm.MethodName)) ∈ lw_all := lw_g (lw_at lw_m5 77 rfl) rfl
theorem q1291 : (Jvm.Cond.methodLink "WellRefusesLaw" (121 : Nat) ({ cls := "WellRefuses", name := "trace", desc := "(I)I" } : Jvm.MethodName)) ∈ lw_all := lw_g (lw_at lw_m6 10 rfl) rfl
theorem q1295 : (Jvm.Cond.methodLink "WellRefusesLaw" (138 : Nat) ({ cls := "WellRefuses", name := "traits", desc := "(I)I" } : Jvm.MethodName)) ∈ lw_all := lw_g (lw_at lw_m6 14 rfl) rfl
theorem q1299 : (Jvm.Cond.methodLink "WellRefusesLaw" (142 : Nat) ({ cls := "WellRefuses", name := "judge", desc := "(I)I" } : Jvm.MethodName)) ∈ lw_all := lw_g (lw_at lw_m6 18 rfl) rfl
theorem q1303 : (Jvm.Cond.methodLink "WellRefusesLaw" (125 : Nat) ({ cls := "WellRefuses", name := "sheet", desc := "(III)I" } : Jvm.MethodName)) ∈ lw_all := lw_g (lw_at lw_m6 22 rfl) rfl
theorem q1344 : (Jvm.Cond.methodLink "WellRefusesLaw" (129 : Nat) ({ cls := "WellRefuses", name := "put", desc := "(III)I" } : Jvm.MethodName)) ∈ lw_all := lw_g (lw_at lw_m6 63 rfl) rfl
theorem q1360 : (Jvm.Cond.methodLink "WellRefusesLaw" (133 : Nat) ({ cls := "WellRefuses", name := "move", desc := "(IIIII)I" } : Jvm.MethodName)) ∈ lw_all := lw_g (lw_at lw_m6 79 rfl) rfl
theorem q1385 : (Jvm.Cond.methodLink "WellRefusesLaw" (146 : Nat) ({ cls := "WellRefuses", name := "image", desc := "()I" } : Jvm.MethodName)) ∈ lw_all := lw_g (lw_at lw_m6 104 rfl) rfl
theorem q1389 : (Jvm.Cond.methodLink "WellRefusesLaw" (150 : Nat) ({ cls := "WellRefuses", name := "restore", desc := "()I" } : Jvm.MethodName)) ∈ lw_all := lw_g (lw_at lw_m6 108 rfl) rfl
theorem q1393 : (Jvm.Cond.methodLink "WellRefusesLaw" (154 : Nat) ({ cls := "WellRefuses", name := "tell", desc := "(I)I" } : Jvm.MethodName)) ∈ lw_all := lw_g (lw_at lw_m6 112 rfl) rfl
theorem q1397 : (Jvm.Cond.methodLink "WellRefusesLaw" (158 : Nat) ({ cls := "WellRefuses", name := "check", desc := "()I" } : Jvm.MethodName)) ∈ lw_all := lw_g (lw_at lw_m6 116 rfl) rfl
theorem q1401 : (Jvm.Cond.methodLink "WellRefusesLaw" (162 : Nat) ({ cls := "WellRefuses", name := "count", desc := "(I)I" } : Jvm.MethodName)) ∈ lw_all := lw_g (lw_at lw_m6 120 rfl) rfl
theorem q1406 : (Jvm.Cond.methodLink "WellRefusesLaw" (166 : Nat) ({ cls := "WellRefuses", name := "told", desc := "(I)I" } : Jvm.MethodName)) ∈ lw_all := lw_g (lw_at lw_m6 125 rfl) rfl
theorem q1410 : (Jvm.Cond.classLink "WellRefusesLaw" (10 : Nat) "WellRefusesModel") ∈ lw_all := lw_g (lw_at lw_m6 129 rfl) rfl
theorem q1412 : (Jvm.Cond.methodLink "WellRefusesLaw" (12 : Nat) ({ cls := "WellRefusesModel", name := "<init>", desc := "()V" } : Jvm.MethodName)) ∈ lw_all := lw_g (lw_at lw_m6 131 rfl) rfl
theorem q1504 : (Jvm.Cond.methodLink "WellRefusesLaw" (17 : Nat) ({ cls := "WellRefusesModel", name := "person", desc := "(II)I" } : Jvm.MethodName)) ∈ lw_all := lw_g (lw_at lw_m6 223 rfl) rfl
theorem q1522 : (Jvm.Cond.methodLink "WellRefusesLaw" (21 : Nat) ({ cls := "WellRefusesModel", name := "ofPerson", desc := "(II)I" } : Jvm.MethodName)) ∈ lw_all := lw_g (lw_at lw_m7 1 rfl) rfl
theorem q1604 : (Jvm.Cond.methodLink "WellRefusesLaw" (26 : Nat) ({ cls := "WellRefusesModel", name := "change", desc := "(III)I" } : Jvm.MethodName)) ∈ lw_all := lw_g (lw_at lw_m7 83 rfl) rfl
theorem q1612 : (Jvm.Cond.methodLink "WellRefusesLaw" (30 : Nat) ({ cls := "WellRefusesModel", name := "owe", desc := "(III)I" } : Jvm.MethodName)) ∈ lw_all := lw_g (lw_at lw_m7 91 rfl) rfl
theorem q1620 : (Jvm.Cond.methodLink "WellRefusesLaw" (34 : Nat) ({ cls := "WellRefusesModel", name := "owes", desc := "(II)I" } : Jvm.MethodName)) ∈ lw_all := lw_g (lw_at lw_m7 99 rfl) rfl
theorem q1628 : (Jvm.Cond.methodLink "WellRefusesLaw" (38 : Nat) ({ cls := "WellRefusesModel", name := "become", desc := "(II)I" } : Jvm.MethodName)) ∈ lw_all := lw_g (lw_at lw_m7 107 rfl) rfl
theorem q1632 : (Jvm.Cond.methodLink "WellRefusesLaw" (42 : Nat) ({ cls := "WellRefusesModel", name := "as", desc := "(II)I" } : Jvm.MethodName)) ∈ lw_all := lw_g (lw_at lw_m7 111 rfl) rfl
theorem q1640 : (Jvm.Cond.methodLink "WellRefusesLaw" (59 : Nat) ({ cls := "WellRefusesModel", name := "law", desc := "(IIII)I" } : Jvm.MethodName)) ∈ lw_all := lw_g (lw_at lw_m7 119 rfl) rfl
theorem q1644 : (Jvm.Cond.methodLink "WellRefusesLaw" (49 : Nat) ({ cls := "WellRefusesModel", name := "feed", desc := "(JI)I" } : Jvm.MethodName)) ∈ lw_all := lw_g (lw_at lw_m7 123 rfl) rfl
theorem q1649 : (Jvm.Cond.methodLink "WellRefusesLaw" (54 : Nat) ({ cls := "WellRefusesModel", name := "text", desc := "(I)I" } : Jvm.MethodName)) ∈ lw_all := lw_g (lw_at lw_m7 128 rfl) rfl
theorem q1657 : (Jvm.Cond.methodLink "WellRefusesLaw" (63 : Nat) ({ cls := "WellRefusesModel", name := "days", desc := "(I)I" } : Jvm.MethodName)) ∈ lw_all := lw_g (lw_at lw_m7 136 rfl) rfl
theorem q1682 : (Jvm.Cond.methodLink "WellRefusesLaw" (67 : Nat) ({ cls := "WellRefusesModel", name := "loose", desc := "(I)I" } : Jvm.MethodName)) ∈ lw_all := lw_g (lw_at lw_m7 161 rfl) rfl
theorem q1691 : (Jvm.Cond.methodLink "WellRefusesLaw" (72 : Nat) ({ cls := "WellRefusesModel", name := "strike", desc := "()I" } : Jvm.MethodName)) ∈ lw_all := lw_g (lw_at lw_m7 170 rfl) rfl
theorem q1715 : (Jvm.Cond.methodLink "WellRefusesLaw" (104 : Nat) ({ cls := "WellRefusesModel", name := "struck", desc := "(I)I" } : Jvm.MethodName)) ∈ lw_all := lw_g (lw_at lw_m7 194 rfl) rfl
theorem q1723 : (Jvm.Cond.methodLink "WellRefusesLaw" (76 : Nat) ({ cls := "WellRefusesModel", name := "then", desc := "(III)I" } : Jvm.MethodName)) ∈ lw_all := lw_g (lw_at lw_m7 202 rfl) rfl
theorem q1727 : (Jvm.Cond.methodLink "WellRefusesLaw" (80 : Nat) ({ cls := "WellRefusesModel", name := "first", desc := "(II)I" } : Jvm.MethodName)) ∈ lw_all := lw_g (lw_at lw_m7 206 rfl) rfl
theorem q1736 : (Jvm.Cond.methodLink "WellRefusesLaw" (84 : Nat) ({ cls := "WellRefusesModel", name := "rules", desc := "(II)I" } : Jvm.MethodName)) ∈ lw_all := lw_g (lw_at lw_m7 215 rfl) rfl
theorem q1754 : (Jvm.Cond.methodLink "WellRefusesLaw" (88 : Nat) ({ cls := "WellRefusesModel", name := "turn", desc := "(II)I" } : Jvm.MethodName)) ∈ lw_all := lw_g (lw_at lw_m7 233 rfl) rfl
theorem q1762 : (Jvm.Cond.methodLink "WellRefusesLaw" (92 : Nat) ({ cls := "WellRefusesModel", name := "cover", desc := "()I" } : Jvm.MethodName)) ∈ lw_all := lw_g (lw_at lw_m8 1 rfl) rfl
theorem q1773 : (Jvm.Cond.methodLink "WellRefusesLaw" (96 : Nat) ({ cls := "WellRefusesModel", name := "kept", desc := "(II)I" } : Jvm.MethodName)) ∈ lw_all := lw_g (lw_at lw_m8 12 rfl) rfl
theorem q1777 : (Jvm.Cond.methodLink "WellRefusesLaw" (100 : Nat) ({ cls := "WellRefusesModel", name := "net", desc := "(I)I" } : Jvm.MethodName)) ∈ lw_all := lw_g (lw_at lw_m8 16 rfl) rfl
theorem q1781 : (Jvm.Cond.methodLink "WellRefusesLaw" (108 : Nat) ({ cls := "WellRefusesModel", name := "odds", desc := "(II)I" } : Jvm.MethodName)) ∈ lw_all := lw_g (lw_at lw_m8 20 rfl) rfl
theorem q1788 : (Jvm.Cond.methodLink "WellRefusesLaw" (112 : Nat) ({ cls := "WellRefusesModel", name := "dry", desc := "()I" } : Jvm.MethodName)) ∈ lw_all := lw_g (lw_at lw_m8 27 rfl) rfl
theorem q1792 : (Jvm.Cond.methodLink "WellRefusesLaw" (116 : Nat) ({ cls := "WellRefusesModel", name := "seed", desc := "(I)I" } : Jvm.MethodName)) ∈ lw_all := lw_g (lw_at lw_m8 31 rfl) rfl
theorem q1796 : (Jvm.Cond.methodLink "WellRefusesLaw" (120 : Nat) ({ cls := "WellRefusesModel", name := "voice", desc := "(III)I" } : Jvm.MethodName)) ∈ lw_all := lw_g (lw_at lw_m8 35 rfl) rfl
theorem q1820 : (Jvm.Cond.methodLink "WellRefusesLaw" (124 : Nat) ({ cls := "WellRefusesModel", name := "trace", desc := "(I)I" } : Jvm.MethodName)) ∈ lw_all := lw_g (lw_at lw_m8 59 rfl) rfl
theorem q1824 : (Jvm.Cond.methodLink "WellRefusesLaw" (128 : Nat) ({ cls := "WellRefusesModel", name := "sheet", desc := "(III)I" } : Jvm.MethodName)) ∈ lw_all := lw_g (lw_at lw_m8 63 rfl) rfl
theorem q1828 : (Jvm.Cond.methodLink "WellRefusesLaw" (132 : Nat) ({ cls := "WellRefusesModel", name := "put", desc := "(III)I" } : Jvm.MethodName)) ∈ lw_all := lw_g (lw_at lw_m8 67 rfl) rfl
theorem q1835 : (Jvm.Cond.methodLink "WellRefusesLaw" (137 : Nat) ({ cls := "WellRefusesModel", name := "move", desc := "(IIIII)I" } : Jvm.MethodName)) ∈ lw_all := lw_g (lw_at lw_m8 74 rfl) rfl
theorem q1839 : (Jvm.Cond.methodLink "WellRefusesLaw" (141 : Nat) ({ cls := "WellRefusesModel", name := "traits", desc := "(I)I" } : Jvm.MethodName)) ∈ lw_all := lw_g (lw_at lw_m8 78 rfl) rfl
theorem q1843 : (Jvm.Cond.methodLink "WellRefusesLaw" (145 : Nat) ({ cls := "WellRefusesModel", name := "judge", desc := "(I)I" } : Jvm.MethodName)) ∈ lw_all := lw_g (lw_at lw_m8 82 rfl) rfl
theorem q1847 : (Jvm.Cond.methodLink "WellRefusesLaw" (149 : Nat) ({ cls := "WellRefusesModel", name := "image", desc := "()I" } : Jvm.MethodName)) ∈ lw_all := lw_g (lw_at lw_m8 86 rfl) rfl
theorem q1851 : (Jvm.Cond.methodLink "WellRefusesLaw" (153 : Nat) ({ cls := "WellRefusesModel", name := "restore", desc := "()I" } : Jvm.MethodName)) ∈ lw_all := lw_g (lw_at lw_m8 90 rfl) rfl
theorem q1855 : (Jvm.Cond.methodLink "WellRefusesLaw" (157 : Nat) ({ cls := "WellRefusesModel", name := "tell", desc := "(I)I" } : Jvm.MethodName)) ∈ lw_all := lw_g (lw_at lw_m8 94 rfl) rfl
theorem q1859 : (Jvm.Cond.methodLink "WellRefusesLaw" (161 : Nat) ({ cls := "WellRefusesModel", name := "check", desc := "()I" } : Jvm.MethodName)) ∈ lw_all := lw_g (lw_at lw_m8 98 rfl) rfl
theorem q1863 : (Jvm.Cond.methodLink "WellRefusesLaw" (165 : Nat) ({ cls := "WellRefusesModel", name := "count", desc := "(I)I" } : Jvm.MethodName)) ∈ lw_all := lw_g (lw_at lw_m8 102 rfl) rfl
theorem q1867 : (Jvm.Cond.methodLink "WellRefusesLaw" (169 : Nat) ({ cls := "WellRefusesModel", name := "told", desc := "(I)I" } : Jvm.MethodName)) ∈ lw_all := lw_g (lw_at lw_m8 106 rfl) rfl
theorem q1871 : (Jvm.Cond.constantLong "WellRefusesLaw" (43 : Nat) (4294967295 : Int64)) ∈ lw_all := lw_g (lw_at lw_m8 110 rfl) rfl
theorem q202 : (Jvm.Cond.arrayOver (Jvm.ClassFile.FieldType.object "WellRefuses$One")) ∈ lw_tbl := lw_at lw_m1 121 rfl
theorem q204 : (Jvm.Cond.arrayOver (Jvm.ClassFile.FieldType.object "WellRefuses$Term")) ∈ lw_tbl := lw_at lw_m1 123 rfl
theorem q216 : (Jvm.Cond.arrayClass Jvm.ClassFile.FieldType.int) ∈ lw_all := lw_g (lw_at lw_m1 135 rfl) rfl
theorem q217 : (Jvm.Cond.arrayClass Jvm.ClassFile.FieldType.byte) ∈ lw_all := lw_g (lw_at lw_m1 136 rfl) rfl
theorem q294 : (Jvm.Cond.arrayOver (Jvm.ClassFile.FieldType.object "WellRefuses$Shelf")) ∈ lw_tbl := lw_at lw_m1 213 rfl
theorem q304 : (Jvm.Cond.arrayClass Jvm.ClassFile.FieldType.boolean) ∈ lw_all := lw_g (lw_at lw_m1 223 rfl) rfl
theorem q1333 : (Jvm.Cond.arrayClass Jvm.ClassFile.FieldType.short) ∈ lw_all := lw_g (lw_at lw_m6 52 rfl) rfl
theorem q1161 : (Jvm.Cond.interfaceMethod "WellRefuses$Fills" "WellRefuses$Fills" "fills" "(I)I") ∈ lw_tbl := lw_at lw_m5 120 rfl
theorem q1162 : (Jvm.Cond.declares ({ cls := "WellRefuses$Fills", name := "fills", desc := "(I)I" } : Jvm.MethodName)) ∈ lw_tbl := lw_at lw_m5 121 rfl
theorem q112 : (Jvm.Cond.initialized "java/lang/System") ∈ lw_all := lw_g (lw_at lw_m1 31 rfl) rfl
theorem q975 : (Jvm.Cond.static ({ cls := "java/lang/System", name := "arraycopy", desc := "(Ljava/lang/Object;ILjava/lang/Object;II)V" } : Jvm.MethodName)) ∈ lw_all := lw_g (lw_at lw_m4 174 rfl) rfl
theorem q976 : (Jvm.Cond.native ({ cls := "java/lang/System", name := "arraycopy", desc := "(Ljava/lang/Object;ILjava/lang/Object;II)V" } : Jvm.MethodName)) ∈ lw_all := lw_g (lw_at lw_m4 175 rfl) rfl
theorem q1124 : (Jvm.Cond.interfaceMethod "WellRefuses$Lets" "WellRefuses$Lets" "lets" "(I)I") ∈ lw_tbl := lw_at lw_m5 83 rfl
theorem q1125 : (Jvm.Cond.declares ({ cls := "WellRefuses$Lets", name := "lets", desc := "(I)I" } : Jvm.MethodName)) ∈ lw_tbl := lw_at lw_m5 84 rfl
theorem q1243 : (Jvm.Cond.interfaceMethod "WellRefuses$Says" "WellRefuses$Says" "tells" "(I)I") ∈ lw_tbl := lw_at lw_m5 202 rfl
theorem q1244 : (Jvm.Cond.declares ({ cls := "WellRefuses$Says", name := "tells", desc := "(I)I" } : Jvm.MethodName)) ∈ lw_tbl := lw_at lw_m5 203 rfl
theorem q1207 : (Jvm.Cond.interfaceMethod "WellRefuses$Lends" "WellRefuses$Lends" "lends" "(I)I") ∈ lw_tbl := lw_at lw_m5 166 rfl
theorem q1208 : (Jvm.Cond.declares ({ cls := "WellRefuses$Lends", name := "lends", desc := "(I)I" } : Jvm.MethodName)) ∈ lw_tbl := lw_at lw_m5 167 rfl
abbrev cX1_init : ByteArray := prog_10_method_1_code
def yX1_init : MethodName := ⟨RX1, "<init>", "()V"⟩
def dkwX1_init_0 : List UInt8 := [42, 1, 1, 3, 3, 183, 0, 1, 177]
abbrev dktX1_init_0 : List UInt8 := dkwX1_init_0 ++ []
theorem dksX1_init_0 : cX1_init.data.toList.drop 0 = dktX1_init_0 := by decide +kernel
theorem dX1_init_0 : decode cX1_init 0 = .ok (.aload_n 0, 1) := dk_42 (dk_at dksX1_init_0 0 rfl rfl)
theorem dX1_init_1 : decode cX1_init 1 = .ok (.aconst_null, 1) := dk_1 (dk_at dksX1_init_0 1 rfl rfl)
theorem dX1_init_2 : decode cX1_init 2 = .ok (.aconst_null, 1) := dk_1 (dk_at dksX1_init_0 2 rfl rfl)
theorem dX1_init_3 : decode cX1_init 3 = .ok (.iconst 0, 1) := dk_3 (dk_at dksX1_init_0 3 rfl rfl)
theorem dX1_init_4 : decode cX1_init 4 = .ok (.iconst 0, 1) := dk_3 (dk_at dksX1_init_0 4 rfl rfl)
theorem dX1_init_5 : decode cX1_init 5 = .ok (.invokespecial 1, 3) := dk_183 0 1 (dk_at dksX1_init_0 5 rfl rfl)
theorem dX1_init_8 : decode cX1_init 8 = .ok (.return_, 1) := dk_177 (dk_at dksX1_init_0 8 rfl rfl)
abbrev cX1_of : ByteArray := prog_10_method_2_code
def yX1_of : MethodName := ⟨RX1, "of", "(I)LWellRefuses$Finding;"⟩
def dkwX1_of_0 : List UInt8 := [42, 27, 181, 0, 7, 42, 176]
abbrev dktX1_of_0 : List UInt8 := dkwX1_of_0 ++ []
theorem dksX1_of_0 : cX1_of.data.toList.drop 0 = dktX1_of_0 := by decide +kernel
theorem dX1_of_0 : decode cX1_of 0 = .ok (.aload_n 0, 1) := dk_42 (dk_at dksX1_of_0 0 rfl rfl)
theorem dX1_of_1 : decode cX1_of 1 = .ok (.iload_n 1, 1) := dk_27 (dk_at dksX1_of_0 1 rfl rfl)
theorem dX1_of_2 : decode cX1_of 2 = .ok (.putfield 7, 3) := dk_181 0 7 (dk_at dksX1_of_0 2 rfl rfl)
theorem dX1_of_5 : decode cX1_of 5 = .ok (.aload_n 0, 1) := dk_42 (dk_at dksX1_of_0 5 rfl rfl)
theorem dX1_of_6 : decode cX1_of 6 = .ok (.areturn, 1) := dk_176 (dk_at dksX1_of_0 6 rfl rfl)
theorem q86 : (Jvm.Cond.initialized "WellRefuses$Finding") ∈ lw_all := lw_g (lw_at lw_m1 5 rfl) rfl
theorem q127 : (Jvm.Cond.instantiable "WellRefuses$Finding" (7 : Nat)) ∈ lw_all := lw_g (lw_at lw_m1 46 rfl) rfl
theorem q128 : (Jvm.Cond.castable "WellRefuses$Finding" "WellRefuses$Finding") ∈ lw_tbl := lw_at lw_m1 47 rfl
theorem q135 : (Jvm.Cond.selects "WellRefuses$Finding" ({ cls := "java/lang/Throwable", name := "fillInStackTrace", desc := "(I)Ljava/lang/Throwable;" } : Jvm.MethodName) ({ cls := "java/lang/Throwable", name := "fillInStackTrace", desc := "(I)Ljava/lang/Throwable;" } : Jvm.MethodName)) ∈ lw_all := lw_g (lw_at lw_m1 54 rfl) rfl
theorem q136 : (Jvm.Cond.selects "WellRefuses$Finding" ({ cls := "java/lang/Throwable", name := "fillInStackTrace", desc := "()Ljava/lang/Throwable;" } : Jvm.MethodName) ({ cls := "java/lang/Throwable", name := "fillInStackTrace", desc := "()Ljava/lang/Throwable;" } : Jvm.MethodName)) ∈ lw_all := lw_g (lw_at lw_m1 55 rfl) rfl
theorem q137 : (Jvm.Cond.lays "WellRefuses$Finding" "java/lang/Throwable" "cause" "Ljava/lang/Throwable;") ∈ lw_all := lw_g (lw_at lw_m1 56 rfl) rfl
theorem q139 : (Jvm.Cond.lays "WellRefuses$Finding" "java/lang/Throwable" "stackTrace" "[Ljava/lang/StackTraceElement;") ∈ lw_all := lw_g (lw_at lw_m1 58 rfl) rfl
theorem q141 : (Jvm.Cond.lays "WellRefuses$Finding" "java/lang/Throwable" "suppressedExceptions" "Ljava/util/List;") ∈ lw_all := lw_g (lw_at lw_m1 60 rfl) rfl
theorem q143 : (Jvm.Cond.lays "WellRefuses$Finding" "java/lang/Throwable" "detailMessage" "Ljava/lang/String;") ∈ lw_all := lw_g (lw_at lw_m1 62 rfl) rfl
theorem q145 : (Jvm.Cond.lays "WellRefuses$Finding" "java/lang/Throwable" "backtrace" "Ljava/lang/Object;") ∈ lw_all := lw_g (lw_at lw_m1 64 rfl) rfl
theorem q167 : (Jvm.Cond.instanceMethod ({ cls := "WellRefuses$Finding", name := "<init>", desc := "()V" } : Jvm.MethodName)) ∈ lw_all := lw_g (lw_at lw_m1 86 rfl) rfl
theorem q168 : (Jvm.Cond.code ({ cls := "WellRefuses$Finding", name := "<init>", desc := "()V" } : Jvm.MethodName) prog_10_method_1_code (1 : Nat) (Option.none : Option Jvm.ClassFile.FieldType)) ∈ lw_all := lw_g (lw_at lw_m1 87 rfl) rfl
theorem q169 : (Jvm.Cond.methodLink "WellRefuses$Finding" (1 : Nat) ({ cls := "java/lang/RuntimeException", name := "<init>", desc := "(Ljava/lang/String;Ljava/lang/Throwable;ZZ)V" } : Jvm.MethodName)) ∈ lw_all := lw_g (lw_at lw_m1 88 rfl) rfl
theorem q178 : (Jvm.Cond.fieldLink "WellRefuses$Finding" (7 : Nat) "WellRefuses$Finding" "code" "I") ∈ lw_all := lw_g (lw_at lw_m1 97 rfl) rfl
theorem q185 : (Jvm.Cond.lays "WellRefuses$Finding" "WellRefuses$Finding" "code" "I") ∈ lw_all := lw_g (lw_at lw_m1 104 rfl) rfl
theorem q186 : (Jvm.Cond.soleField "WellRefuses$Finding" "code") ∈ lw_all := lw_g (lw_at lw_m1 105 rfl) rfl
theorem q191 : (Jvm.Cond.lays "WellRefuses$Finding" "java/lang/Throwable" "depth" "I") ∈ lw_all := lw_g (lw_at lw_m1 110 rfl) rfl
theorem q194 : (Jvm.Cond.superclass "WellRefuses$Finding" "java/lang/RuntimeException") ∈ lw_all := lw_g (lw_at lw_m1 113 rfl) rfl
theorem q348 : (Jvm.Cond.instanceMethod ({ cls := "WellRefuses$Finding", name := "of", desc := "(I)LWellRefuses$Finding;" } : Jvm.MethodName)) ∈ lw_all := lw_g (lw_at lw_m2 27 rfl) rfl
theorem q349 : (Jvm.Cond.selects "WellRefuses$Finding" ({ cls := "WellRefuses$Finding", name := "of", desc := "(I)LWellRefuses$Finding;" } : Jvm.MethodName) ({ cls := "WellRefuses$Finding", name := "of", desc := "(I)LWellRefuses$Finding;" } : Jvm.MethodName)) ∈ lw_all := lw_g (lw_at lw_m2 28 rfl) rfl
theorem q350 : (Jvm.Cond.code ({ cls := "WellRefuses$Finding", name := "of", desc := "(I)LWellRefuses$Finding;" } : Jvm.MethodName) prog_10_method_2_code (2 : Nat) (Option.some (Jvm.ClassFile.FieldType.object "WellRefuses$Finding"))) ∈ lw_all := lw_g (lw_at lw_m2 29 rfl) rfl
abbrev cX3_init : ByteArray := prog_5_method_1_code
def yX3_init : MethodName := ⟨RX3, "<init>", "()V"⟩
def dkwX3_init_0 : List UInt8 := [42, 183, 0, 1, 42, 17, 0, 128, 188, 10, 181, 0, 7, 177]
abbrev dktX3_init_0 : List UInt8 := dkwX3_init_0 ++ []
theorem dksX3_init_0 : cX3_init.data.toList.drop 0 = dktX3_init_0 := by decide +kernel
theorem dX3_init_0 : decode cX3_init 0 = .ok (.aload_n 0, 1) := dk_42 (dk_at dksX3_init_0 0 rfl rfl)
theorem dX3_init_1 : decode cX3_init 1 = .ok (.invokespecial 1, 3) := dk_183 0 1 (dk_at dksX3_init_0 1 rfl rfl)
theorem dX3_init_4 : decode cX3_init 4 = .ok (.aload_n 0, 1) := dk_42 (dk_at dksX3_init_0 4 rfl rfl)
theorem dX3_init_5 : decode cX3_init 5 = .ok (.sipush 128, 3) := dk_17 0 128 (dk_at dksX3_init_0 5 rfl rfl)
theorem dX3_init_8 : decode cX3_init 8 = .ok (.newarray .int, 2) := dk_188_10 (dk_at dksX3_init_0 8 rfl rfl)
theorem dX3_init_10 : decode cX3_init 10 = .ok (.putfield 7, 3) := dk_181 0 7 (dk_at dksX3_init_0 10 rfl rfl)
theorem dX3_init_13 : decode cX3_init 13 = .ok (.return_, 1) := dk_177 (dk_at dksX3_init_0 13 rfl rfl)
abbrev cX3_with : ByteArray := prog_5_method_2_code
def yX3_with : MethodName := ⟨RX3, "with", "(CI)LWellRefuses$Facts;"⟩
def dkwX3_with_0 : List UInt8 := [42, 180, 0, 7, 27, 28, 79, 42, 176]
abbrev dktX3_with_0 : List UInt8 := dkwX3_with_0 ++ []
theorem dksX3_with_0 : cX3_with.data.toList.drop 0 = dktX3_with_0 := by decide +kernel
theorem dX3_with_0 : decode cX3_with 0 = .ok (.aload_n 0, 1) := dk_42 (dk_at dksX3_with_0 0 rfl rfl)
theorem dX3_with_1 : decode cX3_with 1 = .ok (.getfield 7, 3) := dk_180 0 7 (dk_at dksX3_with_0 1 rfl rfl)
theorem dX3_with_4 : decode cX3_with 4 = .ok (.iload_n 1, 1) := dk_27 (dk_at dksX3_with_0 4 rfl rfl)
theorem dX3_with_5 : decode cX3_with 5 = .ok (.iload_n 2, 1) := dk_28 (dk_at dksX3_with_0 5 rfl rfl)
theorem dX3_with_6 : decode cX3_with 6 = .ok (.iastore, 1) := dk_79 (dk_at dksX3_with_0 6 rfl rfl)
theorem dX3_with_7 : decode cX3_with 7 = .ok (.aload_n 0, 1) := dk_42 (dk_at dksX3_with_0 7 rfl rfl)
theorem dX3_with_8 : decode cX3_with 8 = .ok (.areturn, 1) := dk_176 (dk_at dksX3_with_0 8 rfl rfl)
theorem q88 : (Jvm.Cond.initialized "WellRefuses$Facts") ∈ lw_all := lw_g (lw_at lw_m1 7 rfl) rfl
theorem q206 : (Jvm.Cond.instantiable "WellRefuses$Facts" (1 : Nat)) ∈ lw_all := lw_g (lw_at lw_m1 125 rfl) rfl
theorem q208 : (Jvm.Cond.instanceMethod ({ cls := "WellRefuses$Facts", name := "<init>", desc := "()V" } : Jvm.MethodName)) ∈ lw_all := lw_g (lw_at lw_m1 127 rfl) rfl
theorem q209 : (Jvm.Cond.code ({ cls := "WellRefuses$Facts", name := "<init>", desc := "()V" } : Jvm.MethodName) prog_5_method_1_code (1 : Nat) (Option.none : Option Jvm.ClassFile.FieldType)) ∈ lw_all := lw_g (lw_at lw_m1 128 rfl) rfl
theorem q210 : (Jvm.Cond.methodLink "WellRefuses$Facts" (1 : Nat) ({ cls := "java/lang/Object", name := "<init>", desc := "()V" } : Jvm.MethodName)) ∈ lw_all := lw_g (lw_at lw_m1 129 rfl) rfl
theorem q211 : (Jvm.Cond.fieldLink "WellRefuses$Facts" (7 : Nat) "WellRefuses$Facts" "named" "[I") ∈ lw_all := lw_g (lw_at lw_m1 130 rfl) rfl
theorem q213 : (Jvm.Cond.laysFinal "WellRefuses$Facts" "WellRefuses$Facts" "named" "[I") ∈ lw_all := lw_g (lw_at lw_m1 132 rfl) rfl
theorem q214 : (Jvm.Cond.soleField "WellRefuses$Facts" "named") ∈ lw_all := lw_g (lw_at lw_m1 133 rfl) rfl
theorem q215 : (Jvm.Cond.superclass "WellRefuses$Facts" "java/lang/Object") ∈ lw_all := lw_g (lw_at lw_m1 134 rfl) rfl
theorem q553 : (Jvm.Cond.instanceMethod ({ cls := "WellRefuses$Facts", name := "with", desc := "(CI)LWellRefuses$Facts;" } : Jvm.MethodName)) ∈ lw_all := lw_g (lw_at lw_m2 232 rfl) rfl
theorem q554 : (Jvm.Cond.selects "WellRefuses$Facts" ({ cls := "WellRefuses$Facts", name := "with", desc := "(CI)LWellRefuses$Facts;" } : Jvm.MethodName) ({ cls := "WellRefuses$Facts", name := "with", desc := "(CI)LWellRefuses$Facts;" } : Jvm.MethodName)) ∈ lw_all := lw_g (lw_at lw_m2 233 rfl) rfl
theorem q555 : (Jvm.Cond.code ({ cls := "WellRefuses$Facts", name := "with", desc := "(CI)LWellRefuses$Facts;" } : Jvm.MethodName) prog_5_method_2_code (3 : Nat) (Option.some (Jvm.ClassFile.FieldType.object "WellRefuses$Facts"))) ∈ lw_all := lw_g (lw_at lw_m2 234 rfl) rfl
abbrev cX4_init : ByteArray := prog_25_method_1_code
def yX4_init : MethodName := ⟨RX4, "<init>", "()V"⟩
def dkwX4_init_0 : List UInt8 := [42, 183, 0, 3, 42, 16, 40, 188, 10, 181, 0, 9, 177]
abbrev dktX4_init_0 : List UInt8 := dkwX4_init_0 ++ []
theorem dksX4_init_0 : cX4_init.data.toList.drop 0 = dktX4_init_0 := by decide +kernel
theorem dX4_init_0 : decode cX4_init 0 = .ok (.aload_n 0, 1) := dk_42 (dk_at dksX4_init_0 0 rfl rfl)
theorem dX4_init_1 : decode cX4_init 1 = .ok (.invokespecial 3, 3) := dk_183 0 3 (dk_at dksX4_init_0 1 rfl rfl)
theorem dX4_init_4 : decode cX4_init 4 = .ok (.aload_n 0, 1) := dk_42 (dk_at dksX4_init_0 4 rfl rfl)
theorem dX4_init_5 : decode cX4_init 5 = .ok (.bipush 40, 2) := dk_16 40 (dk_at dksX4_init_0 5 rfl rfl)
theorem dX4_init_7 : decode cX4_init 7 = .ok (.newarray .int, 2) := dk_188_10 (dk_at dksX4_init_0 7 rfl rfl)
theorem dX4_init_9 : decode cX4_init 9 = .ok (.putfield 9, 3) := dk_181 0 9 (dk_at dksX4_init_0 9 rfl rfl)
theorem dX4_init_12 : decode cX4_init 12 = .ok (.return_, 1) := dk_177 (dk_at dksX4_init_0 12 rfl rfl)
abbrev cX4_begins : ByteArray := prog_25_method_2_code
def yX4_begins : MethodName := ⟨RX4, "begins", "(I)V"⟩
def dkwX4_begins_1 : List UInt8 := [4, 96, 181, 0, 15, 177]
abbrev dktX4_begins_1 : List UInt8 := dkwX4_begins_1 ++ []
def dkwX4_begins_0 : List UInt8 := [42, 180, 0, 15, 16, 40, 162, 0, 23, 42, 180, 0, 9, 42, 180, 0, 15, 27, 79, 42, 89, 180, 0, 15]
abbrev dktX4_begins_0 : List UInt8 := dkwX4_begins_0 ++ dktX4_begins_1
theorem dksX4_begins_0 : cX4_begins.data.toList.drop 0 = dktX4_begins_0 := by decide +kernel
theorem dksX4_begins_1 : cX4_begins.data.toList.drop 24 = dktX4_begins_1 := dk_seg dksX4_begins_0 24 rfl rfl
theorem dX4_begins_0 : decode cX4_begins 0 = .ok (.aload_n 0, 1) := dk_42 (dk_at dksX4_begins_0 0 rfl rfl)
theorem dX4_begins_1 : decode cX4_begins 1 = .ok (.getfield 15, 3) := dk_180 0 15 (dk_at dksX4_begins_0 1 rfl rfl)
theorem dX4_begins_4 : decode cX4_begins 4 = .ok (.bipush 40, 2) := dk_16 40 (dk_at dksX4_begins_0 4 rfl rfl)
theorem dX4_begins_6 : decode cX4_begins 6 = .ok (.if_icmp .ge 23, 3) := dk_162 0 23 (dk_at dksX4_begins_0 6 rfl rfl)
theorem dX4_begins_9 : decode cX4_begins 9 = .ok (.aload_n 0, 1) := dk_42 (dk_at dksX4_begins_0 9 rfl rfl)
theorem dX4_begins_10 : decode cX4_begins 10 = .ok (.getfield 9, 3) := dk_180 0 9 (dk_at dksX4_begins_0 10 rfl rfl)
theorem dX4_begins_13 : decode cX4_begins 13 = .ok (.aload_n 0, 1) := dk_42 (dk_at dksX4_begins_0 13 rfl rfl)
theorem dX4_begins_14 : decode cX4_begins 14 = .ok (.getfield 15, 3) := dk_180 0 15 (dk_at dksX4_begins_0 14 rfl rfl)
theorem dX4_begins_17 : decode cX4_begins 17 = .ok (.iload_n 1, 1) := dk_27 (dk_at dksX4_begins_0 17 rfl rfl)
theorem dX4_begins_18 : decode cX4_begins 18 = .ok (.iastore, 1) := dk_79 (dk_at dksX4_begins_0 18 rfl rfl)
theorem dX4_begins_19 : decode cX4_begins 19 = .ok (.aload_n 0, 1) := dk_42 (dk_at dksX4_begins_0 19 rfl rfl)
theorem dX4_begins_20 : decode cX4_begins 20 = .ok (.dup, 1) := dk_89 (dk_at dksX4_begins_0 20 rfl rfl)
theorem dX4_begins_21 : decode cX4_begins 21 = .ok (.getfield 15, 3) := dk_180 0 15 (dk_at dksX4_begins_0 21 rfl rfl)
theorem dX4_begins_24 : decode cX4_begins 24 = .ok (.iconst 1, 1) := dk_4 (dk_at dksX4_begins_1 0 rfl rfl)
theorem dX4_begins_25 : decode cX4_begins 25 = .ok (.iadd, 1) := dk_96 (dk_at dksX4_begins_1 1 rfl rfl)
theorem dX4_begins_26 : decode cX4_begins 26 = .ok (.putfield 15, 3) := dk_181 0 15 (dk_at dksX4_begins_1 2 rfl rfl)
theorem dX4_begins_29 : decode cX4_begins 29 = .ok (.return_, 1) := dk_177 (dk_at dksX4_begins_1 5 rfl rfl)
theorem q89 : (Jvm.Cond.initialized "WellRefuses$Trace") ∈ lw_all := lw_g (lw_at lw_m1 8 rfl) rfl
theorem q279 : (Jvm.Cond.instantiable "WellRefuses$Trace" (2 : Nat)) ∈ lw_all := lw_g (lw_at lw_m1 198 rfl) rfl
theorem q281 : (Jvm.Cond.instanceMethod ({ cls := "WellRefuses$Trace", name := "<init>", desc := "()V" } : Jvm.MethodName)) ∈ lw_all := lw_g (lw_at lw_m1 200 rfl) rfl
theorem q282 : (Jvm.Cond.code ({ cls := "WellRefuses$Trace", name := "<init>", desc := "()V" } : Jvm.MethodName) prog_25_method_1_code (1 : Nat) (Option.none : Option Jvm.ClassFile.FieldType)) ∈ lw_all := lw_g (lw_at lw_m1 201 rfl) rfl
theorem q283 : (Jvm.Cond.methodLink "WellRefuses$Trace" (3 : Nat) ({ cls := "java/lang/Object", name := "<init>", desc := "()V" } : Jvm.MethodName)) ∈ lw_all := lw_g (lw_at lw_m1 202 rfl) rfl
theorem q284 : (Jvm.Cond.fieldLink "WellRefuses$Trace" (9 : Nat) "WellRefuses$Trace" "ran" "[I") ∈ lw_all := lw_g (lw_at lw_m1 203 rfl) rfl
theorem q286 : (Jvm.Cond.fieldLink "WellRefuses$Trace" (15 : Nat) "WellRefuses$Trace" "many" "I") ∈ lw_all := lw_g (lw_at lw_m1 205 rfl) rfl
theorem q288 : (Jvm.Cond.laysFinal "WellRefuses$Trace" "WellRefuses$Trace" "ran" "[I") ∈ lw_all := lw_g (lw_at lw_m1 207 rfl) rfl
theorem q289 : (Jvm.Cond.soleField "WellRefuses$Trace" "ran") ∈ lw_all := lw_g (lw_at lw_m1 208 rfl) rfl
theorem q290 : (Jvm.Cond.lays "WellRefuses$Trace" "WellRefuses$Trace" "many" "I") ∈ lw_all := lw_g (lw_at lw_m1 209 rfl) rfl
theorem q291 : (Jvm.Cond.soleField "WellRefuses$Trace" "many") ∈ lw_all := lw_g (lw_at lw_m1 210 rfl) rfl
theorem q292 : (Jvm.Cond.superclass "WellRefuses$Trace" "java/lang/Object") ∈ lw_all := lw_g (lw_at lw_m1 211 rfl) rfl
theorem q1133 : (Jvm.Cond.instanceMethod ({ cls := "WellRefuses$Trace", name := "begins", desc := "(I)V" } : Jvm.MethodName)) ∈ lw_all := lw_g (lw_at lw_m5 92 rfl) rfl
theorem q1134 : (Jvm.Cond.selects "WellRefuses$Trace" ({ cls := "WellRefuses$Trace", name := "begins", desc := "(I)V" } : Jvm.MethodName) ({ cls := "WellRefuses$Trace", name := "begins", desc := "(I)V" } : Jvm.MethodName)) ∈ lw_all := lw_g (lw_at lw_m5 93 rfl) rfl
theorem q1135 : (Jvm.Cond.code ({ cls := "WellRefuses$Trace", name := "begins", desc := "(I)V" } : Jvm.MethodName) prog_25_method_2_code (2 : Nat) (Option.none : Option Jvm.ClassFile.FieldType)) ∈ lw_all := lw_g (lw_at lw_m5 94 rfl) rfl
abbrev cX5_init : ByteArray := prog_21_method_1_code
def yX5_init : MethodName := ⟨RX5, "<init>", "()V"⟩
theorem dX5_init_0 : decode cX5_init 0 = .ok (.aload_n 0, 1) := by decide +kernel
theorem dX5_init_1 : decode cX5_init 1 = .ok (.invokespecial 1, 3) := by decide +kernel
theorem dX5_init_4 : decode cX5_init 4 = .ok (.return_, 1) := by decide +kernel
theorem q90 : (Jvm.Cond.initialized "WellRefuses$Shelf") ∈ lw_all := lw_g (lw_at lw_m1 9 rfl) rfl
theorem q295 : (Jvm.Cond.instantiable "WellRefuses$Shelf" (1 : Nat)) ∈ lw_all := lw_g (lw_at lw_m1 214 rfl) rfl
theorem q297 : (Jvm.Cond.instanceMethod ({ cls := "WellRefuses$Shelf", name := "<init>", desc := "()V" } : Jvm.MethodName)) ∈ lw_all := lw_g (lw_at lw_m1 216 rfl) rfl
theorem q298 : (Jvm.Cond.code ({ cls := "WellRefuses$Shelf", name := "<init>", desc := "()V" } : Jvm.MethodName) prog_21_method_1_code (1 : Nat) (Option.none : Option Jvm.ClassFile.FieldType)) ∈ lw_all := lw_g (lw_at lw_m1 217 rfl) rfl
theorem q299 : (Jvm.Cond.methodLink "WellRefuses$Shelf" (1 : Nat) ({ cls := "java/lang/Object", name := "<init>", desc := "()V" } : Jvm.MethodName)) ∈ lw_all := lw_g (lw_at lw_m1 218 rfl) rfl
theorem q301 : (Jvm.Cond.lays "WellRefuses$Shelf" "WellRefuses$Shelf" "held" "Ljava/lang/Object;") ∈ lw_all := lw_g (lw_at lw_m1 220 rfl) rfl
theorem q302 : (Jvm.Cond.soleField "WellRefuses$Shelf" "held") ∈ lw_all := lw_g (lw_at lw_m1 221 rfl) rfl
theorem q303 : (Jvm.Cond.superclass "WellRefuses$Shelf" "java/lang/Object") ∈ lw_all := lw_g (lw_at lw_m1 222 rfl) rfl
abbrev cX7_init : ByteArray := prog_16_method_1_code
def yX7_init : MethodName := ⟨RX7, "<init>", "(LWellRefuses$Trace;II)V"⟩
def dkwX7_init_0 : List UInt8 := [42, 183, 0, 3, 42, 43, 181, 0, 9, 42, 28, 181, 0, 15, 42, 29, 181, 0, 19, 177]
abbrev dktX7_init_0 : List UInt8 := dkwX7_init_0 ++ []
theorem dksX7_init_0 : cX7_init.data.toList.drop 0 = dktX7_init_0 := by decide +kernel
theorem dX7_init_0 : decode cX7_init 0 = .ok (.aload_n 0, 1) := dk_42 (dk_at dksX7_init_0 0 rfl rfl)
theorem dX7_init_1 : decode cX7_init 1 = .ok (.invokespecial 3, 3) := dk_183 0 3 (dk_at dksX7_init_0 1 rfl rfl)
theorem dX7_init_4 : decode cX7_init 4 = .ok (.aload_n 0, 1) := dk_42 (dk_at dksX7_init_0 4 rfl rfl)
theorem dX7_init_5 : decode cX7_init 5 = .ok (.aload_n 1, 1) := dk_43 (dk_at dksX7_init_0 5 rfl rfl)
theorem dX7_init_6 : decode cX7_init 6 = .ok (.putfield 9, 3) := dk_181 0 9 (dk_at dksX7_init_0 6 rfl rfl)
theorem dX7_init_9 : decode cX7_init 9 = .ok (.aload_n 0, 1) := dk_42 (dk_at dksX7_init_0 9 rfl rfl)
theorem dX7_init_10 : decode cX7_init 10 = .ok (.iload_n 2, 1) := dk_28 (dk_at dksX7_init_0 10 rfl rfl)
theorem dX7_init_11 : decode cX7_init 11 = .ok (.putfield 15, 3) := dk_181 0 15 (dk_at dksX7_init_0 11 rfl rfl)
theorem dX7_init_14 : decode cX7_init 14 = .ok (.aload_n 0, 1) := dk_42 (dk_at dksX7_init_0 14 rfl rfl)
theorem dX7_init_15 : decode cX7_init 15 = .ok (.iload_n 3, 1) := dk_29 (dk_at dksX7_init_0 15 rfl rfl)
theorem dX7_init_16 : decode cX7_init 16 = .ok (.putfield 19, 3) := dk_181 0 19 (dk_at dksX7_init_0 16 rfl rfl)
theorem dX7_init_19 : decode cX7_init 19 = .ok (.return_, 1) := dk_177 (dk_at dksX7_init_0 19 rfl rfl)
abbrev cX7_kind : ByteArray := prog_16_method_2_code
def yX7_kind : MethodName := ⟨RX7, "kind", "()I"⟩
theorem dX7_kind_0 : decode cX7_kind 0 = .ok (.iconst 0, 1) := by decide +kernel
theorem dX7_kind_1 : decode cX7_kind 1 = .ok (.ireturn, 1) := by decide +kernel
abbrev cX7_bucket : ByteArray := prog_16_method_4_code
def yX7_bucket : MethodName := ⟨RX7, "bucket", "()I"⟩
theorem dX7_bucket_0 : decode cX7_bucket 0 = .ok (.iconst 3, 1) := by decide +kernel
theorem dX7_bucket_1 : decode cX7_bucket 1 = .ok (.ireturn, 1) := by decide +kernel
abbrev cX7_drinks : ByteArray := prog_16_method_5_code
def yX7_drinks : MethodName := ⟨RX7, "drinks", "()I"⟩
theorem dX7_drinks_0 : decode cX7_drinks 0 = .ok (.iconst 2, 1) := by decide +kernel
theorem dX7_drinks_1 : decode cX7_drinks 1 = .ok (.ireturn, 1) := by decide +kernel
abbrev cX7_isOf : ByteArray := prog_16_method_3_code
def yX7_isOf : MethodName := ⟨RX7, "isOf", "(I)Z"⟩
def dkwX7_isOf_0 : List UInt8 := [27, 154, 0, 7, 4, 167, 0, 4, 3, 172]
abbrev dktX7_isOf_0 : List UInt8 := dkwX7_isOf_0 ++ []
theorem dksX7_isOf_0 : cX7_isOf.data.toList.drop 0 = dktX7_isOf_0 := by decide +kernel
theorem dX7_isOf_0 : decode cX7_isOf 0 = .ok (.iload_n 1, 1) := dk_27 (dk_at dksX7_isOf_0 0 rfl rfl)
theorem dX7_isOf_1 : decode cX7_isOf 1 = .ok (.ifCond .ne 7, 3) := dk_154 0 7 (dk_at dksX7_isOf_0 1 rfl rfl)
theorem dX7_isOf_4 : decode cX7_isOf 4 = .ok (.iconst 1, 1) := dk_4 (dk_at dksX7_isOf_0 4 rfl rfl)
theorem dX7_isOf_5 : decode cX7_isOf 5 = .ok (.goto 4, 3) := dk_167 0 4 (dk_at dksX7_isOf_0 5 rfl rfl)
theorem dX7_isOf_8 : decode cX7_isOf 8 = .ok (.iconst 0, 1) := dk_3 (dk_at dksX7_isOf_0 8 rfl rfl)
theorem dX7_isOf_9 : decode cX7_isOf 9 = .ok (.ireturn, 1) := dk_172 (dk_at dksX7_isOf_0 9 rfl rfl)
abbrev cX7_lets : ByteArray := prog_16_method_6_code
def yX7_lets : MethodName := ⟨RX7, "lets", "(I)I"⟩
def dkwX7_lets_0 : List UInt8 := [42, 180, 0, 9, 16, 10, 182, 0, 22, 27, 42, 180, 0, 15, 96, 172]
abbrev dktX7_lets_0 : List UInt8 := dkwX7_lets_0 ++ []
theorem dksX7_lets_0 : cX7_lets.data.toList.drop 0 = dktX7_lets_0 := by decide +kernel
theorem dX7_lets_0 : decode cX7_lets 0 = .ok (.aload_n 0, 1) := dk_42 (dk_at dksX7_lets_0 0 rfl rfl)
theorem dX7_lets_1 : decode cX7_lets 1 = .ok (.getfield 9, 3) := dk_180 0 9 (dk_at dksX7_lets_0 1 rfl rfl)
theorem dX7_lets_4 : decode cX7_lets 4 = .ok (.bipush 10, 2) := dk_16 10 (dk_at dksX7_lets_0 4 rfl rfl)
theorem dX7_lets_6 : decode cX7_lets 6 = .ok (.invokevirtual 22, 3) := dk_182 0 22 (dk_at dksX7_lets_0 6 rfl rfl)
theorem dX7_lets_9 : decode cX7_lets 9 = .ok (.iload_n 1, 1) := dk_27 (dk_at dksX7_lets_0 9 rfl rfl)
theorem dX7_lets_10 : decode cX7_lets 10 = .ok (.aload_n 0, 1) := dk_42 (dk_at dksX7_lets_0 10 rfl rfl)
theorem dX7_lets_11 : decode cX7_lets 11 = .ok (.getfield 15, 3) := dk_180 0 15 (dk_at dksX7_lets_0 11 rfl rfl)
theorem dX7_lets_14 : decode cX7_lets 14 = .ok (.iadd, 1) := dk_96 (dk_at dksX7_lets_0 14 rfl rfl)
theorem dX7_lets_15 : decode cX7_lets 15 = .ok (.ireturn, 1) := dk_172 (dk_at dksX7_lets_0 15 rfl rfl)
abbrev cX7_fills : ByteArray := prog_16_method_7_code
def yX7_fills : MethodName := ⟨RX7, "fills", "(I)I"⟩
def dkwX7_fills_0 : List UInt8 := [42, 180, 0, 9, 16, 11, 182, 0, 22, 42, 27, 182, 0, 28, 5, 104, 172]
abbrev dktX7_fills_0 : List UInt8 := dkwX7_fills_0 ++ []
theorem dksX7_fills_0 : cX7_fills.data.toList.drop 0 = dktX7_fills_0 := by decide +kernel
theorem dX7_fills_0 : decode cX7_fills 0 = .ok (.aload_n 0, 1) := dk_42 (dk_at dksX7_fills_0 0 rfl rfl)
theorem dX7_fills_1 : decode cX7_fills 1 = .ok (.getfield 9, 3) := dk_180 0 9 (dk_at dksX7_fills_0 1 rfl rfl)
theorem dX7_fills_4 : decode cX7_fills 4 = .ok (.bipush 11, 2) := dk_16 11 (dk_at dksX7_fills_0 4 rfl rfl)
theorem dX7_fills_6 : decode cX7_fills 6 = .ok (.invokevirtual 22, 3) := dk_182 0 22 (dk_at dksX7_fills_0 6 rfl rfl)
theorem dX7_fills_9 : decode cX7_fills 9 = .ok (.aload_n 0, 1) := dk_42 (dk_at dksX7_fills_0 9 rfl rfl)
theorem dX7_fills_10 : decode cX7_fills 10 = .ok (.iload_n 1, 1) := dk_27 (dk_at dksX7_fills_0 10 rfl rfl)
theorem dX7_fills_11 : decode cX7_fills 11 = .ok (.invokevirtual 28, 3) := dk_182 0 28 (dk_at dksX7_fills_0 11 rfl rfl)
theorem dX7_fills_14 : decode cX7_fills 14 = .ok (.iconst 2, 1) := dk_5 (dk_at dksX7_fills_0 14 rfl rfl)
theorem dX7_fills_15 : decode cX7_fills 15 = .ok (.imul, 1) := dk_104 (dk_at dksX7_fills_0 15 rfl rfl)
theorem dX7_fills_16 : decode cX7_fills 16 = .ok (.ireturn, 1) := dk_172 (dk_at dksX7_fills_0 16 rfl rfl)
abbrev cX7_lends : ByteArray := prog_16_method_8_code
def yX7_lends : MethodName := ⟨RX7, "lends", "(I)I"⟩
def dkwX7_lends_0 : List UInt8 := [42, 180, 0, 9, 16, 12, 182, 0, 22, 27, 42, 180, 0, 19, 100, 172]
abbrev dktX7_lends_0 : List UInt8 := dkwX7_lends_0 ++ []
theorem dksX7_lends_0 : cX7_lends.data.toList.drop 0 = dktX7_lends_0 := by decide +kernel
theorem dX7_lends_0 : decode cX7_lends 0 = .ok (.aload_n 0, 1) := dk_42 (dk_at dksX7_lends_0 0 rfl rfl)
theorem dX7_lends_1 : decode cX7_lends 1 = .ok (.getfield 9, 3) := dk_180 0 9 (dk_at dksX7_lends_0 1 rfl rfl)
theorem dX7_lends_4 : decode cX7_lends 4 = .ok (.bipush 12, 2) := dk_16 12 (dk_at dksX7_lends_0 4 rfl rfl)
theorem dX7_lends_6 : decode cX7_lends 6 = .ok (.invokevirtual 22, 3) := dk_182 0 22 (dk_at dksX7_lends_0 6 rfl rfl)
theorem dX7_lends_9 : decode cX7_lends 9 = .ok (.iload_n 1, 1) := dk_27 (dk_at dksX7_lends_0 9 rfl rfl)
theorem dX7_lends_10 : decode cX7_lends 10 = .ok (.aload_n 0, 1) := dk_42 (dk_at dksX7_lends_0 10 rfl rfl)
theorem dX7_lends_11 : decode cX7_lends 11 = .ok (.getfield 19, 3) := dk_180 0 19 (dk_at dksX7_lends_0 11 rfl rfl)
theorem dX7_lends_14 : decode cX7_lends 14 = .ok (.isub, 1) := dk_100 (dk_at dksX7_lends_0 14 rfl rfl)
theorem dX7_lends_15 : decode cX7_lends 15 = .ok (.ireturn, 1) := dk_172 (dk_at dksX7_lends_0 15 rfl rfl)
abbrev cX7_tells : ByteArray := prog_16_method_9_code
def yX7_tells : MethodName := ⟨RX7, "tells", "(I)I"⟩
def dkwX7_tells_0 : List UInt8 := [42, 180, 0, 9, 16, 13, 182, 0, 22, 42, 27, 182, 0, 32, 61, 28, 42, 27, 182, 0, 35, 130, 172]
abbrev dktX7_tells_0 : List UInt8 := dkwX7_tells_0 ++ []
theorem dksX7_tells_0 : cX7_tells.data.toList.drop 0 = dktX7_tells_0 := by decide +kernel
theorem dX7_tells_0 : decode cX7_tells 0 = .ok (.aload_n 0, 1) := dk_42 (dk_at dksX7_tells_0 0 rfl rfl)
theorem dX7_tells_1 : decode cX7_tells 1 = .ok (.getfield 9, 3) := dk_180 0 9 (dk_at dksX7_tells_0 1 rfl rfl)
theorem dX7_tells_4 : decode cX7_tells 4 = .ok (.bipush 13, 2) := dk_16 13 (dk_at dksX7_tells_0 4 rfl rfl)
theorem dX7_tells_6 : decode cX7_tells 6 = .ok (.invokevirtual 22, 3) := dk_182 0 22 (dk_at dksX7_tells_0 6 rfl rfl)
theorem dX7_tells_9 : decode cX7_tells 9 = .ok (.aload_n 0, 1) := dk_42 (dk_at dksX7_tells_0 9 rfl rfl)
theorem dX7_tells_10 : decode cX7_tells 10 = .ok (.iload_n 1, 1) := dk_27 (dk_at dksX7_tells_0 10 rfl rfl)
theorem dX7_tells_11 : decode cX7_tells 11 = .ok (.invokevirtual 32, 3) := dk_182 0 32 (dk_at dksX7_tells_0 11 rfl rfl)
theorem dX7_tells_14 : decode cX7_tells 14 = .ok (.istore_n 2, 1) := dk_61 (dk_at dksX7_tells_0 14 rfl rfl)
theorem dX7_tells_15 : decode cX7_tells 15 = .ok (.iload_n 2, 1) := dk_28 (dk_at dksX7_tells_0 15 rfl rfl)
theorem dX7_tells_16 : decode cX7_tells 16 = .ok (.aload_n 0, 1) := dk_42 (dk_at dksX7_tells_0 16 rfl rfl)
theorem dX7_tells_17 : decode cX7_tells 17 = .ok (.iload_n 1, 1) := dk_27 (dk_at dksX7_tells_0 17 rfl rfl)
theorem dX7_tells_18 : decode cX7_tells 18 = .ok (.invokevirtual 35, 3) := dk_182 0 35 (dk_at dksX7_tells_0 18 rfl rfl)
theorem dX7_tells_21 : decode cX7_tells 21 = .ok (.ixor, 1) := dk_130 (dk_at dksX7_tells_0 21 rfl rfl)
theorem dX7_tells_22 : decode cX7_tells 22 = .ok (.ireturn, 1) := dk_172 (dk_at dksX7_tells_0 22 rfl rfl)
theorem q92 : (Jvm.Cond.initialized "WellRefuses$One") ∈ lw_all := lw_g (lw_at lw_m1 11 rfl) rfl
theorem q360 : (Jvm.Cond.instanceMethod ({ cls := "WellRefuses$One", name := "<init>", desc := "(LWellRefuses$Trace;II)V" } : Jvm.MethodName)) ∈ lw_all := lw_g (lw_at lw_m2 39 rfl) rfl
theorem q361 : (Jvm.Cond.code ({ cls := "WellRefuses$One", name := "<init>", desc := "(LWellRefuses$Trace;II)V" } : Jvm.MethodName) prog_16_method_1_code (4 : Nat) (Option.none : Option Jvm.ClassFile.FieldType)) ∈ lw_all := lw_g (lw_at lw_m2 40 rfl) rfl
theorem q362 : (Jvm.Cond.methodLink "WellRefuses$One" (3 : Nat) ({ cls := "java/lang/Object", name := "<init>", desc := "()V" } : Jvm.MethodName)) ∈ lw_all := lw_g (lw_at lw_m2 41 rfl) rfl
theorem q363 : (Jvm.Cond.fieldLink "WellRefuses$One" (9 : Nat) "WellRefuses$One" "trace" "LWellRefuses$Trace;") ∈ lw_all := lw_g (lw_at lw_m2 42 rfl) rfl
theorem q376 : (Jvm.Cond.fieldLink "WellRefuses$One" (15 : Nat) "WellRefuses$One" "number" "I") ∈ lw_all := lw_g (lw_at lw_m2 55 rfl) rfl
theorem q379 : (Jvm.Cond.fieldLink "WellRefuses$One" (19 : Nat) "WellRefuses$One" "m" "I") ∈ lw_all := lw_g (lw_at lw_m2 58 rfl) rfl
theorem q387 : (Jvm.Cond.soleField "WellRefuses$One" "trace") ∈ lw_all := lw_g (lw_at lw_m2 66 rfl) rfl
theorem q389 : (Jvm.Cond.soleField "WellRefuses$One" "number") ∈ lw_all := lw_g (lw_at lw_m2 68 rfl) rfl
theorem q391 : (Jvm.Cond.soleField "WellRefuses$One" "m") ∈ lw_all := lw_g (lw_at lw_m2 70 rfl) rfl
theorem q444 : (Jvm.Cond.instantiable "WellRefuses$One" (3 : Nat)) ∈ lw_all := lw_g (lw_at lw_m2 123 rfl) rfl
theorem q446 : (Jvm.Cond.laysFinal "WellRefuses$One" "WellRefuses$One" "trace" "LWellRefuses$Trace;") ∈ lw_all := lw_g (lw_at lw_m2 125 rfl) rfl
theorem q447 : (Jvm.Cond.laysFinal "WellRefuses$One" "WellRefuses$One" "number" "I") ∈ lw_all := lw_g (lw_at lw_m2 126 rfl) rfl
theorem q448 : (Jvm.Cond.laysFinal "WellRefuses$One" "WellRefuses$One" "m" "I") ∈ lw_all := lw_g (lw_at lw_m2 127 rfl) rfl
theorem q449 : (Jvm.Cond.superclass "WellRefuses$One" "java/lang/Object") ∈ lw_all := lw_g (lw_at lw_m2 128 rfl) rfl
theorem q471 : (Jvm.Cond.instanceMethod ({ cls := "WellRefuses$One", name := "kind", desc := "()I" } : Jvm.MethodName)) ∈ lw_all := lw_g (lw_at lw_m2 150 rfl) rfl
theorem q472 : (Jvm.Cond.selects "WellRefuses$One" ({ cls := "WellRefuses$One", name := "kind", desc := "()I" } : Jvm.MethodName) ({ cls := "WellRefuses$One", name := "kind", desc := "()I" } : Jvm.MethodName)) ∈ lw_all := lw_g (lw_at lw_m2 151 rfl) rfl
theorem q473 : (Jvm.Cond.sameMethod "WellRefuses$One" "WellRefuses$One" "kind" "()I") ∈ lw_all := lw_g (lw_at lw_m2 152 rfl) rfl
theorem q492 : (Jvm.Cond.code ({ cls := "WellRefuses$One", name := "kind", desc := "()I" } : Jvm.MethodName) prog_16_method_2_code (1 : Nat) (Option.some Jvm.ClassFile.FieldType.int)) ∈ lw_all := lw_g (lw_at lw_m2 171 rfl) rfl
theorem q494 : (Jvm.Cond.instanceMethod ({ cls := "WellRefuses$One", name := "bucket", desc := "()I" } : Jvm.MethodName)) ∈ lw_all := lw_g (lw_at lw_m2 173 rfl) rfl
theorem q495 : (Jvm.Cond.selects "WellRefuses$One" ({ cls := "WellRefuses$One", name := "bucket", desc := "()I" } : Jvm.MethodName) ({ cls := "WellRefuses$One", name := "bucket", desc := "()I" } : Jvm.MethodName)) ∈ lw_all := lw_g (lw_at lw_m2 174 rfl) rfl
theorem q496 : (Jvm.Cond.sameMethod "WellRefuses$One" "WellRefuses$One" "bucket" "()I") ∈ lw_all := lw_g (lw_at lw_m2 175 rfl) rfl
theorem q504 : (Jvm.Cond.code ({ cls := "WellRefuses$One", name := "bucket", desc := "()I" } : Jvm.MethodName) prog_16_method_4_code (1 : Nat) (Option.some Jvm.ClassFile.FieldType.int)) ∈ lw_all := lw_g (lw_at lw_m2 183 rfl) rfl
theorem q522 : (Jvm.Cond.instanceMethod ({ cls := "WellRefuses$One", name := "drinks", desc := "()I" } : Jvm.MethodName)) ∈ lw_all := lw_g (lw_at lw_m2 201 rfl) rfl
theorem q523 : (Jvm.Cond.selects "WellRefuses$One" ({ cls := "WellRefuses$One", name := "drinks", desc := "()I" } : Jvm.MethodName) ({ cls := "WellRefuses$One", name := "drinks", desc := "()I" } : Jvm.MethodName)) ∈ lw_all := lw_g (lw_at lw_m2 202 rfl) rfl
theorem q524 : (Jvm.Cond.sameMethod "WellRefuses$One" "WellRefuses$One" "drinks" "()I") ∈ lw_all := lw_g (lw_at lw_m2 203 rfl) rfl
theorem q532 : (Jvm.Cond.code ({ cls := "WellRefuses$One", name := "drinks", desc := "()I" } : Jvm.MethodName) prog_16_method_5_code (1 : Nat) (Option.some Jvm.ClassFile.FieldType.int)) ∈ lw_all := lw_g (lw_at lw_m2 211 rfl) rfl
theorem q610 : (Jvm.Cond.instanceMethod ({ cls := "WellRefuses$One", name := "isOf", desc := "(I)Z" } : Jvm.MethodName)) ∈ lw_all := lw_g (lw_at lw_m3 49 rfl) rfl
theorem q611 : (Jvm.Cond.selects "WellRefuses$One" ({ cls := "WellRefuses$One", name := "isOf", desc := "(I)Z" } : Jvm.MethodName) ({ cls := "WellRefuses$One", name := "isOf", desc := "(I)Z" } : Jvm.MethodName)) ∈ lw_all := lw_g (lw_at lw_m3 50 rfl) rfl
theorem q612 : (Jvm.Cond.sameMethod "WellRefuses$One" "WellRefuses$One" "isOf" "(I)Z") ∈ lw_all := lw_g (lw_at lw_m3 51 rfl) rfl
theorem q620 : (Jvm.Cond.code ({ cls := "WellRefuses$One", name := "isOf", desc := "(I)Z" } : Jvm.MethodName) prog_16_method_3_code (2 : Nat) (Option.some Jvm.ClassFile.FieldType.boolean)) ∈ lw_all := lw_g (lw_at lw_m3 59 rfl) rfl
theorem q1129 : (Jvm.Cond.instanceMethod ({ cls := "WellRefuses$One", name := "lets", desc := "(I)I" } : Jvm.MethodName)) ∈ lw_all := lw_g (lw_at lw_m5 88 rfl) rfl
theorem q1130 : (Jvm.Cond.publicMethod ({ cls := "WellRefuses$One", name := "lets", desc := "(I)I" } : Jvm.MethodName)) ∈ lw_tbl := lw_at lw_m5 89 rfl
theorem q1131 : (Jvm.Cond.code ({ cls := "WellRefuses$One", name := "lets", desc := "(I)I" } : Jvm.MethodName) prog_16_method_6_code (2 : Nat) (Option.some Jvm.ClassFile.FieldType.int)) ∈ lw_all := lw_g (lw_at lw_m5 90 rfl) rfl
theorem q1132 : (Jvm.Cond.methodLink "WellRefuses$One" (22 : Nat) ({ cls := "WellRefuses$Trace", name := "begins", desc := "(I)V" } : Jvm.MethodName)) ∈ lw_all := lw_g (lw_at lw_m5 91 rfl) rfl
theorem q1147 : (Jvm.Cond.castable "WellRefuses$One" "WellRefuses$Lets") ∈ lw_tbl := lw_at lw_m5 106 rfl
theorem q1148 : (Jvm.Cond.selects "WellRefuses$One" ({ cls := "WellRefuses$Lets", name := "lets", desc := "(I)I" } : Jvm.MethodName) ({ cls := "WellRefuses$One", name := "lets", desc := "(I)I" } : Jvm.MethodName)) ∈ lw_all := lw_g (lw_at lw_m5 107 rfl) rfl
theorem q1149 : (Jvm.Cond.unhidden "WellRefuses$One" "lets" "(I)I") ∈ lw_tbl := lw_at lw_m5 108 rfl
theorem q1175 : (Jvm.Cond.instanceMethod ({ cls := "WellRefuses$One", name := "fills", desc := "(I)I" } : Jvm.MethodName)) ∈ lw_all := lw_g (lw_at lw_m5 134 rfl) rfl
theorem q1176 : (Jvm.Cond.code ({ cls := "WellRefuses$One", name := "fills", desc := "(I)I" } : Jvm.MethodName) prog_16_method_7_code (2 : Nat) (Option.some Jvm.ClassFile.FieldType.int)) ∈ lw_all := lw_g (lw_at lw_m5 135 rfl) rfl
theorem q1177 : (Jvm.Cond.methodLink "WellRefuses$One" (28 : Nat) ({ cls := "WellRefuses$One", name := "lets", desc := "(I)I" } : Jvm.MethodName)) ∈ lw_all := lw_g (lw_at lw_m5 136 rfl) rfl
theorem q1180 : (Jvm.Cond.declares ({ cls := "WellRefuses$One", name := "lends", desc := "(I)I" } : Jvm.MethodName)) ∈ lw_tbl := lw_at lw_m5 139 rfl
theorem q1183 : (Jvm.Cond.instanceMethod ({ cls := "WellRefuses$One", name := "lends", desc := "(I)I" } : Jvm.MethodName)) ∈ lw_all := lw_g (lw_at lw_m5 142 rfl) rfl
theorem q1184 : (Jvm.Cond.code ({ cls := "WellRefuses$One", name := "lends", desc := "(I)I" } : Jvm.MethodName) prog_16_method_8_code (2 : Nat) (Option.some Jvm.ClassFile.FieldType.int)) ∈ lw_all := lw_g (lw_at lw_m5 143 rfl) rfl
theorem q1188 : (Jvm.Cond.publicMethod ({ cls := "WellRefuses$One", name := "fills", desc := "(I)I" } : Jvm.MethodName)) ∈ lw_tbl := lw_at lw_m5 147 rfl
theorem q1193 : (Jvm.Cond.castable "WellRefuses$One" "WellRefuses$Fills") ∈ lw_tbl := lw_at lw_m5 152 rfl
theorem q1194 : (Jvm.Cond.selects "WellRefuses$One" ({ cls := "WellRefuses$Fills", name := "fills", desc := "(I)I" } : Jvm.MethodName) ({ cls := "WellRefuses$One", name := "fills", desc := "(I)I" } : Jvm.MethodName)) ∈ lw_all := lw_g (lw_at lw_m5 153 rfl) rfl
theorem q1195 : (Jvm.Cond.unhidden "WellRefuses$One" "fills" "(I)I") ∈ lw_tbl := lw_at lw_m5 154 rfl
theorem q1212 : (Jvm.Cond.publicMethod ({ cls := "WellRefuses$One", name := "lends", desc := "(I)I" } : Jvm.MethodName)) ∈ lw_tbl := lw_at lw_m5 171 rfl
theorem q1219 : (Jvm.Cond.castable "WellRefuses$One" "WellRefuses$Lends") ∈ lw_tbl := lw_at lw_m5 178 rfl
theorem q1220 : (Jvm.Cond.selects "WellRefuses$One" ({ cls := "WellRefuses$Lends", name := "lends", desc := "(I)I" } : Jvm.MethodName) ({ cls := "WellRefuses$One", name := "lends", desc := "(I)I" } : Jvm.MethodName)) ∈ lw_all := lw_g (lw_at lw_m5 179 rfl) rfl
theorem q1221 : (Jvm.Cond.unhidden "WellRefuses$One" "lends" "(I)I") ∈ lw_tbl := lw_at lw_m5 180 rfl
theorem q1248 : (Jvm.Cond.instanceMethod ({ cls := "WellRefuses$One", name := "tells", desc := "(I)I" } : Jvm.MethodName)) ∈ lw_all := lw_g (lw_at lw_m5 207 rfl) rfl
theorem q1249 : (Jvm.Cond.publicMethod ({ cls := "WellRefuses$One", name := "tells", desc := "(I)I" } : Jvm.MethodName)) ∈ lw_tbl := lw_at lw_m5 208 rfl
theorem q1250 : (Jvm.Cond.code ({ cls := "WellRefuses$One", name := "tells", desc := "(I)I" } : Jvm.MethodName) prog_16_method_9_code (3 : Nat) (Option.some Jvm.ClassFile.FieldType.int)) ∈ lw_all := lw_g (lw_at lw_m5 209 rfl) rfl
theorem q1251 : (Jvm.Cond.methodLink "WellRefuses$One" (32 : Nat) ({ cls := "WellRefuses$One", name := "fills", desc := "(I)I" } : Jvm.MethodName)) ∈ lw_all := lw_g (lw_at lw_m5 210 rfl) rfl
theorem q1252 : (Jvm.Cond.methodLink "WellRefuses$One" (35 : Nat) ({ cls := "WellRefuses$One", name := "lends", desc := "(I)I" } : Jvm.MethodName)) ∈ lw_all := lw_g (lw_at lw_m5 211 rfl) rfl
theorem q1262 : (Jvm.Cond.declares ({ cls := "WellRefuses$One", name := "tells", desc := "(I)I" } : Jvm.MethodName)) ∈ lw_tbl := lw_at lw_m5 221 rfl
theorem q1270 : (Jvm.Cond.castable "WellRefuses$One" "WellRefuses$Says") ∈ lw_tbl := lw_at lw_m5 229 rfl
theorem q1271 : (Jvm.Cond.selects "WellRefuses$One" ({ cls := "WellRefuses$Says", name := "tells", desc := "(I)I" } : Jvm.MethodName) ({ cls := "WellRefuses$One", name := "tells", desc := "(I)I" } : Jvm.MethodName)) ∈ lw_all := lw_g (lw_at lw_m5 230 rfl) rfl
theorem q1272 : (Jvm.Cond.unhidden "WellRefuses$One" "tells" "(I)I") ∈ lw_tbl := lw_at lw_m5 231 rfl
theorem q1287 : (Jvm.Cond.declares ({ cls := "WellRefuses$One", name := "fills", desc := "(I)I" } : Jvm.MethodName)) ∈ lw_tbl := lw_at lw_m6 6 rfl
theorem q1880 : (Jvm.Cond.sameMethod "WellRefuses$One" "WellRefuses$One" "lets" "(I)I") ∈ lw_all := lw_g (lw_at lw_m8 119 rfl) rfl
theorem q1882 : (Jvm.Cond.sameMethod "WellRefuses$One" "WellRefuses$One" "fills" "(I)I") ∈ lw_all := lw_g (lw_at lw_m8 121 rfl) rfl
theorem q1886 : (Jvm.Cond.selects "WellRefuses$One" ({ cls := "WellRefuses$One", name := "lets", desc := "(I)I" } : Jvm.MethodName) ({ cls := "WellRefuses$One", name := "lets", desc := "(I)I" } : Jvm.MethodName)) ∈ lw_all := lw_g (lw_at lw_m8 125 rfl) rfl
theorem q1890 : (Jvm.Cond.sameMethod "WellRefuses$One" "WellRefuses$One" "lends" "(I)I") ∈ lw_all := lw_g (lw_at lw_m8 129 rfl) rfl
theorem q1895 : (Jvm.Cond.selects "WellRefuses$One" ({ cls := "WellRefuses$One", name := "fills", desc := "(I)I" } : Jvm.MethodName) ({ cls := "WellRefuses$One", name := "fills", desc := "(I)I" } : Jvm.MethodName)) ∈ lw_all := lw_g (lw_at lw_m8 134 rfl) rfl
theorem q1902 : (Jvm.Cond.selects "WellRefuses$One" ({ cls := "WellRefuses$One", name := "lends", desc := "(I)I" } : Jvm.MethodName) ({ cls := "WellRefuses$One", name := "lends", desc := "(I)I" } : Jvm.MethodName)) ∈ lw_all := lw_g (lw_at lw_m8 141 rfl) rfl
abbrev cX8_init : ByteArray := prog_18_method_1_code
def yX8_init : MethodName := ⟨RX8, "<init>", "(LWellRefuses$Trace;II)V"⟩
def dkwX8_init_0 : List UInt8 := [42, 43, 28, 29, 183, 0, 3, 177]
abbrev dktX8_init_0 : List UInt8 := dkwX8_init_0 ++ []
theorem dksX8_init_0 : cX8_init.data.toList.drop 0 = dktX8_init_0 := by decide +kernel
theorem dX8_init_0 : decode cX8_init 0 = .ok (.aload_n 0, 1) := dk_42 (dk_at dksX8_init_0 0 rfl rfl)
theorem dX8_init_1 : decode cX8_init 1 = .ok (.aload_n 1, 1) := dk_43 (dk_at dksX8_init_0 1 rfl rfl)
theorem dX8_init_2 : decode cX8_init 2 = .ok (.iload_n 2, 1) := dk_28 (dk_at dksX8_init_0 2 rfl rfl)
theorem dX8_init_3 : decode cX8_init 3 = .ok (.iload_n 3, 1) := dk_29 (dk_at dksX8_init_0 3 rfl rfl)
theorem dX8_init_4 : decode cX8_init 4 = .ok (.invokespecial 3, 3) := dk_183 0 3 (dk_at dksX8_init_0 4 rfl rfl)
theorem dX8_init_7 : decode cX8_init 7 = .ok (.return_, 1) := dk_177 (dk_at dksX8_init_0 7 rfl rfl)
abbrev cX8_kind : ByteArray := prog_18_method_2_code
def yX8_kind : MethodName := ⟨RX8, "kind", "()I"⟩
theorem dX8_kind_0 : decode cX8_kind 0 = .ok (.iconst 1, 1) := by decide +kernel
theorem dX8_kind_1 : decode cX8_kind 1 = .ok (.ireturn, 1) := by decide +kernel
abbrev cX8_bucket : ByteArray := prog_18_method_4_code
def yX8_bucket : MethodName := ⟨RX8, "bucket", "()I"⟩
def dkwX8_bucket_0 : List UInt8 := [42, 183, 0, 13, 42, 180, 0, 17, 6, 112, 96, 172]
abbrev dktX8_bucket_0 : List UInt8 := dkwX8_bucket_0 ++ []
theorem dksX8_bucket_0 : cX8_bucket.data.toList.drop 0 = dktX8_bucket_0 := by decide +kernel
theorem dX8_bucket_0 : decode cX8_bucket 0 = .ok (.aload_n 0, 1) := dk_42 (dk_at dksX8_bucket_0 0 rfl rfl)
theorem dX8_bucket_1 : decode cX8_bucket 1 = .ok (.invokespecial 13, 3) := dk_183 0 13 (dk_at dksX8_bucket_0 1 rfl rfl)
theorem dX8_bucket_4 : decode cX8_bucket 4 = .ok (.aload_n 0, 1) := dk_42 (dk_at dksX8_bucket_0 4 rfl rfl)
theorem dX8_bucket_5 : decode cX8_bucket 5 = .ok (.getfield 17, 3) := dk_180 0 17 (dk_at dksX8_bucket_0 5 rfl rfl)
theorem dX8_bucket_8 : decode cX8_bucket 8 = .ok (.iconst 3, 1) := dk_6 (dk_at dksX8_bucket_0 8 rfl rfl)
theorem dX8_bucket_9 : decode cX8_bucket 9 = .ok (.irem, 1) := dk_112 (dk_at dksX8_bucket_0 9 rfl rfl)
theorem dX8_bucket_10 : decode cX8_bucket 10 = .ok (.iadd, 1) := dk_96 (dk_at dksX8_bucket_0 10 rfl rfl)
theorem dX8_bucket_11 : decode cX8_bucket 11 = .ok (.ireturn, 1) := dk_172 (dk_at dksX8_bucket_0 11 rfl rfl)
abbrev cX8_drinks : ByteArray := prog_18_method_5_code
def yX8_drinks : MethodName := ⟨RX8, "drinks", "()I"⟩
theorem dX8_drinks_0 : decode cX8_drinks 0 = .ok (.iconst 1, 1) := by decide +kernel
theorem dX8_drinks_1 : decode cX8_drinks 1 = .ok (.ireturn, 1) := by decide +kernel
abbrev cX8_isOf : ByteArray := prog_18_method_3_code
def yX8_isOf : MethodName := ⟨RX8, "isOf", "(I)Z"⟩
def dkwX8_isOf_0 : List UInt8 := [27, 4, 159, 0, 11, 42, 27, 183, 0, 9, 153, 0, 7, 4, 167, 0, 4, 3, 172]
abbrev dktX8_isOf_0 : List UInt8 := dkwX8_isOf_0 ++ []
theorem dksX8_isOf_0 : cX8_isOf.data.toList.drop 0 = dktX8_isOf_0 := by decide +kernel
theorem dX8_isOf_0 : decode cX8_isOf 0 = .ok (.iload_n 1, 1) := dk_27 (dk_at dksX8_isOf_0 0 rfl rfl)
theorem dX8_isOf_1 : decode cX8_isOf 1 = .ok (.iconst 1, 1) := dk_4 (dk_at dksX8_isOf_0 1 rfl rfl)
theorem dX8_isOf_2 : decode cX8_isOf 2 = .ok (.if_icmp .eq 11, 3) := dk_159 0 11 (dk_at dksX8_isOf_0 2 rfl rfl)
theorem dX8_isOf_5 : decode cX8_isOf 5 = .ok (.aload_n 0, 1) := dk_42 (dk_at dksX8_isOf_0 5 rfl rfl)
theorem dX8_isOf_6 : decode cX8_isOf 6 = .ok (.iload_n 1, 1) := dk_27 (dk_at dksX8_isOf_0 6 rfl rfl)
theorem dX8_isOf_7 : decode cX8_isOf 7 = .ok (.invokespecial 9, 3) := dk_183 0 9 (dk_at dksX8_isOf_0 7 rfl rfl)
theorem dX8_isOf_10 : decode cX8_isOf 10 = .ok (.ifCond .eq 7, 3) := dk_153 0 7 (dk_at dksX8_isOf_0 10 rfl rfl)
theorem dX8_isOf_13 : decode cX8_isOf 13 = .ok (.iconst 1, 1) := dk_4 (dk_at dksX8_isOf_0 13 rfl rfl)
theorem dX8_isOf_14 : decode cX8_isOf 14 = .ok (.goto 4, 3) := dk_167 0 4 (dk_at dksX8_isOf_0 14 rfl rfl)
theorem dX8_isOf_17 : decode cX8_isOf 17 = .ok (.iconst 0, 1) := dk_3 (dk_at dksX8_isOf_0 17 rfl rfl)
theorem dX8_isOf_18 : decode cX8_isOf 18 = .ok (.ireturn, 1) := dk_172 (dk_at dksX8_isOf_0 18 rfl rfl)
abbrev cX8_lets : ByteArray := prog_18_method_6_code
def yX8_lets : MethodName := ⟨RX8, "lets", "(I)I"⟩
def dkwX8_lets_0 : List UInt8 := [42, 180, 0, 23, 16, 20, 182, 0, 27, 42, 27, 183, 0, 33, 6, 104, 172]
abbrev dktX8_lets_0 : List UInt8 := dkwX8_lets_0 ++ []
theorem dksX8_lets_0 : cX8_lets.data.toList.drop 0 = dktX8_lets_0 := by decide +kernel
theorem dX8_lets_0 : decode cX8_lets 0 = .ok (.aload_n 0, 1) := dk_42 (dk_at dksX8_lets_0 0 rfl rfl)
theorem dX8_lets_1 : decode cX8_lets 1 = .ok (.getfield 23, 3) := dk_180 0 23 (dk_at dksX8_lets_0 1 rfl rfl)
theorem dX8_lets_4 : decode cX8_lets 4 = .ok (.bipush 20, 2) := dk_16 20 (dk_at dksX8_lets_0 4 rfl rfl)
theorem dX8_lets_6 : decode cX8_lets 6 = .ok (.invokevirtual 27, 3) := dk_182 0 27 (dk_at dksX8_lets_0 6 rfl rfl)
theorem dX8_lets_9 : decode cX8_lets 9 = .ok (.aload_n 0, 1) := dk_42 (dk_at dksX8_lets_0 9 rfl rfl)
theorem dX8_lets_10 : decode cX8_lets 10 = .ok (.iload_n 1, 1) := dk_27 (dk_at dksX8_lets_0 10 rfl rfl)
theorem dX8_lets_11 : decode cX8_lets 11 = .ok (.invokespecial 33, 3) := dk_183 0 33 (dk_at dksX8_lets_0 11 rfl rfl)
theorem dX8_lets_14 : decode cX8_lets 14 = .ok (.iconst 3, 1) := dk_6 (dk_at dksX8_lets_0 14 rfl rfl)
theorem dX8_lets_15 : decode cX8_lets 15 = .ok (.imul, 1) := dk_104 (dk_at dksX8_lets_0 15 rfl rfl)
theorem dX8_lets_16 : decode cX8_lets 16 = .ok (.ireturn, 1) := dk_172 (dk_at dksX8_lets_0 16 rfl rfl)
theorem q93 : (Jvm.Cond.initialized "WellRefuses$Saint") ∈ lw_all := lw_g (lw_at lw_m1 12 rfl) rfl
theorem q355 : (Jvm.Cond.instantiable "WellRefuses$Saint" (3 : Nat)) ∈ lw_all := lw_g (lw_at lw_m2 34 rfl) rfl
theorem q357 : (Jvm.Cond.instanceMethod ({ cls := "WellRefuses$Saint", name := "<init>", desc := "(LWellRefuses$Trace;II)V" } : Jvm.MethodName)) ∈ lw_all := lw_g (lw_at lw_m2 36 rfl) rfl
theorem q358 : (Jvm.Cond.code ({ cls := "WellRefuses$Saint", name := "<init>", desc := "(LWellRefuses$Trace;II)V" } : Jvm.MethodName) prog_18_method_1_code (4 : Nat) (Option.none : Option Jvm.ClassFile.FieldType)) ∈ lw_all := lw_g (lw_at lw_m2 37 rfl) rfl
theorem q359 : (Jvm.Cond.methodLink "WellRefuses$Saint" (3 : Nat) ({ cls := "WellRefuses$One", name := "<init>", desc := "(LWellRefuses$Trace;II)V" } : Jvm.MethodName)) ∈ lw_all := lw_g (lw_at lw_m2 38 rfl) rfl
theorem q370 : (Jvm.Cond.fieldLink "WellRefuses$Saint" (23 : Nat) "WellRefuses$Saint" "trace" "LWellRefuses$Trace;") ∈ lw_all := lw_g (lw_at lw_m2 49 rfl) rfl
theorem q371 : (Jvm.Cond.sameField "WellRefuses$Saint" "WellRefuses$One" "trace" "LWellRefuses$Trace;") ∈ lw_all := lw_g (lw_at lw_m2 50 rfl) rfl
theorem q380 : (Jvm.Cond.fieldLink "WellRefuses$Saint" (17 : Nat) "WellRefuses$Saint" "m" "I") ∈ lw_all := lw_g (lw_at lw_m2 59 rfl) rfl
theorem q381 : (Jvm.Cond.sameField "WellRefuses$Saint" "WellRefuses$One" "m" "I") ∈ lw_all := lw_g (lw_at lw_m2 60 rfl) rfl
theorem q386 : (Jvm.Cond.laysFinal "WellRefuses$Saint" "WellRefuses$One" "trace" "LWellRefuses$Trace;") ∈ lw_all := lw_g (lw_at lw_m2 65 rfl) rfl
theorem q388 : (Jvm.Cond.laysFinal "WellRefuses$Saint" "WellRefuses$One" "number" "I") ∈ lw_all := lw_g (lw_at lw_m2 67 rfl) rfl
theorem q390 : (Jvm.Cond.laysFinal "WellRefuses$Saint" "WellRefuses$One" "m" "I") ∈ lw_all := lw_g (lw_at lw_m2 69 rfl) rfl
theorem q392 : (Jvm.Cond.superclass "WellRefuses$Saint" "WellRefuses$One") ∈ lw_all := lw_g (lw_at lw_m2 71 rfl) rfl
theorem q483 : (Jvm.Cond.selects "WellRefuses$Saint" ({ cls := "WellRefuses$One", name := "kind", desc := "()I" } : Jvm.MethodName) ({ cls := "WellRefuses$Saint", name := "kind", desc := "()I" } : Jvm.MethodName)) ∈ lw_all := lw_g (lw_at lw_m2 162 rfl) rfl
theorem q484 : (Jvm.Cond.instanceMethod ({ cls := "WellRefuses$Saint", name := "kind", desc := "()I" } : Jvm.MethodName)) ∈ lw_all := lw_g (lw_at lw_m2 163 rfl) rfl
theorem q485 : (Jvm.Cond.code ({ cls := "WellRefuses$Saint", name := "kind", desc := "()I" } : Jvm.MethodName) prog_18_method_2_code (1 : Nat) (Option.some Jvm.ClassFile.FieldType.int)) ∈ lw_all := lw_g (lw_at lw_m2 164 rfl) rfl
theorem q509 : (Jvm.Cond.instanceMethod ({ cls := "WellRefuses$Saint", name := "bucket", desc := "()I" } : Jvm.MethodName)) ∈ lw_all := lw_g (lw_at lw_m2 188 rfl) rfl
theorem q510 : (Jvm.Cond.code ({ cls := "WellRefuses$Saint", name := "bucket", desc := "()I" } : Jvm.MethodName) prog_18_method_4_code (1 : Nat) (Option.some Jvm.ClassFile.FieldType.int)) ∈ lw_all := lw_g (lw_at lw_m2 189 rfl) rfl
theorem q511 : (Jvm.Cond.methodLink "WellRefuses$Saint" (13 : Nat) ({ cls := "WellRefuses$One", name := "bucket", desc := "()I" } : Jvm.MethodName)) ∈ lw_all := lw_g (lw_at lw_m2 190 rfl) rfl
theorem q513 : (Jvm.Cond.selects "WellRefuses$Saint" ({ cls := "WellRefuses$One", name := "bucket", desc := "()I" } : Jvm.MethodName) ({ cls := "WellRefuses$Saint", name := "bucket", desc := "()I" } : Jvm.MethodName)) ∈ lw_all := lw_g (lw_at lw_m2 192 rfl) rfl
theorem q534 : (Jvm.Cond.instanceMethod ({ cls := "WellRefuses$Saint", name := "drinks", desc := "()I" } : Jvm.MethodName)) ∈ lw_all := lw_g (lw_at lw_m2 213 rfl) rfl
theorem q535 : (Jvm.Cond.code ({ cls := "WellRefuses$Saint", name := "drinks", desc := "()I" } : Jvm.MethodName) prog_18_method_5_code (1 : Nat) (Option.some Jvm.ClassFile.FieldType.int)) ∈ lw_all := lw_g (lw_at lw_m2 214 rfl) rfl
theorem q537 : (Jvm.Cond.selects "WellRefuses$Saint" ({ cls := "WellRefuses$One", name := "drinks", desc := "()I" } : Jvm.MethodName) ({ cls := "WellRefuses$Saint", name := "drinks", desc := "()I" } : Jvm.MethodName)) ∈ lw_all := lw_g (lw_at lw_m2 216 rfl) rfl
theorem q625 : (Jvm.Cond.instanceMethod ({ cls := "WellRefuses$Saint", name := "isOf", desc := "(I)Z" } : Jvm.MethodName)) ∈ lw_all := lw_g (lw_at lw_m3 64 rfl) rfl
theorem q626 : (Jvm.Cond.code ({ cls := "WellRefuses$Saint", name := "isOf", desc := "(I)Z" } : Jvm.MethodName) prog_18_method_3_code (2 : Nat) (Option.some Jvm.ClassFile.FieldType.boolean)) ∈ lw_all := lw_g (lw_at lw_m3 65 rfl) rfl
theorem q627 : (Jvm.Cond.methodLink "WellRefuses$Saint" (9 : Nat) ({ cls := "WellRefuses$One", name := "isOf", desc := "(I)Z" } : Jvm.MethodName)) ∈ lw_all := lw_g (lw_at lw_m3 66 rfl) rfl
theorem q629 : (Jvm.Cond.selects "WellRefuses$Saint" ({ cls := "WellRefuses$One", name := "isOf", desc := "(I)Z" } : Jvm.MethodName) ({ cls := "WellRefuses$Saint", name := "isOf", desc := "(I)Z" } : Jvm.MethodName)) ∈ lw_all := lw_g (lw_at lw_m3 68 rfl) rfl
theorem q1139 : (Jvm.Cond.instanceMethod ({ cls := "WellRefuses$Saint", name := "lets", desc := "(I)I" } : Jvm.MethodName)) ∈ lw_all := lw_g (lw_at lw_m5 98 rfl) rfl
theorem q1140 : (Jvm.Cond.publicMethod ({ cls := "WellRefuses$Saint", name := "lets", desc := "(I)I" } : Jvm.MethodName)) ∈ lw_tbl := lw_at lw_m5 99 rfl
theorem q1141 : (Jvm.Cond.code ({ cls := "WellRefuses$Saint", name := "lets", desc := "(I)I" } : Jvm.MethodName) prog_18_method_6_code (2 : Nat) (Option.some Jvm.ClassFile.FieldType.int)) ∈ lw_all := lw_g (lw_at lw_m5 100 rfl) rfl
theorem q1142 : (Jvm.Cond.methodLink "WellRefuses$Saint" (27 : Nat) ({ cls := "WellRefuses$Trace", name := "begins", desc := "(I)V" } : Jvm.MethodName)) ∈ lw_all := lw_g (lw_at lw_m5 101 rfl) rfl
theorem q1143 : (Jvm.Cond.methodLink "WellRefuses$Saint" (33 : Nat) ({ cls := "WellRefuses$One", name := "lets", desc := "(I)I" } : Jvm.MethodName)) ∈ lw_all := lw_g (lw_at lw_m5 102 rfl) rfl
theorem q1150 : (Jvm.Cond.castable "WellRefuses$Saint" "WellRefuses$Lets") ∈ lw_tbl := lw_at lw_m5 109 rfl
theorem q1151 : (Jvm.Cond.selects "WellRefuses$Saint" ({ cls := "WellRefuses$Lets", name := "lets", desc := "(I)I" } : Jvm.MethodName) ({ cls := "WellRefuses$Saint", name := "lets", desc := "(I)I" } : Jvm.MethodName)) ∈ lw_all := lw_g (lw_at lw_m5 110 rfl) rfl
theorem q1152 : (Jvm.Cond.unhidden "WellRefuses$Saint" "lets" "(I)I") ∈ lw_tbl := lw_at lw_m5 111 rfl
theorem q1196 : (Jvm.Cond.castable "WellRefuses$Saint" "WellRefuses$Fills") ∈ lw_tbl := lw_at lw_m5 155 rfl
theorem q1197 : (Jvm.Cond.selects "WellRefuses$Saint" ({ cls := "WellRefuses$Fills", name := "fills", desc := "(I)I" } : Jvm.MethodName) ({ cls := "WellRefuses$One", name := "fills", desc := "(I)I" } : Jvm.MethodName)) ∈ lw_all := lw_g (lw_at lw_m5 156 rfl) rfl
theorem q1198 : (Jvm.Cond.unhidden "WellRefuses$Saint" "fills" "(I)I") ∈ lw_tbl := lw_at lw_m5 157 rfl
theorem q1222 : (Jvm.Cond.castable "WellRefuses$Saint" "WellRefuses$Lends") ∈ lw_tbl := lw_at lw_m5 181 rfl
theorem q1223 : (Jvm.Cond.selects "WellRefuses$Saint" ({ cls := "WellRefuses$Lends", name := "lends", desc := "(I)I" } : Jvm.MethodName) ({ cls := "WellRefuses$One", name := "lends", desc := "(I)I" } : Jvm.MethodName)) ∈ lw_all := lw_g (lw_at lw_m5 182 rfl) rfl
theorem q1224 : (Jvm.Cond.unhidden "WellRefuses$Saint" "lends" "(I)I") ∈ lw_tbl := lw_at lw_m5 183 rfl
theorem q1261 : (Jvm.Cond.sameMethod "WellRefuses$Saint" "WellRefuses$One" "tells" "(I)I") ∈ lw_all := lw_g (lw_at lw_m5 220 rfl) rfl
theorem q1265 : (Jvm.Cond.declares ({ cls := "WellRefuses$Saint", name := "lets", desc := "(I)I" } : Jvm.MethodName)) ∈ lw_tbl := lw_at lw_m5 224 rfl
theorem q1273 : (Jvm.Cond.castable "WellRefuses$Saint" "WellRefuses$Says") ∈ lw_tbl := lw_at lw_m5 232 rfl
theorem q1274 : (Jvm.Cond.selects "WellRefuses$Saint" ({ cls := "WellRefuses$Says", name := "tells", desc := "(I)I" } : Jvm.MethodName) ({ cls := "WellRefuses$One", name := "tells", desc := "(I)I" } : Jvm.MethodName)) ∈ lw_all := lw_g (lw_at lw_m5 233 rfl) rfl
theorem q1275 : (Jvm.Cond.unhidden "WellRefuses$Saint" "tells" "(I)I") ∈ lw_tbl := lw_at lw_m5 234 rfl
theorem q1874 : (Jvm.Cond.sameMethod "WellRefuses$Saint" "WellRefuses$Saint" "bucket" "()I") ∈ lw_all := lw_g (lw_at lw_m8 113 rfl) rfl
theorem q1878 : (Jvm.Cond.sameMethod "WellRefuses$Saint" "WellRefuses$Saint" "isOf" "(I)Z") ∈ lw_all := lw_g (lw_at lw_m8 117 rfl) rfl
theorem q1887 : (Jvm.Cond.selects "WellRefuses$Saint" ({ cls := "WellRefuses$One", name := "lets", desc := "(I)I" } : Jvm.MethodName) ({ cls := "WellRefuses$Saint", name := "lets", desc := "(I)I" } : Jvm.MethodName)) ∈ lw_all := lw_g (lw_at lw_m8 126 rfl) rfl
theorem q1896 : (Jvm.Cond.selects "WellRefuses$Saint" ({ cls := "WellRefuses$One", name := "fills", desc := "(I)I" } : Jvm.MethodName) ({ cls := "WellRefuses$One", name := "fills", desc := "(I)I" } : Jvm.MethodName)) ∈ lw_all := lw_g (lw_at lw_m8 135 rfl) rfl
theorem q1903 : (Jvm.Cond.selects "WellRefuses$Saint" ({ cls := "WellRefuses$One", name := "lends", desc := "(I)I" } : Jvm.MethodName) ({ cls := "WellRefuses$One", name := "lends", desc := "(I)I" } : Jvm.MethodName)) ∈ lw_all := lw_g (lw_at lw_m8 142 rfl) rfl
theorem q1909 : (Jvm.Cond.castable "WellRefuses$Saint" "WellRefuses$One") ∈ lw_tbl := lw_at lw_m8 148 rfl
abbrev cX9_init : ByteArray := prog_6_method_1_code
def yX9_init : MethodName := ⟨RX9, "<init>", "(LWellRefuses$Trace;II)V"⟩
def dkwX9_init_0 : List UInt8 := [42, 43, 28, 29, 183, 0, 3, 177]
abbrev dktX9_init_0 : List UInt8 := dkwX9_init_0 ++ []
theorem dksX9_init_0 : cX9_init.data.toList.drop 0 = dktX9_init_0 := by decide +kernel
theorem dX9_init_0 : decode cX9_init 0 = .ok (.aload_n 0, 1) := dk_42 (dk_at dksX9_init_0 0 rfl rfl)
theorem dX9_init_1 : decode cX9_init 1 = .ok (.aload_n 1, 1) := dk_43 (dk_at dksX9_init_0 1 rfl rfl)
theorem dX9_init_2 : decode cX9_init 2 = .ok (.iload_n 2, 1) := dk_28 (dk_at dksX9_init_0 2 rfl rfl)
theorem dX9_init_3 : decode cX9_init 3 = .ok (.iload_n 3, 1) := dk_29 (dk_at dksX9_init_0 3 rfl rfl)
theorem dX9_init_4 : decode cX9_init 4 = .ok (.invokespecial 3, 3) := dk_183 0 3 (dk_at dksX9_init_0 4 rfl rfl)
theorem dX9_init_7 : decode cX9_init 7 = .ok (.return_, 1) := dk_177 (dk_at dksX9_init_0 7 rfl rfl)
abbrev cX9_kind : ByteArray := prog_6_method_2_code
def yX9_kind : MethodName := ⟨RX9, "kind", "()I"⟩
theorem dX9_kind_0 : decode cX9_kind 0 = .ok (.iconst 2, 1) := by decide +kernel
theorem dX9_kind_1 : decode cX9_kind 1 = .ok (.ireturn, 1) := by decide +kernel
abbrev cX9_bucket : ByteArray := prog_6_method_4_code
def yX9_bucket : MethodName := ⟨RX9, "bucket", "()I"⟩
def dkwX9_bucket_0 : List UInt8 := [5, 42, 183, 0, 13, 104, 172]
abbrev dktX9_bucket_0 : List UInt8 := dkwX9_bucket_0 ++ []
theorem dksX9_bucket_0 : cX9_bucket.data.toList.drop 0 = dktX9_bucket_0 := by decide +kernel
theorem dX9_bucket_0 : decode cX9_bucket 0 = .ok (.iconst 2, 1) := dk_5 (dk_at dksX9_bucket_0 0 rfl rfl)
theorem dX9_bucket_1 : decode cX9_bucket 1 = .ok (.aload_n 0, 1) := dk_42 (dk_at dksX9_bucket_0 1 rfl rfl)
theorem dX9_bucket_2 : decode cX9_bucket 2 = .ok (.invokespecial 13, 3) := dk_183 0 13 (dk_at dksX9_bucket_0 2 rfl rfl)
theorem dX9_bucket_5 : decode cX9_bucket 5 = .ok (.imul, 1) := dk_104 (dk_at dksX9_bucket_0 5 rfl rfl)
theorem dX9_bucket_6 : decode cX9_bucket 6 = .ok (.ireturn, 1) := dk_172 (dk_at dksX9_bucket_0 6 rfl rfl)
abbrev cX9_drinks : ByteArray := prog_6_method_5_code
def yX9_drinks : MethodName := ⟨RX9, "drinks", "()I"⟩
def dkwX9_drinks_0 : List UInt8 := [42, 183, 0, 17, 4, 96, 172]
abbrev dktX9_drinks_0 : List UInt8 := dkwX9_drinks_0 ++ []
theorem dksX9_drinks_0 : cX9_drinks.data.toList.drop 0 = dktX9_drinks_0 := by decide +kernel
theorem dX9_drinks_0 : decode cX9_drinks 0 = .ok (.aload_n 0, 1) := dk_42 (dk_at dksX9_drinks_0 0 rfl rfl)
theorem dX9_drinks_1 : decode cX9_drinks 1 = .ok (.invokespecial 17, 3) := dk_183 0 17 (dk_at dksX9_drinks_0 1 rfl rfl)
theorem dX9_drinks_4 : decode cX9_drinks 4 = .ok (.iconst 1, 1) := dk_4 (dk_at dksX9_drinks_0 4 rfl rfl)
theorem dX9_drinks_5 : decode cX9_drinks 5 = .ok (.iadd, 1) := dk_96 (dk_at dksX9_drinks_0 5 rfl rfl)
theorem dX9_drinks_6 : decode cX9_drinks 6 = .ok (.ireturn, 1) := dk_172 (dk_at dksX9_drinks_0 6 rfl rfl)
abbrev cX9_isOf : ByteArray := prog_6_method_3_code
def yX9_isOf : MethodName := ⟨RX9, "isOf", "(I)Z"⟩
def dkwX9_isOf_0 : List UInt8 := [27, 5, 159, 0, 11, 42, 27, 183, 0, 9, 153, 0, 7, 4, 167, 0, 4, 3, 172]
abbrev dktX9_isOf_0 : List UInt8 := dkwX9_isOf_0 ++ []
theorem dksX9_isOf_0 : cX9_isOf.data.toList.drop 0 = dktX9_isOf_0 := by decide +kernel
theorem dX9_isOf_0 : decode cX9_isOf 0 = .ok (.iload_n 1, 1) := dk_27 (dk_at dksX9_isOf_0 0 rfl rfl)
theorem dX9_isOf_1 : decode cX9_isOf 1 = .ok (.iconst 2, 1) := dk_5 (dk_at dksX9_isOf_0 1 rfl rfl)
theorem dX9_isOf_2 : decode cX9_isOf 2 = .ok (.if_icmp .eq 11, 3) := dk_159 0 11 (dk_at dksX9_isOf_0 2 rfl rfl)
theorem dX9_isOf_5 : decode cX9_isOf 5 = .ok (.aload_n 0, 1) := dk_42 (dk_at dksX9_isOf_0 5 rfl rfl)
theorem dX9_isOf_6 : decode cX9_isOf 6 = .ok (.iload_n 1, 1) := dk_27 (dk_at dksX9_isOf_0 6 rfl rfl)
theorem dX9_isOf_7 : decode cX9_isOf 7 = .ok (.invokespecial 9, 3) := dk_183 0 9 (dk_at dksX9_isOf_0 7 rfl rfl)
theorem dX9_isOf_10 : decode cX9_isOf 10 = .ok (.ifCond .eq 7, 3) := dk_153 0 7 (dk_at dksX9_isOf_0 10 rfl rfl)
theorem dX9_isOf_13 : decode cX9_isOf 13 = .ok (.iconst 1, 1) := dk_4 (dk_at dksX9_isOf_0 13 rfl rfl)
theorem dX9_isOf_14 : decode cX9_isOf 14 = .ok (.goto 4, 3) := dk_167 0 4 (dk_at dksX9_isOf_0 14 rfl rfl)
theorem dX9_isOf_17 : decode cX9_isOf 17 = .ok (.iconst 0, 1) := dk_3 (dk_at dksX9_isOf_0 17 rfl rfl)
theorem dX9_isOf_18 : decode cX9_isOf 18 = .ok (.ireturn, 1) := dk_172 (dk_at dksX9_isOf_0 18 rfl rfl)
abbrev cX9_fills : ByteArray := prog_6_method_6_code
def yX9_fills : MethodName := ⟨RX9, "fills", "(I)I"⟩
def dkwX9_fills_0 : List UInt8 := [42, 180, 0, 20, 16, 30, 182, 0, 26, 42, 27, 183, 0, 32, 61, 28, 42, 4, 182, 0, 36, 100, 172]
abbrev dktX9_fills_0 : List UInt8 := dkwX9_fills_0 ++ []
theorem dksX9_fills_0 : cX9_fills.data.toList.drop 0 = dktX9_fills_0 := by decide +kernel
theorem dX9_fills_0 : decode cX9_fills 0 = .ok (.aload_n 0, 1) := dk_42 (dk_at dksX9_fills_0 0 rfl rfl)
theorem dX9_fills_1 : decode cX9_fills 1 = .ok (.getfield 20, 3) := dk_180 0 20 (dk_at dksX9_fills_0 1 rfl rfl)
theorem dX9_fills_4 : decode cX9_fills 4 = .ok (.bipush 30, 2) := dk_16 30 (dk_at dksX9_fills_0 4 rfl rfl)
theorem dX9_fills_6 : decode cX9_fills 6 = .ok (.invokevirtual 26, 3) := dk_182 0 26 (dk_at dksX9_fills_0 6 rfl rfl)
theorem dX9_fills_9 : decode cX9_fills 9 = .ok (.aload_n 0, 1) := dk_42 (dk_at dksX9_fills_0 9 rfl rfl)
theorem dX9_fills_10 : decode cX9_fills 10 = .ok (.iload_n 1, 1) := dk_27 (dk_at dksX9_fills_0 10 rfl rfl)
theorem dX9_fills_11 : decode cX9_fills 11 = .ok (.invokespecial 32, 3) := dk_183 0 32 (dk_at dksX9_fills_0 11 rfl rfl)
theorem dX9_fills_14 : decode cX9_fills 14 = .ok (.istore_n 2, 1) := dk_61 (dk_at dksX9_fills_0 14 rfl rfl)
theorem dX9_fills_15 : decode cX9_fills 15 = .ok (.iload_n 2, 1) := dk_28 (dk_at dksX9_fills_0 15 rfl rfl)
theorem dX9_fills_16 : decode cX9_fills 16 = .ok (.aload_n 0, 1) := dk_42 (dk_at dksX9_fills_0 16 rfl rfl)
theorem dX9_fills_17 : decode cX9_fills 17 = .ok (.iconst 1, 1) := dk_4 (dk_at dksX9_fills_0 17 rfl rfl)
theorem dX9_fills_18 : decode cX9_fills 18 = .ok (.invokevirtual 36, 3) := dk_182 0 36 (dk_at dksX9_fills_0 18 rfl rfl)
theorem dX9_fills_21 : decode cX9_fills 21 = .ok (.isub, 1) := dk_100 (dk_at dksX9_fills_0 21 rfl rfl)
theorem dX9_fills_22 : decode cX9_fills 22 = .ok (.ireturn, 1) := dk_172 (dk_at dksX9_fills_0 22 rfl rfl)
theorem q94 : (Jvm.Cond.initialized "WellRefuses$Farmer") ∈ lw_all := lw_g (lw_at lw_m1 13 rfl) rfl
theorem q374 : (Jvm.Cond.fieldLink "WellRefuses$Farmer" (20 : Nat) "WellRefuses$Farmer" "trace" "LWellRefuses$Trace;") ∈ lw_all := lw_g (lw_at lw_m2 53 rfl) rfl
theorem q375 : (Jvm.Cond.sameField "WellRefuses$Farmer" "WellRefuses$One" "trace" "LWellRefuses$Trace;") ∈ lw_all := lw_g (lw_at lw_m2 54 rfl) rfl
theorem q394 : (Jvm.Cond.instantiable "WellRefuses$Farmer" (3 : Nat)) ∈ lw_all := lw_g (lw_at lw_m2 73 rfl) rfl
theorem q396 : (Jvm.Cond.instanceMethod ({ cls := "WellRefuses$Farmer", name := "<init>", desc := "(LWellRefuses$Trace;II)V" } : Jvm.MethodName)) ∈ lw_all := lw_g (lw_at lw_m2 75 rfl) rfl
theorem q397 : (Jvm.Cond.code ({ cls := "WellRefuses$Farmer", name := "<init>", desc := "(LWellRefuses$Trace;II)V" } : Jvm.MethodName) prog_6_method_1_code (4 : Nat) (Option.none : Option Jvm.ClassFile.FieldType)) ∈ lw_all := lw_g (lw_at lw_m2 76 rfl) rfl
theorem q398 : (Jvm.Cond.methodLink "WellRefuses$Farmer" (3 : Nat) ({ cls := "WellRefuses$One", name := "<init>", desc := "(LWellRefuses$Trace;II)V" } : Jvm.MethodName)) ∈ lw_all := lw_g (lw_at lw_m2 77 rfl) rfl
theorem q399 : (Jvm.Cond.laysFinal "WellRefuses$Farmer" "WellRefuses$One" "trace" "LWellRefuses$Trace;") ∈ lw_all := lw_g (lw_at lw_m2 78 rfl) rfl
theorem q400 : (Jvm.Cond.laysFinal "WellRefuses$Farmer" "WellRefuses$One" "number" "I") ∈ lw_all := lw_g (lw_at lw_m2 79 rfl) rfl
theorem q401 : (Jvm.Cond.laysFinal "WellRefuses$Farmer" "WellRefuses$One" "m" "I") ∈ lw_all := lw_g (lw_at lw_m2 80 rfl) rfl
theorem q402 : (Jvm.Cond.superclass "WellRefuses$Farmer" "WellRefuses$One") ∈ lw_all := lw_g (lw_at lw_m2 81 rfl) rfl
theorem q480 : (Jvm.Cond.selects "WellRefuses$Farmer" ({ cls := "WellRefuses$One", name := "kind", desc := "()I" } : Jvm.MethodName) ({ cls := "WellRefuses$Farmer", name := "kind", desc := "()I" } : Jvm.MethodName)) ∈ lw_all := lw_g (lw_at lw_m2 159 rfl) rfl
theorem q481 : (Jvm.Cond.instanceMethod ({ cls := "WellRefuses$Farmer", name := "kind", desc := "()I" } : Jvm.MethodName)) ∈ lw_all := lw_g (lw_at lw_m2 160 rfl) rfl
theorem q482 : (Jvm.Cond.code ({ cls := "WellRefuses$Farmer", name := "kind", desc := "()I" } : Jvm.MethodName) prog_6_method_2_code (1 : Nat) (Option.some Jvm.ClassFile.FieldType.int)) ∈ lw_all := lw_g (lw_at lw_m2 161 rfl) rfl
theorem q501 : (Jvm.Cond.instanceMethod ({ cls := "WellRefuses$Farmer", name := "bucket", desc := "()I" } : Jvm.MethodName)) ∈ lw_all := lw_g (lw_at lw_m2 180 rfl) rfl
theorem q502 : (Jvm.Cond.code ({ cls := "WellRefuses$Farmer", name := "bucket", desc := "()I" } : Jvm.MethodName) prog_6_method_4_code (1 : Nat) (Option.some Jvm.ClassFile.FieldType.int)) ∈ lw_all := lw_g (lw_at lw_m2 181 rfl) rfl
theorem q503 : (Jvm.Cond.methodLink "WellRefuses$Farmer" (13 : Nat) ({ cls := "WellRefuses$One", name := "bucket", desc := "()I" } : Jvm.MethodName)) ∈ lw_all := lw_g (lw_at lw_m2 182 rfl) rfl
theorem q512 : (Jvm.Cond.selects "WellRefuses$Farmer" ({ cls := "WellRefuses$One", name := "bucket", desc := "()I" } : Jvm.MethodName) ({ cls := "WellRefuses$Farmer", name := "bucket", desc := "()I" } : Jvm.MethodName)) ∈ lw_all := lw_g (lw_at lw_m2 191 rfl) rfl
theorem q529 : (Jvm.Cond.instanceMethod ({ cls := "WellRefuses$Farmer", name := "drinks", desc := "()I" } : Jvm.MethodName)) ∈ lw_all := lw_g (lw_at lw_m2 208 rfl) rfl
theorem q530 : (Jvm.Cond.code ({ cls := "WellRefuses$Farmer", name := "drinks", desc := "()I" } : Jvm.MethodName) prog_6_method_5_code (1 : Nat) (Option.some Jvm.ClassFile.FieldType.int)) ∈ lw_all := lw_g (lw_at lw_m2 209 rfl) rfl
theorem q531 : (Jvm.Cond.methodLink "WellRefuses$Farmer" (17 : Nat) ({ cls := "WellRefuses$One", name := "drinks", desc := "()I" } : Jvm.MethodName)) ∈ lw_all := lw_g (lw_at lw_m2 210 rfl) rfl
theorem q536 : (Jvm.Cond.selects "WellRefuses$Farmer" ({ cls := "WellRefuses$One", name := "drinks", desc := "()I" } : Jvm.MethodName) ({ cls := "WellRefuses$Farmer", name := "drinks", desc := "()I" } : Jvm.MethodName)) ∈ lw_all := lw_g (lw_at lw_m2 215 rfl) rfl
theorem q617 : (Jvm.Cond.instanceMethod ({ cls := "WellRefuses$Farmer", name := "isOf", desc := "(I)Z" } : Jvm.MethodName)) ∈ lw_all := lw_g (lw_at lw_m3 56 rfl) rfl
theorem q618 : (Jvm.Cond.code ({ cls := "WellRefuses$Farmer", name := "isOf", desc := "(I)Z" } : Jvm.MethodName) prog_6_method_3_code (2 : Nat) (Option.some Jvm.ClassFile.FieldType.boolean)) ∈ lw_all := lw_g (lw_at lw_m3 57 rfl) rfl
theorem q619 : (Jvm.Cond.methodLink "WellRefuses$Farmer" (9 : Nat) ({ cls := "WellRefuses$One", name := "isOf", desc := "(I)Z" } : Jvm.MethodName)) ∈ lw_all := lw_g (lw_at lw_m3 58 rfl) rfl
theorem q628 : (Jvm.Cond.selects "WellRefuses$Farmer" ({ cls := "WellRefuses$One", name := "isOf", desc := "(I)Z" } : Jvm.MethodName) ({ cls := "WellRefuses$Farmer", name := "isOf", desc := "(I)Z" } : Jvm.MethodName)) ∈ lw_all := lw_g (lw_at lw_m3 67 rfl) rfl
theorem q1144 : (Jvm.Cond.castable "WellRefuses$Farmer" "WellRefuses$Lets") ∈ lw_tbl := lw_at lw_m5 103 rfl
theorem q1145 : (Jvm.Cond.selects "WellRefuses$Farmer" ({ cls := "WellRefuses$Lets", name := "lets", desc := "(I)I" } : Jvm.MethodName) ({ cls := "WellRefuses$One", name := "lets", desc := "(I)I" } : Jvm.MethodName)) ∈ lw_all := lw_g (lw_at lw_m5 104 rfl) rfl
theorem q1146 : (Jvm.Cond.unhidden "WellRefuses$Farmer" "lets" "(I)I") ∈ lw_tbl := lw_at lw_m5 105 rfl
theorem q1171 : (Jvm.Cond.instanceMethod ({ cls := "WellRefuses$Farmer", name := "fills", desc := "(I)I" } : Jvm.MethodName)) ∈ lw_all := lw_g (lw_at lw_m5 130 rfl) rfl
theorem q1172 : (Jvm.Cond.code ({ cls := "WellRefuses$Farmer", name := "fills", desc := "(I)I" } : Jvm.MethodName) prog_6_method_6_code (3 : Nat) (Option.some Jvm.ClassFile.FieldType.int)) ∈ lw_all := lw_g (lw_at lw_m5 131 rfl) rfl
theorem q1173 : (Jvm.Cond.methodLink "WellRefuses$Farmer" (26 : Nat) ({ cls := "WellRefuses$Trace", name := "begins", desc := "(I)V" } : Jvm.MethodName)) ∈ lw_all := lw_g (lw_at lw_m5 132 rfl) rfl
theorem q1174 : (Jvm.Cond.methodLink "WellRefuses$Farmer" (32 : Nat) ({ cls := "WellRefuses$One", name := "fills", desc := "(I)I" } : Jvm.MethodName)) ∈ lw_all := lw_g (lw_at lw_m5 133 rfl) rfl
theorem q1178 : (Jvm.Cond.methodLink "WellRefuses$Farmer" (36 : Nat) ({ cls := "WellRefuses$Farmer", name := "lends", desc := "(I)I" } : Jvm.MethodName)) ∈ lw_all := lw_g (lw_at lw_m5 137 rfl) rfl
theorem q1179 : (Jvm.Cond.sameMethod "WellRefuses$Farmer" "WellRefuses$One" "lends" "(I)I") ∈ lw_all := lw_g (lw_at lw_m5 138 rfl) rfl
theorem q1182 : (Jvm.Cond.selects "WellRefuses$Farmer" ({ cls := "WellRefuses$Farmer", name := "lends", desc := "(I)I" } : Jvm.MethodName) ({ cls := "WellRefuses$One", name := "lends", desc := "(I)I" } : Jvm.MethodName)) ∈ lw_all := lw_g (lw_at lw_m5 141 rfl) rfl
theorem q1189 : (Jvm.Cond.castable "WellRefuses$Farmer" "WellRefuses$Fills") ∈ lw_tbl := lw_at lw_m5 148 rfl
theorem q1190 : (Jvm.Cond.selects "WellRefuses$Farmer" ({ cls := "WellRefuses$Fills", name := "fills", desc := "(I)I" } : Jvm.MethodName) ({ cls := "WellRefuses$Farmer", name := "fills", desc := "(I)I" } : Jvm.MethodName)) ∈ lw_all := lw_g (lw_at lw_m5 149 rfl) rfl
theorem q1191 : (Jvm.Cond.unhidden "WellRefuses$Farmer" "fills" "(I)I") ∈ lw_tbl := lw_at lw_m5 150 rfl
theorem q1192 : (Jvm.Cond.publicMethod ({ cls := "WellRefuses$Farmer", name := "fills", desc := "(I)I" } : Jvm.MethodName)) ∈ lw_tbl := lw_at lw_m5 151 rfl
theorem q1216 : (Jvm.Cond.castable "WellRefuses$Farmer" "WellRefuses$Lends") ∈ lw_tbl := lw_at lw_m5 175 rfl
theorem q1217 : (Jvm.Cond.selects "WellRefuses$Farmer" ({ cls := "WellRefuses$Lends", name := "lends", desc := "(I)I" } : Jvm.MethodName) ({ cls := "WellRefuses$One", name := "lends", desc := "(I)I" } : Jvm.MethodName)) ∈ lw_all := lw_g (lw_at lw_m5 176 rfl) rfl
theorem q1218 : (Jvm.Cond.unhidden "WellRefuses$Farmer" "lends" "(I)I") ∈ lw_tbl := lw_at lw_m5 177 rfl
theorem q1267 : (Jvm.Cond.castable "WellRefuses$Farmer" "WellRefuses$Says") ∈ lw_tbl := lw_at lw_m5 226 rfl
theorem q1268 : (Jvm.Cond.selects "WellRefuses$Farmer" ({ cls := "WellRefuses$Says", name := "tells", desc := "(I)I" } : Jvm.MethodName) ({ cls := "WellRefuses$One", name := "tells", desc := "(I)I" } : Jvm.MethodName)) ∈ lw_all := lw_g (lw_at lw_m5 227 rfl) rfl
theorem q1269 : (Jvm.Cond.unhidden "WellRefuses$Farmer" "tells" "(I)I") ∈ lw_tbl := lw_at lw_m5 228 rfl
theorem q1873 : (Jvm.Cond.sameMethod "WellRefuses$Farmer" "WellRefuses$Farmer" "bucket" "()I") ∈ lw_all := lw_g (lw_at lw_m8 112 rfl) rfl
theorem q1876 : (Jvm.Cond.sameMethod "WellRefuses$Farmer" "WellRefuses$Farmer" "drinks" "()I") ∈ lw_all := lw_g (lw_at lw_m8 115 rfl) rfl
theorem q1877 : (Jvm.Cond.sameMethod "WellRefuses$Farmer" "WellRefuses$Farmer" "isOf" "(I)Z") ∈ lw_all := lw_g (lw_at lw_m8 116 rfl) rfl
theorem q1881 : (Jvm.Cond.sameMethod "WellRefuses$Farmer" "WellRefuses$Farmer" "fills" "(I)I") ∈ lw_all := lw_g (lw_at lw_m8 120 rfl) rfl
theorem q1885 : (Jvm.Cond.selects "WellRefuses$Farmer" ({ cls := "WellRefuses$One", name := "lets", desc := "(I)I" } : Jvm.MethodName) ({ cls := "WellRefuses$One", name := "lets", desc := "(I)I" } : Jvm.MethodName)) ∈ lw_all := lw_g (lw_at lw_m8 124 rfl) rfl
theorem q1894 : (Jvm.Cond.selects "WellRefuses$Farmer" ({ cls := "WellRefuses$One", name := "fills", desc := "(I)I" } : Jvm.MethodName) ({ cls := "WellRefuses$Farmer", name := "fills", desc := "(I)I" } : Jvm.MethodName)) ∈ lw_all := lw_g (lw_at lw_m8 133 rfl) rfl
theorem q1901 : (Jvm.Cond.selects "WellRefuses$Farmer" ({ cls := "WellRefuses$One", name := "lends", desc := "(I)I" } : Jvm.MethodName) ({ cls := "WellRefuses$One", name := "lends", desc := "(I)I" } : Jvm.MethodName)) ∈ lw_all := lw_g (lw_at lw_m8 140 rfl) rfl
theorem q1910 : (Jvm.Cond.castable "WellRefuses$Farmer" "WellRefuses$One") ∈ lw_tbl := lw_at lw_m8 149 rfl
abbrev cX10_init : ByteArray := prog_23_method_1_code
def yX10_init : MethodName := ⟨RX10, "<init>", "(LWellRefuses$Trace;II)V"⟩
def dkwX10_init_0 : List UInt8 := [42, 43, 28, 29, 183, 0, 3, 177]
abbrev dktX10_init_0 : List UInt8 := dkwX10_init_0 ++ []
theorem dksX10_init_0 : cX10_init.data.toList.drop 0 = dktX10_init_0 := by decide +kernel
theorem dX10_init_0 : decode cX10_init 0 = .ok (.aload_n 0, 1) := dk_42 (dk_at dksX10_init_0 0 rfl rfl)
theorem dX10_init_1 : decode cX10_init 1 = .ok (.aload_n 1, 1) := dk_43 (dk_at dksX10_init_0 1 rfl rfl)
theorem dX10_init_2 : decode cX10_init 2 = .ok (.iload_n 2, 1) := dk_28 (dk_at dksX10_init_0 2 rfl rfl)
theorem dX10_init_3 : decode cX10_init 3 = .ok (.iload_n 3, 1) := dk_29 (dk_at dksX10_init_0 3 rfl rfl)
theorem dX10_init_4 : decode cX10_init 4 = .ok (.invokespecial 3, 3) := dk_183 0 3 (dk_at dksX10_init_0 4 rfl rfl)
theorem dX10_init_7 : decode cX10_init 7 = .ok (.return_, 1) := dk_177 (dk_at dksX10_init_0 7 rfl rfl)
abbrev cX10_kind : ByteArray := prog_23_method_2_code
def yX10_kind : MethodName := ⟨RX10, "kind", "()I"⟩
theorem dX10_kind_0 : decode cX10_kind 0 = .ok (.iconst 3, 1) := by decide +kernel
theorem dX10_kind_1 : decode cX10_kind 1 = .ok (.ireturn, 1) := by decide +kernel
abbrev cX10_bucket : ByteArray := prog_23_method_4_code
def yX10_bucket : MethodName := ⟨RX10, "bucket", "()I"⟩
theorem dX10_bucket_0 : decode cX10_bucket 0 = .ok (.bipush 9, 2) := by decide +kernel
theorem dX10_bucket_2 : decode cX10_bucket 2 = .ok (.ireturn, 1) := by decide +kernel
abbrev cX10_isOf : ByteArray := prog_23_method_3_code
def yX10_isOf : MethodName := ⟨RX10, "isOf", "(I)Z"⟩
def dkwX10_isOf_0 : List UInt8 := [27, 6, 159, 0, 11, 42, 27, 183, 0, 9, 153, 0, 7, 4, 167, 0, 4, 3, 172]
abbrev dktX10_isOf_0 : List UInt8 := dkwX10_isOf_0 ++ []
theorem dksX10_isOf_0 : cX10_isOf.data.toList.drop 0 = dktX10_isOf_0 := by decide +kernel
theorem dX10_isOf_0 : decode cX10_isOf 0 = .ok (.iload_n 1, 1) := dk_27 (dk_at dksX10_isOf_0 0 rfl rfl)
theorem dX10_isOf_1 : decode cX10_isOf 1 = .ok (.iconst 3, 1) := dk_6 (dk_at dksX10_isOf_0 1 rfl rfl)
theorem dX10_isOf_2 : decode cX10_isOf 2 = .ok (.if_icmp .eq 11, 3) := dk_159 0 11 (dk_at dksX10_isOf_0 2 rfl rfl)
theorem dX10_isOf_5 : decode cX10_isOf 5 = .ok (.aload_n 0, 1) := dk_42 (dk_at dksX10_isOf_0 5 rfl rfl)
theorem dX10_isOf_6 : decode cX10_isOf 6 = .ok (.iload_n 1, 1) := dk_27 (dk_at dksX10_isOf_0 6 rfl rfl)
theorem dX10_isOf_7 : decode cX10_isOf 7 = .ok (.invokespecial 9, 3) := dk_183 0 9 (dk_at dksX10_isOf_0 7 rfl rfl)
theorem dX10_isOf_10 : decode cX10_isOf 10 = .ok (.ifCond .eq 7, 3) := dk_153 0 7 (dk_at dksX10_isOf_0 10 rfl rfl)
theorem dX10_isOf_13 : decode cX10_isOf 13 = .ok (.iconst 1, 1) := dk_4 (dk_at dksX10_isOf_0 13 rfl rfl)
theorem dX10_isOf_14 : decode cX10_isOf 14 = .ok (.goto 4, 3) := dk_167 0 4 (dk_at dksX10_isOf_0 14 rfl rfl)
theorem dX10_isOf_17 : decode cX10_isOf 17 = .ok (.iconst 0, 1) := dk_3 (dk_at dksX10_isOf_0 17 rfl rfl)
theorem dX10_isOf_18 : decode cX10_isOf 18 = .ok (.ireturn, 1) := dk_172 (dk_at dksX10_isOf_0 18 rfl rfl)
abbrev cX10_lends : ByteArray := prog_23_method_5_code
def yX10_lends : MethodName := ⟨RX10, "lends", "(I)I"⟩
def dkwX10_lends_0 : List UInt8 := [42, 180, 0, 13, 16, 40, 182, 0, 19, 42, 27, 183, 0, 25, 116, 172]
abbrev dktX10_lends_0 : List UInt8 := dkwX10_lends_0 ++ []
theorem dksX10_lends_0 : cX10_lends.data.toList.drop 0 = dktX10_lends_0 := by decide +kernel
theorem dX10_lends_0 : decode cX10_lends 0 = .ok (.aload_n 0, 1) := dk_42 (dk_at dksX10_lends_0 0 rfl rfl)
theorem dX10_lends_1 : decode cX10_lends 1 = .ok (.getfield 13, 3) := dk_180 0 13 (dk_at dksX10_lends_0 1 rfl rfl)
theorem dX10_lends_4 : decode cX10_lends 4 = .ok (.bipush 40, 2) := dk_16 40 (dk_at dksX10_lends_0 4 rfl rfl)
theorem dX10_lends_6 : decode cX10_lends 6 = .ok (.invokevirtual 19, 3) := dk_182 0 19 (dk_at dksX10_lends_0 6 rfl rfl)
theorem dX10_lends_9 : decode cX10_lends 9 = .ok (.aload_n 0, 1) := dk_42 (dk_at dksX10_lends_0 9 rfl rfl)
theorem dX10_lends_10 : decode cX10_lends 10 = .ok (.iload_n 1, 1) := dk_27 (dk_at dksX10_lends_0 10 rfl rfl)
theorem dX10_lends_11 : decode cX10_lends 11 = .ok (.invokespecial 25, 3) := dk_183 0 25 (dk_at dksX10_lends_0 11 rfl rfl)
theorem dX10_lends_14 : decode cX10_lends 14 = .ok (.ineg, 1) := dk_116 (dk_at dksX10_lends_0 14 rfl rfl)
theorem dX10_lends_15 : decode cX10_lends 15 = .ok (.ireturn, 1) := dk_172 (dk_at dksX10_lends_0 15 rfl rfl)
theorem q95 : (Jvm.Cond.initialized "WellRefuses$Stranger") ∈ lw_all := lw_g (lw_at lw_m1 14 rfl) rfl
theorem q364 : (Jvm.Cond.fieldLink "WellRefuses$Stranger" (13 : Nat) "WellRefuses$Stranger" "trace" "LWellRefuses$Trace;") ∈ lw_all := lw_g (lw_at lw_m2 43 rfl) rfl
theorem q365 : (Jvm.Cond.sameField "WellRefuses$Stranger" "WellRefuses$One" "trace" "LWellRefuses$Trace;") ∈ lw_all := lw_g (lw_at lw_m2 44 rfl) rfl
theorem q404 : (Jvm.Cond.instantiable "WellRefuses$Stranger" (3 : Nat)) ∈ lw_all := lw_g (lw_at lw_m2 83 rfl) rfl
theorem q406 : (Jvm.Cond.instanceMethod ({ cls := "WellRefuses$Stranger", name := "<init>", desc := "(LWellRefuses$Trace;II)V" } : Jvm.MethodName)) ∈ lw_all := lw_g (lw_at lw_m2 85 rfl) rfl
theorem q407 : (Jvm.Cond.code ({ cls := "WellRefuses$Stranger", name := "<init>", desc := "(LWellRefuses$Trace;II)V" } : Jvm.MethodName) prog_23_method_1_code (4 : Nat) (Option.none : Option Jvm.ClassFile.FieldType)) ∈ lw_all := lw_g (lw_at lw_m2 86 rfl) rfl
theorem q408 : (Jvm.Cond.methodLink "WellRefuses$Stranger" (3 : Nat) ({ cls := "WellRefuses$One", name := "<init>", desc := "(LWellRefuses$Trace;II)V" } : Jvm.MethodName)) ∈ lw_all := lw_g (lw_at lw_m2 87 rfl) rfl
theorem q409 : (Jvm.Cond.laysFinal "WellRefuses$Stranger" "WellRefuses$One" "trace" "LWellRefuses$Trace;") ∈ lw_all := lw_g (lw_at lw_m2 88 rfl) rfl
theorem q410 : (Jvm.Cond.laysFinal "WellRefuses$Stranger" "WellRefuses$One" "number" "I") ∈ lw_all := lw_g (lw_at lw_m2 89 rfl) rfl
theorem q411 : (Jvm.Cond.laysFinal "WellRefuses$Stranger" "WellRefuses$One" "m" "I") ∈ lw_all := lw_g (lw_at lw_m2 90 rfl) rfl
theorem q412 : (Jvm.Cond.superclass "WellRefuses$Stranger" "WellRefuses$One") ∈ lw_all := lw_g (lw_at lw_m2 91 rfl) rfl
theorem q486 : (Jvm.Cond.selects "WellRefuses$Stranger" ({ cls := "WellRefuses$One", name := "kind", desc := "()I" } : Jvm.MethodName) ({ cls := "WellRefuses$Stranger", name := "kind", desc := "()I" } : Jvm.MethodName)) ∈ lw_all := lw_g (lw_at lw_m2 165 rfl) rfl
theorem q487 : (Jvm.Cond.instanceMethod ({ cls := "WellRefuses$Stranger", name := "kind", desc := "()I" } : Jvm.MethodName)) ∈ lw_all := lw_g (lw_at lw_m2 166 rfl) rfl
theorem q488 : (Jvm.Cond.code ({ cls := "WellRefuses$Stranger", name := "kind", desc := "()I" } : Jvm.MethodName) prog_23_method_2_code (1 : Nat) (Option.some Jvm.ClassFile.FieldType.int)) ∈ lw_all := lw_g (lw_at lw_m2 167 rfl) rfl
theorem q514 : (Jvm.Cond.selects "WellRefuses$Stranger" ({ cls := "WellRefuses$One", name := "bucket", desc := "()I" } : Jvm.MethodName) ({ cls := "WellRefuses$Stranger", name := "bucket", desc := "()I" } : Jvm.MethodName)) ∈ lw_all := lw_g (lw_at lw_m2 193 rfl) rfl
theorem q515 : (Jvm.Cond.instanceMethod ({ cls := "WellRefuses$Stranger", name := "bucket", desc := "()I" } : Jvm.MethodName)) ∈ lw_all := lw_g (lw_at lw_m2 194 rfl) rfl
theorem q516 : (Jvm.Cond.code ({ cls := "WellRefuses$Stranger", name := "bucket", desc := "()I" } : Jvm.MethodName) prog_23_method_4_code (1 : Nat) (Option.some Jvm.ClassFile.FieldType.int)) ∈ lw_all := lw_g (lw_at lw_m2 195 rfl) rfl
theorem q538 : (Jvm.Cond.selects "WellRefuses$Stranger" ({ cls := "WellRefuses$One", name := "drinks", desc := "()I" } : Jvm.MethodName) ({ cls := "WellRefuses$One", name := "drinks", desc := "()I" } : Jvm.MethodName)) ∈ lw_all := lw_g (lw_at lw_m2 217 rfl) rfl
theorem q630 : (Jvm.Cond.selects "WellRefuses$Stranger" ({ cls := "WellRefuses$One", name := "isOf", desc := "(I)Z" } : Jvm.MethodName) ({ cls := "WellRefuses$Stranger", name := "isOf", desc := "(I)Z" } : Jvm.MethodName)) ∈ lw_all := lw_g (lw_at lw_m3 69 rfl) rfl
theorem q631 : (Jvm.Cond.instanceMethod ({ cls := "WellRefuses$Stranger", name := "isOf", desc := "(I)Z" } : Jvm.MethodName)) ∈ lw_all := lw_g (lw_at lw_m3 70 rfl) rfl
theorem q632 : (Jvm.Cond.code ({ cls := "WellRefuses$Stranger", name := "isOf", desc := "(I)Z" } : Jvm.MethodName) prog_23_method_3_code (2 : Nat) (Option.some Jvm.ClassFile.FieldType.boolean)) ∈ lw_all := lw_g (lw_at lw_m3 71 rfl) rfl
theorem q633 : (Jvm.Cond.methodLink "WellRefuses$Stranger" (9 : Nat) ({ cls := "WellRefuses$One", name := "isOf", desc := "(I)Z" } : Jvm.MethodName)) ∈ lw_all := lw_g (lw_at lw_m3 72 rfl) rfl
theorem q1153 : (Jvm.Cond.castable "WellRefuses$Stranger" "WellRefuses$Lets") ∈ lw_tbl := lw_at lw_m5 112 rfl
theorem q1154 : (Jvm.Cond.selects "WellRefuses$Stranger" ({ cls := "WellRefuses$Lets", name := "lets", desc := "(I)I" } : Jvm.MethodName) ({ cls := "WellRefuses$One", name := "lets", desc := "(I)I" } : Jvm.MethodName)) ∈ lw_all := lw_g (lw_at lw_m5 113 rfl) rfl
theorem q1155 : (Jvm.Cond.unhidden "WellRefuses$Stranger" "lets" "(I)I") ∈ lw_tbl := lw_at lw_m5 114 rfl
theorem q1199 : (Jvm.Cond.castable "WellRefuses$Stranger" "WellRefuses$Fills") ∈ lw_tbl := lw_at lw_m5 158 rfl
theorem q1200 : (Jvm.Cond.selects "WellRefuses$Stranger" ({ cls := "WellRefuses$Fills", name := "fills", desc := "(I)I" } : Jvm.MethodName) ({ cls := "WellRefuses$One", name := "fills", desc := "(I)I" } : Jvm.MethodName)) ∈ lw_all := lw_g (lw_at lw_m5 159 rfl) rfl
theorem q1201 : (Jvm.Cond.unhidden "WellRefuses$Stranger" "fills" "(I)I") ∈ lw_tbl := lw_at lw_m5 160 rfl
theorem q1225 : (Jvm.Cond.castable "WellRefuses$Stranger" "WellRefuses$Lends") ∈ lw_tbl := lw_at lw_m5 184 rfl
theorem q1226 : (Jvm.Cond.selects "WellRefuses$Stranger" ({ cls := "WellRefuses$Lends", name := "lends", desc := "(I)I" } : Jvm.MethodName) ({ cls := "WellRefuses$Stranger", name := "lends", desc := "(I)I" } : Jvm.MethodName)) ∈ lw_all := lw_g (lw_at lw_m5 185 rfl) rfl
theorem q1227 : (Jvm.Cond.unhidden "WellRefuses$Stranger" "lends" "(I)I") ∈ lw_tbl := lw_at lw_m5 186 rfl
theorem q1228 : (Jvm.Cond.instanceMethod ({ cls := "WellRefuses$Stranger", name := "lends", desc := "(I)I" } : Jvm.MethodName)) ∈ lw_all := lw_g (lw_at lw_m5 187 rfl) rfl
theorem q1229 : (Jvm.Cond.publicMethod ({ cls := "WellRefuses$Stranger", name := "lends", desc := "(I)I" } : Jvm.MethodName)) ∈ lw_tbl := lw_at lw_m5 188 rfl
theorem q1230 : (Jvm.Cond.code ({ cls := "WellRefuses$Stranger", name := "lends", desc := "(I)I" } : Jvm.MethodName) prog_23_method_5_code (2 : Nat) (Option.some Jvm.ClassFile.FieldType.int)) ∈ lw_all := lw_g (lw_at lw_m5 189 rfl) rfl
theorem q1231 : (Jvm.Cond.methodLink "WellRefuses$Stranger" (19 : Nat) ({ cls := "WellRefuses$Trace", name := "begins", desc := "(I)V" } : Jvm.MethodName)) ∈ lw_all := lw_g (lw_at lw_m5 190 rfl) rfl
theorem q1232 : (Jvm.Cond.methodLink "WellRefuses$Stranger" (25 : Nat) ({ cls := "WellRefuses$One", name := "lends", desc := "(I)I" } : Jvm.MethodName)) ∈ lw_all := lw_g (lw_at lw_m5 191 rfl) rfl
theorem q1276 : (Jvm.Cond.castable "WellRefuses$Stranger" "WellRefuses$Says") ∈ lw_tbl := lw_at lw_m5 235 rfl
theorem q1277 : (Jvm.Cond.selects "WellRefuses$Stranger" ({ cls := "WellRefuses$Says", name := "tells", desc := "(I)I" } : Jvm.MethodName) ({ cls := "WellRefuses$One", name := "tells", desc := "(I)I" } : Jvm.MethodName)) ∈ lw_all := lw_g (lw_at lw_m5 236 rfl) rfl
theorem q1278 : (Jvm.Cond.unhidden "WellRefuses$Stranger" "tells" "(I)I") ∈ lw_tbl := lw_at lw_m5 237 rfl
theorem q1290 : (Jvm.Cond.sameMethod "WellRefuses$Stranger" "WellRefuses$One" "tells" "(I)I") ∈ lw_all := lw_g (lw_at lw_m6 9 rfl) rfl
theorem q1875 : (Jvm.Cond.sameMethod "WellRefuses$Stranger" "WellRefuses$Stranger" "bucket" "()I") ∈ lw_all := lw_g (lw_at lw_m8 114 rfl) rfl
theorem q1879 : (Jvm.Cond.sameMethod "WellRefuses$Stranger" "WellRefuses$Stranger" "isOf" "(I)Z") ∈ lw_all := lw_g (lw_at lw_m8 118 rfl) rfl
theorem q1888 : (Jvm.Cond.selects "WellRefuses$Stranger" ({ cls := "WellRefuses$One", name := "lets", desc := "(I)I" } : Jvm.MethodName) ({ cls := "WellRefuses$One", name := "lets", desc := "(I)I" } : Jvm.MethodName)) ∈ lw_all := lw_g (lw_at lw_m8 127 rfl) rfl
theorem q1891 : (Jvm.Cond.sameMethod "WellRefuses$Stranger" "WellRefuses$Stranger" "lends" "(I)I") ∈ lw_all := lw_g (lw_at lw_m8 130 rfl) rfl
theorem q1897 : (Jvm.Cond.selects "WellRefuses$Stranger" ({ cls := "WellRefuses$One", name := "fills", desc := "(I)I" } : Jvm.MethodName) ({ cls := "WellRefuses$One", name := "fills", desc := "(I)I" } : Jvm.MethodName)) ∈ lw_all := lw_g (lw_at lw_m8 136 rfl) rfl
theorem q1904 : (Jvm.Cond.selects "WellRefuses$Stranger" ({ cls := "WellRefuses$One", name := "lends", desc := "(I)I" } : Jvm.MethodName) ({ cls := "WellRefuses$Stranger", name := "lends", desc := "(I)I" } : Jvm.MethodName)) ∈ lw_all := lw_g (lw_at lw_m8 143 rfl) rfl
theorem q1911 : (Jvm.Cond.castable "WellRefuses$Stranger" "WellRefuses$One") ∈ lw_tbl := lw_at lw_m8 150 rfl
abbrev cX11_init : ByteArray := prog_3_method_1_code
def yX11_init : MethodName := ⟨RX11, "<init>", "(LWellRefuses$Trace;II)V"⟩
def dkwX11_init_0 : List UInt8 := [42, 43, 28, 29, 183, 0, 3, 177]
abbrev dktX11_init_0 : List UInt8 := dkwX11_init_0 ++ []
theorem dksX11_init_0 : cX11_init.data.toList.drop 0 = dktX11_init_0 := by decide +kernel
theorem dX11_init_0 : decode cX11_init 0 = .ok (.aload_n 0, 1) := dk_42 (dk_at dksX11_init_0 0 rfl rfl)
theorem dX11_init_1 : decode cX11_init 1 = .ok (.aload_n 1, 1) := dk_43 (dk_at dksX11_init_0 1 rfl rfl)
theorem dX11_init_2 : decode cX11_init 2 = .ok (.iload_n 2, 1) := dk_28 (dk_at dksX11_init_0 2 rfl rfl)
theorem dX11_init_3 : decode cX11_init 3 = .ok (.iload_n 3, 1) := dk_29 (dk_at dksX11_init_0 3 rfl rfl)
theorem dX11_init_4 : decode cX11_init 4 = .ok (.invokespecial 3, 3) := dk_183 0 3 (dk_at dksX11_init_0 4 rfl rfl)
theorem dX11_init_7 : decode cX11_init 7 = .ok (.return_, 1) := dk_177 (dk_at dksX11_init_0 7 rfl rfl)
abbrev cX11_kind : ByteArray := prog_3_method_2_code
def yX11_kind : MethodName := ⟨RX11, "kind", "()I"⟩
theorem dX11_kind_0 : decode cX11_kind 0 = .ok (.iconst 4, 1) := by decide +kernel
theorem dX11_kind_1 : decode cX11_kind 1 = .ok (.ireturn, 1) := by decide +kernel
abbrev cX11_bucket : ByteArray := prog_3_method_4_code
def yX11_bucket : MethodName := ⟨RX11, "bucket", "()I"⟩
def dkwX11_bucket_0 : List UInt8 := [42, 183, 0, 13, 8, 96, 172]
abbrev dktX11_bucket_0 : List UInt8 := dkwX11_bucket_0 ++ []
theorem dksX11_bucket_0 : cX11_bucket.data.toList.drop 0 = dktX11_bucket_0 := by decide +kernel
theorem dX11_bucket_0 : decode cX11_bucket 0 = .ok (.aload_n 0, 1) := dk_42 (dk_at dksX11_bucket_0 0 rfl rfl)
theorem dX11_bucket_1 : decode cX11_bucket 1 = .ok (.invokespecial 13, 3) := dk_183 0 13 (dk_at dksX11_bucket_0 1 rfl rfl)
theorem dX11_bucket_4 : decode cX11_bucket 4 = .ok (.iconst 5, 1) := dk_8 (dk_at dksX11_bucket_0 4 rfl rfl)
theorem dX11_bucket_5 : decode cX11_bucket 5 = .ok (.iadd, 1) := dk_96 (dk_at dksX11_bucket_0 5 rfl rfl)
theorem dX11_bucket_6 : decode cX11_bucket 6 = .ok (.ireturn, 1) := dk_172 (dk_at dksX11_bucket_0 6 rfl rfl)
abbrev cX11_isOf : ByteArray := prog_3_method_3_code
def yX11_isOf : MethodName := ⟨RX11, "isOf", "(I)Z"⟩
def dkwX11_isOf_0 : List UInt8 := [27, 7, 159, 0, 11, 42, 27, 183, 0, 9, 153, 0, 7, 4, 167, 0, 4, 3, 172]
abbrev dktX11_isOf_0 : List UInt8 := dkwX11_isOf_0 ++ []
theorem dksX11_isOf_0 : cX11_isOf.data.toList.drop 0 = dktX11_isOf_0 := by decide +kernel
theorem dX11_isOf_0 : decode cX11_isOf 0 = .ok (.iload_n 1, 1) := dk_27 (dk_at dksX11_isOf_0 0 rfl rfl)
theorem dX11_isOf_1 : decode cX11_isOf 1 = .ok (.iconst 4, 1) := dk_7 (dk_at dksX11_isOf_0 1 rfl rfl)
theorem dX11_isOf_2 : decode cX11_isOf 2 = .ok (.if_icmp .eq 11, 3) := dk_159 0 11 (dk_at dksX11_isOf_0 2 rfl rfl)
theorem dX11_isOf_5 : decode cX11_isOf 5 = .ok (.aload_n 0, 1) := dk_42 (dk_at dksX11_isOf_0 5 rfl rfl)
theorem dX11_isOf_6 : decode cX11_isOf 6 = .ok (.iload_n 1, 1) := dk_27 (dk_at dksX11_isOf_0 6 rfl rfl)
theorem dX11_isOf_7 : decode cX11_isOf 7 = .ok (.invokespecial 9, 3) := dk_183 0 9 (dk_at dksX11_isOf_0 7 rfl rfl)
theorem dX11_isOf_10 : decode cX11_isOf 10 = .ok (.ifCond .eq 7, 3) := dk_153 0 7 (dk_at dksX11_isOf_0 10 rfl rfl)
theorem dX11_isOf_13 : decode cX11_isOf 13 = .ok (.iconst 1, 1) := dk_4 (dk_at dksX11_isOf_0 13 rfl rfl)
theorem dX11_isOf_14 : decode cX11_isOf 14 = .ok (.goto 4, 3) := dk_167 0 4 (dk_at dksX11_isOf_0 14 rfl rfl)
theorem dX11_isOf_17 : decode cX11_isOf 17 = .ok (.iconst 0, 1) := dk_3 (dk_at dksX11_isOf_0 17 rfl rfl)
theorem dX11_isOf_18 : decode cX11_isOf 18 = .ok (.ireturn, 1) := dk_172 (dk_at dksX11_isOf_0 18 rfl rfl)
abbrev cX11_tells : ByteArray := prog_3_method_5_code
def yX11_tells : MethodName := ⟨RX11, "tells", "(I)I"⟩
def dkwX11_tells_0 : List UInt8 := [42, 180, 0, 17, 16, 50, 182, 0, 23, 42, 27, 183, 0, 29, 61, 28, 42, 5, 182, 0, 33, 100, 172]
abbrev dktX11_tells_0 : List UInt8 := dkwX11_tells_0 ++ []
theorem dksX11_tells_0 : cX11_tells.data.toList.drop 0 = dktX11_tells_0 := by decide +kernel
theorem dX11_tells_0 : decode cX11_tells 0 = .ok (.aload_n 0, 1) := dk_42 (dk_at dksX11_tells_0 0 rfl rfl)
theorem dX11_tells_1 : decode cX11_tells 1 = .ok (.getfield 17, 3) := dk_180 0 17 (dk_at dksX11_tells_0 1 rfl rfl)
theorem dX11_tells_4 : decode cX11_tells 4 = .ok (.bipush 50, 2) := dk_16 50 (dk_at dksX11_tells_0 4 rfl rfl)
theorem dX11_tells_6 : decode cX11_tells 6 = .ok (.invokevirtual 23, 3) := dk_182 0 23 (dk_at dksX11_tells_0 6 rfl rfl)
theorem dX11_tells_9 : decode cX11_tells 9 = .ok (.aload_n 0, 1) := dk_42 (dk_at dksX11_tells_0 9 rfl rfl)
theorem dX11_tells_10 : decode cX11_tells 10 = .ok (.iload_n 1, 1) := dk_27 (dk_at dksX11_tells_0 10 rfl rfl)
theorem dX11_tells_11 : decode cX11_tells 11 = .ok (.invokespecial 29, 3) := dk_183 0 29 (dk_at dksX11_tells_0 11 rfl rfl)
theorem dX11_tells_14 : decode cX11_tells 14 = .ok (.istore_n 2, 1) := dk_61 (dk_at dksX11_tells_0 14 rfl rfl)
theorem dX11_tells_15 : decode cX11_tells 15 = .ok (.iload_n 2, 1) := dk_28 (dk_at dksX11_tells_0 15 rfl rfl)
theorem dX11_tells_16 : decode cX11_tells 16 = .ok (.aload_n 0, 1) := dk_42 (dk_at dksX11_tells_0 16 rfl rfl)
theorem dX11_tells_17 : decode cX11_tells 17 = .ok (.iconst 2, 1) := dk_5 (dk_at dksX11_tells_0 17 rfl rfl)
theorem dX11_tells_18 : decode cX11_tells 18 = .ok (.invokevirtual 33, 3) := dk_182 0 33 (dk_at dksX11_tells_0 18 rfl rfl)
theorem dX11_tells_21 : decode cX11_tells 21 = .ok (.isub, 1) := dk_100 (dk_at dksX11_tells_0 21 rfl rfl)
theorem dX11_tells_22 : decode cX11_tells 22 = .ok (.ireturn, 1) := dk_172 (dk_at dksX11_tells_0 22 rfl rfl)
theorem q96 : (Jvm.Cond.initialized "WellRefuses$Bride") ∈ lw_all := lw_g (lw_at lw_m1 15 rfl) rfl
theorem q368 : (Jvm.Cond.fieldLink "WellRefuses$Bride" (17 : Nat) "WellRefuses$Bride" "trace" "LWellRefuses$Trace;") ∈ lw_all := lw_g (lw_at lw_m2 47 rfl) rfl
theorem q369 : (Jvm.Cond.sameField "WellRefuses$Bride" "WellRefuses$One" "trace" "LWellRefuses$Trace;") ∈ lw_all := lw_g (lw_at lw_m2 48 rfl) rfl
theorem q414 : (Jvm.Cond.instantiable "WellRefuses$Bride" (3 : Nat)) ∈ lw_all := lw_g (lw_at lw_m2 93 rfl) rfl
theorem q416 : (Jvm.Cond.instanceMethod ({ cls := "WellRefuses$Bride", name := "<init>", desc := "(LWellRefuses$Trace;II)V" } : Jvm.MethodName)) ∈ lw_all := lw_g (lw_at lw_m2 95 rfl) rfl
theorem q417 : (Jvm.Cond.code ({ cls := "WellRefuses$Bride", name := "<init>", desc := "(LWellRefuses$Trace;II)V" } : Jvm.MethodName) prog_3_method_1_code (4 : Nat) (Option.none : Option Jvm.ClassFile.FieldType)) ∈ lw_all := lw_g (lw_at lw_m2 96 rfl) rfl
theorem q418 : (Jvm.Cond.methodLink "WellRefuses$Bride" (3 : Nat) ({ cls := "WellRefuses$Saint", name := "<init>", desc := "(LWellRefuses$Trace;II)V" } : Jvm.MethodName)) ∈ lw_all := lw_g (lw_at lw_m2 97 rfl) rfl
theorem q419 : (Jvm.Cond.laysFinal "WellRefuses$Bride" "WellRefuses$One" "trace" "LWellRefuses$Trace;") ∈ lw_all := lw_g (lw_at lw_m2 98 rfl) rfl
theorem q420 : (Jvm.Cond.laysFinal "WellRefuses$Bride" "WellRefuses$One" "number" "I") ∈ lw_all := lw_g (lw_at lw_m2 99 rfl) rfl
theorem q421 : (Jvm.Cond.laysFinal "WellRefuses$Bride" "WellRefuses$One" "m" "I") ∈ lw_all := lw_g (lw_at lw_m2 100 rfl) rfl
theorem q422 : (Jvm.Cond.superclass "WellRefuses$Bride" "WellRefuses$Saint") ∈ lw_all := lw_g (lw_at lw_m2 101 rfl) rfl
theorem q477 : (Jvm.Cond.selects "WellRefuses$Bride" ({ cls := "WellRefuses$One", name := "kind", desc := "()I" } : Jvm.MethodName) ({ cls := "WellRefuses$Bride", name := "kind", desc := "()I" } : Jvm.MethodName)) ∈ lw_all := lw_g (lw_at lw_m2 156 rfl) rfl
theorem q478 : (Jvm.Cond.instanceMethod ({ cls := "WellRefuses$Bride", name := "kind", desc := "()I" } : Jvm.MethodName)) ∈ lw_all := lw_g (lw_at lw_m2 157 rfl) rfl
theorem q479 : (Jvm.Cond.code ({ cls := "WellRefuses$Bride", name := "kind", desc := "()I" } : Jvm.MethodName) prog_3_method_2_code (1 : Nat) (Option.some Jvm.ClassFile.FieldType.int)) ∈ lw_all := lw_g (lw_at lw_m2 158 rfl) rfl
theorem q505 : (Jvm.Cond.selects "WellRefuses$Bride" ({ cls := "WellRefuses$One", name := "bucket", desc := "()I" } : Jvm.MethodName) ({ cls := "WellRefuses$Bride", name := "bucket", desc := "()I" } : Jvm.MethodName)) ∈ lw_all := lw_g (lw_at lw_m2 184 rfl) rfl
theorem q506 : (Jvm.Cond.instanceMethod ({ cls := "WellRefuses$Bride", name := "bucket", desc := "()I" } : Jvm.MethodName)) ∈ lw_all := lw_g (lw_at lw_m2 185 rfl) rfl
theorem q507 : (Jvm.Cond.code ({ cls := "WellRefuses$Bride", name := "bucket", desc := "()I" } : Jvm.MethodName) prog_3_method_4_code (1 : Nat) (Option.some Jvm.ClassFile.FieldType.int)) ∈ lw_all := lw_g (lw_at lw_m2 186 rfl) rfl
theorem q508 : (Jvm.Cond.methodLink "WellRefuses$Bride" (13 : Nat) ({ cls := "WellRefuses$Saint", name := "bucket", desc := "()I" } : Jvm.MethodName)) ∈ lw_all := lw_g (lw_at lw_m2 187 rfl) rfl
theorem q533 : (Jvm.Cond.selects "WellRefuses$Bride" ({ cls := "WellRefuses$One", name := "drinks", desc := "()I" } : Jvm.MethodName) ({ cls := "WellRefuses$Saint", name := "drinks", desc := "()I" } : Jvm.MethodName)) ∈ lw_all := lw_g (lw_at lw_m2 212 rfl) rfl
theorem q621 : (Jvm.Cond.selects "WellRefuses$Bride" ({ cls := "WellRefuses$One", name := "isOf", desc := "(I)Z" } : Jvm.MethodName) ({ cls := "WellRefuses$Bride", name := "isOf", desc := "(I)Z" } : Jvm.MethodName)) ∈ lw_all := lw_g (lw_at lw_m3 60 rfl) rfl
theorem q622 : (Jvm.Cond.instanceMethod ({ cls := "WellRefuses$Bride", name := "isOf", desc := "(I)Z" } : Jvm.MethodName)) ∈ lw_all := lw_g (lw_at lw_m3 61 rfl) rfl
theorem q623 : (Jvm.Cond.code ({ cls := "WellRefuses$Bride", name := "isOf", desc := "(I)Z" } : Jvm.MethodName) prog_3_method_3_code (2 : Nat) (Option.some Jvm.ClassFile.FieldType.boolean)) ∈ lw_all := lw_g (lw_at lw_m3 62 rfl) rfl
theorem q624 : (Jvm.Cond.methodLink "WellRefuses$Bride" (9 : Nat) ({ cls := "WellRefuses$Saint", name := "isOf", desc := "(I)Z" } : Jvm.MethodName)) ∈ lw_all := lw_g (lw_at lw_m3 63 rfl) rfl
theorem q1136 : (Jvm.Cond.castable "WellRefuses$Bride" "WellRefuses$Lets") ∈ lw_tbl := lw_at lw_m5 95 rfl
theorem q1137 : (Jvm.Cond.selects "WellRefuses$Bride" ({ cls := "WellRefuses$Lets", name := "lets", desc := "(I)I" } : Jvm.MethodName) ({ cls := "WellRefuses$Saint", name := "lets", desc := "(I)I" } : Jvm.MethodName)) ∈ lw_all := lw_g (lw_at lw_m5 96 rfl) rfl
theorem q1138 : (Jvm.Cond.unhidden "WellRefuses$Bride" "lets" "(I)I") ∈ lw_tbl := lw_at lw_m5 97 rfl
theorem q1185 : (Jvm.Cond.castable "WellRefuses$Bride" "WellRefuses$Fills") ∈ lw_tbl := lw_at lw_m5 144 rfl
theorem q1186 : (Jvm.Cond.selects "WellRefuses$Bride" ({ cls := "WellRefuses$Fills", name := "fills", desc := "(I)I" } : Jvm.MethodName) ({ cls := "WellRefuses$One", name := "fills", desc := "(I)I" } : Jvm.MethodName)) ∈ lw_all := lw_g (lw_at lw_m5 145 rfl) rfl
theorem q1187 : (Jvm.Cond.unhidden "WellRefuses$Bride" "fills" "(I)I") ∈ lw_tbl := lw_at lw_m5 146 rfl
theorem q1213 : (Jvm.Cond.castable "WellRefuses$Bride" "WellRefuses$Lends") ∈ lw_tbl := lw_at lw_m5 172 rfl
theorem q1214 : (Jvm.Cond.selects "WellRefuses$Bride" ({ cls := "WellRefuses$Lends", name := "lends", desc := "(I)I" } : Jvm.MethodName) ({ cls := "WellRefuses$One", name := "lends", desc := "(I)I" } : Jvm.MethodName)) ∈ lw_all := lw_g (lw_at lw_m5 173 rfl) rfl
theorem q1215 : (Jvm.Cond.unhidden "WellRefuses$Bride" "lends" "(I)I") ∈ lw_tbl := lw_at lw_m5 174 rfl
theorem q1253 : (Jvm.Cond.castable "WellRefuses$Bride" "WellRefuses$Says") ∈ lw_tbl := lw_at lw_m5 212 rfl
theorem q1254 : (Jvm.Cond.selects "WellRefuses$Bride" ({ cls := "WellRefuses$Says", name := "tells", desc := "(I)I" } : Jvm.MethodName) ({ cls := "WellRefuses$Bride", name := "tells", desc := "(I)I" } : Jvm.MethodName)) ∈ lw_all := lw_g (lw_at lw_m5 213 rfl) rfl
theorem q1255 : (Jvm.Cond.unhidden "WellRefuses$Bride" "tells" "(I)I") ∈ lw_tbl := lw_at lw_m5 214 rfl
theorem q1256 : (Jvm.Cond.instanceMethod ({ cls := "WellRefuses$Bride", name := "tells", desc := "(I)I" } : Jvm.MethodName)) ∈ lw_all := lw_g (lw_at lw_m5 215 rfl) rfl
theorem q1257 : (Jvm.Cond.publicMethod ({ cls := "WellRefuses$Bride", name := "tells", desc := "(I)I" } : Jvm.MethodName)) ∈ lw_tbl := lw_at lw_m5 216 rfl
theorem q1258 : (Jvm.Cond.code ({ cls := "WellRefuses$Bride", name := "tells", desc := "(I)I" } : Jvm.MethodName) prog_3_method_5_code (3 : Nat) (Option.some Jvm.ClassFile.FieldType.int)) ∈ lw_all := lw_g (lw_at lw_m5 217 rfl) rfl
theorem q1259 : (Jvm.Cond.methodLink "WellRefuses$Bride" (23 : Nat) ({ cls := "WellRefuses$Trace", name := "begins", desc := "(I)V" } : Jvm.MethodName)) ∈ lw_all := lw_g (lw_at lw_m5 218 rfl) rfl
theorem q1260 : (Jvm.Cond.methodLink "WellRefuses$Bride" (29 : Nat) ({ cls := "WellRefuses$Saint", name := "tells", desc := "(I)I" } : Jvm.MethodName)) ∈ lw_all := lw_g (lw_at lw_m5 219 rfl) rfl
theorem q1263 : (Jvm.Cond.methodLink "WellRefuses$Bride" (33 : Nat) ({ cls := "WellRefuses$Bride", name := "lets", desc := "(I)I" } : Jvm.MethodName)) ∈ lw_all := lw_g (lw_at lw_m5 222 rfl) rfl
theorem q1264 : (Jvm.Cond.sameMethod "WellRefuses$Bride" "WellRefuses$Saint" "lets" "(I)I") ∈ lw_all := lw_g (lw_at lw_m5 223 rfl) rfl
theorem q1266 : (Jvm.Cond.selects "WellRefuses$Bride" ({ cls := "WellRefuses$Bride", name := "lets", desc := "(I)I" } : Jvm.MethodName) ({ cls := "WellRefuses$Saint", name := "lets", desc := "(I)I" } : Jvm.MethodName)) ∈ lw_all := lw_g (lw_at lw_m5 225 rfl) rfl
theorem q1884 : (Jvm.Cond.selects "WellRefuses$Bride" ({ cls := "WellRefuses$One", name := "lets", desc := "(I)I" } : Jvm.MethodName) ({ cls := "WellRefuses$Saint", name := "lets", desc := "(I)I" } : Jvm.MethodName)) ∈ lw_all := lw_g (lw_at lw_m8 123 rfl) rfl
theorem q1893 : (Jvm.Cond.selects "WellRefuses$Bride" ({ cls := "WellRefuses$One", name := "fills", desc := "(I)I" } : Jvm.MethodName) ({ cls := "WellRefuses$One", name := "fills", desc := "(I)I" } : Jvm.MethodName)) ∈ lw_all := lw_g (lw_at lw_m8 132 rfl) rfl
theorem q1900 : (Jvm.Cond.selects "WellRefuses$Bride" ({ cls := "WellRefuses$One", name := "lends", desc := "(I)I" } : Jvm.MethodName) ({ cls := "WellRefuses$One", name := "lends", desc := "(I)I" } : Jvm.MethodName)) ∈ lw_all := lw_g (lw_at lw_m8 139 rfl) rfl
theorem q1912 : (Jvm.Cond.castable "WellRefuses$Bride" "WellRefuses$One") ∈ lw_tbl := lw_at lw_m8 151 rfl
abbrev cX12_init : ByteArray := prog_2_method_1_code
def yX12_init : MethodName := ⟨RX12, "<init>", "(LWellRefuses$Trace;II)V"⟩
def dkwX12_init_0 : List UInt8 := [42, 43, 28, 29, 183, 0, 3, 177]
abbrev dktX12_init_0 : List UInt8 := dkwX12_init_0 ++ []
theorem dksX12_init_0 : cX12_init.data.toList.drop 0 = dktX12_init_0 := by decide +kernel
theorem dX12_init_0 : decode cX12_init 0 = .ok (.aload_n 0, 1) := dk_42 (dk_at dksX12_init_0 0 rfl rfl)
theorem dX12_init_1 : decode cX12_init 1 = .ok (.aload_n 1, 1) := dk_43 (dk_at dksX12_init_0 1 rfl rfl)
theorem dX12_init_2 : decode cX12_init 2 = .ok (.iload_n 2, 1) := dk_28 (dk_at dksX12_init_0 2 rfl rfl)
theorem dX12_init_3 : decode cX12_init 3 = .ok (.iload_n 3, 1) := dk_29 (dk_at dksX12_init_0 3 rfl rfl)
theorem dX12_init_4 : decode cX12_init 4 = .ok (.invokespecial 3, 3) := dk_183 0 3 (dk_at dksX12_init_0 4 rfl rfl)
theorem dX12_init_7 : decode cX12_init 7 = .ok (.return_, 1) := dk_177 (dk_at dksX12_init_0 7 rfl rfl)
abbrev cX12_kind : ByteArray := prog_2_method_2_code
def yX12_kind : MethodName := ⟨RX12, "kind", "()I"⟩
theorem dX12_kind_0 : decode cX12_kind 0 = .ok (.iconst 5, 1) := by decide +kernel
theorem dX12_kind_1 : decode cX12_kind 1 = .ok (.ireturn, 1) := by decide +kernel
abbrev cX12_bucket : ByteArray := prog_2_method_4_code
def yX12_bucket : MethodName := ⟨RX12, "bucket", "()I"⟩
def dkwX12_bucket_0 : List UInt8 := [42, 183, 0, 13, 5, 108, 172]
abbrev dktX12_bucket_0 : List UInt8 := dkwX12_bucket_0 ++ []
theorem dksX12_bucket_0 : cX12_bucket.data.toList.drop 0 = dktX12_bucket_0 := by decide +kernel
theorem dX12_bucket_0 : decode cX12_bucket 0 = .ok (.aload_n 0, 1) := dk_42 (dk_at dksX12_bucket_0 0 rfl rfl)
theorem dX12_bucket_1 : decode cX12_bucket 1 = .ok (.invokespecial 13, 3) := dk_183 0 13 (dk_at dksX12_bucket_0 1 rfl rfl)
theorem dX12_bucket_4 : decode cX12_bucket 4 = .ok (.iconst 2, 1) := dk_5 (dk_at dksX12_bucket_0 4 rfl rfl)
theorem dX12_bucket_5 : decode cX12_bucket 5 = .ok (.idiv, 1) := dk_108 (dk_at dksX12_bucket_0 5 rfl rfl)
theorem dX12_bucket_6 : decode cX12_bucket 6 = .ok (.ireturn, 1) := dk_172 (dk_at dksX12_bucket_0 6 rfl rfl)
abbrev cX12_drinks : ByteArray := prog_2_method_5_code
def yX12_drinks : MethodName := ⟨RX12, "drinks", "()I"⟩
def dkwX12_drinks_0 : List UInt8 := [42, 183, 0, 17, 4, 100, 172]
abbrev dktX12_drinks_0 : List UInt8 := dkwX12_drinks_0 ++ []
theorem dksX12_drinks_0 : cX12_drinks.data.toList.drop 0 = dktX12_drinks_0 := by decide +kernel
theorem dX12_drinks_0 : decode cX12_drinks 0 = .ok (.aload_n 0, 1) := dk_42 (dk_at dksX12_drinks_0 0 rfl rfl)
theorem dX12_drinks_1 : decode cX12_drinks 1 = .ok (.invokespecial 17, 3) := dk_183 0 17 (dk_at dksX12_drinks_0 1 rfl rfl)
theorem dX12_drinks_4 : decode cX12_drinks 4 = .ok (.iconst 1, 1) := dk_4 (dk_at dksX12_drinks_0 4 rfl rfl)
theorem dX12_drinks_5 : decode cX12_drinks 5 = .ok (.isub, 1) := dk_100 (dk_at dksX12_drinks_0 5 rfl rfl)
theorem dX12_drinks_6 : decode cX12_drinks 6 = .ok (.ireturn, 1) := dk_172 (dk_at dksX12_drinks_0 6 rfl rfl)
abbrev cX12_isOf : ByteArray := prog_2_method_3_code
def yX12_isOf : MethodName := ⟨RX12, "isOf", "(I)Z"⟩
def dkwX12_isOf_0 : List UInt8 := [27, 8, 159, 0, 11, 42, 27, 183, 0, 9, 153, 0, 7, 4, 167, 0, 4, 3, 172]
abbrev dktX12_isOf_0 : List UInt8 := dkwX12_isOf_0 ++ []
theorem dksX12_isOf_0 : cX12_isOf.data.toList.drop 0 = dktX12_isOf_0 := by decide +kernel
theorem dX12_isOf_0 : decode cX12_isOf 0 = .ok (.iload_n 1, 1) := dk_27 (dk_at dksX12_isOf_0 0 rfl rfl)
theorem dX12_isOf_1 : decode cX12_isOf 1 = .ok (.iconst 5, 1) := dk_8 (dk_at dksX12_isOf_0 1 rfl rfl)
theorem dX12_isOf_2 : decode cX12_isOf 2 = .ok (.if_icmp .eq 11, 3) := dk_159 0 11 (dk_at dksX12_isOf_0 2 rfl rfl)
theorem dX12_isOf_5 : decode cX12_isOf 5 = .ok (.aload_n 0, 1) := dk_42 (dk_at dksX12_isOf_0 5 rfl rfl)
theorem dX12_isOf_6 : decode cX12_isOf 6 = .ok (.iload_n 1, 1) := dk_27 (dk_at dksX12_isOf_0 6 rfl rfl)
theorem dX12_isOf_7 : decode cX12_isOf 7 = .ok (.invokespecial 9, 3) := dk_183 0 9 (dk_at dksX12_isOf_0 7 rfl rfl)
theorem dX12_isOf_10 : decode cX12_isOf 10 = .ok (.ifCond .eq 7, 3) := dk_153 0 7 (dk_at dksX12_isOf_0 10 rfl rfl)
theorem dX12_isOf_13 : decode cX12_isOf 13 = .ok (.iconst 1, 1) := dk_4 (dk_at dksX12_isOf_0 13 rfl rfl)
theorem dX12_isOf_14 : decode cX12_isOf 14 = .ok (.goto 4, 3) := dk_167 0 4 (dk_at dksX12_isOf_0 14 rfl rfl)
theorem dX12_isOf_17 : decode cX12_isOf 17 = .ok (.iconst 0, 1) := dk_3 (dk_at dksX12_isOf_0 17 rfl rfl)
theorem dX12_isOf_18 : decode cX12_isOf 18 = .ok (.ireturn, 1) := dk_172 (dk_at dksX12_isOf_0 18 rfl rfl)
abbrev cX12_fills : ByteArray := prog_2_method_6_code
def yX12_fills : MethodName := ⟨RX12, "fills", "(I)I"⟩
def dkwX12_fills_0 : List UInt8 := [42, 180, 0, 20, 16, 60, 182, 0, 26, 42, 27, 4, 96, 183, 0, 32, 172]
abbrev dktX12_fills_0 : List UInt8 := dkwX12_fills_0 ++ []
theorem dksX12_fills_0 : cX12_fills.data.toList.drop 0 = dktX12_fills_0 := by decide +kernel
theorem dX12_fills_0 : decode cX12_fills 0 = .ok (.aload_n 0, 1) := dk_42 (dk_at dksX12_fills_0 0 rfl rfl)
theorem dX12_fills_1 : decode cX12_fills 1 = .ok (.getfield 20, 3) := dk_180 0 20 (dk_at dksX12_fills_0 1 rfl rfl)
theorem dX12_fills_4 : decode cX12_fills 4 = .ok (.bipush 60, 2) := dk_16 60 (dk_at dksX12_fills_0 4 rfl rfl)
theorem dX12_fills_6 : decode cX12_fills 6 = .ok (.invokevirtual 26, 3) := dk_182 0 26 (dk_at dksX12_fills_0 6 rfl rfl)
theorem dX12_fills_9 : decode cX12_fills 9 = .ok (.aload_n 0, 1) := dk_42 (dk_at dksX12_fills_0 9 rfl rfl)
theorem dX12_fills_10 : decode cX12_fills 10 = .ok (.iload_n 1, 1) := dk_27 (dk_at dksX12_fills_0 10 rfl rfl)
theorem dX12_fills_11 : decode cX12_fills 11 = .ok (.iconst 1, 1) := dk_4 (dk_at dksX12_fills_0 11 rfl rfl)
theorem dX12_fills_12 : decode cX12_fills 12 = .ok (.iadd, 1) := dk_96 (dk_at dksX12_fills_0 12 rfl rfl)
theorem dX12_fills_13 : decode cX12_fills 13 = .ok (.invokespecial 32, 3) := dk_183 0 32 (dk_at dksX12_fills_0 13 rfl rfl)
theorem dX12_fills_16 : decode cX12_fills 16 = .ok (.ireturn, 1) := dk_172 (dk_at dksX12_fills_0 16 rfl rfl)
theorem q97 : (Jvm.Cond.initialized "WellRefuses$Boy") ∈ lw_all := lw_g (lw_at lw_m1 16 rfl) rfl
theorem q372 : (Jvm.Cond.fieldLink "WellRefuses$Boy" (20 : Nat) "WellRefuses$Boy" "trace" "LWellRefuses$Trace;") ∈ lw_all := lw_g (lw_at lw_m2 51 rfl) rfl
theorem q373 : (Jvm.Cond.sameField "WellRefuses$Boy" "WellRefuses$One" "trace" "LWellRefuses$Trace;") ∈ lw_all := lw_g (lw_at lw_m2 52 rfl) rfl
theorem q424 : (Jvm.Cond.instantiable "WellRefuses$Boy" (3 : Nat)) ∈ lw_all := lw_g (lw_at lw_m2 103 rfl) rfl
theorem q426 : (Jvm.Cond.instanceMethod ({ cls := "WellRefuses$Boy", name := "<init>", desc := "(LWellRefuses$Trace;II)V" } : Jvm.MethodName)) ∈ lw_all := lw_g (lw_at lw_m2 105 rfl) rfl
theorem q427 : (Jvm.Cond.code ({ cls := "WellRefuses$Boy", name := "<init>", desc := "(LWellRefuses$Trace;II)V" } : Jvm.MethodName) prog_2_method_1_code (4 : Nat) (Option.none : Option Jvm.ClassFile.FieldType)) ∈ lw_all := lw_g (lw_at lw_m2 106 rfl) rfl
theorem q428 : (Jvm.Cond.methodLink "WellRefuses$Boy" (3 : Nat) ({ cls := "WellRefuses$Farmer", name := "<init>", desc := "(LWellRefuses$Trace;II)V" } : Jvm.MethodName)) ∈ lw_all := lw_g (lw_at lw_m2 107 rfl) rfl
theorem q429 : (Jvm.Cond.laysFinal "WellRefuses$Boy" "WellRefuses$One" "trace" "LWellRefuses$Trace;") ∈ lw_all := lw_g (lw_at lw_m2 108 rfl) rfl
theorem q430 : (Jvm.Cond.laysFinal "WellRefuses$Boy" "WellRefuses$One" "number" "I") ∈ lw_all := lw_g (lw_at lw_m2 109 rfl) rfl
theorem q431 : (Jvm.Cond.laysFinal "WellRefuses$Boy" "WellRefuses$One" "m" "I") ∈ lw_all := lw_g (lw_at lw_m2 110 rfl) rfl
theorem q432 : (Jvm.Cond.superclass "WellRefuses$Boy" "WellRefuses$Farmer") ∈ lw_all := lw_g (lw_at lw_m2 111 rfl) rfl
theorem q474 : (Jvm.Cond.selects "WellRefuses$Boy" ({ cls := "WellRefuses$One", name := "kind", desc := "()I" } : Jvm.MethodName) ({ cls := "WellRefuses$Boy", name := "kind", desc := "()I" } : Jvm.MethodName)) ∈ lw_all := lw_g (lw_at lw_m2 153 rfl) rfl
theorem q475 : (Jvm.Cond.instanceMethod ({ cls := "WellRefuses$Boy", name := "kind", desc := "()I" } : Jvm.MethodName)) ∈ lw_all := lw_g (lw_at lw_m2 154 rfl) rfl
theorem q476 : (Jvm.Cond.code ({ cls := "WellRefuses$Boy", name := "kind", desc := "()I" } : Jvm.MethodName) prog_2_method_2_code (1 : Nat) (Option.some Jvm.ClassFile.FieldType.int)) ∈ lw_all := lw_g (lw_at lw_m2 155 rfl) rfl
theorem q497 : (Jvm.Cond.selects "WellRefuses$Boy" ({ cls := "WellRefuses$One", name := "bucket", desc := "()I" } : Jvm.MethodName) ({ cls := "WellRefuses$Boy", name := "bucket", desc := "()I" } : Jvm.MethodName)) ∈ lw_all := lw_g (lw_at lw_m2 176 rfl) rfl
theorem q498 : (Jvm.Cond.instanceMethod ({ cls := "WellRefuses$Boy", name := "bucket", desc := "()I" } : Jvm.MethodName)) ∈ lw_all := lw_g (lw_at lw_m2 177 rfl) rfl
theorem q499 : (Jvm.Cond.code ({ cls := "WellRefuses$Boy", name := "bucket", desc := "()I" } : Jvm.MethodName) prog_2_method_4_code (1 : Nat) (Option.some Jvm.ClassFile.FieldType.int)) ∈ lw_all := lw_g (lw_at lw_m2 178 rfl) rfl
theorem q500 : (Jvm.Cond.methodLink "WellRefuses$Boy" (13 : Nat) ({ cls := "WellRefuses$Farmer", name := "bucket", desc := "()I" } : Jvm.MethodName)) ∈ lw_all := lw_g (lw_at lw_m2 179 rfl) rfl
theorem q525 : (Jvm.Cond.selects "WellRefuses$Boy" ({ cls := "WellRefuses$One", name := "drinks", desc := "()I" } : Jvm.MethodName) ({ cls := "WellRefuses$Boy", name := "drinks", desc := "()I" } : Jvm.MethodName)) ∈ lw_all := lw_g (lw_at lw_m2 204 rfl) rfl
theorem q526 : (Jvm.Cond.instanceMethod ({ cls := "WellRefuses$Boy", name := "drinks", desc := "()I" } : Jvm.MethodName)) ∈ lw_all := lw_g (lw_at lw_m2 205 rfl) rfl
theorem q527 : (Jvm.Cond.code ({ cls := "WellRefuses$Boy", name := "drinks", desc := "()I" } : Jvm.MethodName) prog_2_method_5_code (1 : Nat) (Option.some Jvm.ClassFile.FieldType.int)) ∈ lw_all := lw_g (lw_at lw_m2 206 rfl) rfl
theorem q528 : (Jvm.Cond.methodLink "WellRefuses$Boy" (17 : Nat) ({ cls := "WellRefuses$Farmer", name := "drinks", desc := "()I" } : Jvm.MethodName)) ∈ lw_all := lw_g (lw_at lw_m2 207 rfl) rfl
theorem q613 : (Jvm.Cond.selects "WellRefuses$Boy" ({ cls := "WellRefuses$One", name := "isOf", desc := "(I)Z" } : Jvm.MethodName) ({ cls := "WellRefuses$Boy", name := "isOf", desc := "(I)Z" } : Jvm.MethodName)) ∈ lw_all := lw_g (lw_at lw_m3 52 rfl) rfl
theorem q614 : (Jvm.Cond.instanceMethod ({ cls := "WellRefuses$Boy", name := "isOf", desc := "(I)Z" } : Jvm.MethodName)) ∈ lw_all := lw_g (lw_at lw_m3 53 rfl) rfl
theorem q615 : (Jvm.Cond.code ({ cls := "WellRefuses$Boy", name := "isOf", desc := "(I)Z" } : Jvm.MethodName) prog_2_method_3_code (2 : Nat) (Option.some Jvm.ClassFile.FieldType.boolean)) ∈ lw_all := lw_g (lw_at lw_m3 54 rfl) rfl
theorem q616 : (Jvm.Cond.methodLink "WellRefuses$Boy" (9 : Nat) ({ cls := "WellRefuses$Farmer", name := "isOf", desc := "(I)Z" } : Jvm.MethodName)) ∈ lw_all := lw_g (lw_at lw_m3 55 rfl) rfl
theorem q1126 : (Jvm.Cond.castable "WellRefuses$Boy" "WellRefuses$Lets") ∈ lw_tbl := lw_at lw_m5 85 rfl
theorem q1127 : (Jvm.Cond.selects "WellRefuses$Boy" ({ cls := "WellRefuses$Lets", name := "lets", desc := "(I)I" } : Jvm.MethodName) ({ cls := "WellRefuses$One", name := "lets", desc := "(I)I" } : Jvm.MethodName)) ∈ lw_all := lw_g (lw_at lw_m5 86 rfl) rfl
theorem q1128 : (Jvm.Cond.unhidden "WellRefuses$Boy" "lets" "(I)I") ∈ lw_tbl := lw_at lw_m5 87 rfl
theorem q1163 : (Jvm.Cond.castable "WellRefuses$Boy" "WellRefuses$Fills") ∈ lw_tbl := lw_at lw_m5 122 rfl
theorem q1164 : (Jvm.Cond.selects "WellRefuses$Boy" ({ cls := "WellRefuses$Fills", name := "fills", desc := "(I)I" } : Jvm.MethodName) ({ cls := "WellRefuses$Boy", name := "fills", desc := "(I)I" } : Jvm.MethodName)) ∈ lw_all := lw_g (lw_at lw_m5 123 rfl) rfl
theorem q1165 : (Jvm.Cond.unhidden "WellRefuses$Boy" "fills" "(I)I") ∈ lw_tbl := lw_at lw_m5 124 rfl
theorem q1166 : (Jvm.Cond.instanceMethod ({ cls := "WellRefuses$Boy", name := "fills", desc := "(I)I" } : Jvm.MethodName)) ∈ lw_all := lw_g (lw_at lw_m5 125 rfl) rfl
theorem q1167 : (Jvm.Cond.publicMethod ({ cls := "WellRefuses$Boy", name := "fills", desc := "(I)I" } : Jvm.MethodName)) ∈ lw_tbl := lw_at lw_m5 126 rfl
theorem q1168 : (Jvm.Cond.code ({ cls := "WellRefuses$Boy", name := "fills", desc := "(I)I" } : Jvm.MethodName) prog_2_method_6_code (2 : Nat) (Option.some Jvm.ClassFile.FieldType.int)) ∈ lw_all := lw_g (lw_at lw_m5 127 rfl) rfl
theorem q1169 : (Jvm.Cond.methodLink "WellRefuses$Boy" (26 : Nat) ({ cls := "WellRefuses$Trace", name := "begins", desc := "(I)V" } : Jvm.MethodName)) ∈ lw_all := lw_g (lw_at lw_m5 128 rfl) rfl
theorem q1170 : (Jvm.Cond.methodLink "WellRefuses$Boy" (32 : Nat) ({ cls := "WellRefuses$Farmer", name := "fills", desc := "(I)I" } : Jvm.MethodName)) ∈ lw_all := lw_g (lw_at lw_m5 129 rfl) rfl
theorem q1181 : (Jvm.Cond.selects "WellRefuses$Boy" ({ cls := "WellRefuses$Farmer", name := "lends", desc := "(I)I" } : Jvm.MethodName) ({ cls := "WellRefuses$One", name := "lends", desc := "(I)I" } : Jvm.MethodName)) ∈ lw_all := lw_g (lw_at lw_m5 140 rfl) rfl
theorem q1209 : (Jvm.Cond.castable "WellRefuses$Boy" "WellRefuses$Lends") ∈ lw_tbl := lw_at lw_m5 168 rfl
theorem q1210 : (Jvm.Cond.selects "WellRefuses$Boy" ({ cls := "WellRefuses$Lends", name := "lends", desc := "(I)I" } : Jvm.MethodName) ({ cls := "WellRefuses$One", name := "lends", desc := "(I)I" } : Jvm.MethodName)) ∈ lw_all := lw_g (lw_at lw_m5 169 rfl) rfl
theorem q1211 : (Jvm.Cond.unhidden "WellRefuses$Boy" "lends" "(I)I") ∈ lw_tbl := lw_at lw_m5 170 rfl
theorem q1245 : (Jvm.Cond.castable "WellRefuses$Boy" "WellRefuses$Says") ∈ lw_tbl := lw_at lw_m5 204 rfl
theorem q1246 : (Jvm.Cond.selects "WellRefuses$Boy" ({ cls := "WellRefuses$Says", name := "tells", desc := "(I)I" } : Jvm.MethodName) ({ cls := "WellRefuses$One", name := "tells", desc := "(I)I" } : Jvm.MethodName)) ∈ lw_all := lw_g (lw_at lw_m5 205 rfl) rfl
theorem q1247 : (Jvm.Cond.unhidden "WellRefuses$Boy" "tells" "(I)I") ∈ lw_tbl := lw_at lw_m5 206 rfl
theorem q1883 : (Jvm.Cond.selects "WellRefuses$Boy" ({ cls := "WellRefuses$One", name := "lets", desc := "(I)I" } : Jvm.MethodName) ({ cls := "WellRefuses$One", name := "lets", desc := "(I)I" } : Jvm.MethodName)) ∈ lw_all := lw_g (lw_at lw_m8 122 rfl) rfl
theorem q1892 : (Jvm.Cond.selects "WellRefuses$Boy" ({ cls := "WellRefuses$One", name := "fills", desc := "(I)I" } : Jvm.MethodName) ({ cls := "WellRefuses$Boy", name := "fills", desc := "(I)I" } : Jvm.MethodName)) ∈ lw_all := lw_g (lw_at lw_m8 131 rfl) rfl
theorem q1899 : (Jvm.Cond.selects "WellRefuses$Boy" ({ cls := "WellRefuses$One", name := "lends", desc := "(I)I" } : Jvm.MethodName) ({ cls := "WellRefuses$One", name := "lends", desc := "(I)I" } : Jvm.MethodName)) ∈ lw_all := lw_g (lw_at lw_m8 138 rfl) rfl
theorem q1913 : (Jvm.Cond.castable "WellRefuses$Boy" "WellRefuses$One") ∈ lw_tbl := lw_at lw_m8 152 rfl
abbrev cX13_init : ByteArray := prog_27_method_1_code
def yX13_init : MethodName := ⟨RX13, "<init>", "(LWellRefuses$Trace;II)V"⟩
def dkwX13_init_0 : List UInt8 := [42, 43, 28, 29, 183, 0, 3, 177]
abbrev dktX13_init_0 : List UInt8 := dkwX13_init_0 ++ []
theorem dksX13_init_0 : cX13_init.data.toList.drop 0 = dktX13_init_0 := by decide +kernel
theorem dX13_init_0 : decode cX13_init 0 = .ok (.aload_n 0, 1) := dk_42 (dk_at dksX13_init_0 0 rfl rfl)
theorem dX13_init_1 : decode cX13_init 1 = .ok (.aload_n 1, 1) := dk_43 (dk_at dksX13_init_0 1 rfl rfl)
theorem dX13_init_2 : decode cX13_init 2 = .ok (.iload_n 2, 1) := dk_28 (dk_at dksX13_init_0 2 rfl rfl)
theorem dX13_init_3 : decode cX13_init 3 = .ok (.iload_n 3, 1) := dk_29 (dk_at dksX13_init_0 3 rfl rfl)
theorem dX13_init_4 : decode cX13_init 4 = .ok (.invokespecial 3, 3) := dk_183 0 3 (dk_at dksX13_init_0 4 rfl rfl)
theorem dX13_init_7 : decode cX13_init 7 = .ok (.return_, 1) := dk_177 (dk_at dksX13_init_0 7 rfl rfl)
abbrev cX13_kind : ByteArray := prog_27_method_2_code
def yX13_kind : MethodName := ⟨RX13, "kind", "()I"⟩
theorem dX13_kind_0 : decode cX13_kind 0 = .ok (.bipush 6, 2) := by decide +kernel
theorem dX13_kind_2 : decode cX13_kind 2 = .ok (.ireturn, 1) := by decide +kernel
abbrev cX13_bucket : ByteArray := prog_27_method_4_code
def yX13_bucket : MethodName := ⟨RX13, "bucket", "()I"⟩
def dkwX13_bucket_0 : List UInt8 := [42, 183, 0, 13, 42, 180, 0, 17, 100, 172]
abbrev dktX13_bucket_0 : List UInt8 := dkwX13_bucket_0 ++ []
theorem dksX13_bucket_0 : cX13_bucket.data.toList.drop 0 = dktX13_bucket_0 := by decide +kernel
theorem dX13_bucket_0 : decode cX13_bucket 0 = .ok (.aload_n 0, 1) := dk_42 (dk_at dksX13_bucket_0 0 rfl rfl)
theorem dX13_bucket_1 : decode cX13_bucket 1 = .ok (.invokespecial 13, 3) := dk_183 0 13 (dk_at dksX13_bucket_0 1 rfl rfl)
theorem dX13_bucket_4 : decode cX13_bucket 4 = .ok (.aload_n 0, 1) := dk_42 (dk_at dksX13_bucket_0 4 rfl rfl)
theorem dX13_bucket_5 : decode cX13_bucket 5 = .ok (.getfield 17, 3) := dk_180 0 17 (dk_at dksX13_bucket_0 5 rfl rfl)
theorem dX13_bucket_8 : decode cX13_bucket 8 = .ok (.isub, 1) := dk_100 (dk_at dksX13_bucket_0 8 rfl rfl)
theorem dX13_bucket_9 : decode cX13_bucket 9 = .ok (.ireturn, 1) := dk_172 (dk_at dksX13_bucket_0 9 rfl rfl)
abbrev cX13_isOf : ByteArray := prog_27_method_3_code
def yX13_isOf : MethodName := ⟨RX13, "isOf", "(I)Z"⟩
def dkwX13_isOf_0 : List UInt8 := [27, 16, 6, 159, 0, 11, 42, 27, 183, 0, 9, 153, 0, 7, 4, 167, 0, 4, 3, 172]
abbrev dktX13_isOf_0 : List UInt8 := dkwX13_isOf_0 ++ []
theorem dksX13_isOf_0 : cX13_isOf.data.toList.drop 0 = dktX13_isOf_0 := by decide +kernel
theorem dX13_isOf_0 : decode cX13_isOf 0 = .ok (.iload_n 1, 1) := dk_27 (dk_at dksX13_isOf_0 0 rfl rfl)
theorem dX13_isOf_1 : decode cX13_isOf 1 = .ok (.bipush 6, 2) := dk_16 6 (dk_at dksX13_isOf_0 1 rfl rfl)
theorem dX13_isOf_3 : decode cX13_isOf 3 = .ok (.if_icmp .eq 11, 3) := dk_159 0 11 (dk_at dksX13_isOf_0 3 rfl rfl)
theorem dX13_isOf_6 : decode cX13_isOf 6 = .ok (.aload_n 0, 1) := dk_42 (dk_at dksX13_isOf_0 6 rfl rfl)
theorem dX13_isOf_7 : decode cX13_isOf 7 = .ok (.iload_n 1, 1) := dk_27 (dk_at dksX13_isOf_0 7 rfl rfl)
theorem dX13_isOf_8 : decode cX13_isOf 8 = .ok (.invokespecial 9, 3) := dk_183 0 9 (dk_at dksX13_isOf_0 8 rfl rfl)
theorem dX13_isOf_11 : decode cX13_isOf 11 = .ok (.ifCond .eq 7, 3) := dk_153 0 7 (dk_at dksX13_isOf_0 11 rfl rfl)
theorem dX13_isOf_14 : decode cX13_isOf 14 = .ok (.iconst 1, 1) := dk_4 (dk_at dksX13_isOf_0 14 rfl rfl)
theorem dX13_isOf_15 : decode cX13_isOf 15 = .ok (.goto 4, 3) := dk_167 0 4 (dk_at dksX13_isOf_0 15 rfl rfl)
theorem dX13_isOf_18 : decode cX13_isOf 18 = .ok (.iconst 0, 1) := dk_3 (dk_at dksX13_isOf_0 18 rfl rfl)
theorem dX13_isOf_19 : decode cX13_isOf 19 = .ok (.ireturn, 1) := dk_172 (dk_at dksX13_isOf_0 19 rfl rfl)
abbrev cX13_lends : ByteArray := prog_27_method_5_code
def yX13_lends : MethodName := ⟨RX13, "lends", "(I)I"⟩
def dkwX13_lends_0 : List UInt8 := [42, 180, 0, 23, 16, 70, 182, 0, 27, 42, 27, 183, 0, 33, 42, 180, 0, 37, 130, 172]
abbrev dktX13_lends_0 : List UInt8 := dkwX13_lends_0 ++ []
theorem dksX13_lends_0 : cX13_lends.data.toList.drop 0 = dktX13_lends_0 := by decide +kernel
theorem dX13_lends_0 : decode cX13_lends 0 = .ok (.aload_n 0, 1) := dk_42 (dk_at dksX13_lends_0 0 rfl rfl)
theorem dX13_lends_1 : decode cX13_lends 1 = .ok (.getfield 23, 3) := dk_180 0 23 (dk_at dksX13_lends_0 1 rfl rfl)
theorem dX13_lends_4 : decode cX13_lends 4 = .ok (.bipush 70, 2) := dk_16 70 (dk_at dksX13_lends_0 4 rfl rfl)
theorem dX13_lends_6 : decode cX13_lends 6 = .ok (.invokevirtual 27, 3) := dk_182 0 27 (dk_at dksX13_lends_0 6 rfl rfl)
theorem dX13_lends_9 : decode cX13_lends 9 = .ok (.aload_n 0, 1) := dk_42 (dk_at dksX13_lends_0 9 rfl rfl)
theorem dX13_lends_10 : decode cX13_lends 10 = .ok (.iload_n 1, 1) := dk_27 (dk_at dksX13_lends_0 10 rfl rfl)
theorem dX13_lends_11 : decode cX13_lends 11 = .ok (.invokespecial 33, 3) := dk_183 0 33 (dk_at dksX13_lends_0 11 rfl rfl)
theorem dX13_lends_14 : decode cX13_lends 14 = .ok (.aload_n 0, 1) := dk_42 (dk_at dksX13_lends_0 14 rfl rfl)
theorem dX13_lends_15 : decode cX13_lends 15 = .ok (.getfield 37, 3) := dk_180 0 37 (dk_at dksX13_lends_0 15 rfl rfl)
theorem dX13_lends_18 : decode cX13_lends 18 = .ok (.ixor, 1) := dk_130 (dk_at dksX13_lends_0 18 rfl rfl)
theorem dX13_lends_19 : decode cX13_lends 19 = .ok (.ireturn, 1) := dk_172 (dk_at dksX13_lends_0 19 rfl rfl)
abbrev cX13_tells : ByteArray := prog_27_method_6_code
def yX13_tells : MethodName := ⟨RX13, "tells", "(I)I"⟩
def dkwX13_tells_0 : List UInt8 := [42, 180, 0, 23, 16, 71, 182, 0, 27, 42, 27, 182, 0, 40, 61, 28, 42, 27, 183, 0, 43, 100, 172]
abbrev dktX13_tells_0 : List UInt8 := dkwX13_tells_0 ++ []
theorem dksX13_tells_0 : cX13_tells.data.toList.drop 0 = dktX13_tells_0 := by decide +kernel
theorem dX13_tells_0 : decode cX13_tells 0 = .ok (.aload_n 0, 1) := dk_42 (dk_at dksX13_tells_0 0 rfl rfl)
theorem dX13_tells_1 : decode cX13_tells 1 = .ok (.getfield 23, 3) := dk_180 0 23 (dk_at dksX13_tells_0 1 rfl rfl)
theorem dX13_tells_4 : decode cX13_tells 4 = .ok (.bipush 71, 2) := dk_16 71 (dk_at dksX13_tells_0 4 rfl rfl)
theorem dX13_tells_6 : decode cX13_tells 6 = .ok (.invokevirtual 27, 3) := dk_182 0 27 (dk_at dksX13_tells_0 6 rfl rfl)
theorem dX13_tells_9 : decode cX13_tells 9 = .ok (.aload_n 0, 1) := dk_42 (dk_at dksX13_tells_0 9 rfl rfl)
theorem dX13_tells_10 : decode cX13_tells 10 = .ok (.iload_n 1, 1) := dk_27 (dk_at dksX13_tells_0 10 rfl rfl)
theorem dX13_tells_11 : decode cX13_tells 11 = .ok (.invokevirtual 40, 3) := dk_182 0 40 (dk_at dksX13_tells_0 11 rfl rfl)
theorem dX13_tells_14 : decode cX13_tells 14 = .ok (.istore_n 2, 1) := dk_61 (dk_at dksX13_tells_0 14 rfl rfl)
theorem dX13_tells_15 : decode cX13_tells 15 = .ok (.iload_n 2, 1) := dk_28 (dk_at dksX13_tells_0 15 rfl rfl)
theorem dX13_tells_16 : decode cX13_tells 16 = .ok (.aload_n 0, 1) := dk_42 (dk_at dksX13_tells_0 16 rfl rfl)
theorem dX13_tells_17 : decode cX13_tells 17 = .ok (.iload_n 1, 1) := dk_27 (dk_at dksX13_tells_0 17 rfl rfl)
theorem dX13_tells_18 : decode cX13_tells 18 = .ok (.invokespecial 43, 3) := dk_183 0 43 (dk_at dksX13_tells_0 18 rfl rfl)
theorem dX13_tells_21 : decode cX13_tells 21 = .ok (.isub, 1) := dk_100 (dk_at dksX13_tells_0 21 rfl rfl)
theorem dX13_tells_22 : decode cX13_tells 22 = .ok (.ireturn, 1) := dk_172 (dk_at dksX13_tells_0 22 rfl rfl)
theorem q98 : (Jvm.Cond.initialized "WellRefuses$Twin") ∈ lw_all := lw_g (lw_at lw_m1 17 rfl) rfl
theorem q366 : (Jvm.Cond.fieldLink "WellRefuses$Twin" (23 : Nat) "WellRefuses$Twin" "trace" "LWellRefuses$Trace;") ∈ lw_all := lw_g (lw_at lw_m2 45 rfl) rfl
theorem q367 : (Jvm.Cond.sameField "WellRefuses$Twin" "WellRefuses$One" "trace" "LWellRefuses$Trace;") ∈ lw_all := lw_g (lw_at lw_m2 46 rfl) rfl
theorem q377 : (Jvm.Cond.fieldLink "WellRefuses$Twin" (37 : Nat) "WellRefuses$Twin" "number" "I") ∈ lw_all := lw_g (lw_at lw_m2 56 rfl) rfl
theorem q378 : (Jvm.Cond.sameField "WellRefuses$Twin" "WellRefuses$One" "number" "I") ∈ lw_all := lw_g (lw_at lw_m2 57 rfl) rfl
theorem q382 : (Jvm.Cond.fieldLink "WellRefuses$Twin" (17 : Nat) "WellRefuses$Twin" "m" "I") ∈ lw_all := lw_g (lw_at lw_m2 61 rfl) rfl
theorem q383 : (Jvm.Cond.sameField "WellRefuses$Twin" "WellRefuses$One" "m" "I") ∈ lw_all := lw_g (lw_at lw_m2 62 rfl) rfl
theorem q434 : (Jvm.Cond.instantiable "WellRefuses$Twin" (3 : Nat)) ∈ lw_all := lw_g (lw_at lw_m2 113 rfl) rfl
theorem q436 : (Jvm.Cond.instanceMethod ({ cls := "WellRefuses$Twin", name := "<init>", desc := "(LWellRefuses$Trace;II)V" } : Jvm.MethodName)) ∈ lw_all := lw_g (lw_at lw_m2 115 rfl) rfl
theorem q437 : (Jvm.Cond.code ({ cls := "WellRefuses$Twin", name := "<init>", desc := "(LWellRefuses$Trace;II)V" } : Jvm.MethodName) prog_27_method_1_code (4 : Nat) (Option.none : Option Jvm.ClassFile.FieldType)) ∈ lw_all := lw_g (lw_at lw_m2 116 rfl) rfl
theorem q438 : (Jvm.Cond.methodLink "WellRefuses$Twin" (3 : Nat) ({ cls := "WellRefuses$Stranger", name := "<init>", desc := "(LWellRefuses$Trace;II)V" } : Jvm.MethodName)) ∈ lw_all := lw_g (lw_at lw_m2 117 rfl) rfl
theorem q439 : (Jvm.Cond.laysFinal "WellRefuses$Twin" "WellRefuses$One" "trace" "LWellRefuses$Trace;") ∈ lw_all := lw_g (lw_at lw_m2 118 rfl) rfl
theorem q440 : (Jvm.Cond.laysFinal "WellRefuses$Twin" "WellRefuses$One" "number" "I") ∈ lw_all := lw_g (lw_at lw_m2 119 rfl) rfl
theorem q441 : (Jvm.Cond.laysFinal "WellRefuses$Twin" "WellRefuses$One" "m" "I") ∈ lw_all := lw_g (lw_at lw_m2 120 rfl) rfl
theorem q442 : (Jvm.Cond.superclass "WellRefuses$Twin" "WellRefuses$Stranger") ∈ lw_all := lw_g (lw_at lw_m2 121 rfl) rfl
theorem q489 : (Jvm.Cond.selects "WellRefuses$Twin" ({ cls := "WellRefuses$One", name := "kind", desc := "()I" } : Jvm.MethodName) ({ cls := "WellRefuses$Twin", name := "kind", desc := "()I" } : Jvm.MethodName)) ∈ lw_all := lw_g (lw_at lw_m2 168 rfl) rfl
theorem q490 : (Jvm.Cond.instanceMethod ({ cls := "WellRefuses$Twin", name := "kind", desc := "()I" } : Jvm.MethodName)) ∈ lw_all := lw_g (lw_at lw_m2 169 rfl) rfl
theorem q491 : (Jvm.Cond.code ({ cls := "WellRefuses$Twin", name := "kind", desc := "()I" } : Jvm.MethodName) prog_27_method_2_code (1 : Nat) (Option.some Jvm.ClassFile.FieldType.int)) ∈ lw_all := lw_g (lw_at lw_m2 170 rfl) rfl
theorem q517 : (Jvm.Cond.selects "WellRefuses$Twin" ({ cls := "WellRefuses$One", name := "bucket", desc := "()I" } : Jvm.MethodName) ({ cls := "WellRefuses$Twin", name := "bucket", desc := "()I" } : Jvm.MethodName)) ∈ lw_all := lw_g (lw_at lw_m2 196 rfl) rfl
theorem q518 : (Jvm.Cond.instanceMethod ({ cls := "WellRefuses$Twin", name := "bucket", desc := "()I" } : Jvm.MethodName)) ∈ lw_all := lw_g (lw_at lw_m2 197 rfl) rfl
theorem q519 : (Jvm.Cond.code ({ cls := "WellRefuses$Twin", name := "bucket", desc := "()I" } : Jvm.MethodName) prog_27_method_4_code (1 : Nat) (Option.some Jvm.ClassFile.FieldType.int)) ∈ lw_all := lw_g (lw_at lw_m2 198 rfl) rfl
theorem q520 : (Jvm.Cond.methodLink "WellRefuses$Twin" (13 : Nat) ({ cls := "WellRefuses$Stranger", name := "bucket", desc := "()I" } : Jvm.MethodName)) ∈ lw_all := lw_g (lw_at lw_m2 199 rfl) rfl
theorem q539 : (Jvm.Cond.selects "WellRefuses$Twin" ({ cls := "WellRefuses$One", name := "drinks", desc := "()I" } : Jvm.MethodName) ({ cls := "WellRefuses$One", name := "drinks", desc := "()I" } : Jvm.MethodName)) ∈ lw_all := lw_g (lw_at lw_m2 218 rfl) rfl
theorem q634 : (Jvm.Cond.selects "WellRefuses$Twin" ({ cls := "WellRefuses$One", name := "isOf", desc := "(I)Z" } : Jvm.MethodName) ({ cls := "WellRefuses$Twin", name := "isOf", desc := "(I)Z" } : Jvm.MethodName)) ∈ lw_all := lw_g (lw_at lw_m3 73 rfl) rfl
theorem q635 : (Jvm.Cond.instanceMethod ({ cls := "WellRefuses$Twin", name := "isOf", desc := "(I)Z" } : Jvm.MethodName)) ∈ lw_all := lw_g (lw_at lw_m3 74 rfl) rfl
theorem q636 : (Jvm.Cond.code ({ cls := "WellRefuses$Twin", name := "isOf", desc := "(I)Z" } : Jvm.MethodName) prog_27_method_3_code (2 : Nat) (Option.some Jvm.ClassFile.FieldType.boolean)) ∈ lw_all := lw_g (lw_at lw_m3 75 rfl) rfl
theorem q637 : (Jvm.Cond.methodLink "WellRefuses$Twin" (9 : Nat) ({ cls := "WellRefuses$Stranger", name := "isOf", desc := "(I)Z" } : Jvm.MethodName)) ∈ lw_all := lw_g (lw_at lw_m3 76 rfl) rfl
theorem q1156 : (Jvm.Cond.castable "WellRefuses$Twin" "WellRefuses$Lets") ∈ lw_tbl := lw_at lw_m5 115 rfl
theorem q1157 : (Jvm.Cond.selects "WellRefuses$Twin" ({ cls := "WellRefuses$Lets", name := "lets", desc := "(I)I" } : Jvm.MethodName) ({ cls := "WellRefuses$One", name := "lets", desc := "(I)I" } : Jvm.MethodName)) ∈ lw_all := lw_g (lw_at lw_m5 116 rfl) rfl
theorem q1158 : (Jvm.Cond.unhidden "WellRefuses$Twin" "lets" "(I)I") ∈ lw_tbl := lw_at lw_m5 117 rfl
theorem q1202 : (Jvm.Cond.castable "WellRefuses$Twin" "WellRefuses$Fills") ∈ lw_tbl := lw_at lw_m5 161 rfl
theorem q1203 : (Jvm.Cond.selects "WellRefuses$Twin" ({ cls := "WellRefuses$Fills", name := "fills", desc := "(I)I" } : Jvm.MethodName) ({ cls := "WellRefuses$One", name := "fills", desc := "(I)I" } : Jvm.MethodName)) ∈ lw_all := lw_g (lw_at lw_m5 162 rfl) rfl
theorem q1204 : (Jvm.Cond.unhidden "WellRefuses$Twin" "fills" "(I)I") ∈ lw_tbl := lw_at lw_m5 163 rfl
theorem q1233 : (Jvm.Cond.castable "WellRefuses$Twin" "WellRefuses$Lends") ∈ lw_tbl := lw_at lw_m5 192 rfl
theorem q1234 : (Jvm.Cond.selects "WellRefuses$Twin" ({ cls := "WellRefuses$Lends", name := "lends", desc := "(I)I" } : Jvm.MethodName) ({ cls := "WellRefuses$Twin", name := "lends", desc := "(I)I" } : Jvm.MethodName)) ∈ lw_all := lw_g (lw_at lw_m5 193 rfl) rfl
theorem q1235 : (Jvm.Cond.unhidden "WellRefuses$Twin" "lends" "(I)I") ∈ lw_tbl := lw_at lw_m5 194 rfl
theorem q1236 : (Jvm.Cond.instanceMethod ({ cls := "WellRefuses$Twin", name := "lends", desc := "(I)I" } : Jvm.MethodName)) ∈ lw_all := lw_g (lw_at lw_m5 195 rfl) rfl
theorem q1237 : (Jvm.Cond.publicMethod ({ cls := "WellRefuses$Twin", name := "lends", desc := "(I)I" } : Jvm.MethodName)) ∈ lw_tbl := lw_at lw_m5 196 rfl
theorem q1238 : (Jvm.Cond.code ({ cls := "WellRefuses$Twin", name := "lends", desc := "(I)I" } : Jvm.MethodName) prog_27_method_5_code (2 : Nat) (Option.some Jvm.ClassFile.FieldType.int)) ∈ lw_all := lw_g (lw_at lw_m5 197 rfl) rfl
theorem q1239 : (Jvm.Cond.methodLink "WellRefuses$Twin" (27 : Nat) ({ cls := "WellRefuses$Trace", name := "begins", desc := "(I)V" } : Jvm.MethodName)) ∈ lw_all := lw_g (lw_at lw_m5 198 rfl) rfl
theorem q1240 : (Jvm.Cond.methodLink "WellRefuses$Twin" (33 : Nat) ({ cls := "WellRefuses$Stranger", name := "lends", desc := "(I)I" } : Jvm.MethodName)) ∈ lw_all := lw_g (lw_at lw_m5 199 rfl) rfl
theorem q1279 : (Jvm.Cond.castable "WellRefuses$Twin" "WellRefuses$Says") ∈ lw_tbl := lw_at lw_m5 238 rfl
theorem q1280 : (Jvm.Cond.selects "WellRefuses$Twin" ({ cls := "WellRefuses$Says", name := "tells", desc := "(I)I" } : Jvm.MethodName) ({ cls := "WellRefuses$Twin", name := "tells", desc := "(I)I" } : Jvm.MethodName)) ∈ lw_all := lw_g (lw_at lw_m5 239 rfl) rfl
theorem q1281 : (Jvm.Cond.unhidden "WellRefuses$Twin" "tells" "(I)I") ∈ lw_tbl := lw_at lw_m6 0 rfl
theorem q1282 : (Jvm.Cond.instanceMethod ({ cls := "WellRefuses$Twin", name := "tells", desc := "(I)I" } : Jvm.MethodName)) ∈ lw_all := lw_g (lw_at lw_m6 1 rfl) rfl
theorem q1283 : (Jvm.Cond.publicMethod ({ cls := "WellRefuses$Twin", name := "tells", desc := "(I)I" } : Jvm.MethodName)) ∈ lw_tbl := lw_at lw_m6 2 rfl
theorem q1284 : (Jvm.Cond.code ({ cls := "WellRefuses$Twin", name := "tells", desc := "(I)I" } : Jvm.MethodName) prog_27_method_6_code (3 : Nat) (Option.some Jvm.ClassFile.FieldType.int)) ∈ lw_all := lw_g (lw_at lw_m6 3 rfl) rfl
theorem q1285 : (Jvm.Cond.methodLink "WellRefuses$Twin" (40 : Nat) ({ cls := "WellRefuses$Twin", name := "fills", desc := "(I)I" } : Jvm.MethodName)) ∈ lw_all := lw_g (lw_at lw_m6 4 rfl) rfl
theorem q1286 : (Jvm.Cond.sameMethod "WellRefuses$Twin" "WellRefuses$One" "fills" "(I)I") ∈ lw_all := lw_g (lw_at lw_m6 5 rfl) rfl
theorem q1288 : (Jvm.Cond.selects "WellRefuses$Twin" ({ cls := "WellRefuses$Twin", name := "fills", desc := "(I)I" } : Jvm.MethodName) ({ cls := "WellRefuses$One", name := "fills", desc := "(I)I" } : Jvm.MethodName)) ∈ lw_all := lw_g (lw_at lw_m6 7 rfl) rfl
theorem q1289 : (Jvm.Cond.methodLink "WellRefuses$Twin" (43 : Nat) ({ cls := "WellRefuses$Stranger", name := "tells", desc := "(I)I" } : Jvm.MethodName)) ∈ lw_all := lw_g (lw_at lw_m6 8 rfl) rfl
theorem q1889 : (Jvm.Cond.selects "WellRefuses$Twin" ({ cls := "WellRefuses$One", name := "lets", desc := "(I)I" } : Jvm.MethodName) ({ cls := "WellRefuses$One", name := "lets", desc := "(I)I" } : Jvm.MethodName)) ∈ lw_all := lw_g (lw_at lw_m8 128 rfl) rfl
theorem q1898 : (Jvm.Cond.selects "WellRefuses$Twin" ({ cls := "WellRefuses$One", name := "fills", desc := "(I)I" } : Jvm.MethodName) ({ cls := "WellRefuses$One", name := "fills", desc := "(I)I" } : Jvm.MethodName)) ∈ lw_all := lw_g (lw_at lw_m8 137 rfl) rfl
theorem q1905 : (Jvm.Cond.selects "WellRefuses$Twin" ({ cls := "WellRefuses$One", name := "lends", desc := "(I)I" } : Jvm.MethodName) ({ cls := "WellRefuses$Twin", name := "lends", desc := "(I)I" } : Jvm.MethodName)) ∈ lw_all := lw_g (lw_at lw_m8 144 rfl) rfl
theorem q1914 : (Jvm.Cond.castable "WellRefuses$Twin" "WellRefuses$One") ∈ lw_tbl := lw_at lw_m8 153 rfl
abbrev cX14_init : ByteArray := prog_24_method_1_code
def yX14_init : MethodName := ⟨RX14, "<init>", "()V"⟩
theorem dX14_init_0 : decode cX14_init 0 = .ok (.aload_n 0, 1) := by decide +kernel
theorem dX14_init_1 : decode cX14_init 1 = .ok (.invokespecial 1, 3) := by decide +kernel
theorem dX14_init_4 : decode cX14_init 4 = .ok (.return_, 1) := by decide +kernel
theorem q99 : (Jvm.Cond.initialized "WellRefuses$Term") ∈ lw_all := lw_g (lw_at lw_m1 18 rfl) rfl
theorem q557 : (Jvm.Cond.declares ({ cls := "WellRefuses$Term", name := "value", desc := "(LWellRefuses$Facts;)I" } : Jvm.MethodName)) ∈ lw_tbl := lw_at lw_m2 236 rfl
theorem q558 : (Jvm.Cond.sameMethod "WellRefuses$Term" "WellRefuses$Term" "value" "(LWellRefuses$Facts;)I") ∈ lw_all := lw_g (lw_at lw_m2 237 rfl) rfl
theorem q795 : (Jvm.Cond.instanceMethod ({ cls := "WellRefuses$Term", name := "<init>", desc := "()V" } : Jvm.MethodName)) ∈ lw_all := lw_g (lw_at lw_m3 234 rfl) rfl
theorem q796 : (Jvm.Cond.code ({ cls := "WellRefuses$Term", name := "<init>", desc := "()V" } : Jvm.MethodName) prog_24_method_1_code (1 : Nat) (Option.none : Option Jvm.ClassFile.FieldType)) ∈ lw_all := lw_g (lw_at lw_m3 235 rfl) rfl
theorem q797 : (Jvm.Cond.methodLink "WellRefuses$Term" (1 : Nat) ({ cls := "java/lang/Object", name := "<init>", desc := "()V" } : Jvm.MethodName)) ∈ lw_all := lw_g (lw_at lw_m3 236 rfl) rfl
abbrev cX15_value : ByteArray := prog_28_method_3_code
def yX15_value : MethodName := ⟨RX15, "value", "(LWellRefuses$Facts;)I"⟩
def dkwX15_value_6 : List UInt8 := [172, 28, 154, 0, 7, 29, 153, 0, 7, 4, 167, 0, 4, 3, 184, 0, 24, 172]
abbrev dktX15_value_6 : List UInt8 := dkwX15_value_6 ++ []
def dkwX15_value_5 : List UInt8 := [167, 0, 4, 3, 184, 0, 24, 172, 28, 153, 0, 11, 29, 153, 0, 7, 4, 167, 0, 4, 3, 184, 0, 24]
abbrev dktX15_value_5 : List UInt8 := dkwX15_value_5 ++ dktX15_value_6
def dkwX15_value_4 : List UInt8 := [184, 0, 24, 172, 28, 29, 160, 0, 7, 4, 167, 0, 4, 3, 184, 0, 24, 172, 28, 29, 164, 0, 7, 4]
abbrev dktX15_value_4 : List UInt8 := dkwX15_value_4 ++ dktX15_value_5
def dkwX15_value_3 : List UInt8 := [29, 154, 0, 7, 3, 167, 0, 6, 28, 29, 112, 172, 28, 29, 162, 0, 7, 4, 167, 0, 4, 3]
abbrev dktX15_value_3 : List UInt8 := dkwX15_value_3 ++ dktX15_value_4
def dkwX15_value_2 : List UInt8 := [28, 29, 96, 172, 28, 29, 100, 172, 28, 29, 104, 172, 29, 154, 0, 7, 3, 167, 0, 6, 28, 29, 108, 172]
abbrev dktX15_value_2 : List UInt8 := dkwX15_value_2 ++ dktX15_value_3
def dkwX15_value_1 : List UInt8 := [170, 0, 0, 0, 0, 213, 0, 0, 0, 37, 0, 0, 0, 62, 0, 0, 0, 142, 0, 0, 0, 196, 0, 0, 0, 213, 0, 0, 0, 213, 0, 0, 0, 213, 0, 0, 0, 126, 0, 0, 0, 118, 0, 0, 0, 213, 0, 0, 0, 122, 0, 0, 0, 213, 0, 0, 0, 130, 0, 0, 0, 213, 0, 0, 0, 213, 0, 0, 0, 213, 0, 0, 0, 213, 0, 0, 0, 213, 0, 0, 0, 213, 0, 0, 0, 213, 0, 0, 0, 213, 0, 0, 0, 213, 0, 0, 0, 213, 0, 0, 0, 213, 0, 0, 0, 213, 0, 0, 0, 154, 0, 0, 0, 168, 0, 0, 0, 182]
abbrev dktX15_value_1 : List UInt8 := dkwX15_value_1 ++ dktX15_value_2
def dkwX15_value_0 : List UInt8 := [42, 180, 0, 13, 43, 182, 0, 20, 61, 42, 180, 0, 17, 43, 182, 0, 20, 62, 42, 180, 0, 7]
abbrev dktX15_value_0 : List UInt8 := dkwX15_value_0 ++ dktX15_value_1
theorem dksX15_value_0 : cX15_value.data.toList.drop 0 = dktX15_value_0 := by decide +kernel
theorem dksX15_value_1 : cX15_value.data.toList.drop 22 = dktX15_value_1 := dk_seg dksX15_value_0 22 rfl rfl
theorem dksX15_value_2 : cX15_value.data.toList.drop 140 = dktX15_value_2 := dk_seg dksX15_value_1 118 rfl rfl
theorem dksX15_value_3 : cX15_value.data.toList.drop 164 = dktX15_value_3 := dk_seg dksX15_value_2 24 rfl rfl
theorem dksX15_value_4 : cX15_value.data.toList.drop 186 = dktX15_value_4 := dk_seg dksX15_value_3 22 rfl rfl
theorem dksX15_value_5 : cX15_value.data.toList.drop 210 = dktX15_value_5 := dk_seg dksX15_value_4 24 rfl rfl
theorem dksX15_value_6 : cX15_value.data.toList.drop 234 = dktX15_value_6 := dk_seg dksX15_value_5 24 rfl rfl
theorem dX15_value_0 : decode cX15_value 0 = .ok (.aload_n 0, 1) := dk_42 (dk_at dksX15_value_0 0 rfl rfl)
theorem dX15_value_1 : decode cX15_value 1 = .ok (.getfield 13, 3) := dk_180 0 13 (dk_at dksX15_value_0 1 rfl rfl)
theorem dX15_value_4 : decode cX15_value 4 = .ok (.aload_n 1, 1) := dk_43 (dk_at dksX15_value_0 4 rfl rfl)
theorem dX15_value_5 : decode cX15_value 5 = .ok (.invokevirtual 20, 3) := dk_182 0 20 (dk_at dksX15_value_0 5 rfl rfl)
theorem dX15_value_8 : decode cX15_value 8 = .ok (.istore_n 2, 1) := dk_61 (dk_at dksX15_value_0 8 rfl rfl)
theorem dX15_value_9 : decode cX15_value 9 = .ok (.aload_n 0, 1) := dk_42 (dk_at dksX15_value_0 9 rfl rfl)
theorem dX15_value_10 : decode cX15_value 10 = .ok (.getfield 17, 3) := dk_180 0 17 (dk_at dksX15_value_0 10 rfl rfl)
theorem dX15_value_13 : decode cX15_value 13 = .ok (.aload_n 1, 1) := dk_43 (dk_at dksX15_value_0 13 rfl rfl)
theorem dX15_value_14 : decode cX15_value 14 = .ok (.invokevirtual 20, 3) := dk_182 0 20 (dk_at dksX15_value_0 14 rfl rfl)
theorem dX15_value_17 : decode cX15_value 17 = .ok (.istore_n 3, 1) := dk_62 (dk_at dksX15_value_0 17 rfl rfl)
theorem dX15_value_18 : decode cX15_value 18 = .ok (.aload_n 0, 1) := dk_42 (dk_at dksX15_value_0 18 rfl rfl)
theorem dX15_value_19 : decode cX15_value 19 = .ok (.getfield 7, 3) := dk_180 0 7 (dk_at dksX15_value_0 19 rfl rfl)
theorem dX15_value_22 : decode cX15_value 22 = .ok (.tableswitch 213 37 62 #[142, 196, 213, 213, 213, 126, 118, 213, 122, 213, 130, 213, 213, 213, 213, 213, 213, 213, 213, 213, 213, 213, 213, 154, 168, 182], 118) := by decide +kernel
theorem dX15_value_140 : decode cX15_value 140 = .ok (.iload_n 2, 1) := dk_28 (dk_at dksX15_value_2 0 rfl rfl)
theorem dX15_value_141 : decode cX15_value 141 = .ok (.iload_n 3, 1) := dk_29 (dk_at dksX15_value_2 1 rfl rfl)
theorem dX15_value_142 : decode cX15_value 142 = .ok (.iadd, 1) := dk_96 (dk_at dksX15_value_2 2 rfl rfl)
theorem dX15_value_143 : decode cX15_value 143 = .ok (.ireturn, 1) := dk_172 (dk_at dksX15_value_2 3 rfl rfl)
theorem dX15_value_144 : decode cX15_value 144 = .ok (.iload_n 2, 1) := dk_28 (dk_at dksX15_value_2 4 rfl rfl)
theorem dX15_value_145 : decode cX15_value 145 = .ok (.iload_n 3, 1) := dk_29 (dk_at dksX15_value_2 5 rfl rfl)
theorem dX15_value_146 : decode cX15_value 146 = .ok (.isub, 1) := dk_100 (dk_at dksX15_value_2 6 rfl rfl)
theorem dX15_value_147 : decode cX15_value 147 = .ok (.ireturn, 1) := dk_172 (dk_at dksX15_value_2 7 rfl rfl)
theorem dX15_value_148 : decode cX15_value 148 = .ok (.iload_n 2, 1) := dk_28 (dk_at dksX15_value_2 8 rfl rfl)
theorem dX15_value_149 : decode cX15_value 149 = .ok (.iload_n 3, 1) := dk_29 (dk_at dksX15_value_2 9 rfl rfl)
theorem dX15_value_150 : decode cX15_value 150 = .ok (.imul, 1) := dk_104 (dk_at dksX15_value_2 10 rfl rfl)
theorem dX15_value_151 : decode cX15_value 151 = .ok (.ireturn, 1) := dk_172 (dk_at dksX15_value_2 11 rfl rfl)
theorem dX15_value_152 : decode cX15_value 152 = .ok (.iload_n 3, 1) := dk_29 (dk_at dksX15_value_2 12 rfl rfl)
theorem dX15_value_153 : decode cX15_value 153 = .ok (.ifCond .ne 7, 3) := dk_154 0 7 (dk_at dksX15_value_2 13 rfl rfl)
theorem dX15_value_156 : decode cX15_value 156 = .ok (.iconst 0, 1) := dk_3 (dk_at dksX15_value_2 16 rfl rfl)
theorem dX15_value_157 : decode cX15_value 157 = .ok (.goto 6, 3) := dk_167 0 6 (dk_at dksX15_value_2 17 rfl rfl)
theorem dX15_value_160 : decode cX15_value 160 = .ok (.iload_n 2, 1) := dk_28 (dk_at dksX15_value_2 20 rfl rfl)
theorem dX15_value_161 : decode cX15_value 161 = .ok (.iload_n 3, 1) := dk_29 (dk_at dksX15_value_2 21 rfl rfl)
theorem dX15_value_162 : decode cX15_value 162 = .ok (.idiv, 1) := dk_108 (dk_at dksX15_value_2 22 rfl rfl)
theorem dX15_value_163 : decode cX15_value 163 = .ok (.ireturn, 1) := dk_172 (dk_at dksX15_value_2 23 rfl rfl)
theorem dX15_value_164 : decode cX15_value 164 = .ok (.iload_n 3, 1) := dk_29 (dk_at dksX15_value_3 0 rfl rfl)
theorem dX15_value_165 : decode cX15_value 165 = .ok (.ifCond .ne 7, 3) := dk_154 0 7 (dk_at dksX15_value_3 1 rfl rfl)
theorem dX15_value_168 : decode cX15_value 168 = .ok (.iconst 0, 1) := dk_3 (dk_at dksX15_value_3 4 rfl rfl)
theorem dX15_value_169 : decode cX15_value 169 = .ok (.goto 6, 3) := dk_167 0 6 (dk_at dksX15_value_3 5 rfl rfl)
theorem dX15_value_172 : decode cX15_value 172 = .ok (.iload_n 2, 1) := dk_28 (dk_at dksX15_value_3 8 rfl rfl)
theorem dX15_value_173 : decode cX15_value 173 = .ok (.iload_n 3, 1) := dk_29 (dk_at dksX15_value_3 9 rfl rfl)
theorem dX15_value_174 : decode cX15_value 174 = .ok (.irem, 1) := dk_112 (dk_at dksX15_value_3 10 rfl rfl)
theorem dX15_value_175 : decode cX15_value 175 = .ok (.ireturn, 1) := dk_172 (dk_at dksX15_value_3 11 rfl rfl)
theorem dX15_value_176 : decode cX15_value 176 = .ok (.iload_n 2, 1) := dk_28 (dk_at dksX15_value_3 12 rfl rfl)
theorem dX15_value_177 : decode cX15_value 177 = .ok (.iload_n 3, 1) := dk_29 (dk_at dksX15_value_3 13 rfl rfl)
theorem dX15_value_178 : decode cX15_value 178 = .ok (.if_icmp .ge 7, 3) := dk_162 0 7 (dk_at dksX15_value_3 14 rfl rfl)
theorem dX15_value_181 : decode cX15_value 181 = .ok (.iconst 1, 1) := dk_4 (dk_at dksX15_value_3 17 rfl rfl)
theorem dX15_value_182 : decode cX15_value 182 = .ok (.goto 4, 3) := dk_167 0 4 (dk_at dksX15_value_3 18 rfl rfl)
theorem dX15_value_185 : decode cX15_value 185 = .ok (.iconst 0, 1) := dk_3 (dk_at dksX15_value_3 21 rfl rfl)
theorem dX15_value_186 : decode cX15_value 186 = .ok (.invokestatic 24, 3) := dk_184 0 24 (dk_at dksX15_value_4 0 rfl rfl)
theorem dX15_value_189 : decode cX15_value 189 = .ok (.ireturn, 1) := dk_172 (dk_at dksX15_value_4 3 rfl rfl)
theorem dX15_value_190 : decode cX15_value 190 = .ok (.iload_n 2, 1) := dk_28 (dk_at dksX15_value_4 4 rfl rfl)
theorem dX15_value_191 : decode cX15_value 191 = .ok (.iload_n 3, 1) := dk_29 (dk_at dksX15_value_4 5 rfl rfl)
theorem dX15_value_192 : decode cX15_value 192 = .ok (.if_icmp .ne 7, 3) := dk_160 0 7 (dk_at dksX15_value_4 6 rfl rfl)
theorem dX15_value_195 : decode cX15_value 195 = .ok (.iconst 1, 1) := dk_4 (dk_at dksX15_value_4 9 rfl rfl)
theorem dX15_value_196 : decode cX15_value 196 = .ok (.goto 4, 3) := dk_167 0 4 (dk_at dksX15_value_4 10 rfl rfl)
theorem dX15_value_199 : decode cX15_value 199 = .ok (.iconst 0, 1) := dk_3 (dk_at dksX15_value_4 13 rfl rfl)
theorem dX15_value_200 : decode cX15_value 200 = .ok (.invokestatic 24, 3) := dk_184 0 24 (dk_at dksX15_value_4 14 rfl rfl)
theorem dX15_value_203 : decode cX15_value 203 = .ok (.ireturn, 1) := dk_172 (dk_at dksX15_value_4 17 rfl rfl)
theorem dX15_value_204 : decode cX15_value 204 = .ok (.iload_n 2, 1) := dk_28 (dk_at dksX15_value_4 18 rfl rfl)
theorem dX15_value_205 : decode cX15_value 205 = .ok (.iload_n 3, 1) := dk_29 (dk_at dksX15_value_4 19 rfl rfl)
theorem dX15_value_206 : decode cX15_value 206 = .ok (.if_icmp .le 7, 3) := dk_164 0 7 (dk_at dksX15_value_4 20 rfl rfl)
theorem dX15_value_209 : decode cX15_value 209 = .ok (.iconst 1, 1) := dk_4 (dk_at dksX15_value_4 23 rfl rfl)
theorem dX15_value_210 : decode cX15_value 210 = .ok (.goto 4, 3) := dk_167 0 4 (dk_at dksX15_value_5 0 rfl rfl)
theorem dX15_value_213 : decode cX15_value 213 = .ok (.iconst 0, 1) := dk_3 (dk_at dksX15_value_5 3 rfl rfl)
theorem dX15_value_214 : decode cX15_value 214 = .ok (.invokestatic 24, 3) := dk_184 0 24 (dk_at dksX15_value_5 4 rfl rfl)
theorem dX15_value_217 : decode cX15_value 217 = .ok (.ireturn, 1) := dk_172 (dk_at dksX15_value_5 7 rfl rfl)
theorem dX15_value_218 : decode cX15_value 218 = .ok (.iload_n 2, 1) := dk_28 (dk_at dksX15_value_5 8 rfl rfl)
theorem dX15_value_219 : decode cX15_value 219 = .ok (.ifCond .eq 11, 3) := dk_153 0 11 (dk_at dksX15_value_5 9 rfl rfl)
theorem dX15_value_222 : decode cX15_value 222 = .ok (.iload_n 3, 1) := dk_29 (dk_at dksX15_value_5 12 rfl rfl)
theorem dX15_value_223 : decode cX15_value 223 = .ok (.ifCond .eq 7, 3) := dk_153 0 7 (dk_at dksX15_value_5 13 rfl rfl)
theorem dX15_value_226 : decode cX15_value 226 = .ok (.iconst 1, 1) := dk_4 (dk_at dksX15_value_5 16 rfl rfl)
theorem dX15_value_227 : decode cX15_value 227 = .ok (.goto 4, 3) := dk_167 0 4 (dk_at dksX15_value_5 17 rfl rfl)
theorem dX15_value_230 : decode cX15_value 230 = .ok (.iconst 0, 1) := dk_3 (dk_at dksX15_value_5 20 rfl rfl)
theorem dX15_value_231 : decode cX15_value 231 = .ok (.invokestatic 24, 3) := dk_184 0 24 (dk_at dksX15_value_5 21 rfl rfl)
theorem dX15_value_234 : decode cX15_value 234 = .ok (.ireturn, 1) := dk_172 (dk_at dksX15_value_6 0 rfl rfl)
theorem dX15_value_235 : decode cX15_value 235 = .ok (.iload_n 2, 1) := dk_28 (dk_at dksX15_value_6 1 rfl rfl)
theorem dX15_value_236 : decode cX15_value 236 = .ok (.ifCond .ne 7, 3) := dk_154 0 7 (dk_at dksX15_value_6 2 rfl rfl)
theorem dX15_value_239 : decode cX15_value 239 = .ok (.iload_n 3, 1) := dk_29 (dk_at dksX15_value_6 5 rfl rfl)
theorem dX15_value_240 : decode cX15_value 240 = .ok (.ifCond .eq 7, 3) := dk_153 0 7 (dk_at dksX15_value_6 6 rfl rfl)
theorem dX15_value_243 : decode cX15_value 243 = .ok (.iconst 1, 1) := dk_4 (dk_at dksX15_value_6 9 rfl rfl)
theorem dX15_value_244 : decode cX15_value 244 = .ok (.goto 4, 3) := dk_167 0 4 (dk_at dksX15_value_6 10 rfl rfl)
theorem dX15_value_247 : decode cX15_value 247 = .ok (.iconst 0, 1) := dk_3 (dk_at dksX15_value_6 13 rfl rfl)
theorem dX15_value_248 : decode cX15_value 248 = .ok (.invokestatic 24, 3) := dk_184 0 24 (dk_at dksX15_value_6 14 rfl rfl)
theorem dX15_value_251 : decode cX15_value 251 = .ok (.ireturn, 1) := dk_172 (dk_at dksX15_value_6 17 rfl rfl)
abbrev cX15_is : ByteArray := prog_28_method_2_code
def yX15_is : MethodName := ⟨RX15, "is", "(Z)I"⟩
def dkwX15_is_0 : List UInt8 := [26, 153, 0, 7, 4, 167, 0, 4, 3, 172]
abbrev dktX15_is_0 : List UInt8 := dkwX15_is_0 ++ []
theorem dksX15_is_0 : cX15_is.data.toList.drop 0 = dktX15_is_0 := by decide +kernel
theorem dX15_is_0 : decode cX15_is 0 = .ok (.iload_n 0, 1) := dk_26 (dk_at dksX15_is_0 0 rfl rfl)
theorem dX15_is_1 : decode cX15_is 1 = .ok (.ifCond .eq 7, 3) := dk_153 0 7 (dk_at dksX15_is_0 1 rfl rfl)
theorem dX15_is_4 : decode cX15_is 4 = .ok (.iconst 1, 1) := dk_4 (dk_at dksX15_is_0 4 rfl rfl)
theorem dX15_is_5 : decode cX15_is 5 = .ok (.goto 4, 3) := dk_167 0 4 (dk_at dksX15_is_0 5 rfl rfl)
theorem dX15_is_8 : decode cX15_is 8 = .ok (.iconst 0, 1) := dk_3 (dk_at dksX15_is_0 8 rfl rfl)
theorem dX15_is_9 : decode cX15_is 9 = .ok (.ireturn, 1) := dk_172 (dk_at dksX15_is_0 9 rfl rfl)
abbrev cX15_init : ByteArray := prog_28_method_1_code
def yX15_init : MethodName := ⟨RX15, "<init>", "(ILWellRefuses$Term;LWellRefuses$Term;)V"⟩
def dkwX15_init_0 : List UInt8 := [42, 183, 0, 1, 42, 27, 181, 0, 7, 42, 44, 181, 0, 13, 42, 45, 181, 0, 17, 177]
abbrev dktX15_init_0 : List UInt8 := dkwX15_init_0 ++ []
theorem dksX15_init_0 : cX15_init.data.toList.drop 0 = dktX15_init_0 := by decide +kernel
theorem dX15_init_0 : decode cX15_init 0 = .ok (.aload_n 0, 1) := dk_42 (dk_at dksX15_init_0 0 rfl rfl)
theorem dX15_init_1 : decode cX15_init 1 = .ok (.invokespecial 1, 3) := dk_183 0 1 (dk_at dksX15_init_0 1 rfl rfl)
theorem dX15_init_4 : decode cX15_init 4 = .ok (.aload_n 0, 1) := dk_42 (dk_at dksX15_init_0 4 rfl rfl)
theorem dX15_init_5 : decode cX15_init 5 = .ok (.iload_n 1, 1) := dk_27 (dk_at dksX15_init_0 5 rfl rfl)
theorem dX15_init_6 : decode cX15_init 6 = .ok (.putfield 7, 3) := dk_181 0 7 (dk_at dksX15_init_0 6 rfl rfl)
theorem dX15_init_9 : decode cX15_init 9 = .ok (.aload_n 0, 1) := dk_42 (dk_at dksX15_init_0 9 rfl rfl)
theorem dX15_init_10 : decode cX15_init 10 = .ok (.aload_n 2, 1) := dk_44 (dk_at dksX15_init_0 10 rfl rfl)
theorem dX15_init_11 : decode cX15_init 11 = .ok (.putfield 13, 3) := dk_181 0 13 (dk_at dksX15_init_0 11 rfl rfl)
theorem dX15_init_14 : decode cX15_init 14 = .ok (.aload_n 0, 1) := dk_42 (dk_at dksX15_init_0 14 rfl rfl)
theorem dX15_init_15 : decode cX15_init 15 = .ok (.aload_n 3, 1) := dk_45 (dk_at dksX15_init_0 15 rfl rfl)
theorem dX15_init_16 : decode cX15_init 16 = .ok (.putfield 17, 3) := dk_181 0 17 (dk_at dksX15_init_0 16 rfl rfl)
theorem dX15_init_19 : decode cX15_init 19 = .ok (.return_, 1) := dk_177 (dk_at dksX15_init_0 19 rfl rfl)
theorem q100 : (Jvm.Cond.initialized "WellRefuses$Two") ∈ lw_all := lw_g (lw_at lw_m1 19 rfl) rfl
theorem q569 : (Jvm.Cond.instanceMethod ({ cls := "WellRefuses$Two", name := "value", desc := "(LWellRefuses$Facts;)I" } : Jvm.MethodName)) ∈ lw_all := lw_g (lw_at lw_m3 8 rfl) rfl
theorem q570 : (Jvm.Cond.code ({ cls := "WellRefuses$Two", name := "value", desc := "(LWellRefuses$Facts;)I" } : Jvm.MethodName) prog_28_method_3_code (4 : Nat) (Option.some Jvm.ClassFile.FieldType.int)) ∈ lw_all := lw_g (lw_at lw_m3 9 rfl) rfl
theorem q571 : (Jvm.Cond.methodLink "WellRefuses$Two" (20 : Nat) ({ cls := "WellRefuses$Term", name := "value", desc := "(LWellRefuses$Facts;)I" } : Jvm.MethodName)) ∈ lw_all := lw_g (lw_at lw_m3 10 rfl) rfl
theorem q572 : (Jvm.Cond.methodLink "WellRefuses$Two" (24 : Nat) ({ cls := "WellRefuses$Two", name := "is", desc := "(Z)I" } : Jvm.MethodName)) ∈ lw_all := lw_g (lw_at lw_m3 11 rfl) rfl
theorem q573 : (Jvm.Cond.static ({ cls := "WellRefuses$Two", name := "is", desc := "(Z)I" } : Jvm.MethodName)) ∈ lw_all := lw_g (lw_at lw_m3 12 rfl) rfl
theorem q574 : (Jvm.Cond.code ({ cls := "WellRefuses$Two", name := "is", desc := "(Z)I" } : Jvm.MethodName) prog_28_method_2_code (1 : Nat) (Option.some Jvm.ClassFile.FieldType.int)) ∈ lw_all := lw_g (lw_at lw_m3 13 rfl) rfl
theorem q575 : (Jvm.Cond.selects "WellRefuses$Two" ({ cls := "WellRefuses$Term", name := "value", desc := "(LWellRefuses$Facts;)I" } : Jvm.MethodName) ({ cls := "WellRefuses$Two", name := "value", desc := "(LWellRefuses$Facts;)I" } : Jvm.MethodName)) ∈ lw_all := lw_g (lw_at lw_m3 14 rfl) rfl
theorem q854 : (Jvm.Cond.instantiable "WellRefuses$Two" (3 : Nat)) ∈ lw_all := lw_g (lw_at lw_m4 53 rfl) rfl
theorem q856 : (Jvm.Cond.instanceMethod ({ cls := "WellRefuses$Two", name := "<init>", desc := "(ILWellRefuses$Term;LWellRefuses$Term;)V" } : Jvm.MethodName)) ∈ lw_all := lw_g (lw_at lw_m4 55 rfl) rfl
theorem q857 : (Jvm.Cond.code ({ cls := "WellRefuses$Two", name := "<init>", desc := "(ILWellRefuses$Term;LWellRefuses$Term;)V" } : Jvm.MethodName) prog_28_method_1_code (4 : Nat) (Option.none : Option Jvm.ClassFile.FieldType)) ∈ lw_all := lw_g (lw_at lw_m4 56 rfl) rfl
theorem q858 : (Jvm.Cond.methodLinkNest "WellRefuses$Two" (1 : Nat) ({ cls := "WellRefuses$Term", name := "<init>", desc := "()V" } : Jvm.MethodName) "WellRefuses") ∈ lw_tbl := lw_at lw_m4 57 rfl
theorem q859 : (Jvm.Cond.fieldLink "WellRefuses$Two" (7 : Nat) "WellRefuses$Two" "sign" "I") ∈ lw_all := lw_g (lw_at lw_m4 58 rfl) rfl
theorem q860 : (Jvm.Cond.fieldLink "WellRefuses$Two" (13 : Nat) "WellRefuses$Two" "a" "LWellRefuses$Term;") ∈ lw_all := lw_g (lw_at lw_m4 59 rfl) rfl
theorem q861 : (Jvm.Cond.fieldLink "WellRefuses$Two" (17 : Nat) "WellRefuses$Two" "b" "LWellRefuses$Term;") ∈ lw_all := lw_g (lw_at lw_m4 60 rfl) rfl
theorem q862 : (Jvm.Cond.laysFinal "WellRefuses$Two" "WellRefuses$Two" "sign" "I") ∈ lw_all := lw_g (lw_at lw_m4 61 rfl) rfl
theorem q863 : (Jvm.Cond.soleField "WellRefuses$Two" "sign") ∈ lw_all := lw_g (lw_at lw_m4 62 rfl) rfl
theorem q864 : (Jvm.Cond.laysFinal "WellRefuses$Two" "WellRefuses$Two" "a" "LWellRefuses$Term;") ∈ lw_all := lw_g (lw_at lw_m4 63 rfl) rfl
theorem q865 : (Jvm.Cond.soleField "WellRefuses$Two" "a") ∈ lw_all := lw_g (lw_at lw_m4 64 rfl) rfl
theorem q866 : (Jvm.Cond.laysFinal "WellRefuses$Two" "WellRefuses$Two" "b" "LWellRefuses$Term;") ∈ lw_all := lw_g (lw_at lw_m4 65 rfl) rfl
theorem q867 : (Jvm.Cond.soleField "WellRefuses$Two" "b") ∈ lw_all := lw_g (lw_at lw_m4 66 rfl) rfl
theorem q868 : (Jvm.Cond.superclass "WellRefuses$Two" "WellRefuses$Term") ∈ lw_all := lw_g (lw_at lw_m4 67 rfl) rfl
theorem q1918 : (Jvm.Cond.castable "WellRefuses$Two" "WellRefuses$Term") ∈ lw_tbl := lw_at lw_m8 157 rfl
abbrev cX17_value : ByteArray := prog_15_method_2_code
def yX17_value : MethodName := ⟨RX17, "value", "(LWellRefuses$Facts;)I"⟩
def dkwX17_value_0 : List UInt8 := [43, 180, 0, 13, 42, 180, 0, 7, 46, 172]
abbrev dktX17_value_0 : List UInt8 := dkwX17_value_0 ++ []
theorem dksX17_value_0 : cX17_value.data.toList.drop 0 = dktX17_value_0 := by decide +kernel
theorem dX17_value_0 : decode cX17_value 0 = .ok (.aload_n 1, 1) := dk_43 (dk_at dksX17_value_0 0 rfl rfl)
theorem dX17_value_1 : decode cX17_value 1 = .ok (.getfield 13, 3) := dk_180 0 13 (dk_at dksX17_value_0 1 rfl rfl)
theorem dX17_value_4 : decode cX17_value 4 = .ok (.aload_n 0, 1) := dk_42 (dk_at dksX17_value_0 4 rfl rfl)
theorem dX17_value_5 : decode cX17_value 5 = .ok (.getfield 7, 3) := dk_180 0 7 (dk_at dksX17_value_0 5 rfl rfl)
theorem dX17_value_8 : decode cX17_value 8 = .ok (.iaload, 1) := dk_46 (dk_at dksX17_value_0 8 rfl rfl)
theorem dX17_value_9 : decode cX17_value 9 = .ok (.ireturn, 1) := dk_172 (dk_at dksX17_value_0 9 rfl rfl)
abbrev cX17_init : ByteArray := prog_15_method_1_code
def yX17_init : MethodName := ⟨RX17, "<init>", "(I)V"⟩
def dkwX17_init_0 : List UInt8 := [42, 183, 0, 1, 42, 27, 181, 0, 7, 177]
abbrev dktX17_init_0 : List UInt8 := dkwX17_init_0 ++ []
theorem dksX17_init_0 : cX17_init.data.toList.drop 0 = dktX17_init_0 := by decide +kernel
theorem dX17_init_0 : decode cX17_init 0 = .ok (.aload_n 0, 1) := dk_42 (dk_at dksX17_init_0 0 rfl rfl)
theorem dX17_init_1 : decode cX17_init 1 = .ok (.invokespecial 1, 3) := dk_183 0 1 (dk_at dksX17_init_0 1 rfl rfl)
theorem dX17_init_4 : decode cX17_init 4 = .ok (.aload_n 0, 1) := dk_42 (dk_at dksX17_init_0 4 rfl rfl)
theorem dX17_init_5 : decode cX17_init 5 = .ok (.iload_n 1, 1) := dk_27 (dk_at dksX17_init_0 5 rfl rfl)
theorem dX17_init_6 : decode cX17_init 6 = .ok (.putfield 7, 3) := dk_181 0 7 (dk_at dksX17_init_0 6 rfl rfl)
theorem dX17_init_9 : decode cX17_init 9 = .ok (.return_, 1) := dk_177 (dk_at dksX17_init_0 9 rfl rfl)
theorem q108 : (Jvm.Cond.initialized "WellRefuses$Named") ∈ lw_all := lw_g (lw_at lw_m1 27 rfl) rfl
theorem q212 : (Jvm.Cond.fieldLinkNest "WellRefuses$Named" (13 : Nat) "WellRefuses$Facts" "named" "[I" "WellRefuses") ∈ lw_tbl := lw_at lw_m1 131 rfl
theorem q562 : (Jvm.Cond.selects "WellRefuses$Named" ({ cls := "WellRefuses$Term", name := "value", desc := "(LWellRefuses$Facts;)I" } : Jvm.MethodName) ({ cls := "WellRefuses$Named", name := "value", desc := "(LWellRefuses$Facts;)I" } : Jvm.MethodName)) ∈ lw_all := lw_g (lw_at lw_m3 1 rfl) rfl
theorem q563 : (Jvm.Cond.instanceMethod ({ cls := "WellRefuses$Named", name := "value", desc := "(LWellRefuses$Facts;)I" } : Jvm.MethodName)) ∈ lw_all := lw_g (lw_at lw_m3 2 rfl) rfl
theorem q564 : (Jvm.Cond.code ({ cls := "WellRefuses$Named", name := "value", desc := "(LWellRefuses$Facts;)I" } : Jvm.MethodName) prog_15_method_2_code (2 : Nat) (Option.some Jvm.ClassFile.FieldType.int)) ∈ lw_all := lw_g (lw_at lw_m3 3 rfl) rfl
theorem q790 : (Jvm.Cond.instantiable "WellRefuses$Named" (1 : Nat)) ∈ lw_all := lw_g (lw_at lw_m3 229 rfl) rfl
theorem q792 : (Jvm.Cond.instanceMethod ({ cls := "WellRefuses$Named", name := "<init>", desc := "(I)V" } : Jvm.MethodName)) ∈ lw_all := lw_g (lw_at lw_m3 231 rfl) rfl
theorem q793 : (Jvm.Cond.code ({ cls := "WellRefuses$Named", name := "<init>", desc := "(I)V" } : Jvm.MethodName) prog_15_method_1_code (2 : Nat) (Option.none : Option Jvm.ClassFile.FieldType)) ∈ lw_all := lw_g (lw_at lw_m3 232 rfl) rfl
theorem q794 : (Jvm.Cond.methodLinkNest "WellRefuses$Named" (1 : Nat) ({ cls := "WellRefuses$Term", name := "<init>", desc := "()V" } : Jvm.MethodName) "WellRefuses") ∈ lw_tbl := lw_at lw_m3 233 rfl
theorem q798 : (Jvm.Cond.fieldLink "WellRefuses$Named" (7 : Nat) "WellRefuses$Named" "name" "I") ∈ lw_all := lw_g (lw_at lw_m3 237 rfl) rfl
theorem q799 : (Jvm.Cond.laysFinal "WellRefuses$Named" "WellRefuses$Named" "name" "I") ∈ lw_all := lw_g (lw_at lw_m3 238 rfl) rfl
theorem q800 : (Jvm.Cond.soleField "WellRefuses$Named" "name") ∈ lw_all := lw_g (lw_at lw_m3 239 rfl) rfl
theorem q801 : (Jvm.Cond.superclass "WellRefuses$Named" "WellRefuses$Term") ∈ lw_all := lw_g (lw_at lw_m4 0 rfl) rfl
theorem q1915 : (Jvm.Cond.castable "WellRefuses$Named" "WellRefuses$Term") ∈ lw_tbl := lw_at lw_m8 154 rfl
abbrev cX18_init : ByteArray := prog_7_method_1_code
def yX18_init : MethodName := ⟨RX18, "<init>", "(I)V"⟩
def dkwX18_init_0 : List UInt8 := [42, 1, 1, 3, 3, 183, 0, 1, 42, 27, 181, 0, 7, 177]
abbrev dktX18_init_0 : List UInt8 := dkwX18_init_0 ++ []
theorem dksX18_init_0 : cX18_init.data.toList.drop 0 = dktX18_init_0 := by decide +kernel
theorem dX18_init_0 : decode cX18_init 0 = .ok (.aload_n 0, 1) := dk_42 (dk_at dksX18_init_0 0 rfl rfl)
theorem dX18_init_1 : decode cX18_init 1 = .ok (.aconst_null, 1) := dk_1 (dk_at dksX18_init_0 1 rfl rfl)
theorem dX18_init_2 : decode cX18_init 2 = .ok (.aconst_null, 1) := dk_1 (dk_at dksX18_init_0 2 rfl rfl)
theorem dX18_init_3 : decode cX18_init 3 = .ok (.iconst 0, 1) := dk_3 (dk_at dksX18_init_0 3 rfl rfl)
theorem dX18_init_4 : decode cX18_init 4 = .ok (.iconst 0, 1) := dk_3 (dk_at dksX18_init_0 4 rfl rfl)
theorem dX18_init_5 : decode cX18_init 5 = .ok (.invokespecial 1, 3) := dk_183 0 1 (dk_at dksX18_init_0 5 rfl rfl)
theorem dX18_init_8 : decode cX18_init 8 = .ok (.aload_n 0, 1) := dk_42 (dk_at dksX18_init_0 8 rfl rfl)
theorem dX18_init_9 : decode cX18_init 9 = .ok (.iload_n 1, 1) := dk_27 (dk_at dksX18_init_0 9 rfl rfl)
theorem dX18_init_10 : decode cX18_init 10 = .ok (.putfield 7, 3) := dk_181 0 7 (dk_at dksX18_init_0 10 rfl rfl)
theorem dX18_init_13 : decode cX18_init 13 = .ok (.return_, 1) := dk_177 (dk_at dksX18_init_0 13 rfl rfl)
theorem q109 : (Jvm.Cond.initialized "WellRefuses$Fault") ∈ lw_all := lw_g (lw_at lw_m1 28 rfl) rfl
theorem q159 : (Jvm.Cond.selects "WellRefuses$Fault" ({ cls := "java/lang/Throwable", name := "fillInStackTrace", desc := "()Ljava/lang/Throwable;" } : Jvm.MethodName) ({ cls := "java/lang/Throwable", name := "fillInStackTrace", desc := "()Ljava/lang/Throwable;" } : Jvm.MethodName)) ∈ lw_all := lw_g (lw_at lw_m1 78 rfl) rfl
theorem q812 : (Jvm.Cond.instantiable "WellRefuses$Fault" (7 : Nat)) ∈ lw_all := lw_g (lw_at lw_m4 11 rfl) rfl
theorem q813 : (Jvm.Cond.castable "WellRefuses$Fault" "WellRefuses$Fault") ∈ lw_tbl := lw_at lw_m4 12 rfl
theorem q814 : (Jvm.Cond.selects "WellRefuses$Fault" ({ cls := "java/lang/Throwable", name := "fillInStackTrace", desc := "(I)Ljava/lang/Throwable;" } : Jvm.MethodName) ({ cls := "java/lang/Throwable", name := "fillInStackTrace", desc := "(I)Ljava/lang/Throwable;" } : Jvm.MethodName)) ∈ lw_all := lw_g (lw_at lw_m4 13 rfl) rfl
theorem q815 : (Jvm.Cond.lays "WellRefuses$Fault" "java/lang/Throwable" "cause" "Ljava/lang/Throwable;") ∈ lw_all := lw_g (lw_at lw_m4 14 rfl) rfl
theorem q816 : (Jvm.Cond.lays "WellRefuses$Fault" "java/lang/Throwable" "stackTrace" "[Ljava/lang/StackTraceElement;") ∈ lw_all := lw_g (lw_at lw_m4 15 rfl) rfl
theorem q817 : (Jvm.Cond.lays "WellRefuses$Fault" "java/lang/Throwable" "suppressedExceptions" "Ljava/util/List;") ∈ lw_all := lw_g (lw_at lw_m4 16 rfl) rfl
theorem q818 : (Jvm.Cond.lays "WellRefuses$Fault" "java/lang/Throwable" "detailMessage" "Ljava/lang/String;") ∈ lw_all := lw_g (lw_at lw_m4 17 rfl) rfl
theorem q819 : (Jvm.Cond.lays "WellRefuses$Fault" "java/lang/Throwable" "backtrace" "Ljava/lang/Object;") ∈ lw_all := lw_g (lw_at lw_m4 18 rfl) rfl
theorem q821 : (Jvm.Cond.instanceMethod ({ cls := "WellRefuses$Fault", name := "<init>", desc := "(I)V" } : Jvm.MethodName)) ∈ lw_all := lw_g (lw_at lw_m4 20 rfl) rfl
theorem q822 : (Jvm.Cond.code ({ cls := "WellRefuses$Fault", name := "<init>", desc := "(I)V" } : Jvm.MethodName) prog_7_method_1_code (2 : Nat) (Option.none : Option Jvm.ClassFile.FieldType)) ∈ lw_all := lw_g (lw_at lw_m4 21 rfl) rfl
theorem q823 : (Jvm.Cond.methodLink "WellRefuses$Fault" (1 : Nat) ({ cls := "java/lang/RuntimeException", name := "<init>", desc := "(Ljava/lang/String;Ljava/lang/Throwable;ZZ)V" } : Jvm.MethodName)) ∈ lw_all := lw_g (lw_at lw_m4 22 rfl) rfl
theorem q824 : (Jvm.Cond.fieldLink "WellRefuses$Fault" (7 : Nat) "WellRefuses$Fault" "place" "I") ∈ lw_all := lw_g (lw_at lw_m4 23 rfl) rfl
theorem q826 : (Jvm.Cond.laysFinal "WellRefuses$Fault" "WellRefuses$Fault" "place" "I") ∈ lw_all := lw_g (lw_at lw_m4 25 rfl) rfl
theorem q827 : (Jvm.Cond.soleField "WellRefuses$Fault" "place") ∈ lw_all := lw_g (lw_at lw_m4 26 rfl) rfl
theorem q828 : (Jvm.Cond.lays "WellRefuses$Fault" "java/lang/Throwable" "depth" "I") ∈ lw_all := lw_g (lw_at lw_m4 27 rfl) rfl
theorem q829 : (Jvm.Cond.superclass "WellRefuses$Fault" "java/lang/RuntimeException") ∈ lw_all := lw_g (lw_at lw_m4 28 rfl) rfl
abbrev cX19_value : ByteArray := prog_26_method_2_code
def yX19_value : MethodName := ⟨RX19, "value", "(LWellRefuses$Facts;)I"⟩
def dkwX19_value_0 : List UInt8 := [42, 180, 0, 7, 43, 182, 0, 13, 154, 0, 7, 4, 167, 0, 4, 3, 172]
abbrev dktX19_value_0 : List UInt8 := dkwX19_value_0 ++ []
theorem dksX19_value_0 : cX19_value.data.toList.drop 0 = dktX19_value_0 := by decide +kernel
theorem dX19_value_0 : decode cX19_value 0 = .ok (.aload_n 0, 1) := dk_42 (dk_at dksX19_value_0 0 rfl rfl)
theorem dX19_value_1 : decode cX19_value 1 = .ok (.getfield 7, 3) := dk_180 0 7 (dk_at dksX19_value_0 1 rfl rfl)
theorem dX19_value_4 : decode cX19_value 4 = .ok (.aload_n 1, 1) := dk_43 (dk_at dksX19_value_0 4 rfl rfl)
theorem dX19_value_5 : decode cX19_value 5 = .ok (.invokevirtual 13, 3) := dk_182 0 13 (dk_at dksX19_value_0 5 rfl rfl)
theorem dX19_value_8 : decode cX19_value 8 = .ok (.ifCond .ne 7, 3) := dk_154 0 7 (dk_at dksX19_value_0 8 rfl rfl)
theorem dX19_value_11 : decode cX19_value 11 = .ok (.iconst 1, 1) := dk_4 (dk_at dksX19_value_0 11 rfl rfl)
theorem dX19_value_12 : decode cX19_value 12 = .ok (.goto 4, 3) := dk_167 0 4 (dk_at dksX19_value_0 12 rfl rfl)
theorem dX19_value_15 : decode cX19_value 15 = .ok (.iconst 0, 1) := dk_3 (dk_at dksX19_value_0 15 rfl rfl)
theorem dX19_value_16 : decode cX19_value 16 = .ok (.ireturn, 1) := dk_172 (dk_at dksX19_value_0 16 rfl rfl)
abbrev cX19_init : ByteArray := prog_26_method_1_code
def yX19_init : MethodName := ⟨RX19, "<init>", "(LWellRefuses$Term;)V"⟩
def dkwX19_init_0 : List UInt8 := [42, 183, 0, 1, 42, 43, 181, 0, 7, 177]
abbrev dktX19_init_0 : List UInt8 := dkwX19_init_0 ++ []
theorem dksX19_init_0 : cX19_init.data.toList.drop 0 = dktX19_init_0 := by decide +kernel
theorem dX19_init_0 : decode cX19_init 0 = .ok (.aload_n 0, 1) := dk_42 (dk_at dksX19_init_0 0 rfl rfl)
theorem dX19_init_1 : decode cX19_init 1 = .ok (.invokespecial 1, 3) := dk_183 0 1 (dk_at dksX19_init_0 1 rfl rfl)
theorem dX19_init_4 : decode cX19_init 4 = .ok (.aload_n 0, 1) := dk_42 (dk_at dksX19_init_0 4 rfl rfl)
theorem dX19_init_5 : decode cX19_init 5 = .ok (.aload_n 1, 1) := dk_43 (dk_at dksX19_init_0 5 rfl rfl)
theorem dX19_init_6 : decode cX19_init 6 = .ok (.putfield 7, 3) := dk_181 0 7 (dk_at dksX19_init_0 6 rfl rfl)
theorem dX19_init_9 : decode cX19_init 9 = .ok (.return_, 1) := dk_177 (dk_at dksX19_init_0 9 rfl rfl)
theorem q110 : (Jvm.Cond.initialized "WellRefuses$Turned") ∈ lw_all := lw_g (lw_at lw_m1 29 rfl) rfl
theorem q565 : (Jvm.Cond.selects "WellRefuses$Turned" ({ cls := "WellRefuses$Term", name := "value", desc := "(LWellRefuses$Facts;)I" } : Jvm.MethodName) ({ cls := "WellRefuses$Turned", name := "value", desc := "(LWellRefuses$Facts;)I" } : Jvm.MethodName)) ∈ lw_all := lw_g (lw_at lw_m3 4 rfl) rfl
theorem q566 : (Jvm.Cond.instanceMethod ({ cls := "WellRefuses$Turned", name := "value", desc := "(LWellRefuses$Facts;)I" } : Jvm.MethodName)) ∈ lw_all := lw_g (lw_at lw_m3 5 rfl) rfl
theorem q567 : (Jvm.Cond.code ({ cls := "WellRefuses$Turned", name := "value", desc := "(LWellRefuses$Facts;)I" } : Jvm.MethodName) prog_26_method_2_code (2 : Nat) (Option.some Jvm.ClassFile.FieldType.int)) ∈ lw_all := lw_g (lw_at lw_m3 6 rfl) rfl
theorem q568 : (Jvm.Cond.methodLink "WellRefuses$Turned" (13 : Nat) ({ cls := "WellRefuses$Term", name := "value", desc := "(LWellRefuses$Facts;)I" } : Jvm.MethodName)) ∈ lw_all := lw_g (lw_at lw_m3 7 rfl) rfl
theorem q831 : (Jvm.Cond.instantiable "WellRefuses$Turned" (1 : Nat)) ∈ lw_all := lw_g (lw_at lw_m4 30 rfl) rfl
theorem q833 : (Jvm.Cond.instanceMethod ({ cls := "WellRefuses$Turned", name := "<init>", desc := "(LWellRefuses$Term;)V" } : Jvm.MethodName)) ∈ lw_all := lw_g (lw_at lw_m4 32 rfl) rfl
theorem q834 : (Jvm.Cond.code ({ cls := "WellRefuses$Turned", name := "<init>", desc := "(LWellRefuses$Term;)V" } : Jvm.MethodName) prog_26_method_1_code (2 : Nat) (Option.none : Option Jvm.ClassFile.FieldType)) ∈ lw_all := lw_g (lw_at lw_m4 33 rfl) rfl
theorem q835 : (Jvm.Cond.methodLinkNest "WellRefuses$Turned" (1 : Nat) ({ cls := "WellRefuses$Term", name := "<init>", desc := "()V" } : Jvm.MethodName) "WellRefuses") ∈ lw_tbl := lw_at lw_m4 34 rfl
theorem q836 : (Jvm.Cond.fieldLink "WellRefuses$Turned" (7 : Nat) "WellRefuses$Turned" "of" "LWellRefuses$Term;") ∈ lw_all := lw_g (lw_at lw_m4 35 rfl) rfl
theorem q837 : (Jvm.Cond.laysFinal "WellRefuses$Turned" "WellRefuses$Turned" "of" "LWellRefuses$Term;") ∈ lw_all := lw_g (lw_at lw_m4 36 rfl) rfl
theorem q838 : (Jvm.Cond.soleField "WellRefuses$Turned" "of") ∈ lw_all := lw_g (lw_at lw_m4 37 rfl) rfl
theorem q839 : (Jvm.Cond.superclass "WellRefuses$Turned" "WellRefuses$Term") ∈ lw_all := lw_g (lw_at lw_m4 38 rfl) rfl
theorem q1916 : (Jvm.Cond.castable "WellRefuses$Turned" "WellRefuses$Term") ∈ lw_tbl := lw_at lw_m8 155 rfl
abbrev cX20_value : ByteArray := prog_8_method_2_code
def yX20_value : MethodName := ⟨RX20, "value", "(LWellRefuses$Facts;)I"⟩
theorem dX20_value_0 : decode cX20_value 0 = .ok (.aload_n 0, 1) := by decide +kernel
theorem dX20_value_1 : decode cX20_value 1 = .ok (.getfield 7, 3) := by decide +kernel
theorem dX20_value_4 : decode cX20_value 4 = .ok (.ireturn, 1) := by decide +kernel
abbrev cX20_init : ByteArray := prog_8_method_1_code
def yX20_init : MethodName := ⟨RX20, "<init>", "(I)V"⟩
def dkwX20_init_0 : List UInt8 := [42, 183, 0, 1, 42, 27, 181, 0, 7, 177]
abbrev dktX20_init_0 : List UInt8 := dkwX20_init_0 ++ []
theorem dksX20_init_0 : cX20_init.data.toList.drop 0 = dktX20_init_0 := by decide +kernel
theorem dX20_init_0 : decode cX20_init 0 = .ok (.aload_n 0, 1) := dk_42 (dk_at dksX20_init_0 0 rfl rfl)
theorem dX20_init_1 : decode cX20_init 1 = .ok (.invokespecial 1, 3) := dk_183 0 1 (dk_at dksX20_init_0 1 rfl rfl)
theorem dX20_init_4 : decode cX20_init 4 = .ok (.aload_n 0, 1) := dk_42 (dk_at dksX20_init_0 4 rfl rfl)
theorem dX20_init_5 : decode cX20_init 5 = .ok (.iload_n 1, 1) := dk_27 (dk_at dksX20_init_0 5 rfl rfl)
theorem dX20_init_6 : decode cX20_init 6 = .ok (.putfield 7, 3) := dk_181 0 7 (dk_at dksX20_init_0 6 rfl rfl)
theorem dX20_init_9 : decode cX20_init 9 = .ok (.return_, 1) := dk_177 (dk_at dksX20_init_0 9 rfl rfl)
theorem q111 : (Jvm.Cond.initialized "WellRefuses$Figure") ∈ lw_all := lw_g (lw_at lw_m1 30 rfl) rfl
theorem q559 : (Jvm.Cond.selects "WellRefuses$Figure" ({ cls := "WellRefuses$Term", name := "value", desc := "(LWellRefuses$Facts;)I" } : Jvm.MethodName) ({ cls := "WellRefuses$Figure", name := "value", desc := "(LWellRefuses$Facts;)I" } : Jvm.MethodName)) ∈ lw_all := lw_g (lw_at lw_m2 238 rfl) rfl
theorem q560 : (Jvm.Cond.instanceMethod ({ cls := "WellRefuses$Figure", name := "value", desc := "(LWellRefuses$Facts;)I" } : Jvm.MethodName)) ∈ lw_all := lw_g (lw_at lw_m2 239 rfl) rfl
theorem q561 : (Jvm.Cond.code ({ cls := "WellRefuses$Figure", name := "value", desc := "(LWellRefuses$Facts;)I" } : Jvm.MethodName) prog_8_method_2_code (2 : Nat) (Option.some Jvm.ClassFile.FieldType.int)) ∈ lw_all := lw_g (lw_at lw_m3 0 rfl) rfl
theorem q843 : (Jvm.Cond.instantiable "WellRefuses$Figure" (1 : Nat)) ∈ lw_all := lw_g (lw_at lw_m4 42 rfl) rfl
theorem q845 : (Jvm.Cond.instanceMethod ({ cls := "WellRefuses$Figure", name := "<init>", desc := "(I)V" } : Jvm.MethodName)) ∈ lw_all := lw_g (lw_at lw_m4 44 rfl) rfl
theorem q846 : (Jvm.Cond.code ({ cls := "WellRefuses$Figure", name := "<init>", desc := "(I)V" } : Jvm.MethodName) prog_8_method_1_code (2 : Nat) (Option.none : Option Jvm.ClassFile.FieldType)) ∈ lw_all := lw_g (lw_at lw_m4 45 rfl) rfl
theorem q847 : (Jvm.Cond.methodLinkNest "WellRefuses$Figure" (1 : Nat) ({ cls := "WellRefuses$Term", name := "<init>", desc := "()V" } : Jvm.MethodName) "WellRefuses") ∈ lw_tbl := lw_at lw_m4 46 rfl
theorem q848 : (Jvm.Cond.fieldLink "WellRefuses$Figure" (7 : Nat) "WellRefuses$Figure" "v" "I") ∈ lw_all := lw_g (lw_at lw_m4 47 rfl) rfl
theorem q849 : (Jvm.Cond.laysFinal "WellRefuses$Figure" "WellRefuses$Figure" "v" "I") ∈ lw_all := lw_g (lw_at lw_m4 48 rfl) rfl
theorem q850 : (Jvm.Cond.soleField "WellRefuses$Figure" "v") ∈ lw_all := lw_g (lw_at lw_m4 49 rfl) rfl
theorem q851 : (Jvm.Cond.superclass "WellRefuses$Figure" "WellRefuses$Term") ∈ lw_all := lw_g (lw_at lw_m4 50 rfl) rfl
theorem q1917 : (Jvm.Cond.castable "WellRefuses$Figure" "WellRefuses$Term") ∈ lw_tbl := lw_at lw_m8 156 rfl
abbrev cX21_init : ByteArray := prog_20_method_1_code
def yX21_init : MethodName := ⟨RX21, "<init>", "()V"⟩
theorem dX21_init_0 : decode cX21_init 0 = .ok (.aload_n 0, 1) := by decide +kernel
theorem dX21_init_1 : decode cX21_init 1 = .ok (.invokespecial 1, 3) := by decide +kernel
theorem dX21_init_4 : decode cX21_init 4 = .ok (.return_, 1) := by decide +kernel
abbrev cX21_row : ByteArray := prog_20_method_6_code
def yX21_row : MethodName := ⟨RX21, "row", "()[I"⟩
def dkwX21_row_1 : List UInt8 := [132, 2, 1, 167, 255, 239, 43, 176]
abbrev dktX21_row_1 : List UInt8 := dkwX21_row_1 ++ []
def dkwX21_row_0 : List UInt8 := [42, 182, 0, 7, 188, 10, 76, 3, 61, 28, 43, 190, 162, 0, 17, 43, 28, 42, 28, 182, 0, 13, 79]
abbrev dktX21_row_0 : List UInt8 := dkwX21_row_0 ++ dktX21_row_1
theorem dksX21_row_0 : cX21_row.data.toList.drop 0 = dktX21_row_0 := by decide +kernel
theorem dksX21_row_1 : cX21_row.data.toList.drop 23 = dktX21_row_1 := dk_seg dksX21_row_0 23 rfl rfl
theorem dX21_row_0 : decode cX21_row 0 = .ok (.aload_n 0, 1) := dk_42 (dk_at dksX21_row_0 0 rfl rfl)
theorem dX21_row_1 : decode cX21_row 1 = .ok (.invokevirtual 7, 3) := dk_182 0 7 (dk_at dksX21_row_0 1 rfl rfl)
theorem dX21_row_4 : decode cX21_row 4 = .ok (.newarray .int, 2) := dk_188_10 (dk_at dksX21_row_0 4 rfl rfl)
theorem dX21_row_6 : decode cX21_row 6 = .ok (.astore_n 1, 1) := dk_76 (dk_at dksX21_row_0 6 rfl rfl)
theorem dX21_row_7 : decode cX21_row 7 = .ok (.iconst 0, 1) := dk_3 (dk_at dksX21_row_0 7 rfl rfl)
theorem dX21_row_8 : decode cX21_row 8 = .ok (.istore_n 2, 1) := dk_61 (dk_at dksX21_row_0 8 rfl rfl)
theorem dX21_row_9 : decode cX21_row 9 = .ok (.iload_n 2, 1) := dk_28 (dk_at dksX21_row_0 9 rfl rfl)
theorem dX21_row_10 : decode cX21_row 10 = .ok (.aload_n 1, 1) := dk_43 (dk_at dksX21_row_0 10 rfl rfl)
theorem dX21_row_11 : decode cX21_row 11 = .ok (.arraylength, 1) := dk_190 (dk_at dksX21_row_0 11 rfl rfl)
theorem dX21_row_12 : decode cX21_row 12 = .ok (.if_icmp .ge 17, 3) := dk_162 0 17 (dk_at dksX21_row_0 12 rfl rfl)
theorem dX21_row_15 : decode cX21_row 15 = .ok (.aload_n 1, 1) := dk_43 (dk_at dksX21_row_0 15 rfl rfl)
theorem dX21_row_16 : decode cX21_row 16 = .ok (.iload_n 2, 1) := dk_28 (dk_at dksX21_row_0 16 rfl rfl)
theorem dX21_row_17 : decode cX21_row 17 = .ok (.aload_n 0, 1) := dk_42 (dk_at dksX21_row_0 17 rfl rfl)
theorem dX21_row_18 : decode cX21_row 18 = .ok (.iload_n 2, 1) := dk_28 (dk_at dksX21_row_0 18 rfl rfl)
theorem dX21_row_19 : decode cX21_row 19 = .ok (.invokevirtual 13, 3) := dk_182 0 13 (dk_at dksX21_row_0 19 rfl rfl)
theorem dX21_row_22 : decode cX21_row 22 = .ok (.iastore, 1) := dk_79 (dk_at dksX21_row_0 22 rfl rfl)
theorem dX21_row_23 : decode cX21_row 23 = .ok (.iinc 2 1, 3) := dk_132 2 1 (dk_at dksX21_row_1 0 rfl rfl)
theorem dX21_row_26 : decode cX21_row 26 = .ok (.goto (-17), 3) := dk_167 255 239 (dk_at dksX21_row_1 3 rfl rfl)
theorem dX21_row_29 : decode cX21_row 29 = .ok (.aload_n 1, 1) := dk_43 (dk_at dksX21_row_1 6 rfl rfl)
theorem dX21_row_30 : decode cX21_row 30 = .ok (.areturn, 1) := dk_176 (dk_at dksX21_row_1 7 rfl rfl)
theorem q114 : (Jvm.Cond.initialized "WellRefuses$Sheet") ∈ lw_all := lw_g (lw_at lw_m1 33 rfl) rfl
theorem q1010 : (Jvm.Cond.declares ({ cls := "WellRefuses$Sheet", name := "size", desc := "()I" } : Jvm.MethodName)) ∈ lw_tbl := lw_at lw_m4 209 rfl
theorem q1011 : (Jvm.Cond.sameMethod "WellRefuses$Sheet" "WellRefuses$Sheet" "size" "()I") ∈ lw_all := lw_g (lw_at lw_m4 210 rfl) rfl
theorem q1022 : (Jvm.Cond.declares ({ cls := "WellRefuses$Sheet", name := "get", desc := "(I)I" } : Jvm.MethodName)) ∈ lw_tbl := lw_at lw_m4 221 rfl
theorem q1023 : (Jvm.Cond.sameMethod "WellRefuses$Sheet" "WellRefuses$Sheet" "get" "(I)I") ∈ lw_all := lw_g (lw_at lw_m4 222 rfl) rfl
theorem q1316 : (Jvm.Cond.instanceMethod ({ cls := "WellRefuses$Sheet", name := "<init>", desc := "()V" } : Jvm.MethodName)) ∈ lw_all := lw_g (lw_at lw_m6 35 rfl) rfl
theorem q1317 : (Jvm.Cond.code ({ cls := "WellRefuses$Sheet", name := "<init>", desc := "()V" } : Jvm.MethodName) prog_20_method_1_code (1 : Nat) (Option.none : Option Jvm.ClassFile.FieldType)) ∈ lw_all := lw_g (lw_at lw_m6 36 rfl) rfl
theorem q1318 : (Jvm.Cond.methodLink "WellRefuses$Sheet" (1 : Nat) ({ cls := "java/lang/Object", name := "<init>", desc := "()V" } : Jvm.MethodName)) ∈ lw_all := lw_g (lw_at lw_m6 37 rfl) rfl
theorem q1349 : (Jvm.Cond.declares ({ cls := "WellRefuses$Sheet", name := "put", desc := "(II)V" } : Jvm.MethodName)) ∈ lw_tbl := lw_at lw_m6 68 rfl
theorem q1350 : (Jvm.Cond.sameMethod "WellRefuses$Sheet" "WellRefuses$Sheet" "put" "(II)V") ∈ lw_all := lw_g (lw_at lw_m6 69 rfl) rfl
theorem q1365 : (Jvm.Cond.declares ({ cls := "WellRefuses$Sheet", name := "width", desc := "()I" } : Jvm.MethodName)) ∈ lw_tbl := lw_at lw_m6 84 rfl
theorem q1366 : (Jvm.Cond.sameMethod "WellRefuses$Sheet" "WellRefuses$Sheet" "width" "()I") ∈ lw_all := lw_g (lw_at lw_m6 85 rfl) rfl
theorem q1377 : (Jvm.Cond.instanceMethod ({ cls := "WellRefuses$Sheet", name := "row", desc := "()[I" } : Jvm.MethodName)) ∈ lw_all := lw_g (lw_at lw_m6 96 rfl) rfl
theorem q1378 : (Jvm.Cond.sameMethod "WellRefuses$Sheet" "WellRefuses$Sheet" "row" "()[I") ∈ lw_all := lw_g (lw_at lw_m6 97 rfl) rfl
theorem q1382 : (Jvm.Cond.code ({ cls := "WellRefuses$Sheet", name := "row", desc := "()[I" } : Jvm.MethodName) prog_20_method_6_code (3 : Nat) (Option.some (Jvm.ClassFile.FieldType.array Jvm.ClassFile.FieldType.int))) ∈ lw_all := lw_g (lw_at lw_m6 101 rfl) rfl
theorem q1383 : (Jvm.Cond.methodLink "WellRefuses$Sheet" (7 : Nat) ({ cls := "WellRefuses$Sheet", name := "size", desc := "()I" } : Jvm.MethodName)) ∈ lw_all := lw_g (lw_at lw_m6 102 rfl) rfl
theorem q1384 : (Jvm.Cond.methodLink "WellRefuses$Sheet" (13 : Nat) ({ cls := "WellRefuses$Sheet", name := "get", desc := "(I)I" } : Jvm.MethodName)) ∈ lw_all := lw_g (lw_at lw_m6 103 rfl) rfl
abbrev cX22_size : ByteArray := prog_4_method_2_code
def yX22_size : MethodName := ⟨RX22, "size", "()I"⟩
def dkwX22_size_0 : List UInt8 := [42, 180, 0, 7, 190, 172]
abbrev dktX22_size_0 : List UInt8 := dkwX22_size_0 ++ []
theorem dksX22_size_0 : cX22_size.data.toList.drop 0 = dktX22_size_0 := by decide +kernel
theorem dX22_size_0 : decode cX22_size 0 = .ok (.aload_n 0, 1) := dk_42 (dk_at dksX22_size_0 0 rfl rfl)
theorem dX22_size_1 : decode cX22_size 1 = .ok (.getfield 7, 3) := dk_180 0 7 (dk_at dksX22_size_0 1 rfl rfl)
theorem dX22_size_4 : decode cX22_size 4 = .ok (.arraylength, 1) := dk_190 (dk_at dksX22_size_0 4 rfl rfl)
theorem dX22_size_5 : decode cX22_size 5 = .ok (.ireturn, 1) := dk_172 (dk_at dksX22_size_0 5 rfl rfl)
abbrev cX22_get : ByteArray := prog_4_method_3_code
def yX22_get : MethodName := ⟨RX22, "get", "(I)I"⟩
def dkwX22_get_0 : List UInt8 := [42, 180, 0, 7, 27, 51, 172]
abbrev dktX22_get_0 : List UInt8 := dkwX22_get_0 ++ []
theorem dksX22_get_0 : cX22_get.data.toList.drop 0 = dktX22_get_0 := by decide +kernel
theorem dX22_get_0 : decode cX22_get 0 = .ok (.aload_n 0, 1) := dk_42 (dk_at dksX22_get_0 0 rfl rfl)
theorem dX22_get_1 : decode cX22_get 1 = .ok (.getfield 7, 3) := dk_180 0 7 (dk_at dksX22_get_0 1 rfl rfl)
theorem dX22_get_4 : decode cX22_get 4 = .ok (.iload_n 1, 1) := dk_27 (dk_at dksX22_get_0 4 rfl rfl)
theorem dX22_get_5 : decode cX22_get 5 = .ok (.baload, 1) := dk_51 (dk_at dksX22_get_0 5 rfl rfl)
theorem dX22_get_6 : decode cX22_get 6 = .ok (.ireturn, 1) := dk_172 (dk_at dksX22_get_0 6 rfl rfl)
abbrev cX22_init : ByteArray := prog_4_method_1_code
def yX22_init : MethodName := ⟨RX22, "<init>", "(I)V"⟩
def dkwX22_init_0 : List UInt8 := [42, 183, 0, 1, 42, 27, 188, 8, 181, 0, 7, 177]
abbrev dktX22_init_0 : List UInt8 := dkwX22_init_0 ++ []
theorem dksX22_init_0 : cX22_init.data.toList.drop 0 = dktX22_init_0 := by decide +kernel
theorem dX22_init_0 : decode cX22_init 0 = .ok (.aload_n 0, 1) := dk_42 (dk_at dksX22_init_0 0 rfl rfl)
theorem dX22_init_1 : decode cX22_init 1 = .ok (.invokespecial 1, 3) := dk_183 0 1 (dk_at dksX22_init_0 1 rfl rfl)
theorem dX22_init_4 : decode cX22_init 4 = .ok (.aload_n 0, 1) := dk_42 (dk_at dksX22_init_0 4 rfl rfl)
theorem dX22_init_5 : decode cX22_init 5 = .ok (.iload_n 1, 1) := dk_27 (dk_at dksX22_init_0 5 rfl rfl)
theorem dX22_init_6 : decode cX22_init 6 = .ok (.newarray .byte, 2) := dk_188_8 (dk_at dksX22_init_0 6 rfl rfl)
theorem dX22_init_8 : decode cX22_init 8 = .ok (.putfield 7, 3) := dk_181 0 7 (dk_at dksX22_init_0 8 rfl rfl)
theorem dX22_init_11 : decode cX22_init 11 = .ok (.return_, 1) := dk_177 (dk_at dksX22_init_0 11 rfl rfl)
abbrev cX22_put : ByteArray := prog_4_method_4_code
def yX22_put : MethodName := ⟨RX22, "put", "(II)V"⟩
def dkwX22_put_0 : List UInt8 := [42, 180, 0, 7, 27, 28, 145, 84, 177]
abbrev dktX22_put_0 : List UInt8 := dkwX22_put_0 ++ []
theorem dksX22_put_0 : cX22_put.data.toList.drop 0 = dktX22_put_0 := by decide +kernel
theorem dX22_put_0 : decode cX22_put 0 = .ok (.aload_n 0, 1) := dk_42 (dk_at dksX22_put_0 0 rfl rfl)
theorem dX22_put_1 : decode cX22_put 1 = .ok (.getfield 7, 3) := dk_180 0 7 (dk_at dksX22_put_0 1 rfl rfl)
theorem dX22_put_4 : decode cX22_put 4 = .ok (.iload_n 1, 1) := dk_27 (dk_at dksX22_put_0 4 rfl rfl)
theorem dX22_put_5 : decode cX22_put 5 = .ok (.iload_n 2, 1) := dk_28 (dk_at dksX22_put_0 5 rfl rfl)
theorem dX22_put_6 : decode cX22_put 6 = .ok (.i2b, 1) := dk_145 (dk_at dksX22_put_0 6 rfl rfl)
theorem dX22_put_7 : decode cX22_put 7 = .ok (.bastore, 1) := dk_84 (dk_at dksX22_put_0 7 rfl rfl)
theorem dX22_put_8 : decode cX22_put 8 = .ok (.return_, 1) := dk_177 (dk_at dksX22_put_0 8 rfl rfl)
abbrev cX22_width : ByteArray := prog_4_method_5_code
def yX22_width : MethodName := ⟨RX22, "width", "()I"⟩
theorem dX22_width_0 : decode cX22_width 0 = .ok (.bipush 8, 2) := by decide +kernel
theorem dX22_width_2 : decode cX22_width 2 = .ok (.ireturn, 1) := by decide +kernel
theorem q115 : (Jvm.Cond.initialized "WellRefuses$Bytes") ∈ lw_all := lw_g (lw_at lw_m1 34 rfl) rfl
theorem q1012 : (Jvm.Cond.selects "WellRefuses$Bytes" ({ cls := "WellRefuses$Sheet", name := "size", desc := "()I" } : Jvm.MethodName) ({ cls := "WellRefuses$Bytes", name := "size", desc := "()I" } : Jvm.MethodName)) ∈ lw_all := lw_g (lw_at lw_m4 211 rfl) rfl
theorem q1013 : (Jvm.Cond.instanceMethod ({ cls := "WellRefuses$Bytes", name := "size", desc := "()I" } : Jvm.MethodName)) ∈ lw_all := lw_g (lw_at lw_m4 212 rfl) rfl
theorem q1014 : (Jvm.Cond.code ({ cls := "WellRefuses$Bytes", name := "size", desc := "()I" } : Jvm.MethodName) prog_4_method_2_code (1 : Nat) (Option.some Jvm.ClassFile.FieldType.int)) ∈ lw_all := lw_g (lw_at lw_m4 213 rfl) rfl
theorem q1024 : (Jvm.Cond.selects "WellRefuses$Bytes" ({ cls := "WellRefuses$Sheet", name := "get", desc := "(I)I" } : Jvm.MethodName) ({ cls := "WellRefuses$Bytes", name := "get", desc := "(I)I" } : Jvm.MethodName)) ∈ lw_all := lw_g (lw_at lw_m4 223 rfl) rfl
theorem q1025 : (Jvm.Cond.instanceMethod ({ cls := "WellRefuses$Bytes", name := "get", desc := "(I)I" } : Jvm.MethodName)) ∈ lw_all := lw_g (lw_at lw_m4 224 rfl) rfl
theorem q1026 : (Jvm.Cond.code ({ cls := "WellRefuses$Bytes", name := "get", desc := "(I)I" } : Jvm.MethodName) prog_4_method_3_code (2 : Nat) (Option.some Jvm.ClassFile.FieldType.int)) ∈ lw_all := lw_g (lw_at lw_m4 225 rfl) rfl
theorem q1311 : (Jvm.Cond.instantiable "WellRefuses$Bytes" (1 : Nat)) ∈ lw_all := lw_g (lw_at lw_m6 30 rfl) rfl
theorem q1313 : (Jvm.Cond.instanceMethod ({ cls := "WellRefuses$Bytes", name := "<init>", desc := "(I)V" } : Jvm.MethodName)) ∈ lw_all := lw_g (lw_at lw_m6 32 rfl) rfl
theorem q1314 : (Jvm.Cond.code ({ cls := "WellRefuses$Bytes", name := "<init>", desc := "(I)V" } : Jvm.MethodName) prog_4_method_1_code (2 : Nat) (Option.none : Option Jvm.ClassFile.FieldType)) ∈ lw_all := lw_g (lw_at lw_m6 33 rfl) rfl
theorem q1315 : (Jvm.Cond.methodLinkNest "WellRefuses$Bytes" (1 : Nat) ({ cls := "WellRefuses$Sheet", name := "<init>", desc := "()V" } : Jvm.MethodName) "WellRefuses") ∈ lw_tbl := lw_at lw_m6 34 rfl
theorem q1319 : (Jvm.Cond.fieldLink "WellRefuses$Bytes" (7 : Nat) "WellRefuses$Bytes" "row" "[B") ∈ lw_all := lw_g (lw_at lw_m6 38 rfl) rfl
theorem q1320 : (Jvm.Cond.laysFinal "WellRefuses$Bytes" "WellRefuses$Bytes" "row" "[B") ∈ lw_all := lw_g (lw_at lw_m6 39 rfl) rfl
theorem q1321 : (Jvm.Cond.soleField "WellRefuses$Bytes" "row") ∈ lw_all := lw_g (lw_at lw_m6 40 rfl) rfl
theorem q1322 : (Jvm.Cond.superclass "WellRefuses$Bytes" "WellRefuses$Sheet") ∈ lw_all := lw_g (lw_at lw_m6 41 rfl) rfl
theorem q1351 : (Jvm.Cond.selects "WellRefuses$Bytes" ({ cls := "WellRefuses$Sheet", name := "put", desc := "(II)V" } : Jvm.MethodName) ({ cls := "WellRefuses$Bytes", name := "put", desc := "(II)V" } : Jvm.MethodName)) ∈ lw_all := lw_g (lw_at lw_m6 70 rfl) rfl
theorem q1352 : (Jvm.Cond.instanceMethod ({ cls := "WellRefuses$Bytes", name := "put", desc := "(II)V" } : Jvm.MethodName)) ∈ lw_all := lw_g (lw_at lw_m6 71 rfl) rfl
theorem q1353 : (Jvm.Cond.code ({ cls := "WellRefuses$Bytes", name := "put", desc := "(II)V" } : Jvm.MethodName) prog_4_method_4_code (3 : Nat) (Option.none : Option Jvm.ClassFile.FieldType)) ∈ lw_all := lw_g (lw_at lw_m6 72 rfl) rfl
theorem q1367 : (Jvm.Cond.selects "WellRefuses$Bytes" ({ cls := "WellRefuses$Sheet", name := "width", desc := "()I" } : Jvm.MethodName) ({ cls := "WellRefuses$Bytes", name := "width", desc := "()I" } : Jvm.MethodName)) ∈ lw_all := lw_g (lw_at lw_m6 86 rfl) rfl
theorem q1368 : (Jvm.Cond.instanceMethod ({ cls := "WellRefuses$Bytes", name := "width", desc := "()I" } : Jvm.MethodName)) ∈ lw_all := lw_g (lw_at lw_m6 87 rfl) rfl
theorem q1369 : (Jvm.Cond.code ({ cls := "WellRefuses$Bytes", name := "width", desc := "()I" } : Jvm.MethodName) prog_4_method_5_code (1 : Nat) (Option.some Jvm.ClassFile.FieldType.int)) ∈ lw_all := lw_g (lw_at lw_m6 88 rfl) rfl
theorem q1379 : (Jvm.Cond.selects "WellRefuses$Bytes" ({ cls := "WellRefuses$Sheet", name := "row", desc := "()[I" } : Jvm.MethodName) ({ cls := "WellRefuses$Sheet", name := "row", desc := "()[I" } : Jvm.MethodName)) ∈ lw_all := lw_g (lw_at lw_m6 98 rfl) rfl
theorem q1906 : (Jvm.Cond.castable "WellRefuses$Bytes" "WellRefuses$Sheet") ∈ lw_tbl := lw_at lw_m8 145 rfl
abbrev cX23_size : ByteArray := prog_22_method_2_code
def yX23_size : MethodName := ⟨RX23, "size", "()I"⟩
def dkwX23_size_0 : List UInt8 := [42, 180, 0, 7, 190, 172]
abbrev dktX23_size_0 : List UInt8 := dkwX23_size_0 ++ []
theorem dksX23_size_0 : cX23_size.data.toList.drop 0 = dktX23_size_0 := by decide +kernel
theorem dX23_size_0 : decode cX23_size 0 = .ok (.aload_n 0, 1) := dk_42 (dk_at dksX23_size_0 0 rfl rfl)
theorem dX23_size_1 : decode cX23_size 1 = .ok (.getfield 7, 3) := dk_180 0 7 (dk_at dksX23_size_0 1 rfl rfl)
theorem dX23_size_4 : decode cX23_size 4 = .ok (.arraylength, 1) := dk_190 (dk_at dksX23_size_0 4 rfl rfl)
theorem dX23_size_5 : decode cX23_size 5 = .ok (.ireturn, 1) := dk_172 (dk_at dksX23_size_0 5 rfl rfl)
abbrev cX23_get : ByteArray := prog_22_method_3_code
def yX23_get : MethodName := ⟨RX23, "get", "(I)I"⟩
def dkwX23_get_0 : List UInt8 := [42, 180, 0, 7, 27, 53, 172]
abbrev dktX23_get_0 : List UInt8 := dkwX23_get_0 ++ []
theorem dksX23_get_0 : cX23_get.data.toList.drop 0 = dktX23_get_0 := by decide +kernel
theorem dX23_get_0 : decode cX23_get 0 = .ok (.aload_n 0, 1) := dk_42 (dk_at dksX23_get_0 0 rfl rfl)
theorem dX23_get_1 : decode cX23_get 1 = .ok (.getfield 7, 3) := dk_180 0 7 (dk_at dksX23_get_0 1 rfl rfl)
theorem dX23_get_4 : decode cX23_get 4 = .ok (.iload_n 1, 1) := dk_27 (dk_at dksX23_get_0 4 rfl rfl)
theorem dX23_get_5 : decode cX23_get 5 = .ok (.saload, 1) := dk_53 (dk_at dksX23_get_0 5 rfl rfl)
theorem dX23_get_6 : decode cX23_get 6 = .ok (.ireturn, 1) := dk_172 (dk_at dksX23_get_0 6 rfl rfl)
abbrev cX23_init : ByteArray := prog_22_method_1_code
def yX23_init : MethodName := ⟨RX23, "<init>", "(I)V"⟩
def dkwX23_init_0 : List UInt8 := [42, 183, 0, 1, 42, 27, 188, 9, 181, 0, 7, 177]
abbrev dktX23_init_0 : List UInt8 := dkwX23_init_0 ++ []
theorem dksX23_init_0 : cX23_init.data.toList.drop 0 = dktX23_init_0 := by decide +kernel
theorem dX23_init_0 : decode cX23_init 0 = .ok (.aload_n 0, 1) := dk_42 (dk_at dksX23_init_0 0 rfl rfl)
theorem dX23_init_1 : decode cX23_init 1 = .ok (.invokespecial 1, 3) := dk_183 0 1 (dk_at dksX23_init_0 1 rfl rfl)
theorem dX23_init_4 : decode cX23_init 4 = .ok (.aload_n 0, 1) := dk_42 (dk_at dksX23_init_0 4 rfl rfl)
theorem dX23_init_5 : decode cX23_init 5 = .ok (.iload_n 1, 1) := dk_27 (dk_at dksX23_init_0 5 rfl rfl)
theorem dX23_init_6 : decode cX23_init 6 = .ok (.newarray .short, 2) := dk_188_9 (dk_at dksX23_init_0 6 rfl rfl)
theorem dX23_init_8 : decode cX23_init 8 = .ok (.putfield 7, 3) := dk_181 0 7 (dk_at dksX23_init_0 8 rfl rfl)
theorem dX23_init_11 : decode cX23_init 11 = .ok (.return_, 1) := dk_177 (dk_at dksX23_init_0 11 rfl rfl)
abbrev cX23_put : ByteArray := prog_22_method_4_code
def yX23_put : MethodName := ⟨RX23, "put", "(II)V"⟩
def dkwX23_put_0 : List UInt8 := [42, 180, 0, 7, 27, 28, 147, 86, 177]
abbrev dktX23_put_0 : List UInt8 := dkwX23_put_0 ++ []
theorem dksX23_put_0 : cX23_put.data.toList.drop 0 = dktX23_put_0 := by decide +kernel
theorem dX23_put_0 : decode cX23_put 0 = .ok (.aload_n 0, 1) := dk_42 (dk_at dksX23_put_0 0 rfl rfl)
theorem dX23_put_1 : decode cX23_put 1 = .ok (.getfield 7, 3) := dk_180 0 7 (dk_at dksX23_put_0 1 rfl rfl)
theorem dX23_put_4 : decode cX23_put 4 = .ok (.iload_n 1, 1) := dk_27 (dk_at dksX23_put_0 4 rfl rfl)
theorem dX23_put_5 : decode cX23_put 5 = .ok (.iload_n 2, 1) := dk_28 (dk_at dksX23_put_0 5 rfl rfl)
theorem dX23_put_6 : decode cX23_put 6 = .ok (.i2s, 1) := dk_147 (dk_at dksX23_put_0 6 rfl rfl)
theorem dX23_put_7 : decode cX23_put 7 = .ok (.sastore, 1) := dk_86 (dk_at dksX23_put_0 7 rfl rfl)
theorem dX23_put_8 : decode cX23_put 8 = .ok (.return_, 1) := dk_177 (dk_at dksX23_put_0 8 rfl rfl)
abbrev cX23_width : ByteArray := prog_22_method_5_code
def yX23_width : MethodName := ⟨RX23, "width", "()I"⟩
theorem dX23_width_0 : decode cX23_width 0 = .ok (.bipush 16, 2) := by decide +kernel
theorem dX23_width_2 : decode cX23_width 2 = .ok (.ireturn, 1) := by decide +kernel
theorem q116 : (Jvm.Cond.initialized "WellRefuses$Shorts") ∈ lw_all := lw_g (lw_at lw_m1 35 rfl) rfl
theorem q1018 : (Jvm.Cond.selects "WellRefuses$Shorts" ({ cls := "WellRefuses$Sheet", name := "size", desc := "()I" } : Jvm.MethodName) ({ cls := "WellRefuses$Shorts", name := "size", desc := "()I" } : Jvm.MethodName)) ∈ lw_all := lw_g (lw_at lw_m4 217 rfl) rfl
theorem q1019 : (Jvm.Cond.instanceMethod ({ cls := "WellRefuses$Shorts", name := "size", desc := "()I" } : Jvm.MethodName)) ∈ lw_all := lw_g (lw_at lw_m4 218 rfl) rfl
theorem q1020 : (Jvm.Cond.code ({ cls := "WellRefuses$Shorts", name := "size", desc := "()I" } : Jvm.MethodName) prog_22_method_2_code (1 : Nat) (Option.some Jvm.ClassFile.FieldType.int)) ∈ lw_all := lw_g (lw_at lw_m4 219 rfl) rfl
theorem q1030 : (Jvm.Cond.selects "WellRefuses$Shorts" ({ cls := "WellRefuses$Sheet", name := "get", desc := "(I)I" } : Jvm.MethodName) ({ cls := "WellRefuses$Shorts", name := "get", desc := "(I)I" } : Jvm.MethodName)) ∈ lw_all := lw_g (lw_at lw_m4 229 rfl) rfl
theorem q1031 : (Jvm.Cond.instanceMethod ({ cls := "WellRefuses$Shorts", name := "get", desc := "(I)I" } : Jvm.MethodName)) ∈ lw_all := lw_g (lw_at lw_m4 230 rfl) rfl
theorem q1032 : (Jvm.Cond.code ({ cls := "WellRefuses$Shorts", name := "get", desc := "(I)I" } : Jvm.MethodName) prog_22_method_3_code (2 : Nat) (Option.some Jvm.ClassFile.FieldType.int)) ∈ lw_all := lw_g (lw_at lw_m4 231 rfl) rfl
theorem q1324 : (Jvm.Cond.instantiable "WellRefuses$Shorts" (1 : Nat)) ∈ lw_all := lw_g (lw_at lw_m6 43 rfl) rfl
theorem q1326 : (Jvm.Cond.instanceMethod ({ cls := "WellRefuses$Shorts", name := "<init>", desc := "(I)V" } : Jvm.MethodName)) ∈ lw_all := lw_g (lw_at lw_m6 45 rfl) rfl
theorem q1327 : (Jvm.Cond.code ({ cls := "WellRefuses$Shorts", name := "<init>", desc := "(I)V" } : Jvm.MethodName) prog_22_method_1_code (2 : Nat) (Option.none : Option Jvm.ClassFile.FieldType)) ∈ lw_all := lw_g (lw_at lw_m6 46 rfl) rfl
theorem q1328 : (Jvm.Cond.methodLinkNest "WellRefuses$Shorts" (1 : Nat) ({ cls := "WellRefuses$Sheet", name := "<init>", desc := "()V" } : Jvm.MethodName) "WellRefuses") ∈ lw_tbl := lw_at lw_m6 47 rfl
theorem q1329 : (Jvm.Cond.fieldLink "WellRefuses$Shorts" (7 : Nat) "WellRefuses$Shorts" "row" "[S") ∈ lw_all := lw_g (lw_at lw_m6 48 rfl) rfl
theorem q1330 : (Jvm.Cond.laysFinal "WellRefuses$Shorts" "WellRefuses$Shorts" "row" "[S") ∈ lw_all := lw_g (lw_at lw_m6 49 rfl) rfl
theorem q1331 : (Jvm.Cond.soleField "WellRefuses$Shorts" "row") ∈ lw_all := lw_g (lw_at lw_m6 50 rfl) rfl
theorem q1332 : (Jvm.Cond.superclass "WellRefuses$Shorts" "WellRefuses$Sheet") ∈ lw_all := lw_g (lw_at lw_m6 51 rfl) rfl
theorem q1357 : (Jvm.Cond.selects "WellRefuses$Shorts" ({ cls := "WellRefuses$Sheet", name := "put", desc := "(II)V" } : Jvm.MethodName) ({ cls := "WellRefuses$Shorts", name := "put", desc := "(II)V" } : Jvm.MethodName)) ∈ lw_all := lw_g (lw_at lw_m6 76 rfl) rfl
theorem q1358 : (Jvm.Cond.instanceMethod ({ cls := "WellRefuses$Shorts", name := "put", desc := "(II)V" } : Jvm.MethodName)) ∈ lw_all := lw_g (lw_at lw_m6 77 rfl) rfl
theorem q1359 : (Jvm.Cond.code ({ cls := "WellRefuses$Shorts", name := "put", desc := "(II)V" } : Jvm.MethodName) prog_22_method_4_code (3 : Nat) (Option.none : Option Jvm.ClassFile.FieldType)) ∈ lw_all := lw_g (lw_at lw_m6 78 rfl) rfl
theorem q1373 : (Jvm.Cond.selects "WellRefuses$Shorts" ({ cls := "WellRefuses$Sheet", name := "width", desc := "()I" } : Jvm.MethodName) ({ cls := "WellRefuses$Shorts", name := "width", desc := "()I" } : Jvm.MethodName)) ∈ lw_all := lw_g (lw_at lw_m6 92 rfl) rfl
theorem q1374 : (Jvm.Cond.instanceMethod ({ cls := "WellRefuses$Shorts", name := "width", desc := "()I" } : Jvm.MethodName)) ∈ lw_all := lw_g (lw_at lw_m6 93 rfl) rfl
theorem q1375 : (Jvm.Cond.code ({ cls := "WellRefuses$Shorts", name := "width", desc := "()I" } : Jvm.MethodName) prog_22_method_5_code (1 : Nat) (Option.some Jvm.ClassFile.FieldType.int)) ∈ lw_all := lw_g (lw_at lw_m6 94 rfl) rfl
theorem q1381 : (Jvm.Cond.selects "WellRefuses$Shorts" ({ cls := "WellRefuses$Sheet", name := "row", desc := "()[I" } : Jvm.MethodName) ({ cls := "WellRefuses$Sheet", name := "row", desc := "()[I" } : Jvm.MethodName)) ∈ lw_all := lw_g (lw_at lw_m6 100 rfl) rfl
theorem q1908 : (Jvm.Cond.castable "WellRefuses$Shorts" "WellRefuses$Sheet") ∈ lw_tbl := lw_at lw_m8 147 rfl
abbrev cX24_size : ByteArray := prog_11_method_2_code
def yX24_size : MethodName := ⟨RX24, "size", "()I"⟩
def dkwX24_size_0 : List UInt8 := [42, 180, 0, 7, 190, 172]
abbrev dktX24_size_0 : List UInt8 := dkwX24_size_0 ++ []
theorem dksX24_size_0 : cX24_size.data.toList.drop 0 = dktX24_size_0 := by decide +kernel
theorem dX24_size_0 : decode cX24_size 0 = .ok (.aload_n 0, 1) := dk_42 (dk_at dksX24_size_0 0 rfl rfl)
theorem dX24_size_1 : decode cX24_size 1 = .ok (.getfield 7, 3) := dk_180 0 7 (dk_at dksX24_size_0 1 rfl rfl)
theorem dX24_size_4 : decode cX24_size 4 = .ok (.arraylength, 1) := dk_190 (dk_at dksX24_size_0 4 rfl rfl)
theorem dX24_size_5 : decode cX24_size 5 = .ok (.ireturn, 1) := dk_172 (dk_at dksX24_size_0 5 rfl rfl)
abbrev cX24_get : ByteArray := prog_11_method_3_code
def yX24_get : MethodName := ⟨RX24, "get", "(I)I"⟩
def dkwX24_get_0 : List UInt8 := [42, 180, 0, 7, 27, 46, 172]
abbrev dktX24_get_0 : List UInt8 := dkwX24_get_0 ++ []
theorem dksX24_get_0 : cX24_get.data.toList.drop 0 = dktX24_get_0 := by decide +kernel
theorem dX24_get_0 : decode cX24_get 0 = .ok (.aload_n 0, 1) := dk_42 (dk_at dksX24_get_0 0 rfl rfl)
theorem dX24_get_1 : decode cX24_get 1 = .ok (.getfield 7, 3) := dk_180 0 7 (dk_at dksX24_get_0 1 rfl rfl)
theorem dX24_get_4 : decode cX24_get 4 = .ok (.iload_n 1, 1) := dk_27 (dk_at dksX24_get_0 4 rfl rfl)
theorem dX24_get_5 : decode cX24_get 5 = .ok (.iaload, 1) := dk_46 (dk_at dksX24_get_0 5 rfl rfl)
theorem dX24_get_6 : decode cX24_get 6 = .ok (.ireturn, 1) := dk_172 (dk_at dksX24_get_0 6 rfl rfl)
abbrev cX24_init : ByteArray := prog_11_method_1_code
def yX24_init : MethodName := ⟨RX24, "<init>", "(I)V"⟩
def dkwX24_init_0 : List UInt8 := [42, 183, 0, 1, 42, 27, 188, 10, 181, 0, 7, 177]
abbrev dktX24_init_0 : List UInt8 := dkwX24_init_0 ++ []
theorem dksX24_init_0 : cX24_init.data.toList.drop 0 = dktX24_init_0 := by decide +kernel
theorem dX24_init_0 : decode cX24_init 0 = .ok (.aload_n 0, 1) := dk_42 (dk_at dksX24_init_0 0 rfl rfl)
theorem dX24_init_1 : decode cX24_init 1 = .ok (.invokespecial 1, 3) := dk_183 0 1 (dk_at dksX24_init_0 1 rfl rfl)
theorem dX24_init_4 : decode cX24_init 4 = .ok (.aload_n 0, 1) := dk_42 (dk_at dksX24_init_0 4 rfl rfl)
theorem dX24_init_5 : decode cX24_init 5 = .ok (.iload_n 1, 1) := dk_27 (dk_at dksX24_init_0 5 rfl rfl)
theorem dX24_init_6 : decode cX24_init 6 = .ok (.newarray .int, 2) := dk_188_10 (dk_at dksX24_init_0 6 rfl rfl)
theorem dX24_init_8 : decode cX24_init 8 = .ok (.putfield 7, 3) := dk_181 0 7 (dk_at dksX24_init_0 8 rfl rfl)
theorem dX24_init_11 : decode cX24_init 11 = .ok (.return_, 1) := dk_177 (dk_at dksX24_init_0 11 rfl rfl)
abbrev cX24_put : ByteArray := prog_11_method_4_code
def yX24_put : MethodName := ⟨RX24, "put", "(II)V"⟩
def dkwX24_put_0 : List UInt8 := [42, 180, 0, 7, 27, 28, 79, 177]
abbrev dktX24_put_0 : List UInt8 := dkwX24_put_0 ++ []
theorem dksX24_put_0 : cX24_put.data.toList.drop 0 = dktX24_put_0 := by decide +kernel
theorem dX24_put_0 : decode cX24_put 0 = .ok (.aload_n 0, 1) := dk_42 (dk_at dksX24_put_0 0 rfl rfl)
theorem dX24_put_1 : decode cX24_put 1 = .ok (.getfield 7, 3) := dk_180 0 7 (dk_at dksX24_put_0 1 rfl rfl)
theorem dX24_put_4 : decode cX24_put 4 = .ok (.iload_n 1, 1) := dk_27 (dk_at dksX24_put_0 4 rfl rfl)
theorem dX24_put_5 : decode cX24_put 5 = .ok (.iload_n 2, 1) := dk_28 (dk_at dksX24_put_0 5 rfl rfl)
theorem dX24_put_6 : decode cX24_put 6 = .ok (.iastore, 1) := dk_79 (dk_at dksX24_put_0 6 rfl rfl)
theorem dX24_put_7 : decode cX24_put 7 = .ok (.return_, 1) := dk_177 (dk_at dksX24_put_0 7 rfl rfl)
abbrev cX24_width : ByteArray := prog_11_method_5_code
def yX24_width : MethodName := ⟨RX24, "width", "()I"⟩
theorem dX24_width_0 : decode cX24_width 0 = .ok (.bipush 32, 2) := by decide +kernel
theorem dX24_width_2 : decode cX24_width 2 = .ok (.ireturn, 1) := by decide +kernel
theorem q117 : (Jvm.Cond.initialized "WellRefuses$Ints") ∈ lw_all := lw_g (lw_at lw_m1 36 rfl) rfl
theorem q1015 : (Jvm.Cond.selects "WellRefuses$Ints" ({ cls := "WellRefuses$Sheet", name := "size", desc := "()I" } : Jvm.MethodName) ({ cls := "WellRefuses$Ints", name := "size", desc := "()I" } : Jvm.MethodName)) ∈ lw_all := lw_g (lw_at lw_m4 214 rfl) rfl
theorem q1016 : (Jvm.Cond.instanceMethod ({ cls := "WellRefuses$Ints", name := "size", desc := "()I" } : Jvm.MethodName)) ∈ lw_all := lw_g (lw_at lw_m4 215 rfl) rfl
theorem q1017 : (Jvm.Cond.code ({ cls := "WellRefuses$Ints", name := "size", desc := "()I" } : Jvm.MethodName) prog_11_method_2_code (1 : Nat) (Option.some Jvm.ClassFile.FieldType.int)) ∈ lw_all := lw_g (lw_at lw_m4 216 rfl) rfl
theorem q1027 : (Jvm.Cond.selects "WellRefuses$Ints" ({ cls := "WellRefuses$Sheet", name := "get", desc := "(I)I" } : Jvm.MethodName) ({ cls := "WellRefuses$Ints", name := "get", desc := "(I)I" } : Jvm.MethodName)) ∈ lw_all := lw_g (lw_at lw_m4 226 rfl) rfl
theorem q1028 : (Jvm.Cond.instanceMethod ({ cls := "WellRefuses$Ints", name := "get", desc := "(I)I" } : Jvm.MethodName)) ∈ lw_all := lw_g (lw_at lw_m4 227 rfl) rfl
theorem q1029 : (Jvm.Cond.code ({ cls := "WellRefuses$Ints", name := "get", desc := "(I)I" } : Jvm.MethodName) prog_11_method_3_code (2 : Nat) (Option.some Jvm.ClassFile.FieldType.int)) ∈ lw_all := lw_g (lw_at lw_m4 228 rfl) rfl
theorem q1335 : (Jvm.Cond.instantiable "WellRefuses$Ints" (1 : Nat)) ∈ lw_all := lw_g (lw_at lw_m6 54 rfl) rfl
theorem q1337 : (Jvm.Cond.instanceMethod ({ cls := "WellRefuses$Ints", name := "<init>", desc := "(I)V" } : Jvm.MethodName)) ∈ lw_all := lw_g (lw_at lw_m6 56 rfl) rfl
theorem q1338 : (Jvm.Cond.code ({ cls := "WellRefuses$Ints", name := "<init>", desc := "(I)V" } : Jvm.MethodName) prog_11_method_1_code (2 : Nat) (Option.none : Option Jvm.ClassFile.FieldType)) ∈ lw_all := lw_g (lw_at lw_m6 57 rfl) rfl
theorem q1339 : (Jvm.Cond.methodLinkNest "WellRefuses$Ints" (1 : Nat) ({ cls := "WellRefuses$Sheet", name := "<init>", desc := "()V" } : Jvm.MethodName) "WellRefuses") ∈ lw_tbl := lw_at lw_m6 58 rfl
theorem q1340 : (Jvm.Cond.fieldLink "WellRefuses$Ints" (7 : Nat) "WellRefuses$Ints" "row" "[I") ∈ lw_all := lw_g (lw_at lw_m6 59 rfl) rfl
theorem q1341 : (Jvm.Cond.laysFinal "WellRefuses$Ints" "WellRefuses$Ints" "row" "[I") ∈ lw_all := lw_g (lw_at lw_m6 60 rfl) rfl
theorem q1342 : (Jvm.Cond.soleField "WellRefuses$Ints" "row") ∈ lw_all := lw_g (lw_at lw_m6 61 rfl) rfl
theorem q1343 : (Jvm.Cond.superclass "WellRefuses$Ints" "WellRefuses$Sheet") ∈ lw_all := lw_g (lw_at lw_m6 62 rfl) rfl
theorem q1354 : (Jvm.Cond.selects "WellRefuses$Ints" ({ cls := "WellRefuses$Sheet", name := "put", desc := "(II)V" } : Jvm.MethodName) ({ cls := "WellRefuses$Ints", name := "put", desc := "(II)V" } : Jvm.MethodName)) ∈ lw_all := lw_g (lw_at lw_m6 73 rfl) rfl
theorem q1355 : (Jvm.Cond.instanceMethod ({ cls := "WellRefuses$Ints", name := "put", desc := "(II)V" } : Jvm.MethodName)) ∈ lw_all := lw_g (lw_at lw_m6 74 rfl) rfl
theorem q1356 : (Jvm.Cond.code ({ cls := "WellRefuses$Ints", name := "put", desc := "(II)V" } : Jvm.MethodName) prog_11_method_4_code (3 : Nat) (Option.none : Option Jvm.ClassFile.FieldType)) ∈ lw_all := lw_g (lw_at lw_m6 75 rfl) rfl
theorem q1370 : (Jvm.Cond.selects "WellRefuses$Ints" ({ cls := "WellRefuses$Sheet", name := "width", desc := "()I" } : Jvm.MethodName) ({ cls := "WellRefuses$Ints", name := "width", desc := "()I" } : Jvm.MethodName)) ∈ lw_all := lw_g (lw_at lw_m6 89 rfl) rfl
theorem q1371 : (Jvm.Cond.instanceMethod ({ cls := "WellRefuses$Ints", name := "width", desc := "()I" } : Jvm.MethodName)) ∈ lw_all := lw_g (lw_at lw_m6 90 rfl) rfl
theorem q1372 : (Jvm.Cond.code ({ cls := "WellRefuses$Ints", name := "width", desc := "()I" } : Jvm.MethodName) prog_11_method_5_code (1 : Nat) (Option.some Jvm.ClassFile.FieldType.int)) ∈ lw_all := lw_g (lw_at lw_m6 91 rfl) rfl
theorem q1380 : (Jvm.Cond.selects "WellRefuses$Ints" ({ cls := "WellRefuses$Sheet", name := "row", desc := "()[I" } : Jvm.MethodName) ({ cls := "WellRefuses$Sheet", name := "row", desc := "()[I" } : Jvm.MethodName)) ∈ lw_all := lw_g (lw_at lw_m6 99 rfl) rfl
theorem q1907 : (Jvm.Cond.castable "WellRefuses$Ints" "WellRefuses$Sheet") ∈ lw_tbl := lw_at lw_m8 146 rfl

