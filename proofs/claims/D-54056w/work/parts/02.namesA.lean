/-! DECODE ROWS BY BYTES: one lemma an opcode; a method's code is cut into short pieces once, and a row reads its own piece alone. -/
set_option maxRecDepth 100000
/-- the code has just these bytes from pc on -/
def DkAt (code : ByteArray) (pc : Nat) (bs : List UInt8) : Prop := ∀ (j : Nat) (b : UInt8), bs[j]? = some b → code.data.toList[pc + j]? = some b
/-- the piece W has the bytes bs from its place j on -/
def dkIn (W : List UInt8) (j : Nat) (bs : List UInt8) : Bool := decide ((W.drop j).take bs.length = bs)
theorem dk_seg {l W T : List UInt8} {o o2 : Nat} (h : l.drop o = W ++ T) (n : Nat) (hn : W.length = n) (ho : o + n = o2) : l.drop o2 = T := by
  subst ho
  rw [← List.drop_drop, h, List.drop_left' hn]
theorem dk_at {code : ByteArray} {W T bs : List UInt8} {o pc : Nat} (h : code.data.toList.drop o = W ++ T) (j : Nat) (hp : o + j = pc) (hw : dkIn W j bs = true) : DkAt code pc bs := by
  subst hp
  intro i b e
  have h1 := of_decide_eq_true hw
  have h2 : i < bs.length := (List.getElem?_eq_some_iff.mp e).1
  have h3 : W[j + i]? = some b := by
    rw [← h1, List.getElem?_take, if_pos h2, List.getElem?_drop] at e
    exact e
  have h4 : j + i < W.length := (List.getElem?_eq_some_iff.mp h3).1
  have h5 : (code.data.toList.drop o)[j + i]? = some b := by
    rw [h, List.getElem?_append_left h4]
    exact h3
  rw [List.getElem?_drop, ← Nat.add_assoc] at h5
  exact h5
theorem dk_u1 {A : ByteArray} {p : Nat} {b : UInt8} (h : A.data.toList[p]? = some b) : (Reader.u1 : Reader DecodeError Nat) A p = .ok (b.toNat, p + 1) := by
  obtain ⟨h1, h2⟩ := List.getElem?_eq_some_iff.mp h
  have h3 : p < A.size := by simpa using h1
  have h4 : A[p]'h3 = b := h2
  have e : (Reader.u1 : Reader DecodeError Nat) A p = (if h : p < A.size then .ok (A[p].toNat, p + 1) else .error (HasTruncated.truncated p)) := by
    show (do if h : p < A.size then do set (p + 1); Pure.pure A[p].toNat else MonadExcept.throw (HasTruncated.truncated p) : Reader DecodeError Nat) A p = _
    by_cases hi : p < A.size
    · rw [dif_pos hi, dif_pos hi]; rfl
    · rw [dif_neg hi, dif_neg hi]; rfl
  rw [e, dif_pos h3, h4]
theorem dk_bind {α β : Type} {r : Reader DecodeError α} {f : α → Reader DecodeError β} {A : ByteArray} {p s : Nat} {a : α} (h : r A p = .ok (a, s)) : (r >>= f) A p = f a A s := by
  show (do let (a, s) ← r A p; f a A s : Except DecodeError (β × Nat)) = _
  rw [h]
  rfl
theorem dk_map {α β : Type} {r : Reader DecodeError α} {g : α → β} {A : ByteArray} {p s : Nat} {a : α} (h : r A p = .ok (a, s)) : (g <$> r) A p = .ok (g a, s) := by
  show (do let (a, s) ← r A p; .ok (g a, s) : Except DecodeError (β × Nat)) = _
  rw [h]
  rfl
theorem dk_u2 {A : ByteArray} {p : Nat} {a b : UInt8} (h : A.data.toList[p]? = some a) (h2 : A.data.toList[p + 1]? = some b) : (Reader.u2 : Reader DecodeError Nat) A p = .ok (a.toNat * 256 + b.toNat, p + 2) := by
  show (Reader.u1 >>= fun hi => Reader.u1 >>= fun lo => Pure.pure (hi * 256 + lo) : Reader DecodeError Nat) A p = _
  rw [dk_bind (dk_u1 h), dk_bind (dk_u1 h2)]
  rfl
theorem dk_of {code : ByteArray} {pc n : Nat} {i : Instr} (h : Decoder.instr pc code pc = .ok (i, pc + n)) : decode code pc = .ok (i, n) := by
  have e : decode code pc = (match Decoder.instr pc code pc with | .error x => .error x | .ok (j, s) => .ok (j, s - pc)) := by
    show (do let (j, s) ← Decoder.instr pc code pc; Pure.pure (j, s - pc) : Except DecodeError (Instr × Nat)) = _
    cases Decoder.instr pc code pc <;> rfl
  rw [e, h]
  show Except.ok (i, pc + n - pc) = _
  rw [Nat.add_sub_cancel_left]
theorem dk_1 {code : ByteArray} {pc : Nat} (h : DkAt code pc [1]) : decode code pc = .ok (.aconst_null, 1) := dk_of ((dk_bind (dk_u1 (h 0 _ rfl))).trans rfl)
theorem dk_2 {code : ByteArray} {pc : Nat} (h : DkAt code pc [2]) : decode code pc = .ok (.iconst (-1), 1) := dk_of ((dk_bind (dk_u1 (h 0 _ rfl))).trans rfl)
theorem dk_3 {code : ByteArray} {pc : Nat} (h : DkAt code pc [3]) : decode code pc = .ok (.iconst 0, 1) := dk_of ((dk_bind (dk_u1 (h 0 _ rfl))).trans rfl)
theorem dk_4 {code : ByteArray} {pc : Nat} (h : DkAt code pc [4]) : decode code pc = .ok (.iconst 1, 1) := dk_of ((dk_bind (dk_u1 (h 0 _ rfl))).trans rfl)
theorem dk_5 {code : ByteArray} {pc : Nat} (h : DkAt code pc [5]) : decode code pc = .ok (.iconst 2, 1) := dk_of ((dk_bind (dk_u1 (h 0 _ rfl))).trans rfl)
theorem dk_6 {code : ByteArray} {pc : Nat} (h : DkAt code pc [6]) : decode code pc = .ok (.iconst 3, 1) := dk_of ((dk_bind (dk_u1 (h 0 _ rfl))).trans rfl)
theorem dk_7 {code : ByteArray} {pc : Nat} (h : DkAt code pc [7]) : decode code pc = .ok (.iconst 4, 1) := dk_of ((dk_bind (dk_u1 (h 0 _ rfl))).trans rfl)
theorem dk_8 {code : ByteArray} {pc : Nat} (h : DkAt code pc [8]) : decode code pc = .ok (.iconst 5, 1) := dk_of ((dk_bind (dk_u1 (h 0 _ rfl))).trans rfl)
theorem dk_9 {code : ByteArray} {pc : Nat} (h : DkAt code pc [9]) : decode code pc = .ok (.lconst 0, 1) := dk_of ((dk_bind (dk_u1 (h 0 _ rfl))).trans rfl)
theorem dk_10 {code : ByteArray} {pc : Nat} (h : DkAt code pc [10]) : decode code pc = .ok (.lconst 1, 1) := dk_of ((dk_bind (dk_u1 (h 0 _ rfl))).trans rfl)
theorem dk_16 {code : ByteArray} {pc : Nat} (a : UInt8) (h : DkAt code pc [16, a]) : decode code pc = .ok (.bipush (Reader.signed 8 a.toNat), 2) := dk_of ((dk_bind (dk_u1 (h 0 _ rfl))).trans ((dk_bind (dk_map (dk_u1 (h 1 _ rfl)))).trans rfl))
theorem dk_17 {code : ByteArray} {pc : Nat} (a b : UInt8) (h : DkAt code pc [17, a, b]) : decode code pc = .ok (.sipush (Reader.signed 16 (a.toNat * 256 + b.toNat)), 3) := dk_of ((dk_bind (dk_u1 (h 0 _ rfl))).trans ((dk_bind (dk_map (dk_u2 (h 1 _ rfl) (h 2 _ rfl)))).trans rfl))
theorem dk_18 {code : ByteArray} {pc : Nat} (a : UInt8) (h : DkAt code pc [18, a]) : decode code pc = .ok (.ldc a.toNat, 2) := dk_of ((dk_bind (dk_u1 (h 0 _ rfl))).trans ((dk_bind (dk_u1 (h 1 _ rfl))).trans rfl))
theorem dk_19 {code : ByteArray} {pc : Nat} (a b : UInt8) (h : DkAt code pc [19, a, b]) : decode code pc = .ok (.ldc_w (a.toNat * 256 + b.toNat), 3) := dk_of ((dk_bind (dk_u1 (h 0 _ rfl))).trans ((dk_bind (dk_u2 (h 1 _ rfl) (h 2 _ rfl))).trans rfl))
theorem dk_20 {code : ByteArray} {pc : Nat} (a b : UInt8) (h : DkAt code pc [20, a, b]) : decode code pc = .ok (.ldc2_w (a.toNat * 256 + b.toNat), 3) := dk_of ((dk_bind (dk_u1 (h 0 _ rfl))).trans ((dk_bind (dk_u2 (h 1 _ rfl) (h 2 _ rfl))).trans rfl))
theorem dk_21 {code : ByteArray} {pc : Nat} (a : UInt8) (h : DkAt code pc [21, a]) : decode code pc = .ok (.iload a.toNat, 2) := dk_of ((dk_bind (dk_u1 (h 0 _ rfl))).trans ((dk_bind (dk_u1 (h 1 _ rfl))).trans rfl))
theorem dk_22 {code : ByteArray} {pc : Nat} (a : UInt8) (h : DkAt code pc [22, a]) : decode code pc = .ok (.lload a.toNat, 2) := dk_of ((dk_bind (dk_u1 (h 0 _ rfl))).trans ((dk_bind (dk_u1 (h 1 _ rfl))).trans rfl))
theorem dk_25 {code : ByteArray} {pc : Nat} (a : UInt8) (h : DkAt code pc [25, a]) : decode code pc = .ok (.aload a.toNat, 2) := dk_of ((dk_bind (dk_u1 (h 0 _ rfl))).trans ((dk_bind (dk_u1 (h 1 _ rfl))).trans rfl))
theorem dk_26 {code : ByteArray} {pc : Nat} (h : DkAt code pc [26]) : decode code pc = .ok (.iload_n 0, 1) := dk_of ((dk_bind (dk_u1 (h 0 _ rfl))).trans rfl)
theorem dk_27 {code : ByteArray} {pc : Nat} (h : DkAt code pc [27]) : decode code pc = .ok (.iload_n 1, 1) := dk_of ((dk_bind (dk_u1 (h 0 _ rfl))).trans rfl)
theorem dk_28 {code : ByteArray} {pc : Nat} (h : DkAt code pc [28]) : decode code pc = .ok (.iload_n 2, 1) := dk_of ((dk_bind (dk_u1 (h 0 _ rfl))).trans rfl)
theorem dk_29 {code : ByteArray} {pc : Nat} (h : DkAt code pc [29]) : decode code pc = .ok (.iload_n 3, 1) := dk_of ((dk_bind (dk_u1 (h 0 _ rfl))).trans rfl)
theorem dk_30 {code : ByteArray} {pc : Nat} (h : DkAt code pc [30]) : decode code pc = .ok (.lload_n 0, 1) := dk_of ((dk_bind (dk_u1 (h 0 _ rfl))).trans rfl)
theorem dk_32 {code : ByteArray} {pc : Nat} (h : DkAt code pc [32]) : decode code pc = .ok (.lload_n 2, 1) := dk_of ((dk_bind (dk_u1 (h 0 _ rfl))).trans rfl)
theorem dk_33 {code : ByteArray} {pc : Nat} (h : DkAt code pc [33]) : decode code pc = .ok (.lload_n 3, 1) := dk_of ((dk_bind (dk_u1 (h 0 _ rfl))).trans rfl)
theorem dk_42 {code : ByteArray} {pc : Nat} (h : DkAt code pc [42]) : decode code pc = .ok (.aload_n 0, 1) := dk_of ((dk_bind (dk_u1 (h 0 _ rfl))).trans rfl)
theorem dk_43 {code : ByteArray} {pc : Nat} (h : DkAt code pc [43]) : decode code pc = .ok (.aload_n 1, 1) := dk_of ((dk_bind (dk_u1 (h 0 _ rfl))).trans rfl)
theorem dk_44 {code : ByteArray} {pc : Nat} (h : DkAt code pc [44]) : decode code pc = .ok (.aload_n 2, 1) := dk_of ((dk_bind (dk_u1 (h 0 _ rfl))).trans rfl)
theorem dk_45 {code : ByteArray} {pc : Nat} (h : DkAt code pc [45]) : decode code pc = .ok (.aload_n 3, 1) := dk_of ((dk_bind (dk_u1 (h 0 _ rfl))).trans rfl)
theorem dk_46 {code : ByteArray} {pc : Nat} (h : DkAt code pc [46]) : decode code pc = .ok (.iaload, 1) := dk_of ((dk_bind (dk_u1 (h 0 _ rfl))).trans rfl)
theorem dk_47 {code : ByteArray} {pc : Nat} (h : DkAt code pc [47]) : decode code pc = .ok (.laload, 1) := dk_of ((dk_bind (dk_u1 (h 0 _ rfl))).trans rfl)
theorem dk_50 {code : ByteArray} {pc : Nat} (h : DkAt code pc [50]) : decode code pc = .ok (.aaload, 1) := dk_of ((dk_bind (dk_u1 (h 0 _ rfl))).trans rfl)
theorem dk_51 {code : ByteArray} {pc : Nat} (h : DkAt code pc [51]) : decode code pc = .ok (.baload, 1) := dk_of ((dk_bind (dk_u1 (h 0 _ rfl))).trans rfl)
theorem dk_54 {code : ByteArray} {pc : Nat} (a : UInt8) (h : DkAt code pc [54, a]) : decode code pc = .ok (.istore a.toNat, 2) := dk_of ((dk_bind (dk_u1 (h 0 _ rfl))).trans ((dk_bind (dk_u1 (h 1 _ rfl))).trans rfl))
theorem dk_55 {code : ByteArray} {pc : Nat} (a : UInt8) (h : DkAt code pc [55, a]) : decode code pc = .ok (.lstore a.toNat, 2) := dk_of ((dk_bind (dk_u1 (h 0 _ rfl))).trans ((dk_bind (dk_u1 (h 1 _ rfl))).trans rfl))
theorem dk_58 {code : ByteArray} {pc : Nat} (a : UInt8) (h : DkAt code pc [58, a]) : decode code pc = .ok (.astore a.toNat, 2) := dk_of ((dk_bind (dk_u1 (h 0 _ rfl))).trans ((dk_bind (dk_u1 (h 1 _ rfl))).trans rfl))
theorem dk_59 {code : ByteArray} {pc : Nat} (h : DkAt code pc [59]) : decode code pc = .ok (.istore_n 0, 1) := dk_of ((dk_bind (dk_u1 (h 0 _ rfl))).trans rfl)
theorem dk_60 {code : ByteArray} {pc : Nat} (h : DkAt code pc [60]) : decode code pc = .ok (.istore_n 1, 1) := dk_of ((dk_bind (dk_u1 (h 0 _ rfl))).trans rfl)
theorem dk_61 {code : ByteArray} {pc : Nat} (h : DkAt code pc [61]) : decode code pc = .ok (.istore_n 2, 1) := dk_of ((dk_bind (dk_u1 (h 0 _ rfl))).trans rfl)
theorem dk_62 {code : ByteArray} {pc : Nat} (h : DkAt code pc [62]) : decode code pc = .ok (.istore_n 3, 1) := dk_of ((dk_bind (dk_u1 (h 0 _ rfl))).trans rfl)
theorem dk_63 {code : ByteArray} {pc : Nat} (h : DkAt code pc [63]) : decode code pc = .ok (.lstore_n 0, 1) := dk_of ((dk_bind (dk_u1 (h 0 _ rfl))).trans rfl)
theorem dk_66 {code : ByteArray} {pc : Nat} (h : DkAt code pc [66]) : decode code pc = .ok (.lstore_n 3, 1) := dk_of ((dk_bind (dk_u1 (h 0 _ rfl))).trans rfl)
theorem dk_76 {code : ByteArray} {pc : Nat} (h : DkAt code pc [76]) : decode code pc = .ok (.astore_n 1, 1) := dk_of ((dk_bind (dk_u1 (h 0 _ rfl))).trans rfl)
theorem dk_77 {code : ByteArray} {pc : Nat} (h : DkAt code pc [77]) : decode code pc = .ok (.astore_n 2, 1) := dk_of ((dk_bind (dk_u1 (h 0 _ rfl))).trans rfl)
theorem dk_78 {code : ByteArray} {pc : Nat} (h : DkAt code pc [78]) : decode code pc = .ok (.astore_n 3, 1) := dk_of ((dk_bind (dk_u1 (h 0 _ rfl))).trans rfl)
theorem dk_79 {code : ByteArray} {pc : Nat} (h : DkAt code pc [79]) : decode code pc = .ok (.iastore, 1) := dk_of ((dk_bind (dk_u1 (h 0 _ rfl))).trans rfl)
theorem dk_80 {code : ByteArray} {pc : Nat} (h : DkAt code pc [80]) : decode code pc = .ok (.lastore, 1) := dk_of ((dk_bind (dk_u1 (h 0 _ rfl))).trans rfl)
theorem dk_83 {code : ByteArray} {pc : Nat} (h : DkAt code pc [83]) : decode code pc = .ok (.aastore, 1) := dk_of ((dk_bind (dk_u1 (h 0 _ rfl))).trans rfl)
theorem dk_84 {code : ByteArray} {pc : Nat} (h : DkAt code pc [84]) : decode code pc = .ok (.bastore, 1) := dk_of ((dk_bind (dk_u1 (h 0 _ rfl))).trans rfl)
theorem dk_87 {code : ByteArray} {pc : Nat} (h : DkAt code pc [87]) : decode code pc = .ok (.pop, 1) := dk_of ((dk_bind (dk_u1 (h 0 _ rfl))).trans rfl)
theorem dk_89 {code : ByteArray} {pc : Nat} (h : DkAt code pc [89]) : decode code pc = .ok (.dup, 1) := dk_of ((dk_bind (dk_u1 (h 0 _ rfl))).trans rfl)
theorem dk_90 {code : ByteArray} {pc : Nat} (h : DkAt code pc [90]) : decode code pc = .ok (.dup_x1, 1) := dk_of ((dk_bind (dk_u1 (h 0 _ rfl))).trans rfl)
theorem dk_92 {code : ByteArray} {pc : Nat} (h : DkAt code pc [92]) : decode code pc = .ok (.dup2, 1) := dk_of ((dk_bind (dk_u1 (h 0 _ rfl))).trans rfl)
theorem dk_96 {code : ByteArray} {pc : Nat} (h : DkAt code pc [96]) : decode code pc = .ok (.iadd, 1) := dk_of ((dk_bind (dk_u1 (h 0 _ rfl))).trans rfl)
theorem dk_97 {code : ByteArray} {pc : Nat} (h : DkAt code pc [97]) : decode code pc = .ok (.ladd, 1) := dk_of ((dk_bind (dk_u1 (h 0 _ rfl))).trans rfl)
theorem dk_100 {code : ByteArray} {pc : Nat} (h : DkAt code pc [100]) : decode code pc = .ok (.isub, 1) := dk_of ((dk_bind (dk_u1 (h 0 _ rfl))).trans rfl)
theorem dk_101 {code : ByteArray} {pc : Nat} (h : DkAt code pc [101]) : decode code pc = .ok (.lsub, 1) := dk_of ((dk_bind (dk_u1 (h 0 _ rfl))).trans rfl)
theorem dk_104 {code : ByteArray} {pc : Nat} (h : DkAt code pc [104]) : decode code pc = .ok (.imul, 1) := dk_of ((dk_bind (dk_u1 (h 0 _ rfl))).trans rfl)
theorem dk_116 {code : ByteArray} {pc : Nat} (h : DkAt code pc [116]) : decode code pc = .ok (.ineg, 1) := dk_of ((dk_bind (dk_u1 (h 0 _ rfl))).trans rfl)
theorem dk_120 {code : ByteArray} {pc : Nat} (h : DkAt code pc [120]) : decode code pc = .ok (.ishl, 1) := dk_of ((dk_bind (dk_u1 (h 0 _ rfl))).trans rfl)
theorem dk_121 {code : ByteArray} {pc : Nat} (h : DkAt code pc [121]) : decode code pc = .ok (.lshl, 1) := dk_of ((dk_bind (dk_u1 (h 0 _ rfl))).trans rfl)
theorem dk_122 {code : ByteArray} {pc : Nat} (h : DkAt code pc [122]) : decode code pc = .ok (.ishr, 1) := dk_of ((dk_bind (dk_u1 (h 0 _ rfl))).trans rfl)
theorem dk_124 {code : ByteArray} {pc : Nat} (h : DkAt code pc [124]) : decode code pc = .ok (.iushr, 1) := dk_of ((dk_bind (dk_u1 (h 0 _ rfl))).trans rfl)
theorem dk_125 {code : ByteArray} {pc : Nat} (h : DkAt code pc [125]) : decode code pc = .ok (.lushr, 1) := dk_of ((dk_bind (dk_u1 (h 0 _ rfl))).trans rfl)
theorem dk_126 {code : ByteArray} {pc : Nat} (h : DkAt code pc [126]) : decode code pc = .ok (.iand, 1) := dk_of ((dk_bind (dk_u1 (h 0 _ rfl))).trans rfl)
theorem dk_127 {code : ByteArray} {pc : Nat} (h : DkAt code pc [127]) : decode code pc = .ok (.land, 1) := dk_of ((dk_bind (dk_u1 (h 0 _ rfl))).trans rfl)
theorem dk_128 {code : ByteArray} {pc : Nat} (h : DkAt code pc [128]) : decode code pc = .ok (.ior, 1) := dk_of ((dk_bind (dk_u1 (h 0 _ rfl))).trans rfl)
theorem dk_129 {code : ByteArray} {pc : Nat} (h : DkAt code pc [129]) : decode code pc = .ok (.lor, 1) := dk_of ((dk_bind (dk_u1 (h 0 _ rfl))).trans rfl)
theorem dk_130 {code : ByteArray} {pc : Nat} (h : DkAt code pc [130]) : decode code pc = .ok (.ixor, 1) := dk_of ((dk_bind (dk_u1 (h 0 _ rfl))).trans rfl)
theorem dk_131 {code : ByteArray} {pc : Nat} (h : DkAt code pc [131]) : decode code pc = .ok (.lxor, 1) := dk_of ((dk_bind (dk_u1 (h 0 _ rfl))).trans rfl)
theorem dk_132 {code : ByteArray} {pc : Nat} (a b : UInt8) (h : DkAt code pc [132, a, b]) : decode code pc = .ok (.iinc a.toNat (Reader.signed 8 b.toNat), 3) := dk_of ((dk_bind (dk_u1 (h 0 _ rfl))).trans ((dk_bind (dk_u1 (h 1 _ rfl))).trans ((dk_bind (dk_map (dk_u1 (h 2 _ rfl)))).trans rfl)))
theorem dk_133 {code : ByteArray} {pc : Nat} (h : DkAt code pc [133]) : decode code pc = .ok (.i2l, 1) := dk_of ((dk_bind (dk_u1 (h 0 _ rfl))).trans rfl)
theorem dk_136 {code : ByteArray} {pc : Nat} (h : DkAt code pc [136]) : decode code pc = .ok (.l2i, 1) := dk_of ((dk_bind (dk_u1 (h 0 _ rfl))).trans rfl)
theorem dk_145 {code : ByteArray} {pc : Nat} (h : DkAt code pc [145]) : decode code pc = .ok (.i2b, 1) := dk_of ((dk_bind (dk_u1 (h 0 _ rfl))).trans rfl)
theorem dk_146 {code : ByteArray} {pc : Nat} (h : DkAt code pc [146]) : decode code pc = .ok (.i2c, 1) := dk_of ((dk_bind (dk_u1 (h 0 _ rfl))).trans rfl)
theorem dk_148 {code : ByteArray} {pc : Nat} (h : DkAt code pc [148]) : decode code pc = .ok (.lcmp, 1) := dk_of ((dk_bind (dk_u1 (h 0 _ rfl))).trans rfl)
theorem dk_153 {code : ByteArray} {pc : Nat} (a b : UInt8) (h : DkAt code pc [153, a, b]) : decode code pc = .ok (.ifCond .eq (Reader.signed 16 (a.toNat * 256 + b.toNat)), 3) := dk_of ((dk_bind (dk_u1 (h 0 _ rfl))).trans ((dk_bind (dk_map (dk_u2 (h 1 _ rfl) (h 2 _ rfl)))).trans rfl))
theorem dk_154 {code : ByteArray} {pc : Nat} (a b : UInt8) (h : DkAt code pc [154, a, b]) : decode code pc = .ok (.ifCond .ne (Reader.signed 16 (a.toNat * 256 + b.toNat)), 3) := dk_of ((dk_bind (dk_u1 (h 0 _ rfl))).trans ((dk_bind (dk_map (dk_u2 (h 1 _ rfl) (h 2 _ rfl)))).trans rfl))
theorem dk_155 {code : ByteArray} {pc : Nat} (a b : UInt8) (h : DkAt code pc [155, a, b]) : decode code pc = .ok (.ifCond .lt (Reader.signed 16 (a.toNat * 256 + b.toNat)), 3) := dk_of ((dk_bind (dk_u1 (h 0 _ rfl))).trans ((dk_bind (dk_map (dk_u2 (h 1 _ rfl) (h 2 _ rfl)))).trans rfl))
theorem dk_156 {code : ByteArray} {pc : Nat} (a b : UInt8) (h : DkAt code pc [156, a, b]) : decode code pc = .ok (.ifCond .ge (Reader.signed 16 (a.toNat * 256 + b.toNat)), 3) := dk_of ((dk_bind (dk_u1 (h 0 _ rfl))).trans ((dk_bind (dk_map (dk_u2 (h 1 _ rfl) (h 2 _ rfl)))).trans rfl))
theorem dk_157 {code : ByteArray} {pc : Nat} (a b : UInt8) (h : DkAt code pc [157, a, b]) : decode code pc = .ok (.ifCond .gt (Reader.signed 16 (a.toNat * 256 + b.toNat)), 3) := dk_of ((dk_bind (dk_u1 (h 0 _ rfl))).trans ((dk_bind (dk_map (dk_u2 (h 1 _ rfl) (h 2 _ rfl)))).trans rfl))
theorem dk_158 {code : ByteArray} {pc : Nat} (a b : UInt8) (h : DkAt code pc [158, a, b]) : decode code pc = .ok (.ifCond .le (Reader.signed 16 (a.toNat * 256 + b.toNat)), 3) := dk_of ((dk_bind (dk_u1 (h 0 _ rfl))).trans ((dk_bind (dk_map (dk_u2 (h 1 _ rfl) (h 2 _ rfl)))).trans rfl))
theorem dk_159 {code : ByteArray} {pc : Nat} (a b : UInt8) (h : DkAt code pc [159, a, b]) : decode code pc = .ok (.if_icmp .eq (Reader.signed 16 (a.toNat * 256 + b.toNat)), 3) := dk_of ((dk_bind (dk_u1 (h 0 _ rfl))).trans ((dk_bind (dk_map (dk_u2 (h 1 _ rfl) (h 2 _ rfl)))).trans rfl))
theorem dk_160 {code : ByteArray} {pc : Nat} (a b : UInt8) (h : DkAt code pc [160, a, b]) : decode code pc = .ok (.if_icmp .ne (Reader.signed 16 (a.toNat * 256 + b.toNat)), 3) := dk_of ((dk_bind (dk_u1 (h 0 _ rfl))).trans ((dk_bind (dk_map (dk_u2 (h 1 _ rfl) (h 2 _ rfl)))).trans rfl))
theorem dk_161 {code : ByteArray} {pc : Nat} (a b : UInt8) (h : DkAt code pc [161, a, b]) : decode code pc = .ok (.if_icmp .lt (Reader.signed 16 (a.toNat * 256 + b.toNat)), 3) := dk_of ((dk_bind (dk_u1 (h 0 _ rfl))).trans ((dk_bind (dk_map (dk_u2 (h 1 _ rfl) (h 2 _ rfl)))).trans rfl))
theorem dk_162 {code : ByteArray} {pc : Nat} (a b : UInt8) (h : DkAt code pc [162, a, b]) : decode code pc = .ok (.if_icmp .ge (Reader.signed 16 (a.toNat * 256 + b.toNat)), 3) := dk_of ((dk_bind (dk_u1 (h 0 _ rfl))).trans ((dk_bind (dk_map (dk_u2 (h 1 _ rfl) (h 2 _ rfl)))).trans rfl))
theorem dk_163 {code : ByteArray} {pc : Nat} (a b : UInt8) (h : DkAt code pc [163, a, b]) : decode code pc = .ok (.if_icmp .gt (Reader.signed 16 (a.toNat * 256 + b.toNat)), 3) := dk_of ((dk_bind (dk_u1 (h 0 _ rfl))).trans ((dk_bind (dk_map (dk_u2 (h 1 _ rfl) (h 2 _ rfl)))).trans rfl))
theorem dk_164 {code : ByteArray} {pc : Nat} (a b : UInt8) (h : DkAt code pc [164, a, b]) : decode code pc = .ok (.if_icmp .le (Reader.signed 16 (a.toNat * 256 + b.toNat)), 3) := dk_of ((dk_bind (dk_u1 (h 0 _ rfl))).trans ((dk_bind (dk_map (dk_u2 (h 1 _ rfl) (h 2 _ rfl)))).trans rfl))
theorem dk_165 {code : ByteArray} {pc : Nat} (a b : UInt8) (h : DkAt code pc [165, a, b]) : decode code pc = .ok (.if_acmp .eq (Reader.signed 16 (a.toNat * 256 + b.toNat)), 3) := dk_of ((dk_bind (dk_u1 (h 0 _ rfl))).trans ((dk_bind (dk_map (dk_u2 (h 1 _ rfl) (h 2 _ rfl)))).trans rfl))
theorem dk_166 {code : ByteArray} {pc : Nat} (a b : UInt8) (h : DkAt code pc [166, a, b]) : decode code pc = .ok (.if_acmp .ne (Reader.signed 16 (a.toNat * 256 + b.toNat)), 3) := dk_of ((dk_bind (dk_u1 (h 0 _ rfl))).trans ((dk_bind (dk_map (dk_u2 (h 1 _ rfl) (h 2 _ rfl)))).trans rfl))
theorem dk_167 {code : ByteArray} {pc : Nat} (a b : UInt8) (h : DkAt code pc [167, a, b]) : decode code pc = .ok (.goto (Reader.signed 16 (a.toNat * 256 + b.toNat)), 3) := dk_of ((dk_bind (dk_u1 (h 0 _ rfl))).trans ((dk_bind (dk_map (dk_u2 (h 1 _ rfl) (h 2 _ rfl)))).trans rfl))
theorem dk_172 {code : ByteArray} {pc : Nat} (h : DkAt code pc [172]) : decode code pc = .ok (.ireturn, 1) := dk_of ((dk_bind (dk_u1 (h 0 _ rfl))).trans rfl)
theorem dk_176 {code : ByteArray} {pc : Nat} (h : DkAt code pc [176]) : decode code pc = .ok (.areturn, 1) := dk_of ((dk_bind (dk_u1 (h 0 _ rfl))).trans rfl)
theorem dk_177 {code : ByteArray} {pc : Nat} (h : DkAt code pc [177]) : decode code pc = .ok (.return_, 1) := dk_of ((dk_bind (dk_u1 (h 0 _ rfl))).trans rfl)
theorem dk_178 {code : ByteArray} {pc : Nat} (a b : UInt8) (h : DkAt code pc [178, a, b]) : decode code pc = .ok (.getstatic (a.toNat * 256 + b.toNat), 3) := dk_of ((dk_bind (dk_u1 (h 0 _ rfl))).trans ((dk_bind (dk_u2 (h 1 _ rfl) (h 2 _ rfl))).trans rfl))
theorem dk_180 {code : ByteArray} {pc : Nat} (a b : UInt8) (h : DkAt code pc [180, a, b]) : decode code pc = .ok (.getfield (a.toNat * 256 + b.toNat), 3) := dk_of ((dk_bind (dk_u1 (h 0 _ rfl))).trans ((dk_bind (dk_u2 (h 1 _ rfl) (h 2 _ rfl))).trans rfl))
theorem dk_181 {code : ByteArray} {pc : Nat} (a b : UInt8) (h : DkAt code pc [181, a, b]) : decode code pc = .ok (.putfield (a.toNat * 256 + b.toNat), 3) := dk_of ((dk_bind (dk_u1 (h 0 _ rfl))).trans ((dk_bind (dk_u2 (h 1 _ rfl) (h 2 _ rfl))).trans rfl))
theorem dk_182 {code : ByteArray} {pc : Nat} (a b : UInt8) (h : DkAt code pc [182, a, b]) : decode code pc = .ok (.invokevirtual (a.toNat * 256 + b.toNat), 3) := dk_of ((dk_bind (dk_u1 (h 0 _ rfl))).trans ((dk_bind (dk_u2 (h 1 _ rfl) (h 2 _ rfl))).trans rfl))
theorem dk_183 {code : ByteArray} {pc : Nat} (a b : UInt8) (h : DkAt code pc [183, a, b]) : decode code pc = .ok (.invokespecial (a.toNat * 256 + b.toNat), 3) := dk_of ((dk_bind (dk_u1 (h 0 _ rfl))).trans ((dk_bind (dk_u2 (h 1 _ rfl) (h 2 _ rfl))).trans rfl))
theorem dk_184 {code : ByteArray} {pc : Nat} (a b : UInt8) (h : DkAt code pc [184, a, b]) : decode code pc = .ok (.invokestatic (a.toNat * 256 + b.toNat), 3) := dk_of ((dk_bind (dk_u1 (h 0 _ rfl))).trans ((dk_bind (dk_u2 (h 1 _ rfl) (h 2 _ rfl))).trans rfl))
theorem dk_187 {code : ByteArray} {pc : Nat} (a b : UInt8) (h : DkAt code pc [187, a, b]) : decode code pc = .ok (.new (a.toNat * 256 + b.toNat), 3) := dk_of ((dk_bind (dk_u1 (h 0 _ rfl))).trans ((dk_bind (dk_u2 (h 1 _ rfl) (h 2 _ rfl))).trans rfl))
theorem dk_188_8 {code : ByteArray} {pc : Nat} (h : DkAt code pc [188, 8]) : decode code pc = .ok (.newarray .byte, 2) := dk_of ((dk_bind (dk_u1 (h 0 _ rfl))).trans ((dk_bind (dk_u1 (h 1 _ rfl))).trans rfl))
theorem dk_188_10 {code : ByteArray} {pc : Nat} (h : DkAt code pc [188, 10]) : decode code pc = .ok (.newarray .int, 2) := dk_of ((dk_bind (dk_u1 (h 0 _ rfl))).trans ((dk_bind (dk_u1 (h 1 _ rfl))).trans rfl))
theorem dk_188_11 {code : ByteArray} {pc : Nat} (h : DkAt code pc [188, 11]) : decode code pc = .ok (.newarray .long, 2) := dk_of ((dk_bind (dk_u1 (h 0 _ rfl))).trans ((dk_bind (dk_u1 (h 1 _ rfl))).trans rfl))
theorem dk_189 {code : ByteArray} {pc : Nat} (a b : UInt8) (h : DkAt code pc [189, a, b]) : decode code pc = .ok (.anewarray (a.toNat * 256 + b.toNat), 3) := dk_of ((dk_bind (dk_u1 (h 0 _ rfl))).trans ((dk_bind (dk_u2 (h 1 _ rfl) (h 2 _ rfl))).trans rfl))
theorem dk_190 {code : ByteArray} {pc : Nat} (h : DkAt code pc [190]) : decode code pc = .ok (.arraylength, 1) := dk_of ((dk_bind (dk_u1 (h 0 _ rfl))).trans rfl)
theorem dk_191 {code : ByteArray} {pc : Nat} (h : DkAt code pc [191]) : decode code pc = .ok (.athrow, 1) := dk_of ((dk_bind (dk_u1 (h 0 _ rfl))).trans rfl)
theorem dk_192 {code : ByteArray} {pc : Nat} (a b : UInt8) (h : DkAt code pc [192, a, b]) : decode code pc = .ok (.checkcast (a.toNat * 256 + b.toNat), 3) := dk_of ((dk_bind (dk_u1 (h 0 _ rfl))).trans ((dk_bind (dk_u2 (h 1 _ rfl) (h 2 _ rfl))).trans rfl))
theorem dk_198 {code : ByteArray} {pc : Nat} (a b : UInt8) (h : DkAt code pc [198, a, b]) : decode code pc = .ok (.ifnull (Reader.signed 16 (a.toNat * 256 + b.toNat)), 3) := dk_of ((dk_bind (dk_u1 (h 0 _ rfl))).trans ((dk_bind (dk_map (dk_u2 (h 1 _ rfl) (h 2 _ rfl)))).trans rfl))
theorem dk_199 {code : ByteArray} {pc : Nat} (a b : UInt8) (h : DkAt code pc [199, a, b]) : decode code pc = .ok (.ifnonnull (Reader.signed 16 (a.toNat * 256 + b.toNat)), 3) := dk_of ((dk_bind (dk_u1 (h 0 _ rfl))).trans ((dk_bind (dk_map (dk_u2 (h 1 _ rfl) (h 2 _ rfl)))).trans rfl))

/-! FencedStandbysModel -/
set_option maxRecDepth 100000
def RX4 : String := "FencedStandbysModel"
def TX4 : u_T := fun k => match k with
  | 0 => ("FencedStandbysModel", "s", "[I", true)
  | 1 => ("FencedStandbysModel", "past", "[I", true)
  | 2 => ("FencedStandbysModel", "held", "[I", true)
  | 3 => ("FencedStandbysModel", "pasts", "I", false)
  | 4 => ("FencedStandbysModel", "runs", "Z", false)
  | 5 => ("FencedStandbysModel", "text", "[I", true)
  | 6 => ("FencedStandbysModel", "typed", "I", false)
  | 7 => ("FencedStandbysModel", "spot", "I", false)
  | 8 => ("FencedStandbysModel", "from", "I", false)
  | 9 => ("FencedStandbysModel", "reason", "I", false)
  | 10 => ("FencedStandbysModel", "cause", "I", false)
  | 11 => ("FencedStandbysModel", "orders", "I", false)
  | 12 => ("FencedStandbysModel", "order", "I", false)
  | _ => ("FencedStandbysModel", "told", "[I", true)
def tyX4 : Nat → FieldType := fun k => match k with
  | 0 => .array .int
  | 1 => .array .int
  | 2 => .array .int
  | 3 => .int
  | 4 => .boolean
  | 5 => .array .int
  | 6 => .int
  | 7 => .int
  | 8 => .int
  | 9 => .int
  | 10 => .int
  | 11 => .int
  | 12 => .int
  | _ => .array .int
abbrev wsX40 : List Cond := u_ws RX4 TX4 14
set_option maxRecDepth 100000 in
theorem nmX4 : ∀ a, a < 14 → ∀ b, b < 14 → a ≠ b → (TX4 a).2.1 ≠ (TX4 b).2.1 := by decide +kernel
set_option maxRecDepth 100000 in
theorem tyX4_ok : ∀ k, k < 14 → parseFieldDescriptor (TX4 k).2.2.1 = some (tyX4 k) := by decide +kernel
abbrev cX4_init : ByteArray := prog_11_method_1_code
def yX4_init : MethodName := ⟨RX4, "<init>", "()V"⟩
def dkwX4_init_2 : List UInt8 := [180, 0, 7, 5, 4, 79, 42, 180, 0, 7, 16, 7, 7, 79, 42, 180, 0, 7, 16, 8, 5, 79, 177]
abbrev dktX4_init_2 : List UInt8 := dkwX4_init_2 ++ []
def dkwX4_init_1 : List UInt8 := [17, 2, 206, 188, 10, 181, 0, 16, 42, 16, 60, 188, 10, 181, 0, 19, 42, 6, 188, 10, 181, 0, 22, 42]
abbrev dktX4_init_1 : List UInt8 := dkwX4_init_1 ++ dktX4_init_2
def dkwX4_init_0 : List UInt8 := [42, 183, 0, 1, 42, 17, 2, 206, 188, 10, 181, 0, 7, 42, 17, 11, 56, 188, 10, 181, 0, 13, 42]
abbrev dktX4_init_0 : List UInt8 := dkwX4_init_0 ++ dktX4_init_1
theorem dksX4_init_0 : cX4_init.data.toList.drop 0 = dktX4_init_0 := by decide +kernel
theorem dksX4_init_1 : cX4_init.data.toList.drop 23 = dktX4_init_1 := dk_seg dksX4_init_0 23 rfl rfl
theorem dksX4_init_2 : cX4_init.data.toList.drop 47 = dktX4_init_2 := dk_seg dksX4_init_1 24 rfl rfl
theorem dX4_init_0 : decode cX4_init 0 = .ok (.aload_n 0, 1) := dk_42 (dk_at dksX4_init_0 0 rfl rfl)
theorem dX4_init_1 : decode cX4_init 1 = .ok (.invokespecial 1, 3) := dk_183 0 1 (dk_at dksX4_init_0 1 rfl rfl)
theorem dX4_init_4 : decode cX4_init 4 = .ok (.aload_n 0, 1) := dk_42 (dk_at dksX4_init_0 4 rfl rfl)
theorem dX4_init_5 : decode cX4_init 5 = .ok (.sipush 718, 3) := dk_17 2 206 (dk_at dksX4_init_0 5 rfl rfl)
theorem dX4_init_8 : decode cX4_init 8 = .ok (.newarray .int, 2) := dk_188_10 (dk_at dksX4_init_0 8 rfl rfl)
theorem dX4_init_10 : decode cX4_init 10 = .ok (.putfield 7, 3) := dk_181 0 7 (dk_at dksX4_init_0 10 rfl rfl)
theorem dX4_init_13 : decode cX4_init 13 = .ok (.aload_n 0, 1) := dk_42 (dk_at dksX4_init_0 13 rfl rfl)
theorem dX4_init_14 : decode cX4_init 14 = .ok (.sipush 2872, 3) := dk_17 11 56 (dk_at dksX4_init_0 14 rfl rfl)
theorem dX4_init_17 : decode cX4_init 17 = .ok (.newarray .int, 2) := dk_188_10 (dk_at dksX4_init_0 17 rfl rfl)
theorem dX4_init_19 : decode cX4_init 19 = .ok (.putfield 13, 3) := dk_181 0 13 (dk_at dksX4_init_0 19 rfl rfl)
theorem dX4_init_22 : decode cX4_init 22 = .ok (.aload_n 0, 1) := dk_42 (dk_at dksX4_init_0 22 rfl rfl)
theorem dX4_init_23 : decode cX4_init 23 = .ok (.sipush 718, 3) := dk_17 2 206 (dk_at dksX4_init_1 0 rfl rfl)
theorem dX4_init_26 : decode cX4_init 26 = .ok (.newarray .int, 2) := dk_188_10 (dk_at dksX4_init_1 3 rfl rfl)
theorem dX4_init_28 : decode cX4_init 28 = .ok (.putfield 16, 3) := dk_181 0 16 (dk_at dksX4_init_1 5 rfl rfl)
theorem dX4_init_31 : decode cX4_init 31 = .ok (.aload_n 0, 1) := dk_42 (dk_at dksX4_init_1 8 rfl rfl)
theorem dX4_init_32 : decode cX4_init 32 = .ok (.bipush 60, 2) := dk_16 60 (dk_at dksX4_init_1 9 rfl rfl)
theorem dX4_init_34 : decode cX4_init 34 = .ok (.newarray .int, 2) := dk_188_10 (dk_at dksX4_init_1 11 rfl rfl)
theorem dX4_init_36 : decode cX4_init 36 = .ok (.putfield 19, 3) := dk_181 0 19 (dk_at dksX4_init_1 13 rfl rfl)
theorem dX4_init_39 : decode cX4_init 39 = .ok (.aload_n 0, 1) := dk_42 (dk_at dksX4_init_1 16 rfl rfl)
theorem dX4_init_40 : decode cX4_init 40 = .ok (.iconst 3, 1) := dk_6 (dk_at dksX4_init_1 17 rfl rfl)
theorem dX4_init_41 : decode cX4_init 41 = .ok (.newarray .int, 2) := dk_188_10 (dk_at dksX4_init_1 18 rfl rfl)
theorem dX4_init_43 : decode cX4_init 43 = .ok (.putfield 22, 3) := dk_181 0 22 (dk_at dksX4_init_1 20 rfl rfl)
theorem dX4_init_46 : decode cX4_init 46 = .ok (.aload_n 0, 1) := dk_42 (dk_at dksX4_init_1 23 rfl rfl)
theorem dX4_init_47 : decode cX4_init 47 = .ok (.getfield 7, 3) := dk_180 0 7 (dk_at dksX4_init_2 0 rfl rfl)
theorem dX4_init_50 : decode cX4_init 50 = .ok (.iconst 2, 1) := dk_5 (dk_at dksX4_init_2 3 rfl rfl)
theorem dX4_init_51 : decode cX4_init 51 = .ok (.iconst 1, 1) := dk_4 (dk_at dksX4_init_2 4 rfl rfl)
theorem dX4_init_52 : decode cX4_init 52 = .ok (.iastore, 1) := dk_79 (dk_at dksX4_init_2 5 rfl rfl)
theorem dX4_init_53 : decode cX4_init 53 = .ok (.aload_n 0, 1) := dk_42 (dk_at dksX4_init_2 6 rfl rfl)
theorem dX4_init_54 : decode cX4_init 54 = .ok (.getfield 7, 3) := dk_180 0 7 (dk_at dksX4_init_2 7 rfl rfl)
theorem dX4_init_57 : decode cX4_init 57 = .ok (.bipush 7, 2) := dk_16 7 (dk_at dksX4_init_2 10 rfl rfl)
theorem dX4_init_59 : decode cX4_init 59 = .ok (.iconst 4, 1) := dk_7 (dk_at dksX4_init_2 12 rfl rfl)
theorem dX4_init_60 : decode cX4_init 60 = .ok (.iastore, 1) := dk_79 (dk_at dksX4_init_2 13 rfl rfl)
theorem dX4_init_61 : decode cX4_init 61 = .ok (.aload_n 0, 1) := dk_42 (dk_at dksX4_init_2 14 rfl rfl)
theorem dX4_init_62 : decode cX4_init 62 = .ok (.getfield 7, 3) := dk_180 0 7 (dk_at dksX4_init_2 15 rfl rfl)
theorem dX4_init_65 : decode cX4_init 65 = .ok (.bipush 8, 2) := dk_16 8 (dk_at dksX4_init_2 18 rfl rfl)
theorem dX4_init_67 : decode cX4_init 67 = .ok (.iconst 2, 1) := dk_5 (dk_at dksX4_init_2 20 rfl rfl)
theorem dX4_init_68 : decode cX4_init 68 = .ok (.iastore, 1) := dk_79 (dk_at dksX4_init_2 21 rfl rfl)
theorem dX4_init_69 : decode cX4_init 69 = .ok (.return_, 1) := dk_177 (dk_at dksX4_init_2 22 rfl rfl)
abbrev cX4_open : ByteArray := prog_11_method_12_code
def yX4_open : MethodName := ⟨RX4, "open", "(I)I"⟩
def dkwX4_open_2 : List UInt8 := [180, 0, 7, 6, 46, 79, 42, 180, 0, 7, 6, 46, 172]
abbrev dktX4_open_2 : List UInt8 := dkwX4_open_2 ++ []
def dkwX4_open_1 : List UInt8 := [172, 42, 182, 0, 43, 42, 180, 0, 7, 6, 92, 46, 4, 96, 79, 42, 180, 0, 7, 16, 9, 27, 96, 42]
abbrev dktX4_open_1 : List UInt8 := dkwX4_open_1 ++ dktX4_open_2
def dkwX4_open_0 : List UInt8 := [27, 184, 0, 37, 154, 0, 6, 18, 41, 172, 42, 180, 0, 7, 16, 9, 27, 96, 46, 158, 0, 6, 18, 42]
abbrev dktX4_open_0 : List UInt8 := dkwX4_open_0 ++ dktX4_open_1
theorem dksX4_open_0 : cX4_open.data.toList.drop 0 = dktX4_open_0 := by decide +kernel
theorem dksX4_open_1 : cX4_open.data.toList.drop 24 = dktX4_open_1 := dk_seg dksX4_open_0 24 rfl rfl
theorem dksX4_open_2 : cX4_open.data.toList.drop 48 = dktX4_open_2 := dk_seg dksX4_open_1 24 rfl rfl
theorem dX4_open_0 : decode cX4_open 0 = .ok (.iload_n 1, 1) := dk_27 (dk_at dksX4_open_0 0 rfl rfl)
theorem dX4_open_1 : decode cX4_open 1 = .ok (.invokestatic 37, 3) := dk_184 0 37 (dk_at dksX4_open_0 1 rfl rfl)
theorem dX4_open_4 : decode cX4_open 4 = .ok (.ifCond .ne 6, 3) := dk_154 0 6 (dk_at dksX4_open_0 4 rfl rfl)
theorem dX4_open_7 : decode cX4_open 7 = .ok (.ldc 41, 2) := dk_18 41 (dk_at dksX4_open_0 7 rfl rfl)
theorem dX4_open_9 : decode cX4_open 9 = .ok (.ireturn, 1) := dk_172 (dk_at dksX4_open_0 9 rfl rfl)
theorem dX4_open_10 : decode cX4_open 10 = .ok (.aload_n 0, 1) := dk_42 (dk_at dksX4_open_0 10 rfl rfl)
theorem dX4_open_11 : decode cX4_open 11 = .ok (.getfield 7, 3) := dk_180 0 7 (dk_at dksX4_open_0 11 rfl rfl)
theorem dX4_open_14 : decode cX4_open 14 = .ok (.bipush 9, 2) := dk_16 9 (dk_at dksX4_open_0 14 rfl rfl)
theorem dX4_open_16 : decode cX4_open 16 = .ok (.iload_n 1, 1) := dk_27 (dk_at dksX4_open_0 16 rfl rfl)
theorem dX4_open_17 : decode cX4_open 17 = .ok (.iadd, 1) := dk_96 (dk_at dksX4_open_0 17 rfl rfl)
theorem dX4_open_18 : decode cX4_open 18 = .ok (.iaload, 1) := dk_46 (dk_at dksX4_open_0 18 rfl rfl)
theorem dX4_open_19 : decode cX4_open 19 = .ok (.ifCond .le 6, 3) := dk_158 0 6 (dk_at dksX4_open_0 19 rfl rfl)
theorem dX4_open_22 : decode cX4_open 22 = .ok (.ldc 42, 2) := dk_18 42 (dk_at dksX4_open_0 22 rfl rfl)
theorem dX4_open_24 : decode cX4_open 24 = .ok (.ireturn, 1) := dk_172 (dk_at dksX4_open_1 0 rfl rfl)
theorem dX4_open_25 : decode cX4_open 25 = .ok (.aload_n 0, 1) := dk_42 (dk_at dksX4_open_1 1 rfl rfl)
theorem dX4_open_26 : decode cX4_open 26 = .ok (.invokevirtual 43, 3) := dk_182 0 43 (dk_at dksX4_open_1 2 rfl rfl)
theorem dX4_open_29 : decode cX4_open 29 = .ok (.aload_n 0, 1) := dk_42 (dk_at dksX4_open_1 5 rfl rfl)
theorem dX4_open_30 : decode cX4_open 30 = .ok (.getfield 7, 3) := dk_180 0 7 (dk_at dksX4_open_1 6 rfl rfl)
theorem dX4_open_33 : decode cX4_open 33 = .ok (.iconst 3, 1) := dk_6 (dk_at dksX4_open_1 9 rfl rfl)
theorem dX4_open_34 : decode cX4_open 34 = .ok (.dup2, 1) := dk_92 (dk_at dksX4_open_1 10 rfl rfl)
theorem dX4_open_35 : decode cX4_open 35 = .ok (.iaload, 1) := dk_46 (dk_at dksX4_open_1 11 rfl rfl)
theorem dX4_open_36 : decode cX4_open 36 = .ok (.iconst 1, 1) := dk_4 (dk_at dksX4_open_1 12 rfl rfl)
theorem dX4_open_37 : decode cX4_open 37 = .ok (.iadd, 1) := dk_96 (dk_at dksX4_open_1 13 rfl rfl)
theorem dX4_open_38 : decode cX4_open 38 = .ok (.iastore, 1) := dk_79 (dk_at dksX4_open_1 14 rfl rfl)
theorem dX4_open_39 : decode cX4_open 39 = .ok (.aload_n 0, 1) := dk_42 (dk_at dksX4_open_1 15 rfl rfl)
theorem dX4_open_40 : decode cX4_open 40 = .ok (.getfield 7, 3) := dk_180 0 7 (dk_at dksX4_open_1 16 rfl rfl)
theorem dX4_open_43 : decode cX4_open 43 = .ok (.bipush 9, 2) := dk_16 9 (dk_at dksX4_open_1 19 rfl rfl)
theorem dX4_open_45 : decode cX4_open 45 = .ok (.iload_n 1, 1) := dk_27 (dk_at dksX4_open_1 21 rfl rfl)
theorem dX4_open_46 : decode cX4_open 46 = .ok (.iadd, 1) := dk_96 (dk_at dksX4_open_1 22 rfl rfl)
theorem dX4_open_47 : decode cX4_open 47 = .ok (.aload_n 0, 1) := dk_42 (dk_at dksX4_open_1 23 rfl rfl)
theorem dX4_open_48 : decode cX4_open 48 = .ok (.getfield 7, 3) := dk_180 0 7 (dk_at dksX4_open_2 0 rfl rfl)
theorem dX4_open_51 : decode cX4_open 51 = .ok (.iconst 3, 1) := dk_6 (dk_at dksX4_open_2 3 rfl rfl)
theorem dX4_open_52 : decode cX4_open 52 = .ok (.iaload, 1) := dk_46 (dk_at dksX4_open_2 4 rfl rfl)
theorem dX4_open_53 : decode cX4_open 53 = .ok (.iastore, 1) := dk_79 (dk_at dksX4_open_2 5 rfl rfl)
theorem dX4_open_54 : decode cX4_open 54 = .ok (.aload_n 0, 1) := dk_42 (dk_at dksX4_open_2 6 rfl rfl)
theorem dX4_open_55 : decode cX4_open 55 = .ok (.getfield 7, 3) := dk_180 0 7 (dk_at dksX4_open_2 7 rfl rfl)
theorem dX4_open_58 : decode cX4_open 58 = .ok (.iconst 3, 1) := dk_6 (dk_at dksX4_open_2 10 rfl rfl)
theorem dX4_open_59 : decode cX4_open 59 = .ok (.iaload, 1) := dk_46 (dk_at dksX4_open_2 11 rfl rfl)
theorem dX4_open_60 : decode cX4_open 60 = .ok (.ireturn, 1) := dk_172 (dk_at dksX4_open_2 12 rfl rfl)
abbrev cX4_isSlot : ByteArray := prog_11_method_6_code
def yX4_isSlot : MethodName := ⟨RX4, "isSlot", "(I)Z"⟩
def dkwX4_isSlot_0 : List UInt8 := [26, 3, 5, 184, 0, 33, 172]
abbrev dktX4_isSlot_0 : List UInt8 := dkwX4_isSlot_0 ++ []
theorem dksX4_isSlot_0 : cX4_isSlot.data.toList.drop 0 = dktX4_isSlot_0 := by decide +kernel
theorem dX4_isSlot_0 : decode cX4_isSlot 0 = .ok (.iload_n 0, 1) := dk_26 (dk_at dksX4_isSlot_0 0 rfl rfl)
theorem dX4_isSlot_1 : decode cX4_isSlot 1 = .ok (.iconst 0, 1) := dk_3 (dk_at dksX4_isSlot_0 1 rfl rfl)
theorem dX4_isSlot_2 : decode cX4_isSlot 2 = .ok (.iconst 2, 1) := dk_5 (dk_at dksX4_isSlot_0 2 rfl rfl)
theorem dX4_isSlot_3 : decode cX4_isSlot 3 = .ok (.invokestatic 33, 3) := dk_184 0 33 (dk_at dksX4_isSlot_0 3 rfl rfl)
theorem dX4_isSlot_6 : decode cX4_isSlot 6 = .ok (.ireturn, 1) := dk_172 (dk_at dksX4_isSlot_0 6 rfl rfl)
abbrev cX4_in : ByteArray := prog_11_method_3_code
def yX4_in : MethodName := ⟨RX4, "in", "(III)Z"⟩
def dkwX4_in_0 : List UInt8 := [26, 27, 161, 0, 12, 26, 28, 163, 0, 7, 4, 167, 0, 4, 3, 172]
abbrev dktX4_in_0 : List UInt8 := dkwX4_in_0 ++ []
theorem dksX4_in_0 : cX4_in.data.toList.drop 0 = dktX4_in_0 := by decide +kernel
theorem dX4_in_0 : decode cX4_in 0 = .ok (.iload_n 0, 1) := dk_26 (dk_at dksX4_in_0 0 rfl rfl)
theorem dX4_in_1 : decode cX4_in 1 = .ok (.iload_n 1, 1) := dk_27 (dk_at dksX4_in_0 1 rfl rfl)
theorem dX4_in_2 : decode cX4_in 2 = .ok (.if_icmp .lt 12, 3) := dk_161 0 12 (dk_at dksX4_in_0 2 rfl rfl)
theorem dX4_in_5 : decode cX4_in 5 = .ok (.iload_n 0, 1) := dk_26 (dk_at dksX4_in_0 5 rfl rfl)
theorem dX4_in_6 : decode cX4_in 6 = .ok (.iload_n 2, 1) := dk_28 (dk_at dksX4_in_0 6 rfl rfl)
theorem dX4_in_7 : decode cX4_in 7 = .ok (.if_icmp .gt 7, 3) := dk_163 0 7 (dk_at dksX4_in_0 7 rfl rfl)
theorem dX4_in_10 : decode cX4_in 10 = .ok (.iconst 1, 1) := dk_4 (dk_at dksX4_in_0 10 rfl rfl)
theorem dX4_in_11 : decode cX4_in 11 = .ok (.goto 4, 3) := dk_167 0 4 (dk_at dksX4_in_0 11 rfl rfl)
theorem dX4_in_14 : decode cX4_in 14 = .ok (.iconst 0, 1) := dk_3 (dk_at dksX4_in_0 14 rfl rfl)
theorem dX4_in_15 : decode cX4_in 15 = .ok (.ireturn, 1) := dk_172 (dk_at dksX4_in_0 15 rfl rfl)
abbrev cX4_changes : ByteArray := prog_11_method_5_code
def yX4_changes : MethodName := ⟨RX4, "changes", "()V"⟩
def dkwX4_changes_4 : List UInt8 := [167, 255, 225, 42, 89, 180, 0, 29, 4, 96, 181, 0, 29, 177]
abbrev dktX4_changes_4 : List UInt8 := dkwX4_changes_4 ++ []
def dkwX4_changes_3 : List UInt8 := [180, 0, 13, 17, 2, 206, 42, 180, 0, 29, 104, 27, 96, 42, 180, 0, 7, 27, 46, 79, 132, 1, 1]
abbrev dktX4_changes_3 : List UInt8 := dkwX4_changes_3 ++ dktX4_changes_4
def dkwX4_changes_2 : List UInt8 := [167, 255, 230, 42, 89, 180, 0, 29, 4, 100, 181, 0, 29, 3, 60, 27, 17, 2, 206, 162, 0, 30, 42]
abbrev dktX4_changes_2 : List UInt8 := dkwX4_changes_2 ++ dktX4_changes_3
def dkwX4_changes_1 : List UInt8 := [162, 0, 25, 42, 180, 0, 13, 27, 42, 180, 0, 13, 27, 17, 2, 206, 96, 46, 79, 132, 1, 1]
abbrev dktX4_changes_1 : List UInt8 := dkwX4_changes_1 ++ dktX4_changes_2
def dkwX4_changes_0 : List UInt8 := [42, 180, 0, 25, 153, 0, 4, 177, 42, 180, 0, 29, 7, 160, 0, 44, 3, 60, 27, 17, 8, 106]
abbrev dktX4_changes_0 : List UInt8 := dkwX4_changes_0 ++ dktX4_changes_1
theorem dksX4_changes_0 : cX4_changes.data.toList.drop 0 = dktX4_changes_0 := by decide +kernel
theorem dksX4_changes_1 : cX4_changes.data.toList.drop 22 = dktX4_changes_1 := dk_seg dksX4_changes_0 22 rfl rfl
theorem dksX4_changes_2 : cX4_changes.data.toList.drop 44 = dktX4_changes_2 := dk_seg dksX4_changes_1 22 rfl rfl
theorem dksX4_changes_3 : cX4_changes.data.toList.drop 67 = dktX4_changes_3 := dk_seg dksX4_changes_2 23 rfl rfl
theorem dksX4_changes_4 : cX4_changes.data.toList.drop 90 = dktX4_changes_4 := dk_seg dksX4_changes_3 23 rfl rfl
theorem dX4_changes_0 : decode cX4_changes 0 = .ok (.aload_n 0, 1) := dk_42 (dk_at dksX4_changes_0 0 rfl rfl)
theorem dX4_changes_1 : decode cX4_changes 1 = .ok (.getfield 25, 3) := dk_180 0 25 (dk_at dksX4_changes_0 1 rfl rfl)
theorem dX4_changes_4 : decode cX4_changes 4 = .ok (.ifCond .eq 4, 3) := dk_153 0 4 (dk_at dksX4_changes_0 4 rfl rfl)
theorem dX4_changes_7 : decode cX4_changes 7 = .ok (.return_, 1) := dk_177 (dk_at dksX4_changes_0 7 rfl rfl)
theorem dX4_changes_8 : decode cX4_changes 8 = .ok (.aload_n 0, 1) := dk_42 (dk_at dksX4_changes_0 8 rfl rfl)
theorem dX4_changes_9 : decode cX4_changes 9 = .ok (.getfield 29, 3) := dk_180 0 29 (dk_at dksX4_changes_0 9 rfl rfl)
theorem dX4_changes_12 : decode cX4_changes 12 = .ok (.iconst 4, 1) := dk_7 (dk_at dksX4_changes_0 12 rfl rfl)
theorem dX4_changes_13 : decode cX4_changes 13 = .ok (.if_icmp .ne 44, 3) := dk_160 0 44 (dk_at dksX4_changes_0 13 rfl rfl)
theorem dX4_changes_16 : decode cX4_changes 16 = .ok (.iconst 0, 1) := dk_3 (dk_at dksX4_changes_0 16 rfl rfl)
theorem dX4_changes_17 : decode cX4_changes 17 = .ok (.istore_n 1, 1) := dk_60 (dk_at dksX4_changes_0 17 rfl rfl)
theorem dX4_changes_18 : decode cX4_changes 18 = .ok (.iload_n 1, 1) := dk_27 (dk_at dksX4_changes_0 18 rfl rfl)
theorem dX4_changes_19 : decode cX4_changes 19 = .ok (.sipush 2154, 3) := dk_17 8 106 (dk_at dksX4_changes_0 19 rfl rfl)
theorem dX4_changes_22 : decode cX4_changes 22 = .ok (.if_icmp .ge 25, 3) := dk_162 0 25 (dk_at dksX4_changes_1 0 rfl rfl)
theorem dX4_changes_25 : decode cX4_changes 25 = .ok (.aload_n 0, 1) := dk_42 (dk_at dksX4_changes_1 3 rfl rfl)
theorem dX4_changes_26 : decode cX4_changes 26 = .ok (.getfield 13, 3) := dk_180 0 13 (dk_at dksX4_changes_1 4 rfl rfl)
theorem dX4_changes_29 : decode cX4_changes 29 = .ok (.iload_n 1, 1) := dk_27 (dk_at dksX4_changes_1 7 rfl rfl)
theorem dX4_changes_30 : decode cX4_changes 30 = .ok (.aload_n 0, 1) := dk_42 (dk_at dksX4_changes_1 8 rfl rfl)
theorem dX4_changes_31 : decode cX4_changes 31 = .ok (.getfield 13, 3) := dk_180 0 13 (dk_at dksX4_changes_1 9 rfl rfl)
theorem dX4_changes_34 : decode cX4_changes 34 = .ok (.iload_n 1, 1) := dk_27 (dk_at dksX4_changes_1 12 rfl rfl)
theorem dX4_changes_35 : decode cX4_changes 35 = .ok (.sipush 718, 3) := dk_17 2 206 (dk_at dksX4_changes_1 13 rfl rfl)
theorem dX4_changes_38 : decode cX4_changes 38 = .ok (.iadd, 1) := dk_96 (dk_at dksX4_changes_1 16 rfl rfl)
theorem dX4_changes_39 : decode cX4_changes 39 = .ok (.iaload, 1) := dk_46 (dk_at dksX4_changes_1 17 rfl rfl)
theorem dX4_changes_40 : decode cX4_changes 40 = .ok (.iastore, 1) := dk_79 (dk_at dksX4_changes_1 18 rfl rfl)
theorem dX4_changes_41 : decode cX4_changes 41 = .ok (.iinc 1 1, 3) := dk_132 1 1 (dk_at dksX4_changes_1 19 rfl rfl)
theorem dX4_changes_44 : decode cX4_changes 44 = .ok (.goto (-26), 3) := dk_167 255 230 (dk_at dksX4_changes_2 0 rfl rfl)
theorem dX4_changes_47 : decode cX4_changes 47 = .ok (.aload_n 0, 1) := dk_42 (dk_at dksX4_changes_2 3 rfl rfl)
theorem dX4_changes_48 : decode cX4_changes 48 = .ok (.dup, 1) := dk_89 (dk_at dksX4_changes_2 4 rfl rfl)
theorem dX4_changes_49 : decode cX4_changes 49 = .ok (.getfield 29, 3) := dk_180 0 29 (dk_at dksX4_changes_2 5 rfl rfl)
theorem dX4_changes_52 : decode cX4_changes 52 = .ok (.iconst 1, 1) := dk_4 (dk_at dksX4_changes_2 8 rfl rfl)
theorem dX4_changes_53 : decode cX4_changes 53 = .ok (.isub, 1) := dk_100 (dk_at dksX4_changes_2 9 rfl rfl)
theorem dX4_changes_54 : decode cX4_changes 54 = .ok (.putfield 29, 3) := dk_181 0 29 (dk_at dksX4_changes_2 10 rfl rfl)
theorem dX4_changes_57 : decode cX4_changes 57 = .ok (.iconst 0, 1) := dk_3 (dk_at dksX4_changes_2 13 rfl rfl)
theorem dX4_changes_58 : decode cX4_changes 58 = .ok (.istore_n 1, 1) := dk_60 (dk_at dksX4_changes_2 14 rfl rfl)
theorem dX4_changes_59 : decode cX4_changes 59 = .ok (.iload_n 1, 1) := dk_27 (dk_at dksX4_changes_2 15 rfl rfl)
theorem dX4_changes_60 : decode cX4_changes 60 = .ok (.sipush 718, 3) := dk_17 2 206 (dk_at dksX4_changes_2 16 rfl rfl)
theorem dX4_changes_63 : decode cX4_changes 63 = .ok (.if_icmp .ge 30, 3) := dk_162 0 30 (dk_at dksX4_changes_2 19 rfl rfl)
theorem dX4_changes_66 : decode cX4_changes 66 = .ok (.aload_n 0, 1) := dk_42 (dk_at dksX4_changes_2 22 rfl rfl)
theorem dX4_changes_67 : decode cX4_changes 67 = .ok (.getfield 13, 3) := dk_180 0 13 (dk_at dksX4_changes_3 0 rfl rfl)
theorem dX4_changes_70 : decode cX4_changes 70 = .ok (.sipush 718, 3) := dk_17 2 206 (dk_at dksX4_changes_3 3 rfl rfl)
theorem dX4_changes_73 : decode cX4_changes 73 = .ok (.aload_n 0, 1) := dk_42 (dk_at dksX4_changes_3 6 rfl rfl)
theorem dX4_changes_74 : decode cX4_changes 74 = .ok (.getfield 29, 3) := dk_180 0 29 (dk_at dksX4_changes_3 7 rfl rfl)
theorem dX4_changes_77 : decode cX4_changes 77 = .ok (.imul, 1) := dk_104 (dk_at dksX4_changes_3 10 rfl rfl)
theorem dX4_changes_78 : decode cX4_changes 78 = .ok (.iload_n 1, 1) := dk_27 (dk_at dksX4_changes_3 11 rfl rfl)
theorem dX4_changes_79 : decode cX4_changes 79 = .ok (.iadd, 1) := dk_96 (dk_at dksX4_changes_3 12 rfl rfl)
theorem dX4_changes_80 : decode cX4_changes 80 = .ok (.aload_n 0, 1) := dk_42 (dk_at dksX4_changes_3 13 rfl rfl)
theorem dX4_changes_81 : decode cX4_changes 81 = .ok (.getfield 7, 3) := dk_180 0 7 (dk_at dksX4_changes_3 14 rfl rfl)
theorem dX4_changes_84 : decode cX4_changes 84 = .ok (.iload_n 1, 1) := dk_27 (dk_at dksX4_changes_3 17 rfl rfl)
theorem dX4_changes_85 : decode cX4_changes 85 = .ok (.iaload, 1) := dk_46 (dk_at dksX4_changes_3 18 rfl rfl)
theorem dX4_changes_86 : decode cX4_changes 86 = .ok (.iastore, 1) := dk_79 (dk_at dksX4_changes_3 19 rfl rfl)
theorem dX4_changes_87 : decode cX4_changes 87 = .ok (.iinc 1 1, 3) := dk_132 1 1 (dk_at dksX4_changes_3 20 rfl rfl)
theorem dX4_changes_90 : decode cX4_changes 90 = .ok (.goto (-31), 3) := dk_167 255 225 (dk_at dksX4_changes_4 0 rfl rfl)
theorem dX4_changes_93 : decode cX4_changes 93 = .ok (.aload_n 0, 1) := dk_42 (dk_at dksX4_changes_4 3 rfl rfl)
theorem dX4_changes_94 : decode cX4_changes 94 = .ok (.dup, 1) := dk_89 (dk_at dksX4_changes_4 4 rfl rfl)
theorem dX4_changes_95 : decode cX4_changes 95 = .ok (.getfield 29, 3) := dk_180 0 29 (dk_at dksX4_changes_4 5 rfl rfl)
theorem dX4_changes_98 : decode cX4_changes 98 = .ok (.iconst 1, 1) := dk_4 (dk_at dksX4_changes_4 8 rfl rfl)
theorem dX4_changes_99 : decode cX4_changes 99 = .ok (.iadd, 1) := dk_96 (dk_at dksX4_changes_4 9 rfl rfl)
theorem dX4_changes_100 : decode cX4_changes 100 = .ok (.putfield 29, 3) := dk_181 0 29 (dk_at dksX4_changes_4 10 rfl rfl)
theorem dX4_changes_103 : decode cX4_changes 103 = .ok (.return_, 1) := dk_177 (dk_at dksX4_changes_4 13 rfl rfl)
abbrev cX4_put : ByteArray := prog_11_method_15_code
def yX4_put : MethodName := ⟨RX4, "put", "(III)I"⟩
def dkwX4_put_1 : List UInt8 := [182, 0, 50, 54, 4, 21, 4, 156, 0, 8, 21, 4, 167, 0, 11, 42, 3, 27, 28, 29, 182, 0, 54, 172]
abbrev dktX4_put_1 : List UInt8 := dkwX4_put_1 ++ []
def dkwX4_put_0 : List UInt8 := [28, 184, 0, 47, 153, 0, 14, 29, 3, 17, 3, 231, 184, 0, 33, 154, 0, 6, 18, 41, 172, 42, 27]
abbrev dktX4_put_0 : List UInt8 := dkwX4_put_0 ++ dktX4_put_1
theorem dksX4_put_0 : cX4_put.data.toList.drop 0 = dktX4_put_0 := by decide +kernel
theorem dksX4_put_1 : cX4_put.data.toList.drop 23 = dktX4_put_1 := dk_seg dksX4_put_0 23 rfl rfl
theorem dX4_put_0 : decode cX4_put 0 = .ok (.iload_n 2, 1) := dk_28 (dk_at dksX4_put_0 0 rfl rfl)
theorem dX4_put_1 : decode cX4_put 1 = .ok (.invokestatic 47, 3) := dk_184 0 47 (dk_at dksX4_put_0 1 rfl rfl)
theorem dX4_put_4 : decode cX4_put 4 = .ok (.ifCond .eq 14, 3) := dk_153 0 14 (dk_at dksX4_put_0 4 rfl rfl)
theorem dX4_put_7 : decode cX4_put 7 = .ok (.iload_n 3, 1) := dk_29 (dk_at dksX4_put_0 7 rfl rfl)
theorem dX4_put_8 : decode cX4_put 8 = .ok (.iconst 0, 1) := dk_3 (dk_at dksX4_put_0 8 rfl rfl)
theorem dX4_put_9 : decode cX4_put 9 = .ok (.sipush 999, 3) := dk_17 3 231 (dk_at dksX4_put_0 9 rfl rfl)
theorem dX4_put_12 : decode cX4_put 12 = .ok (.invokestatic 33, 3) := dk_184 0 33 (dk_at dksX4_put_0 12 rfl rfl)
theorem dX4_put_15 : decode cX4_put 15 = .ok (.ifCond .ne 6, 3) := dk_154 0 6 (dk_at dksX4_put_0 15 rfl rfl)
theorem dX4_put_18 : decode cX4_put 18 = .ok (.ldc 41, 2) := dk_18 41 (dk_at dksX4_put_0 18 rfl rfl)
theorem dX4_put_20 : decode cX4_put 20 = .ok (.ireturn, 1) := dk_172 (dk_at dksX4_put_0 20 rfl rfl)
theorem dX4_put_21 : decode cX4_put 21 = .ok (.aload_n 0, 1) := dk_42 (dk_at dksX4_put_0 21 rfl rfl)
theorem dX4_put_22 : decode cX4_put 22 = .ok (.iload_n 1, 1) := dk_27 (dk_at dksX4_put_0 22 rfl rfl)
theorem dX4_put_23 : decode cX4_put 23 = .ok (.invokevirtual 50, 3) := dk_182 0 50 (dk_at dksX4_put_1 0 rfl rfl)
theorem dX4_put_26 : decode cX4_put 26 = .ok (.istore 4, 2) := dk_54 4 (dk_at dksX4_put_1 3 rfl rfl)
theorem dX4_put_28 : decode cX4_put 28 = .ok (.iload 4, 2) := dk_21 4 (dk_at dksX4_put_1 5 rfl rfl)
theorem dX4_put_30 : decode cX4_put 30 = .ok (.ifCond .ge 8, 3) := dk_156 0 8 (dk_at dksX4_put_1 7 rfl rfl)
theorem dX4_put_33 : decode cX4_put 33 = .ok (.iload 4, 2) := dk_21 4 (dk_at dksX4_put_1 10 rfl rfl)
theorem dX4_put_35 : decode cX4_put 35 = .ok (.goto 11, 3) := dk_167 0 11 (dk_at dksX4_put_1 12 rfl rfl)
theorem dX4_put_38 : decode cX4_put 38 = .ok (.aload_n 0, 1) := dk_42 (dk_at dksX4_put_1 15 rfl rfl)
theorem dX4_put_39 : decode cX4_put 39 = .ok (.iconst 0, 1) := dk_3 (dk_at dksX4_put_1 16 rfl rfl)
theorem dX4_put_40 : decode cX4_put 40 = .ok (.iload_n 1, 1) := dk_27 (dk_at dksX4_put_1 17 rfl rfl)
theorem dX4_put_41 : decode cX4_put 41 = .ok (.iload_n 2, 1) := dk_28 (dk_at dksX4_put_1 18 rfl rfl)
theorem dX4_put_42 : decode cX4_put 42 = .ok (.iload_n 3, 1) := dk_29 (dk_at dksX4_put_1 19 rfl rfl)
theorem dX4_put_43 : decode cX4_put 43 = .ok (.invokevirtual 54, 3) := dk_182 0 54 (dk_at dksX4_put_1 20 rfl rfl)
theorem dX4_put_46 : decode cX4_put 46 = .ok (.ireturn, 1) := dk_172 (dk_at dksX4_put_1 23 rfl rfl)
abbrev cX4_isKey : ByteArray := prog_11_method_7_code
def yX4_isKey : MethodName := ⟨RX4, "isKey", "(I)Z"⟩
def dkwX4_isKey_0 : List UInt8 := [26, 3, 16, 23, 184, 0, 33, 172]
abbrev dktX4_isKey_0 : List UInt8 := dkwX4_isKey_0 ++ []
theorem dksX4_isKey_0 : cX4_isKey.data.toList.drop 0 = dktX4_isKey_0 := by decide +kernel
theorem dX4_isKey_0 : decode cX4_isKey 0 = .ok (.iload_n 0, 1) := dk_26 (dk_at dksX4_isKey_0 0 rfl rfl)
theorem dX4_isKey_1 : decode cX4_isKey 1 = .ok (.iconst 0, 1) := dk_3 (dk_at dksX4_isKey_0 1 rfl rfl)
theorem dX4_isKey_2 : decode cX4_isKey 2 = .ok (.bipush 23, 2) := dk_16 23 (dk_at dksX4_isKey_0 2 rfl rfl)
theorem dX4_isKey_4 : decode cX4_isKey 4 = .ok (.invokestatic 33, 3) := dk_184 0 33 (dk_at dksX4_isKey_0 4 rfl rfl)
theorem dX4_isKey_7 : decode cX4_isKey 7 = .ok (.ireturn, 1) := dk_172 (dk_at dksX4_isKey_0 7 rfl rfl)
abbrev cX4_bar : ByteArray := prog_11_method_13_code
def yX4_bar : MethodName := ⟨RX4, "bar", "(I)I"⟩
def dkwX4_bar_1 : List UInt8 := [18, 42, 167, 0, 20, 42, 180, 0, 7, 3, 46, 16, 100, 160, 0, 8, 18, 46, 167, 0, 4, 3, 172]
abbrev dktX4_bar_1 : List UInt8 := dkwX4_bar_1 ++ []
def dkwX4_bar_0 : List UInt8 := [27, 184, 0, 37, 154, 0, 8, 18, 41, 167, 0, 37, 42, 180, 0, 7, 16, 9, 27, 96, 46, 154, 0, 8]
abbrev dktX4_bar_0 : List UInt8 := dkwX4_bar_0 ++ dktX4_bar_1
theorem dksX4_bar_0 : cX4_bar.data.toList.drop 0 = dktX4_bar_0 := by decide +kernel
theorem dksX4_bar_1 : cX4_bar.data.toList.drop 24 = dktX4_bar_1 := dk_seg dksX4_bar_0 24 rfl rfl
theorem dX4_bar_0 : decode cX4_bar 0 = .ok (.iload_n 1, 1) := dk_27 (dk_at dksX4_bar_0 0 rfl rfl)
theorem dX4_bar_1 : decode cX4_bar 1 = .ok (.invokestatic 37, 3) := dk_184 0 37 (dk_at dksX4_bar_0 1 rfl rfl)
theorem dX4_bar_4 : decode cX4_bar 4 = .ok (.ifCond .ne 8, 3) := dk_154 0 8 (dk_at dksX4_bar_0 4 rfl rfl)
theorem dX4_bar_7 : decode cX4_bar 7 = .ok (.ldc 41, 2) := dk_18 41 (dk_at dksX4_bar_0 7 rfl rfl)
theorem dX4_bar_9 : decode cX4_bar 9 = .ok (.goto 37, 3) := dk_167 0 37 (dk_at dksX4_bar_0 9 rfl rfl)
theorem dX4_bar_12 : decode cX4_bar 12 = .ok (.aload_n 0, 1) := dk_42 (dk_at dksX4_bar_0 12 rfl rfl)
theorem dX4_bar_13 : decode cX4_bar 13 = .ok (.getfield 7, 3) := dk_180 0 7 (dk_at dksX4_bar_0 13 rfl rfl)
theorem dX4_bar_16 : decode cX4_bar 16 = .ok (.bipush 9, 2) := dk_16 9 (dk_at dksX4_bar_0 16 rfl rfl)
theorem dX4_bar_18 : decode cX4_bar 18 = .ok (.iload_n 1, 1) := dk_27 (dk_at dksX4_bar_0 18 rfl rfl)
theorem dX4_bar_19 : decode cX4_bar 19 = .ok (.iadd, 1) := dk_96 (dk_at dksX4_bar_0 19 rfl rfl)
theorem dX4_bar_20 : decode cX4_bar 20 = .ok (.iaload, 1) := dk_46 (dk_at dksX4_bar_0 20 rfl rfl)
theorem dX4_bar_21 : decode cX4_bar 21 = .ok (.ifCond .ne 8, 3) := dk_154 0 8 (dk_at dksX4_bar_0 21 rfl rfl)
theorem dX4_bar_24 : decode cX4_bar 24 = .ok (.ldc 42, 2) := dk_18 42 (dk_at dksX4_bar_1 0 rfl rfl)
theorem dX4_bar_26 : decode cX4_bar 26 = .ok (.goto 20, 3) := dk_167 0 20 (dk_at dksX4_bar_1 2 rfl rfl)
theorem dX4_bar_29 : decode cX4_bar 29 = .ok (.aload_n 0, 1) := dk_42 (dk_at dksX4_bar_1 5 rfl rfl)
theorem dX4_bar_30 : decode cX4_bar 30 = .ok (.getfield 7, 3) := dk_180 0 7 (dk_at dksX4_bar_1 6 rfl rfl)
theorem dX4_bar_33 : decode cX4_bar 33 = .ok (.iconst 0, 1) := dk_3 (dk_at dksX4_bar_1 9 rfl rfl)
theorem dX4_bar_34 : decode cX4_bar 34 = .ok (.iaload, 1) := dk_46 (dk_at dksX4_bar_1 10 rfl rfl)
theorem dX4_bar_35 : decode cX4_bar 35 = .ok (.bipush 100, 2) := dk_16 100 (dk_at dksX4_bar_1 11 rfl rfl)
theorem dX4_bar_37 : decode cX4_bar 37 = .ok (.if_icmp .ne 8, 3) := dk_160 0 8 (dk_at dksX4_bar_1 13 rfl rfl)
theorem dX4_bar_40 : decode cX4_bar 40 = .ok (.ldc 46, 2) := dk_18 46 (dk_at dksX4_bar_1 16 rfl rfl)
theorem dX4_bar_42 : decode cX4_bar 42 = .ok (.goto 4, 3) := dk_167 0 4 (dk_at dksX4_bar_1 18 rfl rfl)
theorem dX4_bar_45 : decode cX4_bar 45 = .ok (.iconst 0, 1) := dk_3 (dk_at dksX4_bar_1 21 rfl rfl)
theorem dX4_bar_46 : decode cX4_bar 46 = .ok (.ireturn, 1) := dk_172 (dk_at dksX4_bar_1 22 rfl rfl)
abbrev cX4_writes : ByteArray := prog_11_method_14_code
def yX4_writes : MethodName := ⟨RX4, "writes", "(IIII)I"⟩
def dkwX4_writes_5 : List UInt8 := [79, 42, 180, 0, 7, 3, 46, 172]
abbrev dktX4_writes_5 : List UInt8 := dkwX4_writes_5 ++ []
def dkwX4_writes_4 : List UInt8 := [180, 0, 7, 16, 9, 28, 96, 27, 154, 0, 15, 42, 180, 0, 7, 16, 9, 28, 96, 46, 167, 0, 4, 3]
abbrev dktX4_writes_4 : List UInt8 := dkwX4_writes_4 ++ dktX4_writes_5
def dkwX4_writes_3 : List UInt8 := [21, 5, 6, 96, 21, 4, 79, 42, 180, 0, 7, 21, 5, 7, 96, 42, 180, 0, 7, 4, 46, 79, 42]
abbrev dktX4_writes_3 : List UInt8 := dkwX4_writes_3 ++ dktX4_writes_4
def dkwX4_writes_2 : List UInt8 := [42, 180, 0, 7, 16, 9, 28, 96, 46, 79, 42, 180, 0, 7, 21, 5, 5, 96, 29, 79, 42, 180, 0, 7]
abbrev dktX4_writes_2 : List UInt8 := dkwX4_writes_2 ++ dktX4_writes_3
def dkwX4_writes_1 : List UInt8 := [104, 96, 8, 100, 54, 5, 42, 180, 0, 7, 21, 5, 3, 96, 27, 79, 42, 180, 0, 7, 21, 5, 4, 96]
abbrev dktX4_writes_1 : List UInt8 := dkwX4_writes_1 ++ dktX4_writes_2
def dkwX4_writes_0 : List UInt8 := [42, 182, 0, 43, 42, 180, 0, 7, 3, 92, 46, 4, 96, 79, 17, 0, 218, 8, 42, 180, 0, 7, 3, 46]
abbrev dktX4_writes_0 : List UInt8 := dkwX4_writes_0 ++ dktX4_writes_1
theorem dksX4_writes_0 : cX4_writes.data.toList.drop 0 = dktX4_writes_0 := by decide +kernel
theorem dksX4_writes_1 : cX4_writes.data.toList.drop 24 = dktX4_writes_1 := dk_seg dksX4_writes_0 24 rfl rfl
theorem dksX4_writes_2 : cX4_writes.data.toList.drop 48 = dktX4_writes_2 := dk_seg dksX4_writes_1 24 rfl rfl
theorem dksX4_writes_3 : cX4_writes.data.toList.drop 72 = dktX4_writes_3 := dk_seg dksX4_writes_2 24 rfl rfl
theorem dksX4_writes_4 : cX4_writes.data.toList.drop 95 = dktX4_writes_4 := dk_seg dksX4_writes_3 23 rfl rfl
theorem dksX4_writes_5 : cX4_writes.data.toList.drop 119 = dktX4_writes_5 := dk_seg dksX4_writes_4 24 rfl rfl
theorem dX4_writes_0 : decode cX4_writes 0 = .ok (.aload_n 0, 1) := dk_42 (dk_at dksX4_writes_0 0 rfl rfl)
theorem dX4_writes_1 : decode cX4_writes 1 = .ok (.invokevirtual 43, 3) := dk_182 0 43 (dk_at dksX4_writes_0 1 rfl rfl)
theorem dX4_writes_4 : decode cX4_writes 4 = .ok (.aload_n 0, 1) := dk_42 (dk_at dksX4_writes_0 4 rfl rfl)
theorem dX4_writes_5 : decode cX4_writes 5 = .ok (.getfield 7, 3) := dk_180 0 7 (dk_at dksX4_writes_0 5 rfl rfl)
theorem dX4_writes_8 : decode cX4_writes 8 = .ok (.iconst 0, 1) := dk_3 (dk_at dksX4_writes_0 8 rfl rfl)
theorem dX4_writes_9 : decode cX4_writes 9 = .ok (.dup2, 1) := dk_92 (dk_at dksX4_writes_0 9 rfl rfl)
theorem dX4_writes_10 : decode cX4_writes 10 = .ok (.iaload, 1) := dk_46 (dk_at dksX4_writes_0 10 rfl rfl)
theorem dX4_writes_11 : decode cX4_writes 11 = .ok (.iconst 1, 1) := dk_4 (dk_at dksX4_writes_0 11 rfl rfl)
theorem dX4_writes_12 : decode cX4_writes 12 = .ok (.iadd, 1) := dk_96 (dk_at dksX4_writes_0 12 rfl rfl)
theorem dX4_writes_13 : decode cX4_writes 13 = .ok (.iastore, 1) := dk_79 (dk_at dksX4_writes_0 13 rfl rfl)
theorem dX4_writes_14 : decode cX4_writes 14 = .ok (.sipush 218, 3) := dk_17 0 218 (dk_at dksX4_writes_0 14 rfl rfl)
theorem dX4_writes_17 : decode cX4_writes 17 = .ok (.iconst 5, 1) := dk_8 (dk_at dksX4_writes_0 17 rfl rfl)
theorem dX4_writes_18 : decode cX4_writes 18 = .ok (.aload_n 0, 1) := dk_42 (dk_at dksX4_writes_0 18 rfl rfl)
theorem dX4_writes_19 : decode cX4_writes 19 = .ok (.getfield 7, 3) := dk_180 0 7 (dk_at dksX4_writes_0 19 rfl rfl)
theorem dX4_writes_22 : decode cX4_writes 22 = .ok (.iconst 0, 1) := dk_3 (dk_at dksX4_writes_0 22 rfl rfl)
theorem dX4_writes_23 : decode cX4_writes 23 = .ok (.iaload, 1) := dk_46 (dk_at dksX4_writes_0 23 rfl rfl)
theorem dX4_writes_24 : decode cX4_writes 24 = .ok (.imul, 1) := dk_104 (dk_at dksX4_writes_1 0 rfl rfl)
theorem dX4_writes_25 : decode cX4_writes 25 = .ok (.iadd, 1) := dk_96 (dk_at dksX4_writes_1 1 rfl rfl)
theorem dX4_writes_26 : decode cX4_writes 26 = .ok (.iconst 5, 1) := dk_8 (dk_at dksX4_writes_1 2 rfl rfl)
theorem dX4_writes_27 : decode cX4_writes 27 = .ok (.isub, 1) := dk_100 (dk_at dksX4_writes_1 3 rfl rfl)
theorem dX4_writes_28 : decode cX4_writes 28 = .ok (.istore 5, 2) := dk_54 5 (dk_at dksX4_writes_1 4 rfl rfl)
theorem dX4_writes_30 : decode cX4_writes 30 = .ok (.aload_n 0, 1) := dk_42 (dk_at dksX4_writes_1 6 rfl rfl)
theorem dX4_writes_31 : decode cX4_writes 31 = .ok (.getfield 7, 3) := dk_180 0 7 (dk_at dksX4_writes_1 7 rfl rfl)
theorem dX4_writes_34 : decode cX4_writes 34 = .ok (.iload 5, 2) := dk_21 5 (dk_at dksX4_writes_1 10 rfl rfl)
theorem dX4_writes_36 : decode cX4_writes 36 = .ok (.iconst 0, 1) := dk_3 (dk_at dksX4_writes_1 12 rfl rfl)
theorem dX4_writes_37 : decode cX4_writes 37 = .ok (.iadd, 1) := dk_96 (dk_at dksX4_writes_1 13 rfl rfl)
theorem dX4_writes_38 : decode cX4_writes 38 = .ok (.iload_n 1, 1) := dk_27 (dk_at dksX4_writes_1 14 rfl rfl)
theorem dX4_writes_39 : decode cX4_writes 39 = .ok (.iastore, 1) := dk_79 (dk_at dksX4_writes_1 15 rfl rfl)
theorem dX4_writes_40 : decode cX4_writes 40 = .ok (.aload_n 0, 1) := dk_42 (dk_at dksX4_writes_1 16 rfl rfl)
theorem dX4_writes_41 : decode cX4_writes 41 = .ok (.getfield 7, 3) := dk_180 0 7 (dk_at dksX4_writes_1 17 rfl rfl)
theorem dX4_writes_44 : decode cX4_writes 44 = .ok (.iload 5, 2) := dk_21 5 (dk_at dksX4_writes_1 20 rfl rfl)
theorem dX4_writes_46 : decode cX4_writes 46 = .ok (.iconst 1, 1) := dk_4 (dk_at dksX4_writes_1 22 rfl rfl)
theorem dX4_writes_47 : decode cX4_writes 47 = .ok (.iadd, 1) := dk_96 (dk_at dksX4_writes_1 23 rfl rfl)
theorem dX4_writes_48 : decode cX4_writes 48 = .ok (.aload_n 0, 1) := dk_42 (dk_at dksX4_writes_2 0 rfl rfl)
theorem dX4_writes_49 : decode cX4_writes 49 = .ok (.getfield 7, 3) := dk_180 0 7 (dk_at dksX4_writes_2 1 rfl rfl)
theorem dX4_writes_52 : decode cX4_writes 52 = .ok (.bipush 9, 2) := dk_16 9 (dk_at dksX4_writes_2 4 rfl rfl)
theorem dX4_writes_54 : decode cX4_writes 54 = .ok (.iload_n 2, 1) := dk_28 (dk_at dksX4_writes_2 6 rfl rfl)
theorem dX4_writes_55 : decode cX4_writes 55 = .ok (.iadd, 1) := dk_96 (dk_at dksX4_writes_2 7 rfl rfl)
theorem dX4_writes_56 : decode cX4_writes 56 = .ok (.iaload, 1) := dk_46 (dk_at dksX4_writes_2 8 rfl rfl)
theorem dX4_writes_57 : decode cX4_writes 57 = .ok (.iastore, 1) := dk_79 (dk_at dksX4_writes_2 9 rfl rfl)
theorem dX4_writes_58 : decode cX4_writes 58 = .ok (.aload_n 0, 1) := dk_42 (dk_at dksX4_writes_2 10 rfl rfl)
theorem dX4_writes_59 : decode cX4_writes 59 = .ok (.getfield 7, 3) := dk_180 0 7 (dk_at dksX4_writes_2 11 rfl rfl)
theorem dX4_writes_62 : decode cX4_writes 62 = .ok (.iload 5, 2) := dk_21 5 (dk_at dksX4_writes_2 14 rfl rfl)
theorem dX4_writes_64 : decode cX4_writes 64 = .ok (.iconst 2, 1) := dk_5 (dk_at dksX4_writes_2 16 rfl rfl)
theorem dX4_writes_65 : decode cX4_writes 65 = .ok (.iadd, 1) := dk_96 (dk_at dksX4_writes_2 17 rfl rfl)
theorem dX4_writes_66 : decode cX4_writes 66 = .ok (.iload_n 3, 1) := dk_29 (dk_at dksX4_writes_2 18 rfl rfl)
theorem dX4_writes_67 : decode cX4_writes 67 = .ok (.iastore, 1) := dk_79 (dk_at dksX4_writes_2 19 rfl rfl)
theorem dX4_writes_68 : decode cX4_writes 68 = .ok (.aload_n 0, 1) := dk_42 (dk_at dksX4_writes_2 20 rfl rfl)
theorem dX4_writes_69 : decode cX4_writes 69 = .ok (.getfield 7, 3) := dk_180 0 7 (dk_at dksX4_writes_2 21 rfl rfl)
theorem dX4_writes_72 : decode cX4_writes 72 = .ok (.iload 5, 2) := dk_21 5 (dk_at dksX4_writes_3 0 rfl rfl)
theorem dX4_writes_74 : decode cX4_writes 74 = .ok (.iconst 3, 1) := dk_6 (dk_at dksX4_writes_3 2 rfl rfl)
theorem dX4_writes_75 : decode cX4_writes 75 = .ok (.iadd, 1) := dk_96 (dk_at dksX4_writes_3 3 rfl rfl)
theorem dX4_writes_76 : decode cX4_writes 76 = .ok (.iload 4, 2) := dk_21 4 (dk_at dksX4_writes_3 4 rfl rfl)
theorem dX4_writes_78 : decode cX4_writes 78 = .ok (.iastore, 1) := dk_79 (dk_at dksX4_writes_3 6 rfl rfl)
theorem dX4_writes_79 : decode cX4_writes 79 = .ok (.aload_n 0, 1) := dk_42 (dk_at dksX4_writes_3 7 rfl rfl)
theorem dX4_writes_80 : decode cX4_writes 80 = .ok (.getfield 7, 3) := dk_180 0 7 (dk_at dksX4_writes_3 8 rfl rfl)
theorem dX4_writes_83 : decode cX4_writes 83 = .ok (.iload 5, 2) := dk_21 5 (dk_at dksX4_writes_3 11 rfl rfl)
theorem dX4_writes_85 : decode cX4_writes 85 = .ok (.iconst 4, 1) := dk_7 (dk_at dksX4_writes_3 13 rfl rfl)
theorem dX4_writes_86 : decode cX4_writes 86 = .ok (.iadd, 1) := dk_96 (dk_at dksX4_writes_3 14 rfl rfl)
theorem dX4_writes_87 : decode cX4_writes 87 = .ok (.aload_n 0, 1) := dk_42 (dk_at dksX4_writes_3 15 rfl rfl)
theorem dX4_writes_88 : decode cX4_writes 88 = .ok (.getfield 7, 3) := dk_180 0 7 (dk_at dksX4_writes_3 16 rfl rfl)
theorem dX4_writes_91 : decode cX4_writes 91 = .ok (.iconst 1, 1) := dk_4 (dk_at dksX4_writes_3 19 rfl rfl)
theorem dX4_writes_92 : decode cX4_writes 92 = .ok (.iaload, 1) := dk_46 (dk_at dksX4_writes_3 20 rfl rfl)
theorem dX4_writes_93 : decode cX4_writes 93 = .ok (.iastore, 1) := dk_79 (dk_at dksX4_writes_3 21 rfl rfl)
theorem dX4_writes_94 : decode cX4_writes 94 = .ok (.aload_n 0, 1) := dk_42 (dk_at dksX4_writes_3 22 rfl rfl)
theorem dX4_writes_95 : decode cX4_writes 95 = .ok (.getfield 7, 3) := dk_180 0 7 (dk_at dksX4_writes_4 0 rfl rfl)
theorem dX4_writes_98 : decode cX4_writes 98 = .ok (.bipush 9, 2) := dk_16 9 (dk_at dksX4_writes_4 3 rfl rfl)
theorem dX4_writes_100 : decode cX4_writes 100 = .ok (.iload_n 2, 1) := dk_28 (dk_at dksX4_writes_4 5 rfl rfl)
theorem dX4_writes_101 : decode cX4_writes 101 = .ok (.iadd, 1) := dk_96 (dk_at dksX4_writes_4 6 rfl rfl)
theorem dX4_writes_102 : decode cX4_writes 102 = .ok (.iload_n 1, 1) := dk_27 (dk_at dksX4_writes_4 7 rfl rfl)
theorem dX4_writes_103 : decode cX4_writes 103 = .ok (.ifCond .ne 15, 3) := dk_154 0 15 (dk_at dksX4_writes_4 8 rfl rfl)
theorem dX4_writes_106 : decode cX4_writes 106 = .ok (.aload_n 0, 1) := dk_42 (dk_at dksX4_writes_4 11 rfl rfl)
theorem dX4_writes_107 : decode cX4_writes 107 = .ok (.getfield 7, 3) := dk_180 0 7 (dk_at dksX4_writes_4 12 rfl rfl)
theorem dX4_writes_110 : decode cX4_writes 110 = .ok (.bipush 9, 2) := dk_16 9 (dk_at dksX4_writes_4 15 rfl rfl)
theorem dX4_writes_112 : decode cX4_writes 112 = .ok (.iload_n 2, 1) := dk_28 (dk_at dksX4_writes_4 17 rfl rfl)
theorem dX4_writes_113 : decode cX4_writes 113 = .ok (.iadd, 1) := dk_96 (dk_at dksX4_writes_4 18 rfl rfl)
theorem dX4_writes_114 : decode cX4_writes 114 = .ok (.iaload, 1) := dk_46 (dk_at dksX4_writes_4 19 rfl rfl)
theorem dX4_writes_115 : decode cX4_writes 115 = .ok (.goto 4, 3) := dk_167 0 4 (dk_at dksX4_writes_4 20 rfl rfl)
theorem dX4_writes_118 : decode cX4_writes 118 = .ok (.iconst 0, 1) := dk_3 (dk_at dksX4_writes_4 23 rfl rfl)
theorem dX4_writes_119 : decode cX4_writes 119 = .ok (.iastore, 1) := dk_79 (dk_at dksX4_writes_5 0 rfl rfl)
theorem dX4_writes_120 : decode cX4_writes 120 = .ok (.aload_n 0, 1) := dk_42 (dk_at dksX4_writes_5 1 rfl rfl)
theorem dX4_writes_121 : decode cX4_writes 121 = .ok (.getfield 7, 3) := dk_180 0 7 (dk_at dksX4_writes_5 2 rfl rfl)
theorem dX4_writes_124 : decode cX4_writes 124 = .ok (.iconst 0, 1) := dk_3 (dk_at dksX4_writes_5 5 rfl rfl)
theorem dX4_writes_125 : decode cX4_writes 125 = .ok (.iaload, 1) := dk_46 (dk_at dksX4_writes_5 6 rfl rfl)
theorem dX4_writes_126 : decode cX4_writes 126 = .ok (.ireturn, 1) := dk_172 (dk_at dksX4_writes_5 7 rfl rfl)
abbrev cX4_commit : ByteArray := prog_11_method_16_code
def yX4_commit : MethodName := ⟨RX4, "commit", "(I)I"⟩
def dkwX4_commit_1 : List UInt8 := [172]
abbrev dktX4_commit_1 : List UInt8 := dkwX4_commit_1 ++ []
def dkwX4_commit_0 : List UInt8 := [42, 27, 182, 0, 50, 61, 28, 156, 0, 7, 28, 167, 0, 13, 42, 4, 27, 18, 58, 18, 58, 182, 0, 54]
abbrev dktX4_commit_0 : List UInt8 := dkwX4_commit_0 ++ dktX4_commit_1
theorem dksX4_commit_0 : cX4_commit.data.toList.drop 0 = dktX4_commit_0 := by decide +kernel
theorem dksX4_commit_1 : cX4_commit.data.toList.drop 24 = dktX4_commit_1 := dk_seg dksX4_commit_0 24 rfl rfl
theorem dX4_commit_0 : decode cX4_commit 0 = .ok (.aload_n 0, 1) := dk_42 (dk_at dksX4_commit_0 0 rfl rfl)
theorem dX4_commit_1 : decode cX4_commit 1 = .ok (.iload_n 1, 1) := dk_27 (dk_at dksX4_commit_0 1 rfl rfl)
theorem dX4_commit_2 : decode cX4_commit 2 = .ok (.invokevirtual 50, 3) := dk_182 0 50 (dk_at dksX4_commit_0 2 rfl rfl)
theorem dX4_commit_5 : decode cX4_commit 5 = .ok (.istore_n 2, 1) := dk_61 (dk_at dksX4_commit_0 5 rfl rfl)
theorem dX4_commit_6 : decode cX4_commit 6 = .ok (.iload_n 2, 1) := dk_28 (dk_at dksX4_commit_0 6 rfl rfl)
theorem dX4_commit_7 : decode cX4_commit 7 = .ok (.ifCond .ge 7, 3) := dk_156 0 7 (dk_at dksX4_commit_0 7 rfl rfl)
theorem dX4_commit_10 : decode cX4_commit 10 = .ok (.iload_n 2, 1) := dk_28 (dk_at dksX4_commit_0 10 rfl rfl)
theorem dX4_commit_11 : decode cX4_commit 11 = .ok (.goto 13, 3) := dk_167 0 13 (dk_at dksX4_commit_0 11 rfl rfl)
theorem dX4_commit_14 : decode cX4_commit 14 = .ok (.aload_n 0, 1) := dk_42 (dk_at dksX4_commit_0 14 rfl rfl)
theorem dX4_commit_15 : decode cX4_commit 15 = .ok (.iconst 1, 1) := dk_4 (dk_at dksX4_commit_0 15 rfl rfl)
theorem dX4_commit_16 : decode cX4_commit 16 = .ok (.iload_n 1, 1) := dk_27 (dk_at dksX4_commit_0 16 rfl rfl)
theorem dX4_commit_17 : decode cX4_commit 17 = .ok (.ldc 58, 2) := dk_18 58 (dk_at dksX4_commit_0 17 rfl rfl)
theorem dX4_commit_19 : decode cX4_commit 19 = .ok (.ldc 58, 2) := dk_18 58 (dk_at dksX4_commit_0 19 rfl rfl)
theorem dX4_commit_21 : decode cX4_commit 21 = .ok (.invokevirtual 54, 3) := dk_182 0 54 (dk_at dksX4_commit_0 21 rfl rfl)
theorem dX4_commit_24 : decode cX4_commit 24 = .ok (.ireturn, 1) := dk_172 (dk_at dksX4_commit_1 0 rfl rfl)
abbrev cX4_abort : ByteArray := prog_11_method_17_code
def yX4_abort : MethodName := ⟨RX4, "abort", "(I)I"⟩
def dkwX4_abort_1 : List UInt8 := [172]
abbrev dktX4_abort_1 : List UInt8 := dkwX4_abort_1 ++ []
def dkwX4_abort_0 : List UInt8 := [42, 27, 182, 0, 50, 61, 28, 156, 0, 7, 28, 167, 0, 13, 42, 5, 27, 18, 58, 18, 58, 182, 0, 54]
abbrev dktX4_abort_0 : List UInt8 := dkwX4_abort_0 ++ dktX4_abort_1
theorem dksX4_abort_0 : cX4_abort.data.toList.drop 0 = dktX4_abort_0 := by decide +kernel
theorem dksX4_abort_1 : cX4_abort.data.toList.drop 24 = dktX4_abort_1 := dk_seg dksX4_abort_0 24 rfl rfl
theorem dX4_abort_0 : decode cX4_abort 0 = .ok (.aload_n 0, 1) := dk_42 (dk_at dksX4_abort_0 0 rfl rfl)
theorem dX4_abort_1 : decode cX4_abort 1 = .ok (.iload_n 1, 1) := dk_27 (dk_at dksX4_abort_0 1 rfl rfl)
theorem dX4_abort_2 : decode cX4_abort 2 = .ok (.invokevirtual 50, 3) := dk_182 0 50 (dk_at dksX4_abort_0 2 rfl rfl)
theorem dX4_abort_5 : decode cX4_abort 5 = .ok (.istore_n 2, 1) := dk_61 (dk_at dksX4_abort_0 5 rfl rfl)
theorem dX4_abort_6 : decode cX4_abort 6 = .ok (.iload_n 2, 1) := dk_28 (dk_at dksX4_abort_0 6 rfl rfl)
theorem dX4_abort_7 : decode cX4_abort 7 = .ok (.ifCond .ge 7, 3) := dk_156 0 7 (dk_at dksX4_abort_0 7 rfl rfl)
theorem dX4_abort_10 : decode cX4_abort 10 = .ok (.iload_n 2, 1) := dk_28 (dk_at dksX4_abort_0 10 rfl rfl)
theorem dX4_abort_11 : decode cX4_abort 11 = .ok (.goto 13, 3) := dk_167 0 13 (dk_at dksX4_abort_0 11 rfl rfl)
theorem dX4_abort_14 : decode cX4_abort 14 = .ok (.aload_n 0, 1) := dk_42 (dk_at dksX4_abort_0 14 rfl rfl)
theorem dX4_abort_15 : decode cX4_abort 15 = .ok (.iconst 2, 1) := dk_5 (dk_at dksX4_abort_0 15 rfl rfl)
theorem dX4_abort_16 : decode cX4_abort 16 = .ok (.iload_n 1, 1) := dk_27 (dk_at dksX4_abort_0 16 rfl rfl)
theorem dX4_abort_17 : decode cX4_abort 17 = .ok (.ldc 58, 2) := dk_18 58 (dk_at dksX4_abort_0 17 rfl rfl)
theorem dX4_abort_19 : decode cX4_abort 19 = .ok (.ldc 58, 2) := dk_18 58 (dk_at dksX4_abort_0 19 rfl rfl)
theorem dX4_abort_21 : decode cX4_abort 21 = .ok (.invokevirtual 54, 3) := dk_182 0 54 (dk_at dksX4_abort_0 21 rfl rfl)
theorem dX4_abort_24 : decode cX4_abort 24 = .ok (.ireturn, 1) := dk_172 (dk_at dksX4_abort_1 0 rfl rfl)
abbrev cX4_ship : ByteArray := prog_11_method_22_code
def yX4_ship : MethodName := ⟨RX4, "ship", "(II)I"⟩
def dkwX4_ship_3 : List UInt8 := [27, 104, 96, 3, 96, 92, 46, 21, 4, 96, 79, 21, 4, 172]
abbrev dktX4_ship_3 : List UInt8 := dkwX4_ship_3 ++ []
def dkwX4_ship_2 : List UInt8 := [182, 0, 72, 100, 62, 29, 28, 162, 0, 7, 29, 167, 0, 4, 28, 54, 4, 42, 180, 0, 7, 16, 12, 6]
abbrev dktX4_ship_2 : List UInt8 := dkwX4_ship_2 ++ dktX4_ship_3
def dkwX4_ship_1 : List UInt8 := [182, 0, 72, 4, 160, 0, 6, 18, 42, 172, 42, 182, 0, 43, 42, 180, 0, 7, 3, 46, 42, 27, 3]
abbrev dktX4_ship_1 : List UInt8 := dkwX4_ship_1 ++ dktX4_ship_2
def dkwX4_ship_0 : List UInt8 := [27, 184, 0, 69, 153, 0, 13, 28, 4, 16, 20, 184, 0, 33, 154, 0, 6, 18, 41, 172, 42, 27, 5]
abbrev dktX4_ship_0 : List UInt8 := dkwX4_ship_0 ++ dktX4_ship_1
theorem dksX4_ship_0 : cX4_ship.data.toList.drop 0 = dktX4_ship_0 := by decide +kernel
theorem dksX4_ship_1 : cX4_ship.data.toList.drop 23 = dktX4_ship_1 := dk_seg dksX4_ship_0 23 rfl rfl
theorem dksX4_ship_2 : cX4_ship.data.toList.drop 46 = dktX4_ship_2 := dk_seg dksX4_ship_1 23 rfl rfl
theorem dksX4_ship_3 : cX4_ship.data.toList.drop 70 = dktX4_ship_3 := dk_seg dksX4_ship_2 24 rfl rfl
theorem dX4_ship_0 : decode cX4_ship 0 = .ok (.iload_n 1, 1) := dk_27 (dk_at dksX4_ship_0 0 rfl rfl)
theorem dX4_ship_1 : decode cX4_ship 1 = .ok (.invokestatic 69, 3) := dk_184 0 69 (dk_at dksX4_ship_0 1 rfl rfl)
theorem dX4_ship_4 : decode cX4_ship 4 = .ok (.ifCond .eq 13, 3) := dk_153 0 13 (dk_at dksX4_ship_0 4 rfl rfl)
theorem dX4_ship_7 : decode cX4_ship 7 = .ok (.iload_n 2, 1) := dk_28 (dk_at dksX4_ship_0 7 rfl rfl)
theorem dX4_ship_8 : decode cX4_ship 8 = .ok (.iconst 1, 1) := dk_4 (dk_at dksX4_ship_0 8 rfl rfl)
theorem dX4_ship_9 : decode cX4_ship 9 = .ok (.bipush 20, 2) := dk_16 20 (dk_at dksX4_ship_0 9 rfl rfl)
theorem dX4_ship_11 : decode cX4_ship 11 = .ok (.invokestatic 33, 3) := dk_184 0 33 (dk_at dksX4_ship_0 11 rfl rfl)
theorem dX4_ship_14 : decode cX4_ship 14 = .ok (.ifCond .ne 6, 3) := dk_154 0 6 (dk_at dksX4_ship_0 14 rfl rfl)
theorem dX4_ship_17 : decode cX4_ship 17 = .ok (.ldc 41, 2) := dk_18 41 (dk_at dksX4_ship_0 17 rfl rfl)
theorem dX4_ship_19 : decode cX4_ship 19 = .ok (.ireturn, 1) := dk_172 (dk_at dksX4_ship_0 19 rfl rfl)
theorem dX4_ship_20 : decode cX4_ship 20 = .ok (.aload_n 0, 1) := dk_42 (dk_at dksX4_ship_0 20 rfl rfl)
theorem dX4_ship_21 : decode cX4_ship 21 = .ok (.iload_n 1, 1) := dk_27 (dk_at dksX4_ship_0 21 rfl rfl)
theorem dX4_ship_22 : decode cX4_ship 22 = .ok (.iconst 2, 1) := dk_5 (dk_at dksX4_ship_0 22 rfl rfl)
theorem dX4_ship_23 : decode cX4_ship 23 = .ok (.invokevirtual 72, 3) := dk_182 0 72 (dk_at dksX4_ship_1 0 rfl rfl)
theorem dX4_ship_26 : decode cX4_ship 26 = .ok (.iconst 1, 1) := dk_4 (dk_at dksX4_ship_1 3 rfl rfl)
theorem dX4_ship_27 : decode cX4_ship 27 = .ok (.if_icmp .ne 6, 3) := dk_160 0 6 (dk_at dksX4_ship_1 4 rfl rfl)
theorem dX4_ship_30 : decode cX4_ship 30 = .ok (.ldc 42, 2) := dk_18 42 (dk_at dksX4_ship_1 7 rfl rfl)
theorem dX4_ship_32 : decode cX4_ship 32 = .ok (.ireturn, 1) := dk_172 (dk_at dksX4_ship_1 9 rfl rfl)
theorem dX4_ship_33 : decode cX4_ship 33 = .ok (.aload_n 0, 1) := dk_42 (dk_at dksX4_ship_1 10 rfl rfl)
theorem dX4_ship_34 : decode cX4_ship 34 = .ok (.invokevirtual 43, 3) := dk_182 0 43 (dk_at dksX4_ship_1 11 rfl rfl)
theorem dX4_ship_37 : decode cX4_ship 37 = .ok (.aload_n 0, 1) := dk_42 (dk_at dksX4_ship_1 14 rfl rfl)
theorem dX4_ship_38 : decode cX4_ship 38 = .ok (.getfield 7, 3) := dk_180 0 7 (dk_at dksX4_ship_1 15 rfl rfl)
theorem dX4_ship_41 : decode cX4_ship 41 = .ok (.iconst 0, 1) := dk_3 (dk_at dksX4_ship_1 18 rfl rfl)
theorem dX4_ship_42 : decode cX4_ship 42 = .ok (.iaload, 1) := dk_46 (dk_at dksX4_ship_1 19 rfl rfl)
theorem dX4_ship_43 : decode cX4_ship 43 = .ok (.aload_n 0, 1) := dk_42 (dk_at dksX4_ship_1 20 rfl rfl)
theorem dX4_ship_44 : decode cX4_ship 44 = .ok (.iload_n 1, 1) := dk_27 (dk_at dksX4_ship_1 21 rfl rfl)
theorem dX4_ship_45 : decode cX4_ship 45 = .ok (.iconst 0, 1) := dk_3 (dk_at dksX4_ship_1 22 rfl rfl)
theorem dX4_ship_46 : decode cX4_ship 46 = .ok (.invokevirtual 72, 3) := dk_182 0 72 (dk_at dksX4_ship_2 0 rfl rfl)
theorem dX4_ship_49 : decode cX4_ship 49 = .ok (.isub, 1) := dk_100 (dk_at dksX4_ship_2 3 rfl rfl)
theorem dX4_ship_50 : decode cX4_ship 50 = .ok (.istore_n 3, 1) := dk_62 (dk_at dksX4_ship_2 4 rfl rfl)
theorem dX4_ship_51 : decode cX4_ship 51 = .ok (.iload_n 3, 1) := dk_29 (dk_at dksX4_ship_2 5 rfl rfl)
theorem dX4_ship_52 : decode cX4_ship 52 = .ok (.iload_n 2, 1) := dk_28 (dk_at dksX4_ship_2 6 rfl rfl)
theorem dX4_ship_53 : decode cX4_ship 53 = .ok (.if_icmp .ge 7, 3) := dk_162 0 7 (dk_at dksX4_ship_2 7 rfl rfl)
theorem dX4_ship_56 : decode cX4_ship 56 = .ok (.iload_n 3, 1) := dk_29 (dk_at dksX4_ship_2 10 rfl rfl)
theorem dX4_ship_57 : decode cX4_ship 57 = .ok (.goto 4, 3) := dk_167 0 4 (dk_at dksX4_ship_2 11 rfl rfl)
theorem dX4_ship_60 : decode cX4_ship 60 = .ok (.iload_n 2, 1) := dk_28 (dk_at dksX4_ship_2 14 rfl rfl)
theorem dX4_ship_61 : decode cX4_ship 61 = .ok (.istore 4, 2) := dk_54 4 (dk_at dksX4_ship_2 15 rfl rfl)
theorem dX4_ship_63 : decode cX4_ship 63 = .ok (.aload_n 0, 1) := dk_42 (dk_at dksX4_ship_2 17 rfl rfl)
theorem dX4_ship_64 : decode cX4_ship 64 = .ok (.getfield 7, 3) := dk_180 0 7 (dk_at dksX4_ship_2 18 rfl rfl)
theorem dX4_ship_67 : decode cX4_ship 67 = .ok (.bipush 12, 2) := dk_16 12 (dk_at dksX4_ship_2 21 rfl rfl)
theorem dX4_ship_69 : decode cX4_ship 69 = .ok (.iconst 3, 1) := dk_6 (dk_at dksX4_ship_2 23 rfl rfl)
theorem dX4_ship_70 : decode cX4_ship 70 = .ok (.iload_n 1, 1) := dk_27 (dk_at dksX4_ship_3 0 rfl rfl)
theorem dX4_ship_71 : decode cX4_ship 71 = .ok (.imul, 1) := dk_104 (dk_at dksX4_ship_3 1 rfl rfl)
theorem dX4_ship_72 : decode cX4_ship 72 = .ok (.iadd, 1) := dk_96 (dk_at dksX4_ship_3 2 rfl rfl)
theorem dX4_ship_73 : decode cX4_ship 73 = .ok (.iconst 0, 1) := dk_3 (dk_at dksX4_ship_3 3 rfl rfl)
theorem dX4_ship_74 : decode cX4_ship 74 = .ok (.iadd, 1) := dk_96 (dk_at dksX4_ship_3 4 rfl rfl)
theorem dX4_ship_75 : decode cX4_ship 75 = .ok (.dup2, 1) := dk_92 (dk_at dksX4_ship_3 5 rfl rfl)
theorem dX4_ship_76 : decode cX4_ship 76 = .ok (.iaload, 1) := dk_46 (dk_at dksX4_ship_3 6 rfl rfl)
theorem dX4_ship_77 : decode cX4_ship 77 = .ok (.iload 4, 2) := dk_21 4 (dk_at dksX4_ship_3 7 rfl rfl)
theorem dX4_ship_79 : decode cX4_ship 79 = .ok (.iadd, 1) := dk_96 (dk_at dksX4_ship_3 9 rfl rfl)
theorem dX4_ship_80 : decode cX4_ship 80 = .ok (.iastore, 1) := dk_79 (dk_at dksX4_ship_3 10 rfl rfl)
theorem dX4_ship_81 : decode cX4_ship 81 = .ok (.iload 4, 2) := dk_21 4 (dk_at dksX4_ship_3 11 rfl rfl)
theorem dX4_ship_83 : decode cX4_ship 83 = .ok (.ireturn, 1) := dk_172 (dk_at dksX4_ship_3 13 rfl rfl)
abbrev cX4_isStandby : ByteArray := prog_11_method_8_code
def yX4_isStandby : MethodName := ⟨RX4, "isStandby", "(I)Z"⟩
def dkwX4_isStandby_0 : List UInt8 := [26, 3, 4, 184, 0, 33, 172]
abbrev dktX4_isStandby_0 : List UInt8 := dkwX4_isStandby_0 ++ []
theorem dksX4_isStandby_0 : cX4_isStandby.data.toList.drop 0 = dktX4_isStandby_0 := by decide +kernel
theorem dX4_isStandby_0 : decode cX4_isStandby 0 = .ok (.iload_n 0, 1) := dk_26 (dk_at dksX4_isStandby_0 0 rfl rfl)
theorem dX4_isStandby_1 : decode cX4_isStandby 1 = .ok (.iconst 0, 1) := dk_3 (dk_at dksX4_isStandby_0 1 rfl rfl)
theorem dX4_isStandby_2 : decode cX4_isStandby 2 = .ok (.iconst 1, 1) := dk_4 (dk_at dksX4_isStandby_0 2 rfl rfl)
theorem dX4_isStandby_3 : decode cX4_isStandby 3 = .ok (.invokestatic 33, 3) := dk_184 0 33 (dk_at dksX4_isStandby_0 3 rfl rfl)
theorem dX4_isStandby_6 : decode cX4_isStandby 6 = .ok (.ireturn, 1) := dk_172 (dk_at dksX4_isStandby_0 6 rfl rfl)
abbrev cX4_ofStandby : ByteArray := prog_11_method_10_code
def yX4_ofStandby : MethodName := ⟨RX4, "ofStandby", "(II)I"⟩
def dkwX4_ofStandby_0 : List UInt8 := [42, 180, 0, 7, 16, 12, 6, 27, 104, 96, 28, 96, 46, 172]
abbrev dktX4_ofStandby_0 : List UInt8 := dkwX4_ofStandby_0 ++ []
theorem dksX4_ofStandby_0 : cX4_ofStandby.data.toList.drop 0 = dktX4_ofStandby_0 := by decide +kernel
theorem dX4_ofStandby_0 : decode cX4_ofStandby 0 = .ok (.aload_n 0, 1) := dk_42 (dk_at dksX4_ofStandby_0 0 rfl rfl)
theorem dX4_ofStandby_1 : decode cX4_ofStandby 1 = .ok (.getfield 7, 3) := dk_180 0 7 (dk_at dksX4_ofStandby_0 1 rfl rfl)
theorem dX4_ofStandby_4 : decode cX4_ofStandby 4 = .ok (.bipush 12, 2) := dk_16 12 (dk_at dksX4_ofStandby_0 4 rfl rfl)
theorem dX4_ofStandby_6 : decode cX4_ofStandby 6 = .ok (.iconst 3, 1) := dk_6 (dk_at dksX4_ofStandby_0 6 rfl rfl)
theorem dX4_ofStandby_7 : decode cX4_ofStandby 7 = .ok (.iload_n 1, 1) := dk_27 (dk_at dksX4_ofStandby_0 7 rfl rfl)
theorem dX4_ofStandby_8 : decode cX4_ofStandby 8 = .ok (.imul, 1) := dk_104 (dk_at dksX4_ofStandby_0 8 rfl rfl)
theorem dX4_ofStandby_9 : decode cX4_ofStandby 9 = .ok (.iadd, 1) := dk_96 (dk_at dksX4_ofStandby_0 9 rfl rfl)
theorem dX4_ofStandby_10 : decode cX4_ofStandby 10 = .ok (.iload_n 2, 1) := dk_28 (dk_at dksX4_ofStandby_0 10 rfl rfl)
theorem dX4_ofStandby_11 : decode cX4_ofStandby 11 = .ok (.iadd, 1) := dk_96 (dk_at dksX4_ofStandby_0 11 rfl rfl)
theorem dX4_ofStandby_12 : decode cX4_ofStandby 12 = .ok (.iaload, 1) := dk_46 (dk_at dksX4_ofStandby_0 12 rfl rfl)
theorem dX4_ofStandby_13 : decode cX4_ofStandby 13 = .ok (.ireturn, 1) := dk_172 (dk_at dksX4_ofStandby_0 13 rfl rfl)
abbrev cX4_lose : ByteArray := prog_11_method_26_code
def yX4_lose : MethodName := ⟨RX4, "lose", "(II)I"⟩
def dkwX4_lose_3 : List UInt8 := [104, 96, 28, 96, 4, 100, 4, 79, 42, 180, 0, 7, 8, 92, 46, 4, 96, 79, 42, 27, 182, 0, 79, 172]
abbrev dktX4_lose_3 : List UInt8 := dkwX4_lose_3 ++ []
def dkwX4_lose_2 : List UInt8 := [27, 28, 182, 0, 75, 153, 0, 6, 18, 42, 172, 42, 182, 0, 43, 42, 180, 0, 7, 16, 18, 16, 100, 27]
abbrev dktX4_lose_2 : List UInt8 := dkwX4_lose_2 ++ dktX4_lose_3
def dkwX4_lose_1 : List UInt8 := [159, 0, 32, 28, 42, 27, 3, 182, 0, 72, 163, 0, 22, 28, 42, 27, 4, 182, 0, 72, 164, 0, 12, 42]
abbrev dktX4_lose_1 : List UInt8 := dkwX4_lose_1 ++ dktX4_lose_2
def dkwX4_lose_0 : List UInt8 := [27, 184, 0, 69, 153, 0, 8, 28, 4, 162, 0, 6, 18, 41, 172, 42, 27, 5, 182, 0, 72, 4]
abbrev dktX4_lose_0 : List UInt8 := dkwX4_lose_0 ++ dktX4_lose_1
theorem dksX4_lose_0 : cX4_lose.data.toList.drop 0 = dktX4_lose_0 := by decide +kernel
theorem dksX4_lose_1 : cX4_lose.data.toList.drop 22 = dktX4_lose_1 := dk_seg dksX4_lose_0 22 rfl rfl
theorem dksX4_lose_2 : cX4_lose.data.toList.drop 46 = dktX4_lose_2 := dk_seg dksX4_lose_1 24 rfl rfl
theorem dksX4_lose_3 : cX4_lose.data.toList.drop 70 = dktX4_lose_3 := dk_seg dksX4_lose_2 24 rfl rfl
theorem dX4_lose_0 : decode cX4_lose 0 = .ok (.iload_n 1, 1) := dk_27 (dk_at dksX4_lose_0 0 rfl rfl)
theorem dX4_lose_1 : decode cX4_lose 1 = .ok (.invokestatic 69, 3) := dk_184 0 69 (dk_at dksX4_lose_0 1 rfl rfl)
theorem dX4_lose_4 : decode cX4_lose 4 = .ok (.ifCond .eq 8, 3) := dk_153 0 8 (dk_at dksX4_lose_0 4 rfl rfl)
theorem dX4_lose_7 : decode cX4_lose 7 = .ok (.iload_n 2, 1) := dk_28 (dk_at dksX4_lose_0 7 rfl rfl)
theorem dX4_lose_8 : decode cX4_lose 8 = .ok (.iconst 1, 1) := dk_4 (dk_at dksX4_lose_0 8 rfl rfl)
theorem dX4_lose_9 : decode cX4_lose 9 = .ok (.if_icmp .ge 6, 3) := dk_162 0 6 (dk_at dksX4_lose_0 9 rfl rfl)
theorem dX4_lose_12 : decode cX4_lose 12 = .ok (.ldc 41, 2) := dk_18 41 (dk_at dksX4_lose_0 12 rfl rfl)
theorem dX4_lose_14 : decode cX4_lose 14 = .ok (.ireturn, 1) := dk_172 (dk_at dksX4_lose_0 14 rfl rfl)
theorem dX4_lose_15 : decode cX4_lose 15 = .ok (.aload_n 0, 1) := dk_42 (dk_at dksX4_lose_0 15 rfl rfl)
theorem dX4_lose_16 : decode cX4_lose 16 = .ok (.iload_n 1, 1) := dk_27 (dk_at dksX4_lose_0 16 rfl rfl)
theorem dX4_lose_17 : decode cX4_lose 17 = .ok (.iconst 2, 1) := dk_5 (dk_at dksX4_lose_0 17 rfl rfl)
theorem dX4_lose_18 : decode cX4_lose 18 = .ok (.invokevirtual 72, 3) := dk_182 0 72 (dk_at dksX4_lose_0 18 rfl rfl)
theorem dX4_lose_21 : decode cX4_lose 21 = .ok (.iconst 1, 1) := dk_4 (dk_at dksX4_lose_0 21 rfl rfl)
theorem dX4_lose_22 : decode cX4_lose 22 = .ok (.if_icmp .eq 32, 3) := dk_159 0 32 (dk_at dksX4_lose_1 0 rfl rfl)
theorem dX4_lose_25 : decode cX4_lose 25 = .ok (.iload_n 2, 1) := dk_28 (dk_at dksX4_lose_1 3 rfl rfl)
theorem dX4_lose_26 : decode cX4_lose 26 = .ok (.aload_n 0, 1) := dk_42 (dk_at dksX4_lose_1 4 rfl rfl)
theorem dX4_lose_27 : decode cX4_lose 27 = .ok (.iload_n 1, 1) := dk_27 (dk_at dksX4_lose_1 5 rfl rfl)
theorem dX4_lose_28 : decode cX4_lose 28 = .ok (.iconst 0, 1) := dk_3 (dk_at dksX4_lose_1 6 rfl rfl)
theorem dX4_lose_29 : decode cX4_lose 29 = .ok (.invokevirtual 72, 3) := dk_182 0 72 (dk_at dksX4_lose_1 7 rfl rfl)
theorem dX4_lose_32 : decode cX4_lose 32 = .ok (.if_icmp .gt 22, 3) := dk_163 0 22 (dk_at dksX4_lose_1 10 rfl rfl)
theorem dX4_lose_35 : decode cX4_lose 35 = .ok (.iload_n 2, 1) := dk_28 (dk_at dksX4_lose_1 13 rfl rfl)
theorem dX4_lose_36 : decode cX4_lose 36 = .ok (.aload_n 0, 1) := dk_42 (dk_at dksX4_lose_1 14 rfl rfl)
theorem dX4_lose_37 : decode cX4_lose 37 = .ok (.iload_n 1, 1) := dk_27 (dk_at dksX4_lose_1 15 rfl rfl)
theorem dX4_lose_38 : decode cX4_lose 38 = .ok (.iconst 1, 1) := dk_4 (dk_at dksX4_lose_1 16 rfl rfl)
theorem dX4_lose_39 : decode cX4_lose 39 = .ok (.invokevirtual 72, 3) := dk_182 0 72 (dk_at dksX4_lose_1 17 rfl rfl)
theorem dX4_lose_42 : decode cX4_lose 42 = .ok (.if_icmp .le 12, 3) := dk_164 0 12 (dk_at dksX4_lose_1 20 rfl rfl)
theorem dX4_lose_45 : decode cX4_lose 45 = .ok (.aload_n 0, 1) := dk_42 (dk_at dksX4_lose_1 23 rfl rfl)
theorem dX4_lose_46 : decode cX4_lose 46 = .ok (.iload_n 1, 1) := dk_27 (dk_at dksX4_lose_2 0 rfl rfl)
theorem dX4_lose_47 : decode cX4_lose 47 = .ok (.iload_n 2, 1) := dk_28 (dk_at dksX4_lose_2 1 rfl rfl)
theorem dX4_lose_48 : decode cX4_lose 48 = .ok (.invokevirtual 75, 3) := dk_182 0 75 (dk_at dksX4_lose_2 2 rfl rfl)
theorem dX4_lose_51 : decode cX4_lose 51 = .ok (.ifCond .eq 6, 3) := dk_153 0 6 (dk_at dksX4_lose_2 5 rfl rfl)
theorem dX4_lose_54 : decode cX4_lose 54 = .ok (.ldc 42, 2) := dk_18 42 (dk_at dksX4_lose_2 8 rfl rfl)
theorem dX4_lose_56 : decode cX4_lose 56 = .ok (.ireturn, 1) := dk_172 (dk_at dksX4_lose_2 10 rfl rfl)
theorem dX4_lose_57 : decode cX4_lose 57 = .ok (.aload_n 0, 1) := dk_42 (dk_at dksX4_lose_2 11 rfl rfl)
theorem dX4_lose_58 : decode cX4_lose 58 = .ok (.invokevirtual 43, 3) := dk_182 0 43 (dk_at dksX4_lose_2 12 rfl rfl)
theorem dX4_lose_61 : decode cX4_lose 61 = .ok (.aload_n 0, 1) := dk_42 (dk_at dksX4_lose_2 15 rfl rfl)
theorem dX4_lose_62 : decode cX4_lose 62 = .ok (.getfield 7, 3) := dk_180 0 7 (dk_at dksX4_lose_2 16 rfl rfl)
theorem dX4_lose_65 : decode cX4_lose 65 = .ok (.bipush 18, 2) := dk_16 18 (dk_at dksX4_lose_2 19 rfl rfl)
theorem dX4_lose_67 : decode cX4_lose 67 = .ok (.bipush 100, 2) := dk_16 100 (dk_at dksX4_lose_2 21 rfl rfl)
theorem dX4_lose_69 : decode cX4_lose 69 = .ok (.iload_n 1, 1) := dk_27 (dk_at dksX4_lose_2 23 rfl rfl)
theorem dX4_lose_70 : decode cX4_lose 70 = .ok (.imul, 1) := dk_104 (dk_at dksX4_lose_3 0 rfl rfl)
theorem dX4_lose_71 : decode cX4_lose 71 = .ok (.iadd, 1) := dk_96 (dk_at dksX4_lose_3 1 rfl rfl)
theorem dX4_lose_72 : decode cX4_lose 72 = .ok (.iload_n 2, 1) := dk_28 (dk_at dksX4_lose_3 2 rfl rfl)
theorem dX4_lose_73 : decode cX4_lose 73 = .ok (.iadd, 1) := dk_96 (dk_at dksX4_lose_3 3 rfl rfl)
theorem dX4_lose_74 : decode cX4_lose 74 = .ok (.iconst 1, 1) := dk_4 (dk_at dksX4_lose_3 4 rfl rfl)
theorem dX4_lose_75 : decode cX4_lose 75 = .ok (.isub, 1) := dk_100 (dk_at dksX4_lose_3 5 rfl rfl)
theorem dX4_lose_76 : decode cX4_lose 76 = .ok (.iconst 1, 1) := dk_4 (dk_at dksX4_lose_3 6 rfl rfl)
theorem dX4_lose_77 : decode cX4_lose 77 = .ok (.iastore, 1) := dk_79 (dk_at dksX4_lose_3 7 rfl rfl)
theorem dX4_lose_78 : decode cX4_lose 78 = .ok (.aload_n 0, 1) := dk_42 (dk_at dksX4_lose_3 8 rfl rfl)
theorem dX4_lose_79 : decode cX4_lose 79 = .ok (.getfield 7, 3) := dk_180 0 7 (dk_at dksX4_lose_3 9 rfl rfl)
theorem dX4_lose_82 : decode cX4_lose 82 = .ok (.iconst 5, 1) := dk_8 (dk_at dksX4_lose_3 12 rfl rfl)
theorem dX4_lose_83 : decode cX4_lose 83 = .ok (.dup2, 1) := dk_92 (dk_at dksX4_lose_3 13 rfl rfl)
theorem dX4_lose_84 : decode cX4_lose 84 = .ok (.iaload, 1) := dk_46 (dk_at dksX4_lose_3 14 rfl rfl)
theorem dX4_lose_85 : decode cX4_lose 85 = .ok (.iconst 1, 1) := dk_4 (dk_at dksX4_lose_3 15 rfl rfl)
theorem dX4_lose_86 : decode cX4_lose 86 = .ok (.iadd, 1) := dk_96 (dk_at dksX4_lose_3 16 rfl rfl)
theorem dX4_lose_87 : decode cX4_lose 87 = .ok (.iastore, 1) := dk_79 (dk_at dksX4_lose_3 17 rfl rfl)
theorem dX4_lose_88 : decode cX4_lose 88 = .ok (.aload_n 0, 1) := dk_42 (dk_at dksX4_lose_3 18 rfl rfl)
theorem dX4_lose_89 : decode cX4_lose 89 = .ok (.iload_n 1, 1) := dk_27 (dk_at dksX4_lose_3 19 rfl rfl)
theorem dX4_lose_90 : decode cX4_lose 90 = .ok (.invokevirtual 79, 3) := dk_182 0 79 (dk_at dksX4_lose_3 20 rfl rfl)
theorem dX4_lose_93 : decode cX4_lose 93 = .ok (.ireturn, 1) := dk_172 (dk_at dksX4_lose_3 23 rfl rfl)
abbrev cX4_isGap : ByteArray := prog_11_method_11_code
def yX4_isGap : MethodName := ⟨RX4, "isGap", "(II)Z"⟩
def dkwX4_isGap_1 : List UInt8 := [3, 172]
abbrev dktX4_isGap_1 : List UInt8 := dkwX4_isGap_1 ++ []
def dkwX4_isGap_0 : List UInt8 := [42, 180, 0, 7, 16, 18, 16, 100, 27, 104, 96, 28, 96, 4, 100, 46, 4, 160, 0, 7, 4, 167, 0, 4]
abbrev dktX4_isGap_0 : List UInt8 := dkwX4_isGap_0 ++ dktX4_isGap_1
theorem dksX4_isGap_0 : cX4_isGap.data.toList.drop 0 = dktX4_isGap_0 := by decide +kernel
theorem dksX4_isGap_1 : cX4_isGap.data.toList.drop 24 = dktX4_isGap_1 := dk_seg dksX4_isGap_0 24 rfl rfl
theorem dX4_isGap_0 : decode cX4_isGap 0 = .ok (.aload_n 0, 1) := dk_42 (dk_at dksX4_isGap_0 0 rfl rfl)
theorem dX4_isGap_1 : decode cX4_isGap 1 = .ok (.getfield 7, 3) := dk_180 0 7 (dk_at dksX4_isGap_0 1 rfl rfl)
theorem dX4_isGap_4 : decode cX4_isGap 4 = .ok (.bipush 18, 2) := dk_16 18 (dk_at dksX4_isGap_0 4 rfl rfl)
theorem dX4_isGap_6 : decode cX4_isGap 6 = .ok (.bipush 100, 2) := dk_16 100 (dk_at dksX4_isGap_0 6 rfl rfl)
theorem dX4_isGap_8 : decode cX4_isGap 8 = .ok (.iload_n 1, 1) := dk_27 (dk_at dksX4_isGap_0 8 rfl rfl)
theorem dX4_isGap_9 : decode cX4_isGap 9 = .ok (.imul, 1) := dk_104 (dk_at dksX4_isGap_0 9 rfl rfl)
theorem dX4_isGap_10 : decode cX4_isGap 10 = .ok (.iadd, 1) := dk_96 (dk_at dksX4_isGap_0 10 rfl rfl)
theorem dX4_isGap_11 : decode cX4_isGap 11 = .ok (.iload_n 2, 1) := dk_28 (dk_at dksX4_isGap_0 11 rfl rfl)
theorem dX4_isGap_12 : decode cX4_isGap 12 = .ok (.iadd, 1) := dk_96 (dk_at dksX4_isGap_0 12 rfl rfl)
theorem dX4_isGap_13 : decode cX4_isGap 13 = .ok (.iconst 1, 1) := dk_4 (dk_at dksX4_isGap_0 13 rfl rfl)
theorem dX4_isGap_14 : decode cX4_isGap 14 = .ok (.isub, 1) := dk_100 (dk_at dksX4_isGap_0 14 rfl rfl)
theorem dX4_isGap_15 : decode cX4_isGap 15 = .ok (.iaload, 1) := dk_46 (dk_at dksX4_isGap_0 15 rfl rfl)
theorem dX4_isGap_16 : decode cX4_isGap 16 = .ok (.iconst 1, 1) := dk_4 (dk_at dksX4_isGap_0 16 rfl rfl)
theorem dX4_isGap_17 : decode cX4_isGap 17 = .ok (.if_icmp .ne 7, 3) := dk_160 0 7 (dk_at dksX4_isGap_0 17 rfl rfl)
theorem dX4_isGap_20 : decode cX4_isGap 20 = .ok (.iconst 1, 1) := dk_4 (dk_at dksX4_isGap_0 20 rfl rfl)
theorem dX4_isGap_21 : decode cX4_isGap 21 = .ok (.goto 4, 3) := dk_167 0 4 (dk_at dksX4_isGap_0 21 rfl rfl)
theorem dX4_isGap_24 : decode cX4_isGap 24 = .ok (.iconst 0, 1) := dk_3 (dk_at dksX4_isGap_1 0 rfl rfl)
theorem dX4_isGap_25 : decode cX4_isGap 25 = .ok (.ireturn, 1) := dk_172 (dk_at dksX4_isGap_1 1 rfl rfl)
abbrev cX4_gaps : ByteArray := prog_11_method_23_code
def yX4_gaps : MethodName := ⟨RX4, "gaps", "(I)I"⟩
def dkwX4_gaps_1 : List UInt8 := [3, 96, 61, 132, 3, 1, 167, 255, 230, 28, 172]
abbrev dktX4_gaps_1 : List UInt8 := dkwX4_gaps_1 ++ []
def dkwX4_gaps_0 : List UInt8 := [3, 61, 4, 62, 29, 16, 100, 163, 0, 26, 28, 42, 27, 29, 182, 0, 75, 153, 0, 7, 4, 167, 0, 4]
abbrev dktX4_gaps_0 : List UInt8 := dkwX4_gaps_0 ++ dktX4_gaps_1
theorem dksX4_gaps_0 : cX4_gaps.data.toList.drop 0 = dktX4_gaps_0 := by decide +kernel
theorem dksX4_gaps_1 : cX4_gaps.data.toList.drop 24 = dktX4_gaps_1 := dk_seg dksX4_gaps_0 24 rfl rfl
theorem dX4_gaps_0 : decode cX4_gaps 0 = .ok (.iconst 0, 1) := dk_3 (dk_at dksX4_gaps_0 0 rfl rfl)
theorem dX4_gaps_1 : decode cX4_gaps 1 = .ok (.istore_n 2, 1) := dk_61 (dk_at dksX4_gaps_0 1 rfl rfl)
theorem dX4_gaps_2 : decode cX4_gaps 2 = .ok (.iconst 1, 1) := dk_4 (dk_at dksX4_gaps_0 2 rfl rfl)
theorem dX4_gaps_3 : decode cX4_gaps 3 = .ok (.istore_n 3, 1) := dk_62 (dk_at dksX4_gaps_0 3 rfl rfl)
theorem dX4_gaps_4 : decode cX4_gaps 4 = .ok (.iload_n 3, 1) := dk_29 (dk_at dksX4_gaps_0 4 rfl rfl)
theorem dX4_gaps_5 : decode cX4_gaps 5 = .ok (.bipush 100, 2) := dk_16 100 (dk_at dksX4_gaps_0 5 rfl rfl)
theorem dX4_gaps_7 : decode cX4_gaps 7 = .ok (.if_icmp .gt 26, 3) := dk_163 0 26 (dk_at dksX4_gaps_0 7 rfl rfl)
theorem dX4_gaps_10 : decode cX4_gaps 10 = .ok (.iload_n 2, 1) := dk_28 (dk_at dksX4_gaps_0 10 rfl rfl)
theorem dX4_gaps_11 : decode cX4_gaps 11 = .ok (.aload_n 0, 1) := dk_42 (dk_at dksX4_gaps_0 11 rfl rfl)
theorem dX4_gaps_12 : decode cX4_gaps 12 = .ok (.iload_n 1, 1) := dk_27 (dk_at dksX4_gaps_0 12 rfl rfl)
theorem dX4_gaps_13 : decode cX4_gaps 13 = .ok (.iload_n 3, 1) := dk_29 (dk_at dksX4_gaps_0 13 rfl rfl)
theorem dX4_gaps_14 : decode cX4_gaps 14 = .ok (.invokevirtual 75, 3) := dk_182 0 75 (dk_at dksX4_gaps_0 14 rfl rfl)
theorem dX4_gaps_17 : decode cX4_gaps 17 = .ok (.ifCond .eq 7, 3) := dk_153 0 7 (dk_at dksX4_gaps_0 17 rfl rfl)
theorem dX4_gaps_20 : decode cX4_gaps 20 = .ok (.iconst 1, 1) := dk_4 (dk_at dksX4_gaps_0 20 rfl rfl)
theorem dX4_gaps_21 : decode cX4_gaps 21 = .ok (.goto 4, 3) := dk_167 0 4 (dk_at dksX4_gaps_0 21 rfl rfl)
theorem dX4_gaps_24 : decode cX4_gaps 24 = .ok (.iconst 0, 1) := dk_3 (dk_at dksX4_gaps_1 0 rfl rfl)
theorem dX4_gaps_25 : decode cX4_gaps 25 = .ok (.iadd, 1) := dk_96 (dk_at dksX4_gaps_1 1 rfl rfl)
theorem dX4_gaps_26 : decode cX4_gaps 26 = .ok (.istore_n 2, 1) := dk_61 (dk_at dksX4_gaps_1 2 rfl rfl)
theorem dX4_gaps_27 : decode cX4_gaps 27 = .ok (.iinc 3 1, 3) := dk_132 3 1 (dk_at dksX4_gaps_1 3 rfl rfl)
theorem dX4_gaps_30 : decode cX4_gaps 30 = .ok (.goto (-26), 3) := dk_167 255 230 (dk_at dksX4_gaps_1 6 rfl rfl)
theorem dX4_gaps_33 : decode cX4_gaps 33 = .ok (.iload_n 2, 1) := dk_28 (dk_at dksX4_gaps_1 9 rfl rfl)
theorem dX4_gaps_34 : decode cX4_gaps 34 = .ok (.ireturn, 1) := dk_172 (dk_at dksX4_gaps_1 10 rfl rfl)
abbrev cX4_resend : ByteArray := prog_11_method_27_code
def yX4_resend : MethodName := ⟨RX4, "resend", "(I)I"⟩
def dkwX4_resend_1 : List UInt8 := [182, 0, 43, 42, 27, 182, 0, 79, 61, 42, 27, 3, 182, 0, 82, 28, 172]
abbrev dktX4_resend_1 : List UInt8 := dkwX4_resend_1 ++ []
def dkwX4_resend_0 : List UInt8 := [27, 184, 0, 69, 154, 0, 6, 18, 41, 172, 42, 27, 5, 182, 0, 72, 4, 160, 0, 6, 18, 42, 172, 42]
abbrev dktX4_resend_0 : List UInt8 := dkwX4_resend_0 ++ dktX4_resend_1
theorem dksX4_resend_0 : cX4_resend.data.toList.drop 0 = dktX4_resend_0 := by decide +kernel
theorem dksX4_resend_1 : cX4_resend.data.toList.drop 24 = dktX4_resend_1 := dk_seg dksX4_resend_0 24 rfl rfl
theorem dX4_resend_0 : decode cX4_resend 0 = .ok (.iload_n 1, 1) := dk_27 (dk_at dksX4_resend_0 0 rfl rfl)
theorem dX4_resend_1 : decode cX4_resend 1 = .ok (.invokestatic 69, 3) := dk_184 0 69 (dk_at dksX4_resend_0 1 rfl rfl)
theorem dX4_resend_4 : decode cX4_resend 4 = .ok (.ifCond .ne 6, 3) := dk_154 0 6 (dk_at dksX4_resend_0 4 rfl rfl)
theorem dX4_resend_7 : decode cX4_resend 7 = .ok (.ldc 41, 2) := dk_18 41 (dk_at dksX4_resend_0 7 rfl rfl)
theorem dX4_resend_9 : decode cX4_resend 9 = .ok (.ireturn, 1) := dk_172 (dk_at dksX4_resend_0 9 rfl rfl)
theorem dX4_resend_10 : decode cX4_resend 10 = .ok (.aload_n 0, 1) := dk_42 (dk_at dksX4_resend_0 10 rfl rfl)
theorem dX4_resend_11 : decode cX4_resend 11 = .ok (.iload_n 1, 1) := dk_27 (dk_at dksX4_resend_0 11 rfl rfl)
theorem dX4_resend_12 : decode cX4_resend 12 = .ok (.iconst 2, 1) := dk_5 (dk_at dksX4_resend_0 12 rfl rfl)
theorem dX4_resend_13 : decode cX4_resend 13 = .ok (.invokevirtual 72, 3) := dk_182 0 72 (dk_at dksX4_resend_0 13 rfl rfl)
theorem dX4_resend_16 : decode cX4_resend 16 = .ok (.iconst 1, 1) := dk_4 (dk_at dksX4_resend_0 16 rfl rfl)
theorem dX4_resend_17 : decode cX4_resend 17 = .ok (.if_icmp .ne 6, 3) := dk_160 0 6 (dk_at dksX4_resend_0 17 rfl rfl)
theorem dX4_resend_20 : decode cX4_resend 20 = .ok (.ldc 42, 2) := dk_18 42 (dk_at dksX4_resend_0 20 rfl rfl)
theorem dX4_resend_22 : decode cX4_resend 22 = .ok (.ireturn, 1) := dk_172 (dk_at dksX4_resend_0 22 rfl rfl)
theorem dX4_resend_23 : decode cX4_resend 23 = .ok (.aload_n 0, 1) := dk_42 (dk_at dksX4_resend_0 23 rfl rfl)
theorem dX4_resend_24 : decode cX4_resend 24 = .ok (.invokevirtual 43, 3) := dk_182 0 43 (dk_at dksX4_resend_1 0 rfl rfl)
theorem dX4_resend_27 : decode cX4_resend 27 = .ok (.aload_n 0, 1) := dk_42 (dk_at dksX4_resend_1 3 rfl rfl)
theorem dX4_resend_28 : decode cX4_resend 28 = .ok (.iload_n 1, 1) := dk_27 (dk_at dksX4_resend_1 4 rfl rfl)
theorem dX4_resend_29 : decode cX4_resend 29 = .ok (.invokevirtual 79, 3) := dk_182 0 79 (dk_at dksX4_resend_1 5 rfl rfl)
theorem dX4_resend_32 : decode cX4_resend 32 = .ok (.istore_n 2, 1) := dk_61 (dk_at dksX4_resend_1 8 rfl rfl)
theorem dX4_resend_33 : decode cX4_resend 33 = .ok (.aload_n 0, 1) := dk_42 (dk_at dksX4_resend_1 9 rfl rfl)
theorem dX4_resend_34 : decode cX4_resend 34 = .ok (.iload_n 1, 1) := dk_27 (dk_at dksX4_resend_1 10 rfl rfl)
theorem dX4_resend_35 : decode cX4_resend 35 = .ok (.iconst 0, 1) := dk_3 (dk_at dksX4_resend_1 11 rfl rfl)
theorem dX4_resend_36 : decode cX4_resend 36 = .ok (.invokevirtual 82, 3) := dk_182 0 82 (dk_at dksX4_resend_1 12 rfl rfl)
theorem dX4_resend_39 : decode cX4_resend 39 = .ok (.iload_n 2, 1) := dk_28 (dk_at dksX4_resend_1 15 rfl rfl)
theorem dX4_resend_40 : decode cX4_resend 40 = .ok (.ireturn, 1) := dk_172 (dk_at dksX4_resend_1 16 rfl rfl)
abbrev cX4_fillsGaps : ByteArray := prog_11_method_25_code
def yX4_fillsGaps : MethodName := ⟨RX4, "fillsGaps", "(II)V"⟩
def dkwX4_fillsGaps_1 : List UInt8 := [100, 3, 79, 132, 3, 1, 167, 255, 230, 177]
abbrev dktX4_fillsGaps_1 : List UInt8 := dkwX4_fillsGaps_1 ++ []
def dkwX4_fillsGaps_0 : List UInt8 := [28, 4, 96, 62, 29, 16, 100, 163, 0, 26, 42, 180, 0, 7, 16, 18, 16, 100, 27, 104, 96, 29, 96, 4]
abbrev dktX4_fillsGaps_0 : List UInt8 := dkwX4_fillsGaps_0 ++ dktX4_fillsGaps_1
theorem dksX4_fillsGaps_0 : cX4_fillsGaps.data.toList.drop 0 = dktX4_fillsGaps_0 := by decide +kernel
theorem dksX4_fillsGaps_1 : cX4_fillsGaps.data.toList.drop 24 = dktX4_fillsGaps_1 := dk_seg dksX4_fillsGaps_0 24 rfl rfl
theorem dX4_fillsGaps_0 : decode cX4_fillsGaps 0 = .ok (.iload_n 2, 1) := dk_28 (dk_at dksX4_fillsGaps_0 0 rfl rfl)
theorem dX4_fillsGaps_1 : decode cX4_fillsGaps 1 = .ok (.iconst 1, 1) := dk_4 (dk_at dksX4_fillsGaps_0 1 rfl rfl)
theorem dX4_fillsGaps_2 : decode cX4_fillsGaps 2 = .ok (.iadd, 1) := dk_96 (dk_at dksX4_fillsGaps_0 2 rfl rfl)
theorem dX4_fillsGaps_3 : decode cX4_fillsGaps 3 = .ok (.istore_n 3, 1) := dk_62 (dk_at dksX4_fillsGaps_0 3 rfl rfl)
theorem dX4_fillsGaps_4 : decode cX4_fillsGaps 4 = .ok (.iload_n 3, 1) := dk_29 (dk_at dksX4_fillsGaps_0 4 rfl rfl)
theorem dX4_fillsGaps_5 : decode cX4_fillsGaps 5 = .ok (.bipush 100, 2) := dk_16 100 (dk_at dksX4_fillsGaps_0 5 rfl rfl)
theorem dX4_fillsGaps_7 : decode cX4_fillsGaps 7 = .ok (.if_icmp .gt 26, 3) := dk_163 0 26 (dk_at dksX4_fillsGaps_0 7 rfl rfl)
theorem dX4_fillsGaps_10 : decode cX4_fillsGaps 10 = .ok (.aload_n 0, 1) := dk_42 (dk_at dksX4_fillsGaps_0 10 rfl rfl)
theorem dX4_fillsGaps_11 : decode cX4_fillsGaps 11 = .ok (.getfield 7, 3) := dk_180 0 7 (dk_at dksX4_fillsGaps_0 11 rfl rfl)
theorem dX4_fillsGaps_14 : decode cX4_fillsGaps 14 = .ok (.bipush 18, 2) := dk_16 18 (dk_at dksX4_fillsGaps_0 14 rfl rfl)
theorem dX4_fillsGaps_16 : decode cX4_fillsGaps 16 = .ok (.bipush 100, 2) := dk_16 100 (dk_at dksX4_fillsGaps_0 16 rfl rfl)
theorem dX4_fillsGaps_18 : decode cX4_fillsGaps 18 = .ok (.iload_n 1, 1) := dk_27 (dk_at dksX4_fillsGaps_0 18 rfl rfl)
theorem dX4_fillsGaps_19 : decode cX4_fillsGaps 19 = .ok (.imul, 1) := dk_104 (dk_at dksX4_fillsGaps_0 19 rfl rfl)
theorem dX4_fillsGaps_20 : decode cX4_fillsGaps 20 = .ok (.iadd, 1) := dk_96 (dk_at dksX4_fillsGaps_0 20 rfl rfl)
theorem dX4_fillsGaps_21 : decode cX4_fillsGaps 21 = .ok (.iload_n 3, 1) := dk_29 (dk_at dksX4_fillsGaps_0 21 rfl rfl)
theorem dX4_fillsGaps_22 : decode cX4_fillsGaps 22 = .ok (.iadd, 1) := dk_96 (dk_at dksX4_fillsGaps_0 22 rfl rfl)
theorem dX4_fillsGaps_23 : decode cX4_fillsGaps 23 = .ok (.iconst 1, 1) := dk_4 (dk_at dksX4_fillsGaps_0 23 rfl rfl)
theorem dX4_fillsGaps_24 : decode cX4_fillsGaps 24 = .ok (.isub, 1) := dk_100 (dk_at dksX4_fillsGaps_1 0 rfl rfl)
theorem dX4_fillsGaps_25 : decode cX4_fillsGaps 25 = .ok (.iconst 0, 1) := dk_3 (dk_at dksX4_fillsGaps_1 1 rfl rfl)
theorem dX4_fillsGaps_26 : decode cX4_fillsGaps 26 = .ok (.iastore, 1) := dk_79 (dk_at dksX4_fillsGaps_1 2 rfl rfl)
theorem dX4_fillsGaps_27 : decode cX4_fillsGaps 27 = .ok (.iinc 3 1, 3) := dk_132 3 1 (dk_at dksX4_fillsGaps_1 3 rfl rfl)
theorem dX4_fillsGaps_30 : decode cX4_fillsGaps 30 = .ok (.goto (-26), 3) := dk_167 255 230 (dk_at dksX4_fillsGaps_1 6 rfl rfl)
theorem dX4_fillsGaps_33 : decode cX4_fillsGaps 33 = .ok (.return_, 1) := dk_177 (dk_at dksX4_fillsGaps_1 9 rfl rfl)
abbrev cX4_tick : ByteArray := prog_11_method_29_code
def yX4_tick : MethodName := ⟨RX4, "tick", "(I)I"⟩
def dkwX4_tick_5 : List UInt8 := [46, 28, 96, 79, 28, 172]
abbrev dktX4_tick_5 : List UInt8 := dkwX4_tick_5 ++ []
def dkwX4_tick_4 : List UInt8 := [28, 21, 5, 96, 61, 132, 4, 1, 167, 255, 195, 132, 3, 1, 167, 255, 171, 42, 180, 0, 7, 16, 6, 92]
abbrev dktX4_tick_4 : List UInt8 := dkwX4_tick_4 ++ dktX4_tick_5
def dkwX4_tick_3 : List UInt8 := [182, 0, 86, 54, 5, 42, 180, 0, 7, 16, 12, 6, 21, 4, 104, 96, 4, 96, 92, 46, 21, 5, 96, 79]
abbrev dktX4_tick_3 : List UInt8 := dkwX4_tick_3 ++ dktX4_tick_4
def dkwX4_tick_2 : List UInt8 := [21, 4, 42, 21, 4, 4, 182, 0, 72, 42, 180, 0, 7, 4, 46, 42, 180, 0, 7, 16, 7, 46]
abbrev dktX4_tick_2 : List UInt8 := dkwX4_tick_2 ++ dktX4_tick_3
def dkwX4_tick_1 : List UInt8 := [162, 0, 86, 42, 180, 0, 7, 4, 92, 46, 4, 96, 79, 3, 54, 4, 21, 4, 5, 162, 0, 61, 42]
abbrev dktX4_tick_1 : List UInt8 := dkwX4_tick_1 ++ dktX4_tick_2
def dkwX4_tick_0 : List UInt8 := [27, 4, 16, 99, 184, 0, 33, 154, 0, 6, 18, 41, 172, 42, 182, 0, 43, 3, 61, 3, 62, 29, 27]
abbrev dktX4_tick_0 : List UInt8 := dkwX4_tick_0 ++ dktX4_tick_1
theorem dksX4_tick_0 : cX4_tick.data.toList.drop 0 = dktX4_tick_0 := by decide +kernel
theorem dksX4_tick_1 : cX4_tick.data.toList.drop 23 = dktX4_tick_1 := dk_seg dksX4_tick_0 23 rfl rfl
theorem dksX4_tick_2 : cX4_tick.data.toList.drop 46 = dktX4_tick_2 := dk_seg dksX4_tick_1 23 rfl rfl
theorem dksX4_tick_3 : cX4_tick.data.toList.drop 68 = dktX4_tick_3 := dk_seg dksX4_tick_2 22 rfl rfl
theorem dksX4_tick_4 : cX4_tick.data.toList.drop 92 = dktX4_tick_4 := dk_seg dksX4_tick_3 24 rfl rfl
theorem dksX4_tick_5 : cX4_tick.data.toList.drop 116 = dktX4_tick_5 := dk_seg dksX4_tick_4 24 rfl rfl
theorem dX4_tick_0 : decode cX4_tick 0 = .ok (.iload_n 1, 1) := dk_27 (dk_at dksX4_tick_0 0 rfl rfl)
theorem dX4_tick_1 : decode cX4_tick 1 = .ok (.iconst 1, 1) := dk_4 (dk_at dksX4_tick_0 1 rfl rfl)
theorem dX4_tick_2 : decode cX4_tick 2 = .ok (.bipush 99, 2) := dk_16 99 (dk_at dksX4_tick_0 2 rfl rfl)
theorem dX4_tick_4 : decode cX4_tick 4 = .ok (.invokestatic 33, 3) := dk_184 0 33 (dk_at dksX4_tick_0 4 rfl rfl)
theorem dX4_tick_7 : decode cX4_tick 7 = .ok (.ifCond .ne 6, 3) := dk_154 0 6 (dk_at dksX4_tick_0 7 rfl rfl)
theorem dX4_tick_10 : decode cX4_tick 10 = .ok (.ldc 41, 2) := dk_18 41 (dk_at dksX4_tick_0 10 rfl rfl)
theorem dX4_tick_12 : decode cX4_tick 12 = .ok (.ireturn, 1) := dk_172 (dk_at dksX4_tick_0 12 rfl rfl)
theorem dX4_tick_13 : decode cX4_tick 13 = .ok (.aload_n 0, 1) := dk_42 (dk_at dksX4_tick_0 13 rfl rfl)
theorem dX4_tick_14 : decode cX4_tick 14 = .ok (.invokevirtual 43, 3) := dk_182 0 43 (dk_at dksX4_tick_0 14 rfl rfl)
theorem dX4_tick_17 : decode cX4_tick 17 = .ok (.iconst 0, 1) := dk_3 (dk_at dksX4_tick_0 17 rfl rfl)
theorem dX4_tick_18 : decode cX4_tick 18 = .ok (.istore_n 2, 1) := dk_61 (dk_at dksX4_tick_0 18 rfl rfl)
theorem dX4_tick_19 : decode cX4_tick 19 = .ok (.iconst 0, 1) := dk_3 (dk_at dksX4_tick_0 19 rfl rfl)
theorem dX4_tick_20 : decode cX4_tick 20 = .ok (.istore_n 3, 1) := dk_62 (dk_at dksX4_tick_0 20 rfl rfl)
theorem dX4_tick_21 : decode cX4_tick 21 = .ok (.iload_n 3, 1) := dk_29 (dk_at dksX4_tick_0 21 rfl rfl)
theorem dX4_tick_22 : decode cX4_tick 22 = .ok (.iload_n 1, 1) := dk_27 (dk_at dksX4_tick_0 22 rfl rfl)
theorem dX4_tick_23 : decode cX4_tick 23 = .ok (.if_icmp .ge 86, 3) := dk_162 0 86 (dk_at dksX4_tick_1 0 rfl rfl)
theorem dX4_tick_26 : decode cX4_tick 26 = .ok (.aload_n 0, 1) := dk_42 (dk_at dksX4_tick_1 3 rfl rfl)
theorem dX4_tick_27 : decode cX4_tick 27 = .ok (.getfield 7, 3) := dk_180 0 7 (dk_at dksX4_tick_1 4 rfl rfl)
theorem dX4_tick_30 : decode cX4_tick 30 = .ok (.iconst 1, 1) := dk_4 (dk_at dksX4_tick_1 7 rfl rfl)
theorem dX4_tick_31 : decode cX4_tick 31 = .ok (.dup2, 1) := dk_92 (dk_at dksX4_tick_1 8 rfl rfl)
theorem dX4_tick_32 : decode cX4_tick 32 = .ok (.iaload, 1) := dk_46 (dk_at dksX4_tick_1 9 rfl rfl)
theorem dX4_tick_33 : decode cX4_tick 33 = .ok (.iconst 1, 1) := dk_4 (dk_at dksX4_tick_1 10 rfl rfl)
theorem dX4_tick_34 : decode cX4_tick 34 = .ok (.iadd, 1) := dk_96 (dk_at dksX4_tick_1 11 rfl rfl)
theorem dX4_tick_35 : decode cX4_tick 35 = .ok (.iastore, 1) := dk_79 (dk_at dksX4_tick_1 12 rfl rfl)
theorem dX4_tick_36 : decode cX4_tick 36 = .ok (.iconst 0, 1) := dk_3 (dk_at dksX4_tick_1 13 rfl rfl)
theorem dX4_tick_37 : decode cX4_tick 37 = .ok (.istore 4, 2) := dk_54 4 (dk_at dksX4_tick_1 14 rfl rfl)
theorem dX4_tick_39 : decode cX4_tick 39 = .ok (.iload 4, 2) := dk_21 4 (dk_at dksX4_tick_1 16 rfl rfl)
theorem dX4_tick_41 : decode cX4_tick 41 = .ok (.iconst 2, 1) := dk_5 (dk_at dksX4_tick_1 18 rfl rfl)
theorem dX4_tick_42 : decode cX4_tick 42 = .ok (.if_icmp .ge 61, 3) := dk_162 0 61 (dk_at dksX4_tick_1 19 rfl rfl)
theorem dX4_tick_45 : decode cX4_tick 45 = .ok (.aload_n 0, 1) := dk_42 (dk_at dksX4_tick_1 22 rfl rfl)
theorem dX4_tick_46 : decode cX4_tick 46 = .ok (.iload 4, 2) := dk_21 4 (dk_at dksX4_tick_2 0 rfl rfl)
theorem dX4_tick_48 : decode cX4_tick 48 = .ok (.aload_n 0, 1) := dk_42 (dk_at dksX4_tick_2 2 rfl rfl)
theorem dX4_tick_49 : decode cX4_tick 49 = .ok (.iload 4, 2) := dk_21 4 (dk_at dksX4_tick_2 3 rfl rfl)
theorem dX4_tick_51 : decode cX4_tick 51 = .ok (.iconst 1, 1) := dk_4 (dk_at dksX4_tick_2 5 rfl rfl)
theorem dX4_tick_52 : decode cX4_tick 52 = .ok (.invokevirtual 72, 3) := dk_182 0 72 (dk_at dksX4_tick_2 6 rfl rfl)
theorem dX4_tick_55 : decode cX4_tick 55 = .ok (.aload_n 0, 1) := dk_42 (dk_at dksX4_tick_2 9 rfl rfl)
theorem dX4_tick_56 : decode cX4_tick 56 = .ok (.getfield 7, 3) := dk_180 0 7 (dk_at dksX4_tick_2 10 rfl rfl)
theorem dX4_tick_59 : decode cX4_tick 59 = .ok (.iconst 1, 1) := dk_4 (dk_at dksX4_tick_2 13 rfl rfl)
theorem dX4_tick_60 : decode cX4_tick 60 = .ok (.iaload, 1) := dk_46 (dk_at dksX4_tick_2 14 rfl rfl)
theorem dX4_tick_61 : decode cX4_tick 61 = .ok (.aload_n 0, 1) := dk_42 (dk_at dksX4_tick_2 15 rfl rfl)
theorem dX4_tick_62 : decode cX4_tick 62 = .ok (.getfield 7, 3) := dk_180 0 7 (dk_at dksX4_tick_2 16 rfl rfl)
theorem dX4_tick_65 : decode cX4_tick 65 = .ok (.bipush 7, 2) := dk_16 7 (dk_at dksX4_tick_2 19 rfl rfl)
theorem dX4_tick_67 : decode cX4_tick 67 = .ok (.iaload, 1) := dk_46 (dk_at dksX4_tick_2 21 rfl rfl)
theorem dX4_tick_68 : decode cX4_tick 68 = .ok (.invokevirtual 86, 3) := dk_182 0 86 (dk_at dksX4_tick_3 0 rfl rfl)
theorem dX4_tick_71 : decode cX4_tick 71 = .ok (.istore 5, 2) := dk_54 5 (dk_at dksX4_tick_3 3 rfl rfl)
theorem dX4_tick_73 : decode cX4_tick 73 = .ok (.aload_n 0, 1) := dk_42 (dk_at dksX4_tick_3 5 rfl rfl)
theorem dX4_tick_74 : decode cX4_tick 74 = .ok (.getfield 7, 3) := dk_180 0 7 (dk_at dksX4_tick_3 6 rfl rfl)
theorem dX4_tick_77 : decode cX4_tick 77 = .ok (.bipush 12, 2) := dk_16 12 (dk_at dksX4_tick_3 9 rfl rfl)
theorem dX4_tick_79 : decode cX4_tick 79 = .ok (.iconst 3, 1) := dk_6 (dk_at dksX4_tick_3 11 rfl rfl)
theorem dX4_tick_80 : decode cX4_tick 80 = .ok (.iload 4, 2) := dk_21 4 (dk_at dksX4_tick_3 12 rfl rfl)
theorem dX4_tick_82 : decode cX4_tick 82 = .ok (.imul, 1) := dk_104 (dk_at dksX4_tick_3 14 rfl rfl)
theorem dX4_tick_83 : decode cX4_tick 83 = .ok (.iadd, 1) := dk_96 (dk_at dksX4_tick_3 15 rfl rfl)
theorem dX4_tick_84 : decode cX4_tick 84 = .ok (.iconst 1, 1) := dk_4 (dk_at dksX4_tick_3 16 rfl rfl)
theorem dX4_tick_85 : decode cX4_tick 85 = .ok (.iadd, 1) := dk_96 (dk_at dksX4_tick_3 17 rfl rfl)
theorem dX4_tick_86 : decode cX4_tick 86 = .ok (.dup2, 1) := dk_92 (dk_at dksX4_tick_3 18 rfl rfl)
theorem dX4_tick_87 : decode cX4_tick 87 = .ok (.iaload, 1) := dk_46 (dk_at dksX4_tick_3 19 rfl rfl)
theorem dX4_tick_88 : decode cX4_tick 88 = .ok (.iload 5, 2) := dk_21 5 (dk_at dksX4_tick_3 20 rfl rfl)
theorem dX4_tick_90 : decode cX4_tick 90 = .ok (.iadd, 1) := dk_96 (dk_at dksX4_tick_3 22 rfl rfl)
theorem dX4_tick_91 : decode cX4_tick 91 = .ok (.iastore, 1) := dk_79 (dk_at dksX4_tick_3 23 rfl rfl)
theorem dX4_tick_92 : decode cX4_tick 92 = .ok (.iload_n 2, 1) := dk_28 (dk_at dksX4_tick_4 0 rfl rfl)
theorem dX4_tick_93 : decode cX4_tick 93 = .ok (.iload 5, 2) := dk_21 5 (dk_at dksX4_tick_4 1 rfl rfl)
theorem dX4_tick_95 : decode cX4_tick 95 = .ok (.iadd, 1) := dk_96 (dk_at dksX4_tick_4 3 rfl rfl)
theorem dX4_tick_96 : decode cX4_tick 96 = .ok (.istore_n 2, 1) := dk_61 (dk_at dksX4_tick_4 4 rfl rfl)
theorem dX4_tick_97 : decode cX4_tick 97 = .ok (.iinc 4 1, 3) := dk_132 4 1 (dk_at dksX4_tick_4 5 rfl rfl)
theorem dX4_tick_100 : decode cX4_tick 100 = .ok (.goto (-61), 3) := dk_167 255 195 (dk_at dksX4_tick_4 8 rfl rfl)
theorem dX4_tick_103 : decode cX4_tick 103 = .ok (.iinc 3 1, 3) := dk_132 3 1 (dk_at dksX4_tick_4 11 rfl rfl)
theorem dX4_tick_106 : decode cX4_tick 106 = .ok (.goto (-85), 3) := dk_167 255 171 (dk_at dksX4_tick_4 14 rfl rfl)
theorem dX4_tick_109 : decode cX4_tick 109 = .ok (.aload_n 0, 1) := dk_42 (dk_at dksX4_tick_4 17 rfl rfl)
theorem dX4_tick_110 : decode cX4_tick 110 = .ok (.getfield 7, 3) := dk_180 0 7 (dk_at dksX4_tick_4 18 rfl rfl)
theorem dX4_tick_113 : decode cX4_tick 113 = .ok (.bipush 6, 2) := dk_16 6 (dk_at dksX4_tick_4 21 rfl rfl)
theorem dX4_tick_115 : decode cX4_tick 115 = .ok (.dup2, 1) := dk_92 (dk_at dksX4_tick_4 23 rfl rfl)
theorem dX4_tick_116 : decode cX4_tick 116 = .ok (.iaload, 1) := dk_46 (dk_at dksX4_tick_5 0 rfl rfl)
theorem dX4_tick_117 : decode cX4_tick 117 = .ok (.iload_n 2, 1) := dk_28 (dk_at dksX4_tick_5 1 rfl rfl)
theorem dX4_tick_118 : decode cX4_tick 118 = .ok (.iadd, 1) := dk_96 (dk_at dksX4_tick_5 2 rfl rfl)
theorem dX4_tick_119 : decode cX4_tick 119 = .ok (.iastore, 1) := dk_79 (dk_at dksX4_tick_5 3 rfl rfl)
theorem dX4_tick_120 : decode cX4_tick 120 = .ok (.iload_n 2, 1) := dk_28 (dk_at dksX4_tick_5 4 rfl rfl)
theorem dX4_tick_121 : decode cX4_tick 121 = .ok (.ireturn, 1) := dk_172 (dk_at dksX4_tick_5 5 rfl rfl)
abbrev cX4_goes : ByteArray := prog_11_method_28_code
def yX4_goes : MethodName := ⟨RX4, "goes", "(IIII)I"⟩
def dkwX4_goes_4 : List UInt8 := [167, 0, 4, 3, 96, 54, 5, 167, 255, 174, 21, 5, 172]
abbrev dktX4_goes_4 : List UInt8 := dkwX4_goes_4 ++ []
def dkwX4_goes_3 : List UInt8 := [180, 0, 7, 16, 8, 46, 161, 0, 7, 4, 167, 0, 4, 3, 54, 6, 21, 5, 21, 6, 153, 0, 7, 4]
abbrev dktX4_goes_3 : List UInt8 := dkwX4_goes_3 ++ dktX4_goes_4
def dkwX4_goes_2 : List UInt8 := [163, 0, 36, 42, 27, 21, 7, 182, 0, 75, 154, 0, 26, 29, 42, 21, 7, 7, 182, 0, 59, 100, 42]
abbrev dktX4_goes_2 : List UInt8 := dkwX4_goes_2 ++ dktX4_goes_3
def dkwX4_goes_1 : List UInt8 := [21, 5, 21, 4, 162, 0, 76, 28, 21, 5, 96, 4, 96, 54, 7, 21, 7, 42, 27, 3, 182, 0, 72]
abbrev dktX4_goes_1 : List UInt8 := dkwX4_goes_1 ++ dktX4_goes_2
def dkwX4_goes_0 : List UInt8 := [3, 54, 5, 42, 27, 5, 182, 0, 72, 154, 0, 7, 4, 167, 0, 4, 3, 54, 6, 21, 6, 153, 0, 83]
abbrev dktX4_goes_0 : List UInt8 := dkwX4_goes_0 ++ dktX4_goes_1
theorem dksX4_goes_0 : cX4_goes.data.toList.drop 0 = dktX4_goes_0 := by decide +kernel
theorem dksX4_goes_1 : cX4_goes.data.toList.drop 24 = dktX4_goes_1 := dk_seg dksX4_goes_0 24 rfl rfl
theorem dksX4_goes_2 : cX4_goes.data.toList.drop 47 = dktX4_goes_2 := dk_seg dksX4_goes_1 23 rfl rfl
theorem dksX4_goes_3 : cX4_goes.data.toList.drop 70 = dktX4_goes_3 := dk_seg dksX4_goes_2 23 rfl rfl
theorem dksX4_goes_4 : cX4_goes.data.toList.drop 94 = dktX4_goes_4 := dk_seg dksX4_goes_3 24 rfl rfl
theorem dX4_goes_0 : decode cX4_goes 0 = .ok (.iconst 0, 1) := dk_3 (dk_at dksX4_goes_0 0 rfl rfl)
theorem dX4_goes_1 : decode cX4_goes 1 = .ok (.istore 5, 2) := dk_54 5 (dk_at dksX4_goes_0 1 rfl rfl)
theorem dX4_goes_3 : decode cX4_goes 3 = .ok (.aload_n 0, 1) := dk_42 (dk_at dksX4_goes_0 3 rfl rfl)
theorem dX4_goes_4 : decode cX4_goes 4 = .ok (.iload_n 1, 1) := dk_27 (dk_at dksX4_goes_0 4 rfl rfl)
theorem dX4_goes_5 : decode cX4_goes 5 = .ok (.iconst 2, 1) := dk_5 (dk_at dksX4_goes_0 5 rfl rfl)
theorem dX4_goes_6 : decode cX4_goes 6 = .ok (.invokevirtual 72, 3) := dk_182 0 72 (dk_at dksX4_goes_0 6 rfl rfl)
theorem dX4_goes_9 : decode cX4_goes 9 = .ok (.ifCond .ne 7, 3) := dk_154 0 7 (dk_at dksX4_goes_0 9 rfl rfl)
theorem dX4_goes_12 : decode cX4_goes 12 = .ok (.iconst 1, 1) := dk_4 (dk_at dksX4_goes_0 12 rfl rfl)
theorem dX4_goes_13 : decode cX4_goes 13 = .ok (.goto 4, 3) := dk_167 0 4 (dk_at dksX4_goes_0 13 rfl rfl)
theorem dX4_goes_16 : decode cX4_goes 16 = .ok (.iconst 0, 1) := dk_3 (dk_at dksX4_goes_0 16 rfl rfl)
theorem dX4_goes_17 : decode cX4_goes 17 = .ok (.istore 6, 2) := dk_54 6 (dk_at dksX4_goes_0 17 rfl rfl)
theorem dX4_goes_19 : decode cX4_goes 19 = .ok (.iload 6, 2) := dk_21 6 (dk_at dksX4_goes_0 19 rfl rfl)
theorem dX4_goes_21 : decode cX4_goes 21 = .ok (.ifCond .eq 83, 3) := dk_153 0 83 (dk_at dksX4_goes_0 21 rfl rfl)
theorem dX4_goes_24 : decode cX4_goes 24 = .ok (.iload 5, 2) := dk_21 5 (dk_at dksX4_goes_1 0 rfl rfl)
theorem dX4_goes_26 : decode cX4_goes 26 = .ok (.iload 4, 2) := dk_21 4 (dk_at dksX4_goes_1 2 rfl rfl)
theorem dX4_goes_28 : decode cX4_goes 28 = .ok (.if_icmp .ge 76, 3) := dk_162 0 76 (dk_at dksX4_goes_1 4 rfl rfl)
theorem dX4_goes_31 : decode cX4_goes 31 = .ok (.iload_n 2, 1) := dk_28 (dk_at dksX4_goes_1 7 rfl rfl)
theorem dX4_goes_32 : decode cX4_goes 32 = .ok (.iload 5, 2) := dk_21 5 (dk_at dksX4_goes_1 8 rfl rfl)
theorem dX4_goes_34 : decode cX4_goes 34 = .ok (.iadd, 1) := dk_96 (dk_at dksX4_goes_1 10 rfl rfl)
theorem dX4_goes_35 : decode cX4_goes 35 = .ok (.iconst 1, 1) := dk_4 (dk_at dksX4_goes_1 11 rfl rfl)
theorem dX4_goes_36 : decode cX4_goes 36 = .ok (.iadd, 1) := dk_96 (dk_at dksX4_goes_1 12 rfl rfl)
theorem dX4_goes_37 : decode cX4_goes 37 = .ok (.istore 7, 2) := dk_54 7 (dk_at dksX4_goes_1 13 rfl rfl)
theorem dX4_goes_39 : decode cX4_goes 39 = .ok (.iload 7, 2) := dk_21 7 (dk_at dksX4_goes_1 15 rfl rfl)
theorem dX4_goes_41 : decode cX4_goes 41 = .ok (.aload_n 0, 1) := dk_42 (dk_at dksX4_goes_1 17 rfl rfl)
theorem dX4_goes_42 : decode cX4_goes 42 = .ok (.iload_n 1, 1) := dk_27 (dk_at dksX4_goes_1 18 rfl rfl)
theorem dX4_goes_43 : decode cX4_goes 43 = .ok (.iconst 0, 1) := dk_3 (dk_at dksX4_goes_1 19 rfl rfl)
theorem dX4_goes_44 : decode cX4_goes 44 = .ok (.invokevirtual 72, 3) := dk_182 0 72 (dk_at dksX4_goes_1 20 rfl rfl)
theorem dX4_goes_47 : decode cX4_goes 47 = .ok (.if_icmp .gt 36, 3) := dk_163 0 36 (dk_at dksX4_goes_2 0 rfl rfl)
theorem dX4_goes_50 : decode cX4_goes 50 = .ok (.aload_n 0, 1) := dk_42 (dk_at dksX4_goes_2 3 rfl rfl)
theorem dX4_goes_51 : decode cX4_goes 51 = .ok (.iload_n 1, 1) := dk_27 (dk_at dksX4_goes_2 4 rfl rfl)
theorem dX4_goes_52 : decode cX4_goes 52 = .ok (.iload 7, 2) := dk_21 7 (dk_at dksX4_goes_2 5 rfl rfl)
theorem dX4_goes_54 : decode cX4_goes 54 = .ok (.invokevirtual 75, 3) := dk_182 0 75 (dk_at dksX4_goes_2 7 rfl rfl)
theorem dX4_goes_57 : decode cX4_goes 57 = .ok (.ifCond .ne 26, 3) := dk_154 0 26 (dk_at dksX4_goes_2 10 rfl rfl)
theorem dX4_goes_60 : decode cX4_goes 60 = .ok (.iload_n 3, 1) := dk_29 (dk_at dksX4_goes_2 13 rfl rfl)
theorem dX4_goes_61 : decode cX4_goes 61 = .ok (.aload_n 0, 1) := dk_42 (dk_at dksX4_goes_2 14 rfl rfl)
theorem dX4_goes_62 : decode cX4_goes 62 = .ok (.iload 7, 2) := dk_21 7 (dk_at dksX4_goes_2 15 rfl rfl)
theorem dX4_goes_64 : decode cX4_goes 64 = .ok (.iconst 4, 1) := dk_7 (dk_at dksX4_goes_2 17 rfl rfl)
theorem dX4_goes_65 : decode cX4_goes 65 = .ok (.invokevirtual 59, 3) := dk_182 0 59 (dk_at dksX4_goes_2 18 rfl rfl)
theorem dX4_goes_68 : decode cX4_goes 68 = .ok (.isub, 1) := dk_100 (dk_at dksX4_goes_2 21 rfl rfl)
theorem dX4_goes_69 : decode cX4_goes 69 = .ok (.aload_n 0, 1) := dk_42 (dk_at dksX4_goes_2 22 rfl rfl)
theorem dX4_goes_70 : decode cX4_goes 70 = .ok (.getfield 7, 3) := dk_180 0 7 (dk_at dksX4_goes_3 0 rfl rfl)
theorem dX4_goes_73 : decode cX4_goes 73 = .ok (.bipush 8, 2) := dk_16 8 (dk_at dksX4_goes_3 3 rfl rfl)
theorem dX4_goes_75 : decode cX4_goes 75 = .ok (.iaload, 1) := dk_46 (dk_at dksX4_goes_3 5 rfl rfl)
theorem dX4_goes_76 : decode cX4_goes 76 = .ok (.if_icmp .lt 7, 3) := dk_161 0 7 (dk_at dksX4_goes_3 6 rfl rfl)
theorem dX4_goes_79 : decode cX4_goes 79 = .ok (.iconst 1, 1) := dk_4 (dk_at dksX4_goes_3 9 rfl rfl)
theorem dX4_goes_80 : decode cX4_goes 80 = .ok (.goto 4, 3) := dk_167 0 4 (dk_at dksX4_goes_3 10 rfl rfl)
theorem dX4_goes_83 : decode cX4_goes 83 = .ok (.iconst 0, 1) := dk_3 (dk_at dksX4_goes_3 13 rfl rfl)
theorem dX4_goes_84 : decode cX4_goes 84 = .ok (.istore 6, 2) := dk_54 6 (dk_at dksX4_goes_3 14 rfl rfl)
theorem dX4_goes_86 : decode cX4_goes 86 = .ok (.iload 5, 2) := dk_21 5 (dk_at dksX4_goes_3 16 rfl rfl)
theorem dX4_goes_88 : decode cX4_goes 88 = .ok (.iload 6, 2) := dk_21 6 (dk_at dksX4_goes_3 18 rfl rfl)
theorem dX4_goes_90 : decode cX4_goes 90 = .ok (.ifCond .eq 7, 3) := dk_153 0 7 (dk_at dksX4_goes_3 20 rfl rfl)
theorem dX4_goes_93 : decode cX4_goes 93 = .ok (.iconst 1, 1) := dk_4 (dk_at dksX4_goes_3 23 rfl rfl)
theorem dX4_goes_94 : decode cX4_goes 94 = .ok (.goto 4, 3) := dk_167 0 4 (dk_at dksX4_goes_4 0 rfl rfl)
theorem dX4_goes_97 : decode cX4_goes 97 = .ok (.iconst 0, 1) := dk_3 (dk_at dksX4_goes_4 3 rfl rfl)
theorem dX4_goes_98 : decode cX4_goes 98 = .ok (.iadd, 1) := dk_96 (dk_at dksX4_goes_4 4 rfl rfl)
theorem dX4_goes_99 : decode cX4_goes 99 = .ok (.istore 5, 2) := dk_54 5 (dk_at dksX4_goes_4 5 rfl rfl)
theorem dX4_goes_101 : decode cX4_goes 101 = .ok (.goto (-82), 3) := dk_167 255 174 (dk_at dksX4_goes_4 7 rfl rfl)
theorem dX4_goes_104 : decode cX4_goes 104 = .ok (.iload 5, 2) := dk_21 5 (dk_at dksX4_goes_4 10 rfl rfl)
theorem dX4_goes_106 : decode cX4_goes 106 = .ok (.ireturn, 1) := dk_172 (dk_at dksX4_goes_4 12 rfl rfl)
abbrev cX4_ofRecord : ByteArray := prog_11_method_9_code
def yX4_ofRecord : MethodName := ⟨RX4, "ofRecord", "(II)I"⟩
def dkwX4_ofRecord_0 : List UInt8 := [42, 180, 0, 7, 17, 0, 218, 8, 27, 104, 96, 8, 100, 28, 96, 46, 172]
abbrev dktX4_ofRecord_0 : List UInt8 := dkwX4_ofRecord_0 ++ []
theorem dksX4_ofRecord_0 : cX4_ofRecord.data.toList.drop 0 = dktX4_ofRecord_0 := by decide +kernel
theorem dX4_ofRecord_0 : decode cX4_ofRecord 0 = .ok (.aload_n 0, 1) := dk_42 (dk_at dksX4_ofRecord_0 0 rfl rfl)
theorem dX4_ofRecord_1 : decode cX4_ofRecord 1 = .ok (.getfield 7, 3) := dk_180 0 7 (dk_at dksX4_ofRecord_0 1 rfl rfl)
theorem dX4_ofRecord_4 : decode cX4_ofRecord 4 = .ok (.sipush 218, 3) := dk_17 0 218 (dk_at dksX4_ofRecord_0 4 rfl rfl)
theorem dX4_ofRecord_7 : decode cX4_ofRecord 7 = .ok (.iconst 5, 1) := dk_8 (dk_at dksX4_ofRecord_0 7 rfl rfl)
theorem dX4_ofRecord_8 : decode cX4_ofRecord 8 = .ok (.iload_n 1, 1) := dk_27 (dk_at dksX4_ofRecord_0 8 rfl rfl)
theorem dX4_ofRecord_9 : decode cX4_ofRecord 9 = .ok (.imul, 1) := dk_104 (dk_at dksX4_ofRecord_0 9 rfl rfl)
theorem dX4_ofRecord_10 : decode cX4_ofRecord 10 = .ok (.iadd, 1) := dk_96 (dk_at dksX4_ofRecord_0 10 rfl rfl)
theorem dX4_ofRecord_11 : decode cX4_ofRecord 11 = .ok (.iconst 5, 1) := dk_8 (dk_at dksX4_ofRecord_0 11 rfl rfl)
theorem dX4_ofRecord_12 : decode cX4_ofRecord 12 = .ok (.isub, 1) := dk_100 (dk_at dksX4_ofRecord_0 12 rfl rfl)
theorem dX4_ofRecord_13 : decode cX4_ofRecord 13 = .ok (.iload_n 2, 1) := dk_28 (dk_at dksX4_ofRecord_0 13 rfl rfl)
theorem dX4_ofRecord_14 : decode cX4_ofRecord 14 = .ok (.iadd, 1) := dk_96 (dk_at dksX4_ofRecord_0 14 rfl rfl)
theorem dX4_ofRecord_15 : decode cX4_ofRecord 15 = .ok (.iaload, 1) := dk_46 (dk_at dksX4_ofRecord_0 15 rfl rfl)
theorem dX4_ofRecord_16 : decode cX4_ofRecord 16 = .ok (.ireturn, 1) := dk_172 (dk_at dksX4_ofRecord_0 16 rfl rfl)
abbrev cX4_promote : ByteArray := prog_11_method_32_code
def yX4_promote : MethodName := ⟨RX4, "promote", "(I)I"⟩
def dkwX4_promote_8 : List UInt8 := [42, 180, 0, 7, 21, 5, 4, 96, 29, 79, 42, 180, 0, 7, 21, 5, 5, 96, 4, 79, 28, 172]
abbrev dktX4_promote_8 : List UInt8 := dkwX4_promote_8 ++ []
def dkwX4_promote_7 : List UInt8 := [96, 46, 79, 42, 4, 27, 100, 29, 182, 0, 82, 42, 180, 0, 7, 21, 5, 4, 96, 46, 29, 164, 0, 23]
abbrev dktX4_promote_7 : List UInt8 := dkwX4_promote_7 ++ dktX4_promote_8
def dkwX4_promote_6 : List UInt8 := [42, 180, 0, 7, 21, 5, 3, 96, 46, 29, 164, 0, 7, 29, 167, 0, 12, 42, 180, 0, 7, 21, 5, 3]
abbrev dktX4_promote_6 : List UInt8 := dkwX4_promote_6 ++ dktX4_promote_7
def dkwX4_promote_5 : List UInt8 := [4, 167, 0, 4, 3, 182, 0, 95, 16, 15, 6, 27, 104, 100, 54, 5, 42, 180, 0, 7, 21, 5, 3, 96]
abbrev dktX4_promote_5 : List UInt8 := dkwX4_promote_5 ++ dktX4_promote_6
def dkwX4_promote_4 : List UInt8 := [180, 0, 7, 16, 9, 21, 5, 96, 3, 79, 132, 5, 1, 167, 255, 236, 42, 27, 29, 21, 4, 153, 0, 7]
abbrev dktX4_promote_4 : List UInt8 := dkwX4_promote_4 ++ dktX4_promote_5
def dkwX4_promote_3 : List UInt8 := [28, 96, 79, 42, 180, 0, 7, 5, 92, 46, 4, 96, 79, 3, 54, 5, 21, 5, 6, 162, 0, 20, 42]
abbrev dktX4_promote_3 : List UInt8 := dkwX4_promote_3 ++ dktX4_promote_4
def dkwX4_promote_2 : List UInt8 := [162, 0, 7, 4, 167, 0, 4, 3, 54, 4, 42, 180, 0, 7, 3, 29, 79, 42, 180, 0, 7, 7, 92, 46]
abbrev dktX4_promote_2 : List UInt8 := dkwX4_promote_2 ++ dktX4_promote_3
def dkwX4_promote_1 : List UInt8 := [182, 0, 43, 42, 27, 182, 0, 92, 61, 42, 27, 4, 182, 0, 72, 62, 29, 42, 180, 0, 7, 3, 46]
abbrev dktX4_promote_1 : List UInt8 := dkwX4_promote_1 ++ dktX4_promote_2
def dkwX4_promote_0 : List UInt8 := [27, 184, 0, 69, 154, 0, 6, 18, 41, 172, 42, 27, 5, 182, 0, 72, 4, 160, 0, 6, 18, 42, 172, 42]
abbrev dktX4_promote_0 : List UInt8 := dkwX4_promote_0 ++ dktX4_promote_1
theorem dksX4_promote_0 : cX4_promote.data.toList.drop 0 = dktX4_promote_0 := by decide +kernel
theorem dksX4_promote_1 : cX4_promote.data.toList.drop 24 = dktX4_promote_1 := dk_seg dksX4_promote_0 24 rfl rfl
theorem dksX4_promote_2 : cX4_promote.data.toList.drop 47 = dktX4_promote_2 := dk_seg dksX4_promote_1 23 rfl rfl
theorem dksX4_promote_3 : cX4_promote.data.toList.drop 71 = dktX4_promote_3 := dk_seg dksX4_promote_2 24 rfl rfl
theorem dksX4_promote_4 : cX4_promote.data.toList.drop 94 = dktX4_promote_4 := dk_seg dksX4_promote_3 23 rfl rfl
theorem dksX4_promote_5 : cX4_promote.data.toList.drop 118 = dktX4_promote_5 := dk_seg dksX4_promote_4 24 rfl rfl
theorem dksX4_promote_6 : cX4_promote.data.toList.drop 142 = dktX4_promote_6 := dk_seg dksX4_promote_5 24 rfl rfl
theorem dksX4_promote_7 : cX4_promote.data.toList.drop 166 = dktX4_promote_7 := dk_seg dksX4_promote_6 24 rfl rfl
theorem dksX4_promote_8 : cX4_promote.data.toList.drop 190 = dktX4_promote_8 := dk_seg dksX4_promote_7 24 rfl rfl
theorem dX4_promote_0 : decode cX4_promote 0 = .ok (.iload_n 1, 1) := dk_27 (dk_at dksX4_promote_0 0 rfl rfl)
theorem dX4_promote_1 : decode cX4_promote 1 = .ok (.invokestatic 69, 3) := dk_184 0 69 (dk_at dksX4_promote_0 1 rfl rfl)
theorem dX4_promote_4 : decode cX4_promote 4 = .ok (.ifCond .ne 6, 3) := dk_154 0 6 (dk_at dksX4_promote_0 4 rfl rfl)
theorem dX4_promote_7 : decode cX4_promote 7 = .ok (.ldc 41, 2) := dk_18 41 (dk_at dksX4_promote_0 7 rfl rfl)
theorem dX4_promote_9 : decode cX4_promote 9 = .ok (.ireturn, 1) := dk_172 (dk_at dksX4_promote_0 9 rfl rfl)
theorem dX4_promote_10 : decode cX4_promote 10 = .ok (.aload_n 0, 1) := dk_42 (dk_at dksX4_promote_0 10 rfl rfl)
theorem dX4_promote_11 : decode cX4_promote 11 = .ok (.iload_n 1, 1) := dk_27 (dk_at dksX4_promote_0 11 rfl rfl)
theorem dX4_promote_12 : decode cX4_promote 12 = .ok (.iconst 2, 1) := dk_5 (dk_at dksX4_promote_0 12 rfl rfl)
theorem dX4_promote_13 : decode cX4_promote 13 = .ok (.invokevirtual 72, 3) := dk_182 0 72 (dk_at dksX4_promote_0 13 rfl rfl)
theorem dX4_promote_16 : decode cX4_promote 16 = .ok (.iconst 1, 1) := dk_4 (dk_at dksX4_promote_0 16 rfl rfl)
theorem dX4_promote_17 : decode cX4_promote 17 = .ok (.if_icmp .ne 6, 3) := dk_160 0 6 (dk_at dksX4_promote_0 17 rfl rfl)
theorem dX4_promote_20 : decode cX4_promote 20 = .ok (.ldc 42, 2) := dk_18 42 (dk_at dksX4_promote_0 20 rfl rfl)
theorem dX4_promote_22 : decode cX4_promote 22 = .ok (.ireturn, 1) := dk_172 (dk_at dksX4_promote_0 22 rfl rfl)
theorem dX4_promote_23 : decode cX4_promote 23 = .ok (.aload_n 0, 1) := dk_42 (dk_at dksX4_promote_0 23 rfl rfl)
theorem dX4_promote_24 : decode cX4_promote 24 = .ok (.invokevirtual 43, 3) := dk_182 0 43 (dk_at dksX4_promote_1 0 rfl rfl)
theorem dX4_promote_27 : decode cX4_promote 27 = .ok (.aload_n 0, 1) := dk_42 (dk_at dksX4_promote_1 3 rfl rfl)
theorem dX4_promote_28 : decode cX4_promote 28 = .ok (.iload_n 1, 1) := dk_27 (dk_at dksX4_promote_1 4 rfl rfl)
theorem dX4_promote_29 : decode cX4_promote 29 = .ok (.invokevirtual 92, 3) := dk_182 0 92 (dk_at dksX4_promote_1 5 rfl rfl)
theorem dX4_promote_32 : decode cX4_promote 32 = .ok (.istore_n 2, 1) := dk_61 (dk_at dksX4_promote_1 8 rfl rfl)
theorem dX4_promote_33 : decode cX4_promote 33 = .ok (.aload_n 0, 1) := dk_42 (dk_at dksX4_promote_1 9 rfl rfl)
theorem dX4_promote_34 : decode cX4_promote 34 = .ok (.iload_n 1, 1) := dk_27 (dk_at dksX4_promote_1 10 rfl rfl)
theorem dX4_promote_35 : decode cX4_promote 35 = .ok (.iconst 1, 1) := dk_4 (dk_at dksX4_promote_1 11 rfl rfl)
theorem dX4_promote_36 : decode cX4_promote 36 = .ok (.invokevirtual 72, 3) := dk_182 0 72 (dk_at dksX4_promote_1 12 rfl rfl)
theorem dX4_promote_39 : decode cX4_promote 39 = .ok (.istore_n 3, 1) := dk_62 (dk_at dksX4_promote_1 15 rfl rfl)
theorem dX4_promote_40 : decode cX4_promote 40 = .ok (.iload_n 3, 1) := dk_29 (dk_at dksX4_promote_1 16 rfl rfl)
theorem dX4_promote_41 : decode cX4_promote 41 = .ok (.aload_n 0, 1) := dk_42 (dk_at dksX4_promote_1 17 rfl rfl)
theorem dX4_promote_42 : decode cX4_promote 42 = .ok (.getfield 7, 3) := dk_180 0 7 (dk_at dksX4_promote_1 18 rfl rfl)
theorem dX4_promote_45 : decode cX4_promote 45 = .ok (.iconst 0, 1) := dk_3 (dk_at dksX4_promote_1 21 rfl rfl)
theorem dX4_promote_46 : decode cX4_promote 46 = .ok (.iaload, 1) := dk_46 (dk_at dksX4_promote_1 22 rfl rfl)
theorem dX4_promote_47 : decode cX4_promote 47 = .ok (.if_icmp .ge 7, 3) := dk_162 0 7 (dk_at dksX4_promote_2 0 rfl rfl)
theorem dX4_promote_50 : decode cX4_promote 50 = .ok (.iconst 1, 1) := dk_4 (dk_at dksX4_promote_2 3 rfl rfl)
theorem dX4_promote_51 : decode cX4_promote 51 = .ok (.goto 4, 3) := dk_167 0 4 (dk_at dksX4_promote_2 4 rfl rfl)
theorem dX4_promote_54 : decode cX4_promote 54 = .ok (.iconst 0, 1) := dk_3 (dk_at dksX4_promote_2 7 rfl rfl)
theorem dX4_promote_55 : decode cX4_promote 55 = .ok (.istore 4, 2) := dk_54 4 (dk_at dksX4_promote_2 8 rfl rfl)
theorem dX4_promote_57 : decode cX4_promote 57 = .ok (.aload_n 0, 1) := dk_42 (dk_at dksX4_promote_2 10 rfl rfl)
theorem dX4_promote_58 : decode cX4_promote 58 = .ok (.getfield 7, 3) := dk_180 0 7 (dk_at dksX4_promote_2 11 rfl rfl)
theorem dX4_promote_61 : decode cX4_promote 61 = .ok (.iconst 0, 1) := dk_3 (dk_at dksX4_promote_2 14 rfl rfl)
theorem dX4_promote_62 : decode cX4_promote 62 = .ok (.iload_n 3, 1) := dk_29 (dk_at dksX4_promote_2 15 rfl rfl)
theorem dX4_promote_63 : decode cX4_promote 63 = .ok (.iastore, 1) := dk_79 (dk_at dksX4_promote_2 16 rfl rfl)
theorem dX4_promote_64 : decode cX4_promote 64 = .ok (.aload_n 0, 1) := dk_42 (dk_at dksX4_promote_2 17 rfl rfl)
theorem dX4_promote_65 : decode cX4_promote 65 = .ok (.getfield 7, 3) := dk_180 0 7 (dk_at dksX4_promote_2 18 rfl rfl)
theorem dX4_promote_68 : decode cX4_promote 68 = .ok (.iconst 4, 1) := dk_7 (dk_at dksX4_promote_2 21 rfl rfl)
theorem dX4_promote_69 : decode cX4_promote 69 = .ok (.dup2, 1) := dk_92 (dk_at dksX4_promote_2 22 rfl rfl)
theorem dX4_promote_70 : decode cX4_promote 70 = .ok (.iaload, 1) := dk_46 (dk_at dksX4_promote_2 23 rfl rfl)
theorem dX4_promote_71 : decode cX4_promote 71 = .ok (.iload_n 2, 1) := dk_28 (dk_at dksX4_promote_3 0 rfl rfl)
theorem dX4_promote_72 : decode cX4_promote 72 = .ok (.iadd, 1) := dk_96 (dk_at dksX4_promote_3 1 rfl rfl)
theorem dX4_promote_73 : decode cX4_promote 73 = .ok (.iastore, 1) := dk_79 (dk_at dksX4_promote_3 2 rfl rfl)
theorem dX4_promote_74 : decode cX4_promote 74 = .ok (.aload_n 0, 1) := dk_42 (dk_at dksX4_promote_3 3 rfl rfl)
theorem dX4_promote_75 : decode cX4_promote 75 = .ok (.getfield 7, 3) := dk_180 0 7 (dk_at dksX4_promote_3 4 rfl rfl)
theorem dX4_promote_78 : decode cX4_promote 78 = .ok (.iconst 2, 1) := dk_5 (dk_at dksX4_promote_3 7 rfl rfl)
theorem dX4_promote_79 : decode cX4_promote 79 = .ok (.dup2, 1) := dk_92 (dk_at dksX4_promote_3 8 rfl rfl)
theorem dX4_promote_80 : decode cX4_promote 80 = .ok (.iaload, 1) := dk_46 (dk_at dksX4_promote_3 9 rfl rfl)
theorem dX4_promote_81 : decode cX4_promote 81 = .ok (.iconst 1, 1) := dk_4 (dk_at dksX4_promote_3 10 rfl rfl)
theorem dX4_promote_82 : decode cX4_promote 82 = .ok (.iadd, 1) := dk_96 (dk_at dksX4_promote_3 11 rfl rfl)
theorem dX4_promote_83 : decode cX4_promote 83 = .ok (.iastore, 1) := dk_79 (dk_at dksX4_promote_3 12 rfl rfl)
theorem dX4_promote_84 : decode cX4_promote 84 = .ok (.iconst 0, 1) := dk_3 (dk_at dksX4_promote_3 13 rfl rfl)
theorem dX4_promote_85 : decode cX4_promote 85 = .ok (.istore 5, 2) := dk_54 5 (dk_at dksX4_promote_3 14 rfl rfl)
theorem dX4_promote_87 : decode cX4_promote 87 = .ok (.iload 5, 2) := dk_21 5 (dk_at dksX4_promote_3 16 rfl rfl)
theorem dX4_promote_89 : decode cX4_promote 89 = .ok (.iconst 3, 1) := dk_6 (dk_at dksX4_promote_3 18 rfl rfl)
theorem dX4_promote_90 : decode cX4_promote 90 = .ok (.if_icmp .ge 20, 3) := dk_162 0 20 (dk_at dksX4_promote_3 19 rfl rfl)
theorem dX4_promote_93 : decode cX4_promote 93 = .ok (.aload_n 0, 1) := dk_42 (dk_at dksX4_promote_3 22 rfl rfl)
theorem dX4_promote_94 : decode cX4_promote 94 = .ok (.getfield 7, 3) := dk_180 0 7 (dk_at dksX4_promote_4 0 rfl rfl)
theorem dX4_promote_97 : decode cX4_promote 97 = .ok (.bipush 9, 2) := dk_16 9 (dk_at dksX4_promote_4 3 rfl rfl)
theorem dX4_promote_99 : decode cX4_promote 99 = .ok (.iload 5, 2) := dk_21 5 (dk_at dksX4_promote_4 5 rfl rfl)
theorem dX4_promote_101 : decode cX4_promote 101 = .ok (.iadd, 1) := dk_96 (dk_at dksX4_promote_4 7 rfl rfl)
theorem dX4_promote_102 : decode cX4_promote 102 = .ok (.iconst 0, 1) := dk_3 (dk_at dksX4_promote_4 8 rfl rfl)
theorem dX4_promote_103 : decode cX4_promote 103 = .ok (.iastore, 1) := dk_79 (dk_at dksX4_promote_4 9 rfl rfl)
theorem dX4_promote_104 : decode cX4_promote 104 = .ok (.iinc 5 1, 3) := dk_132 5 1 (dk_at dksX4_promote_4 10 rfl rfl)
theorem dX4_promote_107 : decode cX4_promote 107 = .ok (.goto (-20), 3) := dk_167 255 236 (dk_at dksX4_promote_4 13 rfl rfl)
theorem dX4_promote_110 : decode cX4_promote 110 = .ok (.aload_n 0, 1) := dk_42 (dk_at dksX4_promote_4 16 rfl rfl)
theorem dX4_promote_111 : decode cX4_promote 111 = .ok (.iload_n 1, 1) := dk_27 (dk_at dksX4_promote_4 17 rfl rfl)
theorem dX4_promote_112 : decode cX4_promote 112 = .ok (.iload_n 3, 1) := dk_29 (dk_at dksX4_promote_4 18 rfl rfl)
theorem dX4_promote_113 : decode cX4_promote 113 = .ok (.iload 4, 2) := dk_21 4 (dk_at dksX4_promote_4 19 rfl rfl)
theorem dX4_promote_115 : decode cX4_promote 115 = .ok (.ifCond .eq 7, 3) := dk_153 0 7 (dk_at dksX4_promote_4 21 rfl rfl)
theorem dX4_promote_118 : decode cX4_promote 118 = .ok (.iconst 1, 1) := dk_4 (dk_at dksX4_promote_5 0 rfl rfl)
theorem dX4_promote_119 : decode cX4_promote 119 = .ok (.goto 4, 3) := dk_167 0 4 (dk_at dksX4_promote_5 1 rfl rfl)
theorem dX4_promote_122 : decode cX4_promote 122 = .ok (.iconst 0, 1) := dk_3 (dk_at dksX4_promote_5 4 rfl rfl)
theorem dX4_promote_123 : decode cX4_promote 123 = .ok (.invokevirtual 95, 3) := dk_182 0 95 (dk_at dksX4_promote_5 5 rfl rfl)
theorem dX4_promote_126 : decode cX4_promote 126 = .ok (.bipush 15, 2) := dk_16 15 (dk_at dksX4_promote_5 8 rfl rfl)
theorem dX4_promote_128 : decode cX4_promote 128 = .ok (.iconst 3, 1) := dk_6 (dk_at dksX4_promote_5 10 rfl rfl)
theorem dX4_promote_129 : decode cX4_promote 129 = .ok (.iload_n 1, 1) := dk_27 (dk_at dksX4_promote_5 11 rfl rfl)
theorem dX4_promote_130 : decode cX4_promote 130 = .ok (.imul, 1) := dk_104 (dk_at dksX4_promote_5 12 rfl rfl)
theorem dX4_promote_131 : decode cX4_promote 131 = .ok (.isub, 1) := dk_100 (dk_at dksX4_promote_5 13 rfl rfl)
theorem dX4_promote_132 : decode cX4_promote 132 = .ok (.istore 5, 2) := dk_54 5 (dk_at dksX4_promote_5 14 rfl rfl)
theorem dX4_promote_134 : decode cX4_promote 134 = .ok (.aload_n 0, 1) := dk_42 (dk_at dksX4_promote_5 16 rfl rfl)
theorem dX4_promote_135 : decode cX4_promote 135 = .ok (.getfield 7, 3) := dk_180 0 7 (dk_at dksX4_promote_5 17 rfl rfl)
theorem dX4_promote_138 : decode cX4_promote 138 = .ok (.iload 5, 2) := dk_21 5 (dk_at dksX4_promote_5 20 rfl rfl)
theorem dX4_promote_140 : decode cX4_promote 140 = .ok (.iconst 0, 1) := dk_3 (dk_at dksX4_promote_5 22 rfl rfl)
theorem dX4_promote_141 : decode cX4_promote 141 = .ok (.iadd, 1) := dk_96 (dk_at dksX4_promote_5 23 rfl rfl)
theorem dX4_promote_142 : decode cX4_promote 142 = .ok (.aload_n 0, 1) := dk_42 (dk_at dksX4_promote_6 0 rfl rfl)
theorem dX4_promote_143 : decode cX4_promote 143 = .ok (.getfield 7, 3) := dk_180 0 7 (dk_at dksX4_promote_6 1 rfl rfl)
theorem dX4_promote_146 : decode cX4_promote 146 = .ok (.iload 5, 2) := dk_21 5 (dk_at dksX4_promote_6 4 rfl rfl)
theorem dX4_promote_148 : decode cX4_promote 148 = .ok (.iconst 0, 1) := dk_3 (dk_at dksX4_promote_6 6 rfl rfl)
theorem dX4_promote_149 : decode cX4_promote 149 = .ok (.iadd, 1) := dk_96 (dk_at dksX4_promote_6 7 rfl rfl)
theorem dX4_promote_150 : decode cX4_promote 150 = .ok (.iaload, 1) := dk_46 (dk_at dksX4_promote_6 8 rfl rfl)
theorem dX4_promote_151 : decode cX4_promote 151 = .ok (.iload_n 3, 1) := dk_29 (dk_at dksX4_promote_6 9 rfl rfl)
theorem dX4_promote_152 : decode cX4_promote 152 = .ok (.if_icmp .le 7, 3) := dk_164 0 7 (dk_at dksX4_promote_6 10 rfl rfl)
theorem dX4_promote_155 : decode cX4_promote 155 = .ok (.iload_n 3, 1) := dk_29 (dk_at dksX4_promote_6 13 rfl rfl)
theorem dX4_promote_156 : decode cX4_promote 156 = .ok (.goto 12, 3) := dk_167 0 12 (dk_at dksX4_promote_6 14 rfl rfl)
theorem dX4_promote_159 : decode cX4_promote 159 = .ok (.aload_n 0, 1) := dk_42 (dk_at dksX4_promote_6 17 rfl rfl)
theorem dX4_promote_160 : decode cX4_promote 160 = .ok (.getfield 7, 3) := dk_180 0 7 (dk_at dksX4_promote_6 18 rfl rfl)
theorem dX4_promote_163 : decode cX4_promote 163 = .ok (.iload 5, 2) := dk_21 5 (dk_at dksX4_promote_6 21 rfl rfl)
theorem dX4_promote_165 : decode cX4_promote 165 = .ok (.iconst 0, 1) := dk_3 (dk_at dksX4_promote_6 23 rfl rfl)
theorem dX4_promote_166 : decode cX4_promote 166 = .ok (.iadd, 1) := dk_96 (dk_at dksX4_promote_7 0 rfl rfl)
theorem dX4_promote_167 : decode cX4_promote 167 = .ok (.iaload, 1) := dk_46 (dk_at dksX4_promote_7 1 rfl rfl)
theorem dX4_promote_168 : decode cX4_promote 168 = .ok (.iastore, 1) := dk_79 (dk_at dksX4_promote_7 2 rfl rfl)
theorem dX4_promote_169 : decode cX4_promote 169 = .ok (.aload_n 0, 1) := dk_42 (dk_at dksX4_promote_7 3 rfl rfl)
theorem dX4_promote_170 : decode cX4_promote 170 = .ok (.iconst 1, 1) := dk_4 (dk_at dksX4_promote_7 4 rfl rfl)
theorem dX4_promote_171 : decode cX4_promote 171 = .ok (.iload_n 1, 1) := dk_27 (dk_at dksX4_promote_7 5 rfl rfl)
theorem dX4_promote_172 : decode cX4_promote 172 = .ok (.isub, 1) := dk_100 (dk_at dksX4_promote_7 6 rfl rfl)
theorem dX4_promote_173 : decode cX4_promote 173 = .ok (.iload_n 3, 1) := dk_29 (dk_at dksX4_promote_7 7 rfl rfl)
theorem dX4_promote_174 : decode cX4_promote 174 = .ok (.invokevirtual 82, 3) := dk_182 0 82 (dk_at dksX4_promote_7 8 rfl rfl)
theorem dX4_promote_177 : decode cX4_promote 177 = .ok (.aload_n 0, 1) := dk_42 (dk_at dksX4_promote_7 11 rfl rfl)
theorem dX4_promote_178 : decode cX4_promote 178 = .ok (.getfield 7, 3) := dk_180 0 7 (dk_at dksX4_promote_7 12 rfl rfl)
theorem dX4_promote_181 : decode cX4_promote 181 = .ok (.iload 5, 2) := dk_21 5 (dk_at dksX4_promote_7 15 rfl rfl)
theorem dX4_promote_183 : decode cX4_promote 183 = .ok (.iconst 1, 1) := dk_4 (dk_at dksX4_promote_7 17 rfl rfl)
theorem dX4_promote_184 : decode cX4_promote 184 = .ok (.iadd, 1) := dk_96 (dk_at dksX4_promote_7 18 rfl rfl)
theorem dX4_promote_185 : decode cX4_promote 185 = .ok (.iaload, 1) := dk_46 (dk_at dksX4_promote_7 19 rfl rfl)
theorem dX4_promote_186 : decode cX4_promote 186 = .ok (.iload_n 3, 1) := dk_29 (dk_at dksX4_promote_7 20 rfl rfl)
theorem dX4_promote_187 : decode cX4_promote 187 = .ok (.if_icmp .le 23, 3) := dk_164 0 23 (dk_at dksX4_promote_7 21 rfl rfl)
theorem dX4_promote_190 : decode cX4_promote 190 = .ok (.aload_n 0, 1) := dk_42 (dk_at dksX4_promote_8 0 rfl rfl)
theorem dX4_promote_191 : decode cX4_promote 191 = .ok (.getfield 7, 3) := dk_180 0 7 (dk_at dksX4_promote_8 1 rfl rfl)
theorem dX4_promote_194 : decode cX4_promote 194 = .ok (.iload 5, 2) := dk_21 5 (dk_at dksX4_promote_8 4 rfl rfl)
theorem dX4_promote_196 : decode cX4_promote 196 = .ok (.iconst 1, 1) := dk_4 (dk_at dksX4_promote_8 6 rfl rfl)
theorem dX4_promote_197 : decode cX4_promote 197 = .ok (.iadd, 1) := dk_96 (dk_at dksX4_promote_8 7 rfl rfl)
theorem dX4_promote_198 : decode cX4_promote 198 = .ok (.iload_n 3, 1) := dk_29 (dk_at dksX4_promote_8 8 rfl rfl)
theorem dX4_promote_199 : decode cX4_promote 199 = .ok (.iastore, 1) := dk_79 (dk_at dksX4_promote_8 9 rfl rfl)
theorem dX4_promote_200 : decode cX4_promote 200 = .ok (.aload_n 0, 1) := dk_42 (dk_at dksX4_promote_8 10 rfl rfl)
theorem dX4_promote_201 : decode cX4_promote 201 = .ok (.getfield 7, 3) := dk_180 0 7 (dk_at dksX4_promote_8 11 rfl rfl)
theorem dX4_promote_204 : decode cX4_promote 204 = .ok (.iload 5, 2) := dk_21 5 (dk_at dksX4_promote_8 14 rfl rfl)
theorem dX4_promote_206 : decode cX4_promote 206 = .ok (.iconst 2, 1) := dk_5 (dk_at dksX4_promote_8 16 rfl rfl)
theorem dX4_promote_207 : decode cX4_promote 207 = .ok (.iadd, 1) := dk_96 (dk_at dksX4_promote_8 17 rfl rfl)
theorem dX4_promote_208 : decode cX4_promote 208 = .ok (.iconst 1, 1) := dk_4 (dk_at dksX4_promote_8 18 rfl rfl)
theorem dX4_promote_209 : decode cX4_promote 209 = .ok (.iastore, 1) := dk_79 (dk_at dksX4_promote_8 19 rfl rfl)
theorem dX4_promote_210 : decode cX4_promote 210 = .ok (.iload_n 2, 1) := dk_28 (dk_at dksX4_promote_8 20 rfl rfl)
theorem dX4_promote_211 : decode cX4_promote 211 = .ok (.ireturn, 1) := dk_172 (dk_at dksX4_promote_8 21 rfl rfl)
abbrev cX4_wouldBeLost : ByteArray := prog_11_method_31_code
def yX4_wouldBeLost : MethodName := ⟨RX4, "wouldBeLost", "(I)I"⟩
def dkwX4_wouldBeLost_0 : List UInt8 := [42, 42, 27, 4, 182, 0, 72, 4, 96, 42, 180, 0, 7, 3, 46, 182, 0, 89, 172]
abbrev dktX4_wouldBeLost_0 : List UInt8 := dkwX4_wouldBeLost_0 ++ []
theorem dksX4_wouldBeLost_0 : cX4_wouldBeLost.data.toList.drop 0 = dktX4_wouldBeLost_0 := by decide +kernel
theorem dX4_wouldBeLost_0 : decode cX4_wouldBeLost 0 = .ok (.aload_n 0, 1) := dk_42 (dk_at dksX4_wouldBeLost_0 0 rfl rfl)
theorem dX4_wouldBeLost_1 : decode cX4_wouldBeLost 1 = .ok (.aload_n 0, 1) := dk_42 (dk_at dksX4_wouldBeLost_0 1 rfl rfl)
theorem dX4_wouldBeLost_2 : decode cX4_wouldBeLost 2 = .ok (.iload_n 1, 1) := dk_27 (dk_at dksX4_wouldBeLost_0 2 rfl rfl)
theorem dX4_wouldBeLost_3 : decode cX4_wouldBeLost 3 = .ok (.iconst 1, 1) := dk_4 (dk_at dksX4_wouldBeLost_0 3 rfl rfl)
theorem dX4_wouldBeLost_4 : decode cX4_wouldBeLost 4 = .ok (.invokevirtual 72, 3) := dk_182 0 72 (dk_at dksX4_wouldBeLost_0 4 rfl rfl)
theorem dX4_wouldBeLost_7 : decode cX4_wouldBeLost 7 = .ok (.iconst 1, 1) := dk_4 (dk_at dksX4_wouldBeLost_0 7 rfl rfl)
theorem dX4_wouldBeLost_8 : decode cX4_wouldBeLost 8 = .ok (.iadd, 1) := dk_96 (dk_at dksX4_wouldBeLost_0 8 rfl rfl)
theorem dX4_wouldBeLost_9 : decode cX4_wouldBeLost 9 = .ok (.aload_n 0, 1) := dk_42 (dk_at dksX4_wouldBeLost_0 9 rfl rfl)
theorem dX4_wouldBeLost_10 : decode cX4_wouldBeLost 10 = .ok (.getfield 7, 3) := dk_180 0 7 (dk_at dksX4_wouldBeLost_0 10 rfl rfl)
theorem dX4_wouldBeLost_13 : decode cX4_wouldBeLost 13 = .ok (.iconst 0, 1) := dk_3 (dk_at dksX4_wouldBeLost_0 13 rfl rfl)
theorem dX4_wouldBeLost_14 : decode cX4_wouldBeLost 14 = .ok (.iaload, 1) := dk_46 (dk_at dksX4_wouldBeLost_0 14 rfl rfl)
theorem dX4_wouldBeLost_15 : decode cX4_wouldBeLost 15 = .ok (.invokevirtual 89, 3) := dk_182 0 89 (dk_at dksX4_wouldBeLost_0 15 rfl rfl)
theorem dX4_wouldBeLost_18 : decode cX4_wouldBeLost 18 = .ok (.ireturn, 1) := dk_172 (dk_at dksX4_wouldBeLost_0 18 rfl rfl)
abbrev cX4_commits : ByteArray := prog_11_method_21_code
def yX4_commits : MethodName := ⟨RX4, "commits", "(II)I"⟩
def dkwX4_commits_1 : List UInt8 := [167, 0, 4, 3, 96, 62, 132, 4, 1, 167, 255, 228, 29, 172]
abbrev dktX4_commits_1 : List UInt8 := dkwX4_commits_1 ++ []
def dkwX4_commits_0 : List UInt8 := [3, 62, 27, 54, 4, 21, 4, 28, 163, 0, 28, 29, 42, 21, 4, 3, 182, 0, 59, 4, 160, 0, 7, 4]
abbrev dktX4_commits_0 : List UInt8 := dkwX4_commits_0 ++ dktX4_commits_1
theorem dksX4_commits_0 : cX4_commits.data.toList.drop 0 = dktX4_commits_0 := by decide +kernel
theorem dksX4_commits_1 : cX4_commits.data.toList.drop 24 = dktX4_commits_1 := dk_seg dksX4_commits_0 24 rfl rfl
theorem dX4_commits_0 : decode cX4_commits 0 = .ok (.iconst 0, 1) := dk_3 (dk_at dksX4_commits_0 0 rfl rfl)
theorem dX4_commits_1 : decode cX4_commits 1 = .ok (.istore_n 3, 1) := dk_62 (dk_at dksX4_commits_0 1 rfl rfl)
theorem dX4_commits_2 : decode cX4_commits 2 = .ok (.iload_n 1, 1) := dk_27 (dk_at dksX4_commits_0 2 rfl rfl)
theorem dX4_commits_3 : decode cX4_commits 3 = .ok (.istore 4, 2) := dk_54 4 (dk_at dksX4_commits_0 3 rfl rfl)
theorem dX4_commits_5 : decode cX4_commits 5 = .ok (.iload 4, 2) := dk_21 4 (dk_at dksX4_commits_0 5 rfl rfl)
theorem dX4_commits_7 : decode cX4_commits 7 = .ok (.iload_n 2, 1) := dk_28 (dk_at dksX4_commits_0 7 rfl rfl)
theorem dX4_commits_8 : decode cX4_commits 8 = .ok (.if_icmp .gt 28, 3) := dk_163 0 28 (dk_at dksX4_commits_0 8 rfl rfl)
theorem dX4_commits_11 : decode cX4_commits 11 = .ok (.iload_n 3, 1) := dk_29 (dk_at dksX4_commits_0 11 rfl rfl)
theorem dX4_commits_12 : decode cX4_commits 12 = .ok (.aload_n 0, 1) := dk_42 (dk_at dksX4_commits_0 12 rfl rfl)
theorem dX4_commits_13 : decode cX4_commits 13 = .ok (.iload 4, 2) := dk_21 4 (dk_at dksX4_commits_0 13 rfl rfl)
theorem dX4_commits_15 : decode cX4_commits 15 = .ok (.iconst 0, 1) := dk_3 (dk_at dksX4_commits_0 15 rfl rfl)
theorem dX4_commits_16 : decode cX4_commits 16 = .ok (.invokevirtual 59, 3) := dk_182 0 59 (dk_at dksX4_commits_0 16 rfl rfl)
theorem dX4_commits_19 : decode cX4_commits 19 = .ok (.iconst 1, 1) := dk_4 (dk_at dksX4_commits_0 19 rfl rfl)
theorem dX4_commits_20 : decode cX4_commits 20 = .ok (.if_icmp .ne 7, 3) := dk_160 0 7 (dk_at dksX4_commits_0 20 rfl rfl)
theorem dX4_commits_23 : decode cX4_commits 23 = .ok (.iconst 1, 1) := dk_4 (dk_at dksX4_commits_0 23 rfl rfl)
theorem dX4_commits_24 : decode cX4_commits 24 = .ok (.goto 4, 3) := dk_167 0 4 (dk_at dksX4_commits_1 0 rfl rfl)
theorem dX4_commits_27 : decode cX4_commits 27 = .ok (.iconst 0, 1) := dk_3 (dk_at dksX4_commits_1 3 rfl rfl)
theorem dX4_commits_28 : decode cX4_commits 28 = .ok (.iadd, 1) := dk_96 (dk_at dksX4_commits_1 4 rfl rfl)
theorem dX4_commits_29 : decode cX4_commits 29 = .ok (.istore_n 3, 1) := dk_62 (dk_at dksX4_commits_1 5 rfl rfl)
theorem dX4_commits_30 : decode cX4_commits 30 = .ok (.iinc 4 1, 3) := dk_132 4 1 (dk_at dksX4_commits_1 6 rfl rfl)
theorem dX4_commits_33 : decode cX4_commits 33 = .ok (.goto (-28), 3) := dk_167 255 228 (dk_at dksX4_commits_1 9 rfl rfl)
theorem dX4_commits_36 : decode cX4_commits 36 = .ok (.iload_n 3, 1) := dk_29 (dk_at dksX4_commits_1 12 rfl rfl)
theorem dX4_commits_37 : decode cX4_commits 37 = .ok (.ireturn, 1) := dk_172 (dk_at dksX4_commits_1 13 rfl rfl)
abbrev cX4_lays : ByteArray := prog_11_method_30_code
def yX4_lays : MethodName := ⟨RX4, "lays", "(III)V"⟩
def dkwX4_lays_2 : List UInt8 := [177]
abbrev dktX4_lays_2 : List UInt8 := dkwX4_lays_2 ++ []
def dkwX4_lays_1 : List UInt8 := [4, 96, 28, 79, 42, 180, 0, 7, 16, 12, 6, 27, 104, 96, 5, 96, 29, 79, 42, 27, 3, 182, 0, 82]
abbrev dktX4_lays_1 : List UInt8 := dkwX4_lays_1 ++ dktX4_lays_2
def dkwX4_lays_0 : List UInt8 := [42, 180, 0, 7, 16, 12, 6, 27, 104, 96, 3, 96, 28, 79, 42, 180, 0, 7, 16, 12, 6, 27, 104, 96]
abbrev dktX4_lays_0 : List UInt8 := dkwX4_lays_0 ++ dktX4_lays_1
theorem dksX4_lays_0 : cX4_lays.data.toList.drop 0 = dktX4_lays_0 := by decide +kernel
theorem dksX4_lays_1 : cX4_lays.data.toList.drop 24 = dktX4_lays_1 := dk_seg dksX4_lays_0 24 rfl rfl
theorem dksX4_lays_2 : cX4_lays.data.toList.drop 48 = dktX4_lays_2 := dk_seg dksX4_lays_1 24 rfl rfl
theorem dX4_lays_0 : decode cX4_lays 0 = .ok (.aload_n 0, 1) := dk_42 (dk_at dksX4_lays_0 0 rfl rfl)
theorem dX4_lays_1 : decode cX4_lays 1 = .ok (.getfield 7, 3) := dk_180 0 7 (dk_at dksX4_lays_0 1 rfl rfl)
theorem dX4_lays_4 : decode cX4_lays 4 = .ok (.bipush 12, 2) := dk_16 12 (dk_at dksX4_lays_0 4 rfl rfl)
theorem dX4_lays_6 : decode cX4_lays 6 = .ok (.iconst 3, 1) := dk_6 (dk_at dksX4_lays_0 6 rfl rfl)
theorem dX4_lays_7 : decode cX4_lays 7 = .ok (.iload_n 1, 1) := dk_27 (dk_at dksX4_lays_0 7 rfl rfl)
theorem dX4_lays_8 : decode cX4_lays 8 = .ok (.imul, 1) := dk_104 (dk_at dksX4_lays_0 8 rfl rfl)
theorem dX4_lays_9 : decode cX4_lays 9 = .ok (.iadd, 1) := dk_96 (dk_at dksX4_lays_0 9 rfl rfl)
theorem dX4_lays_10 : decode cX4_lays 10 = .ok (.iconst 0, 1) := dk_3 (dk_at dksX4_lays_0 10 rfl rfl)
theorem dX4_lays_11 : decode cX4_lays 11 = .ok (.iadd, 1) := dk_96 (dk_at dksX4_lays_0 11 rfl rfl)
theorem dX4_lays_12 : decode cX4_lays 12 = .ok (.iload_n 2, 1) := dk_28 (dk_at dksX4_lays_0 12 rfl rfl)
theorem dX4_lays_13 : decode cX4_lays 13 = .ok (.iastore, 1) := dk_79 (dk_at dksX4_lays_0 13 rfl rfl)
theorem dX4_lays_14 : decode cX4_lays 14 = .ok (.aload_n 0, 1) := dk_42 (dk_at dksX4_lays_0 14 rfl rfl)
theorem dX4_lays_15 : decode cX4_lays 15 = .ok (.getfield 7, 3) := dk_180 0 7 (dk_at dksX4_lays_0 15 rfl rfl)
theorem dX4_lays_18 : decode cX4_lays 18 = .ok (.bipush 12, 2) := dk_16 12 (dk_at dksX4_lays_0 18 rfl rfl)
theorem dX4_lays_20 : decode cX4_lays 20 = .ok (.iconst 3, 1) := dk_6 (dk_at dksX4_lays_0 20 rfl rfl)
theorem dX4_lays_21 : decode cX4_lays 21 = .ok (.iload_n 1, 1) := dk_27 (dk_at dksX4_lays_0 21 rfl rfl)
theorem dX4_lays_22 : decode cX4_lays 22 = .ok (.imul, 1) := dk_104 (dk_at dksX4_lays_0 22 rfl rfl)
theorem dX4_lays_23 : decode cX4_lays 23 = .ok (.iadd, 1) := dk_96 (dk_at dksX4_lays_0 23 rfl rfl)
theorem dX4_lays_24 : decode cX4_lays 24 = .ok (.iconst 1, 1) := dk_4 (dk_at dksX4_lays_1 0 rfl rfl)
theorem dX4_lays_25 : decode cX4_lays 25 = .ok (.iadd, 1) := dk_96 (dk_at dksX4_lays_1 1 rfl rfl)
theorem dX4_lays_26 : decode cX4_lays 26 = .ok (.iload_n 2, 1) := dk_28 (dk_at dksX4_lays_1 2 rfl rfl)
theorem dX4_lays_27 : decode cX4_lays 27 = .ok (.iastore, 1) := dk_79 (dk_at dksX4_lays_1 3 rfl rfl)
theorem dX4_lays_28 : decode cX4_lays 28 = .ok (.aload_n 0, 1) := dk_42 (dk_at dksX4_lays_1 4 rfl rfl)
theorem dX4_lays_29 : decode cX4_lays 29 = .ok (.getfield 7, 3) := dk_180 0 7 (dk_at dksX4_lays_1 5 rfl rfl)
theorem dX4_lays_32 : decode cX4_lays 32 = .ok (.bipush 12, 2) := dk_16 12 (dk_at dksX4_lays_1 8 rfl rfl)
theorem dX4_lays_34 : decode cX4_lays 34 = .ok (.iconst 3, 1) := dk_6 (dk_at dksX4_lays_1 10 rfl rfl)
theorem dX4_lays_35 : decode cX4_lays 35 = .ok (.iload_n 1, 1) := dk_27 (dk_at dksX4_lays_1 11 rfl rfl)
theorem dX4_lays_36 : decode cX4_lays 36 = .ok (.imul, 1) := dk_104 (dk_at dksX4_lays_1 12 rfl rfl)
theorem dX4_lays_37 : decode cX4_lays 37 = .ok (.iadd, 1) := dk_96 (dk_at dksX4_lays_1 13 rfl rfl)
theorem dX4_lays_38 : decode cX4_lays 38 = .ok (.iconst 2, 1) := dk_5 (dk_at dksX4_lays_1 14 rfl rfl)
theorem dX4_lays_39 : decode cX4_lays 39 = .ok (.iadd, 1) := dk_96 (dk_at dksX4_lays_1 15 rfl rfl)
theorem dX4_lays_40 : decode cX4_lays 40 = .ok (.iload_n 3, 1) := dk_29 (dk_at dksX4_lays_1 16 rfl rfl)
theorem dX4_lays_41 : decode cX4_lays 41 = .ok (.iastore, 1) := dk_79 (dk_at dksX4_lays_1 17 rfl rfl)
theorem dX4_lays_42 : decode cX4_lays 42 = .ok (.aload_n 0, 1) := dk_42 (dk_at dksX4_lays_1 18 rfl rfl)
theorem dX4_lays_43 : decode cX4_lays 43 = .ok (.iload_n 1, 1) := dk_27 (dk_at dksX4_lays_1 19 rfl rfl)
theorem dX4_lays_44 : decode cX4_lays 44 = .ok (.iconst 0, 1) := dk_3 (dk_at dksX4_lays_1 20 rfl rfl)
theorem dX4_lays_45 : decode cX4_lays 45 = .ok (.invokevirtual 82, 3) := dk_182 0 82 (dk_at dksX4_lays_1 21 rfl rfl)
theorem dX4_lays_48 : decode cX4_lays 48 = .ok (.return_, 1) := dk_177 (dk_at dksX4_lays_2 0 rfl rfl)
abbrev cX4_rebuild : ByteArray := prog_11_method_33_code
def yX4_rebuild : MethodName := ⟨RX4, "rebuild", "(I)I"⟩
def dkwX4_rebuild_1 : List UInt8 := [182, 0, 95, 42, 180, 0, 7, 3, 46, 172]
abbrev dktX4_rebuild_1 : List UInt8 := dkwX4_rebuild_1 ++ []
def dkwX4_rebuild_0 : List UInt8 := [27, 184, 0, 69, 154, 0, 6, 18, 41, 172, 42, 182, 0, 43, 42, 27, 42, 180, 0, 7, 3, 46, 3]
abbrev dktX4_rebuild_0 : List UInt8 := dkwX4_rebuild_0 ++ dktX4_rebuild_1
theorem dksX4_rebuild_0 : cX4_rebuild.data.toList.drop 0 = dktX4_rebuild_0 := by decide +kernel
theorem dksX4_rebuild_1 : cX4_rebuild.data.toList.drop 23 = dktX4_rebuild_1 := dk_seg dksX4_rebuild_0 23 rfl rfl
theorem dX4_rebuild_0 : decode cX4_rebuild 0 = .ok (.iload_n 1, 1) := dk_27 (dk_at dksX4_rebuild_0 0 rfl rfl)
theorem dX4_rebuild_1 : decode cX4_rebuild 1 = .ok (.invokestatic 69, 3) := dk_184 0 69 (dk_at dksX4_rebuild_0 1 rfl rfl)
theorem dX4_rebuild_4 : decode cX4_rebuild 4 = .ok (.ifCond .ne 6, 3) := dk_154 0 6 (dk_at dksX4_rebuild_0 4 rfl rfl)
theorem dX4_rebuild_7 : decode cX4_rebuild 7 = .ok (.ldc 41, 2) := dk_18 41 (dk_at dksX4_rebuild_0 7 rfl rfl)
theorem dX4_rebuild_9 : decode cX4_rebuild 9 = .ok (.ireturn, 1) := dk_172 (dk_at dksX4_rebuild_0 9 rfl rfl)
theorem dX4_rebuild_10 : decode cX4_rebuild 10 = .ok (.aload_n 0, 1) := dk_42 (dk_at dksX4_rebuild_0 10 rfl rfl)
theorem dX4_rebuild_11 : decode cX4_rebuild 11 = .ok (.invokevirtual 43, 3) := dk_182 0 43 (dk_at dksX4_rebuild_0 11 rfl rfl)
theorem dX4_rebuild_14 : decode cX4_rebuild 14 = .ok (.aload_n 0, 1) := dk_42 (dk_at dksX4_rebuild_0 14 rfl rfl)
theorem dX4_rebuild_15 : decode cX4_rebuild 15 = .ok (.iload_n 1, 1) := dk_27 (dk_at dksX4_rebuild_0 15 rfl rfl)
theorem dX4_rebuild_16 : decode cX4_rebuild 16 = .ok (.aload_n 0, 1) := dk_42 (dk_at dksX4_rebuild_0 16 rfl rfl)
theorem dX4_rebuild_17 : decode cX4_rebuild 17 = .ok (.getfield 7, 3) := dk_180 0 7 (dk_at dksX4_rebuild_0 17 rfl rfl)
theorem dX4_rebuild_20 : decode cX4_rebuild 20 = .ok (.iconst 0, 1) := dk_3 (dk_at dksX4_rebuild_0 20 rfl rfl)
theorem dX4_rebuild_21 : decode cX4_rebuild 21 = .ok (.iaload, 1) := dk_46 (dk_at dksX4_rebuild_0 21 rfl rfl)
theorem dX4_rebuild_22 : decode cX4_rebuild 22 = .ok (.iconst 0, 1) := dk_3 (dk_at dksX4_rebuild_0 22 rfl rfl)
theorem dX4_rebuild_23 : decode cX4_rebuild 23 = .ok (.invokevirtual 95, 3) := dk_182 0 95 (dk_at dksX4_rebuild_1 0 rfl rfl)
theorem dX4_rebuild_26 : decode cX4_rebuild 26 = .ok (.aload_n 0, 1) := dk_42 (dk_at dksX4_rebuild_1 3 rfl rfl)
theorem dX4_rebuild_27 : decode cX4_rebuild 27 = .ok (.getfield 7, 3) := dk_180 0 7 (dk_at dksX4_rebuild_1 4 rfl rfl)
theorem dX4_rebuild_30 : decode cX4_rebuild 30 = .ok (.iconst 0, 1) := dk_3 (dk_at dksX4_rebuild_1 7 rfl rfl)
theorem dX4_rebuild_31 : decode cX4_rebuild 31 = .ok (.iaload, 1) := dk_46 (dk_at dksX4_rebuild_1 8 rfl rfl)
theorem dX4_rebuild_32 : decode cX4_rebuild 32 = .ok (.ireturn, 1) := dk_172 (dk_at dksX4_rebuild_1 9 rfl rfl)
abbrev cX4_set : ByteArray := prog_11_method_34_code
def yX4_set : MethodName := ⟨RX4, "set", "(II)I"⟩
def dkwX4_set_2 : List UInt8 := [29, 172]
abbrev dktX4_set_2 : List UInt8 := dkwX4_set_2 ++ []
def dkwX4_set_1 : List UInt8 := [42, 182, 0, 43, 42, 180, 0, 7, 16, 7, 27, 96, 46, 62, 42, 180, 0, 7, 16, 7, 27, 96, 28, 79]
abbrev dktX4_set_1 : List UInt8 := dkwX4_set_1 ++ dktX4_set_2
def dkwX4_set_0 : List UInt8 := [27, 3, 4, 184, 0, 33, 153, 0, 15, 28, 4, 27, 100, 16, 20, 184, 0, 33, 154, 0, 6, 18, 41, 172]
abbrev dktX4_set_0 : List UInt8 := dkwX4_set_0 ++ dktX4_set_1
theorem dksX4_set_0 : cX4_set.data.toList.drop 0 = dktX4_set_0 := by decide +kernel
theorem dksX4_set_1 : cX4_set.data.toList.drop 24 = dktX4_set_1 := dk_seg dksX4_set_0 24 rfl rfl
theorem dksX4_set_2 : cX4_set.data.toList.drop 48 = dktX4_set_2 := dk_seg dksX4_set_1 24 rfl rfl
theorem dX4_set_0 : decode cX4_set 0 = .ok (.iload_n 1, 1) := dk_27 (dk_at dksX4_set_0 0 rfl rfl)
theorem dX4_set_1 : decode cX4_set 1 = .ok (.iconst 0, 1) := dk_3 (dk_at dksX4_set_0 1 rfl rfl)
theorem dX4_set_2 : decode cX4_set 2 = .ok (.iconst 1, 1) := dk_4 (dk_at dksX4_set_0 2 rfl rfl)
theorem dX4_set_3 : decode cX4_set 3 = .ok (.invokestatic 33, 3) := dk_184 0 33 (dk_at dksX4_set_0 3 rfl rfl)
theorem dX4_set_6 : decode cX4_set 6 = .ok (.ifCond .eq 15, 3) := dk_153 0 15 (dk_at dksX4_set_0 6 rfl rfl)
theorem dX4_set_9 : decode cX4_set 9 = .ok (.iload_n 2, 1) := dk_28 (dk_at dksX4_set_0 9 rfl rfl)
theorem dX4_set_10 : decode cX4_set 10 = .ok (.iconst 1, 1) := dk_4 (dk_at dksX4_set_0 10 rfl rfl)
theorem dX4_set_11 : decode cX4_set 11 = .ok (.iload_n 1, 1) := dk_27 (dk_at dksX4_set_0 11 rfl rfl)
theorem dX4_set_12 : decode cX4_set 12 = .ok (.isub, 1) := dk_100 (dk_at dksX4_set_0 12 rfl rfl)
theorem dX4_set_13 : decode cX4_set 13 = .ok (.bipush 20, 2) := dk_16 20 (dk_at dksX4_set_0 13 rfl rfl)
theorem dX4_set_15 : decode cX4_set 15 = .ok (.invokestatic 33, 3) := dk_184 0 33 (dk_at dksX4_set_0 15 rfl rfl)
theorem dX4_set_18 : decode cX4_set 18 = .ok (.ifCond .ne 6, 3) := dk_154 0 6 (dk_at dksX4_set_0 18 rfl rfl)
theorem dX4_set_21 : decode cX4_set 21 = .ok (.ldc 41, 2) := dk_18 41 (dk_at dksX4_set_0 21 rfl rfl)
theorem dX4_set_23 : decode cX4_set 23 = .ok (.ireturn, 1) := dk_172 (dk_at dksX4_set_0 23 rfl rfl)
theorem dX4_set_24 : decode cX4_set 24 = .ok (.aload_n 0, 1) := dk_42 (dk_at dksX4_set_1 0 rfl rfl)
theorem dX4_set_25 : decode cX4_set 25 = .ok (.invokevirtual 43, 3) := dk_182 0 43 (dk_at dksX4_set_1 1 rfl rfl)
theorem dX4_set_28 : decode cX4_set 28 = .ok (.aload_n 0, 1) := dk_42 (dk_at dksX4_set_1 4 rfl rfl)
theorem dX4_set_29 : decode cX4_set 29 = .ok (.getfield 7, 3) := dk_180 0 7 (dk_at dksX4_set_1 5 rfl rfl)
theorem dX4_set_32 : decode cX4_set 32 = .ok (.bipush 7, 2) := dk_16 7 (dk_at dksX4_set_1 8 rfl rfl)
theorem dX4_set_34 : decode cX4_set 34 = .ok (.iload_n 1, 1) := dk_27 (dk_at dksX4_set_1 10 rfl rfl)
theorem dX4_set_35 : decode cX4_set 35 = .ok (.iadd, 1) := dk_96 (dk_at dksX4_set_1 11 rfl rfl)
theorem dX4_set_36 : decode cX4_set 36 = .ok (.iaload, 1) := dk_46 (dk_at dksX4_set_1 12 rfl rfl)
theorem dX4_set_37 : decode cX4_set 37 = .ok (.istore_n 3, 1) := dk_62 (dk_at dksX4_set_1 13 rfl rfl)
theorem dX4_set_38 : decode cX4_set 38 = .ok (.aload_n 0, 1) := dk_42 (dk_at dksX4_set_1 14 rfl rfl)
theorem dX4_set_39 : decode cX4_set 39 = .ok (.getfield 7, 3) := dk_180 0 7 (dk_at dksX4_set_1 15 rfl rfl)
theorem dX4_set_42 : decode cX4_set 42 = .ok (.bipush 7, 2) := dk_16 7 (dk_at dksX4_set_1 18 rfl rfl)
theorem dX4_set_44 : decode cX4_set 44 = .ok (.iload_n 1, 1) := dk_27 (dk_at dksX4_set_1 20 rfl rfl)
theorem dX4_set_45 : decode cX4_set 45 = .ok (.iadd, 1) := dk_96 (dk_at dksX4_set_1 21 rfl rfl)
theorem dX4_set_46 : decode cX4_set 46 = .ok (.iload_n 2, 1) := dk_28 (dk_at dksX4_set_1 22 rfl rfl)
theorem dX4_set_47 : decode cX4_set 47 = .ok (.iastore, 1) := dk_79 (dk_at dksX4_set_1 23 rfl rfl)
theorem dX4_set_48 : decode cX4_set 48 = .ok (.iload_n 3, 1) := dk_29 (dk_at dksX4_set_2 0 rfl rfl)
theorem dX4_set_49 : decode cX4_set 49 = .ok (.ireturn, 1) := dk_172 (dk_at dksX4_set_2 1 rfl rfl)
abbrev cX4_read : ByteArray := prog_11_method_37_code
def yX4_read : MethodName := ⟨RX4, "read", "(III)I"⟩
def dkwX4_read_2 : List UInt8 := [18, 42, 172]
abbrev dktX4_read_2 : List UInt8 := dkwX4_read_2 ++ []
def dkwX4_read_1 : List UInt8 := [172, 42, 27, 29, 182, 0, 102, 153, 0, 17, 42, 42, 27, 4, 182, 0, 72, 28, 182, 0, 105, 167, 0, 5]
abbrev dktX4_read_1 : List UInt8 := dkwX4_read_1 ++ dktX4_read_2
def dkwX4_read_0 : List UInt8 := [27, 184, 0, 69, 153, 0, 18, 28, 184, 0, 47, 153, 0, 11, 42, 29, 182, 0, 99, 154, 0, 6, 18, 41]
abbrev dktX4_read_0 : List UInt8 := dkwX4_read_0 ++ dktX4_read_1
theorem dksX4_read_0 : cX4_read.data.toList.drop 0 = dktX4_read_0 := by decide +kernel
theorem dksX4_read_1 : cX4_read.data.toList.drop 24 = dktX4_read_1 := dk_seg dksX4_read_0 24 rfl rfl
theorem dksX4_read_2 : cX4_read.data.toList.drop 48 = dktX4_read_2 := dk_seg dksX4_read_1 24 rfl rfl
theorem dX4_read_0 : decode cX4_read 0 = .ok (.iload_n 1, 1) := dk_27 (dk_at dksX4_read_0 0 rfl rfl)
theorem dX4_read_1 : decode cX4_read 1 = .ok (.invokestatic 69, 3) := dk_184 0 69 (dk_at dksX4_read_0 1 rfl rfl)
theorem dX4_read_4 : decode cX4_read 4 = .ok (.ifCond .eq 18, 3) := dk_153 0 18 (dk_at dksX4_read_0 4 rfl rfl)
theorem dX4_read_7 : decode cX4_read 7 = .ok (.iload_n 2, 1) := dk_28 (dk_at dksX4_read_0 7 rfl rfl)
theorem dX4_read_8 : decode cX4_read 8 = .ok (.invokestatic 47, 3) := dk_184 0 47 (dk_at dksX4_read_0 8 rfl rfl)
theorem dX4_read_11 : decode cX4_read 11 = .ok (.ifCond .eq 11, 3) := dk_153 0 11 (dk_at dksX4_read_0 11 rfl rfl)
theorem dX4_read_14 : decode cX4_read 14 = .ok (.aload_n 0, 1) := dk_42 (dk_at dksX4_read_0 14 rfl rfl)
theorem dX4_read_15 : decode cX4_read 15 = .ok (.iload_n 3, 1) := dk_29 (dk_at dksX4_read_0 15 rfl rfl)
theorem dX4_read_16 : decode cX4_read 16 = .ok (.invokevirtual 99, 3) := dk_182 0 99 (dk_at dksX4_read_0 16 rfl rfl)
theorem dX4_read_19 : decode cX4_read 19 = .ok (.ifCond .ne 6, 3) := dk_154 0 6 (dk_at dksX4_read_0 19 rfl rfl)
theorem dX4_read_22 : decode cX4_read 22 = .ok (.ldc 41, 2) := dk_18 41 (dk_at dksX4_read_0 22 rfl rfl)
theorem dX4_read_24 : decode cX4_read 24 = .ok (.ireturn, 1) := dk_172 (dk_at dksX4_read_1 0 rfl rfl)
theorem dX4_read_25 : decode cX4_read 25 = .ok (.aload_n 0, 1) := dk_42 (dk_at dksX4_read_1 1 rfl rfl)
theorem dX4_read_26 : decode cX4_read 26 = .ok (.iload_n 1, 1) := dk_27 (dk_at dksX4_read_1 2 rfl rfl)
theorem dX4_read_27 : decode cX4_read 27 = .ok (.iload_n 3, 1) := dk_29 (dk_at dksX4_read_1 3 rfl rfl)
theorem dX4_read_28 : decode cX4_read 28 = .ok (.invokevirtual 102, 3) := dk_182 0 102 (dk_at dksX4_read_1 4 rfl rfl)
theorem dX4_read_31 : decode cX4_read 31 = .ok (.ifCond .eq 17, 3) := dk_153 0 17 (dk_at dksX4_read_1 7 rfl rfl)
theorem dX4_read_34 : decode cX4_read 34 = .ok (.aload_n 0, 1) := dk_42 (dk_at dksX4_read_1 10 rfl rfl)
theorem dX4_read_35 : decode cX4_read 35 = .ok (.aload_n 0, 1) := dk_42 (dk_at dksX4_read_1 11 rfl rfl)
theorem dX4_read_36 : decode cX4_read 36 = .ok (.iload_n 1, 1) := dk_27 (dk_at dksX4_read_1 12 rfl rfl)
theorem dX4_read_37 : decode cX4_read 37 = .ok (.iconst 1, 1) := dk_4 (dk_at dksX4_read_1 13 rfl rfl)
theorem dX4_read_38 : decode cX4_read 38 = .ok (.invokevirtual 72, 3) := dk_182 0 72 (dk_at dksX4_read_1 14 rfl rfl)
theorem dX4_read_41 : decode cX4_read 41 = .ok (.iload_n 2, 1) := dk_28 (dk_at dksX4_read_1 17 rfl rfl)
theorem dX4_read_42 : decode cX4_read 42 = .ok (.invokevirtual 105, 3) := dk_182 0 105 (dk_at dksX4_read_1 18 rfl rfl)
theorem dX4_read_45 : decode cX4_read 45 = .ok (.goto 5, 3) := dk_167 0 5 (dk_at dksX4_read_1 21 rfl rfl)
theorem dX4_read_48 : decode cX4_read 48 = .ok (.ldc 42, 2) := dk_18 42 (dk_at dksX4_read_2 0 rfl rfl)
theorem dX4_read_50 : decode cX4_read 50 = .ok (.ireturn, 1) := dk_172 (dk_at dksX4_read_2 2 rfl rfl)
abbrev cX4_isFence : ByteArray := prog_11_method_35_code
def yX4_isFence : MethodName := ⟨RX4, "isFence", "(I)Z"⟩
def dkwX4_isFence_0 : List UInt8 := [27, 3, 42, 180, 0, 7, 3, 46, 184, 0, 33, 172]
abbrev dktX4_isFence_0 : List UInt8 := dkwX4_isFence_0 ++ []
theorem dksX4_isFence_0 : cX4_isFence.data.toList.drop 0 = dktX4_isFence_0 := by decide +kernel
theorem dX4_isFence_0 : decode cX4_isFence 0 = .ok (.iload_n 1, 1) := dk_27 (dk_at dksX4_isFence_0 0 rfl rfl)
theorem dX4_isFence_1 : decode cX4_isFence 1 = .ok (.iconst 0, 1) := dk_3 (dk_at dksX4_isFence_0 1 rfl rfl)
theorem dX4_isFence_2 : decode cX4_isFence 2 = .ok (.aload_n 0, 1) := dk_42 (dk_at dksX4_isFence_0 2 rfl rfl)
theorem dX4_isFence_3 : decode cX4_isFence 3 = .ok (.getfield 7, 3) := dk_180 0 7 (dk_at dksX4_isFence_0 3 rfl rfl)
theorem dX4_isFence_6 : decode cX4_isFence 6 = .ok (.iconst 0, 1) := dk_3 (dk_at dksX4_isFence_0 6 rfl rfl)
theorem dX4_isFence_7 : decode cX4_isFence 7 = .ok (.iaload, 1) := dk_46 (dk_at dksX4_isFence_0 7 rfl rfl)
theorem dX4_isFence_8 : decode cX4_isFence 8 = .ok (.invokestatic 33, 3) := dk_184 0 33 (dk_at dksX4_isFence_0 8 rfl rfl)
theorem dX4_isFence_11 : decode cX4_isFence 11 = .ok (.ireturn, 1) := dk_172 (dk_at dksX4_isFence_0 11 rfl rfl)
abbrev cX4_canServe : ByteArray := prog_11_method_36_code
def yX4_canServe : MethodName := ⟨RX4, "canServe", "(II)Z"⟩
def dkwX4_canServe_1 : List UInt8 := [172]
abbrev dktX4_canServe_1 : List UInt8 := dkwX4_canServe_1 ++ []
def dkwX4_canServe_0 : List UInt8 := [42, 27, 5, 182, 0, 72, 154, 0, 17, 42, 27, 4, 182, 0, 72, 28, 161, 0, 7, 4, 167, 0, 4, 3]
abbrev dktX4_canServe_0 : List UInt8 := dkwX4_canServe_0 ++ dktX4_canServe_1
theorem dksX4_canServe_0 : cX4_canServe.data.toList.drop 0 = dktX4_canServe_0 := by decide +kernel
theorem dksX4_canServe_1 : cX4_canServe.data.toList.drop 24 = dktX4_canServe_1 := dk_seg dksX4_canServe_0 24 rfl rfl
theorem dX4_canServe_0 : decode cX4_canServe 0 = .ok (.aload_n 0, 1) := dk_42 (dk_at dksX4_canServe_0 0 rfl rfl)
theorem dX4_canServe_1 : decode cX4_canServe 1 = .ok (.iload_n 1, 1) := dk_27 (dk_at dksX4_canServe_0 1 rfl rfl)
theorem dX4_canServe_2 : decode cX4_canServe 2 = .ok (.iconst 2, 1) := dk_5 (dk_at dksX4_canServe_0 2 rfl rfl)
theorem dX4_canServe_3 : decode cX4_canServe 3 = .ok (.invokevirtual 72, 3) := dk_182 0 72 (dk_at dksX4_canServe_0 3 rfl rfl)
theorem dX4_canServe_6 : decode cX4_canServe 6 = .ok (.ifCond .ne 17, 3) := dk_154 0 17 (dk_at dksX4_canServe_0 6 rfl rfl)
theorem dX4_canServe_9 : decode cX4_canServe 9 = .ok (.aload_n 0, 1) := dk_42 (dk_at dksX4_canServe_0 9 rfl rfl)
theorem dX4_canServe_10 : decode cX4_canServe 10 = .ok (.iload_n 1, 1) := dk_27 (dk_at dksX4_canServe_0 10 rfl rfl)
theorem dX4_canServe_11 : decode cX4_canServe 11 = .ok (.iconst 1, 1) := dk_4 (dk_at dksX4_canServe_0 11 rfl rfl)
theorem dX4_canServe_12 : decode cX4_canServe 12 = .ok (.invokevirtual 72, 3) := dk_182 0 72 (dk_at dksX4_canServe_0 12 rfl rfl)
theorem dX4_canServe_15 : decode cX4_canServe 15 = .ok (.iload_n 2, 1) := dk_28 (dk_at dksX4_canServe_0 15 rfl rfl)
theorem dX4_canServe_16 : decode cX4_canServe 16 = .ok (.if_icmp .lt 7, 3) := dk_161 0 7 (dk_at dksX4_canServe_0 16 rfl rfl)
theorem dX4_canServe_19 : decode cX4_canServe 19 = .ok (.iconst 1, 1) := dk_4 (dk_at dksX4_canServe_0 19 rfl rfl)
theorem dX4_canServe_20 : decode cX4_canServe 20 = .ok (.goto 4, 3) := dk_167 0 4 (dk_at dksX4_canServe_0 20 rfl rfl)
theorem dX4_canServe_23 : decode cX4_canServe 23 = .ok (.iconst 0, 1) := dk_3 (dk_at dksX4_canServe_0 23 rfl rfl)
theorem dX4_canServe_24 : decode cX4_canServe 24 = .ok (.ireturn, 1) := dk_172 (dk_at dksX4_canServe_1 0 rfl rfl)
abbrev cX4_valueAt : ByteArray := prog_11_method_20_code
def yX4_valueAt : MethodName := ⟨RX4, "valueAt", "(II)I"⟩
def dkwX4_valueAt_1 : List UInt8 := [182, 0, 63, 6, 182, 0, 59, 172]
abbrev dktX4_valueAt_1 : List UInt8 := dkwX4_valueAt_1 ++ []
def dkwX4_valueAt_0 : List UInt8 := [42, 27, 28, 182, 0, 66, 62, 29, 154, 0, 7, 3, 167, 0, 19, 42, 42, 42, 29, 4, 182, 0, 59, 28]
abbrev dktX4_valueAt_0 : List UInt8 := dkwX4_valueAt_0 ++ dktX4_valueAt_1
theorem dksX4_valueAt_0 : cX4_valueAt.data.toList.drop 0 = dktX4_valueAt_0 := by decide +kernel
theorem dksX4_valueAt_1 : cX4_valueAt.data.toList.drop 24 = dktX4_valueAt_1 := dk_seg dksX4_valueAt_0 24 rfl rfl
theorem dX4_valueAt_0 : decode cX4_valueAt 0 = .ok (.aload_n 0, 1) := dk_42 (dk_at dksX4_valueAt_0 0 rfl rfl)
theorem dX4_valueAt_1 : decode cX4_valueAt 1 = .ok (.iload_n 1, 1) := dk_27 (dk_at dksX4_valueAt_0 1 rfl rfl)
theorem dX4_valueAt_2 : decode cX4_valueAt 2 = .ok (.iload_n 2, 1) := dk_28 (dk_at dksX4_valueAt_0 2 rfl rfl)
theorem dX4_valueAt_3 : decode cX4_valueAt 3 = .ok (.invokevirtual 66, 3) := dk_182 0 66 (dk_at dksX4_valueAt_0 3 rfl rfl)
theorem dX4_valueAt_6 : decode cX4_valueAt 6 = .ok (.istore_n 3, 1) := dk_62 (dk_at dksX4_valueAt_0 6 rfl rfl)
theorem dX4_valueAt_7 : decode cX4_valueAt 7 = .ok (.iload_n 3, 1) := dk_29 (dk_at dksX4_valueAt_0 7 rfl rfl)
theorem dX4_valueAt_8 : decode cX4_valueAt 8 = .ok (.ifCond .ne 7, 3) := dk_154 0 7 (dk_at dksX4_valueAt_0 8 rfl rfl)
theorem dX4_valueAt_11 : decode cX4_valueAt 11 = .ok (.iconst 0, 1) := dk_3 (dk_at dksX4_valueAt_0 11 rfl rfl)
theorem dX4_valueAt_12 : decode cX4_valueAt 12 = .ok (.goto 19, 3) := dk_167 0 19 (dk_at dksX4_valueAt_0 12 rfl rfl)
theorem dX4_valueAt_15 : decode cX4_valueAt 15 = .ok (.aload_n 0, 1) := dk_42 (dk_at dksX4_valueAt_0 15 rfl rfl)
theorem dX4_valueAt_16 : decode cX4_valueAt 16 = .ok (.aload_n 0, 1) := dk_42 (dk_at dksX4_valueAt_0 16 rfl rfl)
theorem dX4_valueAt_17 : decode cX4_valueAt 17 = .ok (.aload_n 0, 1) := dk_42 (dk_at dksX4_valueAt_0 17 rfl rfl)
theorem dX4_valueAt_18 : decode cX4_valueAt 18 = .ok (.iload_n 3, 1) := dk_29 (dk_at dksX4_valueAt_0 18 rfl rfl)
theorem dX4_valueAt_19 : decode cX4_valueAt 19 = .ok (.iconst 1, 1) := dk_4 (dk_at dksX4_valueAt_0 19 rfl rfl)
theorem dX4_valueAt_20 : decode cX4_valueAt 20 = .ok (.invokevirtual 59, 3) := dk_182 0 59 (dk_at dksX4_valueAt_0 20 rfl rfl)
theorem dX4_valueAt_23 : decode cX4_valueAt 23 = .ok (.iload_n 2, 1) := dk_28 (dk_at dksX4_valueAt_0 23 rfl rfl)
theorem dX4_valueAt_24 : decode cX4_valueAt 24 = .ok (.invokevirtual 63, 3) := dk_182 0 63 (dk_at dksX4_valueAt_1 0 rfl rfl)
theorem dX4_valueAt_27 : decode cX4_valueAt 27 = .ok (.iconst 3, 1) := dk_6 (dk_at dksX4_valueAt_1 3 rfl rfl)
theorem dX4_valueAt_28 : decode cX4_valueAt 28 = .ok (.invokevirtual 59, 3) := dk_182 0 59 (dk_at dksX4_valueAt_1 4 rfl rfl)
theorem dX4_valueAt_31 : decode cX4_valueAt 31 = .ok (.ireturn, 1) := dk_172 (dk_at dksX4_valueAt_1 7 rfl rfl)
abbrev cX4_lastCommit : ByteArray := prog_11_method_19_code
def yX4_lastCommit : MethodName := ⟨RX4, "lastCommit", "(II)I"⟩
def dkwX4_lastCommit_1 : List UInt8 := [182, 0, 63, 158, 0, 5, 29, 172, 132, 3, 255, 167, 255, 223, 3, 172]
abbrev dktX4_lastCommit_1 : List UInt8 := dkwX4_lastCommit_1 ++ []
def dkwX4_lastCommit_0 : List UInt8 := [27, 62, 29, 158, 0, 35, 42, 29, 3, 182, 0, 59, 4, 160, 0, 19, 42, 42, 29, 4, 182, 0, 59, 28]
abbrev dktX4_lastCommit_0 : List UInt8 := dkwX4_lastCommit_0 ++ dktX4_lastCommit_1
theorem dksX4_lastCommit_0 : cX4_lastCommit.data.toList.drop 0 = dktX4_lastCommit_0 := by decide +kernel
theorem dksX4_lastCommit_1 : cX4_lastCommit.data.toList.drop 24 = dktX4_lastCommit_1 := dk_seg dksX4_lastCommit_0 24 rfl rfl
theorem dX4_lastCommit_0 : decode cX4_lastCommit 0 = .ok (.iload_n 1, 1) := dk_27 (dk_at dksX4_lastCommit_0 0 rfl rfl)
theorem dX4_lastCommit_1 : decode cX4_lastCommit 1 = .ok (.istore_n 3, 1) := dk_62 (dk_at dksX4_lastCommit_0 1 rfl rfl)
theorem dX4_lastCommit_2 : decode cX4_lastCommit 2 = .ok (.iload_n 3, 1) := dk_29 (dk_at dksX4_lastCommit_0 2 rfl rfl)
theorem dX4_lastCommit_3 : decode cX4_lastCommit 3 = .ok (.ifCond .le 35, 3) := dk_158 0 35 (dk_at dksX4_lastCommit_0 3 rfl rfl)
theorem dX4_lastCommit_6 : decode cX4_lastCommit 6 = .ok (.aload_n 0, 1) := dk_42 (dk_at dksX4_lastCommit_0 6 rfl rfl)
theorem dX4_lastCommit_7 : decode cX4_lastCommit 7 = .ok (.iload_n 3, 1) := dk_29 (dk_at dksX4_lastCommit_0 7 rfl rfl)
theorem dX4_lastCommit_8 : decode cX4_lastCommit 8 = .ok (.iconst 0, 1) := dk_3 (dk_at dksX4_lastCommit_0 8 rfl rfl)
theorem dX4_lastCommit_9 : decode cX4_lastCommit 9 = .ok (.invokevirtual 59, 3) := dk_182 0 59 (dk_at dksX4_lastCommit_0 9 rfl rfl)
theorem dX4_lastCommit_12 : decode cX4_lastCommit 12 = .ok (.iconst 1, 1) := dk_4 (dk_at dksX4_lastCommit_0 12 rfl rfl)
theorem dX4_lastCommit_13 : decode cX4_lastCommit 13 = .ok (.if_icmp .ne 19, 3) := dk_160 0 19 (dk_at dksX4_lastCommit_0 13 rfl rfl)
theorem dX4_lastCommit_16 : decode cX4_lastCommit 16 = .ok (.aload_n 0, 1) := dk_42 (dk_at dksX4_lastCommit_0 16 rfl rfl)
theorem dX4_lastCommit_17 : decode cX4_lastCommit 17 = .ok (.aload_n 0, 1) := dk_42 (dk_at dksX4_lastCommit_0 17 rfl rfl)
theorem dX4_lastCommit_18 : decode cX4_lastCommit 18 = .ok (.iload_n 3, 1) := dk_29 (dk_at dksX4_lastCommit_0 18 rfl rfl)
theorem dX4_lastCommit_19 : decode cX4_lastCommit 19 = .ok (.iconst 1, 1) := dk_4 (dk_at dksX4_lastCommit_0 19 rfl rfl)
theorem dX4_lastCommit_20 : decode cX4_lastCommit 20 = .ok (.invokevirtual 59, 3) := dk_182 0 59 (dk_at dksX4_lastCommit_0 20 rfl rfl)
theorem dX4_lastCommit_23 : decode cX4_lastCommit 23 = .ok (.iload_n 2, 1) := dk_28 (dk_at dksX4_lastCommit_0 23 rfl rfl)
theorem dX4_lastCommit_24 : decode cX4_lastCommit 24 = .ok (.invokevirtual 63, 3) := dk_182 0 63 (dk_at dksX4_lastCommit_1 0 rfl rfl)
theorem dX4_lastCommit_27 : decode cX4_lastCommit 27 = .ok (.ifCond .le 5, 3) := dk_158 0 5 (dk_at dksX4_lastCommit_1 3 rfl rfl)
theorem dX4_lastCommit_30 : decode cX4_lastCommit 30 = .ok (.iload_n 3, 1) := dk_29 (dk_at dksX4_lastCommit_1 6 rfl rfl)
theorem dX4_lastCommit_31 : decode cX4_lastCommit 31 = .ok (.ireturn, 1) := dk_172 (dk_at dksX4_lastCommit_1 7 rfl rfl)
theorem dX4_lastCommit_32 : decode cX4_lastCommit 32 = .ok (.iinc 3 (-1), 3) := dk_132 3 255 (dk_at dksX4_lastCommit_1 8 rfl rfl)
theorem dX4_lastCommit_35 : decode cX4_lastCommit 35 = .ok (.goto (-33), 3) := dk_167 255 223 (dk_at dksX4_lastCommit_1 11 rfl rfl)
theorem dX4_lastCommit_38 : decode cX4_lastCommit 38 = .ok (.iconst 0, 1) := dk_3 (dk_at dksX4_lastCommit_1 14 rfl rfl)
theorem dX4_lastCommit_39 : decode cX4_lastCommit 39 = .ok (.ireturn, 1) := dk_172 (dk_at dksX4_lastCommit_1 15 rfl rfl)
abbrev cX4_lastPut : ByteArray := prog_11_method_18_code
def yX4_lastPut : MethodName := ⟨RX4, "lastPut", "(II)I"⟩
def dkwX4_lastPut_2 : List UInt8 := [160, 0, 8, 21, 4, 167, 0, 4, 29, 62, 132, 4, 1, 167, 255, 203, 29, 172]
abbrev dktX4_lastPut_2 : List UInt8 := dkwX4_lastPut_2 ++ []
def dkwX4_lastPut_1 : List UInt8 := [154, 0, 30, 42, 21, 4, 4, 182, 0, 59, 27, 160, 0, 19, 42, 21, 4, 5, 182, 0, 59, 28]
abbrev dktX4_lastPut_1 : List UInt8 := dkwX4_lastPut_1 ++ dktX4_lastPut_2
def dkwX4_lastPut_0 : List UInt8 := [3, 62, 4, 54, 4, 21, 4, 42, 180, 0, 7, 3, 46, 163, 0, 48, 42, 21, 4, 3, 182, 0, 59]
abbrev dktX4_lastPut_0 : List UInt8 := dkwX4_lastPut_0 ++ dktX4_lastPut_1
theorem dksX4_lastPut_0 : cX4_lastPut.data.toList.drop 0 = dktX4_lastPut_0 := by decide +kernel
theorem dksX4_lastPut_1 : cX4_lastPut.data.toList.drop 23 = dktX4_lastPut_1 := dk_seg dksX4_lastPut_0 23 rfl rfl
theorem dksX4_lastPut_2 : cX4_lastPut.data.toList.drop 45 = dktX4_lastPut_2 := dk_seg dksX4_lastPut_1 22 rfl rfl
theorem dX4_lastPut_0 : decode cX4_lastPut 0 = .ok (.iconst 0, 1) := dk_3 (dk_at dksX4_lastPut_0 0 rfl rfl)
theorem dX4_lastPut_1 : decode cX4_lastPut 1 = .ok (.istore_n 3, 1) := dk_62 (dk_at dksX4_lastPut_0 1 rfl rfl)
theorem dX4_lastPut_2 : decode cX4_lastPut 2 = .ok (.iconst 1, 1) := dk_4 (dk_at dksX4_lastPut_0 2 rfl rfl)
theorem dX4_lastPut_3 : decode cX4_lastPut 3 = .ok (.istore 4, 2) := dk_54 4 (dk_at dksX4_lastPut_0 3 rfl rfl)
theorem dX4_lastPut_5 : decode cX4_lastPut 5 = .ok (.iload 4, 2) := dk_21 4 (dk_at dksX4_lastPut_0 5 rfl rfl)
theorem dX4_lastPut_7 : decode cX4_lastPut 7 = .ok (.aload_n 0, 1) := dk_42 (dk_at dksX4_lastPut_0 7 rfl rfl)
theorem dX4_lastPut_8 : decode cX4_lastPut 8 = .ok (.getfield 7, 3) := dk_180 0 7 (dk_at dksX4_lastPut_0 8 rfl rfl)
theorem dX4_lastPut_11 : decode cX4_lastPut 11 = .ok (.iconst 0, 1) := dk_3 (dk_at dksX4_lastPut_0 11 rfl rfl)
theorem dX4_lastPut_12 : decode cX4_lastPut 12 = .ok (.iaload, 1) := dk_46 (dk_at dksX4_lastPut_0 12 rfl rfl)
theorem dX4_lastPut_13 : decode cX4_lastPut 13 = .ok (.if_icmp .gt 48, 3) := dk_163 0 48 (dk_at dksX4_lastPut_0 13 rfl rfl)
theorem dX4_lastPut_16 : decode cX4_lastPut 16 = .ok (.aload_n 0, 1) := dk_42 (dk_at dksX4_lastPut_0 16 rfl rfl)
theorem dX4_lastPut_17 : decode cX4_lastPut 17 = .ok (.iload 4, 2) := dk_21 4 (dk_at dksX4_lastPut_0 17 rfl rfl)
theorem dX4_lastPut_19 : decode cX4_lastPut 19 = .ok (.iconst 0, 1) := dk_3 (dk_at dksX4_lastPut_0 19 rfl rfl)
theorem dX4_lastPut_20 : decode cX4_lastPut 20 = .ok (.invokevirtual 59, 3) := dk_182 0 59 (dk_at dksX4_lastPut_0 20 rfl rfl)
theorem dX4_lastPut_23 : decode cX4_lastPut 23 = .ok (.ifCond .ne 30, 3) := dk_154 0 30 (dk_at dksX4_lastPut_1 0 rfl rfl)
theorem dX4_lastPut_26 : decode cX4_lastPut 26 = .ok (.aload_n 0, 1) := dk_42 (dk_at dksX4_lastPut_1 3 rfl rfl)
theorem dX4_lastPut_27 : decode cX4_lastPut 27 = .ok (.iload 4, 2) := dk_21 4 (dk_at dksX4_lastPut_1 4 rfl rfl)
theorem dX4_lastPut_29 : decode cX4_lastPut 29 = .ok (.iconst 1, 1) := dk_4 (dk_at dksX4_lastPut_1 6 rfl rfl)
theorem dX4_lastPut_30 : decode cX4_lastPut 30 = .ok (.invokevirtual 59, 3) := dk_182 0 59 (dk_at dksX4_lastPut_1 7 rfl rfl)
theorem dX4_lastPut_33 : decode cX4_lastPut 33 = .ok (.iload_n 1, 1) := dk_27 (dk_at dksX4_lastPut_1 10 rfl rfl)
theorem dX4_lastPut_34 : decode cX4_lastPut 34 = .ok (.if_icmp .ne 19, 3) := dk_160 0 19 (dk_at dksX4_lastPut_1 11 rfl rfl)
theorem dX4_lastPut_37 : decode cX4_lastPut 37 = .ok (.aload_n 0, 1) := dk_42 (dk_at dksX4_lastPut_1 14 rfl rfl)
theorem dX4_lastPut_38 : decode cX4_lastPut 38 = .ok (.iload 4, 2) := dk_21 4 (dk_at dksX4_lastPut_1 15 rfl rfl)
theorem dX4_lastPut_40 : decode cX4_lastPut 40 = .ok (.iconst 2, 1) := dk_5 (dk_at dksX4_lastPut_1 17 rfl rfl)
theorem dX4_lastPut_41 : decode cX4_lastPut 41 = .ok (.invokevirtual 59, 3) := dk_182 0 59 (dk_at dksX4_lastPut_1 18 rfl rfl)
theorem dX4_lastPut_44 : decode cX4_lastPut 44 = .ok (.iload_n 2, 1) := dk_28 (dk_at dksX4_lastPut_1 21 rfl rfl)
theorem dX4_lastPut_45 : decode cX4_lastPut 45 = .ok (.if_icmp .ne 8, 3) := dk_160 0 8 (dk_at dksX4_lastPut_2 0 rfl rfl)
theorem dX4_lastPut_48 : decode cX4_lastPut 48 = .ok (.iload 4, 2) := dk_21 4 (dk_at dksX4_lastPut_2 3 rfl rfl)
theorem dX4_lastPut_50 : decode cX4_lastPut 50 = .ok (.goto 4, 3) := dk_167 0 4 (dk_at dksX4_lastPut_2 5 rfl rfl)
theorem dX4_lastPut_53 : decode cX4_lastPut 53 = .ok (.iload_n 3, 1) := dk_29 (dk_at dksX4_lastPut_2 8 rfl rfl)
theorem dX4_lastPut_54 : decode cX4_lastPut 54 = .ok (.istore_n 3, 1) := dk_62 (dk_at dksX4_lastPut_2 9 rfl rfl)
theorem dX4_lastPut_55 : decode cX4_lastPut 55 = .ok (.iinc 4 1, 3) := dk_132 4 1 (dk_at dksX4_lastPut_2 10 rfl rfl)
theorem dX4_lastPut_58 : decode cX4_lastPut 58 = .ok (.goto (-53), 3) := dk_167 255 203 (dk_at dksX4_lastPut_2 13 rfl rfl)
theorem dX4_lastPut_61 : decode cX4_lastPut 61 = .ok (.iload_n 3, 1) := dk_29 (dk_at dksX4_lastPut_2 16 rfl rfl)
theorem dX4_lastPut_62 : decode cX4_lastPut 62 = .ok (.ireturn, 1) := dk_172 (dk_at dksX4_lastPut_2 17 rfl rfl)
abbrev cX4_primary : ByteArray := prog_11_method_38_code
def yX4_primary : MethodName := ⟨RX4, "primary", "(II)I"⟩
def dkwX4_primary_3 : List UInt8 := [167, 0, 14, 42, 42, 180, 0, 7, 3, 46, 28, 182, 0, 105, 172]
abbrev dktX4_primary_3 : List UInt8 := dkwX4_primary_3 ++ []
def dkwX4_primary_2 : List UInt8 := [180, 0, 7, 16, 9, 27, 96, 46, 28, 182, 0, 63, 62, 29, 158, 0, 12, 42, 29, 6, 182, 0, 59]
abbrev dktX4_primary_2 : List UInt8 := dkwX4_primary_2 ++ dktX4_primary_3
def dkwX4_primary_1 : List UInt8 := [180, 0, 7, 16, 9, 27, 96, 46, 154, 0, 6, 18, 42, 172, 27, 156, 0, 7, 3, 167, 0, 17, 42, 42]
abbrev dktX4_primary_1 : List UInt8 := dkwX4_primary_1 ++ dktX4_primary_2
def dkwX4_primary_0 : List UInt8 := [27, 2, 5, 184, 0, 33, 153, 0, 10, 28, 184, 0, 47, 154, 0, 6, 18, 41, 172, 27, 155, 0, 18, 42]
abbrev dktX4_primary_0 : List UInt8 := dkwX4_primary_0 ++ dktX4_primary_1
theorem dksX4_primary_0 : cX4_primary.data.toList.drop 0 = dktX4_primary_0 := by decide +kernel
theorem dksX4_primary_1 : cX4_primary.data.toList.drop 24 = dktX4_primary_1 := dk_seg dksX4_primary_0 24 rfl rfl
theorem dksX4_primary_2 : cX4_primary.data.toList.drop 48 = dktX4_primary_2 := dk_seg dksX4_primary_1 24 rfl rfl
theorem dksX4_primary_3 : cX4_primary.data.toList.drop 71 = dktX4_primary_3 := dk_seg dksX4_primary_2 23 rfl rfl
theorem dX4_primary_0 : decode cX4_primary 0 = .ok (.iload_n 1, 1) := dk_27 (dk_at dksX4_primary_0 0 rfl rfl)
theorem dX4_primary_1 : decode cX4_primary 1 = .ok (.iconst (-1), 1) := dk_2 (dk_at dksX4_primary_0 1 rfl rfl)
theorem dX4_primary_2 : decode cX4_primary 2 = .ok (.iconst 2, 1) := dk_5 (dk_at dksX4_primary_0 2 rfl rfl)
theorem dX4_primary_3 : decode cX4_primary 3 = .ok (.invokestatic 33, 3) := dk_184 0 33 (dk_at dksX4_primary_0 3 rfl rfl)
theorem dX4_primary_6 : decode cX4_primary 6 = .ok (.ifCond .eq 10, 3) := dk_153 0 10 (dk_at dksX4_primary_0 6 rfl rfl)
theorem dX4_primary_9 : decode cX4_primary 9 = .ok (.iload_n 2, 1) := dk_28 (dk_at dksX4_primary_0 9 rfl rfl)
theorem dX4_primary_10 : decode cX4_primary 10 = .ok (.invokestatic 47, 3) := dk_184 0 47 (dk_at dksX4_primary_0 10 rfl rfl)
theorem dX4_primary_13 : decode cX4_primary 13 = .ok (.ifCond .ne 6, 3) := dk_154 0 6 (dk_at dksX4_primary_0 13 rfl rfl)
theorem dX4_primary_16 : decode cX4_primary 16 = .ok (.ldc 41, 2) := dk_18 41 (dk_at dksX4_primary_0 16 rfl rfl)
theorem dX4_primary_18 : decode cX4_primary 18 = .ok (.ireturn, 1) := dk_172 (dk_at dksX4_primary_0 18 rfl rfl)
theorem dX4_primary_19 : decode cX4_primary 19 = .ok (.iload_n 1, 1) := dk_27 (dk_at dksX4_primary_0 19 rfl rfl)
theorem dX4_primary_20 : decode cX4_primary 20 = .ok (.ifCond .lt 18, 3) := dk_155 0 18 (dk_at dksX4_primary_0 20 rfl rfl)
theorem dX4_primary_23 : decode cX4_primary 23 = .ok (.aload_n 0, 1) := dk_42 (dk_at dksX4_primary_0 23 rfl rfl)
theorem dX4_primary_24 : decode cX4_primary 24 = .ok (.getfield 7, 3) := dk_180 0 7 (dk_at dksX4_primary_1 0 rfl rfl)
theorem dX4_primary_27 : decode cX4_primary 27 = .ok (.bipush 9, 2) := dk_16 9 (dk_at dksX4_primary_1 3 rfl rfl)
theorem dX4_primary_29 : decode cX4_primary 29 = .ok (.iload_n 1, 1) := dk_27 (dk_at dksX4_primary_1 5 rfl rfl)
theorem dX4_primary_30 : decode cX4_primary 30 = .ok (.iadd, 1) := dk_96 (dk_at dksX4_primary_1 6 rfl rfl)
theorem dX4_primary_31 : decode cX4_primary 31 = .ok (.iaload, 1) := dk_46 (dk_at dksX4_primary_1 7 rfl rfl)
theorem dX4_primary_32 : decode cX4_primary 32 = .ok (.ifCond .ne 6, 3) := dk_154 0 6 (dk_at dksX4_primary_1 8 rfl rfl)
theorem dX4_primary_35 : decode cX4_primary 35 = .ok (.ldc 42, 2) := dk_18 42 (dk_at dksX4_primary_1 11 rfl rfl)
theorem dX4_primary_37 : decode cX4_primary 37 = .ok (.ireturn, 1) := dk_172 (dk_at dksX4_primary_1 13 rfl rfl)
theorem dX4_primary_38 : decode cX4_primary 38 = .ok (.iload_n 1, 1) := dk_27 (dk_at dksX4_primary_1 14 rfl rfl)
theorem dX4_primary_39 : decode cX4_primary 39 = .ok (.ifCond .ge 7, 3) := dk_156 0 7 (dk_at dksX4_primary_1 15 rfl rfl)
theorem dX4_primary_42 : decode cX4_primary 42 = .ok (.iconst 0, 1) := dk_3 (dk_at dksX4_primary_1 18 rfl rfl)
theorem dX4_primary_43 : decode cX4_primary 43 = .ok (.goto 17, 3) := dk_167 0 17 (dk_at dksX4_primary_1 19 rfl rfl)
theorem dX4_primary_46 : decode cX4_primary 46 = .ok (.aload_n 0, 1) := dk_42 (dk_at dksX4_primary_1 22 rfl rfl)
theorem dX4_primary_47 : decode cX4_primary 47 = .ok (.aload_n 0, 1) := dk_42 (dk_at dksX4_primary_1 23 rfl rfl)
theorem dX4_primary_48 : decode cX4_primary 48 = .ok (.getfield 7, 3) := dk_180 0 7 (dk_at dksX4_primary_2 0 rfl rfl)
theorem dX4_primary_51 : decode cX4_primary 51 = .ok (.bipush 9, 2) := dk_16 9 (dk_at dksX4_primary_2 3 rfl rfl)
theorem dX4_primary_53 : decode cX4_primary 53 = .ok (.iload_n 1, 1) := dk_27 (dk_at dksX4_primary_2 5 rfl rfl)
theorem dX4_primary_54 : decode cX4_primary 54 = .ok (.iadd, 1) := dk_96 (dk_at dksX4_primary_2 6 rfl rfl)
theorem dX4_primary_55 : decode cX4_primary 55 = .ok (.iaload, 1) := dk_46 (dk_at dksX4_primary_2 7 rfl rfl)
theorem dX4_primary_56 : decode cX4_primary 56 = .ok (.iload_n 2, 1) := dk_28 (dk_at dksX4_primary_2 8 rfl rfl)
theorem dX4_primary_57 : decode cX4_primary 57 = .ok (.invokevirtual 63, 3) := dk_182 0 63 (dk_at dksX4_primary_2 9 rfl rfl)
theorem dX4_primary_60 : decode cX4_primary 60 = .ok (.istore_n 3, 1) := dk_62 (dk_at dksX4_primary_2 12 rfl rfl)
theorem dX4_primary_61 : decode cX4_primary 61 = .ok (.iload_n 3, 1) := dk_29 (dk_at dksX4_primary_2 13 rfl rfl)
theorem dX4_primary_62 : decode cX4_primary 62 = .ok (.ifCond .le 12, 3) := dk_158 0 12 (dk_at dksX4_primary_2 14 rfl rfl)
theorem dX4_primary_65 : decode cX4_primary 65 = .ok (.aload_n 0, 1) := dk_42 (dk_at dksX4_primary_2 17 rfl rfl)
theorem dX4_primary_66 : decode cX4_primary 66 = .ok (.iload_n 3, 1) := dk_29 (dk_at dksX4_primary_2 18 rfl rfl)
theorem dX4_primary_67 : decode cX4_primary 67 = .ok (.iconst 3, 1) := dk_6 (dk_at dksX4_primary_2 19 rfl rfl)
theorem dX4_primary_68 : decode cX4_primary 68 = .ok (.invokevirtual 59, 3) := dk_182 0 59 (dk_at dksX4_primary_2 20 rfl rfl)
theorem dX4_primary_71 : decode cX4_primary 71 = .ok (.goto 14, 3) := dk_167 0 14 (dk_at dksX4_primary_3 0 rfl rfl)
theorem dX4_primary_74 : decode cX4_primary 74 = .ok (.aload_n 0, 1) := dk_42 (dk_at dksX4_primary_3 3 rfl rfl)
theorem dX4_primary_75 : decode cX4_primary 75 = .ok (.aload_n 0, 1) := dk_42 (dk_at dksX4_primary_3 4 rfl rfl)
theorem dX4_primary_76 : decode cX4_primary 76 = .ok (.getfield 7, 3) := dk_180 0 7 (dk_at dksX4_primary_3 5 rfl rfl)
theorem dX4_primary_79 : decode cX4_primary 79 = .ok (.iconst 0, 1) := dk_3 (dk_at dksX4_primary_3 8 rfl rfl)
theorem dX4_primary_80 : decode cX4_primary 80 = .ok (.iaload, 1) := dk_46 (dk_at dksX4_primary_3 9 rfl rfl)
theorem dX4_primary_81 : decode cX4_primary 81 = .ok (.iload_n 2, 1) := dk_28 (dk_at dksX4_primary_3 10 rfl rfl)
theorem dX4_primary_82 : decode cX4_primary 82 = .ok (.invokevirtual 105, 3) := dk_182 0 105 (dk_at dksX4_primary_3 11 rfl rfl)
theorem dX4_primary_85 : decode cX4_primary 85 = .ok (.ireturn, 1) := dk_172 (dk_at dksX4_primary_3 14 rfl rfl)
abbrev cX4_serves : ByteArray := prog_11_method_39_code
def yX4_serves : MethodName := ⟨RX4, "serves", "(I)I"⟩
def dkwX4_serves_3 : List UInt8 := [18, 58, 172]
abbrev dktX4_serves_3 : List UInt8 := dkwX4_serves_3 ++ []
def dkwX4_serves_2 : List UInt8 := [4, 167, 0, 25, 3, 167, 0, 21, 28, 153, 0, 7, 3, 167, 0, 13, 29, 153, 0, 7, 4, 167, 0, 5]
abbrev dktX4_serves_2 : List UInt8 := dkwX4_serves_2 ++ dktX4_serves_3
def dkwX4_serves_1 : List UInt8 := [62, 28, 153, 0, 30, 29, 153, 0, 26, 42, 4, 4, 182, 0, 72, 42, 3, 4, 182, 0, 72, 164, 0, 7]
abbrev dktX4_serves_1 : List UInt8 := dkwX4_serves_1 ++ dktX4_serves_2
def dkwX4_serves_0 : List UInt8 := [42, 27, 182, 0, 99, 154, 0, 6, 18, 41, 172, 42, 3, 27, 182, 0, 102, 61, 42, 4, 27, 182, 0, 102]
abbrev dktX4_serves_0 : List UInt8 := dkwX4_serves_0 ++ dktX4_serves_1
theorem dksX4_serves_0 : cX4_serves.data.toList.drop 0 = dktX4_serves_0 := by decide +kernel
theorem dksX4_serves_1 : cX4_serves.data.toList.drop 24 = dktX4_serves_1 := dk_seg dksX4_serves_0 24 rfl rfl
theorem dksX4_serves_2 : cX4_serves.data.toList.drop 48 = dktX4_serves_2 := dk_seg dksX4_serves_1 24 rfl rfl
theorem dksX4_serves_3 : cX4_serves.data.toList.drop 72 = dktX4_serves_3 := dk_seg dksX4_serves_2 24 rfl rfl
theorem dX4_serves_0 : decode cX4_serves 0 = .ok (.aload_n 0, 1) := dk_42 (dk_at dksX4_serves_0 0 rfl rfl)
theorem dX4_serves_1 : decode cX4_serves 1 = .ok (.iload_n 1, 1) := dk_27 (dk_at dksX4_serves_0 1 rfl rfl)
theorem dX4_serves_2 : decode cX4_serves 2 = .ok (.invokevirtual 99, 3) := dk_182 0 99 (dk_at dksX4_serves_0 2 rfl rfl)
theorem dX4_serves_5 : decode cX4_serves 5 = .ok (.ifCond .ne 6, 3) := dk_154 0 6 (dk_at dksX4_serves_0 5 rfl rfl)
theorem dX4_serves_8 : decode cX4_serves 8 = .ok (.ldc 41, 2) := dk_18 41 (dk_at dksX4_serves_0 8 rfl rfl)
theorem dX4_serves_10 : decode cX4_serves 10 = .ok (.ireturn, 1) := dk_172 (dk_at dksX4_serves_0 10 rfl rfl)
theorem dX4_serves_11 : decode cX4_serves 11 = .ok (.aload_n 0, 1) := dk_42 (dk_at dksX4_serves_0 11 rfl rfl)
theorem dX4_serves_12 : decode cX4_serves 12 = .ok (.iconst 0, 1) := dk_3 (dk_at dksX4_serves_0 12 rfl rfl)
theorem dX4_serves_13 : decode cX4_serves 13 = .ok (.iload_n 1, 1) := dk_27 (dk_at dksX4_serves_0 13 rfl rfl)
theorem dX4_serves_14 : decode cX4_serves 14 = .ok (.invokevirtual 102, 3) := dk_182 0 102 (dk_at dksX4_serves_0 14 rfl rfl)
theorem dX4_serves_17 : decode cX4_serves 17 = .ok (.istore_n 2, 1) := dk_61 (dk_at dksX4_serves_0 17 rfl rfl)
theorem dX4_serves_18 : decode cX4_serves 18 = .ok (.aload_n 0, 1) := dk_42 (dk_at dksX4_serves_0 18 rfl rfl)
theorem dX4_serves_19 : decode cX4_serves 19 = .ok (.iconst 1, 1) := dk_4 (dk_at dksX4_serves_0 19 rfl rfl)
theorem dX4_serves_20 : decode cX4_serves 20 = .ok (.iload_n 1, 1) := dk_27 (dk_at dksX4_serves_0 20 rfl rfl)
theorem dX4_serves_21 : decode cX4_serves 21 = .ok (.invokevirtual 102, 3) := dk_182 0 102 (dk_at dksX4_serves_0 21 rfl rfl)
theorem dX4_serves_24 : decode cX4_serves 24 = .ok (.istore_n 3, 1) := dk_62 (dk_at dksX4_serves_1 0 rfl rfl)
theorem dX4_serves_25 : decode cX4_serves 25 = .ok (.iload_n 2, 1) := dk_28 (dk_at dksX4_serves_1 1 rfl rfl)
theorem dX4_serves_26 : decode cX4_serves 26 = .ok (.ifCond .eq 30, 3) := dk_153 0 30 (dk_at dksX4_serves_1 2 rfl rfl)
theorem dX4_serves_29 : decode cX4_serves 29 = .ok (.iload_n 3, 1) := dk_29 (dk_at dksX4_serves_1 5 rfl rfl)
theorem dX4_serves_30 : decode cX4_serves 30 = .ok (.ifCond .eq 26, 3) := dk_153 0 26 (dk_at dksX4_serves_1 6 rfl rfl)
theorem dX4_serves_33 : decode cX4_serves 33 = .ok (.aload_n 0, 1) := dk_42 (dk_at dksX4_serves_1 9 rfl rfl)
theorem dX4_serves_34 : decode cX4_serves 34 = .ok (.iconst 1, 1) := dk_4 (dk_at dksX4_serves_1 10 rfl rfl)
theorem dX4_serves_35 : decode cX4_serves 35 = .ok (.iconst 1, 1) := dk_4 (dk_at dksX4_serves_1 11 rfl rfl)
theorem dX4_serves_36 : decode cX4_serves 36 = .ok (.invokevirtual 72, 3) := dk_182 0 72 (dk_at dksX4_serves_1 12 rfl rfl)
theorem dX4_serves_39 : decode cX4_serves 39 = .ok (.aload_n 0, 1) := dk_42 (dk_at dksX4_serves_1 15 rfl rfl)
theorem dX4_serves_40 : decode cX4_serves 40 = .ok (.iconst 0, 1) := dk_3 (dk_at dksX4_serves_1 16 rfl rfl)
theorem dX4_serves_41 : decode cX4_serves 41 = .ok (.iconst 1, 1) := dk_4 (dk_at dksX4_serves_1 17 rfl rfl)
theorem dX4_serves_42 : decode cX4_serves 42 = .ok (.invokevirtual 72, 3) := dk_182 0 72 (dk_at dksX4_serves_1 18 rfl rfl)
theorem dX4_serves_45 : decode cX4_serves 45 = .ok (.if_icmp .le 7, 3) := dk_164 0 7 (dk_at dksX4_serves_1 21 rfl rfl)
theorem dX4_serves_48 : decode cX4_serves 48 = .ok (.iconst 1, 1) := dk_4 (dk_at dksX4_serves_2 0 rfl rfl)
theorem dX4_serves_49 : decode cX4_serves 49 = .ok (.goto 25, 3) := dk_167 0 25 (dk_at dksX4_serves_2 1 rfl rfl)
theorem dX4_serves_52 : decode cX4_serves 52 = .ok (.iconst 0, 1) := dk_3 (dk_at dksX4_serves_2 4 rfl rfl)
theorem dX4_serves_53 : decode cX4_serves 53 = .ok (.goto 21, 3) := dk_167 0 21 (dk_at dksX4_serves_2 5 rfl rfl)
theorem dX4_serves_56 : decode cX4_serves 56 = .ok (.iload_n 2, 1) := dk_28 (dk_at dksX4_serves_2 8 rfl rfl)
theorem dX4_serves_57 : decode cX4_serves 57 = .ok (.ifCond .eq 7, 3) := dk_153 0 7 (dk_at dksX4_serves_2 9 rfl rfl)
theorem dX4_serves_60 : decode cX4_serves 60 = .ok (.iconst 0, 1) := dk_3 (dk_at dksX4_serves_2 12 rfl rfl)
theorem dX4_serves_61 : decode cX4_serves 61 = .ok (.goto 13, 3) := dk_167 0 13 (dk_at dksX4_serves_2 13 rfl rfl)
theorem dX4_serves_64 : decode cX4_serves 64 = .ok (.iload_n 3, 1) := dk_29 (dk_at dksX4_serves_2 16 rfl rfl)
theorem dX4_serves_65 : decode cX4_serves 65 = .ok (.ifCond .eq 7, 3) := dk_153 0 7 (dk_at dksX4_serves_2 17 rfl rfl)
theorem dX4_serves_68 : decode cX4_serves 68 = .ok (.iconst 1, 1) := dk_4 (dk_at dksX4_serves_2 20 rfl rfl)
theorem dX4_serves_69 : decode cX4_serves 69 = .ok (.goto 5, 3) := dk_167 0 5 (dk_at dksX4_serves_2 21 rfl rfl)
theorem dX4_serves_72 : decode cX4_serves 72 = .ok (.ldc 58, 2) := dk_18 58 (dk_at dksX4_serves_3 0 rfl rfl)
theorem dX4_serves_74 : decode cX4_serves 74 = .ok (.ireturn, 1) := dk_172 (dk_at dksX4_serves_3 2 rfl rfl)
abbrev cX4_fence : ByteArray := prog_11_method_40_code
def yX4_fence : MethodName := ⟨RX4, "fence", "(I)I"⟩
def dkwX4_fence_1 : List UInt8 := [154, 0, 8, 18, 58, 167, 0, 4, 28, 172]
abbrev dktX4_fence_1 : List UInt8 := dkwX4_fence_1 ++ []
def dkwX4_fence_0 : List UInt8 := [27, 184, 0, 47, 154, 0, 6, 18, 41, 172, 42, 42, 180, 0, 7, 3, 46, 27, 182, 0, 66, 61, 28]
abbrev dktX4_fence_0 : List UInt8 := dkwX4_fence_0 ++ dktX4_fence_1
theorem dksX4_fence_0 : cX4_fence.data.toList.drop 0 = dktX4_fence_0 := by decide +kernel
theorem dksX4_fence_1 : cX4_fence.data.toList.drop 23 = dktX4_fence_1 := dk_seg dksX4_fence_0 23 rfl rfl
theorem dX4_fence_0 : decode cX4_fence 0 = .ok (.iload_n 1, 1) := dk_27 (dk_at dksX4_fence_0 0 rfl rfl)
theorem dX4_fence_1 : decode cX4_fence 1 = .ok (.invokestatic 47, 3) := dk_184 0 47 (dk_at dksX4_fence_0 1 rfl rfl)
theorem dX4_fence_4 : decode cX4_fence 4 = .ok (.ifCond .ne 6, 3) := dk_154 0 6 (dk_at dksX4_fence_0 4 rfl rfl)
theorem dX4_fence_7 : decode cX4_fence 7 = .ok (.ldc 41, 2) := dk_18 41 (dk_at dksX4_fence_0 7 rfl rfl)
theorem dX4_fence_9 : decode cX4_fence 9 = .ok (.ireturn, 1) := dk_172 (dk_at dksX4_fence_0 9 rfl rfl)
theorem dX4_fence_10 : decode cX4_fence 10 = .ok (.aload_n 0, 1) := dk_42 (dk_at dksX4_fence_0 10 rfl rfl)
theorem dX4_fence_11 : decode cX4_fence 11 = .ok (.aload_n 0, 1) := dk_42 (dk_at dksX4_fence_0 11 rfl rfl)
theorem dX4_fence_12 : decode cX4_fence 12 = .ok (.getfield 7, 3) := dk_180 0 7 (dk_at dksX4_fence_0 12 rfl rfl)
theorem dX4_fence_15 : decode cX4_fence 15 = .ok (.iconst 0, 1) := dk_3 (dk_at dksX4_fence_0 15 rfl rfl)
theorem dX4_fence_16 : decode cX4_fence 16 = .ok (.iaload, 1) := dk_46 (dk_at dksX4_fence_0 16 rfl rfl)
theorem dX4_fence_17 : decode cX4_fence 17 = .ok (.iload_n 1, 1) := dk_27 (dk_at dksX4_fence_0 17 rfl rfl)
theorem dX4_fence_18 : decode cX4_fence 18 = .ok (.invokevirtual 66, 3) := dk_182 0 66 (dk_at dksX4_fence_0 18 rfl rfl)
theorem dX4_fence_21 : decode cX4_fence 21 = .ok (.istore_n 2, 1) := dk_61 (dk_at dksX4_fence_0 21 rfl rfl)
theorem dX4_fence_22 : decode cX4_fence 22 = .ok (.iload_n 2, 1) := dk_28 (dk_at dksX4_fence_0 22 rfl rfl)
theorem dX4_fence_23 : decode cX4_fence 23 = .ok (.ifCond .ne 8, 3) := dk_154 0 8 (dk_at dksX4_fence_1 0 rfl rfl)
theorem dX4_fence_26 : decode cX4_fence 26 = .ok (.ldc 58, 2) := dk_18 58 (dk_at dksX4_fence_1 3 rfl rfl)
theorem dX4_fence_28 : decode cX4_fence 28 = .ok (.goto 4, 3) := dk_167 0 4 (dk_at dksX4_fence_1 5 rfl rfl)
theorem dX4_fence_31 : decode cX4_fence 31 = .ok (.iload_n 2, 1) := dk_28 (dk_at dksX4_fence_1 8 rfl rfl)
theorem dX4_fence_32 : decode cX4_fence 32 = .ok (.ireturn, 1) := dk_172 (dk_at dksX4_fence_1 9 rfl rfl)
abbrev cX4_recordOf : ByteArray := prog_11_method_41_code
def yX4_recordOf : MethodName := ⟨RX4, "recordOf", "(II)I"⟩
def dkwX4_recordOf_1 : List UInt8 := [164, 0, 8, 18, 58, 167, 0, 9, 42, 27, 28, 182, 0, 59, 172]
abbrev dktX4_recordOf_1 : List UInt8 := dkwX4_recordOf_1 ++ []
def dkwX4_recordOf_0 : List UInt8 := [27, 4, 161, 0, 12, 28, 3, 7, 184, 0, 33, 154, 0, 6, 18, 41, 172, 27, 42, 180, 0, 7, 3, 46]
abbrev dktX4_recordOf_0 : List UInt8 := dkwX4_recordOf_0 ++ dktX4_recordOf_1
theorem dksX4_recordOf_0 : cX4_recordOf.data.toList.drop 0 = dktX4_recordOf_0 := by decide +kernel
theorem dksX4_recordOf_1 : cX4_recordOf.data.toList.drop 24 = dktX4_recordOf_1 := dk_seg dksX4_recordOf_0 24 rfl rfl
theorem dX4_recordOf_0 : decode cX4_recordOf 0 = .ok (.iload_n 1, 1) := dk_27 (dk_at dksX4_recordOf_0 0 rfl rfl)
theorem dX4_recordOf_1 : decode cX4_recordOf 1 = .ok (.iconst 1, 1) := dk_4 (dk_at dksX4_recordOf_0 1 rfl rfl)
theorem dX4_recordOf_2 : decode cX4_recordOf 2 = .ok (.if_icmp .lt 12, 3) := dk_161 0 12 (dk_at dksX4_recordOf_0 2 rfl rfl)
theorem dX4_recordOf_5 : decode cX4_recordOf 5 = .ok (.iload_n 2, 1) := dk_28 (dk_at dksX4_recordOf_0 5 rfl rfl)
theorem dX4_recordOf_6 : decode cX4_recordOf 6 = .ok (.iconst 0, 1) := dk_3 (dk_at dksX4_recordOf_0 6 rfl rfl)
theorem dX4_recordOf_7 : decode cX4_recordOf 7 = .ok (.iconst 4, 1) := dk_7 (dk_at dksX4_recordOf_0 7 rfl rfl)
theorem dX4_recordOf_8 : decode cX4_recordOf 8 = .ok (.invokestatic 33, 3) := dk_184 0 33 (dk_at dksX4_recordOf_0 8 rfl rfl)
theorem dX4_recordOf_11 : decode cX4_recordOf 11 = .ok (.ifCond .ne 6, 3) := dk_154 0 6 (dk_at dksX4_recordOf_0 11 rfl rfl)
theorem dX4_recordOf_14 : decode cX4_recordOf 14 = .ok (.ldc 41, 2) := dk_18 41 (dk_at dksX4_recordOf_0 14 rfl rfl)
theorem dX4_recordOf_16 : decode cX4_recordOf 16 = .ok (.ireturn, 1) := dk_172 (dk_at dksX4_recordOf_0 16 rfl rfl)
theorem dX4_recordOf_17 : decode cX4_recordOf 17 = .ok (.iload_n 1, 1) := dk_27 (dk_at dksX4_recordOf_0 17 rfl rfl)
theorem dX4_recordOf_18 : decode cX4_recordOf 18 = .ok (.aload_n 0, 1) := dk_42 (dk_at dksX4_recordOf_0 18 rfl rfl)
theorem dX4_recordOf_19 : decode cX4_recordOf 19 = .ok (.getfield 7, 3) := dk_180 0 7 (dk_at dksX4_recordOf_0 19 rfl rfl)
theorem dX4_recordOf_22 : decode cX4_recordOf 22 = .ok (.iconst 0, 1) := dk_3 (dk_at dksX4_recordOf_0 22 rfl rfl)
theorem dX4_recordOf_23 : decode cX4_recordOf 23 = .ok (.iaload, 1) := dk_46 (dk_at dksX4_recordOf_0 23 rfl rfl)
theorem dX4_recordOf_24 : decode cX4_recordOf 24 = .ok (.if_icmp .le 8, 3) := dk_164 0 8 (dk_at dksX4_recordOf_1 0 rfl rfl)
theorem dX4_recordOf_27 : decode cX4_recordOf 27 = .ok (.ldc 58, 2) := dk_18 58 (dk_at dksX4_recordOf_1 3 rfl rfl)
theorem dX4_recordOf_29 : decode cX4_recordOf 29 = .ok (.goto 9, 3) := dk_167 0 9 (dk_at dksX4_recordOf_1 5 rfl rfl)
theorem dX4_recordOf_32 : decode cX4_recordOf 32 = .ok (.aload_n 0, 1) := dk_42 (dk_at dksX4_recordOf_1 8 rfl rfl)
theorem dX4_recordOf_33 : decode cX4_recordOf 33 = .ok (.iload_n 1, 1) := dk_27 (dk_at dksX4_recordOf_1 9 rfl rfl)
theorem dX4_recordOf_34 : decode cX4_recordOf 34 = .ok (.iload_n 2, 1) := dk_28 (dk_at dksX4_recordOf_1 10 rfl rfl)
theorem dX4_recordOf_35 : decode cX4_recordOf 35 = .ok (.invokevirtual 59, 3) := dk_182 0 59 (dk_at dksX4_recordOf_1 11 rfl rfl)
theorem dX4_recordOf_38 : decode cX4_recordOf 38 = .ok (.ireturn, 1) := dk_172 (dk_at dksX4_recordOf_1 14 rfl rfl)
abbrev cX4_standbyOf : ByteArray := prog_11_method_43_code
def yX4_standbyOf : MethodName := ⟨RX4, "standbyOf", "(II)I"⟩
def dkwX4_standbyOf_6 : List UInt8 := [100, 172, 42, 27, 182, 0, 111, 172]
abbrev dktX4_standbyOf_6 : List UInt8 := dkwX4_standbyOf_6 ++ []
def dkwX4_standbyOf_5 : List UInt8 := [3, 46, 160, 0, 8, 18, 58, 167, 0, 18, 42, 180, 0, 7, 4, 46, 42, 29, 4, 96, 7, 182, 0, 59]
abbrev dktX4_standbyOf_5 : List UInt8 := dkwX4_standbyOf_5 ++ dktX4_standbyOf_6
def dkwX4_standbyOf_4 : List UInt8 := [182, 0, 72, 172, 42, 180, 0, 7, 3, 46, 29, 100, 172, 42, 27, 182, 0, 92, 172, 29, 42, 180, 0, 7]
abbrev dktX4_standbyOf_4 : List UInt8 := dkwX4_standbyOf_4 ++ dktX4_standbyOf_5
def dkwX4_standbyOf_3 : List UInt8 := [42, 27, 28, 182, 0, 72, 172, 42, 27, 182, 0, 79, 172, 42, 27, 182, 0, 108, 172, 42, 27, 5]
abbrev dktX4_standbyOf_3 : List UInt8 := dkwX4_standbyOf_3 ++ dktX4_standbyOf_4
def dkwX4_standbyOf_2 : List UInt8 := [170, 0, 0, 0, 0, 0, 0, 120, 0, 0, 0, 0, 0, 0, 0, 7, 0, 0, 0, 48, 0, 0, 0, 48, 0, 0, 0, 55, 0, 0, 0, 61, 0, 0, 0, 67, 0, 0, 0, 74, 0, 0, 0, 83, 0, 0, 0, 89]
abbrev dktX4_standbyOf_2 : List UInt8 := dkwX4_standbyOf_2 ++ dktX4_standbyOf_3
def dkwX4_standbyOf_1 : List UInt8 := [182, 0, 72, 62, 28]
abbrev dktX4_standbyOf_1 : List UInt8 := dkwX4_standbyOf_1 ++ dktX4_standbyOf_2
def dkwX4_standbyOf_0 : List UInt8 := [27, 184, 0, 69, 153, 0, 13, 28, 3, 16, 8, 184, 0, 33, 154, 0, 6, 18, 41, 172, 42, 27, 4]
abbrev dktX4_standbyOf_0 : List UInt8 := dkwX4_standbyOf_0 ++ dktX4_standbyOf_1
theorem dksX4_standbyOf_0 : cX4_standbyOf.data.toList.drop 0 = dktX4_standbyOf_0 := by decide +kernel
theorem dksX4_standbyOf_1 : cX4_standbyOf.data.toList.drop 23 = dktX4_standbyOf_1 := dk_seg dksX4_standbyOf_0 23 rfl rfl
theorem dksX4_standbyOf_2 : cX4_standbyOf.data.toList.drop 28 = dktX4_standbyOf_2 := dk_seg dksX4_standbyOf_1 5 rfl rfl
theorem dksX4_standbyOf_3 : cX4_standbyOf.data.toList.drop 76 = dktX4_standbyOf_3 := dk_seg dksX4_standbyOf_2 48 rfl rfl
theorem dksX4_standbyOf_4 : cX4_standbyOf.data.toList.drop 98 = dktX4_standbyOf_4 := dk_seg dksX4_standbyOf_3 22 rfl rfl
theorem dksX4_standbyOf_5 : cX4_standbyOf.data.toList.drop 122 = dktX4_standbyOf_5 := dk_seg dksX4_standbyOf_4 24 rfl rfl
theorem dksX4_standbyOf_6 : cX4_standbyOf.data.toList.drop 146 = dktX4_standbyOf_6 := dk_seg dksX4_standbyOf_5 24 rfl rfl
theorem dX4_standbyOf_0 : decode cX4_standbyOf 0 = .ok (.iload_n 1, 1) := dk_27 (dk_at dksX4_standbyOf_0 0 rfl rfl)
theorem dX4_standbyOf_1 : decode cX4_standbyOf 1 = .ok (.invokestatic 69, 3) := dk_184 0 69 (dk_at dksX4_standbyOf_0 1 rfl rfl)
theorem dX4_standbyOf_4 : decode cX4_standbyOf 4 = .ok (.ifCond .eq 13, 3) := dk_153 0 13 (dk_at dksX4_standbyOf_0 4 rfl rfl)
theorem dX4_standbyOf_7 : decode cX4_standbyOf 7 = .ok (.iload_n 2, 1) := dk_28 (dk_at dksX4_standbyOf_0 7 rfl rfl)
theorem dX4_standbyOf_8 : decode cX4_standbyOf 8 = .ok (.iconst 0, 1) := dk_3 (dk_at dksX4_standbyOf_0 8 rfl rfl)
theorem dX4_standbyOf_9 : decode cX4_standbyOf 9 = .ok (.bipush 8, 2) := dk_16 8 (dk_at dksX4_standbyOf_0 9 rfl rfl)
theorem dX4_standbyOf_11 : decode cX4_standbyOf 11 = .ok (.invokestatic 33, 3) := dk_184 0 33 (dk_at dksX4_standbyOf_0 11 rfl rfl)
theorem dX4_standbyOf_14 : decode cX4_standbyOf 14 = .ok (.ifCond .ne 6, 3) := dk_154 0 6 (dk_at dksX4_standbyOf_0 14 rfl rfl)
theorem dX4_standbyOf_17 : decode cX4_standbyOf 17 = .ok (.ldc 41, 2) := dk_18 41 (dk_at dksX4_standbyOf_0 17 rfl rfl)
theorem dX4_standbyOf_19 : decode cX4_standbyOf 19 = .ok (.ireturn, 1) := dk_172 (dk_at dksX4_standbyOf_0 19 rfl rfl)
theorem dX4_standbyOf_20 : decode cX4_standbyOf 20 = .ok (.aload_n 0, 1) := dk_42 (dk_at dksX4_standbyOf_0 20 rfl rfl)
theorem dX4_standbyOf_21 : decode cX4_standbyOf 21 = .ok (.iload_n 1, 1) := dk_27 (dk_at dksX4_standbyOf_0 21 rfl rfl)
theorem dX4_standbyOf_22 : decode cX4_standbyOf 22 = .ok (.iconst 1, 1) := dk_4 (dk_at dksX4_standbyOf_0 22 rfl rfl)
theorem dX4_standbyOf_23 : decode cX4_standbyOf 23 = .ok (.invokevirtual 72, 3) := dk_182 0 72 (dk_at dksX4_standbyOf_1 0 rfl rfl)
theorem dX4_standbyOf_26 : decode cX4_standbyOf 26 = .ok (.istore_n 3, 1) := dk_62 (dk_at dksX4_standbyOf_1 3 rfl rfl)
theorem dX4_standbyOf_27 : decode cX4_standbyOf 27 = .ok (.iload_n 2, 1) := dk_28 (dk_at dksX4_standbyOf_1 4 rfl rfl)
theorem dX4_standbyOf_28 : decode cX4_standbyOf 28 = .ok (.tableswitch 120 0 7 #[48, 48, 55, 61, 67, 74, 83, 89], 48) := by decide +kernel
theorem dX4_standbyOf_76 : decode cX4_standbyOf 76 = .ok (.aload_n 0, 1) := dk_42 (dk_at dksX4_standbyOf_3 0 rfl rfl)
theorem dX4_standbyOf_77 : decode cX4_standbyOf 77 = .ok (.iload_n 1, 1) := dk_27 (dk_at dksX4_standbyOf_3 1 rfl rfl)
theorem dX4_standbyOf_78 : decode cX4_standbyOf 78 = .ok (.iload_n 2, 1) := dk_28 (dk_at dksX4_standbyOf_3 2 rfl rfl)
theorem dX4_standbyOf_79 : decode cX4_standbyOf 79 = .ok (.invokevirtual 72, 3) := dk_182 0 72 (dk_at dksX4_standbyOf_3 3 rfl rfl)
theorem dX4_standbyOf_82 : decode cX4_standbyOf 82 = .ok (.ireturn, 1) := dk_172 (dk_at dksX4_standbyOf_3 6 rfl rfl)
theorem dX4_standbyOf_83 : decode cX4_standbyOf 83 = .ok (.aload_n 0, 1) := dk_42 (dk_at dksX4_standbyOf_3 7 rfl rfl)
theorem dX4_standbyOf_84 : decode cX4_standbyOf 84 = .ok (.iload_n 1, 1) := dk_27 (dk_at dksX4_standbyOf_3 8 rfl rfl)
theorem dX4_standbyOf_85 : decode cX4_standbyOf 85 = .ok (.invokevirtual 79, 3) := dk_182 0 79 (dk_at dksX4_standbyOf_3 9 rfl rfl)
theorem dX4_standbyOf_88 : decode cX4_standbyOf 88 = .ok (.ireturn, 1) := dk_172 (dk_at dksX4_standbyOf_3 12 rfl rfl)
theorem dX4_standbyOf_89 : decode cX4_standbyOf 89 = .ok (.aload_n 0, 1) := dk_42 (dk_at dksX4_standbyOf_3 13 rfl rfl)
theorem dX4_standbyOf_90 : decode cX4_standbyOf 90 = .ok (.iload_n 1, 1) := dk_27 (dk_at dksX4_standbyOf_3 14 rfl rfl)
theorem dX4_standbyOf_91 : decode cX4_standbyOf 91 = .ok (.invokevirtual 108, 3) := dk_182 0 108 (dk_at dksX4_standbyOf_3 15 rfl rfl)
theorem dX4_standbyOf_94 : decode cX4_standbyOf 94 = .ok (.ireturn, 1) := dk_172 (dk_at dksX4_standbyOf_3 18 rfl rfl)
theorem dX4_standbyOf_95 : decode cX4_standbyOf 95 = .ok (.aload_n 0, 1) := dk_42 (dk_at dksX4_standbyOf_3 19 rfl rfl)
theorem dX4_standbyOf_96 : decode cX4_standbyOf 96 = .ok (.iload_n 1, 1) := dk_27 (dk_at dksX4_standbyOf_3 20 rfl rfl)
theorem dX4_standbyOf_97 : decode cX4_standbyOf 97 = .ok (.iconst 2, 1) := dk_5 (dk_at dksX4_standbyOf_3 21 rfl rfl)
theorem dX4_standbyOf_98 : decode cX4_standbyOf 98 = .ok (.invokevirtual 72, 3) := dk_182 0 72 (dk_at dksX4_standbyOf_4 0 rfl rfl)
theorem dX4_standbyOf_101 : decode cX4_standbyOf 101 = .ok (.ireturn, 1) := dk_172 (dk_at dksX4_standbyOf_4 3 rfl rfl)
theorem dX4_standbyOf_102 : decode cX4_standbyOf 102 = .ok (.aload_n 0, 1) := dk_42 (dk_at dksX4_standbyOf_4 4 rfl rfl)
theorem dX4_standbyOf_103 : decode cX4_standbyOf 103 = .ok (.getfield 7, 3) := dk_180 0 7 (dk_at dksX4_standbyOf_4 5 rfl rfl)
theorem dX4_standbyOf_106 : decode cX4_standbyOf 106 = .ok (.iconst 0, 1) := dk_3 (dk_at dksX4_standbyOf_4 8 rfl rfl)
theorem dX4_standbyOf_107 : decode cX4_standbyOf 107 = .ok (.iaload, 1) := dk_46 (dk_at dksX4_standbyOf_4 9 rfl rfl)
theorem dX4_standbyOf_108 : decode cX4_standbyOf 108 = .ok (.iload_n 3, 1) := dk_29 (dk_at dksX4_standbyOf_4 10 rfl rfl)
theorem dX4_standbyOf_109 : decode cX4_standbyOf 109 = .ok (.isub, 1) := dk_100 (dk_at dksX4_standbyOf_4 11 rfl rfl)
theorem dX4_standbyOf_110 : decode cX4_standbyOf 110 = .ok (.ireturn, 1) := dk_172 (dk_at dksX4_standbyOf_4 12 rfl rfl)
theorem dX4_standbyOf_111 : decode cX4_standbyOf 111 = .ok (.aload_n 0, 1) := dk_42 (dk_at dksX4_standbyOf_4 13 rfl rfl)
theorem dX4_standbyOf_112 : decode cX4_standbyOf 112 = .ok (.iload_n 1, 1) := dk_27 (dk_at dksX4_standbyOf_4 14 rfl rfl)
theorem dX4_standbyOf_113 : decode cX4_standbyOf 113 = .ok (.invokevirtual 92, 3) := dk_182 0 92 (dk_at dksX4_standbyOf_4 15 rfl rfl)
theorem dX4_standbyOf_116 : decode cX4_standbyOf 116 = .ok (.ireturn, 1) := dk_172 (dk_at dksX4_standbyOf_4 18 rfl rfl)
theorem dX4_standbyOf_117 : decode cX4_standbyOf 117 = .ok (.iload_n 3, 1) := dk_29 (dk_at dksX4_standbyOf_4 19 rfl rfl)
theorem dX4_standbyOf_118 : decode cX4_standbyOf 118 = .ok (.aload_n 0, 1) := dk_42 (dk_at dksX4_standbyOf_4 20 rfl rfl)
theorem dX4_standbyOf_119 : decode cX4_standbyOf 119 = .ok (.getfield 7, 3) := dk_180 0 7 (dk_at dksX4_standbyOf_4 21 rfl rfl)
theorem dX4_standbyOf_122 : decode cX4_standbyOf 122 = .ok (.iconst 0, 1) := dk_3 (dk_at dksX4_standbyOf_5 0 rfl rfl)
theorem dX4_standbyOf_123 : decode cX4_standbyOf 123 = .ok (.iaload, 1) := dk_46 (dk_at dksX4_standbyOf_5 1 rfl rfl)
theorem dX4_standbyOf_124 : decode cX4_standbyOf 124 = .ok (.if_icmp .ne 8, 3) := dk_160 0 8 (dk_at dksX4_standbyOf_5 2 rfl rfl)
theorem dX4_standbyOf_127 : decode cX4_standbyOf 127 = .ok (.ldc 58, 2) := dk_18 58 (dk_at dksX4_standbyOf_5 5 rfl rfl)
theorem dX4_standbyOf_129 : decode cX4_standbyOf 129 = .ok (.goto 18, 3) := dk_167 0 18 (dk_at dksX4_standbyOf_5 7 rfl rfl)
theorem dX4_standbyOf_132 : decode cX4_standbyOf 132 = .ok (.aload_n 0, 1) := dk_42 (dk_at dksX4_standbyOf_5 10 rfl rfl)
theorem dX4_standbyOf_133 : decode cX4_standbyOf 133 = .ok (.getfield 7, 3) := dk_180 0 7 (dk_at dksX4_standbyOf_5 11 rfl rfl)
theorem dX4_standbyOf_136 : decode cX4_standbyOf 136 = .ok (.iconst 1, 1) := dk_4 (dk_at dksX4_standbyOf_5 14 rfl rfl)
theorem dX4_standbyOf_137 : decode cX4_standbyOf 137 = .ok (.iaload, 1) := dk_46 (dk_at dksX4_standbyOf_5 15 rfl rfl)
theorem dX4_standbyOf_138 : decode cX4_standbyOf 138 = .ok (.aload_n 0, 1) := dk_42 (dk_at dksX4_standbyOf_5 16 rfl rfl)
theorem dX4_standbyOf_139 : decode cX4_standbyOf 139 = .ok (.iload_n 3, 1) := dk_29 (dk_at dksX4_standbyOf_5 17 rfl rfl)
theorem dX4_standbyOf_140 : decode cX4_standbyOf 140 = .ok (.iconst 1, 1) := dk_4 (dk_at dksX4_standbyOf_5 18 rfl rfl)
theorem dX4_standbyOf_141 : decode cX4_standbyOf 141 = .ok (.iadd, 1) := dk_96 (dk_at dksX4_standbyOf_5 19 rfl rfl)
theorem dX4_standbyOf_142 : decode cX4_standbyOf 142 = .ok (.iconst 4, 1) := dk_7 (dk_at dksX4_standbyOf_5 20 rfl rfl)
theorem dX4_standbyOf_143 : decode cX4_standbyOf 143 = .ok (.invokevirtual 59, 3) := dk_182 0 59 (dk_at dksX4_standbyOf_5 21 rfl rfl)
theorem dX4_standbyOf_146 : decode cX4_standbyOf 146 = .ok (.isub, 1) := dk_100 (dk_at dksX4_standbyOf_6 0 rfl rfl)
theorem dX4_standbyOf_147 : decode cX4_standbyOf 147 = .ok (.ireturn, 1) := dk_172 (dk_at dksX4_standbyOf_6 1 rfl rfl)
theorem dX4_standbyOf_148 : decode cX4_standbyOf 148 = .ok (.aload_n 0, 1) := dk_42 (dk_at dksX4_standbyOf_6 2 rfl rfl)
theorem dX4_standbyOf_149 : decode cX4_standbyOf 149 = .ok (.iload_n 1, 1) := dk_27 (dk_at dksX4_standbyOf_6 3 rfl rfl)
theorem dX4_standbyOf_150 : decode cX4_standbyOf 150 = .ok (.invokevirtual 111, 3) := dk_182 0 111 (dk_at dksX4_standbyOf_6 4 rfl rfl)
theorem dX4_standbyOf_153 : decode cX4_standbyOf 153 = .ok (.ireturn, 1) := dk_172 (dk_at dksX4_standbyOf_6 7 rfl rfl)
abbrev cX4_lowestGap : ByteArray := prog_11_method_24_code
def yX4_lowestGap : MethodName := ⟨RX4, "lowestGap", "(I)I"⟩
def dkwX4_lowestGap_1 : List UInt8 := [167, 255, 236, 18, 58, 172]
abbrev dktX4_lowestGap_1 : List UInt8 := dkwX4_lowestGap_1 ++ []
def dkwX4_lowestGap_0 : List UInt8 := [4, 61, 28, 16, 100, 163, 0, 20, 42, 27, 28, 182, 0, 75, 153, 0, 5, 28, 172, 132, 2, 1]
abbrev dktX4_lowestGap_0 : List UInt8 := dkwX4_lowestGap_0 ++ dktX4_lowestGap_1
theorem dksX4_lowestGap_0 : cX4_lowestGap.data.toList.drop 0 = dktX4_lowestGap_0 := by decide +kernel
theorem dksX4_lowestGap_1 : cX4_lowestGap.data.toList.drop 22 = dktX4_lowestGap_1 := dk_seg dksX4_lowestGap_0 22 rfl rfl
theorem dX4_lowestGap_0 : decode cX4_lowestGap 0 = .ok (.iconst 1, 1) := dk_4 (dk_at dksX4_lowestGap_0 0 rfl rfl)
theorem dX4_lowestGap_1 : decode cX4_lowestGap 1 = .ok (.istore_n 2, 1) := dk_61 (dk_at dksX4_lowestGap_0 1 rfl rfl)
theorem dX4_lowestGap_2 : decode cX4_lowestGap 2 = .ok (.iload_n 2, 1) := dk_28 (dk_at dksX4_lowestGap_0 2 rfl rfl)
theorem dX4_lowestGap_3 : decode cX4_lowestGap 3 = .ok (.bipush 100, 2) := dk_16 100 (dk_at dksX4_lowestGap_0 3 rfl rfl)
theorem dX4_lowestGap_5 : decode cX4_lowestGap 5 = .ok (.if_icmp .gt 20, 3) := dk_163 0 20 (dk_at dksX4_lowestGap_0 5 rfl rfl)
theorem dX4_lowestGap_8 : decode cX4_lowestGap 8 = .ok (.aload_n 0, 1) := dk_42 (dk_at dksX4_lowestGap_0 8 rfl rfl)
theorem dX4_lowestGap_9 : decode cX4_lowestGap 9 = .ok (.iload_n 1, 1) := dk_27 (dk_at dksX4_lowestGap_0 9 rfl rfl)
theorem dX4_lowestGap_10 : decode cX4_lowestGap 10 = .ok (.iload_n 2, 1) := dk_28 (dk_at dksX4_lowestGap_0 10 rfl rfl)
theorem dX4_lowestGap_11 : decode cX4_lowestGap 11 = .ok (.invokevirtual 75, 3) := dk_182 0 75 (dk_at dksX4_lowestGap_0 11 rfl rfl)
theorem dX4_lowestGap_14 : decode cX4_lowestGap 14 = .ok (.ifCond .eq 5, 3) := dk_153 0 5 (dk_at dksX4_lowestGap_0 14 rfl rfl)
theorem dX4_lowestGap_17 : decode cX4_lowestGap 17 = .ok (.iload_n 2, 1) := dk_28 (dk_at dksX4_lowestGap_0 17 rfl rfl)
theorem dX4_lowestGap_18 : decode cX4_lowestGap 18 = .ok (.ireturn, 1) := dk_172 (dk_at dksX4_lowestGap_0 18 rfl rfl)
theorem dX4_lowestGap_19 : decode cX4_lowestGap 19 = .ok (.iinc 2 1, 3) := dk_132 2 1 (dk_at dksX4_lowestGap_0 19 rfl rfl)
theorem dX4_lowestGap_22 : decode cX4_lowestGap 22 = .ok (.goto (-20), 3) := dk_167 255 236 (dk_at dksX4_lowestGap_1 0 rfl rfl)
theorem dX4_lowestGap_25 : decode cX4_lowestGap 25 = .ok (.ldc 58, 2) := dk_18 58 (dk_at dksX4_lowestGap_1 3 rfl rfl)
theorem dX4_lowestGap_27 : decode cX4_lowestGap 27 = .ok (.ireturn, 1) := dk_172 (dk_at dksX4_lowestGap_1 5 rfl rfl)
abbrev cX4_unlike : ByteArray := prog_11_method_42_code
def yX4_unlike : MethodName := ⟨RX4, "unlike", "(I)I"⟩
def dkwX4_unlike_2 : List UInt8 := [167, 255, 214, 28, 172]
abbrev dktX4_unlike_2 : List UInt8 := dkwX4_unlike_2 ++ []
def dkwX4_unlike_1 : List UInt8 := [180, 0, 7, 3, 46, 29, 182, 0, 105, 159, 0, 7, 4, 167, 0, 4, 3, 96, 61, 132, 3, 1]
abbrev dktX4_unlike_1 : List UInt8 := dkwX4_unlike_1 ++ dktX4_unlike_2
def dkwX4_unlike_0 : List UInt8 := [3, 61, 3, 62, 29, 16, 24, 162, 0, 42, 28, 42, 42, 27, 4, 182, 0, 72, 29, 182, 0, 105, 42, 42]
abbrev dktX4_unlike_0 : List UInt8 := dkwX4_unlike_0 ++ dktX4_unlike_1
theorem dksX4_unlike_0 : cX4_unlike.data.toList.drop 0 = dktX4_unlike_0 := by decide +kernel
theorem dksX4_unlike_1 : cX4_unlike.data.toList.drop 24 = dktX4_unlike_1 := dk_seg dksX4_unlike_0 24 rfl rfl
theorem dksX4_unlike_2 : cX4_unlike.data.toList.drop 46 = dktX4_unlike_2 := dk_seg dksX4_unlike_1 22 rfl rfl
theorem dX4_unlike_0 : decode cX4_unlike 0 = .ok (.iconst 0, 1) := dk_3 (dk_at dksX4_unlike_0 0 rfl rfl)
theorem dX4_unlike_1 : decode cX4_unlike 1 = .ok (.istore_n 2, 1) := dk_61 (dk_at dksX4_unlike_0 1 rfl rfl)
theorem dX4_unlike_2 : decode cX4_unlike 2 = .ok (.iconst 0, 1) := dk_3 (dk_at dksX4_unlike_0 2 rfl rfl)
theorem dX4_unlike_3 : decode cX4_unlike 3 = .ok (.istore_n 3, 1) := dk_62 (dk_at dksX4_unlike_0 3 rfl rfl)
theorem dX4_unlike_4 : decode cX4_unlike 4 = .ok (.iload_n 3, 1) := dk_29 (dk_at dksX4_unlike_0 4 rfl rfl)
theorem dX4_unlike_5 : decode cX4_unlike 5 = .ok (.bipush 24, 2) := dk_16 24 (dk_at dksX4_unlike_0 5 rfl rfl)
theorem dX4_unlike_7 : decode cX4_unlike 7 = .ok (.if_icmp .ge 42, 3) := dk_162 0 42 (dk_at dksX4_unlike_0 7 rfl rfl)
theorem dX4_unlike_10 : decode cX4_unlike 10 = .ok (.iload_n 2, 1) := dk_28 (dk_at dksX4_unlike_0 10 rfl rfl)
theorem dX4_unlike_11 : decode cX4_unlike 11 = .ok (.aload_n 0, 1) := dk_42 (dk_at dksX4_unlike_0 11 rfl rfl)
theorem dX4_unlike_12 : decode cX4_unlike 12 = .ok (.aload_n 0, 1) := dk_42 (dk_at dksX4_unlike_0 12 rfl rfl)
theorem dX4_unlike_13 : decode cX4_unlike 13 = .ok (.iload_n 1, 1) := dk_27 (dk_at dksX4_unlike_0 13 rfl rfl)
theorem dX4_unlike_14 : decode cX4_unlike 14 = .ok (.iconst 1, 1) := dk_4 (dk_at dksX4_unlike_0 14 rfl rfl)
theorem dX4_unlike_15 : decode cX4_unlike 15 = .ok (.invokevirtual 72, 3) := dk_182 0 72 (dk_at dksX4_unlike_0 15 rfl rfl)
theorem dX4_unlike_18 : decode cX4_unlike 18 = .ok (.iload_n 3, 1) := dk_29 (dk_at dksX4_unlike_0 18 rfl rfl)
theorem dX4_unlike_19 : decode cX4_unlike 19 = .ok (.invokevirtual 105, 3) := dk_182 0 105 (dk_at dksX4_unlike_0 19 rfl rfl)
theorem dX4_unlike_22 : decode cX4_unlike 22 = .ok (.aload_n 0, 1) := dk_42 (dk_at dksX4_unlike_0 22 rfl rfl)
theorem dX4_unlike_23 : decode cX4_unlike 23 = .ok (.aload_n 0, 1) := dk_42 (dk_at dksX4_unlike_0 23 rfl rfl)
theorem dX4_unlike_24 : decode cX4_unlike 24 = .ok (.getfield 7, 3) := dk_180 0 7 (dk_at dksX4_unlike_1 0 rfl rfl)
theorem dX4_unlike_27 : decode cX4_unlike 27 = .ok (.iconst 0, 1) := dk_3 (dk_at dksX4_unlike_1 3 rfl rfl)
theorem dX4_unlike_28 : decode cX4_unlike 28 = .ok (.iaload, 1) := dk_46 (dk_at dksX4_unlike_1 4 rfl rfl)
theorem dX4_unlike_29 : decode cX4_unlike 29 = .ok (.iload_n 3, 1) := dk_29 (dk_at dksX4_unlike_1 5 rfl rfl)
theorem dX4_unlike_30 : decode cX4_unlike 30 = .ok (.invokevirtual 105, 3) := dk_182 0 105 (dk_at dksX4_unlike_1 6 rfl rfl)
theorem dX4_unlike_33 : decode cX4_unlike 33 = .ok (.if_icmp .eq 7, 3) := dk_159 0 7 (dk_at dksX4_unlike_1 9 rfl rfl)
theorem dX4_unlike_36 : decode cX4_unlike 36 = .ok (.iconst 1, 1) := dk_4 (dk_at dksX4_unlike_1 12 rfl rfl)
theorem dX4_unlike_37 : decode cX4_unlike 37 = .ok (.goto 4, 3) := dk_167 0 4 (dk_at dksX4_unlike_1 13 rfl rfl)
theorem dX4_unlike_40 : decode cX4_unlike 40 = .ok (.iconst 0, 1) := dk_3 (dk_at dksX4_unlike_1 16 rfl rfl)
theorem dX4_unlike_41 : decode cX4_unlike 41 = .ok (.iadd, 1) := dk_96 (dk_at dksX4_unlike_1 17 rfl rfl)
theorem dX4_unlike_42 : decode cX4_unlike 42 = .ok (.istore_n 2, 1) := dk_61 (dk_at dksX4_unlike_1 18 rfl rfl)
theorem dX4_unlike_43 : decode cX4_unlike 43 = .ok (.iinc 3 1, 3) := dk_132 3 1 (dk_at dksX4_unlike_1 19 rfl rfl)
theorem dX4_unlike_46 : decode cX4_unlike 46 = .ok (.goto (-42), 3) := dk_167 255 214 (dk_at dksX4_unlike_2 0 rfl rfl)
theorem dX4_unlike_49 : decode cX4_unlike 49 = .ok (.iload_n 2, 1) := dk_28 (dk_at dksX4_unlike_2 3 rfl rfl)
theorem dX4_unlike_50 : decode cX4_unlike 50 = .ok (.ireturn, 1) := dk_172 (dk_at dksX4_unlike_2 4 rfl rfl)
abbrev cX4_slotOf : ByteArray := prog_11_method_44_code
def yX4_slotOf : MethodName := ⟨RX4, "slotOf", "(II)I"⟩
def dkwX4_slotOf_4 : List UInt8 := [154, 0, 7, 29, 167, 0, 5, 21, 4, 172]
abbrev dktX4_slotOf_4 : List UInt8 := dkwX4_slotOf_4 ++ []
def dkwX4_slotOf_3 : List UInt8 := [167, 0, 4, 3, 96, 54, 4, 132, 5, 1, 167, 255, 211, 29, 154, 0, 8, 18, 58, 167, 0, 13, 28]
abbrev dktX4_slotOf_3 : List UInt8 := dkwX4_slotOf_3 ++ dktX4_slotOf_4
def dkwX4_slotOf_2 : List UInt8 := [21, 4, 42, 21, 5, 3, 182, 0, 59, 154, 0, 18, 42, 21, 5, 4, 182, 0, 59, 29, 160, 0, 7, 4]
abbrev dktX4_slotOf_2 : List UInt8 := dkwX4_slotOf_2 ++ dktX4_slotOf_3
def dkwX4_slotOf_1 : List UInt8 := [16, 9, 27, 96, 46, 62, 3, 54, 4, 4, 54, 5, 21, 5, 42, 180, 0, 7, 3, 46, 163, 0, 40]
abbrev dktX4_slotOf_1 : List UInt8 := dkwX4_slotOf_1 ++ dktX4_slotOf_2
def dkwX4_slotOf_0 : List UInt8 := [27, 184, 0, 37, 153, 0, 12, 28, 3, 4, 184, 0, 33, 154, 0, 6, 18, 41, 172, 42, 180, 0, 7]
abbrev dktX4_slotOf_0 : List UInt8 := dkwX4_slotOf_0 ++ dktX4_slotOf_1
theorem dksX4_slotOf_0 : cX4_slotOf.data.toList.drop 0 = dktX4_slotOf_0 := by decide +kernel
theorem dksX4_slotOf_1 : cX4_slotOf.data.toList.drop 23 = dktX4_slotOf_1 := dk_seg dksX4_slotOf_0 23 rfl rfl
theorem dksX4_slotOf_2 : cX4_slotOf.data.toList.drop 46 = dktX4_slotOf_2 := dk_seg dksX4_slotOf_1 23 rfl rfl
theorem dksX4_slotOf_3 : cX4_slotOf.data.toList.drop 70 = dktX4_slotOf_3 := dk_seg dksX4_slotOf_2 24 rfl rfl
theorem dksX4_slotOf_4 : cX4_slotOf.data.toList.drop 93 = dktX4_slotOf_4 := dk_seg dksX4_slotOf_3 23 rfl rfl
theorem dX4_slotOf_0 : decode cX4_slotOf 0 = .ok (.iload_n 1, 1) := dk_27 (dk_at dksX4_slotOf_0 0 rfl rfl)
theorem dX4_slotOf_1 : decode cX4_slotOf 1 = .ok (.invokestatic 37, 3) := dk_184 0 37 (dk_at dksX4_slotOf_0 1 rfl rfl)
theorem dX4_slotOf_4 : decode cX4_slotOf 4 = .ok (.ifCond .eq 12, 3) := dk_153 0 12 (dk_at dksX4_slotOf_0 4 rfl rfl)
theorem dX4_slotOf_7 : decode cX4_slotOf 7 = .ok (.iload_n 2, 1) := dk_28 (dk_at dksX4_slotOf_0 7 rfl rfl)
theorem dX4_slotOf_8 : decode cX4_slotOf 8 = .ok (.iconst 0, 1) := dk_3 (dk_at dksX4_slotOf_0 8 rfl rfl)
theorem dX4_slotOf_9 : decode cX4_slotOf 9 = .ok (.iconst 1, 1) := dk_4 (dk_at dksX4_slotOf_0 9 rfl rfl)
theorem dX4_slotOf_10 : decode cX4_slotOf 10 = .ok (.invokestatic 33, 3) := dk_184 0 33 (dk_at dksX4_slotOf_0 10 rfl rfl)
theorem dX4_slotOf_13 : decode cX4_slotOf 13 = .ok (.ifCond .ne 6, 3) := dk_154 0 6 (dk_at dksX4_slotOf_0 13 rfl rfl)
theorem dX4_slotOf_16 : decode cX4_slotOf 16 = .ok (.ldc 41, 2) := dk_18 41 (dk_at dksX4_slotOf_0 16 rfl rfl)
theorem dX4_slotOf_18 : decode cX4_slotOf 18 = .ok (.ireturn, 1) := dk_172 (dk_at dksX4_slotOf_0 18 rfl rfl)
theorem dX4_slotOf_19 : decode cX4_slotOf 19 = .ok (.aload_n 0, 1) := dk_42 (dk_at dksX4_slotOf_0 19 rfl rfl)
theorem dX4_slotOf_20 : decode cX4_slotOf 20 = .ok (.getfield 7, 3) := dk_180 0 7 (dk_at dksX4_slotOf_0 20 rfl rfl)
theorem dX4_slotOf_23 : decode cX4_slotOf 23 = .ok (.bipush 9, 2) := dk_16 9 (dk_at dksX4_slotOf_1 0 rfl rfl)
theorem dX4_slotOf_25 : decode cX4_slotOf 25 = .ok (.iload_n 1, 1) := dk_27 (dk_at dksX4_slotOf_1 2 rfl rfl)
theorem dX4_slotOf_26 : decode cX4_slotOf 26 = .ok (.iadd, 1) := dk_96 (dk_at dksX4_slotOf_1 3 rfl rfl)
theorem dX4_slotOf_27 : decode cX4_slotOf 27 = .ok (.iaload, 1) := dk_46 (dk_at dksX4_slotOf_1 4 rfl rfl)
theorem dX4_slotOf_28 : decode cX4_slotOf 28 = .ok (.istore_n 3, 1) := dk_62 (dk_at dksX4_slotOf_1 5 rfl rfl)
theorem dX4_slotOf_29 : decode cX4_slotOf 29 = .ok (.iconst 0, 1) := dk_3 (dk_at dksX4_slotOf_1 6 rfl rfl)
theorem dX4_slotOf_30 : decode cX4_slotOf 30 = .ok (.istore 4, 2) := dk_54 4 (dk_at dksX4_slotOf_1 7 rfl rfl)
theorem dX4_slotOf_32 : decode cX4_slotOf 32 = .ok (.iconst 1, 1) := dk_4 (dk_at dksX4_slotOf_1 9 rfl rfl)
theorem dX4_slotOf_33 : decode cX4_slotOf 33 = .ok (.istore 5, 2) := dk_54 5 (dk_at dksX4_slotOf_1 10 rfl rfl)
theorem dX4_slotOf_35 : decode cX4_slotOf 35 = .ok (.iload 5, 2) := dk_21 5 (dk_at dksX4_slotOf_1 12 rfl rfl)
theorem dX4_slotOf_37 : decode cX4_slotOf 37 = .ok (.aload_n 0, 1) := dk_42 (dk_at dksX4_slotOf_1 14 rfl rfl)
theorem dX4_slotOf_38 : decode cX4_slotOf 38 = .ok (.getfield 7, 3) := dk_180 0 7 (dk_at dksX4_slotOf_1 15 rfl rfl)
theorem dX4_slotOf_41 : decode cX4_slotOf 41 = .ok (.iconst 0, 1) := dk_3 (dk_at dksX4_slotOf_1 18 rfl rfl)
theorem dX4_slotOf_42 : decode cX4_slotOf 42 = .ok (.iaload, 1) := dk_46 (dk_at dksX4_slotOf_1 19 rfl rfl)
theorem dX4_slotOf_43 : decode cX4_slotOf 43 = .ok (.if_icmp .gt 40, 3) := dk_163 0 40 (dk_at dksX4_slotOf_1 20 rfl rfl)
theorem dX4_slotOf_46 : decode cX4_slotOf 46 = .ok (.iload 4, 2) := dk_21 4 (dk_at dksX4_slotOf_2 0 rfl rfl)
theorem dX4_slotOf_48 : decode cX4_slotOf 48 = .ok (.aload_n 0, 1) := dk_42 (dk_at dksX4_slotOf_2 2 rfl rfl)
theorem dX4_slotOf_49 : decode cX4_slotOf 49 = .ok (.iload 5, 2) := dk_21 5 (dk_at dksX4_slotOf_2 3 rfl rfl)
theorem dX4_slotOf_51 : decode cX4_slotOf 51 = .ok (.iconst 0, 1) := dk_3 (dk_at dksX4_slotOf_2 5 rfl rfl)
theorem dX4_slotOf_52 : decode cX4_slotOf 52 = .ok (.invokevirtual 59, 3) := dk_182 0 59 (dk_at dksX4_slotOf_2 6 rfl rfl)
theorem dX4_slotOf_55 : decode cX4_slotOf 55 = .ok (.ifCond .ne 18, 3) := dk_154 0 18 (dk_at dksX4_slotOf_2 9 rfl rfl)
theorem dX4_slotOf_58 : decode cX4_slotOf 58 = .ok (.aload_n 0, 1) := dk_42 (dk_at dksX4_slotOf_2 12 rfl rfl)
theorem dX4_slotOf_59 : decode cX4_slotOf 59 = .ok (.iload 5, 2) := dk_21 5 (dk_at dksX4_slotOf_2 13 rfl rfl)
theorem dX4_slotOf_61 : decode cX4_slotOf 61 = .ok (.iconst 1, 1) := dk_4 (dk_at dksX4_slotOf_2 15 rfl rfl)
theorem dX4_slotOf_62 : decode cX4_slotOf 62 = .ok (.invokevirtual 59, 3) := dk_182 0 59 (dk_at dksX4_slotOf_2 16 rfl rfl)
theorem dX4_slotOf_65 : decode cX4_slotOf 65 = .ok (.iload_n 3, 1) := dk_29 (dk_at dksX4_slotOf_2 19 rfl rfl)
theorem dX4_slotOf_66 : decode cX4_slotOf 66 = .ok (.if_icmp .ne 7, 3) := dk_160 0 7 (dk_at dksX4_slotOf_2 20 rfl rfl)
theorem dX4_slotOf_69 : decode cX4_slotOf 69 = .ok (.iconst 1, 1) := dk_4 (dk_at dksX4_slotOf_2 23 rfl rfl)
theorem dX4_slotOf_70 : decode cX4_slotOf 70 = .ok (.goto 4, 3) := dk_167 0 4 (dk_at dksX4_slotOf_3 0 rfl rfl)
theorem dX4_slotOf_73 : decode cX4_slotOf 73 = .ok (.iconst 0, 1) := dk_3 (dk_at dksX4_slotOf_3 3 rfl rfl)
theorem dX4_slotOf_74 : decode cX4_slotOf 74 = .ok (.iadd, 1) := dk_96 (dk_at dksX4_slotOf_3 4 rfl rfl)
theorem dX4_slotOf_75 : decode cX4_slotOf 75 = .ok (.istore 4, 2) := dk_54 4 (dk_at dksX4_slotOf_3 5 rfl rfl)
theorem dX4_slotOf_77 : decode cX4_slotOf 77 = .ok (.iinc 5 1, 3) := dk_132 5 1 (dk_at dksX4_slotOf_3 7 rfl rfl)
theorem dX4_slotOf_80 : decode cX4_slotOf 80 = .ok (.goto (-45), 3) := dk_167 255 211 (dk_at dksX4_slotOf_3 10 rfl rfl)
theorem dX4_slotOf_83 : decode cX4_slotOf 83 = .ok (.iload_n 3, 1) := dk_29 (dk_at dksX4_slotOf_3 13 rfl rfl)
theorem dX4_slotOf_84 : decode cX4_slotOf 84 = .ok (.ifCond .ne 8, 3) := dk_154 0 8 (dk_at dksX4_slotOf_3 14 rfl rfl)
theorem dX4_slotOf_87 : decode cX4_slotOf 87 = .ok (.ldc 58, 2) := dk_18 58 (dk_at dksX4_slotOf_3 17 rfl rfl)
theorem dX4_slotOf_89 : decode cX4_slotOf 89 = .ok (.goto 13, 3) := dk_167 0 13 (dk_at dksX4_slotOf_3 19 rfl rfl)
theorem dX4_slotOf_92 : decode cX4_slotOf 92 = .ok (.iload_n 2, 1) := dk_28 (dk_at dksX4_slotOf_3 22 rfl rfl)
theorem dX4_slotOf_93 : decode cX4_slotOf 93 = .ok (.ifCond .ne 7, 3) := dk_154 0 7 (dk_at dksX4_slotOf_4 0 rfl rfl)
theorem dX4_slotOf_96 : decode cX4_slotOf 96 = .ok (.iload_n 3, 1) := dk_29 (dk_at dksX4_slotOf_4 3 rfl rfl)
theorem dX4_slotOf_97 : decode cX4_slotOf 97 = .ok (.goto 5, 3) := dk_167 0 5 (dk_at dksX4_slotOf_4 4 rfl rfl)
theorem dX4_slotOf_100 : decode cX4_slotOf 100 = .ok (.iload 4, 2) := dk_21 4 (dk_at dksX4_slotOf_4 7 rfl rfl)
theorem dX4_slotOf_102 : decode cX4_slotOf 102 = .ok (.ireturn, 1) := dk_172 (dk_at dksX4_slotOf_4 9 rfl rfl)
abbrev cX4_waits : ByteArray := prog_11_method_46_code
def yX4_waits : MethodName := ⟨RX4, "waits", "(II)I"⟩
def dkwX4_waits_2 : List UInt8 := [182, 0, 114, 172]
abbrev dktX4_waits_2 : List UInt8 := dkwX4_waits_2 ++ []
def dkwX4_waits_1 : List UInt8 := [4, 160, 0, 8, 18, 42, 167, 0, 19, 42, 27, 28, 42, 180, 0, 7, 16, 7, 46, 17, 0, 200]
abbrev dktX4_waits_1 : List UInt8 := dkwX4_waits_1 ++ dktX4_waits_2
def dkwX4_waits_0 : List UInt8 := [27, 184, 0, 69, 153, 0, 11, 42, 28, 182, 0, 99, 154, 0, 6, 18, 41, 172, 42, 27, 5, 182, 0, 72]
abbrev dktX4_waits_0 : List UInt8 := dkwX4_waits_0 ++ dktX4_waits_1
theorem dksX4_waits_0 : cX4_waits.data.toList.drop 0 = dktX4_waits_0 := by decide +kernel
theorem dksX4_waits_1 : cX4_waits.data.toList.drop 24 = dktX4_waits_1 := dk_seg dksX4_waits_0 24 rfl rfl
theorem dksX4_waits_2 : cX4_waits.data.toList.drop 46 = dktX4_waits_2 := dk_seg dksX4_waits_1 22 rfl rfl
theorem dX4_waits_0 : decode cX4_waits 0 = .ok (.iload_n 1, 1) := dk_27 (dk_at dksX4_waits_0 0 rfl rfl)
theorem dX4_waits_1 : decode cX4_waits 1 = .ok (.invokestatic 69, 3) := dk_184 0 69 (dk_at dksX4_waits_0 1 rfl rfl)
theorem dX4_waits_4 : decode cX4_waits 4 = .ok (.ifCond .eq 11, 3) := dk_153 0 11 (dk_at dksX4_waits_0 4 rfl rfl)
theorem dX4_waits_7 : decode cX4_waits 7 = .ok (.aload_n 0, 1) := dk_42 (dk_at dksX4_waits_0 7 rfl rfl)
theorem dX4_waits_8 : decode cX4_waits 8 = .ok (.iload_n 2, 1) := dk_28 (dk_at dksX4_waits_0 8 rfl rfl)
theorem dX4_waits_9 : decode cX4_waits 9 = .ok (.invokevirtual 99, 3) := dk_182 0 99 (dk_at dksX4_waits_0 9 rfl rfl)
theorem dX4_waits_12 : decode cX4_waits 12 = .ok (.ifCond .ne 6, 3) := dk_154 0 6 (dk_at dksX4_waits_0 12 rfl rfl)
theorem dX4_waits_15 : decode cX4_waits 15 = .ok (.ldc 41, 2) := dk_18 41 (dk_at dksX4_waits_0 15 rfl rfl)
theorem dX4_waits_17 : decode cX4_waits 17 = .ok (.ireturn, 1) := dk_172 (dk_at dksX4_waits_0 17 rfl rfl)
theorem dX4_waits_18 : decode cX4_waits 18 = .ok (.aload_n 0, 1) := dk_42 (dk_at dksX4_waits_0 18 rfl rfl)
theorem dX4_waits_19 : decode cX4_waits 19 = .ok (.iload_n 1, 1) := dk_27 (dk_at dksX4_waits_0 19 rfl rfl)
theorem dX4_waits_20 : decode cX4_waits 20 = .ok (.iconst 2, 1) := dk_5 (dk_at dksX4_waits_0 20 rfl rfl)
theorem dX4_waits_21 : decode cX4_waits 21 = .ok (.invokevirtual 72, 3) := dk_182 0 72 (dk_at dksX4_waits_0 21 rfl rfl)
theorem dX4_waits_24 : decode cX4_waits 24 = .ok (.iconst 1, 1) := dk_4 (dk_at dksX4_waits_1 0 rfl rfl)
theorem dX4_waits_25 : decode cX4_waits 25 = .ok (.if_icmp .ne 8, 3) := dk_160 0 8 (dk_at dksX4_waits_1 1 rfl rfl)
theorem dX4_waits_28 : decode cX4_waits 28 = .ok (.ldc 42, 2) := dk_18 42 (dk_at dksX4_waits_1 4 rfl rfl)
theorem dX4_waits_30 : decode cX4_waits 30 = .ok (.goto 19, 3) := dk_167 0 19 (dk_at dksX4_waits_1 6 rfl rfl)
theorem dX4_waits_33 : decode cX4_waits 33 = .ok (.aload_n 0, 1) := dk_42 (dk_at dksX4_waits_1 9 rfl rfl)
theorem dX4_waits_34 : decode cX4_waits 34 = .ok (.iload_n 1, 1) := dk_27 (dk_at dksX4_waits_1 10 rfl rfl)
theorem dX4_waits_35 : decode cX4_waits 35 = .ok (.iload_n 2, 1) := dk_28 (dk_at dksX4_waits_1 11 rfl rfl)
theorem dX4_waits_36 : decode cX4_waits 36 = .ok (.aload_n 0, 1) := dk_42 (dk_at dksX4_waits_1 12 rfl rfl)
theorem dX4_waits_37 : decode cX4_waits 37 = .ok (.getfield 7, 3) := dk_180 0 7 (dk_at dksX4_waits_1 13 rfl rfl)
theorem dX4_waits_40 : decode cX4_waits 40 = .ok (.bipush 7, 2) := dk_16 7 (dk_at dksX4_waits_1 16 rfl rfl)
theorem dX4_waits_42 : decode cX4_waits 42 = .ok (.iaload, 1) := dk_46 (dk_at dksX4_waits_1 18 rfl rfl)
theorem dX4_waits_43 : decode cX4_waits 43 = .ok (.sipush 200, 3) := dk_17 0 200 (dk_at dksX4_waits_1 19 rfl rfl)
theorem dX4_waits_46 : decode cX4_waits 46 = .ok (.invokevirtual 114, 3) := dk_182 0 114 (dk_at dksX4_waits_2 0 rfl rfl)
theorem dX4_waits_49 : decode cX4_waits 49 = .ok (.ireturn, 1) := dk_172 (dk_at dksX4_waits_2 3 rfl rfl)
abbrev cX4_until : ByteArray := prog_11_method_45_code
def yX4_until : MethodName := ⟨RX4, "until", "(IIII)I"⟩
def dkwX4_until_2 : List UInt8 := [96, 54, 5, 132, 6, 1, 167, 255, 213, 18, 58, 172]
abbrev dktX4_until_2 : List UInt8 := dkwX4_until_2 ++ []
def dkwX4_until_1 : List UInt8 := [21, 6, 172, 21, 5, 42, 27, 21, 5, 42, 180, 0, 7, 4, 46, 21, 6, 96, 4, 96, 29, 182, 0, 86]
abbrev dktX4_until_1 : List UInt8 := dkwX4_until_1 ++ dktX4_until_2
def dkwX4_until_0 : List UInt8 := [42, 27, 4, 182, 0, 72, 54, 5, 3, 54, 6, 21, 6, 21, 4, 163, 0, 42, 21, 5, 28, 161, 0, 6]
abbrev dktX4_until_0 : List UInt8 := dkwX4_until_0 ++ dktX4_until_1
theorem dksX4_until_0 : cX4_until.data.toList.drop 0 = dktX4_until_0 := by decide +kernel
theorem dksX4_until_1 : cX4_until.data.toList.drop 24 = dktX4_until_1 := dk_seg dksX4_until_0 24 rfl rfl
theorem dksX4_until_2 : cX4_until.data.toList.drop 48 = dktX4_until_2 := dk_seg dksX4_until_1 24 rfl rfl
theorem dX4_until_0 : decode cX4_until 0 = .ok (.aload_n 0, 1) := dk_42 (dk_at dksX4_until_0 0 rfl rfl)
theorem dX4_until_1 : decode cX4_until 1 = .ok (.iload_n 1, 1) := dk_27 (dk_at dksX4_until_0 1 rfl rfl)
theorem dX4_until_2 : decode cX4_until 2 = .ok (.iconst 1, 1) := dk_4 (dk_at dksX4_until_0 2 rfl rfl)
theorem dX4_until_3 : decode cX4_until 3 = .ok (.invokevirtual 72, 3) := dk_182 0 72 (dk_at dksX4_until_0 3 rfl rfl)
theorem dX4_until_6 : decode cX4_until 6 = .ok (.istore 5, 2) := dk_54 5 (dk_at dksX4_until_0 6 rfl rfl)
theorem dX4_until_8 : decode cX4_until 8 = .ok (.iconst 0, 1) := dk_3 (dk_at dksX4_until_0 8 rfl rfl)
theorem dX4_until_9 : decode cX4_until 9 = .ok (.istore 6, 2) := dk_54 6 (dk_at dksX4_until_0 9 rfl rfl)
theorem dX4_until_11 : decode cX4_until 11 = .ok (.iload 6, 2) := dk_21 6 (dk_at dksX4_until_0 11 rfl rfl)
theorem dX4_until_13 : decode cX4_until 13 = .ok (.iload 4, 2) := dk_21 4 (dk_at dksX4_until_0 13 rfl rfl)
theorem dX4_until_15 : decode cX4_until 15 = .ok (.if_icmp .gt 42, 3) := dk_163 0 42 (dk_at dksX4_until_0 15 rfl rfl)
theorem dX4_until_18 : decode cX4_until 18 = .ok (.iload 5, 2) := dk_21 5 (dk_at dksX4_until_0 18 rfl rfl)
theorem dX4_until_20 : decode cX4_until 20 = .ok (.iload_n 2, 1) := dk_28 (dk_at dksX4_until_0 20 rfl rfl)
theorem dX4_until_21 : decode cX4_until 21 = .ok (.if_icmp .lt 6, 3) := dk_161 0 6 (dk_at dksX4_until_0 21 rfl rfl)
theorem dX4_until_24 : decode cX4_until 24 = .ok (.iload 6, 2) := dk_21 6 (dk_at dksX4_until_1 0 rfl rfl)
theorem dX4_until_26 : decode cX4_until 26 = .ok (.ireturn, 1) := dk_172 (dk_at dksX4_until_1 2 rfl rfl)
theorem dX4_until_27 : decode cX4_until 27 = .ok (.iload 5, 2) := dk_21 5 (dk_at dksX4_until_1 3 rfl rfl)
theorem dX4_until_29 : decode cX4_until 29 = .ok (.aload_n 0, 1) := dk_42 (dk_at dksX4_until_1 5 rfl rfl)
theorem dX4_until_30 : decode cX4_until 30 = .ok (.iload_n 1, 1) := dk_27 (dk_at dksX4_until_1 6 rfl rfl)
theorem dX4_until_31 : decode cX4_until 31 = .ok (.iload 5, 2) := dk_21 5 (dk_at dksX4_until_1 7 rfl rfl)
theorem dX4_until_33 : decode cX4_until 33 = .ok (.aload_n 0, 1) := dk_42 (dk_at dksX4_until_1 9 rfl rfl)
theorem dX4_until_34 : decode cX4_until 34 = .ok (.getfield 7, 3) := dk_180 0 7 (dk_at dksX4_until_1 10 rfl rfl)
theorem dX4_until_37 : decode cX4_until 37 = .ok (.iconst 1, 1) := dk_4 (dk_at dksX4_until_1 13 rfl rfl)
theorem dX4_until_38 : decode cX4_until 38 = .ok (.iaload, 1) := dk_46 (dk_at dksX4_until_1 14 rfl rfl)
theorem dX4_until_39 : decode cX4_until 39 = .ok (.iload 6, 2) := dk_21 6 (dk_at dksX4_until_1 15 rfl rfl)
theorem dX4_until_41 : decode cX4_until 41 = .ok (.iadd, 1) := dk_96 (dk_at dksX4_until_1 17 rfl rfl)
theorem dX4_until_42 : decode cX4_until 42 = .ok (.iconst 1, 1) := dk_4 (dk_at dksX4_until_1 18 rfl rfl)
theorem dX4_until_43 : decode cX4_until 43 = .ok (.iadd, 1) := dk_96 (dk_at dksX4_until_1 19 rfl rfl)
theorem dX4_until_44 : decode cX4_until 44 = .ok (.iload_n 3, 1) := dk_29 (dk_at dksX4_until_1 20 rfl rfl)
theorem dX4_until_45 : decode cX4_until 45 = .ok (.invokevirtual 86, 3) := dk_182 0 86 (dk_at dksX4_until_1 21 rfl rfl)
theorem dX4_until_48 : decode cX4_until 48 = .ok (.iadd, 1) := dk_96 (dk_at dksX4_until_2 0 rfl rfl)
theorem dX4_until_49 : decode cX4_until 49 = .ok (.istore 5, 2) := dk_54 5 (dk_at dksX4_until_2 1 rfl rfl)
theorem dX4_until_51 : decode cX4_until 51 = .ok (.iinc 6 1, 3) := dk_132 6 1 (dk_at dksX4_until_2 3 rfl rfl)
theorem dX4_until_54 : decode cX4_until 54 = .ok (.goto (-43), 3) := dk_167 255 213 (dk_at dksX4_until_2 6 rfl rfl)
theorem dX4_until_57 : decode cX4_until 57 = .ok (.ldc 58, 2) := dk_18 58 (dk_at dksX4_until_2 9 rfl rfl)
theorem dX4_until_59 : decode cX4_until 59 = .ok (.ireturn, 1) := dk_172 (dk_at dksX4_until_2 11 rfl rfl)
abbrev cX4_wouldLose : ByteArray := prog_11_method_47_code
def yX4_wouldLose : MethodName := ⟨RX4, "wouldLose", "(I)I"⟩
def dkwX4_wouldLose_1 : List UInt8 := [167, 0, 8, 42, 27, 182, 0, 92, 172]
abbrev dktX4_wouldLose_1 : List UInt8 := dkwX4_wouldLose_1 ++ []
def dkwX4_wouldLose_0 : List UInt8 := [27, 184, 0, 69, 154, 0, 6, 18, 41, 172, 42, 27, 5, 182, 0, 72, 4, 160, 0, 8, 18, 42]
abbrev dktX4_wouldLose_0 : List UInt8 := dkwX4_wouldLose_0 ++ dktX4_wouldLose_1
theorem dksX4_wouldLose_0 : cX4_wouldLose.data.toList.drop 0 = dktX4_wouldLose_0 := by decide +kernel
theorem dksX4_wouldLose_1 : cX4_wouldLose.data.toList.drop 22 = dktX4_wouldLose_1 := dk_seg dksX4_wouldLose_0 22 rfl rfl
theorem dX4_wouldLose_0 : decode cX4_wouldLose 0 = .ok (.iload_n 1, 1) := dk_27 (dk_at dksX4_wouldLose_0 0 rfl rfl)
theorem dX4_wouldLose_1 : decode cX4_wouldLose 1 = .ok (.invokestatic 69, 3) := dk_184 0 69 (dk_at dksX4_wouldLose_0 1 rfl rfl)
theorem dX4_wouldLose_4 : decode cX4_wouldLose 4 = .ok (.ifCond .ne 6, 3) := dk_154 0 6 (dk_at dksX4_wouldLose_0 4 rfl rfl)
theorem dX4_wouldLose_7 : decode cX4_wouldLose 7 = .ok (.ldc 41, 2) := dk_18 41 (dk_at dksX4_wouldLose_0 7 rfl rfl)
theorem dX4_wouldLose_9 : decode cX4_wouldLose 9 = .ok (.ireturn, 1) := dk_172 (dk_at dksX4_wouldLose_0 9 rfl rfl)
theorem dX4_wouldLose_10 : decode cX4_wouldLose 10 = .ok (.aload_n 0, 1) := dk_42 (dk_at dksX4_wouldLose_0 10 rfl rfl)
theorem dX4_wouldLose_11 : decode cX4_wouldLose 11 = .ok (.iload_n 1, 1) := dk_27 (dk_at dksX4_wouldLose_0 11 rfl rfl)
theorem dX4_wouldLose_12 : decode cX4_wouldLose 12 = .ok (.iconst 2, 1) := dk_5 (dk_at dksX4_wouldLose_0 12 rfl rfl)
theorem dX4_wouldLose_13 : decode cX4_wouldLose 13 = .ok (.invokevirtual 72, 3) := dk_182 0 72 (dk_at dksX4_wouldLose_0 13 rfl rfl)
theorem dX4_wouldLose_16 : decode cX4_wouldLose 16 = .ok (.iconst 1, 1) := dk_4 (dk_at dksX4_wouldLose_0 16 rfl rfl)
theorem dX4_wouldLose_17 : decode cX4_wouldLose 17 = .ok (.if_icmp .ne 8, 3) := dk_160 0 8 (dk_at dksX4_wouldLose_0 17 rfl rfl)
theorem dX4_wouldLose_20 : decode cX4_wouldLose 20 = .ok (.ldc 42, 2) := dk_18 42 (dk_at dksX4_wouldLose_0 20 rfl rfl)
theorem dX4_wouldLose_22 : decode cX4_wouldLose 22 = .ok (.goto 8, 3) := dk_167 0 8 (dk_at dksX4_wouldLose_1 0 rfl rfl)
theorem dX4_wouldLose_25 : decode cX4_wouldLose 25 = .ok (.aload_n 0, 1) := dk_42 (dk_at dksX4_wouldLose_1 3 rfl rfl)
theorem dX4_wouldLose_26 : decode cX4_wouldLose 26 = .ok (.iload_n 1, 1) := dk_27 (dk_at dksX4_wouldLose_1 4 rfl rfl)
theorem dX4_wouldLose_27 : decode cX4_wouldLose 27 = .ok (.invokevirtual 92, 3) := dk_182 0 92 (dk_at dksX4_wouldLose_1 5 rfl rfl)
theorem dX4_wouldLose_30 : decode cX4_wouldLose 30 = .ok (.ireturn, 1) := dk_172 (dk_at dksX4_wouldLose_1 8 rfl rfl)
abbrev cX4_rateFor : ByteArray := prog_11_method_48_code
def yX4_rateFor : MethodName := ⟨RX4, "rateFor", "(II)I"⟩
def dkwX4_rateFor_3 : List UInt8 := [21, 4, 21, 5, 28, 182, 0, 114, 155, 0, 6, 21, 5, 172, 132, 5, 1, 167, 255, 230, 18, 58, 172]
abbrev dktX4_rateFor_3 : List UInt8 := dkwX4_rateFor_3 ++ []
def dkwX4_rateFor_2 : List UInt8 := [182, 0, 72, 167, 0, 6, 29, 4, 100, 54, 4, 4, 54, 5, 21, 5, 16, 20, 163, 0, 25, 42, 27]
abbrev dktX4_rateFor_2 : List UInt8 := dkwX4_rateFor_2 ++ dktX4_rateFor_3
def dkwX4_rateFor_1 : List UInt8 := [182, 0, 72, 4, 160, 0, 6, 18, 42, 172, 42, 27, 182, 0, 108, 62, 29, 156, 0, 12, 42, 27, 3]
abbrev dktX4_rateFor_1 : List UInt8 := dkwX4_rateFor_1 ++ dktX4_rateFor_2
def dkwX4_rateFor_0 : List UInt8 := [27, 184, 0, 69, 153, 0, 13, 28, 4, 16, 99, 184, 0, 33, 154, 0, 6, 18, 41, 172, 42, 27, 5]
abbrev dktX4_rateFor_0 : List UInt8 := dkwX4_rateFor_0 ++ dktX4_rateFor_1
theorem dksX4_rateFor_0 : cX4_rateFor.data.toList.drop 0 = dktX4_rateFor_0 := by decide +kernel
theorem dksX4_rateFor_1 : cX4_rateFor.data.toList.drop 23 = dktX4_rateFor_1 := dk_seg dksX4_rateFor_0 23 rfl rfl
theorem dksX4_rateFor_2 : cX4_rateFor.data.toList.drop 46 = dktX4_rateFor_2 := dk_seg dksX4_rateFor_1 23 rfl rfl
theorem dksX4_rateFor_3 : cX4_rateFor.data.toList.drop 69 = dktX4_rateFor_3 := dk_seg dksX4_rateFor_2 23 rfl rfl
theorem dX4_rateFor_0 : decode cX4_rateFor 0 = .ok (.iload_n 1, 1) := dk_27 (dk_at dksX4_rateFor_0 0 rfl rfl)
theorem dX4_rateFor_1 : decode cX4_rateFor 1 = .ok (.invokestatic 69, 3) := dk_184 0 69 (dk_at dksX4_rateFor_0 1 rfl rfl)
theorem dX4_rateFor_4 : decode cX4_rateFor 4 = .ok (.ifCond .eq 13, 3) := dk_153 0 13 (dk_at dksX4_rateFor_0 4 rfl rfl)
theorem dX4_rateFor_7 : decode cX4_rateFor 7 = .ok (.iload_n 2, 1) := dk_28 (dk_at dksX4_rateFor_0 7 rfl rfl)
theorem dX4_rateFor_8 : decode cX4_rateFor 8 = .ok (.iconst 1, 1) := dk_4 (dk_at dksX4_rateFor_0 8 rfl rfl)
theorem dX4_rateFor_9 : decode cX4_rateFor 9 = .ok (.bipush 99, 2) := dk_16 99 (dk_at dksX4_rateFor_0 9 rfl rfl)
theorem dX4_rateFor_11 : decode cX4_rateFor 11 = .ok (.invokestatic 33, 3) := dk_184 0 33 (dk_at dksX4_rateFor_0 11 rfl rfl)
theorem dX4_rateFor_14 : decode cX4_rateFor 14 = .ok (.ifCond .ne 6, 3) := dk_154 0 6 (dk_at dksX4_rateFor_0 14 rfl rfl)
theorem dX4_rateFor_17 : decode cX4_rateFor 17 = .ok (.ldc 41, 2) := dk_18 41 (dk_at dksX4_rateFor_0 17 rfl rfl)
theorem dX4_rateFor_19 : decode cX4_rateFor 19 = .ok (.ireturn, 1) := dk_172 (dk_at dksX4_rateFor_0 19 rfl rfl)
theorem dX4_rateFor_20 : decode cX4_rateFor 20 = .ok (.aload_n 0, 1) := dk_42 (dk_at dksX4_rateFor_0 20 rfl rfl)
theorem dX4_rateFor_21 : decode cX4_rateFor 21 = .ok (.iload_n 1, 1) := dk_27 (dk_at dksX4_rateFor_0 21 rfl rfl)
theorem dX4_rateFor_22 : decode cX4_rateFor 22 = .ok (.iconst 2, 1) := dk_5 (dk_at dksX4_rateFor_0 22 rfl rfl)
theorem dX4_rateFor_23 : decode cX4_rateFor 23 = .ok (.invokevirtual 72, 3) := dk_182 0 72 (dk_at dksX4_rateFor_1 0 rfl rfl)
theorem dX4_rateFor_26 : decode cX4_rateFor 26 = .ok (.iconst 1, 1) := dk_4 (dk_at dksX4_rateFor_1 3 rfl rfl)
theorem dX4_rateFor_27 : decode cX4_rateFor 27 = .ok (.if_icmp .ne 6, 3) := dk_160 0 6 (dk_at dksX4_rateFor_1 4 rfl rfl)
theorem dX4_rateFor_30 : decode cX4_rateFor 30 = .ok (.ldc 42, 2) := dk_18 42 (dk_at dksX4_rateFor_1 7 rfl rfl)
theorem dX4_rateFor_32 : decode cX4_rateFor 32 = .ok (.ireturn, 1) := dk_172 (dk_at dksX4_rateFor_1 9 rfl rfl)
theorem dX4_rateFor_33 : decode cX4_rateFor 33 = .ok (.aload_n 0, 1) := dk_42 (dk_at dksX4_rateFor_1 10 rfl rfl)
theorem dX4_rateFor_34 : decode cX4_rateFor 34 = .ok (.iload_n 1, 1) := dk_27 (dk_at dksX4_rateFor_1 11 rfl rfl)
theorem dX4_rateFor_35 : decode cX4_rateFor 35 = .ok (.invokevirtual 108, 3) := dk_182 0 108 (dk_at dksX4_rateFor_1 12 rfl rfl)
theorem dX4_rateFor_38 : decode cX4_rateFor 38 = .ok (.istore_n 3, 1) := dk_62 (dk_at dksX4_rateFor_1 15 rfl rfl)
theorem dX4_rateFor_39 : decode cX4_rateFor 39 = .ok (.iload_n 3, 1) := dk_29 (dk_at dksX4_rateFor_1 16 rfl rfl)
theorem dX4_rateFor_40 : decode cX4_rateFor 40 = .ok (.ifCond .ge 12, 3) := dk_156 0 12 (dk_at dksX4_rateFor_1 17 rfl rfl)
theorem dX4_rateFor_43 : decode cX4_rateFor 43 = .ok (.aload_n 0, 1) := dk_42 (dk_at dksX4_rateFor_1 20 rfl rfl)
theorem dX4_rateFor_44 : decode cX4_rateFor 44 = .ok (.iload_n 1, 1) := dk_27 (dk_at dksX4_rateFor_1 21 rfl rfl)
theorem dX4_rateFor_45 : decode cX4_rateFor 45 = .ok (.iconst 0, 1) := dk_3 (dk_at dksX4_rateFor_1 22 rfl rfl)
theorem dX4_rateFor_46 : decode cX4_rateFor 46 = .ok (.invokevirtual 72, 3) := dk_182 0 72 (dk_at dksX4_rateFor_2 0 rfl rfl)
theorem dX4_rateFor_49 : decode cX4_rateFor 49 = .ok (.goto 6, 3) := dk_167 0 6 (dk_at dksX4_rateFor_2 3 rfl rfl)
theorem dX4_rateFor_52 : decode cX4_rateFor 52 = .ok (.iload_n 3, 1) := dk_29 (dk_at dksX4_rateFor_2 6 rfl rfl)
theorem dX4_rateFor_53 : decode cX4_rateFor 53 = .ok (.iconst 1, 1) := dk_4 (dk_at dksX4_rateFor_2 7 rfl rfl)
theorem dX4_rateFor_54 : decode cX4_rateFor 54 = .ok (.isub, 1) := dk_100 (dk_at dksX4_rateFor_2 8 rfl rfl)
theorem dX4_rateFor_55 : decode cX4_rateFor 55 = .ok (.istore 4, 2) := dk_54 4 (dk_at dksX4_rateFor_2 9 rfl rfl)
theorem dX4_rateFor_57 : decode cX4_rateFor 57 = .ok (.iconst 1, 1) := dk_4 (dk_at dksX4_rateFor_2 11 rfl rfl)
theorem dX4_rateFor_58 : decode cX4_rateFor 58 = .ok (.istore 5, 2) := dk_54 5 (dk_at dksX4_rateFor_2 12 rfl rfl)
theorem dX4_rateFor_60 : decode cX4_rateFor 60 = .ok (.iload 5, 2) := dk_21 5 (dk_at dksX4_rateFor_2 14 rfl rfl)
theorem dX4_rateFor_62 : decode cX4_rateFor 62 = .ok (.bipush 20, 2) := dk_16 20 (dk_at dksX4_rateFor_2 16 rfl rfl)
theorem dX4_rateFor_64 : decode cX4_rateFor 64 = .ok (.if_icmp .gt 25, 3) := dk_163 0 25 (dk_at dksX4_rateFor_2 18 rfl rfl)
theorem dX4_rateFor_67 : decode cX4_rateFor 67 = .ok (.aload_n 0, 1) := dk_42 (dk_at dksX4_rateFor_2 21 rfl rfl)
theorem dX4_rateFor_68 : decode cX4_rateFor 68 = .ok (.iload_n 1, 1) := dk_27 (dk_at dksX4_rateFor_2 22 rfl rfl)
theorem dX4_rateFor_69 : decode cX4_rateFor 69 = .ok (.iload 4, 2) := dk_21 4 (dk_at dksX4_rateFor_3 0 rfl rfl)
theorem dX4_rateFor_71 : decode cX4_rateFor 71 = .ok (.iload 5, 2) := dk_21 5 (dk_at dksX4_rateFor_3 2 rfl rfl)
theorem dX4_rateFor_73 : decode cX4_rateFor 73 = .ok (.iload_n 2, 1) := dk_28 (dk_at dksX4_rateFor_3 4 rfl rfl)
theorem dX4_rateFor_74 : decode cX4_rateFor 74 = .ok (.invokevirtual 114, 3) := dk_182 0 114 (dk_at dksX4_rateFor_3 5 rfl rfl)
theorem dX4_rateFor_77 : decode cX4_rateFor 77 = .ok (.ifCond .lt 6, 3) := dk_155 0 6 (dk_at dksX4_rateFor_3 8 rfl rfl)
theorem dX4_rateFor_80 : decode cX4_rateFor 80 = .ok (.iload 5, 2) := dk_21 5 (dk_at dksX4_rateFor_3 11 rfl rfl)
theorem dX4_rateFor_82 : decode cX4_rateFor 82 = .ok (.ireturn, 1) := dk_172 (dk_at dksX4_rateFor_3 13 rfl rfl)
theorem dX4_rateFor_83 : decode cX4_rateFor 83 = .ok (.iinc 5 1, 3) := dk_132 5 1 (dk_at dksX4_rateFor_3 14 rfl rfl)
theorem dX4_rateFor_86 : decode cX4_rateFor 86 = .ok (.goto (-26), 3) := dk_167 255 230 (dk_at dksX4_rateFor_3 17 rfl rfl)
theorem dX4_rateFor_89 : decode cX4_rateFor 89 = .ok (.ldc 58, 2) := dk_18 58 (dk_at dksX4_rateFor_3 20 rfl rfl)
theorem dX4_rateFor_91 : decode cX4_rateFor 91 = .ok (.ireturn, 1) := dk_172 (dk_at dksX4_rateFor_3 22 rfl rfl)
abbrev cX4_count : ByteArray := prog_11_method_49_code
def yX4_count : MethodName := ⟨RX4, "count", "(I)I"⟩
def dkwX4_count_4 : List UInt8 := [16, 20, 100, 46, 172, 18, 41, 172]
abbrev dktX4_count_4 : List UInt8 := dkwX4_count_4 ++ []
def dkwX4_count_3 : List UInt8 := [27, 96, 8, 100, 46, 172, 42, 180, 0, 29, 172, 42, 180, 0, 117, 172, 42, 180, 0, 7, 16, 7, 27, 96]
abbrev dktX4_count_3 : List UInt8 := dkwX4_count_3 ++ dktX4_count_4
def dkwX4_count_2 : List UInt8 := [42, 180, 0, 7, 27, 46, 172, 42, 4, 42, 180, 0, 7, 3, 46, 182, 0, 89, 172, 42, 180, 0, 7, 7]
abbrev dktX4_count_2 : List UInt8 := dkwX4_count_2 ++ dktX4_count_3
def dkwX4_count_1 : List UInt8 := [170, 0, 0, 0, 0, 0, 156, 0, 0, 0, 0, 0, 0, 0, 21, 0, 0, 0, 103, 0, 0, 0, 103, 0, 0, 0, 103, 0, 0, 0, 103, 0, 0, 0, 110, 0, 0, 0, 122, 0, 0, 0, 122, 0, 0, 0, 122, 0, 0, 0, 133, 0, 0, 0, 138, 0, 0, 0, 156, 0, 0, 0, 156, 0, 0, 0, 156, 0, 0, 0, 156, 0, 0, 0, 156, 0, 0, 0, 156, 0, 0, 0, 156, 0, 0, 0, 156, 0, 0, 0, 156, 0, 0, 0, 156, 0, 0, 0, 143, 0, 0, 0, 143]
abbrev dktX4_count_1 : List UInt8 := dkwX4_count_1 ++ dktX4_count_2
def dkwX4_count_0 : List UInt8 := [27]
abbrev dktX4_count_0 : List UInt8 := dkwX4_count_0 ++ dktX4_count_1
theorem dksX4_count_0 : cX4_count.data.toList.drop 0 = dktX4_count_0 := by decide +kernel
theorem dksX4_count_1 : cX4_count.data.toList.drop 1 = dktX4_count_1 := dk_seg dksX4_count_0 1 rfl rfl
theorem dksX4_count_2 : cX4_count.data.toList.drop 104 = dktX4_count_2 := dk_seg dksX4_count_1 103 rfl rfl
theorem dksX4_count_3 : cX4_count.data.toList.drop 128 = dktX4_count_3 := dk_seg dksX4_count_2 24 rfl rfl
theorem dksX4_count_4 : cX4_count.data.toList.drop 152 = dktX4_count_4 := dk_seg dksX4_count_3 24 rfl rfl
theorem dX4_count_0 : decode cX4_count 0 = .ok (.iload_n 1, 1) := dk_27 (dk_at dksX4_count_0 0 rfl rfl)
theorem dX4_count_1 : decode cX4_count 1 = .ok (.tableswitch 156 0 21 #[103, 103, 103, 103, 110, 122, 122, 122, 133, 138, 156, 156, 156, 156, 156, 156, 156, 156, 156, 156, 143, 143], 103) := by decide +kernel
theorem dX4_count_104 : decode cX4_count 104 = .ok (.aload_n 0, 1) := dk_42 (dk_at dksX4_count_2 0 rfl rfl)
theorem dX4_count_105 : decode cX4_count 105 = .ok (.getfield 7, 3) := dk_180 0 7 (dk_at dksX4_count_2 1 rfl rfl)
theorem dX4_count_108 : decode cX4_count 108 = .ok (.iload_n 1, 1) := dk_27 (dk_at dksX4_count_2 4 rfl rfl)
theorem dX4_count_109 : decode cX4_count 109 = .ok (.iaload, 1) := dk_46 (dk_at dksX4_count_2 5 rfl rfl)
theorem dX4_count_110 : decode cX4_count 110 = .ok (.ireturn, 1) := dk_172 (dk_at dksX4_count_2 6 rfl rfl)
theorem dX4_count_111 : decode cX4_count 111 = .ok (.aload_n 0, 1) := dk_42 (dk_at dksX4_count_2 7 rfl rfl)
theorem dX4_count_112 : decode cX4_count 112 = .ok (.iconst 1, 1) := dk_4 (dk_at dksX4_count_2 8 rfl rfl)
theorem dX4_count_113 : decode cX4_count 113 = .ok (.aload_n 0, 1) := dk_42 (dk_at dksX4_count_2 9 rfl rfl)
theorem dX4_count_114 : decode cX4_count 114 = .ok (.getfield 7, 3) := dk_180 0 7 (dk_at dksX4_count_2 10 rfl rfl)
theorem dX4_count_117 : decode cX4_count 117 = .ok (.iconst 0, 1) := dk_3 (dk_at dksX4_count_2 13 rfl rfl)
theorem dX4_count_118 : decode cX4_count 118 = .ok (.iaload, 1) := dk_46 (dk_at dksX4_count_2 14 rfl rfl)
theorem dX4_count_119 : decode cX4_count 119 = .ok (.invokevirtual 89, 3) := dk_182 0 89 (dk_at dksX4_count_2 15 rfl rfl)
theorem dX4_count_122 : decode cX4_count 122 = .ok (.ireturn, 1) := dk_172 (dk_at dksX4_count_2 18 rfl rfl)
theorem dX4_count_123 : decode cX4_count 123 = .ok (.aload_n 0, 1) := dk_42 (dk_at dksX4_count_2 19 rfl rfl)
theorem dX4_count_124 : decode cX4_count 124 = .ok (.getfield 7, 3) := dk_180 0 7 (dk_at dksX4_count_2 20 rfl rfl)
theorem dX4_count_127 : decode cX4_count 127 = .ok (.iconst 4, 1) := dk_7 (dk_at dksX4_count_2 23 rfl rfl)
theorem dX4_count_128 : decode cX4_count 128 = .ok (.iload_n 1, 1) := dk_27 (dk_at dksX4_count_3 0 rfl rfl)
theorem dX4_count_129 : decode cX4_count 129 = .ok (.iadd, 1) := dk_96 (dk_at dksX4_count_3 1 rfl rfl)
theorem dX4_count_130 : decode cX4_count 130 = .ok (.iconst 5, 1) := dk_8 (dk_at dksX4_count_3 2 rfl rfl)
theorem dX4_count_131 : decode cX4_count 131 = .ok (.isub, 1) := dk_100 (dk_at dksX4_count_3 3 rfl rfl)
theorem dX4_count_132 : decode cX4_count 132 = .ok (.iaload, 1) := dk_46 (dk_at dksX4_count_3 4 rfl rfl)
theorem dX4_count_133 : decode cX4_count 133 = .ok (.ireturn, 1) := dk_172 (dk_at dksX4_count_3 5 rfl rfl)
theorem dX4_count_134 : decode cX4_count 134 = .ok (.aload_n 0, 1) := dk_42 (dk_at dksX4_count_3 6 rfl rfl)
theorem dX4_count_135 : decode cX4_count 135 = .ok (.getfield 29, 3) := dk_180 0 29 (dk_at dksX4_count_3 7 rfl rfl)
theorem dX4_count_138 : decode cX4_count 138 = .ok (.ireturn, 1) := dk_172 (dk_at dksX4_count_3 10 rfl rfl)
theorem dX4_count_139 : decode cX4_count 139 = .ok (.aload_n 0, 1) := dk_42 (dk_at dksX4_count_3 11 rfl rfl)
theorem dX4_count_140 : decode cX4_count 140 = .ok (.getfield 117, 3) := dk_180 0 117 (dk_at dksX4_count_3 12 rfl rfl)
theorem dX4_count_143 : decode cX4_count 143 = .ok (.ireturn, 1) := dk_172 (dk_at dksX4_count_3 15 rfl rfl)
theorem dX4_count_144 : decode cX4_count 144 = .ok (.aload_n 0, 1) := dk_42 (dk_at dksX4_count_3 16 rfl rfl)
theorem dX4_count_145 : decode cX4_count 145 = .ok (.getfield 7, 3) := dk_180 0 7 (dk_at dksX4_count_3 17 rfl rfl)
theorem dX4_count_148 : decode cX4_count 148 = .ok (.bipush 7, 2) := dk_16 7 (dk_at dksX4_count_3 20 rfl rfl)
theorem dX4_count_150 : decode cX4_count 150 = .ok (.iload_n 1, 1) := dk_27 (dk_at dksX4_count_3 22 rfl rfl)
theorem dX4_count_151 : decode cX4_count 151 = .ok (.iadd, 1) := dk_96 (dk_at dksX4_count_3 23 rfl rfl)
theorem dX4_count_152 : decode cX4_count 152 = .ok (.bipush 20, 2) := dk_16 20 (dk_at dksX4_count_4 0 rfl rfl)
theorem dX4_count_154 : decode cX4_count 154 = .ok (.isub, 1) := dk_100 (dk_at dksX4_count_4 2 rfl rfl)
theorem dX4_count_155 : decode cX4_count 155 = .ok (.iaload, 1) := dk_46 (dk_at dksX4_count_4 3 rfl rfl)
theorem dX4_count_156 : decode cX4_count 156 = .ok (.ireturn, 1) := dk_172 (dk_at dksX4_count_4 4 rfl rfl)
theorem dX4_count_157 : decode cX4_count 157 = .ok (.ldc 41, 2) := dk_18 41 (dk_at dksX4_count_4 5 rfl rfl)
theorem dX4_count_159 : decode cX4_count 159 = .ok (.ireturn, 1) := dk_172 (dk_at dksX4_count_4 7 rfl rfl)
abbrev cX4_undo : ByteArray := prog_11_method_50_code
def yX4_undo : MethodName := ⟨RX4, "undo", "()I"⟩
def dkwX4_undo_2 : List UInt8 := [96, 46, 79, 132, 1, 1, 167, 255, 225, 42, 180, 0, 29, 172]
abbrev dktX4_undo_2 : List UInt8 := dkwX4_undo_2 ++ []
def dkwX4_undo_1 : List UInt8 := [17, 2, 206, 162, 0, 30, 42, 180, 0, 7, 27, 42, 180, 0, 13, 17, 2, 206, 42, 180, 0, 29, 104, 27]
abbrev dktX4_undo_1 : List UInt8 := dkwX4_undo_1 ++ dktX4_undo_2
def dkwX4_undo_0 : List UInt8 := [42, 180, 0, 29, 154, 0, 6, 18, 42, 172, 42, 89, 180, 0, 29, 4, 100, 181, 0, 29, 3, 60, 27]
abbrev dktX4_undo_0 : List UInt8 := dkwX4_undo_0 ++ dktX4_undo_1
theorem dksX4_undo_0 : cX4_undo.data.toList.drop 0 = dktX4_undo_0 := by decide +kernel
theorem dksX4_undo_1 : cX4_undo.data.toList.drop 23 = dktX4_undo_1 := dk_seg dksX4_undo_0 23 rfl rfl
theorem dksX4_undo_2 : cX4_undo.data.toList.drop 47 = dktX4_undo_2 := dk_seg dksX4_undo_1 24 rfl rfl
theorem dX4_undo_0 : decode cX4_undo 0 = .ok (.aload_n 0, 1) := dk_42 (dk_at dksX4_undo_0 0 rfl rfl)
theorem dX4_undo_1 : decode cX4_undo 1 = .ok (.getfield 29, 3) := dk_180 0 29 (dk_at dksX4_undo_0 1 rfl rfl)
theorem dX4_undo_4 : decode cX4_undo 4 = .ok (.ifCond .ne 6, 3) := dk_154 0 6 (dk_at dksX4_undo_0 4 rfl rfl)
theorem dX4_undo_7 : decode cX4_undo 7 = .ok (.ldc 42, 2) := dk_18 42 (dk_at dksX4_undo_0 7 rfl rfl)
theorem dX4_undo_9 : decode cX4_undo 9 = .ok (.ireturn, 1) := dk_172 (dk_at dksX4_undo_0 9 rfl rfl)
theorem dX4_undo_10 : decode cX4_undo 10 = .ok (.aload_n 0, 1) := dk_42 (dk_at dksX4_undo_0 10 rfl rfl)
theorem dX4_undo_11 : decode cX4_undo 11 = .ok (.dup, 1) := dk_89 (dk_at dksX4_undo_0 11 rfl rfl)
theorem dX4_undo_12 : decode cX4_undo 12 = .ok (.getfield 29, 3) := dk_180 0 29 (dk_at dksX4_undo_0 12 rfl rfl)
theorem dX4_undo_15 : decode cX4_undo 15 = .ok (.iconst 1, 1) := dk_4 (dk_at dksX4_undo_0 15 rfl rfl)
theorem dX4_undo_16 : decode cX4_undo 16 = .ok (.isub, 1) := dk_100 (dk_at dksX4_undo_0 16 rfl rfl)
theorem dX4_undo_17 : decode cX4_undo 17 = .ok (.putfield 29, 3) := dk_181 0 29 (dk_at dksX4_undo_0 17 rfl rfl)
theorem dX4_undo_20 : decode cX4_undo 20 = .ok (.iconst 0, 1) := dk_3 (dk_at dksX4_undo_0 20 rfl rfl)
theorem dX4_undo_21 : decode cX4_undo 21 = .ok (.istore_n 1, 1) := dk_60 (dk_at dksX4_undo_0 21 rfl rfl)
theorem dX4_undo_22 : decode cX4_undo 22 = .ok (.iload_n 1, 1) := dk_27 (dk_at dksX4_undo_0 22 rfl rfl)
theorem dX4_undo_23 : decode cX4_undo 23 = .ok (.sipush 718, 3) := dk_17 2 206 (dk_at dksX4_undo_1 0 rfl rfl)
theorem dX4_undo_26 : decode cX4_undo 26 = .ok (.if_icmp .ge 30, 3) := dk_162 0 30 (dk_at dksX4_undo_1 3 rfl rfl)
theorem dX4_undo_29 : decode cX4_undo 29 = .ok (.aload_n 0, 1) := dk_42 (dk_at dksX4_undo_1 6 rfl rfl)
theorem dX4_undo_30 : decode cX4_undo 30 = .ok (.getfield 7, 3) := dk_180 0 7 (dk_at dksX4_undo_1 7 rfl rfl)
theorem dX4_undo_33 : decode cX4_undo 33 = .ok (.iload_n 1, 1) := dk_27 (dk_at dksX4_undo_1 10 rfl rfl)
theorem dX4_undo_34 : decode cX4_undo 34 = .ok (.aload_n 0, 1) := dk_42 (dk_at dksX4_undo_1 11 rfl rfl)
theorem dX4_undo_35 : decode cX4_undo 35 = .ok (.getfield 13, 3) := dk_180 0 13 (dk_at dksX4_undo_1 12 rfl rfl)
theorem dX4_undo_38 : decode cX4_undo 38 = .ok (.sipush 718, 3) := dk_17 2 206 (dk_at dksX4_undo_1 15 rfl rfl)
theorem dX4_undo_41 : decode cX4_undo 41 = .ok (.aload_n 0, 1) := dk_42 (dk_at dksX4_undo_1 18 rfl rfl)
theorem dX4_undo_42 : decode cX4_undo 42 = .ok (.getfield 29, 3) := dk_180 0 29 (dk_at dksX4_undo_1 19 rfl rfl)
theorem dX4_undo_45 : decode cX4_undo 45 = .ok (.imul, 1) := dk_104 (dk_at dksX4_undo_1 22 rfl rfl)
theorem dX4_undo_46 : decode cX4_undo 46 = .ok (.iload_n 1, 1) := dk_27 (dk_at dksX4_undo_1 23 rfl rfl)
theorem dX4_undo_47 : decode cX4_undo 47 = .ok (.iadd, 1) := dk_96 (dk_at dksX4_undo_2 0 rfl rfl)
theorem dX4_undo_48 : decode cX4_undo 48 = .ok (.iaload, 1) := dk_46 (dk_at dksX4_undo_2 1 rfl rfl)
theorem dX4_undo_49 : decode cX4_undo 49 = .ok (.iastore, 1) := dk_79 (dk_at dksX4_undo_2 2 rfl rfl)
theorem dX4_undo_50 : decode cX4_undo 50 = .ok (.iinc 1 1, 3) := dk_132 1 1 (dk_at dksX4_undo_2 3 rfl rfl)
theorem dX4_undo_53 : decode cX4_undo 53 = .ok (.goto (-31), 3) := dk_167 255 225 (dk_at dksX4_undo_2 6 rfl rfl)
theorem dX4_undo_56 : decode cX4_undo 56 = .ok (.aload_n 0, 1) := dk_42 (dk_at dksX4_undo_2 9 rfl rfl)
theorem dX4_undo_57 : decode cX4_undo 57 = .ok (.getfield 29, 3) := dk_180 0 29 (dk_at dksX4_undo_2 10 rfl rfl)
theorem dX4_undo_60 : decode cX4_undo 60 = .ok (.ireturn, 1) := dk_172 (dk_at dksX4_undo_2 13 rfl rfl)
abbrev cX4_type : ByteArray := prog_11_method_51_code
def yX4_type : MethodName := ⟨RX4, "type", "(I)I"⟩
def dkwX4_type_2 : List UInt8 := [180, 0, 117, 172]
abbrev dktX4_type_2 : List UInt8 := dkwX4_type_2 ++ []
def dkwX4_type_1 : List UInt8 := [18, 46, 172, 42, 180, 0, 19, 42, 180, 0, 117, 27, 79, 42, 89, 180, 0, 117, 4, 96, 181, 0, 117, 42]
abbrev dktX4_type_1 : List UInt8 := dkwX4_type_1 ++ dktX4_type_2
def dkwX4_type_0 : List UInt8 := [27, 16, 32, 16, 126, 184, 0, 33, 154, 0, 6, 18, 41, 172, 42, 180, 0, 117, 16, 60, 160, 0, 6]
abbrev dktX4_type_0 : List UInt8 := dkwX4_type_0 ++ dktX4_type_1
theorem dksX4_type_0 : cX4_type.data.toList.drop 0 = dktX4_type_0 := by decide +kernel
theorem dksX4_type_1 : cX4_type.data.toList.drop 23 = dktX4_type_1 := dk_seg dksX4_type_0 23 rfl rfl
theorem dksX4_type_2 : cX4_type.data.toList.drop 47 = dktX4_type_2 := dk_seg dksX4_type_1 24 rfl rfl
theorem dX4_type_0 : decode cX4_type 0 = .ok (.iload_n 1, 1) := dk_27 (dk_at dksX4_type_0 0 rfl rfl)
theorem dX4_type_1 : decode cX4_type 1 = .ok (.bipush 32, 2) := dk_16 32 (dk_at dksX4_type_0 1 rfl rfl)
theorem dX4_type_3 : decode cX4_type 3 = .ok (.bipush 126, 2) := dk_16 126 (dk_at dksX4_type_0 3 rfl rfl)
theorem dX4_type_5 : decode cX4_type 5 = .ok (.invokestatic 33, 3) := dk_184 0 33 (dk_at dksX4_type_0 5 rfl rfl)
theorem dX4_type_8 : decode cX4_type 8 = .ok (.ifCond .ne 6, 3) := dk_154 0 6 (dk_at dksX4_type_0 8 rfl rfl)
theorem dX4_type_11 : decode cX4_type 11 = .ok (.ldc 41, 2) := dk_18 41 (dk_at dksX4_type_0 11 rfl rfl)
theorem dX4_type_13 : decode cX4_type 13 = .ok (.ireturn, 1) := dk_172 (dk_at dksX4_type_0 13 rfl rfl)
theorem dX4_type_14 : decode cX4_type 14 = .ok (.aload_n 0, 1) := dk_42 (dk_at dksX4_type_0 14 rfl rfl)
theorem dX4_type_15 : decode cX4_type 15 = .ok (.getfield 117, 3) := dk_180 0 117 (dk_at dksX4_type_0 15 rfl rfl)
theorem dX4_type_18 : decode cX4_type 18 = .ok (.bipush 60, 2) := dk_16 60 (dk_at dksX4_type_0 18 rfl rfl)
theorem dX4_type_20 : decode cX4_type 20 = .ok (.if_icmp .ne 6, 3) := dk_160 0 6 (dk_at dksX4_type_0 20 rfl rfl)
theorem dX4_type_23 : decode cX4_type 23 = .ok (.ldc 46, 2) := dk_18 46 (dk_at dksX4_type_1 0 rfl rfl)
theorem dX4_type_25 : decode cX4_type 25 = .ok (.ireturn, 1) := dk_172 (dk_at dksX4_type_1 2 rfl rfl)
theorem dX4_type_26 : decode cX4_type 26 = .ok (.aload_n 0, 1) := dk_42 (dk_at dksX4_type_1 3 rfl rfl)
theorem dX4_type_27 : decode cX4_type 27 = .ok (.getfield 19, 3) := dk_180 0 19 (dk_at dksX4_type_1 4 rfl rfl)
theorem dX4_type_30 : decode cX4_type 30 = .ok (.aload_n 0, 1) := dk_42 (dk_at dksX4_type_1 7 rfl rfl)
theorem dX4_type_31 : decode cX4_type 31 = .ok (.getfield 117, 3) := dk_180 0 117 (dk_at dksX4_type_1 8 rfl rfl)
theorem dX4_type_34 : decode cX4_type 34 = .ok (.iload_n 1, 1) := dk_27 (dk_at dksX4_type_1 11 rfl rfl)
theorem dX4_type_35 : decode cX4_type 35 = .ok (.iastore, 1) := dk_79 (dk_at dksX4_type_1 12 rfl rfl)
theorem dX4_type_36 : decode cX4_type 36 = .ok (.aload_n 0, 1) := dk_42 (dk_at dksX4_type_1 13 rfl rfl)
theorem dX4_type_37 : decode cX4_type 37 = .ok (.dup, 1) := dk_89 (dk_at dksX4_type_1 14 rfl rfl)
theorem dX4_type_38 : decode cX4_type 38 = .ok (.getfield 117, 3) := dk_180 0 117 (dk_at dksX4_type_1 15 rfl rfl)
theorem dX4_type_41 : decode cX4_type 41 = .ok (.iconst 1, 1) := dk_4 (dk_at dksX4_type_1 18 rfl rfl)
theorem dX4_type_42 : decode cX4_type 42 = .ok (.iadd, 1) := dk_96 (dk_at dksX4_type_1 19 rfl rfl)
theorem dX4_type_43 : decode cX4_type 43 = .ok (.putfield 117, 3) := dk_181 0 117 (dk_at dksX4_type_1 20 rfl rfl)
theorem dX4_type_46 : decode cX4_type 46 = .ok (.aload_n 0, 1) := dk_42 (dk_at dksX4_type_1 23 rfl rfl)
theorem dX4_type_47 : decode cX4_type 47 = .ok (.getfield 117, 3) := dk_180 0 117 (dk_at dksX4_type_2 0 rfl rfl)
theorem dX4_type_50 : decode cX4_type 50 = .ok (.ireturn, 1) := dk_172 (dk_at dksX4_type_2 3 rfl rfl)
abbrev cX4_clearText : ByteArray := prog_11_method_52_code
def yX4_clearText : MethodName := ⟨RX4, "clearText", "()I"⟩
def dkwX4_clearText_0 : List UInt8 := [42, 180, 0, 117, 60, 42, 3, 181, 0, 117, 27, 172]
abbrev dktX4_clearText_0 : List UInt8 := dkwX4_clearText_0 ++ []
theorem dksX4_clearText_0 : cX4_clearText.data.toList.drop 0 = dktX4_clearText_0 := by decide +kernel
theorem dX4_clearText_0 : decode cX4_clearText 0 = .ok (.aload_n 0, 1) := dk_42 (dk_at dksX4_clearText_0 0 rfl rfl)
theorem dX4_clearText_1 : decode cX4_clearText 1 = .ok (.getfield 117, 3) := dk_180 0 117 (dk_at dksX4_clearText_0 1 rfl rfl)
theorem dX4_clearText_4 : decode cX4_clearText 4 = .ok (.istore_n 1, 1) := dk_60 (dk_at dksX4_clearText_0 4 rfl rfl)
theorem dX4_clearText_5 : decode cX4_clearText 5 = .ok (.aload_n 0, 1) := dk_42 (dk_at dksX4_clearText_0 5 rfl rfl)
theorem dX4_clearText_6 : decode cX4_clearText 6 = .ok (.iconst 0, 1) := dk_3 (dk_at dksX4_clearText_0 6 rfl rfl)
theorem dX4_clearText_7 : decode cX4_clearText 7 = .ok (.putfield 117, 3) := dk_181 0 117 (dk_at dksX4_clearText_0 7 rfl rfl)
theorem dX4_clearText_10 : decode cX4_clearText 10 = .ok (.iload_n 1, 1) := dk_27 (dk_at dksX4_clearText_0 10 rfl rfl)
theorem dX4_clearText_11 : decode cX4_clearText 11 = .ok (.ireturn, 1) := dk_172 (dk_at dksX4_clearText_0 11 rfl rfl)
abbrev cX4_fault : ByteArray := prog_11_method_59_code
def yX4_fault : MethodName := ⟨RX4, "fault", "(I)I"⟩
def dkwX4_fault_3 : List UInt8 := [180, 0, 171, 172]
abbrev dktX4_fault_3 : List UInt8 := dkwX4_fault_3 ++ []
def dkwX4_fault_2 : List UInt8 := [27, 154, 0, 10, 42, 180, 0, 154, 167, 0, 19, 27, 4, 160, 0, 10, 42, 180, 0, 168, 167, 0, 7, 42]
abbrev dktX4_fault_2 : List UInt8 := dkwX4_fault_2 ++ dktX4_fault_3
def dkwX4_fault_1 : List UInt8 := [182, 0, 178, 61, 42, 180, 0, 16, 42, 180, 0, 7, 184, 0, 174, 28, 153, 0, 8, 18, 58, 167, 0, 30]
abbrev dktX4_fault_1 : List UInt8 := dkwX4_fault_1 ++ dktX4_fault_2
def dkwX4_fault_0 : List UInt8 := [27, 3, 5, 184, 0, 33, 154, 0, 6, 18, 41, 172, 42, 180, 0, 7, 42, 180, 0, 16, 184, 0, 174, 42]
abbrev dktX4_fault_0 : List UInt8 := dkwX4_fault_0 ++ dktX4_fault_1
theorem dksX4_fault_0 : cX4_fault.data.toList.drop 0 = dktX4_fault_0 := by decide +kernel
theorem dksX4_fault_1 : cX4_fault.data.toList.drop 24 = dktX4_fault_1 := dk_seg dksX4_fault_0 24 rfl rfl
theorem dksX4_fault_2 : cX4_fault.data.toList.drop 48 = dktX4_fault_2 := dk_seg dksX4_fault_1 24 rfl rfl
theorem dksX4_fault_3 : cX4_fault.data.toList.drop 72 = dktX4_fault_3 := dk_seg dksX4_fault_2 24 rfl rfl
theorem dX4_fault_0 : decode cX4_fault 0 = .ok (.iload_n 1, 1) := dk_27 (dk_at dksX4_fault_0 0 rfl rfl)
theorem dX4_fault_1 : decode cX4_fault 1 = .ok (.iconst 0, 1) := dk_3 (dk_at dksX4_fault_0 1 rfl rfl)
theorem dX4_fault_2 : decode cX4_fault 2 = .ok (.iconst 2, 1) := dk_5 (dk_at dksX4_fault_0 2 rfl rfl)
theorem dX4_fault_3 : decode cX4_fault 3 = .ok (.invokestatic 33, 3) := dk_184 0 33 (dk_at dksX4_fault_0 3 rfl rfl)
theorem dX4_fault_6 : decode cX4_fault 6 = .ok (.ifCond .ne 6, 3) := dk_154 0 6 (dk_at dksX4_fault_0 6 rfl rfl)
theorem dX4_fault_9 : decode cX4_fault 9 = .ok (.ldc 41, 2) := dk_18 41 (dk_at dksX4_fault_0 9 rfl rfl)
theorem dX4_fault_11 : decode cX4_fault 11 = .ok (.ireturn, 1) := dk_172 (dk_at dksX4_fault_0 11 rfl rfl)
theorem dX4_fault_12 : decode cX4_fault 12 = .ok (.aload_n 0, 1) := dk_42 (dk_at dksX4_fault_0 12 rfl rfl)
theorem dX4_fault_13 : decode cX4_fault 13 = .ok (.getfield 7, 3) := dk_180 0 7 (dk_at dksX4_fault_0 13 rfl rfl)
theorem dX4_fault_16 : decode cX4_fault 16 = .ok (.aload_n 0, 1) := dk_42 (dk_at dksX4_fault_0 16 rfl rfl)
theorem dX4_fault_17 : decode cX4_fault 17 = .ok (.getfield 16, 3) := dk_180 0 16 (dk_at dksX4_fault_0 17 rfl rfl)
theorem dX4_fault_20 : decode cX4_fault 20 = .ok (.invokestatic 174, 3) := dk_184 0 174 (dk_at dksX4_fault_0 20 rfl rfl)
theorem dX4_fault_23 : decode cX4_fault 23 = .ok (.aload_n 0, 1) := dk_42 (dk_at dksX4_fault_0 23 rfl rfl)
theorem dX4_fault_24 : decode cX4_fault 24 = .ok (.invokevirtual 178, 3) := dk_182 0 178 (dk_at dksX4_fault_1 0 rfl rfl)
theorem dX4_fault_27 : decode cX4_fault 27 = .ok (.istore_n 2, 1) := dk_61 (dk_at dksX4_fault_1 3 rfl rfl)
theorem dX4_fault_28 : decode cX4_fault 28 = .ok (.aload_n 0, 1) := dk_42 (dk_at dksX4_fault_1 4 rfl rfl)
theorem dX4_fault_29 : decode cX4_fault 29 = .ok (.getfield 16, 3) := dk_180 0 16 (dk_at dksX4_fault_1 5 rfl rfl)
theorem dX4_fault_32 : decode cX4_fault 32 = .ok (.aload_n 0, 1) := dk_42 (dk_at dksX4_fault_1 8 rfl rfl)
theorem dX4_fault_33 : decode cX4_fault 33 = .ok (.getfield 7, 3) := dk_180 0 7 (dk_at dksX4_fault_1 9 rfl rfl)
theorem dX4_fault_36 : decode cX4_fault 36 = .ok (.invokestatic 174, 3) := dk_184 0 174 (dk_at dksX4_fault_1 12 rfl rfl)
theorem dX4_fault_39 : decode cX4_fault 39 = .ok (.iload_n 2, 1) := dk_28 (dk_at dksX4_fault_1 15 rfl rfl)
theorem dX4_fault_40 : decode cX4_fault 40 = .ok (.ifCond .eq 8, 3) := dk_153 0 8 (dk_at dksX4_fault_1 16 rfl rfl)
theorem dX4_fault_43 : decode cX4_fault 43 = .ok (.ldc 58, 2) := dk_18 58 (dk_at dksX4_fault_1 19 rfl rfl)
theorem dX4_fault_45 : decode cX4_fault 45 = .ok (.goto 30, 3) := dk_167 0 30 (dk_at dksX4_fault_1 21 rfl rfl)
theorem dX4_fault_48 : decode cX4_fault 48 = .ok (.iload_n 1, 1) := dk_27 (dk_at dksX4_fault_2 0 rfl rfl)
theorem dX4_fault_49 : decode cX4_fault 49 = .ok (.ifCond .ne 10, 3) := dk_154 0 10 (dk_at dksX4_fault_2 1 rfl rfl)
theorem dX4_fault_52 : decode cX4_fault 52 = .ok (.aload_n 0, 1) := dk_42 (dk_at dksX4_fault_2 4 rfl rfl)
theorem dX4_fault_53 : decode cX4_fault 53 = .ok (.getfield 154, 3) := dk_180 0 154 (dk_at dksX4_fault_2 5 rfl rfl)
theorem dX4_fault_56 : decode cX4_fault 56 = .ok (.goto 19, 3) := dk_167 0 19 (dk_at dksX4_fault_2 8 rfl rfl)
theorem dX4_fault_59 : decode cX4_fault 59 = .ok (.iload_n 1, 1) := dk_27 (dk_at dksX4_fault_2 11 rfl rfl)
theorem dX4_fault_60 : decode cX4_fault 60 = .ok (.iconst 1, 1) := dk_4 (dk_at dksX4_fault_2 12 rfl rfl)
theorem dX4_fault_61 : decode cX4_fault 61 = .ok (.if_icmp .ne 10, 3) := dk_160 0 10 (dk_at dksX4_fault_2 13 rfl rfl)
theorem dX4_fault_64 : decode cX4_fault 64 = .ok (.aload_n 0, 1) := dk_42 (dk_at dksX4_fault_2 16 rfl rfl)
theorem dX4_fault_65 : decode cX4_fault 65 = .ok (.getfield 168, 3) := dk_180 0 168 (dk_at dksX4_fault_2 17 rfl rfl)
theorem dX4_fault_68 : decode cX4_fault 68 = .ok (.goto 7, 3) := dk_167 0 7 (dk_at dksX4_fault_2 20 rfl rfl)
theorem dX4_fault_71 : decode cX4_fault 71 = .ok (.aload_n 0, 1) := dk_42 (dk_at dksX4_fault_2 23 rfl rfl)
theorem dX4_fault_72 : decode cX4_fault 72 = .ok (.getfield 171, 3) := dk_180 0 171 (dk_at dksX4_fault_3 0 rfl rfl)
theorem dX4_fault_75 : decode cX4_fault 75 = .ok (.ireturn, 1) := dk_172 (dk_at dksX4_fault_3 3 rfl rfl)
abbrev cX4_copies : ByteArray := prog_11_method_4_code
def yX4_copies : MethodName := ⟨RX4, "copies", "([I[I)V"⟩
def dkwX4_copies_0 : List UInt8 := [3, 61, 28, 17, 2, 206, 162, 0, 15, 43, 28, 42, 28, 46, 79, 132, 2, 1, 167, 255, 240, 177]
abbrev dktX4_copies_0 : List UInt8 := dkwX4_copies_0 ++ []
theorem dksX4_copies_0 : cX4_copies.data.toList.drop 0 = dktX4_copies_0 := by decide +kernel
theorem dX4_copies_0 : decode cX4_copies 0 = .ok (.iconst 0, 1) := dk_3 (dk_at dksX4_copies_0 0 rfl rfl)
theorem dX4_copies_1 : decode cX4_copies 1 = .ok (.istore_n 2, 1) := dk_61 (dk_at dksX4_copies_0 1 rfl rfl)
theorem dX4_copies_2 : decode cX4_copies 2 = .ok (.iload_n 2, 1) := dk_28 (dk_at dksX4_copies_0 2 rfl rfl)
theorem dX4_copies_3 : decode cX4_copies 3 = .ok (.sipush 718, 3) := dk_17 2 206 (dk_at dksX4_copies_0 3 rfl rfl)
theorem dX4_copies_6 : decode cX4_copies 6 = .ok (.if_icmp .ge 15, 3) := dk_162 0 15 (dk_at dksX4_copies_0 6 rfl rfl)
theorem dX4_copies_9 : decode cX4_copies 9 = .ok (.aload_n 1, 1) := dk_43 (dk_at dksX4_copies_0 9 rfl rfl)
theorem dX4_copies_10 : decode cX4_copies 10 = .ok (.iload_n 2, 1) := dk_28 (dk_at dksX4_copies_0 10 rfl rfl)
theorem dX4_copies_11 : decode cX4_copies 11 = .ok (.aload_n 0, 1) := dk_42 (dk_at dksX4_copies_0 11 rfl rfl)
theorem dX4_copies_12 : decode cX4_copies 12 = .ok (.iload_n 2, 1) := dk_28 (dk_at dksX4_copies_0 12 rfl rfl)
theorem dX4_copies_13 : decode cX4_copies 13 = .ok (.iaload, 1) := dk_46 (dk_at dksX4_copies_0 13 rfl rfl)
theorem dX4_copies_14 : decode cX4_copies 14 = .ok (.iastore, 1) := dk_79 (dk_at dksX4_copies_0 14 rfl rfl)
theorem dX4_copies_15 : decode cX4_copies 15 = .ok (.iinc 2 1, 3) := dk_132 2 1 (dk_at dksX4_copies_0 15 rfl rfl)
theorem dX4_copies_18 : decode cX4_copies 18 = .ok (.goto (-16), 3) := dk_167 255 240 (dk_at dksX4_copies_0 18 rfl rfl)
theorem dX4_copies_21 : decode cX4_copies 21 = .ok (.return_, 1) := dk_177 (dk_at dksX4_copies_0 21 rfl rfl)
abbrev cX4_plays : ByteArray := prog_11_method_58_code
def yX4_plays : MethodName := ⟨RX4, "plays", "()Z"⟩
def dkwX4_plays_5 : List UInt8 := [4, 96, 181, 0, 157, 167, 255, 157, 42, 3, 181, 0, 25, 27, 172]
abbrev dktX4_plays_5 : List UInt8 := dkwX4_plays_5 ++ []
def dkwX4_plays_4 : List UInt8 := [153, 0, 7, 29, 167, 0, 12, 42, 180, 0, 120, 42, 180, 0, 154, 100, 181, 0, 171, 42, 89, 180, 0, 157]
abbrev dktX4_plays_4 : List UInt8 := dkwX4_plays_4 ++ dktX4_plays_5
def dkwX4_plays_3 : List UInt8 := [155, 0, 7, 4, 167, 0, 4, 3, 60, 42, 28, 153, 0, 7, 5, 167, 0, 4, 4, 181, 0, 168, 42, 28]
abbrev dktX4_plays_3 : List UInt8 := dkwX4_plays_3 ++ dktX4_plays_4
def dkwX4_plays_2 : List UInt8 := [182, 0, 160, 61, 28, 153, 0, 10, 42, 182, 0, 164, 167, 0, 4, 3, 62, 28, 153, 0, 11, 29]
abbrev dktX4_plays_2 : List UInt8 := dkwX4_plays_2 ++ dktX4_plays_3
def dkwX4_plays_1 : List UInt8 := [180, 0, 120, 42, 180, 0, 117, 162, 0, 94, 27, 153, 0, 90, 42, 42, 180, 0, 120, 181, 0, 154, 42]
abbrev dktX4_plays_1 : List UInt8 := dkwX4_plays_1 ++ dktX4_plays_2
def dkwX4_plays_0 : List UInt8 := [42, 4, 181, 0, 25, 42, 3, 181, 0, 120, 42, 3, 181, 0, 154, 42, 3, 181, 0, 157, 4, 60, 42]
abbrev dktX4_plays_0 : List UInt8 := dkwX4_plays_0 ++ dktX4_plays_1
theorem dksX4_plays_0 : cX4_plays.data.toList.drop 0 = dktX4_plays_0 := by decide +kernel
theorem dksX4_plays_1 : cX4_plays.data.toList.drop 23 = dktX4_plays_1 := dk_seg dksX4_plays_0 23 rfl rfl
theorem dksX4_plays_2 : cX4_plays.data.toList.drop 46 = dktX4_plays_2 := dk_seg dksX4_plays_1 23 rfl rfl
theorem dksX4_plays_3 : cX4_plays.data.toList.drop 68 = dktX4_plays_3 := dk_seg dksX4_plays_2 22 rfl rfl
theorem dksX4_plays_4 : cX4_plays.data.toList.drop 92 = dktX4_plays_4 := dk_seg dksX4_plays_3 24 rfl rfl
theorem dksX4_plays_5 : cX4_plays.data.toList.drop 116 = dktX4_plays_5 := dk_seg dksX4_plays_4 24 rfl rfl
theorem dX4_plays_0 : decode cX4_plays 0 = .ok (.aload_n 0, 1) := dk_42 (dk_at dksX4_plays_0 0 rfl rfl)
theorem dX4_plays_1 : decode cX4_plays 1 = .ok (.iconst 1, 1) := dk_4 (dk_at dksX4_plays_0 1 rfl rfl)
theorem dX4_plays_2 : decode cX4_plays 2 = .ok (.putfield 25, 3) := dk_181 0 25 (dk_at dksX4_plays_0 2 rfl rfl)
theorem dX4_plays_5 : decode cX4_plays 5 = .ok (.aload_n 0, 1) := dk_42 (dk_at dksX4_plays_0 5 rfl rfl)
theorem dX4_plays_6 : decode cX4_plays 6 = .ok (.iconst 0, 1) := dk_3 (dk_at dksX4_plays_0 6 rfl rfl)
theorem dX4_plays_7 : decode cX4_plays 7 = .ok (.putfield 120, 3) := dk_181 0 120 (dk_at dksX4_plays_0 7 rfl rfl)
theorem dX4_plays_10 : decode cX4_plays 10 = .ok (.aload_n 0, 1) := dk_42 (dk_at dksX4_plays_0 10 rfl rfl)
theorem dX4_plays_11 : decode cX4_plays 11 = .ok (.iconst 0, 1) := dk_3 (dk_at dksX4_plays_0 11 rfl rfl)
theorem dX4_plays_12 : decode cX4_plays 12 = .ok (.putfield 154, 3) := dk_181 0 154 (dk_at dksX4_plays_0 12 rfl rfl)
theorem dX4_plays_15 : decode cX4_plays 15 = .ok (.aload_n 0, 1) := dk_42 (dk_at dksX4_plays_0 15 rfl rfl)
theorem dX4_plays_16 : decode cX4_plays 16 = .ok (.iconst 0, 1) := dk_3 (dk_at dksX4_plays_0 16 rfl rfl)
theorem dX4_plays_17 : decode cX4_plays 17 = .ok (.putfield 157, 3) := dk_181 0 157 (dk_at dksX4_plays_0 17 rfl rfl)
theorem dX4_plays_20 : decode cX4_plays 20 = .ok (.iconst 1, 1) := dk_4 (dk_at dksX4_plays_0 20 rfl rfl)
theorem dX4_plays_21 : decode cX4_plays 21 = .ok (.istore_n 1, 1) := dk_60 (dk_at dksX4_plays_0 21 rfl rfl)
theorem dX4_plays_22 : decode cX4_plays 22 = .ok (.aload_n 0, 1) := dk_42 (dk_at dksX4_plays_0 22 rfl rfl)
theorem dX4_plays_23 : decode cX4_plays 23 = .ok (.getfield 120, 3) := dk_180 0 120 (dk_at dksX4_plays_1 0 rfl rfl)
theorem dX4_plays_26 : decode cX4_plays 26 = .ok (.aload_n 0, 1) := dk_42 (dk_at dksX4_plays_1 3 rfl rfl)
theorem dX4_plays_27 : decode cX4_plays 27 = .ok (.getfield 117, 3) := dk_180 0 117 (dk_at dksX4_plays_1 4 rfl rfl)
theorem dX4_plays_30 : decode cX4_plays 30 = .ok (.if_icmp .ge 94, 3) := dk_162 0 94 (dk_at dksX4_plays_1 7 rfl rfl)
theorem dX4_plays_33 : decode cX4_plays 33 = .ok (.iload_n 1, 1) := dk_27 (dk_at dksX4_plays_1 10 rfl rfl)
theorem dX4_plays_34 : decode cX4_plays 34 = .ok (.ifCond .eq 90, 3) := dk_153 0 90 (dk_at dksX4_plays_1 11 rfl rfl)
theorem dX4_plays_37 : decode cX4_plays 37 = .ok (.aload_n 0, 1) := dk_42 (dk_at dksX4_plays_1 14 rfl rfl)
theorem dX4_plays_38 : decode cX4_plays 38 = .ok (.aload_n 0, 1) := dk_42 (dk_at dksX4_plays_1 15 rfl rfl)
theorem dX4_plays_39 : decode cX4_plays 39 = .ok (.getfield 120, 3) := dk_180 0 120 (dk_at dksX4_plays_1 16 rfl rfl)
theorem dX4_plays_42 : decode cX4_plays 42 = .ok (.putfield 154, 3) := dk_181 0 154 (dk_at dksX4_plays_1 19 rfl rfl)
theorem dX4_plays_45 : decode cX4_plays 45 = .ok (.aload_n 0, 1) := dk_42 (dk_at dksX4_plays_1 22 rfl rfl)
theorem dX4_plays_46 : decode cX4_plays 46 = .ok (.invokevirtual 160, 3) := dk_182 0 160 (dk_at dksX4_plays_2 0 rfl rfl)
theorem dX4_plays_49 : decode cX4_plays 49 = .ok (.istore_n 2, 1) := dk_61 (dk_at dksX4_plays_2 3 rfl rfl)
theorem dX4_plays_50 : decode cX4_plays 50 = .ok (.iload_n 2, 1) := dk_28 (dk_at dksX4_plays_2 4 rfl rfl)
theorem dX4_plays_51 : decode cX4_plays 51 = .ok (.ifCond .eq 10, 3) := dk_153 0 10 (dk_at dksX4_plays_2 5 rfl rfl)
theorem dX4_plays_54 : decode cX4_plays 54 = .ok (.aload_n 0, 1) := dk_42 (dk_at dksX4_plays_2 8 rfl rfl)
theorem dX4_plays_55 : decode cX4_plays 55 = .ok (.invokevirtual 164, 3) := dk_182 0 164 (dk_at dksX4_plays_2 9 rfl rfl)
theorem dX4_plays_58 : decode cX4_plays 58 = .ok (.goto 4, 3) := dk_167 0 4 (dk_at dksX4_plays_2 12 rfl rfl)
theorem dX4_plays_61 : decode cX4_plays 61 = .ok (.iconst 0, 1) := dk_3 (dk_at dksX4_plays_2 15 rfl rfl)
theorem dX4_plays_62 : decode cX4_plays 62 = .ok (.istore_n 3, 1) := dk_62 (dk_at dksX4_plays_2 16 rfl rfl)
theorem dX4_plays_63 : decode cX4_plays 63 = .ok (.iload_n 2, 1) := dk_28 (dk_at dksX4_plays_2 17 rfl rfl)
theorem dX4_plays_64 : decode cX4_plays 64 = .ok (.ifCond .eq 11, 3) := dk_153 0 11 (dk_at dksX4_plays_2 18 rfl rfl)
theorem dX4_plays_67 : decode cX4_plays 67 = .ok (.iload_n 3, 1) := dk_29 (dk_at dksX4_plays_2 21 rfl rfl)
theorem dX4_plays_68 : decode cX4_plays 68 = .ok (.ifCond .lt 7, 3) := dk_155 0 7 (dk_at dksX4_plays_3 0 rfl rfl)
theorem dX4_plays_71 : decode cX4_plays 71 = .ok (.iconst 1, 1) := dk_4 (dk_at dksX4_plays_3 3 rfl rfl)
theorem dX4_plays_72 : decode cX4_plays 72 = .ok (.goto 4, 3) := dk_167 0 4 (dk_at dksX4_plays_3 4 rfl rfl)
theorem dX4_plays_75 : decode cX4_plays 75 = .ok (.iconst 0, 1) := dk_3 (dk_at dksX4_plays_3 7 rfl rfl)
theorem dX4_plays_76 : decode cX4_plays 76 = .ok (.istore_n 1, 1) := dk_60 (dk_at dksX4_plays_3 8 rfl rfl)
theorem dX4_plays_77 : decode cX4_plays 77 = .ok (.aload_n 0, 1) := dk_42 (dk_at dksX4_plays_3 9 rfl rfl)
theorem dX4_plays_78 : decode cX4_plays 78 = .ok (.iload_n 2, 1) := dk_28 (dk_at dksX4_plays_3 10 rfl rfl)
theorem dX4_plays_79 : decode cX4_plays 79 = .ok (.ifCond .eq 7, 3) := dk_153 0 7 (dk_at dksX4_plays_3 11 rfl rfl)
theorem dX4_plays_82 : decode cX4_plays 82 = .ok (.iconst 2, 1) := dk_5 (dk_at dksX4_plays_3 14 rfl rfl)
theorem dX4_plays_83 : decode cX4_plays 83 = .ok (.goto 4, 3) := dk_167 0 4 (dk_at dksX4_plays_3 15 rfl rfl)
theorem dX4_plays_86 : decode cX4_plays 86 = .ok (.iconst 1, 1) := dk_4 (dk_at dksX4_plays_3 18 rfl rfl)
theorem dX4_plays_87 : decode cX4_plays 87 = .ok (.putfield 168, 3) := dk_181 0 168 (dk_at dksX4_plays_3 19 rfl rfl)
theorem dX4_plays_90 : decode cX4_plays 90 = .ok (.aload_n 0, 1) := dk_42 (dk_at dksX4_plays_3 22 rfl rfl)
theorem dX4_plays_91 : decode cX4_plays 91 = .ok (.iload_n 2, 1) := dk_28 (dk_at dksX4_plays_3 23 rfl rfl)
theorem dX4_plays_92 : decode cX4_plays 92 = .ok (.ifCond .eq 7, 3) := dk_153 0 7 (dk_at dksX4_plays_4 0 rfl rfl)
theorem dX4_plays_95 : decode cX4_plays 95 = .ok (.iload_n 3, 1) := dk_29 (dk_at dksX4_plays_4 3 rfl rfl)
theorem dX4_plays_96 : decode cX4_plays 96 = .ok (.goto 12, 3) := dk_167 0 12 (dk_at dksX4_plays_4 4 rfl rfl)
theorem dX4_plays_99 : decode cX4_plays 99 = .ok (.aload_n 0, 1) := dk_42 (dk_at dksX4_plays_4 7 rfl rfl)
theorem dX4_plays_100 : decode cX4_plays 100 = .ok (.getfield 120, 3) := dk_180 0 120 (dk_at dksX4_plays_4 8 rfl rfl)
theorem dX4_plays_103 : decode cX4_plays 103 = .ok (.aload_n 0, 1) := dk_42 (dk_at dksX4_plays_4 11 rfl rfl)
theorem dX4_plays_104 : decode cX4_plays 104 = .ok (.getfield 154, 3) := dk_180 0 154 (dk_at dksX4_plays_4 12 rfl rfl)
theorem dX4_plays_107 : decode cX4_plays 107 = .ok (.isub, 1) := dk_100 (dk_at dksX4_plays_4 15 rfl rfl)
theorem dX4_plays_108 : decode cX4_plays 108 = .ok (.putfield 171, 3) := dk_181 0 171 (dk_at dksX4_plays_4 16 rfl rfl)
theorem dX4_plays_111 : decode cX4_plays 111 = .ok (.aload_n 0, 1) := dk_42 (dk_at dksX4_plays_4 19 rfl rfl)
theorem dX4_plays_112 : decode cX4_plays 112 = .ok (.dup, 1) := dk_89 (dk_at dksX4_plays_4 20 rfl rfl)
theorem dX4_plays_113 : decode cX4_plays 113 = .ok (.getfield 157, 3) := dk_180 0 157 (dk_at dksX4_plays_4 21 rfl rfl)
theorem dX4_plays_116 : decode cX4_plays 116 = .ok (.iconst 1, 1) := dk_4 (dk_at dksX4_plays_5 0 rfl rfl)
theorem dX4_plays_117 : decode cX4_plays 117 = .ok (.iadd, 1) := dk_96 (dk_at dksX4_plays_5 1 rfl rfl)
theorem dX4_plays_118 : decode cX4_plays 118 = .ok (.putfield 157, 3) := dk_181 0 157 (dk_at dksX4_plays_5 2 rfl rfl)
theorem dX4_plays_121 : decode cX4_plays 121 = .ok (.goto (-99), 3) := dk_167 255 157 (dk_at dksX4_plays_5 5 rfl rfl)
theorem dX4_plays_124 : decode cX4_plays 124 = .ok (.aload_n 0, 1) := dk_42 (dk_at dksX4_plays_5 8 rfl rfl)
theorem dX4_plays_125 : decode cX4_plays 125 = .ok (.iconst 0, 1) := dk_3 (dk_at dksX4_plays_5 9 rfl rfl)
theorem dX4_plays_126 : decode cX4_plays 126 = .ok (.putfield 25, 3) := dk_181 0 25 (dk_at dksX4_plays_5 10 rfl rfl)
theorem dX4_plays_129 : decode cX4_plays 129 = .ok (.iload_n 1, 1) := dk_27 (dk_at dksX4_plays_5 13 rfl rfl)
theorem dX4_plays_130 : decode cX4_plays 130 = .ok (.ireturn, 1) := dk_172 (dk_at dksX4_plays_5 14 rfl rfl)
abbrev cX4_reads : ByteArray := prog_11_method_56_code
def yX4_reads : MethodName := ⟨RX4, "reads", "()Z"⟩
def dkwX4_reads_7 : List UInt8 := [153, 0, 16, 42, 16, 59, 182, 0, 132, 153, 0, 7, 4, 167, 0, 4, 3, 172]
abbrev dktX4_reads_7 : List UInt8 := dkwX4_reads_7 ++ []
def dkwX4_reads_6 : List UInt8 := [42, 180, 0, 126, 16, 112, 160, 0, 20, 42, 16, 61, 182, 0, 132, 153, 0, 24, 42, 5, 182, 0, 129]
abbrev dktX4_reads_6 : List UInt8 := dkwX4_reads_6 ++ dktX4_reads_7
def dkwX4_reads_5 : List UInt8 := [182, 0, 132, 153, 0, 15, 42, 4, 182, 0, 129, 153, 0, 7, 4, 167, 0, 4, 3, 61, 28, 153, 0, 42]
abbrev dktX4_reads_5 : List UInt8 := dkwX4_reads_5 ++ dktX4_reads_6
def dkwX4_reads_4 : List UInt8 := [89, 180, 0, 120, 4, 96, 181, 0, 120, 42, 3, 182, 0, 129, 153, 0, 28, 27, 154, 0, 20, 42, 16, 44]
abbrev dktX4_reads_4 : List UInt8 := dkwX4_reads_4 ++ dktX4_reads_5
def dkwX4_reads_3 : List UInt8 := [154, 0, 23, 42, 180, 0, 126, 16, 112, 159, 0, 14, 42, 180, 0, 126, 16, 115, 159, 0, 5, 3, 172, 42]
abbrev dktX4_reads_3 : List UInt8 := dkwX4_reads_3 ++ dktX4_reads_4
def dkwX4_reads_2 : List UInt8 := [180, 0, 126, 16, 97, 159, 0, 12, 42, 180, 0, 126, 16, 116, 160, 0, 7, 4, 167, 0, 4, 3, 60, 27]
abbrev dktX4_reads_2 : List UInt8 := dkwX4_reads_2 ++ dktX4_reads_3
def dkwX4_reads_1 : List UInt8 := [3, 181, 0, 126, 42, 180, 0, 126, 16, 111, 159, 0, 30, 42, 180, 0, 126, 16, 99, 159, 0, 21, 42]
abbrev dktX4_reads_1 : List UInt8 := dkwX4_reads_1 ++ dktX4_reads_2
def dkwX4_reads_0 : List UInt8 := [42, 42, 16, 33, 16, 126, 182, 0, 123, 153, 0, 15, 42, 180, 0, 19, 42, 180, 0, 120, 46, 167, 0, 4]
abbrev dktX4_reads_0 : List UInt8 := dkwX4_reads_0 ++ dktX4_reads_1
theorem dksX4_reads_0 : cX4_reads.data.toList.drop 0 = dktX4_reads_0 := by decide +kernel
theorem dksX4_reads_1 : cX4_reads.data.toList.drop 24 = dktX4_reads_1 := dk_seg dksX4_reads_0 24 rfl rfl
theorem dksX4_reads_2 : cX4_reads.data.toList.drop 47 = dktX4_reads_2 := dk_seg dksX4_reads_1 23 rfl rfl
theorem dksX4_reads_3 : cX4_reads.data.toList.drop 71 = dktX4_reads_3 := dk_seg dksX4_reads_2 24 rfl rfl
theorem dksX4_reads_4 : cX4_reads.data.toList.drop 95 = dktX4_reads_4 := dk_seg dksX4_reads_3 24 rfl rfl
theorem dksX4_reads_5 : cX4_reads.data.toList.drop 119 = dktX4_reads_5 := dk_seg dksX4_reads_4 24 rfl rfl
theorem dksX4_reads_6 : cX4_reads.data.toList.drop 143 = dktX4_reads_6 := dk_seg dksX4_reads_5 24 rfl rfl
theorem dksX4_reads_7 : cX4_reads.data.toList.drop 166 = dktX4_reads_7 := dk_seg dksX4_reads_6 23 rfl rfl
theorem dX4_reads_0 : decode cX4_reads 0 = .ok (.aload_n 0, 1) := dk_42 (dk_at dksX4_reads_0 0 rfl rfl)
theorem dX4_reads_1 : decode cX4_reads 1 = .ok (.aload_n 0, 1) := dk_42 (dk_at dksX4_reads_0 1 rfl rfl)
theorem dX4_reads_2 : decode cX4_reads 2 = .ok (.bipush 33, 2) := dk_16 33 (dk_at dksX4_reads_0 2 rfl rfl)
theorem dX4_reads_4 : decode cX4_reads 4 = .ok (.bipush 126, 2) := dk_16 126 (dk_at dksX4_reads_0 4 rfl rfl)
theorem dX4_reads_6 : decode cX4_reads 6 = .ok (.invokevirtual 123, 3) := dk_182 0 123 (dk_at dksX4_reads_0 6 rfl rfl)
theorem dX4_reads_9 : decode cX4_reads 9 = .ok (.ifCond .eq 15, 3) := dk_153 0 15 (dk_at dksX4_reads_0 9 rfl rfl)
theorem dX4_reads_12 : decode cX4_reads 12 = .ok (.aload_n 0, 1) := dk_42 (dk_at dksX4_reads_0 12 rfl rfl)
theorem dX4_reads_13 : decode cX4_reads 13 = .ok (.getfield 19, 3) := dk_180 0 19 (dk_at dksX4_reads_0 13 rfl rfl)
theorem dX4_reads_16 : decode cX4_reads 16 = .ok (.aload_n 0, 1) := dk_42 (dk_at dksX4_reads_0 16 rfl rfl)
theorem dX4_reads_17 : decode cX4_reads 17 = .ok (.getfield 120, 3) := dk_180 0 120 (dk_at dksX4_reads_0 17 rfl rfl)
theorem dX4_reads_20 : decode cX4_reads 20 = .ok (.iaload, 1) := dk_46 (dk_at dksX4_reads_0 20 rfl rfl)
theorem dX4_reads_21 : decode cX4_reads 21 = .ok (.goto 4, 3) := dk_167 0 4 (dk_at dksX4_reads_0 21 rfl rfl)
theorem dX4_reads_24 : decode cX4_reads 24 = .ok (.iconst 0, 1) := dk_3 (dk_at dksX4_reads_1 0 rfl rfl)
theorem dX4_reads_25 : decode cX4_reads 25 = .ok (.putfield 126, 3) := dk_181 0 126 (dk_at dksX4_reads_1 1 rfl rfl)
theorem dX4_reads_28 : decode cX4_reads 28 = .ok (.aload_n 0, 1) := dk_42 (dk_at dksX4_reads_1 4 rfl rfl)
theorem dX4_reads_29 : decode cX4_reads 29 = .ok (.getfield 126, 3) := dk_180 0 126 (dk_at dksX4_reads_1 5 rfl rfl)
theorem dX4_reads_32 : decode cX4_reads 32 = .ok (.bipush 111, 2) := dk_16 111 (dk_at dksX4_reads_1 8 rfl rfl)
theorem dX4_reads_34 : decode cX4_reads 34 = .ok (.if_icmp .eq 30, 3) := dk_159 0 30 (dk_at dksX4_reads_1 10 rfl rfl)
theorem dX4_reads_37 : decode cX4_reads 37 = .ok (.aload_n 0, 1) := dk_42 (dk_at dksX4_reads_1 13 rfl rfl)
theorem dX4_reads_38 : decode cX4_reads 38 = .ok (.getfield 126, 3) := dk_180 0 126 (dk_at dksX4_reads_1 14 rfl rfl)
theorem dX4_reads_41 : decode cX4_reads 41 = .ok (.bipush 99, 2) := dk_16 99 (dk_at dksX4_reads_1 17 rfl rfl)
theorem dX4_reads_43 : decode cX4_reads 43 = .ok (.if_icmp .eq 21, 3) := dk_159 0 21 (dk_at dksX4_reads_1 19 rfl rfl)
theorem dX4_reads_46 : decode cX4_reads 46 = .ok (.aload_n 0, 1) := dk_42 (dk_at dksX4_reads_1 22 rfl rfl)
theorem dX4_reads_47 : decode cX4_reads 47 = .ok (.getfield 126, 3) := dk_180 0 126 (dk_at dksX4_reads_2 0 rfl rfl)
theorem dX4_reads_50 : decode cX4_reads 50 = .ok (.bipush 97, 2) := dk_16 97 (dk_at dksX4_reads_2 3 rfl rfl)
theorem dX4_reads_52 : decode cX4_reads 52 = .ok (.if_icmp .eq 12, 3) := dk_159 0 12 (dk_at dksX4_reads_2 5 rfl rfl)
theorem dX4_reads_55 : decode cX4_reads 55 = .ok (.aload_n 0, 1) := dk_42 (dk_at dksX4_reads_2 8 rfl rfl)
theorem dX4_reads_56 : decode cX4_reads 56 = .ok (.getfield 126, 3) := dk_180 0 126 (dk_at dksX4_reads_2 9 rfl rfl)
theorem dX4_reads_59 : decode cX4_reads 59 = .ok (.bipush 116, 2) := dk_16 116 (dk_at dksX4_reads_2 12 rfl rfl)
theorem dX4_reads_61 : decode cX4_reads 61 = .ok (.if_icmp .ne 7, 3) := dk_160 0 7 (dk_at dksX4_reads_2 14 rfl rfl)
theorem dX4_reads_64 : decode cX4_reads 64 = .ok (.iconst 1, 1) := dk_4 (dk_at dksX4_reads_2 17 rfl rfl)
theorem dX4_reads_65 : decode cX4_reads 65 = .ok (.goto 4, 3) := dk_167 0 4 (dk_at dksX4_reads_2 18 rfl rfl)
theorem dX4_reads_68 : decode cX4_reads 68 = .ok (.iconst 0, 1) := dk_3 (dk_at dksX4_reads_2 21 rfl rfl)
theorem dX4_reads_69 : decode cX4_reads 69 = .ok (.istore_n 1, 1) := dk_60 (dk_at dksX4_reads_2 22 rfl rfl)
theorem dX4_reads_70 : decode cX4_reads 70 = .ok (.iload_n 1, 1) := dk_27 (dk_at dksX4_reads_2 23 rfl rfl)
theorem dX4_reads_71 : decode cX4_reads 71 = .ok (.ifCond .ne 23, 3) := dk_154 0 23 (dk_at dksX4_reads_3 0 rfl rfl)
theorem dX4_reads_74 : decode cX4_reads 74 = .ok (.aload_n 0, 1) := dk_42 (dk_at dksX4_reads_3 3 rfl rfl)
theorem dX4_reads_75 : decode cX4_reads 75 = .ok (.getfield 126, 3) := dk_180 0 126 (dk_at dksX4_reads_3 4 rfl rfl)
theorem dX4_reads_78 : decode cX4_reads 78 = .ok (.bipush 112, 2) := dk_16 112 (dk_at dksX4_reads_3 7 rfl rfl)
theorem dX4_reads_80 : decode cX4_reads 80 = .ok (.if_icmp .eq 14, 3) := dk_159 0 14 (dk_at dksX4_reads_3 9 rfl rfl)
theorem dX4_reads_83 : decode cX4_reads 83 = .ok (.aload_n 0, 1) := dk_42 (dk_at dksX4_reads_3 12 rfl rfl)
theorem dX4_reads_84 : decode cX4_reads 84 = .ok (.getfield 126, 3) := dk_180 0 126 (dk_at dksX4_reads_3 13 rfl rfl)
theorem dX4_reads_87 : decode cX4_reads 87 = .ok (.bipush 115, 2) := dk_16 115 (dk_at dksX4_reads_3 16 rfl rfl)
theorem dX4_reads_89 : decode cX4_reads 89 = .ok (.if_icmp .eq 5, 3) := dk_159 0 5 (dk_at dksX4_reads_3 18 rfl rfl)
theorem dX4_reads_92 : decode cX4_reads 92 = .ok (.iconst 0, 1) := dk_3 (dk_at dksX4_reads_3 21 rfl rfl)
theorem dX4_reads_93 : decode cX4_reads 93 = .ok (.ireturn, 1) := dk_172 (dk_at dksX4_reads_3 22 rfl rfl)
theorem dX4_reads_94 : decode cX4_reads 94 = .ok (.aload_n 0, 1) := dk_42 (dk_at dksX4_reads_3 23 rfl rfl)
theorem dX4_reads_95 : decode cX4_reads 95 = .ok (.dup, 1) := dk_89 (dk_at dksX4_reads_4 0 rfl rfl)
theorem dX4_reads_96 : decode cX4_reads 96 = .ok (.getfield 120, 3) := dk_180 0 120 (dk_at dksX4_reads_4 1 rfl rfl)
theorem dX4_reads_99 : decode cX4_reads 99 = .ok (.iconst 1, 1) := dk_4 (dk_at dksX4_reads_4 4 rfl rfl)
theorem dX4_reads_100 : decode cX4_reads 100 = .ok (.iadd, 1) := dk_96 (dk_at dksX4_reads_4 5 rfl rfl)
theorem dX4_reads_101 : decode cX4_reads 101 = .ok (.putfield 120, 3) := dk_181 0 120 (dk_at dksX4_reads_4 6 rfl rfl)
theorem dX4_reads_104 : decode cX4_reads 104 = .ok (.aload_n 0, 1) := dk_42 (dk_at dksX4_reads_4 9 rfl rfl)
theorem dX4_reads_105 : decode cX4_reads 105 = .ok (.iconst 0, 1) := dk_3 (dk_at dksX4_reads_4 10 rfl rfl)
theorem dX4_reads_106 : decode cX4_reads 106 = .ok (.invokevirtual 129, 3) := dk_182 0 129 (dk_at dksX4_reads_4 11 rfl rfl)
theorem dX4_reads_109 : decode cX4_reads 109 = .ok (.ifCond .eq 28, 3) := dk_153 0 28 (dk_at dksX4_reads_4 14 rfl rfl)
theorem dX4_reads_112 : decode cX4_reads 112 = .ok (.iload_n 1, 1) := dk_27 (dk_at dksX4_reads_4 17 rfl rfl)
theorem dX4_reads_113 : decode cX4_reads 113 = .ok (.ifCond .ne 20, 3) := dk_154 0 20 (dk_at dksX4_reads_4 18 rfl rfl)
theorem dX4_reads_116 : decode cX4_reads 116 = .ok (.aload_n 0, 1) := dk_42 (dk_at dksX4_reads_4 21 rfl rfl)
theorem dX4_reads_117 : decode cX4_reads 117 = .ok (.bipush 44, 2) := dk_16 44 (dk_at dksX4_reads_4 22 rfl rfl)
theorem dX4_reads_119 : decode cX4_reads 119 = .ok (.invokevirtual 132, 3) := dk_182 0 132 (dk_at dksX4_reads_5 0 rfl rfl)
theorem dX4_reads_122 : decode cX4_reads 122 = .ok (.ifCond .eq 15, 3) := dk_153 0 15 (dk_at dksX4_reads_5 3 rfl rfl)
theorem dX4_reads_125 : decode cX4_reads 125 = .ok (.aload_n 0, 1) := dk_42 (dk_at dksX4_reads_5 6 rfl rfl)
theorem dX4_reads_126 : decode cX4_reads 126 = .ok (.iconst 1, 1) := dk_4 (dk_at dksX4_reads_5 7 rfl rfl)
theorem dX4_reads_127 : decode cX4_reads 127 = .ok (.invokevirtual 129, 3) := dk_182 0 129 (dk_at dksX4_reads_5 8 rfl rfl)
theorem dX4_reads_130 : decode cX4_reads 130 = .ok (.ifCond .eq 7, 3) := dk_153 0 7 (dk_at dksX4_reads_5 11 rfl rfl)
theorem dX4_reads_133 : decode cX4_reads 133 = .ok (.iconst 1, 1) := dk_4 (dk_at dksX4_reads_5 14 rfl rfl)
theorem dX4_reads_134 : decode cX4_reads 134 = .ok (.goto 4, 3) := dk_167 0 4 (dk_at dksX4_reads_5 15 rfl rfl)
theorem dX4_reads_137 : decode cX4_reads 137 = .ok (.iconst 0, 1) := dk_3 (dk_at dksX4_reads_5 18 rfl rfl)
theorem dX4_reads_138 : decode cX4_reads 138 = .ok (.istore_n 2, 1) := dk_61 (dk_at dksX4_reads_5 19 rfl rfl)
theorem dX4_reads_139 : decode cX4_reads 139 = .ok (.iload_n 2, 1) := dk_28 (dk_at dksX4_reads_5 20 rfl rfl)
theorem dX4_reads_140 : decode cX4_reads 140 = .ok (.ifCond .eq 42, 3) := dk_153 0 42 (dk_at dksX4_reads_5 21 rfl rfl)
theorem dX4_reads_143 : decode cX4_reads 143 = .ok (.aload_n 0, 1) := dk_42 (dk_at dksX4_reads_6 0 rfl rfl)
theorem dX4_reads_144 : decode cX4_reads 144 = .ok (.getfield 126, 3) := dk_180 0 126 (dk_at dksX4_reads_6 1 rfl rfl)
theorem dX4_reads_147 : decode cX4_reads 147 = .ok (.bipush 112, 2) := dk_16 112 (dk_at dksX4_reads_6 4 rfl rfl)
theorem dX4_reads_149 : decode cX4_reads 149 = .ok (.if_icmp .ne 20, 3) := dk_160 0 20 (dk_at dksX4_reads_6 6 rfl rfl)
theorem dX4_reads_152 : decode cX4_reads 152 = .ok (.aload_n 0, 1) := dk_42 (dk_at dksX4_reads_6 9 rfl rfl)
theorem dX4_reads_153 : decode cX4_reads 153 = .ok (.bipush 61, 2) := dk_16 61 (dk_at dksX4_reads_6 10 rfl rfl)
theorem dX4_reads_155 : decode cX4_reads 155 = .ok (.invokevirtual 132, 3) := dk_182 0 132 (dk_at dksX4_reads_6 12 rfl rfl)
theorem dX4_reads_158 : decode cX4_reads 158 = .ok (.ifCond .eq 24, 3) := dk_153 0 24 (dk_at dksX4_reads_6 15 rfl rfl)
theorem dX4_reads_161 : decode cX4_reads 161 = .ok (.aload_n 0, 1) := dk_42 (dk_at dksX4_reads_6 18 rfl rfl)
theorem dX4_reads_162 : decode cX4_reads 162 = .ok (.iconst 2, 1) := dk_5 (dk_at dksX4_reads_6 19 rfl rfl)
theorem dX4_reads_163 : decode cX4_reads 163 = .ok (.invokevirtual 129, 3) := dk_182 0 129 (dk_at dksX4_reads_6 20 rfl rfl)
theorem dX4_reads_166 : decode cX4_reads 166 = .ok (.ifCond .eq 16, 3) := dk_153 0 16 (dk_at dksX4_reads_7 0 rfl rfl)
theorem dX4_reads_169 : decode cX4_reads 169 = .ok (.aload_n 0, 1) := dk_42 (dk_at dksX4_reads_7 3 rfl rfl)
theorem dX4_reads_170 : decode cX4_reads 170 = .ok (.bipush 59, 2) := dk_16 59 (dk_at dksX4_reads_7 4 rfl rfl)
theorem dX4_reads_172 : decode cX4_reads 172 = .ok (.invokevirtual 132, 3) := dk_182 0 132 (dk_at dksX4_reads_7 6 rfl rfl)
theorem dX4_reads_175 : decode cX4_reads 175 = .ok (.ifCond .eq 7, 3) := dk_153 0 7 (dk_at dksX4_reads_7 9 rfl rfl)
theorem dX4_reads_178 : decode cX4_reads 178 = .ok (.iconst 1, 1) := dk_4 (dk_at dksX4_reads_7 12 rfl rfl)
theorem dX4_reads_179 : decode cX4_reads 179 = .ok (.goto 4, 3) := dk_167 0 4 (dk_at dksX4_reads_7 13 rfl rfl)
theorem dX4_reads_182 : decode cX4_reads 182 = .ok (.iconst 0, 1) := dk_3 (dk_at dksX4_reads_7 16 rfl rfl)
theorem dX4_reads_183 : decode cX4_reads 183 = .ok (.ireturn, 1) := dk_172 (dk_at dksX4_reads_7 17 rfl rfl)
abbrev cX4_isAt : ByteArray := prog_11_method_53_code
def yX4_isAt : MethodName := ⟨RX4, "isAt", "(II)Z"⟩
def dkwX4_isAt_1 : List UInt8 := [184, 0, 33, 153, 0, 7, 4, 167, 0, 4, 3, 172]
abbrev dktX4_isAt_1 : List UInt8 := dkwX4_isAt_1 ++ []
def dkwX4_isAt_0 : List UInt8 := [42, 180, 0, 120, 42, 180, 0, 117, 162, 0, 24, 42, 180, 0, 19, 42, 180, 0, 120, 46, 27, 28]
abbrev dktX4_isAt_0 : List UInt8 := dkwX4_isAt_0 ++ dktX4_isAt_1
theorem dksX4_isAt_0 : cX4_isAt.data.toList.drop 0 = dktX4_isAt_0 := by decide +kernel
theorem dksX4_isAt_1 : cX4_isAt.data.toList.drop 22 = dktX4_isAt_1 := dk_seg dksX4_isAt_0 22 rfl rfl
theorem dX4_isAt_0 : decode cX4_isAt 0 = .ok (.aload_n 0, 1) := dk_42 (dk_at dksX4_isAt_0 0 rfl rfl)
theorem dX4_isAt_1 : decode cX4_isAt 1 = .ok (.getfield 120, 3) := dk_180 0 120 (dk_at dksX4_isAt_0 1 rfl rfl)
theorem dX4_isAt_4 : decode cX4_isAt 4 = .ok (.aload_n 0, 1) := dk_42 (dk_at dksX4_isAt_0 4 rfl rfl)
theorem dX4_isAt_5 : decode cX4_isAt 5 = .ok (.getfield 117, 3) := dk_180 0 117 (dk_at dksX4_isAt_0 5 rfl rfl)
theorem dX4_isAt_8 : decode cX4_isAt 8 = .ok (.if_icmp .ge 24, 3) := dk_162 0 24 (dk_at dksX4_isAt_0 8 rfl rfl)
theorem dX4_isAt_11 : decode cX4_isAt 11 = .ok (.aload_n 0, 1) := dk_42 (dk_at dksX4_isAt_0 11 rfl rfl)
theorem dX4_isAt_12 : decode cX4_isAt 12 = .ok (.getfield 19, 3) := dk_180 0 19 (dk_at dksX4_isAt_0 12 rfl rfl)
theorem dX4_isAt_15 : decode cX4_isAt 15 = .ok (.aload_n 0, 1) := dk_42 (dk_at dksX4_isAt_0 15 rfl rfl)
theorem dX4_isAt_16 : decode cX4_isAt 16 = .ok (.getfield 120, 3) := dk_180 0 120 (dk_at dksX4_isAt_0 16 rfl rfl)
theorem dX4_isAt_19 : decode cX4_isAt 19 = .ok (.iaload, 1) := dk_46 (dk_at dksX4_isAt_0 19 rfl rfl)
theorem dX4_isAt_20 : decode cX4_isAt 20 = .ok (.iload_n 1, 1) := dk_27 (dk_at dksX4_isAt_0 20 rfl rfl)
theorem dX4_isAt_21 : decode cX4_isAt 21 = .ok (.iload_n 2, 1) := dk_28 (dk_at dksX4_isAt_0 21 rfl rfl)
theorem dX4_isAt_22 : decode cX4_isAt 22 = .ok (.invokestatic 33, 3) := dk_184 0 33 (dk_at dksX4_isAt_1 0 rfl rfl)
theorem dX4_isAt_25 : decode cX4_isAt 25 = .ok (.ifCond .eq 7, 3) := dk_153 0 7 (dk_at dksX4_isAt_1 3 rfl rfl)
theorem dX4_isAt_28 : decode cX4_isAt 28 = .ok (.iconst 1, 1) := dk_4 (dk_at dksX4_isAt_1 6 rfl rfl)
theorem dX4_isAt_29 : decode cX4_isAt 29 = .ok (.goto 4, 3) := dk_167 0 4 (dk_at dksX4_isAt_1 7 rfl rfl)
theorem dX4_isAt_32 : decode cX4_isAt 32 = .ok (.iconst 0, 1) := dk_3 (dk_at dksX4_isAt_1 10 rfl rfl)
theorem dX4_isAt_33 : decode cX4_isAt 33 = .ok (.ireturn, 1) := dk_172 (dk_at dksX4_isAt_1 11 rfl rfl)
abbrev cX4_number : ByteArray := prog_11_method_55_code
def yX4_number : MethodName := ⟨RX4, "number", "(I)Z"⟩
def dkwX4_number_3 : List UInt8 := [167, 255, 197, 42, 180, 0, 120, 28, 164, 0, 7, 4, 167, 0, 4, 3, 172]
abbrev dktX4_number_3 : List UInt8 := dkwX4_number_3 ++ []
def dkwX4_number_2 : List UInt8 := [180, 0, 19, 42, 180, 0, 120, 46, 96, 16, 48, 100, 79, 42, 89, 180, 0, 120, 4, 96, 181, 0, 120]
abbrev dktX4_number_2 : List UInt8 := dkwX4_number_2 ++ dktX4_number_3
def dkwX4_number_1 : List UInt8 := [180, 0, 120, 28, 100, 6, 162, 0, 44, 42, 180, 0, 22, 27, 16, 10, 42, 180, 0, 22, 27, 46, 104, 42]
abbrev dktX4_number_1 : List UInt8 := dkwX4_number_1 ++ dktX4_number_2
def dkwX4_number_0 : List UInt8 := [42, 180, 0, 120, 61, 42, 180, 0, 22, 27, 3, 79, 42, 16, 48, 16, 57, 182, 0, 123, 153, 0, 54, 42]
abbrev dktX4_number_0 : List UInt8 := dkwX4_number_0 ++ dktX4_number_1
theorem dksX4_number_0 : cX4_number.data.toList.drop 0 = dktX4_number_0 := by decide +kernel
theorem dksX4_number_1 : cX4_number.data.toList.drop 24 = dktX4_number_1 := dk_seg dksX4_number_0 24 rfl rfl
theorem dksX4_number_2 : cX4_number.data.toList.drop 48 = dktX4_number_2 := dk_seg dksX4_number_1 24 rfl rfl
theorem dksX4_number_3 : cX4_number.data.toList.drop 71 = dktX4_number_3 := dk_seg dksX4_number_2 23 rfl rfl
theorem dX4_number_0 : decode cX4_number 0 = .ok (.aload_n 0, 1) := dk_42 (dk_at dksX4_number_0 0 rfl rfl)
theorem dX4_number_1 : decode cX4_number 1 = .ok (.getfield 120, 3) := dk_180 0 120 (dk_at dksX4_number_0 1 rfl rfl)
theorem dX4_number_4 : decode cX4_number 4 = .ok (.istore_n 2, 1) := dk_61 (dk_at dksX4_number_0 4 rfl rfl)
theorem dX4_number_5 : decode cX4_number 5 = .ok (.aload_n 0, 1) := dk_42 (dk_at dksX4_number_0 5 rfl rfl)
theorem dX4_number_6 : decode cX4_number 6 = .ok (.getfield 22, 3) := dk_180 0 22 (dk_at dksX4_number_0 6 rfl rfl)
theorem dX4_number_9 : decode cX4_number 9 = .ok (.iload_n 1, 1) := dk_27 (dk_at dksX4_number_0 9 rfl rfl)
theorem dX4_number_10 : decode cX4_number 10 = .ok (.iconst 0, 1) := dk_3 (dk_at dksX4_number_0 10 rfl rfl)
theorem dX4_number_11 : decode cX4_number 11 = .ok (.iastore, 1) := dk_79 (dk_at dksX4_number_0 11 rfl rfl)
theorem dX4_number_12 : decode cX4_number 12 = .ok (.aload_n 0, 1) := dk_42 (dk_at dksX4_number_0 12 rfl rfl)
theorem dX4_number_13 : decode cX4_number 13 = .ok (.bipush 48, 2) := dk_16 48 (dk_at dksX4_number_0 13 rfl rfl)
theorem dX4_number_15 : decode cX4_number 15 = .ok (.bipush 57, 2) := dk_16 57 (dk_at dksX4_number_0 15 rfl rfl)
theorem dX4_number_17 : decode cX4_number 17 = .ok (.invokevirtual 123, 3) := dk_182 0 123 (dk_at dksX4_number_0 17 rfl rfl)
theorem dX4_number_20 : decode cX4_number 20 = .ok (.ifCond .eq 54, 3) := dk_153 0 54 (dk_at dksX4_number_0 20 rfl rfl)
theorem dX4_number_23 : decode cX4_number 23 = .ok (.aload_n 0, 1) := dk_42 (dk_at dksX4_number_0 23 rfl rfl)
theorem dX4_number_24 : decode cX4_number 24 = .ok (.getfield 120, 3) := dk_180 0 120 (dk_at dksX4_number_1 0 rfl rfl)
theorem dX4_number_27 : decode cX4_number 27 = .ok (.iload_n 2, 1) := dk_28 (dk_at dksX4_number_1 3 rfl rfl)
theorem dX4_number_28 : decode cX4_number 28 = .ok (.isub, 1) := dk_100 (dk_at dksX4_number_1 4 rfl rfl)
theorem dX4_number_29 : decode cX4_number 29 = .ok (.iconst 3, 1) := dk_6 (dk_at dksX4_number_1 5 rfl rfl)
theorem dX4_number_30 : decode cX4_number 30 = .ok (.if_icmp .ge 44, 3) := dk_162 0 44 (dk_at dksX4_number_1 6 rfl rfl)
theorem dX4_number_33 : decode cX4_number 33 = .ok (.aload_n 0, 1) := dk_42 (dk_at dksX4_number_1 9 rfl rfl)
theorem dX4_number_34 : decode cX4_number 34 = .ok (.getfield 22, 3) := dk_180 0 22 (dk_at dksX4_number_1 10 rfl rfl)
theorem dX4_number_37 : decode cX4_number 37 = .ok (.iload_n 1, 1) := dk_27 (dk_at dksX4_number_1 13 rfl rfl)
theorem dX4_number_38 : decode cX4_number 38 = .ok (.bipush 10, 2) := dk_16 10 (dk_at dksX4_number_1 14 rfl rfl)
theorem dX4_number_40 : decode cX4_number 40 = .ok (.aload_n 0, 1) := dk_42 (dk_at dksX4_number_1 16 rfl rfl)
theorem dX4_number_41 : decode cX4_number 41 = .ok (.getfield 22, 3) := dk_180 0 22 (dk_at dksX4_number_1 17 rfl rfl)
theorem dX4_number_44 : decode cX4_number 44 = .ok (.iload_n 1, 1) := dk_27 (dk_at dksX4_number_1 20 rfl rfl)
theorem dX4_number_45 : decode cX4_number 45 = .ok (.iaload, 1) := dk_46 (dk_at dksX4_number_1 21 rfl rfl)
theorem dX4_number_46 : decode cX4_number 46 = .ok (.imul, 1) := dk_104 (dk_at dksX4_number_1 22 rfl rfl)
theorem dX4_number_47 : decode cX4_number 47 = .ok (.aload_n 0, 1) := dk_42 (dk_at dksX4_number_1 23 rfl rfl)
theorem dX4_number_48 : decode cX4_number 48 = .ok (.getfield 19, 3) := dk_180 0 19 (dk_at dksX4_number_2 0 rfl rfl)
theorem dX4_number_51 : decode cX4_number 51 = .ok (.aload_n 0, 1) := dk_42 (dk_at dksX4_number_2 3 rfl rfl)
theorem dX4_number_52 : decode cX4_number 52 = .ok (.getfield 120, 3) := dk_180 0 120 (dk_at dksX4_number_2 4 rfl rfl)
theorem dX4_number_55 : decode cX4_number 55 = .ok (.iaload, 1) := dk_46 (dk_at dksX4_number_2 7 rfl rfl)
theorem dX4_number_56 : decode cX4_number 56 = .ok (.iadd, 1) := dk_96 (dk_at dksX4_number_2 8 rfl rfl)
theorem dX4_number_57 : decode cX4_number 57 = .ok (.bipush 48, 2) := dk_16 48 (dk_at dksX4_number_2 9 rfl rfl)
theorem dX4_number_59 : decode cX4_number 59 = .ok (.isub, 1) := dk_100 (dk_at dksX4_number_2 11 rfl rfl)
theorem dX4_number_60 : decode cX4_number 60 = .ok (.iastore, 1) := dk_79 (dk_at dksX4_number_2 12 rfl rfl)
theorem dX4_number_61 : decode cX4_number 61 = .ok (.aload_n 0, 1) := dk_42 (dk_at dksX4_number_2 13 rfl rfl)
theorem dX4_number_62 : decode cX4_number 62 = .ok (.dup, 1) := dk_89 (dk_at dksX4_number_2 14 rfl rfl)
theorem dX4_number_63 : decode cX4_number 63 = .ok (.getfield 120, 3) := dk_180 0 120 (dk_at dksX4_number_2 15 rfl rfl)
theorem dX4_number_66 : decode cX4_number 66 = .ok (.iconst 1, 1) := dk_4 (dk_at dksX4_number_2 18 rfl rfl)
theorem dX4_number_67 : decode cX4_number 67 = .ok (.iadd, 1) := dk_96 (dk_at dksX4_number_2 19 rfl rfl)
theorem dX4_number_68 : decode cX4_number 68 = .ok (.putfield 120, 3) := dk_181 0 120 (dk_at dksX4_number_2 20 rfl rfl)
theorem dX4_number_71 : decode cX4_number 71 = .ok (.goto (-59), 3) := dk_167 255 197 (dk_at dksX4_number_3 0 rfl rfl)
theorem dX4_number_74 : decode cX4_number 74 = .ok (.aload_n 0, 1) := dk_42 (dk_at dksX4_number_3 3 rfl rfl)
theorem dX4_number_75 : decode cX4_number 75 = .ok (.getfield 120, 3) := dk_180 0 120 (dk_at dksX4_number_3 4 rfl rfl)
theorem dX4_number_78 : decode cX4_number 78 = .ok (.iload_n 2, 1) := dk_28 (dk_at dksX4_number_3 7 rfl rfl)
theorem dX4_number_79 : decode cX4_number 79 = .ok (.if_icmp .le 7, 3) := dk_164 0 7 (dk_at dksX4_number_3 8 rfl rfl)
theorem dX4_number_82 : decode cX4_number 82 = .ok (.iconst 1, 1) := dk_4 (dk_at dksX4_number_3 11 rfl rfl)
theorem dX4_number_83 : decode cX4_number 83 = .ok (.goto 4, 3) := dk_167 0 4 (dk_at dksX4_number_3 12 rfl rfl)
theorem dX4_number_86 : decode cX4_number 86 = .ok (.iconst 0, 1) := dk_3 (dk_at dksX4_number_3 15 rfl rfl)
theorem dX4_number_87 : decode cX4_number 87 = .ok (.ireturn, 1) := dk_172 (dk_at dksX4_number_3 16 rfl rfl)
abbrev cX4_sign : ByteArray := prog_11_method_54_code
def yX4_sign : MethodName := ⟨RX4, "sign", "(I)Z"⟩
def dkwX4_sign_1 : List UInt8 := [181, 0, 120, 28, 172]
abbrev dktX4_sign_1 : List UInt8 := dkwX4_sign_1 ++ []
def dkwX4_sign_0 : List UInt8 := [42, 27, 27, 182, 0, 123, 61, 42, 89, 180, 0, 120, 28, 153, 0, 7, 4, 167, 0, 4, 3, 96]
abbrev dktX4_sign_0 : List UInt8 := dkwX4_sign_0 ++ dktX4_sign_1
theorem dksX4_sign_0 : cX4_sign.data.toList.drop 0 = dktX4_sign_0 := by decide +kernel
theorem dksX4_sign_1 : cX4_sign.data.toList.drop 22 = dktX4_sign_1 := dk_seg dksX4_sign_0 22 rfl rfl
theorem dX4_sign_0 : decode cX4_sign 0 = .ok (.aload_n 0, 1) := dk_42 (dk_at dksX4_sign_0 0 rfl rfl)
theorem dX4_sign_1 : decode cX4_sign 1 = .ok (.iload_n 1, 1) := dk_27 (dk_at dksX4_sign_0 1 rfl rfl)
theorem dX4_sign_2 : decode cX4_sign 2 = .ok (.iload_n 1, 1) := dk_27 (dk_at dksX4_sign_0 2 rfl rfl)
theorem dX4_sign_3 : decode cX4_sign 3 = .ok (.invokevirtual 123, 3) := dk_182 0 123 (dk_at dksX4_sign_0 3 rfl rfl)
theorem dX4_sign_6 : decode cX4_sign 6 = .ok (.istore_n 2, 1) := dk_61 (dk_at dksX4_sign_0 6 rfl rfl)
theorem dX4_sign_7 : decode cX4_sign 7 = .ok (.aload_n 0, 1) := dk_42 (dk_at dksX4_sign_0 7 rfl rfl)
theorem dX4_sign_8 : decode cX4_sign 8 = .ok (.dup, 1) := dk_89 (dk_at dksX4_sign_0 8 rfl rfl)
theorem dX4_sign_9 : decode cX4_sign 9 = .ok (.getfield 120, 3) := dk_180 0 120 (dk_at dksX4_sign_0 9 rfl rfl)
theorem dX4_sign_12 : decode cX4_sign 12 = .ok (.iload_n 2, 1) := dk_28 (dk_at dksX4_sign_0 12 rfl rfl)
theorem dX4_sign_13 : decode cX4_sign 13 = .ok (.ifCond .eq 7, 3) := dk_153 0 7 (dk_at dksX4_sign_0 13 rfl rfl)
theorem dX4_sign_16 : decode cX4_sign 16 = .ok (.iconst 1, 1) := dk_4 (dk_at dksX4_sign_0 16 rfl rfl)
theorem dX4_sign_17 : decode cX4_sign 17 = .ok (.goto 4, 3) := dk_167 0 4 (dk_at dksX4_sign_0 17 rfl rfl)
theorem dX4_sign_20 : decode cX4_sign 20 = .ok (.iconst 0, 1) := dk_3 (dk_at dksX4_sign_0 20 rfl rfl)
theorem dX4_sign_21 : decode cX4_sign 21 = .ok (.iadd, 1) := dk_96 (dk_at dksX4_sign_0 21 rfl rfl)
theorem dX4_sign_22 : decode cX4_sign 22 = .ok (.putfield 120, 3) := dk_181 0 120 (dk_at dksX4_sign_1 0 rfl rfl)
theorem dX4_sign_25 : decode cX4_sign 25 = .ok (.iload_n 2, 1) := dk_28 (dk_at dksX4_sign_1 3 rfl rfl)
theorem dX4_sign_26 : decode cX4_sign 26 = .ok (.ireturn, 1) := dk_172 (dk_at dksX4_sign_1 4 rfl rfl)
abbrev cX4_calls : ByteArray := prog_11_method_57_code
def yX4_calls : MethodName := ⟨RX4, "calls", "()I"⟩
def dkwX4_calls_5 : List UInt8 := [182, 0, 148, 172, 42, 42, 180, 0, 22, 3, 46, 182, 0, 151, 172]
abbrev dktX4_calls_5 : List UInt8 := dkwX4_calls_5 ++ []
def dkwX4_calls_4 : List UInt8 := [180, 0, 22, 5, 46, 182, 0, 144, 172, 42, 42, 180, 0, 22, 3, 46, 42, 180, 0, 22, 4, 46]
abbrev dktX4_calls_4 : List UInt8 := dkwX4_calls_4 ++ dktX4_calls_5
def dkwX4_calls_3 : List UInt8 := [180, 0, 22, 3, 46, 182, 0, 141, 172, 42, 42, 180, 0, 22, 3, 46, 42, 180, 0, 22, 4, 46, 42]
abbrev dktX4_calls_3 : List UInt8 := dkwX4_calls_3 ++ dktX4_calls_4
def dkwX4_calls_2 : List UInt8 := [42, 42, 180, 0, 22, 3, 46, 182, 0, 135, 172, 42, 42, 180, 0, 22, 3, 46, 182, 0, 138, 172, 42, 42]
abbrev dktX4_calls_2 : List UInt8 := dkwX4_calls_2 ++ dktX4_calls_3
def dkwX4_calls_1 : List UInt8 := [171, 0, 0, 0, 0, 0, 0, 125, 0, 0, 0, 5, 0, 0, 0, 97, 0, 0, 0, 74, 0, 0, 0, 99, 0, 0, 0, 63, 0, 0, 0, 111, 0, 0, 0, 52, 0, 0, 0, 112, 0, 0, 0, 85, 0, 0, 0, 115, 0, 0, 0, 108]
abbrev dktX4_calls_1 : List UInt8 := dkwX4_calls_1 ++ dktX4_calls_2
def dkwX4_calls_0 : List UInt8 := [42, 180, 0, 126]
abbrev dktX4_calls_0 : List UInt8 := dkwX4_calls_0 ++ dktX4_calls_1
theorem dksX4_calls_0 : cX4_calls.data.toList.drop 0 = dktX4_calls_0 := by decide +kernel
theorem dksX4_calls_1 : cX4_calls.data.toList.drop 4 = dktX4_calls_1 := dk_seg dksX4_calls_0 4 rfl rfl
theorem dksX4_calls_2 : cX4_calls.data.toList.drop 56 = dktX4_calls_2 := dk_seg dksX4_calls_1 52 rfl rfl
theorem dksX4_calls_3 : cX4_calls.data.toList.drop 80 = dktX4_calls_3 := dk_seg dksX4_calls_2 24 rfl rfl
theorem dksX4_calls_4 : cX4_calls.data.toList.drop 103 = dktX4_calls_4 := dk_seg dksX4_calls_3 23 rfl rfl
theorem dksX4_calls_5 : cX4_calls.data.toList.drop 125 = dktX4_calls_5 := dk_seg dksX4_calls_4 22 rfl rfl
theorem dX4_calls_0 : decode cX4_calls 0 = .ok (.aload_n 0, 1) := dk_42 (dk_at dksX4_calls_0 0 rfl rfl)
theorem dX4_calls_1 : decode cX4_calls 1 = .ok (.getfield 126, 3) := dk_180 0 126 (dk_at dksX4_calls_0 1 rfl rfl)
theorem dX4_calls_4 : decode cX4_calls 4 = .ok (.lookupswitch 125 #[(97, 74), (99, 63), (111, 52), (112, 85), (115, 108)], 52) := by decide +kernel
theorem dX4_calls_56 : decode cX4_calls 56 = .ok (.aload_n 0, 1) := dk_42 (dk_at dksX4_calls_2 0 rfl rfl)
theorem dX4_calls_57 : decode cX4_calls 57 = .ok (.aload_n 0, 1) := dk_42 (dk_at dksX4_calls_2 1 rfl rfl)
theorem dX4_calls_58 : decode cX4_calls 58 = .ok (.getfield 22, 3) := dk_180 0 22 (dk_at dksX4_calls_2 2 rfl rfl)
theorem dX4_calls_61 : decode cX4_calls 61 = .ok (.iconst 0, 1) := dk_3 (dk_at dksX4_calls_2 5 rfl rfl)
theorem dX4_calls_62 : decode cX4_calls 62 = .ok (.iaload, 1) := dk_46 (dk_at dksX4_calls_2 6 rfl rfl)
theorem dX4_calls_63 : decode cX4_calls 63 = .ok (.invokevirtual 135, 3) := dk_182 0 135 (dk_at dksX4_calls_2 7 rfl rfl)
theorem dX4_calls_66 : decode cX4_calls 66 = .ok (.ireturn, 1) := dk_172 (dk_at dksX4_calls_2 10 rfl rfl)
theorem dX4_calls_67 : decode cX4_calls 67 = .ok (.aload_n 0, 1) := dk_42 (dk_at dksX4_calls_2 11 rfl rfl)
theorem dX4_calls_68 : decode cX4_calls 68 = .ok (.aload_n 0, 1) := dk_42 (dk_at dksX4_calls_2 12 rfl rfl)
theorem dX4_calls_69 : decode cX4_calls 69 = .ok (.getfield 22, 3) := dk_180 0 22 (dk_at dksX4_calls_2 13 rfl rfl)
theorem dX4_calls_72 : decode cX4_calls 72 = .ok (.iconst 0, 1) := dk_3 (dk_at dksX4_calls_2 16 rfl rfl)
theorem dX4_calls_73 : decode cX4_calls 73 = .ok (.iaload, 1) := dk_46 (dk_at dksX4_calls_2 17 rfl rfl)
theorem dX4_calls_74 : decode cX4_calls 74 = .ok (.invokevirtual 138, 3) := dk_182 0 138 (dk_at dksX4_calls_2 18 rfl rfl)
theorem dX4_calls_77 : decode cX4_calls 77 = .ok (.ireturn, 1) := dk_172 (dk_at dksX4_calls_2 21 rfl rfl)
theorem dX4_calls_78 : decode cX4_calls 78 = .ok (.aload_n 0, 1) := dk_42 (dk_at dksX4_calls_2 22 rfl rfl)
theorem dX4_calls_79 : decode cX4_calls 79 = .ok (.aload_n 0, 1) := dk_42 (dk_at dksX4_calls_2 23 rfl rfl)
theorem dX4_calls_80 : decode cX4_calls 80 = .ok (.getfield 22, 3) := dk_180 0 22 (dk_at dksX4_calls_3 0 rfl rfl)
theorem dX4_calls_83 : decode cX4_calls 83 = .ok (.iconst 0, 1) := dk_3 (dk_at dksX4_calls_3 3 rfl rfl)
theorem dX4_calls_84 : decode cX4_calls 84 = .ok (.iaload, 1) := dk_46 (dk_at dksX4_calls_3 4 rfl rfl)
theorem dX4_calls_85 : decode cX4_calls 85 = .ok (.invokevirtual 141, 3) := dk_182 0 141 (dk_at dksX4_calls_3 5 rfl rfl)
theorem dX4_calls_88 : decode cX4_calls 88 = .ok (.ireturn, 1) := dk_172 (dk_at dksX4_calls_3 8 rfl rfl)
theorem dX4_calls_89 : decode cX4_calls 89 = .ok (.aload_n 0, 1) := dk_42 (dk_at dksX4_calls_3 9 rfl rfl)
theorem dX4_calls_90 : decode cX4_calls 90 = .ok (.aload_n 0, 1) := dk_42 (dk_at dksX4_calls_3 10 rfl rfl)
theorem dX4_calls_91 : decode cX4_calls 91 = .ok (.getfield 22, 3) := dk_180 0 22 (dk_at dksX4_calls_3 11 rfl rfl)
theorem dX4_calls_94 : decode cX4_calls 94 = .ok (.iconst 0, 1) := dk_3 (dk_at dksX4_calls_3 14 rfl rfl)
theorem dX4_calls_95 : decode cX4_calls 95 = .ok (.iaload, 1) := dk_46 (dk_at dksX4_calls_3 15 rfl rfl)
theorem dX4_calls_96 : decode cX4_calls 96 = .ok (.aload_n 0, 1) := dk_42 (dk_at dksX4_calls_3 16 rfl rfl)
theorem dX4_calls_97 : decode cX4_calls 97 = .ok (.getfield 22, 3) := dk_180 0 22 (dk_at dksX4_calls_3 17 rfl rfl)
theorem dX4_calls_100 : decode cX4_calls 100 = .ok (.iconst 1, 1) := dk_4 (dk_at dksX4_calls_3 20 rfl rfl)
theorem dX4_calls_101 : decode cX4_calls 101 = .ok (.iaload, 1) := dk_46 (dk_at dksX4_calls_3 21 rfl rfl)
theorem dX4_calls_102 : decode cX4_calls 102 = .ok (.aload_n 0, 1) := dk_42 (dk_at dksX4_calls_3 22 rfl rfl)
theorem dX4_calls_103 : decode cX4_calls 103 = .ok (.getfield 22, 3) := dk_180 0 22 (dk_at dksX4_calls_4 0 rfl rfl)
theorem dX4_calls_106 : decode cX4_calls 106 = .ok (.iconst 2, 1) := dk_5 (dk_at dksX4_calls_4 3 rfl rfl)
theorem dX4_calls_107 : decode cX4_calls 107 = .ok (.iaload, 1) := dk_46 (dk_at dksX4_calls_4 4 rfl rfl)
theorem dX4_calls_108 : decode cX4_calls 108 = .ok (.invokevirtual 144, 3) := dk_182 0 144 (dk_at dksX4_calls_4 5 rfl rfl)
theorem dX4_calls_111 : decode cX4_calls 111 = .ok (.ireturn, 1) := dk_172 (dk_at dksX4_calls_4 8 rfl rfl)
theorem dX4_calls_112 : decode cX4_calls 112 = .ok (.aload_n 0, 1) := dk_42 (dk_at dksX4_calls_4 9 rfl rfl)
theorem dX4_calls_113 : decode cX4_calls 113 = .ok (.aload_n 0, 1) := dk_42 (dk_at dksX4_calls_4 10 rfl rfl)
theorem dX4_calls_114 : decode cX4_calls 114 = .ok (.getfield 22, 3) := dk_180 0 22 (dk_at dksX4_calls_4 11 rfl rfl)
theorem dX4_calls_117 : decode cX4_calls 117 = .ok (.iconst 0, 1) := dk_3 (dk_at dksX4_calls_4 14 rfl rfl)
theorem dX4_calls_118 : decode cX4_calls 118 = .ok (.iaload, 1) := dk_46 (dk_at dksX4_calls_4 15 rfl rfl)
theorem dX4_calls_119 : decode cX4_calls 119 = .ok (.aload_n 0, 1) := dk_42 (dk_at dksX4_calls_4 16 rfl rfl)
theorem dX4_calls_120 : decode cX4_calls 120 = .ok (.getfield 22, 3) := dk_180 0 22 (dk_at dksX4_calls_4 17 rfl rfl)
theorem dX4_calls_123 : decode cX4_calls 123 = .ok (.iconst 1, 1) := dk_4 (dk_at dksX4_calls_4 20 rfl rfl)
theorem dX4_calls_124 : decode cX4_calls 124 = .ok (.iaload, 1) := dk_46 (dk_at dksX4_calls_4 21 rfl rfl)
theorem dX4_calls_125 : decode cX4_calls 125 = .ok (.invokevirtual 148, 3) := dk_182 0 148 (dk_at dksX4_calls_5 0 rfl rfl)
theorem dX4_calls_128 : decode cX4_calls 128 = .ok (.ireturn, 1) := dk_172 (dk_at dksX4_calls_5 3 rfl rfl)
theorem dX4_calls_129 : decode cX4_calls 129 = .ok (.aload_n 0, 1) := dk_42 (dk_at dksX4_calls_5 4 rfl rfl)
theorem dX4_calls_130 : decode cX4_calls 130 = .ok (.aload_n 0, 1) := dk_42 (dk_at dksX4_calls_5 5 rfl rfl)
theorem dX4_calls_131 : decode cX4_calls 131 = .ok (.getfield 22, 3) := dk_180 0 22 (dk_at dksX4_calls_5 6 rfl rfl)
theorem dX4_calls_134 : decode cX4_calls 134 = .ok (.iconst 0, 1) := dk_3 (dk_at dksX4_calls_5 9 rfl rfl)
theorem dX4_calls_135 : decode cX4_calls 135 = .ok (.iaload, 1) := dk_46 (dk_at dksX4_calls_5 10 rfl rfl)
theorem dX4_calls_136 : decode cX4_calls 136 = .ok (.invokevirtual 151, 3) := dk_182 0 151 (dk_at dksX4_calls_5 11 rfl rfl)
theorem dX4_calls_139 : decode cX4_calls 139 = .ok (.ireturn, 1) := dk_172 (dk_at dksX4_calls_5 14 rfl rfl)
abbrev cX4_play : ByteArray := prog_11_method_60_code
def yX4_play : MethodName := ⟨RX4, "play", "()I"⟩
def dkwX4_play_2 : List UInt8 := [180, 0, 157, 167, 0, 5, 18, 58, 172]
abbrev dktX4_play_2 : List UInt8 := dkwX4_play_2 ++ []
def dkwX4_play_1 : List UInt8 := [184, 0, 174, 27, 154, 0, 6, 18, 42, 172, 42, 182, 0, 43, 42, 182, 0, 178, 153, 0, 10, 42]
abbrev dktX4_play_1 : List UInt8 := dkwX4_play_1 ++ dktX4_play_2
def dkwX4_play_0 : List UInt8 := [42, 180, 0, 7, 42, 180, 0, 16, 184, 0, 174, 42, 182, 0, 178, 60, 42, 180, 0, 16, 42, 180, 0, 7]
abbrev dktX4_play_0 : List UInt8 := dkwX4_play_0 ++ dktX4_play_1
theorem dksX4_play_0 : cX4_play.data.toList.drop 0 = dktX4_play_0 := by decide +kernel
theorem dksX4_play_1 : cX4_play.data.toList.drop 24 = dktX4_play_1 := dk_seg dksX4_play_0 24 rfl rfl
theorem dksX4_play_2 : cX4_play.data.toList.drop 46 = dktX4_play_2 := dk_seg dksX4_play_1 22 rfl rfl
theorem dX4_play_0 : decode cX4_play 0 = .ok (.aload_n 0, 1) := dk_42 (dk_at dksX4_play_0 0 rfl rfl)
theorem dX4_play_1 : decode cX4_play 1 = .ok (.getfield 7, 3) := dk_180 0 7 (dk_at dksX4_play_0 1 rfl rfl)
theorem dX4_play_4 : decode cX4_play 4 = .ok (.aload_n 0, 1) := dk_42 (dk_at dksX4_play_0 4 rfl rfl)
theorem dX4_play_5 : decode cX4_play 5 = .ok (.getfield 16, 3) := dk_180 0 16 (dk_at dksX4_play_0 5 rfl rfl)
theorem dX4_play_8 : decode cX4_play 8 = .ok (.invokestatic 174, 3) := dk_184 0 174 (dk_at dksX4_play_0 8 rfl rfl)
theorem dX4_play_11 : decode cX4_play 11 = .ok (.aload_n 0, 1) := dk_42 (dk_at dksX4_play_0 11 rfl rfl)
theorem dX4_play_12 : decode cX4_play 12 = .ok (.invokevirtual 178, 3) := dk_182 0 178 (dk_at dksX4_play_0 12 rfl rfl)
theorem dX4_play_15 : decode cX4_play 15 = .ok (.istore_n 1, 1) := dk_60 (dk_at dksX4_play_0 15 rfl rfl)
theorem dX4_play_16 : decode cX4_play 16 = .ok (.aload_n 0, 1) := dk_42 (dk_at dksX4_play_0 16 rfl rfl)
theorem dX4_play_17 : decode cX4_play 17 = .ok (.getfield 16, 3) := dk_180 0 16 (dk_at dksX4_play_0 17 rfl rfl)
theorem dX4_play_20 : decode cX4_play 20 = .ok (.aload_n 0, 1) := dk_42 (dk_at dksX4_play_0 20 rfl rfl)
theorem dX4_play_21 : decode cX4_play 21 = .ok (.getfield 7, 3) := dk_180 0 7 (dk_at dksX4_play_0 21 rfl rfl)
theorem dX4_play_24 : decode cX4_play 24 = .ok (.invokestatic 174, 3) := dk_184 0 174 (dk_at dksX4_play_1 0 rfl rfl)
theorem dX4_play_27 : decode cX4_play 27 = .ok (.iload_n 1, 1) := dk_27 (dk_at dksX4_play_1 3 rfl rfl)
theorem dX4_play_28 : decode cX4_play 28 = .ok (.ifCond .ne 6, 3) := dk_154 0 6 (dk_at dksX4_play_1 4 rfl rfl)
theorem dX4_play_31 : decode cX4_play 31 = .ok (.ldc 42, 2) := dk_18 42 (dk_at dksX4_play_1 7 rfl rfl)
theorem dX4_play_33 : decode cX4_play 33 = .ok (.ireturn, 1) := dk_172 (dk_at dksX4_play_1 9 rfl rfl)
theorem dX4_play_34 : decode cX4_play 34 = .ok (.aload_n 0, 1) := dk_42 (dk_at dksX4_play_1 10 rfl rfl)
theorem dX4_play_35 : decode cX4_play 35 = .ok (.invokevirtual 43, 3) := dk_182 0 43 (dk_at dksX4_play_1 11 rfl rfl)
theorem dX4_play_38 : decode cX4_play 38 = .ok (.aload_n 0, 1) := dk_42 (dk_at dksX4_play_1 14 rfl rfl)
theorem dX4_play_39 : decode cX4_play 39 = .ok (.invokevirtual 178, 3) := dk_182 0 178 (dk_at dksX4_play_1 15 rfl rfl)
theorem dX4_play_42 : decode cX4_play 42 = .ok (.ifCond .eq 10, 3) := dk_153 0 10 (dk_at dksX4_play_1 18 rfl rfl)
theorem dX4_play_45 : decode cX4_play 45 = .ok (.aload_n 0, 1) := dk_42 (dk_at dksX4_play_1 21 rfl rfl)
theorem dX4_play_46 : decode cX4_play 46 = .ok (.getfield 157, 3) := dk_180 0 157 (dk_at dksX4_play_2 0 rfl rfl)
theorem dX4_play_49 : decode cX4_play 49 = .ok (.goto 5, 3) := dk_167 0 5 (dk_at dksX4_play_2 3 rfl rfl)
theorem dX4_play_52 : decode cX4_play 52 = .ok (.ldc 58, 2) := dk_18 58 (dk_at dksX4_play_2 6 rfl rfl)
theorem dX4_play_54 : decode cX4_play 54 = .ok (.ireturn, 1) := dk_172 (dk_at dksX4_play_2 8 rfl rfl)
theorem q67 : (Jvm.Cond.initialized "FencedStandbysModel") ∈ lw_all := lw_g (lw_at lw_m1 14 rfl) rfl
theorem q397 : (Jvm.Cond.selects "FencedStandbysModel" ({ cls := "java/lang/Object", name := "getClass", desc := "()Ljava/lang/Class;" } : Jvm.MethodName) ({ cls := "java/lang/Object", name := "getClass", desc := "()Ljava/lang/Class;" } : Jvm.MethodName)) ∈ lw_all := lw_g (lw_at lw_m2 104 rfl) rfl
theorem q1324 : (Jvm.Cond.instantiable "FencedStandbysModel" (14 : Nat)) ∈ lw_all := lw_g (lw_at lw_m6 71 rfl) rfl
theorem q1326 : (Jvm.Cond.instanceMethod ({ cls := "FencedStandbysModel", name := "<init>", desc := "()V" } : Jvm.MethodName)) ∈ lw_all := lw_g (lw_at lw_m6 73 rfl) rfl
theorem q1327 : (Jvm.Cond.code ({ cls := "FencedStandbysModel", name := "<init>", desc := "()V" } : Jvm.MethodName) prog_11_method_1_code (1 : Nat) (Option.none : Option Jvm.ClassFile.FieldType)) ∈ lw_all := lw_g (lw_at lw_m6 74 rfl) rfl
theorem q1328 : (Jvm.Cond.methodLink "FencedStandbysModel" (1 : Nat) ({ cls := "java/lang/Object", name := "<init>", desc := "()V" } : Jvm.MethodName)) ∈ lw_all := lw_g (lw_at lw_m6 75 rfl) rfl
theorem q1329 : (Jvm.Cond.fieldLink "FencedStandbysModel" (7 : Nat) "FencedStandbysModel" "s" "[I") ∈ lw_all := lw_g (lw_at lw_m6 76 rfl) rfl
theorem q1330 : (Jvm.Cond.fieldLink "FencedStandbysModel" (13 : Nat) "FencedStandbysModel" "past" "[I") ∈ lw_all := lw_g (lw_at lw_m6 77 rfl) rfl
theorem q1331 : (Jvm.Cond.fieldLink "FencedStandbysModel" (16 : Nat) "FencedStandbysModel" "held" "[I") ∈ lw_all := lw_g (lw_at lw_m6 78 rfl) rfl
theorem q1332 : (Jvm.Cond.fieldLink "FencedStandbysModel" (29 : Nat) "FencedStandbysModel" "pasts" "I") ∈ lw_all := lw_g (lw_at lw_m6 79 rfl) rfl
theorem q1333 : (Jvm.Cond.fieldLink "FencedStandbysModel" (25 : Nat) "FencedStandbysModel" "runs" "Z") ∈ lw_all := lw_g (lw_at lw_m6 80 rfl) rfl
theorem q1334 : (Jvm.Cond.fieldLink "FencedStandbysModel" (19 : Nat) "FencedStandbysModel" "text" "[I") ∈ lw_all := lw_g (lw_at lw_m6 81 rfl) rfl
theorem q1335 : (Jvm.Cond.fieldLink "FencedStandbysModel" (117 : Nat) "FencedStandbysModel" "typed" "I") ∈ lw_all := lw_g (lw_at lw_m6 82 rfl) rfl
theorem q1336 : (Jvm.Cond.fieldLink "FencedStandbysModel" (120 : Nat) "FencedStandbysModel" "spot" "I") ∈ lw_all := lw_g (lw_at lw_m6 83 rfl) rfl
theorem q1337 : (Jvm.Cond.fieldLink "FencedStandbysModel" (154 : Nat) "FencedStandbysModel" "from" "I") ∈ lw_all := lw_g (lw_at lw_m6 84 rfl) rfl
theorem q1338 : (Jvm.Cond.fieldLink "FencedStandbysModel" (168 : Nat) "FencedStandbysModel" "reason" "I") ∈ lw_all := lw_g (lw_at lw_m6 85 rfl) rfl
theorem q1339 : (Jvm.Cond.fieldLink "FencedStandbysModel" (171 : Nat) "FencedStandbysModel" "cause" "I") ∈ lw_all := lw_g (lw_at lw_m6 86 rfl) rfl
theorem q1340 : (Jvm.Cond.fieldLink "FencedStandbysModel" (157 : Nat) "FencedStandbysModel" "orders" "I") ∈ lw_all := lw_g (lw_at lw_m6 87 rfl) rfl
theorem q1341 : (Jvm.Cond.fieldLink "FencedStandbysModel" (126 : Nat) "FencedStandbysModel" "order" "I") ∈ lw_all := lw_g (lw_at lw_m6 88 rfl) rfl
theorem q1342 : (Jvm.Cond.fieldLink "FencedStandbysModel" (22 : Nat) "FencedStandbysModel" "told" "[I") ∈ lw_all := lw_g (lw_at lw_m6 89 rfl) rfl
theorem q1343 : (Jvm.Cond.laysFinal "FencedStandbysModel" "FencedStandbysModel" "s" "[I") ∈ lw_all := lw_g (lw_at lw_m6 90 rfl) rfl
theorem q1344 : (Jvm.Cond.soleField "FencedStandbysModel" "s") ∈ lw_all := lw_g (lw_at lw_m6 91 rfl) rfl
theorem q1345 : (Jvm.Cond.laysFinal "FencedStandbysModel" "FencedStandbysModel" "past" "[I") ∈ lw_all := lw_g (lw_at lw_m6 92 rfl) rfl
theorem q1346 : (Jvm.Cond.soleField "FencedStandbysModel" "past") ∈ lw_all := lw_g (lw_at lw_m6 93 rfl) rfl
theorem q1347 : (Jvm.Cond.laysFinal "FencedStandbysModel" "FencedStandbysModel" "held" "[I") ∈ lw_all := lw_g (lw_at lw_m6 94 rfl) rfl
theorem q1348 : (Jvm.Cond.soleField "FencedStandbysModel" "held") ∈ lw_all := lw_g (lw_at lw_m6 95 rfl) rfl
theorem q1349 : (Jvm.Cond.lays "FencedStandbysModel" "FencedStandbysModel" "pasts" "I") ∈ lw_all := lw_g (lw_at lw_m6 96 rfl) rfl
theorem q1350 : (Jvm.Cond.soleField "FencedStandbysModel" "pasts") ∈ lw_all := lw_g (lw_at lw_m6 97 rfl) rfl
theorem q1351 : (Jvm.Cond.lays "FencedStandbysModel" "FencedStandbysModel" "runs" "Z") ∈ lw_all := lw_g (lw_at lw_m6 98 rfl) rfl
theorem q1352 : (Jvm.Cond.soleField "FencedStandbysModel" "runs") ∈ lw_all := lw_g (lw_at lw_m6 99 rfl) rfl
theorem q1353 : (Jvm.Cond.laysFinal "FencedStandbysModel" "FencedStandbysModel" "text" "[I") ∈ lw_all := lw_g (lw_at lw_m6 100 rfl) rfl
theorem q1354 : (Jvm.Cond.soleField "FencedStandbysModel" "text") ∈ lw_all := lw_g (lw_at lw_m6 101 rfl) rfl
theorem q1355 : (Jvm.Cond.lays "FencedStandbysModel" "FencedStandbysModel" "typed" "I") ∈ lw_all := lw_g (lw_at lw_m6 102 rfl) rfl
theorem q1356 : (Jvm.Cond.soleField "FencedStandbysModel" "typed") ∈ lw_all := lw_g (lw_at lw_m6 103 rfl) rfl
theorem q1357 : (Jvm.Cond.lays "FencedStandbysModel" "FencedStandbysModel" "spot" "I") ∈ lw_all := lw_g (lw_at lw_m6 104 rfl) rfl
theorem q1358 : (Jvm.Cond.soleField "FencedStandbysModel" "spot") ∈ lw_all := lw_g (lw_at lw_m6 105 rfl) rfl
theorem q1359 : (Jvm.Cond.lays "FencedStandbysModel" "FencedStandbysModel" "from" "I") ∈ lw_all := lw_g (lw_at lw_m6 106 rfl) rfl
theorem q1360 : (Jvm.Cond.soleField "FencedStandbysModel" "from") ∈ lw_all := lw_g (lw_at lw_m6 107 rfl) rfl
theorem q1361 : (Jvm.Cond.lays "FencedStandbysModel" "FencedStandbysModel" "reason" "I") ∈ lw_all := lw_g (lw_at lw_m6 108 rfl) rfl
theorem q1362 : (Jvm.Cond.soleField "FencedStandbysModel" "reason") ∈ lw_all := lw_g (lw_at lw_m6 109 rfl) rfl
theorem q1363 : (Jvm.Cond.lays "FencedStandbysModel" "FencedStandbysModel" "cause" "I") ∈ lw_all := lw_g (lw_at lw_m6 110 rfl) rfl
theorem q1364 : (Jvm.Cond.soleField "FencedStandbysModel" "cause") ∈ lw_all := lw_g (lw_at lw_m6 111 rfl) rfl
theorem q1365 : (Jvm.Cond.lays "FencedStandbysModel" "FencedStandbysModel" "orders" "I") ∈ lw_all := lw_g (lw_at lw_m6 112 rfl) rfl
theorem q1366 : (Jvm.Cond.soleField "FencedStandbysModel" "orders") ∈ lw_all := lw_g (lw_at lw_m6 113 rfl) rfl
theorem q1367 : (Jvm.Cond.lays "FencedStandbysModel" "FencedStandbysModel" "order" "I") ∈ lw_all := lw_g (lw_at lw_m6 114 rfl) rfl
theorem q1368 : (Jvm.Cond.soleField "FencedStandbysModel" "order") ∈ lw_all := lw_g (lw_at lw_m6 115 rfl) rfl
theorem q1369 : (Jvm.Cond.laysFinal "FencedStandbysModel" "FencedStandbysModel" "told" "[I") ∈ lw_all := lw_g (lw_at lw_m6 116 rfl) rfl
theorem q1370 : (Jvm.Cond.soleField "FencedStandbysModel" "told") ∈ lw_all := lw_g (lw_at lw_m6 117 rfl) rfl
theorem q1371 : (Jvm.Cond.superclass "FencedStandbysModel" "java/lang/Object") ∈ lw_all := lw_g (lw_at lw_m6 118 rfl) rfl
theorem q1373 : (Jvm.Cond.instanceMethod ({ cls := "FencedStandbysModel", name := "open", desc := "(I)I" } : Jvm.MethodName)) ∈ lw_all := lw_g (lw_at lw_m6 120 rfl) rfl
theorem q1374 : (Jvm.Cond.selects "FencedStandbysModel" ({ cls := "FencedStandbysModel", name := "open", desc := "(I)I" } : Jvm.MethodName) ({ cls := "FencedStandbysModel", name := "open", desc := "(I)I" } : Jvm.MethodName)) ∈ lw_all := lw_g (lw_at lw_m6 121 rfl) rfl
theorem q1375 : (Jvm.Cond.code ({ cls := "FencedStandbysModel", name := "open", desc := "(I)I" } : Jvm.MethodName) prog_11_method_12_code (2 : Nat) (Option.some Jvm.ClassFile.FieldType.int)) ∈ lw_all := lw_g (lw_at lw_m6 122 rfl) rfl
theorem q1376 : (Jvm.Cond.methodLink "FencedStandbysModel" (37 : Nat) ({ cls := "FencedStandbysModel", name := "isSlot", desc := "(I)Z" } : Jvm.MethodName)) ∈ lw_all := lw_g (lw_at lw_m6 123 rfl) rfl
theorem q1377 : (Jvm.Cond.static ({ cls := "FencedStandbysModel", name := "isSlot", desc := "(I)Z" } : Jvm.MethodName)) ∈ lw_all := lw_g (lw_at lw_m6 124 rfl) rfl
theorem q1378 : (Jvm.Cond.code ({ cls := "FencedStandbysModel", name := "isSlot", desc := "(I)Z" } : Jvm.MethodName) prog_11_method_6_code (1 : Nat) (Option.some Jvm.ClassFile.FieldType.boolean)) ∈ lw_all := lw_g (lw_at lw_m6 125 rfl) rfl
theorem q1379 : (Jvm.Cond.methodLink "FencedStandbysModel" (33 : Nat) ({ cls := "FencedStandbysModel", name := "in", desc := "(III)Z" } : Jvm.MethodName)) ∈ lw_all := lw_g (lw_at lw_m6 126 rfl) rfl
theorem q1380 : (Jvm.Cond.static ({ cls := "FencedStandbysModel", name := "in", desc := "(III)Z" } : Jvm.MethodName)) ∈ lw_all := lw_g (lw_at lw_m6 127 rfl) rfl
theorem q1381 : (Jvm.Cond.code ({ cls := "FencedStandbysModel", name := "in", desc := "(III)Z" } : Jvm.MethodName) prog_11_method_3_code (3 : Nat) (Option.some Jvm.ClassFile.FieldType.boolean)) ∈ lw_all := lw_g (lw_at lw_m6 128 rfl) rfl
theorem q1382 : (Jvm.Cond.constant "FencedStandbysModel" (41 : Nat) (-1000001 : Int32)) ∈ lw_all := lw_g (lw_at lw_m6 129 rfl) rfl
theorem q1383 : (Jvm.Cond.constant "FencedStandbysModel" (42 : Nat) (-1000002 : Int32)) ∈ lw_all := lw_g (lw_at lw_m6 130 rfl) rfl
theorem q1384 : (Jvm.Cond.methodLink "FencedStandbysModel" (43 : Nat) ({ cls := "FencedStandbysModel", name := "changes", desc := "()V" } : Jvm.MethodName)) ∈ lw_all := lw_g (lw_at lw_m6 131 rfl) rfl
theorem q1385 : (Jvm.Cond.privateMethod ({ cls := "FencedStandbysModel", name := "changes", desc := "()V" } : Jvm.MethodName)) ∈ lw_tbl := lw_at lw_m6 132 rfl
theorem q1386 : (Jvm.Cond.instanceMethod ({ cls := "FencedStandbysModel", name := "changes", desc := "()V" } : Jvm.MethodName)) ∈ lw_all := lw_g (lw_at lw_m6 133 rfl) rfl
theorem q1387 : (Jvm.Cond.code ({ cls := "FencedStandbysModel", name := "changes", desc := "()V" } : Jvm.MethodName) prog_11_method_5_code (2 : Nat) (Option.none : Option Jvm.ClassFile.FieldType)) ∈ lw_all := lw_g (lw_at lw_m6 134 rfl) rfl
theorem q1389 : (Jvm.Cond.instanceMethod ({ cls := "FencedStandbysModel", name := "put", desc := "(III)I" } : Jvm.MethodName)) ∈ lw_all := lw_g (lw_at lw_m6 136 rfl) rfl
theorem q1390 : (Jvm.Cond.selects "FencedStandbysModel" ({ cls := "FencedStandbysModel", name := "put", desc := "(III)I" } : Jvm.MethodName) ({ cls := "FencedStandbysModel", name := "put", desc := "(III)I" } : Jvm.MethodName)) ∈ lw_all := lw_g (lw_at lw_m6 137 rfl) rfl
theorem q1391 : (Jvm.Cond.code ({ cls := "FencedStandbysModel", name := "put", desc := "(III)I" } : Jvm.MethodName) prog_11_method_15_code (5 : Nat) (Option.some Jvm.ClassFile.FieldType.int)) ∈ lw_all := lw_g (lw_at lw_m6 138 rfl) rfl
theorem q1392 : (Jvm.Cond.methodLink "FencedStandbysModel" (47 : Nat) ({ cls := "FencedStandbysModel", name := "isKey", desc := "(I)Z" } : Jvm.MethodName)) ∈ lw_all := lw_g (lw_at lw_m6 139 rfl) rfl
theorem q1393 : (Jvm.Cond.static ({ cls := "FencedStandbysModel", name := "isKey", desc := "(I)Z" } : Jvm.MethodName)) ∈ lw_all := lw_g (lw_at lw_m6 140 rfl) rfl
theorem q1394 : (Jvm.Cond.code ({ cls := "FencedStandbysModel", name := "isKey", desc := "(I)Z" } : Jvm.MethodName) prog_11_method_7_code (1 : Nat) (Option.some Jvm.ClassFile.FieldType.boolean)) ∈ lw_all := lw_g (lw_at lw_m6 141 rfl) rfl
theorem q1395 : (Jvm.Cond.methodLink "FencedStandbysModel" (50 : Nat) ({ cls := "FencedStandbysModel", name := "bar", desc := "(I)I" } : Jvm.MethodName)) ∈ lw_all := lw_g (lw_at lw_m6 142 rfl) rfl
theorem q1396 : (Jvm.Cond.privateMethod ({ cls := "FencedStandbysModel", name := "bar", desc := "(I)I" } : Jvm.MethodName)) ∈ lw_tbl := lw_at lw_m6 143 rfl
theorem q1397 : (Jvm.Cond.instanceMethod ({ cls := "FencedStandbysModel", name := "bar", desc := "(I)I" } : Jvm.MethodName)) ∈ lw_all := lw_g (lw_at lw_m6 144 rfl) rfl
theorem q1398 : (Jvm.Cond.code ({ cls := "FencedStandbysModel", name := "bar", desc := "(I)I" } : Jvm.MethodName) prog_11_method_13_code (2 : Nat) (Option.some Jvm.ClassFile.FieldType.int)) ∈ lw_all := lw_g (lw_at lw_m6 145 rfl) rfl
theorem q1399 : (Jvm.Cond.constant "FencedStandbysModel" (46 : Nat) (-1000003 : Int32)) ∈ lw_all := lw_g (lw_at lw_m6 146 rfl) rfl
theorem q1400 : (Jvm.Cond.methodLink "FencedStandbysModel" (54 : Nat) ({ cls := "FencedStandbysModel", name := "writes", desc := "(IIII)I" } : Jvm.MethodName)) ∈ lw_all := lw_g (lw_at lw_m6 147 rfl) rfl
theorem q1401 : (Jvm.Cond.privateMethod ({ cls := "FencedStandbysModel", name := "writes", desc := "(IIII)I" } : Jvm.MethodName)) ∈ lw_tbl := lw_at lw_m6 148 rfl
theorem q1402 : (Jvm.Cond.instanceMethod ({ cls := "FencedStandbysModel", name := "writes", desc := "(IIII)I" } : Jvm.MethodName)) ∈ lw_all := lw_g (lw_at lw_m6 149 rfl) rfl
theorem q1403 : (Jvm.Cond.code ({ cls := "FencedStandbysModel", name := "writes", desc := "(IIII)I" } : Jvm.MethodName) prog_11_method_14_code (6 : Nat) (Option.some Jvm.ClassFile.FieldType.int)) ∈ lw_all := lw_g (lw_at lw_m6 150 rfl) rfl
theorem q1405 : (Jvm.Cond.instanceMethod ({ cls := "FencedStandbysModel", name := "commit", desc := "(I)I" } : Jvm.MethodName)) ∈ lw_all := lw_g (lw_at lw_m6 152 rfl) rfl
theorem q1406 : (Jvm.Cond.selects "FencedStandbysModel" ({ cls := "FencedStandbysModel", name := "commit", desc := "(I)I" } : Jvm.MethodName) ({ cls := "FencedStandbysModel", name := "commit", desc := "(I)I" } : Jvm.MethodName)) ∈ lw_all := lw_g (lw_at lw_m6 153 rfl) rfl
theorem q1407 : (Jvm.Cond.code ({ cls := "FencedStandbysModel", name := "commit", desc := "(I)I" } : Jvm.MethodName) prog_11_method_16_code (3 : Nat) (Option.some Jvm.ClassFile.FieldType.int)) ∈ lw_all := lw_g (lw_at lw_m6 154 rfl) rfl
theorem q1408 : (Jvm.Cond.constant "FencedStandbysModel" (58 : Nat) (-1000004 : Int32)) ∈ lw_all := lw_g (lw_at lw_m6 155 rfl) rfl
theorem q1410 : (Jvm.Cond.instanceMethod ({ cls := "FencedStandbysModel", name := "abort", desc := "(I)I" } : Jvm.MethodName)) ∈ lw_all := lw_g (lw_at lw_m6 157 rfl) rfl
theorem q1411 : (Jvm.Cond.selects "FencedStandbysModel" ({ cls := "FencedStandbysModel", name := "abort", desc := "(I)I" } : Jvm.MethodName) ({ cls := "FencedStandbysModel", name := "abort", desc := "(I)I" } : Jvm.MethodName)) ∈ lw_all := lw_g (lw_at lw_m6 158 rfl) rfl
theorem q1412 : (Jvm.Cond.code ({ cls := "FencedStandbysModel", name := "abort", desc := "(I)I" } : Jvm.MethodName) prog_11_method_17_code (3 : Nat) (Option.some Jvm.ClassFile.FieldType.int)) ∈ lw_all := lw_g (lw_at lw_m6 159 rfl) rfl
theorem q1414 : (Jvm.Cond.instanceMethod ({ cls := "FencedStandbysModel", name := "ship", desc := "(II)I" } : Jvm.MethodName)) ∈ lw_all := lw_g (lw_at lw_m6 161 rfl) rfl
theorem q1415 : (Jvm.Cond.selects "FencedStandbysModel" ({ cls := "FencedStandbysModel", name := "ship", desc := "(II)I" } : Jvm.MethodName) ({ cls := "FencedStandbysModel", name := "ship", desc := "(II)I" } : Jvm.MethodName)) ∈ lw_all := lw_g (lw_at lw_m6 162 rfl) rfl
theorem q1416 : (Jvm.Cond.code ({ cls := "FencedStandbysModel", name := "ship", desc := "(II)I" } : Jvm.MethodName) prog_11_method_22_code (5 : Nat) (Option.some Jvm.ClassFile.FieldType.int)) ∈ lw_all := lw_g (lw_at lw_m6 163 rfl) rfl
theorem q1417 : (Jvm.Cond.methodLink "FencedStandbysModel" (69 : Nat) ({ cls := "FencedStandbysModel", name := "isStandby", desc := "(I)Z" } : Jvm.MethodName)) ∈ lw_all := lw_g (lw_at lw_m6 164 rfl) rfl
theorem q1418 : (Jvm.Cond.static ({ cls := "FencedStandbysModel", name := "isStandby", desc := "(I)Z" } : Jvm.MethodName)) ∈ lw_all := lw_g (lw_at lw_m6 165 rfl) rfl
theorem q1419 : (Jvm.Cond.code ({ cls := "FencedStandbysModel", name := "isStandby", desc := "(I)Z" } : Jvm.MethodName) prog_11_method_8_code (1 : Nat) (Option.some Jvm.ClassFile.FieldType.boolean)) ∈ lw_all := lw_g (lw_at lw_m6 166 rfl) rfl
theorem q1420 : (Jvm.Cond.methodLink "FencedStandbysModel" (72 : Nat) ({ cls := "FencedStandbysModel", name := "ofStandby", desc := "(II)I" } : Jvm.MethodName)) ∈ lw_all := lw_g (lw_at lw_m6 167 rfl) rfl
theorem q1421 : (Jvm.Cond.privateMethod ({ cls := "FencedStandbysModel", name := "ofStandby", desc := "(II)I" } : Jvm.MethodName)) ∈ lw_tbl := lw_at lw_m6 168 rfl
theorem q1422 : (Jvm.Cond.instanceMethod ({ cls := "FencedStandbysModel", name := "ofStandby", desc := "(II)I" } : Jvm.MethodName)) ∈ lw_all := lw_g (lw_at lw_m6 169 rfl) rfl
theorem q1423 : (Jvm.Cond.code ({ cls := "FencedStandbysModel", name := "ofStandby", desc := "(II)I" } : Jvm.MethodName) prog_11_method_10_code (3 : Nat) (Option.some Jvm.ClassFile.FieldType.int)) ∈ lw_all := lw_g (lw_at lw_m6 170 rfl) rfl
theorem q1425 : (Jvm.Cond.instanceMethod ({ cls := "FencedStandbysModel", name := "lose", desc := "(II)I" } : Jvm.MethodName)) ∈ lw_all := lw_g (lw_at lw_m6 172 rfl) rfl
theorem q1426 : (Jvm.Cond.selects "FencedStandbysModel" ({ cls := "FencedStandbysModel", name := "lose", desc := "(II)I" } : Jvm.MethodName) ({ cls := "FencedStandbysModel", name := "lose", desc := "(II)I" } : Jvm.MethodName)) ∈ lw_all := lw_g (lw_at lw_m6 173 rfl) rfl
theorem q1427 : (Jvm.Cond.code ({ cls := "FencedStandbysModel", name := "lose", desc := "(II)I" } : Jvm.MethodName) prog_11_method_26_code (3 : Nat) (Option.some Jvm.ClassFile.FieldType.int)) ∈ lw_all := lw_g (lw_at lw_m6 174 rfl) rfl
theorem q1428 : (Jvm.Cond.methodLink "FencedStandbysModel" (75 : Nat) ({ cls := "FencedStandbysModel", name := "isGap", desc := "(II)Z" } : Jvm.MethodName)) ∈ lw_all := lw_g (lw_at lw_m6 175 rfl) rfl
theorem q1429 : (Jvm.Cond.privateMethod ({ cls := "FencedStandbysModel", name := "isGap", desc := "(II)Z" } : Jvm.MethodName)) ∈ lw_tbl := lw_at lw_m6 176 rfl
theorem q1430 : (Jvm.Cond.instanceMethod ({ cls := "FencedStandbysModel", name := "isGap", desc := "(II)Z" } : Jvm.MethodName)) ∈ lw_all := lw_g (lw_at lw_m6 177 rfl) rfl
theorem q1431 : (Jvm.Cond.code ({ cls := "FencedStandbysModel", name := "isGap", desc := "(II)Z" } : Jvm.MethodName) prog_11_method_11_code (3 : Nat) (Option.some Jvm.ClassFile.FieldType.boolean)) ∈ lw_all := lw_g (lw_at lw_m6 178 rfl) rfl
theorem q1432 : (Jvm.Cond.methodLink "FencedStandbysModel" (79 : Nat) ({ cls := "FencedStandbysModel", name := "gaps", desc := "(I)I" } : Jvm.MethodName)) ∈ lw_all := lw_g (lw_at lw_m6 179 rfl) rfl
theorem q1433 : (Jvm.Cond.privateMethod ({ cls := "FencedStandbysModel", name := "gaps", desc := "(I)I" } : Jvm.MethodName)) ∈ lw_tbl := lw_at lw_m6 180 rfl
theorem q1434 : (Jvm.Cond.instanceMethod ({ cls := "FencedStandbysModel", name := "gaps", desc := "(I)I" } : Jvm.MethodName)) ∈ lw_all := lw_g (lw_at lw_m6 181 rfl) rfl
theorem q1435 : (Jvm.Cond.code ({ cls := "FencedStandbysModel", name := "gaps", desc := "(I)I" } : Jvm.MethodName) prog_11_method_23_code (4 : Nat) (Option.some Jvm.ClassFile.FieldType.int)) ∈ lw_all := lw_g (lw_at lw_m6 182 rfl) rfl
theorem q1437 : (Jvm.Cond.instanceMethod ({ cls := "FencedStandbysModel", name := "resend", desc := "(I)I" } : Jvm.MethodName)) ∈ lw_all := lw_g (lw_at lw_m6 184 rfl) rfl
theorem q1438 : (Jvm.Cond.selects "FencedStandbysModel" ({ cls := "FencedStandbysModel", name := "resend", desc := "(I)I" } : Jvm.MethodName) ({ cls := "FencedStandbysModel", name := "resend", desc := "(I)I" } : Jvm.MethodName)) ∈ lw_all := lw_g (lw_at lw_m6 185 rfl) rfl
theorem q1439 : (Jvm.Cond.code ({ cls := "FencedStandbysModel", name := "resend", desc := "(I)I" } : Jvm.MethodName) prog_11_method_27_code (3 : Nat) (Option.some Jvm.ClassFile.FieldType.int)) ∈ lw_all := lw_g (lw_at lw_m6 186 rfl) rfl
theorem q1440 : (Jvm.Cond.methodLink "FencedStandbysModel" (82 : Nat) ({ cls := "FencedStandbysModel", name := "fillsGaps", desc := "(II)V" } : Jvm.MethodName)) ∈ lw_all := lw_g (lw_at lw_m6 187 rfl) rfl
theorem q1441 : (Jvm.Cond.privateMethod ({ cls := "FencedStandbysModel", name := "fillsGaps", desc := "(II)V" } : Jvm.MethodName)) ∈ lw_tbl := lw_at lw_m6 188 rfl
theorem q1442 : (Jvm.Cond.instanceMethod ({ cls := "FencedStandbysModel", name := "fillsGaps", desc := "(II)V" } : Jvm.MethodName)) ∈ lw_all := lw_g (lw_at lw_m6 189 rfl) rfl
theorem q1443 : (Jvm.Cond.code ({ cls := "FencedStandbysModel", name := "fillsGaps", desc := "(II)V" } : Jvm.MethodName) prog_11_method_25_code (4 : Nat) (Option.none : Option Jvm.ClassFile.FieldType)) ∈ lw_all := lw_g (lw_at lw_m6 190 rfl) rfl
theorem q1445 : (Jvm.Cond.instanceMethod ({ cls := "FencedStandbysModel", name := "tick", desc := "(I)I" } : Jvm.MethodName)) ∈ lw_all := lw_g (lw_at lw_m6 192 rfl) rfl
theorem q1446 : (Jvm.Cond.selects "FencedStandbysModel" ({ cls := "FencedStandbysModel", name := "tick", desc := "(I)I" } : Jvm.MethodName) ({ cls := "FencedStandbysModel", name := "tick", desc := "(I)I" } : Jvm.MethodName)) ∈ lw_all := lw_g (lw_at lw_m6 193 rfl) rfl
theorem q1447 : (Jvm.Cond.code ({ cls := "FencedStandbysModel", name := "tick", desc := "(I)I" } : Jvm.MethodName) prog_11_method_29_code (6 : Nat) (Option.some Jvm.ClassFile.FieldType.int)) ∈ lw_all := lw_g (lw_at lw_m6 194 rfl) rfl
theorem q1448 : (Jvm.Cond.methodLink "FencedStandbysModel" (86 : Nat) ({ cls := "FencedStandbysModel", name := "goes", desc := "(IIII)I" } : Jvm.MethodName)) ∈ lw_all := lw_g (lw_at lw_m6 195 rfl) rfl
theorem q1449 : (Jvm.Cond.privateMethod ({ cls := "FencedStandbysModel", name := "goes", desc := "(IIII)I" } : Jvm.MethodName)) ∈ lw_tbl := lw_at lw_m6 196 rfl
theorem q1450 : (Jvm.Cond.instanceMethod ({ cls := "FencedStandbysModel", name := "goes", desc := "(IIII)I" } : Jvm.MethodName)) ∈ lw_all := lw_g (lw_at lw_m6 197 rfl) rfl
theorem q1451 : (Jvm.Cond.code ({ cls := "FencedStandbysModel", name := "goes", desc := "(IIII)I" } : Jvm.MethodName) prog_11_method_28_code (8 : Nat) (Option.some Jvm.ClassFile.FieldType.int)) ∈ lw_all := lw_g (lw_at lw_m6 198 rfl) rfl
theorem q1452 : (Jvm.Cond.methodLink "FencedStandbysModel" (59 : Nat) ({ cls := "FencedStandbysModel", name := "ofRecord", desc := "(II)I" } : Jvm.MethodName)) ∈ lw_all := lw_g (lw_at lw_m6 199 rfl) rfl
theorem q1453 : (Jvm.Cond.privateMethod ({ cls := "FencedStandbysModel", name := "ofRecord", desc := "(II)I" } : Jvm.MethodName)) ∈ lw_tbl := lw_at lw_m6 200 rfl
theorem q1454 : (Jvm.Cond.instanceMethod ({ cls := "FencedStandbysModel", name := "ofRecord", desc := "(II)I" } : Jvm.MethodName)) ∈ lw_all := lw_g (lw_at lw_m6 201 rfl) rfl
theorem q1455 : (Jvm.Cond.code ({ cls := "FencedStandbysModel", name := "ofRecord", desc := "(II)I" } : Jvm.MethodName) prog_11_method_9_code (3 : Nat) (Option.some Jvm.ClassFile.FieldType.int)) ∈ lw_all := lw_g (lw_at lw_m6 202 rfl) rfl
theorem q1457 : (Jvm.Cond.instanceMethod ({ cls := "FencedStandbysModel", name := "promote", desc := "(I)I" } : Jvm.MethodName)) ∈ lw_all := lw_g (lw_at lw_m6 204 rfl) rfl
theorem q1458 : (Jvm.Cond.selects "FencedStandbysModel" ({ cls := "FencedStandbysModel", name := "promote", desc := "(I)I" } : Jvm.MethodName) ({ cls := "FencedStandbysModel", name := "promote", desc := "(I)I" } : Jvm.MethodName)) ∈ lw_all := lw_g (lw_at lw_m6 205 rfl) rfl
theorem q1459 : (Jvm.Cond.code ({ cls := "FencedStandbysModel", name := "promote", desc := "(I)I" } : Jvm.MethodName) prog_11_method_32_code (6 : Nat) (Option.some Jvm.ClassFile.FieldType.int)) ∈ lw_all := lw_g (lw_at lw_m6 206 rfl) rfl
theorem q1460 : (Jvm.Cond.methodLink "FencedStandbysModel" (92 : Nat) ({ cls := "FencedStandbysModel", name := "wouldBeLost", desc := "(I)I" } : Jvm.MethodName)) ∈ lw_all := lw_g (lw_at lw_m6 207 rfl) rfl
theorem q1461 : (Jvm.Cond.privateMethod ({ cls := "FencedStandbysModel", name := "wouldBeLost", desc := "(I)I" } : Jvm.MethodName)) ∈ lw_tbl := lw_at lw_m6 208 rfl
theorem q1462 : (Jvm.Cond.instanceMethod ({ cls := "FencedStandbysModel", name := "wouldBeLost", desc := "(I)I" } : Jvm.MethodName)) ∈ lw_all := lw_g (lw_at lw_m6 209 rfl) rfl
theorem q1463 : (Jvm.Cond.code ({ cls := "FencedStandbysModel", name := "wouldBeLost", desc := "(I)I" } : Jvm.MethodName) prog_11_method_31_code (2 : Nat) (Option.some Jvm.ClassFile.FieldType.int)) ∈ lw_all := lw_g (lw_at lw_m6 210 rfl) rfl
theorem q1464 : (Jvm.Cond.methodLink "FencedStandbysModel" (89 : Nat) ({ cls := "FencedStandbysModel", name := "commits", desc := "(II)I" } : Jvm.MethodName)) ∈ lw_all := lw_g (lw_at lw_m6 211 rfl) rfl
theorem q1465 : (Jvm.Cond.privateMethod ({ cls := "FencedStandbysModel", name := "commits", desc := "(II)I" } : Jvm.MethodName)) ∈ lw_tbl := lw_at lw_m6 212 rfl
theorem q1466 : (Jvm.Cond.instanceMethod ({ cls := "FencedStandbysModel", name := "commits", desc := "(II)I" } : Jvm.MethodName)) ∈ lw_all := lw_g (lw_at lw_m6 213 rfl) rfl
theorem q1467 : (Jvm.Cond.code ({ cls := "FencedStandbysModel", name := "commits", desc := "(II)I" } : Jvm.MethodName) prog_11_method_21_code (5 : Nat) (Option.some Jvm.ClassFile.FieldType.int)) ∈ lw_all := lw_g (lw_at lw_m6 214 rfl) rfl
theorem q1468 : (Jvm.Cond.methodLink "FencedStandbysModel" (95 : Nat) ({ cls := "FencedStandbysModel", name := "lays", desc := "(III)V" } : Jvm.MethodName)) ∈ lw_all := lw_g (lw_at lw_m6 215 rfl) rfl
theorem q1469 : (Jvm.Cond.privateMethod ({ cls := "FencedStandbysModel", name := "lays", desc := "(III)V" } : Jvm.MethodName)) ∈ lw_tbl := lw_at lw_m6 216 rfl
theorem q1470 : (Jvm.Cond.instanceMethod ({ cls := "FencedStandbysModel", name := "lays", desc := "(III)V" } : Jvm.MethodName)) ∈ lw_all := lw_g (lw_at lw_m6 217 rfl) rfl
theorem q1471 : (Jvm.Cond.code ({ cls := "FencedStandbysModel", name := "lays", desc := "(III)V" } : Jvm.MethodName) prog_11_method_30_code (4 : Nat) (Option.none : Option Jvm.ClassFile.FieldType)) ∈ lw_all := lw_g (lw_at lw_m6 218 rfl) rfl
theorem q1473 : (Jvm.Cond.instanceMethod ({ cls := "FencedStandbysModel", name := "rebuild", desc := "(I)I" } : Jvm.MethodName)) ∈ lw_all := lw_g (lw_at lw_m6 220 rfl) rfl
theorem q1474 : (Jvm.Cond.selects "FencedStandbysModel" ({ cls := "FencedStandbysModel", name := "rebuild", desc := "(I)I" } : Jvm.MethodName) ({ cls := "FencedStandbysModel", name := "rebuild", desc := "(I)I" } : Jvm.MethodName)) ∈ lw_all := lw_g (lw_at lw_m6 221 rfl) rfl
theorem q1475 : (Jvm.Cond.code ({ cls := "FencedStandbysModel", name := "rebuild", desc := "(I)I" } : Jvm.MethodName) prog_11_method_33_code (2 : Nat) (Option.some Jvm.ClassFile.FieldType.int)) ∈ lw_all := lw_g (lw_at lw_m6 222 rfl) rfl
theorem q1477 : (Jvm.Cond.instanceMethod ({ cls := "FencedStandbysModel", name := "set", desc := "(II)I" } : Jvm.MethodName)) ∈ lw_all := lw_g (lw_at lw_m6 224 rfl) rfl
theorem q1478 : (Jvm.Cond.selects "FencedStandbysModel" ({ cls := "FencedStandbysModel", name := "set", desc := "(II)I" } : Jvm.MethodName) ({ cls := "FencedStandbysModel", name := "set", desc := "(II)I" } : Jvm.MethodName)) ∈ lw_all := lw_g (lw_at lw_m6 225 rfl) rfl
theorem q1479 : (Jvm.Cond.code ({ cls := "FencedStandbysModel", name := "set", desc := "(II)I" } : Jvm.MethodName) prog_11_method_34_code (4 : Nat) (Option.some Jvm.ClassFile.FieldType.int)) ∈ lw_all := lw_g (lw_at lw_m6 226 rfl) rfl
theorem q1481 : (Jvm.Cond.instanceMethod ({ cls := "FencedStandbysModel", name := "read", desc := "(III)I" } : Jvm.MethodName)) ∈ lw_all := lw_g (lw_at lw_m6 228 rfl) rfl
theorem q1482 : (Jvm.Cond.selects "FencedStandbysModel" ({ cls := "FencedStandbysModel", name := "read", desc := "(III)I" } : Jvm.MethodName) ({ cls := "FencedStandbysModel", name := "read", desc := "(III)I" } : Jvm.MethodName)) ∈ lw_all := lw_g (lw_at lw_m6 229 rfl) rfl
theorem q1483 : (Jvm.Cond.code ({ cls := "FencedStandbysModel", name := "read", desc := "(III)I" } : Jvm.MethodName) prog_11_method_37_code (4 : Nat) (Option.some Jvm.ClassFile.FieldType.int)) ∈ lw_all := lw_g (lw_at lw_m6 230 rfl) rfl
theorem q1484 : (Jvm.Cond.methodLink "FencedStandbysModel" (99 : Nat) ({ cls := "FencedStandbysModel", name := "isFence", desc := "(I)Z" } : Jvm.MethodName)) ∈ lw_all := lw_g (lw_at lw_m6 231 rfl) rfl
theorem q1485 : (Jvm.Cond.privateMethod ({ cls := "FencedStandbysModel", name := "isFence", desc := "(I)Z" } : Jvm.MethodName)) ∈ lw_tbl := lw_at lw_m6 232 rfl
theorem q1486 : (Jvm.Cond.instanceMethod ({ cls := "FencedStandbysModel", name := "isFence", desc := "(I)Z" } : Jvm.MethodName)) ∈ lw_all := lw_g (lw_at lw_m6 233 rfl) rfl
theorem q1487 : (Jvm.Cond.code ({ cls := "FencedStandbysModel", name := "isFence", desc := "(I)Z" } : Jvm.MethodName) prog_11_method_35_code (2 : Nat) (Option.some Jvm.ClassFile.FieldType.boolean)) ∈ lw_all := lw_g (lw_at lw_m6 234 rfl) rfl
theorem q1488 : (Jvm.Cond.methodLink "FencedStandbysModel" (102 : Nat) ({ cls := "FencedStandbysModel", name := "canServe", desc := "(II)Z" } : Jvm.MethodName)) ∈ lw_all := lw_g (lw_at lw_m6 235 rfl) rfl
theorem q1489 : (Jvm.Cond.privateMethod ({ cls := "FencedStandbysModel", name := "canServe", desc := "(II)Z" } : Jvm.MethodName)) ∈ lw_tbl := lw_at lw_m6 236 rfl
theorem q1490 : (Jvm.Cond.instanceMethod ({ cls := "FencedStandbysModel", name := "canServe", desc := "(II)Z" } : Jvm.MethodName)) ∈ lw_all := lw_g (lw_at lw_m6 237 rfl) rfl
theorem q1491 : (Jvm.Cond.code ({ cls := "FencedStandbysModel", name := "canServe", desc := "(II)Z" } : Jvm.MethodName) prog_11_method_36_code (3 : Nat) (Option.some Jvm.ClassFile.FieldType.boolean)) ∈ lw_all := lw_g (lw_at lw_m6 238 rfl) rfl
theorem q1492 : (Jvm.Cond.methodLink "FencedStandbysModel" (105 : Nat) ({ cls := "FencedStandbysModel", name := "valueAt", desc := "(II)I" } : Jvm.MethodName)) ∈ lw_all := lw_g (lw_at lw_m6 239 rfl) rfl
theorem q1493 : (Jvm.Cond.privateMethod ({ cls := "FencedStandbysModel", name := "valueAt", desc := "(II)I" } : Jvm.MethodName)) ∈ lw_tbl := lw_at lw_m7 0 rfl
theorem q1494 : (Jvm.Cond.instanceMethod ({ cls := "FencedStandbysModel", name := "valueAt", desc := "(II)I" } : Jvm.MethodName)) ∈ lw_all := lw_g (lw_at lw_m7 1 rfl) rfl
theorem q1495 : (Jvm.Cond.code ({ cls := "FencedStandbysModel", name := "valueAt", desc := "(II)I" } : Jvm.MethodName) prog_11_method_20_code (4 : Nat) (Option.some Jvm.ClassFile.FieldType.int)) ∈ lw_all := lw_g (lw_at lw_m7 2 rfl) rfl
theorem q1496 : (Jvm.Cond.methodLink "FencedStandbysModel" (66 : Nat) ({ cls := "FencedStandbysModel", name := "lastCommit", desc := "(II)I" } : Jvm.MethodName)) ∈ lw_all := lw_g (lw_at lw_m7 3 rfl) rfl
theorem q1497 : (Jvm.Cond.privateMethod ({ cls := "FencedStandbysModel", name := "lastCommit", desc := "(II)I" } : Jvm.MethodName)) ∈ lw_tbl := lw_at lw_m7 4 rfl
theorem q1498 : (Jvm.Cond.instanceMethod ({ cls := "FencedStandbysModel", name := "lastCommit", desc := "(II)I" } : Jvm.MethodName)) ∈ lw_all := lw_g (lw_at lw_m7 5 rfl) rfl
theorem q1499 : (Jvm.Cond.code ({ cls := "FencedStandbysModel", name := "lastCommit", desc := "(II)I" } : Jvm.MethodName) prog_11_method_19_code (4 : Nat) (Option.some Jvm.ClassFile.FieldType.int)) ∈ lw_all := lw_g (lw_at lw_m7 6 rfl) rfl
theorem q1500 : (Jvm.Cond.methodLink "FencedStandbysModel" (63 : Nat) ({ cls := "FencedStandbysModel", name := "lastPut", desc := "(II)I" } : Jvm.MethodName)) ∈ lw_all := lw_g (lw_at lw_m7 7 rfl) rfl
theorem q1501 : (Jvm.Cond.privateMethod ({ cls := "FencedStandbysModel", name := "lastPut", desc := "(II)I" } : Jvm.MethodName)) ∈ lw_tbl := lw_at lw_m7 8 rfl
theorem q1502 : (Jvm.Cond.instanceMethod ({ cls := "FencedStandbysModel", name := "lastPut", desc := "(II)I" } : Jvm.MethodName)) ∈ lw_all := lw_g (lw_at lw_m7 9 rfl) rfl
theorem q1503 : (Jvm.Cond.code ({ cls := "FencedStandbysModel", name := "lastPut", desc := "(II)I" } : Jvm.MethodName) prog_11_method_18_code (5 : Nat) (Option.some Jvm.ClassFile.FieldType.int)) ∈ lw_all := lw_g (lw_at lw_m7 10 rfl) rfl
theorem q1505 : (Jvm.Cond.instanceMethod ({ cls := "FencedStandbysModel", name := "primary", desc := "(II)I" } : Jvm.MethodName)) ∈ lw_all := lw_g (lw_at lw_m7 12 rfl) rfl
theorem q1506 : (Jvm.Cond.selects "FencedStandbysModel" ({ cls := "FencedStandbysModel", name := "primary", desc := "(II)I" } : Jvm.MethodName) ({ cls := "FencedStandbysModel", name := "primary", desc := "(II)I" } : Jvm.MethodName)) ∈ lw_all := lw_g (lw_at lw_m7 13 rfl) rfl
theorem q1507 : (Jvm.Cond.code ({ cls := "FencedStandbysModel", name := "primary", desc := "(II)I" } : Jvm.MethodName) prog_11_method_38_code (4 : Nat) (Option.some Jvm.ClassFile.FieldType.int)) ∈ lw_all := lw_g (lw_at lw_m7 14 rfl) rfl
theorem q1509 : (Jvm.Cond.instanceMethod ({ cls := "FencedStandbysModel", name := "serves", desc := "(I)I" } : Jvm.MethodName)) ∈ lw_all := lw_g (lw_at lw_m7 16 rfl) rfl
theorem q1510 : (Jvm.Cond.selects "FencedStandbysModel" ({ cls := "FencedStandbysModel", name := "serves", desc := "(I)I" } : Jvm.MethodName) ({ cls := "FencedStandbysModel", name := "serves", desc := "(I)I" } : Jvm.MethodName)) ∈ lw_all := lw_g (lw_at lw_m7 17 rfl) rfl
theorem q1511 : (Jvm.Cond.code ({ cls := "FencedStandbysModel", name := "serves", desc := "(I)I" } : Jvm.MethodName) prog_11_method_39_code (4 : Nat) (Option.some Jvm.ClassFile.FieldType.int)) ∈ lw_all := lw_g (lw_at lw_m7 18 rfl) rfl
theorem q1513 : (Jvm.Cond.instanceMethod ({ cls := "FencedStandbysModel", name := "fence", desc := "(I)I" } : Jvm.MethodName)) ∈ lw_all := lw_g (lw_at lw_m7 20 rfl) rfl
theorem q1514 : (Jvm.Cond.selects "FencedStandbysModel" ({ cls := "FencedStandbysModel", name := "fence", desc := "(I)I" } : Jvm.MethodName) ({ cls := "FencedStandbysModel", name := "fence", desc := "(I)I" } : Jvm.MethodName)) ∈ lw_all := lw_g (lw_at lw_m7 21 rfl) rfl
theorem q1515 : (Jvm.Cond.code ({ cls := "FencedStandbysModel", name := "fence", desc := "(I)I" } : Jvm.MethodName) prog_11_method_40_code (3 : Nat) (Option.some Jvm.ClassFile.FieldType.int)) ∈ lw_all := lw_g (lw_at lw_m7 22 rfl) rfl
theorem q1517 : (Jvm.Cond.instanceMethod ({ cls := "FencedStandbysModel", name := "recordOf", desc := "(II)I" } : Jvm.MethodName)) ∈ lw_all := lw_g (lw_at lw_m7 24 rfl) rfl
theorem q1518 : (Jvm.Cond.selects "FencedStandbysModel" ({ cls := "FencedStandbysModel", name := "recordOf", desc := "(II)I" } : Jvm.MethodName) ({ cls := "FencedStandbysModel", name := "recordOf", desc := "(II)I" } : Jvm.MethodName)) ∈ lw_all := lw_g (lw_at lw_m7 25 rfl) rfl
theorem q1519 : (Jvm.Cond.code ({ cls := "FencedStandbysModel", name := "recordOf", desc := "(II)I" } : Jvm.MethodName) prog_11_method_41_code (3 : Nat) (Option.some Jvm.ClassFile.FieldType.int)) ∈ lw_all := lw_g (lw_at lw_m7 26 rfl) rfl
theorem q1521 : (Jvm.Cond.instanceMethod ({ cls := "FencedStandbysModel", name := "standbyOf", desc := "(II)I" } : Jvm.MethodName)) ∈ lw_all := lw_g (lw_at lw_m7 28 rfl) rfl
theorem q1522 : (Jvm.Cond.selects "FencedStandbysModel" ({ cls := "FencedStandbysModel", name := "standbyOf", desc := "(II)I" } : Jvm.MethodName) ({ cls := "FencedStandbysModel", name := "standbyOf", desc := "(II)I" } : Jvm.MethodName)) ∈ lw_all := lw_g (lw_at lw_m7 29 rfl) rfl
theorem q1523 : (Jvm.Cond.code ({ cls := "FencedStandbysModel", name := "standbyOf", desc := "(II)I" } : Jvm.MethodName) prog_11_method_43_code (4 : Nat) (Option.some Jvm.ClassFile.FieldType.int)) ∈ lw_all := lw_g (lw_at lw_m7 30 rfl) rfl
theorem q1524 : (Jvm.Cond.methodLink "FencedStandbysModel" (108 : Nat) ({ cls := "FencedStandbysModel", name := "lowestGap", desc := "(I)I" } : Jvm.MethodName)) ∈ lw_all := lw_g (lw_at lw_m7 31 rfl) rfl
theorem q1525 : (Jvm.Cond.privateMethod ({ cls := "FencedStandbysModel", name := "lowestGap", desc := "(I)I" } : Jvm.MethodName)) ∈ lw_tbl := lw_at lw_m7 32 rfl
theorem q1526 : (Jvm.Cond.instanceMethod ({ cls := "FencedStandbysModel", name := "lowestGap", desc := "(I)I" } : Jvm.MethodName)) ∈ lw_all := lw_g (lw_at lw_m7 33 rfl) rfl
theorem q1527 : (Jvm.Cond.code ({ cls := "FencedStandbysModel", name := "lowestGap", desc := "(I)I" } : Jvm.MethodName) prog_11_method_24_code (3 : Nat) (Option.some Jvm.ClassFile.FieldType.int)) ∈ lw_all := lw_g (lw_at lw_m7 34 rfl) rfl
theorem q1528 : (Jvm.Cond.methodLink "FencedStandbysModel" (111 : Nat) ({ cls := "FencedStandbysModel", name := "unlike", desc := "(I)I" } : Jvm.MethodName)) ∈ lw_all := lw_g (lw_at lw_m7 35 rfl) rfl
theorem q1529 : (Jvm.Cond.privateMethod ({ cls := "FencedStandbysModel", name := "unlike", desc := "(I)I" } : Jvm.MethodName)) ∈ lw_tbl := lw_at lw_m7 36 rfl
theorem q1530 : (Jvm.Cond.instanceMethod ({ cls := "FencedStandbysModel", name := "unlike", desc := "(I)I" } : Jvm.MethodName)) ∈ lw_all := lw_g (lw_at lw_m7 37 rfl) rfl
theorem q1531 : (Jvm.Cond.code ({ cls := "FencedStandbysModel", name := "unlike", desc := "(I)I" } : Jvm.MethodName) prog_11_method_42_code (4 : Nat) (Option.some Jvm.ClassFile.FieldType.int)) ∈ lw_all := lw_g (lw_at lw_m7 38 rfl) rfl
theorem q1533 : (Jvm.Cond.instanceMethod ({ cls := "FencedStandbysModel", name := "slotOf", desc := "(II)I" } : Jvm.MethodName)) ∈ lw_all := lw_g (lw_at lw_m7 40 rfl) rfl
theorem q1534 : (Jvm.Cond.selects "FencedStandbysModel" ({ cls := "FencedStandbysModel", name := "slotOf", desc := "(II)I" } : Jvm.MethodName) ({ cls := "FencedStandbysModel", name := "slotOf", desc := "(II)I" } : Jvm.MethodName)) ∈ lw_all := lw_g (lw_at lw_m7 41 rfl) rfl
theorem q1535 : (Jvm.Cond.code ({ cls := "FencedStandbysModel", name := "slotOf", desc := "(II)I" } : Jvm.MethodName) prog_11_method_44_code (6 : Nat) (Option.some Jvm.ClassFile.FieldType.int)) ∈ lw_all := lw_g (lw_at lw_m7 42 rfl) rfl
theorem q1537 : (Jvm.Cond.instanceMethod ({ cls := "FencedStandbysModel", name := "waits", desc := "(II)I" } : Jvm.MethodName)) ∈ lw_all := lw_g (lw_at lw_m7 44 rfl) rfl
theorem q1538 : (Jvm.Cond.selects "FencedStandbysModel" ({ cls := "FencedStandbysModel", name := "waits", desc := "(II)I" } : Jvm.MethodName) ({ cls := "FencedStandbysModel", name := "waits", desc := "(II)I" } : Jvm.MethodName)) ∈ lw_all := lw_g (lw_at lw_m7 45 rfl) rfl
theorem q1539 : (Jvm.Cond.code ({ cls := "FencedStandbysModel", name := "waits", desc := "(II)I" } : Jvm.MethodName) prog_11_method_46_code (3 : Nat) (Option.some Jvm.ClassFile.FieldType.int)) ∈ lw_all := lw_g (lw_at lw_m7 46 rfl) rfl
theorem q1540 : (Jvm.Cond.methodLink "FencedStandbysModel" (114 : Nat) ({ cls := "FencedStandbysModel", name := "until", desc := "(IIII)I" } : Jvm.MethodName)) ∈ lw_all := lw_g (lw_at lw_m7 47 rfl) rfl
theorem q1541 : (Jvm.Cond.privateMethod ({ cls := "FencedStandbysModel", name := "until", desc := "(IIII)I" } : Jvm.MethodName)) ∈ lw_tbl := lw_at lw_m7 48 rfl
theorem q1542 : (Jvm.Cond.instanceMethod ({ cls := "FencedStandbysModel", name := "until", desc := "(IIII)I" } : Jvm.MethodName)) ∈ lw_all := lw_g (lw_at lw_m7 49 rfl) rfl
theorem q1543 : (Jvm.Cond.code ({ cls := "FencedStandbysModel", name := "until", desc := "(IIII)I" } : Jvm.MethodName) prog_11_method_45_code (7 : Nat) (Option.some Jvm.ClassFile.FieldType.int)) ∈ lw_all := lw_g (lw_at lw_m7 50 rfl) rfl
theorem q1545 : (Jvm.Cond.instanceMethod ({ cls := "FencedStandbysModel", name := "wouldLose", desc := "(I)I" } : Jvm.MethodName)) ∈ lw_all := lw_g (lw_at lw_m7 52 rfl) rfl
theorem q1546 : (Jvm.Cond.selects "FencedStandbysModel" ({ cls := "FencedStandbysModel", name := "wouldLose", desc := "(I)I" } : Jvm.MethodName) ({ cls := "FencedStandbysModel", name := "wouldLose", desc := "(I)I" } : Jvm.MethodName)) ∈ lw_all := lw_g (lw_at lw_m7 53 rfl) rfl
theorem q1547 : (Jvm.Cond.code ({ cls := "FencedStandbysModel", name := "wouldLose", desc := "(I)I" } : Jvm.MethodName) prog_11_method_47_code (2 : Nat) (Option.some Jvm.ClassFile.FieldType.int)) ∈ lw_all := lw_g (lw_at lw_m7 54 rfl) rfl
theorem q1549 : (Jvm.Cond.instanceMethod ({ cls := "FencedStandbysModel", name := "rateFor", desc := "(II)I" } : Jvm.MethodName)) ∈ lw_all := lw_g (lw_at lw_m7 56 rfl) rfl
theorem q1550 : (Jvm.Cond.selects "FencedStandbysModel" ({ cls := "FencedStandbysModel", name := "rateFor", desc := "(II)I" } : Jvm.MethodName) ({ cls := "FencedStandbysModel", name := "rateFor", desc := "(II)I" } : Jvm.MethodName)) ∈ lw_all := lw_g (lw_at lw_m7 57 rfl) rfl
theorem q1551 : (Jvm.Cond.code ({ cls := "FencedStandbysModel", name := "rateFor", desc := "(II)I" } : Jvm.MethodName) prog_11_method_48_code (6 : Nat) (Option.some Jvm.ClassFile.FieldType.int)) ∈ lw_all := lw_g (lw_at lw_m7 58 rfl) rfl
theorem q1553 : (Jvm.Cond.instanceMethod ({ cls := "FencedStandbysModel", name := "count", desc := "(I)I" } : Jvm.MethodName)) ∈ lw_all := lw_g (lw_at lw_m7 60 rfl) rfl
theorem q1554 : (Jvm.Cond.selects "FencedStandbysModel" ({ cls := "FencedStandbysModel", name := "count", desc := "(I)I" } : Jvm.MethodName) ({ cls := "FencedStandbysModel", name := "count", desc := "(I)I" } : Jvm.MethodName)) ∈ lw_all := lw_g (lw_at lw_m7 61 rfl) rfl
theorem q1555 : (Jvm.Cond.code ({ cls := "FencedStandbysModel", name := "count", desc := "(I)I" } : Jvm.MethodName) prog_11_method_49_code (2 : Nat) (Option.some Jvm.ClassFile.FieldType.int)) ∈ lw_all := lw_g (lw_at lw_m7 62 rfl) rfl
theorem q1557 : (Jvm.Cond.instanceMethod ({ cls := "FencedStandbysModel", name := "undo", desc := "()I" } : Jvm.MethodName)) ∈ lw_all := lw_g (lw_at lw_m7 64 rfl) rfl
theorem q1558 : (Jvm.Cond.selects "FencedStandbysModel" ({ cls := "FencedStandbysModel", name := "undo", desc := "()I" } : Jvm.MethodName) ({ cls := "FencedStandbysModel", name := "undo", desc := "()I" } : Jvm.MethodName)) ∈ lw_all := lw_g (lw_at lw_m7 65 rfl) rfl
theorem q1559 : (Jvm.Cond.code ({ cls := "FencedStandbysModel", name := "undo", desc := "()I" } : Jvm.MethodName) prog_11_method_50_code (2 : Nat) (Option.some Jvm.ClassFile.FieldType.int)) ∈ lw_all := lw_g (lw_at lw_m7 66 rfl) rfl
theorem q1561 : (Jvm.Cond.instanceMethod ({ cls := "FencedStandbysModel", name := "type", desc := "(I)I" } : Jvm.MethodName)) ∈ lw_all := lw_g (lw_at lw_m7 68 rfl) rfl
theorem q1562 : (Jvm.Cond.selects "FencedStandbysModel" ({ cls := "FencedStandbysModel", name := "type", desc := "(I)I" } : Jvm.MethodName) ({ cls := "FencedStandbysModel", name := "type", desc := "(I)I" } : Jvm.MethodName)) ∈ lw_all := lw_g (lw_at lw_m7 69 rfl) rfl
theorem q1563 : (Jvm.Cond.code ({ cls := "FencedStandbysModel", name := "type", desc := "(I)I" } : Jvm.MethodName) prog_11_method_51_code (2 : Nat) (Option.some Jvm.ClassFile.FieldType.int)) ∈ lw_all := lw_g (lw_at lw_m7 70 rfl) rfl
theorem q1565 : (Jvm.Cond.instanceMethod ({ cls := "FencedStandbysModel", name := "clearText", desc := "()I" } : Jvm.MethodName)) ∈ lw_all := lw_g (lw_at lw_m7 72 rfl) rfl
theorem q1566 : (Jvm.Cond.selects "FencedStandbysModel" ({ cls := "FencedStandbysModel", name := "clearText", desc := "()I" } : Jvm.MethodName) ({ cls := "FencedStandbysModel", name := "clearText", desc := "()I" } : Jvm.MethodName)) ∈ lw_all := lw_g (lw_at lw_m7 73 rfl) rfl
theorem q1567 : (Jvm.Cond.code ({ cls := "FencedStandbysModel", name := "clearText", desc := "()I" } : Jvm.MethodName) prog_11_method_52_code (2 : Nat) (Option.some Jvm.ClassFile.FieldType.int)) ∈ lw_all := lw_g (lw_at lw_m7 74 rfl) rfl
theorem q1569 : (Jvm.Cond.instanceMethod ({ cls := "FencedStandbysModel", name := "fault", desc := "(I)I" } : Jvm.MethodName)) ∈ lw_all := lw_g (lw_at lw_m7 76 rfl) rfl
theorem q1570 : (Jvm.Cond.selects "FencedStandbysModel" ({ cls := "FencedStandbysModel", name := "fault", desc := "(I)I" } : Jvm.MethodName) ({ cls := "FencedStandbysModel", name := "fault", desc := "(I)I" } : Jvm.MethodName)) ∈ lw_all := lw_g (lw_at lw_m7 77 rfl) rfl
theorem q1571 : (Jvm.Cond.code ({ cls := "FencedStandbysModel", name := "fault", desc := "(I)I" } : Jvm.MethodName) prog_11_method_59_code (3 : Nat) (Option.some Jvm.ClassFile.FieldType.int)) ∈ lw_all := lw_g (lw_at lw_m7 78 rfl) rfl
theorem q1572 : (Jvm.Cond.methodLink "FencedStandbysModel" (174 : Nat) ({ cls := "FencedStandbysModel", name := "copies", desc := "([I[I)V" } : Jvm.MethodName)) ∈ lw_all := lw_g (lw_at lw_m7 79 rfl) rfl
theorem q1573 : (Jvm.Cond.static ({ cls := "FencedStandbysModel", name := "copies", desc := "([I[I)V" } : Jvm.MethodName)) ∈ lw_all := lw_g (lw_at lw_m7 80 rfl) rfl
theorem q1574 : (Jvm.Cond.code ({ cls := "FencedStandbysModel", name := "copies", desc := "([I[I)V" } : Jvm.MethodName) prog_11_method_4_code (3 : Nat) (Option.none : Option Jvm.ClassFile.FieldType)) ∈ lw_all := lw_g (lw_at lw_m7 81 rfl) rfl
theorem q1575 : (Jvm.Cond.methodLink "FencedStandbysModel" (178 : Nat) ({ cls := "FencedStandbysModel", name := "plays", desc := "()Z" } : Jvm.MethodName)) ∈ lw_all := lw_g (lw_at lw_m7 82 rfl) rfl
theorem q1576 : (Jvm.Cond.privateMethod ({ cls := "FencedStandbysModel", name := "plays", desc := "()Z" } : Jvm.MethodName)) ∈ lw_tbl := lw_at lw_m7 83 rfl
theorem q1577 : (Jvm.Cond.instanceMethod ({ cls := "FencedStandbysModel", name := "plays", desc := "()Z" } : Jvm.MethodName)) ∈ lw_all := lw_g (lw_at lw_m7 84 rfl) rfl
theorem q1578 : (Jvm.Cond.code ({ cls := "FencedStandbysModel", name := "plays", desc := "()Z" } : Jvm.MethodName) prog_11_method_58_code (4 : Nat) (Option.some Jvm.ClassFile.FieldType.boolean)) ∈ lw_all := lw_g (lw_at lw_m7 85 rfl) rfl
theorem q1579 : (Jvm.Cond.methodLink "FencedStandbysModel" (160 : Nat) ({ cls := "FencedStandbysModel", name := "reads", desc := "()Z" } : Jvm.MethodName)) ∈ lw_all := lw_g (lw_at lw_m7 86 rfl) rfl
theorem q1580 : (Jvm.Cond.privateMethod ({ cls := "FencedStandbysModel", name := "reads", desc := "()Z" } : Jvm.MethodName)) ∈ lw_tbl := lw_at lw_m7 87 rfl
theorem q1581 : (Jvm.Cond.instanceMethod ({ cls := "FencedStandbysModel", name := "reads", desc := "()Z" } : Jvm.MethodName)) ∈ lw_all := lw_g (lw_at lw_m7 88 rfl) rfl
theorem q1582 : (Jvm.Cond.code ({ cls := "FencedStandbysModel", name := "reads", desc := "()Z" } : Jvm.MethodName) prog_11_method_56_code (3 : Nat) (Option.some Jvm.ClassFile.FieldType.boolean)) ∈ lw_all := lw_g (lw_at lw_m7 89 rfl) rfl
theorem q1583 : (Jvm.Cond.methodLink "FencedStandbysModel" (123 : Nat) ({ cls := "FencedStandbysModel", name := "isAt", desc := "(II)Z" } : Jvm.MethodName)) ∈ lw_all := lw_g (lw_at lw_m7 90 rfl) rfl
theorem q1584 : (Jvm.Cond.privateMethod ({ cls := "FencedStandbysModel", name := "isAt", desc := "(II)Z" } : Jvm.MethodName)) ∈ lw_tbl := lw_at lw_m7 91 rfl
theorem q1585 : (Jvm.Cond.instanceMethod ({ cls := "FencedStandbysModel", name := "isAt", desc := "(II)Z" } : Jvm.MethodName)) ∈ lw_all := lw_g (lw_at lw_m7 92 rfl) rfl
theorem q1586 : (Jvm.Cond.code ({ cls := "FencedStandbysModel", name := "isAt", desc := "(II)Z" } : Jvm.MethodName) prog_11_method_53_code (3 : Nat) (Option.some Jvm.ClassFile.FieldType.boolean)) ∈ lw_all := lw_g (lw_at lw_m7 93 rfl) rfl
theorem q1587 : (Jvm.Cond.methodLink "FencedStandbysModel" (129 : Nat) ({ cls := "FencedStandbysModel", name := "number", desc := "(I)Z" } : Jvm.MethodName)) ∈ lw_all := lw_g (lw_at lw_m7 94 rfl) rfl
theorem q1588 : (Jvm.Cond.privateMethod ({ cls := "FencedStandbysModel", name := "number", desc := "(I)Z" } : Jvm.MethodName)) ∈ lw_tbl := lw_at lw_m7 95 rfl
theorem q1589 : (Jvm.Cond.instanceMethod ({ cls := "FencedStandbysModel", name := "number", desc := "(I)Z" } : Jvm.MethodName)) ∈ lw_all := lw_g (lw_at lw_m7 96 rfl) rfl
theorem q1590 : (Jvm.Cond.code ({ cls := "FencedStandbysModel", name := "number", desc := "(I)Z" } : Jvm.MethodName) prog_11_method_55_code (3 : Nat) (Option.some Jvm.ClassFile.FieldType.boolean)) ∈ lw_all := lw_g (lw_at lw_m7 97 rfl) rfl
theorem q1591 : (Jvm.Cond.methodLink "FencedStandbysModel" (132 : Nat) ({ cls := "FencedStandbysModel", name := "sign", desc := "(I)Z" } : Jvm.MethodName)) ∈ lw_all := lw_g (lw_at lw_m7 98 rfl) rfl
theorem q1592 : (Jvm.Cond.privateMethod ({ cls := "FencedStandbysModel", name := "sign", desc := "(I)Z" } : Jvm.MethodName)) ∈ lw_tbl := lw_at lw_m7 99 rfl
theorem q1593 : (Jvm.Cond.instanceMethod ({ cls := "FencedStandbysModel", name := "sign", desc := "(I)Z" } : Jvm.MethodName)) ∈ lw_all := lw_g (lw_at lw_m7 100 rfl) rfl
theorem q1594 : (Jvm.Cond.code ({ cls := "FencedStandbysModel", name := "sign", desc := "(I)Z" } : Jvm.MethodName) prog_11_method_54_code (3 : Nat) (Option.some Jvm.ClassFile.FieldType.boolean)) ∈ lw_all := lw_g (lw_at lw_m7 101 rfl) rfl
theorem q1595 : (Jvm.Cond.methodLink "FencedStandbysModel" (164 : Nat) ({ cls := "FencedStandbysModel", name := "calls", desc := "()I" } : Jvm.MethodName)) ∈ lw_all := lw_g (lw_at lw_m7 102 rfl) rfl
theorem q1596 : (Jvm.Cond.privateMethod ({ cls := "FencedStandbysModel", name := "calls", desc := "()I" } : Jvm.MethodName)) ∈ lw_tbl := lw_at lw_m7 103 rfl
theorem q1597 : (Jvm.Cond.instanceMethod ({ cls := "FencedStandbysModel", name := "calls", desc := "()I" } : Jvm.MethodName)) ∈ lw_all := lw_g (lw_at lw_m7 104 rfl) rfl
theorem q1598 : (Jvm.Cond.code ({ cls := "FencedStandbysModel", name := "calls", desc := "()I" } : Jvm.MethodName) prog_11_method_57_code (1 : Nat) (Option.some Jvm.ClassFile.FieldType.int)) ∈ lw_all := lw_g (lw_at lw_m7 105 rfl) rfl
theorem q1599 : (Jvm.Cond.methodLink "FencedStandbysModel" (135 : Nat) ({ cls := "FencedStandbysModel", name := "open", desc := "(I)I" } : Jvm.MethodName)) ∈ lw_all := lw_g (lw_at lw_m7 106 rfl) rfl
theorem q1600 : (Jvm.Cond.methodLink "FencedStandbysModel" (138 : Nat) ({ cls := "FencedStandbysModel", name := "commit", desc := "(I)I" } : Jvm.MethodName)) ∈ lw_all := lw_g (lw_at lw_m7 107 rfl) rfl
theorem q1601 : (Jvm.Cond.methodLink "FencedStandbysModel" (141 : Nat) ({ cls := "FencedStandbysModel", name := "abort", desc := "(I)I" } : Jvm.MethodName)) ∈ lw_all := lw_g (lw_at lw_m7 108 rfl) rfl
theorem q1602 : (Jvm.Cond.methodLink "FencedStandbysModel" (144 : Nat) ({ cls := "FencedStandbysModel", name := "put", desc := "(III)I" } : Jvm.MethodName)) ∈ lw_all := lw_g (lw_at lw_m7 109 rfl) rfl
theorem q1603 : (Jvm.Cond.methodLink "FencedStandbysModel" (148 : Nat) ({ cls := "FencedStandbysModel", name := "ship", desc := "(II)I" } : Jvm.MethodName)) ∈ lw_all := lw_g (lw_at lw_m7 110 rfl) rfl
theorem q1604 : (Jvm.Cond.methodLink "FencedStandbysModel" (151 : Nat) ({ cls := "FencedStandbysModel", name := "tick", desc := "(I)I" } : Jvm.MethodName)) ∈ lw_all := lw_g (lw_at lw_m7 111 rfl) rfl
theorem q1606 : (Jvm.Cond.instanceMethod ({ cls := "FencedStandbysModel", name := "play", desc := "()I" } : Jvm.MethodName)) ∈ lw_all := lw_g (lw_at lw_m7 113 rfl) rfl
theorem q1607 : (Jvm.Cond.selects "FencedStandbysModel" ({ cls := "FencedStandbysModel", name := "play", desc := "()I" } : Jvm.MethodName) ({ cls := "FencedStandbysModel", name := "play", desc := "()I" } : Jvm.MethodName)) ∈ lw_all := lw_g (lw_at lw_m7 114 rfl) rfl
theorem q1608 : (Jvm.Cond.code ({ cls := "FencedStandbysModel", name := "play", desc := "()I" } : Jvm.MethodName) prog_11_method_60_code (2 : Nat) (Option.some Jvm.ClassFile.FieldType.int)) ∈ lw_all := lw_g (lw_at lw_m7 115 rfl) rfl
theorem q1627 : (Jvm.Cond.castable "FencedStandbysModel" "java/lang/Object") ∈ lw_tbl := lw_at lw_m7 134 rfl
theorem in_X4 : ∀ w ∈ wsX40, w ∈ lw_all := lw_in wsX40 [1343, 1345, 1347, 1349, 1351, 1353, 1355, 1357, 1359, 1361, 1363, 1365, 1367, 1369] (by decide +kernel) (by decide +kernel)
