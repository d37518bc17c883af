/-! DECODE ROWS BY BYTES: one lemma an opcode; a method's code is cut into short pieces once, and a row reads its own piece alone. -/
set_option maxRecDepth 100000
/-- the code has just these bytes from pc on -/
def DkAt (code : ByteArray) (pc : Nat) (bs : List UInt8) : Prop := ∀ (j : Nat) (b : UInt8), bs[j]? = some b → code.data.toList[pc + j]? = some b
/-- the piece W has the bytes bs from its place j on -/
def dkIn (W : List UInt8) (j : Nat) (bs : List UInt8) : Bool := decide ((W.drop j).take bs.length = bs)
theorem dk_seg {l W T : List UInt8} {o o2 : Nat} (h : l.drop o = W ++ T) (n : Nat) (hn : W.length = n) (ho : o + n = o2) : l.drop o2 = T := by
  subst ho
  rw [← List.drop_drop, h, List.drop_left' hn]
theorem dk_at {code : ByteArray} {W T bs : List UInt8} {o pc : Nat} (h : code.data.toList.drop o = W ++ T) (j : Nat) (hp : o + j = pc) (hw : dkIn W j bs = true) : DkAt code pc bs := by
  subst hp
  intro i b e
  have h1 := of_decide_eq_true hw
  have h2 : i < bs.length := (List.getElem?_eq_some_iff.mp e).1
  have h3 : W[j + i]? = some b := by
    rw [← h1, List.getElem?_take, if_pos h2, List.getElem?_drop] at e
    exact e
  have h4 : j + i < W.length := (List.getElem?_eq_some_iff.mp h3).1
  have h5 : (code.data.toList.drop o)[j + i]? = some b := by
    rw [h, List.getElem?_append_left h4]
    exact h3
  rw [List.getElem?_drop, ← Nat.add_assoc] at h5
  exact h5
theorem dk_u1 {A : ByteArray} {p : Nat} {b : UInt8} (h : A.data.toList[p]? = some b) : (Reader.u1 : Reader DecodeError Nat) A p = .ok (b.toNat, p + 1) := by
  obtain ⟨h1, h2⟩ := List.getElem?_eq_some_iff.mp h
  have h3 : p < A.size := by simpa using h1
  have h4 : A[p]'h3 = b := h2
  have e : (Reader.u1 : Reader DecodeError Nat) A p = (if h : p < A.size then .ok (A[p].toNat, p + 1) else .error (HasTruncated.truncated p)) := by
    show (do if h : p < A.size then do set (p + 1); Pure.pure A[p].toNat else MonadExcept.throw (HasTruncated.truncated p) : Reader DecodeError Nat) A p = _
    by_cases hi : p < A.size
    · rw [dif_pos hi, dif_pos hi]; rfl
    · rw [dif_neg hi, dif_neg hi]; rfl
  rw [e, dif_pos h3, h4]
theorem dk_bind {α β : Type} {r : Reader DecodeError α} {f : α → Reader DecodeError β} {A : ByteArray} {p s : Nat} {a : α} (h : r A p = .ok (a, s)) : (r >>= f) A p = f a A s := by
  show (do let (a, s) ← r A p; f a A s : Except DecodeError (β × Nat)) = _
  rw [h]
  rfl
theorem dk_map {α β : Type} {r : Reader DecodeError α} {g : α → β} {A : ByteArray} {p s : Nat} {a : α} (h : r A p = .ok (a, s)) : (g <$> r) A p = .ok (g a, s) := by
  show (do let (a, s) ← r A p; .ok (g a, s) : Except DecodeError (β × Nat)) = _
  rw [h]
  rfl
theorem dk_u2 {A : ByteArray} {p : Nat} {a b : UInt8} (h : A.data.toList[p]? = some a) (h2 : A.data.toList[p + 1]? = some b) : (Reader.u2 : Reader DecodeError Nat) A p = .ok (a.toNat * 256 + b.toNat, p + 2) := by
  show (Reader.u1 >>= fun hi => Reader.u1 >>= fun lo => Pure.pure (hi * 256 + lo) : Reader DecodeError Nat) A p = _
  rw [dk_bind (dk_u1 h), dk_bind (dk_u1 h2)]
  rfl
theorem dk_of {code : ByteArray} {pc n : Nat} {i : Instr} (h : Decoder.instr pc code pc = .ok (i, pc + n)) : decode code pc = .ok (i, n) := by
  have e : decode code pc = (match Decoder.instr pc code pc with | .error x => .error x | .ok (j, s) => .ok (j, s - pc)) := by
    show (do let (j, s) ← Decoder.instr pc code pc; Pure.pure (j, s - pc) : Except DecodeError (Instr × Nat)) = _
    cases Decoder.instr pc code pc <;> rfl
  rw [e, h]
  show Except.ok (i, pc + n - pc) = _
  rw [Nat.add_sub_cancel_left]
theorem dk_1 {code : ByteArray} {pc : Nat} (h : DkAt code pc [1]) : decode code pc = .ok (.aconst_null, 1) := dk_of ((dk_bind (dk_u1 (h 0 _ rfl))).trans rfl)
theorem dk_2 {code : ByteArray} {pc : Nat} (h : DkAt code pc [2]) : decode code pc = .ok (.iconst (-1), 1) := dk_of ((dk_bind (dk_u1 (h 0 _ rfl))).trans rfl)
theorem dk_3 {code : ByteArray} {pc : Nat} (h : DkAt code pc [3]) : decode code pc = .ok (.iconst 0, 1) := dk_of ((dk_bind (dk_u1 (h 0 _ rfl))).trans rfl)
theorem dk_4 {code : ByteArray} {pc : Nat} (h : DkAt code pc [4]) : decode code pc = .ok (.iconst 1, 1) := dk_of ((dk_bind (dk_u1 (h 0 _ rfl))).trans rfl)
theorem dk_5 {code : ByteArray} {pc : Nat} (h : DkAt code pc [5]) : decode code pc = .ok (.iconst 2, 1) := dk_of ((dk_bind (dk_u1 (h 0 _ rfl))).trans rfl)
theorem dk_6 {code : ByteArray} {pc : Nat} (h : DkAt code pc [6]) : decode code pc = .ok (.iconst 3, 1) := dk_of ((dk_bind (dk_u1 (h 0 _ rfl))).trans rfl)
theorem dk_7 {code : ByteArray} {pc : Nat} (h : DkAt code pc [7]) : decode code pc = .ok (.iconst 4, 1) := dk_of ((dk_bind (dk_u1 (h 0 _ rfl))).trans rfl)
theorem dk_8 {code : ByteArray} {pc : Nat} (h : DkAt code pc [8]) : decode code pc = .ok (.iconst 5, 1) := dk_of ((dk_bind (dk_u1 (h 0 _ rfl))).trans rfl)
theorem dk_9 {code : ByteArray} {pc : Nat} (h : DkAt code pc [9]) : decode code pc = .ok (.lconst 0, 1) := dk_of ((dk_bind (dk_u1 (h 0 _ rfl))).trans rfl)
theorem dk_10 {code : ByteArray} {pc : Nat} (h : DkAt code pc [10]) : decode code pc = .ok (.lconst 1, 1) := dk_of ((dk_bind (dk_u1 (h 0 _ rfl))).trans rfl)
theorem dk_16 {code : ByteArray} {pc : Nat} (a : UInt8) (h : DkAt code pc [16, a]) : decode code pc = .ok (.bipush (Reader.signed 8 a.toNat), 2) := dk_of ((dk_bind (dk_u1 (h 0 _ rfl))).trans ((dk_bind (dk_map (dk_u1 (h 1 _ rfl)))).trans rfl))
theorem dk_17 {code : ByteArray} {pc : Nat} (a b : UInt8) (h : DkAt code pc [17, a, b]) : decode code pc = .ok (.sipush (Reader.signed 16 (a.toNat * 256 + b.toNat)), 3) := dk_of ((dk_bind (dk_u1 (h 0 _ rfl))).trans ((dk_bind (dk_map (dk_u2 (h 1 _ rfl) (h 2 _ rfl)))).trans rfl))
theorem dk_18 {code : ByteArray} {pc : Nat} (a : UInt8) (h : DkAt code pc [18, a]) : decode code pc = .ok (.ldc a.toNat, 2) := dk_of ((dk_bind (dk_u1 (h 0 _ rfl))).trans ((dk_bind (dk_u1 (h 1 _ rfl))).trans rfl))
theorem dk_19 {code : ByteArray} {pc : Nat} (a b : UInt8) (h : DkAt code pc [19, a, b]) : decode code pc = .ok (.ldc_w (a.toNat * 256 + b.toNat), 3) := dk_of ((dk_bind (dk_u1 (h 0 _ rfl))).trans ((dk_bind (dk_u2 (h 1 _ rfl) (h 2 _ rfl))).trans rfl))
theorem dk_20 {code : ByteArray} {pc : Nat} (a b : UInt8) (h : DkAt code pc [20, a, b]) : decode code pc = .ok (.ldc2_w (a.toNat * 256 + b.toNat), 3) := dk_of ((dk_bind (dk_u1 (h 0 _ rfl))).trans ((dk_bind (dk_u2 (h 1 _ rfl) (h 2 _ rfl))).trans rfl))
theorem dk_21 {code : ByteArray} {pc : Nat} (a : UInt8) (h : DkAt code pc [21, a]) : decode code pc = .ok (.iload a.toNat, 2) := dk_of ((dk_bind (dk_u1 (h 0 _ rfl))).trans ((dk_bind (dk_u1 (h 1 _ rfl))).trans rfl))
theorem dk_22 {code : ByteArray} {pc : Nat} (a : UInt8) (h : DkAt code pc [22, a]) : decode code pc = .ok (.lload a.toNat, 2) := dk_of ((dk_bind (dk_u1 (h 0 _ rfl))).trans ((dk_bind (dk_u1 (h 1 _ rfl))).trans rfl))
theorem dk_26 {code : ByteArray} {pc : Nat} (h : DkAt code pc [26]) : decode code pc = .ok (.iload_n 0, 1) := dk_of ((dk_bind (dk_u1 (h 0 _ rfl))).trans rfl)
theorem dk_27 {code : ByteArray} {pc : Nat} (h : DkAt code pc [27]) : decode code pc = .ok (.iload_n 1, 1) := dk_of ((dk_bind (dk_u1 (h 0 _ rfl))).trans rfl)
theorem dk_28 {code : ByteArray} {pc : Nat} (h : DkAt code pc [28]) : decode code pc = .ok (.iload_n 2, 1) := dk_of ((dk_bind (dk_u1 (h 0 _ rfl))).trans rfl)
theorem dk_29 {code : ByteArray} {pc : Nat} (h : DkAt code pc [29]) : decode code pc = .ok (.iload_n 3, 1) := dk_of ((dk_bind (dk_u1 (h 0 _ rfl))).trans rfl)
theorem dk_30 {code : ByteArray} {pc : Nat} (h : DkAt code pc [30]) : decode code pc = .ok (.lload_n 0, 1) := dk_of ((dk_bind (dk_u1 (h 0 _ rfl))).trans rfl)
theorem dk_31 {code : ByteArray} {pc : Nat} (h : DkAt code pc [31]) : decode code pc = .ok (.lload_n 1, 1) := dk_of ((dk_bind (dk_u1 (h 0 _ rfl))).trans rfl)
theorem dk_32 {code : ByteArray} {pc : Nat} (h : DkAt code pc [32]) : decode code pc = .ok (.lload_n 2, 1) := dk_of ((dk_bind (dk_u1 (h 0 _ rfl))).trans rfl)
theorem dk_33 {code : ByteArray} {pc : Nat} (h : DkAt code pc [33]) : decode code pc = .ok (.lload_n 3, 1) := dk_of ((dk_bind (dk_u1 (h 0 _ rfl))).trans rfl)
theorem dk_42 {code : ByteArray} {pc : Nat} (h : DkAt code pc [42]) : decode code pc = .ok (.aload_n 0, 1) := dk_of ((dk_bind (dk_u1 (h 0 _ rfl))).trans rfl)
theorem dk_43 {code : ByteArray} {pc : Nat} (h : DkAt code pc [43]) : decode code pc = .ok (.aload_n 1, 1) := dk_of ((dk_bind (dk_u1 (h 0 _ rfl))).trans rfl)
theorem dk_44 {code : ByteArray} {pc : Nat} (h : DkAt code pc [44]) : decode code pc = .ok (.aload_n 2, 1) := dk_of ((dk_bind (dk_u1 (h 0 _ rfl))).trans rfl)
theorem dk_45 {code : ByteArray} {pc : Nat} (h : DkAt code pc [45]) : decode code pc = .ok (.aload_n 3, 1) := dk_of ((dk_bind (dk_u1 (h 0 _ rfl))).trans rfl)
theorem dk_46 {code : ByteArray} {pc : Nat} (h : DkAt code pc [46]) : decode code pc = .ok (.iaload, 1) := dk_of ((dk_bind (dk_u1 (h 0 _ rfl))).trans rfl)
theorem dk_50 {code : ByteArray} {pc : Nat} (h : DkAt code pc [50]) : decode code pc = .ok (.aaload, 1) := dk_of ((dk_bind (dk_u1 (h 0 _ rfl))).trans rfl)
theorem dk_51 {code : ByteArray} {pc : Nat} (h : DkAt code pc [51]) : decode code pc = .ok (.baload, 1) := dk_of ((dk_bind (dk_u1 (h 0 _ rfl))).trans rfl)
theorem dk_54 {code : ByteArray} {pc : Nat} (a : UInt8) (h : DkAt code pc [54, a]) : decode code pc = .ok (.istore a.toNat, 2) := dk_of ((dk_bind (dk_u1 (h 0 _ rfl))).trans ((dk_bind (dk_u1 (h 1 _ rfl))).trans rfl))
theorem dk_55 {code : ByteArray} {pc : Nat} (a : UInt8) (h : DkAt code pc [55, a]) : decode code pc = .ok (.lstore a.toNat, 2) := dk_of ((dk_bind (dk_u1 (h 0 _ rfl))).trans ((dk_bind (dk_u1 (h 1 _ rfl))).trans rfl))
theorem dk_59 {code : ByteArray} {pc : Nat} (h : DkAt code pc [59]) : decode code pc = .ok (.istore_n 0, 1) := dk_of ((dk_bind (dk_u1 (h 0 _ rfl))).trans rfl)
theorem dk_60 {code : ByteArray} {pc : Nat} (h : DkAt code pc [60]) : decode code pc = .ok (.istore_n 1, 1) := dk_of ((dk_bind (dk_u1 (h 0 _ rfl))).trans rfl)
theorem dk_61 {code : ByteArray} {pc : Nat} (h : DkAt code pc [61]) : decode code pc = .ok (.istore_n 2, 1) := dk_of ((dk_bind (dk_u1 (h 0 _ rfl))).trans rfl)
theorem dk_62 {code : ByteArray} {pc : Nat} (h : DkAt code pc [62]) : decode code pc = .ok (.istore_n 3, 1) := dk_of ((dk_bind (dk_u1 (h 0 _ rfl))).trans rfl)
theorem dk_64 {code : ByteArray} {pc : Nat} (h : DkAt code pc [64]) : decode code pc = .ok (.lstore_n 1, 1) := dk_of ((dk_bind (dk_u1 (h 0 _ rfl))).trans rfl)
theorem dk_65 {code : ByteArray} {pc : Nat} (h : DkAt code pc [65]) : decode code pc = .ok (.lstore_n 2, 1) := dk_of ((dk_bind (dk_u1 (h 0 _ rfl))).trans rfl)
theorem dk_66 {code : ByteArray} {pc : Nat} (h : DkAt code pc [66]) : decode code pc = .ok (.lstore_n 3, 1) := dk_of ((dk_bind (dk_u1 (h 0 _ rfl))).trans rfl)
theorem dk_76 {code : ByteArray} {pc : Nat} (h : DkAt code pc [76]) : decode code pc = .ok (.astore_n 1, 1) := dk_of ((dk_bind (dk_u1 (h 0 _ rfl))).trans rfl)
theorem dk_77 {code : ByteArray} {pc : Nat} (h : DkAt code pc [77]) : decode code pc = .ok (.astore_n 2, 1) := dk_of ((dk_bind (dk_u1 (h 0 _ rfl))).trans rfl)
theorem dk_78 {code : ByteArray} {pc : Nat} (h : DkAt code pc [78]) : decode code pc = .ok (.astore_n 3, 1) := dk_of ((dk_bind (dk_u1 (h 0 _ rfl))).trans rfl)
theorem dk_79 {code : ByteArray} {pc : Nat} (h : DkAt code pc [79]) : decode code pc = .ok (.iastore, 1) := dk_of ((dk_bind (dk_u1 (h 0 _ rfl))).trans rfl)
theorem dk_83 {code : ByteArray} {pc : Nat} (h : DkAt code pc [83]) : decode code pc = .ok (.aastore, 1) := dk_of ((dk_bind (dk_u1 (h 0 _ rfl))).trans rfl)
theorem dk_84 {code : ByteArray} {pc : Nat} (h : DkAt code pc [84]) : decode code pc = .ok (.bastore, 1) := dk_of ((dk_bind (dk_u1 (h 0 _ rfl))).trans rfl)
theorem dk_87 {code : ByteArray} {pc : Nat} (h : DkAt code pc [87]) : decode code pc = .ok (.pop, 1) := dk_of ((dk_bind (dk_u1 (h 0 _ rfl))).trans rfl)
theorem dk_89 {code : ByteArray} {pc : Nat} (h : DkAt code pc [89]) : decode code pc = .ok (.dup, 1) := dk_of ((dk_bind (dk_u1 (h 0 _ rfl))).trans rfl)
theorem dk_90 {code : ByteArray} {pc : Nat} (h : DkAt code pc [90]) : decode code pc = .ok (.dup_x1, 1) := dk_of ((dk_bind (dk_u1 (h 0 _ rfl))).trans rfl)
theorem dk_92 {code : ByteArray} {pc : Nat} (h : DkAt code pc [92]) : decode code pc = .ok (.dup2, 1) := dk_of ((dk_bind (dk_u1 (h 0 _ rfl))).trans rfl)
theorem dk_96 {code : ByteArray} {pc : Nat} (h : DkAt code pc [96]) : decode code pc = .ok (.iadd, 1) := dk_of ((dk_bind (dk_u1 (h 0 _ rfl))).trans rfl)
theorem dk_97 {code : ByteArray} {pc : Nat} (h : DkAt code pc [97]) : decode code pc = .ok (.ladd, 1) := dk_of ((dk_bind (dk_u1 (h 0 _ rfl))).trans rfl)
theorem dk_100 {code : ByteArray} {pc : Nat} (h : DkAt code pc [100]) : decode code pc = .ok (.isub, 1) := dk_of ((dk_bind (dk_u1 (h 0 _ rfl))).trans rfl)
theorem dk_101 {code : ByteArray} {pc : Nat} (h : DkAt code pc [101]) : decode code pc = .ok (.lsub, 1) := dk_of ((dk_bind (dk_u1 (h 0 _ rfl))).trans rfl)
theorem dk_104 {code : ByteArray} {pc : Nat} (h : DkAt code pc [104]) : decode code pc = .ok (.imul, 1) := dk_of ((dk_bind (dk_u1 (h 0 _ rfl))).trans rfl)
theorem dk_105 {code : ByteArray} {pc : Nat} (h : DkAt code pc [105]) : decode code pc = .ok (.lmul, 1) := dk_of ((dk_bind (dk_u1 (h 0 _ rfl))).trans rfl)
theorem dk_108 {code : ByteArray} {pc : Nat} (h : DkAt code pc [108]) : decode code pc = .ok (.idiv, 1) := dk_of ((dk_bind (dk_u1 (h 0 _ rfl))).trans rfl)
theorem dk_109 {code : ByteArray} {pc : Nat} (h : DkAt code pc [109]) : decode code pc = .ok (.ldiv, 1) := dk_of ((dk_bind (dk_u1 (h 0 _ rfl))).trans rfl)
theorem dk_112 {code : ByteArray} {pc : Nat} (h : DkAt code pc [112]) : decode code pc = .ok (.irem, 1) := dk_of ((dk_bind (dk_u1 (h 0 _ rfl))).trans rfl)
theorem dk_113 {code : ByteArray} {pc : Nat} (h : DkAt code pc [113]) : decode code pc = .ok (.lrem, 1) := dk_of ((dk_bind (dk_u1 (h 0 _ rfl))).trans rfl)
theorem dk_120 {code : ByteArray} {pc : Nat} (h : DkAt code pc [120]) : decode code pc = .ok (.ishl, 1) := dk_of ((dk_bind (dk_u1 (h 0 _ rfl))).trans rfl)
theorem dk_121 {code : ByteArray} {pc : Nat} (h : DkAt code pc [121]) : decode code pc = .ok (.lshl, 1) := dk_of ((dk_bind (dk_u1 (h 0 _ rfl))).trans rfl)
theorem dk_122 {code : ByteArray} {pc : Nat} (h : DkAt code pc [122]) : decode code pc = .ok (.ishr, 1) := dk_of ((dk_bind (dk_u1 (h 0 _ rfl))).trans rfl)
theorem dk_123 {code : ByteArray} {pc : Nat} (h : DkAt code pc [123]) : decode code pc = .ok (.lshr, 1) := dk_of ((dk_bind (dk_u1 (h 0 _ rfl))).trans rfl)
theorem dk_124 {code : ByteArray} {pc : Nat} (h : DkAt code pc [124]) : decode code pc = .ok (.iushr, 1) := dk_of ((dk_bind (dk_u1 (h 0 _ rfl))).trans rfl)
theorem dk_125 {code : ByteArray} {pc : Nat} (h : DkAt code pc [125]) : decode code pc = .ok (.lushr, 1) := dk_of ((dk_bind (dk_u1 (h 0 _ rfl))).trans rfl)
theorem dk_126 {code : ByteArray} {pc : Nat} (h : DkAt code pc [126]) : decode code pc = .ok (.iand, 1) := dk_of ((dk_bind (dk_u1 (h 0 _ rfl))).trans rfl)
theorem dk_127 {code : ByteArray} {pc : Nat} (h : DkAt code pc [127]) : decode code pc = .ok (.land, 1) := dk_of ((dk_bind (dk_u1 (h 0 _ rfl))).trans rfl)
theorem dk_128 {code : ByteArray} {pc : Nat} (h : DkAt code pc [128]) : decode code pc = .ok (.ior, 1) := dk_of ((dk_bind (dk_u1 (h 0 _ rfl))).trans rfl)
theorem dk_129 {code : ByteArray} {pc : Nat} (h : DkAt code pc [129]) : decode code pc = .ok (.lor, 1) := dk_of ((dk_bind (dk_u1 (h 0 _ rfl))).trans rfl)
theorem dk_130 {code : ByteArray} {pc : Nat} (h : DkAt code pc [130]) : decode code pc = .ok (.ixor, 1) := dk_of ((dk_bind (dk_u1 (h 0 _ rfl))).trans rfl)
theorem dk_132 {code : ByteArray} {pc : Nat} (a b : UInt8) (h : DkAt code pc [132, a, b]) : decode code pc = .ok (.iinc a.toNat (Reader.signed 8 b.toNat), 3) := dk_of ((dk_bind (dk_u1 (h 0 _ rfl))).trans ((dk_bind (dk_u1 (h 1 _ rfl))).trans ((dk_bind (dk_map (dk_u1 (h 2 _ rfl)))).trans rfl)))
theorem dk_133 {code : ByteArray} {pc : Nat} (h : DkAt code pc [133]) : decode code pc = .ok (.i2l, 1) := dk_of ((dk_bind (dk_u1 (h 0 _ rfl))).trans rfl)
theorem dk_136 {code : ByteArray} {pc : Nat} (h : DkAt code pc [136]) : decode code pc = .ok (.l2i, 1) := dk_of ((dk_bind (dk_u1 (h 0 _ rfl))).trans rfl)
theorem dk_145 {code : ByteArray} {pc : Nat} (h : DkAt code pc [145]) : decode code pc = .ok (.i2b, 1) := dk_of ((dk_bind (dk_u1 (h 0 _ rfl))).trans rfl)
theorem dk_148 {code : ByteArray} {pc : Nat} (h : DkAt code pc [148]) : decode code pc = .ok (.lcmp, 1) := dk_of ((dk_bind (dk_u1 (h 0 _ rfl))).trans rfl)
theorem dk_153 {code : ByteArray} {pc : Nat} (a b : UInt8) (h : DkAt code pc [153, a, b]) : decode code pc = .ok (.ifCond .eq (Reader.signed 16 (a.toNat * 256 + b.toNat)), 3) := dk_of ((dk_bind (dk_u1 (h 0 _ rfl))).trans ((dk_bind (dk_map (dk_u2 (h 1 _ rfl) (h 2 _ rfl)))).trans rfl))
theorem dk_154 {code : ByteArray} {pc : Nat} (a b : UInt8) (h : DkAt code pc [154, a, b]) : decode code pc = .ok (.ifCond .ne (Reader.signed 16 (a.toNat * 256 + b.toNat)), 3) := dk_of ((dk_bind (dk_u1 (h 0 _ rfl))).trans ((dk_bind (dk_map (dk_u2 (h 1 _ rfl) (h 2 _ rfl)))).trans rfl))
theorem dk_155 {code : ByteArray} {pc : Nat} (a b : UInt8) (h : DkAt code pc [155, a, b]) : decode code pc = .ok (.ifCond .lt (Reader.signed 16 (a.toNat * 256 + b.toNat)), 3) := dk_of ((dk_bind (dk_u1 (h 0 _ rfl))).trans ((dk_bind (dk_map (dk_u2 (h 1 _ rfl) (h 2 _ rfl)))).trans rfl))
theorem dk_156 {code : ByteArray} {pc : Nat} (a b : UInt8) (h : DkAt code pc [156, a, b]) : decode code pc = .ok (.ifCond .ge (Reader.signed 16 (a.toNat * 256 + b.toNat)), 3) := dk_of ((dk_bind (dk_u1 (h 0 _ rfl))).trans ((dk_bind (dk_map (dk_u2 (h 1 _ rfl) (h 2 _ rfl)))).trans rfl))
theorem dk_157 {code : ByteArray} {pc : Nat} (a b : UInt8) (h : DkAt code pc [157, a, b]) : decode code pc = .ok (.ifCond .gt (Reader.signed 16 (a.toNat * 256 + b.toNat)), 3) := dk_of ((dk_bind (dk_u1 (h 0 _ rfl))).trans ((dk_bind (dk_map (dk_u2 (h 1 _ rfl) (h 2 _ rfl)))).trans rfl))
theorem dk_158 {code : ByteArray} {pc : Nat} (a b : UInt8) (h : DkAt code pc [158, a, b]) : decode code pc = .ok (.ifCond .le (Reader.signed 16 (a.toNat * 256 + b.toNat)), 3) := dk_of ((dk_bind (dk_u1 (h 0 _ rfl))).trans ((dk_bind (dk_map (dk_u2 (h 1 _ rfl) (h 2 _ rfl)))).trans rfl))
theorem dk_159 {code : ByteArray} {pc : Nat} (a b : UInt8) (h : DkAt code pc [159, a, b]) : decode code pc = .ok (.if_icmp .eq (Reader.signed 16 (a.toNat * 256 + b.toNat)), 3) := dk_of ((dk_bind (dk_u1 (h 0 _ rfl))).trans ((dk_bind (dk_map (dk_u2 (h 1 _ rfl) (h 2 _ rfl)))).trans rfl))
theorem dk_160 {code : ByteArray} {pc : Nat} (a b : UInt8) (h : DkAt code pc [160, a, b]) : decode code pc = .ok (.if_icmp .ne (Reader.signed 16 (a.toNat * 256 + b.toNat)), 3) := dk_of ((dk_bind (dk_u1 (h 0 _ rfl))).trans ((dk_bind (dk_map (dk_u2 (h 1 _ rfl) (h 2 _ rfl)))).trans rfl))
theorem dk_161 {code : ByteArray} {pc : Nat} (a b : UInt8) (h : DkAt code pc [161, a, b]) : decode code pc = .ok (.if_icmp .lt (Reader.signed 16 (a.toNat * 256 + b.toNat)), 3) := dk_of ((dk_bind (dk_u1 (h 0 _ rfl))).trans ((dk_bind (dk_map (dk_u2 (h 1 _ rfl) (h 2 _ rfl)))).trans rfl))
theorem dk_162 {code : ByteArray} {pc : Nat} (a b : UInt8) (h : DkAt code pc [162, a, b]) : decode code pc = .ok (.if_icmp .ge (Reader.signed 16 (a.toNat * 256 + b.toNat)), 3) := dk_of ((dk_bind (dk_u1 (h 0 _ rfl))).trans ((dk_bind (dk_map (dk_u2 (h 1 _ rfl) (h 2 _ rfl)))).trans rfl))
theorem dk_163 {code : ByteArray} {pc : Nat} (a b : UInt8) (h : DkAt code pc [163, a, b]) : decode code pc = .ok (.if_icmp .gt (Reader.signed 16 (a.toNat * 256 + b.toNat)), 3) := dk_of ((dk_bind (dk_u1 (h 0 _ rfl))).trans ((dk_bind (dk_map (dk_u2 (h 1 _ rfl) (h 2 _ rfl)))).trans rfl))
theorem dk_164 {code : ByteArray} {pc : Nat} (a b : UInt8) (h : DkAt code pc [164, a, b]) : decode code pc = .ok (.if_icmp .le (Reader.signed 16 (a.toNat * 256 + b.toNat)), 3) := dk_of ((dk_bind (dk_u1 (h 0 _ rfl))).trans ((dk_bind (dk_map (dk_u2 (h 1 _ rfl) (h 2 _ rfl)))).trans rfl))
theorem dk_167 {code : ByteArray} {pc : Nat} (a b : UInt8) (h : DkAt code pc [167, a, b]) : decode code pc = .ok (.goto (Reader.signed 16 (a.toNat * 256 + b.toNat)), 3) := dk_of ((dk_bind (dk_u1 (h 0 _ rfl))).trans ((dk_bind (dk_map (dk_u2 (h 1 _ rfl) (h 2 _ rfl)))).trans rfl))
theorem dk_172 {code : ByteArray} {pc : Nat} (h : DkAt code pc [172]) : decode code pc = .ok (.ireturn, 1) := dk_of ((dk_bind (dk_u1 (h 0 _ rfl))).trans rfl)
theorem dk_173 {code : ByteArray} {pc : Nat} (h : DkAt code pc [173]) : decode code pc = .ok (.lreturn, 1) := dk_of ((dk_bind (dk_u1 (h 0 _ rfl))).trans rfl)
theorem dk_176 {code : ByteArray} {pc : Nat} (h : DkAt code pc [176]) : decode code pc = .ok (.areturn, 1) := dk_of ((dk_bind (dk_u1 (h 0 _ rfl))).trans rfl)
theorem dk_177 {code : ByteArray} {pc : Nat} (h : DkAt code pc [177]) : decode code pc = .ok (.return_, 1) := dk_of ((dk_bind (dk_u1 (h 0 _ rfl))).trans rfl)
theorem dk_178 {code : ByteArray} {pc : Nat} (a b : UInt8) (h : DkAt code pc [178, a, b]) : decode code pc = .ok (.getstatic (a.toNat * 256 + b.toNat), 3) := dk_of ((dk_bind (dk_u1 (h 0 _ rfl))).trans ((dk_bind (dk_u2 (h 1 _ rfl) (h 2 _ rfl))).trans rfl))
theorem dk_180 {code : ByteArray} {pc : Nat} (a b : UInt8) (h : DkAt code pc [180, a, b]) : decode code pc = .ok (.getfield (a.toNat * 256 + b.toNat), 3) := dk_of ((dk_bind (dk_u1 (h 0 _ rfl))).trans ((dk_bind (dk_u2 (h 1 _ rfl) (h 2 _ rfl))).trans rfl))
theorem dk_181 {code : ByteArray} {pc : Nat} (a b : UInt8) (h : DkAt code pc [181, a, b]) : decode code pc = .ok (.putfield (a.toNat * 256 + b.toNat), 3) := dk_of ((dk_bind (dk_u1 (h 0 _ rfl))).trans ((dk_bind (dk_u2 (h 1 _ rfl) (h 2 _ rfl))).trans rfl))
theorem dk_182 {code : ByteArray} {pc : Nat} (a b : UInt8) (h : DkAt code pc [182, a, b]) : decode code pc = .ok (.invokevirtual (a.toNat * 256 + b.toNat), 3) := dk_of ((dk_bind (dk_u1 (h 0 _ rfl))).trans ((dk_bind (dk_u2 (h 1 _ rfl) (h 2 _ rfl))).trans rfl))
theorem dk_183 {code : ByteArray} {pc : Nat} (a b : UInt8) (h : DkAt code pc [183, a, b]) : decode code pc = .ok (.invokespecial (a.toNat * 256 + b.toNat), 3) := dk_of ((dk_bind (dk_u1 (h 0 _ rfl))).trans ((dk_bind (dk_u2 (h 1 _ rfl) (h 2 _ rfl))).trans rfl))
theorem dk_184 {code : ByteArray} {pc : Nat} (a b : UInt8) (h : DkAt code pc [184, a, b]) : decode code pc = .ok (.invokestatic (a.toNat * 256 + b.toNat), 3) := dk_of ((dk_bind (dk_u1 (h 0 _ rfl))).trans ((dk_bind (dk_u2 (h 1 _ rfl) (h 2 _ rfl))).trans rfl))
theorem dk_187 {code : ByteArray} {pc : Nat} (a b : UInt8) (h : DkAt code pc [187, a, b]) : decode code pc = .ok (.new (a.toNat * 256 + b.toNat), 3) := dk_of ((dk_bind (dk_u1 (h 0 _ rfl))).trans ((dk_bind (dk_u2 (h 1 _ rfl) (h 2 _ rfl))).trans rfl))
theorem dk_188_4 {code : ByteArray} {pc : Nat} (h : DkAt code pc [188, 4]) : decode code pc = .ok (.newarray .boolean, 2) := dk_of ((dk_bind (dk_u1 (h 0 _ rfl))).trans ((dk_bind (dk_u1 (h 1 _ rfl))).trans rfl))
theorem dk_188_8 {code : ByteArray} {pc : Nat} (h : DkAt code pc [188, 8]) : decode code pc = .ok (.newarray .byte, 2) := dk_of ((dk_bind (dk_u1 (h 0 _ rfl))).trans ((dk_bind (dk_u1 (h 1 _ rfl))).trans rfl))
theorem dk_188_10 {code : ByteArray} {pc : Nat} (h : DkAt code pc [188, 10]) : decode code pc = .ok (.newarray .int, 2) := dk_of ((dk_bind (dk_u1 (h 0 _ rfl))).trans ((dk_bind (dk_u1 (h 1 _ rfl))).trans rfl))
theorem dk_189 {code : ByteArray} {pc : Nat} (a b : UInt8) (h : DkAt code pc [189, a, b]) : decode code pc = .ok (.anewarray (a.toNat * 256 + b.toNat), 3) := dk_of ((dk_bind (dk_u1 (h 0 _ rfl))).trans ((dk_bind (dk_u2 (h 1 _ rfl) (h 2 _ rfl))).trans rfl))
theorem dk_190 {code : ByteArray} {pc : Nat} (h : DkAt code pc [190]) : decode code pc = .ok (.arraylength, 1) := dk_of ((dk_bind (dk_u1 (h 0 _ rfl))).trans rfl)
theorem dk_191 {code : ByteArray} {pc : Nat} (h : DkAt code pc [191]) : decode code pc = .ok (.athrow, 1) := dk_of ((dk_bind (dk_u1 (h 0 _ rfl))).trans rfl)

/-! java/lang/Math -/
set_option maxRecDepth 100000
def RJ0 : String := "java/lang/Math"
abbrev cJ0_min : ByteArray := prog_14_method_70_code
def yJ0_min : MethodName := ⟨RJ0, "min", "(JJ)J"⟩
def dkwJ0_min_0 : List UInt8 := [30, 32, 148, 157, 0, 7, 30, 167, 0, 4, 32, 173]
abbrev dktJ0_min_0 : List UInt8 := dkwJ0_min_0 ++ []
theorem dksJ0_min_0 : cJ0_min.data.toList.drop 0 = dktJ0_min_0 := by decide +kernel
theorem dJ0_min_0 : decode cJ0_min 0 = .ok (.lload_n 0, 1) := dk_30 (dk_at dksJ0_min_0 0 rfl rfl)
theorem dJ0_min_1 : decode cJ0_min 1 = .ok (.lload_n 2, 1) := dk_32 (dk_at dksJ0_min_0 1 rfl rfl)
theorem dJ0_min_2 : decode cJ0_min 2 = .ok (.lcmp, 1) := dk_148 (dk_at dksJ0_min_0 2 rfl rfl)
theorem dJ0_min_3 : decode cJ0_min 3 = .ok (.ifCond .gt 7, 3) := dk_157 0 7 (dk_at dksJ0_min_0 3 rfl rfl)
theorem dJ0_min_6 : decode cJ0_min 6 = .ok (.lload_n 0, 1) := dk_30 (dk_at dksJ0_min_0 6 rfl rfl)
theorem dJ0_min_7 : decode cJ0_min 7 = .ok (.goto 4, 3) := dk_167 0 4 (dk_at dksJ0_min_0 7 rfl rfl)
theorem dJ0_min_10 : decode cJ0_min 10 = .ok (.lload_n 2, 1) := dk_32 (dk_at dksJ0_min_0 10 rfl rfl)
theorem dJ0_min_11 : decode cJ0_min 11 = .ok (.lreturn, 1) := dk_173 (dk_at dksJ0_min_0 11 rfl rfl)
abbrev cJ0_max : ByteArray := prog_14_method_66_code
def yJ0_max : MethodName := ⟨RJ0, "max", "(JJ)J"⟩
def dkwJ0_max_0 : List UInt8 := [30, 32, 148, 155, 0, 7, 30, 167, 0, 4, 32, 173]
abbrev dktJ0_max_0 : List UInt8 := dkwJ0_max_0 ++ []
theorem dksJ0_max_0 : cJ0_max.data.toList.drop 0 = dktJ0_max_0 := by decide +kernel
theorem dJ0_max_0 : decode cJ0_max 0 = .ok (.lload_n 0, 1) := dk_30 (dk_at dksJ0_max_0 0 rfl rfl)
theorem dJ0_max_1 : decode cJ0_max 1 = .ok (.lload_n 2, 1) := dk_32 (dk_at dksJ0_max_0 1 rfl rfl)
theorem dJ0_max_2 : decode cJ0_max 2 = .ok (.lcmp, 1) := dk_148 (dk_at dksJ0_max_0 2 rfl rfl)
theorem dJ0_max_3 : decode cJ0_max 3 = .ok (.ifCond .lt 7, 3) := dk_155 0 7 (dk_at dksJ0_max_0 3 rfl rfl)
theorem dJ0_max_6 : decode cJ0_max 6 = .ok (.lload_n 0, 1) := dk_30 (dk_at dksJ0_max_0 6 rfl rfl)
theorem dJ0_max_7 : decode cJ0_max 7 = .ok (.goto 4, 3) := dk_167 0 4 (dk_at dksJ0_max_0 7 rfl rfl)
theorem dJ0_max_10 : decode cJ0_max 10 = .ok (.lload_n 2, 1) := dk_32 (dk_at dksJ0_max_0 10 rfl rfl)
theorem dJ0_max_11 : decode cJ0_max 11 = .ok (.lreturn, 1) := dk_173 (dk_at dksJ0_max_0 11 rfl rfl)
abbrev cJ0_min_2 : ByteArray := prog_14_method_69_code
def yJ0_min_2 : MethodName := ⟨RJ0, "min", "(II)I"⟩
def dkwJ0_min_2_0 : List UInt8 := [26, 27, 163, 0, 7, 26, 167, 0, 4, 27, 172]
abbrev dktJ0_min_2_0 : List UInt8 := dkwJ0_min_2_0 ++ []
theorem dksJ0_min_2_0 : cJ0_min_2.data.toList.drop 0 = dktJ0_min_2_0 := by decide +kernel
theorem dJ0_min_2_0 : decode cJ0_min_2 0 = .ok (.iload_n 0, 1) := dk_26 (dk_at dksJ0_min_2_0 0 rfl rfl)
theorem dJ0_min_2_1 : decode cJ0_min_2 1 = .ok (.iload_n 1, 1) := dk_27 (dk_at dksJ0_min_2_0 1 rfl rfl)
theorem dJ0_min_2_2 : decode cJ0_min_2 2 = .ok (.if_icmp .gt 7, 3) := dk_163 0 7 (dk_at dksJ0_min_2_0 2 rfl rfl)
theorem dJ0_min_2_5 : decode cJ0_min_2 5 = .ok (.iload_n 0, 1) := dk_26 (dk_at dksJ0_min_2_0 5 rfl rfl)
theorem dJ0_min_2_6 : decode cJ0_min_2 6 = .ok (.goto 4, 3) := dk_167 0 4 (dk_at dksJ0_min_2_0 6 rfl rfl)
theorem dJ0_min_2_9 : decode cJ0_min_2 9 = .ok (.iload_n 1, 1) := dk_27 (dk_at dksJ0_min_2_0 9 rfl rfl)
theorem dJ0_min_2_10 : decode cJ0_min_2 10 = .ok (.ireturn, 1) := dk_172 (dk_at dksJ0_min_2_0 10 rfl rfl)
abbrev cJ0_max_2 : ByteArray := prog_14_method_65_code
def yJ0_max_2 : MethodName := ⟨RJ0, "max", "(II)I"⟩
def dkwJ0_max_2_0 : List UInt8 := [26, 27, 161, 0, 7, 26, 167, 0, 4, 27, 172]
abbrev dktJ0_max_2_0 : List UInt8 := dkwJ0_max_2_0 ++ []
theorem dksJ0_max_2_0 : cJ0_max_2.data.toList.drop 0 = dktJ0_max_2_0 := by decide +kernel
theorem dJ0_max_2_0 : decode cJ0_max_2 0 = .ok (.iload_n 0, 1) := dk_26 (dk_at dksJ0_max_2_0 0 rfl rfl)
theorem dJ0_max_2_1 : decode cJ0_max_2 1 = .ok (.iload_n 1, 1) := dk_27 (dk_at dksJ0_max_2_0 1 rfl rfl)
theorem dJ0_max_2_2 : decode cJ0_max_2 2 = .ok (.if_icmp .lt 7, 3) := dk_161 0 7 (dk_at dksJ0_max_2_0 2 rfl rfl)
theorem dJ0_max_2_5 : decode cJ0_max_2 5 = .ok (.iload_n 0, 1) := dk_26 (dk_at dksJ0_max_2_0 5 rfl rfl)
theorem dJ0_max_2_6 : decode cJ0_max_2 6 = .ok (.goto 4, 3) := dk_167 0 4 (dk_at dksJ0_max_2_0 6 rfl rfl)
theorem dJ0_max_2_9 : decode cJ0_max_2 9 = .ok (.iload_n 1, 1) := dk_27 (dk_at dksJ0_max_2_0 9 rfl rfl)
theorem dJ0_max_2_10 : decode cJ0_max_2 10 = .ok (.ireturn, 1) := dk_172 (dk_at dksJ0_max_2_0 10 rfl rfl)
theorem q74 : (Jvm.Cond.initialized "java/lang/Math") ∈ lw_all := lw_g (lw_at lw_m1 8 rfl) rfl
theorem q339 : (Jvm.Cond.static ({ cls := "java/lang/Math", name := "min", desc := "(JJ)J" } : Jvm.MethodName)) ∈ lw_all := lw_g (lw_at lw_m2 33 rfl) rfl
theorem q340 : (Jvm.Cond.code ({ cls := "java/lang/Math", name := "min", desc := "(JJ)J" } : Jvm.MethodName) prog_14_method_70_code (4 : Nat) (Option.some Jvm.ClassFile.FieldType.long)) ∈ lw_all := lw_g (lw_at lw_m2 34 rfl) rfl
theorem q342 : (Jvm.Cond.static ({ cls := "java/lang/Math", name := "max", desc := "(JJ)J" } : Jvm.MethodName)) ∈ lw_all := lw_g (lw_at lw_m2 36 rfl) rfl
theorem q343 : (Jvm.Cond.code ({ cls := "java/lang/Math", name := "max", desc := "(JJ)J" } : Jvm.MethodName) prog_14_method_66_code (4 : Nat) (Option.some Jvm.ClassFile.FieldType.long)) ∈ lw_all := lw_g (lw_at lw_m2 37 rfl) rfl
theorem q471 : (Jvm.Cond.static ({ cls := "java/lang/Math", name := "min", desc := "(II)I" } : Jvm.MethodName)) ∈ lw_all := lw_g (lw_at lw_m2 165 rfl) rfl
theorem q472 : (Jvm.Cond.code ({ cls := "java/lang/Math", name := "min", desc := "(II)I" } : Jvm.MethodName) prog_14_method_69_code (2 : Nat) (Option.some Jvm.ClassFile.FieldType.int)) ∈ lw_all := lw_g (lw_at lw_m2 166 rfl) rfl
theorem q506 : (Jvm.Cond.static ({ cls := "java/lang/Math", name := "max", desc := "(II)I" } : Jvm.MethodName)) ∈ lw_all := lw_g (lw_at lw_m2 200 rfl) rfl
theorem q507 : (Jvm.Cond.code ({ cls := "java/lang/Math", name := "max", desc := "(II)I" } : Jvm.MethodName) prog_14_method_65_code (2 : Nat) (Option.some Jvm.ClassFile.FieldType.int)) ∈ lw_all := lw_g (lw_at lw_m2 201 rfl) rfl

/-! java/lang/Integer -/
set_option maxRecDepth 100000
def RJ1 : String := "java/lang/Integer"
abbrev cJ1_numberOfLeadingZeros : ByteArray := prog_13_method_47_code
def yJ1_numberOfLeadingZeros : MethodName := ⟨RJ1, "numberOfLeadingZeros", "(I)I"⟩
def dkwJ1_numberOfLeadingZeros_3 : List UInt8 := [5, 124, 59, 27, 26, 4, 124, 100, 172]
abbrev dktJ1_numberOfLeadingZeros_3 : List UInt8 := dkwJ1_numberOfLeadingZeros_3 ++ []
def dkwJ1_numberOfLeadingZeros_2 : List UInt8 := [124, 59, 26, 16, 16, 161, 0, 10, 132, 1, 252, 26, 7, 124, 59, 26, 7, 161, 0, 10, 132, 1, 254, 26]
abbrev dktJ1_numberOfLeadingZeros_2 : List UInt8 := dkwJ1_numberOfLeadingZeros_2 ++ dktJ1_numberOfLeadingZeros_3
def dkwJ1_numberOfLeadingZeros_1 : List UInt8 := [161, 0, 11, 132, 1, 240, 26, 16, 16, 124, 59, 26, 17, 1, 0, 161, 0, 11, 132, 1, 248, 26, 16, 8]
abbrev dktJ1_numberOfLeadingZeros_1 : List UInt8 := dkwJ1_numberOfLeadingZeros_1 ++ dktJ1_numberOfLeadingZeros_2
def dkwJ1_numberOfLeadingZeros_0 : List UInt8 := [26, 157, 0, 14, 26, 154, 0, 8, 16, 32, 167, 0, 4, 3, 172, 16, 31, 60, 26, 19, 1, 8]
abbrev dktJ1_numberOfLeadingZeros_0 : List UInt8 := dkwJ1_numberOfLeadingZeros_0 ++ dktJ1_numberOfLeadingZeros_1
theorem dksJ1_numberOfLeadingZeros_0 : cJ1_numberOfLeadingZeros.data.toList.drop 0 = dktJ1_numberOfLeadingZeros_0 := by decide +kernel
theorem dksJ1_numberOfLeadingZeros_1 : cJ1_numberOfLeadingZeros.data.toList.drop 22 = dktJ1_numberOfLeadingZeros_1 := dk_seg dksJ1_numberOfLeadingZeros_0 22 rfl rfl
theorem dksJ1_numberOfLeadingZeros_2 : cJ1_numberOfLeadingZeros.data.toList.drop 46 = dktJ1_numberOfLeadingZeros_2 := dk_seg dksJ1_numberOfLeadingZeros_1 24 rfl rfl
theorem dksJ1_numberOfLeadingZeros_3 : cJ1_numberOfLeadingZeros.data.toList.drop 70 = dktJ1_numberOfLeadingZeros_3 := dk_seg dksJ1_numberOfLeadingZeros_2 24 rfl rfl
theorem dJ1_numberOfLeadingZeros_0 : decode cJ1_numberOfLeadingZeros 0 = .ok (.iload_n 0, 1) := dk_26 (dk_at dksJ1_numberOfLeadingZeros_0 0 rfl rfl)
theorem dJ1_numberOfLeadingZeros_1 : decode cJ1_numberOfLeadingZeros 1 = .ok (.ifCond .gt 14, 3) := dk_157 0 14 (dk_at dksJ1_numberOfLeadingZeros_0 1 rfl rfl)
theorem dJ1_numberOfLeadingZeros_4 : decode cJ1_numberOfLeadingZeros 4 = .ok (.iload_n 0, 1) := dk_26 (dk_at dksJ1_numberOfLeadingZeros_0 4 rfl rfl)
theorem dJ1_numberOfLeadingZeros_5 : decode cJ1_numberOfLeadingZeros 5 = .ok (.ifCond .ne 8, 3) := dk_154 0 8 (dk_at dksJ1_numberOfLeadingZeros_0 5 rfl rfl)
theorem dJ1_numberOfLeadingZeros_8 : decode cJ1_numberOfLeadingZeros 8 = .ok (.bipush 32, 2) := dk_16 32 (dk_at dksJ1_numberOfLeadingZeros_0 8 rfl rfl)
theorem dJ1_numberOfLeadingZeros_10 : decode cJ1_numberOfLeadingZeros 10 = .ok (.goto 4, 3) := dk_167 0 4 (dk_at dksJ1_numberOfLeadingZeros_0 10 rfl rfl)
theorem dJ1_numberOfLeadingZeros_13 : decode cJ1_numberOfLeadingZeros 13 = .ok (.iconst 0, 1) := dk_3 (dk_at dksJ1_numberOfLeadingZeros_0 13 rfl rfl)
theorem dJ1_numberOfLeadingZeros_14 : decode cJ1_numberOfLeadingZeros 14 = .ok (.ireturn, 1) := dk_172 (dk_at dksJ1_numberOfLeadingZeros_0 14 rfl rfl)
theorem dJ1_numberOfLeadingZeros_15 : decode cJ1_numberOfLeadingZeros 15 = .ok (.bipush 31, 2) := dk_16 31 (dk_at dksJ1_numberOfLeadingZeros_0 15 rfl rfl)
theorem dJ1_numberOfLeadingZeros_17 : decode cJ1_numberOfLeadingZeros 17 = .ok (.istore_n 1, 1) := dk_60 (dk_at dksJ1_numberOfLeadingZeros_0 17 rfl rfl)
theorem dJ1_numberOfLeadingZeros_18 : decode cJ1_numberOfLeadingZeros 18 = .ok (.iload_n 0, 1) := dk_26 (dk_at dksJ1_numberOfLeadingZeros_0 18 rfl rfl)
theorem dJ1_numberOfLeadingZeros_19 : decode cJ1_numberOfLeadingZeros 19 = .ok (.ldc_w 264, 3) := dk_19 1 8 (dk_at dksJ1_numberOfLeadingZeros_0 19 rfl rfl)
theorem dJ1_numberOfLeadingZeros_22 : decode cJ1_numberOfLeadingZeros 22 = .ok (.if_icmp .lt 11, 3) := dk_161 0 11 (dk_at dksJ1_numberOfLeadingZeros_1 0 rfl rfl)
theorem dJ1_numberOfLeadingZeros_25 : decode cJ1_numberOfLeadingZeros 25 = .ok (.iinc 1 (-16), 3) := dk_132 1 240 (dk_at dksJ1_numberOfLeadingZeros_1 3 rfl rfl)
theorem dJ1_numberOfLeadingZeros_28 : decode cJ1_numberOfLeadingZeros 28 = .ok (.iload_n 0, 1) := dk_26 (dk_at dksJ1_numberOfLeadingZeros_1 6 rfl rfl)
theorem dJ1_numberOfLeadingZeros_29 : decode cJ1_numberOfLeadingZeros 29 = .ok (.bipush 16, 2) := dk_16 16 (dk_at dksJ1_numberOfLeadingZeros_1 7 rfl rfl)
theorem dJ1_numberOfLeadingZeros_31 : decode cJ1_numberOfLeadingZeros 31 = .ok (.iushr, 1) := dk_124 (dk_at dksJ1_numberOfLeadingZeros_1 9 rfl rfl)
theorem dJ1_numberOfLeadingZeros_32 : decode cJ1_numberOfLeadingZeros 32 = .ok (.istore_n 0, 1) := dk_59 (dk_at dksJ1_numberOfLeadingZeros_1 10 rfl rfl)
theorem dJ1_numberOfLeadingZeros_33 : decode cJ1_numberOfLeadingZeros 33 = .ok (.iload_n 0, 1) := dk_26 (dk_at dksJ1_numberOfLeadingZeros_1 11 rfl rfl)
theorem dJ1_numberOfLeadingZeros_34 : decode cJ1_numberOfLeadingZeros 34 = .ok (.sipush 256, 3) := dk_17 1 0 (dk_at dksJ1_numberOfLeadingZeros_1 12 rfl rfl)
theorem dJ1_numberOfLeadingZeros_37 : decode cJ1_numberOfLeadingZeros 37 = .ok (.if_icmp .lt 11, 3) := dk_161 0 11 (dk_at dksJ1_numberOfLeadingZeros_1 15 rfl rfl)
theorem dJ1_numberOfLeadingZeros_40 : decode cJ1_numberOfLeadingZeros 40 = .ok (.iinc 1 (-8), 3) := dk_132 1 248 (dk_at dksJ1_numberOfLeadingZeros_1 18 rfl rfl)
theorem dJ1_numberOfLeadingZeros_43 : decode cJ1_numberOfLeadingZeros 43 = .ok (.iload_n 0, 1) := dk_26 (dk_at dksJ1_numberOfLeadingZeros_1 21 rfl rfl)
theorem dJ1_numberOfLeadingZeros_44 : decode cJ1_numberOfLeadingZeros 44 = .ok (.bipush 8, 2) := dk_16 8 (dk_at dksJ1_numberOfLeadingZeros_1 22 rfl rfl)
theorem dJ1_numberOfLeadingZeros_46 : decode cJ1_numberOfLeadingZeros 46 = .ok (.iushr, 1) := dk_124 (dk_at dksJ1_numberOfLeadingZeros_2 0 rfl rfl)
theorem dJ1_numberOfLeadingZeros_47 : decode cJ1_numberOfLeadingZeros 47 = .ok (.istore_n 0, 1) := dk_59 (dk_at dksJ1_numberOfLeadingZeros_2 1 rfl rfl)
theorem dJ1_numberOfLeadingZeros_48 : decode cJ1_numberOfLeadingZeros 48 = .ok (.iload_n 0, 1) := dk_26 (dk_at dksJ1_numberOfLeadingZeros_2 2 rfl rfl)
theorem dJ1_numberOfLeadingZeros_49 : decode cJ1_numberOfLeadingZeros 49 = .ok (.bipush 16, 2) := dk_16 16 (dk_at dksJ1_numberOfLeadingZeros_2 3 rfl rfl)
theorem dJ1_numberOfLeadingZeros_51 : decode cJ1_numberOfLeadingZeros 51 = .ok (.if_icmp .lt 10, 3) := dk_161 0 10 (dk_at dksJ1_numberOfLeadingZeros_2 5 rfl rfl)
theorem dJ1_numberOfLeadingZeros_54 : decode cJ1_numberOfLeadingZeros 54 = .ok (.iinc 1 (-4), 3) := dk_132 1 252 (dk_at dksJ1_numberOfLeadingZeros_2 8 rfl rfl)
theorem dJ1_numberOfLeadingZeros_57 : decode cJ1_numberOfLeadingZeros 57 = .ok (.iload_n 0, 1) := dk_26 (dk_at dksJ1_numberOfLeadingZeros_2 11 rfl rfl)
theorem dJ1_numberOfLeadingZeros_58 : decode cJ1_numberOfLeadingZeros 58 = .ok (.iconst 4, 1) := dk_7 (dk_at dksJ1_numberOfLeadingZeros_2 12 rfl rfl)
theorem dJ1_numberOfLeadingZeros_59 : decode cJ1_numberOfLeadingZeros 59 = .ok (.iushr, 1) := dk_124 (dk_at dksJ1_numberOfLeadingZeros_2 13 rfl rfl)
theorem dJ1_numberOfLeadingZeros_60 : decode cJ1_numberOfLeadingZeros 60 = .ok (.istore_n 0, 1) := dk_59 (dk_at dksJ1_numberOfLeadingZeros_2 14 rfl rfl)
theorem dJ1_numberOfLeadingZeros_61 : decode cJ1_numberOfLeadingZeros 61 = .ok (.iload_n 0, 1) := dk_26 (dk_at dksJ1_numberOfLeadingZeros_2 15 rfl rfl)
theorem dJ1_numberOfLeadingZeros_62 : decode cJ1_numberOfLeadingZeros 62 = .ok (.iconst 4, 1) := dk_7 (dk_at dksJ1_numberOfLeadingZeros_2 16 rfl rfl)
theorem dJ1_numberOfLeadingZeros_63 : decode cJ1_numberOfLeadingZeros 63 = .ok (.if_icmp .lt 10, 3) := dk_161 0 10 (dk_at dksJ1_numberOfLeadingZeros_2 17 rfl rfl)
theorem dJ1_numberOfLeadingZeros_66 : decode cJ1_numberOfLeadingZeros 66 = .ok (.iinc 1 (-2), 3) := dk_132 1 254 (dk_at dksJ1_numberOfLeadingZeros_2 20 rfl rfl)
theorem dJ1_numberOfLeadingZeros_69 : decode cJ1_numberOfLeadingZeros 69 = .ok (.iload_n 0, 1) := dk_26 (dk_at dksJ1_numberOfLeadingZeros_2 23 rfl rfl)
theorem dJ1_numberOfLeadingZeros_70 : decode cJ1_numberOfLeadingZeros 70 = .ok (.iconst 2, 1) := dk_5 (dk_at dksJ1_numberOfLeadingZeros_3 0 rfl rfl)
theorem dJ1_numberOfLeadingZeros_71 : decode cJ1_numberOfLeadingZeros 71 = .ok (.iushr, 1) := dk_124 (dk_at dksJ1_numberOfLeadingZeros_3 1 rfl rfl)
theorem dJ1_numberOfLeadingZeros_72 : decode cJ1_numberOfLeadingZeros 72 = .ok (.istore_n 0, 1) := dk_59 (dk_at dksJ1_numberOfLeadingZeros_3 2 rfl rfl)
theorem dJ1_numberOfLeadingZeros_73 : decode cJ1_numberOfLeadingZeros 73 = .ok (.iload_n 1, 1) := dk_27 (dk_at dksJ1_numberOfLeadingZeros_3 3 rfl rfl)
theorem dJ1_numberOfLeadingZeros_74 : decode cJ1_numberOfLeadingZeros 74 = .ok (.iload_n 0, 1) := dk_26 (dk_at dksJ1_numberOfLeadingZeros_3 4 rfl rfl)
theorem dJ1_numberOfLeadingZeros_75 : decode cJ1_numberOfLeadingZeros 75 = .ok (.iconst 1, 1) := dk_4 (dk_at dksJ1_numberOfLeadingZeros_3 5 rfl rfl)
theorem dJ1_numberOfLeadingZeros_76 : decode cJ1_numberOfLeadingZeros 76 = .ok (.iushr, 1) := dk_124 (dk_at dksJ1_numberOfLeadingZeros_3 6 rfl rfl)
theorem dJ1_numberOfLeadingZeros_77 : decode cJ1_numberOfLeadingZeros 77 = .ok (.isub, 1) := dk_100 (dk_at dksJ1_numberOfLeadingZeros_3 7 rfl rfl)
theorem dJ1_numberOfLeadingZeros_78 : decode cJ1_numberOfLeadingZeros 78 = .ok (.ireturn, 1) := dk_172 (dk_at dksJ1_numberOfLeadingZeros_3 8 rfl rfl)
theorem q75 : (Jvm.Cond.initialized "java/lang/Integer") ∈ lw_all := lw_g (lw_at lw_m1 9 rfl) rfl
theorem q367 : (Jvm.Cond.static ({ cls := "java/lang/Integer", name := "numberOfLeadingZeros", desc := "(I)I" } : Jvm.MethodName)) ∈ lw_all := lw_g (lw_at lw_m2 61 rfl) rfl
theorem q368 : (Jvm.Cond.code ({ cls := "java/lang/Integer", name := "numberOfLeadingZeros", desc := "(I)I" } : Jvm.MethodName) prog_13_method_47_code (2 : Nat) (Option.some Jvm.ClassFile.FieldType.int)) ∈ lw_all := lw_g (lw_at lw_m2 62 rfl) rfl
theorem q369 : (Jvm.Cond.constant "java/lang/Integer" (264 : Nat) (65536 : Int32)) ∈ lw_all := lw_g (lw_at lw_m2 63 rfl) rfl

/-! java/lang/Throwable -/
set_option maxRecDepth 100000
def RJ2 : String := "java/lang/Throwable"
def TJ2 : u_T := fun k => match k with
  | 0 => ("java/lang/Throwable", "cause", "Ljava/lang/Throwable;", false)
  | 1 => ("java/lang/Throwable", "stackTrace", "[Ljava/lang/StackTraceElement;", false)
  | 2 => ("java/lang/Throwable", "suppressedExceptions", "Ljava/util/List;", false)
  | 3 => ("java/lang/Throwable", "detailMessage", "Ljava/lang/String;", false)
  | _ => ("java/lang/Throwable", "backtrace", "Ljava/lang/Object;", false)
def tyJ2 : Nat → FieldType := fun k => match k with
  | 0 => .object "java/lang/Throwable"
  | 1 => .array (.object "java/lang/StackTraceElement")
  | 2 => .object "java/util/List"
  | 3 => .object "java/lang/String"
  | _ => .object "java/lang/Object"
abbrev wsJ20 : List Cond := u_ws RJ2 TJ2 5
theorem nmJ2 : ∀ a, a < 5 → ∀ b, b < 5 → a ≠ b → (TJ2 a).2.1 ≠ (TJ2 b).2.1 := by decide +kernel
theorem tyJ2_ok : ∀ k, k < 5 → parseFieldDescriptor (TJ2 k).2.2.1 = some (tyJ2 k) := by decide +kernel
abbrev cJ2_init : ByteArray := prog_16_method_1_code
def yJ2_init : MethodName := ⟨RJ2, "<init>", "()V"⟩
def dkwJ2_init_1 : List UInt8 := [182, 0, 27, 87, 177]
abbrev dktJ2_init_1 : List UInt8 := dkwJ2_init_1 ++ []
def dkwJ2_init_0 : List UInt8 := [42, 183, 0, 1, 42, 42, 181, 0, 7, 42, 178, 0, 13, 181, 0, 17, 42, 178, 0, 20, 181, 0, 24, 42]
abbrev dktJ2_init_0 : List UInt8 := dkwJ2_init_0 ++ dktJ2_init_1
theorem dksJ2_init_0 : cJ2_init.data.toList.drop 0 = dktJ2_init_0 := by decide +kernel
theorem dksJ2_init_1 : cJ2_init.data.toList.drop 24 = dktJ2_init_1 := dk_seg dksJ2_init_0 24 rfl rfl
theorem dJ2_init_0 : decode cJ2_init 0 = .ok (.aload_n 0, 1) := dk_42 (dk_at dksJ2_init_0 0 rfl rfl)
theorem dJ2_init_1 : decode cJ2_init 1 = .ok (.invokespecial 1, 3) := dk_183 0 1 (dk_at dksJ2_init_0 1 rfl rfl)
theorem dJ2_init_4 : decode cJ2_init 4 = .ok (.aload_n 0, 1) := dk_42 (dk_at dksJ2_init_0 4 rfl rfl)
theorem dJ2_init_5 : decode cJ2_init 5 = .ok (.aload_n 0, 1) := dk_42 (dk_at dksJ2_init_0 5 rfl rfl)
theorem dJ2_init_6 : decode cJ2_init 6 = .ok (.putfield 7, 3) := dk_181 0 7 (dk_at dksJ2_init_0 6 rfl rfl)
theorem dJ2_init_9 : decode cJ2_init 9 = .ok (.aload_n 0, 1) := dk_42 (dk_at dksJ2_init_0 9 rfl rfl)
theorem dJ2_init_10 : decode cJ2_init 10 = .ok (.getstatic 13, 3) := dk_178 0 13 (dk_at dksJ2_init_0 10 rfl rfl)
theorem dJ2_init_13 : decode cJ2_init 13 = .ok (.putfield 17, 3) := dk_181 0 17 (dk_at dksJ2_init_0 13 rfl rfl)
theorem dJ2_init_16 : decode cJ2_init 16 = .ok (.aload_n 0, 1) := dk_42 (dk_at dksJ2_init_0 16 rfl rfl)
theorem dJ2_init_17 : decode cJ2_init 17 = .ok (.getstatic 20, 3) := dk_178 0 20 (dk_at dksJ2_init_0 17 rfl rfl)
theorem dJ2_init_20 : decode cJ2_init 20 = .ok (.putfield 24, 3) := dk_181 0 24 (dk_at dksJ2_init_0 20 rfl rfl)
theorem dJ2_init_23 : decode cJ2_init 23 = .ok (.aload_n 0, 1) := dk_42 (dk_at dksJ2_init_0 23 rfl rfl)
theorem dJ2_init_24 : decode cJ2_init 24 = .ok (.invokevirtual 27, 3) := dk_182 0 27 (dk_at dksJ2_init_1 0 rfl rfl)
theorem dJ2_init_27 : decode cJ2_init 27 = .ok (.pop, 1) := dk_87 (dk_at dksJ2_init_1 3 rfl rfl)
theorem dJ2_init_28 : decode cJ2_init 28 = .ok (.return_, 1) := dk_177 (dk_at dksJ2_init_1 4 rfl rfl)
abbrev cJ2_init_2 : ByteArray := prog_16_method_5_code
def yJ2_init_2 : MethodName := ⟨RJ2, "<init>", "(Ljava/lang/String;Ljava/lang/Throwable;ZZ)V"⟩
def dkwJ2_init_2_2 : List UInt8 := [44, 181, 0, 7, 29, 154, 0, 8, 42, 1, 181, 0, 24, 177]
abbrev dktJ2_init_2_2 : List UInt8 := dkwJ2_init_2_2 ++ []
def dkwJ2_init_2_1 : List UInt8 := [21, 4, 153, 0, 11, 42, 182, 0, 27, 87, 167, 0, 8, 42, 1, 181, 0, 17, 42, 43, 181, 0, 31, 42]
abbrev dktJ2_init_2_1 : List UInt8 := dkwJ2_init_2_1 ++ dktJ2_init_2_2
def dkwJ2_init_2_0 : List UInt8 := [42, 183, 0, 1, 42, 42, 181, 0, 7, 42, 178, 0, 13, 181, 0, 17, 42, 178, 0, 20, 181, 0, 24]
abbrev dktJ2_init_2_0 : List UInt8 := dkwJ2_init_2_0 ++ dktJ2_init_2_1
theorem dksJ2_init_2_0 : cJ2_init_2.data.toList.drop 0 = dktJ2_init_2_0 := by decide +kernel
theorem dksJ2_init_2_1 : cJ2_init_2.data.toList.drop 23 = dktJ2_init_2_1 := dk_seg dksJ2_init_2_0 23 rfl rfl
theorem dksJ2_init_2_2 : cJ2_init_2.data.toList.drop 47 = dktJ2_init_2_2 := dk_seg dksJ2_init_2_1 24 rfl rfl
theorem dJ2_init_2_0 : decode cJ2_init_2 0 = .ok (.aload_n 0, 1) := dk_42 (dk_at dksJ2_init_2_0 0 rfl rfl)
theorem dJ2_init_2_1 : decode cJ2_init_2 1 = .ok (.invokespecial 1, 3) := dk_183 0 1 (dk_at dksJ2_init_2_0 1 rfl rfl)
theorem dJ2_init_2_4 : decode cJ2_init_2 4 = .ok (.aload_n 0, 1) := dk_42 (dk_at dksJ2_init_2_0 4 rfl rfl)
theorem dJ2_init_2_5 : decode cJ2_init_2 5 = .ok (.aload_n 0, 1) := dk_42 (dk_at dksJ2_init_2_0 5 rfl rfl)
theorem dJ2_init_2_6 : decode cJ2_init_2 6 = .ok (.putfield 7, 3) := dk_181 0 7 (dk_at dksJ2_init_2_0 6 rfl rfl)
theorem dJ2_init_2_9 : decode cJ2_init_2 9 = .ok (.aload_n 0, 1) := dk_42 (dk_at dksJ2_init_2_0 9 rfl rfl)
theorem dJ2_init_2_10 : decode cJ2_init_2 10 = .ok (.getstatic 13, 3) := dk_178 0 13 (dk_at dksJ2_init_2_0 10 rfl rfl)
theorem dJ2_init_2_13 : decode cJ2_init_2 13 = .ok (.putfield 17, 3) := dk_181 0 17 (dk_at dksJ2_init_2_0 13 rfl rfl)
theorem dJ2_init_2_16 : decode cJ2_init_2 16 = .ok (.aload_n 0, 1) := dk_42 (dk_at dksJ2_init_2_0 16 rfl rfl)
theorem dJ2_init_2_17 : decode cJ2_init_2 17 = .ok (.getstatic 20, 3) := dk_178 0 20 (dk_at dksJ2_init_2_0 17 rfl rfl)
theorem dJ2_init_2_20 : decode cJ2_init_2 20 = .ok (.putfield 24, 3) := dk_181 0 24 (dk_at dksJ2_init_2_0 20 rfl rfl)
theorem dJ2_init_2_23 : decode cJ2_init_2 23 = .ok (.iload 4, 2) := dk_21 4 (dk_at dksJ2_init_2_1 0 rfl rfl)
theorem dJ2_init_2_25 : decode cJ2_init_2 25 = .ok (.ifCond .eq 11, 3) := dk_153 0 11 (dk_at dksJ2_init_2_1 2 rfl rfl)
theorem dJ2_init_2_28 : decode cJ2_init_2 28 = .ok (.aload_n 0, 1) := dk_42 (dk_at dksJ2_init_2_1 5 rfl rfl)
theorem dJ2_init_2_29 : decode cJ2_init_2 29 = .ok (.invokevirtual 27, 3) := dk_182 0 27 (dk_at dksJ2_init_2_1 6 rfl rfl)
theorem dJ2_init_2_32 : decode cJ2_init_2 32 = .ok (.pop, 1) := dk_87 (dk_at dksJ2_init_2_1 9 rfl rfl)
theorem dJ2_init_2_33 : decode cJ2_init_2 33 = .ok (.goto 8, 3) := dk_167 0 8 (dk_at dksJ2_init_2_1 10 rfl rfl)
theorem dJ2_init_2_36 : decode cJ2_init_2 36 = .ok (.aload_n 0, 1) := dk_42 (dk_at dksJ2_init_2_1 13 rfl rfl)
theorem dJ2_init_2_37 : decode cJ2_init_2 37 = .ok (.aconst_null, 1) := dk_1 (dk_at dksJ2_init_2_1 14 rfl rfl)
theorem dJ2_init_2_38 : decode cJ2_init_2 38 = .ok (.putfield 17, 3) := dk_181 0 17 (dk_at dksJ2_init_2_1 15 rfl rfl)
theorem dJ2_init_2_41 : decode cJ2_init_2 41 = .ok (.aload_n 0, 1) := dk_42 (dk_at dksJ2_init_2_1 18 rfl rfl)
theorem dJ2_init_2_42 : decode cJ2_init_2 42 = .ok (.aload_n 1, 1) := dk_43 (dk_at dksJ2_init_2_1 19 rfl rfl)
theorem dJ2_init_2_43 : decode cJ2_init_2 43 = .ok (.putfield 31, 3) := dk_181 0 31 (dk_at dksJ2_init_2_1 20 rfl rfl)
theorem dJ2_init_2_46 : decode cJ2_init_2 46 = .ok (.aload_n 0, 1) := dk_42 (dk_at dksJ2_init_2_1 23 rfl rfl)
theorem dJ2_init_2_47 : decode cJ2_init_2 47 = .ok (.aload_n 2, 1) := dk_44 (dk_at dksJ2_init_2_2 0 rfl rfl)
theorem dJ2_init_2_48 : decode cJ2_init_2 48 = .ok (.putfield 7, 3) := dk_181 0 7 (dk_at dksJ2_init_2_2 1 rfl rfl)
theorem dJ2_init_2_51 : decode cJ2_init_2 51 = .ok (.iload_n 3, 1) := dk_29 (dk_at dksJ2_init_2_2 4 rfl rfl)
theorem dJ2_init_2_52 : decode cJ2_init_2 52 = .ok (.ifCond .ne 8, 3) := dk_154 0 8 (dk_at dksJ2_init_2_2 5 rfl rfl)
theorem dJ2_init_2_55 : decode cJ2_init_2 55 = .ok (.aload_n 0, 1) := dk_42 (dk_at dksJ2_init_2_2 8 rfl rfl)
theorem dJ2_init_2_56 : decode cJ2_init_2 56 = .ok (.aconst_null, 1) := dk_1 (dk_at dksJ2_init_2_2 9 rfl rfl)
theorem dJ2_init_2_57 : decode cJ2_init_2 57 = .ok (.putfield 24, 3) := dk_181 0 24 (dk_at dksJ2_init_2_2 10 rfl rfl)
theorem dJ2_init_2_60 : decode cJ2_init_2 60 = .ok (.return_, 1) := dk_177 (dk_at dksJ2_init_2_2 13 rfl rfl)
theorem q76 : (Jvm.Cond.initialized "java/lang/Throwable") ∈ lw_all := lw_g (lw_at lw_m1 10 rfl) rfl
theorem q607 : (Jvm.Cond.declares ({ cls := "java/lang/Throwable", name := "<init>", desc := "()V" } : Jvm.MethodName)) ∈ lw_tbl := lw_at lw_m3 61 rfl
theorem q608 : (Jvm.Cond.declares ({ cls := "java/lang/Throwable", name := "<init>", desc := "(Ljava/lang/String;)V" } : Jvm.MethodName)) ∈ lw_tbl := lw_at lw_m3 62 rfl
theorem q612 : (Jvm.Cond.lays "java/lang/Throwable" "java/lang/Throwable" "cause" "Ljava/lang/Throwable;") ∈ lw_all := lw_g (lw_at lw_m3 66 rfl) rfl
theorem q614 : (Jvm.Cond.lays "java/lang/Throwable" "java/lang/Throwable" "stackTrace" "[Ljava/lang/StackTraceElement;") ∈ lw_all := lw_g (lw_at lw_m3 68 rfl) rfl
theorem q616 : (Jvm.Cond.lays "java/lang/Throwable" "java/lang/Throwable" "suppressedExceptions" "Ljava/util/List;") ∈ lw_all := lw_g (lw_at lw_m3 70 rfl) rfl
theorem q618 : (Jvm.Cond.lays "java/lang/Throwable" "java/lang/Throwable" "detailMessage" "Ljava/lang/String;") ∈ lw_all := lw_g (lw_at lw_m3 72 rfl) rfl
theorem q620 : (Jvm.Cond.lays "java/lang/Throwable" "java/lang/Throwable" "backtrace" "Ljava/lang/Object;") ∈ lw_all := lw_g (lw_at lw_m3 74 rfl) rfl
theorem q621 : (Jvm.Cond.fieldLink "java/lang/Throwable" (198 : Nat) "java/lang/Throwable" "backtrace" "Ljava/lang/Object;") ∈ lw_all := lw_g (lw_at lw_m3 75 rfl) rfl
theorem q622 : (Jvm.Cond.superclass "java/lang/Throwable" "java/lang/Object") ∈ lw_all := lw_g (lw_at lw_m3 76 rfl) rfl
theorem q623 : (Jvm.Cond.instanceMethod ({ cls := "java/lang/Throwable", name := "<init>", desc := "()V" } : Jvm.MethodName)) ∈ lw_all := lw_g (lw_at lw_m3 77 rfl) rfl
theorem q624 : (Jvm.Cond.code ({ cls := "java/lang/Throwable", name := "<init>", desc := "()V" } : Jvm.MethodName) prog_16_method_1_code (1 : Nat) (Option.none : Option Jvm.ClassFile.FieldType)) ∈ lw_all := lw_g (lw_at lw_m3 78 rfl) rfl
theorem q625 : (Jvm.Cond.methodLink "java/lang/Throwable" (1 : Nat) ({ cls := "java/lang/Object", name := "<init>", desc := "()V" } : Jvm.MethodName)) ∈ lw_all := lw_g (lw_at lw_m3 79 rfl) rfl
theorem q626 : (Jvm.Cond.fieldLink "java/lang/Throwable" (13 : Nat) "java/lang/Throwable" "UNASSIGNED_STACK" "[Ljava/lang/StackTraceElement;") ∈ lw_all := lw_g (lw_at lw_m3 80 rfl) rfl
theorem q627 : (Jvm.Cond.laysStatic "java/lang/Throwable" "UNASSIGNED_STACK" "[Ljava/lang/StackTraceElement;") ∈ lw_tbl := lw_at lw_m3 81 rfl
theorem q628 : (Jvm.Cond.fieldLink "java/lang/Throwable" (20 : Nat) "java/lang/Throwable" "SUPPRESSED_SENTINEL" "Ljava/util/List;") ∈ lw_all := lw_g (lw_at lw_m3 82 rfl) rfl
theorem q629 : (Jvm.Cond.laysStatic "java/lang/Throwable" "SUPPRESSED_SENTINEL" "Ljava/util/List;") ∈ lw_tbl := lw_at lw_m3 83 rfl
theorem q630 : (Jvm.Cond.methodLink "java/lang/Throwable" (27 : Nat) ({ cls := "java/lang/Throwable", name := "fillInStackTrace", desc := "()Ljava/lang/Throwable;" } : Jvm.MethodName)) ∈ lw_all := lw_g (lw_at lw_m3 84 rfl) rfl
theorem q631 : (Jvm.Cond.instanceMethod ({ cls := "java/lang/Throwable", name := "fillInStackTrace", desc := "()Ljava/lang/Throwable;" } : Jvm.MethodName)) ∈ lw_all := lw_g (lw_at lw_m3 85 rfl) rfl
theorem q632 : (Jvm.Cond.sameMethod "java/lang/Throwable" "java/lang/Throwable" "fillInStackTrace" "()Ljava/lang/Throwable;") ∈ lw_all := lw_g (lw_at lw_m3 86 rfl) rfl
theorem q633 : (Jvm.Cond.codeSync ({ cls := "java/lang/Throwable", name := "fillInStackTrace", desc := "()Ljava/lang/Throwable;" } : Jvm.MethodName) prog_16_method_18_code (1 : Nat) (Option.some (Jvm.ClassFile.FieldType.object "java/lang/Throwable"))) ∈ lw_all := lw_g (lw_at lw_m3 87 rfl) rfl
theorem q634 : (Jvm.Cond.methodLink "java/lang/Throwable" (202 : Nat) ({ cls := "java/lang/Throwable", name := "fillInStackTrace", desc := "(I)Ljava/lang/Throwable;" } : Jvm.MethodName)) ∈ lw_all := lw_g (lw_at lw_m3 88 rfl) rfl
theorem q635 : (Jvm.Cond.privateMethod ({ cls := "java/lang/Throwable", name := "fillInStackTrace", desc := "(I)Ljava/lang/Throwable;" } : Jvm.MethodName)) ∈ lw_tbl := lw_at lw_m3 89 rfl
theorem q636 : (Jvm.Cond.instanceMethod ({ cls := "java/lang/Throwable", name := "fillInStackTrace", desc := "(I)Ljava/lang/Throwable;" } : Jvm.MethodName)) ∈ lw_all := lw_g (lw_at lw_m3 90 rfl) rfl
theorem q637 : (Jvm.Cond.instantiable "java/lang/Throwable" (6 : Nat)) ∈ lw_all := lw_g (lw_at lw_m3 91 rfl) rfl
theorem q638 : (Jvm.Cond.native ({ cls := "java/lang/Throwable", name := "fillInStackTrace", desc := "(I)Ljava/lang/Throwable;" } : Jvm.MethodName)) ∈ lw_all := lw_g (lw_at lw_m3 92 rfl) rfl
theorem q646 : (Jvm.Cond.instanceMethod ({ cls := "java/lang/Throwable", name := "<init>", desc := "(Ljava/lang/String;Ljava/lang/Throwable;ZZ)V" } : Jvm.MethodName)) ∈ lw_all := lw_g (lw_at lw_m3 100 rfl) rfl
theorem q647 : (Jvm.Cond.code ({ cls := "java/lang/Throwable", name := "<init>", desc := "(Ljava/lang/String;Ljava/lang/Throwable;ZZ)V" } : Jvm.MethodName) prog_16_method_5_code (5 : Nat) (Option.none : Option Jvm.ClassFile.FieldType)) ∈ lw_all := lw_g (lw_at lw_m3 101 rfl) rfl
theorem q650 : (Jvm.Cond.fieldLink "java/lang/Throwable" (198 : Nat) "java/lang/Throwable" "backtrace" "Ljava/lang/Object;") ∈ lw_all := lw_g (lw_at lw_m3 104 rfl) rfl
theorem q651 : (Jvm.Cond.fieldLink "java/lang/Throwable" (31 : Nat) "java/lang/Throwable" "detailMessage" "Ljava/lang/String;") ∈ lw_all := lw_g (lw_at lw_m3 105 rfl) rfl
theorem q652 : (Jvm.Cond.fieldLink "java/lang/Throwable" (7 : Nat) "java/lang/Throwable" "cause" "Ljava/lang/Throwable;") ∈ lw_all := lw_g (lw_at lw_m3 106 rfl) rfl
theorem q653 : (Jvm.Cond.fieldLink "java/lang/Throwable" (17 : Nat) "java/lang/Throwable" "stackTrace" "[Ljava/lang/StackTraceElement;") ∈ lw_all := lw_g (lw_at lw_m3 107 rfl) rfl
theorem q654 : (Jvm.Cond.fieldLink "java/lang/Throwable" (24 : Nat) "java/lang/Throwable" "suppressedExceptions" "Ljava/util/List;") ∈ lw_all := lw_g (lw_at lw_m3 108 rfl) rfl
theorem q657 : (Jvm.Cond.soleField "java/lang/Throwable" "backtrace") ∈ lw_all := lw_g (lw_at lw_m3 111 rfl) rfl
theorem q658 : (Jvm.Cond.soleField "java/lang/Throwable" "detailMessage") ∈ lw_all := lw_g (lw_at lw_m3 112 rfl) rfl
theorem q659 : (Jvm.Cond.soleField "java/lang/Throwable" "cause") ∈ lw_all := lw_g (lw_at lw_m3 113 rfl) rfl
theorem q660 : (Jvm.Cond.soleField "java/lang/Throwable" "stackTrace") ∈ lw_all := lw_g (lw_at lw_m3 114 rfl) rfl
theorem q662 : (Jvm.Cond.soleField "java/lang/Throwable" "depth") ∈ lw_all := lw_g (lw_at lw_m3 116 rfl) rfl
theorem q663 : (Jvm.Cond.soleField "java/lang/Throwable" "suppressedExceptions") ∈ lw_all := lw_g (lw_at lw_m3 117 rfl) rfl
theorem q1040 : (Jvm.Cond.sameMethod "java/lang/Throwable" "java/lang/Throwable" "fillInStackTrace" "(I)Ljava/lang/Throwable;") ∈ lw_all := lw_g (lw_at lw_m5 14 rfl) rfl
theorem in_J2 : ∀ w ∈ wsJ20, w ∈ lw_all := lw_in wsJ20 [612, 614, 616, 618, 620] (by decide +kernel) (by decide +kernel)

/-! java/lang/Exception -/
set_option maxRecDepth 100000
def RJ3 : String := "java/lang/Exception"
abbrev cJ3_init : ByteArray := prog_12_method_5_code
def yJ3_init : MethodName := ⟨RJ3, "<init>", "(Ljava/lang/String;Ljava/lang/Throwable;ZZ)V"⟩
def dkwJ3_init_0 : List UInt8 := [42, 43, 44, 29, 21, 4, 183, 0, 16, 177]
abbrev dktJ3_init_0 : List UInt8 := dkwJ3_init_0 ++ []
theorem dksJ3_init_0 : cJ3_init.data.toList.drop 0 = dktJ3_init_0 := by decide +kernel
theorem dJ3_init_0 : decode cJ3_init 0 = .ok (.aload_n 0, 1) := dk_42 (dk_at dksJ3_init_0 0 rfl rfl)
theorem dJ3_init_1 : decode cJ3_init 1 = .ok (.aload_n 1, 1) := dk_43 (dk_at dksJ3_init_0 1 rfl rfl)
theorem dJ3_init_2 : decode cJ3_init 2 = .ok (.aload_n 2, 1) := dk_44 (dk_at dksJ3_init_0 2 rfl rfl)
theorem dJ3_init_3 : decode cJ3_init 3 = .ok (.iload_n 3, 1) := dk_29 (dk_at dksJ3_init_0 3 rfl rfl)
theorem dJ3_init_4 : decode cJ3_init 4 = .ok (.iload 4, 2) := dk_21 4 (dk_at dksJ3_init_0 4 rfl rfl)
theorem dJ3_init_6 : decode cJ3_init 6 = .ok (.invokespecial 16, 3) := dk_183 0 16 (dk_at dksJ3_init_0 6 rfl rfl)
theorem dJ3_init_9 : decode cJ3_init 9 = .ok (.return_, 1) := dk_177 (dk_at dksJ3_init_0 9 rfl rfl)
theorem q77 : (Jvm.Cond.initialized "java/lang/Exception") ∈ lw_all := lw_g (lw_at lw_m1 11 rfl) rfl
theorem q605 : (Jvm.Cond.declares ({ cls := "java/lang/Exception", name := "<init>", desc := "()V" } : Jvm.MethodName)) ∈ lw_tbl := lw_at lw_m3 59 rfl
theorem q606 : (Jvm.Cond.declares ({ cls := "java/lang/Exception", name := "<init>", desc := "(Ljava/lang/String;)V" } : Jvm.MethodName)) ∈ lw_tbl := lw_at lw_m3 60 rfl
theorem q643 : (Jvm.Cond.instanceMethod ({ cls := "java/lang/Exception", name := "<init>", desc := "(Ljava/lang/String;Ljava/lang/Throwable;ZZ)V" } : Jvm.MethodName)) ∈ lw_all := lw_g (lw_at lw_m3 97 rfl) rfl
theorem q644 : (Jvm.Cond.code ({ cls := "java/lang/Exception", name := "<init>", desc := "(Ljava/lang/String;Ljava/lang/Throwable;ZZ)V" } : Jvm.MethodName) prog_12_method_5_code (5 : Nat) (Option.none : Option Jvm.ClassFile.FieldType)) ∈ lw_all := lw_g (lw_at lw_m3 98 rfl) rfl
theorem q645 : (Jvm.Cond.methodLink "java/lang/Exception" (16 : Nat) ({ cls := "java/lang/Throwable", name := "<init>", desc := "(Ljava/lang/String;Ljava/lang/Throwable;ZZ)V" } : Jvm.MethodName)) ∈ lw_all := lw_g (lw_at lw_m3 99 rfl) rfl

/-! java/lang/Object -/
set_option maxRecDepth 100000
def RJ4 : String := "java/lang/Object"
abbrev cJ4_init : ByteArray := object_method_1_code
def yJ4_init : MethodName := ⟨RJ4, "<init>", "()V"⟩
theorem dJ4_init_0 : decode cJ4_init 0 = .ok (.return_, 1) := by decide +kernel
theorem q85 : (Jvm.Cond.instanceMethod ({ cls := "java/lang/Object", name := "<init>", desc := "()V" } : Jvm.MethodName)) ∈ lw_all := lw_g (lw_at lw_m1 19 rfl) rfl
theorem q86 : (Jvm.Cond.code ({ cls := "java/lang/Object", name := "<init>", desc := "()V" } : Jvm.MethodName) object_method_1_code (1 : Nat) (Option.none : Option Jvm.ClassFile.FieldType)) ∈ lw_all := lw_g (lw_at lw_m1 20 rfl) rfl

theorem q66 : (Jvm.Cond.initialized "TreeOddsLaw") ∈ lw_all := lw_g (lw_at lw_m1 0 rfl) rfl
set_option maxRecDepth 100000
theorem q79 : (Jvm.Cond.classLink "TreeOddsLaw" (7 : Nat) "TreeOdds") ∈ lw_all := lw_g (lw_at lw_m1 13 rfl) rfl
theorem q81 : (Jvm.Cond.methodLink "TreeOddsLaw" (9 : Nat) ({ cls := "TreeOdds", name := "<init>", desc := "()V" } : Jvm.MethodName)) ∈ lw_all := lw_g (lw_at lw_m1 15 rfl) rfl
theorem q289 : (Jvm.Cond.methodLink "TreeOddsLaw" (13 : Nat) ({ cls := "TreeOdds", name := "sign", desc := "(I)I" } : Jvm.MethodName)) ∈ lw_all := lw_g (lw_at lw_m1 223 rfl) rfl
theorem q370 : (Jvm.Cond.methodLink "TreeOddsLaw" (20 : Nat) ({ cls := "TreeOdds", name := "signs", desc := "(JI)I" } : Jvm.MethodName)) ∈ lw_all := lw_g (lw_at lw_m2 64 rfl) rfl
theorem q375 : (Jvm.Cond.methodLink "TreeOddsLaw" (25 : Nat) ({ cls := "TreeOdds", name := "draw", desc := "(III)I" } : Jvm.MethodName)) ∈ lw_all := lw_g (lw_at lw_m2 69 rfl) rfl
theorem q384 : (Jvm.Cond.methodLink "TreeOddsLaw" (30 : Nat) ({ cls := "TreeOdds", name := "sets", desc := "(II)I" } : Jvm.MethodName)) ∈ lw_all := lw_g (lw_at lw_m2 78 rfl) rfl
theorem q394 : (Jvm.Cond.methodLink "TreeOddsLaw" (35 : Nat) ({ cls := "TreeOdds", name := "empties", desc := "()I" } : Jvm.MethodName)) ∈ lw_all := lw_g (lw_at lw_m2 88 rfl) rfl
theorem q398 : (Jvm.Cond.methodLink "TreeOddsLaw" (40 : Nat) ({ cls := "TreeOdds", name := "drop", desc := "()I" } : Jvm.MethodName)) ∈ lw_all := lw_g (lw_at lw_m2 92 rfl) rfl
theorem q406 : (Jvm.Cond.methodLink "TreeOddsLaw" (44 : Nat) ({ cls := "TreeOdds", name := "at", desc := "(I)I" } : Jvm.MethodName)) ∈ lw_all := lw_g (lw_at lw_m2 100 rfl) rfl
theorem q410 : (Jvm.Cond.methodLink "TreeOddsLaw" (48 : Nat) ({ cls := "TreeOdds", name := "guess", desc := "()I" } : Jvm.MethodName)) ∈ lw_all := lw_g (lw_at lw_m2 104 rfl) rfl
theorem q414 : (Jvm.Cond.methodLink "TreeOddsLaw" (52 : Nat) ({ cls := "TreeOdds", name := "was", desc := "(II)I" } : Jvm.MethodName)) ∈ lw_all := lw_g (lw_at lw_m2 108 rfl) rfl
theorem q418 : (Jvm.Cond.methodLink "TreeOddsLaw" (56 : Nat) ({ cls := "TreeOdds", name := "node", desc := "(III)I" } : Jvm.MethodName)) ∈ lw_all := lw_g (lw_at lw_m2 112 rfl) rfl
theorem q428 : (Jvm.Cond.methodLink "TreeOddsLaw" (60 : Nat) ({ cls := "TreeOdds", name := "cost", desc := "()I" } : Jvm.MethodName)) ∈ lw_all := lw_g (lw_at lw_m2 122 rfl) rfl
theorem q436 : (Jvm.Cond.methodLink "TreeOddsLaw" (64 : Nat) ({ cls := "TreeOdds", name := "costBy", desc := "(II)I" } : Jvm.MethodName)) ∈ lw_all := lw_g (lw_at lw_m2 130 rfl) rfl
theorem q464 : (Jvm.Cond.methodLink "TreeOddsLaw" (68 : Nat) ({ cls := "TreeOdds", name := "best", desc := "(I)I" } : Jvm.MethodName)) ∈ lw_all := lw_g (lw_at lw_m2 158 rfl) rfl
theorem q473 : (Jvm.Cond.methodLink "TreeOddsLaw" (72 : Nat) ({ cls := "TreeOdds", name := "follows", desc := "(I)I" } : Jvm.MethodName)) ∈ lw_all := lw_g (lw_at lw_m2 167 rfl) rfl
theorem q486 : (Jvm.Cond.methodLink "TreeOddsLaw" (76 : Nat) ({ cls := "TreeOdds", name := "tree", desc := "(I)I" } : Jvm.MethodName)) ∈ lw_all := lw_g (lw_at lw_m2 180 rfl) rfl
theorem q508 : (Jvm.Cond.methodLink "TreeOddsLaw" (80 : Nat) ({ cls := "TreeOdds", name := "leaf", desc := "(II)I" } : Jvm.MethodName)) ∈ lw_all := lw_g (lw_at lw_m2 202 rfl) rfl
theorem q512 : (Jvm.Cond.methodLink "TreeOddsLaw" (84 : Nat) ({ cls := "TreeOdds", name := "written", desc := "(I)I" } : Jvm.MethodName)) ∈ lw_all := lw_g (lw_at lw_m2 206 rfl) rfl
theorem q541 : (Jvm.Cond.methodLink "TreeOddsLaw" (88 : Nat) ({ cls := "TreeOdds", name := "reads", desc := "(II)I" } : Jvm.MethodName)) ∈ lw_all := lw_g (lw_at lw_m2 235 rfl) rfl
theorem q564 : (Jvm.Cond.methodLink "TreeOddsLaw" (92 : Nat) ({ cls := "TreeOdds", name := "type", desc := "(I)I" } : Jvm.MethodName)) ∈ lw_all := lw_g (lw_at lw_m3 18 rfl) rfl
theorem q569 : (Jvm.Cond.methodLink "TreeOddsLaw" (96 : Nat) ({ cls := "TreeOdds", name := "clear", desc := "()I" } : Jvm.MethodName)) ∈ lw_all := lw_g (lw_at lw_m3 23 rfl) rfl
theorem q573 : (Jvm.Cond.methodLink "TreeOddsLaw" (100 : Nat) ({ cls := "TreeOdds", name := "told", desc := "()I" } : Jvm.MethodName)) ∈ lw_all := lw_g (lw_at lw_m3 27 rfl) rfl
theorem q673 : (Jvm.Cond.methodLink "TreeOddsLaw" (104 : Nat) ({ cls := "TreeOdds", name := "back", desc := "()I" } : Jvm.MethodName)) ∈ lw_all := lw_g (lw_at lw_m3 127 rfl) rfl
theorem q677 : (Jvm.Cond.methodLink "TreeOddsLaw" (108 : Nat) ({ cls := "TreeOdds", name := "count", desc := "(I)I" } : Jvm.MethodName)) ∈ lw_all := lw_g (lw_at lw_m3 131 rfl) rfl
theorem q686 : (Jvm.Cond.methodLink "TreeOddsLaw" (112 : Nat) ({ cls := "TreeOdds", name := "digest", desc := "()J" } : Jvm.MethodName)) ∈ lw_all := lw_g (lw_at lw_m3 140 rfl) rfl
theorem q692 : (Jvm.Cond.classLink "TreeOddsLaw" (10 : Nat) "TreeOddsModel") ∈ lw_all := lw_g (lw_at lw_m3 146 rfl) rfl
theorem q694 : (Jvm.Cond.methodLink "TreeOddsLaw" (12 : Nat) ({ cls := "TreeOddsModel", name := "<init>", desc := "()V" } : Jvm.MethodName)) ∈ lw_all := lw_g (lw_at lw_m3 148 rfl) rfl
theorem q780 : (Jvm.Cond.methodLink "TreeOddsLaw" (17 : Nat) ({ cls := "TreeOddsModel", name := "sign", desc := "(I)I" } : Jvm.MethodName)) ∈ lw_all := lw_g (lw_at lw_m3 234 rfl) rfl
theorem q867 : (Jvm.Cond.methodLink "TreeOddsLaw" (24 : Nat) ({ cls := "TreeOddsModel", name := "signs", desc := "(JI)I" } : Jvm.MethodName)) ∈ lw_all := lw_g (lw_at lw_m4 81 rfl) rfl
theorem q871 : (Jvm.Cond.methodLink "TreeOddsLaw" (29 : Nat) ({ cls := "TreeOddsModel", name := "draw", desc := "(III)I" } : Jvm.MethodName)) ∈ lw_all := lw_g (lw_at lw_m4 85 rfl) rfl
theorem q880 : (Jvm.Cond.methodLink "TreeOddsLaw" (34 : Nat) ({ cls := "TreeOddsModel", name := "sets", desc := "(II)I" } : Jvm.MethodName)) ∈ lw_all := lw_g (lw_at lw_m4 94 rfl) rfl
theorem q886 : (Jvm.Cond.methodLink "TreeOddsLaw" (39 : Nat) ({ cls := "TreeOddsModel", name := "empties", desc := "()I" } : Jvm.MethodName)) ∈ lw_all := lw_g (lw_at lw_m4 100 rfl) rfl
theorem q890 : (Jvm.Cond.methodLink "TreeOddsLaw" (43 : Nat) ({ cls := "TreeOddsModel", name := "drop", desc := "()I" } : Jvm.MethodName)) ∈ lw_all := lw_g (lw_at lw_m4 104 rfl) rfl
theorem q898 : (Jvm.Cond.methodLink "TreeOddsLaw" (47 : Nat) ({ cls := "TreeOddsModel", name := "at", desc := "(I)I" } : Jvm.MethodName)) ∈ lw_all := lw_g (lw_at lw_m4 112 rfl) rfl
theorem q902 : (Jvm.Cond.methodLink "TreeOddsLaw" (51 : Nat) ({ cls := "TreeOddsModel", name := "guess", desc := "()I" } : Jvm.MethodName)) ∈ lw_all := lw_g (lw_at lw_m4 116 rfl) rfl
theorem q910 : (Jvm.Cond.methodLink "TreeOddsLaw" (55 : Nat) ({ cls := "TreeOddsModel", name := "was", desc := "(II)I" } : Jvm.MethodName)) ∈ lw_all := lw_g (lw_at lw_m4 124 rfl) rfl
theorem q914 : (Jvm.Cond.methodLink "TreeOddsLaw" (59 : Nat) ({ cls := "TreeOddsModel", name := "node", desc := "(III)I" } : Jvm.MethodName)) ∈ lw_all := lw_g (lw_at lw_m4 128 rfl) rfl
theorem q922 : (Jvm.Cond.methodLink "TreeOddsLaw" (63 : Nat) ({ cls := "TreeOddsModel", name := "cost", desc := "()I" } : Jvm.MethodName)) ∈ lw_all := lw_g (lw_at lw_m4 136 rfl) rfl
theorem q926 : (Jvm.Cond.methodLink "TreeOddsLaw" (67 : Nat) ({ cls := "TreeOddsModel", name := "costBy", desc := "(II)I" } : Jvm.MethodName)) ∈ lw_all := lw_g (lw_at lw_m4 140 rfl) rfl
theorem q930 : (Jvm.Cond.methodLink "TreeOddsLaw" (71 : Nat) ({ cls := "TreeOddsModel", name := "best", desc := "(I)I" } : Jvm.MethodName)) ∈ lw_all := lw_g (lw_at lw_m4 144 rfl) rfl
theorem q935 : (Jvm.Cond.methodLink "TreeOddsLaw" (75 : Nat) ({ cls := "TreeOddsModel", name := "follows", desc := "(I)I" } : Jvm.MethodName)) ∈ lw_all := lw_g (lw_at lw_m4 149 rfl) rfl
theorem q940 : (Jvm.Cond.methodLink "TreeOddsLaw" (79 : Nat) ({ cls := "TreeOddsModel", name := "tree", desc := "(I)I" } : Jvm.MethodName)) ∈ lw_all := lw_g (lw_at lw_m4 154 rfl) rfl
theorem q956 : (Jvm.Cond.methodLink "TreeOddsLaw" (83 : Nat) ({ cls := "TreeOddsModel", name := "leaf", desc := "(II)I" } : Jvm.MethodName)) ∈ lw_all := lw_g (lw_at lw_m4 170 rfl) rfl
theorem q960 : (Jvm.Cond.methodLink "TreeOddsLaw" (87 : Nat) ({ cls := "TreeOddsModel", name := "written", desc := "(I)I" } : Jvm.MethodName)) ∈ lw_all := lw_g (lw_at lw_m4 174 rfl) rfl
theorem q976 : (Jvm.Cond.methodLink "TreeOddsLaw" (91 : Nat) ({ cls := "TreeOddsModel", name := "reads", desc := "(II)I" } : Jvm.MethodName)) ∈ lw_all := lw_g (lw_at lw_m4 190 rfl) rfl
theorem q985 : (Jvm.Cond.methodLink "TreeOddsLaw" (95 : Nat) ({ cls := "TreeOddsModel", name := "type", desc := "(I)I" } : Jvm.MethodName)) ∈ lw_all := lw_g (lw_at lw_m4 199 rfl) rfl
theorem q990 : (Jvm.Cond.methodLink "TreeOddsLaw" (99 : Nat) ({ cls := "TreeOddsModel", name := "clear", desc := "()I" } : Jvm.MethodName)) ∈ lw_all := lw_g (lw_at lw_m4 204 rfl) rfl
theorem q994 : (Jvm.Cond.methodLink "TreeOddsLaw" (103 : Nat) ({ cls := "TreeOddsModel", name := "told", desc := "()I" } : Jvm.MethodName)) ∈ lw_all := lw_g (lw_at lw_m4 208 rfl) rfl
theorem q1020 : (Jvm.Cond.methodLink "TreeOddsLaw" (107 : Nat) ({ cls := "TreeOddsModel", name := "back", desc := "()I" } : Jvm.MethodName)) ∈ lw_all := lw_g (lw_at lw_m4 234 rfl) rfl
theorem q1024 : (Jvm.Cond.methodLink "TreeOddsLaw" (111 : Nat) ({ cls := "TreeOddsModel", name := "count", desc := "(I)I" } : Jvm.MethodName)) ∈ lw_all := lw_g (lw_at lw_m4 238 rfl) rfl
theorem q1033 : (Jvm.Cond.methodLink "TreeOddsLaw" (116 : Nat) ({ cls := "TreeOddsModel", name := "digest", desc := "()J" } : Jvm.MethodName)) ∈ lw_all := lw_g (lw_at lw_m5 7 rfl) rfl
theorem q1039 : (Jvm.Cond.constantLong "TreeOddsLaw" (18 : Nat) (4294967295 : Int64)) ∈ lw_all := lw_g (lw_at lw_m5 13 rfl) rfl

theorem q332 : (Jvm.Cond.interfaceMethod "TreeOdds$Guess" "TreeOdds$Guess" "of" "(II)I") ∈ lw_tbl := lw_at lw_m2 26 rfl
set_option maxRecDepth 100000
theorem q333 : (Jvm.Cond.declares ({ cls := "TreeOdds$Guess", name := "of", desc := "(II)I" } : Jvm.MethodName)) ∈ lw_tbl := lw_at lw_m2 27 rfl

theorem q461 : (Jvm.Cond.interfaceMethod "TreeOdds$Seen" "TreeOdds$Seen" "sign" "(II)V") ∈ lw_tbl := lw_at lw_m2 155 rfl
set_option maxRecDepth 100000
theorem q462 : (Jvm.Cond.declares ({ cls := "TreeOdds$Seen", name := "sign", desc := "(II)V" } : Jvm.MethodName)) ∈ lw_tbl := lw_at lw_m2 156 rfl

theorem q457 : (Jvm.Cond.interfaceMethod "TreeOdds$Source" "TreeOdds$Source" "next" "(I)I") ∈ lw_tbl := lw_at lw_m2 151 rfl
set_option maxRecDepth 100000
theorem q458 : (Jvm.Cond.declares ({ cls := "TreeOdds$Source", name := "next", desc := "(I)I" } : Jvm.MethodName)) ∈ lw_tbl := lw_at lw_m2 152 rfl

theorem q73 : (Jvm.Cond.initialized "java/lang/System") ∈ lw_all := lw_g (lw_at lw_m1 7 rfl) rfl
set_option maxRecDepth 100000
theorem q313 : (Jvm.Cond.static ({ cls := "java/lang/System", name := "arraycopy", desc := "(Ljava/lang/Object;ILjava/lang/Object;II)V" } : Jvm.MethodName)) ∈ lw_all := lw_g (lw_at lw_m2 7 rfl) rfl
theorem q314 : (Jvm.Cond.native ({ cls := "java/lang/System", name := "arraycopy", desc := "(Ljava/lang/Object;ILjava/lang/Object;II)V" } : Jvm.MethodName)) ∈ lw_all := lw_g (lw_at lw_m2 8 rfl) rfl

theorem q88 : (Jvm.Cond.arrayOver (Jvm.ClassFile.FieldType.object "TreeOdds$Guesser")) ∈ lw_tbl := lw_at lw_m1 22 rfl
set_option maxRecDepth 100000
theorem q123 : (Jvm.Cond.arrayClass Jvm.ClassFile.FieldType.int) ∈ lw_all := lw_g (lw_at lw_m1 57 rfl) rfl
theorem q151 : (Jvm.Cond.arrayClass Jvm.ClassFile.FieldType.byte) ∈ lw_all := lw_g (lw_at lw_m1 85 rfl) rfl
theorem q152 : (Jvm.Cond.arrayClass Jvm.ClassFile.FieldType.boolean) ∈ lw_all := lw_g (lw_at lw_m1 86 rfl) rfl

/-! TreeOdds$Guesser -/
set_option maxRecDepth 100000
def RX4 : String := "TreeOdds$Guesser"
def TX4 : u_T := fun k => match k with
  | _ => ("TreeOdds$Guesser", "guess", "LTreeOdds$Guess;", true)
def tyX4 : Nat → FieldType := fun k => match k with
  | _ => .object "TreeOdds$Guess"
abbrev wsX40 : List Cond := u_ws RX4 TX4 1
theorem nmX4 : ∀ a, a < 1 → ∀ b, b < 1 → a ≠ b → (TX4 a).2.1 ≠ (TX4 b).2.1 := by decide +kernel
theorem tyX4_ok : ∀ k, k < 1 → parseFieldDescriptor (TX4 k).2.2.1 = some (tyX4 k) := by decide +kernel
abbrev cX4_init : ByteArray := prog_4_method_1_code
def yX4_init : MethodName := ⟨RX4, "<init>", "(LTreeOdds$Guess;)V"⟩
def dkwX4_init_0 : List UInt8 := [42, 183, 0, 1, 42, 43, 181, 0, 7, 177]
abbrev dktX4_init_0 : List UInt8 := dkwX4_init_0 ++ []
theorem dksX4_init_0 : cX4_init.data.toList.drop 0 = dktX4_init_0 := by decide +kernel
theorem dX4_init_0 : decode cX4_init 0 = .ok (.aload_n 0, 1) := dk_42 (dk_at dksX4_init_0 0 rfl rfl)
theorem dX4_init_1 : decode cX4_init 1 = .ok (.invokespecial 1, 3) := dk_183 0 1 (dk_at dksX4_init_0 1 rfl rfl)
theorem dX4_init_4 : decode cX4_init 4 = .ok (.aload_n 0, 1) := dk_42 (dk_at dksX4_init_0 4 rfl rfl)
theorem dX4_init_5 : decode cX4_init 5 = .ok (.aload_n 1, 1) := dk_43 (dk_at dksX4_init_0 5 rfl rfl)
theorem dX4_init_6 : decode cX4_init 6 = .ok (.putfield 7, 3) := dk_181 0 7 (dk_at dksX4_init_0 6 rfl rfl)
theorem dX4_init_9 : decode cX4_init 9 = .ok (.return_, 1) := dk_177 (dk_at dksX4_init_0 9 rfl rfl)
theorem q71 : (Jvm.Cond.initialized "TreeOdds$Guesser") ∈ lw_all := lw_g (lw_at lw_m1 5 rfl) rfl
theorem q174 : (Jvm.Cond.instantiable "TreeOdds$Guesser" (1 : Nat)) ∈ lw_all := lw_g (lw_at lw_m1 108 rfl) rfl
theorem q182 : (Jvm.Cond.instanceMethod ({ cls := "TreeOdds$Guesser", name := "<init>", desc := "(LTreeOdds$Guess;)V" } : Jvm.MethodName)) ∈ lw_all := lw_g (lw_at lw_m1 116 rfl) rfl
theorem q183 : (Jvm.Cond.code ({ cls := "TreeOdds$Guesser", name := "<init>", desc := "(LTreeOdds$Guess;)V" } : Jvm.MethodName) prog_4_method_1_code (2 : Nat) (Option.none : Option Jvm.ClassFile.FieldType)) ∈ lw_all := lw_g (lw_at lw_m1 117 rfl) rfl
theorem q184 : (Jvm.Cond.methodLink "TreeOdds$Guesser" (1 : Nat) ({ cls := "java/lang/Object", name := "<init>", desc := "()V" } : Jvm.MethodName)) ∈ lw_all := lw_g (lw_at lw_m1 118 rfl) rfl
theorem q185 : (Jvm.Cond.fieldLink "TreeOdds$Guesser" (7 : Nat) "TreeOdds$Guesser" "guess" "LTreeOdds$Guess;") ∈ lw_all := lw_g (lw_at lw_m1 119 rfl) rfl
theorem q187 : (Jvm.Cond.laysFinal "TreeOdds$Guesser" "TreeOdds$Guesser" "guess" "LTreeOdds$Guess;") ∈ lw_all := lw_g (lw_at lw_m1 121 rfl) rfl
theorem q188 : (Jvm.Cond.soleField "TreeOdds$Guesser" "guess") ∈ lw_all := lw_g (lw_at lw_m1 122 rfl) rfl
theorem q189 : (Jvm.Cond.superclass "TreeOdds$Guesser" "java/lang/Object") ∈ lw_all := lw_g (lw_at lw_m1 123 rfl) rfl
theorem in_X4 : ∀ w ∈ wsX40, w ∈ lw_all := lw_in wsX40 [187] (by decide +kernel) (by decide +kernel)

/-! TreeOdds$Fault -/
set_option maxRecDepth 100000
def RX6 : String := "TreeOdds$Fault"
def TX6 : u_T := fun k => match k with
  | 0 => ("java/lang/Throwable", "cause", "Ljava/lang/Throwable;", false)
  | 1 => ("java/lang/Throwable", "stackTrace", "[Ljava/lang/StackTraceElement;", false)
  | 2 => ("java/lang/Throwable", "suppressedExceptions", "Ljava/util/List;", false)
  | 3 => ("java/lang/Throwable", "detailMessage", "Ljava/lang/String;", false)
  | 4 => ("java/lang/Throwable", "backtrace", "Ljava/lang/Object;", false)
  | 5 => ("java/lang/Throwable", "depth", "I", false)
  | _ => ("TreeOdds$Fault", "place", "I", true)
def tyX6 : Nat → FieldType := fun k => match k with
  | 0 => .object "java/lang/Throwable"
  | 1 => .array (.object "java/lang/StackTraceElement")
  | 2 => .object "java/util/List"
  | 3 => .object "java/lang/String"
  | 4 => .object "java/lang/Object"
  | 5 => .int
  | _ => .int
abbrev wsX60 : List Cond := u_ws RX6 TX6 7
theorem nmX6 : ∀ a, a < 7 → ∀ b, b < 7 → a ≠ b → (TX6 a).2.1 ≠ (TX6 b).2.1 := by decide +kernel
theorem tyX6_ok : ∀ k, k < 7 → parseFieldDescriptor (TX6 k).2.2.1 = some (tyX6 k) := by decide +kernel
abbrev cX6_init : ByteArray := prog_2_method_1_code
def yX6_init : MethodName := ⟨RX6, "<init>", "(I)V"⟩
def dkwX6_init_0 : List UInt8 := [42, 1, 1, 3, 3, 183, 0, 1, 42, 27, 181, 0, 7, 177]
abbrev dktX6_init_0 : List UInt8 := dkwX6_init_0 ++ []
theorem dksX6_init_0 : cX6_init.data.toList.drop 0 = dktX6_init_0 := by decide +kernel
theorem dX6_init_0 : decode cX6_init 0 = .ok (.aload_n 0, 1) := dk_42 (dk_at dksX6_init_0 0 rfl rfl)
theorem dX6_init_1 : decode cX6_init 1 = .ok (.aconst_null, 1) := dk_1 (dk_at dksX6_init_0 1 rfl rfl)
theorem dX6_init_2 : decode cX6_init 2 = .ok (.aconst_null, 1) := dk_1 (dk_at dksX6_init_0 2 rfl rfl)
theorem dX6_init_3 : decode cX6_init 3 = .ok (.iconst 0, 1) := dk_3 (dk_at dksX6_init_0 3 rfl rfl)
theorem dX6_init_4 : decode cX6_init 4 = .ok (.iconst 0, 1) := dk_3 (dk_at dksX6_init_0 4 rfl rfl)
theorem dX6_init_5 : decode cX6_init 5 = .ok (.invokespecial 1, 3) := dk_183 0 1 (dk_at dksX6_init_0 5 rfl rfl)
theorem dX6_init_8 : decode cX6_init 8 = .ok (.aload_n 0, 1) := dk_42 (dk_at dksX6_init_0 8 rfl rfl)
theorem dX6_init_9 : decode cX6_init 9 = .ok (.iload_n 1, 1) := dk_27 (dk_at dksX6_init_0 9 rfl rfl)
theorem dX6_init_10 : decode cX6_init 10 = .ok (.putfield 7, 3) := dk_181 0 7 (dk_at dksX6_init_0 10 rfl rfl)
theorem dX6_init_13 : decode cX6_init 13 = .ok (.return_, 1) := dk_177 (dk_at dksX6_init_0 13 rfl rfl)
theorem q78 : (Jvm.Cond.initialized "TreeOdds$Fault") ∈ lw_all := lw_g (lw_at lw_m1 12 rfl) rfl
theorem q603 : (Jvm.Cond.instantiable "TreeOdds$Fault" (7 : Nat)) ∈ lw_all := lw_g (lw_at lw_m3 57 rfl) rfl
theorem q604 : (Jvm.Cond.castable "TreeOdds$Fault" "TreeOdds$Fault") ∈ lw_tbl := lw_at lw_m3 58 rfl
theorem q609 : (Jvm.Cond.selects "TreeOdds$Fault" ({ cls := "java/lang/Throwable", name := "fillInStackTrace", desc := "(I)Ljava/lang/Throwable;" } : Jvm.MethodName) ({ cls := "java/lang/Throwable", name := "fillInStackTrace", desc := "(I)Ljava/lang/Throwable;" } : Jvm.MethodName)) ∈ lw_all := lw_g (lw_at lw_m3 63 rfl) rfl
theorem q610 : (Jvm.Cond.selects "TreeOdds$Fault" ({ cls := "java/lang/Throwable", name := "fillInStackTrace", desc := "()Ljava/lang/Throwable;" } : Jvm.MethodName) ({ cls := "java/lang/Throwable", name := "fillInStackTrace", desc := "()Ljava/lang/Throwable;" } : Jvm.MethodName)) ∈ lw_all := lw_g (lw_at lw_m3 64 rfl) rfl
theorem q611 : (Jvm.Cond.lays "TreeOdds$Fault" "java/lang/Throwable" "cause" "Ljava/lang/Throwable;") ∈ lw_all := lw_g (lw_at lw_m3 65 rfl) rfl
theorem q613 : (Jvm.Cond.lays "TreeOdds$Fault" "java/lang/Throwable" "stackTrace" "[Ljava/lang/StackTraceElement;") ∈ lw_all := lw_g (lw_at lw_m3 67 rfl) rfl
theorem q615 : (Jvm.Cond.lays "TreeOdds$Fault" "java/lang/Throwable" "suppressedExceptions" "Ljava/util/List;") ∈ lw_all := lw_g (lw_at lw_m3 69 rfl) rfl
theorem q617 : (Jvm.Cond.lays "TreeOdds$Fault" "java/lang/Throwable" "detailMessage" "Ljava/lang/String;") ∈ lw_all := lw_g (lw_at lw_m3 71 rfl) rfl
theorem q619 : (Jvm.Cond.lays "TreeOdds$Fault" "java/lang/Throwable" "backtrace" "Ljava/lang/Object;") ∈ lw_all := lw_g (lw_at lw_m3 73 rfl) rfl
theorem q640 : (Jvm.Cond.instanceMethod ({ cls := "TreeOdds$Fault", name := "<init>", desc := "(I)V" } : Jvm.MethodName)) ∈ lw_all := lw_g (lw_at lw_m3 94 rfl) rfl
theorem q641 : (Jvm.Cond.code ({ cls := "TreeOdds$Fault", name := "<init>", desc := "(I)V" } : Jvm.MethodName) prog_2_method_1_code (2 : Nat) (Option.none : Option Jvm.ClassFile.FieldType)) ∈ lw_all := lw_g (lw_at lw_m3 95 rfl) rfl
theorem q642 : (Jvm.Cond.methodLink "TreeOdds$Fault" (1 : Nat) ({ cls := "java/lang/Exception", name := "<init>", desc := "(Ljava/lang/String;Ljava/lang/Throwable;ZZ)V" } : Jvm.MethodName)) ∈ lw_all := lw_g (lw_at lw_m3 96 rfl) rfl
theorem q648 : (Jvm.Cond.fieldLink "TreeOdds$Fault" (7 : Nat) "TreeOdds$Fault" "place" "I") ∈ lw_all := lw_g (lw_at lw_m3 102 rfl) rfl
theorem q655 : (Jvm.Cond.laysFinal "TreeOdds$Fault" "TreeOdds$Fault" "place" "I") ∈ lw_all := lw_g (lw_at lw_m3 109 rfl) rfl
theorem q656 : (Jvm.Cond.soleField "TreeOdds$Fault" "place") ∈ lw_all := lw_g (lw_at lw_m3 110 rfl) rfl
theorem q661 : (Jvm.Cond.lays "TreeOdds$Fault" "java/lang/Throwable" "depth" "I") ∈ lw_all := lw_g (lw_at lw_m3 115 rfl) rfl
theorem q664 : (Jvm.Cond.superclass "TreeOdds$Fault" "java/lang/Exception") ∈ lw_all := lw_g (lw_at lw_m3 118 rfl) rfl
theorem in_X6 : ∀ w ∈ wsX60, w ∈ lw_all := lw_in wsX60 [611, 613, 615, 617, 619, 661, 655] (by decide +kernel) (by decide +kernel)

/-! TreeOdds$Tree -/
set_option maxRecDepth 100000
def RX1 : String := "TreeOdds$Tree"
def TX1 : u_T := fun k => match k with
  | 0 => ("TreeOdds$Tree", "zeros", "[I", true)
  | 1 => ("TreeOdds$Tree", "ones", "[I", true)
  | 2 => ("TreeOdds$Tree", "weights", "[I", true)
  | 3 => ("TreeOdds$Tree", "owns", "[I", true)
  | 4 => ("TreeOdds$Tree", "guesses", "[I", true)
  | 5 => ("TreeOdds$Tree", "depth", "I", false)
  | 6 => ("TreeOdds$Tree", "guess", "LTreeOdds$Guess;", false)
  | _ => ("TreeOdds$Tree", "past", "I", false)
def tyX1 : Nat → FieldType := fun k => match k with
  | 0 => .array .int
  | 1 => .array .int
  | 2 => .array .int
  | 3 => .array .int
  | 4 => .array .int
  | 5 => .int
  | 6 => .object "TreeOdds$Guess"
  | _ => .int
abbrev wsX10 : List Cond := u_ws RX1 TX1 8
theorem nmX1 : ∀ a, a < 8 → ∀ b, b < 8 → a ≠ b → (TX1 a).2.1 ≠ (TX1 b).2.1 := by decide +kernel
theorem tyX1_ok : ∀ k, k < 8 → parseFieldDescriptor (TX1 k).2.2.1 = some (tyX1 k) := by decide +kernel
abbrev cX1_init : ByteArray := prog_8_method_1_code
def yX1_init : MethodName := ⟨RX1, "<init>", "()V"⟩
def dkwX1_init_2 : List UInt8 := [177]
abbrev dktX1_init_2 : List UInt8 := dkwX1_init_2 ++ []
def dkwX1_init_1 : List UInt8 := [17, 0, 128, 188, 10, 181, 0, 18, 42, 16, 7, 188, 10, 181, 0, 21, 42, 16, 7, 188, 10, 181, 0, 24]
abbrev dktX1_init_1 : List UInt8 := dkwX1_init_1 ++ dktX1_init_2
def dkwX1_init_0 : List UInt8 := [42, 183, 0, 3, 42, 17, 0, 128, 188, 10, 181, 0, 9, 42, 17, 0, 128, 188, 10, 181, 0, 15, 42]
abbrev dktX1_init_0 : List UInt8 := dkwX1_init_0 ++ dktX1_init_1
theorem dksX1_init_0 : cX1_init.data.toList.drop 0 = dktX1_init_0 := by decide +kernel
theorem dksX1_init_1 : cX1_init.data.toList.drop 23 = dktX1_init_1 := dk_seg dksX1_init_0 23 rfl rfl
theorem dksX1_init_2 : cX1_init.data.toList.drop 47 = dktX1_init_2 := dk_seg dksX1_init_1 24 rfl rfl
theorem dX1_init_0 : decode cX1_init 0 = .ok (.aload_n 0, 1) := dk_42 (dk_at dksX1_init_0 0 rfl rfl)
theorem dX1_init_1 : decode cX1_init 1 = .ok (.invokespecial 3, 3) := dk_183 0 3 (dk_at dksX1_init_0 1 rfl rfl)
theorem dX1_init_4 : decode cX1_init 4 = .ok (.aload_n 0, 1) := dk_42 (dk_at dksX1_init_0 4 rfl rfl)
theorem dX1_init_5 : decode cX1_init 5 = .ok (.sipush 128, 3) := dk_17 0 128 (dk_at dksX1_init_0 5 rfl rfl)
theorem dX1_init_8 : decode cX1_init 8 = .ok (.newarray .int, 2) := dk_188_10 (dk_at dksX1_init_0 8 rfl rfl)
theorem dX1_init_10 : decode cX1_init 10 = .ok (.putfield 9, 3) := dk_181 0 9 (dk_at dksX1_init_0 10 rfl rfl)
theorem dX1_init_13 : decode cX1_init 13 = .ok (.aload_n 0, 1) := dk_42 (dk_at dksX1_init_0 13 rfl rfl)
theorem dX1_init_14 : decode cX1_init 14 = .ok (.sipush 128, 3) := dk_17 0 128 (dk_at dksX1_init_0 14 rfl rfl)
theorem dX1_init_17 : decode cX1_init 17 = .ok (.newarray .int, 2) := dk_188_10 (dk_at dksX1_init_0 17 rfl rfl)
theorem dX1_init_19 : decode cX1_init 19 = .ok (.putfield 15, 3) := dk_181 0 15 (dk_at dksX1_init_0 19 rfl rfl)
theorem dX1_init_22 : decode cX1_init 22 = .ok (.aload_n 0, 1) := dk_42 (dk_at dksX1_init_0 22 rfl rfl)
theorem dX1_init_23 : decode cX1_init 23 = .ok (.sipush 128, 3) := dk_17 0 128 (dk_at dksX1_init_1 0 rfl rfl)
theorem dX1_init_26 : decode cX1_init 26 = .ok (.newarray .int, 2) := dk_188_10 (dk_at dksX1_init_1 3 rfl rfl)
theorem dX1_init_28 : decode cX1_init 28 = .ok (.putfield 18, 3) := dk_181 0 18 (dk_at dksX1_init_1 5 rfl rfl)
theorem dX1_init_31 : decode cX1_init 31 = .ok (.aload_n 0, 1) := dk_42 (dk_at dksX1_init_1 8 rfl rfl)
theorem dX1_init_32 : decode cX1_init 32 = .ok (.bipush 7, 2) := dk_16 7 (dk_at dksX1_init_1 9 rfl rfl)
theorem dX1_init_34 : decode cX1_init 34 = .ok (.newarray .int, 2) := dk_188_10 (dk_at dksX1_init_1 11 rfl rfl)
theorem dX1_init_36 : decode cX1_init 36 = .ok (.putfield 21, 3) := dk_181 0 21 (dk_at dksX1_init_1 13 rfl rfl)
theorem dX1_init_39 : decode cX1_init 39 = .ok (.aload_n 0, 1) := dk_42 (dk_at dksX1_init_1 16 rfl rfl)
theorem dX1_init_40 : decode cX1_init 40 = .ok (.bipush 7, 2) := dk_16 7 (dk_at dksX1_init_1 17 rfl rfl)
theorem dX1_init_42 : decode cX1_init 42 = .ok (.newarray .int, 2) := dk_188_10 (dk_at dksX1_init_1 19 rfl rfl)
theorem dX1_init_44 : decode cX1_init 44 = .ok (.putfield 24, 3) := dk_181 0 24 (dk_at dksX1_init_1 21 rfl rfl)
theorem dX1_init_47 : decode cX1_init 47 = .ok (.return_, 1) := dk_177 (dk_at dksX1_init_2 0 rfl rfl)
abbrev cX1_begins : ByteArray := prog_8_method_2_code
def yX1_begins : MethodName := ⟨RX1, "begins", "(ILTreeOdds$Guess;)V"⟩
def dkwX1_begins_2 : List UInt8 := [132, 3, 1, 167, 255, 224, 177]
abbrev dktX1_begins_2 : List UInt8 := dkwX1_begins_2 ++ []
def dkwX1_begins_1 : List UInt8 := [42, 180, 0, 9, 29, 3, 79, 42, 180, 0, 15, 29, 3, 79, 42, 180, 0, 18, 29, 18, 38, 79]
abbrev dktX1_begins_1 : List UInt8 := dkwX1_begins_1 ++ dktX1_begins_2
def dkwX1_begins_0 : List UInt8 := [42, 27, 181, 0, 27, 42, 44, 181, 0, 31, 42, 3, 181, 0, 35, 3, 62, 29, 17, 0, 128, 162, 0, 31]
abbrev dktX1_begins_0 : List UInt8 := dkwX1_begins_0 ++ dktX1_begins_1
theorem dksX1_begins_0 : cX1_begins.data.toList.drop 0 = dktX1_begins_0 := by decide +kernel
theorem dksX1_begins_1 : cX1_begins.data.toList.drop 24 = dktX1_begins_1 := dk_seg dksX1_begins_0 24 rfl rfl
theorem dksX1_begins_2 : cX1_begins.data.toList.drop 46 = dktX1_begins_2 := dk_seg dksX1_begins_1 22 rfl rfl
theorem dX1_begins_0 : decode cX1_begins 0 = .ok (.aload_n 0, 1) := dk_42 (dk_at dksX1_begins_0 0 rfl rfl)
theorem dX1_begins_1 : decode cX1_begins 1 = .ok (.iload_n 1, 1) := dk_27 (dk_at dksX1_begins_0 1 rfl rfl)
theorem dX1_begins_2 : decode cX1_begins 2 = .ok (.putfield 27, 3) := dk_181 0 27 (dk_at dksX1_begins_0 2 rfl rfl)
theorem dX1_begins_5 : decode cX1_begins 5 = .ok (.aload_n 0, 1) := dk_42 (dk_at dksX1_begins_0 5 rfl rfl)
theorem dX1_begins_6 : decode cX1_begins 6 = .ok (.aload_n 2, 1) := dk_44 (dk_at dksX1_begins_0 6 rfl rfl)
theorem dX1_begins_7 : decode cX1_begins 7 = .ok (.putfield 31, 3) := dk_181 0 31 (dk_at dksX1_begins_0 7 rfl rfl)
theorem dX1_begins_10 : decode cX1_begins 10 = .ok (.aload_n 0, 1) := dk_42 (dk_at dksX1_begins_0 10 rfl rfl)
theorem dX1_begins_11 : decode cX1_begins 11 = .ok (.iconst 0, 1) := dk_3 (dk_at dksX1_begins_0 11 rfl rfl)
theorem dX1_begins_12 : decode cX1_begins 12 = .ok (.putfield 35, 3) := dk_181 0 35 (dk_at dksX1_begins_0 12 rfl rfl)
theorem dX1_begins_15 : decode cX1_begins 15 = .ok (.iconst 0, 1) := dk_3 (dk_at dksX1_begins_0 15 rfl rfl)
theorem dX1_begins_16 : decode cX1_begins 16 = .ok (.istore_n 3, 1) := dk_62 (dk_at dksX1_begins_0 16 rfl rfl)
theorem dX1_begins_17 : decode cX1_begins 17 = .ok (.iload_n 3, 1) := dk_29 (dk_at dksX1_begins_0 17 rfl rfl)
theorem dX1_begins_18 : decode cX1_begins 18 = .ok (.sipush 128, 3) := dk_17 0 128 (dk_at dksX1_begins_0 18 rfl rfl)
theorem dX1_begins_21 : decode cX1_begins 21 = .ok (.if_icmp .ge 31, 3) := dk_162 0 31 (dk_at dksX1_begins_0 21 rfl rfl)
theorem dX1_begins_24 : decode cX1_begins 24 = .ok (.aload_n 0, 1) := dk_42 (dk_at dksX1_begins_1 0 rfl rfl)
theorem dX1_begins_25 : decode cX1_begins 25 = .ok (.getfield 9, 3) := dk_180 0 9 (dk_at dksX1_begins_1 1 rfl rfl)
theorem dX1_begins_28 : decode cX1_begins 28 = .ok (.iload_n 3, 1) := dk_29 (dk_at dksX1_begins_1 4 rfl rfl)
theorem dX1_begins_29 : decode cX1_begins 29 = .ok (.iconst 0, 1) := dk_3 (dk_at dksX1_begins_1 5 rfl rfl)
theorem dX1_begins_30 : decode cX1_begins 30 = .ok (.iastore, 1) := dk_79 (dk_at dksX1_begins_1 6 rfl rfl)
theorem dX1_begins_31 : decode cX1_begins 31 = .ok (.aload_n 0, 1) := dk_42 (dk_at dksX1_begins_1 7 rfl rfl)
theorem dX1_begins_32 : decode cX1_begins 32 = .ok (.getfield 15, 3) := dk_180 0 15 (dk_at dksX1_begins_1 8 rfl rfl)
theorem dX1_begins_35 : decode cX1_begins 35 = .ok (.iload_n 3, 1) := dk_29 (dk_at dksX1_begins_1 11 rfl rfl)
theorem dX1_begins_36 : decode cX1_begins 36 = .ok (.iconst 0, 1) := dk_3 (dk_at dksX1_begins_1 12 rfl rfl)
theorem dX1_begins_37 : decode cX1_begins 37 = .ok (.iastore, 1) := dk_79 (dk_at dksX1_begins_1 13 rfl rfl)
theorem dX1_begins_38 : decode cX1_begins 38 = .ok (.aload_n 0, 1) := dk_42 (dk_at dksX1_begins_1 14 rfl rfl)
theorem dX1_begins_39 : decode cX1_begins 39 = .ok (.getfield 18, 3) := dk_180 0 18 (dk_at dksX1_begins_1 15 rfl rfl)
theorem dX1_begins_42 : decode cX1_begins 42 = .ok (.iload_n 3, 1) := dk_29 (dk_at dksX1_begins_1 18 rfl rfl)
theorem dX1_begins_43 : decode cX1_begins 43 = .ok (.ldc 38, 2) := dk_18 38 (dk_at dksX1_begins_1 19 rfl rfl)
theorem dX1_begins_45 : decode cX1_begins 45 = .ok (.iastore, 1) := dk_79 (dk_at dksX1_begins_1 21 rfl rfl)
theorem dX1_begins_46 : decode cX1_begins 46 = .ok (.iinc 3 1, 3) := dk_132 3 1 (dk_at dksX1_begins_2 0 rfl rfl)
theorem dX1_begins_49 : decode cX1_begins 49 = .ok (.goto (-32), 3) := dk_167 255 224 (dk_at dksX1_begins_2 3 rfl rfl)
theorem dX1_begins_52 : decode cX1_begins 52 = .ok (.return_, 1) := dk_177 (dk_at dksX1_begins_2 6 rfl rfl)
abbrev cX1_guesses : ByteArray := prog_8_method_5_code
def yX1_guesses : MethodName := ⟨RX1, "guesses", "()I"⟩
def dkwX1_guesses_5 : List UInt8 := [46, 172]
abbrev dktX1_guesses_5 : List UInt8 := dkwX1_guesses_5 ++ []
def dkwX1_guesses_4 : List UInt8 := [46, 167, 0, 11, 33, 20, 0, 57, 109, 184, 0, 45, 79, 132, 1, 255, 167, 255, 149, 42, 180, 0, 24, 3]
abbrev dktX1_guesses_4 : List UInt8 := dkwX1_guesses_4 ++ dktX1_guesses_5
def dkwX1_guesses_3 : List UInt8 := [96, 46, 133, 105, 97, 66, 42, 180, 0, 24, 27, 27, 42, 180, 0, 27, 160, 0, 12, 42, 180, 0, 21, 27]
abbrev dktX1_guesses_3 : List UInt8 := dkwX1_guesses_3 ++ dktX1_guesses_4
def dkwX1_guesses_2 : List UInt8 := [42, 180, 0, 21, 27, 46, 133, 105, 18, 56, 42, 180, 0, 18, 28, 46, 100, 133, 42, 180, 0, 24, 27, 4]
abbrev dktX1_guesses_2 : List UInt8 := dkwX1_guesses_2 ++ dktX1_guesses_3
def dkwX1_guesses_1 : List UInt8 := [28, 182, 0, 52, 79, 27, 42, 180, 0, 27, 160, 0, 7, 9, 167, 0, 39, 42, 180, 0, 18, 28, 46, 133]
abbrev dktX1_guesses_1 : List UInt8 := dkwX1_guesses_1 ++ dktX1_guesses_2
def dkwX1_guesses_0 : List UInt8 := [42, 180, 0, 27, 60, 27, 155, 0, 109, 27, 42, 180, 0, 35, 184, 0, 49, 61, 42, 180, 0, 21, 27, 42]
abbrev dktX1_guesses_0 : List UInt8 := dkwX1_guesses_0 ++ dktX1_guesses_1
theorem dksX1_guesses_0 : cX1_guesses.data.toList.drop 0 = dktX1_guesses_0 := by decide +kernel
theorem dksX1_guesses_1 : cX1_guesses.data.toList.drop 24 = dktX1_guesses_1 := dk_seg dksX1_guesses_0 24 rfl rfl
theorem dksX1_guesses_2 : cX1_guesses.data.toList.drop 48 = dktX1_guesses_2 := dk_seg dksX1_guesses_1 24 rfl rfl
theorem dksX1_guesses_3 : cX1_guesses.data.toList.drop 72 = dktX1_guesses_3 := dk_seg dksX1_guesses_2 24 rfl rfl
theorem dksX1_guesses_4 : cX1_guesses.data.toList.drop 96 = dktX1_guesses_4 := dk_seg dksX1_guesses_3 24 rfl rfl
theorem dksX1_guesses_5 : cX1_guesses.data.toList.drop 120 = dktX1_guesses_5 := dk_seg dksX1_guesses_4 24 rfl rfl
theorem dX1_guesses_0 : decode cX1_guesses 0 = .ok (.aload_n 0, 1) := dk_42 (dk_at dksX1_guesses_0 0 rfl rfl)
theorem dX1_guesses_1 : decode cX1_guesses 1 = .ok (.getfield 27, 3) := dk_180 0 27 (dk_at dksX1_guesses_0 1 rfl rfl)
theorem dX1_guesses_4 : decode cX1_guesses 4 = .ok (.istore_n 1, 1) := dk_60 (dk_at dksX1_guesses_0 4 rfl rfl)
theorem dX1_guesses_5 : decode cX1_guesses 5 = .ok (.iload_n 1, 1) := dk_27 (dk_at dksX1_guesses_0 5 rfl rfl)
theorem dX1_guesses_6 : decode cX1_guesses 6 = .ok (.ifCond .lt 109, 3) := dk_155 0 109 (dk_at dksX1_guesses_0 6 rfl rfl)
theorem dX1_guesses_9 : decode cX1_guesses 9 = .ok (.iload_n 1, 1) := dk_27 (dk_at dksX1_guesses_0 9 rfl rfl)
theorem dX1_guesses_10 : decode cX1_guesses 10 = .ok (.aload_n 0, 1) := dk_42 (dk_at dksX1_guesses_0 10 rfl rfl)
theorem dX1_guesses_11 : decode cX1_guesses 11 = .ok (.getfield 35, 3) := dk_180 0 35 (dk_at dksX1_guesses_0 11 rfl rfl)
theorem dX1_guesses_14 : decode cX1_guesses 14 = .ok (.invokestatic 49, 3) := dk_184 0 49 (dk_at dksX1_guesses_0 14 rfl rfl)
theorem dX1_guesses_17 : decode cX1_guesses 17 = .ok (.istore_n 2, 1) := dk_61 (dk_at dksX1_guesses_0 17 rfl rfl)
theorem dX1_guesses_18 : decode cX1_guesses 18 = .ok (.aload_n 0, 1) := dk_42 (dk_at dksX1_guesses_0 18 rfl rfl)
theorem dX1_guesses_19 : decode cX1_guesses 19 = .ok (.getfield 21, 3) := dk_180 0 21 (dk_at dksX1_guesses_0 19 rfl rfl)
theorem dX1_guesses_22 : decode cX1_guesses 22 = .ok (.iload_n 1, 1) := dk_27 (dk_at dksX1_guesses_0 22 rfl rfl)
theorem dX1_guesses_23 : decode cX1_guesses 23 = .ok (.aload_n 0, 1) := dk_42 (dk_at dksX1_guesses_0 23 rfl rfl)
theorem dX1_guesses_24 : decode cX1_guesses 24 = .ok (.iload_n 2, 1) := dk_28 (dk_at dksX1_guesses_1 0 rfl rfl)
theorem dX1_guesses_25 : decode cX1_guesses 25 = .ok (.invokevirtual 52, 3) := dk_182 0 52 (dk_at dksX1_guesses_1 1 rfl rfl)
theorem dX1_guesses_28 : decode cX1_guesses 28 = .ok (.iastore, 1) := dk_79 (dk_at dksX1_guesses_1 4 rfl rfl)
theorem dX1_guesses_29 : decode cX1_guesses 29 = .ok (.iload_n 1, 1) := dk_27 (dk_at dksX1_guesses_1 5 rfl rfl)
theorem dX1_guesses_30 : decode cX1_guesses 30 = .ok (.aload_n 0, 1) := dk_42 (dk_at dksX1_guesses_1 6 rfl rfl)
theorem dX1_guesses_31 : decode cX1_guesses 31 = .ok (.getfield 27, 3) := dk_180 0 27 (dk_at dksX1_guesses_1 7 rfl rfl)
theorem dX1_guesses_34 : decode cX1_guesses 34 = .ok (.if_icmp .ne 7, 3) := dk_160 0 7 (dk_at dksX1_guesses_1 10 rfl rfl)
theorem dX1_guesses_37 : decode cX1_guesses 37 = .ok (.lconst 0, 1) := dk_9 (dk_at dksX1_guesses_1 13 rfl rfl)
theorem dX1_guesses_38 : decode cX1_guesses 38 = .ok (.goto 39, 3) := dk_167 0 39 (dk_at dksX1_guesses_1 14 rfl rfl)
theorem dX1_guesses_41 : decode cX1_guesses 41 = .ok (.aload_n 0, 1) := dk_42 (dk_at dksX1_guesses_1 17 rfl rfl)
theorem dX1_guesses_42 : decode cX1_guesses 42 = .ok (.getfield 18, 3) := dk_180 0 18 (dk_at dksX1_guesses_1 18 rfl rfl)
theorem dX1_guesses_45 : decode cX1_guesses 45 = .ok (.iload_n 2, 1) := dk_28 (dk_at dksX1_guesses_1 21 rfl rfl)
theorem dX1_guesses_46 : decode cX1_guesses 46 = .ok (.iaload, 1) := dk_46 (dk_at dksX1_guesses_1 22 rfl rfl)
theorem dX1_guesses_47 : decode cX1_guesses 47 = .ok (.i2l, 1) := dk_133 (dk_at dksX1_guesses_1 23 rfl rfl)
theorem dX1_guesses_48 : decode cX1_guesses 48 = .ok (.aload_n 0, 1) := dk_42 (dk_at dksX1_guesses_2 0 rfl rfl)
theorem dX1_guesses_49 : decode cX1_guesses 49 = .ok (.getfield 21, 3) := dk_180 0 21 (dk_at dksX1_guesses_2 1 rfl rfl)
theorem dX1_guesses_52 : decode cX1_guesses 52 = .ok (.iload_n 1, 1) := dk_27 (dk_at dksX1_guesses_2 4 rfl rfl)
theorem dX1_guesses_53 : decode cX1_guesses 53 = .ok (.iaload, 1) := dk_46 (dk_at dksX1_guesses_2 5 rfl rfl)
theorem dX1_guesses_54 : decode cX1_guesses 54 = .ok (.i2l, 1) := dk_133 (dk_at dksX1_guesses_2 6 rfl rfl)
theorem dX1_guesses_55 : decode cX1_guesses 55 = .ok (.lmul, 1) := dk_105 (dk_at dksX1_guesses_2 7 rfl rfl)
theorem dX1_guesses_56 : decode cX1_guesses 56 = .ok (.ldc 56, 2) := dk_18 56 (dk_at dksX1_guesses_2 8 rfl rfl)
theorem dX1_guesses_58 : decode cX1_guesses 58 = .ok (.aload_n 0, 1) := dk_42 (dk_at dksX1_guesses_2 10 rfl rfl)
theorem dX1_guesses_59 : decode cX1_guesses 59 = .ok (.getfield 18, 3) := dk_180 0 18 (dk_at dksX1_guesses_2 11 rfl rfl)
theorem dX1_guesses_62 : decode cX1_guesses 62 = .ok (.iload_n 2, 1) := dk_28 (dk_at dksX1_guesses_2 14 rfl rfl)
theorem dX1_guesses_63 : decode cX1_guesses 63 = .ok (.iaload, 1) := dk_46 (dk_at dksX1_guesses_2 15 rfl rfl)
theorem dX1_guesses_64 : decode cX1_guesses 64 = .ok (.isub, 1) := dk_100 (dk_at dksX1_guesses_2 16 rfl rfl)
theorem dX1_guesses_65 : decode cX1_guesses 65 = .ok (.i2l, 1) := dk_133 (dk_at dksX1_guesses_2 17 rfl rfl)
theorem dX1_guesses_66 : decode cX1_guesses 66 = .ok (.aload_n 0, 1) := dk_42 (dk_at dksX1_guesses_2 18 rfl rfl)
theorem dX1_guesses_67 : decode cX1_guesses 67 = .ok (.getfield 24, 3) := dk_180 0 24 (dk_at dksX1_guesses_2 19 rfl rfl)
theorem dX1_guesses_70 : decode cX1_guesses 70 = .ok (.iload_n 1, 1) := dk_27 (dk_at dksX1_guesses_2 22 rfl rfl)
theorem dX1_guesses_71 : decode cX1_guesses 71 = .ok (.iconst 1, 1) := dk_4 (dk_at dksX1_guesses_2 23 rfl rfl)
theorem dX1_guesses_72 : decode cX1_guesses 72 = .ok (.iadd, 1) := dk_96 (dk_at dksX1_guesses_3 0 rfl rfl)
theorem dX1_guesses_73 : decode cX1_guesses 73 = .ok (.iaload, 1) := dk_46 (dk_at dksX1_guesses_3 1 rfl rfl)
theorem dX1_guesses_74 : decode cX1_guesses 74 = .ok (.i2l, 1) := dk_133 (dk_at dksX1_guesses_3 2 rfl rfl)
theorem dX1_guesses_75 : decode cX1_guesses 75 = .ok (.lmul, 1) := dk_105 (dk_at dksX1_guesses_3 3 rfl rfl)
theorem dX1_guesses_76 : decode cX1_guesses 76 = .ok (.ladd, 1) := dk_97 (dk_at dksX1_guesses_3 4 rfl rfl)
theorem dX1_guesses_77 : decode cX1_guesses 77 = .ok (.lstore_n 3, 1) := dk_66 (dk_at dksX1_guesses_3 5 rfl rfl)
theorem dX1_guesses_78 : decode cX1_guesses 78 = .ok (.aload_n 0, 1) := dk_42 (dk_at dksX1_guesses_3 6 rfl rfl)
theorem dX1_guesses_79 : decode cX1_guesses 79 = .ok (.getfield 24, 3) := dk_180 0 24 (dk_at dksX1_guesses_3 7 rfl rfl)
theorem dX1_guesses_82 : decode cX1_guesses 82 = .ok (.iload_n 1, 1) := dk_27 (dk_at dksX1_guesses_3 10 rfl rfl)
theorem dX1_guesses_83 : decode cX1_guesses 83 = .ok (.iload_n 1, 1) := dk_27 (dk_at dksX1_guesses_3 11 rfl rfl)
theorem dX1_guesses_84 : decode cX1_guesses 84 = .ok (.aload_n 0, 1) := dk_42 (dk_at dksX1_guesses_3 12 rfl rfl)
theorem dX1_guesses_85 : decode cX1_guesses 85 = .ok (.getfield 27, 3) := dk_180 0 27 (dk_at dksX1_guesses_3 13 rfl rfl)
theorem dX1_guesses_88 : decode cX1_guesses 88 = .ok (.if_icmp .ne 12, 3) := dk_160 0 12 (dk_at dksX1_guesses_3 16 rfl rfl)
theorem dX1_guesses_91 : decode cX1_guesses 91 = .ok (.aload_n 0, 1) := dk_42 (dk_at dksX1_guesses_3 19 rfl rfl)
theorem dX1_guesses_92 : decode cX1_guesses 92 = .ok (.getfield 21, 3) := dk_180 0 21 (dk_at dksX1_guesses_3 20 rfl rfl)
theorem dX1_guesses_95 : decode cX1_guesses 95 = .ok (.iload_n 1, 1) := dk_27 (dk_at dksX1_guesses_3 23 rfl rfl)
theorem dX1_guesses_96 : decode cX1_guesses 96 = .ok (.iaload, 1) := dk_46 (dk_at dksX1_guesses_4 0 rfl rfl)
theorem dX1_guesses_97 : decode cX1_guesses 97 = .ok (.goto 11, 3) := dk_167 0 11 (dk_at dksX1_guesses_4 1 rfl rfl)
theorem dX1_guesses_100 : decode cX1_guesses 100 = .ok (.lload_n 3, 1) := dk_33 (dk_at dksX1_guesses_4 4 rfl rfl)
theorem dX1_guesses_101 : decode cX1_guesses 101 = .ok (.ldc2_w 57, 3) := dk_20 0 57 (dk_at dksX1_guesses_4 5 rfl rfl)
theorem dX1_guesses_104 : decode cX1_guesses 104 = .ok (.ldiv, 1) := dk_109 (dk_at dksX1_guesses_4 8 rfl rfl)
theorem dX1_guesses_105 : decode cX1_guesses 105 = .ok (.invokestatic 45, 3) := dk_184 0 45 (dk_at dksX1_guesses_4 9 rfl rfl)
theorem dX1_guesses_108 : decode cX1_guesses 108 = .ok (.iastore, 1) := dk_79 (dk_at dksX1_guesses_4 12 rfl rfl)
theorem dX1_guesses_109 : decode cX1_guesses 109 = .ok (.iinc 1 (-1), 3) := dk_132 1 255 (dk_at dksX1_guesses_4 13 rfl rfl)
theorem dX1_guesses_112 : decode cX1_guesses 112 = .ok (.goto (-107), 3) := dk_167 255 149 (dk_at dksX1_guesses_4 16 rfl rfl)
theorem dX1_guesses_115 : decode cX1_guesses 115 = .ok (.aload_n 0, 1) := dk_42 (dk_at dksX1_guesses_4 19 rfl rfl)
theorem dX1_guesses_116 : decode cX1_guesses 116 = .ok (.getfield 24, 3) := dk_180 0 24 (dk_at dksX1_guesses_4 20 rfl rfl)
theorem dX1_guesses_119 : decode cX1_guesses 119 = .ok (.iconst 0, 1) := dk_3 (dk_at dksX1_guesses_4 23 rfl rfl)
theorem dX1_guesses_120 : decode cX1_guesses 120 = .ok (.iaload, 1) := dk_46 (dk_at dksX1_guesses_5 0 rfl rfl)
theorem dX1_guesses_121 : decode cX1_guesses 121 = .ok (.ireturn, 1) := dk_172 (dk_at dksX1_guesses_5 1 rfl rfl)
abbrev cX1_node : ByteArray := prog_8_method_3_code
def yX1_node : MethodName := ⟨RX1, "node", "(II)I"⟩
def dkwX1_node_0 : List UInt8 := [4, 26, 120, 27, 4, 26, 120, 4, 100, 126, 96, 172]
abbrev dktX1_node_0 : List UInt8 := dkwX1_node_0 ++ []
theorem dksX1_node_0 : cX1_node.data.toList.drop 0 = dktX1_node_0 := by decide +kernel
theorem dX1_node_0 : decode cX1_node 0 = .ok (.iconst 1, 1) := dk_4 (dk_at dksX1_node_0 0 rfl rfl)
theorem dX1_node_1 : decode cX1_node 1 = .ok (.iload_n 0, 1) := dk_26 (dk_at dksX1_node_0 1 rfl rfl)
theorem dX1_node_2 : decode cX1_node 2 = .ok (.ishl, 1) := dk_120 (dk_at dksX1_node_0 2 rfl rfl)
theorem dX1_node_3 : decode cX1_node 3 = .ok (.iload_n 1, 1) := dk_27 (dk_at dksX1_node_0 3 rfl rfl)
theorem dX1_node_4 : decode cX1_node 4 = .ok (.iconst 1, 1) := dk_4 (dk_at dksX1_node_0 4 rfl rfl)
theorem dX1_node_5 : decode cX1_node 5 = .ok (.iload_n 0, 1) := dk_26 (dk_at dksX1_node_0 5 rfl rfl)
theorem dX1_node_6 : decode cX1_node 6 = .ok (.ishl, 1) := dk_120 (dk_at dksX1_node_0 6 rfl rfl)
theorem dX1_node_7 : decode cX1_node 7 = .ok (.iconst 1, 1) := dk_4 (dk_at dksX1_node_0 7 rfl rfl)
theorem dX1_node_8 : decode cX1_node 8 = .ok (.isub, 1) := dk_100 (dk_at dksX1_node_0 8 rfl rfl)
theorem dX1_node_9 : decode cX1_node 9 = .ok (.iand, 1) := dk_126 (dk_at dksX1_node_0 9 rfl rfl)
theorem dX1_node_10 : decode cX1_node 10 = .ok (.iadd, 1) := dk_96 (dk_at dksX1_node_0 10 rfl rfl)
theorem dX1_node_11 : decode cX1_node 11 = .ok (.ireturn, 1) := dk_172 (dk_at dksX1_node_0 11 rfl rfl)
abbrev cX1_own : ByteArray := prog_8_method_4_code
def yX1_own : MethodName := ⟨RX1, "own", "(I)I"⟩
def dkwX1_own_1 : List UInt8 := [184, 0, 45, 172]
abbrev dktX1_own_1 : List UInt8 := dkwX1_own_1 ++ []
def dkwX1_own_0 : List UInt8 := [42, 180, 0, 31, 42, 180, 0, 9, 27, 46, 42, 180, 0, 15, 27, 46, 185, 0, 39, 3, 0, 133]
abbrev dktX1_own_0 : List UInt8 := dkwX1_own_0 ++ dktX1_own_1
theorem dksX1_own_0 : cX1_own.data.toList.drop 0 = dktX1_own_0 := by decide +kernel
theorem dksX1_own_1 : cX1_own.data.toList.drop 22 = dktX1_own_1 := dk_seg dksX1_own_0 22 rfl rfl
theorem dX1_own_0 : decode cX1_own 0 = .ok (.aload_n 0, 1) := dk_42 (dk_at dksX1_own_0 0 rfl rfl)
theorem dX1_own_1 : decode cX1_own 1 = .ok (.getfield 31, 3) := dk_180 0 31 (dk_at dksX1_own_0 1 rfl rfl)
theorem dX1_own_4 : decode cX1_own 4 = .ok (.aload_n 0, 1) := dk_42 (dk_at dksX1_own_0 4 rfl rfl)
theorem dX1_own_5 : decode cX1_own 5 = .ok (.getfield 9, 3) := dk_180 0 9 (dk_at dksX1_own_0 5 rfl rfl)
theorem dX1_own_8 : decode cX1_own 8 = .ok (.iload_n 1, 1) := dk_27 (dk_at dksX1_own_0 8 rfl rfl)
theorem dX1_own_9 : decode cX1_own 9 = .ok (.iaload, 1) := dk_46 (dk_at dksX1_own_0 9 rfl rfl)
theorem dX1_own_10 : decode cX1_own 10 = .ok (.aload_n 0, 1) := dk_42 (dk_at dksX1_own_0 10 rfl rfl)
theorem dX1_own_11 : decode cX1_own 11 = .ok (.getfield 15, 3) := dk_180 0 15 (dk_at dksX1_own_0 11 rfl rfl)
theorem dX1_own_14 : decode cX1_own 14 = .ok (.iload_n 1, 1) := dk_27 (dk_at dksX1_own_0 14 rfl rfl)
theorem dX1_own_15 : decode cX1_own 15 = .ok (.iaload, 1) := dk_46 (dk_at dksX1_own_0 15 rfl rfl)
theorem dX1_own_16 : decode cX1_own 16 = .ok (.invokeinterface 39 3, 5) := by decide +kernel
theorem dX1_own_21 : decode cX1_own 21 = .ok (.i2l, 1) := dk_133 (dk_at dksX1_own_0 21 rfl rfl)
theorem dX1_own_22 : decode cX1_own 22 = .ok (.invokestatic 45, 3) := dk_184 0 45 (dk_at dksX1_own_1 0 rfl rfl)
theorem dX1_own_25 : decode cX1_own 25 = .ok (.ireturn, 1) := dk_172 (dk_at dksX1_own_1 3 rfl rfl)
abbrev cX1_comes : ByteArray := prog_8_method_6_code
def yX1_comes : MethodName := ⟨RX1, "comes", "(I)V"⟩
def dkwX1_comes_5 : List UInt8 := [180, 0, 35, 4, 120, 27, 128, 181, 0, 35, 177]
abbrev dktX1_comes_5 : List UInt8 := dkwX1_comes_5 ++ []
def dkwX1_comes_4 : List UInt8 := [109, 184, 0, 64, 184, 0, 70, 136, 79, 42, 29, 27, 182, 0, 73, 132, 2, 1, 167, 255, 144, 42, 42]
abbrev dktX1_comes_4 : List UInt8 := dkwX1_comes_4 ++ dktX1_comes_5
def dkwX1_comes_3 : List UInt8 := [55, 6, 42, 180, 0, 18, 29, 20, 0, 60, 20, 0, 62, 20, 0, 57, 22, 4, 105, 22, 4, 22, 6, 97]
abbrev dktX1_comes_3 : List UInt8 := dkwX1_comes_3 ++ dktX1_comes_4
def dkwX1_comes_2 : List UInt8 := [18, 56, 42, 180, 0, 18, 29, 46, 100, 133, 42, 180, 0, 24, 28, 4, 96, 46, 27, 184, 0, 59, 133, 105]
abbrev dktX1_comes_2 : List UInt8 := dkwX1_comes_2 ++ dktX1_comes_3
def dkwX1_comes_1 : List UInt8 := [162, 0, 81, 42, 180, 0, 18, 29, 46, 133, 42, 180, 0, 21, 28, 46, 27, 184, 0, 59, 133, 105, 55, 4]
abbrev dktX1_comes_1 : List UInt8 := dkwX1_comes_1 ++ dktX1_comes_2
def dkwX1_comes_0 : List UInt8 := [3, 61, 28, 42, 180, 0, 27, 163, 0, 110, 28, 42, 180, 0, 35, 184, 0, 49, 62, 28, 42, 180, 0, 27]
abbrev dktX1_comes_0 : List UInt8 := dkwX1_comes_0 ++ dktX1_comes_1
theorem dksX1_comes_0 : cX1_comes.data.toList.drop 0 = dktX1_comes_0 := by decide +kernel
theorem dksX1_comes_1 : cX1_comes.data.toList.drop 24 = dktX1_comes_1 := dk_seg dksX1_comes_0 24 rfl rfl
theorem dksX1_comes_2 : cX1_comes.data.toList.drop 48 = dktX1_comes_2 := dk_seg dksX1_comes_1 24 rfl rfl
theorem dksX1_comes_3 : cX1_comes.data.toList.drop 72 = dktX1_comes_3 := dk_seg dksX1_comes_2 24 rfl rfl
theorem dksX1_comes_4 : cX1_comes.data.toList.drop 96 = dktX1_comes_4 := dk_seg dksX1_comes_3 24 rfl rfl
theorem dksX1_comes_5 : cX1_comes.data.toList.drop 119 = dktX1_comes_5 := dk_seg dksX1_comes_4 23 rfl rfl
theorem dX1_comes_0 : decode cX1_comes 0 = .ok (.iconst 0, 1) := dk_3 (dk_at dksX1_comes_0 0 rfl rfl)
theorem dX1_comes_1 : decode cX1_comes 1 = .ok (.istore_n 2, 1) := dk_61 (dk_at dksX1_comes_0 1 rfl rfl)
theorem dX1_comes_2 : decode cX1_comes 2 = .ok (.iload_n 2, 1) := dk_28 (dk_at dksX1_comes_0 2 rfl rfl)
theorem dX1_comes_3 : decode cX1_comes 3 = .ok (.aload_n 0, 1) := dk_42 (dk_at dksX1_comes_0 3 rfl rfl)
theorem dX1_comes_4 : decode cX1_comes 4 = .ok (.getfield 27, 3) := dk_180 0 27 (dk_at dksX1_comes_0 4 rfl rfl)
theorem dX1_comes_7 : decode cX1_comes 7 = .ok (.if_icmp .gt 110, 3) := dk_163 0 110 (dk_at dksX1_comes_0 7 rfl rfl)
theorem dX1_comes_10 : decode cX1_comes 10 = .ok (.iload_n 2, 1) := dk_28 (dk_at dksX1_comes_0 10 rfl rfl)
theorem dX1_comes_11 : decode cX1_comes 11 = .ok (.aload_n 0, 1) := dk_42 (dk_at dksX1_comes_0 11 rfl rfl)
theorem dX1_comes_12 : decode cX1_comes 12 = .ok (.getfield 35, 3) := dk_180 0 35 (dk_at dksX1_comes_0 12 rfl rfl)
theorem dX1_comes_15 : decode cX1_comes 15 = .ok (.invokestatic 49, 3) := dk_184 0 49 (dk_at dksX1_comes_0 15 rfl rfl)
theorem dX1_comes_18 : decode cX1_comes 18 = .ok (.istore_n 3, 1) := dk_62 (dk_at dksX1_comes_0 18 rfl rfl)
theorem dX1_comes_19 : decode cX1_comes 19 = .ok (.iload_n 2, 1) := dk_28 (dk_at dksX1_comes_0 19 rfl rfl)
theorem dX1_comes_20 : decode cX1_comes 20 = .ok (.aload_n 0, 1) := dk_42 (dk_at dksX1_comes_0 20 rfl rfl)
theorem dX1_comes_21 : decode cX1_comes 21 = .ok (.getfield 27, 3) := dk_180 0 27 (dk_at dksX1_comes_0 21 rfl rfl)
theorem dX1_comes_24 : decode cX1_comes 24 = .ok (.if_icmp .ge 81, 3) := dk_162 0 81 (dk_at dksX1_comes_1 0 rfl rfl)
theorem dX1_comes_27 : decode cX1_comes 27 = .ok (.aload_n 0, 1) := dk_42 (dk_at dksX1_comes_1 3 rfl rfl)
theorem dX1_comes_28 : decode cX1_comes 28 = .ok (.getfield 18, 3) := dk_180 0 18 (dk_at dksX1_comes_1 4 rfl rfl)
theorem dX1_comes_31 : decode cX1_comes 31 = .ok (.iload_n 3, 1) := dk_29 (dk_at dksX1_comes_1 7 rfl rfl)
theorem dX1_comes_32 : decode cX1_comes 32 = .ok (.iaload, 1) := dk_46 (dk_at dksX1_comes_1 8 rfl rfl)
theorem dX1_comes_33 : decode cX1_comes 33 = .ok (.i2l, 1) := dk_133 (dk_at dksX1_comes_1 9 rfl rfl)
theorem dX1_comes_34 : decode cX1_comes 34 = .ok (.aload_n 0, 1) := dk_42 (dk_at dksX1_comes_1 10 rfl rfl)
theorem dX1_comes_35 : decode cX1_comes 35 = .ok (.getfield 21, 3) := dk_180 0 21 (dk_at dksX1_comes_1 11 rfl rfl)
theorem dX1_comes_38 : decode cX1_comes 38 = .ok (.iload_n 2, 1) := dk_28 (dk_at dksX1_comes_1 14 rfl rfl)
theorem dX1_comes_39 : decode cX1_comes 39 = .ok (.iaload, 1) := dk_46 (dk_at dksX1_comes_1 15 rfl rfl)
theorem dX1_comes_40 : decode cX1_comes 40 = .ok (.iload_n 1, 1) := dk_27 (dk_at dksX1_comes_1 16 rfl rfl)
theorem dX1_comes_41 : decode cX1_comes 41 = .ok (.invokestatic 59, 3) := dk_184 0 59 (dk_at dksX1_comes_1 17 rfl rfl)
theorem dX1_comes_44 : decode cX1_comes 44 = .ok (.i2l, 1) := dk_133 (dk_at dksX1_comes_1 20 rfl rfl)
theorem dX1_comes_45 : decode cX1_comes 45 = .ok (.lmul, 1) := dk_105 (dk_at dksX1_comes_1 21 rfl rfl)
theorem dX1_comes_46 : decode cX1_comes 46 = .ok (.lstore 4, 2) := dk_55 4 (dk_at dksX1_comes_1 22 rfl rfl)
theorem dX1_comes_48 : decode cX1_comes 48 = .ok (.ldc 56, 2) := dk_18 56 (dk_at dksX1_comes_2 0 rfl rfl)
theorem dX1_comes_50 : decode cX1_comes 50 = .ok (.aload_n 0, 1) := dk_42 (dk_at dksX1_comes_2 2 rfl rfl)
theorem dX1_comes_51 : decode cX1_comes 51 = .ok (.getfield 18, 3) := dk_180 0 18 (dk_at dksX1_comes_2 3 rfl rfl)
theorem dX1_comes_54 : decode cX1_comes 54 = .ok (.iload_n 3, 1) := dk_29 (dk_at dksX1_comes_2 6 rfl rfl)
theorem dX1_comes_55 : decode cX1_comes 55 = .ok (.iaload, 1) := dk_46 (dk_at dksX1_comes_2 7 rfl rfl)
theorem dX1_comes_56 : decode cX1_comes 56 = .ok (.isub, 1) := dk_100 (dk_at dksX1_comes_2 8 rfl rfl)
theorem dX1_comes_57 : decode cX1_comes 57 = .ok (.i2l, 1) := dk_133 (dk_at dksX1_comes_2 9 rfl rfl)
theorem dX1_comes_58 : decode cX1_comes 58 = .ok (.aload_n 0, 1) := dk_42 (dk_at dksX1_comes_2 10 rfl rfl)
theorem dX1_comes_59 : decode cX1_comes 59 = .ok (.getfield 24, 3) := dk_180 0 24 (dk_at dksX1_comes_2 11 rfl rfl)
theorem dX1_comes_62 : decode cX1_comes 62 = .ok (.iload_n 2, 1) := dk_28 (dk_at dksX1_comes_2 14 rfl rfl)
theorem dX1_comes_63 : decode cX1_comes 63 = .ok (.iconst 1, 1) := dk_4 (dk_at dksX1_comes_2 15 rfl rfl)
theorem dX1_comes_64 : decode cX1_comes 64 = .ok (.iadd, 1) := dk_96 (dk_at dksX1_comes_2 16 rfl rfl)
theorem dX1_comes_65 : decode cX1_comes 65 = .ok (.iaload, 1) := dk_46 (dk_at dksX1_comes_2 17 rfl rfl)
theorem dX1_comes_66 : decode cX1_comes 66 = .ok (.iload_n 1, 1) := dk_27 (dk_at dksX1_comes_2 18 rfl rfl)
theorem dX1_comes_67 : decode cX1_comes 67 = .ok (.invokestatic 59, 3) := dk_184 0 59 (dk_at dksX1_comes_2 19 rfl rfl)
theorem dX1_comes_70 : decode cX1_comes 70 = .ok (.i2l, 1) := dk_133 (dk_at dksX1_comes_2 22 rfl rfl)
theorem dX1_comes_71 : decode cX1_comes 71 = .ok (.lmul, 1) := dk_105 (dk_at dksX1_comes_2 23 rfl rfl)
theorem dX1_comes_72 : decode cX1_comes 72 = .ok (.lstore 6, 2) := dk_55 6 (dk_at dksX1_comes_3 0 rfl rfl)
theorem dX1_comes_74 : decode cX1_comes 74 = .ok (.aload_n 0, 1) := dk_42 (dk_at dksX1_comes_3 2 rfl rfl)
theorem dX1_comes_75 : decode cX1_comes 75 = .ok (.getfield 18, 3) := dk_180 0 18 (dk_at dksX1_comes_3 3 rfl rfl)
theorem dX1_comes_78 : decode cX1_comes 78 = .ok (.iload_n 3, 1) := dk_29 (dk_at dksX1_comes_3 6 rfl rfl)
theorem dX1_comes_79 : decode cX1_comes 79 = .ok (.ldc2_w 60, 3) := dk_20 0 60 (dk_at dksX1_comes_3 7 rfl rfl)
theorem dX1_comes_82 : decode cX1_comes 82 = .ok (.ldc2_w 62, 3) := dk_20 0 62 (dk_at dksX1_comes_3 10 rfl rfl)
theorem dX1_comes_85 : decode cX1_comes 85 = .ok (.ldc2_w 57, 3) := dk_20 0 57 (dk_at dksX1_comes_3 13 rfl rfl)
theorem dX1_comes_88 : decode cX1_comes 88 = .ok (.lload 4, 2) := dk_22 4 (dk_at dksX1_comes_3 16 rfl rfl)
theorem dX1_comes_90 : decode cX1_comes 90 = .ok (.lmul, 1) := dk_105 (dk_at dksX1_comes_3 18 rfl rfl)
theorem dX1_comes_91 : decode cX1_comes 91 = .ok (.lload 4, 2) := dk_22 4 (dk_at dksX1_comes_3 19 rfl rfl)
theorem dX1_comes_93 : decode cX1_comes 93 = .ok (.lload 6, 2) := dk_22 6 (dk_at dksX1_comes_3 21 rfl rfl)
theorem dX1_comes_95 : decode cX1_comes 95 = .ok (.ladd, 1) := dk_97 (dk_at dksX1_comes_3 23 rfl rfl)
theorem dX1_comes_96 : decode cX1_comes 96 = .ok (.ldiv, 1) := dk_109 (dk_at dksX1_comes_4 0 rfl rfl)
theorem dX1_comes_97 : decode cX1_comes 97 = .ok (.invokestatic 64, 3) := dk_184 0 64 (dk_at dksX1_comes_4 1 rfl rfl)
theorem dX1_comes_100 : decode cX1_comes 100 = .ok (.invokestatic 70, 3) := dk_184 0 70 (dk_at dksX1_comes_4 4 rfl rfl)
theorem dX1_comes_103 : decode cX1_comes 103 = .ok (.l2i, 1) := dk_136 (dk_at dksX1_comes_4 7 rfl rfl)
theorem dX1_comes_104 : decode cX1_comes 104 = .ok (.iastore, 1) := dk_79 (dk_at dksX1_comes_4 8 rfl rfl)
theorem dX1_comes_105 : decode cX1_comes 105 = .ok (.aload_n 0, 1) := dk_42 (dk_at dksX1_comes_4 9 rfl rfl)
theorem dX1_comes_106 : decode cX1_comes 106 = .ok (.iload_n 3, 1) := dk_29 (dk_at dksX1_comes_4 10 rfl rfl)
theorem dX1_comes_107 : decode cX1_comes 107 = .ok (.iload_n 1, 1) := dk_27 (dk_at dksX1_comes_4 11 rfl rfl)
theorem dX1_comes_108 : decode cX1_comes 108 = .ok (.invokevirtual 73, 3) := dk_182 0 73 (dk_at dksX1_comes_4 12 rfl rfl)
theorem dX1_comes_111 : decode cX1_comes 111 = .ok (.iinc 2 1, 3) := dk_132 2 1 (dk_at dksX1_comes_4 15 rfl rfl)
theorem dX1_comes_114 : decode cX1_comes 114 = .ok (.goto (-112), 3) := dk_167 255 144 (dk_at dksX1_comes_4 18 rfl rfl)
theorem dX1_comes_117 : decode cX1_comes 117 = .ok (.aload_n 0, 1) := dk_42 (dk_at dksX1_comes_4 21 rfl rfl)
theorem dX1_comes_118 : decode cX1_comes 118 = .ok (.aload_n 0, 1) := dk_42 (dk_at dksX1_comes_4 22 rfl rfl)
theorem dX1_comes_119 : decode cX1_comes 119 = .ok (.getfield 35, 3) := dk_180 0 35 (dk_at dksX1_comes_5 0 rfl rfl)
theorem dX1_comes_122 : decode cX1_comes 122 = .ok (.iconst 1, 1) := dk_4 (dk_at dksX1_comes_5 3 rfl rfl)
theorem dX1_comes_123 : decode cX1_comes 123 = .ok (.ishl, 1) := dk_120 (dk_at dksX1_comes_5 4 rfl rfl)
theorem dX1_comes_124 : decode cX1_comes 124 = .ok (.iload_n 1, 1) := dk_27 (dk_at dksX1_comes_5 5 rfl rfl)
theorem dX1_comes_125 : decode cX1_comes 125 = .ok (.ior, 1) := dk_128 (dk_at dksX1_comes_5 6 rfl rfl)
theorem dX1_comes_126 : decode cX1_comes 126 = .ok (.putfield 35, 3) := dk_181 0 35 (dk_at dksX1_comes_5 7 rfl rfl)
theorem dX1_comes_129 : decode cX1_comes 129 = .ok (.return_, 1) := dk_177 (dk_at dksX1_comes_5 10 rfl rfl)
abbrev cX1_counts : ByteArray := prog_8_method_7_code
def yX1_counts : MethodName := ⟨RX1, "counts", "(II)V"⟩
def dkwX1_counts_2 : List UInt8 := [180, 0, 9, 27, 92, 46, 5, 108, 79, 42, 180, 0, 15, 27, 92, 46, 5, 108, 79, 177]
abbrev dktX1_counts_2 : List UInt8 := dkwX1_counts_2 ++ []
def dkwX1_counts_1 : List UInt8 := [180, 0, 9, 27, 46, 16, 60, 163, 0, 14, 42, 180, 0, 15, 27, 46, 16, 60, 164, 0, 23, 42]
abbrev dktX1_counts_1 : List UInt8 := dkwX1_counts_1 ++ dktX1_counts_2
def dkwX1_counts_0 : List UInt8 := [42, 180, 0, 9, 27, 92, 46, 4, 28, 100, 96, 79, 42, 180, 0, 15, 27, 92, 46, 28, 96, 79, 42]
abbrev dktX1_counts_0 : List UInt8 := dkwX1_counts_0 ++ dktX1_counts_1
theorem dksX1_counts_0 : cX1_counts.data.toList.drop 0 = dktX1_counts_0 := by decide +kernel
theorem dksX1_counts_1 : cX1_counts.data.toList.drop 23 = dktX1_counts_1 := dk_seg dksX1_counts_0 23 rfl rfl
theorem dksX1_counts_2 : cX1_counts.data.toList.drop 45 = dktX1_counts_2 := dk_seg dksX1_counts_1 22 rfl rfl
theorem dX1_counts_0 : decode cX1_counts 0 = .ok (.aload_n 0, 1) := dk_42 (dk_at dksX1_counts_0 0 rfl rfl)
theorem dX1_counts_1 : decode cX1_counts 1 = .ok (.getfield 9, 3) := dk_180 0 9 (dk_at dksX1_counts_0 1 rfl rfl)
theorem dX1_counts_4 : decode cX1_counts 4 = .ok (.iload_n 1, 1) := dk_27 (dk_at dksX1_counts_0 4 rfl rfl)
theorem dX1_counts_5 : decode cX1_counts 5 = .ok (.dup2, 1) := dk_92 (dk_at dksX1_counts_0 5 rfl rfl)
theorem dX1_counts_6 : decode cX1_counts 6 = .ok (.iaload, 1) := dk_46 (dk_at dksX1_counts_0 6 rfl rfl)
theorem dX1_counts_7 : decode cX1_counts 7 = .ok (.iconst 1, 1) := dk_4 (dk_at dksX1_counts_0 7 rfl rfl)
theorem dX1_counts_8 : decode cX1_counts 8 = .ok (.iload_n 2, 1) := dk_28 (dk_at dksX1_counts_0 8 rfl rfl)
theorem dX1_counts_9 : decode cX1_counts 9 = .ok (.isub, 1) := dk_100 (dk_at dksX1_counts_0 9 rfl rfl)
theorem dX1_counts_10 : decode cX1_counts 10 = .ok (.iadd, 1) := dk_96 (dk_at dksX1_counts_0 10 rfl rfl)
theorem dX1_counts_11 : decode cX1_counts 11 = .ok (.iastore, 1) := dk_79 (dk_at dksX1_counts_0 11 rfl rfl)
theorem dX1_counts_12 : decode cX1_counts 12 = .ok (.aload_n 0, 1) := dk_42 (dk_at dksX1_counts_0 12 rfl rfl)
theorem dX1_counts_13 : decode cX1_counts 13 = .ok (.getfield 15, 3) := dk_180 0 15 (dk_at dksX1_counts_0 13 rfl rfl)
theorem dX1_counts_16 : decode cX1_counts 16 = .ok (.iload_n 1, 1) := dk_27 (dk_at dksX1_counts_0 16 rfl rfl)
theorem dX1_counts_17 : decode cX1_counts 17 = .ok (.dup2, 1) := dk_92 (dk_at dksX1_counts_0 17 rfl rfl)
theorem dX1_counts_18 : decode cX1_counts 18 = .ok (.iaload, 1) := dk_46 (dk_at dksX1_counts_0 18 rfl rfl)
theorem dX1_counts_19 : decode cX1_counts 19 = .ok (.iload_n 2, 1) := dk_28 (dk_at dksX1_counts_0 19 rfl rfl)
theorem dX1_counts_20 : decode cX1_counts 20 = .ok (.iadd, 1) := dk_96 (dk_at dksX1_counts_0 20 rfl rfl)
theorem dX1_counts_21 : decode cX1_counts 21 = .ok (.iastore, 1) := dk_79 (dk_at dksX1_counts_0 21 rfl rfl)
theorem dX1_counts_22 : decode cX1_counts 22 = .ok (.aload_n 0, 1) := dk_42 (dk_at dksX1_counts_0 22 rfl rfl)
theorem dX1_counts_23 : decode cX1_counts 23 = .ok (.getfield 9, 3) := dk_180 0 9 (dk_at dksX1_counts_1 0 rfl rfl)
theorem dX1_counts_26 : decode cX1_counts 26 = .ok (.iload_n 1, 1) := dk_27 (dk_at dksX1_counts_1 3 rfl rfl)
theorem dX1_counts_27 : decode cX1_counts 27 = .ok (.iaload, 1) := dk_46 (dk_at dksX1_counts_1 4 rfl rfl)
theorem dX1_counts_28 : decode cX1_counts 28 = .ok (.bipush 60, 2) := dk_16 60 (dk_at dksX1_counts_1 5 rfl rfl)
theorem dX1_counts_30 : decode cX1_counts 30 = .ok (.if_icmp .gt 14, 3) := dk_163 0 14 (dk_at dksX1_counts_1 7 rfl rfl)
theorem dX1_counts_33 : decode cX1_counts 33 = .ok (.aload_n 0, 1) := dk_42 (dk_at dksX1_counts_1 10 rfl rfl)
theorem dX1_counts_34 : decode cX1_counts 34 = .ok (.getfield 15, 3) := dk_180 0 15 (dk_at dksX1_counts_1 11 rfl rfl)
theorem dX1_counts_37 : decode cX1_counts 37 = .ok (.iload_n 1, 1) := dk_27 (dk_at dksX1_counts_1 14 rfl rfl)
theorem dX1_counts_38 : decode cX1_counts 38 = .ok (.iaload, 1) := dk_46 (dk_at dksX1_counts_1 15 rfl rfl)
theorem dX1_counts_39 : decode cX1_counts 39 = .ok (.bipush 60, 2) := dk_16 60 (dk_at dksX1_counts_1 16 rfl rfl)
theorem dX1_counts_41 : decode cX1_counts 41 = .ok (.if_icmp .le 23, 3) := dk_164 0 23 (dk_at dksX1_counts_1 18 rfl rfl)
theorem dX1_counts_44 : decode cX1_counts 44 = .ok (.aload_n 0, 1) := dk_42 (dk_at dksX1_counts_1 21 rfl rfl)
theorem dX1_counts_45 : decode cX1_counts 45 = .ok (.getfield 9, 3) := dk_180 0 9 (dk_at dksX1_counts_2 0 rfl rfl)
theorem dX1_counts_48 : decode cX1_counts 48 = .ok (.iload_n 1, 1) := dk_27 (dk_at dksX1_counts_2 3 rfl rfl)
theorem dX1_counts_49 : decode cX1_counts 49 = .ok (.dup2, 1) := dk_92 (dk_at dksX1_counts_2 4 rfl rfl)
theorem dX1_counts_50 : decode cX1_counts 50 = .ok (.iaload, 1) := dk_46 (dk_at dksX1_counts_2 5 rfl rfl)
theorem dX1_counts_51 : decode cX1_counts 51 = .ok (.iconst 2, 1) := dk_5 (dk_at dksX1_counts_2 6 rfl rfl)
theorem dX1_counts_52 : decode cX1_counts 52 = .ok (.idiv, 1) := dk_108 (dk_at dksX1_counts_2 7 rfl rfl)
theorem dX1_counts_53 : decode cX1_counts 53 = .ok (.iastore, 1) := dk_79 (dk_at dksX1_counts_2 8 rfl rfl)
theorem dX1_counts_54 : decode cX1_counts 54 = .ok (.aload_n 0, 1) := dk_42 (dk_at dksX1_counts_2 9 rfl rfl)
theorem dX1_counts_55 : decode cX1_counts 55 = .ok (.getfield 15, 3) := dk_180 0 15 (dk_at dksX1_counts_2 10 rfl rfl)
theorem dX1_counts_58 : decode cX1_counts 58 = .ok (.iload_n 1, 1) := dk_27 (dk_at dksX1_counts_2 13 rfl rfl)
theorem dX1_counts_59 : decode cX1_counts 59 = .ok (.dup2, 1) := dk_92 (dk_at dksX1_counts_2 14 rfl rfl)
theorem dX1_counts_60 : decode cX1_counts 60 = .ok (.iaload, 1) := dk_46 (dk_at dksX1_counts_2 15 rfl rfl)
theorem dX1_counts_61 : decode cX1_counts 61 = .ok (.iconst 2, 1) := dk_5 (dk_at dksX1_counts_2 16 rfl rfl)
theorem dX1_counts_62 : decode cX1_counts 62 = .ok (.idiv, 1) := dk_108 (dk_at dksX1_counts_2 17 rfl rfl)
theorem dX1_counts_63 : decode cX1_counts 63 = .ok (.iastore, 1) := dk_79 (dk_at dksX1_counts_2 18 rfl rfl)
theorem dX1_counts_64 : decode cX1_counts 64 = .ok (.return_, 1) := dk_177 (dk_at dksX1_counts_2 19 rfl rfl)
abbrev cX1_runs : ByteArray := prog_8_method_8_code
def yX1_runs : MethodName := ⟨RX1, "runs", "(ILTreeOdds$Source;LTreeOdds$Seen;)V"⟩
def dkwX1_runs_2 : List UInt8 := [177]
abbrev dktX1_runs_2 : List UInt8 := dkwX1_runs_2 ++ []
def dkwX1_runs_1 : List UInt8 := [54, 6, 45, 21, 6, 21, 5, 185, 0, 85, 3, 0, 42, 21, 6, 182, 0, 90, 132, 4, 1, 167, 255, 215]
abbrev dktX1_runs_1 : List UInt8 := dkwX1_runs_1 ++ dktX1_runs_2
def dkwX1_runs_0 : List UInt8 := [3, 54, 4, 21, 4, 27, 162, 0, 41, 42, 182, 0, 77, 54, 5, 44, 21, 5, 185, 0, 80, 2, 0]
abbrev dktX1_runs_0 : List UInt8 := dkwX1_runs_0 ++ dktX1_runs_1
theorem dksX1_runs_0 : cX1_runs.data.toList.drop 0 = dktX1_runs_0 := by decide +kernel
theorem dksX1_runs_1 : cX1_runs.data.toList.drop 23 = dktX1_runs_1 := dk_seg dksX1_runs_0 23 rfl rfl
theorem dksX1_runs_2 : cX1_runs.data.toList.drop 47 = dktX1_runs_2 := dk_seg dksX1_runs_1 24 rfl rfl
theorem dX1_runs_0 : decode cX1_runs 0 = .ok (.iconst 0, 1) := dk_3 (dk_at dksX1_runs_0 0 rfl rfl)
theorem dX1_runs_1 : decode cX1_runs 1 = .ok (.istore 4, 2) := dk_54 4 (dk_at dksX1_runs_0 1 rfl rfl)
theorem dX1_runs_3 : decode cX1_runs 3 = .ok (.iload 4, 2) := dk_21 4 (dk_at dksX1_runs_0 3 rfl rfl)
theorem dX1_runs_5 : decode cX1_runs 5 = .ok (.iload_n 1, 1) := dk_27 (dk_at dksX1_runs_0 5 rfl rfl)
theorem dX1_runs_6 : decode cX1_runs 6 = .ok (.if_icmp .ge 41, 3) := dk_162 0 41 (dk_at dksX1_runs_0 6 rfl rfl)
theorem dX1_runs_9 : decode cX1_runs 9 = .ok (.aload_n 0, 1) := dk_42 (dk_at dksX1_runs_0 9 rfl rfl)
theorem dX1_runs_10 : decode cX1_runs 10 = .ok (.invokevirtual 77, 3) := dk_182 0 77 (dk_at dksX1_runs_0 10 rfl rfl)
theorem dX1_runs_13 : decode cX1_runs 13 = .ok (.istore 5, 2) := dk_54 5 (dk_at dksX1_runs_0 13 rfl rfl)
theorem dX1_runs_15 : decode cX1_runs 15 = .ok (.aload_n 2, 1) := dk_44 (dk_at dksX1_runs_0 15 rfl rfl)
theorem dX1_runs_16 : decode cX1_runs 16 = .ok (.iload 5, 2) := dk_21 5 (dk_at dksX1_runs_0 16 rfl rfl)
theorem dX1_runs_18 : decode cX1_runs 18 = .ok (.invokeinterface 80 2, 5) := by decide +kernel
theorem dX1_runs_23 : decode cX1_runs 23 = .ok (.istore 6, 2) := dk_54 6 (dk_at dksX1_runs_1 0 rfl rfl)
theorem dX1_runs_25 : decode cX1_runs 25 = .ok (.aload_n 3, 1) := dk_45 (dk_at dksX1_runs_1 2 rfl rfl)
theorem dX1_runs_26 : decode cX1_runs 26 = .ok (.iload 6, 2) := dk_21 6 (dk_at dksX1_runs_1 3 rfl rfl)
theorem dX1_runs_28 : decode cX1_runs 28 = .ok (.iload 5, 2) := dk_21 5 (dk_at dksX1_runs_1 5 rfl rfl)
theorem dX1_runs_30 : decode cX1_runs 30 = .ok (.invokeinterface 85 3, 5) := by decide +kernel
theorem dX1_runs_35 : decode cX1_runs 35 = .ok (.aload_n 0, 1) := dk_42 (dk_at dksX1_runs_1 12 rfl rfl)
theorem dX1_runs_36 : decode cX1_runs 36 = .ok (.iload 6, 2) := dk_21 6 (dk_at dksX1_runs_1 13 rfl rfl)
theorem dX1_runs_38 : decode cX1_runs 38 = .ok (.invokevirtual 90, 3) := dk_182 0 90 (dk_at dksX1_runs_1 15 rfl rfl)
theorem dX1_runs_41 : decode cX1_runs 41 = .ok (.iinc 4 1, 3) := dk_132 4 1 (dk_at dksX1_runs_1 18 rfl rfl)
theorem dX1_runs_44 : decode cX1_runs 44 = .ok (.goto (-41), 3) := dk_167 255 215 (dk_at dksX1_runs_1 21 rfl rfl)
theorem dX1_runs_47 : decode cX1_runs 47 = .ok (.return_, 1) := dk_177 (dk_at dksX1_runs_2 0 rfl rfl)
theorem q68 : (Jvm.Cond.initialized "TreeOdds$Tree") ∈ lw_all := lw_g (lw_at lw_m1 2 rfl) rfl
theorem q90 : (Jvm.Cond.instantiable "TreeOdds$Tree" (8 : Nat)) ∈ lw_all := lw_g (lw_at lw_m1 24 rfl) rfl
theorem q92 : (Jvm.Cond.instanceMethod ({ cls := "TreeOdds$Tree", name := "<init>", desc := "()V" } : Jvm.MethodName)) ∈ lw_all := lw_g (lw_at lw_m1 26 rfl) rfl
theorem q93 : (Jvm.Cond.code ({ cls := "TreeOdds$Tree", name := "<init>", desc := "()V" } : Jvm.MethodName) prog_8_method_1_code (1 : Nat) (Option.none : Option Jvm.ClassFile.FieldType)) ∈ lw_all := lw_g (lw_at lw_m1 27 rfl) rfl
theorem q94 : (Jvm.Cond.methodLink "TreeOdds$Tree" (3 : Nat) ({ cls := "java/lang/Object", name := "<init>", desc := "()V" } : Jvm.MethodName)) ∈ lw_all := lw_g (lw_at lw_m1 28 rfl) rfl
theorem q95 : (Jvm.Cond.fieldLink "TreeOdds$Tree" (9 : Nat) "TreeOdds$Tree" "zeros" "[I") ∈ lw_all := lw_g (lw_at lw_m1 29 rfl) rfl
theorem q97 : (Jvm.Cond.fieldLink "TreeOdds$Tree" (15 : Nat) "TreeOdds$Tree" "ones" "[I") ∈ lw_all := lw_g (lw_at lw_m1 31 rfl) rfl
theorem q99 : (Jvm.Cond.fieldLink "TreeOdds$Tree" (18 : Nat) "TreeOdds$Tree" "weights" "[I") ∈ lw_all := lw_g (lw_at lw_m1 33 rfl) rfl
theorem q101 : (Jvm.Cond.fieldLink "TreeOdds$Tree" (21 : Nat) "TreeOdds$Tree" "owns" "[I") ∈ lw_all := lw_g (lw_at lw_m1 35 rfl) rfl
theorem q102 : (Jvm.Cond.fieldLink "TreeOdds$Tree" (24 : Nat) "TreeOdds$Tree" "guesses" "[I") ∈ lw_all := lw_g (lw_at lw_m1 36 rfl) rfl
theorem q103 : (Jvm.Cond.fieldLink "TreeOdds$Tree" (27 : Nat) "TreeOdds$Tree" "depth" "I") ∈ lw_all := lw_g (lw_at lw_m1 37 rfl) rfl
theorem q104 : (Jvm.Cond.fieldLink "TreeOdds$Tree" (31 : Nat) "TreeOdds$Tree" "guess" "LTreeOdds$Guess;") ∈ lw_all := lw_g (lw_at lw_m1 38 rfl) rfl
theorem q105 : (Jvm.Cond.fieldLink "TreeOdds$Tree" (35 : Nat) "TreeOdds$Tree" "past" "I") ∈ lw_all := lw_g (lw_at lw_m1 39 rfl) rfl
theorem q106 : (Jvm.Cond.laysFinal "TreeOdds$Tree" "TreeOdds$Tree" "zeros" "[I") ∈ lw_all := lw_g (lw_at lw_m1 40 rfl) rfl
theorem q107 : (Jvm.Cond.soleField "TreeOdds$Tree" "zeros") ∈ lw_all := lw_g (lw_at lw_m1 41 rfl) rfl
theorem q108 : (Jvm.Cond.laysFinal "TreeOdds$Tree" "TreeOdds$Tree" "ones" "[I") ∈ lw_all := lw_g (lw_at lw_m1 42 rfl) rfl
theorem q109 : (Jvm.Cond.soleField "TreeOdds$Tree" "ones") ∈ lw_all := lw_g (lw_at lw_m1 43 rfl) rfl
theorem q110 : (Jvm.Cond.laysFinal "TreeOdds$Tree" "TreeOdds$Tree" "weights" "[I") ∈ lw_all := lw_g (lw_at lw_m1 44 rfl) rfl
theorem q111 : (Jvm.Cond.soleField "TreeOdds$Tree" "weights") ∈ lw_all := lw_g (lw_at lw_m1 45 rfl) rfl
theorem q112 : (Jvm.Cond.laysFinal "TreeOdds$Tree" "TreeOdds$Tree" "owns" "[I") ∈ lw_all := lw_g (lw_at lw_m1 46 rfl) rfl
theorem q113 : (Jvm.Cond.soleField "TreeOdds$Tree" "owns") ∈ lw_all := lw_g (lw_at lw_m1 47 rfl) rfl
theorem q114 : (Jvm.Cond.laysFinal "TreeOdds$Tree" "TreeOdds$Tree" "guesses" "[I") ∈ lw_all := lw_g (lw_at lw_m1 48 rfl) rfl
theorem q115 : (Jvm.Cond.soleField "TreeOdds$Tree" "guesses") ∈ lw_all := lw_g (lw_at lw_m1 49 rfl) rfl
theorem q116 : (Jvm.Cond.lays "TreeOdds$Tree" "TreeOdds$Tree" "depth" "I") ∈ lw_all := lw_g (lw_at lw_m1 50 rfl) rfl
theorem q117 : (Jvm.Cond.soleField "TreeOdds$Tree" "depth") ∈ lw_all := lw_g (lw_at lw_m1 51 rfl) rfl
theorem q118 : (Jvm.Cond.lays "TreeOdds$Tree" "TreeOdds$Tree" "guess" "LTreeOdds$Guess;") ∈ lw_all := lw_g (lw_at lw_m1 52 rfl) rfl
theorem q119 : (Jvm.Cond.soleField "TreeOdds$Tree" "guess") ∈ lw_all := lw_g (lw_at lw_m1 53 rfl) rfl
theorem q120 : (Jvm.Cond.lays "TreeOdds$Tree" "TreeOdds$Tree" "past" "I") ∈ lw_all := lw_g (lw_at lw_m1 54 rfl) rfl
theorem q121 : (Jvm.Cond.soleField "TreeOdds$Tree" "past") ∈ lw_all := lw_g (lw_at lw_m1 55 rfl) rfl
theorem q122 : (Jvm.Cond.superclass "TreeOdds$Tree" "java/lang/Object") ∈ lw_all := lw_g (lw_at lw_m1 56 rfl) rfl
theorem q202 : (Jvm.Cond.instanceMethod ({ cls := "TreeOdds$Tree", name := "begins", desc := "(ILTreeOdds$Guess;)V" } : Jvm.MethodName)) ∈ lw_all := lw_g (lw_at lw_m1 136 rfl) rfl
theorem q203 : (Jvm.Cond.selects "TreeOdds$Tree" ({ cls := "TreeOdds$Tree", name := "begins", desc := "(ILTreeOdds$Guess;)V" } : Jvm.MethodName) ({ cls := "TreeOdds$Tree", name := "begins", desc := "(ILTreeOdds$Guess;)V" } : Jvm.MethodName)) ∈ lw_all := lw_g (lw_at lw_m1 137 rfl) rfl
theorem q204 : (Jvm.Cond.code ({ cls := "TreeOdds$Tree", name := "begins", desc := "(ILTreeOdds$Guess;)V" } : Jvm.MethodName) prog_8_method_2_code (4 : Nat) (Option.none : Option Jvm.ClassFile.FieldType)) ∈ lw_all := lw_g (lw_at lw_m1 138 rfl) rfl
theorem q205 : (Jvm.Cond.constant "TreeOdds$Tree" (38 : Nat) (32768 : Int32)) ∈ lw_all := lw_g (lw_at lw_m1 139 rfl) rfl
theorem q320 : (Jvm.Cond.instanceMethod ({ cls := "TreeOdds$Tree", name := "guesses", desc := "()I" } : Jvm.MethodName)) ∈ lw_all := lw_g (lw_at lw_m2 14 rfl) rfl
theorem q321 : (Jvm.Cond.selects "TreeOdds$Tree" ({ cls := "TreeOdds$Tree", name := "guesses", desc := "()I" } : Jvm.MethodName) ({ cls := "TreeOdds$Tree", name := "guesses", desc := "()I" } : Jvm.MethodName)) ∈ lw_all := lw_g (lw_at lw_m2 15 rfl) rfl
theorem q322 : (Jvm.Cond.code ({ cls := "TreeOdds$Tree", name := "guesses", desc := "()I" } : Jvm.MethodName) prog_8_method_5_code (5 : Nat) (Option.some Jvm.ClassFile.FieldType.int)) ∈ lw_all := lw_g (lw_at lw_m2 16 rfl) rfl
theorem q323 : (Jvm.Cond.methodLink "TreeOdds$Tree" (49 : Nat) ({ cls := "TreeOdds$Tree", name := "node", desc := "(II)I" } : Jvm.MethodName)) ∈ lw_all := lw_g (lw_at lw_m2 17 rfl) rfl
theorem q324 : (Jvm.Cond.static ({ cls := "TreeOdds$Tree", name := "node", desc := "(II)I" } : Jvm.MethodName)) ∈ lw_all := lw_g (lw_at lw_m2 18 rfl) rfl
theorem q325 : (Jvm.Cond.code ({ cls := "TreeOdds$Tree", name := "node", desc := "(II)I" } : Jvm.MethodName) prog_8_method_3_code (2 : Nat) (Option.some Jvm.ClassFile.FieldType.int)) ∈ lw_all := lw_g (lw_at lw_m2 19 rfl) rfl
theorem q326 : (Jvm.Cond.methodLink "TreeOdds$Tree" (52 : Nat) ({ cls := "TreeOdds$Tree", name := "own", desc := "(I)I" } : Jvm.MethodName)) ∈ lw_all := lw_g (lw_at lw_m2 20 rfl) rfl
theorem q327 : (Jvm.Cond.instanceMethod ({ cls := "TreeOdds$Tree", name := "own", desc := "(I)I" } : Jvm.MethodName)) ∈ lw_all := lw_g (lw_at lw_m2 21 rfl) rfl
theorem q328 : (Jvm.Cond.selects "TreeOdds$Tree" ({ cls := "TreeOdds$Tree", name := "own", desc := "(I)I" } : Jvm.MethodName) ({ cls := "TreeOdds$Tree", name := "own", desc := "(I)I" } : Jvm.MethodName)) ∈ lw_all := lw_g (lw_at lw_m2 22 rfl) rfl
theorem q329 : (Jvm.Cond.code ({ cls := "TreeOdds$Tree", name := "own", desc := "(I)I" } : Jvm.MethodName) prog_8_method_4_code (2 : Nat) (Option.some Jvm.ClassFile.FieldType.int)) ∈ lw_all := lw_g (lw_at lw_m2 23 rfl) rfl
theorem q330 : (Jvm.Cond.interfaceEntry "TreeOdds$Tree" (39 : Nat)) ∈ lw_tbl := lw_at lw_m2 24 rfl
theorem q331 : (Jvm.Cond.methodLink "TreeOdds$Tree" (39 : Nat) ({ cls := "TreeOdds$Guess", name := "of", desc := "(II)I" } : Jvm.MethodName)) ∈ lw_all := lw_g (lw_at lw_m2 25 rfl) rfl
theorem q334 : (Jvm.Cond.methodLinkNest "TreeOdds$Tree" (45 : Nat) ({ cls := "TreeOdds", name := "held", desc := "(J)I" } : Jvm.MethodName) "TreeOdds") ∈ lw_tbl := lw_at lw_m2 28 rfl
theorem q344 : (Jvm.Cond.constant "TreeOdds$Tree" (56 : Nat) (65536 : Int32)) ∈ lw_all := lw_g (lw_at lw_m2 38 rfl) rfl
theorem q345 : (Jvm.Cond.constantLong "TreeOdds$Tree" (57 : Nat) (65536 : Int64)) ∈ lw_all := lw_g (lw_at lw_m2 39 rfl) rfl
theorem q347 : (Jvm.Cond.instanceMethod ({ cls := "TreeOdds$Tree", name := "comes", desc := "(I)V" } : Jvm.MethodName)) ∈ lw_all := lw_g (lw_at lw_m2 41 rfl) rfl
theorem q348 : (Jvm.Cond.selects "TreeOdds$Tree" ({ cls := "TreeOdds$Tree", name := "comes", desc := "(I)V" } : Jvm.MethodName) ({ cls := "TreeOdds$Tree", name := "comes", desc := "(I)V" } : Jvm.MethodName)) ∈ lw_all := lw_g (lw_at lw_m2 42 rfl) rfl
theorem q349 : (Jvm.Cond.code ({ cls := "TreeOdds$Tree", name := "comes", desc := "(I)V" } : Jvm.MethodName) prog_8_method_6_code (8 : Nat) (Option.none : Option Jvm.ClassFile.FieldType)) ∈ lw_all := lw_g (lw_at lw_m2 43 rfl) rfl
theorem q350 : (Jvm.Cond.methodLinkNest "TreeOdds$Tree" (59 : Nat) ({ cls := "TreeOdds", name := "of", desc := "(II)I" } : Jvm.MethodName) "TreeOdds") ∈ lw_tbl := lw_at lw_m2 44 rfl
theorem q354 : (Jvm.Cond.constantLong "TreeOdds$Tree" (60 : Nat) (64 : Int64)) ∈ lw_all := lw_g (lw_at lw_m2 48 rfl) rfl
theorem q355 : (Jvm.Cond.constantLong "TreeOdds$Tree" (62 : Nat) (65472 : Int64)) ∈ lw_all := lw_g (lw_at lw_m2 49 rfl) rfl
theorem q356 : (Jvm.Cond.methodLink "TreeOdds$Tree" (64 : Nat) ({ cls := "java/lang/Math", name := "min", desc := "(JJ)J" } : Jvm.MethodName)) ∈ lw_all := lw_g (lw_at lw_m2 50 rfl) rfl
theorem q357 : (Jvm.Cond.methodLink "TreeOdds$Tree" (70 : Nat) ({ cls := "java/lang/Math", name := "max", desc := "(JJ)J" } : Jvm.MethodName)) ∈ lw_all := lw_g (lw_at lw_m2 51 rfl) rfl
theorem q358 : (Jvm.Cond.methodLink "TreeOdds$Tree" (73 : Nat) ({ cls := "TreeOdds$Tree", name := "counts", desc := "(II)V" } : Jvm.MethodName)) ∈ lw_all := lw_g (lw_at lw_m2 52 rfl) rfl
theorem q359 : (Jvm.Cond.privateMethod ({ cls := "TreeOdds$Tree", name := "counts", desc := "(II)V" } : Jvm.MethodName)) ∈ lw_tbl := lw_at lw_m2 53 rfl
theorem q360 : (Jvm.Cond.instanceMethod ({ cls := "TreeOdds$Tree", name := "counts", desc := "(II)V" } : Jvm.MethodName)) ∈ lw_all := lw_g (lw_at lw_m2 54 rfl) rfl
theorem q361 : (Jvm.Cond.code ({ cls := "TreeOdds$Tree", name := "counts", desc := "(II)V" } : Jvm.MethodName) prog_8_method_7_code (3 : Nat) (Option.none : Option Jvm.ClassFile.FieldType)) ∈ lw_all := lw_g (lw_at lw_m2 55 rfl) rfl
theorem q451 : (Jvm.Cond.instanceMethod ({ cls := "TreeOdds$Tree", name := "runs", desc := "(ILTreeOdds$Source;LTreeOdds$Seen;)V" } : Jvm.MethodName)) ∈ lw_all := lw_g (lw_at lw_m2 145 rfl) rfl
theorem q452 : (Jvm.Cond.selects "TreeOdds$Tree" ({ cls := "TreeOdds$Tree", name := "runs", desc := "(ILTreeOdds$Source;LTreeOdds$Seen;)V" } : Jvm.MethodName) ({ cls := "TreeOdds$Tree", name := "runs", desc := "(ILTreeOdds$Source;LTreeOdds$Seen;)V" } : Jvm.MethodName)) ∈ lw_all := lw_g (lw_at lw_m2 146 rfl) rfl
theorem q453 : (Jvm.Cond.code ({ cls := "TreeOdds$Tree", name := "runs", desc := "(ILTreeOdds$Source;LTreeOdds$Seen;)V" } : Jvm.MethodName) prog_8_method_8_code (7 : Nat) (Option.none : Option Jvm.ClassFile.FieldType)) ∈ lw_all := lw_g (lw_at lw_m2 147 rfl) rfl
theorem q454 : (Jvm.Cond.methodLink "TreeOdds$Tree" (77 : Nat) ({ cls := "TreeOdds$Tree", name := "guesses", desc := "()I" } : Jvm.MethodName)) ∈ lw_all := lw_g (lw_at lw_m2 148 rfl) rfl
theorem q455 : (Jvm.Cond.interfaceEntry "TreeOdds$Tree" (80 : Nat)) ∈ lw_tbl := lw_at lw_m2 149 rfl
theorem q456 : (Jvm.Cond.methodLink "TreeOdds$Tree" (80 : Nat) ({ cls := "TreeOdds$Source", name := "next", desc := "(I)I" } : Jvm.MethodName)) ∈ lw_all := lw_g (lw_at lw_m2 150 rfl) rfl
theorem q459 : (Jvm.Cond.interfaceEntry "TreeOdds$Tree" (85 : Nat)) ∈ lw_tbl := lw_at lw_m2 153 rfl
theorem q460 : (Jvm.Cond.methodLink "TreeOdds$Tree" (85 : Nat) ({ cls := "TreeOdds$Seen", name := "sign", desc := "(II)V" } : Jvm.MethodName)) ∈ lw_all := lw_g (lw_at lw_m2 154 rfl) rfl
theorem q463 : (Jvm.Cond.methodLink "TreeOdds$Tree" (90 : Nat) ({ cls := "TreeOdds$Tree", name := "comes", desc := "(I)V" } : Jvm.MethodName)) ∈ lw_all := lw_g (lw_at lw_m2 157 rfl) rfl
theorem in_X1 : ∀ w ∈ wsX10, w ∈ lw_all := lw_in wsX10 [106, 108, 110, 112, 114, 116, 118, 120] (by decide +kernel) (by decide +kernel)
