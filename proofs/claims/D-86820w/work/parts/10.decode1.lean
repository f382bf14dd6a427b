/-! DECODE ROWS BY BYTES: one lemma an opcode; a method's code is cut into short pieces once, and a row reads its own piece alone. -/
set_option maxRecDepth 100000
/-- the code has just these bytes from pc on -/
def DkAt (code : ByteArray) (pc : Nat) (bs : List UInt8) : Prop := ∀ (j : Nat) (b : UInt8), bs[j]? = some b → code.data.toList[pc + j]? = some b
/-- the piece W has the bytes bs from its place j on -/
def dkIn (W : List UInt8) (j : Nat) (bs : List UInt8) : Bool := decide ((W.drop j).take bs.length = bs)
theorem dk_seg {l W T : List UInt8} {o o2 : Nat} (h : l.drop o = W ++ T) (n : Nat) (hn : W.length = n) (ho : o + n = o2) : l.drop o2 = T := by
  subst ho
  rw [← List.drop_drop, h, List.drop_left' hn]
theorem dk_at {code : ByteArray} {W T bs : List UInt8} {o pc : Nat} (h : code.data.toList.drop o = W ++ T) (j : Nat) (hp : o + j = pc) (hw : dkIn W j bs = true) : DkAt code pc bs := by
  subst hp
  intro i b e
  have h1 := of_decide_eq_true hw
  have h2 : i < bs.length := (List.getElem?_eq_some_iff.mp e).1
  have h3 : W[j + i]? = some b := by
    rw [← h1, List.getElem?_take, if_pos h2, List.getElem?_drop] at e
    exact e
  have h4 : j + i < W.length := (List.getElem?_eq_some_iff.mp h3).1
  have h5 : (code.data.toList.drop o)[j + i]? = some b := by
    rw [h, List.getElem?_append_left h4]
    exact h3
  rw [List.getElem?_drop, ← Nat.add_assoc] at h5
  exact h5
theorem dk_u1 {A : ByteArray} {p : Nat} {b : UInt8} (h : A.data.toList[p]? = some b) : (Reader.u1 : Reader DecodeError Nat) A p = .ok (b.toNat, p + 1) := by
  obtain ⟨h1, h2⟩ := List.getElem?_eq_some_iff.mp h
  have h3 : p < A.size := by simpa using h1
  have h4 : A[p]'h3 = b := h2
  have e : (Reader.u1 : Reader DecodeError Nat) A p = (if h : p < A.size then .ok (A[p].toNat, p + 1) else .error (HasTruncated.truncated p)) := by
    show (do if h : p < A.size then do set (p + 1); Pure.pure A[p].toNat else MonadExcept.throw (HasTruncated.truncated p) : Reader DecodeError Nat) A p = _
    by_cases hi : p < A.size
    · rw [dif_pos hi, dif_pos hi]; rfl
    · rw [dif_neg hi, dif_neg hi]; rfl
  rw [e, dif_pos h3, h4]
theorem dk_bind {α β : Type} {r : Reader DecodeError α} {f : α → Reader DecodeError β} {A : ByteArray} {p s : Nat} {a : α} (h : r A p = .ok (a, s)) : (r >>= f) A p = f a A s := by
  show (do let (a, s) ← r A p; f a A s : Except DecodeError (β × Nat)) = _
  rw [h]
  rfl
theorem dk_map {α β : Type} {r : Reader DecodeError α} {g : α → β} {A : ByteArray} {p s : Nat} {a : α} (h : r A p = .ok (a, s)) : (g <$> r) A p = .ok (g a, s) := by
  show (do let (a, s) ← r A p; .ok (g a, s) : Except DecodeError (β × Nat)) = _
  rw [h]
  rfl
theorem dk_u2 {A : ByteArray} {p : Nat} {a b : UInt8} (h : A.data.toList[p]? = some a) (h2 : A.data.toList[p + 1]? = some b) : (Reader.u2 : Reader DecodeError Nat) A p = .ok (a.toNat * 256 + b.toNat, p + 2) := by
  show (Reader.u1 >>= fun hi => Reader.u1 >>= fun lo => Pure.pure (hi * 256 + lo) : Reader DecodeError Nat) A p = _
  rw [dk_bind (dk_u1 h), dk_bind (dk_u1 h2)]
  rfl
theorem dk_of {code : ByteArray} {pc n : Nat} {i : Instr} (h : Decoder.instr pc code pc = .ok (i, pc + n)) : decode code pc = .ok (i, n) := by
  have e : decode code pc = (match Decoder.instr pc code pc with | .error x => .error x | .ok (j, s) => .ok (j, s - pc)) := by
    show (do let (j, s) ← Decoder.instr pc code pc; Pure.pure (j, s - pc) : Except DecodeError (Instr × Nat)) = _
    cases Decoder.instr pc code pc <;> rfl
  rw [e, h]
  show Except.ok (i, pc + n - pc) = _
  rw [Nat.add_sub_cancel_left]
theorem dk_1 {code : ByteArray} {pc : Nat} (h : DkAt code pc [1]) : decode code pc = .ok (.aconst_null, 1) := dk_of ((dk_bind (dk_u1 (h 0 _ rfl))).trans rfl)
theorem dk_2 {code : ByteArray} {pc : Nat} (h : DkAt code pc [2]) : decode code pc = .ok (.iconst (-1), 1) := dk_of ((dk_bind (dk_u1 (h 0 _ rfl))).trans rfl)
theorem dk_3 {code : ByteArray} {pc : Nat} (h : DkAt code pc [3]) : decode code pc = .ok (.iconst 0, 1) := dk_of ((dk_bind (dk_u1 (h 0 _ rfl))).trans rfl)
theorem dk_4 {code : ByteArray} {pc : Nat} (h : DkAt code pc [4]) : decode code pc = .ok (.iconst 1, 1) := dk_of ((dk_bind (dk_u1 (h 0 _ rfl))).trans rfl)
theorem dk_5 {code : ByteArray} {pc : Nat} (h : DkAt code pc [5]) : decode code pc = .ok (.iconst 2, 1) := dk_of ((dk_bind (dk_u1 (h 0 _ rfl))).trans rfl)
theorem dk_6 {code : ByteArray} {pc : Nat} (h : DkAt code pc [6]) : decode code pc = .ok (.iconst 3, 1) := dk_of ((dk_bind (dk_u1 (h 0 _ rfl))).trans rfl)
theorem dk_7 {code : ByteArray} {pc : Nat} (h : DkAt code pc [7]) : decode code pc = .ok (.iconst 4, 1) := dk_of ((dk_bind (dk_u1 (h 0 _ rfl))).trans rfl)
theorem dk_8 {code : ByteArray} {pc : Nat} (h : DkAt code pc [8]) : decode code pc = .ok (.iconst 5, 1) := dk_of ((dk_bind (dk_u1 (h 0 _ rfl))).trans rfl)
theorem dk_9 {code : ByteArray} {pc : Nat} (h : DkAt code pc [9]) : decode code pc = .ok (.lconst 0, 1) := dk_of ((dk_bind (dk_u1 (h 0 _ rfl))).trans rfl)
theorem dk_10 {code : ByteArray} {pc : Nat} (h : DkAt code pc [10]) : decode code pc = .ok (.lconst 1, 1) := dk_of ((dk_bind (dk_u1 (h 0 _ rfl))).trans rfl)
theorem dk_16 {code : ByteArray} {pc : Nat} (a : UInt8) (h : DkAt code pc [16, a]) : decode code pc = .ok (.bipush (Reader.signed 8 a.toNat), 2) := dk_of ((dk_bind (dk_u1 (h 0 _ rfl))).trans ((dk_bind (dk_map (dk_u1 (h 1 _ rfl)))).trans rfl))
theorem dk_17 {code : ByteArray} {pc : Nat} (a b : UInt8) (h : DkAt code pc [17, a, b]) : decode code pc = .ok (.sipush (Reader.signed 16 (a.toNat * 256 + b.toNat)), 3) := dk_of ((dk_bind (dk_u1 (h 0 _ rfl))).trans ((dk_bind (dk_map (dk_u2 (h 1 _ rfl) (h 2 _ rfl)))).trans rfl))
theorem dk_18 {code : ByteArray} {pc : Nat} (a : UInt8) (h : DkAt code pc [18, a]) : decode code pc = .ok (.ldc a.toNat, 2) := dk_of ((dk_bind (dk_u1 (h 0 _ rfl))).trans ((dk_bind (dk_u1 (h 1 _ rfl))).trans rfl))
theorem dk_19 {code : ByteArray} {pc : Nat} (a b : UInt8) (h : DkAt code pc [19, a, b]) : decode code pc = .ok (.ldc_w (a.toNat * 256 + b.toNat), 3) := dk_of ((dk_bind (dk_u1 (h 0 _ rfl))).trans ((dk_bind (dk_u2 (h 1 _ rfl) (h 2 _ rfl))).trans rfl))
theorem dk_20 {code : ByteArray} {pc : Nat} (a b : UInt8) (h : DkAt code pc [20, a, b]) : decode code pc = .ok (.ldc2_w (a.toNat * 256 + b.toNat), 3) := dk_of ((dk_bind (dk_u1 (h 0 _ rfl))).trans ((dk_bind (dk_u2 (h 1 _ rfl) (h 2 _ rfl))).trans rfl))
theorem dk_21 {code : ByteArray} {pc : Nat} (a : UInt8) (h : DkAt code pc [21, a]) : decode code pc = .ok (.iload a.toNat, 2) := dk_of ((dk_bind (dk_u1 (h 0 _ rfl))).trans ((dk_bind (dk_u1 (h 1 _ rfl))).trans rfl))
theorem dk_22 {code : ByteArray} {pc : Nat} (a : UInt8) (h : DkAt code pc [22, a]) : decode code pc = .ok (.lload a.toNat, 2) := dk_of ((dk_bind (dk_u1 (h 0 _ rfl))).trans ((dk_bind (dk_u1 (h 1 _ rfl))).trans rfl))
theorem dk_25 {code : ByteArray} {pc : Nat} (a : UInt8) (h : DkAt code pc [25, a]) : decode code pc = .ok (.aload a.toNat, 2) := dk_of ((dk_bind (dk_u1 (h 0 _ rfl))).trans ((dk_bind (dk_u1 (h 1 _ rfl))).trans rfl))
theorem dk_26 {code : ByteArray} {pc : Nat} (h : DkAt code pc [26]) : decode code pc = .ok (.iload_n 0, 1) := dk_of ((dk_bind (dk_u1 (h 0 _ rfl))).trans rfl)
theorem dk_27 {code : ByteArray} {pc : Nat} (h : DkAt code pc [27]) : decode code pc = .ok (.iload_n 1, 1) := dk_of ((dk_bind (dk_u1 (h 0 _ rfl))).trans rfl)
theorem dk_28 {code : ByteArray} {pc : Nat} (h : DkAt code pc [28]) : decode code pc = .ok (.iload_n 2, 1) := dk_of ((dk_bind (dk_u1 (h 0 _ rfl))).trans rfl)
theorem dk_29 {code : ByteArray} {pc : Nat} (h : DkAt code pc [29]) : decode code pc = .ok (.iload_n 3, 1) := dk_of ((dk_bind (dk_u1 (h 0 _ rfl))).trans rfl)
theorem dk_30 {code : ByteArray} {pc : Nat} (h : DkAt code pc [30]) : decode code pc = .ok (.lload_n 0, 1) := dk_of ((dk_bind (dk_u1 (h 0 _ rfl))).trans rfl)
theorem dk_31 {code : ByteArray} {pc : Nat} (h : DkAt code pc [31]) : decode code pc = .ok (.lload_n 1, 1) := dk_of ((dk_bind (dk_u1 (h 0 _ rfl))).trans rfl)
theorem dk_32 {code : ByteArray} {pc : Nat} (h : DkAt code pc [32]) : decode code pc = .ok (.lload_n 2, 1) := dk_of ((dk_bind (dk_u1 (h 0 _ rfl))).trans rfl)
theorem dk_33 {code : ByteArray} {pc : Nat} (h : DkAt code pc [33]) : decode code pc = .ok (.lload_n 3, 1) := dk_of ((dk_bind (dk_u1 (h 0 _ rfl))).trans rfl)
theorem dk_42 {code : ByteArray} {pc : Nat} (h : DkAt code pc [42]) : decode code pc = .ok (.aload_n 0, 1) := dk_of ((dk_bind (dk_u1 (h 0 _ rfl))).trans rfl)
theorem dk_43 {code : ByteArray} {pc : Nat} (h : DkAt code pc [43]) : decode code pc = .ok (.aload_n 1, 1) := dk_of ((dk_bind (dk_u1 (h 0 _ rfl))).trans rfl)
theorem dk_44 {code : ByteArray} {pc : Nat} (h : DkAt code pc [44]) : decode code pc = .ok (.aload_n 2, 1) := dk_of ((dk_bind (dk_u1 (h 0 _ rfl))).trans rfl)
theorem dk_45 {code : ByteArray} {pc : Nat} (h : DkAt code pc [45]) : decode code pc = .ok (.aload_n 3, 1) := dk_of ((dk_bind (dk_u1 (h 0 _ rfl))).trans rfl)
theorem dk_46 {code : ByteArray} {pc : Nat} (h : DkAt code pc [46]) : decode code pc = .ok (.iaload, 1) := dk_of ((dk_bind (dk_u1 (h 0 _ rfl))).trans rfl)
theorem dk_47 {code : ByteArray} {pc : Nat} (h : DkAt code pc [47]) : decode code pc = .ok (.laload, 1) := dk_of ((dk_bind (dk_u1 (h 0 _ rfl))).trans rfl)
theorem dk_50 {code : ByteArray} {pc : Nat} (h : DkAt code pc [50]) : decode code pc = .ok (.aaload, 1) := dk_of ((dk_bind (dk_u1 (h 0 _ rfl))).trans rfl)
theorem dk_51 {code : ByteArray} {pc : Nat} (h : DkAt code pc [51]) : decode code pc = .ok (.baload, 1) := dk_of ((dk_bind (dk_u1 (h 0 _ rfl))).trans rfl)
theorem dk_54 {code : ByteArray} {pc : Nat} (a : UInt8) (h : DkAt code pc [54, a]) : decode code pc = .ok (.istore a.toNat, 2) := dk_of ((dk_bind (dk_u1 (h 0 _ rfl))).trans ((dk_bind (dk_u1 (h 1 _ rfl))).trans rfl))
theorem dk_55 {code : ByteArray} {pc : Nat} (a : UInt8) (h : DkAt code pc [55, a]) : decode code pc = .ok (.lstore a.toNat, 2) := dk_of ((dk_bind (dk_u1 (h 0 _ rfl))).trans ((dk_bind (dk_u1 (h 1 _ rfl))).trans rfl))
theorem dk_58 {code : ByteArray} {pc : Nat} (a : UInt8) (h : DkAt code pc [58, a]) : decode code pc = .ok (.astore a.toNat, 2) := dk_of ((dk_bind (dk_u1 (h 0 _ rfl))).trans ((dk_bind (dk_u1 (h 1 _ rfl))).trans rfl))
theorem dk_59 {code : ByteArray} {pc : Nat} (h : DkAt code pc [59]) : decode code pc = .ok (.istore_n 0, 1) := dk_of ((dk_bind (dk_u1 (h 0 _ rfl))).trans rfl)
theorem dk_60 {code : ByteArray} {pc : Nat} (h : DkAt code pc [60]) : decode code pc = .ok (.istore_n 1, 1) := dk_of ((dk_bind (dk_u1 (h 0 _ rfl))).trans rfl)
theorem dk_61 {code : ByteArray} {pc : Nat} (h : DkAt code pc [61]) : decode code pc = .ok (.istore_n 2, 1) := dk_of ((dk_bind (dk_u1 (h 0 _ rfl))).trans rfl)
theorem dk_62 {code : ByteArray} {pc : Nat} (h : DkAt code pc [62]) : decode code pc = .ok (.istore_n 3, 1) := dk_of ((dk_bind (dk_u1 (h 0 _ rfl))).trans rfl)
theorem dk_64 {code : ByteArray} {pc : Nat} (h : DkAt code pc [64]) : decode code pc = .ok (.lstore_n 1, 1) := dk_of ((dk_bind (dk_u1 (h 0 _ rfl))).trans rfl)
theorem dk_76 {code : ByteArray} {pc : Nat} (h : DkAt code pc [76]) : decode code pc = .ok (.astore_n 1, 1) := dk_of ((dk_bind (dk_u1 (h 0 _ rfl))).trans rfl)
theorem dk_77 {code : ByteArray} {pc : Nat} (h : DkAt code pc [77]) : decode code pc = .ok (.astore_n 2, 1) := dk_of ((dk_bind (dk_u1 (h 0 _ rfl))).trans rfl)
theorem dk_78 {code : ByteArray} {pc : Nat} (h : DkAt code pc [78]) : decode code pc = .ok (.astore_n 3, 1) := dk_of ((dk_bind (dk_u1 (h 0 _ rfl))).trans rfl)
theorem dk_79 {code : ByteArray} {pc : Nat} (h : DkAt code pc [79]) : decode code pc = .ok (.iastore, 1) := dk_of ((dk_bind (dk_u1 (h 0 _ rfl))).trans rfl)
theorem dk_80 {code : ByteArray} {pc : Nat} (h : DkAt code pc [80]) : decode code pc = .ok (.lastore, 1) := dk_of ((dk_bind (dk_u1 (h 0 _ rfl))).trans rfl)
theorem dk_83 {code : ByteArray} {pc : Nat} (h : DkAt code pc [83]) : decode code pc = .ok (.aastore, 1) := dk_of ((dk_bind (dk_u1 (h 0 _ rfl))).trans rfl)
theorem dk_84 {code : ByteArray} {pc : Nat} (h : DkAt code pc [84]) : decode code pc = .ok (.bastore, 1) := dk_of ((dk_bind (dk_u1 (h 0 _ rfl))).trans rfl)
theorem dk_87 {code : ByteArray} {pc : Nat} (h : DkAt code pc [87]) : decode code pc = .ok (.pop, 1) := dk_of ((dk_bind (dk_u1 (h 0 _ rfl))).trans rfl)
theorem dk_89 {code : ByteArray} {pc : Nat} (h : DkAt code pc [89]) : decode code pc = .ok (.dup, 1) := dk_of ((dk_bind (dk_u1 (h 0 _ rfl))).trans rfl)
theorem dk_90 {code : ByteArray} {pc : Nat} (h : DkAt code pc [90]) : decode code pc = .ok (.dup_x1, 1) := dk_of ((dk_bind (dk_u1 (h 0 _ rfl))).trans rfl)
theorem dk_92 {code : ByteArray} {pc : Nat} (h : DkAt code pc [92]) : decode code pc = .ok (.dup2, 1) := dk_of ((dk_bind (dk_u1 (h 0 _ rfl))).trans rfl)
theorem dk_96 {code : ByteArray} {pc : Nat} (h : DkAt code pc [96]) : decode code pc = .ok (.iadd, 1) := dk_of ((dk_bind (dk_u1 (h 0 _ rfl))).trans rfl)
theorem dk_97 {code : ByteArray} {pc : Nat} (h : DkAt code pc [97]) : decode code pc = .ok (.ladd, 1) := dk_of ((dk_bind (dk_u1 (h 0 _ rfl))).trans rfl)
theorem dk_100 {code : ByteArray} {pc : Nat} (h : DkAt code pc [100]) : decode code pc = .ok (.isub, 1) := dk_of ((dk_bind (dk_u1 (h 0 _ rfl))).trans rfl)
theorem dk_101 {code : ByteArray} {pc : Nat} (h : DkAt code pc [101]) : decode code pc = .ok (.lsub, 1) := dk_of ((dk_bind (dk_u1 (h 0 _ rfl))).trans rfl)
theorem dk_104 {code : ByteArray} {pc : Nat} (h : DkAt code pc [104]) : decode code pc = .ok (.imul, 1) := dk_of ((dk_bind (dk_u1 (h 0 _ rfl))).trans rfl)
theorem dk_105 {code : ByteArray} {pc : Nat} (h : DkAt code pc [105]) : decode code pc = .ok (.lmul, 1) := dk_of ((dk_bind (dk_u1 (h 0 _ rfl))).trans rfl)
theorem dk_108 {code : ByteArray} {pc : Nat} (h : DkAt code pc [108]) : decode code pc = .ok (.idiv, 1) := dk_of ((dk_bind (dk_u1 (h 0 _ rfl))).trans rfl)
theorem dk_109 {code : ByteArray} {pc : Nat} (h : DkAt code pc [109]) : decode code pc = .ok (.ldiv, 1) := dk_of ((dk_bind (dk_u1 (h 0 _ rfl))).trans rfl)
theorem dk_112 {code : ByteArray} {pc : Nat} (h : DkAt code pc [112]) : decode code pc = .ok (.irem, 1) := dk_of ((dk_bind (dk_u1 (h 0 _ rfl))).trans rfl)
theorem dk_113 {code : ByteArray} {pc : Nat} (h : DkAt code pc [113]) : decode code pc = .ok (.lrem, 1) := dk_of ((dk_bind (dk_u1 (h 0 _ rfl))).trans rfl)
theorem dk_120 {code : ByteArray} {pc : Nat} (h : DkAt code pc [120]) : decode code pc = .ok (.ishl, 1) := dk_of ((dk_bind (dk_u1 (h 0 _ rfl))).trans rfl)
theorem dk_121 {code : ByteArray} {pc : Nat} (h : DkAt code pc [121]) : decode code pc = .ok (.lshl, 1) := dk_of ((dk_bind (dk_u1 (h 0 _ rfl))).trans rfl)
theorem dk_122 {code : ByteArray} {pc : Nat} (h : DkAt code pc [122]) : decode code pc = .ok (.ishr, 1) := dk_of ((dk_bind (dk_u1 (h 0 _ rfl))).trans rfl)
theorem dk_124 {code : ByteArray} {pc : Nat} (h : DkAt code pc [124]) : decode code pc = .ok (.iushr, 1) := dk_of ((dk_bind (dk_u1 (h 0 _ rfl))).trans rfl)
theorem dk_126 {code : ByteArray} {pc : Nat} (h : DkAt code pc [126]) : decode code pc = .ok (.iand, 1) := dk_of ((dk_bind (dk_u1 (h 0 _ rfl))).trans rfl)
theorem dk_127 {code : ByteArray} {pc : Nat} (h : DkAt code pc [127]) : decode code pc = .ok (.land, 1) := dk_of ((dk_bind (dk_u1 (h 0 _ rfl))).trans rfl)
theorem dk_128 {code : ByteArray} {pc : Nat} (h : DkAt code pc [128]) : decode code pc = .ok (.ior, 1) := dk_of ((dk_bind (dk_u1 (h 0 _ rfl))).trans rfl)
theorem dk_129 {code : ByteArray} {pc : Nat} (h : DkAt code pc [129]) : decode code pc = .ok (.lor, 1) := dk_of ((dk_bind (dk_u1 (h 0 _ rfl))).trans rfl)
theorem dk_131 {code : ByteArray} {pc : Nat} (h : DkAt code pc [131]) : decode code pc = .ok (.lxor, 1) := dk_of ((dk_bind (dk_u1 (h 0 _ rfl))).trans rfl)
theorem dk_132 {code : ByteArray} {pc : Nat} (a b : UInt8) (h : DkAt code pc [132, a, b]) : decode code pc = .ok (.iinc a.toNat (Reader.signed 8 b.toNat), 3) := dk_of ((dk_bind (dk_u1 (h 0 _ rfl))).trans ((dk_bind (dk_u1 (h 1 _ rfl))).trans ((dk_bind (dk_map (dk_u1 (h 2 _ rfl)))).trans rfl)))
theorem dk_133 {code : ByteArray} {pc : Nat} (h : DkAt code pc [133]) : decode code pc = .ok (.i2l, 1) := dk_of ((dk_bind (dk_u1 (h 0 _ rfl))).trans rfl)
theorem dk_136 {code : ByteArray} {pc : Nat} (h : DkAt code pc [136]) : decode code pc = .ok (.l2i, 1) := dk_of ((dk_bind (dk_u1 (h 0 _ rfl))).trans rfl)
theorem dk_148 {code : ByteArray} {pc : Nat} (h : DkAt code pc [148]) : decode code pc = .ok (.lcmp, 1) := dk_of ((dk_bind (dk_u1 (h 0 _ rfl))).trans rfl)
theorem dk_153 {code : ByteArray} {pc : Nat} (a b : UInt8) (h : DkAt code pc [153, a, b]) : decode code pc = .ok (.ifCond .eq (Reader.signed 16 (a.toNat * 256 + b.toNat)), 3) := dk_of ((dk_bind (dk_u1 (h 0 _ rfl))).trans ((dk_bind (dk_map (dk_u2 (h 1 _ rfl) (h 2 _ rfl)))).trans rfl))
theorem dk_154 {code : ByteArray} {pc : Nat} (a b : UInt8) (h : DkAt code pc [154, a, b]) : decode code pc = .ok (.ifCond .ne (Reader.signed 16 (a.toNat * 256 + b.toNat)), 3) := dk_of ((dk_bind (dk_u1 (h 0 _ rfl))).trans ((dk_bind (dk_map (dk_u2 (h 1 _ rfl) (h 2 _ rfl)))).trans rfl))
theorem dk_155 {code : ByteArray} {pc : Nat} (a b : UInt8) (h : DkAt code pc [155, a, b]) : decode code pc = .ok (.ifCond .lt (Reader.signed 16 (a.toNat * 256 + b.toNat)), 3) := dk_of ((dk_bind (dk_u1 (h 0 _ rfl))).trans ((dk_bind (dk_map (dk_u2 (h 1 _ rfl) (h 2 _ rfl)))).trans rfl))
theorem dk_156 {code : ByteArray} {pc : Nat} (a b : UInt8) (h : DkAt code pc [156, a, b]) : decode code pc = .ok (.ifCond .ge (Reader.signed 16 (a.toNat * 256 + b.toNat)), 3) := dk_of ((dk_bind (dk_u1 (h 0 _ rfl))).trans ((dk_bind (dk_map (dk_u2 (h 1 _ rfl) (h 2 _ rfl)))).trans rfl))
theorem dk_157 {code : ByteArray} {pc : Nat} (a b : UInt8) (h : DkAt code pc [157, a, b]) : decode code pc = .ok (.ifCond .gt (Reader.signed 16 (a.toNat * 256 + b.toNat)), 3) := dk_of ((dk_bind (dk_u1 (h 0 _ rfl))).trans ((dk_bind (dk_map (dk_u2 (h 1 _ rfl) (h 2 _ rfl)))).trans rfl))
theorem dk_158 {code : ByteArray} {pc : Nat} (a b : UInt8) (h : DkAt code pc [158, a, b]) : decode code pc = .ok (.ifCond .le (Reader.signed 16 (a.toNat * 256 + b.toNat)), 3) := dk_of ((dk_bind (dk_u1 (h 0 _ rfl))).trans ((dk_bind (dk_map (dk_u2 (h 1 _ rfl) (h 2 _ rfl)))).trans rfl))
theorem dk_159 {code : ByteArray} {pc : Nat} (a b : UInt8) (h : DkAt code pc [159, a, b]) : decode code pc = .ok (.if_icmp .eq (Reader.signed 16 (a.toNat * 256 + b.toNat)), 3) := dk_of ((dk_bind (dk_u1 (h 0 _ rfl))).trans ((dk_bind (dk_map (dk_u2 (h 1 _ rfl) (h 2 _ rfl)))).trans rfl))
theorem dk_160 {code : ByteArray} {pc : Nat} (a b : UInt8) (h : DkAt code pc [160, a, b]) : decode code pc = .ok (.if_icmp .ne (Reader.signed 16 (a.toNat * 256 + b.toNat)), 3) := dk_of ((dk_bind (dk_u1 (h 0 _ rfl))).trans ((dk_bind (dk_map (dk_u2 (h 1 _ rfl) (h 2 _ rfl)))).trans rfl))
theorem dk_161 {code : ByteArray} {pc : Nat} (a b : UInt8) (h : DkAt code pc [161, a, b]) : decode code pc = .ok (.if_icmp .lt (Reader.signed 16 (a.toNat * 256 + b.toNat)), 3) := dk_of ((dk_bind (dk_u1 (h 0 _ rfl))).trans ((dk_bind (dk_map (dk_u2 (h 1 _ rfl) (h 2 _ rfl)))).trans rfl))
theorem dk_162 {code : ByteArray} {pc : Nat} (a b : UInt8) (h : DkAt code pc [162, a, b]) : decode code pc = .ok (.if_icmp .ge (Reader.signed 16 (a.toNat * 256 + b.toNat)), 3) := dk_of ((dk_bind (dk_u1 (h 0 _ rfl))).trans ((dk_bind (dk_map (dk_u2 (h 1 _ rfl) (h 2 _ rfl)))).trans rfl))
theorem dk_163 {code : ByteArray} {pc : Nat} (a b : UInt8) (h : DkAt code pc [163, a, b]) : decode code pc = .ok (.if_icmp .gt (Reader.signed 16 (a.toNat * 256 + b.toNat)), 3) := dk_of ((dk_bind (dk_u1 (h 0 _ rfl))).trans ((dk_bind (dk_map (dk_u2 (h 1 _ rfl) (h 2 _ rfl)))).trans rfl))
theorem dk_164 {code : ByteArray} {pc : Nat} (a b : UInt8) (h : DkAt code pc [164, a, b]) : decode code pc = .ok (.if_icmp .le (Reader.signed 16 (a.toNat * 256 + b.toNat)), 3) := dk_of ((dk_bind (dk_u1 (h 0 _ rfl))).trans ((dk_bind (dk_map (dk_u2 (h 1 _ rfl) (h 2 _ rfl)))).trans rfl))
theorem dk_165 {code : ByteArray} {pc : Nat} (a b : UInt8) (h : DkAt code pc [165, a, b]) : decode code pc = .ok (.if_acmp .eq (Reader.signed 16 (a.toNat * 256 + b.toNat)), 3) := dk_of ((dk_bind (dk_u1 (h 0 _ rfl))).trans ((dk_bind (dk_map (dk_u2 (h 1 _ rfl) (h 2 _ rfl)))).trans rfl))
theorem dk_166 {code : ByteArray} {pc : Nat} (a b : UInt8) (h : DkAt code pc [166, a, b]) : decode code pc = .ok (.if_acmp .ne (Reader.signed 16 (a.toNat * 256 + b.toNat)), 3) := dk_of ((dk_bind (dk_u1 (h 0 _ rfl))).trans ((dk_bind (dk_map (dk_u2 (h 1 _ rfl) (h 2 _ rfl)))).trans rfl))
theorem dk_167 {code : ByteArray} {pc : Nat} (a b : UInt8) (h : DkAt code pc [167, a, b]) : decode code pc = .ok (.goto (Reader.signed 16 (a.toNat * 256 + b.toNat)), 3) := dk_of ((dk_bind (dk_u1 (h 0 _ rfl))).trans ((dk_bind (dk_map (dk_u2 (h 1 _ rfl) (h 2 _ rfl)))).trans rfl))
theorem dk_172 {code : ByteArray} {pc : Nat} (h : DkAt code pc [172]) : decode code pc = .ok (.ireturn, 1) := dk_of ((dk_bind (dk_u1 (h 0 _ rfl))).trans rfl)
theorem dk_173 {code : ByteArray} {pc : Nat} (h : DkAt code pc [173]) : decode code pc = .ok (.lreturn, 1) := dk_of ((dk_bind (dk_u1 (h 0 _ rfl))).trans rfl)
theorem dk_176 {code : ByteArray} {pc : Nat} (h : DkAt code pc [176]) : decode code pc = .ok (.areturn, 1) := dk_of ((dk_bind (dk_u1 (h 0 _ rfl))).trans rfl)
theorem dk_177 {code : ByteArray} {pc : Nat} (h : DkAt code pc [177]) : decode code pc = .ok (.return_, 1) := dk_of ((dk_bind (dk_u1 (h 0 _ rfl))).trans rfl)
theorem dk_178 {code : ByteArray} {pc : Nat} (a b : UInt8) (h : DkAt code pc [178, a, b]) : decode code pc = .ok (.getstatic (a.toNat * 256 + b.toNat), 3) := dk_of ((dk_bind (dk_u1 (h 0 _ rfl))).trans ((dk_bind (dk_u2 (h 1 _ rfl) (h 2 _ rfl))).trans rfl))
theorem dk_180 {code : ByteArray} {pc : Nat} (a b : UInt8) (h : DkAt code pc [180, a, b]) : decode code pc = .ok (.getfield (a.toNat * 256 + b.toNat), 3) := dk_of ((dk_bind (dk_u1 (h 0 _ rfl))).trans ((dk_bind (dk_u2 (h 1 _ rfl) (h 2 _ rfl))).trans rfl))
theorem dk_181 {code : ByteArray} {pc : Nat} (a b : UInt8) (h : DkAt code pc [181, a, b]) : decode code pc = .ok (.putfield (a.toNat * 256 + b.toNat), 3) := dk_of ((dk_bind (dk_u1 (h 0 _ rfl))).trans ((dk_bind (dk_u2 (h 1 _ rfl) (h 2 _ rfl))).trans rfl))
theorem dk_182 {code : ByteArray} {pc : Nat} (a b : UInt8) (h : DkAt code pc [182, a, b]) : decode code pc = .ok (.invokevirtual (a.toNat * 256 + b.toNat), 3) := dk_of ((dk_bind (dk_u1 (h 0 _ rfl))).trans ((dk_bind (dk_u2 (h 1 _ rfl) (h 2 _ rfl))).trans rfl))
theorem dk_183 {code : ByteArray} {pc : Nat} (a b : UInt8) (h : DkAt code pc [183, a, b]) : decode code pc = .ok (.invokespecial (a.toNat * 256 + b.toNat), 3) := dk_of ((dk_bind (dk_u1 (h 0 _ rfl))).trans ((dk_bind (dk_u2 (h 1 _ rfl) (h 2 _ rfl))).trans rfl))
theorem dk_184 {code : ByteArray} {pc : Nat} (a b : UInt8) (h : DkAt code pc [184, a, b]) : decode code pc = .ok (.invokestatic (a.toNat * 256 + b.toNat), 3) := dk_of ((dk_bind (dk_u1 (h 0 _ rfl))).trans ((dk_bind (dk_u2 (h 1 _ rfl) (h 2 _ rfl))).trans rfl))
theorem dk_187 {code : ByteArray} {pc : Nat} (a b : UInt8) (h : DkAt code pc [187, a, b]) : decode code pc = .ok (.new (a.toNat * 256 + b.toNat), 3) := dk_of ((dk_bind (dk_u1 (h 0 _ rfl))).trans ((dk_bind (dk_u2 (h 1 _ rfl) (h 2 _ rfl))).trans rfl))
theorem dk_188_4 {code : ByteArray} {pc : Nat} (h : DkAt code pc [188, 4]) : decode code pc = .ok (.newarray .boolean, 2) := dk_of ((dk_bind (dk_u1 (h 0 _ rfl))).trans ((dk_bind (dk_u1 (h 1 _ rfl))).trans rfl))
theorem dk_188_10 {code : ByteArray} {pc : Nat} (h : DkAt code pc [188, 10]) : decode code pc = .ok (.newarray .int, 2) := dk_of ((dk_bind (dk_u1 (h 0 _ rfl))).trans ((dk_bind (dk_u1 (h 1 _ rfl))).trans rfl))
theorem dk_188_11 {code : ByteArray} {pc : Nat} (h : DkAt code pc [188, 11]) : decode code pc = .ok (.newarray .long, 2) := dk_of ((dk_bind (dk_u1 (h 0 _ rfl))).trans ((dk_bind (dk_u1 (h 1 _ rfl))).trans rfl))
theorem dk_189 {code : ByteArray} {pc : Nat} (a b : UInt8) (h : DkAt code pc [189, a, b]) : decode code pc = .ok (.anewarray (a.toNat * 256 + b.toNat), 3) := dk_of ((dk_bind (dk_u1 (h 0 _ rfl))).trans ((dk_bind (dk_u2 (h 1 _ rfl) (h 2 _ rfl))).trans rfl))
theorem dk_190 {code : ByteArray} {pc : Nat} (h : DkAt code pc [190]) : decode code pc = .ok (.arraylength, 1) := dk_of ((dk_bind (dk_u1 (h 0 _ rfl))).trans rfl)
theorem dk_191 {code : ByteArray} {pc : Nat} (h : DkAt code pc [191]) : decode code pc = .ok (.athrow, 1) := dk_of ((dk_bind (dk_u1 (h 0 _ rfl))).trans rfl)
theorem dk_192 {code : ByteArray} {pc : Nat} (a b : UInt8) (h : DkAt code pc [192, a, b]) : decode code pc = .ok (.checkcast (a.toNat * 256 + b.toNat), 3) := dk_of ((dk_bind (dk_u1 (h 0 _ rfl))).trans ((dk_bind (dk_u2 (h 1 _ rfl) (h 2 _ rfl))).trans rfl))
theorem dk_198 {code : ByteArray} {pc : Nat} (a b : UInt8) (h : DkAt code pc [198, a, b]) : decode code pc = .ok (.ifnull (Reader.signed 16 (a.toNat * 256 + b.toNat)), 3) := dk_of ((dk_bind (dk_u1 (h 0 _ rfl))).trans ((dk_bind (dk_map (dk_u2 (h 1 _ rfl) (h 2 _ rfl)))).trans rfl))
theorem dk_199 {code : ByteArray} {pc : Nat} (a b : UInt8) (h : DkAt code pc [199, a, b]) : decode code pc = .ok (.ifnonnull (Reader.signed 16 (a.toNat * 256 + b.toNat)), 3) := dk_of ((dk_bind (dk_u1 (h 0 _ rfl))).trans ((dk_bind (dk_map (dk_u2 (h 1 _ rfl) (h 2 _ rfl)))).trans rfl))

set_option maxRecDepth 100000
theorem dJ0_init_0 : decode cJ0_init 0 = .ok (.aload_n 0, 1) := by decide +kernel
theorem dJ0_init_1 : decode cJ0_init 1 = .ok (.invokespecial 1, 3) := by decide +kernel
theorem dJ0_init_4 : decode cJ0_init 4 = .ok (.return_, 1) := by decide +kernel
def dkwJ1_init_0 : List UInt8 := [42, 183, 0, 1, 42, 3, 181, 0, 7, 177]
abbrev dktJ1_init_0 : List UInt8 := dkwJ1_init_0 ++ []
theorem dksJ1_init_0 : cJ1_init.data.toList.drop 0 = dktJ1_init_0 := by decide +kernel
theorem dJ1_init_0 : decode cJ1_init 0 = .ok (.aload_n 0, 1) := dk_42 (dk_at dksJ1_init_0 0 rfl rfl)
theorem dJ1_init_1 : decode cJ1_init 1 = .ok (.invokespecial 1, 3) := dk_183 0 1 (dk_at dksJ1_init_0 1 rfl rfl)
theorem dJ1_init_4 : decode cJ1_init 4 = .ok (.aload_n 0, 1) := dk_42 (dk_at dksJ1_init_0 4 rfl rfl)
theorem dJ1_init_5 : decode cJ1_init 5 = .ok (.iconst 0, 1) := dk_3 (dk_at dksJ1_init_0 5 rfl rfl)
theorem dJ1_init_6 : decode cJ1_init 6 = .ok (.putfield 7, 3) := dk_181 0 7 (dk_at dksJ1_init_0 6 rfl rfl)
theorem dJ1_init_9 : decode cJ1_init 9 = .ok (.return_, 1) := dk_177 (dk_at dksJ1_init_0 9 rfl rfl)
def dkwJ10_init_0 : List UInt8 := [42, 43, 44, 29, 21, 4, 183, 0, 16, 177]
abbrev dktJ10_init_0 : List UInt8 := dkwJ10_init_0 ++ []
theorem dksJ10_init_0 : cJ10_init.data.toList.drop 0 = dktJ10_init_0 := by decide +kernel
theorem dJ10_init_0 : decode cJ10_init 0 = .ok (.aload_n 0, 1) := dk_42 (dk_at dksJ10_init_0 0 rfl rfl)
theorem dJ10_init_1 : decode cJ10_init 1 = .ok (.aload_n 1, 1) := dk_43 (dk_at dksJ10_init_0 1 rfl rfl)
theorem dJ10_init_2 : decode cJ10_init 2 = .ok (.aload_n 2, 1) := dk_44 (dk_at dksJ10_init_0 2 rfl rfl)
theorem dJ10_init_3 : decode cJ10_init 3 = .ok (.iload_n 3, 1) := dk_29 (dk_at dksJ10_init_0 3 rfl rfl)
theorem dJ10_init_4 : decode cJ10_init 4 = .ok (.iload 4, 2) := dk_21 4 (dk_at dksJ10_init_0 4 rfl rfl)
theorem dJ10_init_6 : decode cJ10_init 6 = .ok (.invokespecial 16, 3) := dk_183 0 16 (dk_at dksJ10_init_0 6 rfl rfl)
theorem dJ10_init_9 : decode cJ10_init 9 = .ok (.return_, 1) := dk_177 (dk_at dksJ10_init_0 9 rfl rfl)
def dkwJ11_bitCount_2 : List UInt8 := [26, 16, 63, 126, 172]
abbrev dktJ11_bitCount_2 : List UInt8 := dkwJ11_bitCount_2 ++ []
def dkwJ11_bitCount_1 : List UInt8 := [26, 26, 7, 124, 96, 19, 1, 11, 126, 59, 26, 26, 16, 8, 124, 96, 59, 26, 26, 16, 16, 124, 96, 59]
abbrev dktJ11_bitCount_1 : List UInt8 := dkwJ11_bitCount_1 ++ dktJ11_bitCount_2
def dkwJ11_bitCount_0 : List UInt8 := [26, 26, 4, 124, 19, 1, 9, 126, 100, 59, 26, 19, 1, 10, 126, 26, 5, 124, 19, 1, 10, 126, 96, 59]
abbrev dktJ11_bitCount_0 : List UInt8 := dkwJ11_bitCount_0 ++ dktJ11_bitCount_1
theorem dksJ11_bitCount_0 : cJ11_bitCount.data.toList.drop 0 = dktJ11_bitCount_0 := by decide +kernel
theorem dksJ11_bitCount_1 : cJ11_bitCount.data.toList.drop 24 = dktJ11_bitCount_1 := dk_seg dksJ11_bitCount_0 24 rfl rfl
theorem dksJ11_bitCount_2 : cJ11_bitCount.data.toList.drop 48 = dktJ11_bitCount_2 := dk_seg dksJ11_bitCount_1 24 rfl rfl
theorem dJ11_bitCount_0 : decode cJ11_bitCount 0 = .ok (.iload_n 0, 1) := dk_26 (dk_at dksJ11_bitCount_0 0 rfl rfl)
theorem dJ11_bitCount_1 : decode cJ11_bitCount 1 = .ok (.iload_n 0, 1) := dk_26 (dk_at dksJ11_bitCount_0 1 rfl rfl)
theorem dJ11_bitCount_2 : decode cJ11_bitCount 2 = .ok (.iconst 1, 1) := dk_4 (dk_at dksJ11_bitCount_0 2 rfl rfl)
theorem dJ11_bitCount_3 : decode cJ11_bitCount 3 = .ok (.iushr, 1) := dk_124 (dk_at dksJ11_bitCount_0 3 rfl rfl)
theorem dJ11_bitCount_4 : decode cJ11_bitCount 4 = .ok (.ldc_w 265, 3) := dk_19 1 9 (dk_at dksJ11_bitCount_0 4 rfl rfl)
theorem dJ11_bitCount_7 : decode cJ11_bitCount 7 = .ok (.iand, 1) := dk_126 (dk_at dksJ11_bitCount_0 7 rfl rfl)
theorem dJ11_bitCount_8 : decode cJ11_bitCount 8 = .ok (.isub, 1) := dk_100 (dk_at dksJ11_bitCount_0 8 rfl rfl)
theorem dJ11_bitCount_9 : decode cJ11_bitCount 9 = .ok (.istore_n 0, 1) := dk_59 (dk_at dksJ11_bitCount_0 9 rfl rfl)
theorem dJ11_bitCount_10 : decode cJ11_bitCount 10 = .ok (.iload_n 0, 1) := dk_26 (dk_at dksJ11_bitCount_0 10 rfl rfl)
theorem dJ11_bitCount_11 : decode cJ11_bitCount 11 = .ok (.ldc_w 266, 3) := dk_19 1 10 (dk_at dksJ11_bitCount_0 11 rfl rfl)
theorem dJ11_bitCount_14 : decode cJ11_bitCount 14 = .ok (.iand, 1) := dk_126 (dk_at dksJ11_bitCount_0 14 rfl rfl)
theorem dJ11_bitCount_15 : decode cJ11_bitCount 15 = .ok (.iload_n 0, 1) := dk_26 (dk_at dksJ11_bitCount_0 15 rfl rfl)
theorem dJ11_bitCount_16 : decode cJ11_bitCount 16 = .ok (.iconst 2, 1) := dk_5 (dk_at dksJ11_bitCount_0 16 rfl rfl)
theorem dJ11_bitCount_17 : decode cJ11_bitCount 17 = .ok (.iushr, 1) := dk_124 (dk_at dksJ11_bitCount_0 17 rfl rfl)
theorem dJ11_bitCount_18 : decode cJ11_bitCount 18 = .ok (.ldc_w 266, 3) := dk_19 1 10 (dk_at dksJ11_bitCount_0 18 rfl rfl)
theorem dJ11_bitCount_21 : decode cJ11_bitCount 21 = .ok (.iand, 1) := dk_126 (dk_at dksJ11_bitCount_0 21 rfl rfl)
theorem dJ11_bitCount_22 : decode cJ11_bitCount 22 = .ok (.iadd, 1) := dk_96 (dk_at dksJ11_bitCount_0 22 rfl rfl)
theorem dJ11_bitCount_23 : decode cJ11_bitCount 23 = .ok (.istore_n 0, 1) := dk_59 (dk_at dksJ11_bitCount_0 23 rfl rfl)
theorem dJ11_bitCount_24 : decode cJ11_bitCount 24 = .ok (.iload_n 0, 1) := dk_26 (dk_at dksJ11_bitCount_1 0 rfl rfl)
theorem dJ11_bitCount_25 : decode cJ11_bitCount 25 = .ok (.iload_n 0, 1) := dk_26 (dk_at dksJ11_bitCount_1 1 rfl rfl)
theorem dJ11_bitCount_26 : decode cJ11_bitCount 26 = .ok (.iconst 4, 1) := dk_7 (dk_at dksJ11_bitCount_1 2 rfl rfl)
theorem dJ11_bitCount_27 : decode cJ11_bitCount 27 = .ok (.iushr, 1) := dk_124 (dk_at dksJ11_bitCount_1 3 rfl rfl)
theorem dJ11_bitCount_28 : decode cJ11_bitCount 28 = .ok (.iadd, 1) := dk_96 (dk_at dksJ11_bitCount_1 4 rfl rfl)
theorem dJ11_bitCount_29 : decode cJ11_bitCount 29 = .ok (.ldc_w 267, 3) := dk_19 1 11 (dk_at dksJ11_bitCount_1 5 rfl rfl)
theorem dJ11_bitCount_32 : decode cJ11_bitCount 32 = .ok (.iand, 1) := dk_126 (dk_at dksJ11_bitCount_1 8 rfl rfl)
theorem dJ11_bitCount_33 : decode cJ11_bitCount 33 = .ok (.istore_n 0, 1) := dk_59 (dk_at dksJ11_bitCount_1 9 rfl rfl)
theorem dJ11_bitCount_34 : decode cJ11_bitCount 34 = .ok (.iload_n 0, 1) := dk_26 (dk_at dksJ11_bitCount_1 10 rfl rfl)
theorem dJ11_bitCount_35 : decode cJ11_bitCount 35 = .ok (.iload_n 0, 1) := dk_26 (dk_at dksJ11_bitCount_1 11 rfl rfl)
theorem dJ11_bitCount_36 : decode cJ11_bitCount 36 = .ok (.bipush 8, 2) := dk_16 8 (dk_at dksJ11_bitCount_1 12 rfl rfl)
theorem dJ11_bitCount_38 : decode cJ11_bitCount 38 = .ok (.iushr, 1) := dk_124 (dk_at dksJ11_bitCount_1 14 rfl rfl)
theorem dJ11_bitCount_39 : decode cJ11_bitCount 39 = .ok (.iadd, 1) := dk_96 (dk_at dksJ11_bitCount_1 15 rfl rfl)
theorem dJ11_bitCount_40 : decode cJ11_bitCount 40 = .ok (.istore_n 0, 1) := dk_59 (dk_at dksJ11_bitCount_1 16 rfl rfl)
theorem dJ11_bitCount_41 : decode cJ11_bitCount 41 = .ok (.iload_n 0, 1) := dk_26 (dk_at dksJ11_bitCount_1 17 rfl rfl)
theorem dJ11_bitCount_42 : decode cJ11_bitCount 42 = .ok (.iload_n 0, 1) := dk_26 (dk_at dksJ11_bitCount_1 18 rfl rfl)
theorem dJ11_bitCount_43 : decode cJ11_bitCount 43 = .ok (.bipush 16, 2) := dk_16 16 (dk_at dksJ11_bitCount_1 19 rfl rfl)
theorem dJ11_bitCount_45 : decode cJ11_bitCount 45 = .ok (.iushr, 1) := dk_124 (dk_at dksJ11_bitCount_1 21 rfl rfl)
theorem dJ11_bitCount_46 : decode cJ11_bitCount 46 = .ok (.iadd, 1) := dk_96 (dk_at dksJ11_bitCount_1 22 rfl rfl)
theorem dJ11_bitCount_47 : decode cJ11_bitCount 47 = .ok (.istore_n 0, 1) := dk_59 (dk_at dksJ11_bitCount_1 23 rfl rfl)
theorem dJ11_bitCount_48 : decode cJ11_bitCount 48 = .ok (.iload_n 0, 1) := dk_26 (dk_at dksJ11_bitCount_2 0 rfl rfl)
theorem dJ11_bitCount_49 : decode cJ11_bitCount 49 = .ok (.bipush 63, 2) := dk_16 63 (dk_at dksJ11_bitCount_2 1 rfl rfl)
theorem dJ11_bitCount_51 : decode cJ11_bitCount 51 = .ok (.iand, 1) := dk_126 (dk_at dksJ11_bitCount_2 3 rfl rfl)
theorem dJ11_bitCount_52 : decode cJ11_bitCount 52 = .ok (.ireturn, 1) := dk_172 (dk_at dksJ11_bitCount_2 4 rfl rfl)
def dkwJ12_init_1 : List UInt8 := [181, 0, 22, 177]
abbrev dktJ12_init_1 : List UInt8 := dkwJ12_init_1 ++ []
def dkwJ12_init_0 : List UInt8 := [42, 43, 181, 0, 1, 42, 183, 0, 7, 42, 2, 181, 0, 13, 42, 42, 180, 0, 1, 180, 0, 17]
abbrev dktJ12_init_0 : List UInt8 := dkwJ12_init_0 ++ dktJ12_init_1
theorem dksJ12_init_0 : cJ12_init.data.toList.drop 0 = dktJ12_init_0 := by decide +kernel
theorem dksJ12_init_1 : cJ12_init.data.toList.drop 22 = dktJ12_init_1 := dk_seg dksJ12_init_0 22 rfl rfl
theorem dJ12_init_0 : decode cJ12_init 0 = .ok (.aload_n 0, 1) := dk_42 (dk_at dksJ12_init_0 0 rfl rfl)
theorem dJ12_init_1 : decode cJ12_init 1 = .ok (.aload_n 1, 1) := dk_43 (dk_at dksJ12_init_0 1 rfl rfl)
theorem dJ12_init_2 : decode cJ12_init 2 = .ok (.putfield 1, 3) := dk_181 0 1 (dk_at dksJ12_init_0 2 rfl rfl)
theorem dJ12_init_5 : decode cJ12_init 5 = .ok (.aload_n 0, 1) := dk_42 (dk_at dksJ12_init_0 5 rfl rfl)
theorem dJ12_init_6 : decode cJ12_init 6 = .ok (.invokespecial 7, 3) := dk_183 0 7 (dk_at dksJ12_init_0 6 rfl rfl)
theorem dJ12_init_9 : decode cJ12_init 9 = .ok (.aload_n 0, 1) := dk_42 (dk_at dksJ12_init_0 9 rfl rfl)
theorem dJ12_init_10 : decode cJ12_init 10 = .ok (.iconst (-1), 1) := dk_2 (dk_at dksJ12_init_0 10 rfl rfl)
theorem dJ12_init_11 : decode cJ12_init 11 = .ok (.putfield 13, 3) := dk_181 0 13 (dk_at dksJ12_init_0 11 rfl rfl)
theorem dJ12_init_14 : decode cJ12_init 14 = .ok (.aload_n 0, 1) := dk_42 (dk_at dksJ12_init_0 14 rfl rfl)
theorem dJ12_init_15 : decode cJ12_init 15 = .ok (.aload_n 0, 1) := dk_42 (dk_at dksJ12_init_0 15 rfl rfl)
theorem dJ12_init_16 : decode cJ12_init 16 = .ok (.getfield 1, 3) := dk_180 0 1 (dk_at dksJ12_init_0 16 rfl rfl)
theorem dJ12_init_19 : decode cJ12_init 19 = .ok (.getfield 17, 3) := dk_180 0 17 (dk_at dksJ12_init_0 19 rfl rfl)
theorem dJ12_init_22 : decode cJ12_init 22 = .ok (.putfield 22, 3) := dk_181 0 22 (dk_at dksJ12_init_1 0 rfl rfl)
theorem dJ12_init_25 : decode cJ12_init 25 = .ok (.return_, 1) := dk_177 (dk_at dksJ12_init_1 3 rfl rfl)
def dkwJ12_hasNext_0 : List UInt8 := [42, 180, 0, 25, 42, 180, 0, 1, 180, 0, 28, 159, 0, 7, 4, 167, 0, 4, 3, 172]
abbrev dktJ12_hasNext_0 : List UInt8 := dkwJ12_hasNext_0 ++ []
theorem dksJ12_hasNext_0 : cJ12_hasNext.data.toList.drop 0 = dktJ12_hasNext_0 := by decide +kernel
theorem dJ12_hasNext_0 : decode cJ12_hasNext 0 = .ok (.aload_n 0, 1) := dk_42 (dk_at dksJ12_hasNext_0 0 rfl rfl)
theorem dJ12_hasNext_1 : decode cJ12_hasNext 1 = .ok (.getfield 25, 3) := dk_180 0 25 (dk_at dksJ12_hasNext_0 1 rfl rfl)
theorem dJ12_hasNext_4 : decode cJ12_hasNext 4 = .ok (.aload_n 0, 1) := dk_42 (dk_at dksJ12_hasNext_0 4 rfl rfl)
theorem dJ12_hasNext_5 : decode cJ12_hasNext 5 = .ok (.getfield 1, 3) := dk_180 0 1 (dk_at dksJ12_hasNext_0 5 rfl rfl)
theorem dJ12_hasNext_8 : decode cJ12_hasNext 8 = .ok (.getfield 28, 3) := dk_180 0 28 (dk_at dksJ12_hasNext_0 8 rfl rfl)
theorem dJ12_hasNext_11 : decode cJ12_hasNext 11 = .ok (.if_icmp .eq 7, 3) := dk_159 0 7 (dk_at dksJ12_hasNext_0 11 rfl rfl)
theorem dJ12_hasNext_14 : decode cJ12_hasNext 14 = .ok (.iconst 1, 1) := dk_4 (dk_at dksJ12_hasNext_0 14 rfl rfl)
theorem dJ12_hasNext_15 : decode cJ12_hasNext 15 = .ok (.goto 4, 3) := dk_167 0 4 (dk_at dksJ12_hasNext_0 15 rfl rfl)
theorem dJ12_hasNext_18 : decode cJ12_hasNext 18 = .ok (.iconst 0, 1) := dk_3 (dk_at dksJ12_hasNext_0 18 rfl rfl)
theorem dJ12_hasNext_19 : decode cJ12_hasNext 19 = .ok (.ireturn, 1) := dk_172 (dk_at dksJ12_hasNext_0 19 rfl rfl)
def dkwJ12_next_2 : List UInt8 := [183, 0, 43, 191, 42, 27, 4, 96, 181, 0, 25, 44, 42, 27, 90, 181, 0, 13, 50, 176]
abbrev dktJ12_next_2 : List UInt8 := dkwJ12_next_2 ++ []
def dkwJ12_next_1 : List UInt8 := [183, 0, 36, 191, 42, 180, 0, 1, 180, 0, 37, 77, 27, 44, 190, 161, 0, 11, 187, 0, 41, 89]
abbrev dktJ12_next_1 : List UInt8 := dkwJ12_next_1 ++ dktJ12_next_2
def dkwJ12_next_0 : List UInt8 := [42, 182, 0, 31, 42, 180, 0, 25, 60, 27, 42, 180, 0, 1, 180, 0, 28, 161, 0, 11, 187, 0, 34, 89]
abbrev dktJ12_next_0 : List UInt8 := dkwJ12_next_0 ++ dktJ12_next_1
theorem dksJ12_next_0 : cJ12_next.data.toList.drop 0 = dktJ12_next_0 := by decide +kernel
theorem dksJ12_next_1 : cJ12_next.data.toList.drop 24 = dktJ12_next_1 := dk_seg dksJ12_next_0 24 rfl rfl
theorem dksJ12_next_2 : cJ12_next.data.toList.drop 46 = dktJ12_next_2 := dk_seg dksJ12_next_1 22 rfl rfl
theorem dJ12_next_0 : decode cJ12_next 0 = .ok (.aload_n 0, 1) := dk_42 (dk_at dksJ12_next_0 0 rfl rfl)
theorem dJ12_next_1 : decode cJ12_next 1 = .ok (.invokevirtual 31, 3) := dk_182 0 31 (dk_at dksJ12_next_0 1 rfl rfl)
theorem dJ12_next_4 : decode cJ12_next 4 = .ok (.aload_n 0, 1) := dk_42 (dk_at dksJ12_next_0 4 rfl rfl)
theorem dJ12_next_5 : decode cJ12_next 5 = .ok (.getfield 25, 3) := dk_180 0 25 (dk_at dksJ12_next_0 5 rfl rfl)
theorem dJ12_next_8 : decode cJ12_next 8 = .ok (.istore_n 1, 1) := dk_60 (dk_at dksJ12_next_0 8 rfl rfl)
theorem dJ12_next_9 : decode cJ12_next 9 = .ok (.iload_n 1, 1) := dk_27 (dk_at dksJ12_next_0 9 rfl rfl)
theorem dJ12_next_10 : decode cJ12_next 10 = .ok (.aload_n 0, 1) := dk_42 (dk_at dksJ12_next_0 10 rfl rfl)
theorem dJ12_next_11 : decode cJ12_next 11 = .ok (.getfield 1, 3) := dk_180 0 1 (dk_at dksJ12_next_0 11 rfl rfl)
theorem dJ12_next_14 : decode cJ12_next 14 = .ok (.getfield 28, 3) := dk_180 0 28 (dk_at dksJ12_next_0 14 rfl rfl)
theorem dJ12_next_17 : decode cJ12_next 17 = .ok (.if_icmp .lt 11, 3) := dk_161 0 11 (dk_at dksJ12_next_0 17 rfl rfl)
theorem dJ12_next_20 : decode cJ12_next 20 = .ok (.new 34, 3) := dk_187 0 34 (dk_at dksJ12_next_0 20 rfl rfl)
theorem dJ12_next_23 : decode cJ12_next 23 = .ok (.dup, 1) := dk_89 (dk_at dksJ12_next_0 23 rfl rfl)
theorem dJ12_next_24 : decode cJ12_next 24 = .ok (.invokespecial 36, 3) := dk_183 0 36 (dk_at dksJ12_next_1 0 rfl rfl)
theorem dJ12_next_27 : decode cJ12_next 27 = .ok (.athrow, 1) := dk_191 (dk_at dksJ12_next_1 3 rfl rfl)
theorem dJ12_next_28 : decode cJ12_next 28 = .ok (.aload_n 0, 1) := dk_42 (dk_at dksJ12_next_1 4 rfl rfl)
theorem dJ12_next_29 : decode cJ12_next 29 = .ok (.getfield 1, 3) := dk_180 0 1 (dk_at dksJ12_next_1 5 rfl rfl)
theorem dJ12_next_32 : decode cJ12_next 32 = .ok (.getfield 37, 3) := dk_180 0 37 (dk_at dksJ12_next_1 8 rfl rfl)
theorem dJ12_next_35 : decode cJ12_next 35 = .ok (.astore_n 2, 1) := dk_77 (dk_at dksJ12_next_1 11 rfl rfl)
theorem dJ12_next_36 : decode cJ12_next 36 = .ok (.iload_n 1, 1) := dk_27 (dk_at dksJ12_next_1 12 rfl rfl)
theorem dJ12_next_37 : decode cJ12_next 37 = .ok (.aload_n 2, 1) := dk_44 (dk_at dksJ12_next_1 13 rfl rfl)
theorem dJ12_next_38 : decode cJ12_next 38 = .ok (.arraylength, 1) := dk_190 (dk_at dksJ12_next_1 14 rfl rfl)
theorem dJ12_next_39 : decode cJ12_next 39 = .ok (.if_icmp .lt 11, 3) := dk_161 0 11 (dk_at dksJ12_next_1 15 rfl rfl)
theorem dJ12_next_42 : decode cJ12_next 42 = .ok (.new 41, 3) := dk_187 0 41 (dk_at dksJ12_next_1 18 rfl rfl)
theorem dJ12_next_45 : decode cJ12_next 45 = .ok (.dup, 1) := dk_89 (dk_at dksJ12_next_1 21 rfl rfl)
theorem dJ12_next_46 : decode cJ12_next 46 = .ok (.invokespecial 43, 3) := dk_183 0 43 (dk_at dksJ12_next_2 0 rfl rfl)
theorem dJ12_next_49 : decode cJ12_next 49 = .ok (.athrow, 1) := dk_191 (dk_at dksJ12_next_2 3 rfl rfl)
theorem dJ12_next_50 : decode cJ12_next 50 = .ok (.aload_n 0, 1) := dk_42 (dk_at dksJ12_next_2 4 rfl rfl)
theorem dJ12_next_51 : decode cJ12_next 51 = .ok (.iload_n 1, 1) := dk_27 (dk_at dksJ12_next_2 5 rfl rfl)
theorem dJ12_next_52 : decode cJ12_next 52 = .ok (.iconst 1, 1) := dk_4 (dk_at dksJ12_next_2 6 rfl rfl)
theorem dJ12_next_53 : decode cJ12_next 53 = .ok (.iadd, 1) := dk_96 (dk_at dksJ12_next_2 7 rfl rfl)
theorem dJ12_next_54 : decode cJ12_next 54 = .ok (.putfield 25, 3) := dk_181 0 25 (dk_at dksJ12_next_2 8 rfl rfl)
theorem dJ12_next_57 : decode cJ12_next 57 = .ok (.aload_n 2, 1) := dk_44 (dk_at dksJ12_next_2 11 rfl rfl)
theorem dJ12_next_58 : decode cJ12_next 58 = .ok (.aload_n 0, 1) := dk_42 (dk_at dksJ12_next_2 12 rfl rfl)
theorem dJ12_next_59 : decode cJ12_next 59 = .ok (.iload_n 1, 1) := dk_27 (dk_at dksJ12_next_2 13 rfl rfl)
theorem dJ12_next_60 : decode cJ12_next 60 = .ok (.dup_x1, 1) := dk_90 (dk_at dksJ12_next_2 14 rfl rfl)
theorem dJ12_next_61 : decode cJ12_next 61 = .ok (.putfield 13, 3) := dk_181 0 13 (dk_at dksJ12_next_2 15 rfl rfl)
theorem dJ12_next_64 : decode cJ12_next 64 = .ok (.aaload, 1) := dk_50 (dk_at dksJ12_next_2 18 rfl rfl)
theorem dJ12_next_65 : decode cJ12_next 65 = .ok (.areturn, 1) := dk_176 (dk_at dksJ12_next_2 19 rfl rfl)
def dkwJ12_checkForComodification_0 : List UInt8 := [42, 180, 0, 1, 180, 0, 17, 42, 180, 0, 22, 159, 0, 11, 187, 0, 41, 89, 183, 0, 43, 191, 177]
abbrev dktJ12_checkForComodification_0 : List UInt8 := dkwJ12_checkForComodification_0 ++ []
theorem dksJ12_checkForComodification_0 : cJ12_checkForComodification.data.toList.drop 0 = dktJ12_checkForComodification_0 := by decide +kernel
theorem dJ12_checkForComodification_0 : decode cJ12_checkForComodification 0 = .ok (.aload_n 0, 1) := dk_42 (dk_at dksJ12_checkForComodification_0 0 rfl rfl)
theorem dJ12_checkForComodification_1 : decode cJ12_checkForComodification 1 = .ok (.getfield 1, 3) := dk_180 0 1 (dk_at dksJ12_checkForComodification_0 1 rfl rfl)
theorem dJ12_checkForComodification_4 : decode cJ12_checkForComodification 4 = .ok (.getfield 17, 3) := dk_180 0 17 (dk_at dksJ12_checkForComodification_0 4 rfl rfl)
theorem dJ12_checkForComodification_7 : decode cJ12_checkForComodification 7 = .ok (.aload_n 0, 1) := dk_42 (dk_at dksJ12_checkForComodification_0 7 rfl rfl)
theorem dJ12_checkForComodification_8 : decode cJ12_checkForComodification 8 = .ok (.getfield 22, 3) := dk_180 0 22 (dk_at dksJ12_checkForComodification_0 8 rfl rfl)
theorem dJ12_checkForComodification_11 : decode cJ12_checkForComodification 11 = .ok (.if_icmp .eq 11, 3) := dk_159 0 11 (dk_at dksJ12_checkForComodification_0 11 rfl rfl)
theorem dJ12_checkForComodification_14 : decode cJ12_checkForComodification 14 = .ok (.new 41, 3) := dk_187 0 41 (dk_at dksJ12_checkForComodification_0 14 rfl rfl)
theorem dJ12_checkForComodification_17 : decode cJ12_checkForComodification 17 = .ok (.dup, 1) := dk_89 (dk_at dksJ12_checkForComodification_0 17 rfl rfl)
theorem dJ12_checkForComodification_18 : decode cJ12_checkForComodification 18 = .ok (.invokespecial 43, 3) := dk_183 0 43 (dk_at dksJ12_checkForComodification_0 18 rfl rfl)
theorem dJ12_checkForComodification_21 : decode cJ12_checkForComodification 21 = .ok (.athrow, 1) := dk_191 (dk_at dksJ12_checkForComodification_0 21 rfl rfl)
theorem dJ12_checkForComodification_22 : decode cJ12_checkForComodification 22 = .ok (.return_, 1) := dk_177 (dk_at dksJ12_checkForComodification_0 22 rfl rfl)
theorem dJ13_init_0 : decode cJ13_init 0 = .ok (.return_, 1) := by decide +kernel
def dkwJ13_equals_0 : List UInt8 := [42, 43, 166, 0, 7, 4, 167, 0, 4, 3, 172]
abbrev dktJ13_equals_0 : List UInt8 := dkwJ13_equals_0 ++ []
theorem dksJ13_equals_0 : cJ13_equals.data.toList.drop 0 = dktJ13_equals_0 := by decide +kernel
theorem dJ13_equals_0 : decode cJ13_equals 0 = .ok (.aload_n 0, 1) := dk_42 (dk_at dksJ13_equals_0 0 rfl rfl)
theorem dJ13_equals_1 : decode cJ13_equals 1 = .ok (.aload_n 1, 1) := dk_43 (dk_at dksJ13_equals_0 1 rfl rfl)
theorem dJ13_equals_2 : decode cJ13_equals 2 = .ok (.if_acmp .ne 7, 3) := dk_166 0 7 (dk_at dksJ13_equals_0 2 rfl rfl)
theorem dJ13_equals_5 : decode cJ13_equals 5 = .ok (.iconst 1, 1) := dk_4 (dk_at dksJ13_equals_0 5 rfl rfl)
theorem dJ13_equals_6 : decode cJ13_equals 6 = .ok (.goto 4, 3) := dk_167 0 4 (dk_at dksJ13_equals_0 6 rfl rfl)
theorem dJ13_equals_9 : decode cJ13_equals 9 = .ok (.iconst 0, 1) := dk_3 (dk_at dksJ13_equals_0 9 rfl rfl)
theorem dJ13_equals_10 : decode cJ13_equals 10 = .ok (.ireturn, 1) := dk_172 (dk_at dksJ13_equals_0 10 rfl rfl)
def dkwJ2_init_0 : List UInt8 := [42, 183, 0, 1, 42, 178, 0, 39, 181, 0, 9, 177]
abbrev dktJ2_init_0 : List UInt8 := dkwJ2_init_0 ++ []
theorem dksJ2_init_0 : cJ2_init.data.toList.drop 0 = dktJ2_init_0 := by decide +kernel
theorem dJ2_init_0 : decode cJ2_init 0 = .ok (.aload_n 0, 1) := dk_42 (dk_at dksJ2_init_0 0 rfl rfl)
theorem dJ2_init_1 : decode cJ2_init 1 = .ok (.invokespecial 1, 3) := dk_183 0 1 (dk_at dksJ2_init_0 1 rfl rfl)
theorem dJ2_init_4 : decode cJ2_init 4 = .ok (.aload_n 0, 1) := dk_42 (dk_at dksJ2_init_0 4 rfl rfl)
theorem dJ2_init_5 : decode cJ2_init 5 = .ok (.getstatic 39, 3) := dk_178 0 39 (dk_at dksJ2_init_0 5 rfl rfl)
theorem dJ2_init_8 : decode cJ2_init 8 = .ok (.putfield 9, 3) := dk_181 0 9 (dk_at dksJ2_init_0 8 rfl rfl)
theorem dJ2_init_11 : decode cJ2_init 11 = .ok (.return_, 1) := dk_177 (dk_at dksJ2_init_0 11 rfl rfl)
theorem dJ2_size_0 : decode cJ2_size 0 = .ok (.aload_n 0, 1) := by decide +kernel
theorem dJ2_size_1 : decode cJ2_size 1 = .ok (.getfield 48, 3) := by decide +kernel
theorem dJ2_size_4 : decode cJ2_size 4 = .ok (.ireturn, 1) := by decide +kernel
def dkwJ2_add_1 : List UInt8 := [172]
abbrev dktJ2_add_1 : List UInt8 := dkwJ2_add_1 ++ []
def dkwJ2_add_0 : List UInt8 := [42, 89, 180, 0, 63, 4, 96, 181, 0, 63, 42, 43, 42, 180, 0, 9, 42, 180, 0, 48, 182, 0, 131, 4]
abbrev dktJ2_add_0 : List UInt8 := dkwJ2_add_0 ++ dktJ2_add_1
theorem dksJ2_add_0 : cJ2_add.data.toList.drop 0 = dktJ2_add_0 := by decide +kernel
theorem dksJ2_add_1 : cJ2_add.data.toList.drop 24 = dktJ2_add_1 := dk_seg dksJ2_add_0 24 rfl rfl
theorem dJ2_add_0 : decode cJ2_add 0 = .ok (.aload_n 0, 1) := dk_42 (dk_at dksJ2_add_0 0 rfl rfl)
theorem dJ2_add_1 : decode cJ2_add 1 = .ok (.dup, 1) := dk_89 (dk_at dksJ2_add_0 1 rfl rfl)
theorem dJ2_add_2 : decode cJ2_add 2 = .ok (.getfield 63, 3) := dk_180 0 63 (dk_at dksJ2_add_0 2 rfl rfl)
theorem dJ2_add_5 : decode cJ2_add 5 = .ok (.iconst 1, 1) := dk_4 (dk_at dksJ2_add_0 5 rfl rfl)
theorem dJ2_add_6 : decode cJ2_add 6 = .ok (.iadd, 1) := dk_96 (dk_at dksJ2_add_0 6 rfl rfl)
theorem dJ2_add_7 : decode cJ2_add 7 = .ok (.putfield 63, 3) := dk_181 0 63 (dk_at dksJ2_add_0 7 rfl rfl)
theorem dJ2_add_10 : decode cJ2_add 10 = .ok (.aload_n 0, 1) := dk_42 (dk_at dksJ2_add_0 10 rfl rfl)
theorem dJ2_add_11 : decode cJ2_add 11 = .ok (.aload_n 1, 1) := dk_43 (dk_at dksJ2_add_0 11 rfl rfl)
theorem dJ2_add_12 : decode cJ2_add 12 = .ok (.aload_n 0, 1) := dk_42 (dk_at dksJ2_add_0 12 rfl rfl)
theorem dJ2_add_13 : decode cJ2_add 13 = .ok (.getfield 9, 3) := dk_180 0 9 (dk_at dksJ2_add_0 13 rfl rfl)
theorem dJ2_add_16 : decode cJ2_add 16 = .ok (.aload_n 0, 1) := dk_42 (dk_at dksJ2_add_0 16 rfl rfl)
theorem dJ2_add_17 : decode cJ2_add 17 = .ok (.getfield 48, 3) := dk_180 0 48 (dk_at dksJ2_add_0 17 rfl rfl)
theorem dJ2_add_20 : decode cJ2_add 20 = .ok (.invokevirtual 131, 3) := dk_182 0 131 (dk_at dksJ2_add_0 20 rfl rfl)
theorem dJ2_add_23 : decode cJ2_add 23 = .ok (.iconst 1, 1) := dk_4 (dk_at dksJ2_add_0 23 rfl rfl)
theorem dJ2_add_24 : decode cJ2_add 24 = .ok (.ireturn, 1) := dk_172 (dk_at dksJ2_add_1 0 rfl rfl)
def dkwJ2_add_2_0 : List UInt8 := [29, 44, 190, 160, 0, 8, 42, 182, 0, 129, 77, 44, 29, 43, 83, 42, 29, 4, 96, 181, 0, 48, 177]
abbrev dktJ2_add_2_0 : List UInt8 := dkwJ2_add_2_0 ++ []
theorem dksJ2_add_2_0 : cJ2_add_2.data.toList.drop 0 = dktJ2_add_2_0 := by decide +kernel
theorem dJ2_add_2_0 : decode cJ2_add_2 0 = .ok (.iload_n 3, 1) := dk_29 (dk_at dksJ2_add_2_0 0 rfl rfl)
theorem dJ2_add_2_1 : decode cJ2_add_2 1 = .ok (.aload_n 2, 1) := dk_44 (dk_at dksJ2_add_2_0 1 rfl rfl)
theorem dJ2_add_2_2 : decode cJ2_add_2 2 = .ok (.arraylength, 1) := dk_190 (dk_at dksJ2_add_2_0 2 rfl rfl)
theorem dJ2_add_2_3 : decode cJ2_add_2 3 = .ok (.if_icmp .ne 8, 3) := dk_160 0 8 (dk_at dksJ2_add_2_0 3 rfl rfl)
theorem dJ2_add_2_6 : decode cJ2_add_2 6 = .ok (.aload_n 0, 1) := dk_42 (dk_at dksJ2_add_2_0 6 rfl rfl)
theorem dJ2_add_2_7 : decode cJ2_add_2 7 = .ok (.invokevirtual 129, 3) := dk_182 0 129 (dk_at dksJ2_add_2_0 7 rfl rfl)
theorem dJ2_add_2_10 : decode cJ2_add_2 10 = .ok (.astore_n 2, 1) := dk_77 (dk_at dksJ2_add_2_0 10 rfl rfl)
theorem dJ2_add_2_11 : decode cJ2_add_2 11 = .ok (.aload_n 2, 1) := dk_44 (dk_at dksJ2_add_2_0 11 rfl rfl)
theorem dJ2_add_2_12 : decode cJ2_add_2 12 = .ok (.iload_n 3, 1) := dk_29 (dk_at dksJ2_add_2_0 12 rfl rfl)
theorem dJ2_add_2_13 : decode cJ2_add_2 13 = .ok (.aload_n 1, 1) := dk_43 (dk_at dksJ2_add_2_0 13 rfl rfl)
theorem dJ2_add_2_14 : decode cJ2_add_2 14 = .ok (.aastore, 1) := dk_83 (dk_at dksJ2_add_2_0 14 rfl rfl)
theorem dJ2_add_2_15 : decode cJ2_add_2 15 = .ok (.aload_n 0, 1) := dk_42 (dk_at dksJ2_add_2_0 15 rfl rfl)
theorem dJ2_add_2_16 : decode cJ2_add_2 16 = .ok (.iload_n 3, 1) := dk_29 (dk_at dksJ2_add_2_0 16 rfl rfl)
theorem dJ2_add_2_17 : decode cJ2_add_2 17 = .ok (.iconst 1, 1) := dk_4 (dk_at dksJ2_add_2_0 17 rfl rfl)
theorem dJ2_add_2_18 : decode cJ2_add_2 18 = .ok (.iadd, 1) := dk_96 (dk_at dksJ2_add_2_0 18 rfl rfl)
theorem dJ2_add_2_19 : decode cJ2_add_2 19 = .ok (.putfield 48, 3) := dk_181 0 48 (dk_at dksJ2_add_2_0 19 rfl rfl)
theorem dJ2_add_2_22 : decode cJ2_add_2 22 = .ok (.return_, 1) := dk_177 (dk_at dksJ2_add_2_0 22 rfl rfl)
def dkwJ2_grow_0 : List UInt8 := [42, 42, 180, 0, 48, 4, 96, 182, 0, 69, 176]
abbrev dktJ2_grow_0 : List UInt8 := dkwJ2_grow_0 ++ []
theorem dksJ2_grow_0 : cJ2_grow.data.toList.drop 0 = dktJ2_grow_0 := by decide +kernel
theorem dJ2_grow_0 : decode cJ2_grow 0 = .ok (.aload_n 0, 1) := dk_42 (dk_at dksJ2_grow_0 0 rfl rfl)
theorem dJ2_grow_1 : decode cJ2_grow 1 = .ok (.aload_n 0, 1) := dk_42 (dk_at dksJ2_grow_0 1 rfl rfl)
theorem dJ2_grow_2 : decode cJ2_grow 2 = .ok (.getfield 48, 3) := dk_180 0 48 (dk_at dksJ2_grow_0 2 rfl rfl)
theorem dJ2_grow_5 : decode cJ2_grow 5 = .ok (.iconst 1, 1) := dk_4 (dk_at dksJ2_grow_0 5 rfl rfl)
theorem dJ2_grow_6 : decode cJ2_grow 6 = .ok (.iadd, 1) := dk_96 (dk_at dksJ2_grow_0 6 rfl rfl)
theorem dJ2_grow_7 : decode cJ2_grow 7 = .ok (.invokevirtual 69, 3) := dk_182 0 69 (dk_at dksJ2_grow_0 7 rfl rfl)
theorem dJ2_grow_10 : decode cJ2_grow 10 = .ok (.areturn, 1) := dk_176 (dk_at dksJ2_grow_0 10 rfl rfl)
def dkwJ2_grow_2_2 : List UInt8 := [27, 184, 0, 79, 189, 0, 7, 90, 181, 0, 9, 176]
abbrev dktJ2_grow_2_2 : List UInt8 := dkwJ2_grow_2_2 ++ []
def dkwJ2_grow_2_1 : List UInt8 := [28, 4, 122, 184, 0, 73, 62, 42, 42, 180, 0, 9, 29, 184, 0, 66, 90, 181, 0, 9, 176, 42, 16, 10]
abbrev dktJ2_grow_2_1 : List UInt8 := dkwJ2_grow_2_1 ++ dktJ2_grow_2_2
def dkwJ2_grow_2_0 : List UInt8 := [42, 180, 0, 9, 190, 61, 28, 157, 0, 13, 42, 180, 0, 9, 178, 0, 39, 165, 0, 28, 28, 27, 28, 100]
abbrev dktJ2_grow_2_0 : List UInt8 := dkwJ2_grow_2_0 ++ dktJ2_grow_2_1
theorem dksJ2_grow_2_0 : cJ2_grow_2.data.toList.drop 0 = dktJ2_grow_2_0 := by decide +kernel
theorem dksJ2_grow_2_1 : cJ2_grow_2.data.toList.drop 24 = dktJ2_grow_2_1 := dk_seg dksJ2_grow_2_0 24 rfl rfl
theorem dksJ2_grow_2_2 : cJ2_grow_2.data.toList.drop 48 = dktJ2_grow_2_2 := dk_seg dksJ2_grow_2_1 24 rfl rfl
theorem dJ2_grow_2_0 : decode cJ2_grow_2 0 = .ok (.aload_n 0, 1) := dk_42 (dk_at dksJ2_grow_2_0 0 rfl rfl)
theorem dJ2_grow_2_1 : decode cJ2_grow_2 1 = .ok (.getfield 9, 3) := dk_180 0 9 (dk_at dksJ2_grow_2_0 1 rfl rfl)
theorem dJ2_grow_2_4 : decode cJ2_grow_2 4 = .ok (.arraylength, 1) := dk_190 (dk_at dksJ2_grow_2_0 4 rfl rfl)
theorem dJ2_grow_2_5 : decode cJ2_grow_2 5 = .ok (.istore_n 2, 1) := dk_61 (dk_at dksJ2_grow_2_0 5 rfl rfl)
theorem dJ2_grow_2_6 : decode cJ2_grow_2 6 = .ok (.iload_n 2, 1) := dk_28 (dk_at dksJ2_grow_2_0 6 rfl rfl)
theorem dJ2_grow_2_7 : decode cJ2_grow_2 7 = .ok (.ifCond .gt 13, 3) := dk_157 0 13 (dk_at dksJ2_grow_2_0 7 rfl rfl)
theorem dJ2_grow_2_10 : decode cJ2_grow_2 10 = .ok (.aload_n 0, 1) := dk_42 (dk_at dksJ2_grow_2_0 10 rfl rfl)
theorem dJ2_grow_2_11 : decode cJ2_grow_2 11 = .ok (.getfield 9, 3) := dk_180 0 9 (dk_at dksJ2_grow_2_0 11 rfl rfl)
theorem dJ2_grow_2_14 : decode cJ2_grow_2 14 = .ok (.getstatic 39, 3) := dk_178 0 39 (dk_at dksJ2_grow_2_0 14 rfl rfl)
theorem dJ2_grow_2_17 : decode cJ2_grow_2 17 = .ok (.if_acmp .eq 28, 3) := dk_165 0 28 (dk_at dksJ2_grow_2_0 17 rfl rfl)
theorem dJ2_grow_2_20 : decode cJ2_grow_2 20 = .ok (.iload_n 2, 1) := dk_28 (dk_at dksJ2_grow_2_0 20 rfl rfl)
theorem dJ2_grow_2_21 : decode cJ2_grow_2 21 = .ok (.iload_n 1, 1) := dk_27 (dk_at dksJ2_grow_2_0 21 rfl rfl)
theorem dJ2_grow_2_22 : decode cJ2_grow_2 22 = .ok (.iload_n 2, 1) := dk_28 (dk_at dksJ2_grow_2_0 22 rfl rfl)
theorem dJ2_grow_2_23 : decode cJ2_grow_2 23 = .ok (.isub, 1) := dk_100 (dk_at dksJ2_grow_2_0 23 rfl rfl)
theorem dJ2_grow_2_24 : decode cJ2_grow_2 24 = .ok (.iload_n 2, 1) := dk_28 (dk_at dksJ2_grow_2_1 0 rfl rfl)
theorem dJ2_grow_2_25 : decode cJ2_grow_2 25 = .ok (.iconst 1, 1) := dk_4 (dk_at dksJ2_grow_2_1 1 rfl rfl)
theorem dJ2_grow_2_26 : decode cJ2_grow_2 26 = .ok (.ishr, 1) := dk_122 (dk_at dksJ2_grow_2_1 2 rfl rfl)
theorem dJ2_grow_2_27 : decode cJ2_grow_2 27 = .ok (.invokestatic 73, 3) := dk_184 0 73 (dk_at dksJ2_grow_2_1 3 rfl rfl)
theorem dJ2_grow_2_30 : decode cJ2_grow_2 30 = .ok (.istore_n 3, 1) := dk_62 (dk_at dksJ2_grow_2_1 6 rfl rfl)
theorem dJ2_grow_2_31 : decode cJ2_grow_2 31 = .ok (.aload_n 0, 1) := dk_42 (dk_at dksJ2_grow_2_1 7 rfl rfl)
theorem dJ2_grow_2_32 : decode cJ2_grow_2 32 = .ok (.aload_n 0, 1) := dk_42 (dk_at dksJ2_grow_2_1 8 rfl rfl)
theorem dJ2_grow_2_33 : decode cJ2_grow_2 33 = .ok (.getfield 9, 3) := dk_180 0 9 (dk_at dksJ2_grow_2_1 9 rfl rfl)
theorem dJ2_grow_2_36 : decode cJ2_grow_2 36 = .ok (.iload_n 3, 1) := dk_29 (dk_at dksJ2_grow_2_1 12 rfl rfl)
theorem dJ2_grow_2_37 : decode cJ2_grow_2 37 = .ok (.invokestatic 66, 3) := dk_184 0 66 (dk_at dksJ2_grow_2_1 13 rfl rfl)
theorem dJ2_grow_2_40 : decode cJ2_grow_2 40 = .ok (.dup_x1, 1) := dk_90 (dk_at dksJ2_grow_2_1 16 rfl rfl)
theorem dJ2_grow_2_41 : decode cJ2_grow_2 41 = .ok (.putfield 9, 3) := dk_181 0 9 (dk_at dksJ2_grow_2_1 17 rfl rfl)
theorem dJ2_grow_2_44 : decode cJ2_grow_2 44 = .ok (.areturn, 1) := dk_176 (dk_at dksJ2_grow_2_1 20 rfl rfl)
theorem dJ2_grow_2_45 : decode cJ2_grow_2 45 = .ok (.aload_n 0, 1) := dk_42 (dk_at dksJ2_grow_2_1 21 rfl rfl)
theorem dJ2_grow_2_46 : decode cJ2_grow_2 46 = .ok (.bipush 10, 2) := dk_16 10 (dk_at dksJ2_grow_2_1 22 rfl rfl)
theorem dJ2_grow_2_48 : decode cJ2_grow_2 48 = .ok (.iload_n 1, 1) := dk_27 (dk_at dksJ2_grow_2_2 0 rfl rfl)
theorem dJ2_grow_2_49 : decode cJ2_grow_2 49 = .ok (.invokestatic 79, 3) := dk_184 0 79 (dk_at dksJ2_grow_2_2 1 rfl rfl)
theorem dJ2_grow_2_52 : decode cJ2_grow_2 52 = .ok (.anewarray 7, 3) := dk_189 0 7 (dk_at dksJ2_grow_2_2 4 rfl rfl)
theorem dJ2_grow_2_55 : decode cJ2_grow_2 55 = .ok (.dup_x1, 1) := dk_90 (dk_at dksJ2_grow_2_2 7 rfl rfl)
theorem dJ2_grow_2_56 : decode cJ2_grow_2 56 = .ok (.putfield 9, 3) := dk_181 0 9 (dk_at dksJ2_grow_2_2 8 rfl rfl)
theorem dJ2_grow_2_59 : decode cJ2_grow_2 59 = .ok (.areturn, 1) := dk_176 (dk_at dksJ2_grow_2_2 11 rfl rfl)
def dkwJ2_get_0 : List UInt8 := [27, 42, 180, 0, 48, 184, 0, 118, 87, 42, 27, 182, 0, 123, 176]
abbrev dktJ2_get_0 : List UInt8 := dkwJ2_get_0 ++ []
theorem dksJ2_get_0 : cJ2_get.data.toList.drop 0 = dktJ2_get_0 := by decide +kernel
theorem dJ2_get_0 : decode cJ2_get 0 = .ok (.iload_n 1, 1) := dk_27 (dk_at dksJ2_get_0 0 rfl rfl)
theorem dJ2_get_1 : decode cJ2_get 1 = .ok (.aload_n 0, 1) := dk_42 (dk_at dksJ2_get_0 1 rfl rfl)
theorem dJ2_get_2 : decode cJ2_get 2 = .ok (.getfield 48, 3) := dk_180 0 48 (dk_at dksJ2_get_0 2 rfl rfl)
theorem dJ2_get_5 : decode cJ2_get 5 = .ok (.invokestatic 118, 3) := dk_184 0 118 (dk_at dksJ2_get_0 5 rfl rfl)
theorem dJ2_get_8 : decode cJ2_get 8 = .ok (.pop, 1) := dk_87 (dk_at dksJ2_get_0 8 rfl rfl)
theorem dJ2_get_9 : decode cJ2_get 9 = .ok (.aload_n 0, 1) := dk_42 (dk_at dksJ2_get_0 9 rfl rfl)
theorem dJ2_get_10 : decode cJ2_get 10 = .ok (.iload_n 1, 1) := dk_27 (dk_at dksJ2_get_0 10 rfl rfl)
theorem dJ2_get_11 : decode cJ2_get 11 = .ok (.invokevirtual 123, 3) := dk_182 0 123 (dk_at dksJ2_get_0 11 rfl rfl)
theorem dJ2_get_14 : decode cJ2_get 14 = .ok (.areturn, 1) := dk_176 (dk_at dksJ2_get_0 14 rfl rfl)
def dkwJ2_elementData_0 : List UInt8 := [42, 180, 0, 9, 27, 50, 176]
abbrev dktJ2_elementData_0 : List UInt8 := dkwJ2_elementData_0 ++ []
theorem dksJ2_elementData_0 : cJ2_elementData.data.toList.drop 0 = dktJ2_elementData_0 := by decide +kernel
theorem dJ2_elementData_0 : decode cJ2_elementData 0 = .ok (.aload_n 0, 1) := dk_42 (dk_at dksJ2_elementData_0 0 rfl rfl)
theorem dJ2_elementData_1 : decode cJ2_elementData 1 = .ok (.getfield 9, 3) := dk_180 0 9 (dk_at dksJ2_elementData_0 1 rfl rfl)
theorem dJ2_elementData_4 : decode cJ2_elementData 4 = .ok (.iload_n 1, 1) := dk_27 (dk_at dksJ2_elementData_0 4 rfl rfl)
theorem dJ2_elementData_5 : decode cJ2_elementData 5 = .ok (.aaload, 1) := dk_50 (dk_at dksJ2_elementData_0 5 rfl rfl)
theorem dJ2_elementData_6 : decode cJ2_elementData 6 = .ok (.areturn, 1) := dk_176 (dk_at dksJ2_elementData_0 6 rfl rfl)
def dkwJ2_isEmpty_0 : List UInt8 := [42, 180, 0, 48, 154, 0, 7, 4, 167, 0, 4, 3, 172]
abbrev dktJ2_isEmpty_0 : List UInt8 := dkwJ2_isEmpty_0 ++ []
theorem dksJ2_isEmpty_0 : cJ2_isEmpty.data.toList.drop 0 = dktJ2_isEmpty_0 := by decide +kernel
theorem dJ2_isEmpty_0 : decode cJ2_isEmpty 0 = .ok (.aload_n 0, 1) := dk_42 (dk_at dksJ2_isEmpty_0 0 rfl rfl)
theorem dJ2_isEmpty_1 : decode cJ2_isEmpty 1 = .ok (.getfield 48, 3) := dk_180 0 48 (dk_at dksJ2_isEmpty_0 1 rfl rfl)
theorem dJ2_isEmpty_4 : decode cJ2_isEmpty 4 = .ok (.ifCond .ne 7, 3) := dk_154 0 7 (dk_at dksJ2_isEmpty_0 4 rfl rfl)
theorem dJ2_isEmpty_7 : decode cJ2_isEmpty 7 = .ok (.iconst 1, 1) := dk_4 (dk_at dksJ2_isEmpty_0 7 rfl rfl)
theorem dJ2_isEmpty_8 : decode cJ2_isEmpty 8 = .ok (.goto 4, 3) := dk_167 0 4 (dk_at dksJ2_isEmpty_0 8 rfl rfl)
theorem dJ2_isEmpty_11 : decode cJ2_isEmpty 11 = .ok (.iconst 0, 1) := dk_3 (dk_at dksJ2_isEmpty_0 11 rfl rfl)
theorem dJ2_isEmpty_12 : decode cJ2_isEmpty 12 = .ok (.ireturn, 1) := dk_172 (dk_at dksJ2_isEmpty_0 12 rfl rfl)
def dkwJ2_clear_1 : List UInt8 := [181, 0, 48, 62, 29, 28, 162, 0, 13, 43, 29, 1, 83, 132, 3, 1, 167, 255, 244, 177]
abbrev dktJ2_clear_1 : List UInt8 := dkwJ2_clear_1 ++ []
def dkwJ2_clear_0 : List UInt8 := [42, 89, 180, 0, 63, 4, 96, 181, 0, 63, 42, 180, 0, 9, 76, 42, 180, 0, 48, 61, 42, 3, 90]
abbrev dktJ2_clear_0 : List UInt8 := dkwJ2_clear_0 ++ dktJ2_clear_1
theorem dksJ2_clear_0 : cJ2_clear.data.toList.drop 0 = dktJ2_clear_0 := by decide +kernel
theorem dksJ2_clear_1 : cJ2_clear.data.toList.drop 23 = dktJ2_clear_1 := dk_seg dksJ2_clear_0 23 rfl rfl
theorem dJ2_clear_0 : decode cJ2_clear 0 = .ok (.aload_n 0, 1) := dk_42 (dk_at dksJ2_clear_0 0 rfl rfl)
theorem dJ2_clear_1 : decode cJ2_clear 1 = .ok (.dup, 1) := dk_89 (dk_at dksJ2_clear_0 1 rfl rfl)
theorem dJ2_clear_2 : decode cJ2_clear 2 = .ok (.getfield 63, 3) := dk_180 0 63 (dk_at dksJ2_clear_0 2 rfl rfl)
theorem dJ2_clear_5 : decode cJ2_clear 5 = .ok (.iconst 1, 1) := dk_4 (dk_at dksJ2_clear_0 5 rfl rfl)
theorem dJ2_clear_6 : decode cJ2_clear 6 = .ok (.iadd, 1) := dk_96 (dk_at dksJ2_clear_0 6 rfl rfl)
theorem dJ2_clear_7 : decode cJ2_clear 7 = .ok (.putfield 63, 3) := dk_181 0 63 (dk_at dksJ2_clear_0 7 rfl rfl)
theorem dJ2_clear_10 : decode cJ2_clear 10 = .ok (.aload_n 0, 1) := dk_42 (dk_at dksJ2_clear_0 10 rfl rfl)
theorem dJ2_clear_11 : decode cJ2_clear 11 = .ok (.getfield 9, 3) := dk_180 0 9 (dk_at dksJ2_clear_0 11 rfl rfl)
theorem dJ2_clear_14 : decode cJ2_clear 14 = .ok (.astore_n 1, 1) := dk_76 (dk_at dksJ2_clear_0 14 rfl rfl)
theorem dJ2_clear_15 : decode cJ2_clear 15 = .ok (.aload_n 0, 1) := dk_42 (dk_at dksJ2_clear_0 15 rfl rfl)
theorem dJ2_clear_16 : decode cJ2_clear 16 = .ok (.getfield 48, 3) := dk_180 0 48 (dk_at dksJ2_clear_0 16 rfl rfl)
theorem dJ2_clear_19 : decode cJ2_clear 19 = .ok (.istore_n 2, 1) := dk_61 (dk_at dksJ2_clear_0 19 rfl rfl)
theorem dJ2_clear_20 : decode cJ2_clear 20 = .ok (.aload_n 0, 1) := dk_42 (dk_at dksJ2_clear_0 20 rfl rfl)
theorem dJ2_clear_21 : decode cJ2_clear 21 = .ok (.iconst 0, 1) := dk_3 (dk_at dksJ2_clear_0 21 rfl rfl)
theorem dJ2_clear_22 : decode cJ2_clear 22 = .ok (.dup_x1, 1) := dk_90 (dk_at dksJ2_clear_0 22 rfl rfl)
theorem dJ2_clear_23 : decode cJ2_clear 23 = .ok (.putfield 48, 3) := dk_181 0 48 (dk_at dksJ2_clear_1 0 rfl rfl)
theorem dJ2_clear_26 : decode cJ2_clear 26 = .ok (.istore_n 3, 1) := dk_62 (dk_at dksJ2_clear_1 3 rfl rfl)
theorem dJ2_clear_27 : decode cJ2_clear 27 = .ok (.iload_n 3, 1) := dk_29 (dk_at dksJ2_clear_1 4 rfl rfl)
theorem dJ2_clear_28 : decode cJ2_clear 28 = .ok (.iload_n 2, 1) := dk_28 (dk_at dksJ2_clear_1 5 rfl rfl)
theorem dJ2_clear_29 : decode cJ2_clear 29 = .ok (.if_icmp .ge 13, 3) := dk_162 0 13 (dk_at dksJ2_clear_1 6 rfl rfl)
theorem dJ2_clear_32 : decode cJ2_clear 32 = .ok (.aload_n 1, 1) := dk_43 (dk_at dksJ2_clear_1 9 rfl rfl)
theorem dJ2_clear_33 : decode cJ2_clear 33 = .ok (.iload_n 3, 1) := dk_29 (dk_at dksJ2_clear_1 10 rfl rfl)
theorem dJ2_clear_34 : decode cJ2_clear 34 = .ok (.aconst_null, 1) := dk_1 (dk_at dksJ2_clear_1 11 rfl rfl)
theorem dJ2_clear_35 : decode cJ2_clear 35 = .ok (.aastore, 1) := dk_83 (dk_at dksJ2_clear_1 12 rfl rfl)
theorem dJ2_clear_36 : decode cJ2_clear 36 = .ok (.iinc 3 1, 3) := dk_132 3 1 (dk_at dksJ2_clear_1 13 rfl rfl)
theorem dJ2_clear_39 : decode cJ2_clear 39 = .ok (.goto (-12), 3) := dk_167 255 244 (dk_at dksJ2_clear_1 16 rfl rfl)
theorem dJ2_clear_42 : decode cJ2_clear 42 = .ok (.return_, 1) := dk_177 (dk_at dksJ2_clear_1 19 rfl rfl)
def dkwJ2_remove_3 : List UInt8 := [182, 0, 144, 4, 172]
abbrev dktJ2_remove_3 : List UInt8 := dkwJ2_remove_3 ++ []
def dkwJ2_remove_2 : List UInt8 := [21, 4, 50, 182, 0, 93, 153, 0, 6, 167, 0, 11, 132, 4, 1, 167, 255, 233, 3, 172, 42, 44, 21, 4]
abbrev dktJ2_remove_2 : List UInt8 := dkwJ2_remove_2 ++ dktJ2_remove_3
def dkwJ2_remove_1 : List UInt8 := [21, 4, 50, 199, 0, 6, 167, 0, 37, 132, 4, 1, 167, 255, 237, 21, 4, 29, 162, 0, 23, 43, 44]
abbrev dktJ2_remove_1 : List UInt8 := dkwJ2_remove_1 ++ dktJ2_remove_2
def dkwJ2_remove_0 : List UInt8 := [42, 180, 0, 9, 77, 42, 180, 0, 48, 62, 3, 54, 4, 43, 199, 0, 25, 21, 4, 29, 162, 0, 45, 44]
abbrev dktJ2_remove_0 : List UInt8 := dkwJ2_remove_0 ++ dktJ2_remove_1
theorem dksJ2_remove_0 : cJ2_remove.data.toList.drop 0 = dktJ2_remove_0 := by decide +kernel
theorem dksJ2_remove_1 : cJ2_remove.data.toList.drop 24 = dktJ2_remove_1 := dk_seg dksJ2_remove_0 24 rfl rfl
theorem dksJ2_remove_2 : cJ2_remove.data.toList.drop 47 = dktJ2_remove_2 := dk_seg dksJ2_remove_1 23 rfl rfl
theorem dksJ2_remove_3 : cJ2_remove.data.toList.drop 71 = dktJ2_remove_3 := dk_seg dksJ2_remove_2 24 rfl rfl
theorem dJ2_remove_0 : decode cJ2_remove 0 = .ok (.aload_n 0, 1) := dk_42 (dk_at dksJ2_remove_0 0 rfl rfl)
theorem dJ2_remove_1 : decode cJ2_remove 1 = .ok (.getfield 9, 3) := dk_180 0 9 (dk_at dksJ2_remove_0 1 rfl rfl)
theorem dJ2_remove_4 : decode cJ2_remove 4 = .ok (.astore_n 2, 1) := dk_77 (dk_at dksJ2_remove_0 4 rfl rfl)
theorem dJ2_remove_5 : decode cJ2_remove 5 = .ok (.aload_n 0, 1) := dk_42 (dk_at dksJ2_remove_0 5 rfl rfl)
theorem dJ2_remove_6 : decode cJ2_remove 6 = .ok (.getfield 48, 3) := dk_180 0 48 (dk_at dksJ2_remove_0 6 rfl rfl)
theorem dJ2_remove_9 : decode cJ2_remove 9 = .ok (.istore_n 3, 1) := dk_62 (dk_at dksJ2_remove_0 9 rfl rfl)
theorem dJ2_remove_10 : decode cJ2_remove 10 = .ok (.iconst 0, 1) := dk_3 (dk_at dksJ2_remove_0 10 rfl rfl)
theorem dJ2_remove_11 : decode cJ2_remove 11 = .ok (.istore 4, 2) := dk_54 4 (dk_at dksJ2_remove_0 11 rfl rfl)
theorem dJ2_remove_13 : decode cJ2_remove 13 = .ok (.aload_n 1, 1) := dk_43 (dk_at dksJ2_remove_0 13 rfl rfl)
theorem dJ2_remove_14 : decode cJ2_remove 14 = .ok (.ifnonnull 25, 3) := dk_199 0 25 (dk_at dksJ2_remove_0 14 rfl rfl)
theorem dJ2_remove_17 : decode cJ2_remove 17 = .ok (.iload 4, 2) := dk_21 4 (dk_at dksJ2_remove_0 17 rfl rfl)
theorem dJ2_remove_19 : decode cJ2_remove 19 = .ok (.iload_n 3, 1) := dk_29 (dk_at dksJ2_remove_0 19 rfl rfl)
theorem dJ2_remove_20 : decode cJ2_remove 20 = .ok (.if_icmp .ge 45, 3) := dk_162 0 45 (dk_at dksJ2_remove_0 20 rfl rfl)
theorem dJ2_remove_23 : decode cJ2_remove 23 = .ok (.aload_n 2, 1) := dk_44 (dk_at dksJ2_remove_0 23 rfl rfl)
theorem dJ2_remove_24 : decode cJ2_remove 24 = .ok (.iload 4, 2) := dk_21 4 (dk_at dksJ2_remove_1 0 rfl rfl)
theorem dJ2_remove_26 : decode cJ2_remove 26 = .ok (.aaload, 1) := dk_50 (dk_at dksJ2_remove_1 2 rfl rfl)
theorem dJ2_remove_27 : decode cJ2_remove 27 = .ok (.ifnonnull 6, 3) := dk_199 0 6 (dk_at dksJ2_remove_1 3 rfl rfl)
theorem dJ2_remove_30 : decode cJ2_remove 30 = .ok (.goto 37, 3) := dk_167 0 37 (dk_at dksJ2_remove_1 6 rfl rfl)
theorem dJ2_remove_33 : decode cJ2_remove 33 = .ok (.iinc 4 1, 3) := dk_132 4 1 (dk_at dksJ2_remove_1 9 rfl rfl)
theorem dJ2_remove_36 : decode cJ2_remove 36 = .ok (.goto (-19), 3) := dk_167 255 237 (dk_at dksJ2_remove_1 12 rfl rfl)
theorem dJ2_remove_39 : decode cJ2_remove 39 = .ok (.iload 4, 2) := dk_21 4 (dk_at dksJ2_remove_1 15 rfl rfl)
theorem dJ2_remove_41 : decode cJ2_remove 41 = .ok (.iload_n 3, 1) := dk_29 (dk_at dksJ2_remove_1 17 rfl rfl)
theorem dJ2_remove_42 : decode cJ2_remove 42 = .ok (.if_icmp .ge 23, 3) := dk_162 0 23 (dk_at dksJ2_remove_1 18 rfl rfl)
theorem dJ2_remove_45 : decode cJ2_remove 45 = .ok (.aload_n 1, 1) := dk_43 (dk_at dksJ2_remove_1 21 rfl rfl)
theorem dJ2_remove_46 : decode cJ2_remove 46 = .ok (.aload_n 2, 1) := dk_44 (dk_at dksJ2_remove_1 22 rfl rfl)
theorem dJ2_remove_47 : decode cJ2_remove 47 = .ok (.iload 4, 2) := dk_21 4 (dk_at dksJ2_remove_2 0 rfl rfl)
theorem dJ2_remove_49 : decode cJ2_remove 49 = .ok (.aaload, 1) := dk_50 (dk_at dksJ2_remove_2 2 rfl rfl)
theorem dJ2_remove_50 : decode cJ2_remove 50 = .ok (.invokevirtual 93, 3) := dk_182 0 93 (dk_at dksJ2_remove_2 3 rfl rfl)
theorem dJ2_remove_53 : decode cJ2_remove 53 = .ok (.ifCond .eq 6, 3) := dk_153 0 6 (dk_at dksJ2_remove_2 6 rfl rfl)
theorem dJ2_remove_56 : decode cJ2_remove 56 = .ok (.goto 11, 3) := dk_167 0 11 (dk_at dksJ2_remove_2 9 rfl rfl)
theorem dJ2_remove_59 : decode cJ2_remove 59 = .ok (.iinc 4 1, 3) := dk_132 4 1 (dk_at dksJ2_remove_2 12 rfl rfl)
theorem dJ2_remove_62 : decode cJ2_remove 62 = .ok (.goto (-23), 3) := dk_167 255 233 (dk_at dksJ2_remove_2 15 rfl rfl)
theorem dJ2_remove_65 : decode cJ2_remove 65 = .ok (.iconst 0, 1) := dk_3 (dk_at dksJ2_remove_2 18 rfl rfl)
theorem dJ2_remove_66 : decode cJ2_remove 66 = .ok (.ireturn, 1) := dk_172 (dk_at dksJ2_remove_2 19 rfl rfl)
theorem dJ2_remove_67 : decode cJ2_remove 67 = .ok (.aload_n 0, 1) := dk_42 (dk_at dksJ2_remove_2 20 rfl rfl)
theorem dJ2_remove_68 : decode cJ2_remove 68 = .ok (.aload_n 2, 1) := dk_44 (dk_at dksJ2_remove_2 21 rfl rfl)
theorem dJ2_remove_69 : decode cJ2_remove 69 = .ok (.iload 4, 2) := dk_21 4 (dk_at dksJ2_remove_2 22 rfl rfl)
theorem dJ2_remove_71 : decode cJ2_remove 71 = .ok (.invokevirtual 144, 3) := dk_182 0 144 (dk_at dksJ2_remove_3 0 rfl rfl)
theorem dJ2_remove_74 : decode cJ2_remove 74 = .ok (.iconst 1, 1) := dk_4 (dk_at dksJ2_remove_3 3 rfl rfl)
theorem dJ2_remove_75 : decode cJ2_remove 75 = .ok (.ireturn, 1) := dk_172 (dk_at dksJ2_remove_3 4 rfl rfl)
def dkwJ2_fastRemove_1 : List UInt8 := [4, 96, 43, 28, 29, 28, 100, 184, 0, 112, 43, 42, 29, 90, 181, 0, 48, 1, 83, 177]
abbrev dktJ2_fastRemove_1 : List UInt8 := dkwJ2_fastRemove_1 ++ []
def dkwJ2_fastRemove_0 : List UInt8 := [42, 89, 180, 0, 63, 4, 96, 181, 0, 63, 42, 180, 0, 48, 4, 100, 89, 62, 28, 164, 0, 15, 43, 28]
abbrev dktJ2_fastRemove_0 : List UInt8 := dkwJ2_fastRemove_0 ++ dktJ2_fastRemove_1
theorem dksJ2_fastRemove_0 : cJ2_fastRemove.data.toList.drop 0 = dktJ2_fastRemove_0 := by decide +kernel
theorem dksJ2_fastRemove_1 : cJ2_fastRemove.data.toList.drop 24 = dktJ2_fastRemove_1 := dk_seg dksJ2_fastRemove_0 24 rfl rfl
theorem dJ2_fastRemove_0 : decode cJ2_fastRemove 0 = .ok (.aload_n 0, 1) := dk_42 (dk_at dksJ2_fastRemove_0 0 rfl rfl)
theorem dJ2_fastRemove_1 : decode cJ2_fastRemove 1 = .ok (.dup, 1) := dk_89 (dk_at dksJ2_fastRemove_0 1 rfl rfl)
theorem dJ2_fastRemove_2 : decode cJ2_fastRemove 2 = .ok (.getfield 63, 3) := dk_180 0 63 (dk_at dksJ2_fastRemove_0 2 rfl rfl)
theorem dJ2_fastRemove_5 : decode cJ2_fastRemove 5 = .ok (.iconst 1, 1) := dk_4 (dk_at dksJ2_fastRemove_0 5 rfl rfl)
theorem dJ2_fastRemove_6 : decode cJ2_fastRemove 6 = .ok (.iadd, 1) := dk_96 (dk_at dksJ2_fastRemove_0 6 rfl rfl)
theorem dJ2_fastRemove_7 : decode cJ2_fastRemove 7 = .ok (.putfield 63, 3) := dk_181 0 63 (dk_at dksJ2_fastRemove_0 7 rfl rfl)
theorem dJ2_fastRemove_10 : decode cJ2_fastRemove 10 = .ok (.aload_n 0, 1) := dk_42 (dk_at dksJ2_fastRemove_0 10 rfl rfl)
theorem dJ2_fastRemove_11 : decode cJ2_fastRemove 11 = .ok (.getfield 48, 3) := dk_180 0 48 (dk_at dksJ2_fastRemove_0 11 rfl rfl)
theorem dJ2_fastRemove_14 : decode cJ2_fastRemove 14 = .ok (.iconst 1, 1) := dk_4 (dk_at dksJ2_fastRemove_0 14 rfl rfl)
theorem dJ2_fastRemove_15 : decode cJ2_fastRemove 15 = .ok (.isub, 1) := dk_100 (dk_at dksJ2_fastRemove_0 15 rfl rfl)
theorem dJ2_fastRemove_16 : decode cJ2_fastRemove 16 = .ok (.dup, 1) := dk_89 (dk_at dksJ2_fastRemove_0 16 rfl rfl)
theorem dJ2_fastRemove_17 : decode cJ2_fastRemove 17 = .ok (.istore_n 3, 1) := dk_62 (dk_at dksJ2_fastRemove_0 17 rfl rfl)
theorem dJ2_fastRemove_18 : decode cJ2_fastRemove 18 = .ok (.iload_n 2, 1) := dk_28 (dk_at dksJ2_fastRemove_0 18 rfl rfl)
theorem dJ2_fastRemove_19 : decode cJ2_fastRemove 19 = .ok (.if_icmp .le 15, 3) := dk_164 0 15 (dk_at dksJ2_fastRemove_0 19 rfl rfl)
theorem dJ2_fastRemove_22 : decode cJ2_fastRemove 22 = .ok (.aload_n 1, 1) := dk_43 (dk_at dksJ2_fastRemove_0 22 rfl rfl)
theorem dJ2_fastRemove_23 : decode cJ2_fastRemove 23 = .ok (.iload_n 2, 1) := dk_28 (dk_at dksJ2_fastRemove_0 23 rfl rfl)
theorem dJ2_fastRemove_24 : decode cJ2_fastRemove 24 = .ok (.iconst 1, 1) := dk_4 (dk_at dksJ2_fastRemove_1 0 rfl rfl)
theorem dJ2_fastRemove_25 : decode cJ2_fastRemove 25 = .ok (.iadd, 1) := dk_96 (dk_at dksJ2_fastRemove_1 1 rfl rfl)
theorem dJ2_fastRemove_26 : decode cJ2_fastRemove 26 = .ok (.aload_n 1, 1) := dk_43 (dk_at dksJ2_fastRemove_1 2 rfl rfl)
theorem dJ2_fastRemove_27 : decode cJ2_fastRemove 27 = .ok (.iload_n 2, 1) := dk_28 (dk_at dksJ2_fastRemove_1 3 rfl rfl)
theorem dJ2_fastRemove_28 : decode cJ2_fastRemove 28 = .ok (.iload_n 3, 1) := dk_29 (dk_at dksJ2_fastRemove_1 4 rfl rfl)
theorem dJ2_fastRemove_29 : decode cJ2_fastRemove 29 = .ok (.iload_n 2, 1) := dk_28 (dk_at dksJ2_fastRemove_1 5 rfl rfl)
theorem dJ2_fastRemove_30 : decode cJ2_fastRemove 30 = .ok (.isub, 1) := dk_100 (dk_at dksJ2_fastRemove_1 6 rfl rfl)
theorem dJ2_fastRemove_31 : decode cJ2_fastRemove 31 = .ok (.invokestatic 112, 3) := dk_184 0 112 (dk_at dksJ2_fastRemove_1 7 rfl rfl)
theorem dJ2_fastRemove_34 : decode cJ2_fastRemove 34 = .ok (.aload_n 1, 1) := dk_43 (dk_at dksJ2_fastRemove_1 10 rfl rfl)
theorem dJ2_fastRemove_35 : decode cJ2_fastRemove 35 = .ok (.aload_n 0, 1) := dk_42 (dk_at dksJ2_fastRemove_1 11 rfl rfl)
theorem dJ2_fastRemove_36 : decode cJ2_fastRemove 36 = .ok (.iload_n 3, 1) := dk_29 (dk_at dksJ2_fastRemove_1 12 rfl rfl)
theorem dJ2_fastRemove_37 : decode cJ2_fastRemove 37 = .ok (.dup_x1, 1) := dk_90 (dk_at dksJ2_fastRemove_1 13 rfl rfl)
theorem dJ2_fastRemove_38 : decode cJ2_fastRemove 38 = .ok (.putfield 48, 3) := dk_181 0 48 (dk_at dksJ2_fastRemove_1 14 rfl rfl)
theorem dJ2_fastRemove_41 : decode cJ2_fastRemove 41 = .ok (.aconst_null, 1) := dk_1 (dk_at dksJ2_fastRemove_1 17 rfl rfl)
theorem dJ2_fastRemove_42 : decode cJ2_fastRemove 42 = .ok (.aastore, 1) := dk_83 (dk_at dksJ2_fastRemove_1 18 rfl rfl)
theorem dJ2_fastRemove_43 : decode cJ2_fastRemove 43 = .ok (.return_, 1) := dk_177 (dk_at dksJ2_fastRemove_1 19 rfl rfl)
def dkwJ2_iterator_0 : List UInt8 := [187, 1, 11, 89, 42, 183, 1, 13, 176]
abbrev dktJ2_iterator_0 : List UInt8 := dkwJ2_iterator_0 ++ []
theorem dksJ2_iterator_0 : cJ2_iterator.data.toList.drop 0 = dktJ2_iterator_0 := by decide +kernel
theorem dJ2_iterator_0 : decode cJ2_iterator 0 = .ok (.new 267, 3) := dk_187 1 11 (dk_at dksJ2_iterator_0 0 rfl rfl)
theorem dJ2_iterator_3 : decode cJ2_iterator 3 = .ok (.dup, 1) := dk_89 (dk_at dksJ2_iterator_0 3 rfl rfl)
theorem dJ2_iterator_4 : decode cJ2_iterator 4 = .ok (.aload_n 0, 1) := dk_42 (dk_at dksJ2_iterator_0 4 rfl rfl)
theorem dJ2_iterator_5 : decode cJ2_iterator 5 = .ok (.invokespecial 269, 3) := dk_183 1 13 (dk_at dksJ2_iterator_0 5 rfl rfl)
theorem dJ2_iterator_8 : decode cJ2_iterator 8 = .ok (.areturn, 1) := dk_176 (dk_at dksJ2_iterator_0 8 rfl rfl)
def dkwJ3_newLength_1 : List UInt8 := [184, 0, 201, 172]
abbrev dktJ3_newLength_1 : List UInt8 := dkwJ3_newLength_1 ++ []
def dkwJ3_newLength_0 : List UInt8 := [26, 27, 28, 184, 0, 194, 96, 62, 3, 29, 162, 0, 11, 29, 18, 200, 163, 0, 5, 29, 172, 26, 27]
abbrev dktJ3_newLength_0 : List UInt8 := dkwJ3_newLength_0 ++ dktJ3_newLength_1
theorem dksJ3_newLength_0 : cJ3_newLength.data.toList.drop 0 = dktJ3_newLength_0 := by decide +kernel
theorem dksJ3_newLength_1 : cJ3_newLength.data.toList.drop 23 = dktJ3_newLength_1 := dk_seg dksJ3_newLength_0 23 rfl rfl
theorem dJ3_newLength_0 : decode cJ3_newLength 0 = .ok (.iload_n 0, 1) := dk_26 (dk_at dksJ3_newLength_0 0 rfl rfl)
theorem dJ3_newLength_1 : decode cJ3_newLength 1 = .ok (.iload_n 1, 1) := dk_27 (dk_at dksJ3_newLength_0 1 rfl rfl)
theorem dJ3_newLength_2 : decode cJ3_newLength 2 = .ok (.iload_n 2, 1) := dk_28 (dk_at dksJ3_newLength_0 2 rfl rfl)
theorem dJ3_newLength_3 : decode cJ3_newLength 3 = .ok (.invokestatic 194, 3) := dk_184 0 194 (dk_at dksJ3_newLength_0 3 rfl rfl)
theorem dJ3_newLength_6 : decode cJ3_newLength 6 = .ok (.iadd, 1) := dk_96 (dk_at dksJ3_newLength_0 6 rfl rfl)
theorem dJ3_newLength_7 : decode cJ3_newLength 7 = .ok (.istore_n 3, 1) := dk_62 (dk_at dksJ3_newLength_0 7 rfl rfl)
theorem dJ3_newLength_8 : decode cJ3_newLength 8 = .ok (.iconst 0, 1) := dk_3 (dk_at dksJ3_newLength_0 8 rfl rfl)
theorem dJ3_newLength_9 : decode cJ3_newLength 9 = .ok (.iload_n 3, 1) := dk_29 (dk_at dksJ3_newLength_0 9 rfl rfl)
theorem dJ3_newLength_10 : decode cJ3_newLength 10 = .ok (.if_icmp .ge 11, 3) := dk_162 0 11 (dk_at dksJ3_newLength_0 10 rfl rfl)
theorem dJ3_newLength_13 : decode cJ3_newLength 13 = .ok (.iload_n 3, 1) := dk_29 (dk_at dksJ3_newLength_0 13 rfl rfl)
theorem dJ3_newLength_14 : decode cJ3_newLength 14 = .ok (.ldc 200, 2) := dk_18 200 (dk_at dksJ3_newLength_0 14 rfl rfl)
theorem dJ3_newLength_16 : decode cJ3_newLength 16 = .ok (.if_icmp .gt 5, 3) := dk_163 0 5 (dk_at dksJ3_newLength_0 16 rfl rfl)
theorem dJ3_newLength_19 : decode cJ3_newLength 19 = .ok (.iload_n 3, 1) := dk_29 (dk_at dksJ3_newLength_0 19 rfl rfl)
theorem dJ3_newLength_20 : decode cJ3_newLength 20 = .ok (.ireturn, 1) := dk_172 (dk_at dksJ3_newLength_0 20 rfl rfl)
theorem dJ3_newLength_21 : decode cJ3_newLength 21 = .ok (.iload_n 0, 1) := dk_26 (dk_at dksJ3_newLength_0 21 rfl rfl)
theorem dJ3_newLength_22 : decode cJ3_newLength 22 = .ok (.iload_n 1, 1) := dk_27 (dk_at dksJ3_newLength_0 22 rfl rfl)
theorem dJ3_newLength_23 : decode cJ3_newLength 23 = .ok (.invokestatic 201, 3) := dk_184 0 201 (dk_at dksJ3_newLength_1 0 rfl rfl)
theorem dJ3_newLength_26 : decode cJ3_newLength 26 = .ok (.ireturn, 1) := dk_172 (dk_at dksJ3_newLength_1 3 rfl rfl)
def dkwJ3_hugeLength_2 : List UInt8 := [191, 28, 18, 200, 163, 0, 6, 18, 200, 172, 28, 172]
abbrev dktJ3_hugeLength_2 : List UInt8 := dkwJ3_hugeLength_2 ++ []
def dkwJ3_hugeLength_1 : List UInt8 := [26, 182, 0, 98, 18, 208, 182, 0, 94, 27, 182, 0, 98, 18, 210, 182, 0, 94, 182, 0, 101, 183, 0, 212]
abbrev dktJ3_hugeLength_1 : List UInt8 := dkwJ3_hugeLength_1 ++ dktJ3_hugeLength_2
def dkwJ3_hugeLength_0 : List UInt8 := [26, 27, 96, 61, 28, 156, 0, 44, 187, 0, 204, 89, 187, 0, 89, 89, 183, 0, 91, 18, 206, 182, 0, 94]
abbrev dktJ3_hugeLength_0 : List UInt8 := dkwJ3_hugeLength_0 ++ dktJ3_hugeLength_1
theorem dksJ3_hugeLength_0 : cJ3_hugeLength.data.toList.drop 0 = dktJ3_hugeLength_0 := by decide +kernel
theorem dksJ3_hugeLength_1 : cJ3_hugeLength.data.toList.drop 24 = dktJ3_hugeLength_1 := dk_seg dksJ3_hugeLength_0 24 rfl rfl
theorem dksJ3_hugeLength_2 : cJ3_hugeLength.data.toList.drop 48 = dktJ3_hugeLength_2 := dk_seg dksJ3_hugeLength_1 24 rfl rfl
theorem dJ3_hugeLength_0 : decode cJ3_hugeLength 0 = .ok (.iload_n 0, 1) := dk_26 (dk_at dksJ3_hugeLength_0 0 rfl rfl)
theorem dJ3_hugeLength_1 : decode cJ3_hugeLength 1 = .ok (.iload_n 1, 1) := dk_27 (dk_at dksJ3_hugeLength_0 1 rfl rfl)
theorem dJ3_hugeLength_2 : decode cJ3_hugeLength 2 = .ok (.iadd, 1) := dk_96 (dk_at dksJ3_hugeLength_0 2 rfl rfl)
theorem dJ3_hugeLength_3 : decode cJ3_hugeLength 3 = .ok (.istore_n 2, 1) := dk_61 (dk_at dksJ3_hugeLength_0 3 rfl rfl)
theorem dJ3_hugeLength_4 : decode cJ3_hugeLength 4 = .ok (.iload_n 2, 1) := dk_28 (dk_at dksJ3_hugeLength_0 4 rfl rfl)
theorem dJ3_hugeLength_5 : decode cJ3_hugeLength 5 = .ok (.ifCond .ge 44, 3) := dk_156 0 44 (dk_at dksJ3_hugeLength_0 5 rfl rfl)
theorem dJ3_hugeLength_8 : decode cJ3_hugeLength 8 = .ok (.new 204, 3) := dk_187 0 204 (dk_at dksJ3_hugeLength_0 8 rfl rfl)
theorem dJ3_hugeLength_11 : decode cJ3_hugeLength 11 = .ok (.dup, 1) := dk_89 (dk_at dksJ3_hugeLength_0 11 rfl rfl)
theorem dJ3_hugeLength_12 : decode cJ3_hugeLength 12 = .ok (.new 89, 3) := dk_187 0 89 (dk_at dksJ3_hugeLength_0 12 rfl rfl)
theorem dJ3_hugeLength_15 : decode cJ3_hugeLength 15 = .ok (.dup, 1) := dk_89 (dk_at dksJ3_hugeLength_0 15 rfl rfl)
theorem dJ3_hugeLength_16 : decode cJ3_hugeLength 16 = .ok (.invokespecial 91, 3) := dk_183 0 91 (dk_at dksJ3_hugeLength_0 16 rfl rfl)
theorem dJ3_hugeLength_19 : decode cJ3_hugeLength 19 = .ok (.ldc 206, 2) := dk_18 206 (dk_at dksJ3_hugeLength_0 19 rfl rfl)
theorem dJ3_hugeLength_21 : decode cJ3_hugeLength 21 = .ok (.invokevirtual 94, 3) := dk_182 0 94 (dk_at dksJ3_hugeLength_0 21 rfl rfl)
theorem dJ3_hugeLength_24 : decode cJ3_hugeLength 24 = .ok (.iload_n 0, 1) := dk_26 (dk_at dksJ3_hugeLength_1 0 rfl rfl)
theorem dJ3_hugeLength_25 : decode cJ3_hugeLength 25 = .ok (.invokevirtual 98, 3) := dk_182 0 98 (dk_at dksJ3_hugeLength_1 1 rfl rfl)
theorem dJ3_hugeLength_28 : decode cJ3_hugeLength 28 = .ok (.ldc 208, 2) := dk_18 208 (dk_at dksJ3_hugeLength_1 4 rfl rfl)
theorem dJ3_hugeLength_30 : decode cJ3_hugeLength 30 = .ok (.invokevirtual 94, 3) := dk_182 0 94 (dk_at dksJ3_hugeLength_1 6 rfl rfl)
theorem dJ3_hugeLength_33 : decode cJ3_hugeLength 33 = .ok (.iload_n 1, 1) := dk_27 (dk_at dksJ3_hugeLength_1 9 rfl rfl)
theorem dJ3_hugeLength_34 : decode cJ3_hugeLength 34 = .ok (.invokevirtual 98, 3) := dk_182 0 98 (dk_at dksJ3_hugeLength_1 10 rfl rfl)
theorem dJ3_hugeLength_37 : decode cJ3_hugeLength 37 = .ok (.ldc 210, 2) := dk_18 210 (dk_at dksJ3_hugeLength_1 13 rfl rfl)
theorem dJ3_hugeLength_39 : decode cJ3_hugeLength 39 = .ok (.invokevirtual 94, 3) := dk_182 0 94 (dk_at dksJ3_hugeLength_1 15 rfl rfl)
theorem dJ3_hugeLength_42 : decode cJ3_hugeLength 42 = .ok (.invokevirtual 101, 3) := dk_182 0 101 (dk_at dksJ3_hugeLength_1 18 rfl rfl)
theorem dJ3_hugeLength_45 : decode cJ3_hugeLength 45 = .ok (.invokespecial 212, 3) := dk_183 0 212 (dk_at dksJ3_hugeLength_1 21 rfl rfl)
theorem dJ3_hugeLength_48 : decode cJ3_hugeLength 48 = .ok (.athrow, 1) := dk_191 (dk_at dksJ3_hugeLength_2 0 rfl rfl)
theorem dJ3_hugeLength_49 : decode cJ3_hugeLength 49 = .ok (.iload_n 2, 1) := dk_28 (dk_at dksJ3_hugeLength_2 1 rfl rfl)
theorem dJ3_hugeLength_50 : decode cJ3_hugeLength 50 = .ok (.ldc 200, 2) := dk_18 200 (dk_at dksJ3_hugeLength_2 2 rfl rfl)
theorem dJ3_hugeLength_52 : decode cJ3_hugeLength 52 = .ok (.if_icmp .gt 6, 3) := dk_163 0 6 (dk_at dksJ3_hugeLength_2 4 rfl rfl)
theorem dJ3_hugeLength_55 : decode cJ3_hugeLength 55 = .ok (.ldc 200, 2) := dk_18 200 (dk_at dksJ3_hugeLength_2 7 rfl rfl)
theorem dJ3_hugeLength_57 : decode cJ3_hugeLength 57 = .ok (.ireturn, 1) := dk_172 (dk_at dksJ3_hugeLength_2 9 rfl rfl)
theorem dJ3_hugeLength_58 : decode cJ3_hugeLength 58 = .ok (.iload_n 2, 1) := dk_28 (dk_at dksJ3_hugeLength_2 10 rfl rfl)
theorem dJ3_hugeLength_59 : decode cJ3_hugeLength 59 = .ok (.ireturn, 1) := dk_172 (dk_at dksJ3_hugeLength_2 11 rfl rfl)
def dkwJ4_max_0 : List UInt8 := [26, 27, 161, 0, 7, 26, 167, 0, 4, 27, 172]
abbrev dktJ4_max_0 : List UInt8 := dkwJ4_max_0 ++ []
theorem dksJ4_max_0 : cJ4_max.data.toList.drop 0 = dktJ4_max_0 := by decide +kernel
theorem dJ4_max_0 : decode cJ4_max 0 = .ok (.iload_n 0, 1) := dk_26 (dk_at dksJ4_max_0 0 rfl rfl)
theorem dJ4_max_1 : decode cJ4_max 1 = .ok (.iload_n 1, 1) := dk_27 (dk_at dksJ4_max_0 1 rfl rfl)
theorem dJ4_max_2 : decode cJ4_max 2 = .ok (.if_icmp .lt 7, 3) := dk_161 0 7 (dk_at dksJ4_max_0 2 rfl rfl)
theorem dJ4_max_5 : decode cJ4_max 5 = .ok (.iload_n 0, 1) := dk_26 (dk_at dksJ4_max_0 5 rfl rfl)
theorem dJ4_max_6 : decode cJ4_max 6 = .ok (.goto 4, 3) := dk_167 0 4 (dk_at dksJ4_max_0 6 rfl rfl)
theorem dJ4_max_9 : decode cJ4_max 9 = .ok (.iload_n 1, 1) := dk_27 (dk_at dksJ4_max_0 9 rfl rfl)
theorem dJ4_max_10 : decode cJ4_max 10 = .ok (.ireturn, 1) := dk_172 (dk_at dksJ4_max_0 10 rfl rfl)
def dkwJ4_min_0 : List UInt8 := [26, 27, 163, 0, 7, 26, 167, 0, 4, 27, 172]
abbrev dktJ4_min_0 : List UInt8 := dkwJ4_min_0 ++ []
theorem dksJ4_min_0 : cJ4_min.data.toList.drop 0 = dktJ4_min_0 := by decide +kernel
theorem dJ4_min_0 : decode cJ4_min 0 = .ok (.iload_n 0, 1) := dk_26 (dk_at dksJ4_min_0 0 rfl rfl)
theorem dJ4_min_1 : decode cJ4_min 1 = .ok (.iload_n 1, 1) := dk_27 (dk_at dksJ4_min_0 1 rfl rfl)
theorem dJ4_min_2 : decode cJ4_min 2 = .ok (.if_icmp .gt 7, 3) := dk_163 0 7 (dk_at dksJ4_min_0 2 rfl rfl)
theorem dJ4_min_5 : decode cJ4_min 5 = .ok (.iload_n 0, 1) := dk_26 (dk_at dksJ4_min_0 5 rfl rfl)
theorem dJ4_min_6 : decode cJ4_min 6 = .ok (.goto 4, 3) := dk_167 0 4 (dk_at dksJ4_min_0 6 rfl rfl)
theorem dJ4_min_9 : decode cJ4_min 9 = .ok (.iload_n 1, 1) := dk_27 (dk_at dksJ4_min_0 9 rfl rfl)
theorem dJ4_min_10 : decode cJ4_min 10 = .ok (.ireturn, 1) := dk_172 (dk_at dksJ4_min_0 10 rfl rfl)
def dkwJ4_min_2_0 : List UInt8 := [30, 32, 148, 157, 0, 7, 30, 167, 0, 4, 32, 173]
abbrev dktJ4_min_2_0 : List UInt8 := dkwJ4_min_2_0 ++ []
theorem dksJ4_min_2_0 : cJ4_min_2.data.toList.drop 0 = dktJ4_min_2_0 := by decide +kernel
theorem dJ4_min_2_0 : decode cJ4_min_2 0 = .ok (.lload_n 0, 1) := dk_30 (dk_at dksJ4_min_2_0 0 rfl rfl)
theorem dJ4_min_2_1 : decode cJ4_min_2 1 = .ok (.lload_n 2, 1) := dk_32 (dk_at dksJ4_min_2_0 1 rfl rfl)
theorem dJ4_min_2_2 : decode cJ4_min_2 2 = .ok (.lcmp, 1) := dk_148 (dk_at dksJ4_min_2_0 2 rfl rfl)
theorem dJ4_min_2_3 : decode cJ4_min_2 3 = .ok (.ifCond .gt 7, 3) := dk_157 0 7 (dk_at dksJ4_min_2_0 3 rfl rfl)
theorem dJ4_min_2_6 : decode cJ4_min_2 6 = .ok (.lload_n 0, 1) := dk_30 (dk_at dksJ4_min_2_0 6 rfl rfl)
theorem dJ4_min_2_7 : decode cJ4_min_2 7 = .ok (.goto 4, 3) := dk_167 0 4 (dk_at dksJ4_min_2_0 7 rfl rfl)
theorem dJ4_min_2_10 : decode cJ4_min_2 10 = .ok (.lload_n 2, 1) := dk_32 (dk_at dksJ4_min_2_0 10 rfl rfl)
theorem dJ4_min_2_11 : decode cJ4_min_2 11 = .ok (.lreturn, 1) := dk_173 (dk_at dksJ4_min_2_0 11 rfl rfl)
def dkwJ4_max_2_0 : List UInt8 := [30, 32, 148, 155, 0, 7, 30, 167, 0, 4, 32, 173]
abbrev dktJ4_max_2_0 : List UInt8 := dkwJ4_max_2_0 ++ []
theorem dksJ4_max_2_0 : cJ4_max_2.data.toList.drop 0 = dktJ4_max_2_0 := by decide +kernel
theorem dJ4_max_2_0 : decode cJ4_max_2 0 = .ok (.lload_n 0, 1) := dk_30 (dk_at dksJ4_max_2_0 0 rfl rfl)
theorem dJ4_max_2_1 : decode cJ4_max_2 1 = .ok (.lload_n 2, 1) := dk_32 (dk_at dksJ4_max_2_0 1 rfl rfl)
theorem dJ4_max_2_2 : decode cJ4_max_2 2 = .ok (.lcmp, 1) := dk_148 (dk_at dksJ4_max_2_0 2 rfl rfl)
theorem dJ4_max_2_3 : decode cJ4_max_2 3 = .ok (.ifCond .lt 7, 3) := dk_155 0 7 (dk_at dksJ4_max_2_0 3 rfl rfl)
theorem dJ4_max_2_6 : decode cJ4_max_2 6 = .ok (.lload_n 0, 1) := dk_30 (dk_at dksJ4_max_2_0 6 rfl rfl)
theorem dJ4_max_2_7 : decode cJ4_max_2 7 = .ok (.goto 4, 3) := dk_167 0 4 (dk_at dksJ4_max_2_0 7 rfl rfl)
theorem dJ4_max_2_10 : decode cJ4_max_2 10 = .ok (.lload_n 2, 1) := dk_32 (dk_at dksJ4_max_2_0 10 rfl rfl)
theorem dJ4_max_2_11 : decode cJ4_max_2 11 = .ok (.lreturn, 1) := dk_173 (dk_at dksJ4_max_2_0 11 rfl rfl)
def dkwJ5_copyOf_0 : List UInt8 := [42, 27, 42, 182, 0, 86, 184, 1, 44, 176]
abbrev dktJ5_copyOf_0 : List UInt8 := dkwJ5_copyOf_0 ++ []
theorem dksJ5_copyOf_0 : cJ5_copyOf.data.toList.drop 0 = dktJ5_copyOf_0 := by decide +kernel
theorem dJ5_copyOf_0 : decode cJ5_copyOf 0 = .ok (.aload_n 0, 1) := dk_42 (dk_at dksJ5_copyOf_0 0 rfl rfl)
theorem dJ5_copyOf_1 : decode cJ5_copyOf 1 = .ok (.iload_n 1, 1) := dk_27 (dk_at dksJ5_copyOf_0 1 rfl rfl)
theorem dJ5_copyOf_2 : decode cJ5_copyOf 2 = .ok (.aload_n 0, 1) := dk_42 (dk_at dksJ5_copyOf_0 2 rfl rfl)
theorem dJ5_copyOf_3 : decode cJ5_copyOf 3 = .ok (.invokevirtual 86, 3) := dk_182 0 86 (dk_at dksJ5_copyOf_0 3 rfl rfl)
theorem dJ5_copyOf_6 : decode cJ5_copyOf 6 = .ok (.invokestatic 300, 3) := dk_184 1 44 (dk_at dksJ5_copyOf_0 6 rfl rfl)
theorem dJ5_copyOf_9 : decode cJ5_copyOf 9 = .ok (.areturn, 1) := dk_176 (dk_at dksJ5_copyOf_0 9 rfl rfl)
def dkwJ5_copyOf_2_1 : List UInt8 := [78, 42, 3, 45, 3, 42, 190, 27, 184, 1, 48, 184, 0, 150, 45, 176]
abbrev dktJ5_copyOf_2_1 : List UInt8 := dkwJ5_copyOf_2_1 ++ []
def dkwJ5_copyOf_2_0 : List UInt8 := [44, 18, 110, 166, 0, 10, 27, 189, 0, 2, 167, 0, 14, 44, 182, 0, 90, 27, 184, 0, 95, 192, 0, 110]
abbrev dktJ5_copyOf_2_0 : List UInt8 := dkwJ5_copyOf_2_0 ++ dktJ5_copyOf_2_1
theorem dksJ5_copyOf_2_0 : cJ5_copyOf_2.data.toList.drop 0 = dktJ5_copyOf_2_0 := by decide +kernel
theorem dksJ5_copyOf_2_1 : cJ5_copyOf_2.data.toList.drop 24 = dktJ5_copyOf_2_1 := dk_seg dksJ5_copyOf_2_0 24 rfl rfl
theorem dJ5_copyOf_2_0 : decode cJ5_copyOf_2 0 = .ok (.aload_n 2, 1) := dk_44 (dk_at dksJ5_copyOf_2_0 0 rfl rfl)
theorem dJ5_copyOf_2_1 : decode cJ5_copyOf_2 1 = .ok (.ldc 110, 2) := dk_18 110 (dk_at dksJ5_copyOf_2_0 1 rfl rfl)
theorem dJ5_copyOf_2_3 : decode cJ5_copyOf_2 3 = .ok (.if_acmp .ne 10, 3) := dk_166 0 10 (dk_at dksJ5_copyOf_2_0 3 rfl rfl)
theorem dJ5_copyOf_2_6 : decode cJ5_copyOf_2 6 = .ok (.iload_n 1, 1) := dk_27 (dk_at dksJ5_copyOf_2_0 6 rfl rfl)
theorem dJ5_copyOf_2_7 : decode cJ5_copyOf_2 7 = .ok (.anewarray 2, 3) := dk_189 0 2 (dk_at dksJ5_copyOf_2_0 7 rfl rfl)
theorem dJ5_copyOf_2_10 : decode cJ5_copyOf_2 10 = .ok (.goto 14, 3) := dk_167 0 14 (dk_at dksJ5_copyOf_2_0 10 rfl rfl)
theorem dJ5_copyOf_2_13 : decode cJ5_copyOf_2 13 = .ok (.aload_n 2, 1) := dk_44 (dk_at dksJ5_copyOf_2_0 13 rfl rfl)
theorem dJ5_copyOf_2_14 : decode cJ5_copyOf_2 14 = .ok (.invokevirtual 90, 3) := dk_182 0 90 (dk_at dksJ5_copyOf_2_0 14 rfl rfl)
theorem dJ5_copyOf_2_17 : decode cJ5_copyOf_2 17 = .ok (.iload_n 1, 1) := dk_27 (dk_at dksJ5_copyOf_2_0 17 rfl rfl)
theorem dJ5_copyOf_2_18 : decode cJ5_copyOf_2 18 = .ok (.invokestatic 95, 3) := dk_184 0 95 (dk_at dksJ5_copyOf_2_0 18 rfl rfl)
theorem dJ5_copyOf_2_21 : decode cJ5_copyOf_2 21 = .ok (.checkcast 110, 3) := dk_192 0 110 (dk_at dksJ5_copyOf_2_0 21 rfl rfl)
theorem dJ5_copyOf_2_24 : decode cJ5_copyOf_2 24 = .ok (.astore_n 3, 1) := dk_78 (dk_at dksJ5_copyOf_2_1 0 rfl rfl)
theorem dJ5_copyOf_2_25 : decode cJ5_copyOf_2 25 = .ok (.aload_n 0, 1) := dk_42 (dk_at dksJ5_copyOf_2_1 1 rfl rfl)
theorem dJ5_copyOf_2_26 : decode cJ5_copyOf_2 26 = .ok (.iconst 0, 1) := dk_3 (dk_at dksJ5_copyOf_2_1 2 rfl rfl)
theorem dJ5_copyOf_2_27 : decode cJ5_copyOf_2 27 = .ok (.aload_n 3, 1) := dk_45 (dk_at dksJ5_copyOf_2_1 3 rfl rfl)
theorem dJ5_copyOf_2_28 : decode cJ5_copyOf_2 28 = .ok (.iconst 0, 1) := dk_3 (dk_at dksJ5_copyOf_2_1 4 rfl rfl)
theorem dJ5_copyOf_2_29 : decode cJ5_copyOf_2 29 = .ok (.aload_n 0, 1) := dk_42 (dk_at dksJ5_copyOf_2_1 5 rfl rfl)
theorem dJ5_copyOf_2_30 : decode cJ5_copyOf_2 30 = .ok (.arraylength, 1) := dk_190 (dk_at dksJ5_copyOf_2_1 6 rfl rfl)
theorem dJ5_copyOf_2_31 : decode cJ5_copyOf_2 31 = .ok (.iload_n 1, 1) := dk_27 (dk_at dksJ5_copyOf_2_1 7 rfl rfl)
theorem dJ5_copyOf_2_32 : decode cJ5_copyOf_2 32 = .ok (.invokestatic 304, 3) := dk_184 1 48 (dk_at dksJ5_copyOf_2_1 8 rfl rfl)
theorem dJ5_copyOf_2_35 : decode cJ5_copyOf_2 35 = .ok (.invokestatic 150, 3) := dk_184 0 150 (dk_at dksJ5_copyOf_2_1 11 rfl rfl)
theorem dJ5_copyOf_2_38 : decode cJ5_copyOf_2 38 = .ok (.aload_n 3, 1) := dk_45 (dk_at dksJ5_copyOf_2_1 14 rfl rfl)
theorem dJ5_copyOf_2_39 : decode cJ5_copyOf_2 39 = .ok (.areturn, 1) := dk_176 (dk_at dksJ5_copyOf_2_1 15 rfl rfl)
def dkwJ6_checkIndex_0 : List UInt8 := [26, 27, 1, 184, 0, 105, 172]
abbrev dktJ6_checkIndex_0 : List UInt8 := dkwJ6_checkIndex_0 ++ []
theorem dksJ6_checkIndex_0 : cJ6_checkIndex.data.toList.drop 0 = dktJ6_checkIndex_0 := by decide +kernel
theorem dJ6_checkIndex_0 : decode cJ6_checkIndex 0 = .ok (.iload_n 0, 1) := dk_26 (dk_at dksJ6_checkIndex_0 0 rfl rfl)
theorem dJ6_checkIndex_1 : decode cJ6_checkIndex 1 = .ok (.iload_n 1, 1) := dk_27 (dk_at dksJ6_checkIndex_0 1 rfl rfl)
theorem dJ6_checkIndex_2 : decode cJ6_checkIndex 2 = .ok (.aconst_null, 1) := dk_1 (dk_at dksJ6_checkIndex_0 2 rfl rfl)
theorem dJ6_checkIndex_3 : decode cJ6_checkIndex 3 = .ok (.invokestatic 105, 3) := dk_184 0 105 (dk_at dksJ6_checkIndex_0 3 rfl rfl)
theorem dJ6_checkIndex_6 : decode cJ6_checkIndex 6 = .ok (.ireturn, 1) := dk_172 (dk_at dksJ6_checkIndex_0 6 rfl rfl)
def dkwJ7_checkIndex_0 : List UInt8 := [26, 155, 0, 8, 26, 27, 161, 0, 10, 44, 26, 27, 184, 0, 95, 191, 26, 172]
abbrev dktJ7_checkIndex_0 : List UInt8 := dkwJ7_checkIndex_0 ++ []
theorem dksJ7_checkIndex_0 : cJ7_checkIndex.data.toList.drop 0 = dktJ7_checkIndex_0 := by decide +kernel
theorem dJ7_checkIndex_0 : decode cJ7_checkIndex 0 = .ok (.iload_n 0, 1) := dk_26 (dk_at dksJ7_checkIndex_0 0 rfl rfl)
theorem dJ7_checkIndex_1 : decode cJ7_checkIndex 1 = .ok (.ifCond .lt 8, 3) := dk_155 0 8 (dk_at dksJ7_checkIndex_0 1 rfl rfl)
theorem dJ7_checkIndex_4 : decode cJ7_checkIndex 4 = .ok (.iload_n 0, 1) := dk_26 (dk_at dksJ7_checkIndex_0 4 rfl rfl)
theorem dJ7_checkIndex_5 : decode cJ7_checkIndex 5 = .ok (.iload_n 1, 1) := dk_27 (dk_at dksJ7_checkIndex_0 5 rfl rfl)
theorem dJ7_checkIndex_6 : decode cJ7_checkIndex 6 = .ok (.if_icmp .lt 10, 3) := dk_161 0 10 (dk_at dksJ7_checkIndex_0 6 rfl rfl)
theorem dJ7_checkIndex_9 : decode cJ7_checkIndex 9 = .ok (.aload_n 2, 1) := dk_44 (dk_at dksJ7_checkIndex_0 9 rfl rfl)
theorem dJ7_checkIndex_10 : decode cJ7_checkIndex 10 = .ok (.iload_n 0, 1) := dk_26 (dk_at dksJ7_checkIndex_0 10 rfl rfl)
theorem dJ7_checkIndex_11 : decode cJ7_checkIndex 11 = .ok (.iload_n 1, 1) := dk_27 (dk_at dksJ7_checkIndex_0 11 rfl rfl)
theorem dJ7_checkIndex_12 : decode cJ7_checkIndex 12 = .ok (.invokestatic 95, 3) := dk_184 0 95 (dk_at dksJ7_checkIndex_0 12 rfl rfl)
theorem dJ7_checkIndex_15 : decode cJ7_checkIndex 15 = .ok (.athrow, 1) := dk_191 (dk_at dksJ7_checkIndex_0 15 rfl rfl)
theorem dJ7_checkIndex_16 : decode cJ7_checkIndex 16 = .ok (.iload_n 0, 1) := dk_26 (dk_at dksJ7_checkIndex_0 16 rfl rfl)
theorem dJ7_checkIndex_17 : decode cJ7_checkIndex 17 = .ok (.ireturn, 1) := dk_172 (dk_at dksJ7_checkIndex_0 17 rfl rfl)
def dkwJ8_equals_0 : List UInt8 := [42, 43, 166, 0, 7, 4, 167, 0, 4, 3, 172]
abbrev dktJ8_equals_0 : List UInt8 := dkwJ8_equals_0 ++ []
theorem dksJ8_equals_0 : cJ8_equals.data.toList.drop 0 = dktJ8_equals_0 := by decide +kernel
theorem dJ8_equals_0 : decode cJ8_equals 0 = .ok (.aload_n 0, 1) := dk_42 (dk_at dksJ8_equals_0 0 rfl rfl)
theorem dJ8_equals_1 : decode cJ8_equals 1 = .ok (.aload_n 1, 1) := dk_43 (dk_at dksJ8_equals_0 1 rfl rfl)
theorem dJ8_equals_2 : decode cJ8_equals 2 = .ok (.if_acmp .ne 7, 3) := dk_166 0 7 (dk_at dksJ8_equals_0 2 rfl rfl)
theorem dJ8_equals_5 : decode cJ8_equals 5 = .ok (.iconst 1, 1) := dk_4 (dk_at dksJ8_equals_0 5 rfl rfl)
theorem dJ8_equals_6 : decode cJ8_equals 6 = .ok (.goto 4, 3) := dk_167 0 4 (dk_at dksJ8_equals_0 6 rfl rfl)
theorem dJ8_equals_9 : decode cJ8_equals 9 = .ok (.iconst 0, 1) := dk_3 (dk_at dksJ8_equals_0 9 rfl rfl)
theorem dJ8_equals_10 : decode cJ8_equals 10 = .ok (.ireturn, 1) := dk_172 (dk_at dksJ8_equals_0 10 rfl rfl)
def dkwJ9_init_1 : List UInt8 := [182, 0, 27, 87, 177]
abbrev dktJ9_init_1 : List UInt8 := dkwJ9_init_1 ++ []
def dkwJ9_init_0 : List UInt8 := [42, 183, 0, 1, 42, 42, 181, 0, 7, 42, 178, 0, 13, 181, 0, 17, 42, 178, 0, 20, 181, 0, 24, 42]
abbrev dktJ9_init_0 : List UInt8 := dkwJ9_init_0 ++ dktJ9_init_1
theorem dksJ9_init_0 : cJ9_init.data.toList.drop 0 = dktJ9_init_0 := by decide +kernel
theorem dksJ9_init_1 : cJ9_init.data.toList.drop 24 = dktJ9_init_1 := dk_seg dksJ9_init_0 24 rfl rfl
theorem dJ9_init_0 : decode cJ9_init 0 = .ok (.aload_n 0, 1) := dk_42 (dk_at dksJ9_init_0 0 rfl rfl)
theorem dJ9_init_1 : decode cJ9_init 1 = .ok (.invokespecial 1, 3) := dk_183 0 1 (dk_at dksJ9_init_0 1 rfl rfl)
theorem dJ9_init_4 : decode cJ9_init 4 = .ok (.aload_n 0, 1) := dk_42 (dk_at dksJ9_init_0 4 rfl rfl)
theorem dJ9_init_5 : decode cJ9_init 5 = .ok (.aload_n 0, 1) := dk_42 (dk_at dksJ9_init_0 5 rfl rfl)
theorem dJ9_init_6 : decode cJ9_init 6 = .ok (.putfield 7, 3) := dk_181 0 7 (dk_at dksJ9_init_0 6 rfl rfl)
theorem dJ9_init_9 : decode cJ9_init 9 = .ok (.aload_n 0, 1) := dk_42 (dk_at dksJ9_init_0 9 rfl rfl)
theorem dJ9_init_10 : decode cJ9_init 10 = .ok (.getstatic 13, 3) := dk_178 0 13 (dk_at dksJ9_init_0 10 rfl rfl)
theorem dJ9_init_13 : decode cJ9_init 13 = .ok (.putfield 17, 3) := dk_181 0 17 (dk_at dksJ9_init_0 13 rfl rfl)
theorem dJ9_init_16 : decode cJ9_init 16 = .ok (.aload_n 0, 1) := dk_42 (dk_at dksJ9_init_0 16 rfl rfl)
theorem dJ9_init_17 : decode cJ9_init 17 = .ok (.getstatic 20, 3) := dk_178 0 20 (dk_at dksJ9_init_0 17 rfl rfl)
theorem dJ9_init_20 : decode cJ9_init 20 = .ok (.putfield 24, 3) := dk_181 0 24 (dk_at dksJ9_init_0 20 rfl rfl)
theorem dJ9_init_23 : decode cJ9_init 23 = .ok (.aload_n 0, 1) := dk_42 (dk_at dksJ9_init_0 23 rfl rfl)
theorem dJ9_init_24 : decode cJ9_init 24 = .ok (.invokevirtual 27, 3) := dk_182 0 27 (dk_at dksJ9_init_1 0 rfl rfl)
theorem dJ9_init_27 : decode cJ9_init 27 = .ok (.pop, 1) := dk_87 (dk_at dksJ9_init_1 3 rfl rfl)
theorem dJ9_init_28 : decode cJ9_init 28 = .ok (.return_, 1) := dk_177 (dk_at dksJ9_init_1 4 rfl rfl)
def dkwJ9_init_2_2 : List UInt8 := [44, 181, 0, 7, 29, 154, 0, 8, 42, 1, 181, 0, 24, 177]
abbrev dktJ9_init_2_2 : List UInt8 := dkwJ9_init_2_2 ++ []
def dkwJ9_init_2_1 : List UInt8 := [21, 4, 153, 0, 11, 42, 182, 0, 27, 87, 167, 0, 8, 42, 1, 181, 0, 17, 42, 43, 181, 0, 31, 42]
abbrev dktJ9_init_2_1 : List UInt8 := dkwJ9_init_2_1 ++ dktJ9_init_2_2
def dkwJ9_init_2_0 : List UInt8 := [42, 183, 0, 1, 42, 42, 181, 0, 7, 42, 178, 0, 13, 181, 0, 17, 42, 178, 0, 20, 181, 0, 24]
abbrev dktJ9_init_2_0 : List UInt8 := dkwJ9_init_2_0 ++ dktJ9_init_2_1
theorem dksJ9_init_2_0 : cJ9_init_2.data.toList.drop 0 = dktJ9_init_2_0 := by decide +kernel
theorem dksJ9_init_2_1 : cJ9_init_2.data.toList.drop 23 = dktJ9_init_2_1 := dk_seg dksJ9_init_2_0 23 rfl rfl
theorem dksJ9_init_2_2 : cJ9_init_2.data.toList.drop 47 = dktJ9_init_2_2 := dk_seg dksJ9_init_2_1 24 rfl rfl
theorem dJ9_init_2_0 : decode cJ9_init_2 0 = .ok (.aload_n 0, 1) := dk_42 (dk_at dksJ9_init_2_0 0 rfl rfl)
theorem dJ9_init_2_1 : decode cJ9_init_2 1 = .ok (.invokespecial 1, 3) := dk_183 0 1 (dk_at dksJ9_init_2_0 1 rfl rfl)
theorem dJ9_init_2_4 : decode cJ9_init_2 4 = .ok (.aload_n 0, 1) := dk_42 (dk_at dksJ9_init_2_0 4 rfl rfl)
theorem dJ9_init_2_5 : decode cJ9_init_2 5 = .ok (.aload_n 0, 1) := dk_42 (dk_at dksJ9_init_2_0 5 rfl rfl)
theorem dJ9_init_2_6 : decode cJ9_init_2 6 = .ok (.putfield 7, 3) := dk_181 0 7 (dk_at dksJ9_init_2_0 6 rfl rfl)
theorem dJ9_init_2_9 : decode cJ9_init_2 9 = .ok (.aload_n 0, 1) := dk_42 (dk_at dksJ9_init_2_0 9 rfl rfl)
theorem dJ9_init_2_10 : decode cJ9_init_2 10 = .ok (.getstatic 13, 3) := dk_178 0 13 (dk_at dksJ9_init_2_0 10 rfl rfl)
theorem dJ9_init_2_13 : decode cJ9_init_2 13 = .ok (.putfield 17, 3) := dk_181 0 17 (dk_at dksJ9_init_2_0 13 rfl rfl)
theorem dJ9_init_2_16 : decode cJ9_init_2 16 = .ok (.aload_n 0, 1) := dk_42 (dk_at dksJ9_init_2_0 16 rfl rfl)
theorem dJ9_init_2_17 : decode cJ9_init_2 17 = .ok (.getstatic 20, 3) := dk_178 0 20 (dk_at dksJ9_init_2_0 17 rfl rfl)
theorem dJ9_init_2_20 : decode cJ9_init_2 20 = .ok (.putfield 24, 3) := dk_181 0 24 (dk_at dksJ9_init_2_0 20 rfl rfl)
theorem dJ9_init_2_23 : decode cJ9_init_2 23 = .ok (.iload 4, 2) := dk_21 4 (dk_at dksJ9_init_2_1 0 rfl rfl)
theorem dJ9_init_2_25 : decode cJ9_init_2 25 = .ok (.ifCond .eq 11, 3) := dk_153 0 11 (dk_at dksJ9_init_2_1 2 rfl rfl)
theorem dJ9_init_2_28 : decode cJ9_init_2 28 = .ok (.aload_n 0, 1) := dk_42 (dk_at dksJ9_init_2_1 5 rfl rfl)
theorem dJ9_init_2_29 : decode cJ9_init_2 29 = .ok (.invokevirtual 27, 3) := dk_182 0 27 (dk_at dksJ9_init_2_1 6 rfl rfl)
theorem dJ9_init_2_32 : decode cJ9_init_2 32 = .ok (.pop, 1) := dk_87 (dk_at dksJ9_init_2_1 9 rfl rfl)
theorem dJ9_init_2_33 : decode cJ9_init_2 33 = .ok (.goto 8, 3) := dk_167 0 8 (dk_at dksJ9_init_2_1 10 rfl rfl)
theorem dJ9_init_2_36 : decode cJ9_init_2 36 = .ok (.aload_n 0, 1) := dk_42 (dk_at dksJ9_init_2_1 13 rfl rfl)
theorem dJ9_init_2_37 : decode cJ9_init_2 37 = .ok (.aconst_null, 1) := dk_1 (dk_at dksJ9_init_2_1 14 rfl rfl)
theorem dJ9_init_2_38 : decode cJ9_init_2 38 = .ok (.putfield 17, 3) := dk_181 0 17 (dk_at dksJ9_init_2_1 15 rfl rfl)
theorem dJ9_init_2_41 : decode cJ9_init_2 41 = .ok (.aload_n 0, 1) := dk_42 (dk_at dksJ9_init_2_1 18 rfl rfl)
theorem dJ9_init_2_42 : decode cJ9_init_2 42 = .ok (.aload_n 1, 1) := dk_43 (dk_at dksJ9_init_2_1 19 rfl rfl)
theorem dJ9_init_2_43 : decode cJ9_init_2 43 = .ok (.putfield 31, 3) := dk_181 0 31 (dk_at dksJ9_init_2_1 20 rfl rfl)
theorem dJ9_init_2_46 : decode cJ9_init_2 46 = .ok (.aload_n 0, 1) := dk_42 (dk_at dksJ9_init_2_1 23 rfl rfl)
theorem dJ9_init_2_47 : decode cJ9_init_2 47 = .ok (.aload_n 2, 1) := dk_44 (dk_at dksJ9_init_2_2 0 rfl rfl)
theorem dJ9_init_2_48 : decode cJ9_init_2 48 = .ok (.putfield 7, 3) := dk_181 0 7 (dk_at dksJ9_init_2_2 1 rfl rfl)
theorem dJ9_init_2_51 : decode cJ9_init_2 51 = .ok (.iload_n 3, 1) := dk_29 (dk_at dksJ9_init_2_2 4 rfl rfl)
theorem dJ9_init_2_52 : decode cJ9_init_2 52 = .ok (.ifCond .ne 8, 3) := dk_154 0 8 (dk_at dksJ9_init_2_2 5 rfl rfl)
theorem dJ9_init_2_55 : decode cJ9_init_2 55 = .ok (.aload_n 0, 1) := dk_42 (dk_at dksJ9_init_2_2 8 rfl rfl)
theorem dJ9_init_2_56 : decode cJ9_init_2 56 = .ok (.aconst_null, 1) := dk_1 (dk_at dksJ9_init_2_2 9 rfl rfl)
theorem dJ9_init_2_57 : decode cJ9_init_2 57 = .ok (.putfield 24, 3) := dk_181 0 24 (dk_at dksJ9_init_2_2 10 rfl rfl)
theorem dJ9_init_2_60 : decode cJ9_init_2 60 = .ok (.return_, 1) := dk_177 (dk_at dksJ9_init_2_2 13 rfl rfl)
def dkwX1_init_0 : List UInt8 := [42, 43, 181, 0, 1, 42, 183, 0, 7, 42, 28, 181, 0, 13, 177]
abbrev dktX1_init_0 : List UInt8 := dkwX1_init_0 ++ []
theorem dksX1_init_0 : cX1_init.data.toList.drop 0 = dktX1_init_0 := by decide +kernel
theorem dX1_init_0 : decode cX1_init 0 = .ok (.aload_n 0, 1) := dk_42 (dk_at dksX1_init_0 0 rfl rfl)
theorem dX1_init_1 : decode cX1_init 1 = .ok (.aload_n 1, 1) := dk_43 (dk_at dksX1_init_0 1 rfl rfl)
theorem dX1_init_2 : decode cX1_init 2 = .ok (.putfield 1, 3) := dk_181 0 1 (dk_at dksX1_init_0 2 rfl rfl)
theorem dX1_init_5 : decode cX1_init 5 = .ok (.aload_n 0, 1) := dk_42 (dk_at dksX1_init_0 5 rfl rfl)
theorem dX1_init_6 : decode cX1_init 6 = .ok (.invokespecial 7, 3) := dk_183 0 7 (dk_at dksX1_init_0 6 rfl rfl)
theorem dX1_init_9 : decode cX1_init 9 = .ok (.aload_n 0, 1) := dk_42 (dk_at dksX1_init_0 9 rfl rfl)
theorem dX1_init_10 : decode cX1_init 10 = .ok (.iload_n 2, 1) := dk_28 (dk_at dksX1_init_0 10 rfl rfl)
theorem dX1_init_11 : decode cX1_init 11 = .ok (.putfield 13, 3) := dk_181 0 13 (dk_at dksX1_init_0 11 rfl rfl)
theorem dX1_init_14 : decode cX1_init 14 = .ok (.return_, 1) := dk_177 (dk_at dksX1_init_0 14 rfl rfl)
theorem dX1_takes_0 : decode cX1_takes 0 = .ok (.aload_n 0, 1) := by decide +kernel
theorem dX1_takes_1 : decode cX1_takes 1 = .ok (.getfield 13, 3) := by decide +kernel
theorem dX1_takes_4 : decode cX1_takes 4 = .ok (.ireturn, 1) := by decide +kernel
def dkwX10_init_0 : List UInt8 := [42, 43, 181, 0, 1, 42, 43, 183, 0, 7, 177]
abbrev dktX10_init_0 : List UInt8 := dkwX10_init_0 ++ []
theorem dksX10_init_0 : cX10_init.data.toList.drop 0 = dktX10_init_0 := by decide +kernel
theorem dX10_init_0 : decode cX10_init 0 = .ok (.aload_n 0, 1) := dk_42 (dk_at dksX10_init_0 0 rfl rfl)
theorem dX10_init_1 : decode cX10_init 1 = .ok (.aload_n 1, 1) := dk_43 (dk_at dksX10_init_0 1 rfl rfl)
theorem dX10_init_2 : decode cX10_init 2 = .ok (.putfield 1, 3) := dk_181 0 1 (dk_at dksX10_init_0 2 rfl rfl)
theorem dX10_init_5 : decode cX10_init 5 = .ok (.aload_n 0, 1) := dk_42 (dk_at dksX10_init_0 5 rfl rfl)
theorem dX10_init_6 : decode cX10_init 6 = .ok (.aload_n 1, 1) := dk_43 (dk_at dksX10_init_0 6 rfl rfl)
theorem dX10_init_7 : decode cX10_init 7 = .ok (.invokespecial 7, 3) := dk_183 0 7 (dk_at dksX10_init_0 7 rfl rfl)
theorem dX10_init_10 : decode cX10_init 10 = .ok (.return_, 1) := dk_177 (dk_at dksX10_init_0 10 rfl rfl)
def dkwX10_of_0 : List UInt8 := [31, 33, 105, 173]
abbrev dktX10_of_0 : List UInt8 := dkwX10_of_0 ++ []
theorem dksX10_of_0 : cX10_of.data.toList.drop 0 = dktX10_of_0 := by decide +kernel
theorem dX10_of_0 : decode cX10_of 0 = .ok (.lload_n 1, 1) := dk_31 (dk_at dksX10_of_0 0 rfl rfl)
theorem dX10_of_1 : decode cX10_of 1 = .ok (.lload_n 3, 1) := dk_33 (dk_at dksX10_of_0 1 rfl rfl)
theorem dX10_of_2 : decode cX10_of 2 = .ok (.lmul, 1) := dk_105 (dk_at dksX10_of_0 2 rfl rfl)
theorem dX10_of_3 : decode cX10_of 3 = .ok (.lreturn, 1) := dk_173 (dk_at dksX10_of_0 3 rfl rfl)
def dkwX11_init_0 : List UInt8 := [42, 43, 181, 0, 3, 42, 43, 183, 0, 9, 177]
abbrev dktX11_init_0 : List UInt8 := dkwX11_init_0 ++ []
theorem dksX11_init_0 : cX11_init.data.toList.drop 0 = dktX11_init_0 := by decide +kernel
theorem dX11_init_0 : decode cX11_init 0 = .ok (.aload_n 0, 1) := dk_42 (dk_at dksX11_init_0 0 rfl rfl)
theorem dX11_init_1 : decode cX11_init 1 = .ok (.aload_n 1, 1) := dk_43 (dk_at dksX11_init_0 1 rfl rfl)
theorem dX11_init_2 : decode cX11_init 2 = .ok (.putfield 3, 3) := dk_181 0 3 (dk_at dksX11_init_0 2 rfl rfl)
theorem dX11_init_5 : decode cX11_init 5 = .ok (.aload_n 0, 1) := dk_42 (dk_at dksX11_init_0 5 rfl rfl)
theorem dX11_init_6 : decode cX11_init 6 = .ok (.aload_n 1, 1) := dk_43 (dk_at dksX11_init_0 6 rfl rfl)
theorem dX11_init_7 : decode cX11_init 7 = .ok (.invokespecial 9, 3) := dk_183 0 9 (dk_at dksX11_init_0 7 rfl rfl)
theorem dX11_init_10 : decode cX11_init 10 = .ok (.return_, 1) := dk_177 (dk_at dksX11_init_0 10 rfl rfl)
def dkwX11_of_0 : List UInt8 := [33, 9, 148, 154, 0, 12, 187, 0, 15, 89, 4, 183, 0, 17, 191, 31, 33, 109, 173]
abbrev dktX11_of_0 : List UInt8 := dkwX11_of_0 ++ []
theorem dksX11_of_0 : cX11_of.data.toList.drop 0 = dktX11_of_0 := by decide +kernel
theorem dX11_of_0 : decode cX11_of 0 = .ok (.lload_n 3, 1) := dk_33 (dk_at dksX11_of_0 0 rfl rfl)
theorem dX11_of_1 : decode cX11_of 1 = .ok (.lconst 0, 1) := dk_9 (dk_at dksX11_of_0 1 rfl rfl)
theorem dX11_of_2 : decode cX11_of 2 = .ok (.lcmp, 1) := dk_148 (dk_at dksX11_of_0 2 rfl rfl)
theorem dX11_of_3 : decode cX11_of 3 = .ok (.ifCond .ne 12, 3) := dk_154 0 12 (dk_at dksX11_of_0 3 rfl rfl)
theorem dX11_of_6 : decode cX11_of 6 = .ok (.new 15, 3) := dk_187 0 15 (dk_at dksX11_of_0 6 rfl rfl)
theorem dX11_of_9 : decode cX11_of 9 = .ok (.dup, 1) := dk_89 (dk_at dksX11_of_0 9 rfl rfl)
theorem dX11_of_10 : decode cX11_of 10 = .ok (.iconst 1, 1) := dk_4 (dk_at dksX11_of_0 10 rfl rfl)
theorem dX11_of_11 : decode cX11_of 11 = .ok (.invokespecial 17, 3) := dk_183 0 17 (dk_at dksX11_of_0 11 rfl rfl)
theorem dX11_of_14 : decode cX11_of 14 = .ok (.athrow, 1) := dk_191 (dk_at dksX11_of_0 14 rfl rfl)
theorem dX11_of_15 : decode cX11_of 15 = .ok (.lload_n 1, 1) := dk_31 (dk_at dksX11_of_0 15 rfl rfl)
theorem dX11_of_16 : decode cX11_of 16 = .ok (.lload_n 3, 1) := dk_33 (dk_at dksX11_of_0 16 rfl rfl)
theorem dX11_of_17 : decode cX11_of 17 = .ok (.ldiv, 1) := dk_109 (dk_at dksX11_of_0 17 rfl rfl)
theorem dX11_of_18 : decode cX11_of 18 = .ok (.lreturn, 1) := dk_173 (dk_at dksX11_of_0 18 rfl rfl)
def dkwX12_init_0 : List UInt8 := [42, 43, 181, 0, 1, 42, 43, 183, 0, 7, 177]
abbrev dktX12_init_0 : List UInt8 := dkwX12_init_0 ++ []
theorem dksX12_init_0 : cX12_init.data.toList.drop 0 = dktX12_init_0 := by decide +kernel
theorem dX12_init_0 : decode cX12_init 0 = .ok (.aload_n 0, 1) := dk_42 (dk_at dksX12_init_0 0 rfl rfl)
theorem dX12_init_1 : decode cX12_init 1 = .ok (.aload_n 1, 1) := dk_43 (dk_at dksX12_init_0 1 rfl rfl)
theorem dX12_init_2 : decode cX12_init 2 = .ok (.putfield 1, 3) := dk_181 0 1 (dk_at dksX12_init_0 2 rfl rfl)
theorem dX12_init_5 : decode cX12_init 5 = .ok (.aload_n 0, 1) := dk_42 (dk_at dksX12_init_0 5 rfl rfl)
theorem dX12_init_6 : decode cX12_init 6 = .ok (.aload_n 1, 1) := dk_43 (dk_at dksX12_init_0 6 rfl rfl)
theorem dX12_init_7 : decode cX12_init 7 = .ok (.invokespecial 7, 3) := dk_183 0 7 (dk_at dksX12_init_0 7 rfl rfl)
theorem dX12_init_10 : decode cX12_init 10 = .ok (.return_, 1) := dk_177 (dk_at dksX12_init_0 10 rfl rfl)
def dkwX12_of_0 : List UInt8 := [31, 33, 148, 156, 0, 7, 10, 167, 0, 4, 9, 173]
abbrev dktX12_of_0 : List UInt8 := dkwX12_of_0 ++ []
theorem dksX12_of_0 : cX12_of.data.toList.drop 0 = dktX12_of_0 := by decide +kernel
theorem dX12_of_0 : decode cX12_of 0 = .ok (.lload_n 1, 1) := dk_31 (dk_at dksX12_of_0 0 rfl rfl)
theorem dX12_of_1 : decode cX12_of 1 = .ok (.lload_n 3, 1) := dk_33 (dk_at dksX12_of_0 1 rfl rfl)
theorem dX12_of_2 : decode cX12_of 2 = .ok (.lcmp, 1) := dk_148 (dk_at dksX12_of_0 2 rfl rfl)
theorem dX12_of_3 : decode cX12_of 3 = .ok (.ifCond .ge 7, 3) := dk_156 0 7 (dk_at dksX12_of_0 3 rfl rfl)
theorem dX12_of_6 : decode cX12_of 6 = .ok (.lconst 1, 1) := dk_10 (dk_at dksX12_of_0 6 rfl rfl)
theorem dX12_of_7 : decode cX12_of 7 = .ok (.goto 4, 3) := dk_167 0 4 (dk_at dksX12_of_0 7 rfl rfl)
theorem dX12_of_10 : decode cX12_of 10 = .ok (.lconst 0, 1) := dk_9 (dk_at dksX12_of_0 10 rfl rfl)
theorem dX12_of_11 : decode cX12_of 11 = .ok (.lreturn, 1) := dk_173 (dk_at dksX12_of_0 11 rfl rfl)
def dkwX13_init_0 : List UInt8 := [42, 43, 181, 0, 1, 42, 43, 183, 0, 7, 177]
abbrev dktX13_init_0 : List UInt8 := dkwX13_init_0 ++ []
theorem dksX13_init_0 : cX13_init.data.toList.drop 0 = dktX13_init_0 := by decide +kernel
theorem dX13_init_0 : decode cX13_init 0 = .ok (.aload_n 0, 1) := dk_42 (dk_at dksX13_init_0 0 rfl rfl)
theorem dX13_init_1 : decode cX13_init 1 = .ok (.aload_n 1, 1) := dk_43 (dk_at dksX13_init_0 1 rfl rfl)
theorem dX13_init_2 : decode cX13_init 2 = .ok (.putfield 1, 3) := dk_181 0 1 (dk_at dksX13_init_0 2 rfl rfl)
theorem dX13_init_5 : decode cX13_init 5 = .ok (.aload_n 0, 1) := dk_42 (dk_at dksX13_init_0 5 rfl rfl)
theorem dX13_init_6 : decode cX13_init 6 = .ok (.aload_n 1, 1) := dk_43 (dk_at dksX13_init_0 6 rfl rfl)
theorem dX13_init_7 : decode cX13_init 7 = .ok (.invokespecial 7, 3) := dk_183 0 7 (dk_at dksX13_init_0 7 rfl rfl)
theorem dX13_init_10 : decode cX13_init 10 = .ok (.return_, 1) := dk_177 (dk_at dksX13_init_0 10 rfl rfl)
def dkwX13_of_0 : List UInt8 := [31, 33, 127, 173]
abbrev dktX13_of_0 : List UInt8 := dkwX13_of_0 ++ []
theorem dksX13_of_0 : cX13_of.data.toList.drop 0 = dktX13_of_0 := by decide +kernel
theorem dX13_of_0 : decode cX13_of 0 = .ok (.lload_n 1, 1) := dk_31 (dk_at dksX13_of_0 0 rfl rfl)
theorem dX13_of_1 : decode cX13_of 1 = .ok (.lload_n 3, 1) := dk_33 (dk_at dksX13_of_0 1 rfl rfl)
theorem dX13_of_2 : decode cX13_of 2 = .ok (.land, 1) := dk_127 (dk_at dksX13_of_0 2 rfl rfl)
theorem dX13_of_3 : decode cX13_of 3 = .ok (.lreturn, 1) := dk_173 (dk_at dksX13_of_0 3 rfl rfl)
def dkwX14_init_0 : List UInt8 := [42, 43, 181, 0, 1, 42, 43, 183, 0, 7, 177]
abbrev dktX14_init_0 : List UInt8 := dkwX14_init_0 ++ []
theorem dksX14_init_0 : cX14_init.data.toList.drop 0 = dktX14_init_0 := by decide +kernel
theorem dX14_init_0 : decode cX14_init 0 = .ok (.aload_n 0, 1) := dk_42 (dk_at dksX14_init_0 0 rfl rfl)
theorem dX14_init_1 : decode cX14_init 1 = .ok (.aload_n 1, 1) := dk_43 (dk_at dksX14_init_0 1 rfl rfl)
theorem dX14_init_2 : decode cX14_init 2 = .ok (.putfield 1, 3) := dk_181 0 1 (dk_at dksX14_init_0 2 rfl rfl)
theorem dX14_init_5 : decode cX14_init 5 = .ok (.aload_n 0, 1) := dk_42 (dk_at dksX14_init_0 5 rfl rfl)
theorem dX14_init_6 : decode cX14_init 6 = .ok (.aload_n 1, 1) := dk_43 (dk_at dksX14_init_0 6 rfl rfl)
theorem dX14_init_7 : decode cX14_init 7 = .ok (.invokespecial 7, 3) := dk_183 0 7 (dk_at dksX14_init_0 7 rfl rfl)
theorem dX14_init_10 : decode cX14_init 10 = .ok (.return_, 1) := dk_177 (dk_at dksX14_init_0 10 rfl rfl)
def dkwX14_of_0 : List UInt8 := [31, 33, 129, 173]
abbrev dktX14_of_0 : List UInt8 := dkwX14_of_0 ++ []
theorem dksX14_of_0 : cX14_of.data.toList.drop 0 = dktX14_of_0 := by decide +kernel
theorem dX14_of_0 : decode cX14_of 0 = .ok (.lload_n 1, 1) := dk_31 (dk_at dksX14_of_0 0 rfl rfl)
theorem dX14_of_1 : decode cX14_of 1 = .ok (.lload_n 3, 1) := dk_33 (dk_at dksX14_of_0 1 rfl rfl)
theorem dX14_of_2 : decode cX14_of 2 = .ok (.lor, 1) := dk_129 (dk_at dksX14_of_0 2 rfl rfl)
theorem dX14_of_3 : decode cX14_of 3 = .ok (.lreturn, 1) := dk_173 (dk_at dksX14_of_0 3 rfl rfl)
def dkwX15_init_0 : List UInt8 := [42, 43, 181, 0, 1, 42, 43, 28, 183, 0, 7, 177]
abbrev dktX15_init_0 : List UInt8 := dkwX15_init_0 ++ []
theorem dksX15_init_0 : cX15_init.data.toList.drop 0 = dktX15_init_0 := by decide +kernel
theorem dX15_init_0 : decode cX15_init 0 = .ok (.aload_n 0, 1) := dk_42 (dk_at dksX15_init_0 0 rfl rfl)
theorem dX15_init_1 : decode cX15_init 1 = .ok (.aload_n 1, 1) := dk_43 (dk_at dksX15_init_0 1 rfl rfl)
theorem dX15_init_2 : decode cX15_init 2 = .ok (.putfield 1, 3) := dk_181 0 1 (dk_at dksX15_init_0 2 rfl rfl)
theorem dX15_init_5 : decode cX15_init 5 = .ok (.aload_n 0, 1) := dk_42 (dk_at dksX15_init_0 5 rfl rfl)
theorem dX15_init_6 : decode cX15_init 6 = .ok (.aload_n 1, 1) := dk_43 (dk_at dksX15_init_0 6 rfl rfl)
theorem dX15_init_7 : decode cX15_init 7 = .ok (.iload_n 2, 1) := dk_28 (dk_at dksX15_init_0 7 rfl rfl)
theorem dX15_init_8 : decode cX15_init 8 = .ok (.invokespecial 7, 3) := dk_183 0 7 (dk_at dksX15_init_0 8 rfl rfl)
theorem dX15_init_11 : decode cX15_init 11 = .ok (.return_, 1) := dk_177 (dk_at dksX15_init_0 11 rfl rfl)
def dkwX15_does_0 : List UInt8 := [43, 28, 181, 0, 13, 177]
abbrev dktX15_does_0 : List UInt8 := dkwX15_does_0 ++ []
theorem dksX15_does_0 : cX15_does.data.toList.drop 0 = dktX15_does_0 := by decide +kernel
theorem dX15_does_0 : decode cX15_does 0 = .ok (.aload_n 1, 1) := dk_43 (dk_at dksX15_does_0 0 rfl rfl)
theorem dX15_does_1 : decode cX15_does 1 = .ok (.iload_n 2, 1) := dk_28 (dk_at dksX15_does_0 1 rfl rfl)
theorem dX15_does_2 : decode cX15_does 2 = .ok (.putfield 13, 3) := dk_181 0 13 (dk_at dksX15_does_0 2 rfl rfl)
theorem dX15_does_5 : decode cX15_does 5 = .ok (.return_, 1) := dk_177 (dk_at dksX15_does_0 5 rfl rfl)
def dkwX16_init_0 : List UInt8 := [42, 43, 181, 0, 1, 42, 43, 28, 183, 0, 7, 177]
abbrev dktX16_init_0 : List UInt8 := dkwX16_init_0 ++ []
theorem dksX16_init_0 : cX16_init.data.toList.drop 0 = dktX16_init_0 := by decide +kernel
theorem dX16_init_0 : decode cX16_init 0 = .ok (.aload_n 0, 1) := dk_42 (dk_at dksX16_init_0 0 rfl rfl)
theorem dX16_init_1 : decode cX16_init 1 = .ok (.aload_n 1, 1) := dk_43 (dk_at dksX16_init_0 1 rfl rfl)
theorem dX16_init_2 : decode cX16_init 2 = .ok (.putfield 1, 3) := dk_181 0 1 (dk_at dksX16_init_0 2 rfl rfl)
theorem dX16_init_5 : decode cX16_init 5 = .ok (.aload_n 0, 1) := dk_42 (dk_at dksX16_init_0 5 rfl rfl)
theorem dX16_init_6 : decode cX16_init 6 = .ok (.aload_n 1, 1) := dk_43 (dk_at dksX16_init_0 6 rfl rfl)
theorem dX16_init_7 : decode cX16_init 7 = .ok (.iload_n 2, 1) := dk_28 (dk_at dksX16_init_0 7 rfl rfl)
theorem dX16_init_8 : decode cX16_init 8 = .ok (.invokespecial 7, 3) := dk_183 0 7 (dk_at dksX16_init_0 8 rfl rfl)
theorem dX16_init_11 : decode cX16_init 11 = .ok (.return_, 1) := dk_177 (dk_at dksX16_init_0 11 rfl rfl)
def dkwX16_does_0 : List UInt8 := [43, 43, 182, 0, 13, 9, 148, 154, 0, 7, 28, 167, 0, 7, 43, 180, 0, 19, 181, 0, 19, 177]
abbrev dktX16_does_0 : List UInt8 := dkwX16_does_0 ++ []
theorem dksX16_does_0 : cX16_does.data.toList.drop 0 = dktX16_does_0 := by decide +kernel
theorem dX16_does_0 : decode cX16_does 0 = .ok (.aload_n 1, 1) := dk_43 (dk_at dksX16_does_0 0 rfl rfl)
theorem dX16_does_1 : decode cX16_does 1 = .ok (.aload_n 1, 1) := dk_43 (dk_at dksX16_does_0 1 rfl rfl)
theorem dX16_does_2 : decode cX16_does 2 = .ok (.invokevirtual 13, 3) := dk_182 0 13 (dk_at dksX16_does_0 2 rfl rfl)
theorem dX16_does_5 : decode cX16_does 5 = .ok (.lconst 0, 1) := dk_9 (dk_at dksX16_does_0 5 rfl rfl)
theorem dX16_does_6 : decode cX16_does 6 = .ok (.lcmp, 1) := dk_148 (dk_at dksX16_does_0 6 rfl rfl)
theorem dX16_does_7 : decode cX16_does 7 = .ok (.ifCond .ne 7, 3) := dk_154 0 7 (dk_at dksX16_does_0 7 rfl rfl)
theorem dX16_does_10 : decode cX16_does 10 = .ok (.iload_n 2, 1) := dk_28 (dk_at dksX16_does_0 10 rfl rfl)
theorem dX16_does_11 : decode cX16_does 11 = .ok (.goto 7, 3) := dk_167 0 7 (dk_at dksX16_does_0 11 rfl rfl)
theorem dX16_does_14 : decode cX16_does 14 = .ok (.aload_n 1, 1) := dk_43 (dk_at dksX16_does_0 14 rfl rfl)
theorem dX16_does_15 : decode cX16_does 15 = .ok (.getfield 19, 3) := dk_180 0 19 (dk_at dksX16_does_0 15 rfl rfl)
theorem dX16_does_18 : decode cX16_does 18 = .ok (.putfield 19, 3) := dk_181 0 19 (dk_at dksX16_does_0 18 rfl rfl)
theorem dX16_does_21 : decode cX16_does 21 = .ok (.return_, 1) := dk_177 (dk_at dksX16_does_0 21 rfl rfl)
def dkwX17_init_0 : List UInt8 := [42, 43, 181, 0, 1, 42, 43, 28, 183, 0, 7, 177]
abbrev dktX17_init_0 : List UInt8 := dkwX17_init_0 ++ []
theorem dksX17_init_0 : cX17_init.data.toList.drop 0 = dktX17_init_0 := by decide +kernel
theorem dX17_init_0 : decode cX17_init 0 = .ok (.aload_n 0, 1) := dk_42 (dk_at dksX17_init_0 0 rfl rfl)
theorem dX17_init_1 : decode cX17_init 1 = .ok (.aload_n 1, 1) := dk_43 (dk_at dksX17_init_0 1 rfl rfl)
theorem dX17_init_2 : decode cX17_init 2 = .ok (.putfield 1, 3) := dk_181 0 1 (dk_at dksX17_init_0 2 rfl rfl)
theorem dX17_init_5 : decode cX17_init 5 = .ok (.aload_n 0, 1) := dk_42 (dk_at dksX17_init_0 5 rfl rfl)
theorem dX17_init_6 : decode cX17_init 6 = .ok (.aload_n 1, 1) := dk_43 (dk_at dksX17_init_0 6 rfl rfl)
theorem dX17_init_7 : decode cX17_init 7 = .ok (.iload_n 2, 1) := dk_28 (dk_at dksX17_init_0 7 rfl rfl)
theorem dX17_init_8 : decode cX17_init 8 = .ok (.invokespecial 7, 3) := dk_183 0 7 (dk_at dksX17_init_0 8 rfl rfl)
theorem dX17_init_11 : decode cX17_init 11 = .ok (.return_, 1) := dk_177 (dk_at dksX17_init_0 11 rfl rfl)
def dkwX17_does_2 : List UInt8 := [182, 0, 39, 177]
abbrev dktX17_does_2 : List UInt8 := dkwX17_does_2 ++ []
def dkwX17_does_1 : List UInt8 := [182, 0, 33, 43, 180, 0, 19, 180, 0, 29, 28, 50, 198, 0, 13, 43, 180, 0, 19, 28, 9, 1]
abbrev dktX17_does_1 : List UInt8 := dkwX17_does_1 ++ dktX17_does_2
def dkwX17_does_0 : List UInt8 := [43, 180, 0, 13, 43, 180, 0, 19, 180, 0, 23, 28, 47, 43, 180, 0, 19, 180, 0, 29, 28, 50]
abbrev dktX17_does_0 : List UInt8 := dkwX17_does_0 ++ dktX17_does_1
theorem dksX17_does_0 : cX17_does.data.toList.drop 0 = dktX17_does_0 := by decide +kernel
theorem dksX17_does_1 : cX17_does.data.toList.drop 22 = dktX17_does_1 := dk_seg dksX17_does_0 22 rfl rfl
theorem dksX17_does_2 : cX17_does.data.toList.drop 44 = dktX17_does_2 := dk_seg dksX17_does_1 22 rfl rfl
theorem dX17_does_0 : decode cX17_does 0 = .ok (.aload_n 1, 1) := dk_43 (dk_at dksX17_does_0 0 rfl rfl)
theorem dX17_does_1 : decode cX17_does 1 = .ok (.getfield 13, 3) := dk_180 0 13 (dk_at dksX17_does_0 1 rfl rfl)
theorem dX17_does_4 : decode cX17_does 4 = .ok (.aload_n 1, 1) := dk_43 (dk_at dksX17_does_0 4 rfl rfl)
theorem dX17_does_5 : decode cX17_does 5 = .ok (.getfield 19, 3) := dk_180 0 19 (dk_at dksX17_does_0 5 rfl rfl)
theorem dX17_does_8 : decode cX17_does 8 = .ok (.getfield 23, 3) := dk_180 0 23 (dk_at dksX17_does_0 8 rfl rfl)
theorem dX17_does_11 : decode cX17_does 11 = .ok (.iload_n 2, 1) := dk_28 (dk_at dksX17_does_0 11 rfl rfl)
theorem dX17_does_12 : decode cX17_does 12 = .ok (.laload, 1) := dk_47 (dk_at dksX17_does_0 12 rfl rfl)
theorem dX17_does_13 : decode cX17_does 13 = .ok (.aload_n 1, 1) := dk_43 (dk_at dksX17_does_0 13 rfl rfl)
theorem dX17_does_14 : decode cX17_does 14 = .ok (.getfield 19, 3) := dk_180 0 19 (dk_at dksX17_does_0 14 rfl rfl)
theorem dX17_does_17 : decode cX17_does 17 = .ok (.getfield 29, 3) := dk_180 0 29 (dk_at dksX17_does_0 17 rfl rfl)
theorem dX17_does_20 : decode cX17_does 20 = .ok (.iload_n 2, 1) := dk_28 (dk_at dksX17_does_0 20 rfl rfl)
theorem dX17_does_21 : decode cX17_does 21 = .ok (.aaload, 1) := dk_50 (dk_at dksX17_does_0 21 rfl rfl)
theorem dX17_does_22 : decode cX17_does 22 = .ok (.invokevirtual 33, 3) := dk_182 0 33 (dk_at dksX17_does_1 0 rfl rfl)
theorem dX17_does_25 : decode cX17_does 25 = .ok (.aload_n 1, 1) := dk_43 (dk_at dksX17_does_1 3 rfl rfl)
theorem dX17_does_26 : decode cX17_does 26 = .ok (.getfield 19, 3) := dk_180 0 19 (dk_at dksX17_does_1 4 rfl rfl)
theorem dX17_does_29 : decode cX17_does 29 = .ok (.getfield 29, 3) := dk_180 0 29 (dk_at dksX17_does_1 7 rfl rfl)
theorem dX17_does_32 : decode cX17_does 32 = .ok (.iload_n 2, 1) := dk_28 (dk_at dksX17_does_1 10 rfl rfl)
theorem dX17_does_33 : decode cX17_does 33 = .ok (.aaload, 1) := dk_50 (dk_at dksX17_does_1 11 rfl rfl)
theorem dX17_does_34 : decode cX17_does 34 = .ok (.ifnull 13, 3) := dk_198 0 13 (dk_at dksX17_does_1 12 rfl rfl)
theorem dX17_does_37 : decode cX17_does 37 = .ok (.aload_n 1, 1) := dk_43 (dk_at dksX17_does_1 15 rfl rfl)
theorem dX17_does_38 : decode cX17_does 38 = .ok (.getfield 19, 3) := dk_180 0 19 (dk_at dksX17_does_1 16 rfl rfl)
theorem dX17_does_41 : decode cX17_does 41 = .ok (.iload_n 2, 1) := dk_28 (dk_at dksX17_does_1 19 rfl rfl)
theorem dX17_does_42 : decode cX17_does 42 = .ok (.lconst 0, 1) := dk_9 (dk_at dksX17_does_1 20 rfl rfl)
theorem dX17_does_43 : decode cX17_does 43 = .ok (.aconst_null, 1) := dk_1 (dk_at dksX17_does_1 21 rfl rfl)
theorem dX17_does_44 : decode cX17_does 44 = .ok (.invokevirtual 39, 3) := dk_182 0 39 (dk_at dksX17_does_2 0 rfl rfl)
theorem dX17_does_47 : decode cX17_does 47 = .ok (.return_, 1) := dk_177 (dk_at dksX17_does_2 3 rfl rfl)
def dkwX18_init_0 : List UInt8 := [42, 43, 181, 0, 1, 42, 43, 28, 183, 0, 7, 177]
abbrev dktX18_init_0 : List UInt8 := dkwX18_init_0 ++ []
theorem dksX18_init_0 : cX18_init.data.toList.drop 0 = dktX18_init_0 := by decide +kernel
theorem dX18_init_0 : decode cX18_init 0 = .ok (.aload_n 0, 1) := dk_42 (dk_at dksX18_init_0 0 rfl rfl)
theorem dX18_init_1 : decode cX18_init 1 = .ok (.aload_n 1, 1) := dk_43 (dk_at dksX18_init_0 1 rfl rfl)
theorem dX18_init_2 : decode cX18_init 2 = .ok (.putfield 1, 3) := dk_181 0 1 (dk_at dksX18_init_0 2 rfl rfl)
theorem dX18_init_5 : decode cX18_init 5 = .ok (.aload_n 0, 1) := dk_42 (dk_at dksX18_init_0 5 rfl rfl)
theorem dX18_init_6 : decode cX18_init 6 = .ok (.aload_n 1, 1) := dk_43 (dk_at dksX18_init_0 6 rfl rfl)
theorem dX18_init_7 : decode cX18_init 7 = .ok (.iload_n 2, 1) := dk_28 (dk_at dksX18_init_0 7 rfl rfl)
theorem dX18_init_8 : decode cX18_init 8 = .ok (.invokespecial 7, 3) := dk_183 0 7 (dk_at dksX18_init_0 8 rfl rfl)
theorem dX18_init_11 : decode cX18_init 11 = .ok (.return_, 1) := dk_177 (dk_at dksX18_init_0 11 rfl rfl)
def dkwX18_does_1 : List UInt8 := [180, 0, 13, 180, 0, 33, 29, 50, 182, 0, 37, 177]
abbrev dktX18_does_1 : List UInt8 := dkwX18_does_1 ++ []
def dkwX18_does_0 : List UInt8 := [43, 180, 0, 13, 182, 0, 19, 62, 43, 180, 0, 25, 28, 43, 180, 0, 13, 180, 0, 29, 29, 47, 43]
abbrev dktX18_does_0 : List UInt8 := dkwX18_does_0 ++ dktX18_does_1
theorem dksX18_does_0 : cX18_does.data.toList.drop 0 = dktX18_does_0 := by decide +kernel
theorem dksX18_does_1 : cX18_does.data.toList.drop 23 = dktX18_does_1 := dk_seg dksX18_does_0 23 rfl rfl
theorem dX18_does_0 : decode cX18_does 0 = .ok (.aload_n 1, 1) := dk_43 (dk_at dksX18_does_0 0 rfl rfl)
theorem dX18_does_1 : decode cX18_does 1 = .ok (.getfield 13, 3) := dk_180 0 13 (dk_at dksX18_does_0 1 rfl rfl)
theorem dX18_does_4 : decode cX18_does 4 = .ok (.invokevirtual 19, 3) := dk_182 0 19 (dk_at dksX18_does_0 4 rfl rfl)
theorem dX18_does_7 : decode cX18_does 7 = .ok (.istore_n 3, 1) := dk_62 (dk_at dksX18_does_0 7 rfl rfl)
theorem dX18_does_8 : decode cX18_does 8 = .ok (.aload_n 1, 1) := dk_43 (dk_at dksX18_does_0 8 rfl rfl)
theorem dX18_does_9 : decode cX18_does 9 = .ok (.getfield 25, 3) := dk_180 0 25 (dk_at dksX18_does_0 9 rfl rfl)
theorem dX18_does_12 : decode cX18_does 12 = .ok (.iload_n 2, 1) := dk_28 (dk_at dksX18_does_0 12 rfl rfl)
theorem dX18_does_13 : decode cX18_does 13 = .ok (.aload_n 1, 1) := dk_43 (dk_at dksX18_does_0 13 rfl rfl)
theorem dX18_does_14 : decode cX18_does 14 = .ok (.getfield 13, 3) := dk_180 0 13 (dk_at dksX18_does_0 14 rfl rfl)
theorem dX18_does_17 : decode cX18_does 17 = .ok (.getfield 29, 3) := dk_180 0 29 (dk_at dksX18_does_0 17 rfl rfl)
theorem dX18_does_20 : decode cX18_does 20 = .ok (.iload_n 3, 1) := dk_29 (dk_at dksX18_does_0 20 rfl rfl)
theorem dX18_does_21 : decode cX18_does 21 = .ok (.laload, 1) := dk_47 (dk_at dksX18_does_0 21 rfl rfl)
theorem dX18_does_22 : decode cX18_does 22 = .ok (.aload_n 1, 1) := dk_43 (dk_at dksX18_does_0 22 rfl rfl)
theorem dX18_does_23 : decode cX18_does 23 = .ok (.getfield 13, 3) := dk_180 0 13 (dk_at dksX18_does_1 0 rfl rfl)
theorem dX18_does_26 : decode cX18_does 26 = .ok (.getfield 33, 3) := dk_180 0 33 (dk_at dksX18_does_1 3 rfl rfl)
theorem dX18_does_29 : decode cX18_does 29 = .ok (.iload_n 3, 1) := dk_29 (dk_at dksX18_does_1 6 rfl rfl)
theorem dX18_does_30 : decode cX18_does 30 = .ok (.aaload, 1) := dk_50 (dk_at dksX18_does_1 7 rfl rfl)
theorem dX18_does_31 : decode cX18_does 31 = .ok (.invokevirtual 37, 3) := dk_182 0 37 (dk_at dksX18_does_1 8 rfl rfl)
theorem dX18_does_34 : decode cX18_does 34 = .ok (.return_, 1) := dk_177 (dk_at dksX18_does_1 11 rfl rfl)
def dkwX19_init_0 : List UInt8 := [42, 43, 181, 0, 1, 42, 43, 28, 183, 0, 7, 177]
abbrev dktX19_init_0 : List UInt8 := dkwX19_init_0 ++ []
theorem dksX19_init_0 : cX19_init.data.toList.drop 0 = dktX19_init_0 := by decide +kernel
theorem dX19_init_0 : decode cX19_init 0 = .ok (.aload_n 0, 1) := dk_42 (dk_at dksX19_init_0 0 rfl rfl)
theorem dX19_init_1 : decode cX19_init 1 = .ok (.aload_n 1, 1) := dk_43 (dk_at dksX19_init_0 1 rfl rfl)
theorem dX19_init_2 : decode cX19_init 2 = .ok (.putfield 1, 3) := dk_181 0 1 (dk_at dksX19_init_0 2 rfl rfl)
theorem dX19_init_5 : decode cX19_init 5 = .ok (.aload_n 0, 1) := dk_42 (dk_at dksX19_init_0 5 rfl rfl)
theorem dX19_init_6 : decode cX19_init 6 = .ok (.aload_n 1, 1) := dk_43 (dk_at dksX19_init_0 6 rfl rfl)
theorem dX19_init_7 : decode cX19_init 7 = .ok (.iload_n 2, 1) := dk_28 (dk_at dksX19_init_0 7 rfl rfl)
theorem dX19_init_8 : decode cX19_init 8 = .ok (.invokespecial 7, 3) := dk_183 0 7 (dk_at dksX19_init_0 8 rfl rfl)
theorem dX19_init_11 : decode cX19_init 11 = .ok (.return_, 1) := dk_177 (dk_at dksX19_init_0 11 rfl rfl)
def dkwX19_does_0 : List UInt8 := [43, 180, 0, 13, 182, 0, 19, 87, 177]
abbrev dktX19_does_0 : List UInt8 := dkwX19_does_0 ++ []
theorem dksX19_does_0 : cX19_does.data.toList.drop 0 = dktX19_does_0 := by decide +kernel
theorem dX19_does_0 : decode cX19_does 0 = .ok (.aload_n 1, 1) := dk_43 (dk_at dksX19_does_0 0 rfl rfl)
theorem dX19_does_1 : decode cX19_does 1 = .ok (.getfield 13, 3) := dk_180 0 13 (dk_at dksX19_does_0 1 rfl rfl)
theorem dX19_does_4 : decode cX19_does 4 = .ok (.invokevirtual 19, 3) := dk_182 0 19 (dk_at dksX19_does_0 4 rfl rfl)
theorem dX19_does_7 : decode cX19_does 7 = .ok (.pop, 1) := dk_87 (dk_at dksX19_does_0 7 rfl rfl)
theorem dX19_does_8 : decode cX19_does 8 = .ok (.return_, 1) := dk_177 (dk_at dksX19_does_0 8 rfl rfl)
def dkwX2_init_0 : List UInt8 := [42, 43, 181, 0, 1, 42, 43, 28, 183, 0, 7, 177]
abbrev dktX2_init_0 : List UInt8 := dkwX2_init_0 ++ []
theorem dksX2_init_0 : cX2_init.data.toList.drop 0 = dktX2_init_0 := by decide +kernel
theorem dX2_init_0 : decode cX2_init 0 = .ok (.aload_n 0, 1) := dk_42 (dk_at dksX2_init_0 0 rfl rfl)
theorem dX2_init_1 : decode cX2_init 1 = .ok (.aload_n 1, 1) := dk_43 (dk_at dksX2_init_0 1 rfl rfl)
theorem dX2_init_2 : decode cX2_init 2 = .ok (.putfield 1, 3) := dk_181 0 1 (dk_at dksX2_init_0 2 rfl rfl)
theorem dX2_init_5 : decode cX2_init 5 = .ok (.aload_n 0, 1) := dk_42 (dk_at dksX2_init_0 5 rfl rfl)
theorem dX2_init_6 : decode cX2_init 6 = .ok (.aload_n 1, 1) := dk_43 (dk_at dksX2_init_0 6 rfl rfl)
theorem dX2_init_7 : decode cX2_init 7 = .ok (.iload_n 2, 1) := dk_28 (dk_at dksX2_init_0 7 rfl rfl)
theorem dX2_init_8 : decode cX2_init 8 = .ok (.invokespecial 7, 3) := dk_183 0 7 (dk_at dksX2_init_0 8 rfl rfl)
theorem dX2_init_11 : decode cX2_init 11 = .ok (.return_, 1) := dk_177 (dk_at dksX2_init_0 11 rfl rfl)
def dkwX2_does_0 : List UInt8 := [43, 28, 133, 182, 0, 13, 177]
abbrev dktX2_does_0 : List UInt8 := dkwX2_does_0 ++ []
theorem dksX2_does_0 : cX2_does.data.toList.drop 0 = dktX2_does_0 := by decide +kernel
theorem dX2_does_0 : decode cX2_does 0 = .ok (.aload_n 1, 1) := dk_43 (dk_at dksX2_does_0 0 rfl rfl)
theorem dX2_does_1 : decode cX2_does 1 = .ok (.iload_n 2, 1) := dk_28 (dk_at dksX2_does_0 1 rfl rfl)
theorem dX2_does_2 : decode cX2_does 2 = .ok (.i2l, 1) := dk_133 (dk_at dksX2_does_0 2 rfl rfl)
theorem dX2_does_3 : decode cX2_does 3 = .ok (.invokevirtual 13, 3) := dk_182 0 13 (dk_at dksX2_does_0 3 rfl rfl)
theorem dX2_does_6 : decode cX2_does 6 = .ok (.return_, 1) := dk_177 (dk_at dksX2_does_0 6 rfl rfl)
def dkwX20_init_0 : List UInt8 := [42, 43, 181, 0, 1, 42, 43, 28, 183, 0, 7, 177]
abbrev dktX20_init_0 : List UInt8 := dkwX20_init_0 ++ []
theorem dksX20_init_0 : cX20_init.data.toList.drop 0 = dktX20_init_0 := by decide +kernel
theorem dX20_init_0 : decode cX20_init 0 = .ok (.aload_n 0, 1) := dk_42 (dk_at dksX20_init_0 0 rfl rfl)
theorem dX20_init_1 : decode cX20_init 1 = .ok (.aload_n 1, 1) := dk_43 (dk_at dksX20_init_0 1 rfl rfl)
theorem dX20_init_2 : decode cX20_init 2 = .ok (.putfield 1, 3) := dk_181 0 1 (dk_at dksX20_init_0 2 rfl rfl)
theorem dX20_init_5 : decode cX20_init 5 = .ok (.aload_n 0, 1) := dk_42 (dk_at dksX20_init_0 5 rfl rfl)
theorem dX20_init_6 : decode cX20_init 6 = .ok (.aload_n 1, 1) := dk_43 (dk_at dksX20_init_0 6 rfl rfl)
theorem dX20_init_7 : decode cX20_init 7 = .ok (.iload_n 2, 1) := dk_28 (dk_at dksX20_init_0 7 rfl rfl)
theorem dX20_init_8 : decode cX20_init 8 = .ok (.invokespecial 7, 3) := dk_183 0 7 (dk_at dksX20_init_0 8 rfl rfl)
theorem dX20_init_11 : decode cX20_init 11 = .ok (.return_, 1) := dk_177 (dk_at dksX20_init_0 11 rfl rfl)
def dkwX20_does_2 : List UInt8 := [182, 0, 33, 182, 0, 39, 177]
abbrev dktX20_does_2 : List UInt8 := dkwX20_does_2 ++ []
def dkwX20_does_1 : List UInt8 := [180, 0, 29, 29, 50, 58, 6, 43, 180, 0, 13, 9, 42, 180, 0, 1, 43, 28, 22, 4, 25, 6]
abbrev dktX20_does_1 : List UInt8 := dkwX20_does_1 ++ dktX20_does_2
def dkwX20_does_0 : List UInt8 := [43, 180, 0, 13, 182, 0, 19, 62, 43, 180, 0, 13, 180, 0, 25, 29, 47, 55, 4, 43, 180, 0, 13]
abbrev dktX20_does_0 : List UInt8 := dkwX20_does_0 ++ dktX20_does_1
theorem dksX20_does_0 : cX20_does.data.toList.drop 0 = dktX20_does_0 := by decide +kernel
theorem dksX20_does_1 : cX20_does.data.toList.drop 23 = dktX20_does_1 := dk_seg dksX20_does_0 23 rfl rfl
theorem dksX20_does_2 : cX20_does.data.toList.drop 45 = dktX20_does_2 := dk_seg dksX20_does_1 22 rfl rfl
theorem dX20_does_0 : decode cX20_does 0 = .ok (.aload_n 1, 1) := dk_43 (dk_at dksX20_does_0 0 rfl rfl)
theorem dX20_does_1 : decode cX20_does 1 = .ok (.getfield 13, 3) := dk_180 0 13 (dk_at dksX20_does_0 1 rfl rfl)
theorem dX20_does_4 : decode cX20_does 4 = .ok (.invokevirtual 19, 3) := dk_182 0 19 (dk_at dksX20_does_0 4 rfl rfl)
theorem dX20_does_7 : decode cX20_does 7 = .ok (.istore_n 3, 1) := dk_62 (dk_at dksX20_does_0 7 rfl rfl)
theorem dX20_does_8 : decode cX20_does 8 = .ok (.aload_n 1, 1) := dk_43 (dk_at dksX20_does_0 8 rfl rfl)
theorem dX20_does_9 : decode cX20_does 9 = .ok (.getfield 13, 3) := dk_180 0 13 (dk_at dksX20_does_0 9 rfl rfl)
theorem dX20_does_12 : decode cX20_does 12 = .ok (.getfield 25, 3) := dk_180 0 25 (dk_at dksX20_does_0 12 rfl rfl)
theorem dX20_does_15 : decode cX20_does 15 = .ok (.iload_n 3, 1) := dk_29 (dk_at dksX20_does_0 15 rfl rfl)
theorem dX20_does_16 : decode cX20_does 16 = .ok (.laload, 1) := dk_47 (dk_at dksX20_does_0 16 rfl rfl)
theorem dX20_does_17 : decode cX20_does 17 = .ok (.lstore 4, 2) := dk_55 4 (dk_at dksX20_does_0 17 rfl rfl)
theorem dX20_does_19 : decode cX20_does 19 = .ok (.aload_n 1, 1) := dk_43 (dk_at dksX20_does_0 19 rfl rfl)
theorem dX20_does_20 : decode cX20_does 20 = .ok (.getfield 13, 3) := dk_180 0 13 (dk_at dksX20_does_0 20 rfl rfl)
theorem dX20_does_23 : decode cX20_does 23 = .ok (.getfield 29, 3) := dk_180 0 29 (dk_at dksX20_does_1 0 rfl rfl)
theorem dX20_does_26 : decode cX20_does 26 = .ok (.iload_n 3, 1) := dk_29 (dk_at dksX20_does_1 3 rfl rfl)
theorem dX20_does_27 : decode cX20_does 27 = .ok (.aaload, 1) := dk_50 (dk_at dksX20_does_1 4 rfl rfl)
theorem dX20_does_28 : decode cX20_does 28 = .ok (.astore 6, 2) := dk_58 6 (dk_at dksX20_does_1 5 rfl rfl)
theorem dX20_does_30 : decode cX20_does 30 = .ok (.aload_n 1, 1) := dk_43 (dk_at dksX20_does_1 7 rfl rfl)
theorem dX20_does_31 : decode cX20_does 31 = .ok (.getfield 13, 3) := dk_180 0 13 (dk_at dksX20_does_1 8 rfl rfl)
theorem dX20_does_34 : decode cX20_does 34 = .ok (.lconst 0, 1) := dk_9 (dk_at dksX20_does_1 11 rfl rfl)
theorem dX20_does_35 : decode cX20_does 35 = .ok (.aload_n 0, 1) := dk_42 (dk_at dksX20_does_1 12 rfl rfl)
theorem dX20_does_36 : decode cX20_does 36 = .ok (.getfield 1, 3) := dk_180 0 1 (dk_at dksX20_does_1 13 rfl rfl)
theorem dX20_does_39 : decode cX20_does 39 = .ok (.aload_n 1, 1) := dk_43 (dk_at dksX20_does_1 16 rfl rfl)
theorem dX20_does_40 : decode cX20_does 40 = .ok (.iload_n 2, 1) := dk_28 (dk_at dksX20_does_1 17 rfl rfl)
theorem dX20_does_41 : decode cX20_does 41 = .ok (.lload 4, 2) := dk_22 4 (dk_at dksX20_does_1 18 rfl rfl)
theorem dX20_does_43 : decode cX20_does 43 = .ok (.aload 6, 2) := dk_25 6 (dk_at dksX20_does_1 20 rfl rfl)
theorem dX20_does_45 : decode cX20_does 45 = .ok (.invokevirtual 33, 3) := dk_182 0 33 (dk_at dksX20_does_2 0 rfl rfl)
theorem dX20_does_48 : decode cX20_does 48 = .ok (.invokevirtual 39, 3) := dk_182 0 39 (dk_at dksX20_does_2 3 rfl rfl)
theorem dX20_does_51 : decode cX20_does 51 = .ok (.return_, 1) := dk_177 (dk_at dksX20_does_2 6 rfl rfl)
def dkwX21_init_0 : List UInt8 := [42, 43, 181, 0, 1, 42, 43, 28, 183, 0, 7, 177]
abbrev dktX21_init_0 : List UInt8 := dkwX21_init_0 ++ []
theorem dksX21_init_0 : cX21_init.data.toList.drop 0 = dktX21_init_0 := by decide +kernel
theorem dX21_init_0 : decode cX21_init 0 = .ok (.aload_n 0, 1) := dk_42 (dk_at dksX21_init_0 0 rfl rfl)
theorem dX21_init_1 : decode cX21_init 1 = .ok (.aload_n 1, 1) := dk_43 (dk_at dksX21_init_0 1 rfl rfl)
theorem dX21_init_2 : decode cX21_init 2 = .ok (.putfield 1, 3) := dk_181 0 1 (dk_at dksX21_init_0 2 rfl rfl)
theorem dX21_init_5 : decode cX21_init 5 = .ok (.aload_n 0, 1) := dk_42 (dk_at dksX21_init_0 5 rfl rfl)
theorem dX21_init_6 : decode cX21_init 6 = .ok (.aload_n 1, 1) := dk_43 (dk_at dksX21_init_0 6 rfl rfl)
theorem dX21_init_7 : decode cX21_init 7 = .ok (.iload_n 2, 1) := dk_28 (dk_at dksX21_init_0 7 rfl rfl)
theorem dX21_init_8 : decode cX21_init 8 = .ok (.invokespecial 7, 3) := dk_183 0 7 (dk_at dksX21_init_0 8 rfl rfl)
theorem dX21_init_11 : decode cX21_init 11 = .ok (.return_, 1) := dk_177 (dk_at dksX21_init_0 11 rfl rfl)
def dkwX21_does_0 : List UInt8 := [42, 180, 0, 1, 43, 43, 180, 0, 13, 43, 180, 0, 13, 182, 0, 19, 182, 0, 25, 182, 0, 29, 177]
abbrev dktX21_does_0 : List UInt8 := dkwX21_does_0 ++ []
theorem dksX21_does_0 : cX21_does.data.toList.drop 0 = dktX21_does_0 := by decide +kernel
theorem dX21_does_0 : decode cX21_does 0 = .ok (.aload_n 0, 1) := dk_42 (dk_at dksX21_does_0 0 rfl rfl)
theorem dX21_does_1 : decode cX21_does 1 = .ok (.getfield 1, 3) := dk_180 0 1 (dk_at dksX21_does_0 1 rfl rfl)
theorem dX21_does_4 : decode cX21_does 4 = .ok (.aload_n 1, 1) := dk_43 (dk_at dksX21_does_0 4 rfl rfl)
theorem dX21_does_5 : decode cX21_does 5 = .ok (.aload_n 1, 1) := dk_43 (dk_at dksX21_does_0 5 rfl rfl)
theorem dX21_does_6 : decode cX21_does 6 = .ok (.getfield 13, 3) := dk_180 0 13 (dk_at dksX21_does_0 6 rfl rfl)
theorem dX21_does_9 : decode cX21_does 9 = .ok (.aload_n 1, 1) := dk_43 (dk_at dksX21_does_0 9 rfl rfl)
theorem dX21_does_10 : decode cX21_does 10 = .ok (.getfield 13, 3) := dk_180 0 13 (dk_at dksX21_does_0 10 rfl rfl)
theorem dX21_does_13 : decode cX21_does 13 = .ok (.invokevirtual 19, 3) := dk_182 0 19 (dk_at dksX21_does_0 13 rfl rfl)
theorem dX21_does_16 : decode cX21_does 16 = .ok (.invokevirtual 25, 3) := dk_182 0 25 (dk_at dksX21_does_0 16 rfl rfl)
theorem dX21_does_19 : decode cX21_does 19 = .ok (.invokevirtual 29, 3) := dk_182 0 29 (dk_at dksX21_does_0 19 rfl rfl)
theorem dX21_does_22 : decode cX21_does 22 = .ok (.return_, 1) := dk_177 (dk_at dksX21_does_0 22 rfl rfl)
def dkwX22_init_0 : List UInt8 := [42, 43, 181, 0, 1, 42, 43, 28, 183, 0, 7, 177]
abbrev dktX22_init_0 : List UInt8 := dkwX22_init_0 ++ []
theorem dksX22_init_0 : cX22_init.data.toList.drop 0 = dktX22_init_0 := by decide +kernel
theorem dX22_init_0 : decode cX22_init 0 = .ok (.aload_n 0, 1) := dk_42 (dk_at dksX22_init_0 0 rfl rfl)
theorem dX22_init_1 : decode cX22_init 1 = .ok (.aload_n 1, 1) := dk_43 (dk_at dksX22_init_0 1 rfl rfl)
theorem dX22_init_2 : decode cX22_init 2 = .ok (.putfield 1, 3) := dk_181 0 1 (dk_at dksX22_init_0 2 rfl rfl)
theorem dX22_init_5 : decode cX22_init 5 = .ok (.aload_n 0, 1) := dk_42 (dk_at dksX22_init_0 5 rfl rfl)
theorem dX22_init_6 : decode cX22_init 6 = .ok (.aload_n 1, 1) := dk_43 (dk_at dksX22_init_0 6 rfl rfl)
theorem dX22_init_7 : decode cX22_init 7 = .ok (.iload_n 2, 1) := dk_28 (dk_at dksX22_init_0 7 rfl rfl)
theorem dX22_init_8 : decode cX22_init 8 = .ok (.invokespecial 7, 3) := dk_183 0 7 (dk_at dksX22_init_0 8 rfl rfl)
theorem dX22_init_11 : decode cX22_init 11 = .ok (.return_, 1) := dk_177 (dk_at dksX22_init_0 11 rfl rfl)
def dkwX22_does_0 : List UInt8 := [43, 43, 182, 0, 13, 182, 0, 19, 177]
abbrev dktX22_does_0 : List UInt8 := dkwX22_does_0 ++ []
theorem dksX22_does_0 : cX22_does.data.toList.drop 0 = dktX22_does_0 := by decide +kernel
theorem dX22_does_0 : decode cX22_does 0 = .ok (.aload_n 1, 1) := dk_43 (dk_at dksX22_does_0 0 rfl rfl)
theorem dX22_does_1 : decode cX22_does 1 = .ok (.aload_n 1, 1) := dk_43 (dk_at dksX22_does_0 1 rfl rfl)
theorem dX22_does_2 : decode cX22_does 2 = .ok (.invokevirtual 13, 3) := dk_182 0 13 (dk_at dksX22_does_0 2 rfl rfl)
theorem dX22_does_5 : decode cX22_does 5 = .ok (.invokevirtual 19, 3) := dk_182 0 19 (dk_at dksX22_does_0 5 rfl rfl)
theorem dX22_does_8 : decode cX22_does 8 = .ok (.return_, 1) := dk_177 (dk_at dksX22_does_0 8 rfl rfl)
def dkwX23_init_0 : List UInt8 := [42, 43, 181, 0, 1, 42, 43, 28, 183, 0, 7, 177]
abbrev dktX23_init_0 : List UInt8 := dkwX23_init_0 ++ []
theorem dksX23_init_0 : cX23_init.data.toList.drop 0 = dktX23_init_0 := by decide +kernel
theorem dX23_init_0 : decode cX23_init 0 = .ok (.aload_n 0, 1) := dk_42 (dk_at dksX23_init_0 0 rfl rfl)
theorem dX23_init_1 : decode cX23_init 1 = .ok (.aload_n 1, 1) := dk_43 (dk_at dksX23_init_0 1 rfl rfl)
theorem dX23_init_2 : decode cX23_init 2 = .ok (.putfield 1, 3) := dk_181 0 1 (dk_at dksX23_init_0 2 rfl rfl)
theorem dX23_init_5 : decode cX23_init 5 = .ok (.aload_n 0, 1) := dk_42 (dk_at dksX23_init_0 5 rfl rfl)
theorem dX23_init_6 : decode cX23_init 6 = .ok (.aload_n 1, 1) := dk_43 (dk_at dksX23_init_0 6 rfl rfl)
theorem dX23_init_7 : decode cX23_init 7 = .ok (.iload_n 2, 1) := dk_28 (dk_at dksX23_init_0 7 rfl rfl)
theorem dX23_init_8 : decode cX23_init 8 = .ok (.invokespecial 7, 3) := dk_183 0 7 (dk_at dksX23_init_0 8 rfl rfl)
theorem dX23_init_11 : decode cX23_init 11 = .ok (.return_, 1) := dk_177 (dk_at dksX23_init_0 11 rfl rfl)
def dkwX23_does_1 : List UInt8 := [180, 0, 29, 29, 50, 182, 0, 33, 177]
abbrev dktX23_does_1 : List UInt8 := dkwX23_does_1 ++ []
def dkwX23_does_0 : List UInt8 := [43, 180, 0, 13, 182, 0, 19, 62, 43, 43, 180, 0, 13, 180, 0, 25, 29, 47, 43, 180, 0, 13]
abbrev dktX23_does_0 : List UInt8 := dkwX23_does_0 ++ dktX23_does_1
theorem dksX23_does_0 : cX23_does.data.toList.drop 0 = dktX23_does_0 := by decide +kernel
theorem dksX23_does_1 : cX23_does.data.toList.drop 22 = dktX23_does_1 := dk_seg dksX23_does_0 22 rfl rfl
theorem dX23_does_0 : decode cX23_does 0 = .ok (.aload_n 1, 1) := dk_43 (dk_at dksX23_does_0 0 rfl rfl)
theorem dX23_does_1 : decode cX23_does 1 = .ok (.getfield 13, 3) := dk_180 0 13 (dk_at dksX23_does_0 1 rfl rfl)
theorem dX23_does_4 : decode cX23_does 4 = .ok (.invokevirtual 19, 3) := dk_182 0 19 (dk_at dksX23_does_0 4 rfl rfl)
theorem dX23_does_7 : decode cX23_does 7 = .ok (.istore_n 3, 1) := dk_62 (dk_at dksX23_does_0 7 rfl rfl)
theorem dX23_does_8 : decode cX23_does 8 = .ok (.aload_n 1, 1) := dk_43 (dk_at dksX23_does_0 8 rfl rfl)
theorem dX23_does_9 : decode cX23_does 9 = .ok (.aload_n 1, 1) := dk_43 (dk_at dksX23_does_0 9 rfl rfl)
theorem dX23_does_10 : decode cX23_does 10 = .ok (.getfield 13, 3) := dk_180 0 13 (dk_at dksX23_does_0 10 rfl rfl)
theorem dX23_does_13 : decode cX23_does 13 = .ok (.getfield 25, 3) := dk_180 0 25 (dk_at dksX23_does_0 13 rfl rfl)
theorem dX23_does_16 : decode cX23_does 16 = .ok (.iload_n 3, 1) := dk_29 (dk_at dksX23_does_0 16 rfl rfl)
theorem dX23_does_17 : decode cX23_does 17 = .ok (.laload, 1) := dk_47 (dk_at dksX23_does_0 17 rfl rfl)
theorem dX23_does_18 : decode cX23_does 18 = .ok (.aload_n 1, 1) := dk_43 (dk_at dksX23_does_0 18 rfl rfl)
theorem dX23_does_19 : decode cX23_does 19 = .ok (.getfield 13, 3) := dk_180 0 13 (dk_at dksX23_does_0 19 rfl rfl)
theorem dX23_does_22 : decode cX23_does 22 = .ok (.getfield 29, 3) := dk_180 0 29 (dk_at dksX23_does_1 0 rfl rfl)
theorem dX23_does_25 : decode cX23_does 25 = .ok (.iload_n 3, 1) := dk_29 (dk_at dksX23_does_1 3 rfl rfl)
theorem dX23_does_26 : decode cX23_does 26 = .ok (.aaload, 1) := dk_50 (dk_at dksX23_does_1 4 rfl rfl)
theorem dX23_does_27 : decode cX23_does 27 = .ok (.invokevirtual 33, 3) := dk_182 0 33 (dk_at dksX23_does_1 5 rfl rfl)
theorem dX23_does_30 : decode cX23_does 30 = .ok (.return_, 1) := dk_177 (dk_at dksX23_does_1 8 rfl rfl)
def dkwX24_init_0 : List UInt8 := [42, 43, 181, 0, 3, 42, 43, 28, 183, 0, 9, 177]
abbrev dktX24_init_0 : List UInt8 := dkwX24_init_0 ++ []
theorem dksX24_init_0 : cX24_init.data.toList.drop 0 = dktX24_init_0 := by decide +kernel
theorem dX24_init_0 : decode cX24_init 0 = .ok (.aload_n 0, 1) := dk_42 (dk_at dksX24_init_0 0 rfl rfl)
theorem dX24_init_1 : decode cX24_init 1 = .ok (.aload_n 1, 1) := dk_43 (dk_at dksX24_init_0 1 rfl rfl)
theorem dX24_init_2 : decode cX24_init 2 = .ok (.putfield 3, 3) := dk_181 0 3 (dk_at dksX24_init_0 2 rfl rfl)
theorem dX24_init_5 : decode cX24_init 5 = .ok (.aload_n 0, 1) := dk_42 (dk_at dksX24_init_0 5 rfl rfl)
theorem dX24_init_6 : decode cX24_init 6 = .ok (.aload_n 1, 1) := dk_43 (dk_at dksX24_init_0 6 rfl rfl)
theorem dX24_init_7 : decode cX24_init 7 = .ok (.iload_n 2, 1) := dk_28 (dk_at dksX24_init_0 7 rfl rfl)
theorem dX24_init_8 : decode cX24_init 8 = .ok (.invokespecial 9, 3) := dk_183 0 9 (dk_at dksX24_init_0 8 rfl rfl)
theorem dX24_init_11 : decode cX24_init 11 = .ok (.return_, 1) := dk_177 (dk_at dksX24_init_0 11 rfl rfl)
def dkwX24_does_0 : List UInt8 := [187, 0, 15, 89, 16, 100, 43, 182, 0, 17, 20, 0, 23, 127, 136, 96, 183, 0, 25, 191]
abbrev dktX24_does_0 : List UInt8 := dkwX24_does_0 ++ []
theorem dksX24_does_0 : cX24_does.data.toList.drop 0 = dktX24_does_0 := by decide +kernel
theorem dX24_does_0 : decode cX24_does 0 = .ok (.new 15, 3) := dk_187 0 15 (dk_at dksX24_does_0 0 rfl rfl)
theorem dX24_does_3 : decode cX24_does 3 = .ok (.dup, 1) := dk_89 (dk_at dksX24_does_0 3 rfl rfl)
theorem dX24_does_4 : decode cX24_does 4 = .ok (.bipush 100, 2) := dk_16 100 (dk_at dksX24_does_0 4 rfl rfl)
theorem dX24_does_6 : decode cX24_does 6 = .ok (.aload_n 1, 1) := dk_43 (dk_at dksX24_does_0 6 rfl rfl)
theorem dX24_does_7 : decode cX24_does 7 = .ok (.invokevirtual 17, 3) := dk_182 0 17 (dk_at dksX24_does_0 7 rfl rfl)
theorem dX24_does_10 : decode cX24_does 10 = .ok (.ldc2_w 23, 3) := dk_20 0 23 (dk_at dksX24_does_0 10 rfl rfl)
theorem dX24_does_13 : decode cX24_does 13 = .ok (.land, 1) := dk_127 (dk_at dksX24_does_0 13 rfl rfl)
theorem dX24_does_14 : decode cX24_does 14 = .ok (.l2i, 1) := dk_136 (dk_at dksX24_does_0 14 rfl rfl)
theorem dX24_does_15 : decode cX24_does 15 = .ok (.iadd, 1) := dk_96 (dk_at dksX24_does_0 15 rfl rfl)
theorem dX24_does_16 : decode cX24_does 16 = .ok (.invokespecial 25, 3) := dk_183 0 25 (dk_at dksX24_does_0 16 rfl rfl)
theorem dX24_does_19 : decode cX24_does 19 = .ok (.athrow, 1) := dk_191 (dk_at dksX24_does_0 19 rfl rfl)
def dkwX26_init_0 : List UInt8 := [42, 183, 0, 3, 42, 16, 40, 188, 10, 181, 0, 9, 42, 16, 40, 188, 10, 181, 0, 15, 177]
abbrev dktX26_init_0 : List UInt8 := dkwX26_init_0 ++ []
theorem dksX26_init_0 : cX26_init.data.toList.drop 0 = dktX26_init_0 := by decide +kernel
theorem dX26_init_0 : decode cX26_init 0 = .ok (.aload_n 0, 1) := dk_42 (dk_at dksX26_init_0 0 rfl rfl)
theorem dX26_init_1 : decode cX26_init 1 = .ok (.invokespecial 3, 3) := dk_183 0 3 (dk_at dksX26_init_0 1 rfl rfl)
theorem dX26_init_4 : decode cX26_init 4 = .ok (.aload_n 0, 1) := dk_42 (dk_at dksX26_init_0 4 rfl rfl)
theorem dX26_init_5 : decode cX26_init 5 = .ok (.bipush 40, 2) := dk_16 40 (dk_at dksX26_init_0 5 rfl rfl)
theorem dX26_init_7 : decode cX26_init 7 = .ok (.newarray .int, 2) := dk_188_10 (dk_at dksX26_init_0 7 rfl rfl)
theorem dX26_init_9 : decode cX26_init 9 = .ok (.putfield 9, 3) := dk_181 0 9 (dk_at dksX26_init_0 9 rfl rfl)
theorem dX26_init_12 : decode cX26_init 12 = .ok (.aload_n 0, 1) := dk_42 (dk_at dksX26_init_0 12 rfl rfl)
theorem dX26_init_13 : decode cX26_init 13 = .ok (.bipush 40, 2) := dk_16 40 (dk_at dksX26_init_0 13 rfl rfl)
theorem dX26_init_15 : decode cX26_init 15 = .ok (.newarray .int, 2) := dk_188_10 (dk_at dksX26_init_0 15 rfl rfl)
theorem dX26_init_17 : decode cX26_init 17 = .ok (.putfield 15, 3) := dk_181 0 15 (dk_at dksX26_init_0 17 rfl rfl)
theorem dX26_init_20 : decode cX26_init 20 = .ok (.return_, 1) := dk_177 (dk_at dksX26_init_0 20 rfl rfl)
def dkwX27_init_1 : List UInt8 := [188, 11, 181, 0, 18, 177]
abbrev dktX27_init_1 : List UInt8 := dkwX27_init_1 ++ []
def dkwX27_init_0 : List UInt8 := [42, 183, 0, 3, 42, 16, 12, 188, 10, 181, 0, 9, 42, 16, 12, 188, 10, 181, 0, 15, 42, 16, 13]
abbrev dktX27_init_0 : List UInt8 := dkwX27_init_0 ++ dktX27_init_1
theorem dksX27_init_0 : cX27_init.data.toList.drop 0 = dktX27_init_0 := by decide +kernel
theorem dksX27_init_1 : cX27_init.data.toList.drop 23 = dktX27_init_1 := dk_seg dksX27_init_0 23 rfl rfl
theorem dX27_init_0 : decode cX27_init 0 = .ok (.aload_n 0, 1) := dk_42 (dk_at dksX27_init_0 0 rfl rfl)
theorem dX27_init_1 : decode cX27_init 1 = .ok (.invokespecial 3, 3) := dk_183 0 3 (dk_at dksX27_init_0 1 rfl rfl)
theorem dX27_init_4 : decode cX27_init 4 = .ok (.aload_n 0, 1) := dk_42 (dk_at dksX27_init_0 4 rfl rfl)
theorem dX27_init_5 : decode cX27_init 5 = .ok (.bipush 12, 2) := dk_16 12 (dk_at dksX27_init_0 5 rfl rfl)
theorem dX27_init_7 : decode cX27_init 7 = .ok (.newarray .int, 2) := dk_188_10 (dk_at dksX27_init_0 7 rfl rfl)
theorem dX27_init_9 : decode cX27_init 9 = .ok (.putfield 9, 3) := dk_181 0 9 (dk_at dksX27_init_0 9 rfl rfl)
theorem dX27_init_12 : decode cX27_init 12 = .ok (.aload_n 0, 1) := dk_42 (dk_at dksX27_init_0 12 rfl rfl)
theorem dX27_init_13 : decode cX27_init 13 = .ok (.bipush 12, 2) := dk_16 12 (dk_at dksX27_init_0 13 rfl rfl)
theorem dX27_init_15 : decode cX27_init 15 = .ok (.newarray .int, 2) := dk_188_10 (dk_at dksX27_init_0 15 rfl rfl)
theorem dX27_init_17 : decode cX27_init 17 = .ok (.putfield 15, 3) := dk_181 0 15 (dk_at dksX27_init_0 17 rfl rfl)
theorem dX27_init_20 : decode cX27_init 20 = .ok (.aload_n 0, 1) := dk_42 (dk_at dksX27_init_0 20 rfl rfl)
theorem dX27_init_21 : decode cX27_init 21 = .ok (.bipush 13, 2) := dk_16 13 (dk_at dksX27_init_0 21 rfl rfl)
theorem dX27_init_23 : decode cX27_init 23 = .ok (.newarray .long, 2) := dk_188_11 (dk_at dksX27_init_1 0 rfl rfl)
theorem dX27_init_25 : decode cX27_init 25 = .ok (.putfield 18, 3) := dk_181 0 18 (dk_at dksX27_init_1 2 rfl rfl)
theorem dX27_init_28 : decode cX27_init 28 = .ok (.return_, 1) := dk_177 (dk_at dksX27_init_1 5 rfl rfl)
def dkwX27_isRight_2 : List UInt8 := [132, 2, 1, 167, 255, 210, 27, 4, 160, 0, 7, 4, 167, 0, 4, 3, 172]
abbrev dktX27_isRight_2 : List UInt8 := dkwX27_isRight_2 ++ []
def dkwX27_isRight_1 : List UInt8 := [162, 0, 5, 3, 172, 27, 42, 180, 0, 9, 28, 46, 7, 162, 0, 7, 4, 167, 0, 4, 2, 96, 60]
abbrev dktX27_isRight_1 : List UInt8 := dkwX27_isRight_1 ++ dktX27_isRight_2
def dkwX27_isRight_0 : List UInt8 := [3, 60, 3, 61, 28, 42, 180, 0, 22, 162, 0, 44, 42, 180, 0, 9, 28, 46, 6, 164, 0, 10, 27, 5]
abbrev dktX27_isRight_0 : List UInt8 := dkwX27_isRight_0 ++ dktX27_isRight_1
theorem dksX27_isRight_0 : cX27_isRight.data.toList.drop 0 = dktX27_isRight_0 := by decide +kernel
theorem dksX27_isRight_1 : cX27_isRight.data.toList.drop 24 = dktX27_isRight_1 := dk_seg dksX27_isRight_0 24 rfl rfl
theorem dksX27_isRight_2 : cX27_isRight.data.toList.drop 47 = dktX27_isRight_2 := dk_seg dksX27_isRight_1 23 rfl rfl
theorem dX27_isRight_0 : decode cX27_isRight 0 = .ok (.iconst 0, 1) := dk_3 (dk_at dksX27_isRight_0 0 rfl rfl)
theorem dX27_isRight_1 : decode cX27_isRight 1 = .ok (.istore_n 1, 1) := dk_60 (dk_at dksX27_isRight_0 1 rfl rfl)
theorem dX27_isRight_2 : decode cX27_isRight 2 = .ok (.iconst 0, 1) := dk_3 (dk_at dksX27_isRight_0 2 rfl rfl)
theorem dX27_isRight_3 : decode cX27_isRight 3 = .ok (.istore_n 2, 1) := dk_61 (dk_at dksX27_isRight_0 3 rfl rfl)
theorem dX27_isRight_4 : decode cX27_isRight 4 = .ok (.iload_n 2, 1) := dk_28 (dk_at dksX27_isRight_0 4 rfl rfl)
theorem dX27_isRight_5 : decode cX27_isRight 5 = .ok (.aload_n 0, 1) := dk_42 (dk_at dksX27_isRight_0 5 rfl rfl)
theorem dX27_isRight_6 : decode cX27_isRight 6 = .ok (.getfield 22, 3) := dk_180 0 22 (dk_at dksX27_isRight_0 6 rfl rfl)
theorem dX27_isRight_9 : decode cX27_isRight 9 = .ok (.if_icmp .ge 44, 3) := dk_162 0 44 (dk_at dksX27_isRight_0 9 rfl rfl)
theorem dX27_isRight_12 : decode cX27_isRight 12 = .ok (.aload_n 0, 1) := dk_42 (dk_at dksX27_isRight_0 12 rfl rfl)
theorem dX27_isRight_13 : decode cX27_isRight 13 = .ok (.getfield 9, 3) := dk_180 0 9 (dk_at dksX27_isRight_0 13 rfl rfl)
theorem dX27_isRight_16 : decode cX27_isRight 16 = .ok (.iload_n 2, 1) := dk_28 (dk_at dksX27_isRight_0 16 rfl rfl)
theorem dX27_isRight_17 : decode cX27_isRight 17 = .ok (.iaload, 1) := dk_46 (dk_at dksX27_isRight_0 17 rfl rfl)
theorem dX27_isRight_18 : decode cX27_isRight 18 = .ok (.iconst 3, 1) := dk_6 (dk_at dksX27_isRight_0 18 rfl rfl)
theorem dX27_isRight_19 : decode cX27_isRight 19 = .ok (.if_icmp .le 10, 3) := dk_164 0 10 (dk_at dksX27_isRight_0 19 rfl rfl)
theorem dX27_isRight_22 : decode cX27_isRight 22 = .ok (.iload_n 1, 1) := dk_27 (dk_at dksX27_isRight_0 22 rfl rfl)
theorem dX27_isRight_23 : decode cX27_isRight 23 = .ok (.iconst 2, 1) := dk_5 (dk_at dksX27_isRight_0 23 rfl rfl)
theorem dX27_isRight_24 : decode cX27_isRight 24 = .ok (.if_icmp .ge 5, 3) := dk_162 0 5 (dk_at dksX27_isRight_1 0 rfl rfl)
theorem dX27_isRight_27 : decode cX27_isRight 27 = .ok (.iconst 0, 1) := dk_3 (dk_at dksX27_isRight_1 3 rfl rfl)
theorem dX27_isRight_28 : decode cX27_isRight 28 = .ok (.ireturn, 1) := dk_172 (dk_at dksX27_isRight_1 4 rfl rfl)
theorem dX27_isRight_29 : decode cX27_isRight 29 = .ok (.iload_n 1, 1) := dk_27 (dk_at dksX27_isRight_1 5 rfl rfl)
theorem dX27_isRight_30 : decode cX27_isRight 30 = .ok (.aload_n 0, 1) := dk_42 (dk_at dksX27_isRight_1 6 rfl rfl)
theorem dX27_isRight_31 : decode cX27_isRight 31 = .ok (.getfield 9, 3) := dk_180 0 9 (dk_at dksX27_isRight_1 7 rfl rfl)
theorem dX27_isRight_34 : decode cX27_isRight 34 = .ok (.iload_n 2, 1) := dk_28 (dk_at dksX27_isRight_1 10 rfl rfl)
theorem dX27_isRight_35 : decode cX27_isRight 35 = .ok (.iaload, 1) := dk_46 (dk_at dksX27_isRight_1 11 rfl rfl)
theorem dX27_isRight_36 : decode cX27_isRight 36 = .ok (.iconst 4, 1) := dk_7 (dk_at dksX27_isRight_1 12 rfl rfl)
theorem dX27_isRight_37 : decode cX27_isRight 37 = .ok (.if_icmp .ge 7, 3) := dk_162 0 7 (dk_at dksX27_isRight_1 13 rfl rfl)
theorem dX27_isRight_40 : decode cX27_isRight 40 = .ok (.iconst 1, 1) := dk_4 (dk_at dksX27_isRight_1 16 rfl rfl)
theorem dX27_isRight_41 : decode cX27_isRight 41 = .ok (.goto 4, 3) := dk_167 0 4 (dk_at dksX27_isRight_1 17 rfl rfl)
theorem dX27_isRight_44 : decode cX27_isRight 44 = .ok (.iconst (-1), 1) := dk_2 (dk_at dksX27_isRight_1 20 rfl rfl)
theorem dX27_isRight_45 : decode cX27_isRight 45 = .ok (.iadd, 1) := dk_96 (dk_at dksX27_isRight_1 21 rfl rfl)
theorem dX27_isRight_46 : decode cX27_isRight 46 = .ok (.istore_n 1, 1) := dk_60 (dk_at dksX27_isRight_1 22 rfl rfl)
theorem dX27_isRight_47 : decode cX27_isRight 47 = .ok (.iinc 2 1, 3) := dk_132 2 1 (dk_at dksX27_isRight_2 0 rfl rfl)
theorem dX27_isRight_50 : decode cX27_isRight 50 = .ok (.goto (-46), 3) := dk_167 255 210 (dk_at dksX27_isRight_2 3 rfl rfl)
theorem dX27_isRight_53 : decode cX27_isRight 53 = .ok (.iload_n 1, 1) := dk_27 (dk_at dksX27_isRight_2 6 rfl rfl)
theorem dX27_isRight_54 : decode cX27_isRight 54 = .ok (.iconst 1, 1) := dk_4 (dk_at dksX27_isRight_2 7 rfl rfl)
theorem dX27_isRight_55 : decode cX27_isRight 55 = .ok (.if_icmp .ne 7, 3) := dk_160 0 7 (dk_at dksX27_isRight_2 8 rfl rfl)
theorem dX27_isRight_58 : decode cX27_isRight 58 = .ok (.iconst 1, 1) := dk_4 (dk_at dksX27_isRight_2 11 rfl rfl)
theorem dX27_isRight_59 : decode cX27_isRight 59 = .ok (.goto 4, 3) := dk_167 0 4 (dk_at dksX27_isRight_2 12 rfl rfl)
theorem dX27_isRight_62 : decode cX27_isRight 62 = .ok (.iconst 0, 1) := dk_3 (dk_at dksX27_isRight_2 15 rfl rfl)
theorem dX27_isRight_63 : decode cX27_isRight 63 = .ok (.ireturn, 1) := dk_172 (dk_at dksX27_isRight_2 16 rfl rfl)
def dkwX27_tells_6 : List UInt8 := [3, 47, 173]
abbrev dktX27_tells_6 : List UInt8 := dkwX27_tells_6 ++ []
def dkwX27_tells_5 : List UInt8 := [4, 100, 47, 42, 180, 0, 18, 21, 7, 47, 184, 0, 26, 80, 132, 8, 1, 167, 255, 129, 42, 180, 0, 18]
abbrev dktX27_tells_5 : List UInt8 := dkwX27_tells_5 ++ dktX27_tells_6
def dkwX27_tells_4 : List UInt8 := [132, 7, 255, 42, 180, 0, 18, 21, 7, 4, 100, 42, 180, 0, 9, 21, 8, 46, 42, 180, 0, 18, 21, 7]
abbrev dktX27_tells_4 : List UInt8 := dkwX27_tells_4 ++ dktX27_tells_5
def dkwX27_tells_3 : List UInt8 := [46, 5, 160, 0, 8, 22, 5, 167, 0, 11, 42, 180, 0, 15, 21, 8, 46, 133, 80, 167, 0, 41]
abbrev dktX27_tells_3 : List UInt8 := dkwX27_tells_3 ++ dktX27_tells_4
def dkwX27_tells_2 : List UInt8 := [167, 0, 42, 42, 180, 0, 9, 21, 8, 46, 4, 160, 0, 7, 33, 167, 0, 27, 42, 180, 0, 9, 21, 8]
abbrev dktX27_tells_2 : List UInt8 := dkwX27_tells_2 ++ dktX27_tells_3
def dkwX27_tells_1 : List UInt8 := [162, 0, 69, 42, 180, 0, 18, 21, 7, 132, 7, 1, 42, 180, 0, 9, 21, 8, 46, 154, 0, 7, 31]
abbrev dktX27_tells_1 : List UInt8 := dkwX27_tells_1 ++ dktX27_tells_2
def dkwX27_tells_0 : List UInt8 := [3, 54, 7, 3, 54, 8, 21, 8, 42, 180, 0, 22, 162, 0, 124, 42, 180, 0, 9, 21, 8, 46, 7]
abbrev dktX27_tells_0 : List UInt8 := dkwX27_tells_0 ++ dktX27_tells_1
theorem dksX27_tells_0 : cX27_tells.data.toList.drop 0 = dktX27_tells_0 := by decide +kernel
theorem dksX27_tells_1 : cX27_tells.data.toList.drop 23 = dktX27_tells_1 := dk_seg dksX27_tells_0 23 rfl rfl
theorem dksX27_tells_2 : cX27_tells.data.toList.drop 46 = dktX27_tells_2 := dk_seg dksX27_tells_1 23 rfl rfl
theorem dksX27_tells_3 : cX27_tells.data.toList.drop 70 = dktX27_tells_3 := dk_seg dksX27_tells_2 24 rfl rfl
theorem dksX27_tells_4 : cX27_tells.data.toList.drop 92 = dktX27_tells_4 := dk_seg dksX27_tells_3 22 rfl rfl
theorem dksX27_tells_5 : cX27_tells.data.toList.drop 116 = dktX27_tells_5 := dk_seg dksX27_tells_4 24 rfl rfl
theorem dksX27_tells_6 : cX27_tells.data.toList.drop 140 = dktX27_tells_6 := dk_seg dksX27_tells_5 24 rfl rfl
theorem dX27_tells_0 : decode cX27_tells 0 = .ok (.iconst 0, 1) := dk_3 (dk_at dksX27_tells_0 0 rfl rfl)
theorem dX27_tells_1 : decode cX27_tells 1 = .ok (.istore 7, 2) := dk_54 7 (dk_at dksX27_tells_0 1 rfl rfl)
theorem dX27_tells_3 : decode cX27_tells 3 = .ok (.iconst 0, 1) := dk_3 (dk_at dksX27_tells_0 3 rfl rfl)
theorem dX27_tells_4 : decode cX27_tells 4 = .ok (.istore 8, 2) := dk_54 8 (dk_at dksX27_tells_0 4 rfl rfl)
theorem dX27_tells_6 : decode cX27_tells 6 = .ok (.iload 8, 2) := dk_21 8 (dk_at dksX27_tells_0 6 rfl rfl)
theorem dX27_tells_8 : decode cX27_tells 8 = .ok (.aload_n 0, 1) := dk_42 (dk_at dksX27_tells_0 8 rfl rfl)
theorem dX27_tells_9 : decode cX27_tells 9 = .ok (.getfield 22, 3) := dk_180 0 22 (dk_at dksX27_tells_0 9 rfl rfl)
theorem dX27_tells_12 : decode cX27_tells 12 = .ok (.if_icmp .ge 124, 3) := dk_162 0 124 (dk_at dksX27_tells_0 12 rfl rfl)
theorem dX27_tells_15 : decode cX27_tells 15 = .ok (.aload_n 0, 1) := dk_42 (dk_at dksX27_tells_0 15 rfl rfl)
theorem dX27_tells_16 : decode cX27_tells 16 = .ok (.getfield 9, 3) := dk_180 0 9 (dk_at dksX27_tells_0 16 rfl rfl)
theorem dX27_tells_19 : decode cX27_tells 19 = .ok (.iload 8, 2) := dk_21 8 (dk_at dksX27_tells_0 19 rfl rfl)
theorem dX27_tells_21 : decode cX27_tells 21 = .ok (.iaload, 1) := dk_46 (dk_at dksX27_tells_0 21 rfl rfl)
theorem dX27_tells_22 : decode cX27_tells 22 = .ok (.iconst 4, 1) := dk_7 (dk_at dksX27_tells_0 22 rfl rfl)
theorem dX27_tells_23 : decode cX27_tells 23 = .ok (.if_icmp .ge 69, 3) := dk_162 0 69 (dk_at dksX27_tells_1 0 rfl rfl)
theorem dX27_tells_26 : decode cX27_tells 26 = .ok (.aload_n 0, 1) := dk_42 (dk_at dksX27_tells_1 3 rfl rfl)
theorem dX27_tells_27 : decode cX27_tells 27 = .ok (.getfield 18, 3) := dk_180 0 18 (dk_at dksX27_tells_1 4 rfl rfl)
theorem dX27_tells_30 : decode cX27_tells 30 = .ok (.iload 7, 2) := dk_21 7 (dk_at dksX27_tells_1 7 rfl rfl)
theorem dX27_tells_32 : decode cX27_tells 32 = .ok (.iinc 7 1, 3) := dk_132 7 1 (dk_at dksX27_tells_1 9 rfl rfl)
theorem dX27_tells_35 : decode cX27_tells 35 = .ok (.aload_n 0, 1) := dk_42 (dk_at dksX27_tells_1 12 rfl rfl)
theorem dX27_tells_36 : decode cX27_tells 36 = .ok (.getfield 9, 3) := dk_180 0 9 (dk_at dksX27_tells_1 13 rfl rfl)
theorem dX27_tells_39 : decode cX27_tells 39 = .ok (.iload 8, 2) := dk_21 8 (dk_at dksX27_tells_1 16 rfl rfl)
theorem dX27_tells_41 : decode cX27_tells 41 = .ok (.iaload, 1) := dk_46 (dk_at dksX27_tells_1 18 rfl rfl)
theorem dX27_tells_42 : decode cX27_tells 42 = .ok (.ifCond .ne 7, 3) := dk_154 0 7 (dk_at dksX27_tells_1 19 rfl rfl)
theorem dX27_tells_45 : decode cX27_tells 45 = .ok (.lload_n 1, 1) := dk_31 (dk_at dksX27_tells_1 22 rfl rfl)
theorem dX27_tells_46 : decode cX27_tells 46 = .ok (.goto 42, 3) := dk_167 0 42 (dk_at dksX27_tells_2 0 rfl rfl)
theorem dX27_tells_49 : decode cX27_tells 49 = .ok (.aload_n 0, 1) := dk_42 (dk_at dksX27_tells_2 3 rfl rfl)
theorem dX27_tells_50 : decode cX27_tells 50 = .ok (.getfield 9, 3) := dk_180 0 9 (dk_at dksX27_tells_2 4 rfl rfl)
theorem dX27_tells_53 : decode cX27_tells 53 = .ok (.iload 8, 2) := dk_21 8 (dk_at dksX27_tells_2 7 rfl rfl)
theorem dX27_tells_55 : decode cX27_tells 55 = .ok (.iaload, 1) := dk_46 (dk_at dksX27_tells_2 9 rfl rfl)
theorem dX27_tells_56 : decode cX27_tells 56 = .ok (.iconst 1, 1) := dk_4 (dk_at dksX27_tells_2 10 rfl rfl)
theorem dX27_tells_57 : decode cX27_tells 57 = .ok (.if_icmp .ne 7, 3) := dk_160 0 7 (dk_at dksX27_tells_2 11 rfl rfl)
theorem dX27_tells_60 : decode cX27_tells 60 = .ok (.lload_n 3, 1) := dk_33 (dk_at dksX27_tells_2 14 rfl rfl)
theorem dX27_tells_61 : decode cX27_tells 61 = .ok (.goto 27, 3) := dk_167 0 27 (dk_at dksX27_tells_2 15 rfl rfl)
theorem dX27_tells_64 : decode cX27_tells 64 = .ok (.aload_n 0, 1) := dk_42 (dk_at dksX27_tells_2 18 rfl rfl)
theorem dX27_tells_65 : decode cX27_tells 65 = .ok (.getfield 9, 3) := dk_180 0 9 (dk_at dksX27_tells_2 19 rfl rfl)
theorem dX27_tells_68 : decode cX27_tells 68 = .ok (.iload 8, 2) := dk_21 8 (dk_at dksX27_tells_2 22 rfl rfl)
theorem dX27_tells_70 : decode cX27_tells 70 = .ok (.iaload, 1) := dk_46 (dk_at dksX27_tells_3 0 rfl rfl)
theorem dX27_tells_71 : decode cX27_tells 71 = .ok (.iconst 2, 1) := dk_5 (dk_at dksX27_tells_3 1 rfl rfl)
theorem dX27_tells_72 : decode cX27_tells 72 = .ok (.if_icmp .ne 8, 3) := dk_160 0 8 (dk_at dksX27_tells_3 2 rfl rfl)
theorem dX27_tells_75 : decode cX27_tells 75 = .ok (.lload 5, 2) := dk_22 5 (dk_at dksX27_tells_3 5 rfl rfl)
theorem dX27_tells_77 : decode cX27_tells 77 = .ok (.goto 11, 3) := dk_167 0 11 (dk_at dksX27_tells_3 7 rfl rfl)
theorem dX27_tells_80 : decode cX27_tells 80 = .ok (.aload_n 0, 1) := dk_42 (dk_at dksX27_tells_3 10 rfl rfl)
theorem dX27_tells_81 : decode cX27_tells 81 = .ok (.getfield 15, 3) := dk_180 0 15 (dk_at dksX27_tells_3 11 rfl rfl)
theorem dX27_tells_84 : decode cX27_tells 84 = .ok (.iload 8, 2) := dk_21 8 (dk_at dksX27_tells_3 14 rfl rfl)
theorem dX27_tells_86 : decode cX27_tells 86 = .ok (.iaload, 1) := dk_46 (dk_at dksX27_tells_3 16 rfl rfl)
theorem dX27_tells_87 : decode cX27_tells 87 = .ok (.i2l, 1) := dk_133 (dk_at dksX27_tells_3 17 rfl rfl)
theorem dX27_tells_88 : decode cX27_tells 88 = .ok (.lastore, 1) := dk_80 (dk_at dksX27_tells_3 18 rfl rfl)
theorem dX27_tells_89 : decode cX27_tells 89 = .ok (.goto 41, 3) := dk_167 0 41 (dk_at dksX27_tells_3 19 rfl rfl)
theorem dX27_tells_92 : decode cX27_tells 92 = .ok (.iinc 7 (-1), 3) := dk_132 7 255 (dk_at dksX27_tells_4 0 rfl rfl)
theorem dX27_tells_95 : decode cX27_tells 95 = .ok (.aload_n 0, 1) := dk_42 (dk_at dksX27_tells_4 3 rfl rfl)
theorem dX27_tells_96 : decode cX27_tells 96 = .ok (.getfield 18, 3) := dk_180 0 18 (dk_at dksX27_tells_4 4 rfl rfl)
theorem dX27_tells_99 : decode cX27_tells 99 = .ok (.iload 7, 2) := dk_21 7 (dk_at dksX27_tells_4 7 rfl rfl)
theorem dX27_tells_101 : decode cX27_tells 101 = .ok (.iconst 1, 1) := dk_4 (dk_at dksX27_tells_4 9 rfl rfl)
theorem dX27_tells_102 : decode cX27_tells 102 = .ok (.isub, 1) := dk_100 (dk_at dksX27_tells_4 10 rfl rfl)
theorem dX27_tells_103 : decode cX27_tells 103 = .ok (.aload_n 0, 1) := dk_42 (dk_at dksX27_tells_4 11 rfl rfl)
theorem dX27_tells_104 : decode cX27_tells 104 = .ok (.getfield 9, 3) := dk_180 0 9 (dk_at dksX27_tells_4 12 rfl rfl)
theorem dX27_tells_107 : decode cX27_tells 107 = .ok (.iload 8, 2) := dk_21 8 (dk_at dksX27_tells_4 15 rfl rfl)
theorem dX27_tells_109 : decode cX27_tells 109 = .ok (.iaload, 1) := dk_46 (dk_at dksX27_tells_4 17 rfl rfl)
theorem dX27_tells_110 : decode cX27_tells 110 = .ok (.aload_n 0, 1) := dk_42 (dk_at dksX27_tells_4 18 rfl rfl)
theorem dX27_tells_111 : decode cX27_tells 111 = .ok (.getfield 18, 3) := dk_180 0 18 (dk_at dksX27_tells_4 19 rfl rfl)
theorem dX27_tells_114 : decode cX27_tells 114 = .ok (.iload 7, 2) := dk_21 7 (dk_at dksX27_tells_4 22 rfl rfl)
theorem dX27_tells_116 : decode cX27_tells 116 = .ok (.iconst 1, 1) := dk_4 (dk_at dksX27_tells_5 0 rfl rfl)
theorem dX27_tells_117 : decode cX27_tells 117 = .ok (.isub, 1) := dk_100 (dk_at dksX27_tells_5 1 rfl rfl)
theorem dX27_tells_118 : decode cX27_tells 118 = .ok (.laload, 1) := dk_47 (dk_at dksX27_tells_5 2 rfl rfl)
theorem dX27_tells_119 : decode cX27_tells 119 = .ok (.aload_n 0, 1) := dk_42 (dk_at dksX27_tells_5 3 rfl rfl)
theorem dX27_tells_120 : decode cX27_tells 120 = .ok (.getfield 18, 3) := dk_180 0 18 (dk_at dksX27_tells_5 4 rfl rfl)
theorem dX27_tells_123 : decode cX27_tells 123 = .ok (.iload 7, 2) := dk_21 7 (dk_at dksX27_tells_5 7 rfl rfl)
theorem dX27_tells_125 : decode cX27_tells 125 = .ok (.laload, 1) := dk_47 (dk_at dksX27_tells_5 9 rfl rfl)
theorem dX27_tells_126 : decode cX27_tells 126 = .ok (.invokestatic 26, 3) := dk_184 0 26 (dk_at dksX27_tells_5 10 rfl rfl)
theorem dX27_tells_129 : decode cX27_tells 129 = .ok (.lastore, 1) := dk_80 (dk_at dksX27_tells_5 13 rfl rfl)
theorem dX27_tells_130 : decode cX27_tells 130 = .ok (.iinc 8 1, 3) := dk_132 8 1 (dk_at dksX27_tells_5 14 rfl rfl)
theorem dX27_tells_133 : decode cX27_tells 133 = .ok (.goto (-127), 3) := dk_167 255 129 (dk_at dksX27_tells_5 17 rfl rfl)
theorem dX27_tells_136 : decode cX27_tells 136 = .ok (.aload_n 0, 1) := dk_42 (dk_at dksX27_tells_5 20 rfl rfl)
theorem dX27_tells_137 : decode cX27_tells 137 = .ok (.getfield 18, 3) := dk_180 0 18 (dk_at dksX27_tells_5 21 rfl rfl)
theorem dX27_tells_140 : decode cX27_tells 140 = .ok (.iconst 0, 1) := dk_3 (dk_at dksX27_tells_6 0 rfl rfl)
theorem dX27_tells_141 : decode cX27_tells 141 = .ok (.laload, 1) := dk_47 (dk_at dksX27_tells_6 1 rfl rfl)
theorem dX27_tells_142 : decode cX27_tells 142 = .ok (.lreturn, 1) := dk_173 (dk_at dksX27_tells_6 2 rfl rfl)
def dkwX27_worked_3 : List UInt8 := [31, 33, 129, 173, 31, 33, 131, 173]
abbrev dktX27_worked_3 : List UInt8 := dkwX27_worked_3 ++ []
def dkwX27_worked_2 : List UInt8 := [31, 33, 97, 173, 31, 33, 101, 173, 31, 33, 184, 0, 30, 173, 31, 33, 184, 0, 36, 173, 31, 33, 127, 173]
abbrev dktX27_worked_2 : List UInt8 := dkwX27_worked_2 ++ dktX27_worked_3
def dkwX27_worked_1 : List UInt8 := [170, 0, 0, 0, 0, 0, 67, 0, 0, 0, 4, 0, 0, 0, 9, 0, 0, 0, 39, 0, 0, 0, 43, 0, 0, 0, 47, 0, 0, 0, 53, 0, 0, 0, 59, 0, 0, 0, 63]
abbrev dktX27_worked_1 : List UInt8 := dkwX27_worked_1 ++ dktX27_worked_2
def dkwX27_worked_0 : List UInt8 := [26]
abbrev dktX27_worked_0 : List UInt8 := dkwX27_worked_0 ++ dktX27_worked_1
theorem dksX27_worked_0 : cX27_worked.data.toList.drop 0 = dktX27_worked_0 := by decide +kernel
theorem dksX27_worked_1 : cX27_worked.data.toList.drop 1 = dktX27_worked_1 := dk_seg dksX27_worked_0 1 rfl rfl
theorem dksX27_worked_2 : cX27_worked.data.toList.drop 40 = dktX27_worked_2 := dk_seg dksX27_worked_1 39 rfl rfl
theorem dksX27_worked_3 : cX27_worked.data.toList.drop 64 = dktX27_worked_3 := dk_seg dksX27_worked_2 24 rfl rfl
theorem dX27_worked_0 : decode cX27_worked 0 = .ok (.iload_n 0, 1) := dk_26 (dk_at dksX27_worked_0 0 rfl rfl)
theorem dX27_worked_1 : decode cX27_worked 1 = .ok (.tableswitch 67 4 9 #[39, 43, 47, 53, 59, 63], 39) := by decide +kernel
theorem dX27_worked_40 : decode cX27_worked 40 = .ok (.lload_n 1, 1) := dk_31 (dk_at dksX27_worked_2 0 rfl rfl)
theorem dX27_worked_41 : decode cX27_worked 41 = .ok (.lload_n 3, 1) := dk_33 (dk_at dksX27_worked_2 1 rfl rfl)
theorem dX27_worked_42 : decode cX27_worked 42 = .ok (.ladd, 1) := dk_97 (dk_at dksX27_worked_2 2 rfl rfl)
theorem dX27_worked_43 : decode cX27_worked 43 = .ok (.lreturn, 1) := dk_173 (dk_at dksX27_worked_2 3 rfl rfl)
theorem dX27_worked_44 : decode cX27_worked 44 = .ok (.lload_n 1, 1) := dk_31 (dk_at dksX27_worked_2 4 rfl rfl)
theorem dX27_worked_45 : decode cX27_worked 45 = .ok (.lload_n 3, 1) := dk_33 (dk_at dksX27_worked_2 5 rfl rfl)
theorem dX27_worked_46 : decode cX27_worked 46 = .ok (.lsub, 1) := dk_101 (dk_at dksX27_worked_2 6 rfl rfl)
theorem dX27_worked_47 : decode cX27_worked 47 = .ok (.lreturn, 1) := dk_173 (dk_at dksX27_worked_2 7 rfl rfl)
theorem dX27_worked_48 : decode cX27_worked 48 = .ok (.lload_n 1, 1) := dk_31 (dk_at dksX27_worked_2 8 rfl rfl)
theorem dX27_worked_49 : decode cX27_worked 49 = .ok (.lload_n 3, 1) := dk_33 (dk_at dksX27_worked_2 9 rfl rfl)
theorem dX27_worked_50 : decode cX27_worked 50 = .ok (.invokestatic 30, 3) := dk_184 0 30 (dk_at dksX27_worked_2 10 rfl rfl)
theorem dX27_worked_53 : decode cX27_worked 53 = .ok (.lreturn, 1) := dk_173 (dk_at dksX27_worked_2 13 rfl rfl)
theorem dX27_worked_54 : decode cX27_worked 54 = .ok (.lload_n 1, 1) := dk_31 (dk_at dksX27_worked_2 14 rfl rfl)
theorem dX27_worked_55 : decode cX27_worked 55 = .ok (.lload_n 3, 1) := dk_33 (dk_at dksX27_worked_2 15 rfl rfl)
theorem dX27_worked_56 : decode cX27_worked 56 = .ok (.invokestatic 36, 3) := dk_184 0 36 (dk_at dksX27_worked_2 16 rfl rfl)
theorem dX27_worked_59 : decode cX27_worked 59 = .ok (.lreturn, 1) := dk_173 (dk_at dksX27_worked_2 19 rfl rfl)
theorem dX27_worked_60 : decode cX27_worked 60 = .ok (.lload_n 1, 1) := dk_31 (dk_at dksX27_worked_2 20 rfl rfl)
theorem dX27_worked_61 : decode cX27_worked 61 = .ok (.lload_n 3, 1) := dk_33 (dk_at dksX27_worked_2 21 rfl rfl)
theorem dX27_worked_62 : decode cX27_worked 62 = .ok (.land, 1) := dk_127 (dk_at dksX27_worked_2 22 rfl rfl)
theorem dX27_worked_63 : decode cX27_worked 63 = .ok (.lreturn, 1) := dk_173 (dk_at dksX27_worked_2 23 rfl rfl)
theorem dX27_worked_64 : decode cX27_worked 64 = .ok (.lload_n 1, 1) := dk_31 (dk_at dksX27_worked_3 0 rfl rfl)
theorem dX27_worked_65 : decode cX27_worked 65 = .ok (.lload_n 3, 1) := dk_33 (dk_at dksX27_worked_3 1 rfl rfl)
theorem dX27_worked_66 : decode cX27_worked 66 = .ok (.lor, 1) := dk_129 (dk_at dksX27_worked_3 2 rfl rfl)
theorem dX27_worked_67 : decode cX27_worked 67 = .ok (.lreturn, 1) := dk_173 (dk_at dksX27_worked_3 3 rfl rfl)
theorem dX27_worked_68 : decode cX27_worked 68 = .ok (.lload_n 1, 1) := dk_31 (dk_at dksX27_worked_3 4 rfl rfl)
theorem dX27_worked_69 : decode cX27_worked 69 = .ok (.lload_n 3, 1) := dk_33 (dk_at dksX27_worked_3 5 rfl rfl)
theorem dX27_worked_70 : decode cX27_worked 70 = .ok (.lxor, 1) := dk_131 (dk_at dksX27_worked_3 6 rfl rfl)
theorem dX27_worked_71 : decode cX27_worked 71 = .ok (.lreturn, 1) := dk_173 (dk_at dksX27_worked_3 7 rfl rfl)
def dkwX28_init_0 : List UInt8 := [42, 183, 0, 3, 42, 16, 16, 188, 11, 181, 0, 9, 42, 27, 181, 0, 15, 42, 44, 181, 0, 19, 177]
abbrev dktX28_init_0 : List UInt8 := dkwX28_init_0 ++ []
theorem dksX28_init_0 : cX28_init.data.toList.drop 0 = dktX28_init_0 := by decide +kernel
theorem dX28_init_0 : decode cX28_init 0 = .ok (.aload_n 0, 1) := dk_42 (dk_at dksX28_init_0 0 rfl rfl)
theorem dX28_init_1 : decode cX28_init 1 = .ok (.invokespecial 3, 3) := dk_183 0 3 (dk_at dksX28_init_0 1 rfl rfl)
theorem dX28_init_4 : decode cX28_init 4 = .ok (.aload_n 0, 1) := dk_42 (dk_at dksX28_init_0 4 rfl rfl)
theorem dX28_init_5 : decode cX28_init 5 = .ok (.bipush 16, 2) := dk_16 16 (dk_at dksX28_init_0 5 rfl rfl)
theorem dX28_init_7 : decode cX28_init 7 = .ok (.newarray .long, 2) := dk_188_11 (dk_at dksX28_init_0 7 rfl rfl)
theorem dX28_init_9 : decode cX28_init 9 = .ok (.putfield 9, 3) := dk_181 0 9 (dk_at dksX28_init_0 9 rfl rfl)
theorem dX28_init_12 : decode cX28_init 12 = .ok (.aload_n 0, 1) := dk_42 (dk_at dksX28_init_0 12 rfl rfl)
theorem dX28_init_13 : decode cX28_init 13 = .ok (.iload_n 1, 1) := dk_27 (dk_at dksX28_init_0 13 rfl rfl)
theorem dX28_init_14 : decode cX28_init 14 = .ok (.putfield 15, 3) := dk_181 0 15 (dk_at dksX28_init_0 14 rfl rfl)
theorem dX28_init_17 : decode cX28_init 17 = .ok (.aload_n 0, 1) := dk_42 (dk_at dksX28_init_0 17 rfl rfl)
theorem dX28_init_18 : decode cX28_init 18 = .ok (.aload_n 2, 1) := dk_44 (dk_at dksX28_init_0 18 rfl rfl)
theorem dX28_init_19 : decode cX28_init 19 = .ok (.putfield 19, 3) := dk_181 0 19 (dk_at dksX28_init_0 19 rfl rfl)
theorem dX28_init_22 : decode cX28_init 22 = .ok (.return_, 1) := dk_177 (dk_at dksX28_init_0 22 rfl rfl)
def dkwX28_read_1 : List UInt8 := [199, 0, 7, 9, 167, 0, 9, 44, 180, 0, 9, 27, 47, 173]
abbrev dktX28_read_1 : List UInt8 := dkwX28_read_1 ++ []
def dkwX28_read_0 : List UInt8 := [42, 77, 44, 198, 0, 19, 44, 27, 182, 0, 26, 154, 0, 11, 44, 180, 0, 19, 77, 167, 255, 239, 44]
abbrev dktX28_read_0 : List UInt8 := dkwX28_read_0 ++ dktX28_read_1
theorem dksX28_read_0 : cX28_read.data.toList.drop 0 = dktX28_read_0 := by decide +kernel
theorem dksX28_read_1 : cX28_read.data.toList.drop 23 = dktX28_read_1 := dk_seg dksX28_read_0 23 rfl rfl
theorem dX28_read_0 : decode cX28_read 0 = .ok (.aload_n 0, 1) := dk_42 (dk_at dksX28_read_0 0 rfl rfl)
theorem dX28_read_1 : decode cX28_read 1 = .ok (.astore_n 2, 1) := dk_77 (dk_at dksX28_read_0 1 rfl rfl)
theorem dX28_read_2 : decode cX28_read 2 = .ok (.aload_n 2, 1) := dk_44 (dk_at dksX28_read_0 2 rfl rfl)
theorem dX28_read_3 : decode cX28_read 3 = .ok (.ifnull 19, 3) := dk_198 0 19 (dk_at dksX28_read_0 3 rfl rfl)
theorem dX28_read_6 : decode cX28_read 6 = .ok (.aload_n 2, 1) := dk_44 (dk_at dksX28_read_0 6 rfl rfl)
theorem dX28_read_7 : decode cX28_read 7 = .ok (.iload_n 1, 1) := dk_27 (dk_at dksX28_read_0 7 rfl rfl)
theorem dX28_read_8 : decode cX28_read 8 = .ok (.invokevirtual 26, 3) := dk_182 0 26 (dk_at dksX28_read_0 8 rfl rfl)
theorem dX28_read_11 : decode cX28_read 11 = .ok (.ifCond .ne 11, 3) := dk_154 0 11 (dk_at dksX28_read_0 11 rfl rfl)
theorem dX28_read_14 : decode cX28_read 14 = .ok (.aload_n 2, 1) := dk_44 (dk_at dksX28_read_0 14 rfl rfl)
theorem dX28_read_15 : decode cX28_read 15 = .ok (.getfield 19, 3) := dk_180 0 19 (dk_at dksX28_read_0 15 rfl rfl)
theorem dX28_read_18 : decode cX28_read 18 = .ok (.astore_n 2, 1) := dk_77 (dk_at dksX28_read_0 18 rfl rfl)
theorem dX28_read_19 : decode cX28_read 19 = .ok (.goto (-17), 3) := dk_167 255 239 (dk_at dksX28_read_0 19 rfl rfl)
theorem dX28_read_22 : decode cX28_read 22 = .ok (.aload_n 2, 1) := dk_44 (dk_at dksX28_read_0 22 rfl rfl)
theorem dX28_read_23 : decode cX28_read 23 = .ok (.ifnonnull 7, 3) := dk_199 0 7 (dk_at dksX28_read_1 0 rfl rfl)
theorem dX28_read_26 : decode cX28_read 26 = .ok (.lconst 0, 1) := dk_9 (dk_at dksX28_read_1 3 rfl rfl)
theorem dX28_read_27 : decode cX28_read 27 = .ok (.goto 9, 3) := dk_167 0 9 (dk_at dksX28_read_1 4 rfl rfl)
theorem dX28_read_30 : decode cX28_read 30 = .ok (.aload_n 2, 1) := dk_44 (dk_at dksX28_read_1 7 rfl rfl)
theorem dX28_read_31 : decode cX28_read 31 = .ok (.getfield 9, 3) := dk_180 0 9 (dk_at dksX28_read_1 8 rfl rfl)
theorem dX28_read_34 : decode cX28_read 34 = .ok (.iload_n 1, 1) := dk_27 (dk_at dksX28_read_1 11 rfl rfl)
theorem dX28_read_35 : decode cX28_read 35 = .ok (.laload, 1) := dk_47 (dk_at dksX28_read_1 12 rfl rfl)
theorem dX28_read_36 : decode cX28_read 36 = .ok (.lreturn, 1) := dk_173 (dk_at dksX28_read_1 13 rfl rfl)
def dkwX28_has_0 : List UInt8 := [42, 180, 0, 23, 27, 122, 4, 126, 4, 160, 0, 7, 4, 167, 0, 4, 3, 172]
abbrev dktX28_has_0 : List UInt8 := dkwX28_has_0 ++ []
theorem dksX28_has_0 : cX28_has.data.toList.drop 0 = dktX28_has_0 := by decide +kernel
theorem dX28_has_0 : decode cX28_has 0 = .ok (.aload_n 0, 1) := dk_42 (dk_at dksX28_has_0 0 rfl rfl)
theorem dX28_has_1 : decode cX28_has 1 = .ok (.getfield 23, 3) := dk_180 0 23 (dk_at dksX28_has_0 1 rfl rfl)
theorem dX28_has_4 : decode cX28_has 4 = .ok (.iload_n 1, 1) := dk_27 (dk_at dksX28_has_0 4 rfl rfl)
theorem dX28_has_5 : decode cX28_has 5 = .ok (.ishr, 1) := dk_122 (dk_at dksX28_has_0 5 rfl rfl)
theorem dX28_has_6 : decode cX28_has 6 = .ok (.iconst 1, 1) := dk_4 (dk_at dksX28_has_0 6 rfl rfl)
theorem dX28_has_7 : decode cX28_has 7 = .ok (.iand, 1) := dk_126 (dk_at dksX28_has_0 7 rfl rfl)
theorem dX28_has_8 : decode cX28_has 8 = .ok (.iconst 1, 1) := dk_4 (dk_at dksX28_has_0 8 rfl rfl)
theorem dX28_has_9 : decode cX28_has 9 = .ok (.if_icmp .ne 7, 3) := dk_160 0 7 (dk_at dksX28_has_0 9 rfl rfl)
theorem dX28_has_12 : decode cX28_has 12 = .ok (.iconst 1, 1) := dk_4 (dk_at dksX28_has_0 12 rfl rfl)
theorem dX28_has_13 : decode cX28_has 13 = .ok (.goto 4, 3) := dk_167 0 4 (dk_at dksX28_has_0 13 rfl rfl)
theorem dX28_has_16 : decode cX28_has 16 = .ok (.iconst 0, 1) := dk_3 (dk_at dksX28_has_0 16 rfl rfl)
theorem dX28_has_17 : decode cX28_has 17 = .ok (.ireturn, 1) := dk_172 (dk_at dksX28_has_0 17 rfl rfl)
def dkwX28_write_0 : List UInt8 := [42, 180, 0, 9, 27, 32, 80, 42, 89, 180, 0, 23, 4, 27, 120, 128, 181, 0, 23, 177]
abbrev dktX28_write_0 : List UInt8 := dkwX28_write_0 ++ []
theorem dksX28_write_0 : cX28_write.data.toList.drop 0 = dktX28_write_0 := by decide +kernel
theorem dX28_write_0 : decode cX28_write 0 = .ok (.aload_n 0, 1) := dk_42 (dk_at dksX28_write_0 0 rfl rfl)
theorem dX28_write_1 : decode cX28_write 1 = .ok (.getfield 9, 3) := dk_180 0 9 (dk_at dksX28_write_0 1 rfl rfl)
theorem dX28_write_4 : decode cX28_write 4 = .ok (.iload_n 1, 1) := dk_27 (dk_at dksX28_write_0 4 rfl rfl)
theorem dX28_write_5 : decode cX28_write 5 = .ok (.lload_n 2, 1) := dk_32 (dk_at dksX28_write_0 5 rfl rfl)
theorem dX28_write_6 : decode cX28_write 6 = .ok (.lastore, 1) := dk_80 (dk_at dksX28_write_0 6 rfl rfl)
theorem dX28_write_7 : decode cX28_write 7 = .ok (.aload_n 0, 1) := dk_42 (dk_at dksX28_write_0 7 rfl rfl)
theorem dX28_write_8 : decode cX28_write 8 = .ok (.dup, 1) := dk_89 (dk_at dksX28_write_0 8 rfl rfl)
theorem dX28_write_9 : decode cX28_write 9 = .ok (.getfield 23, 3) := dk_180 0 23 (dk_at dksX28_write_0 9 rfl rfl)
theorem dX28_write_12 : decode cX28_write 12 = .ok (.iconst 1, 1) := dk_4 (dk_at dksX28_write_0 12 rfl rfl)
theorem dX28_write_13 : decode cX28_write 13 = .ok (.iload_n 1, 1) := dk_27 (dk_at dksX28_write_0 13 rfl rfl)
theorem dX28_write_14 : decode cX28_write 14 = .ok (.ishl, 1) := dk_120 (dk_at dksX28_write_0 14 rfl rfl)
theorem dX28_write_15 : decode cX28_write 15 = .ok (.ior, 1) := dk_128 (dk_at dksX28_write_0 15 rfl rfl)
theorem dX28_write_16 : decode cX28_write 16 = .ok (.putfield 23, 3) := dk_181 0 23 (dk_at dksX28_write_0 16 rfl rfl)
theorem dX28_write_19 : decode cX28_write 19 = .ok (.return_, 1) := dk_177 (dk_at dksX28_write_0 19 rfl rfl)
def dkwX28_forgets_1 : List UInt8 := [181, 0, 48, 177]
abbrev dktX28_forgets_1 : List UInt8 := dkwX28_forgets_1 ++ []
def dkwX28_forgets_0 : List UInt8 := [42, 3, 181, 0, 35, 42, 3, 181, 0, 39, 42, 3, 181, 0, 42, 42, 3, 181, 0, 45, 42, 1]
abbrev dktX28_forgets_0 : List UInt8 := dkwX28_forgets_0 ++ dktX28_forgets_1
theorem dksX28_forgets_0 : cX28_forgets.data.toList.drop 0 = dktX28_forgets_0 := by decide +kernel
theorem dksX28_forgets_1 : cX28_forgets.data.toList.drop 22 = dktX28_forgets_1 := dk_seg dksX28_forgets_0 22 rfl rfl
theorem dX28_forgets_0 : decode cX28_forgets 0 = .ok (.aload_n 0, 1) := dk_42 (dk_at dksX28_forgets_0 0 rfl rfl)
theorem dX28_forgets_1 : decode cX28_forgets 1 = .ok (.iconst 0, 1) := dk_3 (dk_at dksX28_forgets_0 1 rfl rfl)
theorem dX28_forgets_2 : decode cX28_forgets 2 = .ok (.putfield 35, 3) := dk_181 0 35 (dk_at dksX28_forgets_0 2 rfl rfl)
theorem dX28_forgets_5 : decode cX28_forgets 5 = .ok (.aload_n 0, 1) := dk_42 (dk_at dksX28_forgets_0 5 rfl rfl)
theorem dX28_forgets_6 : decode cX28_forgets 6 = .ok (.iconst 0, 1) := dk_3 (dk_at dksX28_forgets_0 6 rfl rfl)
theorem dX28_forgets_7 : decode cX28_forgets 7 = .ok (.putfield 39, 3) := dk_181 0 39 (dk_at dksX28_forgets_0 7 rfl rfl)
theorem dX28_forgets_10 : decode cX28_forgets 10 = .ok (.aload_n 0, 1) := dk_42 (dk_at dksX28_forgets_0 10 rfl rfl)
theorem dX28_forgets_11 : decode cX28_forgets 11 = .ok (.iconst 0, 1) := dk_3 (dk_at dksX28_forgets_0 11 rfl rfl)
theorem dX28_forgets_12 : decode cX28_forgets 12 = .ok (.putfield 42, 3) := dk_181 0 42 (dk_at dksX28_forgets_0 12 rfl rfl)
theorem dX28_forgets_15 : decode cX28_forgets 15 = .ok (.aload_n 0, 1) := dk_42 (dk_at dksX28_forgets_0 15 rfl rfl)
theorem dX28_forgets_16 : decode cX28_forgets 16 = .ok (.iconst 0, 1) := dk_3 (dk_at dksX28_forgets_0 16 rfl rfl)
theorem dX28_forgets_17 : decode cX28_forgets 17 = .ok (.putfield 45, 3) := dk_181 0 45 (dk_at dksX28_forgets_0 17 rfl rfl)
theorem dX28_forgets_20 : decode cX28_forgets 20 = .ok (.aload_n 0, 1) := dk_42 (dk_at dksX28_forgets_0 20 rfl rfl)
theorem dX28_forgets_21 : decode cX28_forgets 21 = .ok (.aconst_null, 1) := dk_1 (dk_at dksX28_forgets_0 21 rfl rfl)
theorem dX28_forgets_22 : decode cX28_forgets 22 = .ok (.putfield 48, 3) := dk_181 0 48 (dk_at dksX28_forgets_1 0 rfl rfl)
theorem dX28_forgets_25 : decode cX28_forgets 25 = .ok (.return_, 1) := dk_177 (dk_at dksX28_forgets_1 3 rfl rfl)
def dkwX28_many_0 : List UInt8 := [42, 180, 0, 23, 184, 0, 29, 172]
abbrev dktX28_many_0 : List UInt8 := dkwX28_many_0 ++ []
theorem dksX28_many_0 : cX28_many.data.toList.drop 0 = dktX28_many_0 := by decide +kernel
theorem dX28_many_0 : decode cX28_many 0 = .ok (.aload_n 0, 1) := dk_42 (dk_at dksX28_many_0 0 rfl rfl)
theorem dX28_many_1 : decode cX28_many 1 = .ok (.getfield 23, 3) := dk_180 0 23 (dk_at dksX28_many_0 1 rfl rfl)
theorem dX28_many_4 : decode cX28_many 4 = .ok (.invokestatic 29, 3) := dk_184 0 29 (dk_at dksX28_many_0 4 rfl rfl)
theorem dX28_many_7 : decode cX28_many 7 = .ok (.ireturn, 1) := dk_172 (dk_at dksX28_many_0 7 rfl rfl)
def dkwX29_init_4 : List UInt8 := [21, 4, 181, 0, 63, 42, 25, 5, 181, 0, 66, 42, 25, 6, 181, 0, 70, 42, 25, 7, 181, 0, 74, 177]
abbrev dktX29_init_4 : List UInt8 := dkwX29_init_4 ++ []
def dkwX29_init_3 : List UInt8 := [42, 29, 181, 0, 57, 42, 44, 199, 0, 7, 3, 167, 0, 9, 44, 180, 0, 60, 4, 96, 181, 0, 60, 42]
abbrev dktX29_init_3 : List UInt8 := dkwX29_init_3 ++ dktX29_init_4
def dkwX29_init_2 : List UInt8 := [183, 0, 40, 181, 0, 41, 42, 16, 60, 188, 11, 181, 0, 45, 42, 27, 181, 0, 49, 42, 44, 181, 0, 53]
abbrev dktX29_init_2 : List UInt8 := dkwX29_init_2 ++ dktX29_init_3
def dkwX29_init_1 : List UInt8 := [20, 0, 29, 181, 0, 31, 42, 187, 0, 20, 89, 16, 8, 183, 0, 22, 181, 0, 35, 42, 187, 0, 38, 89]
abbrev dktX29_init_1 : List UInt8 := dkwX29_init_1 ++ dktX29_init_2
def dkwX29_init_0 : List UInt8 := [42, 183, 0, 3, 42, 178, 0, 9, 181, 0, 15, 42, 187, 0, 20, 89, 4, 183, 0, 22, 181, 0, 25, 42]
abbrev dktX29_init_0 : List UInt8 := dkwX29_init_0 ++ dktX29_init_1
theorem dksX29_init_0 : cX29_init.data.toList.drop 0 = dktX29_init_0 := by decide +kernel
theorem dksX29_init_1 : cX29_init.data.toList.drop 24 = dktX29_init_1 := dk_seg dksX29_init_0 24 rfl rfl
theorem dksX29_init_2 : cX29_init.data.toList.drop 48 = dktX29_init_2 := dk_seg dksX29_init_1 24 rfl rfl
theorem dksX29_init_3 : cX29_init.data.toList.drop 72 = dktX29_init_3 := dk_seg dksX29_init_2 24 rfl rfl
theorem dksX29_init_4 : cX29_init.data.toList.drop 96 = dktX29_init_4 := dk_seg dksX29_init_3 24 rfl rfl
theorem dX29_init_0 : decode cX29_init 0 = .ok (.aload_n 0, 1) := dk_42 (dk_at dksX29_init_0 0 rfl rfl)
theorem dX29_init_1 : decode cX29_init 1 = .ok (.invokespecial 3, 3) := dk_183 0 3 (dk_at dksX29_init_0 1 rfl rfl)
theorem dX29_init_4 : decode cX29_init 4 = .ok (.aload_n 0, 1) := dk_42 (dk_at dksX29_init_0 4 rfl rfl)
theorem dX29_init_5 : decode cX29_init 5 = .ok (.getstatic 9, 3) := dk_178 0 9 (dk_at dksX29_init_0 5 rfl rfl)
theorem dX29_init_8 : decode cX29_init 8 = .ok (.putfield 15, 3) := dk_181 0 15 (dk_at dksX29_init_0 8 rfl rfl)
theorem dX29_init_11 : decode cX29_init 11 = .ok (.aload_n 0, 1) := dk_42 (dk_at dksX29_init_0 11 rfl rfl)
theorem dX29_init_12 : decode cX29_init 12 = .ok (.new 20, 3) := dk_187 0 20 (dk_at dksX29_init_0 12 rfl rfl)
theorem dX29_init_15 : decode cX29_init 15 = .ok (.dup, 1) := dk_89 (dk_at dksX29_init_0 15 rfl rfl)
theorem dX29_init_16 : decode cX29_init 16 = .ok (.iconst 1, 1) := dk_4 (dk_at dksX29_init_0 16 rfl rfl)
theorem dX29_init_17 : decode cX29_init 17 = .ok (.invokespecial 22, 3) := dk_183 0 22 (dk_at dksX29_init_0 17 rfl rfl)
theorem dX29_init_20 : decode cX29_init 20 = .ok (.putfield 25, 3) := dk_181 0 25 (dk_at dksX29_init_0 20 rfl rfl)
theorem dX29_init_23 : decode cX29_init 23 = .ok (.aload_n 0, 1) := dk_42 (dk_at dksX29_init_0 23 rfl rfl)
theorem dX29_init_24 : decode cX29_init 24 = .ok (.ldc2_w 29, 3) := dk_20 0 29 (dk_at dksX29_init_1 0 rfl rfl)
theorem dX29_init_27 : decode cX29_init 27 = .ok (.putfield 31, 3) := dk_181 0 31 (dk_at dksX29_init_1 3 rfl rfl)
theorem dX29_init_30 : decode cX29_init 30 = .ok (.aload_n 0, 1) := dk_42 (dk_at dksX29_init_1 6 rfl rfl)
theorem dX29_init_31 : decode cX29_init 31 = .ok (.new 20, 3) := dk_187 0 20 (dk_at dksX29_init_1 7 rfl rfl)
theorem dX29_init_34 : decode cX29_init 34 = .ok (.dup, 1) := dk_89 (dk_at dksX29_init_1 10 rfl rfl)
theorem dX29_init_35 : decode cX29_init 35 = .ok (.bipush 8, 2) := dk_16 8 (dk_at dksX29_init_1 11 rfl rfl)
theorem dX29_init_37 : decode cX29_init 37 = .ok (.invokespecial 22, 3) := dk_183 0 22 (dk_at dksX29_init_1 13 rfl rfl)
theorem dX29_init_40 : decode cX29_init 40 = .ok (.putfield 35, 3) := dk_181 0 35 (dk_at dksX29_init_1 16 rfl rfl)
theorem dX29_init_43 : decode cX29_init 43 = .ok (.aload_n 0, 1) := dk_42 (dk_at dksX29_init_1 19 rfl rfl)
theorem dX29_init_44 : decode cX29_init 44 = .ok (.new 38, 3) := dk_187 0 38 (dk_at dksX29_init_1 20 rfl rfl)
theorem dX29_init_47 : decode cX29_init 47 = .ok (.dup, 1) := dk_89 (dk_at dksX29_init_1 23 rfl rfl)
theorem dX29_init_48 : decode cX29_init 48 = .ok (.invokespecial 40, 3) := dk_183 0 40 (dk_at dksX29_init_2 0 rfl rfl)
theorem dX29_init_51 : decode cX29_init 51 = .ok (.putfield 41, 3) := dk_181 0 41 (dk_at dksX29_init_2 3 rfl rfl)
theorem dX29_init_54 : decode cX29_init 54 = .ok (.aload_n 0, 1) := dk_42 (dk_at dksX29_init_2 6 rfl rfl)
theorem dX29_init_55 : decode cX29_init 55 = .ok (.bipush 60, 2) := dk_16 60 (dk_at dksX29_init_2 7 rfl rfl)
theorem dX29_init_57 : decode cX29_init 57 = .ok (.newarray .long, 2) := dk_188_11 (dk_at dksX29_init_2 9 rfl rfl)
theorem dX29_init_59 : decode cX29_init 59 = .ok (.putfield 45, 3) := dk_181 0 45 (dk_at dksX29_init_2 11 rfl rfl)
theorem dX29_init_62 : decode cX29_init 62 = .ok (.aload_n 0, 1) := dk_42 (dk_at dksX29_init_2 14 rfl rfl)
theorem dX29_init_63 : decode cX29_init 63 = .ok (.iload_n 1, 1) := dk_27 (dk_at dksX29_init_2 15 rfl rfl)
theorem dX29_init_64 : decode cX29_init 64 = .ok (.putfield 49, 3) := dk_181 0 49 (dk_at dksX29_init_2 16 rfl rfl)
theorem dX29_init_67 : decode cX29_init 67 = .ok (.aload_n 0, 1) := dk_42 (dk_at dksX29_init_2 19 rfl rfl)
theorem dX29_init_68 : decode cX29_init 68 = .ok (.aload_n 2, 1) := dk_44 (dk_at dksX29_init_2 20 rfl rfl)
theorem dX29_init_69 : decode cX29_init 69 = .ok (.putfield 53, 3) := dk_181 0 53 (dk_at dksX29_init_2 21 rfl rfl)
theorem dX29_init_72 : decode cX29_init 72 = .ok (.aload_n 0, 1) := dk_42 (dk_at dksX29_init_3 0 rfl rfl)
theorem dX29_init_73 : decode cX29_init 73 = .ok (.iload_n 3, 1) := dk_29 (dk_at dksX29_init_3 1 rfl rfl)
theorem dX29_init_74 : decode cX29_init 74 = .ok (.putfield 57, 3) := dk_181 0 57 (dk_at dksX29_init_3 2 rfl rfl)
theorem dX29_init_77 : decode cX29_init 77 = .ok (.aload_n 0, 1) := dk_42 (dk_at dksX29_init_3 5 rfl rfl)
theorem dX29_init_78 : decode cX29_init 78 = .ok (.aload_n 2, 1) := dk_44 (dk_at dksX29_init_3 6 rfl rfl)
theorem dX29_init_79 : decode cX29_init 79 = .ok (.ifnonnull 7, 3) := dk_199 0 7 (dk_at dksX29_init_3 7 rfl rfl)
theorem dX29_init_82 : decode cX29_init 82 = .ok (.iconst 0, 1) := dk_3 (dk_at dksX29_init_3 10 rfl rfl)
theorem dX29_init_83 : decode cX29_init 83 = .ok (.goto 9, 3) := dk_167 0 9 (dk_at dksX29_init_3 11 rfl rfl)
theorem dX29_init_86 : decode cX29_init 86 = .ok (.aload_n 2, 1) := dk_44 (dk_at dksX29_init_3 14 rfl rfl)
theorem dX29_init_87 : decode cX29_init 87 = .ok (.getfield 60, 3) := dk_180 0 60 (dk_at dksX29_init_3 15 rfl rfl)
theorem dX29_init_90 : decode cX29_init 90 = .ok (.iconst 1, 1) := dk_4 (dk_at dksX29_init_3 18 rfl rfl)
theorem dX29_init_91 : decode cX29_init 91 = .ok (.iadd, 1) := dk_96 (dk_at dksX29_init_3 19 rfl rfl)
theorem dX29_init_92 : decode cX29_init 92 = .ok (.putfield 60, 3) := dk_181 0 60 (dk_at dksX29_init_3 20 rfl rfl)
theorem dX29_init_95 : decode cX29_init 95 = .ok (.aload_n 0, 1) := dk_42 (dk_at dksX29_init_3 23 rfl rfl)
theorem dX29_init_96 : decode cX29_init 96 = .ok (.iload 4, 2) := dk_21 4 (dk_at dksX29_init_4 0 rfl rfl)
theorem dX29_init_98 : decode cX29_init 98 = .ok (.putfield 63, 3) := dk_181 0 63 (dk_at dksX29_init_4 2 rfl rfl)
theorem dX29_init_101 : decode cX29_init 101 = .ok (.aload_n 0, 1) := dk_42 (dk_at dksX29_init_4 5 rfl rfl)
theorem dX29_init_102 : decode cX29_init 102 = .ok (.aload 5, 2) := dk_25 5 (dk_at dksX29_init_4 6 rfl rfl)
theorem dX29_init_104 : decode cX29_init 104 = .ok (.putfield 66, 3) := dk_181 0 66 (dk_at dksX29_init_4 8 rfl rfl)
theorem dX29_init_107 : decode cX29_init 107 = .ok (.aload_n 0, 1) := dk_42 (dk_at dksX29_init_4 11 rfl rfl)
theorem dX29_init_108 : decode cX29_init 108 = .ok (.aload 6, 2) := dk_25 6 (dk_at dksX29_init_4 12 rfl rfl)
theorem dX29_init_110 : decode cX29_init 110 = .ok (.putfield 70, 3) := dk_181 0 70 (dk_at dksX29_init_4 14 rfl rfl)
theorem dX29_init_113 : decode cX29_init 113 = .ok (.aload_n 0, 1) := dk_42 (dk_at dksX29_init_4 17 rfl rfl)
theorem dX29_init_114 : decode cX29_init 114 = .ok (.aload 7, 2) := dk_25 7 (dk_at dksX29_init_4 18 rfl rfl)
theorem dX29_init_116 : decode cX29_init 116 = .ok (.putfield 74, 3) := dk_181 0 74 (dk_at dksX29_init_4 20 rfl rfl)
theorem dX29_init_119 : decode cX29_init 119 = .ok (.return_, 1) := dk_177 (dk_at dksX29_init_4 23 rfl rfl)
def dkwX29_comes_1 : List UInt8 := [42, 9, 1, 182, 0, 130, 177]
abbrev dktX29_comes_1 : List UInt8 := dkwX29_comes_1 ++ []
def dkwX29_comes_0 : List UInt8 := [42, 180, 0, 15, 178, 0, 9, 166, 0, 23, 42, 180, 0, 87, 42, 180, 0, 66, 180, 0, 127, 161, 0, 9]
abbrev dktX29_comes_0 : List UInt8 := dkwX29_comes_0 ++ dktX29_comes_1
theorem dksX29_comes_0 : cX29_comes.data.toList.drop 0 = dktX29_comes_0 := by decide +kernel
theorem dksX29_comes_1 : cX29_comes.data.toList.drop 24 = dktX29_comes_1 := dk_seg dksX29_comes_0 24 rfl rfl
theorem dX29_comes_0 : decode cX29_comes 0 = .ok (.aload_n 0, 1) := dk_42 (dk_at dksX29_comes_0 0 rfl rfl)
theorem dX29_comes_1 : decode cX29_comes 1 = .ok (.getfield 15, 3) := dk_180 0 15 (dk_at dksX29_comes_0 1 rfl rfl)
theorem dX29_comes_4 : decode cX29_comes 4 = .ok (.getstatic 9, 3) := dk_178 0 9 (dk_at dksX29_comes_0 4 rfl rfl)
theorem dX29_comes_7 : decode cX29_comes 7 = .ok (.if_acmp .ne 23, 3) := dk_166 0 23 (dk_at dksX29_comes_0 7 rfl rfl)
theorem dX29_comes_10 : decode cX29_comes 10 = .ok (.aload_n 0, 1) := dk_42 (dk_at dksX29_comes_0 10 rfl rfl)
theorem dX29_comes_11 : decode cX29_comes 11 = .ok (.getfield 87, 3) := dk_180 0 87 (dk_at dksX29_comes_0 11 rfl rfl)
theorem dX29_comes_14 : decode cX29_comes 14 = .ok (.aload_n 0, 1) := dk_42 (dk_at dksX29_comes_0 14 rfl rfl)
theorem dX29_comes_15 : decode cX29_comes 15 = .ok (.getfield 66, 3) := dk_180 0 66 (dk_at dksX29_comes_0 15 rfl rfl)
theorem dX29_comes_18 : decode cX29_comes 18 = .ok (.getfield 127, 3) := dk_180 0 127 (dk_at dksX29_comes_0 18 rfl rfl)
theorem dX29_comes_21 : decode cX29_comes 21 = .ok (.if_icmp .lt 9, 3) := dk_161 0 9 (dk_at dksX29_comes_0 21 rfl rfl)
theorem dX29_comes_24 : decode cX29_comes 24 = .ok (.aload_n 0, 1) := dk_42 (dk_at dksX29_comes_1 0 rfl rfl)
theorem dX29_comes_25 : decode cX29_comes 25 = .ok (.lconst 0, 1) := dk_9 (dk_at dksX29_comes_1 1 rfl rfl)
theorem dX29_comes_26 : decode cX29_comes 26 = .ok (.aconst_null, 1) := dk_1 (dk_at dksX29_comes_1 2 rfl rfl)
theorem dX29_comes_27 : decode cX29_comes 27 = .ok (.invokevirtual 130, 3) := dk_182 0 130 (dk_at dksX29_comes_1 3 rfl rfl)
theorem dX29_comes_30 : decode cX29_comes 30 = .ok (.return_, 1) := dk_177 (dk_at dksX29_comes_1 6 rfl rfl)
def dkwX29_ends_0 : List UInt8 := [42, 180, 0, 25, 3, 31, 45, 182, 0, 124, 42, 178, 0, 104, 181, 0, 15, 177]
abbrev dktX29_ends_0 : List UInt8 := dkwX29_ends_0 ++ []
theorem dksX29_ends_0 : cX29_ends.data.toList.drop 0 = dktX29_ends_0 := by decide +kernel
theorem dX29_ends_0 : decode cX29_ends 0 = .ok (.aload_n 0, 1) := dk_42 (dk_at dksX29_ends_0 0 rfl rfl)
theorem dX29_ends_1 : decode cX29_ends 1 = .ok (.getfield 25, 3) := dk_180 0 25 (dk_at dksX29_ends_0 1 rfl rfl)
theorem dX29_ends_4 : decode cX29_ends 4 = .ok (.iconst 0, 1) := dk_3 (dk_at dksX29_ends_0 4 rfl rfl)
theorem dX29_ends_5 : decode cX29_ends 5 = .ok (.lload_n 1, 1) := dk_31 (dk_at dksX29_ends_0 5 rfl rfl)
theorem dX29_ends_6 : decode cX29_ends 6 = .ok (.aload_n 3, 1) := dk_45 (dk_at dksX29_ends_0 6 rfl rfl)
theorem dX29_ends_7 : decode cX29_ends 7 = .ok (.invokevirtual 124, 3) := dk_182 0 124 (dk_at dksX29_ends_0 7 rfl rfl)
theorem dX29_ends_10 : decode cX29_ends 10 = .ok (.aload_n 0, 1) := dk_42 (dk_at dksX29_ends_0 10 rfl rfl)
theorem dX29_ends_11 : decode cX29_ends 11 = .ok (.getstatic 104, 3) := dk_178 0 104 (dk_at dksX29_ends_0 11 rfl rfl)
theorem dX29_ends_14 : decode cX29_ends 14 = .ok (.putfield 15, 3) := dk_181 0 15 (dk_at dksX29_ends_0 14 rfl rfl)
theorem dX29_ends_17 : decode cX29_ends 17 = .ok (.return_, 1) := dk_177 (dk_at dksX29_ends_0 17 rfl rfl)
def dkwX29_isReady_0 : List UInt8 := [42, 182, 0, 77, 154, 0, 14, 42, 182, 0, 97, 199, 0, 7, 4, 167, 0, 4, 3, 172]
abbrev dktX29_isReady_0 : List UInt8 := dkwX29_isReady_0 ++ []
theorem dksX29_isReady_0 : cX29_isReady.data.toList.drop 0 = dktX29_isReady_0 := by decide +kernel
theorem dX29_isReady_0 : decode cX29_isReady 0 = .ok (.aload_n 0, 1) := dk_42 (dk_at dksX29_isReady_0 0 rfl rfl)
theorem dX29_isReady_1 : decode cX29_isReady 1 = .ok (.invokevirtual 77, 3) := dk_182 0 77 (dk_at dksX29_isReady_0 1 rfl rfl)
theorem dX29_isReady_4 : decode cX29_isReady 4 = .ok (.ifCond .ne 14, 3) := dk_154 0 14 (dk_at dksX29_isReady_0 4 rfl rfl)
theorem dX29_isReady_7 : decode cX29_isReady 7 = .ok (.aload_n 0, 1) := dk_42 (dk_at dksX29_isReady_0 7 rfl rfl)
theorem dX29_isReady_8 : decode cX29_isReady 8 = .ok (.invokevirtual 97, 3) := dk_182 0 97 (dk_at dksX29_isReady_0 8 rfl rfl)
theorem dX29_isReady_11 : decode cX29_isReady 11 = .ok (.ifnonnull 7, 3) := dk_199 0 7 (dk_at dksX29_isReady_0 11 rfl rfl)
theorem dX29_isReady_14 : decode cX29_isReady 14 = .ok (.iconst 1, 1) := dk_4 (dk_at dksX29_isReady_0 14 rfl rfl)
theorem dX29_isReady_15 : decode cX29_isReady 15 = .ok (.goto 4, 3) := dk_167 0 4 (dk_at dksX29_isReady_0 15 rfl rfl)
theorem dX29_isReady_18 : decode cX29_isReady 18 = .ok (.iconst 0, 1) := dk_3 (dk_at dksX29_isReady_0 18 rfl rfl)
theorem dX29_isReady_19 : decode cX29_isReady 19 = .ok (.ireturn, 1) := dk_172 (dk_at dksX29_isReady_0 19 rfl rfl)
def dkwX29_isOver_0 : List UInt8 := [42, 180, 0, 15, 178, 0, 9, 165, 0, 7, 4, 167, 0, 4, 3, 172]
abbrev dktX29_isOver_0 : List UInt8 := dkwX29_isOver_0 ++ []
theorem dksX29_isOver_0 : cX29_isOver.data.toList.drop 0 = dktX29_isOver_0 := by decide +kernel
theorem dX29_isOver_0 : decode cX29_isOver 0 = .ok (.aload_n 0, 1) := dk_42 (dk_at dksX29_isOver_0 0 rfl rfl)
theorem dX29_isOver_1 : decode cX29_isOver 1 = .ok (.getfield 15, 3) := dk_180 0 15 (dk_at dksX29_isOver_0 1 rfl rfl)
theorem dX29_isOver_4 : decode cX29_isOver 4 = .ok (.getstatic 9, 3) := dk_178 0 9 (dk_at dksX29_isOver_0 4 rfl rfl)
theorem dX29_isOver_7 : decode cX29_isOver 7 = .ok (.if_acmp .eq 7, 3) := dk_165 0 7 (dk_at dksX29_isOver_0 7 rfl rfl)
theorem dX29_isOver_10 : decode cX29_isOver 10 = .ok (.iconst 1, 1) := dk_4 (dk_at dksX29_isOver_0 10 rfl rfl)
theorem dX29_isOver_11 : decode cX29_isOver 11 = .ok (.goto 4, 3) := dk_167 0 4 (dk_at dksX29_isOver_0 11 rfl rfl)
theorem dX29_isOver_14 : decode cX29_isOver 14 = .ok (.iconst 0, 1) := dk_3 (dk_at dksX29_isOver_0 14 rfl rfl)
theorem dX29_isOver_15 : decode cX29_isOver 15 = .ok (.ireturn, 1) := dk_172 (dk_at dksX29_isOver_0 15 rfl rfl)
def dkwX29_waitsFor_2 : List UInt8 := [43, 182, 0, 77, 153, 0, 7, 1, 167, 0, 4, 43, 176]
abbrev dktX29_waitsFor_2 : List UInt8 := dkwX29_waitsFor_2 ++ []
def dkwX29_waitsFor_1 : List UInt8 := [42, 180, 0, 90, 17, 0, 200, 161, 0, 5, 1, 176, 42, 180, 0, 41, 182, 0, 93, 76, 43, 198, 0, 10]
abbrev dktX29_waitsFor_1 : List UInt8 := dkwX29_waitsFor_1 ++ dktX29_waitsFor_2
def dkwX29_waitsFor_0 : List UInt8 := [42, 182, 0, 77, 154, 0, 30, 42, 180, 0, 66, 180, 0, 81, 42, 180, 0, 87, 46, 16, 18, 160, 0, 13]
abbrev dktX29_waitsFor_0 : List UInt8 := dkwX29_waitsFor_0 ++ dktX29_waitsFor_1
theorem dksX29_waitsFor_0 : cX29_waitsFor.data.toList.drop 0 = dktX29_waitsFor_0 := by decide +kernel
theorem dksX29_waitsFor_1 : cX29_waitsFor.data.toList.drop 24 = dktX29_waitsFor_1 := dk_seg dksX29_waitsFor_0 24 rfl rfl
theorem dksX29_waitsFor_2 : cX29_waitsFor.data.toList.drop 48 = dktX29_waitsFor_2 := dk_seg dksX29_waitsFor_1 24 rfl rfl
theorem dX29_waitsFor_0 : decode cX29_waitsFor 0 = .ok (.aload_n 0, 1) := dk_42 (dk_at dksX29_waitsFor_0 0 rfl rfl)
theorem dX29_waitsFor_1 : decode cX29_waitsFor 1 = .ok (.invokevirtual 77, 3) := dk_182 0 77 (dk_at dksX29_waitsFor_0 1 rfl rfl)
theorem dX29_waitsFor_4 : decode cX29_waitsFor 4 = .ok (.ifCond .ne 30, 3) := dk_154 0 30 (dk_at dksX29_waitsFor_0 4 rfl rfl)
theorem dX29_waitsFor_7 : decode cX29_waitsFor 7 = .ok (.aload_n 0, 1) := dk_42 (dk_at dksX29_waitsFor_0 7 rfl rfl)
theorem dX29_waitsFor_8 : decode cX29_waitsFor 8 = .ok (.getfield 66, 3) := dk_180 0 66 (dk_at dksX29_waitsFor_0 8 rfl rfl)
theorem dX29_waitsFor_11 : decode cX29_waitsFor 11 = .ok (.getfield 81, 3) := dk_180 0 81 (dk_at dksX29_waitsFor_0 11 rfl rfl)
theorem dX29_waitsFor_14 : decode cX29_waitsFor 14 = .ok (.aload_n 0, 1) := dk_42 (dk_at dksX29_waitsFor_0 14 rfl rfl)
theorem dX29_waitsFor_15 : decode cX29_waitsFor 15 = .ok (.getfield 87, 3) := dk_180 0 87 (dk_at dksX29_waitsFor_0 15 rfl rfl)
theorem dX29_waitsFor_18 : decode cX29_waitsFor 18 = .ok (.iaload, 1) := dk_46 (dk_at dksX29_waitsFor_0 18 rfl rfl)
theorem dX29_waitsFor_19 : decode cX29_waitsFor 19 = .ok (.bipush 18, 2) := dk_16 18 (dk_at dksX29_waitsFor_0 19 rfl rfl)
theorem dX29_waitsFor_21 : decode cX29_waitsFor 21 = .ok (.if_icmp .ne 13, 3) := dk_160 0 13 (dk_at dksX29_waitsFor_0 21 rfl rfl)
theorem dX29_waitsFor_24 : decode cX29_waitsFor 24 = .ok (.aload_n 0, 1) := dk_42 (dk_at dksX29_waitsFor_1 0 rfl rfl)
theorem dX29_waitsFor_25 : decode cX29_waitsFor 25 = .ok (.getfield 90, 3) := dk_180 0 90 (dk_at dksX29_waitsFor_1 1 rfl rfl)
theorem dX29_waitsFor_28 : decode cX29_waitsFor 28 = .ok (.sipush 200, 3) := dk_17 0 200 (dk_at dksX29_waitsFor_1 4 rfl rfl)
theorem dX29_waitsFor_31 : decode cX29_waitsFor 31 = .ok (.if_icmp .lt 5, 3) := dk_161 0 5 (dk_at dksX29_waitsFor_1 7 rfl rfl)
theorem dX29_waitsFor_34 : decode cX29_waitsFor 34 = .ok (.aconst_null, 1) := dk_1 (dk_at dksX29_waitsFor_1 10 rfl rfl)
theorem dX29_waitsFor_35 : decode cX29_waitsFor 35 = .ok (.areturn, 1) := dk_176 (dk_at dksX29_waitsFor_1 11 rfl rfl)
theorem dX29_waitsFor_36 : decode cX29_waitsFor 36 = .ok (.aload_n 0, 1) := dk_42 (dk_at dksX29_waitsFor_1 12 rfl rfl)
theorem dX29_waitsFor_37 : decode cX29_waitsFor 37 = .ok (.getfield 41, 3) := dk_180 0 41 (dk_at dksX29_waitsFor_1 13 rfl rfl)
theorem dX29_waitsFor_40 : decode cX29_waitsFor 40 = .ok (.invokevirtual 93, 3) := dk_182 0 93 (dk_at dksX29_waitsFor_1 16 rfl rfl)
theorem dX29_waitsFor_43 : decode cX29_waitsFor 43 = .ok (.astore_n 1, 1) := dk_76 (dk_at dksX29_waitsFor_1 19 rfl rfl)
theorem dX29_waitsFor_44 : decode cX29_waitsFor 44 = .ok (.aload_n 1, 1) := dk_43 (dk_at dksX29_waitsFor_1 20 rfl rfl)
theorem dX29_waitsFor_45 : decode cX29_waitsFor 45 = .ok (.ifnull 10, 3) := dk_198 0 10 (dk_at dksX29_waitsFor_1 21 rfl rfl)
theorem dX29_waitsFor_48 : decode cX29_waitsFor 48 = .ok (.aload_n 1, 1) := dk_43 (dk_at dksX29_waitsFor_2 0 rfl rfl)
theorem dX29_waitsFor_49 : decode cX29_waitsFor 49 = .ok (.invokevirtual 77, 3) := dk_182 0 77 (dk_at dksX29_waitsFor_2 1 rfl rfl)
theorem dX29_waitsFor_52 : decode cX29_waitsFor 52 = .ok (.ifCond .eq 7, 3) := dk_153 0 7 (dk_at dksX29_waitsFor_2 4 rfl rfl)
theorem dX29_waitsFor_55 : decode cX29_waitsFor 55 = .ok (.aconst_null, 1) := dk_1 (dk_at dksX29_waitsFor_2 7 rfl rfl)
theorem dX29_waitsFor_56 : decode cX29_waitsFor 56 = .ok (.goto 4, 3) := dk_167 0 4 (dk_at dksX29_waitsFor_2 8 rfl rfl)
theorem dX29_waitsFor_59 : decode cX29_waitsFor 59 = .ok (.aload_n 1, 1) := dk_43 (dk_at dksX29_waitsFor_2 11 rfl rfl)
theorem dX29_waitsFor_60 : decode cX29_waitsFor 60 = .ok (.areturn, 1) := dk_176 (dk_at dksX29_waitsFor_2 12 rfl rfl)
def dkwX29_put_0 : List UInt8 := [42, 180, 0, 41, 31, 1, 182, 0, 117, 177]
abbrev dktX29_put_0 : List UInt8 := dkwX29_put_0 ++ []
theorem dksX29_put_0 : cX29_put.data.toList.drop 0 = dktX29_put_0 := by decide +kernel
theorem dX29_put_0 : decode cX29_put 0 = .ok (.aload_n 0, 1) := dk_42 (dk_at dksX29_put_0 0 rfl rfl)
theorem dX29_put_1 : decode cX29_put 1 = .ok (.getfield 41, 3) := dk_180 0 41 (dk_at dksX29_put_0 1 rfl rfl)
theorem dX29_put_4 : decode cX29_put 4 = .ok (.lload_n 1, 1) := dk_31 (dk_at dksX29_put_0 4 rfl rfl)
theorem dX29_put_5 : decode cX29_put 5 = .ok (.aconst_null, 1) := dk_1 (dk_at dksX29_put_0 5 rfl rfl)
theorem dX29_put_6 : decode cX29_put 6 = .ok (.invokevirtual 117, 3) := dk_182 0 117 (dk_at dksX29_put_0 6 rfl rfl)
theorem dX29_put_9 : decode cX29_put 9 = .ok (.return_, 1) := dk_177 (dk_at dksX29_put_0 9 rfl rfl)
def dkwX29_number_0 : List UInt8 := [42, 180, 0, 41, 42, 180, 0, 41, 182, 0, 110, 182, 0, 114, 173]
abbrev dktX29_number_0 : List UInt8 := dkwX29_number_0 ++ []
theorem dksX29_number_0 : cX29_number.data.toList.drop 0 = dktX29_number_0 := by decide +kernel
theorem dX29_number_0 : decode cX29_number 0 = .ok (.aload_n 0, 1) := dk_42 (dk_at dksX29_number_0 0 rfl rfl)
theorem dX29_number_1 : decode cX29_number 1 = .ok (.getfield 41, 3) := dk_180 0 41 (dk_at dksX29_number_0 1 rfl rfl)
theorem dX29_number_4 : decode cX29_number 4 = .ok (.aload_n 0, 1) := dk_42 (dk_at dksX29_number_0 4 rfl rfl)
theorem dX29_number_5 : decode cX29_number 5 = .ok (.getfield 41, 3) := dk_180 0 41 (dk_at dksX29_number_0 5 rfl rfl)
theorem dX29_number_8 : decode cX29_number 8 = .ok (.invokevirtual 110, 3) := dk_182 0 110 (dk_at dksX29_number_0 8 rfl rfl)
theorem dX29_number_11 : decode cX29_number 11 = .ok (.invokevirtual 114, 3) := dk_182 0 114 (dk_at dksX29_number_0 11 rfl rfl)
theorem dX29_number_14 : decode cX29_number 14 = .ok (.lreturn, 1) := dk_173 (dk_at dksX29_number_0 14 rfl rfl)
def dkwX29_tells_1 : List UInt8 := [4, 96, 181, 0, 121, 177]
abbrev dktX29_tells_1 : List UInt8 := dkwX29_tells_1 ++ []
def dkwX29_tells_0 : List UInt8 := [42, 180, 0, 121, 16, 60, 162, 0, 23, 42, 180, 0, 45, 42, 180, 0, 121, 31, 80, 42, 89, 180, 0, 121]
abbrev dktX29_tells_0 : List UInt8 := dkwX29_tells_0 ++ dktX29_tells_1
theorem dksX29_tells_0 : cX29_tells.data.toList.drop 0 = dktX29_tells_0 := by decide +kernel
theorem dksX29_tells_1 : cX29_tells.data.toList.drop 24 = dktX29_tells_1 := dk_seg dksX29_tells_0 24 rfl rfl
theorem dX29_tells_0 : decode cX29_tells 0 = .ok (.aload_n 0, 1) := dk_42 (dk_at dksX29_tells_0 0 rfl rfl)
theorem dX29_tells_1 : decode cX29_tells 1 = .ok (.getfield 121, 3) := dk_180 0 121 (dk_at dksX29_tells_0 1 rfl rfl)
theorem dX29_tells_4 : decode cX29_tells 4 = .ok (.bipush 60, 2) := dk_16 60 (dk_at dksX29_tells_0 4 rfl rfl)
theorem dX29_tells_6 : decode cX29_tells 6 = .ok (.if_icmp .ge 23, 3) := dk_162 0 23 (dk_at dksX29_tells_0 6 rfl rfl)
theorem dX29_tells_9 : decode cX29_tells 9 = .ok (.aload_n 0, 1) := dk_42 (dk_at dksX29_tells_0 9 rfl rfl)
theorem dX29_tells_10 : decode cX29_tells 10 = .ok (.getfield 45, 3) := dk_180 0 45 (dk_at dksX29_tells_0 10 rfl rfl)
theorem dX29_tells_13 : decode cX29_tells 13 = .ok (.aload_n 0, 1) := dk_42 (dk_at dksX29_tells_0 13 rfl rfl)
theorem dX29_tells_14 : decode cX29_tells 14 = .ok (.getfield 121, 3) := dk_180 0 121 (dk_at dksX29_tells_0 14 rfl rfl)
theorem dX29_tells_17 : decode cX29_tells 17 = .ok (.lload_n 1, 1) := dk_31 (dk_at dksX29_tells_0 17 rfl rfl)
theorem dX29_tells_18 : decode cX29_tells 18 = .ok (.lastore, 1) := dk_80 (dk_at dksX29_tells_0 18 rfl rfl)
theorem dX29_tells_19 : decode cX29_tells 19 = .ok (.aload_n 0, 1) := dk_42 (dk_at dksX29_tells_0 19 rfl rfl)
theorem dX29_tells_20 : decode cX29_tells 20 = .ok (.dup, 1) := dk_89 (dk_at dksX29_tells_0 20 rfl rfl)
theorem dX29_tells_21 : decode cX29_tells 21 = .ok (.getfield 121, 3) := dk_180 0 121 (dk_at dksX29_tells_0 21 rfl rfl)
theorem dX29_tells_24 : decode cX29_tells 24 = .ok (.iconst 1, 1) := dk_4 (dk_at dksX29_tells_1 0 rfl rfl)
theorem dX29_tells_25 : decode cX29_tells 25 = .ok (.iadd, 1) := dk_96 (dk_at dksX29_tells_1 1 rfl rfl)
theorem dX29_tells_26 : decode cX29_tells 26 = .ok (.putfield 121, 3) := dk_181 0 121 (dk_at dksX29_tells_1 2 rfl rfl)
theorem dX29_tells_29 : decode cX29_tells 29 = .ok (.return_, 1) := dk_177 (dk_at dksX29_tells_1 5 rfl rfl)
def dkwX29_told_2 : List UInt8 := [4, 167, 0, 4, 3, 172]
abbrev dktX29_told_2 : List UInt8 := dkwX29_told_2 ++ []
def dkwX29_told_1 : List UInt8 := [167, 0, 29, 42, 180, 0, 15, 178, 0, 107, 166, 0, 7, 6, 167, 0, 15, 42, 182, 0, 97, 198, 0, 7]
abbrev dktX29_told_1 : List UInt8 := dkwX29_told_1 ++ dktX29_told_2
def dkwX29_told_0 : List UInt8 := [42, 180, 0, 100, 153, 0, 7, 7, 167, 0, 43, 42, 180, 0, 15, 178, 0, 104, 166, 0, 7, 5]
abbrev dktX29_told_0 : List UInt8 := dkwX29_told_0 ++ dktX29_told_1
theorem dksX29_told_0 : cX29_told.data.toList.drop 0 = dktX29_told_0 := by decide +kernel
theorem dksX29_told_1 : cX29_told.data.toList.drop 22 = dktX29_told_1 := dk_seg dksX29_told_0 22 rfl rfl
theorem dksX29_told_2 : cX29_told.data.toList.drop 46 = dktX29_told_2 := dk_seg dksX29_told_1 24 rfl rfl
theorem dX29_told_0 : decode cX29_told 0 = .ok (.aload_n 0, 1) := dk_42 (dk_at dksX29_told_0 0 rfl rfl)
theorem dX29_told_1 : decode cX29_told 1 = .ok (.getfield 100, 3) := dk_180 0 100 (dk_at dksX29_told_0 1 rfl rfl)
theorem dX29_told_4 : decode cX29_told 4 = .ok (.ifCond .eq 7, 3) := dk_153 0 7 (dk_at dksX29_told_0 4 rfl rfl)
theorem dX29_told_7 : decode cX29_told 7 = .ok (.iconst 4, 1) := dk_7 (dk_at dksX29_told_0 7 rfl rfl)
theorem dX29_told_8 : decode cX29_told 8 = .ok (.goto 43, 3) := dk_167 0 43 (dk_at dksX29_told_0 8 rfl rfl)
theorem dX29_told_11 : decode cX29_told 11 = .ok (.aload_n 0, 1) := dk_42 (dk_at dksX29_told_0 11 rfl rfl)
theorem dX29_told_12 : decode cX29_told 12 = .ok (.getfield 15, 3) := dk_180 0 15 (dk_at dksX29_told_0 12 rfl rfl)
theorem dX29_told_15 : decode cX29_told 15 = .ok (.getstatic 104, 3) := dk_178 0 104 (dk_at dksX29_told_0 15 rfl rfl)
theorem dX29_told_18 : decode cX29_told 18 = .ok (.if_acmp .ne 7, 3) := dk_166 0 7 (dk_at dksX29_told_0 18 rfl rfl)
theorem dX29_told_21 : decode cX29_told 21 = .ok (.iconst 2, 1) := dk_5 (dk_at dksX29_told_0 21 rfl rfl)
theorem dX29_told_22 : decode cX29_told 22 = .ok (.goto 29, 3) := dk_167 0 29 (dk_at dksX29_told_1 0 rfl rfl)
theorem dX29_told_25 : decode cX29_told 25 = .ok (.aload_n 0, 1) := dk_42 (dk_at dksX29_told_1 3 rfl rfl)
theorem dX29_told_26 : decode cX29_told 26 = .ok (.getfield 15, 3) := dk_180 0 15 (dk_at dksX29_told_1 4 rfl rfl)
theorem dX29_told_29 : decode cX29_told 29 = .ok (.getstatic 107, 3) := dk_178 0 107 (dk_at dksX29_told_1 7 rfl rfl)
theorem dX29_told_32 : decode cX29_told 32 = .ok (.if_acmp .ne 7, 3) := dk_166 0 7 (dk_at dksX29_told_1 10 rfl rfl)
theorem dX29_told_35 : decode cX29_told 35 = .ok (.iconst 3, 1) := dk_6 (dk_at dksX29_told_1 13 rfl rfl)
theorem dX29_told_36 : decode cX29_told 36 = .ok (.goto 15, 3) := dk_167 0 15 (dk_at dksX29_told_1 14 rfl rfl)
theorem dX29_told_39 : decode cX29_told 39 = .ok (.aload_n 0, 1) := dk_42 (dk_at dksX29_told_1 17 rfl rfl)
theorem dX29_told_40 : decode cX29_told 40 = .ok (.invokevirtual 97, 3) := dk_182 0 97 (dk_at dksX29_told_1 18 rfl rfl)
theorem dX29_told_43 : decode cX29_told 43 = .ok (.ifnull 7, 3) := dk_198 0 7 (dk_at dksX29_told_1 21 rfl rfl)
theorem dX29_told_46 : decode cX29_told 46 = .ok (.iconst 1, 1) := dk_4 (dk_at dksX29_told_2 0 rfl rfl)
theorem dX29_told_47 : decode cX29_told 47 = .ok (.goto 4, 3) := dk_167 0 4 (dk_at dksX29_told_2 1 rfl rfl)
theorem dX29_told_50 : decode cX29_told 50 = .ok (.iconst 0, 1) := dk_3 (dk_at dksX29_told_2 4 rfl rfl)
theorem dX29_told_51 : decode cX29_told 51 = .ok (.ireturn, 1) := dk_172 (dk_at dksX29_told_2 5 rfl rfl)
def dkwX3_init_0 : List UInt8 := [42, 43, 181, 0, 1, 42, 43, 28, 183, 0, 7, 177]
abbrev dktX3_init_0 : List UInt8 := dkwX3_init_0 ++ []
theorem dksX3_init_0 : cX3_init.data.toList.drop 0 = dktX3_init_0 := by decide +kernel
theorem dX3_init_0 : decode cX3_init 0 = .ok (.aload_n 0, 1) := dk_42 (dk_at dksX3_init_0 0 rfl rfl)
theorem dX3_init_1 : decode cX3_init 1 = .ok (.aload_n 1, 1) := dk_43 (dk_at dksX3_init_0 1 rfl rfl)
theorem dX3_init_2 : decode cX3_init 2 = .ok (.putfield 1, 3) := dk_181 0 1 (dk_at dksX3_init_0 2 rfl rfl)
theorem dX3_init_5 : decode cX3_init 5 = .ok (.aload_n 0, 1) := dk_42 (dk_at dksX3_init_0 5 rfl rfl)
theorem dX3_init_6 : decode cX3_init 6 = .ok (.aload_n 1, 1) := dk_43 (dk_at dksX3_init_0 6 rfl rfl)
theorem dX3_init_7 : decode cX3_init 7 = .ok (.iload_n 2, 1) := dk_28 (dk_at dksX3_init_0 7 rfl rfl)
theorem dX3_init_8 : decode cX3_init 8 = .ok (.invokespecial 7, 3) := dk_183 0 7 (dk_at dksX3_init_0 8 rfl rfl)
theorem dX3_init_11 : decode cX3_init 11 = .ok (.return_, 1) := dk_177 (dk_at dksX3_init_0 11 rfl rfl)
def dkwX3_does_0 : List UInt8 := [43, 43, 180, 0, 13, 28, 184, 0, 19, 182, 0, 25, 177]
abbrev dktX3_does_0 : List UInt8 := dkwX3_does_0 ++ []
theorem dksX3_does_0 : cX3_does.data.toList.drop 0 = dktX3_does_0 := by decide +kernel
theorem dX3_does_0 : decode cX3_does 0 = .ok (.aload_n 1, 1) := dk_43 (dk_at dksX3_does_0 0 rfl rfl)
theorem dX3_does_1 : decode cX3_does 1 = .ok (.aload_n 1, 1) := dk_43 (dk_at dksX3_does_0 1 rfl rfl)
theorem dX3_does_2 : decode cX3_does 2 = .ok (.getfield 13, 3) := dk_180 0 13 (dk_at dksX3_does_0 2 rfl rfl)
theorem dX3_does_5 : decode cX3_does 5 = .ok (.iload_n 2, 1) := dk_28 (dk_at dksX3_does_0 5 rfl rfl)
theorem dX3_does_6 : decode cX3_does 6 = .ok (.invokestatic 19, 3) := dk_184 0 19 (dk_at dksX3_does_0 6 rfl rfl)
theorem dX3_does_9 : decode cX3_does 9 = .ok (.invokevirtual 25, 3) := dk_182 0 25 (dk_at dksX3_does_0 9 rfl rfl)
theorem dX3_does_12 : decode cX3_does 12 = .ok (.return_, 1) := dk_177 (dk_at dksX3_does_0 12 rfl rfl)
def dkwX30_init_0 : List UInt8 := [42, 183, 0, 3, 42, 27, 188, 11, 181, 0, 9, 42, 27, 189, 0, 15, 181, 0, 17, 177]
abbrev dktX30_init_0 : List UInt8 := dkwX30_init_0 ++ []
theorem dksX30_init_0 : cX30_init.data.toList.drop 0 = dktX30_init_0 := by decide +kernel
theorem dX30_init_0 : decode cX30_init 0 = .ok (.aload_n 0, 1) := dk_42 (dk_at dksX30_init_0 0 rfl rfl)
theorem dX30_init_1 : decode cX30_init 1 = .ok (.invokespecial 3, 3) := dk_183 0 3 (dk_at dksX30_init_0 1 rfl rfl)
theorem dX30_init_4 : decode cX30_init 4 = .ok (.aload_n 0, 1) := dk_42 (dk_at dksX30_init_0 4 rfl rfl)
theorem dX30_init_5 : decode cX30_init 5 = .ok (.iload_n 1, 1) := dk_27 (dk_at dksX30_init_0 5 rfl rfl)
theorem dX30_init_6 : decode cX30_init 6 = .ok (.newarray .long, 2) := dk_188_11 (dk_at dksX30_init_0 6 rfl rfl)
theorem dX30_init_8 : decode cX30_init 8 = .ok (.putfield 9, 3) := dk_181 0 9 (dk_at dksX30_init_0 8 rfl rfl)
theorem dX30_init_11 : decode cX30_init 11 = .ok (.aload_n 0, 1) := dk_42 (dk_at dksX30_init_0 11 rfl rfl)
theorem dX30_init_12 : decode cX30_init 12 = .ok (.iload_n 1, 1) := dk_27 (dk_at dksX30_init_0 12 rfl rfl)
theorem dX30_init_13 : decode cX30_init 13 = .ok (.anewarray 15, 3) := dk_189 0 15 (dk_at dksX30_init_0 13 rfl rfl)
theorem dX30_init_16 : decode cX30_init 16 = .ok (.putfield 17, 3) := dk_181 0 17 (dk_at dksX30_init_0 16 rfl rfl)
theorem dX30_init_19 : decode cX30_init 19 = .ok (.return_, 1) := dk_177 (dk_at dksX30_init_0 19 rfl rfl)
def dkwX30_put_0 : List UInt8 := [42, 180, 0, 9, 27, 32, 80, 42, 180, 0, 17, 27, 25, 4, 83, 177]
abbrev dktX30_put_0 : List UInt8 := dkwX30_put_0 ++ []
theorem dksX30_put_0 : cX30_put.data.toList.drop 0 = dktX30_put_0 := by decide +kernel
theorem dX30_put_0 : decode cX30_put 0 = .ok (.aload_n 0, 1) := dk_42 (dk_at dksX30_put_0 0 rfl rfl)
theorem dX30_put_1 : decode cX30_put 1 = .ok (.getfield 9, 3) := dk_180 0 9 (dk_at dksX30_put_0 1 rfl rfl)
theorem dX30_put_4 : decode cX30_put 4 = .ok (.iload_n 1, 1) := dk_27 (dk_at dksX30_put_0 4 rfl rfl)
theorem dX30_put_5 : decode cX30_put 5 = .ok (.lload_n 2, 1) := dk_32 (dk_at dksX30_put_0 5 rfl rfl)
theorem dX30_put_6 : decode cX30_put 6 = .ok (.lastore, 1) := dk_80 (dk_at dksX30_put_0 6 rfl rfl)
theorem dX30_put_7 : decode cX30_put 7 = .ok (.aload_n 0, 1) := dk_42 (dk_at dksX30_put_0 7 rfl rfl)
theorem dX30_put_8 : decode cX30_put 8 = .ok (.getfield 17, 3) := dk_180 0 17 (dk_at dksX30_put_0 8 rfl rfl)
theorem dX30_put_11 : decode cX30_put 11 = .ok (.iload_n 1, 1) := dk_27 (dk_at dksX30_put_0 11 rfl rfl)
theorem dX30_put_12 : decode cX30_put 12 = .ok (.aload 4, 2) := dk_25 4 (dk_at dksX30_put_0 12 rfl rfl)
theorem dX30_put_14 : decode cX30_put 14 = .ok (.aastore, 1) := dk_83 (dk_at dksX30_put_0 14 rfl rfl)
theorem dX30_put_15 : decode cX30_put 15 = .ok (.return_, 1) := dk_177 (dk_at dksX30_put_0 15 rfl rfl)
def dkwX30_number_1 : List UInt8 := [173]
abbrev dktX30_number_1 : List UInt8 := dkwX30_number_1 ++ []
def dkwX30_number_0 : List UInt8 := [42, 180, 0, 17, 27, 50, 198, 0, 12, 187, 0, 21, 89, 5, 183, 0, 23, 191, 42, 180, 0, 9, 27, 47]
abbrev dktX30_number_0 : List UInt8 := dkwX30_number_0 ++ dktX30_number_1
theorem dksX30_number_0 : cX30_number.data.toList.drop 0 = dktX30_number_0 := by decide +kernel
theorem dksX30_number_1 : cX30_number.data.toList.drop 24 = dktX30_number_1 := dk_seg dksX30_number_0 24 rfl rfl
theorem dX30_number_0 : decode cX30_number 0 = .ok (.aload_n 0, 1) := dk_42 (dk_at dksX30_number_0 0 rfl rfl)
theorem dX30_number_1 : decode cX30_number 1 = .ok (.getfield 17, 3) := dk_180 0 17 (dk_at dksX30_number_0 1 rfl rfl)
theorem dX30_number_4 : decode cX30_number 4 = .ok (.iload_n 1, 1) := dk_27 (dk_at dksX30_number_0 4 rfl rfl)
theorem dX30_number_5 : decode cX30_number 5 = .ok (.aaload, 1) := dk_50 (dk_at dksX30_number_0 5 rfl rfl)
theorem dX30_number_6 : decode cX30_number 6 = .ok (.ifnull 12, 3) := dk_198 0 12 (dk_at dksX30_number_0 6 rfl rfl)
theorem dX30_number_9 : decode cX30_number 9 = .ok (.new 21, 3) := dk_187 0 21 (dk_at dksX30_number_0 9 rfl rfl)
theorem dX30_number_12 : decode cX30_number 12 = .ok (.dup, 1) := dk_89 (dk_at dksX30_number_0 12 rfl rfl)
theorem dX30_number_13 : decode cX30_number 13 = .ok (.iconst 2, 1) := dk_5 (dk_at dksX30_number_0 13 rfl rfl)
theorem dX30_number_14 : decode cX30_number 14 = .ok (.invokespecial 23, 3) := dk_183 0 23 (dk_at dksX30_number_0 14 rfl rfl)
theorem dX30_number_17 : decode cX30_number 17 = .ok (.athrow, 1) := dk_191 (dk_at dksX30_number_0 17 rfl rfl)
theorem dX30_number_18 : decode cX30_number 18 = .ok (.aload_n 0, 1) := dk_42 (dk_at dksX30_number_0 18 rfl rfl)
theorem dX30_number_19 : decode cX30_number 19 = .ok (.getfield 9, 3) := dk_180 0 9 (dk_at dksX30_number_0 19 rfl rfl)
theorem dX30_number_22 : decode cX30_number 22 = .ok (.iload_n 1, 1) := dk_27 (dk_at dksX30_number_0 22 rfl rfl)
theorem dX30_number_23 : decode cX30_number 23 = .ok (.laload, 1) := dk_47 (dk_at dksX30_number_0 23 rfl rfl)
theorem dX30_number_24 : decode cX30_number 24 = .ok (.lreturn, 1) := dk_173 (dk_at dksX30_number_1 0 rfl rfl)
def dkwX30_task_1 : List UInt8 := [176]
abbrev dktX30_task_1 : List UInt8 := dkwX30_task_1 ++ []
def dkwX30_task_0 : List UInt8 := [42, 180, 0, 17, 27, 50, 199, 0, 12, 187, 0, 21, 89, 5, 183, 0, 23, 191, 42, 180, 0, 17, 27, 50]
abbrev dktX30_task_0 : List UInt8 := dkwX30_task_0 ++ dktX30_task_1
theorem dksX30_task_0 : cX30_task.data.toList.drop 0 = dktX30_task_0 := by decide +kernel
theorem dksX30_task_1 : cX30_task.data.toList.drop 24 = dktX30_task_1 := dk_seg dksX30_task_0 24 rfl rfl
theorem dX30_task_0 : decode cX30_task 0 = .ok (.aload_n 0, 1) := dk_42 (dk_at dksX30_task_0 0 rfl rfl)
theorem dX30_task_1 : decode cX30_task 1 = .ok (.getfield 17, 3) := dk_180 0 17 (dk_at dksX30_task_0 1 rfl rfl)
theorem dX30_task_4 : decode cX30_task 4 = .ok (.iload_n 1, 1) := dk_27 (dk_at dksX30_task_0 4 rfl rfl)
theorem dX30_task_5 : decode cX30_task 5 = .ok (.aaload, 1) := dk_50 (dk_at dksX30_task_0 5 rfl rfl)
theorem dX30_task_6 : decode cX30_task 6 = .ok (.ifnonnull 12, 3) := dk_199 0 12 (dk_at dksX30_task_0 6 rfl rfl)
theorem dX30_task_9 : decode cX30_task 9 = .ok (.new 21, 3) := dk_187 0 21 (dk_at dksX30_task_0 9 rfl rfl)
theorem dX30_task_12 : decode cX30_task 12 = .ok (.dup, 1) := dk_89 (dk_at dksX30_task_0 12 rfl rfl)
theorem dX30_task_13 : decode cX30_task 13 = .ok (.iconst 2, 1) := dk_5 (dk_at dksX30_task_0 13 rfl rfl)
theorem dX30_task_14 : decode cX30_task 14 = .ok (.invokespecial 23, 3) := dk_183 0 23 (dk_at dksX30_task_0 14 rfl rfl)
theorem dX30_task_17 : decode cX30_task 17 = .ok (.athrow, 1) := dk_191 (dk_at dksX30_task_0 17 rfl rfl)
theorem dX30_task_18 : decode cX30_task 18 = .ok (.aload_n 0, 1) := dk_42 (dk_at dksX30_task_0 18 rfl rfl)
theorem dX30_task_19 : decode cX30_task 19 = .ok (.getfield 17, 3) := dk_180 0 17 (dk_at dksX30_task_0 19 rfl rfl)
theorem dX30_task_22 : decode cX30_task 22 = .ok (.iload_n 1, 1) := dk_27 (dk_at dksX30_task_0 22 rfl rfl)
theorem dX30_task_23 : decode cX30_task 23 = .ok (.aaload, 1) := dk_50 (dk_at dksX30_task_0 23 rfl rfl)
theorem dX30_task_24 : decode cX30_task 24 = .ok (.areturn, 1) := dk_176 (dk_at dksX30_task_1 0 rfl rfl)
def dkwX31_init_0 : List UInt8 := [42, 16, 12, 183, 0, 3, 177]
abbrev dktX31_init_0 : List UInt8 := dkwX31_init_0 ++ []
theorem dksX31_init_0 : cX31_init.data.toList.drop 0 = dktX31_init_0 := by decide +kernel
theorem dX31_init_0 : decode cX31_init 0 = .ok (.aload_n 0, 1) := dk_42 (dk_at dksX31_init_0 0 rfl rfl)
theorem dX31_init_1 : decode cX31_init 1 = .ok (.bipush 12, 2) := dk_16 12 (dk_at dksX31_init_0 1 rfl rfl)
theorem dX31_init_3 : decode cX31_init 3 = .ok (.invokespecial 3, 3) := dk_183 0 3 (dk_at dksX31_init_0 3 rfl rfl)
theorem dX31_init_6 : decode cX31_init 6 = .ok (.return_, 1) := dk_177 (dk_at dksX31_init_0 6 rfl rfl)
def dkwX31_top_0 : List UInt8 := [42, 180, 0, 9, 154, 0, 7, 1, 167, 0, 14, 42, 180, 0, 22, 42, 180, 0, 9, 4, 100, 50, 176]
abbrev dktX31_top_0 : List UInt8 := dkwX31_top_0 ++ []
theorem dksX31_top_0 : cX31_top.data.toList.drop 0 = dktX31_top_0 := by decide +kernel
theorem dX31_top_0 : decode cX31_top 0 = .ok (.aload_n 0, 1) := dk_42 (dk_at dksX31_top_0 0 rfl rfl)
theorem dX31_top_1 : decode cX31_top 1 = .ok (.getfield 9, 3) := dk_180 0 9 (dk_at dksX31_top_0 1 rfl rfl)
theorem dX31_top_4 : decode cX31_top 4 = .ok (.ifCond .ne 7, 3) := dk_154 0 7 (dk_at dksX31_top_0 4 rfl rfl)
theorem dX31_top_7 : decode cX31_top 7 = .ok (.aconst_null, 1) := dk_1 (dk_at dksX31_top_0 7 rfl rfl)
theorem dX31_top_8 : decode cX31_top 8 = .ok (.goto 14, 3) := dk_167 0 14 (dk_at dksX31_top_0 8 rfl rfl)
theorem dX31_top_11 : decode cX31_top 11 = .ok (.aload_n 0, 1) := dk_42 (dk_at dksX31_top_0 11 rfl rfl)
theorem dX31_top_12 : decode cX31_top 12 = .ok (.getfield 22, 3) := dk_180 0 22 (dk_at dksX31_top_0 12 rfl rfl)
theorem dX31_top_15 : decode cX31_top 15 = .ok (.aload_n 0, 1) := dk_42 (dk_at dksX31_top_0 15 rfl rfl)
theorem dX31_top_16 : decode cX31_top 16 = .ok (.getfield 9, 3) := dk_180 0 9 (dk_at dksX31_top_0 16 rfl rfl)
theorem dX31_top_19 : decode cX31_top 19 = .ok (.iconst 1, 1) := dk_4 (dk_at dksX31_top_0 19 rfl rfl)
theorem dX31_top_20 : decode cX31_top 20 = .ok (.isub, 1) := dk_100 (dk_at dksX31_top_0 20 rfl rfl)
theorem dX31_top_21 : decode cX31_top 21 = .ok (.aaload, 1) := dk_50 (dk_at dksX31_top_0 21 rfl rfl)
theorem dX31_top_22 : decode cX31_top 22 = .ok (.areturn, 1) := dk_176 (dk_at dksX31_top_0 22 rfl rfl)
def dkwX31_put_1 : List UInt8 := [31, 45, 182, 0, 18, 42, 89, 180, 0, 9, 4, 96, 181, 0, 9, 177]
abbrev dktX31_put_1 : List UInt8 := dkwX31_put_1 ++ []
def dkwX31_put_0 : List UInt8 := [42, 180, 0, 9, 16, 12, 160, 0, 13, 187, 0, 15, 89, 16, 7, 183, 0, 17, 191, 42, 42, 180, 0, 9]
abbrev dktX31_put_0 : List UInt8 := dkwX31_put_0 ++ dktX31_put_1
theorem dksX31_put_0 : cX31_put.data.toList.drop 0 = dktX31_put_0 := by decide +kernel
theorem dksX31_put_1 : cX31_put.data.toList.drop 24 = dktX31_put_1 := dk_seg dksX31_put_0 24 rfl rfl
theorem dX31_put_0 : decode cX31_put 0 = .ok (.aload_n 0, 1) := dk_42 (dk_at dksX31_put_0 0 rfl rfl)
theorem dX31_put_1 : decode cX31_put 1 = .ok (.getfield 9, 3) := dk_180 0 9 (dk_at dksX31_put_0 1 rfl rfl)
theorem dX31_put_4 : decode cX31_put 4 = .ok (.bipush 12, 2) := dk_16 12 (dk_at dksX31_put_0 4 rfl rfl)
theorem dX31_put_6 : decode cX31_put 6 = .ok (.if_icmp .ne 13, 3) := dk_160 0 13 (dk_at dksX31_put_0 6 rfl rfl)
theorem dX31_put_9 : decode cX31_put 9 = .ok (.new 15, 3) := dk_187 0 15 (dk_at dksX31_put_0 9 rfl rfl)
theorem dX31_put_12 : decode cX31_put 12 = .ok (.dup, 1) := dk_89 (dk_at dksX31_put_0 12 rfl rfl)
theorem dX31_put_13 : decode cX31_put 13 = .ok (.bipush 7, 2) := dk_16 7 (dk_at dksX31_put_0 13 rfl rfl)
theorem dX31_put_15 : decode cX31_put 15 = .ok (.invokespecial 17, 3) := dk_183 0 17 (dk_at dksX31_put_0 15 rfl rfl)
theorem dX31_put_18 : decode cX31_put 18 = .ok (.athrow, 1) := dk_191 (dk_at dksX31_put_0 18 rfl rfl)
theorem dX31_put_19 : decode cX31_put 19 = .ok (.aload_n 0, 1) := dk_42 (dk_at dksX31_put_0 19 rfl rfl)
theorem dX31_put_20 : decode cX31_put 20 = .ok (.aload_n 0, 1) := dk_42 (dk_at dksX31_put_0 20 rfl rfl)
theorem dX31_put_21 : decode cX31_put 21 = .ok (.getfield 9, 3) := dk_180 0 9 (dk_at dksX31_put_0 21 rfl rfl)
theorem dX31_put_24 : decode cX31_put 24 = .ok (.lload_n 1, 1) := dk_31 (dk_at dksX31_put_1 0 rfl rfl)
theorem dX31_put_25 : decode cX31_put 25 = .ok (.aload_n 3, 1) := dk_45 (dk_at dksX31_put_1 1 rfl rfl)
theorem dX31_put_26 : decode cX31_put 26 = .ok (.invokevirtual 18, 3) := dk_182 0 18 (dk_at dksX31_put_1 2 rfl rfl)
theorem dX31_put_29 : decode cX31_put 29 = .ok (.aload_n 0, 1) := dk_42 (dk_at dksX31_put_1 5 rfl rfl)
theorem dX31_put_30 : decode cX31_put 30 = .ok (.dup, 1) := dk_89 (dk_at dksX31_put_1 6 rfl rfl)
theorem dX31_put_31 : decode cX31_put 31 = .ok (.getfield 9, 3) := dk_180 0 9 (dk_at dksX31_put_1 7 rfl rfl)
theorem dX31_put_34 : decode cX31_put 34 = .ok (.iconst 1, 1) := dk_4 (dk_at dksX31_put_1 10 rfl rfl)
theorem dX31_put_35 : decode cX31_put 35 = .ok (.iadd, 1) := dk_96 (dk_at dksX31_put_1 11 rfl rfl)
theorem dX31_put_36 : decode cX31_put 36 = .ok (.putfield 9, 3) := dk_181 0 9 (dk_at dksX31_put_1 12 rfl rfl)
theorem dX31_put_39 : decode cX31_put 39 = .ok (.return_, 1) := dk_177 (dk_at dksX31_put_1 15 rfl rfl)
def dkwX31_take_0 : List UInt8 := [42, 89, 180, 0, 9, 4, 100, 181, 0, 9, 42, 180, 0, 9, 172]
abbrev dktX31_take_0 : List UInt8 := dkwX31_take_0 ++ []
theorem dksX31_take_0 : cX31_take.data.toList.drop 0 = dktX31_take_0 := by decide +kernel
theorem dX31_take_0 : decode cX31_take 0 = .ok (.aload_n 0, 1) := dk_42 (dk_at dksX31_take_0 0 rfl rfl)
theorem dX31_take_1 : decode cX31_take 1 = .ok (.dup, 1) := dk_89 (dk_at dksX31_take_0 1 rfl rfl)
theorem dX31_take_2 : decode cX31_take 2 = .ok (.getfield 9, 3) := dk_180 0 9 (dk_at dksX31_take_0 2 rfl rfl)
theorem dX31_take_5 : decode cX31_take 5 = .ok (.iconst 1, 1) := dk_4 (dk_at dksX31_take_0 5 rfl rfl)
theorem dX31_take_6 : decode cX31_take 6 = .ok (.isub, 1) := dk_100 (dk_at dksX31_take_0 6 rfl rfl)
theorem dX31_take_7 : decode cX31_take 7 = .ok (.putfield 9, 3) := dk_181 0 9 (dk_at dksX31_take_0 7 rfl rfl)
theorem dX31_take_10 : decode cX31_take 10 = .ok (.aload_n 0, 1) := dk_42 (dk_at dksX31_take_0 10 rfl rfl)
theorem dX31_take_11 : decode cX31_take 11 = .ok (.getfield 9, 3) := dk_180 0 9 (dk_at dksX31_take_0 11 rfl rfl)
theorem dX31_take_14 : decode cX31_take 14 = .ok (.ireturn, 1) := dk_172 (dk_at dksX31_take_0 14 rfl rfl)
def dkwX32_init_0 : List UInt8 := [42, 1, 1, 3, 3, 183, 0, 1, 42, 27, 181, 0, 7, 177]
abbrev dktX32_init_0 : List UInt8 := dkwX32_init_0 ++ []
theorem dksX32_init_0 : cX32_init.data.toList.drop 0 = dktX32_init_0 := by decide +kernel
theorem dX32_init_0 : decode cX32_init 0 = .ok (.aload_n 0, 1) := dk_42 (dk_at dksX32_init_0 0 rfl rfl)
theorem dX32_init_1 : decode cX32_init 1 = .ok (.aconst_null, 1) := dk_1 (dk_at dksX32_init_0 1 rfl rfl)
theorem dX32_init_2 : decode cX32_init 2 = .ok (.aconst_null, 1) := dk_1 (dk_at dksX32_init_0 2 rfl rfl)
theorem dX32_init_3 : decode cX32_init 3 = .ok (.iconst 0, 1) := dk_3 (dk_at dksX32_init_0 3 rfl rfl)
theorem dX32_init_4 : decode cX32_init 4 = .ok (.iconst 0, 1) := dk_3 (dk_at dksX32_init_0 4 rfl rfl)
theorem dX32_init_5 : decode cX32_init 5 = .ok (.invokespecial 1, 3) := dk_183 0 1 (dk_at dksX32_init_0 5 rfl rfl)
theorem dX32_init_8 : decode cX32_init 8 = .ok (.aload_n 0, 1) := dk_42 (dk_at dksX32_init_0 8 rfl rfl)
theorem dX32_init_9 : decode cX32_init 9 = .ok (.iload_n 1, 1) := dk_27 (dk_at dksX32_init_0 9 rfl rfl)
theorem dX32_init_10 : decode cX32_init 10 = .ok (.putfield 7, 3) := dk_181 0 7 (dk_at dksX32_init_0 10 rfl rfl)
theorem dX32_init_13 : decode cX32_init 13 = .ok (.return_, 1) := dk_177 (dk_at dksX32_init_0 13 rfl rfl)
def dkwX4_init_0 : List UInt8 := [42, 43, 181, 0, 1, 42, 43, 28, 183, 0, 7, 177]
abbrev dktX4_init_0 : List UInt8 := dkwX4_init_0 ++ []
theorem dksX4_init_0 : cX4_init.data.toList.drop 0 = dktX4_init_0 := by decide +kernel
theorem dX4_init_0 : decode cX4_init 0 = .ok (.aload_n 0, 1) := dk_42 (dk_at dksX4_init_0 0 rfl rfl)
theorem dX4_init_1 : decode cX4_init 1 = .ok (.aload_n 1, 1) := dk_43 (dk_at dksX4_init_0 1 rfl rfl)
theorem dX4_init_2 : decode cX4_init 2 = .ok (.putfield 1, 3) := dk_181 0 1 (dk_at dksX4_init_0 2 rfl rfl)
theorem dX4_init_5 : decode cX4_init 5 = .ok (.aload_n 0, 1) := dk_42 (dk_at dksX4_init_0 5 rfl rfl)
theorem dX4_init_6 : decode cX4_init 6 = .ok (.aload_n 1, 1) := dk_43 (dk_at dksX4_init_0 6 rfl rfl)
theorem dX4_init_7 : decode cX4_init 7 = .ok (.iload_n 2, 1) := dk_28 (dk_at dksX4_init_0 7 rfl rfl)
theorem dX4_init_8 : decode cX4_init 8 = .ok (.invokespecial 7, 3) := dk_183 0 7 (dk_at dksX4_init_0 8 rfl rfl)
theorem dX4_init_11 : decode cX4_init 11 = .ok (.return_, 1) := dk_177 (dk_at dksX4_init_0 11 rfl rfl)
def dkwX4_does_0 : List UInt8 := [43, 180, 0, 13, 28, 43, 182, 0, 19, 182, 0, 23, 177]
abbrev dktX4_does_0 : List UInt8 := dkwX4_does_0 ++ []
theorem dksX4_does_0 : cX4_does.data.toList.drop 0 = dktX4_does_0 := by decide +kernel
theorem dX4_does_0 : decode cX4_does 0 = .ok (.aload_n 1, 1) := dk_43 (dk_at dksX4_does_0 0 rfl rfl)
theorem dX4_does_1 : decode cX4_does 1 = .ok (.getfield 13, 3) := dk_180 0 13 (dk_at dksX4_does_0 1 rfl rfl)
theorem dX4_does_4 : decode cX4_does 4 = .ok (.iload_n 2, 1) := dk_28 (dk_at dksX4_does_0 4 rfl rfl)
theorem dX4_does_5 : decode cX4_does 5 = .ok (.aload_n 1, 1) := dk_43 (dk_at dksX4_does_0 5 rfl rfl)
theorem dX4_does_6 : decode cX4_does 6 = .ok (.invokevirtual 19, 3) := dk_182 0 19 (dk_at dksX4_does_0 6 rfl rfl)
theorem dX4_does_9 : decode cX4_does 9 = .ok (.invokevirtual 23, 3) := dk_182 0 23 (dk_at dksX4_does_0 9 rfl rfl)
theorem dX4_does_12 : decode cX4_does 12 = .ok (.return_, 1) := dk_177 (dk_at dksX4_does_0 12 rfl rfl)
def dkwX5_init_0 : List UInt8 := [42, 43, 181, 0, 1, 42, 43, 28, 183, 0, 7, 177]
abbrev dktX5_init_0 : List UInt8 := dkwX5_init_0 ++ []
theorem dksX5_init_0 : cX5_init.data.toList.drop 0 = dktX5_init_0 := by decide +kernel
theorem dX5_init_0 : decode cX5_init 0 = .ok (.aload_n 0, 1) := dk_42 (dk_at dksX5_init_0 0 rfl rfl)
theorem dX5_init_1 : decode cX5_init 1 = .ok (.aload_n 1, 1) := dk_43 (dk_at dksX5_init_0 1 rfl rfl)
theorem dX5_init_2 : decode cX5_init 2 = .ok (.putfield 1, 3) := dk_181 0 1 (dk_at dksX5_init_0 2 rfl rfl)
theorem dX5_init_5 : decode cX5_init 5 = .ok (.aload_n 0, 1) := dk_42 (dk_at dksX5_init_0 5 rfl rfl)
theorem dX5_init_6 : decode cX5_init 6 = .ok (.aload_n 1, 1) := dk_43 (dk_at dksX5_init_0 6 rfl rfl)
theorem dX5_init_7 : decode cX5_init 7 = .ok (.iload_n 2, 1) := dk_28 (dk_at dksX5_init_0 7 rfl rfl)
theorem dX5_init_8 : decode cX5_init 8 = .ok (.invokespecial 7, 3) := dk_183 0 7 (dk_at dksX5_init_0 8 rfl rfl)
theorem dX5_init_11 : decode cX5_init 11 = .ok (.return_, 1) := dk_177 (dk_at dksX5_init_0 11 rfl rfl)
def dkwX5_does_0 : List UInt8 := [43, 43, 180, 0, 13, 43, 182, 0, 19, 184, 0, 23, 184, 0, 29, 182, 0, 35, 177]
abbrev dktX5_does_0 : List UInt8 := dkwX5_does_0 ++ []
theorem dksX5_does_0 : cX5_does.data.toList.drop 0 = dktX5_does_0 := by decide +kernel
theorem dX5_does_0 : decode cX5_does 0 = .ok (.aload_n 1, 1) := dk_43 (dk_at dksX5_does_0 0 rfl rfl)
theorem dX5_does_1 : decode cX5_does 1 = .ok (.aload_n 1, 1) := dk_43 (dk_at dksX5_does_0 1 rfl rfl)
theorem dX5_does_2 : decode cX5_does 2 = .ok (.getfield 13, 3) := dk_180 0 13 (dk_at dksX5_does_0 2 rfl rfl)
theorem dX5_does_5 : decode cX5_does 5 = .ok (.aload_n 1, 1) := dk_43 (dk_at dksX5_does_0 5 rfl rfl)
theorem dX5_does_6 : decode cX5_does 6 = .ok (.invokevirtual 19, 3) := dk_182 0 19 (dk_at dksX5_does_0 6 rfl rfl)
theorem dX5_does_9 : decode cX5_does 9 = .ok (.invokestatic 23, 3) := dk_184 0 23 (dk_at dksX5_does_0 9 rfl rfl)
theorem dX5_does_12 : decode cX5_does 12 = .ok (.invokestatic 29, 3) := dk_184 0 29 (dk_at dksX5_does_0 12 rfl rfl)
theorem dX5_does_15 : decode cX5_does 15 = .ok (.invokevirtual 35, 3) := dk_182 0 35 (dk_at dksX5_does_0 15 rfl rfl)
theorem dX5_does_18 : decode cX5_does 18 = .ok (.return_, 1) := dk_177 (dk_at dksX5_does_0 18 rfl rfl)
def dkwX6_init_0 : List UInt8 := [42, 43, 181, 0, 1, 42, 43, 28, 183, 0, 7, 177]
abbrev dktX6_init_0 : List UInt8 := dkwX6_init_0 ++ []
theorem dksX6_init_0 : cX6_init.data.toList.drop 0 = dktX6_init_0 := by decide +kernel
theorem dX6_init_0 : decode cX6_init 0 = .ok (.aload_n 0, 1) := dk_42 (dk_at dksX6_init_0 0 rfl rfl)
theorem dX6_init_1 : decode cX6_init 1 = .ok (.aload_n 1, 1) := dk_43 (dk_at dksX6_init_0 1 rfl rfl)
theorem dX6_init_2 : decode cX6_init 2 = .ok (.putfield 1, 3) := dk_181 0 1 (dk_at dksX6_init_0 2 rfl rfl)
theorem dX6_init_5 : decode cX6_init 5 = .ok (.aload_n 0, 1) := dk_42 (dk_at dksX6_init_0 5 rfl rfl)
theorem dX6_init_6 : decode cX6_init 6 = .ok (.aload_n 1, 1) := dk_43 (dk_at dksX6_init_0 6 rfl rfl)
theorem dX6_init_7 : decode cX6_init 7 = .ok (.iload_n 2, 1) := dk_28 (dk_at dksX6_init_0 7 rfl rfl)
theorem dX6_init_8 : decode cX6_init 8 = .ok (.invokespecial 7, 3) := dk_183 0 7 (dk_at dksX6_init_0 8 rfl rfl)
theorem dX6_init_11 : decode cX6_init 11 = .ok (.return_, 1) := dk_177 (dk_at dksX6_init_0 11 rfl rfl)
def dkwX6_does_2 : List UInt8 := [182, 0, 39, 177]
abbrev dktX6_does_2 : List UInt8 := dkwX6_does_2 ++ []
def dkwX6_does_1 : List UInt8 := [182, 0, 25, 55, 5, 43, 180, 0, 29, 43, 180, 0, 13, 21, 4, 182, 0, 25, 184, 0, 33, 22, 5]
abbrev dktX6_does_1 : List UInt8 := dkwX6_does_1 ++ dktX6_does_2
def dkwX6_does_0 : List UInt8 := [43, 180, 0, 13, 182, 0, 19, 62, 43, 180, 0, 13, 182, 0, 19, 54, 4, 43, 180, 0, 13, 29]
abbrev dktX6_does_0 : List UInt8 := dkwX6_does_0 ++ dktX6_does_1
theorem dksX6_does_0 : cX6_does.data.toList.drop 0 = dktX6_does_0 := by decide +kernel
theorem dksX6_does_1 : cX6_does.data.toList.drop 22 = dktX6_does_1 := dk_seg dksX6_does_0 22 rfl rfl
theorem dksX6_does_2 : cX6_does.data.toList.drop 45 = dktX6_does_2 := dk_seg dksX6_does_1 23 rfl rfl
theorem dX6_does_0 : decode cX6_does 0 = .ok (.aload_n 1, 1) := dk_43 (dk_at dksX6_does_0 0 rfl rfl)
theorem dX6_does_1 : decode cX6_does 1 = .ok (.getfield 13, 3) := dk_180 0 13 (dk_at dksX6_does_0 1 rfl rfl)
theorem dX6_does_4 : decode cX6_does 4 = .ok (.invokevirtual 19, 3) := dk_182 0 19 (dk_at dksX6_does_0 4 rfl rfl)
theorem dX6_does_7 : decode cX6_does 7 = .ok (.istore_n 3, 1) := dk_62 (dk_at dksX6_does_0 7 rfl rfl)
theorem dX6_does_8 : decode cX6_does 8 = .ok (.aload_n 1, 1) := dk_43 (dk_at dksX6_does_0 8 rfl rfl)
theorem dX6_does_9 : decode cX6_does 9 = .ok (.getfield 13, 3) := dk_180 0 13 (dk_at dksX6_does_0 9 rfl rfl)
theorem dX6_does_12 : decode cX6_does 12 = .ok (.invokevirtual 19, 3) := dk_182 0 19 (dk_at dksX6_does_0 12 rfl rfl)
theorem dX6_does_15 : decode cX6_does 15 = .ok (.istore 4, 2) := dk_54 4 (dk_at dksX6_does_0 15 rfl rfl)
theorem dX6_does_17 : decode cX6_does 17 = .ok (.aload_n 1, 1) := dk_43 (dk_at dksX6_does_0 17 rfl rfl)
theorem dX6_does_18 : decode cX6_does 18 = .ok (.getfield 13, 3) := dk_180 0 13 (dk_at dksX6_does_0 18 rfl rfl)
theorem dX6_does_21 : decode cX6_does 21 = .ok (.iload_n 3, 1) := dk_29 (dk_at dksX6_does_0 21 rfl rfl)
theorem dX6_does_22 : decode cX6_does 22 = .ok (.invokevirtual 25, 3) := dk_182 0 25 (dk_at dksX6_does_1 0 rfl rfl)
theorem dX6_does_25 : decode cX6_does 25 = .ok (.lstore 5, 2) := dk_55 5 (dk_at dksX6_does_1 3 rfl rfl)
theorem dX6_does_27 : decode cX6_does 27 = .ok (.aload_n 1, 1) := dk_43 (dk_at dksX6_does_1 5 rfl rfl)
theorem dX6_does_28 : decode cX6_does 28 = .ok (.getfield 29, 3) := dk_180 0 29 (dk_at dksX6_does_1 6 rfl rfl)
theorem dX6_does_31 : decode cX6_does 31 = .ok (.aload_n 1, 1) := dk_43 (dk_at dksX6_does_1 9 rfl rfl)
theorem dX6_does_32 : decode cX6_does 32 = .ok (.getfield 13, 3) := dk_180 0 13 (dk_at dksX6_does_1 10 rfl rfl)
theorem dX6_does_35 : decode cX6_does 35 = .ok (.iload 4, 2) := dk_21 4 (dk_at dksX6_does_1 13 rfl rfl)
theorem dX6_does_37 : decode cX6_does 37 = .ok (.invokevirtual 25, 3) := dk_182 0 25 (dk_at dksX6_does_1 15 rfl rfl)
theorem dX6_does_40 : decode cX6_does 40 = .ok (.invokestatic 33, 3) := dk_184 0 33 (dk_at dksX6_does_1 18 rfl rfl)
theorem dX6_does_43 : decode cX6_does 43 = .ok (.lload 5, 2) := dk_22 5 (dk_at dksX6_does_1 21 rfl rfl)
theorem dX6_does_45 : decode cX6_does 45 = .ok (.invokevirtual 39, 3) := dk_182 0 39 (dk_at dksX6_does_2 0 rfl rfl)
theorem dX6_does_48 : decode cX6_does 48 = .ok (.return_, 1) := dk_177 (dk_at dksX6_does_2 3 rfl rfl)
def dkwX7_init_0 : List UInt8 := [42, 43, 181, 0, 1, 42, 43, 5, 183, 0, 7, 177]
abbrev dktX7_init_0 : List UInt8 := dkwX7_init_0 ++ []
theorem dksX7_init_0 : cX7_init.data.toList.drop 0 = dktX7_init_0 := by decide +kernel
theorem dX7_init_0 : decode cX7_init 0 = .ok (.aload_n 0, 1) := dk_42 (dk_at dksX7_init_0 0 rfl rfl)
theorem dX7_init_1 : decode cX7_init 1 = .ok (.aload_n 1, 1) := dk_43 (dk_at dksX7_init_0 1 rfl rfl)
theorem dX7_init_2 : decode cX7_init 2 = .ok (.putfield 1, 3) := dk_181 0 1 (dk_at dksX7_init_0 2 rfl rfl)
theorem dX7_init_5 : decode cX7_init 5 = .ok (.aload_n 0, 1) := dk_42 (dk_at dksX7_init_0 5 rfl rfl)
theorem dX7_init_6 : decode cX7_init 6 = .ok (.aload_n 1, 1) := dk_43 (dk_at dksX7_init_0 6 rfl rfl)
theorem dX7_init_7 : decode cX7_init 7 = .ok (.iconst 2, 1) := dk_5 (dk_at dksX7_init_0 7 rfl rfl)
theorem dX7_init_8 : decode cX7_init 8 = .ok (.invokespecial 7, 3) := dk_183 0 7 (dk_at dksX7_init_0 8 rfl rfl)
theorem dX7_init_11 : decode cX7_init 11 = .ok (.return_, 1) := dk_177 (dk_at dksX7_init_0 11 rfl rfl)
def dkwX7_does_2 : List UInt8 := [177]
abbrev dktX7_does_2 : List UInt8 := dkwX7_does_2 ++ []
def dkwX7_does_1 : List UInt8 := [182, 0, 25, 55, 5, 43, 42, 43, 180, 0, 13, 21, 4, 182, 0, 25, 22, 5, 182, 0, 29, 182, 0, 33]
abbrev dktX7_does_1 : List UInt8 := dkwX7_does_1 ++ dktX7_does_2
def dkwX7_does_0 : List UInt8 := [43, 180, 0, 13, 182, 0, 19, 62, 43, 180, 0, 13, 182, 0, 19, 54, 4, 43, 180, 0, 13, 29]
abbrev dktX7_does_0 : List UInt8 := dkwX7_does_0 ++ dktX7_does_1
theorem dksX7_does_0 : cX7_does.data.toList.drop 0 = dktX7_does_0 := by decide +kernel
theorem dksX7_does_1 : cX7_does.data.toList.drop 22 = dktX7_does_1 := dk_seg dksX7_does_0 22 rfl rfl
theorem dksX7_does_2 : cX7_does.data.toList.drop 46 = dktX7_does_2 := dk_seg dksX7_does_1 24 rfl rfl
theorem dX7_does_0 : decode cX7_does 0 = .ok (.aload_n 1, 1) := dk_43 (dk_at dksX7_does_0 0 rfl rfl)
theorem dX7_does_1 : decode cX7_does 1 = .ok (.getfield 13, 3) := dk_180 0 13 (dk_at dksX7_does_0 1 rfl rfl)
theorem dX7_does_4 : decode cX7_does 4 = .ok (.invokevirtual 19, 3) := dk_182 0 19 (dk_at dksX7_does_0 4 rfl rfl)
theorem dX7_does_7 : decode cX7_does 7 = .ok (.istore_n 3, 1) := dk_62 (dk_at dksX7_does_0 7 rfl rfl)
theorem dX7_does_8 : decode cX7_does 8 = .ok (.aload_n 1, 1) := dk_43 (dk_at dksX7_does_0 8 rfl rfl)
theorem dX7_does_9 : decode cX7_does 9 = .ok (.getfield 13, 3) := dk_180 0 13 (dk_at dksX7_does_0 9 rfl rfl)
theorem dX7_does_12 : decode cX7_does 12 = .ok (.invokevirtual 19, 3) := dk_182 0 19 (dk_at dksX7_does_0 12 rfl rfl)
theorem dX7_does_15 : decode cX7_does 15 = .ok (.istore 4, 2) := dk_54 4 (dk_at dksX7_does_0 15 rfl rfl)
theorem dX7_does_17 : decode cX7_does 17 = .ok (.aload_n 1, 1) := dk_43 (dk_at dksX7_does_0 17 rfl rfl)
theorem dX7_does_18 : decode cX7_does 18 = .ok (.getfield 13, 3) := dk_180 0 13 (dk_at dksX7_does_0 18 rfl rfl)
theorem dX7_does_21 : decode cX7_does 21 = .ok (.iload_n 3, 1) := dk_29 (dk_at dksX7_does_0 21 rfl rfl)
theorem dX7_does_22 : decode cX7_does 22 = .ok (.invokevirtual 25, 3) := dk_182 0 25 (dk_at dksX7_does_1 0 rfl rfl)
theorem dX7_does_25 : decode cX7_does 25 = .ok (.lstore 5, 2) := dk_55 5 (dk_at dksX7_does_1 3 rfl rfl)
theorem dX7_does_27 : decode cX7_does 27 = .ok (.aload_n 1, 1) := dk_43 (dk_at dksX7_does_1 5 rfl rfl)
theorem dX7_does_28 : decode cX7_does 28 = .ok (.aload_n 0, 1) := dk_42 (dk_at dksX7_does_1 6 rfl rfl)
theorem dX7_does_29 : decode cX7_does 29 = .ok (.aload_n 1, 1) := dk_43 (dk_at dksX7_does_1 7 rfl rfl)
theorem dX7_does_30 : decode cX7_does 30 = .ok (.getfield 13, 3) := dk_180 0 13 (dk_at dksX7_does_1 8 rfl rfl)
theorem dX7_does_33 : decode cX7_does 33 = .ok (.iload 4, 2) := dk_21 4 (dk_at dksX7_does_1 11 rfl rfl)
theorem dX7_does_35 : decode cX7_does 35 = .ok (.invokevirtual 25, 3) := dk_182 0 25 (dk_at dksX7_does_1 13 rfl rfl)
theorem dX7_does_38 : decode cX7_does 38 = .ok (.lload 5, 2) := dk_22 5 (dk_at dksX7_does_1 16 rfl rfl)
theorem dX7_does_40 : decode cX7_does 40 = .ok (.invokevirtual 29, 3) := dk_182 0 29 (dk_at dksX7_does_1 18 rfl rfl)
theorem dX7_does_43 : decode cX7_does 43 = .ok (.invokevirtual 33, 3) := dk_182 0 33 (dk_at dksX7_does_1 21 rfl rfl)
theorem dX7_does_46 : decode cX7_does 46 = .ok (.return_, 1) := dk_177 (dk_at dksX7_does_2 0 rfl rfl)
def dkwX8_init_0 : List UInt8 := [42, 43, 181, 0, 1, 42, 43, 183, 0, 7, 177]
abbrev dktX8_init_0 : List UInt8 := dkwX8_init_0 ++ []
theorem dksX8_init_0 : cX8_init.data.toList.drop 0 = dktX8_init_0 := by decide +kernel
theorem dX8_init_0 : decode cX8_init 0 = .ok (.aload_n 0, 1) := dk_42 (dk_at dksX8_init_0 0 rfl rfl)
theorem dX8_init_1 : decode cX8_init 1 = .ok (.aload_n 1, 1) := dk_43 (dk_at dksX8_init_0 1 rfl rfl)
theorem dX8_init_2 : decode cX8_init 2 = .ok (.putfield 1, 3) := dk_181 0 1 (dk_at dksX8_init_0 2 rfl rfl)
theorem dX8_init_5 : decode cX8_init 5 = .ok (.aload_n 0, 1) := dk_42 (dk_at dksX8_init_0 5 rfl rfl)
theorem dX8_init_6 : decode cX8_init 6 = .ok (.aload_n 1, 1) := dk_43 (dk_at dksX8_init_0 6 rfl rfl)
theorem dX8_init_7 : decode cX8_init 7 = .ok (.invokespecial 7, 3) := dk_183 0 7 (dk_at dksX8_init_0 7 rfl rfl)
theorem dX8_init_10 : decode cX8_init 10 = .ok (.return_, 1) := dk_177 (dk_at dksX8_init_0 10 rfl rfl)
def dkwX8_of_0 : List UInt8 := [31, 33, 97, 173]
abbrev dktX8_of_0 : List UInt8 := dkwX8_of_0 ++ []
theorem dksX8_of_0 : cX8_of.data.toList.drop 0 = dktX8_of_0 := by decide +kernel
theorem dX8_of_0 : decode cX8_of 0 = .ok (.lload_n 1, 1) := dk_31 (dk_at dksX8_of_0 0 rfl rfl)
theorem dX8_of_1 : decode cX8_of 1 = .ok (.lload_n 3, 1) := dk_33 (dk_at dksX8_of_0 1 rfl rfl)
theorem dX8_of_2 : decode cX8_of 2 = .ok (.ladd, 1) := dk_97 (dk_at dksX8_of_0 2 rfl rfl)
theorem dX8_of_3 : decode cX8_of 3 = .ok (.lreturn, 1) := dk_173 (dk_at dksX8_of_0 3 rfl rfl)
def dkwX9_init_0 : List UInt8 := [42, 43, 181, 0, 1, 42, 43, 183, 0, 7, 177]
abbrev dktX9_init_0 : List UInt8 := dkwX9_init_0 ++ []
theorem dksX9_init_0 : cX9_init.data.toList.drop 0 = dktX9_init_0 := by decide +kernel
theorem dX9_init_0 : decode cX9_init 0 = .ok (.aload_n 0, 1) := dk_42 (dk_at dksX9_init_0 0 rfl rfl)
theorem dX9_init_1 : decode cX9_init 1 = .ok (.aload_n 1, 1) := dk_43 (dk_at dksX9_init_0 1 rfl rfl)
theorem dX9_init_2 : decode cX9_init 2 = .ok (.putfield 1, 3) := dk_181 0 1 (dk_at dksX9_init_0 2 rfl rfl)
theorem dX9_init_5 : decode cX9_init 5 = .ok (.aload_n 0, 1) := dk_42 (dk_at dksX9_init_0 5 rfl rfl)
theorem dX9_init_6 : decode cX9_init 6 = .ok (.aload_n 1, 1) := dk_43 (dk_at dksX9_init_0 6 rfl rfl)
theorem dX9_init_7 : decode cX9_init 7 = .ok (.invokespecial 7, 3) := dk_183 0 7 (dk_at dksX9_init_0 7 rfl rfl)
theorem dX9_init_10 : decode cX9_init 10 = .ok (.return_, 1) := dk_177 (dk_at dksX9_init_0 10 rfl rfl)
def dkwX9_of_0 : List UInt8 := [31, 33, 101, 173]
abbrev dktX9_of_0 : List UInt8 := dkwX9_of_0 ++ []
theorem dksX9_of_0 : cX9_of.data.toList.drop 0 = dktX9_of_0 := by decide +kernel
theorem dX9_of_0 : decode cX9_of 0 = .ok (.lload_n 1, 1) := dk_31 (dk_at dksX9_of_0 0 rfl rfl)
theorem dX9_of_1 : decode cX9_of 1 = .ok (.lload_n 3, 1) := dk_33 (dk_at dksX9_of_0 1 rfl rfl)
theorem dX9_of_2 : decode cX9_of 2 = .ok (.lsub, 1) := dk_101 (dk_at dksX9_of_0 2 rfl rfl)
theorem dX9_of_3 : decode cX9_of 3 = .ok (.lreturn, 1) := dk_173 (dk_at dksX9_of_0 3 rfl rfl)
