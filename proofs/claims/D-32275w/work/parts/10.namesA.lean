/-! DECODE ROWS BY BYTES: one lemma an opcode; a method's code is cut into short pieces once, and a row reads its own piece alone. -/
set_option maxRecDepth 100000
/-- the code has just these bytes from pc on -/
def DkAt (code : ByteArray) (pc : Nat) (bs : List UInt8) : Prop := ∀ (j : Nat) (b : UInt8), bs[j]? = some b → code.data.toList[pc + j]? = some b
/-- the piece W has the bytes bs from its place j on -/
def dkIn (W : List UInt8) (j : Nat) (bs : List UInt8) : Bool := decide ((W.drop j).take bs.length = bs)
theorem dk_seg {l W T : List UInt8} {o o2 : Nat} (h : l.drop o = W ++ T) (n : Nat) (hn : W.length = n) (ho : o + n = o2) : l.drop o2 = T := by
  subst ho
  rw [← List.drop_drop, h, List.drop_left' hn]
theorem dk_at {code : ByteArray} {W T bs : List UInt8} {o pc : Nat} (h : code.data.toList.drop o = W ++ T) (j : Nat) (hp : o + j = pc) (hw : dkIn W j bs = true) : DkAt code pc bs := by
  subst hp
  intro i b e
  have h1 := of_decide_eq_true hw
  have h2 : i < bs.length := (List.getElem?_eq_some_iff.mp e).1
  have h3 : W[j + i]? = some b := by
    rw [← h1, List.getElem?_take, if_pos h2, List.getElem?_drop] at e
    exact e
  have h4 : j + i < W.length := (List.getElem?_eq_some_iff.mp h3).1
  have h5 : (code.data.toList.drop o)[j + i]? = some b := by
    rw [h, List.getElem?_append_left h4]
    exact h3
  rw [List.getElem?_drop, ← Nat.add_assoc] at h5
  exact h5
theorem dk_u1 {A : ByteArray} {p : Nat} {b : UInt8} (h : A.data.toList[p]? = some b) : (Reader.u1 : Reader DecodeError Nat) A p = .ok (b.toNat, p + 1) := by
  obtain ⟨h1, h2⟩ := List.getElem?_eq_some_iff.mp h
  have h3 : p < A.size := by simpa using h1
  have h4 : A[p]'h3 = b := h2
  have e : (Reader.u1 : Reader DecodeError Nat) A p = (if h : p < A.size then .ok (A[p].toNat, p + 1) else .error (HasTruncated.truncated p)) := by
    show (do if h : p < A.size then do set (p + 1); Pure.pure A[p].toNat else MonadExcept.throw (HasTruncated.truncated p) : Reader DecodeError Nat) A p = _
    by_cases hi : p < A.size
    · rw [dif_pos hi, dif_pos hi]; rfl
    · rw [dif_neg hi, dif_neg hi]; rfl
  rw [e, dif_pos h3, h4]
theorem dk_bind {α β : Type} {r : Reader DecodeError α} {f : α → Reader DecodeError β} {A : ByteArray} {p s : Nat} {a : α} (h : r A p = .ok (a, s)) : (r >>= f) A p = f a A s := by
  show (do let (a, s) ← r A p; f a A s : Except DecodeError (β × Nat)) = _
  rw [h]
  rfl
theorem dk_map {α β : Type} {r : Reader DecodeError α} {g : α → β} {A : ByteArray} {p s : Nat} {a : α} (h : r A p = .ok (a, s)) : (g <$> r) A p = .ok (g a, s) := by
  show (do let (a, s) ← r A p; .ok (g a, s) : Except DecodeError (β × Nat)) = _
  rw [h]
  rfl
theorem dk_u2 {A : ByteArray} {p : Nat} {a b : UInt8} (h : A.data.toList[p]? = some a) (h2 : A.data.toList[p + 1]? = some b) : (Reader.u2 : Reader DecodeError Nat) A p = .ok (a.toNat * 256 + b.toNat, p + 2) := by
  show (Reader.u1 >>= fun hi => Reader.u1 >>= fun lo => Pure.pure (hi * 256 + lo) : Reader DecodeError Nat) A p = _
  rw [dk_bind (dk_u1 h), dk_bind (dk_u1 h2)]
  rfl
theorem dk_of {code : ByteArray} {pc n : Nat} {i : Instr} (h : Decoder.instr pc code pc = .ok (i, pc + n)) : decode code pc = .ok (i, n) := by
  have e : decode code pc = (match Decoder.instr pc code pc with | .error x => .error x | .ok (j, s) => .ok (j, s - pc)) := by
    show (do let (j, s) ← Decoder.instr pc code pc; Pure.pure (j, s - pc) : Except DecodeError (Instr × Nat)) = _
    cases Decoder.instr pc code pc <;> rfl
  rw [e, h]
  show Except.ok (i, pc + n - pc) = _
  rw [Nat.add_sub_cancel_left]
theorem dk_1 {code : ByteArray} {pc : Nat} (h : DkAt code pc [1]) : decode code pc = .ok (.aconst_null, 1) := dk_of ((dk_bind (dk_u1 (h 0 _ rfl))).trans rfl)
theorem dk_2 {code : ByteArray} {pc : Nat} (h : DkAt code pc [2]) : decode code pc = .ok (.iconst (-1), 1) := dk_of ((dk_bind (dk_u1 (h 0 _ rfl))).trans rfl)
theorem dk_3 {code : ByteArray} {pc : Nat} (h : DkAt code pc [3]) : decode code pc = .ok (.iconst 0, 1) := dk_of ((dk_bind (dk_u1 (h 0 _ rfl))).trans rfl)
theorem dk_4 {code : ByteArray} {pc : Nat} (h : DkAt code pc [4]) : decode code pc = .ok (.iconst 1, 1) := dk_of ((dk_bind (dk_u1 (h 0 _ rfl))).trans rfl)
theorem dk_5 {code : ByteArray} {pc : Nat} (h : DkAt code pc [5]) : decode code pc = .ok (.iconst 2, 1) := dk_of ((dk_bind (dk_u1 (h 0 _ rfl))).trans rfl)
theorem dk_6 {code : ByteArray} {pc : Nat} (h : DkAt code pc [6]) : decode code pc = .ok (.iconst 3, 1) := dk_of ((dk_bind (dk_u1 (h 0 _ rfl))).trans rfl)
theorem dk_7 {code : ByteArray} {pc : Nat} (h : DkAt code pc [7]) : decode code pc = .ok (.iconst 4, 1) := dk_of ((dk_bind (dk_u1 (h 0 _ rfl))).trans rfl)
theorem dk_8 {code : ByteArray} {pc : Nat} (h : DkAt code pc [8]) : decode code pc = .ok (.iconst 5, 1) := dk_of ((dk_bind (dk_u1 (h 0 _ rfl))).trans rfl)
theorem dk_9 {code : ByteArray} {pc : Nat} (h : DkAt code pc [9]) : decode code pc = .ok (.lconst 0, 1) := dk_of ((dk_bind (dk_u1 (h 0 _ rfl))).trans rfl)
theorem dk_10 {code : ByteArray} {pc : Nat} (h : DkAt code pc [10]) : decode code pc = .ok (.lconst 1, 1) := dk_of ((dk_bind (dk_u1 (h 0 _ rfl))).trans rfl)
theorem dk_11 {code : ByteArray} {pc : Nat} (h : DkAt code pc [11]) : decode code pc = .ok (.fconst 0, 1) := dk_of ((dk_bind (dk_u1 (h 0 _ rfl))).trans rfl)
theorem dk_14 {code : ByteArray} {pc : Nat} (h : DkAt code pc [14]) : decode code pc = .ok (.dconst 0, 1) := dk_of ((dk_bind (dk_u1 (h 0 _ rfl))).trans rfl)
theorem dk_16 {code : ByteArray} {pc : Nat} (a : UInt8) (h : DkAt code pc [16, a]) : decode code pc = .ok (.bipush (Reader.signed 8 a.toNat), 2) := dk_of ((dk_bind (dk_u1 (h 0 _ rfl))).trans ((dk_bind (dk_map (dk_u1 (h 1 _ rfl)))).trans rfl))
theorem dk_17 {code : ByteArray} {pc : Nat} (a b : UInt8) (h : DkAt code pc [17, a, b]) : decode code pc = .ok (.sipush (Reader.signed 16 (a.toNat * 256 + b.toNat)), 3) := dk_of ((dk_bind (dk_u1 (h 0 _ rfl))).trans ((dk_bind (dk_map (dk_u2 (h 1 _ rfl) (h 2 _ rfl)))).trans rfl))
theorem dk_18 {code : ByteArray} {pc : Nat} (a : UInt8) (h : DkAt code pc [18, a]) : decode code pc = .ok (.ldc a.toNat, 2) := dk_of ((dk_bind (dk_u1 (h 0 _ rfl))).trans ((dk_bind (dk_u1 (h 1 _ rfl))).trans rfl))
theorem dk_19 {code : ByteArray} {pc : Nat} (a b : UInt8) (h : DkAt code pc [19, a, b]) : decode code pc = .ok (.ldc_w (a.toNat * 256 + b.toNat), 3) := dk_of ((dk_bind (dk_u1 (h 0 _ rfl))).trans ((dk_bind (dk_u2 (h 1 _ rfl) (h 2 _ rfl))).trans rfl))
theorem dk_20 {code : ByteArray} {pc : Nat} (a b : UInt8) (h : DkAt code pc [20, a, b]) : decode code pc = .ok (.ldc2_w (a.toNat * 256 + b.toNat), 3) := dk_of ((dk_bind (dk_u1 (h 0 _ rfl))).trans ((dk_bind (dk_u2 (h 1 _ rfl) (h 2 _ rfl))).trans rfl))
theorem dk_21 {code : ByteArray} {pc : Nat} (a : UInt8) (h : DkAt code pc [21, a]) : decode code pc = .ok (.iload a.toNat, 2) := dk_of ((dk_bind (dk_u1 (h 0 _ rfl))).trans ((dk_bind (dk_u1 (h 1 _ rfl))).trans rfl))
theorem dk_22 {code : ByteArray} {pc : Nat} (a : UInt8) (h : DkAt code pc [22, a]) : decode code pc = .ok (.lload a.toNat, 2) := dk_of ((dk_bind (dk_u1 (h 0 _ rfl))).trans ((dk_bind (dk_u1 (h 1 _ rfl))).trans rfl))
theorem dk_24 {code : ByteArray} {pc : Nat} (a : UInt8) (h : DkAt code pc [24, a]) : decode code pc = .ok (.dload a.toNat, 2) := dk_of ((dk_bind (dk_u1 (h 0 _ rfl))).trans ((dk_bind (dk_u1 (h 1 _ rfl))).trans rfl))
theorem dk_25 {code : ByteArray} {pc : Nat} (a : UInt8) (h : DkAt code pc [25, a]) : decode code pc = .ok (.aload a.toNat, 2) := dk_of ((dk_bind (dk_u1 (h 0 _ rfl))).trans ((dk_bind (dk_u1 (h 1 _ rfl))).trans rfl))
theorem dk_26 {code : ByteArray} {pc : Nat} (h : DkAt code pc [26]) : decode code pc = .ok (.iload_n 0, 1) := dk_of ((dk_bind (dk_u1 (h 0 _ rfl))).trans rfl)
theorem dk_27 {code : ByteArray} {pc : Nat} (h : DkAt code pc [27]) : decode code pc = .ok (.iload_n 1, 1) := dk_of ((dk_bind (dk_u1 (h 0 _ rfl))).trans rfl)
theorem dk_28 {code : ByteArray} {pc : Nat} (h : DkAt code pc [28]) : decode code pc = .ok (.iload_n 2, 1) := dk_of ((dk_bind (dk_u1 (h 0 _ rfl))).trans rfl)
theorem dk_29 {code : ByteArray} {pc : Nat} (h : DkAt code pc [29]) : decode code pc = .ok (.iload_n 3, 1) := dk_of ((dk_bind (dk_u1 (h 0 _ rfl))).trans rfl)
theorem dk_30 {code : ByteArray} {pc : Nat} (h : DkAt code pc [30]) : decode code pc = .ok (.lload_n 0, 1) := dk_of ((dk_bind (dk_u1 (h 0 _ rfl))).trans rfl)
theorem dk_31 {code : ByteArray} {pc : Nat} (h : DkAt code pc [31]) : decode code pc = .ok (.lload_n 1, 1) := dk_of ((dk_bind (dk_u1 (h 0 _ rfl))).trans rfl)
theorem dk_32 {code : ByteArray} {pc : Nat} (h : DkAt code pc [32]) : decode code pc = .ok (.lload_n 2, 1) := dk_of ((dk_bind (dk_u1 (h 0 _ rfl))).trans rfl)
theorem dk_33 {code : ByteArray} {pc : Nat} (h : DkAt code pc [33]) : decode code pc = .ok (.lload_n 3, 1) := dk_of ((dk_bind (dk_u1 (h 0 _ rfl))).trans rfl)
theorem dk_42 {code : ByteArray} {pc : Nat} (h : DkAt code pc [42]) : decode code pc = .ok (.aload_n 0, 1) := dk_of ((dk_bind (dk_u1 (h 0 _ rfl))).trans rfl)
theorem dk_43 {code : ByteArray} {pc : Nat} (h : DkAt code pc [43]) : decode code pc = .ok (.aload_n 1, 1) := dk_of ((dk_bind (dk_u1 (h 0 _ rfl))).trans rfl)
theorem dk_44 {code : ByteArray} {pc : Nat} (h : DkAt code pc [44]) : decode code pc = .ok (.aload_n 2, 1) := dk_of ((dk_bind (dk_u1 (h 0 _ rfl))).trans rfl)
theorem dk_45 {code : ByteArray} {pc : Nat} (h : DkAt code pc [45]) : decode code pc = .ok (.aload_n 3, 1) := dk_of ((dk_bind (dk_u1 (h 0 _ rfl))).trans rfl)
theorem dk_46 {code : ByteArray} {pc : Nat} (h : DkAt code pc [46]) : decode code pc = .ok (.iaload, 1) := dk_of ((dk_bind (dk_u1 (h 0 _ rfl))).trans rfl)
theorem dk_47 {code : ByteArray} {pc : Nat} (h : DkAt code pc [47]) : decode code pc = .ok (.laload, 1) := dk_of ((dk_bind (dk_u1 (h 0 _ rfl))).trans rfl)
theorem dk_50 {code : ByteArray} {pc : Nat} (h : DkAt code pc [50]) : decode code pc = .ok (.aaload, 1) := dk_of ((dk_bind (dk_u1 (h 0 _ rfl))).trans rfl)
theorem dk_51 {code : ByteArray} {pc : Nat} (h : DkAt code pc [51]) : decode code pc = .ok (.baload, 1) := dk_of ((dk_bind (dk_u1 (h 0 _ rfl))).trans rfl)
theorem dk_52 {code : ByteArray} {pc : Nat} (h : DkAt code pc [52]) : decode code pc = .ok (.caload, 1) := dk_of ((dk_bind (dk_u1 (h 0 _ rfl))).trans rfl)
theorem dk_53 {code : ByteArray} {pc : Nat} (h : DkAt code pc [53]) : decode code pc = .ok (.saload, 1) := dk_of ((dk_bind (dk_u1 (h 0 _ rfl))).trans rfl)
theorem dk_54 {code : ByteArray} {pc : Nat} (a : UInt8) (h : DkAt code pc [54, a]) : decode code pc = .ok (.istore a.toNat, 2) := dk_of ((dk_bind (dk_u1 (h 0 _ rfl))).trans ((dk_bind (dk_u1 (h 1 _ rfl))).trans rfl))
theorem dk_55 {code : ByteArray} {pc : Nat} (a : UInt8) (h : DkAt code pc [55, a]) : decode code pc = .ok (.lstore a.toNat, 2) := dk_of ((dk_bind (dk_u1 (h 0 _ rfl))).trans ((dk_bind (dk_u1 (h 1 _ rfl))).trans rfl))
theorem dk_57 {code : ByteArray} {pc : Nat} (a : UInt8) (h : DkAt code pc [57, a]) : decode code pc = .ok (.dstore a.toNat, 2) := dk_of ((dk_bind (dk_u1 (h 0 _ rfl))).trans ((dk_bind (dk_u1 (h 1 _ rfl))).trans rfl))
theorem dk_58 {code : ByteArray} {pc : Nat} (a : UInt8) (h : DkAt code pc [58, a]) : decode code pc = .ok (.astore a.toNat, 2) := dk_of ((dk_bind (dk_u1 (h 0 _ rfl))).trans ((dk_bind (dk_u1 (h 1 _ rfl))).trans rfl))
theorem dk_59 {code : ByteArray} {pc : Nat} (h : DkAt code pc [59]) : decode code pc = .ok (.istore_n 0, 1) := dk_of ((dk_bind (dk_u1 (h 0 _ rfl))).trans rfl)
theorem dk_60 {code : ByteArray} {pc : Nat} (h : DkAt code pc [60]) : decode code pc = .ok (.istore_n 1, 1) := dk_of ((dk_bind (dk_u1 (h 0 _ rfl))).trans rfl)
theorem dk_61 {code : ByteArray} {pc : Nat} (h : DkAt code pc [61]) : decode code pc = .ok (.istore_n 2, 1) := dk_of ((dk_bind (dk_u1 (h 0 _ rfl))).trans rfl)
theorem dk_62 {code : ByteArray} {pc : Nat} (h : DkAt code pc [62]) : decode code pc = .ok (.istore_n 3, 1) := dk_of ((dk_bind (dk_u1 (h 0 _ rfl))).trans rfl)
theorem dk_64 {code : ByteArray} {pc : Nat} (h : DkAt code pc [64]) : decode code pc = .ok (.lstore_n 1, 1) := dk_of ((dk_bind (dk_u1 (h 0 _ rfl))).trans rfl)
theorem dk_66 {code : ByteArray} {pc : Nat} (h : DkAt code pc [66]) : decode code pc = .ok (.lstore_n 3, 1) := dk_of ((dk_bind (dk_u1 (h 0 _ rfl))).trans rfl)
theorem dk_76 {code : ByteArray} {pc : Nat} (h : DkAt code pc [76]) : decode code pc = .ok (.astore_n 1, 1) := dk_of ((dk_bind (dk_u1 (h 0 _ rfl))).trans rfl)
theorem dk_77 {code : ByteArray} {pc : Nat} (h : DkAt code pc [77]) : decode code pc = .ok (.astore_n 2, 1) := dk_of ((dk_bind (dk_u1 (h 0 _ rfl))).trans rfl)
theorem dk_78 {code : ByteArray} {pc : Nat} (h : DkAt code pc [78]) : decode code pc = .ok (.astore_n 3, 1) := dk_of ((dk_bind (dk_u1 (h 0 _ rfl))).trans rfl)
theorem dk_79 {code : ByteArray} {pc : Nat} (h : DkAt code pc [79]) : decode code pc = .ok (.iastore, 1) := dk_of ((dk_bind (dk_u1 (h 0 _ rfl))).trans rfl)
theorem dk_80 {code : ByteArray} {pc : Nat} (h : DkAt code pc [80]) : decode code pc = .ok (.lastore, 1) := dk_of ((dk_bind (dk_u1 (h 0 _ rfl))).trans rfl)
theorem dk_83 {code : ByteArray} {pc : Nat} (h : DkAt code pc [83]) : decode code pc = .ok (.aastore, 1) := dk_of ((dk_bind (dk_u1 (h 0 _ rfl))).trans rfl)
theorem dk_84 {code : ByteArray} {pc : Nat} (h : DkAt code pc [84]) : decode code pc = .ok (.bastore, 1) := dk_of ((dk_bind (dk_u1 (h 0 _ rfl))).trans rfl)
theorem dk_85 {code : ByteArray} {pc : Nat} (h : DkAt code pc [85]) : decode code pc = .ok (.castore, 1) := dk_of ((dk_bind (dk_u1 (h 0 _ rfl))).trans rfl)
theorem dk_87 {code : ByteArray} {pc : Nat} (h : DkAt code pc [87]) : decode code pc = .ok (.pop, 1) := dk_of ((dk_bind (dk_u1 (h 0 _ rfl))).trans rfl)
theorem dk_89 {code : ByteArray} {pc : Nat} (h : DkAt code pc [89]) : decode code pc = .ok (.dup, 1) := dk_of ((dk_bind (dk_u1 (h 0 _ rfl))).trans rfl)
theorem dk_90 {code : ByteArray} {pc : Nat} (h : DkAt code pc [90]) : decode code pc = .ok (.dup_x1, 1) := dk_of ((dk_bind (dk_u1 (h 0 _ rfl))).trans rfl)
theorem dk_92 {code : ByteArray} {pc : Nat} (h : DkAt code pc [92]) : decode code pc = .ok (.dup2, 1) := dk_of ((dk_bind (dk_u1 (h 0 _ rfl))).trans rfl)
theorem dk_96 {code : ByteArray} {pc : Nat} (h : DkAt code pc [96]) : decode code pc = .ok (.iadd, 1) := dk_of ((dk_bind (dk_u1 (h 0 _ rfl))).trans rfl)
theorem dk_97 {code : ByteArray} {pc : Nat} (h : DkAt code pc [97]) : decode code pc = .ok (.ladd, 1) := dk_of ((dk_bind (dk_u1 (h 0 _ rfl))).trans rfl)
theorem dk_100 {code : ByteArray} {pc : Nat} (h : DkAt code pc [100]) : decode code pc = .ok (.isub, 1) := dk_of ((dk_bind (dk_u1 (h 0 _ rfl))).trans rfl)
theorem dk_101 {code : ByteArray} {pc : Nat} (h : DkAt code pc [101]) : decode code pc = .ok (.lsub, 1) := dk_of ((dk_bind (dk_u1 (h 0 _ rfl))).trans rfl)
theorem dk_104 {code : ByteArray} {pc : Nat} (h : DkAt code pc [104]) : decode code pc = .ok (.imul, 1) := dk_of ((dk_bind (dk_u1 (h 0 _ rfl))).trans rfl)
theorem dk_105 {code : ByteArray} {pc : Nat} (h : DkAt code pc [105]) : decode code pc = .ok (.lmul, 1) := dk_of ((dk_bind (dk_u1 (h 0 _ rfl))).trans rfl)
theorem dk_108 {code : ByteArray} {pc : Nat} (h : DkAt code pc [108]) : decode code pc = .ok (.idiv, 1) := dk_of ((dk_bind (dk_u1 (h 0 _ rfl))).trans rfl)
theorem dk_109 {code : ByteArray} {pc : Nat} (h : DkAt code pc [109]) : decode code pc = .ok (.ldiv, 1) := dk_of ((dk_bind (dk_u1 (h 0 _ rfl))).trans rfl)
theorem dk_110 {code : ByteArray} {pc : Nat} (h : DkAt code pc [110]) : decode code pc = .ok (.fdiv, 1) := dk_of ((dk_bind (dk_u1 (h 0 _ rfl))).trans rfl)
theorem dk_111 {code : ByteArray} {pc : Nat} (h : DkAt code pc [111]) : decode code pc = .ok (.ddiv, 1) := dk_of ((dk_bind (dk_u1 (h 0 _ rfl))).trans rfl)
theorem dk_112 {code : ByteArray} {pc : Nat} (h : DkAt code pc [112]) : decode code pc = .ok (.irem, 1) := dk_of ((dk_bind (dk_u1 (h 0 _ rfl))).trans rfl)
theorem dk_116 {code : ByteArray} {pc : Nat} (h : DkAt code pc [116]) : decode code pc = .ok (.ineg, 1) := dk_of ((dk_bind (dk_u1 (h 0 _ rfl))).trans rfl)
theorem dk_120 {code : ByteArray} {pc : Nat} (h : DkAt code pc [120]) : decode code pc = .ok (.ishl, 1) := dk_of ((dk_bind (dk_u1 (h 0 _ rfl))).trans rfl)
theorem dk_122 {code : ByteArray} {pc : Nat} (h : DkAt code pc [122]) : decode code pc = .ok (.ishr, 1) := dk_of ((dk_bind (dk_u1 (h 0 _ rfl))).trans rfl)
theorem dk_124 {code : ByteArray} {pc : Nat} (h : DkAt code pc [124]) : decode code pc = .ok (.iushr, 1) := dk_of ((dk_bind (dk_u1 (h 0 _ rfl))).trans rfl)
theorem dk_126 {code : ByteArray} {pc : Nat} (h : DkAt code pc [126]) : decode code pc = .ok (.iand, 1) := dk_of ((dk_bind (dk_u1 (h 0 _ rfl))).trans rfl)
theorem dk_128 {code : ByteArray} {pc : Nat} (h : DkAt code pc [128]) : decode code pc = .ok (.ior, 1) := dk_of ((dk_bind (dk_u1 (h 0 _ rfl))).trans rfl)
theorem dk_132 {code : ByteArray} {pc : Nat} (a b : UInt8) (h : DkAt code pc [132, a, b]) : decode code pc = .ok (.iinc a.toNat (Reader.signed 8 b.toNat), 3) := dk_of ((dk_bind (dk_u1 (h 0 _ rfl))).trans ((dk_bind (dk_u1 (h 1 _ rfl))).trans ((dk_bind (dk_map (dk_u1 (h 2 _ rfl)))).trans rfl)))
theorem dk_133 {code : ByteArray} {pc : Nat} (h : DkAt code pc [133]) : decode code pc = .ok (.i2l, 1) := dk_of ((dk_bind (dk_u1 (h 0 _ rfl))).trans rfl)
theorem dk_134 {code : ByteArray} {pc : Nat} (h : DkAt code pc [134]) : decode code pc = .ok (.i2f, 1) := dk_of ((dk_bind (dk_u1 (h 0 _ rfl))).trans rfl)
theorem dk_135 {code : ByteArray} {pc : Nat} (h : DkAt code pc [135]) : decode code pc = .ok (.i2d, 1) := dk_of ((dk_bind (dk_u1 (h 0 _ rfl))).trans rfl)
theorem dk_136 {code : ByteArray} {pc : Nat} (h : DkAt code pc [136]) : decode code pc = .ok (.l2i, 1) := dk_of ((dk_bind (dk_u1 (h 0 _ rfl))).trans rfl)
theorem dk_137 {code : ByteArray} {pc : Nat} (h : DkAt code pc [137]) : decode code pc = .ok (.l2f, 1) := dk_of ((dk_bind (dk_u1 (h 0 _ rfl))).trans rfl)
theorem dk_138 {code : ByteArray} {pc : Nat} (h : DkAt code pc [138]) : decode code pc = .ok (.l2d, 1) := dk_of ((dk_bind (dk_u1 (h 0 _ rfl))).trans rfl)
theorem dk_141 {code : ByteArray} {pc : Nat} (h : DkAt code pc [141]) : decode code pc = .ok (.f2d, 1) := dk_of ((dk_bind (dk_u1 (h 0 _ rfl))).trans rfl)
theorem dk_145 {code : ByteArray} {pc : Nat} (h : DkAt code pc [145]) : decode code pc = .ok (.i2b, 1) := dk_of ((dk_bind (dk_u1 (h 0 _ rfl))).trans rfl)
theorem dk_146 {code : ByteArray} {pc : Nat} (h : DkAt code pc [146]) : decode code pc = .ok (.i2c, 1) := dk_of ((dk_bind (dk_u1 (h 0 _ rfl))).trans rfl)
theorem dk_148 {code : ByteArray} {pc : Nat} (h : DkAt code pc [148]) : decode code pc = .ok (.lcmp, 1) := dk_of ((dk_bind (dk_u1 (h 0 _ rfl))).trans rfl)
theorem dk_151 {code : ByteArray} {pc : Nat} (h : DkAt code pc [151]) : decode code pc = .ok (.dcmp .l, 1) := dk_of ((dk_bind (dk_u1 (h 0 _ rfl))).trans rfl)
theorem dk_153 {code : ByteArray} {pc : Nat} (a b : UInt8) (h : DkAt code pc [153, a, b]) : decode code pc = .ok (.ifCond .eq (Reader.signed 16 (a.toNat * 256 + b.toNat)), 3) := dk_of ((dk_bind (dk_u1 (h 0 _ rfl))).trans ((dk_bind (dk_map (dk_u2 (h 1 _ rfl) (h 2 _ rfl)))).trans rfl))
theorem dk_154 {code : ByteArray} {pc : Nat} (a b : UInt8) (h : DkAt code pc [154, a, b]) : decode code pc = .ok (.ifCond .ne (Reader.signed 16 (a.toNat * 256 + b.toNat)), 3) := dk_of ((dk_bind (dk_u1 (h 0 _ rfl))).trans ((dk_bind (dk_map (dk_u2 (h 1 _ rfl) (h 2 _ rfl)))).trans rfl))
theorem dk_155 {code : ByteArray} {pc : Nat} (a b : UInt8) (h : DkAt code pc [155, a, b]) : decode code pc = .ok (.ifCond .lt (Reader.signed 16 (a.toNat * 256 + b.toNat)), 3) := dk_of ((dk_bind (dk_u1 (h 0 _ rfl))).trans ((dk_bind (dk_map (dk_u2 (h 1 _ rfl) (h 2 _ rfl)))).trans rfl))
theorem dk_156 {code : ByteArray} {pc : Nat} (a b : UInt8) (h : DkAt code pc [156, a, b]) : decode code pc = .ok (.ifCond .ge (Reader.signed 16 (a.toNat * 256 + b.toNat)), 3) := dk_of ((dk_bind (dk_u1 (h 0 _ rfl))).trans ((dk_bind (dk_map (dk_u2 (h 1 _ rfl) (h 2 _ rfl)))).trans rfl))
theorem dk_157 {code : ByteArray} {pc : Nat} (a b : UInt8) (h : DkAt code pc [157, a, b]) : decode code pc = .ok (.ifCond .gt (Reader.signed 16 (a.toNat * 256 + b.toNat)), 3) := dk_of ((dk_bind (dk_u1 (h 0 _ rfl))).trans ((dk_bind (dk_map (dk_u2 (h 1 _ rfl) (h 2 _ rfl)))).trans rfl))
theorem dk_158 {code : ByteArray} {pc : Nat} (a b : UInt8) (h : DkAt code pc [158, a, b]) : decode code pc = .ok (.ifCond .le (Reader.signed 16 (a.toNat * 256 + b.toNat)), 3) := dk_of ((dk_bind (dk_u1 (h 0 _ rfl))).trans ((dk_bind (dk_map (dk_u2 (h 1 _ rfl) (h 2 _ rfl)))).trans rfl))
theorem dk_159 {code : ByteArray} {pc : Nat} (a b : UInt8) (h : DkAt code pc [159, a, b]) : decode code pc = .ok (.if_icmp .eq (Reader.signed 16 (a.toNat * 256 + b.toNat)), 3) := dk_of ((dk_bind (dk_u1 (h 0 _ rfl))).trans ((dk_bind (dk_map (dk_u2 (h 1 _ rfl) (h 2 _ rfl)))).trans rfl))
theorem dk_160 {code : ByteArray} {pc : Nat} (a b : UInt8) (h : DkAt code pc [160, a, b]) : decode code pc = .ok (.if_icmp .ne (Reader.signed 16 (a.toNat * 256 + b.toNat)), 3) := dk_of ((dk_bind (dk_u1 (h 0 _ rfl))).trans ((dk_bind (dk_map (dk_u2 (h 1 _ rfl) (h 2 _ rfl)))).trans rfl))
theorem dk_161 {code : ByteArray} {pc : Nat} (a b : UInt8) (h : DkAt code pc [161, a, b]) : decode code pc = .ok (.if_icmp .lt (Reader.signed 16 (a.toNat * 256 + b.toNat)), 3) := dk_of ((dk_bind (dk_u1 (h 0 _ rfl))).trans ((dk_bind (dk_map (dk_u2 (h 1 _ rfl) (h 2 _ rfl)))).trans rfl))
theorem dk_162 {code : ByteArray} {pc : Nat} (a b : UInt8) (h : DkAt code pc [162, a, b]) : decode code pc = .ok (.if_icmp .ge (Reader.signed 16 (a.toNat * 256 + b.toNat)), 3) := dk_of ((dk_bind (dk_u1 (h 0 _ rfl))).trans ((dk_bind (dk_map (dk_u2 (h 1 _ rfl) (h 2 _ rfl)))).trans rfl))
theorem dk_163 {code : ByteArray} {pc : Nat} (a b : UInt8) (h : DkAt code pc [163, a, b]) : decode code pc = .ok (.if_icmp .gt (Reader.signed 16 (a.toNat * 256 + b.toNat)), 3) := dk_of ((dk_bind (dk_u1 (h 0 _ rfl))).trans ((dk_bind (dk_map (dk_u2 (h 1 _ rfl) (h 2 _ rfl)))).trans rfl))
theorem dk_164 {code : ByteArray} {pc : Nat} (a b : UInt8) (h : DkAt code pc [164, a, b]) : decode code pc = .ok (.if_icmp .le (Reader.signed 16 (a.toNat * 256 + b.toNat)), 3) := dk_of ((dk_bind (dk_u1 (h 0 _ rfl))).trans ((dk_bind (dk_map (dk_u2 (h 1 _ rfl) (h 2 _ rfl)))).trans rfl))
theorem dk_165 {code : ByteArray} {pc : Nat} (a b : UInt8) (h : DkAt code pc [165, a, b]) : decode code pc = .ok (.if_acmp .eq (Reader.signed 16 (a.toNat * 256 + b.toNat)), 3) := dk_of ((dk_bind (dk_u1 (h 0 _ rfl))).trans ((dk_bind (dk_map (dk_u2 (h 1 _ rfl) (h 2 _ rfl)))).trans rfl))
theorem dk_166 {code : ByteArray} {pc : Nat} (a b : UInt8) (h : DkAt code pc [166, a, b]) : decode code pc = .ok (.if_acmp .ne (Reader.signed 16 (a.toNat * 256 + b.toNat)), 3) := dk_of ((dk_bind (dk_u1 (h 0 _ rfl))).trans ((dk_bind (dk_map (dk_u2 (h 1 _ rfl) (h 2 _ rfl)))).trans rfl))
theorem dk_167 {code : ByteArray} {pc : Nat} (a b : UInt8) (h : DkAt code pc [167, a, b]) : decode code pc = .ok (.goto (Reader.signed 16 (a.toNat * 256 + b.toNat)), 3) := dk_of ((dk_bind (dk_u1 (h 0 _ rfl))).trans ((dk_bind (dk_map (dk_u2 (h 1 _ rfl) (h 2 _ rfl)))).trans rfl))
theorem dk_172 {code : ByteArray} {pc : Nat} (h : DkAt code pc [172]) : decode code pc = .ok (.ireturn, 1) := dk_of ((dk_bind (dk_u1 (h 0 _ rfl))).trans rfl)
theorem dk_173 {code : ByteArray} {pc : Nat} (h : DkAt code pc [173]) : decode code pc = .ok (.lreturn, 1) := dk_of ((dk_bind (dk_u1 (h 0 _ rfl))).trans rfl)
theorem dk_174 {code : ByteArray} {pc : Nat} (h : DkAt code pc [174]) : decode code pc = .ok (.freturn, 1) := dk_of ((dk_bind (dk_u1 (h 0 _ rfl))).trans rfl)
theorem dk_175 {code : ByteArray} {pc : Nat} (h : DkAt code pc [175]) : decode code pc = .ok (.dreturn, 1) := dk_of ((dk_bind (dk_u1 (h 0 _ rfl))).trans rfl)
theorem dk_176 {code : ByteArray} {pc : Nat} (h : DkAt code pc [176]) : decode code pc = .ok (.areturn, 1) := dk_of ((dk_bind (dk_u1 (h 0 _ rfl))).trans rfl)
theorem dk_177 {code : ByteArray} {pc : Nat} (h : DkAt code pc [177]) : decode code pc = .ok (.return_, 1) := dk_of ((dk_bind (dk_u1 (h 0 _ rfl))).trans rfl)
theorem dk_178 {code : ByteArray} {pc : Nat} (a b : UInt8) (h : DkAt code pc [178, a, b]) : decode code pc = .ok (.getstatic (a.toNat * 256 + b.toNat), 3) := dk_of ((dk_bind (dk_u1 (h 0 _ rfl))).trans ((dk_bind (dk_u2 (h 1 _ rfl) (h 2 _ rfl))).trans rfl))
theorem dk_180 {code : ByteArray} {pc : Nat} (a b : UInt8) (h : DkAt code pc [180, a, b]) : decode code pc = .ok (.getfield (a.toNat * 256 + b.toNat), 3) := dk_of ((dk_bind (dk_u1 (h 0 _ rfl))).trans ((dk_bind (dk_u2 (h 1 _ rfl) (h 2 _ rfl))).trans rfl))
theorem dk_181 {code : ByteArray} {pc : Nat} (a b : UInt8) (h : DkAt code pc [181, a, b]) : decode code pc = .ok (.putfield (a.toNat * 256 + b.toNat), 3) := dk_of ((dk_bind (dk_u1 (h 0 _ rfl))).trans ((dk_bind (dk_u2 (h 1 _ rfl) (h 2 _ rfl))).trans rfl))
theorem dk_182 {code : ByteArray} {pc : Nat} (a b : UInt8) (h : DkAt code pc [182, a, b]) : decode code pc = .ok (.invokevirtual (a.toNat * 256 + b.toNat), 3) := dk_of ((dk_bind (dk_u1 (h 0 _ rfl))).trans ((dk_bind (dk_u2 (h 1 _ rfl) (h 2 _ rfl))).trans rfl))
theorem dk_183 {code : ByteArray} {pc : Nat} (a b : UInt8) (h : DkAt code pc [183, a, b]) : decode code pc = .ok (.invokespecial (a.toNat * 256 + b.toNat), 3) := dk_of ((dk_bind (dk_u1 (h 0 _ rfl))).trans ((dk_bind (dk_u2 (h 1 _ rfl) (h 2 _ rfl))).trans rfl))
theorem dk_184 {code : ByteArray} {pc : Nat} (a b : UInt8) (h : DkAt code pc [184, a, b]) : decode code pc = .ok (.invokestatic (a.toNat * 256 + b.toNat), 3) := dk_of ((dk_bind (dk_u1 (h 0 _ rfl))).trans ((dk_bind (dk_u2 (h 1 _ rfl) (h 2 _ rfl))).trans rfl))
theorem dk_187 {code : ByteArray} {pc : Nat} (a b : UInt8) (h : DkAt code pc [187, a, b]) : decode code pc = .ok (.new (a.toNat * 256 + b.toNat), 3) := dk_of ((dk_bind (dk_u1 (h 0 _ rfl))).trans ((dk_bind (dk_u2 (h 1 _ rfl) (h 2 _ rfl))).trans rfl))
theorem dk_188_4 {code : ByteArray} {pc : Nat} (h : DkAt code pc [188, 4]) : decode code pc = .ok (.newarray .boolean, 2) := dk_of ((dk_bind (dk_u1 (h 0 _ rfl))).trans ((dk_bind (dk_u1 (h 1 _ rfl))).trans rfl))
theorem dk_188_5 {code : ByteArray} {pc : Nat} (h : DkAt code pc [188, 5]) : decode code pc = .ok (.newarray .char, 2) := dk_of ((dk_bind (dk_u1 (h 0 _ rfl))).trans ((dk_bind (dk_u1 (h 1 _ rfl))).trans rfl))
theorem dk_188_8 {code : ByteArray} {pc : Nat} (h : DkAt code pc [188, 8]) : decode code pc = .ok (.newarray .byte, 2) := dk_of ((dk_bind (dk_u1 (h 0 _ rfl))).trans ((dk_bind (dk_u1 (h 1 _ rfl))).trans rfl))
theorem dk_188_10 {code : ByteArray} {pc : Nat} (h : DkAt code pc [188, 10]) : decode code pc = .ok (.newarray .int, 2) := dk_of ((dk_bind (dk_u1 (h 0 _ rfl))).trans ((dk_bind (dk_u1 (h 1 _ rfl))).trans rfl))
theorem dk_188_11 {code : ByteArray} {pc : Nat} (h : DkAt code pc [188, 11]) : decode code pc = .ok (.newarray .long, 2) := dk_of ((dk_bind (dk_u1 (h 0 _ rfl))).trans ((dk_bind (dk_u1 (h 1 _ rfl))).trans rfl))
theorem dk_189 {code : ByteArray} {pc : Nat} (a b : UInt8) (h : DkAt code pc [189, a, b]) : decode code pc = .ok (.anewarray (a.toNat * 256 + b.toNat), 3) := dk_of ((dk_bind (dk_u1 (h 0 _ rfl))).trans ((dk_bind (dk_u2 (h 1 _ rfl) (h 2 _ rfl))).trans rfl))
theorem dk_190 {code : ByteArray} {pc : Nat} (h : DkAt code pc [190]) : decode code pc = .ok (.arraylength, 1) := dk_of ((dk_bind (dk_u1 (h 0 _ rfl))).trans rfl)
theorem dk_191 {code : ByteArray} {pc : Nat} (h : DkAt code pc [191]) : decode code pc = .ok (.athrow, 1) := dk_of ((dk_bind (dk_u1 (h 0 _ rfl))).trans rfl)
theorem dk_192 {code : ByteArray} {pc : Nat} (a b : UInt8) (h : DkAt code pc [192, a, b]) : decode code pc = .ok (.checkcast (a.toNat * 256 + b.toNat), 3) := dk_of ((dk_bind (dk_u1 (h 0 _ rfl))).trans ((dk_bind (dk_u2 (h 1 _ rfl) (h 2 _ rfl))).trans rfl))
theorem dk_193 {code : ByteArray} {pc : Nat} (a b : UInt8) (h : DkAt code pc [193, a, b]) : decode code pc = .ok (.instanceof (a.toNat * 256 + b.toNat), 3) := dk_of ((dk_bind (dk_u1 (h 0 _ rfl))).trans ((dk_bind (dk_u2 (h 1 _ rfl) (h 2 _ rfl))).trans rfl))
theorem dk_198 {code : ByteArray} {pc : Nat} (a b : UInt8) (h : DkAt code pc [198, a, b]) : decode code pc = .ok (.ifnull (Reader.signed 16 (a.toNat * 256 + b.toNat)), 3) := dk_of ((dk_bind (dk_u1 (h 0 _ rfl))).trans ((dk_bind (dk_map (dk_u2 (h 1 _ rfl) (h 2 _ rfl)))).trans rfl))
theorem dk_199 {code : ByteArray} {pc : Nat} (a b : UInt8) (h : DkAt code pc [199, a, b]) : decode code pc = .ok (.ifnonnull (Reader.signed 16 (a.toNat * 256 + b.toNat)), 3) := dk_of ((dk_bind (dk_u1 (h 0 _ rfl))).trans ((dk_bind (dk_map (dk_u2 (h 1 _ rfl) (h 2 _ rfl)))).trans rfl))
theorem q130 : (Jvm.Cond.arrayOver (Jvm.ClassFile.FieldType.object "java/lang/Object")) ∈ lw_tbl := lw_at lw_m1 59 rfl
set_option maxRecDepth 100000
theorem q212 : (Jvm.Cond.arrayClass Jvm.ClassFile.FieldType.byte) ∈ lw_all := lw_g (lw_at lw_m1 141 rfl) rfl
theorem q538 : (Jvm.Cond.arrayClass Jvm.ClassFile.FieldType.int) ∈ lw_all := lw_g (lw_at lw_m2 227 rfl) rfl
theorem q539 : (Jvm.Cond.arrayClass Jvm.ClassFile.FieldType.boolean) ∈ lw_all := lw_g (lw_at lw_m2 228 rfl) rfl
theorem q920 : (Jvm.Cond.arrayClass Jvm.ClassFile.FieldType.char) ∈ lw_all := lw_g (lw_at lw_m4 129 rfl) rfl
theorem q1497 : (Jvm.Cond.arrayOver (Jvm.ClassFile.FieldType.object "Appealrent$Figure")) ∈ lw_tbl := lw_at lw_m6 226 rfl
theorem q1814 : (Jvm.Cond.arrayOver (Jvm.ClassFile.FieldType.array Jvm.ClassFile.FieldType.int)) ∈ lw_tbl := lw_at lw_m8 63 rfl
theorem q1964 : (Jvm.Cond.arrayOver (Jvm.ClassFile.FieldType.object "java/lang/String")) ∈ lw_tbl := lw_at lw_m8 213 rfl
theorem q2201 : (Jvm.Cond.arrayClass Jvm.ClassFile.FieldType.long) ∈ lw_all := lw_g (lw_at lw_m9 210 rfl) rfl
theorem q2261 : (Jvm.Cond.arrayClass Jvm.ClassFile.FieldType.short) ∈ lw_all := lw_g (lw_at lw_m10 30 rfl) rfl
theorem q87 : (Jvm.Cond.initialized "java/lang/System") ∈ lw_all := lw_g (lw_at lw_m1 16 rfl) rfl
set_option maxRecDepth 100000
theorem q258 : (Jvm.Cond.static ({ cls := "java/lang/System", name := "arraycopy", desc := "(Ljava/lang/Object;ILjava/lang/Object;II)V" } : Jvm.MethodName)) ∈ lw_all := lw_g (lw_at lw_m1 187 rfl) rfl
theorem q259 : (Jvm.Cond.native ({ cls := "java/lang/System", name := "arraycopy", desc := "(Ljava/lang/Object;ILjava/lang/Object;II)V" } : Jvm.MethodName)) ∈ lw_all := lw_g (lw_at lw_m1 188 rfl) rfl
theorem q90 : (Jvm.Cond.initialized "java/lang/Number") ∈ lw_all := lw_g (lw_at lw_m1 19 rfl) rfl
set_option maxRecDepth 100000
theorem q248 : (Jvm.Cond.sameMethod "[B" "java/lang/Object" "clone" "()Ljava/lang/Object;") ∈ lw_all := lw_g (lw_at lw_m1 177 rfl) rfl
set_option maxRecDepth 100000
theorem q251 : (Jvm.Cond.selects "[B" ({ cls := "[B", name := "clone", desc := "()Ljava/lang/Object;" } : Jvm.MethodName) ({ cls := "java/lang/Object", name := "clone", desc := "()Ljava/lang/Object;" } : Jvm.MethodName)) ∈ lw_all := lw_g (lw_at lw_m1 180 rfl) rfl
theorem q252 : (Jvm.Cond.castable "[B" "java/lang/Cloneable") ∈ lw_tbl := lw_at lw_m1 181 rfl
theorem q2253 : (Jvm.Cond.castable "[B" "java/lang/Object") ∈ lw_tbl := lw_at lw_m10 22 rfl
theorem q480 : (Jvm.Cond.interfaceMethod "java/util/List" "java/util/List" "size" "()I") ∈ lw_tbl := lw_at lw_m2 169 rfl
set_option maxRecDepth 100000
theorem q481 : (Jvm.Cond.declares ({ cls := "java/util/List", name := "size", desc := "()I" } : Jvm.MethodName)) ∈ lw_tbl := lw_at lw_m2 170 rfl
theorem q490 : (Jvm.Cond.interfaceMethod "java/util/List" "java/util/List" "get" "(I)Ljava/lang/Object;") ∈ lw_tbl := lw_at lw_m2 179 rfl
theorem q491 : (Jvm.Cond.declares ({ cls := "java/util/List", name := "get", desc := "(I)Ljava/lang/Object;" } : Jvm.MethodName)) ∈ lw_tbl := lw_at lw_m2 180 rfl
theorem q542 : (Jvm.Cond.interfaceMethod "java/util/List" "java/util/List" "add" "(Ljava/lang/Object;)Z") ∈ lw_tbl := lw_at lw_m2 231 rfl
theorem q543 : (Jvm.Cond.declares ({ cls := "java/util/List", name := "add", desc := "(Ljava/lang/Object;)Z" } : Jvm.MethodName)) ∈ lw_tbl := lw_at lw_m2 232 rfl
theorem q767 : (Jvm.Cond.interfaceMethod "java/util/List" "java/util/List" "isEmpty" "()Z") ∈ lw_tbl := lw_at lw_m3 216 rfl
theorem q768 : (Jvm.Cond.declares ({ cls := "java/util/List", name := "isEmpty", desc := "()Z" } : Jvm.MethodName)) ∈ lw_tbl := lw_at lw_m3 217 rfl
theorem q1187 : (Jvm.Cond.interfaceMethod "jdk/internal/access/JavaLangAccess" "jdk/internal/access/JavaLangAccess" "getUTF16Char" "([BI)C") ∈ lw_tbl := lw_at lw_m5 156 rfl
set_option maxRecDepth 100000
theorem q1188 : (Jvm.Cond.declares ({ cls := "jdk/internal/access/JavaLangAccess", name := "getUTF16Char", desc := "([BI)C" } : Jvm.MethodName)) ∈ lw_tbl := lw_at lw_m5 157 rfl
theorem q1536 : (Jvm.Cond.interfaceMethod "Appealrent$Figure" "Appealrent$Figure" "now" "()I") ∈ lw_tbl := lw_at lw_m7 25 rfl
set_option maxRecDepth 100000
theorem q1537 : (Jvm.Cond.declares ({ cls := "Appealrent$Figure", name := "now", desc := "()I" } : Jvm.MethodName)) ∈ lw_tbl := lw_at lw_m7 26 rfl
theorem q2227 : (Jvm.Cond.castable "Appealrent$Figure" "java/lang/Object") ∈ lw_tbl := lw_at lw_m9 236 rfl
theorem q2249 : (Jvm.Cond.sameMethod "[Ljava/lang/Object;" "java/lang/Object" "getClass" "()Ljava/lang/Class;") ∈ lw_all := lw_g (lw_at lw_m10 18 rfl) rfl
set_option maxRecDepth 100000
theorem q2250 : (Jvm.Cond.selects "[Ljava/lang/Object;" ({ cls := "java/lang/Object", name := "getClass", desc := "()Ljava/lang/Class;" } : Jvm.MethodName) ({ cls := "java/lang/Object", name := "getClass", desc := "()Ljava/lang/Class;" } : Jvm.MethodName)) ∈ lw_all := lw_g (lw_at lw_m10 19 rfl) rfl
theorem q2252 : (Jvm.Cond.castable "[Ljava/lang/Object;" "java/lang/Object") ∈ lw_tbl := lw_at lw_m10 21 rfl
theorem q2254 : (Jvm.Cond.castable "[I" "java/lang/Object") ∈ lw_tbl := lw_at lw_m10 23 rfl
set_option maxRecDepth 100000
theorem q2255 : (Jvm.Cond.castable "[Z" "java/lang/Object") ∈ lw_tbl := lw_at lw_m10 24 rfl
set_option maxRecDepth 100000
theorem q2256 : (Jvm.Cond.castable "[C" "java/lang/Object") ∈ lw_tbl := lw_at lw_m10 25 rfl
set_option maxRecDepth 100000
theorem q2257 : (Jvm.Cond.castable "[LAppealrent$Figure;" "java/lang/Object") ∈ lw_tbl := lw_at lw_m10 26 rfl
set_option maxRecDepth 100000
theorem q2258 : (Jvm.Cond.castable "[[I" "java/lang/Object") ∈ lw_tbl := lw_at lw_m10 27 rfl
set_option maxRecDepth 100000
theorem q2259 : (Jvm.Cond.castable "[Ljava/lang/String;" "java/lang/Object") ∈ lw_tbl := lw_at lw_m10 28 rfl
set_option maxRecDepth 100000
theorem q2260 : (Jvm.Cond.castable "[J" "java/lang/Object") ∈ lw_tbl := lw_at lw_m10 29 rfl
set_option maxRecDepth 100000
/-! AppealrentLaw -/
set_option maxRecDepth 100000
def RX0 : String := "AppealrentLaw"
abbrev cX0_sign : ByteArray := method_3_code
def yX0_sign : MethodName := ⟨RX0, "sign", "(LAppealrent;I[J)I"⟩
def dkwX0_sign_0 : List UInt8 := [44, 3, 42, 27, 182, 0, 7, 133, 80, 167, 0, 9, 78, 4, 172, 78, 5, 172, 3, 172]
abbrev dktX0_sign_0 : List UInt8 := dkwX0_sign_0 ++ []
theorem dksX0_sign_0 : cX0_sign.data.toList.drop 0 = dktX0_sign_0 := by decide +kernel
theorem dX0_sign_0 : decode cX0_sign 0 = .ok (.aload_n 2, 1) := dk_44 (dk_at dksX0_sign_0 0 rfl rfl)
theorem dX0_sign_1 : decode cX0_sign 1 = .ok (.iconst 0, 1) := dk_3 (dk_at dksX0_sign_0 1 rfl rfl)
theorem dX0_sign_2 : decode cX0_sign 2 = .ok (.aload_n 0, 1) := dk_42 (dk_at dksX0_sign_0 2 rfl rfl)
theorem dX0_sign_3 : decode cX0_sign 3 = .ok (.iload_n 1, 1) := dk_27 (dk_at dksX0_sign_0 3 rfl rfl)
theorem dX0_sign_4 : decode cX0_sign 4 = .ok (.invokevirtual 7, 3) := dk_182 0 7 (dk_at dksX0_sign_0 4 rfl rfl)
theorem dX0_sign_7 : decode cX0_sign 7 = .ok (.i2l, 1) := dk_133 (dk_at dksX0_sign_0 7 rfl rfl)
theorem dX0_sign_8 : decode cX0_sign 8 = .ok (.lastore, 1) := dk_80 (dk_at dksX0_sign_0 8 rfl rfl)
theorem dX0_sign_9 : decode cX0_sign 9 = .ok (.goto 9, 3) := dk_167 0 9 (dk_at dksX0_sign_0 9 rfl rfl)
theorem dX0_sign_12 : decode cX0_sign 12 = .ok (.astore_n 3, 1) := dk_78 (dk_at dksX0_sign_0 12 rfl rfl)
theorem dX0_sign_13 : decode cX0_sign 13 = .ok (.iconst 1, 1) := dk_4 (dk_at dksX0_sign_0 13 rfl rfl)
theorem dX0_sign_14 : decode cX0_sign 14 = .ok (.ireturn, 1) := dk_172 (dk_at dksX0_sign_0 14 rfl rfl)
theorem dX0_sign_15 : decode cX0_sign 15 = .ok (.astore_n 3, 1) := dk_78 (dk_at dksX0_sign_0 15 rfl rfl)
theorem dX0_sign_16 : decode cX0_sign 16 = .ok (.iconst 2, 1) := dk_5 (dk_at dksX0_sign_0 16 rfl rfl)
theorem dX0_sign_17 : decode cX0_sign 17 = .ok (.ireturn, 1) := dk_172 (dk_at dksX0_sign_0 17 rfl rfl)
theorem dX0_sign_18 : decode cX0_sign 18 = .ok (.iconst 0, 1) := dk_3 (dk_at dksX0_sign_0 18 rfl rfl)
theorem dX0_sign_19 : decode cX0_sign 19 = .ok (.ireturn, 1) := dk_172 (dk_at dksX0_sign_0 19 rfl rfl)
abbrev cX0_open : ByteArray := method_4_code
def yX0_open : MethodName := ⟨RX0, "open", "(LAppealrent;[J)I"⟩
def dkwX0_open_0 : List UInt8 := [43, 3, 42, 182, 0, 17, 133, 80, 167, 0, 6, 77, 4, 172, 3, 172]
abbrev dktX0_open_0 : List UInt8 := dkwX0_open_0 ++ []
theorem dksX0_open_0 : cX0_open.data.toList.drop 0 = dktX0_open_0 := by decide +kernel
theorem dX0_open_0 : decode cX0_open 0 = .ok (.aload_n 1, 1) := dk_43 (dk_at dksX0_open_0 0 rfl rfl)
theorem dX0_open_1 : decode cX0_open 1 = .ok (.iconst 0, 1) := dk_3 (dk_at dksX0_open_0 1 rfl rfl)
theorem dX0_open_2 : decode cX0_open 2 = .ok (.aload_n 0, 1) := dk_42 (dk_at dksX0_open_0 2 rfl rfl)
theorem dX0_open_3 : decode cX0_open 3 = .ok (.invokevirtual 17, 3) := dk_182 0 17 (dk_at dksX0_open_0 3 rfl rfl)
theorem dX0_open_6 : decode cX0_open 6 = .ok (.i2l, 1) := dk_133 (dk_at dksX0_open_0 6 rfl rfl)
theorem dX0_open_7 : decode cX0_open 7 = .ok (.lastore, 1) := dk_80 (dk_at dksX0_open_0 7 rfl rfl)
theorem dX0_open_8 : decode cX0_open 8 = .ok (.goto 6, 3) := dk_167 0 6 (dk_at dksX0_open_0 8 rfl rfl)
theorem dX0_open_11 : decode cX0_open 11 = .ok (.astore_n 2, 1) := dk_77 (dk_at dksX0_open_0 11 rfl rfl)
theorem dX0_open_12 : decode cX0_open 12 = .ok (.iconst 1, 1) := dk_4 (dk_at dksX0_open_0 12 rfl rfl)
theorem dX0_open_13 : decode cX0_open 13 = .ok (.ireturn, 1) := dk_172 (dk_at dksX0_open_0 13 rfl rfl)
theorem dX0_open_14 : decode cX0_open 14 = .ok (.iconst 0, 1) := dk_3 (dk_at dksX0_open_0 14 rfl rfl)
theorem dX0_open_15 : decode cX0_open 15 = .ok (.ireturn, 1) := dk_172 (dk_at dksX0_open_0 15 rfl rfl)
abbrev cX0_end : ByteArray := method_5_code
def yX0_end : MethodName := ⟨RX0, "end", "(LAppealrent;I[J)I"⟩
def dkwX0_end_0 : List UInt8 := [44, 3, 42, 27, 182, 0, 21, 133, 80, 167, 0, 9, 78, 4, 172, 78, 5, 172, 3, 172]
abbrev dktX0_end_0 : List UInt8 := dkwX0_end_0 ++ []
theorem dksX0_end_0 : cX0_end.data.toList.drop 0 = dktX0_end_0 := by decide +kernel
theorem dX0_end_0 : decode cX0_end 0 = .ok (.aload_n 2, 1) := dk_44 (dk_at dksX0_end_0 0 rfl rfl)
theorem dX0_end_1 : decode cX0_end 1 = .ok (.iconst 0, 1) := dk_3 (dk_at dksX0_end_0 1 rfl rfl)
theorem dX0_end_2 : decode cX0_end 2 = .ok (.aload_n 0, 1) := dk_42 (dk_at dksX0_end_0 2 rfl rfl)
theorem dX0_end_3 : decode cX0_end 3 = .ok (.iload_n 1, 1) := dk_27 (dk_at dksX0_end_0 3 rfl rfl)
theorem dX0_end_4 : decode cX0_end 4 = .ok (.invokevirtual 21, 3) := dk_182 0 21 (dk_at dksX0_end_0 4 rfl rfl)
theorem dX0_end_7 : decode cX0_end 7 = .ok (.i2l, 1) := dk_133 (dk_at dksX0_end_0 7 rfl rfl)
theorem dX0_end_8 : decode cX0_end 8 = .ok (.lastore, 1) := dk_80 (dk_at dksX0_end_0 8 rfl rfl)
theorem dX0_end_9 : decode cX0_end 9 = .ok (.goto 9, 3) := dk_167 0 9 (dk_at dksX0_end_0 9 rfl rfl)
theorem dX0_end_12 : decode cX0_end 12 = .ok (.astore_n 3, 1) := dk_78 (dk_at dksX0_end_0 12 rfl rfl)
theorem dX0_end_13 : decode cX0_end 13 = .ok (.iconst 1, 1) := dk_4 (dk_at dksX0_end_0 13 rfl rfl)
theorem dX0_end_14 : decode cX0_end 14 = .ok (.ireturn, 1) := dk_172 (dk_at dksX0_end_0 14 rfl rfl)
theorem dX0_end_15 : decode cX0_end 15 = .ok (.astore_n 3, 1) := dk_78 (dk_at dksX0_end_0 15 rfl rfl)
theorem dX0_end_16 : decode cX0_end 16 = .ok (.iconst 2, 1) := dk_5 (dk_at dksX0_end_0 16 rfl rfl)
theorem dX0_end_17 : decode cX0_end 17 = .ok (.ireturn, 1) := dk_172 (dk_at dksX0_end_0 17 rfl rfl)
theorem dX0_end_18 : decode cX0_end 18 = .ok (.iconst 0, 1) := dk_3 (dk_at dksX0_end_0 18 rfl rfl)
theorem dX0_end_19 : decode cX0_end 19 = .ok (.ireturn, 1) := dk_172 (dk_at dksX0_end_0 19 rfl rfl)
abbrev cX0_form : ByteArray := method_6_code
def yX0_form : MethodName := ⟨RX0, "form", "(LAppealrent;I[J)I"⟩
def dkwX0_form_0 : List UInt8 := [44, 3, 42, 27, 182, 0, 26, 133, 80, 167, 0, 9, 78, 4, 172, 78, 5, 172, 3, 172]
abbrev dktX0_form_0 : List UInt8 := dkwX0_form_0 ++ []
theorem dksX0_form_0 : cX0_form.data.toList.drop 0 = dktX0_form_0 := by decide +kernel
theorem dX0_form_0 : decode cX0_form 0 = .ok (.aload_n 2, 1) := dk_44 (dk_at dksX0_form_0 0 rfl rfl)
theorem dX0_form_1 : decode cX0_form 1 = .ok (.iconst 0, 1) := dk_3 (dk_at dksX0_form_0 1 rfl rfl)
theorem dX0_form_2 : decode cX0_form 2 = .ok (.aload_n 0, 1) := dk_42 (dk_at dksX0_form_0 2 rfl rfl)
theorem dX0_form_3 : decode cX0_form 3 = .ok (.iload_n 1, 1) := dk_27 (dk_at dksX0_form_0 3 rfl rfl)
theorem dX0_form_4 : decode cX0_form 4 = .ok (.invokevirtual 26, 3) := dk_182 0 26 (dk_at dksX0_form_0 4 rfl rfl)
theorem dX0_form_7 : decode cX0_form 7 = .ok (.i2l, 1) := dk_133 (dk_at dksX0_form_0 7 rfl rfl)
theorem dX0_form_8 : decode cX0_form 8 = .ok (.lastore, 1) := dk_80 (dk_at dksX0_form_0 8 rfl rfl)
theorem dX0_form_9 : decode cX0_form 9 = .ok (.goto 9, 3) := dk_167 0 9 (dk_at dksX0_form_0 9 rfl rfl)
theorem dX0_form_12 : decode cX0_form 12 = .ok (.astore_n 3, 1) := dk_78 (dk_at dksX0_form_0 12 rfl rfl)
theorem dX0_form_13 : decode cX0_form 13 = .ok (.iconst 1, 1) := dk_4 (dk_at dksX0_form_0 13 rfl rfl)
theorem dX0_form_14 : decode cX0_form 14 = .ok (.ireturn, 1) := dk_172 (dk_at dksX0_form_0 14 rfl rfl)
theorem dX0_form_15 : decode cX0_form 15 = .ok (.astore_n 3, 1) := dk_78 (dk_at dksX0_form_0 15 rfl rfl)
theorem dX0_form_16 : decode cX0_form 16 = .ok (.iconst 2, 1) := dk_5 (dk_at dksX0_form_0 16 rfl rfl)
theorem dX0_form_17 : decode cX0_form 17 = .ok (.ireturn, 1) := dk_172 (dk_at dksX0_form_0 17 rfl rfl)
theorem dX0_form_18 : decode cX0_form 18 = .ok (.iconst 0, 1) := dk_3 (dk_at dksX0_form_0 18 rfl rfl)
theorem dX0_form_19 : decode cX0_form 19 = .ok (.ireturn, 1) := dk_172 (dk_at dksX0_form_0 19 rfl rfl)
abbrev cX0_prove : ByteArray := method_7_code
def yX0_prove : MethodName := ⟨RX0, "prove", "(LAppealrent;I[J)I"⟩
def dkwX0_prove_0 : List UInt8 := [44, 3, 42, 27, 182, 0, 29, 133, 80, 167, 0, 9, 78, 4, 172, 78, 5, 172, 3, 172]
abbrev dktX0_prove_0 : List UInt8 := dkwX0_prove_0 ++ []
theorem dksX0_prove_0 : cX0_prove.data.toList.drop 0 = dktX0_prove_0 := by decide +kernel
theorem dX0_prove_0 : decode cX0_prove 0 = .ok (.aload_n 2, 1) := dk_44 (dk_at dksX0_prove_0 0 rfl rfl)
theorem dX0_prove_1 : decode cX0_prove 1 = .ok (.iconst 0, 1) := dk_3 (dk_at dksX0_prove_0 1 rfl rfl)
theorem dX0_prove_2 : decode cX0_prove 2 = .ok (.aload_n 0, 1) := dk_42 (dk_at dksX0_prove_0 2 rfl rfl)
theorem dX0_prove_3 : decode cX0_prove 3 = .ok (.iload_n 1, 1) := dk_27 (dk_at dksX0_prove_0 3 rfl rfl)
theorem dX0_prove_4 : decode cX0_prove 4 = .ok (.invokevirtual 29, 3) := dk_182 0 29 (dk_at dksX0_prove_0 4 rfl rfl)
theorem dX0_prove_7 : decode cX0_prove 7 = .ok (.i2l, 1) := dk_133 (dk_at dksX0_prove_0 7 rfl rfl)
theorem dX0_prove_8 : decode cX0_prove 8 = .ok (.lastore, 1) := dk_80 (dk_at dksX0_prove_0 8 rfl rfl)
theorem dX0_prove_9 : decode cX0_prove 9 = .ok (.goto 9, 3) := dk_167 0 9 (dk_at dksX0_prove_0 9 rfl rfl)
theorem dX0_prove_12 : decode cX0_prove 12 = .ok (.astore_n 3, 1) := dk_78 (dk_at dksX0_prove_0 12 rfl rfl)
theorem dX0_prove_13 : decode cX0_prove 13 = .ok (.iconst 1, 1) := dk_4 (dk_at dksX0_prove_0 13 rfl rfl)
theorem dX0_prove_14 : decode cX0_prove 14 = .ok (.ireturn, 1) := dk_172 (dk_at dksX0_prove_0 14 rfl rfl)
theorem dX0_prove_15 : decode cX0_prove 15 = .ok (.astore_n 3, 1) := dk_78 (dk_at dksX0_prove_0 15 rfl rfl)
theorem dX0_prove_16 : decode cX0_prove 16 = .ok (.iconst 2, 1) := dk_5 (dk_at dksX0_prove_0 16 rfl rfl)
theorem dX0_prove_17 : decode cX0_prove 17 = .ok (.ireturn, 1) := dk_172 (dk_at dksX0_prove_0 17 rfl rfl)
theorem dX0_prove_18 : decode cX0_prove 18 = .ok (.iconst 0, 1) := dk_3 (dk_at dksX0_prove_0 18 rfl rfl)
theorem dX0_prove_19 : decode cX0_prove 19 = .ok (.ireturn, 1) := dk_172 (dk_at dksX0_prove_0 19 rfl rfl)
abbrev cX0_rule : ByteArray := method_8_code
def yX0_rule : MethodName := ⟨RX0, "rule", "(LAppealrent;IZ[J)I"⟩
def dkwX0_rule_0 : List UInt8 := [45, 3, 42, 27, 28, 182, 0, 32, 133, 80, 167, 0, 11, 58, 4, 4, 172, 58, 4, 5, 172, 3, 172]
abbrev dktX0_rule_0 : List UInt8 := dkwX0_rule_0 ++ []
theorem dksX0_rule_0 : cX0_rule.data.toList.drop 0 = dktX0_rule_0 := by decide +kernel
theorem dX0_rule_0 : decode cX0_rule 0 = .ok (.aload_n 3, 1) := dk_45 (dk_at dksX0_rule_0 0 rfl rfl)
theorem dX0_rule_1 : decode cX0_rule 1 = .ok (.iconst 0, 1) := dk_3 (dk_at dksX0_rule_0 1 rfl rfl)
theorem dX0_rule_2 : decode cX0_rule 2 = .ok (.aload_n 0, 1) := dk_42 (dk_at dksX0_rule_0 2 rfl rfl)
theorem dX0_rule_3 : decode cX0_rule 3 = .ok (.iload_n 1, 1) := dk_27 (dk_at dksX0_rule_0 3 rfl rfl)
theorem dX0_rule_4 : decode cX0_rule 4 = .ok (.iload_n 2, 1) := dk_28 (dk_at dksX0_rule_0 4 rfl rfl)
theorem dX0_rule_5 : decode cX0_rule 5 = .ok (.invokevirtual 32, 3) := dk_182 0 32 (dk_at dksX0_rule_0 5 rfl rfl)
theorem dX0_rule_8 : decode cX0_rule 8 = .ok (.i2l, 1) := dk_133 (dk_at dksX0_rule_0 8 rfl rfl)
theorem dX0_rule_9 : decode cX0_rule 9 = .ok (.lastore, 1) := dk_80 (dk_at dksX0_rule_0 9 rfl rfl)
theorem dX0_rule_10 : decode cX0_rule 10 = .ok (.goto 11, 3) := dk_167 0 11 (dk_at dksX0_rule_0 10 rfl rfl)
theorem dX0_rule_13 : decode cX0_rule 13 = .ok (.astore 4, 2) := dk_58 4 (dk_at dksX0_rule_0 13 rfl rfl)
theorem dX0_rule_15 : decode cX0_rule 15 = .ok (.iconst 1, 1) := dk_4 (dk_at dksX0_rule_0 15 rfl rfl)
theorem dX0_rule_16 : decode cX0_rule 16 = .ok (.ireturn, 1) := dk_172 (dk_at dksX0_rule_0 16 rfl rfl)
theorem dX0_rule_17 : decode cX0_rule 17 = .ok (.astore 4, 2) := dk_58 4 (dk_at dksX0_rule_0 17 rfl rfl)
theorem dX0_rule_19 : decode cX0_rule 19 = .ok (.iconst 2, 1) := dk_5 (dk_at dksX0_rule_0 19 rfl rfl)
theorem dX0_rule_20 : decode cX0_rule 20 = .ok (.ireturn, 1) := dk_172 (dk_at dksX0_rule_0 20 rfl rfl)
theorem dX0_rule_21 : decode cX0_rule 21 = .ok (.iconst 0, 1) := dk_3 (dk_at dksX0_rule_0 21 rfl rfl)
theorem dX0_rule_22 : decode cX0_rule 22 = .ok (.ireturn, 1) := dk_172 (dk_at dksX0_rule_0 22 rfl rfl)
abbrev cX0_appeal : ByteArray := method_9_code
def yX0_appeal : MethodName := ⟨RX0, "appeal", "(LAppealrent;I[J)I"⟩
def dkwX0_appeal_0 : List UInt8 := [44, 3, 42, 27, 182, 0, 36, 133, 80, 167, 0, 9, 78, 4, 172, 78, 5, 172, 3, 172]
abbrev dktX0_appeal_0 : List UInt8 := dkwX0_appeal_0 ++ []
theorem dksX0_appeal_0 : cX0_appeal.data.toList.drop 0 = dktX0_appeal_0 := by decide +kernel
theorem dX0_appeal_0 : decode cX0_appeal 0 = .ok (.aload_n 2, 1) := dk_44 (dk_at dksX0_appeal_0 0 rfl rfl)
theorem dX0_appeal_1 : decode cX0_appeal 1 = .ok (.iconst 0, 1) := dk_3 (dk_at dksX0_appeal_0 1 rfl rfl)
theorem dX0_appeal_2 : decode cX0_appeal 2 = .ok (.aload_n 0, 1) := dk_42 (dk_at dksX0_appeal_0 2 rfl rfl)
theorem dX0_appeal_3 : decode cX0_appeal 3 = .ok (.iload_n 1, 1) := dk_27 (dk_at dksX0_appeal_0 3 rfl rfl)
theorem dX0_appeal_4 : decode cX0_appeal 4 = .ok (.invokevirtual 36, 3) := dk_182 0 36 (dk_at dksX0_appeal_0 4 rfl rfl)
theorem dX0_appeal_7 : decode cX0_appeal 7 = .ok (.i2l, 1) := dk_133 (dk_at dksX0_appeal_0 7 rfl rfl)
theorem dX0_appeal_8 : decode cX0_appeal 8 = .ok (.lastore, 1) := dk_80 (dk_at dksX0_appeal_0 8 rfl rfl)
theorem dX0_appeal_9 : decode cX0_appeal 9 = .ok (.goto 9, 3) := dk_167 0 9 (dk_at dksX0_appeal_0 9 rfl rfl)
theorem dX0_appeal_12 : decode cX0_appeal 12 = .ok (.astore_n 3, 1) := dk_78 (dk_at dksX0_appeal_0 12 rfl rfl)
theorem dX0_appeal_13 : decode cX0_appeal 13 = .ok (.iconst 1, 1) := dk_4 (dk_at dksX0_appeal_0 13 rfl rfl)
theorem dX0_appeal_14 : decode cX0_appeal 14 = .ok (.ireturn, 1) := dk_172 (dk_at dksX0_appeal_0 14 rfl rfl)
theorem dX0_appeal_15 : decode cX0_appeal 15 = .ok (.astore_n 3, 1) := dk_78 (dk_at dksX0_appeal_0 15 rfl rfl)
theorem dX0_appeal_16 : decode cX0_appeal 16 = .ok (.iconst 2, 1) := dk_5 (dk_at dksX0_appeal_0 16 rfl rfl)
theorem dX0_appeal_17 : decode cX0_appeal 17 = .ok (.ireturn, 1) := dk_172 (dk_at dksX0_appeal_0 17 rfl rfl)
theorem dX0_appeal_18 : decode cX0_appeal 18 = .ok (.iconst 0, 1) := dk_3 (dk_at dksX0_appeal_0 18 rfl rfl)
theorem dX0_appeal_19 : decode cX0_appeal 19 = .ok (.ireturn, 1) := dk_172 (dk_at dksX0_appeal_0 19 rfl rfl)
abbrev cX0_decide : ByteArray := method_10_code
def yX0_decide : MethodName := ⟨RX0, "decide", "(LAppealrent;II[J)I"⟩
def dkwX0_decide_1 : List UInt8 := [172, 3, 172]
abbrev dktX0_decide_1 : List UInt8 := dkwX0_decide_1 ++ []
def dkwX0_decide_0 : List UInt8 := [45, 3, 42, 27, 28, 182, 0, 39, 133, 80, 167, 0, 15, 58, 4, 4, 172, 58, 4, 5, 172, 58, 4, 6]
abbrev dktX0_decide_0 : List UInt8 := dkwX0_decide_0 ++ dktX0_decide_1
theorem dksX0_decide_0 : cX0_decide.data.toList.drop 0 = dktX0_decide_0 := by decide +kernel
theorem dksX0_decide_1 : cX0_decide.data.toList.drop 24 = dktX0_decide_1 := dk_seg dksX0_decide_0 24 rfl rfl
theorem dX0_decide_0 : decode cX0_decide 0 = .ok (.aload_n 3, 1) := dk_45 (dk_at dksX0_decide_0 0 rfl rfl)
theorem dX0_decide_1 : decode cX0_decide 1 = .ok (.iconst 0, 1) := dk_3 (dk_at dksX0_decide_0 1 rfl rfl)
theorem dX0_decide_2 : decode cX0_decide 2 = .ok (.aload_n 0, 1) := dk_42 (dk_at dksX0_decide_0 2 rfl rfl)
theorem dX0_decide_3 : decode cX0_decide 3 = .ok (.iload_n 1, 1) := dk_27 (dk_at dksX0_decide_0 3 rfl rfl)
theorem dX0_decide_4 : decode cX0_decide 4 = .ok (.iload_n 2, 1) := dk_28 (dk_at dksX0_decide_0 4 rfl rfl)
theorem dX0_decide_5 : decode cX0_decide 5 = .ok (.invokevirtual 39, 3) := dk_182 0 39 (dk_at dksX0_decide_0 5 rfl rfl)
theorem dX0_decide_8 : decode cX0_decide 8 = .ok (.i2l, 1) := dk_133 (dk_at dksX0_decide_0 8 rfl rfl)
theorem dX0_decide_9 : decode cX0_decide 9 = .ok (.lastore, 1) := dk_80 (dk_at dksX0_decide_0 9 rfl rfl)
theorem dX0_decide_10 : decode cX0_decide 10 = .ok (.goto 15, 3) := dk_167 0 15 (dk_at dksX0_decide_0 10 rfl rfl)
theorem dX0_decide_13 : decode cX0_decide 13 = .ok (.astore 4, 2) := dk_58 4 (dk_at dksX0_decide_0 13 rfl rfl)
theorem dX0_decide_15 : decode cX0_decide 15 = .ok (.iconst 1, 1) := dk_4 (dk_at dksX0_decide_0 15 rfl rfl)
theorem dX0_decide_16 : decode cX0_decide 16 = .ok (.ireturn, 1) := dk_172 (dk_at dksX0_decide_0 16 rfl rfl)
theorem dX0_decide_17 : decode cX0_decide 17 = .ok (.astore 4, 2) := dk_58 4 (dk_at dksX0_decide_0 17 rfl rfl)
theorem dX0_decide_19 : decode cX0_decide 19 = .ok (.iconst 2, 1) := dk_5 (dk_at dksX0_decide_0 19 rfl rfl)
theorem dX0_decide_20 : decode cX0_decide 20 = .ok (.ireturn, 1) := dk_172 (dk_at dksX0_decide_0 20 rfl rfl)
theorem dX0_decide_21 : decode cX0_decide 21 = .ok (.astore 4, 2) := dk_58 4 (dk_at dksX0_decide_0 21 rfl rfl)
theorem dX0_decide_23 : decode cX0_decide 23 = .ok (.iconst 3, 1) := dk_6 (dk_at dksX0_decide_0 23 rfl rfl)
theorem dX0_decide_24 : decode cX0_decide 24 = .ok (.ireturn, 1) := dk_172 (dk_at dksX0_decide_1 0 rfl rfl)
theorem dX0_decide_25 : decode cX0_decide 25 = .ok (.iconst 0, 1) := dk_3 (dk_at dksX0_decide_1 1 rfl rfl)
theorem dX0_decide_26 : decode cX0_decide 26 = .ok (.ireturn, 1) := dk_172 (dk_at dksX0_decide_1 2 rfl rfl)
abbrev cX0_payBack : ByteArray := method_11_code
def yX0_payBack : MethodName := ⟨RX0, "payBack", "(LAppealrent;II[J)I"⟩
def dkwX0_payBack_1 : List UInt8 := [172, 3, 172]
abbrev dktX0_payBack_1 : List UInt8 := dkwX0_payBack_1 ++ []
def dkwX0_payBack_0 : List UInt8 := [45, 3, 42, 27, 28, 182, 0, 43, 133, 80, 167, 0, 15, 58, 4, 4, 172, 58, 4, 5, 172, 58, 4, 6]
abbrev dktX0_payBack_0 : List UInt8 := dkwX0_payBack_0 ++ dktX0_payBack_1
theorem dksX0_payBack_0 : cX0_payBack.data.toList.drop 0 = dktX0_payBack_0 := by decide +kernel
theorem dksX0_payBack_1 : cX0_payBack.data.toList.drop 24 = dktX0_payBack_1 := dk_seg dksX0_payBack_0 24 rfl rfl
theorem dX0_payBack_0 : decode cX0_payBack 0 = .ok (.aload_n 3, 1) := dk_45 (dk_at dksX0_payBack_0 0 rfl rfl)
theorem dX0_payBack_1 : decode cX0_payBack 1 = .ok (.iconst 0, 1) := dk_3 (dk_at dksX0_payBack_0 1 rfl rfl)
theorem dX0_payBack_2 : decode cX0_payBack 2 = .ok (.aload_n 0, 1) := dk_42 (dk_at dksX0_payBack_0 2 rfl rfl)
theorem dX0_payBack_3 : decode cX0_payBack 3 = .ok (.iload_n 1, 1) := dk_27 (dk_at dksX0_payBack_0 3 rfl rfl)
theorem dX0_payBack_4 : decode cX0_payBack 4 = .ok (.iload_n 2, 1) := dk_28 (dk_at dksX0_payBack_0 4 rfl rfl)
theorem dX0_payBack_5 : decode cX0_payBack 5 = .ok (.invokevirtual 43, 3) := dk_182 0 43 (dk_at dksX0_payBack_0 5 rfl rfl)
theorem dX0_payBack_8 : decode cX0_payBack 8 = .ok (.i2l, 1) := dk_133 (dk_at dksX0_payBack_0 8 rfl rfl)
theorem dX0_payBack_9 : decode cX0_payBack 9 = .ok (.lastore, 1) := dk_80 (dk_at dksX0_payBack_0 9 rfl rfl)
theorem dX0_payBack_10 : decode cX0_payBack 10 = .ok (.goto 15, 3) := dk_167 0 15 (dk_at dksX0_payBack_0 10 rfl rfl)
theorem dX0_payBack_13 : decode cX0_payBack 13 = .ok (.astore 4, 2) := dk_58 4 (dk_at dksX0_payBack_0 13 rfl rfl)
theorem dX0_payBack_15 : decode cX0_payBack 15 = .ok (.iconst 1, 1) := dk_4 (dk_at dksX0_payBack_0 15 rfl rfl)
theorem dX0_payBack_16 : decode cX0_payBack 16 = .ok (.ireturn, 1) := dk_172 (dk_at dksX0_payBack_0 16 rfl rfl)
theorem dX0_payBack_17 : decode cX0_payBack 17 = .ok (.astore 4, 2) := dk_58 4 (dk_at dksX0_payBack_0 17 rfl rfl)
theorem dX0_payBack_19 : decode cX0_payBack 19 = .ok (.iconst 2, 1) := dk_5 (dk_at dksX0_payBack_0 19 rfl rfl)
theorem dX0_payBack_20 : decode cX0_payBack 20 = .ok (.ireturn, 1) := dk_172 (dk_at dksX0_payBack_0 20 rfl rfl)
theorem dX0_payBack_21 : decode cX0_payBack 21 = .ok (.astore 4, 2) := dk_58 4 (dk_at dksX0_payBack_0 21 rfl rfl)
theorem dX0_payBack_23 : decode cX0_payBack 23 = .ok (.iconst 3, 1) := dk_6 (dk_at dksX0_payBack_0 23 rfl rfl)
theorem dX0_payBack_24 : decode cX0_payBack 24 = .ok (.ireturn, 1) := dk_172 (dk_at dksX0_payBack_1 0 rfl rfl)
theorem dX0_payBack_25 : decode cX0_payBack 25 = .ok (.iconst 0, 1) := dk_3 (dk_at dksX0_payBack_1 1 rfl rfl)
theorem dX0_payBack_26 : decode cX0_payBack 26 = .ok (.ireturn, 1) := dk_172 (dk_at dksX0_payBack_1 2 rfl rfl)
abbrev cX0_pass : ByteArray := method_12_code
def yX0_pass : MethodName := ⟨RX0, "pass", "(LAppealrent;I[J)I"⟩
def dkwX0_pass_0 : List UInt8 := [44, 3, 42, 27, 182, 0, 46, 133, 80, 167, 0, 9, 78, 4, 172, 78, 5, 172, 3, 172]
abbrev dktX0_pass_0 : List UInt8 := dkwX0_pass_0 ++ []
theorem dksX0_pass_0 : cX0_pass.data.toList.drop 0 = dktX0_pass_0 := by decide +kernel
theorem dX0_pass_0 : decode cX0_pass 0 = .ok (.aload_n 2, 1) := dk_44 (dk_at dksX0_pass_0 0 rfl rfl)
theorem dX0_pass_1 : decode cX0_pass 1 = .ok (.iconst 0, 1) := dk_3 (dk_at dksX0_pass_0 1 rfl rfl)
theorem dX0_pass_2 : decode cX0_pass 2 = .ok (.aload_n 0, 1) := dk_42 (dk_at dksX0_pass_0 2 rfl rfl)
theorem dX0_pass_3 : decode cX0_pass 3 = .ok (.iload_n 1, 1) := dk_27 (dk_at dksX0_pass_0 3 rfl rfl)
theorem dX0_pass_4 : decode cX0_pass 4 = .ok (.invokevirtual 46, 3) := dk_182 0 46 (dk_at dksX0_pass_0 4 rfl rfl)
theorem dX0_pass_7 : decode cX0_pass 7 = .ok (.i2l, 1) := dk_133 (dk_at dksX0_pass_0 7 rfl rfl)
theorem dX0_pass_8 : decode cX0_pass 8 = .ok (.lastore, 1) := dk_80 (dk_at dksX0_pass_0 8 rfl rfl)
theorem dX0_pass_9 : decode cX0_pass 9 = .ok (.goto 9, 3) := dk_167 0 9 (dk_at dksX0_pass_0 9 rfl rfl)
theorem dX0_pass_12 : decode cX0_pass 12 = .ok (.astore_n 3, 1) := dk_78 (dk_at dksX0_pass_0 12 rfl rfl)
theorem dX0_pass_13 : decode cX0_pass 13 = .ok (.iconst 1, 1) := dk_4 (dk_at dksX0_pass_0 13 rfl rfl)
theorem dX0_pass_14 : decode cX0_pass 14 = .ok (.ireturn, 1) := dk_172 (dk_at dksX0_pass_0 14 rfl rfl)
theorem dX0_pass_15 : decode cX0_pass 15 = .ok (.astore_n 3, 1) := dk_78 (dk_at dksX0_pass_0 15 rfl rfl)
theorem dX0_pass_16 : decode cX0_pass 16 = .ok (.iconst 2, 1) := dk_5 (dk_at dksX0_pass_0 16 rfl rfl)
theorem dX0_pass_17 : decode cX0_pass 17 = .ok (.ireturn, 1) := dk_172 (dk_at dksX0_pass_0 17 rfl rfl)
theorem dX0_pass_18 : decode cX0_pass 18 = .ok (.iconst 0, 1) := dk_3 (dk_at dksX0_pass_0 18 rfl rfl)
theorem dX0_pass_19 : decode cX0_pass 19 = .ok (.ireturn, 1) := dk_172 (dk_at dksX0_pass_0 19 rfl rfl)
abbrev cX0_fact : ByteArray := method_13_code
def yX0_fact : MethodName := ⟨RX0, "fact", "(LAppealrent;III[J)I"⟩
def dkwX0_fact_1 : List UInt8 := [172]
abbrev dktX0_fact_1 : List UInt8 := dkwX0_fact_1 ++ []
def dkwX0_fact_0 : List UInt8 := [25, 4, 3, 42, 27, 28, 29, 182, 0, 49, 133, 80, 167, 0, 11, 58, 5, 4, 172, 58, 5, 5, 172, 3]
abbrev dktX0_fact_0 : List UInt8 := dkwX0_fact_0 ++ dktX0_fact_1
theorem dksX0_fact_0 : cX0_fact.data.toList.drop 0 = dktX0_fact_0 := by decide +kernel
theorem dksX0_fact_1 : cX0_fact.data.toList.drop 24 = dktX0_fact_1 := dk_seg dksX0_fact_0 24 rfl rfl
theorem dX0_fact_0 : decode cX0_fact 0 = .ok (.aload 4, 2) := dk_25 4 (dk_at dksX0_fact_0 0 rfl rfl)
theorem dX0_fact_2 : decode cX0_fact 2 = .ok (.iconst 0, 1) := dk_3 (dk_at dksX0_fact_0 2 rfl rfl)
theorem dX0_fact_3 : decode cX0_fact 3 = .ok (.aload_n 0, 1) := dk_42 (dk_at dksX0_fact_0 3 rfl rfl)
theorem dX0_fact_4 : decode cX0_fact 4 = .ok (.iload_n 1, 1) := dk_27 (dk_at dksX0_fact_0 4 rfl rfl)
theorem dX0_fact_5 : decode cX0_fact 5 = .ok (.iload_n 2, 1) := dk_28 (dk_at dksX0_fact_0 5 rfl rfl)
theorem dX0_fact_6 : decode cX0_fact 6 = .ok (.iload_n 3, 1) := dk_29 (dk_at dksX0_fact_0 6 rfl rfl)
theorem dX0_fact_7 : decode cX0_fact 7 = .ok (.invokevirtual 49, 3) := dk_182 0 49 (dk_at dksX0_fact_0 7 rfl rfl)
theorem dX0_fact_10 : decode cX0_fact 10 = .ok (.i2l, 1) := dk_133 (dk_at dksX0_fact_0 10 rfl rfl)
theorem dX0_fact_11 : decode cX0_fact 11 = .ok (.lastore, 1) := dk_80 (dk_at dksX0_fact_0 11 rfl rfl)
theorem dX0_fact_12 : decode cX0_fact 12 = .ok (.goto 11, 3) := dk_167 0 11 (dk_at dksX0_fact_0 12 rfl rfl)
theorem dX0_fact_15 : decode cX0_fact 15 = .ok (.astore 5, 2) := dk_58 5 (dk_at dksX0_fact_0 15 rfl rfl)
theorem dX0_fact_17 : decode cX0_fact 17 = .ok (.iconst 1, 1) := dk_4 (dk_at dksX0_fact_0 17 rfl rfl)
theorem dX0_fact_18 : decode cX0_fact 18 = .ok (.ireturn, 1) := dk_172 (dk_at dksX0_fact_0 18 rfl rfl)
theorem dX0_fact_19 : decode cX0_fact 19 = .ok (.astore 5, 2) := dk_58 5 (dk_at dksX0_fact_0 19 rfl rfl)
theorem dX0_fact_21 : decode cX0_fact 21 = .ok (.iconst 2, 1) := dk_5 (dk_at dksX0_fact_0 21 rfl rfl)
theorem dX0_fact_22 : decode cX0_fact 22 = .ok (.ireturn, 1) := dk_172 (dk_at dksX0_fact_0 22 rfl rfl)
theorem dX0_fact_23 : decode cX0_fact 23 = .ok (.iconst 0, 1) := dk_3 (dk_at dksX0_fact_0 23 rfl rfl)
theorem dX0_fact_24 : decode cX0_fact 24 = .ok (.ireturn, 1) := dk_172 (dk_at dksX0_fact_1 0 rfl rfl)
abbrev cX0_ruleOn : ByteArray := method_14_code
def yX0_ruleOn : MethodName := ⟨RX0, "ruleOn", "(LAppealrent;II[J)I"⟩
def dkwX0_ruleOn_0 : List UInt8 := [45, 3, 42, 27, 28, 182, 0, 53, 133, 80, 167, 0, 11, 58, 4, 4, 172, 58, 4, 5, 172, 3, 172]
abbrev dktX0_ruleOn_0 : List UInt8 := dkwX0_ruleOn_0 ++ []
theorem dksX0_ruleOn_0 : cX0_ruleOn.data.toList.drop 0 = dktX0_ruleOn_0 := by decide +kernel
theorem dX0_ruleOn_0 : decode cX0_ruleOn 0 = .ok (.aload_n 3, 1) := dk_45 (dk_at dksX0_ruleOn_0 0 rfl rfl)
theorem dX0_ruleOn_1 : decode cX0_ruleOn 1 = .ok (.iconst 0, 1) := dk_3 (dk_at dksX0_ruleOn_0 1 rfl rfl)
theorem dX0_ruleOn_2 : decode cX0_ruleOn 2 = .ok (.aload_n 0, 1) := dk_42 (dk_at dksX0_ruleOn_0 2 rfl rfl)
theorem dX0_ruleOn_3 : decode cX0_ruleOn 3 = .ok (.iload_n 1, 1) := dk_27 (dk_at dksX0_ruleOn_0 3 rfl rfl)
theorem dX0_ruleOn_4 : decode cX0_ruleOn 4 = .ok (.iload_n 2, 1) := dk_28 (dk_at dksX0_ruleOn_0 4 rfl rfl)
theorem dX0_ruleOn_5 : decode cX0_ruleOn 5 = .ok (.invokevirtual 53, 3) := dk_182 0 53 (dk_at dksX0_ruleOn_0 5 rfl rfl)
theorem dX0_ruleOn_8 : decode cX0_ruleOn 8 = .ok (.i2l, 1) := dk_133 (dk_at dksX0_ruleOn_0 8 rfl rfl)
theorem dX0_ruleOn_9 : decode cX0_ruleOn 9 = .ok (.lastore, 1) := dk_80 (dk_at dksX0_ruleOn_0 9 rfl rfl)
theorem dX0_ruleOn_10 : decode cX0_ruleOn 10 = .ok (.goto 11, 3) := dk_167 0 11 (dk_at dksX0_ruleOn_0 10 rfl rfl)
theorem dX0_ruleOn_13 : decode cX0_ruleOn 13 = .ok (.astore 4, 2) := dk_58 4 (dk_at dksX0_ruleOn_0 13 rfl rfl)
theorem dX0_ruleOn_15 : decode cX0_ruleOn 15 = .ok (.iconst 1, 1) := dk_4 (dk_at dksX0_ruleOn_0 15 rfl rfl)
theorem dX0_ruleOn_16 : decode cX0_ruleOn 16 = .ok (.ireturn, 1) := dk_172 (dk_at dksX0_ruleOn_0 16 rfl rfl)
theorem dX0_ruleOn_17 : decode cX0_ruleOn 17 = .ok (.astore 4, 2) := dk_58 4 (dk_at dksX0_ruleOn_0 17 rfl rfl)
theorem dX0_ruleOn_19 : decode cX0_ruleOn 19 = .ok (.iconst 2, 1) := dk_5 (dk_at dksX0_ruleOn_0 19 rfl rfl)
theorem dX0_ruleOn_20 : decode cX0_ruleOn 20 = .ok (.ireturn, 1) := dk_172 (dk_at dksX0_ruleOn_0 20 rfl rfl)
theorem dX0_ruleOn_21 : decode cX0_ruleOn 21 = .ok (.iconst 0, 1) := dk_3 (dk_at dksX0_ruleOn_0 21 rfl rfl)
theorem dX0_ruleOn_22 : decode cX0_ruleOn 22 = .ok (.ireturn, 1) := dk_172 (dk_at dksX0_ruleOn_0 22 rfl rfl)
abbrev cX0_help : ByteArray := method_15_code
def yX0_help : MethodName := ⟨RX0, "help", "(LAppealrent;II[J)I"⟩
def dkwX0_help_0 : List UInt8 := [45, 3, 42, 27, 28, 182, 0, 56, 133, 80, 167, 0, 11, 58, 4, 4, 172, 58, 4, 5, 172, 3, 172]
abbrev dktX0_help_0 : List UInt8 := dkwX0_help_0 ++ []
theorem dksX0_help_0 : cX0_help.data.toList.drop 0 = dktX0_help_0 := by decide +kernel
theorem dX0_help_0 : decode cX0_help 0 = .ok (.aload_n 3, 1) := dk_45 (dk_at dksX0_help_0 0 rfl rfl)
theorem dX0_help_1 : decode cX0_help 1 = .ok (.iconst 0, 1) := dk_3 (dk_at dksX0_help_0 1 rfl rfl)
theorem dX0_help_2 : decode cX0_help 2 = .ok (.aload_n 0, 1) := dk_42 (dk_at dksX0_help_0 2 rfl rfl)
theorem dX0_help_3 : decode cX0_help 3 = .ok (.iload_n 1, 1) := dk_27 (dk_at dksX0_help_0 3 rfl rfl)
theorem dX0_help_4 : decode cX0_help 4 = .ok (.iload_n 2, 1) := dk_28 (dk_at dksX0_help_0 4 rfl rfl)
theorem dX0_help_5 : decode cX0_help 5 = .ok (.invokevirtual 56, 3) := dk_182 0 56 (dk_at dksX0_help_0 5 rfl rfl)
theorem dX0_help_8 : decode cX0_help 8 = .ok (.i2l, 1) := dk_133 (dk_at dksX0_help_0 8 rfl rfl)
theorem dX0_help_9 : decode cX0_help 9 = .ok (.lastore, 1) := dk_80 (dk_at dksX0_help_0 9 rfl rfl)
theorem dX0_help_10 : decode cX0_help 10 = .ok (.goto 11, 3) := dk_167 0 11 (dk_at dksX0_help_0 10 rfl rfl)
theorem dX0_help_13 : decode cX0_help 13 = .ok (.astore 4, 2) := dk_58 4 (dk_at dksX0_help_0 13 rfl rfl)
theorem dX0_help_15 : decode cX0_help 15 = .ok (.iconst 1, 1) := dk_4 (dk_at dksX0_help_0 15 rfl rfl)
theorem dX0_help_16 : decode cX0_help 16 = .ok (.ireturn, 1) := dk_172 (dk_at dksX0_help_0 16 rfl rfl)
theorem dX0_help_17 : decode cX0_help 17 = .ok (.astore 4, 2) := dk_58 4 (dk_at dksX0_help_0 17 rfl rfl)
theorem dX0_help_19 : decode cX0_help 19 = .ok (.iconst 2, 1) := dk_5 (dk_at dksX0_help_0 19 rfl rfl)
theorem dX0_help_20 : decode cX0_help 20 = .ok (.ireturn, 1) := dk_172 (dk_at dksX0_help_0 20 rfl rfl)
theorem dX0_help_21 : decode cX0_help 21 = .ok (.iconst 0, 1) := dk_3 (dk_at dksX0_help_0 21 rfl rfl)
theorem dX0_help_22 : decode cX0_help 22 = .ok (.ireturn, 1) := dk_172 (dk_at dksX0_help_0 22 rfl rfl)
abbrev cX0_due : ByteArray := method_16_code
def yX0_due : MethodName := ⟨RX0, "due", "(LAppealrent;II[J)I"⟩
def dkwX0_due_0 : List UInt8 := [45, 3, 42, 27, 28, 182, 0, 59, 133, 80, 167, 0, 11, 58, 4, 4, 172, 58, 4, 5, 172, 3, 172]
abbrev dktX0_due_0 : List UInt8 := dkwX0_due_0 ++ []
theorem dksX0_due_0 : cX0_due.data.toList.drop 0 = dktX0_due_0 := by decide +kernel
theorem dX0_due_0 : decode cX0_due 0 = .ok (.aload_n 3, 1) := dk_45 (dk_at dksX0_due_0 0 rfl rfl)
theorem dX0_due_1 : decode cX0_due 1 = .ok (.iconst 0, 1) := dk_3 (dk_at dksX0_due_0 1 rfl rfl)
theorem dX0_due_2 : decode cX0_due 2 = .ok (.aload_n 0, 1) := dk_42 (dk_at dksX0_due_0 2 rfl rfl)
theorem dX0_due_3 : decode cX0_due 3 = .ok (.iload_n 1, 1) := dk_27 (dk_at dksX0_due_0 3 rfl rfl)
theorem dX0_due_4 : decode cX0_due 4 = .ok (.iload_n 2, 1) := dk_28 (dk_at dksX0_due_0 4 rfl rfl)
theorem dX0_due_5 : decode cX0_due 5 = .ok (.invokevirtual 59, 3) := dk_182 0 59 (dk_at dksX0_due_0 5 rfl rfl)
theorem dX0_due_8 : decode cX0_due 8 = .ok (.i2l, 1) := dk_133 (dk_at dksX0_due_0 8 rfl rfl)
theorem dX0_due_9 : decode cX0_due 9 = .ok (.lastore, 1) := dk_80 (dk_at dksX0_due_0 9 rfl rfl)
theorem dX0_due_10 : decode cX0_due 10 = .ok (.goto 11, 3) := dk_167 0 11 (dk_at dksX0_due_0 10 rfl rfl)
theorem dX0_due_13 : decode cX0_due 13 = .ok (.astore 4, 2) := dk_58 4 (dk_at dksX0_due_0 13 rfl rfl)
theorem dX0_due_15 : decode cX0_due 15 = .ok (.iconst 1, 1) := dk_4 (dk_at dksX0_due_0 15 rfl rfl)
theorem dX0_due_16 : decode cX0_due 16 = .ok (.ireturn, 1) := dk_172 (dk_at dksX0_due_0 16 rfl rfl)
theorem dX0_due_17 : decode cX0_due 17 = .ok (.astore 4, 2) := dk_58 4 (dk_at dksX0_due_0 17 rfl rfl)
theorem dX0_due_19 : decode cX0_due 19 = .ok (.iconst 2, 1) := dk_5 (dk_at dksX0_due_0 19 rfl rfl)
theorem dX0_due_20 : decode cX0_due 20 = .ok (.ireturn, 1) := dk_172 (dk_at dksX0_due_0 20 rfl rfl)
theorem dX0_due_21 : decode cX0_due 21 = .ok (.iconst 0, 1) := dk_3 (dk_at dksX0_due_0 21 rfl rfl)
theorem dX0_due_22 : decode cX0_due 22 = .ok (.ireturn, 1) := dk_172 (dk_at dksX0_due_0 22 rfl rfl)
abbrev cX0_paid : ByteArray := method_17_code
def yX0_paid : MethodName := ⟨RX0, "paid", "(LAppealrent;II[J)I"⟩
def dkwX0_paid_0 : List UInt8 := [45, 3, 42, 27, 28, 182, 0, 62, 133, 80, 167, 0, 11, 58, 4, 4, 172, 58, 4, 5, 172, 3, 172]
abbrev dktX0_paid_0 : List UInt8 := dkwX0_paid_0 ++ []
theorem dksX0_paid_0 : cX0_paid.data.toList.drop 0 = dktX0_paid_0 := by decide +kernel
theorem dX0_paid_0 : decode cX0_paid 0 = .ok (.aload_n 3, 1) := dk_45 (dk_at dksX0_paid_0 0 rfl rfl)
theorem dX0_paid_1 : decode cX0_paid 1 = .ok (.iconst 0, 1) := dk_3 (dk_at dksX0_paid_0 1 rfl rfl)
theorem dX0_paid_2 : decode cX0_paid 2 = .ok (.aload_n 0, 1) := dk_42 (dk_at dksX0_paid_0 2 rfl rfl)
theorem dX0_paid_3 : decode cX0_paid 3 = .ok (.iload_n 1, 1) := dk_27 (dk_at dksX0_paid_0 3 rfl rfl)
theorem dX0_paid_4 : decode cX0_paid 4 = .ok (.iload_n 2, 1) := dk_28 (dk_at dksX0_paid_0 4 rfl rfl)
theorem dX0_paid_5 : decode cX0_paid 5 = .ok (.invokevirtual 62, 3) := dk_182 0 62 (dk_at dksX0_paid_0 5 rfl rfl)
theorem dX0_paid_8 : decode cX0_paid 8 = .ok (.i2l, 1) := dk_133 (dk_at dksX0_paid_0 8 rfl rfl)
theorem dX0_paid_9 : decode cX0_paid 9 = .ok (.lastore, 1) := dk_80 (dk_at dksX0_paid_0 9 rfl rfl)
theorem dX0_paid_10 : decode cX0_paid 10 = .ok (.goto 11, 3) := dk_167 0 11 (dk_at dksX0_paid_0 10 rfl rfl)
theorem dX0_paid_13 : decode cX0_paid 13 = .ok (.astore 4, 2) := dk_58 4 (dk_at dksX0_paid_0 13 rfl rfl)
theorem dX0_paid_15 : decode cX0_paid 15 = .ok (.iconst 1, 1) := dk_4 (dk_at dksX0_paid_0 15 rfl rfl)
theorem dX0_paid_16 : decode cX0_paid 16 = .ok (.ireturn, 1) := dk_172 (dk_at dksX0_paid_0 16 rfl rfl)
theorem dX0_paid_17 : decode cX0_paid 17 = .ok (.astore 4, 2) := dk_58 4 (dk_at dksX0_paid_0 17 rfl rfl)
theorem dX0_paid_19 : decode cX0_paid 19 = .ok (.iconst 2, 1) := dk_5 (dk_at dksX0_paid_0 19 rfl rfl)
theorem dX0_paid_20 : decode cX0_paid 20 = .ok (.ireturn, 1) := dk_172 (dk_at dksX0_paid_0 20 rfl rfl)
theorem dX0_paid_21 : decode cX0_paid 21 = .ok (.iconst 0, 1) := dk_3 (dk_at dksX0_paid_0 21 rfl rfl)
theorem dX0_paid_22 : decode cX0_paid 22 = .ok (.ireturn, 1) := dk_172 (dk_at dksX0_paid_0 22 rfl rfl)
abbrev cX0_caseAt : ByteArray := method_18_code
def yX0_caseAt : MethodName := ⟨RX0, "caseAt", "(LAppealrent;II[J)I"⟩
def dkwX0_caseAt_0 : List UInt8 := [45, 3, 42, 27, 28, 182, 0, 65, 133, 80, 167, 0, 11, 58, 4, 4, 172, 58, 4, 5, 172, 3, 172]
abbrev dktX0_caseAt_0 : List UInt8 := dkwX0_caseAt_0 ++ []
theorem dksX0_caseAt_0 : cX0_caseAt.data.toList.drop 0 = dktX0_caseAt_0 := by decide +kernel
theorem dX0_caseAt_0 : decode cX0_caseAt 0 = .ok (.aload_n 3, 1) := dk_45 (dk_at dksX0_caseAt_0 0 rfl rfl)
theorem dX0_caseAt_1 : decode cX0_caseAt 1 = .ok (.iconst 0, 1) := dk_3 (dk_at dksX0_caseAt_0 1 rfl rfl)
theorem dX0_caseAt_2 : decode cX0_caseAt 2 = .ok (.aload_n 0, 1) := dk_42 (dk_at dksX0_caseAt_0 2 rfl rfl)
theorem dX0_caseAt_3 : decode cX0_caseAt 3 = .ok (.iload_n 1, 1) := dk_27 (dk_at dksX0_caseAt_0 3 rfl rfl)
theorem dX0_caseAt_4 : decode cX0_caseAt 4 = .ok (.iload_n 2, 1) := dk_28 (dk_at dksX0_caseAt_0 4 rfl rfl)
theorem dX0_caseAt_5 : decode cX0_caseAt 5 = .ok (.invokevirtual 65, 3) := dk_182 0 65 (dk_at dksX0_caseAt_0 5 rfl rfl)
theorem dX0_caseAt_8 : decode cX0_caseAt 8 = .ok (.i2l, 1) := dk_133 (dk_at dksX0_caseAt_0 8 rfl rfl)
theorem dX0_caseAt_9 : decode cX0_caseAt 9 = .ok (.lastore, 1) := dk_80 (dk_at dksX0_caseAt_0 9 rfl rfl)
theorem dX0_caseAt_10 : decode cX0_caseAt 10 = .ok (.goto 11, 3) := dk_167 0 11 (dk_at dksX0_caseAt_0 10 rfl rfl)
theorem dX0_caseAt_13 : decode cX0_caseAt 13 = .ok (.astore 4, 2) := dk_58 4 (dk_at dksX0_caseAt_0 13 rfl rfl)
theorem dX0_caseAt_15 : decode cX0_caseAt 15 = .ok (.iconst 1, 1) := dk_4 (dk_at dksX0_caseAt_0 15 rfl rfl)
theorem dX0_caseAt_16 : decode cX0_caseAt 16 = .ok (.ireturn, 1) := dk_172 (dk_at dksX0_caseAt_0 16 rfl rfl)
theorem dX0_caseAt_17 : decode cX0_caseAt 17 = .ok (.astore 4, 2) := dk_58 4 (dk_at dksX0_caseAt_0 17 rfl rfl)
theorem dX0_caseAt_19 : decode cX0_caseAt 19 = .ok (.iconst 2, 1) := dk_5 (dk_at dksX0_caseAt_0 19 rfl rfl)
theorem dX0_caseAt_20 : decode cX0_caseAt 20 = .ok (.ireturn, 1) := dk_172 (dk_at dksX0_caseAt_0 20 rfl rfl)
theorem dX0_caseAt_21 : decode cX0_caseAt 21 = .ok (.iconst 0, 1) := dk_3 (dk_at dksX0_caseAt_0 21 rfl rfl)
theorem dX0_caseAt_22 : decode cX0_caseAt 22 = .ok (.ireturn, 1) := dk_172 (dk_at dksX0_caseAt_0 22 rfl rfl)
abbrev cX0_formAt : ByteArray := method_19_code
def yX0_formAt : MethodName := ⟨RX0, "formAt", "(LAppealrent;II[J)I"⟩
def dkwX0_formAt_0 : List UInt8 := [45, 3, 42, 27, 28, 182, 0, 68, 133, 80, 167, 0, 11, 58, 4, 4, 172, 58, 4, 5, 172, 3, 172]
abbrev dktX0_formAt_0 : List UInt8 := dkwX0_formAt_0 ++ []
theorem dksX0_formAt_0 : cX0_formAt.data.toList.drop 0 = dktX0_formAt_0 := by decide +kernel
theorem dX0_formAt_0 : decode cX0_formAt 0 = .ok (.aload_n 3, 1) := dk_45 (dk_at dksX0_formAt_0 0 rfl rfl)
theorem dX0_formAt_1 : decode cX0_formAt 1 = .ok (.iconst 0, 1) := dk_3 (dk_at dksX0_formAt_0 1 rfl rfl)
theorem dX0_formAt_2 : decode cX0_formAt 2 = .ok (.aload_n 0, 1) := dk_42 (dk_at dksX0_formAt_0 2 rfl rfl)
theorem dX0_formAt_3 : decode cX0_formAt 3 = .ok (.iload_n 1, 1) := dk_27 (dk_at dksX0_formAt_0 3 rfl rfl)
theorem dX0_formAt_4 : decode cX0_formAt 4 = .ok (.iload_n 2, 1) := dk_28 (dk_at dksX0_formAt_0 4 rfl rfl)
theorem dX0_formAt_5 : decode cX0_formAt 5 = .ok (.invokevirtual 68, 3) := dk_182 0 68 (dk_at dksX0_formAt_0 5 rfl rfl)
theorem dX0_formAt_8 : decode cX0_formAt 8 = .ok (.i2l, 1) := dk_133 (dk_at dksX0_formAt_0 8 rfl rfl)
theorem dX0_formAt_9 : decode cX0_formAt 9 = .ok (.lastore, 1) := dk_80 (dk_at dksX0_formAt_0 9 rfl rfl)
theorem dX0_formAt_10 : decode cX0_formAt 10 = .ok (.goto 11, 3) := dk_167 0 11 (dk_at dksX0_formAt_0 10 rfl rfl)
theorem dX0_formAt_13 : decode cX0_formAt 13 = .ok (.astore 4, 2) := dk_58 4 (dk_at dksX0_formAt_0 13 rfl rfl)
theorem dX0_formAt_15 : decode cX0_formAt 15 = .ok (.iconst 1, 1) := dk_4 (dk_at dksX0_formAt_0 15 rfl rfl)
theorem dX0_formAt_16 : decode cX0_formAt 16 = .ok (.ireturn, 1) := dk_172 (dk_at dksX0_formAt_0 16 rfl rfl)
theorem dX0_formAt_17 : decode cX0_formAt 17 = .ok (.astore 4, 2) := dk_58 4 (dk_at dksX0_formAt_0 17 rfl rfl)
theorem dX0_formAt_19 : decode cX0_formAt 19 = .ok (.iconst 2, 1) := dk_5 (dk_at dksX0_formAt_0 19 rfl rfl)
theorem dX0_formAt_20 : decode cX0_formAt 20 = .ok (.ireturn, 1) := dk_172 (dk_at dksX0_formAt_0 20 rfl rfl)
theorem dX0_formAt_21 : decode cX0_formAt 21 = .ok (.iconst 0, 1) := dk_3 (dk_at dksX0_formAt_0 21 rfl rfl)
theorem dX0_formAt_22 : decode cX0_formAt 22 = .ok (.ireturn, 1) := dk_172 (dk_at dksX0_formAt_0 22 rfl rfl)
abbrev cX0_ruleAt : ByteArray := method_20_code
def yX0_ruleAt : MethodName := ⟨RX0, "ruleAt", "(LAppealrent;II[J)I"⟩
def dkwX0_ruleAt_0 : List UInt8 := [45, 3, 42, 27, 28, 182, 0, 71, 133, 80, 167, 0, 11, 58, 4, 4, 172, 58, 4, 5, 172, 3, 172]
abbrev dktX0_ruleAt_0 : List UInt8 := dkwX0_ruleAt_0 ++ []
theorem dksX0_ruleAt_0 : cX0_ruleAt.data.toList.drop 0 = dktX0_ruleAt_0 := by decide +kernel
theorem dX0_ruleAt_0 : decode cX0_ruleAt 0 = .ok (.aload_n 3, 1) := dk_45 (dk_at dksX0_ruleAt_0 0 rfl rfl)
theorem dX0_ruleAt_1 : decode cX0_ruleAt 1 = .ok (.iconst 0, 1) := dk_3 (dk_at dksX0_ruleAt_0 1 rfl rfl)
theorem dX0_ruleAt_2 : decode cX0_ruleAt 2 = .ok (.aload_n 0, 1) := dk_42 (dk_at dksX0_ruleAt_0 2 rfl rfl)
theorem dX0_ruleAt_3 : decode cX0_ruleAt 3 = .ok (.iload_n 1, 1) := dk_27 (dk_at dksX0_ruleAt_0 3 rfl rfl)
theorem dX0_ruleAt_4 : decode cX0_ruleAt 4 = .ok (.iload_n 2, 1) := dk_28 (dk_at dksX0_ruleAt_0 4 rfl rfl)
theorem dX0_ruleAt_5 : decode cX0_ruleAt 5 = .ok (.invokevirtual 71, 3) := dk_182 0 71 (dk_at dksX0_ruleAt_0 5 rfl rfl)
theorem dX0_ruleAt_8 : decode cX0_ruleAt 8 = .ok (.i2l, 1) := dk_133 (dk_at dksX0_ruleAt_0 8 rfl rfl)
theorem dX0_ruleAt_9 : decode cX0_ruleAt 9 = .ok (.lastore, 1) := dk_80 (dk_at dksX0_ruleAt_0 9 rfl rfl)
theorem dX0_ruleAt_10 : decode cX0_ruleAt 10 = .ok (.goto 11, 3) := dk_167 0 11 (dk_at dksX0_ruleAt_0 10 rfl rfl)
theorem dX0_ruleAt_13 : decode cX0_ruleAt 13 = .ok (.astore 4, 2) := dk_58 4 (dk_at dksX0_ruleAt_0 13 rfl rfl)
theorem dX0_ruleAt_15 : decode cX0_ruleAt 15 = .ok (.iconst 1, 1) := dk_4 (dk_at dksX0_ruleAt_0 15 rfl rfl)
theorem dX0_ruleAt_16 : decode cX0_ruleAt 16 = .ok (.ireturn, 1) := dk_172 (dk_at dksX0_ruleAt_0 16 rfl rfl)
theorem dX0_ruleAt_17 : decode cX0_ruleAt 17 = .ok (.astore 4, 2) := dk_58 4 (dk_at dksX0_ruleAt_0 17 rfl rfl)
theorem dX0_ruleAt_19 : decode cX0_ruleAt 19 = .ok (.iconst 2, 1) := dk_5 (dk_at dksX0_ruleAt_0 19 rfl rfl)
theorem dX0_ruleAt_20 : decode cX0_ruleAt 20 = .ok (.ireturn, 1) := dk_172 (dk_at dksX0_ruleAt_0 20 rfl rfl)
theorem dX0_ruleAt_21 : decode cX0_ruleAt 21 = .ok (.iconst 0, 1) := dk_3 (dk_at dksX0_ruleAt_0 21 rfl rfl)
theorem dX0_ruleAt_22 : decode cX0_ruleAt 22 = .ok (.ireturn, 1) := dk_172 (dk_at dksX0_ruleAt_0 22 rfl rfl)
abbrev cX0_claimAt : ByteArray := method_21_code
def yX0_claimAt : MethodName := ⟨RX0, "claimAt", "(LAppealrent;II[J)I"⟩
def dkwX0_claimAt_0 : List UInt8 := [45, 3, 42, 27, 28, 182, 0, 74, 133, 80, 167, 0, 11, 58, 4, 4, 172, 58, 4, 5, 172, 3, 172]
abbrev dktX0_claimAt_0 : List UInt8 := dkwX0_claimAt_0 ++ []
theorem dksX0_claimAt_0 : cX0_claimAt.data.toList.drop 0 = dktX0_claimAt_0 := by decide +kernel
theorem dX0_claimAt_0 : decode cX0_claimAt 0 = .ok (.aload_n 3, 1) := dk_45 (dk_at dksX0_claimAt_0 0 rfl rfl)
theorem dX0_claimAt_1 : decode cX0_claimAt 1 = .ok (.iconst 0, 1) := dk_3 (dk_at dksX0_claimAt_0 1 rfl rfl)
theorem dX0_claimAt_2 : decode cX0_claimAt 2 = .ok (.aload_n 0, 1) := dk_42 (dk_at dksX0_claimAt_0 2 rfl rfl)
theorem dX0_claimAt_3 : decode cX0_claimAt 3 = .ok (.iload_n 1, 1) := dk_27 (dk_at dksX0_claimAt_0 3 rfl rfl)
theorem dX0_claimAt_4 : decode cX0_claimAt 4 = .ok (.iload_n 2, 1) := dk_28 (dk_at dksX0_claimAt_0 4 rfl rfl)
theorem dX0_claimAt_5 : decode cX0_claimAt 5 = .ok (.invokevirtual 74, 3) := dk_182 0 74 (dk_at dksX0_claimAt_0 5 rfl rfl)
theorem dX0_claimAt_8 : decode cX0_claimAt 8 = .ok (.i2l, 1) := dk_133 (dk_at dksX0_claimAt_0 8 rfl rfl)
theorem dX0_claimAt_9 : decode cX0_claimAt 9 = .ok (.lastore, 1) := dk_80 (dk_at dksX0_claimAt_0 9 rfl rfl)
theorem dX0_claimAt_10 : decode cX0_claimAt 10 = .ok (.goto 11, 3) := dk_167 0 11 (dk_at dksX0_claimAt_0 10 rfl rfl)
theorem dX0_claimAt_13 : decode cX0_claimAt 13 = .ok (.astore 4, 2) := dk_58 4 (dk_at dksX0_claimAt_0 13 rfl rfl)
theorem dX0_claimAt_15 : decode cX0_claimAt 15 = .ok (.iconst 1, 1) := dk_4 (dk_at dksX0_claimAt_0 15 rfl rfl)
theorem dX0_claimAt_16 : decode cX0_claimAt 16 = .ok (.ireturn, 1) := dk_172 (dk_at dksX0_claimAt_0 16 rfl rfl)
theorem dX0_claimAt_17 : decode cX0_claimAt 17 = .ok (.astore 4, 2) := dk_58 4 (dk_at dksX0_claimAt_0 17 rfl rfl)
theorem dX0_claimAt_19 : decode cX0_claimAt 19 = .ok (.iconst 2, 1) := dk_5 (dk_at dksX0_claimAt_0 19 rfl rfl)
theorem dX0_claimAt_20 : decode cX0_claimAt 20 = .ok (.ireturn, 1) := dk_172 (dk_at dksX0_claimAt_0 20 rfl rfl)
theorem dX0_claimAt_21 : decode cX0_claimAt 21 = .ok (.iconst 0, 1) := dk_3 (dk_at dksX0_claimAt_0 21 rfl rfl)
theorem dX0_claimAt_22 : decode cX0_claimAt 22 = .ok (.ireturn, 1) := dk_172 (dk_at dksX0_claimAt_0 22 rfl rfl)
abbrev cX0_write : ByteArray := method_22_code
def yX0_write : MethodName := ⟨RX0, "write", "(LAppealrent;IZ[J)I"⟩
def dkwX0_write_0 : List UInt8 := [45, 3, 42, 27, 28, 182, 0, 77, 133, 80, 167, 0, 7, 58, 4, 4, 172, 3, 172]
abbrev dktX0_write_0 : List UInt8 := dkwX0_write_0 ++ []
theorem dksX0_write_0 : cX0_write.data.toList.drop 0 = dktX0_write_0 := by decide +kernel
theorem dX0_write_0 : decode cX0_write 0 = .ok (.aload_n 3, 1) := dk_45 (dk_at dksX0_write_0 0 rfl rfl)
theorem dX0_write_1 : decode cX0_write 1 = .ok (.iconst 0, 1) := dk_3 (dk_at dksX0_write_0 1 rfl rfl)
theorem dX0_write_2 : decode cX0_write 2 = .ok (.aload_n 0, 1) := dk_42 (dk_at dksX0_write_0 2 rfl rfl)
theorem dX0_write_3 : decode cX0_write 3 = .ok (.iload_n 1, 1) := dk_27 (dk_at dksX0_write_0 3 rfl rfl)
theorem dX0_write_4 : decode cX0_write 4 = .ok (.iload_n 2, 1) := dk_28 (dk_at dksX0_write_0 4 rfl rfl)
theorem dX0_write_5 : decode cX0_write 5 = .ok (.invokevirtual 77, 3) := dk_182 0 77 (dk_at dksX0_write_0 5 rfl rfl)
theorem dX0_write_8 : decode cX0_write 8 = .ok (.i2l, 1) := dk_133 (dk_at dksX0_write_0 8 rfl rfl)
theorem dX0_write_9 : decode cX0_write 9 = .ok (.lastore, 1) := dk_80 (dk_at dksX0_write_0 9 rfl rfl)
theorem dX0_write_10 : decode cX0_write 10 = .ok (.goto 7, 3) := dk_167 0 7 (dk_at dksX0_write_0 10 rfl rfl)
theorem dX0_write_13 : decode cX0_write 13 = .ok (.astore 4, 2) := dk_58 4 (dk_at dksX0_write_0 13 rfl rfl)
theorem dX0_write_15 : decode cX0_write 15 = .ok (.iconst 1, 1) := dk_4 (dk_at dksX0_write_0 15 rfl rfl)
theorem dX0_write_16 : decode cX0_write 16 = .ok (.ireturn, 1) := dk_172 (dk_at dksX0_write_0 16 rfl rfl)
theorem dX0_write_17 : decode cX0_write 17 = .ok (.iconst 0, 1) := dk_3 (dk_at dksX0_write_0 17 rfl rfl)
theorem dX0_write_18 : decode cX0_write 18 = .ok (.ireturn, 1) := dk_172 (dk_at dksX0_write_0 18 rfl rfl)
abbrev cX0_outputAt : ByteArray := method_23_code
def yX0_outputAt : MethodName := ⟨RX0, "outputAt", "(LAppealrent;I[J)I"⟩
def dkwX0_outputAt_0 : List UInt8 := [44, 3, 42, 27, 182, 0, 80, 133, 80, 167, 0, 6, 78, 4, 172, 3, 172]
abbrev dktX0_outputAt_0 : List UInt8 := dkwX0_outputAt_0 ++ []
theorem dksX0_outputAt_0 : cX0_outputAt.data.toList.drop 0 = dktX0_outputAt_0 := by decide +kernel
theorem dX0_outputAt_0 : decode cX0_outputAt 0 = .ok (.aload_n 2, 1) := dk_44 (dk_at dksX0_outputAt_0 0 rfl rfl)
theorem dX0_outputAt_1 : decode cX0_outputAt 1 = .ok (.iconst 0, 1) := dk_3 (dk_at dksX0_outputAt_0 1 rfl rfl)
theorem dX0_outputAt_2 : decode cX0_outputAt 2 = .ok (.aload_n 0, 1) := dk_42 (dk_at dksX0_outputAt_0 2 rfl rfl)
theorem dX0_outputAt_3 : decode cX0_outputAt 3 = .ok (.iload_n 1, 1) := dk_27 (dk_at dksX0_outputAt_0 3 rfl rfl)
theorem dX0_outputAt_4 : decode cX0_outputAt 4 = .ok (.invokevirtual 80, 3) := dk_182 0 80 (dk_at dksX0_outputAt_0 4 rfl rfl)
theorem dX0_outputAt_7 : decode cX0_outputAt 7 = .ok (.i2l, 1) := dk_133 (dk_at dksX0_outputAt_0 7 rfl rfl)
theorem dX0_outputAt_8 : decode cX0_outputAt 8 = .ok (.lastore, 1) := dk_80 (dk_at dksX0_outputAt_0 8 rfl rfl)
theorem dX0_outputAt_9 : decode cX0_outputAt 9 = .ok (.goto 6, 3) := dk_167 0 6 (dk_at dksX0_outputAt_0 9 rfl rfl)
theorem dX0_outputAt_12 : decode cX0_outputAt 12 = .ok (.astore_n 3, 1) := dk_78 (dk_at dksX0_outputAt_0 12 rfl rfl)
theorem dX0_outputAt_13 : decode cX0_outputAt 13 = .ok (.iconst 1, 1) := dk_4 (dk_at dksX0_outputAt_0 13 rfl rfl)
theorem dX0_outputAt_14 : decode cX0_outputAt 14 = .ok (.ireturn, 1) := dk_172 (dk_at dksX0_outputAt_0 14 rfl rfl)
theorem dX0_outputAt_15 : decode cX0_outputAt 15 = .ok (.iconst 0, 1) := dk_3 (dk_at dksX0_outputAt_0 15 rfl rfl)
theorem dX0_outputAt_16 : decode cX0_outputAt 16 = .ok (.ireturn, 1) := dk_172 (dk_at dksX0_outputAt_0 16 rfl rfl)
abbrev cX0_count : ByteArray := method_24_code
def yX0_count : MethodName := ⟨RX0, "count", "(LAppealrent;I[J)I"⟩
def dkwX0_count_0 : List UInt8 := [44, 3, 42, 27, 182, 0, 85, 133, 80, 167, 0, 6, 78, 4, 172, 3, 172]
abbrev dktX0_count_0 : List UInt8 := dkwX0_count_0 ++ []
theorem dksX0_count_0 : cX0_count.data.toList.drop 0 = dktX0_count_0 := by decide +kernel
theorem dX0_count_0 : decode cX0_count 0 = .ok (.aload_n 2, 1) := dk_44 (dk_at dksX0_count_0 0 rfl rfl)
theorem dX0_count_1 : decode cX0_count 1 = .ok (.iconst 0, 1) := dk_3 (dk_at dksX0_count_0 1 rfl rfl)
theorem dX0_count_2 : decode cX0_count 2 = .ok (.aload_n 0, 1) := dk_42 (dk_at dksX0_count_0 2 rfl rfl)
theorem dX0_count_3 : decode cX0_count 3 = .ok (.iload_n 1, 1) := dk_27 (dk_at dksX0_count_0 3 rfl rfl)
theorem dX0_count_4 : decode cX0_count 4 = .ok (.invokevirtual 85, 3) := dk_182 0 85 (dk_at dksX0_count_0 4 rfl rfl)
theorem dX0_count_7 : decode cX0_count 7 = .ok (.i2l, 1) := dk_133 (dk_at dksX0_count_0 7 rfl rfl)
theorem dX0_count_8 : decode cX0_count 8 = .ok (.lastore, 1) := dk_80 (dk_at dksX0_count_0 8 rfl rfl)
theorem dX0_count_9 : decode cX0_count 9 = .ok (.goto 6, 3) := dk_167 0 6 (dk_at dksX0_count_0 9 rfl rfl)
theorem dX0_count_12 : decode cX0_count 12 = .ok (.astore_n 3, 1) := dk_78 (dk_at dksX0_count_0 12 rfl rfl)
theorem dX0_count_13 : decode cX0_count 13 = .ok (.iconst 1, 1) := dk_4 (dk_at dksX0_count_0 13 rfl rfl)
theorem dX0_count_14 : decode cX0_count 14 = .ok (.ireturn, 1) := dk_172 (dk_at dksX0_count_0 14 rfl rfl)
theorem dX0_count_15 : decode cX0_count 15 = .ok (.iconst 0, 1) := dk_3 (dk_at dksX0_count_0 15 rfl rfl)
theorem dX0_count_16 : decode cX0_count 16 = .ok (.ireturn, 1) := dk_172 (dk_at dksX0_count_0 16 rfl rfl)
theorem q71 : (Jvm.Cond.initialized "AppealrentLaw") ∈ lw_all := lw_g (lw_at lw_m1 0 rfl) rfl
theorem q109 : (Jvm.Cond.classLink "AppealrentLaw" (8 : Nat) "Appealrent") ∈ lw_all := lw_g (lw_at lw_m1 38 rfl) rfl
theorem q111 : (Jvm.Cond.methodLink "AppealrentLaw" (88 : Nat) ({ cls := "Appealrent", name := "<init>", desc := "()V" } : Jvm.MethodName)) ∈ lw_all := lw_g (lw_at lw_m1 40 rfl) rfl
theorem q620 : (Jvm.Cond.methodLink "AppealrentLaw" (101 : Nat) ({ cls := "Appealrent", name := "clear", desc := "()I" } : Jvm.MethodName)) ∈ lw_all := lw_g (lw_at lw_m3 69 rfl) rfl
theorem q721 : (Jvm.Cond.methodLink "AppealrentLaw" (172 : Nat) ({ cls := "Appealrent", name := "meanHelp", desc := "()D" } : Jvm.MethodName)) ∈ lw_all := lw_g (lw_at lw_m3 170 rfl) rfl
theorem q774 : (Jvm.Cond.methodLink "AppealrentLaw" (177 : Nat) ({ cls := "Appealrent", name := "calledBack", desc := "()F" } : Jvm.MethodName)) ∈ lw_all := lw_g (lw_at lw_m3 223 rfl) rfl
theorem q783 : (Jvm.Cond.methodLink "AppealrentLaw" (182 : Nat) ({ cls := "Appealrent", name := "errors", desc := "()I" } : Jvm.MethodName)) ∈ lw_all := lw_g (lw_at lw_m3 232 rfl) rfl
theorem q799 : (Jvm.Cond.methodLink "AppealrentLaw" (92 : Nat) ({ cls := "AppealrentLaw", name := "sign", desc := "(LAppealrent;I[J)I" } : Jvm.MethodName)) ∈ lw_all := lw_g (lw_at lw_m4 8 rfl) rfl
theorem q800 : (Jvm.Cond.static ({ cls := "AppealrentLaw", name := "sign", desc := "(LAppealrent;I[J)I" } : Jvm.MethodName)) ∈ lw_all := lw_g (lw_at lw_m4 9 rfl) rfl
theorem q801 : (Jvm.Cond.codeWith ({ cls := "AppealrentLaw", name := "sign", desc := "(LAppealrent;I[J)I" } : Jvm.MethodName) method_3_code (4 : Nat) (Option.some Jvm.ClassFile.FieldType.int) [((0 : Nat), (9 : Nat), (12 : Nat), (13 : Nat)), ((0 : Nat), (9 : Nat), (15 : Nat), (15 : Nat))]) ∈ lw_all := lw_g (lw_at lw_m4 10 rfl) rfl
theorem q802 : (Jvm.Cond.classLink "AppealrentLaw" (13 : Nat) "java/lang/IllegalArgumentException") ∈ lw_all := lw_g (lw_at lw_m4 11 rfl) rfl
theorem q803 : (Jvm.Cond.classLink "AppealrentLaw" (15 : Nat) "java/lang/IllegalStateException") ∈ lw_all := lw_g (lw_at lw_m4 12 rfl) rfl
theorem q804 : (Jvm.Cond.methodLink "AppealrentLaw" (7 : Nat) ({ cls := "Appealrent", name := "sign", desc := "(I)I" } : Jvm.MethodName)) ∈ lw_all := lw_g (lw_at lw_m4 13 rfl) rfl
theorem q921 : (Jvm.Cond.methodLink "AppealrentLaw" (105 : Nat) ({ cls := "AppealrentLaw", name := "open", desc := "(LAppealrent;[J)I" } : Jvm.MethodName)) ∈ lw_all := lw_g (lw_at lw_m4 130 rfl) rfl
theorem q922 : (Jvm.Cond.static ({ cls := "AppealrentLaw", name := "open", desc := "(LAppealrent;[J)I" } : Jvm.MethodName)) ∈ lw_all := lw_g (lw_at lw_m4 131 rfl) rfl
theorem q923 : (Jvm.Cond.codeWith ({ cls := "AppealrentLaw", name := "open", desc := "(LAppealrent;[J)I" } : Jvm.MethodName) method_4_code (3 : Nat) (Option.some Jvm.ClassFile.FieldType.int) [((0 : Nat), (8 : Nat), (11 : Nat), (15 : Nat))]) ∈ lw_all := lw_g (lw_at lw_m4 132 rfl) rfl
theorem q924 : (Jvm.Cond.methodLink "AppealrentLaw" (17 : Nat) ({ cls := "Appealrent", name := "open", desc := "()I" } : Jvm.MethodName)) ∈ lw_all := lw_g (lw_at lw_m4 133 rfl) rfl
theorem q967 : (Jvm.Cond.methodLink "AppealrentLaw" (109 : Nat) ({ cls := "AppealrentLaw", name := "end", desc := "(LAppealrent;I[J)I" } : Jvm.MethodName)) ∈ lw_all := lw_g (lw_at lw_m4 176 rfl) rfl
theorem q968 : (Jvm.Cond.static ({ cls := "AppealrentLaw", name := "end", desc := "(LAppealrent;I[J)I" } : Jvm.MethodName)) ∈ lw_all := lw_g (lw_at lw_m4 177 rfl) rfl
theorem q969 : (Jvm.Cond.codeWith ({ cls := "AppealrentLaw", name := "end", desc := "(LAppealrent;I[J)I" } : Jvm.MethodName) method_5_code (4 : Nat) (Option.some Jvm.ClassFile.FieldType.int) [((0 : Nat), (9 : Nat), (12 : Nat), (24 : Nat)), ((0 : Nat), (9 : Nat), (15 : Nat), (15 : Nat))]) ∈ lw_all := lw_g (lw_at lw_m4 178 rfl) rfl
theorem q970 : (Jvm.Cond.classLink "AppealrentLaw" (24 : Nat) "java/lang/IndexOutOfBoundsException") ∈ lw_all := lw_g (lw_at lw_m4 179 rfl) rfl
theorem q973 : (Jvm.Cond.methodLink "AppealrentLaw" (21 : Nat) ({ cls := "Appealrent", name := "end", desc := "(I)I" } : Jvm.MethodName)) ∈ lw_all := lw_g (lw_at lw_m4 182 rfl) rfl
theorem q1000 : (Jvm.Cond.methodLink "AppealrentLaw" (112 : Nat) ({ cls := "AppealrentLaw", name := "form", desc := "(LAppealrent;I[J)I" } : Jvm.MethodName)) ∈ lw_all := lw_g (lw_at lw_m4 209 rfl) rfl
theorem q1001 : (Jvm.Cond.static ({ cls := "AppealrentLaw", name := "form", desc := "(LAppealrent;I[J)I" } : Jvm.MethodName)) ∈ lw_all := lw_g (lw_at lw_m4 210 rfl) rfl
theorem q1002 : (Jvm.Cond.codeWith ({ cls := "AppealrentLaw", name := "form", desc := "(LAppealrent;I[J)I" } : Jvm.MethodName) method_6_code (4 : Nat) (Option.some Jvm.ClassFile.FieldType.int) [((0 : Nat), (9 : Nat), (12 : Nat), (24 : Nat)), ((0 : Nat), (9 : Nat), (15 : Nat), (15 : Nat))]) ∈ lw_all := lw_g (lw_at lw_m4 211 rfl) rfl
theorem q1003 : (Jvm.Cond.methodLink "AppealrentLaw" (26 : Nat) ({ cls := "Appealrent", name := "form", desc := "(I)I" } : Jvm.MethodName)) ∈ lw_all := lw_g (lw_at lw_m4 212 rfl) rfl
theorem q1338 : (Jvm.Cond.methodLink "AppealrentLaw" (115 : Nat) ({ cls := "AppealrentLaw", name := "prove", desc := "(LAppealrent;I[J)I" } : Jvm.MethodName)) ∈ lw_all := lw_g (lw_at lw_m6 67 rfl) rfl
theorem q1339 : (Jvm.Cond.static ({ cls := "AppealrentLaw", name := "prove", desc := "(LAppealrent;I[J)I" } : Jvm.MethodName)) ∈ lw_all := lw_g (lw_at lw_m6 68 rfl) rfl
theorem q1340 : (Jvm.Cond.codeWith ({ cls := "AppealrentLaw", name := "prove", desc := "(LAppealrent;I[J)I" } : Jvm.MethodName) method_7_code (4 : Nat) (Option.some Jvm.ClassFile.FieldType.int) [((0 : Nat), (9 : Nat), (12 : Nat), (24 : Nat)), ((0 : Nat), (9 : Nat), (15 : Nat), (15 : Nat))]) ∈ lw_all := lw_g (lw_at lw_m6 69 rfl) rfl
theorem q1341 : (Jvm.Cond.methodLink "AppealrentLaw" (29 : Nat) ({ cls := "Appealrent", name := "prove", desc := "(I)I" } : Jvm.MethodName)) ∈ lw_all := lw_g (lw_at lw_m6 70 rfl) rfl
theorem q1353 : (Jvm.Cond.methodLink "AppealrentLaw" (118 : Nat) ({ cls := "AppealrentLaw", name := "rule", desc := "(LAppealrent;IZ[J)I" } : Jvm.MethodName)) ∈ lw_all := lw_g (lw_at lw_m6 82 rfl) rfl
theorem q1354 : (Jvm.Cond.static ({ cls := "AppealrentLaw", name := "rule", desc := "(LAppealrent;IZ[J)I" } : Jvm.MethodName)) ∈ lw_all := lw_g (lw_at lw_m6 83 rfl) rfl
theorem q1355 : (Jvm.Cond.codeWith ({ cls := "AppealrentLaw", name := "rule", desc := "(LAppealrent;IZ[J)I" } : Jvm.MethodName) method_8_code (5 : Nat) (Option.some Jvm.ClassFile.FieldType.int) [((0 : Nat), (10 : Nat), (13 : Nat), (13 : Nat)), ((0 : Nat), (10 : Nat), (17 : Nat), (15 : Nat))]) ∈ lw_all := lw_g (lw_at lw_m6 84 rfl) rfl
theorem q1356 : (Jvm.Cond.methodLink "AppealrentLaw" (32 : Nat) ({ cls := "Appealrent", name := "rule", desc := "(IZ)I" } : Jvm.MethodName)) ∈ lw_all := lw_g (lw_at lw_m6 85 rfl) rfl
theorem q1360 : (Jvm.Cond.methodLink "AppealrentLaw" (122 : Nat) ({ cls := "AppealrentLaw", name := "appeal", desc := "(LAppealrent;I[J)I" } : Jvm.MethodName)) ∈ lw_all := lw_g (lw_at lw_m6 89 rfl) rfl
theorem q1361 : (Jvm.Cond.static ({ cls := "AppealrentLaw", name := "appeal", desc := "(LAppealrent;I[J)I" } : Jvm.MethodName)) ∈ lw_all := lw_g (lw_at lw_m6 90 rfl) rfl
theorem q1362 : (Jvm.Cond.codeWith ({ cls := "AppealrentLaw", name := "appeal", desc := "(LAppealrent;I[J)I" } : Jvm.MethodName) method_9_code (4 : Nat) (Option.some Jvm.ClassFile.FieldType.int) [((0 : Nat), (9 : Nat), (12 : Nat), (24 : Nat)), ((0 : Nat), (9 : Nat), (15 : Nat), (15 : Nat))]) ∈ lw_all := lw_g (lw_at lw_m6 91 rfl) rfl
theorem q1363 : (Jvm.Cond.methodLink "AppealrentLaw" (36 : Nat) ({ cls := "Appealrent", name := "appeal", desc := "(I)I" } : Jvm.MethodName)) ∈ lw_all := lw_g (lw_at lw_m6 92 rfl) rfl
theorem q1371 : (Jvm.Cond.methodLink "AppealrentLaw" (125 : Nat) ({ cls := "AppealrentLaw", name := "decide", desc := "(LAppealrent;II[J)I" } : Jvm.MethodName)) ∈ lw_all := lw_g (lw_at lw_m6 100 rfl) rfl
theorem q1372 : (Jvm.Cond.static ({ cls := "AppealrentLaw", name := "decide", desc := "(LAppealrent;II[J)I" } : Jvm.MethodName)) ∈ lw_all := lw_g (lw_at lw_m6 101 rfl) rfl
theorem q1373 : (Jvm.Cond.codeWith ({ cls := "AppealrentLaw", name := "decide", desc := "(LAppealrent;II[J)I" } : Jvm.MethodName) method_10_code (5 : Nat) (Option.some Jvm.ClassFile.FieldType.int) [((0 : Nat), (10 : Nat), (13 : Nat), (24 : Nat)), ((0 : Nat), (10 : Nat), (17 : Nat), (13 : Nat)), ((0 : Nat), (10 : Nat), (21 : Nat), (15 : Nat))]) ∈ lw_all := lw_g (lw_at lw_m6 102 rfl) rfl
theorem q1374 : (Jvm.Cond.methodLink "AppealrentLaw" (39 : Nat) ({ cls := "Appealrent", name := "decide", desc := "(II)I" } : Jvm.MethodName)) ∈ lw_all := lw_g (lw_at lw_m6 103 rfl) rfl
theorem q1383 : (Jvm.Cond.methodLink "AppealrentLaw" (129 : Nat) ({ cls := "AppealrentLaw", name := "payBack", desc := "(LAppealrent;II[J)I" } : Jvm.MethodName)) ∈ lw_all := lw_g (lw_at lw_m6 112 rfl) rfl
theorem q1384 : (Jvm.Cond.static ({ cls := "AppealrentLaw", name := "payBack", desc := "(LAppealrent;II[J)I" } : Jvm.MethodName)) ∈ lw_all := lw_g (lw_at lw_m6 113 rfl) rfl
theorem q1385 : (Jvm.Cond.codeWith ({ cls := "AppealrentLaw", name := "payBack", desc := "(LAppealrent;II[J)I" } : Jvm.MethodName) method_11_code (5 : Nat) (Option.some Jvm.ClassFile.FieldType.int) [((0 : Nat), (10 : Nat), (13 : Nat), (24 : Nat)), ((0 : Nat), (10 : Nat), (17 : Nat), (13 : Nat)), ((0 : Nat), (10 : Nat), (21 : Nat), (15 : Nat))]) ∈ lw_all := lw_g (lw_at lw_m6 114 rfl) rfl
theorem q1386 : (Jvm.Cond.methodLink "AppealrentLaw" (43 : Nat) ({ cls := "Appealrent", name := "payBack", desc := "(II)I" } : Jvm.MethodName)) ∈ lw_all := lw_g (lw_at lw_m6 115 rfl) rfl
theorem q1391 : (Jvm.Cond.methodLink "AppealrentLaw" (132 : Nat) ({ cls := "AppealrentLaw", name := "pass", desc := "(LAppealrent;I[J)I" } : Jvm.MethodName)) ∈ lw_all := lw_g (lw_at lw_m6 120 rfl) rfl
theorem q1392 : (Jvm.Cond.static ({ cls := "AppealrentLaw", name := "pass", desc := "(LAppealrent;I[J)I" } : Jvm.MethodName)) ∈ lw_all := lw_g (lw_at lw_m6 121 rfl) rfl
theorem q1393 : (Jvm.Cond.codeWith ({ cls := "AppealrentLaw", name := "pass", desc := "(LAppealrent;I[J)I" } : Jvm.MethodName) method_12_code (4 : Nat) (Option.some Jvm.ClassFile.FieldType.int) [((0 : Nat), (9 : Nat), (12 : Nat), (13 : Nat)), ((0 : Nat), (9 : Nat), (15 : Nat), (15 : Nat))]) ∈ lw_all := lw_g (lw_at lw_m6 122 rfl) rfl
theorem q1394 : (Jvm.Cond.methodLink "AppealrentLaw" (46 : Nat) ({ cls := "Appealrent", name := "pass", desc := "(I)I" } : Jvm.MethodName)) ∈ lw_all := lw_g (lw_at lw_m6 123 rfl) rfl
theorem q1448 : (Jvm.Cond.methodLink "AppealrentLaw" (135 : Nat) ({ cls := "AppealrentLaw", name := "fact", desc := "(LAppealrent;III[J)I" } : Jvm.MethodName)) ∈ lw_all := lw_g (lw_at lw_m6 177 rfl) rfl
theorem q1449 : (Jvm.Cond.static ({ cls := "AppealrentLaw", name := "fact", desc := "(LAppealrent;III[J)I" } : Jvm.MethodName)) ∈ lw_all := lw_g (lw_at lw_m6 178 rfl) rfl
theorem q1450 : (Jvm.Cond.codeWith ({ cls := "AppealrentLaw", name := "fact", desc := "(LAppealrent;III[J)I" } : Jvm.MethodName) method_13_code (6 : Nat) (Option.some Jvm.ClassFile.FieldType.int) [((0 : Nat), (12 : Nat), (15 : Nat), (24 : Nat)), ((0 : Nat), (12 : Nat), (19 : Nat), (13 : Nat))]) ∈ lw_all := lw_g (lw_at lw_m6 179 rfl) rfl
theorem q1451 : (Jvm.Cond.methodLink "AppealrentLaw" (49 : Nat) ({ cls := "Appealrent", name := "fact", desc := "(III)I" } : Jvm.MethodName)) ∈ lw_all := lw_g (lw_at lw_m6 180 rfl) rfl
theorem q1455 : (Jvm.Cond.methodLink "AppealrentLaw" (139 : Nat) ({ cls := "AppealrentLaw", name := "ruleOn", desc := "(LAppealrent;II[J)I" } : Jvm.MethodName)) ∈ lw_all := lw_g (lw_at lw_m6 184 rfl) rfl
theorem q1456 : (Jvm.Cond.static ({ cls := "AppealrentLaw", name := "ruleOn", desc := "(LAppealrent;II[J)I" } : Jvm.MethodName)) ∈ lw_all := lw_g (lw_at lw_m6 185 rfl) rfl
theorem q1457 : (Jvm.Cond.codeWith ({ cls := "AppealrentLaw", name := "ruleOn", desc := "(LAppealrent;II[J)I" } : Jvm.MethodName) method_14_code (5 : Nat) (Option.some Jvm.ClassFile.FieldType.int) [((0 : Nat), (10 : Nat), (13 : Nat), (24 : Nat)), ((0 : Nat), (10 : Nat), (17 : Nat), (13 : Nat))]) ∈ lw_all := lw_g (lw_at lw_m6 186 rfl) rfl
theorem q1458 : (Jvm.Cond.methodLink "AppealrentLaw" (53 : Nat) ({ cls := "Appealrent", name := "ruleOn", desc := "(II)I" } : Jvm.MethodName)) ∈ lw_all := lw_g (lw_at lw_m6 187 rfl) rfl
theorem q1462 : (Jvm.Cond.methodLink "AppealrentLaw" (142 : Nat) ({ cls := "AppealrentLaw", name := "help", desc := "(LAppealrent;II[J)I" } : Jvm.MethodName)) ∈ lw_all := lw_g (lw_at lw_m6 191 rfl) rfl
theorem q1463 : (Jvm.Cond.static ({ cls := "AppealrentLaw", name := "help", desc := "(LAppealrent;II[J)I" } : Jvm.MethodName)) ∈ lw_all := lw_g (lw_at lw_m6 192 rfl) rfl
theorem q1464 : (Jvm.Cond.codeWith ({ cls := "AppealrentLaw", name := "help", desc := "(LAppealrent;II[J)I" } : Jvm.MethodName) method_15_code (5 : Nat) (Option.some Jvm.ClassFile.FieldType.int) [((0 : Nat), (10 : Nat), (13 : Nat), (24 : Nat)), ((0 : Nat), (10 : Nat), (17 : Nat), (13 : Nat))]) ∈ lw_all := lw_g (lw_at lw_m6 193 rfl) rfl
theorem q1465 : (Jvm.Cond.methodLink "AppealrentLaw" (56 : Nat) ({ cls := "Appealrent", name := "help", desc := "(II)I" } : Jvm.MethodName)) ∈ lw_all := lw_g (lw_at lw_m6 194 rfl) rfl
theorem q1469 : (Jvm.Cond.methodLink "AppealrentLaw" (145 : Nat) ({ cls := "AppealrentLaw", name := "due", desc := "(LAppealrent;II[J)I" } : Jvm.MethodName)) ∈ lw_all := lw_g (lw_at lw_m6 198 rfl) rfl
theorem q1470 : (Jvm.Cond.static ({ cls := "AppealrentLaw", name := "due", desc := "(LAppealrent;II[J)I" } : Jvm.MethodName)) ∈ lw_all := lw_g (lw_at lw_m6 199 rfl) rfl
theorem q1471 : (Jvm.Cond.codeWith ({ cls := "AppealrentLaw", name := "due", desc := "(LAppealrent;II[J)I" } : Jvm.MethodName) method_16_code (5 : Nat) (Option.some Jvm.ClassFile.FieldType.int) [((0 : Nat), (10 : Nat), (13 : Nat), (24 : Nat)), ((0 : Nat), (10 : Nat), (17 : Nat), (13 : Nat))]) ∈ lw_all := lw_g (lw_at lw_m6 200 rfl) rfl
theorem q1472 : (Jvm.Cond.methodLink "AppealrentLaw" (59 : Nat) ({ cls := "Appealrent", name := "due", desc := "(II)I" } : Jvm.MethodName)) ∈ lw_all := lw_g (lw_at lw_m6 201 rfl) rfl
theorem q1476 : (Jvm.Cond.methodLink "AppealrentLaw" (148 : Nat) ({ cls := "AppealrentLaw", name := "paid", desc := "(LAppealrent;II[J)I" } : Jvm.MethodName)) ∈ lw_all := lw_g (lw_at lw_m6 205 rfl) rfl
theorem q1477 : (Jvm.Cond.static ({ cls := "AppealrentLaw", name := "paid", desc := "(LAppealrent;II[J)I" } : Jvm.MethodName)) ∈ lw_all := lw_g (lw_at lw_m6 206 rfl) rfl
theorem q1478 : (Jvm.Cond.codeWith ({ cls := "AppealrentLaw", name := "paid", desc := "(LAppealrent;II[J)I" } : Jvm.MethodName) method_17_code (5 : Nat) (Option.some Jvm.ClassFile.FieldType.int) [((0 : Nat), (10 : Nat), (13 : Nat), (24 : Nat)), ((0 : Nat), (10 : Nat), (17 : Nat), (13 : Nat))]) ∈ lw_all := lw_g (lw_at lw_m6 207 rfl) rfl
theorem q1479 : (Jvm.Cond.methodLink "AppealrentLaw" (62 : Nat) ({ cls := "Appealrent", name := "paid", desc := "(II)I" } : Jvm.MethodName)) ∈ lw_all := lw_g (lw_at lw_m6 208 rfl) rfl
theorem q1483 : (Jvm.Cond.methodLink "AppealrentLaw" (151 : Nat) ({ cls := "AppealrentLaw", name := "caseAt", desc := "(LAppealrent;II[J)I" } : Jvm.MethodName)) ∈ lw_all := lw_g (lw_at lw_m6 212 rfl) rfl
theorem q1484 : (Jvm.Cond.static ({ cls := "AppealrentLaw", name := "caseAt", desc := "(LAppealrent;II[J)I" } : Jvm.MethodName)) ∈ lw_all := lw_g (lw_at lw_m6 213 rfl) rfl
theorem q1485 : (Jvm.Cond.codeWith ({ cls := "AppealrentLaw", name := "caseAt", desc := "(LAppealrent;II[J)I" } : Jvm.MethodName) method_18_code (5 : Nat) (Option.some Jvm.ClassFile.FieldType.int) [((0 : Nat), (10 : Nat), (13 : Nat), (24 : Nat)), ((0 : Nat), (10 : Nat), (17 : Nat), (13 : Nat))]) ∈ lw_all := lw_g (lw_at lw_m6 214 rfl) rfl
theorem q1486 : (Jvm.Cond.methodLink "AppealrentLaw" (65 : Nat) ({ cls := "Appealrent", name := "caseAt", desc := "(II)I" } : Jvm.MethodName)) ∈ lw_all := lw_g (lw_at lw_m6 215 rfl) rfl
theorem q1538 : (Jvm.Cond.methodLink "AppealrentLaw" (154 : Nat) ({ cls := "AppealrentLaw", name := "formAt", desc := "(LAppealrent;II[J)I" } : Jvm.MethodName)) ∈ lw_all := lw_g (lw_at lw_m7 27 rfl) rfl
theorem q1539 : (Jvm.Cond.static ({ cls := "AppealrentLaw", name := "formAt", desc := "(LAppealrent;II[J)I" } : Jvm.MethodName)) ∈ lw_all := lw_g (lw_at lw_m7 28 rfl) rfl
theorem q1540 : (Jvm.Cond.codeWith ({ cls := "AppealrentLaw", name := "formAt", desc := "(LAppealrent;II[J)I" } : Jvm.MethodName) method_19_code (5 : Nat) (Option.some Jvm.ClassFile.FieldType.int) [((0 : Nat), (10 : Nat), (13 : Nat), (24 : Nat)), ((0 : Nat), (10 : Nat), (17 : Nat), (13 : Nat))]) ∈ lw_all := lw_g (lw_at lw_m7 29 rfl) rfl
theorem q1541 : (Jvm.Cond.methodLink "AppealrentLaw" (68 : Nat) ({ cls := "Appealrent", name := "formAt", desc := "(II)I" } : Jvm.MethodName)) ∈ lw_all := lw_g (lw_at lw_m7 30 rfl) rfl
theorem q1556 : (Jvm.Cond.methodLink "AppealrentLaw" (157 : Nat) ({ cls := "AppealrentLaw", name := "ruleAt", desc := "(LAppealrent;II[J)I" } : Jvm.MethodName)) ∈ lw_all := lw_g (lw_at lw_m7 45 rfl) rfl
theorem q1557 : (Jvm.Cond.static ({ cls := "AppealrentLaw", name := "ruleAt", desc := "(LAppealrent;II[J)I" } : Jvm.MethodName)) ∈ lw_all := lw_g (lw_at lw_m7 46 rfl) rfl
theorem q1558 : (Jvm.Cond.codeWith ({ cls := "AppealrentLaw", name := "ruleAt", desc := "(LAppealrent;II[J)I" } : Jvm.MethodName) method_20_code (5 : Nat) (Option.some Jvm.ClassFile.FieldType.int) [((0 : Nat), (10 : Nat), (13 : Nat), (24 : Nat)), ((0 : Nat), (10 : Nat), (17 : Nat), (13 : Nat))]) ∈ lw_all := lw_g (lw_at lw_m7 47 rfl) rfl
theorem q1559 : (Jvm.Cond.methodLink "AppealrentLaw" (71 : Nat) ({ cls := "Appealrent", name := "ruleAt", desc := "(II)I" } : Jvm.MethodName)) ∈ lw_all := lw_g (lw_at lw_m7 48 rfl) rfl
theorem q1577 : (Jvm.Cond.methodLink "AppealrentLaw" (160 : Nat) ({ cls := "AppealrentLaw", name := "claimAt", desc := "(LAppealrent;II[J)I" } : Jvm.MethodName)) ∈ lw_all := lw_g (lw_at lw_m7 66 rfl) rfl
theorem q1578 : (Jvm.Cond.static ({ cls := "AppealrentLaw", name := "claimAt", desc := "(LAppealrent;II[J)I" } : Jvm.MethodName)) ∈ lw_all := lw_g (lw_at lw_m7 67 rfl) rfl
theorem q1579 : (Jvm.Cond.codeWith ({ cls := "AppealrentLaw", name := "claimAt", desc := "(LAppealrent;II[J)I" } : Jvm.MethodName) method_21_code (5 : Nat) (Option.some Jvm.ClassFile.FieldType.int) [((0 : Nat), (10 : Nat), (13 : Nat), (24 : Nat)), ((0 : Nat), (10 : Nat), (17 : Nat), (13 : Nat))]) ∈ lw_all := lw_g (lw_at lw_m7 68 rfl) rfl
theorem q1580 : (Jvm.Cond.methodLink "AppealrentLaw" (74 : Nat) ({ cls := "Appealrent", name := "claimAt", desc := "(II)I" } : Jvm.MethodName)) ∈ lw_all := lw_g (lw_at lw_m7 69 rfl) rfl
theorem q1596 : (Jvm.Cond.methodLink "AppealrentLaw" (163 : Nat) ({ cls := "AppealrentLaw", name := "write", desc := "(LAppealrent;IZ[J)I" } : Jvm.MethodName)) ∈ lw_all := lw_g (lw_at lw_m7 85 rfl) rfl
theorem q1597 : (Jvm.Cond.static ({ cls := "AppealrentLaw", name := "write", desc := "(LAppealrent;IZ[J)I" } : Jvm.MethodName)) ∈ lw_all := lw_g (lw_at lw_m7 86 rfl) rfl
theorem q1598 : (Jvm.Cond.codeWith ({ cls := "AppealrentLaw", name := "write", desc := "(LAppealrent;IZ[J)I" } : Jvm.MethodName) method_22_code (5 : Nat) (Option.some Jvm.ClassFile.FieldType.int) [((0 : Nat), (10 : Nat), (13 : Nat), (24 : Nat))]) ∈ lw_all := lw_g (lw_at lw_m7 87 rfl) rfl
theorem q1599 : (Jvm.Cond.methodLink "AppealrentLaw" (77 : Nat) ({ cls := "Appealrent", name := "write", desc := "(IZ)I" } : Jvm.MethodName)) ∈ lw_all := lw_g (lw_at lw_m7 88 rfl) rfl
theorem q1728 : (Jvm.Cond.methodLink "AppealrentLaw" (166 : Nat) ({ cls := "AppealrentLaw", name := "outputAt", desc := "(LAppealrent;I[J)I" } : Jvm.MethodName)) ∈ lw_all := lw_g (lw_at lw_m7 217 rfl) rfl
theorem q1729 : (Jvm.Cond.static ({ cls := "AppealrentLaw", name := "outputAt", desc := "(LAppealrent;I[J)I" } : Jvm.MethodName)) ∈ lw_all := lw_g (lw_at lw_m7 218 rfl) rfl
theorem q1730 : (Jvm.Cond.codeWith ({ cls := "AppealrentLaw", name := "outputAt", desc := "(LAppealrent;I[J)I" } : Jvm.MethodName) method_23_code (4 : Nat) (Option.some Jvm.ClassFile.FieldType.int) [((0 : Nat), (9 : Nat), (12 : Nat), (83 : Nat))]) ∈ lw_all := lw_g (lw_at lw_m7 219 rfl) rfl
theorem q1731 : (Jvm.Cond.classLink "AppealrentLaw" (83 : Nat) "java/util/NoSuchElementException") ∈ lw_all := lw_g (lw_at lw_m7 220 rfl) rfl
theorem q1732 : (Jvm.Cond.methodLink "AppealrentLaw" (80 : Nat) ({ cls := "Appealrent", name := "outputAt", desc := "(I)I" } : Jvm.MethodName)) ∈ lw_all := lw_g (lw_at lw_m7 221 rfl) rfl
theorem q1755 : (Jvm.Cond.methodLink "AppealrentLaw" (169 : Nat) ({ cls := "AppealrentLaw", name := "count", desc := "(LAppealrent;I[J)I" } : Jvm.MethodName)) ∈ lw_all := lw_g (lw_at lw_m8 4 rfl) rfl
theorem q1756 : (Jvm.Cond.static ({ cls := "AppealrentLaw", name := "count", desc := "(LAppealrent;I[J)I" } : Jvm.MethodName)) ∈ lw_all := lw_g (lw_at lw_m8 5 rfl) rfl
theorem q1757 : (Jvm.Cond.codeWith ({ cls := "AppealrentLaw", name := "count", desc := "(LAppealrent;I[J)I" } : Jvm.MethodName) method_24_code (4 : Nat) (Option.some Jvm.ClassFile.FieldType.int) [((0 : Nat), (9 : Nat), (12 : Nat), (13 : Nat))]) ∈ lw_all := lw_g (lw_at lw_m8 6 rfl) rfl
theorem q1758 : (Jvm.Cond.methodLink "AppealrentLaw" (85 : Nat) ({ cls := "Appealrent", name := "count", desc := "(I)I" } : Jvm.MethodName)) ∈ lw_all := lw_g (lw_at lw_m8 7 rfl) rfl
theorem q1807 : (Jvm.Cond.classLink "AppealrentLaw" (89 : Nat) "AppealrentModel") ∈ lw_all := lw_g (lw_at lw_m8 56 rfl) rfl
theorem q1809 : (Jvm.Cond.methodLink "AppealrentLaw" (91 : Nat) ({ cls := "AppealrentModel", name := "<init>", desc := "()V" } : Jvm.MethodName)) ∈ lw_all := lw_g (lw_at lw_m8 58 rfl) rfl
theorem q1907 : (Jvm.Cond.methodLink "AppealrentLaw" (98 : Nat) ({ cls := "AppealrentModel", name := "thrown", desc := "()I" } : Jvm.MethodName)) ∈ lw_all := lw_g (lw_at lw_m8 156 rfl) rfl
theorem q1911 : (Jvm.Cond.methodLink "AppealrentLaw" (97 : Nat) ({ cls := "AppealrentModel", name := "sign", desc := "(I)I" } : Jvm.MethodName)) ∈ lw_all := lw_g (lw_at lw_m8 160 rfl) rfl
theorem q1926 : (Jvm.Cond.methodLink "AppealrentLaw" (104 : Nat) ({ cls := "AppealrentModel", name := "clear", desc := "()I" } : Jvm.MethodName)) ∈ lw_all := lw_g (lw_at lw_m8 175 rfl) rfl
theorem q1930 : (Jvm.Cond.methodLink "AppealrentLaw" (108 : Nat) ({ cls := "AppealrentModel", name := "open", desc := "()I" } : Jvm.MethodName)) ∈ lw_all := lw_g (lw_at lw_m8 179 rfl) rfl
theorem q1939 : (Jvm.Cond.methodLink "AppealrentLaw" (111 : Nat) ({ cls := "AppealrentModel", name := "end", desc := "(I)I" } : Jvm.MethodName)) ∈ lw_all := lw_g (lw_at lw_m8 188 rfl) rfl
theorem q1955 : (Jvm.Cond.methodLink "AppealrentLaw" (114 : Nat) ({ cls := "AppealrentModel", name := "form", desc := "(I)I" } : Jvm.MethodName)) ∈ lw_all := lw_g (lw_at lw_m8 204 rfl) rfl
theorem q2011 : (Jvm.Cond.methodLink "AppealrentLaw" (117 : Nat) ({ cls := "AppealrentModel", name := "prove", desc := "(I)I" } : Jvm.MethodName)) ∈ lw_all := lw_g (lw_at lw_m9 20 rfl) rfl
theorem q2023 : (Jvm.Cond.methodLink "AppealrentLaw" (121 : Nat) ({ cls := "AppealrentModel", name := "rule", desc := "(IZ)I" } : Jvm.MethodName)) ∈ lw_all := lw_g (lw_at lw_m9 32 rfl) rfl
theorem q2028 : (Jvm.Cond.methodLink "AppealrentLaw" (124 : Nat) ({ cls := "AppealrentModel", name := "appeal", desc := "(I)I" } : Jvm.MethodName)) ∈ lw_all := lw_g (lw_at lw_m9 37 rfl) rfl
theorem q2036 : (Jvm.Cond.methodLink "AppealrentLaw" (128 : Nat) ({ cls := "AppealrentModel", name := "decide", desc := "(II)I" } : Jvm.MethodName)) ∈ lw_all := lw_g (lw_at lw_m9 45 rfl) rfl
theorem q2049 : (Jvm.Cond.methodLink "AppealrentLaw" (131 : Nat) ({ cls := "AppealrentModel", name := "payBack", desc := "(II)I" } : Jvm.MethodName)) ∈ lw_all := lw_g (lw_at lw_m9 58 rfl) rfl
theorem q2054 : (Jvm.Cond.methodLink "AppealrentLaw" (134 : Nat) ({ cls := "AppealrentModel", name := "pass", desc := "(I)I" } : Jvm.MethodName)) ∈ lw_all := lw_g (lw_at lw_m9 63 rfl) rfl
theorem q2098 : (Jvm.Cond.methodLink "AppealrentLaw" (138 : Nat) ({ cls := "AppealrentModel", name := "fact", desc := "(III)I" } : Jvm.MethodName)) ∈ lw_all := lw_g (lw_at lw_m9 107 rfl) rfl
theorem q2107 : (Jvm.Cond.methodLink "AppealrentLaw" (141 : Nat) ({ cls := "AppealrentModel", name := "ruleOn", desc := "(II)I" } : Jvm.MethodName)) ∈ lw_all := lw_g (lw_at lw_m9 116 rfl) rfl
theorem q2111 : (Jvm.Cond.methodLink "AppealrentLaw" (144 : Nat) ({ cls := "AppealrentModel", name := "help", desc := "(II)I" } : Jvm.MethodName)) ∈ lw_all := lw_g (lw_at lw_m9 120 rfl) rfl
theorem q2115 : (Jvm.Cond.methodLink "AppealrentLaw" (147 : Nat) ({ cls := "AppealrentModel", name := "due", desc := "(II)I" } : Jvm.MethodName)) ∈ lw_all := lw_g (lw_at lw_m9 124 rfl) rfl
theorem q2120 : (Jvm.Cond.methodLink "AppealrentLaw" (150 : Nat) ({ cls := "AppealrentModel", name := "paid", desc := "(II)I" } : Jvm.MethodName)) ∈ lw_all := lw_g (lw_at lw_m9 129 rfl) rfl
theorem q2124 : (Jvm.Cond.methodLink "AppealrentLaw" (153 : Nat) ({ cls := "AppealrentModel", name := "caseAt", desc := "(II)I" } : Jvm.MethodName)) ∈ lw_all := lw_g (lw_at lw_m9 133 rfl) rfl
theorem q2141 : (Jvm.Cond.methodLink "AppealrentLaw" (156 : Nat) ({ cls := "AppealrentModel", name := "formAt", desc := "(II)I" } : Jvm.MethodName)) ∈ lw_all := lw_g (lw_at lw_m9 150 rfl) rfl
theorem q2146 : (Jvm.Cond.methodLink "AppealrentLaw" (159 : Nat) ({ cls := "AppealrentModel", name := "ruleAt", desc := "(II)I" } : Jvm.MethodName)) ∈ lw_all := lw_g (lw_at lw_m9 155 rfl) rfl
theorem q2151 : (Jvm.Cond.methodLink "AppealrentLaw" (162 : Nat) ({ cls := "AppealrentModel", name := "claimAt", desc := "(II)I" } : Jvm.MethodName)) ∈ lw_all := lw_g (lw_at lw_m9 160 rfl) rfl
theorem q2156 : (Jvm.Cond.methodLink "AppealrentLaw" (165 : Nat) ({ cls := "AppealrentModel", name := "write", desc := "(IZ)I" } : Jvm.MethodName)) ∈ lw_all := lw_g (lw_at lw_m9 165 rfl) rfl
theorem q2167 : (Jvm.Cond.methodLink "AppealrentLaw" (168 : Nat) ({ cls := "AppealrentModel", name := "outputAt", desc := "(I)I" } : Jvm.MethodName)) ∈ lw_all := lw_g (lw_at lw_m9 176 rfl) rfl
theorem q2180 : (Jvm.Cond.methodLink "AppealrentLaw" (171 : Nat) ({ cls := "AppealrentModel", name := "count", desc := "(I)I" } : Jvm.MethodName)) ∈ lw_all := lw_g (lw_at lw_m9 189 rfl) rfl
theorem q2189 : (Jvm.Cond.methodLink "AppealrentLaw" (176 : Nat) ({ cls := "AppealrentModel", name := "meanHelp", desc := "()D" } : Jvm.MethodName)) ∈ lw_all := lw_g (lw_at lw_m9 198 rfl) rfl
theorem q2193 : (Jvm.Cond.methodLink "AppealrentLaw" (181 : Nat) ({ cls := "AppealrentModel", name := "calledBack", desc := "()F" } : Jvm.MethodName)) ∈ lw_all := lw_g (lw_at lw_m9 202 rfl) rfl
theorem q2197 : (Jvm.Cond.methodLink "AppealrentLaw" (185 : Nat) ({ cls := "AppealrentModel", name := "errors", desc := "()I" } : Jvm.MethodName)) ∈ lw_all := lw_g (lw_at lw_m9 206 rfl) rfl
