/-! strings of two bytes a sign; length, charAt of any string -/
set_option maxRecDepth 100000
section
variable {E : gE} {l : Launch} {M : gM}
theorem iv_bn {x : Int} (h : 0 ≤ x ∧ x ≤ 2147483647) : (iv x).toBitVec.toNat = x.toNat := by
  have e : (iv x).toBitVec.toInt = x := iv_toInt ⟨by omega, by omega⟩
  have := (iv x).toBitVec.isLt
  rw [BitVec.toInt_eq_toNat_cond] at e
  split at e <;> omega
theorem iv_shl {x : Int} {k : Nat} (hk : ((iv k &&& 31).toBitVec.smod 32).toNat = k) (h : 0 ≤ x) (h2 : x * 2 ^ k ≤ 2147483647) (h3 : x ≤ 2147483647) : iv x <<< (iv k &&& 31) = iv (x * 2 ^ k) := by
  apply Int32.toBitVec_inj.mp
  apply BitVec.eq_of_toNat_eq
  have hp : (0 : Int) ≤ x * 2 ^ k := Int.mul_nonneg h (Int.pow_nonneg (by decide))
  rw [Int32.toBitVec_shiftLeft, BitVec.shiftLeft_eq', BitVec.toNat_shiftLeft, hk, iv_bn ⟨h, h3⟩, iv_bn ⟨hp, h2⟩, Nat.shiftLeft_eq]
  obtain ⟨n, rfl⟩ := Int.eq_ofNat_of_zero_le h
  have e : ((n : Int) * 2 ^ k).toNat = n * 2 ^ k := by
    rw [show (n : Int) * 2 ^ k = ((n * 2 ^ k : Nat) : Int) by rw [Int.natCast_mul, Int.natCast_pow]; rfl]
    rfl
  rw [e]
  rw [Int.toNat_natCast]
  refine Nat.mod_eq_of_lt ?_
  have e2 : ((n : Int) * 2 ^ k) = ((n * 2 ^ k : Nat) : Int) := by rw [Int.natCast_mul, Int.natCast_pow]; rfl
  omega
theorem iv_shr0 {a : Int} (h : 0 ≤ a ∧ a ≤ 2147483647) : iv a >>> (iv 0 &&& 31) = iv a := by
  refine Int32.toInt_inj.mp ?_
  show (iv a >>> (iv 0 &&& 31)).toBitVec.toInt = _
  rw [show iv 0 &&& 31 = (0 : Int32) by decide, Int32.toBitVec_shiftRight, show ((0 : Int32).toBitVec.smod 32) = 0#32 by decide, BitVec.sshiftRight_eq', BitVec.toInt_sshiftRight]
  show (iv a).toInt >>> 0 = _
  rw [Int.shiftRight_zero]
theorem iv_or8 {a b : Nat} (ha : a < 256) (hb : b < 256) : iv a ||| iv ((b : Int) * 2 ^ 8) = iv ((a + 256 * b : Nat) : Int) := by
  apply Int32.toBitVec_inj.mp
  apply BitVec.eq_of_toNat_eq
  rw [Int32.toBitVec_or, BitVec.toNat_or, iv_bn ⟨by omega, by omega⟩, iv_bn ⟨by omega, by omega⟩, iv_bn ⟨by omega, by omega⟩]
  have e : ((b : Int) * 2 ^ 8).toNat = b <<< 8 := by rw [Nat.shiftLeft_eq]; omega
  rw [e, Int.toNat_natCast, Int.toNat_natCast, Nat.or_comm, ← Nat.shiftLeft_add_eq_or_of_lt (show a < 2 ^ 8 from ha), Nat.shiftLeft_eq]
  omega
theorem m_J10_length (hl : l.stackTraces = false) {v t2 len : Nat} {F : Nat → Int} (hv : M v = some (t2, gI 1 len F)) (hlen : len ≤ 1000000) : gFun E l yJ10_length wJ10_length 0 [.ref v] M (vi ((len / 2 : Nat) : Int)) := by
  refine gMet.of hl rfl (Nat.le_of_ble_eq_true rfl) ?_
  intro Z hE hl0 hQ hX C hnm htab
  subst hE; subst hl0
  replace C : gC Z RJ10 cJ10_length 1 (some .int) _ := C
  change G Z _ _ _ 0 [(0, _)] []
  refine g_aload_n (pc := 0) C dJ10_length_0 0 rfl trivial rfl ?_
  refine g_alen (pc := 1) C dJ10_length_1 hv (fun _ => rfl) ?_
  refine g_iconst (pc := 2) C dJ10_length_2 ?_
  refine g_ishr (pc := 3) C dJ10_length_3 (iv_shr1 ⟨by omega, by omega⟩) ?_
  refine g_iret (pc := 4) hQ C ?_ dJ10_length_4
  exact ⟨rfl, rfl⟩
theorem m_J10_checkIndex (hl : l.stackTraces = false) {v t2 len : Nat} {F : Nat → Int} (hv : M v = some (t2, gI 1 len F)) (hlen : len ≤ 1000000) {i : Int} (hi : 0 ≤ i ∧ i < ((len / 2 : Nat) : Int)) : gMet E l yJ10_checkIndex wJ10_checkIndex 2 0 0 [vi i, .ref v] M (fun v M1 => v = none ∧ M1 = M) (fun _ _ _ => False) := by
  refine gMet.of hl rfl (Nat.le_of_ble_eq_true rfl) ?_
  intro Z hE hl0 hQ hX C hnm htab
  subst hE; subst hl0
  replace C : gC Z RJ10 cJ10_checkIndex 2 none _ := C
  change G Z _ _ _ 0 [(0, _), (1, _)] []
  refine g_iload_n (pc := 0) C dJ10_checkIndex_0 0 rfl rfl ?_
  refine g_aload_n (pc := 1) C dJ10_checkIndex_1 1 rfl trivial rfl ?_
  refine g_callS (pc := 2) C (m_J10_length hl hv hlen) q271 q272 q83 q273 nmJ10_length rfl (by decide) (by decide) (Nat.zero_le _) (Nat.zero_le _) rfl (Nat.le_of_ble_eq_true rfl) dJ10_checkIndex_2 (gkf ?_) gkx
  refine g_callS (pc := 5) C (m_J9_checkIndex hl ⟨by omega, by omega, by omega⟩) q877 q878 q82 q879 nmJ9_checkIndex rfl (by decide) (by decide) (Nat.zero_le _) (Nat.zero_le _) rfl (Nat.le_of_ble_eq_true rfl) dJ10_checkIndex_5 (gkv ?_) gkx
  refine g_vret (pc := 8) hQ C ?_ dJ10_checkIndex_8
  exact ⟨rfl, rfl⟩
theorem m_J10_getChar (hl : l.stackTraces = false) {v t2 len : Nat} {U : List Nat} {F : Nat → Int} (hv : M v = some (t2, gI 1 len F)) (hlen : len ≤ 1000000) (hb : gByt 1 U len F) {i : Nat} (hi : i < U.length) : gFun E l yJ10_getChar wJ10_getChar 0 [.ref v, vi i] M (vi (U[i] : Nat)) := by
  rcases hb with ⟨hb, -⟩ | ⟨-, hb1, hb2⟩
  · omega
  · obtain ⟨q0, q1, q2⟩ := hb2 i hi
    refine gMet.of hl rfl (Nat.le_of_ble_eq_true rfl) ?_
    intro Z hE hl0 hQ hX C hnm htab
    subst hE; subst hl0
    replace C : gC Z RJ10 cJ10_getChar 2 (some .char) _ := C
    change G Z _ _ _ 0 [(0, _), (1, _)] []
    refine g_gets (pc := 0) C dJ10_getChar_0 (Cx := "java/lang/StringUTF16") (nx := "$assertionsDisabled") (dx := "Z") (x := 1) (by decide) q285 (fun _ h9 => h9) ?_
    refine g_if_ne (pc := 3) C dJ10_getChar_3 28 ⟨by omega, by omega⟩ (by decide) (fun c_3 => ?_) (fun c_3 => ?_)
    · skip
      refine g_iload_n (pc := 28) C dJ10_getChar_28 1 rfl rfl ?_
      refine g_iconst (pc := 29) C dJ10_getChar_29 ?_
      refine g_ishl (pc := 30) C dJ10_getChar_30 (iv_shl (k := 1) (by decide) (by omega) (by omega) (by omega)) ?_
      refine g_istore_n (pc := 31) C dJ10_getChar_31 (Nat.le_of_ble_eq_true rfl) rfl rfl (loc1 := [(0, _), (1, _)]) rfl ?_
      refine g_aload_n (pc := 32) C dJ10_getChar_32 0 rfl trivial rfl ?_
      refine g_iload_n (pc := 33) C dJ10_getChar_33 1 rfl rfl ?_
      refine g_iinc (pc := 34) C dJ10_getChar_34 1 rfl (Nat.le_of_ble_eq_true rfl) rfl (loc1 := [(0, _), (1, _)]) rfl ?_
      refine g_bald (pc := 37) C dJ10_getChar_37 hv (2 * i) (by omega) (by omega) (by omega) ?_
      rw [q1]
      refine g_sipush (pc := 38) C dJ10_getChar_38 (by decide) ?_
      refine g_iand (pc := 41) C dJ10_getChar_41 (sby_and' (by omega)) ?_
      refine g_gets (pc := 42) C dJ10_getChar_42 (Cx := "java/lang/StringUTF16") (nx := "HI_BYTE_SHIFT") (dx := "I") (x := 0) (by decide) q287 (fun _ h9 => h9) ?_
      refine g_ishl (pc := 45) C dJ10_getChar_45 (iv_shl (k := 0) (by decide) (by omega) (by omega) (by omega)) ?_
      refine g_aload_n (pc := 46) C dJ10_getChar_46 0 rfl trivial rfl ?_
      refine g_iload_n (pc := 47) C dJ10_getChar_47 1 rfl rfl ?_
      refine g_bald (pc := 48) C dJ10_getChar_48 hv (2 * i + 1) (by omega) (by omega) (by omega) ?_
      rw [q2]
      refine g_sipush (pc := 49) C dJ10_getChar_49 (by decide) ?_
      refine g_iand (pc := 52) C dJ10_getChar_52 (sby_and' (by omega)) ?_
      refine g_gets (pc := 53) C dJ10_getChar_53 (Cx := "java/lang/StringUTF16") (nx := "LO_BYTE_SHIFT") (dx := "I") (x := 8) (by decide) q289 (fun _ h9 => h9) ?_
      refine g_ishl (pc := 56) C dJ10_getChar_56 (iv_shl (k := 8) (by decide) (by omega) (by omega) (by omega)) ?_
      rw [show ((U[i] % 256 : Nat) : Int) * 2 ^ 0 = ((U[i] % 256 : Nat) : Int) by omega]
      refine g_ior (pc := 57) C dJ10_getChar_57 (iv_or8 (by omega) (by omega)) ?_
      rw [show U[i] % 256 + 256 * (U[i] / 256) = U[i] by omega]
      refine g_i2c (pc := 58) C dJ10_getChar_58 (iv_char ⟨by omega, by omega⟩) ?_
      refine g_nret (pc := 59) hQ C (iv_ch16 ⟨by omega, by omega⟩) ?_ dJ10_getChar_59
      exact ⟨rfl, rfl⟩
    · skip
      omega
theorem m_J10_charAt (hl : l.stackTraces = false) {v t2 len : Nat} {U : List Nat} {F : Nat → Int} (hv : M v = some (t2, gI 1 len F)) (hlen : len ≤ 1000000) (hb : gByt 1 U len F) {i : Nat} (hi : i < U.length) : gFun E l yJ10_charAt wJ10_charAt 3 [.ref v, vi i] M (vi (U[i] : Nat)) := by
  have hb0 := hb
  rcases hb with ⟨hb, -⟩ | ⟨-, hb1, hb2⟩
  · omega
  · have hq := hb2 i hi
    refine gMet.of hl rfl (Nat.le_of_ble_eq_true rfl) ?_
    intro Z hE hl0 hQ hX C hnm htab
    subst hE; subst hl0
    replace C : gC Z RJ10 cJ10_charAt 2 (some .char) _ := C
    change G Z _ _ _ 0 [(0, _), (1, _)] []
    refine g_iload_n (pc := 0) C dJ10_charAt_0 1 rfl rfl ?_
    refine g_aload_n (pc := 1) C dJ10_charAt_1 0 rfl trivial rfl ?_
    refine g_callS (pc := 2) C (m_J10_checkIndex hl hv hlen ⟨by omega, by omega⟩) q874 q875 q83 q876 nmJ10_checkIndex rfl (by decide) (by decide) (Nat.zero_le _) (Nat.zero_le _) rfl (Nat.le_of_ble_eq_true rfl) dJ10_charAt_2 (gkv ?_) gkx
    refine g_aload_n (pc := 5) C dJ10_charAt_5 0 rfl trivial rfl ?_
    refine g_iload_n (pc := 6) C dJ10_charAt_6 1 rfl rfl ?_
    refine g_callS (pc := 7) C (m_J10_getChar hl hv hlen hb0 hi) q433 q434 q83 q435 nmJ10_getChar rfl (by decide) (by decide) (Nat.zero_le _) (Nat.zero_le _) rfl (Nat.le_of_ble_eq_true rfl) dJ10_charAt_7 (gkf ?_) gkx
    refine g_nret (pc := 10) hQ C (iv_ch16 ⟨by omega, by omega⟩) ?_ dJ10_charAt_10
    exact ⟨rfl, rfl⟩
theorem gByt.c {c : Int} {U : List Nat} {len : Nat} {F : Nat → Int} (h : gByt c U len F) : c = 0 ∨ c = 1 := h.elim (fun z => Or.inl z.1) (fun z => Or.inr z.1)
theorem m_J9_length (hl : l.stackTraces = false) {a t1 t2 : Nat} {U : List Nat} (h : gStr M a t1 t2 U) : gFun E l yJ9_length wJ9_length 1 [.ref a] M (vi U.length) := by
  obtain ⟨v, len, c, hh, z, F, e1, e2, e3, e4⟩ := h
  have hc := e4.c
  refine gMet.of hl rfl (Nat.le_of_ble_eq_true rfl) ?_
  intro Z hE hl0 hQ hX C hnm htab
  subst hE; subst hl0
  replace C : gC Z RJ9 cJ9_length 1 (some .int) _ := C
  change G Z _ _ _ 0 [(0, _)] []
  refine g_aload_n (pc := 0) C dJ9_length_0 0 rfl trivial rfl ?_
  refine g_get (pc := 1) C dJ9_length_1 cl11 e1 0 (by decide) q440 (fun _ h9 => h9) rfl ?_
  refine g_alen (pc := 4) C dJ9_length_4 e2 (fun _ => rfl) ?_
  refine g_aload_n (pc := 5) C dJ9_length_5 0 rfl trivial rfl ?_
  refine g_callV (pc := 6) C (m_J9_coder hl e1 hc) cl11 e1 q295 q296 q297 q82 q298 nmJ9_coder rfl (by decide) (by decide) (Nat.zero_le _) (Nat.zero_le _) rfl (Nat.le_of_ble_eq_true rfl) dJ9_length_6 (gkf ?_) gkx
  refine g_ishr (pc := 9) C dJ9_length_9 (z := U.length) (by rcases e4 with ⟨rfl, e5, -⟩ | ⟨rfl, e5, -⟩; rw [e5]; exact iv_shr0 ⟨by omega, by omega⟩; rw [iv_shr1 ⟨by omega, by omega⟩]; congr 1; omega) ?_
  refine g_iret (pc := 10) hQ C ?_ dJ9_length_10
  exact ⟨rfl, rfl⟩
theorem m_J9_charAt (hl : l.stackTraces = false) {a t1 t2 : Nat} {U : List Nat} (h : gStr M a t1 t2 U) {i : Nat} (hi : i < U.length) : gFun E l yJ9_charAt wJ9_charAt 4 [.ref a, vi i] M (vi (U[i] : Nat)) := by
  obtain ⟨v, len, c, hh, z, F, e1, e2, e3, e4⟩ := h
  have hc := e4.c
  have hu : U[i] < 65536 := by rcases e4 with ⟨-, -, e5⟩ | ⟨-, -, e5⟩ <;> have := e5 i hi <;> omega
  refine gMet.of hl rfl (Nat.le_of_ble_eq_true rfl) ?_
  intro Z hE hl0 hQ hX C hnm htab
  subst hE; subst hl0
  replace C : gC Z RJ9 cJ9_charAt 2 (some .char) _ := C
  change G Z _ _ _ 0 [(0, _), (1, _)] []
  refine g_aload_n (pc := 0) C dJ9_charAt_0 0 rfl trivial rfl ?_
  refine g_callV (pc := 1) C (m_J9_isLatin1 hl e1 hc) cl11 e1 q1166 q1167 q1168 q82 q1169 nmJ9_isLatin1 rfl (by decide) (by decide) (Nat.zero_le _) (Nat.zero_le _) rfl (Nat.le_of_ble_eq_true rfl) dJ9_charAt_1 (gkf ?_) gkx
  refine g_ifb_eq (pc := 4) C dJ9_charAt_4 16 (by decide) (fun c_4 => ?_) (fun c_4 => ?_)
  · skip
    have d_4 := c_4
    try simp only [decide_eq_true_eq, decide_eq_false_iff_not, Bool.and_eq_true, Bool.and_eq_false_iff, ne_eq, Classical.not_not] at c_4
    obtain rfl : c = 1 := hc.resolve_left c_4
    refine g_aload_n (pc := 16) C dJ9_charAt_16 0 rfl trivial rfl ?_
    refine g_get (pc := 17) C dJ9_charAt_17 cl11 e1 0 (by decide) q440 (fun _ h9 => h9) rfl ?_
    refine g_iload_n (pc := 20) C dJ9_charAt_20 1 rfl rfl ?_
    refine g_callS (pc := 21) C (m_J10_charAt hl e2 e3 e4 hi) q1259 q1260 q83 q1261 nmJ10_charAt rfl (by decide) (by decide) (Nat.zero_le _) (Nat.zero_le _) rfl (Nat.le_of_ble_eq_true rfl) dJ9_charAt_21 (gkf ?_) gkx
    refine g_nret (pc := 24) hQ C (iv_ch16 ⟨by omega, by omega⟩) ?_ dJ9_charAt_24
    exact ⟨rfl, rfl⟩
  · skip
    have d_4 := c_4
    try simp only [decide_eq_true_eq, decide_eq_false_iff_not, Bool.and_eq_true, Bool.and_eq_false_iff, ne_eq, Classical.not_not] at c_4
    subst c_4
    refine g_aload_n (pc := 7) C dJ9_charAt_7 0 rfl trivial rfl ?_
    refine g_get (pc := 8) C dJ9_charAt_8 cl11 e1 0 (by decide) q440 (fun _ h9 => h9) rfl ?_
    refine g_iload_n (pc := 11) C dJ9_charAt_11 1 rfl rfl ?_
    refine g_callS (pc := 12) C (m_J15_charAt hl e2 e3 e4 hi) q1255 q1256 q89 q1257 nmJ15_charAt rfl (by decide) (by decide) (Nat.zero_le _) (Nat.zero_le _) rfl (Nat.le_of_ble_eq_true rfl) dJ9_charAt_12 (gkf ?_) gkx
    refine g_nret (pc := 15) hQ C (iv_ch16 ⟨by omega, by omega⟩) ?_ dJ9_charAt_15
    exact ⟨rfl, rfl⟩
end
