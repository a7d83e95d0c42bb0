/-! strings: length, charAt -/
set_option maxRecDepth 100000
section
variable {E : gE} {l : Launch} {M : gM}
/-- a byte as the machine holds it -/
def sby (x : Nat) : Int := if x < 128 then (x : Int) else (x : Int) - 256
/-- the bytes of signs (UTF-16 units): one each, or two each, the low one first -/
def gByt (c : Int) (U : List Nat) (len : Nat) (F : Nat → Int) : Prop :=
  (c = 0 ∧ len = U.length ∧ ∀ i, (h : i < U.length) → U[i] < 256 ∧ F i = sby U[i]) ∨
  (c = 1 ∧ len = 2 * U.length ∧ ∀ i, (h : i < U.length) → U[i] < 65536 ∧ F (2 * i) = sby (U[i] % 256) ∧ F (2 * i + 1) = sby (U[i] / 256))
/-- a string of such signs -/
def gStr (M : gM) (a t1 t2 : Nat) (U : List Nat) : Prop := ∃ (v len : Nat) (c h z : Int) (F : Nat → Int), M a = some (t1, gO 11 [.ref v, vi c, vi h, vi z]) ∧ M v = some (t2, gI 1 len F) ∧ len ≤ 1000000 ∧ gByt c U len F
theorem gStr.x {M M1 : gM} {a t1 t2 : Nat} {U : List Nat} {T : Nat → Prop} (h : gStr M a t1 t2 U) (x : gExt T M M1) (n1 : ¬ T t1) (n2 : ¬ T t2) : gStr M1 a t1 t2 U := by
  obtain ⟨v, len, c, hh, z, F, e1, e2, e3⟩ := h
  exact ⟨v, len, c, hh, z, F, x.t e1 n1, x.t e2 n2, e3⟩
theorem sby_and : ∀ x : Fin 256, iv (sby x.val) &&& iv 255 = iv (x.val : Int) := by decide +kernel
theorem sby_and' {x : Nat} (h : x < 256) : iv (sby x) &&& iv 255 = iv x := sby_and ⟨x, h⟩
theorem iv_un {x : Int} (h : 0 ≤ x ∧ x < 65536) : (iv x).toUInt32.toNat = x.toNat := by
  have e : (iv x).toBitVec.toInt = x := iv_toInt ⟨by omega, by omega⟩
  have := (iv x).toBitVec.isLt
  rw [BitVec.toInt_eq_toNat_cond] at e
  show (iv x).toBitVec.toNat = x.toNat
  split at e <;> omega
theorem iv_char {x : Int} (h : 0 ≤ x ∧ x < 65536) : ((iv x).toUInt32 % 65536).toInt32 = iv x := by
  have h3 : ((iv x).toUInt32 % 65536) = (iv x).toUInt32 := by
    apply UInt32.toNat_inj.mp
    rw [UInt32.toNat_mod, iv_un h]
    show x.toNat % 65536 = x.toNat
    omega
  rw [h3]
  rfl
theorem iv_ch16 {x : Int} (h : 0 ≤ x ∧ x < 65536) : narrow .char (vi x) = vi x := by
  have h3 : (iv x).toUInt32.toUInt16.toUInt32 = (iv x).toUInt32 := by
    apply UInt32.toNat_inj.mp
    show (iv x).toUInt32.toNat % 65536 = _
    rw [iv_un h]
    omega
  show Value.int (iv x).toUInt32.toUInt16.toUInt32.toInt32 = _
  rw [h3]
  rfl
theorem m_J14_checkIndex' (hl : l.stackTraces = false) {i n : Int} {w : Nat} (h : 0 ≤ i ∧ i < n ∧ n ≤ 2147483647) : gFun E l yJ14_checkIndex wJ14_checkIndex 0 [vi i, vi n, .ref w] M (vi i) := by
  refine gMet.of hl rfl (Nat.le_of_ble_eq_true rfl) ?_
  intro Z hE hl0 hQ hX C hnm htab
  subst hE; subst hl0
  replace C : gC Z RJ14 cJ14_checkIndex 3 (some .int) _ := C
  change G Z _ _ _ 0 [(0, _), (1, _), (2, _)] []
  refine g_iload_n (pc := 0) C dJ14_checkIndex_0 0 rfl rfl ?_
  refine g_if_lt (pc := 1) C dJ14_checkIndex_1 9 ⟨by omega, by omega⟩ (by decide) (fun c_1 => ?_) (fun c_1 => ?_)
  · skip
    omega
  · skip
    refine g_iload_n (pc := 4) C dJ14_checkIndex_4 0 rfl rfl ?_
    refine g_iload_n (pc := 5) C dJ14_checkIndex_5 1 rfl rfl ?_
    refine g_icmp_lt (pc := 6) C dJ14_checkIndex_6 16 ⟨by omega, by omega⟩ ⟨by omega, by omega⟩ (by decide) (fun c_6 => ?_) (fun c_6 => ?_)
    · skip
      refine g_iload_n (pc := 16) C dJ14_checkIndex_16 0 rfl rfl ?_
      refine g_iret (pc := 17) hQ C ?_ dJ14_checkIndex_17
      exact ⟨rfl, rfl⟩
    · skip
      omega
theorem m_J9_checkIndex (hl : l.stackTraces = false) {i n : Int} (h : 0 ≤ i ∧ i < n ∧ n ≤ 2147483647) : gMet E l yJ9_checkIndex wJ9_checkIndex 1 0 0 [vi i, vi n] M (fun v M1 => v = none ∧ M1 = M) (fun _ _ _ => False) := by
  refine gMet.of hl rfl (Nat.le_of_ble_eq_true rfl) ?_
  intro Z hE hl0 hQ hX C hnm htab
  subst hE; subst hl0
  replace C : gC Z RJ9 cJ9_checkIndex 2 none _ := C
  change G Z _ _ _ 0 [(0, _), (1, _)] []
  have tail : ∀ v : Value, (v = .null ∨ ∃ a, v = .ref a) → G Z 0 0 M 5 [(0, vi i), (1, vi n)] [v, vi n, vi i] := by
    rintro v (rfl | ⟨a, rfl⟩)
    · skip
      refine g_callS (pc := 5) C (m_J14_checkIndex hl h) q880 q501 q88 q502 nmJ14_checkIndex rfl (by decide) (by decide) (Nat.zero_le _) (Nat.zero_le _) rfl (Nat.le_of_ble_eq_true rfl) dJ9_checkIndex_5 (gkf ?_) gkx
      refine g_pop (pc := 8) C dJ9_checkIndex_8 rfl ?_
      refine g_vret (pc := 9) hQ C ?_ dJ9_checkIndex_9
      exact ⟨rfl, rfl⟩
    · skip
      refine g_callS (pc := 5) C (m_J14_checkIndex' hl h) q880 q501 q88 q502 nmJ14_checkIndex rfl (by decide) (by decide) (Nat.zero_le _) (Nat.zero_le _) rfl (Nat.le_of_ble_eq_true rfl) dJ9_checkIndex_5 (gkf ?_) gkx
      refine g_pop (pc := 8) C dJ9_checkIndex_8 rfl ?_
      refine g_vret (pc := 9) hQ C ?_ dJ9_checkIndex_9
      exact ⟨rfl, rfl⟩
  refine g_iload_n (pc := 0) C dJ9_checkIndex_0 0 rfl rfl ?_
  refine g_iload_n (pc := 1) C dJ9_checkIndex_1 1 rfl rfl ?_
  exact g_getsQ (pc := 2) C dJ9_checkIndex_2 q277 (fun _ h9 => h9) (tail _ (Or.inl rfl)) (fun a => tail _ (Or.inr ⟨a, rfl⟩))
theorem m_J15_charAt (hl : l.stackTraces = false) {v t2 len : Nat} {U : List Nat} {F : Nat → Int} (hv : M v = some (t2, gI 1 len F)) (hlen : len ≤ 1000000) (hb : gByt 0 U len F) {i : Nat} (hi : i < U.length) : gFun E l yJ15_charAt wJ15_charAt 2 [.ref v, vi i] M (vi (U[i] : Nat)) := by
  rcases hb with ⟨-, hb1, hb2⟩ | ⟨hb, -⟩
  · have hq := hb2 i hi
    refine gMet.of hl rfl (Nat.le_of_ble_eq_true rfl) ?_
    intro Z hE hl0 hQ hX C hnm htab
    subst hE; subst hl0
    replace C : gC Z RJ15 cJ15_charAt 2 (some .char) _ := C
    change G Z _ _ _ 0 [(0, _), (1, _)] []
    refine g_iload_n (pc := 0) C dJ15_charAt_0 1 rfl rfl ?_
    refine g_aload_n (pc := 1) C dJ15_charAt_1 0 rfl trivial rfl ?_
    refine g_alen (pc := 2) C dJ15_charAt_2 hv (fun _ => rfl) ?_
    refine g_callS (pc := 3) C (m_J9_checkIndex hl ⟨by omega, by omega, by omega⟩) q1258 q878 q82 q879 nmJ9_checkIndex rfl (by decide) (by decide) (Nat.zero_le _) (Nat.zero_le _) rfl (Nat.le_of_ble_eq_true rfl) dJ15_charAt_3 (gkv ?_) gkx
    refine g_aload_n (pc := 6) C dJ15_charAt_6 0 rfl trivial rfl ?_
    refine g_iload_n (pc := 7) C dJ15_charAt_7 1 rfl rfl ?_
    refine g_bald (pc := 8) C dJ15_charAt_8 hv _ rfl (by omega) (by omega) ?_
    rw [hq.2]
    refine g_sipush (pc := 9) C dJ15_charAt_9 (by decide) ?_
    refine g_iand (pc := 12) C dJ15_charAt_12 (sby_and' hq.1) ?_
    refine g_i2c (pc := 13) C dJ15_charAt_13 (iv_char ⟨by omega, by omega⟩) ?_
    refine g_nret (pc := 14) hQ C (iv_ch16 ⟨by omega, by omega⟩) ?_ dJ15_charAt_14
    exact ⟨rfl, rfl⟩
  · omega
theorem m_J9_isLatin1 (hl : l.stackTraces = false) {a t1 : Nat} {c : Int} {v0 v2 v3 : Value} (h : M a = some (t1, gO 11 [v0, vi c, v2, v3])) (hc : c = 0 ∨ c = 1) : gFun E l yJ9_isLatin1 wJ9_isLatin1 0 [.ref a] M (vi (b2 (decide (c = 0)))) := by
  refine gMet.of hl rfl (Nat.le_of_ble_eq_true rfl) ?_
  intro Z hE hl0 hQ hX C hnm htab
  subst hE; subst hl0
  replace C : gC Z RJ9 cJ9_isLatin1 1 (some .boolean) _ := C
  change G Z _ _ _ 0 [(0, _)] []
  refine g_gets (pc := 0) C dJ9_isLatin1_0 (Cx := "java/lang/String") (nx := "COMPACT_STRINGS") (dx := "Z") (x := 1) (by decide) q299 (fun _ h9 => h9) ?_
  refine g_if_eq (pc := 3) C dJ9_isLatin1_3 17 ⟨by omega, by omega⟩ (by decide) (fun c_3 => ?_) (fun c_3 => ?_)
  · skip
    omega
  · skip
    refine g_aload_n (pc := 6) C dJ9_isLatin1_6 0 rfl trivial rfl ?_
    refine g_get (pc := 7) C dJ9_isLatin1_7 cl11 h 1 (by decide) q441 (fun _ h9 => h9) rfl ?_
    refine g_if_ne (pc := 10) C dJ9_isLatin1_10 17 ⟨by omega, by omega⟩ (by decide) (fun c_10 => ?_) (fun c_10 => ?_)
    · skip
      refine g_iconst (pc := 17) C dJ9_isLatin1_17 ?_
      refine g_nret (pc := 18) hQ C rfl ?_ dJ9_isLatin1_18
      first | exact ⟨ret_t (by omega), rfl⟩ | exact ⟨ret_f (by omega), rfl⟩
    · skip
      refine g_iconst (pc := 13) C dJ9_isLatin1_13 ?_
      refine g_goto (pc := 14) C dJ9_isLatin1_14 18 (by decide) ?_
      refine g_nret (pc := 18) hQ C rfl ?_ dJ9_isLatin1_18
      first | exact ⟨ret_t (by omega), rfl⟩ | exact ⟨ret_f (by omega), rfl⟩
theorem m_J9_coder (hl : l.stackTraces = false) {a t1 : Nat} {c : Int} {v0 v2 v3 : Value} (h : M a = some (t1, gO 11 [v0, vi c, v2, v3])) (hc : c = 0 ∨ c = 1) : gFun E l yJ9_coder wJ9_coder 0 [.ref a] M (vi c) := by
  refine gMet.of hl rfl (Nat.le_of_ble_eq_true rfl) ?_
  intro Z hE hl0 hQ hX C hnm htab
  subst hE; subst hl0
  replace C : gC Z RJ9 cJ9_coder 1 (some .byte) _ := C
  change G Z _ _ _ 0 [(0, _)] []
  refine g_gets (pc := 0) C dJ9_coder_0 (Cx := "java/lang/String") (nx := "COMPACT_STRINGS") (dx := "Z") (x := 1) (by decide) q299 (fun _ h9 => h9) ?_
  refine g_if_eq (pc := 3) C dJ9_coder_3 13 ⟨by omega, by omega⟩ (by decide) (fun c_3 => ?_) (fun c_3 => ?_)
  · skip
    omega
  · skip
    refine g_aload_n (pc := 6) C dJ9_coder_6 0 rfl trivial rfl ?_
    refine g_get (pc := 7) C dJ9_coder_7 cl11 h 1 (by decide) q441 (fun _ h9 => h9) rfl ?_
    refine g_goto (pc := 10) C dJ9_coder_10 14 (by decide) ?_
    refine g_nret (pc := 14) hQ C (by rcases hc with rfl | rfl <;> rfl) ?_ dJ9_coder_14
    exact ⟨rfl, rfl⟩
end
