/-! java.util.ArrayList, and what it stands on -/
set_option maxRecDepth 100000
section
variable {E : gE} {l : Launch} {M : gM}
theorem m_J14_checkIndex (hl : l.stackTraces = false) {i n : Int} (h : 0 ≤ i ∧ i < n ∧ n ≤ 2147483647) : gFun E l yJ14_checkIndex wJ14_checkIndex 0 [vi i, vi n, .null] M (vi i) := by
  refine gMet.of hl rfl (Nat.le_of_ble_eq_true rfl) ?_
  intro Z hE hl0 hQ hX C hnm htab
  subst hE; subst hl0
  replace C : gC Z RJ14 cJ14_checkIndex 3 (some .int) _ := C
  change G Z _ _ _ 0 [(0, _), (1, _), (2, _)] []
  refine g_iload_n (pc := 0) C dJ14_checkIndex_0 0 rfl rfl ?_
  refine g_if_lt (pc := 1) C dJ14_checkIndex_1 9 ⟨by omega, by omega⟩ (by decide) (fun c_1 => ?_) (fun c_1 => ?_)
  · skip
    omega
  · skip
    refine g_iload_n (pc := 4) C dJ14_checkIndex_4 0 rfl rfl ?_
    refine g_iload_n (pc := 5) C dJ14_checkIndex_5 1 rfl rfl ?_
    refine g_icmp_lt (pc := 6) C dJ14_checkIndex_6 16 ⟨by omega, by omega⟩ ⟨by omega, by omega⟩ (by decide) (fun c_6 => ?_) (fun c_6 => ?_)
    · skip
      refine g_iload_n (pc := 16) C dJ14_checkIndex_16 0 rfl rfl ?_
      refine g_iret (pc := 17) hQ C ?_ dJ14_checkIndex_17
      exact ⟨rfl, rfl⟩
    · skip
      omega
theorem m_J17_checkIndex (hl : l.stackTraces = false) {i n : Int} (h : 0 ≤ i ∧ i < n ∧ n ≤ 2147483647) : gFun E l yJ17_checkIndex wJ17_checkIndex 1 [vi i, vi n] M (vi i) := by
  refine gMet.of hl rfl (Nat.le_of_ble_eq_true rfl) ?_
  intro Z hE hl0 hQ hX C hnm htab
  subst hE; subst hl0
  replace C : gC Z RJ17 cJ17_checkIndex 2 (some .int) _ := C
  change G Z _ _ _ 0 [(0, _), (1, _)] []
  refine g_iload_n (pc := 0) C dJ17_checkIndex_0 0 rfl rfl ?_
  refine g_iload_n (pc := 1) C dJ17_checkIndex_1 1 rfl rfl ?_
  refine g_null (pc := 2) C dJ17_checkIndex_2 ?_
  refine g_callS (pc := 3) C (m_J14_checkIndex hl h) q500 q501 q88 q502 nmJ14_checkIndex rfl (by decide) (by decide) (Nat.zero_le _) (Nat.zero_le _) rfl (Nat.le_of_ble_eq_true rfl) dJ17_checkIndex_3 (gkf ?_) gkx
  refine g_iret (pc := 6) hQ C ?_ dJ17_checkIndex_6
  exact ⟨rfl, rfl⟩
theorem m_J11_newLength (hl : l.stackTraces = false) {a b c : Int} (ha : 0 ≤ a ∧ a ≤ 100000000) (hb : 0 ≤ b ∧ b ≤ 100000000) (hc : 0 ≤ c ∧ c ≤ 100000000) (h0 : 0 < a + max b c) : gFun E l yJ11_newLength wJ11_newLength 1 [vi a, vi b, vi c] M (vi (a + max b c)) := by
  refine gMet.of hl rfl (Nat.le_of_ble_eq_true rfl) ?_
  intro Z hE hl0 hQ hX C hnm htab
  subst hE; subst hl0
  replace C : gC Z RJ11 cJ11_newLength 4 (some .int) _ := C
  change G Z _ _ _ 0 [(0, _), (1, _), (2, _)] []
  refine g_iload_n (pc := 0) C dJ11_newLength_0 0 rfl rfl ?_
  refine g_iload_n (pc := 1) C dJ11_newLength_1 1 rfl rfl ?_
  refine g_iload_n (pc := 2) C dJ11_newLength_2 2 rfl rfl ?_
  refine g_mmax (pc := 3) C dJ11_newLength_3 ⟨by omega, by omega⟩ ⟨by omega, by omega⟩ q236 (by decide) (Nat.le_of_ble_eq_true rfl) ?_
  refine g_iadd (pc := 6) C dJ11_newLength_6 ?_
  refine g_istore_n (pc := 7) C dJ11_newLength_7 (Nat.le_of_ble_eq_true rfl) rfl rfl (loc1 := [(0, _), (1, _), (2, _), (3, _)]) rfl ?_
  refine g_iconst (pc := 8) C dJ11_newLength_8 ?_
  refine g_iload_n (pc := 9) C dJ11_newLength_9 3 rfl rfl ?_
  refine g_icmp_ge (pc := 10) C dJ11_newLength_10 21 ⟨by omega, by omega⟩ ⟨by omega, by omega⟩ (by decide) (fun c_10 => ?_) (fun c_10 => ?_)
  · skip
    omega
  · skip
    refine g_iload_n (pc := 13) C dJ11_newLength_13 3 rfl rfl ?_
    refine g_ldc (pc := 14) C dJ11_newLength_14 (x := iv 2147483639) q239 ?_
    refine g_icmp_gt (pc := 16) C dJ11_newLength_16 21 ⟨by omega, by omega⟩ ⟨by omega, by omega⟩ (by decide) (fun c_16 => ?_) (fun c_16 => ?_)
    · skip
      omega
    · skip
      refine g_iload_n (pc := 19) C dJ11_newLength_19 3 rfl rfl ?_
      refine g_iret (pc := 20) hQ C ?_ dJ11_newLength_20
      exact ⟨rfl, rfl⟩
/-- what a list's array holds: its first n places, none behind -/
def gLf (n : Nat) (el : Nat → Nat) : Nat → Option Nat := fun i => if i < n then some (el i) else none
/-- a list object: its cell and its array's; the tags; how many; how much room; the elements -/
def gLst (M : gM) (a ta ed tb n cap : Nat) (el : Nat → Nat) : Prop :=
  M a = some (ta, gO 9 [vi n, .ref ed, vi n]) ∧ M ed = some (tb, gR 5 cap (gLf n el)) ∧ (1 ≤ cap ∧ n ≤ cap ∧ cap ≤ 100000)
theorem gLst.ext {M M1 : gM} {a ta ed tb n cap : Nat} {el : Nat → Nat} {T : Nat → Prop} (h : gLst M a ta ed tb n cap el) (x : gExt T M M1) (h1 : ¬ T ta) (h2 : ¬ T tb) : gLst M1 a ta ed tb n cap el :=
  ⟨x _ _ h.1 h1, x _ _ h.2.1 h2, h.2.2⟩
/-- the elements are objects of ours, of other tags -/
def gEls (M : gM) (n : Nat) (el : Nat → Nat) (ta tb : Nat) : Prop :=
  ∀ i, i < n → ∃ (ty cy : Nat) (vs : List Value) (Cn : String) (T : u_T) (N : Nat) (tf : Nat → FieldType), M (el i) = some (ty, gO cy vs) ∧ gCls cy Cn T N tf ∧ Cond.castable Cn "java/lang/Object" ∈ lw_tbl ∧ ty ≠ ta ∧ ty ≠ tb
theorem gEls.ext {M M1 : gM} {n : Nat} {el : Nat → Nat} {ta tb : Nat} (h : gEls M n el ta tb) (x : gExt (fun t => t = ta ∨ t = tb) M M1) : gEls M1 n el ta tb := fun i hi => by
  obtain ⟨ty, cy, vs, Cn, TT, N, tf, e1, e2, e3, e4, e5⟩ := h i hi
  exact ⟨ty, cy, vs, Cn, TT, N, tf, x _ _ e1 (fun z => z.elim e4 e5), e2, e3, e4, e5⟩
variable {a ta ed tb n cap : Nat} {el : Nat → Nat}
theorem m_J2_size (hl : l.stackTraces = false) (h : gLst M a ta ed tb n cap el) : gFun E l yJ2_size wJ2_size 0 [.ref a] M (vi n) := by
  obtain ⟨e1, e2, e3⟩ := h
  refine gMet.of hl rfl (Nat.le_of_ble_eq_true rfl) ?_
  intro Z hE hl0 hQ hX C hnm htab
  subst hE; subst hl0
  replace C : gC Z RJ2 cJ2_size 1 (some .int) _ := C
  change G Z _ _ _ 0 [(0, _)] []
  refine g_aload_n (pc := 0) C dJ2_size_0 0 rfl trivial rfl ?_
  refine g_get (pc := 1) C dJ2_size_1 cl9 e1 2 (by decide) q455 (fun _ h9 => h9) rfl ?_
  refine g_iret (pc := 4) hQ C ?_ dJ2_size_4
  exact ⟨rfl, rfl⟩
theorem m_J2_isEmpty (hl : l.stackTraces = false) (h : gLst M a ta ed tb n cap el) : gFun E l yJ2_isEmpty wJ2_isEmpty 0 [.ref a] M (vi (b2 (decide (n = 0)))) := by
  obtain ⟨e1, e2, e3⟩ := h
  refine gMet.of hl rfl (Nat.le_of_ble_eq_true rfl) ?_
  intro Z hE hl0 hQ hX C hnm htab
  subst hE; subst hl0
  replace C : gC Z RJ2 cJ2_isEmpty 1 (some .boolean) _ := C
  change G Z _ _ _ 0 [(0, _)] []
  refine g_aload_n (pc := 0) C dJ2_isEmpty_0 0 rfl trivial rfl ?_
  refine g_get (pc := 1) C dJ2_isEmpty_1 cl9 e1 2 (by decide) q455 (fun _ h9 => h9) rfl ?_
  refine g_if_ne (pc := 4) C dJ2_isEmpty_4 11 ⟨by omega, by omega⟩ (by decide) (fun c_4 => ?_) (fun c_4 => ?_)
  · skip
    refine g_iconst (pc := 11) C dJ2_isEmpty_11 ?_
    refine g_nret (pc := 12) hQ C rfl ?_ dJ2_isEmpty_12
    first | exact ⟨ret_t (by omega), rfl⟩ | exact ⟨ret_f (by omega), rfl⟩
  · skip
    refine g_iconst (pc := 7) C dJ2_isEmpty_7 ?_
    refine g_goto (pc := 8) C dJ2_isEmpty_8 12 (by decide) ?_
    refine g_nret (pc := 12) hQ C rfl ?_ dJ2_isEmpty_12
    first | exact ⟨ret_t (by omega), rfl⟩ | exact ⟨ret_f (by omega), rfl⟩
theorem m_J2_elementData (hl : l.stackTraces = false) (h : gLst M a ta ed tb n cap el) {i : Nat} (hi : i < n) : gFun E l yJ2_elementData wJ2_elementData 0 [.ref a, vi i] M (.ref (el i)) := by
  obtain ⟨e1, e2, e3⟩ := h
  refine gMet.of hl rfl (Nat.le_of_ble_eq_true rfl) ?_
  intro Z hE hl0 hQ hX C hnm htab
  subst hE; subst hl0
  replace C : gC Z RJ2 cJ2_elementData 2 (some (.object "java/lang/Object")) _ := C
  change G Z _ _ _ 0 [(0, _), (1, _)] []
  refine g_aload_n (pc := 0) C dJ2_elementData_0 0 rfl trivial rfl ?_
  refine g_get (pc := 1) C dJ2_elementData_1 cl9 e1 1 (by decide) q454 (fun _ h9 => h9) rfl ?_
  refine g_iload_n (pc := 4) C dJ2_elementData_4 1 rfl rfl ?_
  refine g_aald (pc := 5) C dJ2_elementData_5 e2 (fun _ => rfl) _ rfl (by omega) (by omega) ?_
  rw [gLf, if_pos hi]
  refine g_aret (pc := 6) hQ C (Or.inl ⟨_, rfl⟩) trivial ?_ dJ2_elementData_6
  exact ⟨rfl, rfl⟩
theorem m_J2_get (hl : l.stackTraces = false) (h : gLst M a ta ed tb n cap el) {i : Nat} (hi : i < n) : gFun E l yJ2_get wJ2_get 2 [.ref a, vi i] M (.ref (el i)) := by
  have h0 := h
  obtain ⟨e1, e2, e3⟩ := h
  refine gMet.of hl rfl (Nat.le_of_ble_eq_true rfl) ?_
  intro Z hE hl0 hQ hX C hnm htab
  subst hE; subst hl0
  replace C : gC Z RJ2 cJ2_get 2 (some (.object "java/lang/Object")) _ := C
  change G Z _ _ _ 0 [(0, _), (1, _)] []
  refine g_iload_n (pc := 0) C dJ2_get_0 1 rfl rfl ?_
  refine g_aload_n (pc := 1) C dJ2_get_1 0 rfl trivial rfl ?_
  refine g_get (pc := 2) C dJ2_get_2 cl9 e1 2 (by decide) q455 (fun _ h9 => h9) rfl ?_
  refine g_callS (pc := 5) C (m_J17_checkIndex hl ⟨by omega, by omega, by omega⟩) q497 q498 q93 q499 nmJ17_checkIndex rfl (by decide) (by decide) (Nat.zero_le _) (Nat.zero_le _) rfl (Nat.le_of_ble_eq_true rfl) dJ2_get_5 (gkf ?_) gkx
  refine g_pop (pc := 8) C dJ2_get_8 rfl ?_
  refine g_aload_n (pc := 9) C dJ2_get_9 0 rfl trivial rfl ?_
  refine g_iload_n (pc := 10) C dJ2_get_10 1 rfl rfl ?_
  refine g_callV (pc := 11) C (m_J2_elementData hl h0 hi) cl9 e1 q503 q504 q505 q75 q506 nmJ2_elementData rfl (by decide) (by decide) (Nat.zero_le _) (Nat.zero_le _) rfl (Nat.le_of_ble_eq_true rfl) dJ2_get_11 (gkf ?_) gkx
  refine g_aret (pc := 14) hQ C (Or.inl ⟨_, rfl⟩) trivial ?_ dJ2_get_14
  exact ⟨rfl, rfl⟩
theorem iv_shr1 {a : Int} (h : 0 ≤ a ∧ a ≤ 2147483647) : iv a >>> (iv 1 &&& 31) = iv (a / 2) := by
  refine Int32.toInt_inj.mp ?_
  have h1 : (iv a).toInt = a := iv_toInt ⟨by omega, h.2⟩
  rw [show iv 1 &&& 31 = (1 : Int32) by decide, iv_toInt ⟨by omega, by omega⟩]
  show (iv a >>> 1).toBitVec.toInt = a / 2
  rw [Int32.toBitVec_shiftRight, show ((1 : Int32).toBitVec.smod 32) = 1#32 by decide, BitVec.sshiftRight_eq', BitVec.toInt_sshiftRight]
  show (iv a).toInt >>> 1 = a / 2
  rw [h1, Int.shiftRight_eq_div_pow]
  rfl
/-- Arrays.copyOf(x, m) -/
theorem m_J13_copyOf_3 (hl : l.stackTraces = false) {x tx n0 m tg : Nat} {F : Nat → Option Nat} (h : M x = some (tx, gR 5 n0 F)) (htg : tg ≠ 0) (hn0 : n0 ≤ m ∧ m ≤ 1000000) (hel : ∀ i, i < n0 → ∀ y : Nat, F i = some y → ∃ (ty cy : Nat) (vs : List Value) (q : vw_C), M y = some (ty, gO cy vs) ∧ gCl[cy]? = some q ∧ Cond.castable q.1 "java/lang/Object" ∈ lw_tbl) :
    gMet E l yJ13_copyOf_3 wJ13_copyOf_3 1 1 m [.ref x, vi m, .ref (E.2.2.2.2 0)] M (fun v M1 => ∃ q, M q = none ∧ v = some (.ref q) ∧ M1 = gSet M q (tg, gR 5 m (gCpy F (fun _ => none) 0 0 n0))) (fun _ _ _ => False) := by
  refine gMet.of hl rfl (Nat.le_of_ble_eq_true rfl) ?_
  intro Z hE hl0 hQ hX C hnm htab
  subst hE; subst hl0
  replace C : gC Z RJ13 cJ13_copyOf_3 4 (some (.array (.object "java/lang/Object"))) _ := C
  change G Z _ _ _ 0 [(0, _), (1, _), (2, _)] []
  refine g_aload_n (pc := 0) C dJ13_copyOf_3_0 2 rfl trivial rfl ?_
  refine g_ldcM (pc := 1) C dJ13_copyOf_3_1 q594 ?_
  refine g_rcmp_ne (pc := 3) C dJ13_copyOf_3_3 13 (by decide) (fun c_3 => ?_) (fun c_3 => ?_)
  · skip
    exact absurd rfl c_3
  · skip
    refine g_iload_n (pc := 6) C dJ13_copyOf_3_6 1 rfl rfl ?_
    refine g_newR (pc := 7) C dJ13_copyOf_3_7 (ti := 5) (fun _ => rfl) (gK.aoO C.2.2.1) q595 tg _ rfl (by omega) (by omega) (by omega) (fun qn1 nn1 => ?_)
    refine g_nm (fun M_7 e_7 => ?_)
    replace h := g_fr e_7 h (g_ne_new h nn1)
    have n1 := g_at e_7
    have hel1 : ∀ i, i < n0 → ∀ y : Nat, F i = some y → ∃ (ty cy : Nat) (vs : List Value) (q : vw_C), M_7 y = some (ty, gO cy vs) ∧ gCl[cy]? = some q ∧ Cond.castable q.1 "java/lang/Object" ∈ lw_tbl := fun i hi y hy => by obtain ⟨ty, cy, vs, q, e1, e2, e3⟩ := hel i hi y hy; exact ⟨ty, cy, vs, q, g_fr e_7 e1 (g_ne_new e1 nn1), e2, e3⟩
    refine g_goto (pc := 10) C dJ13_copyOf_3_10 24 (by decide) ?_
    refine g_astore_n (pc := 24) C dJ13_copyOf_3_24 trivial (Nat.le_of_ble_eq_true rfl) rfl rfl (loc1 := [(0, _), (1, _), (2, _), (3, _)]) rfl ?_
    refine g_aload_n (pc := 25) C dJ13_copyOf_3_25 0 rfl trivial rfl ?_
    refine g_iconst (pc := 26) C dJ13_copyOf_3_26 ?_
    refine g_aload_n (pc := 27) C dJ13_copyOf_3_27 3 rfl trivial rfl ?_
    refine g_iconst (pc := 28) C dJ13_copyOf_3_28 ?_
    refine g_aload_n (pc := 29) C dJ13_copyOf_3_29 0 rfl trivial rfl ?_
    refine g_alen (pc := 30) C dJ13_copyOf_3_30 h (fun _ => rfl) ?_
    refine g_iload_n (pc := 31) C dJ13_copyOf_3_31 1 rfl rfl ?_
    refine g_mmin (pc := 32) C dJ13_copyOf_3_32 ⟨by omega, by omega⟩ ⟨by omega, by omega⟩ q254 (by decide) (Nat.le_of_ble_eq_true rfl) ?_
    rw [show min (n0 : Int) (m : Int) = (n0 : Int) by omega]
    refine g_copyR (pc := 35) C (ti := 5) (fun _ => rfl) h n1 htg q257 q259 q258 q87 0 0 n0 rfl rfl rfl (by omega) (by omega) (by omega) (by omega) (fun i hi y hy => hel1 i (by omega) y (by rw [Nat.zero_add] at hy; exact hy)) (by decide) (Nat.le_of_ble_eq_true rfl) dJ13_copyOf_3_35 ?_
    refine g_nm (fun M_35 e_35 => ?_)
    replace n1 := g_at e_35
    refine g_aload_n (pc := 38) C dJ13_copyOf_3_38 3 rfl trivial rfl ?_
    refine g_aret (pc := 39) hQ C (Or.inr ⟨_, rfl⟩) trivial ?_ dJ13_copyOf_3_39
    subst e_35; subst e_7; exact ⟨_, nn1, rfl, gSet_gSet _ _ _ _⟩
theorem m_J13_copyOf_2 (hl : l.stackTraces = false) {x tx n0 m tg : Nat} {F : Nat → Option Nat} (h : M x = some (tx, gR 5 n0 F)) (htg : tg ≠ 0) (hn0 : n0 ≤ m ∧ m ≤ 1000000) (hel : ∀ i, i < n0 → ∀ y : Nat, F i = some y → ∃ (ty cy : Nat) (vs : List Value) (q : vw_C), M y = some (ty, gO cy vs) ∧ gCl[cy]? = some q ∧ Cond.castable q.1 "java/lang/Object" ∈ lw_tbl) :
    gMet E l yJ13_copyOf_2 wJ13_copyOf_2 2 1 m [.ref x, vi m] M (fun v M1 => ∃ q, M q = none ∧ v = some (.ref q) ∧ M1 = gSet M q (tg, gR 5 m (gCpy F (fun _ => none) 0 0 n0))) (fun _ _ _ => False) := by
  refine gMet.of hl rfl (Nat.le_of_ble_eq_true rfl) ?_
  intro Z hE hl0 hQ hX C hnm htab
  subst hE; subst hl0
  replace C : gC Z RJ13 cJ13_copyOf_2 2 (some (.array (.object "java/lang/Object"))) _ := C
  change G Z _ _ _ 0 [(0, _), (1, _)] []
  refine g_aload_n (pc := 0) C dJ13_copyOf_2_0 0 rfl trivial rfl ?_
  refine g_iload_n (pc := 1) C dJ13_copyOf_2_1 1 rfl rfl ?_
  refine g_aload_n (pc := 2) C dJ13_copyOf_2_2 0 rfl trivial rfl ?_
  refine g_getC (pc := 3) C dJ13_copyOf_2_3 h q567 (by decide) (Nat.le_of_ble_eq_true rfl) ?_
  refine g_callS (pc := 6) C (m_J13_copyOf_3 hl h htg hn0 hel) q591 q592 q86 q593 nmJ13_copyOf_3 rfl (by decide) (by decide) (by omega) (by omega) rfl (Nat.le_of_ble_eq_true rfl) dJ13_copyOf_2_6 (fun v_6 M_6 h_6 => ?_) (fun E_6 q_6 M_6 h_6 => ?_)
  rotate_left
  · exact h_6.elim
  obtain ⟨q, e1, rfl, rfl⟩ := h_6
  refine g_aret (pc := 9) hQ C (Or.inr ⟨_, rfl⟩) trivial ?_ dJ13_copyOf_2_9
  exact ⟨q, e1, rfl, rfl⟩
theorem gCpy_all (n : Nat) (el : Nat → Nat) : gCpy (gLf n el) (fun _ => none) 0 0 n = gLf n el := by
  funext j
  simp [gCpy, gLf]
theorem m_J2_grow_2 (hl : l.stackTraces = false) {md : Int} (e1 : M a = some (ta, gO 9 [vi md, .ref ed, vi n])) (e2 : M ed = some (tb, gR 5 n (gLf n el))) (h1 : 1 ≤ n ∧ n ≤ 60000) (h2 : ta ≠ 0 ∧ tb ≠ 0 ∧ ta ≠ tb) (he : gEls M n el ta tb) :
    gMet E l yJ2_grow_2 wJ2_grow_2 3 1 (n + max 1 (n / 2)) [.ref a, vi (n + 1)] M (fun v M1 => ∃ q, M q = none ∧ v = some (.ref q) ∧ M1 = gSet (gSet M q (tb, gR 5 (n + max 1 (n / 2)) (gLf n el))) a (ta, gO 9 [vi md, .ref q, vi n])) (fun _ _ _ => False) := by
  refine gMet.of hl rfl (Nat.le_of_ble_eq_true rfl) ?_
  intro Z hE hl0 hQ hX C hnm htab
  subst hE; subst hl0
  replace C : gC Z RJ2 cJ2_grow_2 4 (some (.array (.object "java/lang/Object"))) _ := C
  change G Z _ _ _ 0 [(0, _), (1, _)] []
  refine g_aload_n (pc := 0) C dJ2_grow_2_0 0 rfl trivial rfl ?_
  refine g_get (pc := 1) C dJ2_grow_2_1 cl9 e1 1 (by decide) q454 (fun _ h9 => h9) rfl ?_
  refine g_alen (pc := 4) C dJ2_grow_2_4 e2 (fun _ => rfl) ?_
  refine g_istore_n (pc := 5) C dJ2_grow_2_5 (Nat.le_of_ble_eq_true rfl) rfl rfl (loc1 := [(0, _), (1, _), (2, _)]) rfl ?_
  refine g_iload_n (pc := 6) C dJ2_grow_2_6 2 rfl rfl ?_
  refine g_if_gt (pc := 7) C dJ2_grow_2_7 20 ⟨by omega, by omega⟩ (by decide) (fun c_7 => ?_) (fun c_7 => ?_)
  · skip
    refine g_iload_n (pc := 20) C dJ2_grow_2_20 2 rfl rfl ?_
    refine g_iload_n (pc := 21) C dJ2_grow_2_21 1 rfl rfl ?_
    refine g_iload_n (pc := 22) C dJ2_grow_2_22 2 rfl rfl ?_
    refine g_isub (pc := 23) C dJ2_grow_2_23 ?_
    refine g_iload_n (pc := 24) C dJ2_grow_2_24 2 rfl rfl ?_
    refine g_iconst (pc := 25) C dJ2_grow_2_25 ?_
    refine g_ishr (pc := 26) C dJ2_grow_2_26 (iv_shr1 ⟨by omega, by omega⟩) ?_
    rw [show ((n : Int) + 1 - n) = 1 by omega]
    refine g_callS (pc := 27) C (m_J11_newLength hl ⟨by omega, by omega⟩ ⟨by omega, by omega⟩ ⟨by omega, by omega⟩ (by omega)) q563 q234 q84 q235 nmJ11_newLength rfl (by decide) (by decide) (Nat.zero_le _) (Nat.zero_le _) rfl (Nat.le_of_ble_eq_true rfl) dJ2_grow_2_27 (gkf ?_) gkx
    rw [show ((n : Int) + max 1 ((n : Int) / 2)) = ((n + max 1 (n / 2) : Nat) : Int) by omega]
    refine g_istore_n (pc := 30) C dJ2_grow_2_30 (Nat.le_of_ble_eq_true rfl) rfl rfl (loc1 := [(0, _), (1, _), (2, _), (3, _)]) rfl ?_
    refine g_aload_n (pc := 31) C dJ2_grow_2_31 0 rfl trivial rfl ?_
    refine g_aload_n (pc := 32) C dJ2_grow_2_32 0 rfl trivial rfl ?_
    refine g_get (pc := 33) C dJ2_grow_2_33 cl9 e1 1 (by decide) q454 (fun _ h9 => h9) rfl ?_
    refine g_iload_n (pc := 36) C dJ2_grow_2_36 3 rfl rfl ?_
    refine g_callS (pc := 37) C (m_J13_copyOf_2 (tg := tb) hl e2 h2.2.1 ⟨by omega, by omega⟩ (fun i hi y hy => by rw [gLf, if_pos hi] at hy; cases hy; obtain ⟨ty, cy, vs, Cn, TT, N, tf, z1, z2, z3, -⟩ := he i hi; exact ⟨ty, cy, vs, _, z1, z2.1, z3⟩)) q564 q565 q86 q566 nmJ13_copyOf_2 rfl (by decide) (by decide) (by omega) (by omega) rfl (Nat.le_of_ble_eq_true rfl) dJ2_grow_2_37 (fun v_37 M_37 h_37 => ?_) (fun E_37 q_37 M_37 h_37 => ?_)
    rotate_left
    · exact h_37.elim
    obtain ⟨q, nq, rfl, e_37⟩ := h_37
    replace e1 := g_fr e_37.symm e1 (g_ne_new e1 nq)
    refine g_dup_x1 (pc := 40) C dJ2_grow_2_40 rfl rfl ?_
    refine g_put (pc := 41) C dJ2_grow_2_41 cl9 e1 h2.1 1 (by decide) q454 (fun _ h9 => h9) rfl rfl rfl (Nat.le_of_ble_eq_true rfl) (fs1 := [_, _, _]) rfl ?_
    refine g_nm (fun M_41 e_41 => ?_)
    replace e1 := g_at e_41
    refine g_aret (pc := 44) hQ C (Or.inr ⟨_, rfl⟩) trivial ?_ dJ2_grow_2_44
    refine ⟨q, nq, rfl, ?_⟩
    subst e_41; subst e_37; rw [gCpy_all]
  · skip
    omega
theorem m_J2_grow (hl : l.stackTraces = false) {md : Int} (e1 : M a = some (ta, gO 9 [vi md, .ref ed, vi n])) (e2 : M ed = some (tb, gR 5 n (gLf n el))) (h1 : 1 ≤ n ∧ n ≤ 60000) (h2 : ta ≠ 0 ∧ tb ≠ 0 ∧ ta ≠ tb) (he : gEls M n el ta tb) :
    gMet E l yJ2_grow wJ2_grow 4 1 (n + max 1 (n / 2)) [.ref a] M (fun v M1 => ∃ q, M q = none ∧ v = some (.ref q) ∧ M1 = gSet (gSet M q (tb, gR 5 (n + max 1 (n / 2)) (gLf n el))) a (ta, gO 9 [vi md, .ref q, vi n])) (fun _ _ _ => False) := by
  refine gMet.of hl rfl (Nat.le_of_ble_eq_true rfl) ?_
  intro Z hE hl0 hQ hX C hnm htab
  subst hE; subst hl0
  replace C : gC Z RJ2 cJ2_grow 1 (some (.array (.object "java/lang/Object"))) _ := C
  change G Z _ _ _ 0 [(0, _)] []
  refine g_aload_n (pc := 0) C dJ2_grow_0 0 rfl trivial rfl ?_
  refine g_aload_n (pc := 1) C dJ2_grow_1 0 rfl trivial rfl ?_
  refine g_get (pc := 2) C dJ2_grow_2 cl9 e1 2 (by decide) q455 (fun _ h9 => h9) rfl ?_
  refine g_iconst (pc := 5) C dJ2_grow_5 ?_
  refine g_iadd (pc := 6) C dJ2_grow_6 ?_
  refine g_callV (pc := 7) C (m_J2_grow_2 hl e1 e2 h1 h2 he) cl9 e1 q557 q559 qs3 q75 q560 nmJ2_grow_2 rfl (by decide) (by decide) (by omega) (by omega) rfl (Nat.le_of_ble_eq_true rfl) dJ2_grow_7 (fun v_7 M_7 h_7 => ?_) (fun E_7 q_7 M_7 h_7 => ?_)
  rotate_left
  · exact h_7.elim
  obtain ⟨q, nq, rfl, e_7⟩ := h_7
  refine g_aret (pc := 10) hQ C (Or.inr ⟨_, rfl⟩) trivial ?_ dJ2_grow_10
  exact ⟨q, nq, rfl, e_7⟩
/-- what a list's room becomes -/
def gCap (n cap : Nat) : Nat := if n = cap then cap + max 1 (cap / 2) else cap
theorem gLf_up (n : Nat) (el : Nat → Nat) : gUpR (gLf n el) n (some (el n)) = gLf (n + 1) el := by
  funext j
  by_cases e : j = n
  · rw [e, gUpR_s, gLf, if_pos (by omega)]
  · rw [gUpR_n _ _ e, gLf, gLf]
    by_cases h : j < n
    · rw [if_pos h, if_pos (by omega)]
    · rw [if_neg h, if_neg (by omega)]
theorem m_J2_add_2 (hl : l.stackTraces = false) {md : Int} (e1 : M a = some (ta, gO 9 [vi md, .ref ed, vi n])) (e2 : M ed = some (tb, gR 5 cap (gLf n el))) (h1 : 1 ≤ cap ∧ n ≤ cap ∧ cap ≤ 60000) (h2 : ta ≠ 0 ∧ tb ≠ 0 ∧ ta ≠ tb) (he : gEls M (n + 1) el ta tb) :
    gMet E l yJ2_add_2 wJ2_add_2 5 1 (if n = cap then gCap n cap else 0) [.ref a, .ref (el n), .ref ed, vi n] M (fun v M1 => v = none ∧ ∃ ed', M1 a = some (ta, gO 9 [vi md, .ref ed', vi (n + 1)]) ∧ M1 ed' = some (tb, gR 5 (gCap n cap) (gLf (n + 1) el)) ∧ gExt (fun t => t = ta ∨ t = tb) M M1) (fun _ _ _ => False) := by
  have he' : gEls M n el ta tb := fun i hi => he i (by omega)
  obtain ⟨ty, cy, vs, Cn, TT, N, tf, f1, f2, f3, f4, f5⟩ := he n (by omega)
  by_cases hc : n = cap
  · subst hc
    rw [if_pos rfl]
    have hg : gCap n n = n + max 1 (n / 2) := if_pos rfl
    rw [hg]
    have hx : gExt (fun t => t = ta ∨ t = tb) M M := gExt.rf
    refine gMet.of hl rfl (Nat.le_of_ble_eq_true rfl) ?_
    intro Z hE hl0 hQ hX C hnm htab
    subst hE; subst hl0
    replace C : gC Z RJ2 cJ2_add_2 4 none _ := C
    change G Z _ _ _ 0 [(0, _), (1, _), (2, _), (3, _)] []
    refine g_iload_n (pc := 0) C dJ2_add_2_0 3 rfl rfl ?_
    refine g_aload_n (pc := 1) C dJ2_add_2_1 2 rfl trivial rfl ?_
    refine g_alen (pc := 2) C dJ2_add_2_2 e2 (fun _ => rfl) ?_
    refine g_icmp_ne (pc := 3) C dJ2_add_2_3 11 ⟨by omega, by omega⟩ ⟨by omega, by omega⟩ (by decide) (fun c_3 => ?_) (fun c_3 => ?_)
    · skip
      omega
    · skip
      refine g_aload_n (pc := 6) C dJ2_add_2_6 0 rfl trivial rfl ?_
      refine g_callV (pc := 7) C (m_J2_grow hl e1 e2 ⟨by omega, by omega⟩ h2 he') cl9 e1 q553 q555 qs2 q75 q556 nmJ2_grow rfl (by decide) (by decide) (by omega) (by omega) rfl (Nat.le_of_ble_eq_true rfl) dJ2_add_2_7 (fun v_7 M_7 h_7 => ?_) (fun E_7 q_7 M_7 h_7 => ?_)
      rotate_left
      · exact h_7.elim
      obtain ⟨q, nq, rfl, e_7⟩ := h_7
      replace hx : gExt (fun t => t = ta ∨ t = tb) M M_7 := (gExt.newE rfl nq).tr (gExt.putE e_7.symm ((gSet_n _ _ (g_ne_new e1 nq)).trans e1) (Or.inl rfl))
      have n1 : M_7 q = some (tb, gR 5 (n + max 1 (n / 2)) (gLf n el)) := by rw [e_7]; exact (gSet_n _ _ (g_ne_new e1 nq).symm).trans (gSet_s _ _ _)
      have e1o := e1
      replace e1 : M_7 a = _ := g_at e_7.symm
      replace f1 : M_7 (el n) = some (ty, gO cy vs) := by rw [e_7]; exact (gSet_n _ _ (g_ne_t f1 e1o f4)).trans ((gSet_n _ _ (g_ne_new f1 nq)).trans f1)
      refine g_astore_n (pc := 10) C dJ2_add_2_10 trivial (Nat.le_of_ble_eq_true rfl) rfl rfl (loc1 := [(0, _), (1, _), (2, _), (3, _)]) rfl ?_
      refine g_aload_n (pc := 11) C dJ2_add_2_11 2 rfl trivial rfl ?_
      refine g_iload_n (pc := 12) C dJ2_add_2_12 3 rfl rfl ?_
      refine g_aload_n (pc := 13) C dJ2_add_2_13 1 rfl trivial rfl ?_
      refine g_aast (pc := 14) C dJ2_add_2_14 n1 h2.2.1 (fun _ => rfl) f2 f1 f3 _ rfl (by omega) (by omega) ?_
      refine g_nm (fun M_14 e_14 => ?_)
      replace hx := hx.tr (gExt.putE e_14 n1 (by simp))
      replace e1 := g_fr e_14 e1 ((g_ne_t e1 n1 h2.2.2))
      replace f1 := g_fr e_14 f1 ((g_ne_t f1 n1 f5))
      replace n1 := g_at e_14
      refine g_aload_n (pc := 15) C dJ2_add_2_15 0 rfl trivial rfl ?_
      refine g_iload_n (pc := 16) C dJ2_add_2_16 3 rfl rfl ?_
      refine g_iconst (pc := 17) C dJ2_add_2_17 ?_
      refine g_iadd (pc := 18) C dJ2_add_2_18 ?_
      refine g_put (pc := 19) C dJ2_add_2_19 cl9 e1 h2.1 2 (by decide) q455 (fun _ h9 => h9) rfl rfl rfl (Nat.le_of_ble_eq_true rfl) (fs1 := [_, _, _]) rfl ?_
      refine g_nm (fun M_19 e_19 => ?_)
      replace hx := hx.tr (gExt.putE e_19 e1 (by simp))
      replace f1 := g_fr e_19 f1 ((g_ne_t f1 e1 f4))
      replace n1 := g_fr e_19 n1 ((g_ne_t n1 e1 (Ne.symm h2.2.2)))
      replace e1 := g_at e_19
      refine g_vret (pc := 22) hQ C ?_ dJ2_add_2_22
      refine ⟨rfl, _, e1, ?_, ?_⟩
      · rw [← gLf_up]; exact n1
      · exact hx
  · rw [if_neg hc]
    have hg : gCap n cap = cap := if_neg hc
    rw [hg]
    have hx : gExt (fun t => t = ta ∨ t = tb) M M := gExt.rf
    refine gMet.of hl rfl (Nat.le_of_ble_eq_true rfl) ?_
    intro Z hE hl0 hQ hX C hnm htab
    subst hE; subst hl0
    replace C : gC Z RJ2 cJ2_add_2 4 none _ := C
    change G Z _ _ _ 0 [(0, _), (1, _), (2, _), (3, _)] []
    refine g_iload_n (pc := 0) C dJ2_add_2_0 3 rfl rfl ?_
    refine g_aload_n (pc := 1) C dJ2_add_2_1 2 rfl trivial rfl ?_
    refine g_alen (pc := 2) C dJ2_add_2_2 e2 (fun _ => rfl) ?_
    refine g_icmp_ne (pc := 3) C dJ2_add_2_3 11 ⟨by omega, by omega⟩ ⟨by omega, by omega⟩ (by decide) (fun c_3 => ?_) (fun c_3 => ?_)
    · skip
      refine g_aload_n (pc := 11) C dJ2_add_2_11 2 rfl trivial rfl ?_
      refine g_iload_n (pc := 12) C dJ2_add_2_12 3 rfl rfl ?_
      refine g_aload_n (pc := 13) C dJ2_add_2_13 1 rfl trivial rfl ?_
      refine g_aast (pc := 14) C dJ2_add_2_14 e2 h2.2.1 (fun _ => rfl) f2 f1 f3 _ rfl (by omega) (by omega) ?_
      refine g_nm (fun M_14 e_14 => ?_)
      replace hx := hx.tr (gExt.putE e_14 e2 (by simp))
      replace e1 := g_fr e_14 e1 ((g_ne_t e1 e2 h2.2.2))
      replace f1 := g_fr e_14 f1 ((g_ne_t f1 e2 f5))
      replace e2 := g_at e_14
      refine g_aload_n (pc := 15) C dJ2_add_2_15 0 rfl trivial rfl ?_
      refine g_iload_n (pc := 16) C dJ2_add_2_16 3 rfl rfl ?_
      refine g_iconst (pc := 17) C dJ2_add_2_17 ?_
      refine g_iadd (pc := 18) C dJ2_add_2_18 ?_
      refine g_put (pc := 19) C dJ2_add_2_19 cl9 e1 h2.1 2 (by decide) q455 (fun _ h9 => h9) rfl rfl rfl (Nat.le_of_ble_eq_true rfl) (fs1 := [_, _, _]) rfl ?_
      refine g_nm (fun M_19 e_19 => ?_)
      replace hx := hx.tr (gExt.putE e_19 e1 (by simp))
      replace f1 := g_fr e_19 f1 ((g_ne_t f1 e1 f4))
      replace e2 := g_fr e_19 e2 ((g_ne_t e2 e1 (Ne.symm h2.2.2)))
      replace e1 := g_at e_19
      refine g_vret (pc := 22) hQ C ?_ dJ2_add_2_22
      refine ⟨rfl, _, e1, ?_, ?_⟩
      · rw [← gLf_up]; exact e2
      · exact hx
    · skip
      omega
theorem m_J2_add (hl : l.stackTraces = false) (h : gLst M a ta ed tb n cap el) (h1 : cap ≤ 60000) (h2 : ta ≠ 0 ∧ tb ≠ 0 ∧ ta ≠ tb) (he : gEls M (n + 1) el ta tb) :
    gMet E l yJ2_add wJ2_add 6 1 (if n = cap then gCap n cap else 0) [.ref a, .ref (el n)] M (fun v M1 => v = some (vi 1) ∧ ∃ ed', gLst M1 a ta ed' tb (n + 1) (gCap n cap) el ∧ gExt (fun t => t = ta ∨ t = tb) M M1) (fun _ _ _ => False) := by
  obtain ⟨e1, e2, e3⟩ := h
  have hx : gExt (fun t => t = ta ∨ t = tb) M M := gExt.rf
  refine gMet.of hl rfl (Nat.le_of_ble_eq_true rfl) ?_
  intro Z hE hl0 hQ hX C hnm htab
  subst hE; subst hl0
  replace C : gC Z RJ2 cJ2_add 2 (some .boolean) _ := C
  change G Z _ _ _ 0 [(0, _), (1, _)] []
  refine g_aload_n (pc := 0) C dJ2_add_0 0 rfl trivial rfl ?_
  refine g_dup (pc := 1) C dJ2_add_1 rfl ?_
  refine g_get (pc := 2) C dJ2_add_2 cl9 e1 0 (by decide) q457 (u_same (C.ts _ q458)) rfl ?_
  refine g_iconst (pc := 5) C dJ2_add_5 ?_
  refine g_iadd (pc := 6) C dJ2_add_6 ?_
  refine g_put (pc := 7) C dJ2_add_7 cl9 e1 h2.1 0 (by decide) q457 (u_same (C.ts _ q458)) rfl rfl rfl (Nat.le_of_ble_eq_true rfl) (fs1 := [_, _, _]) rfl ?_
  refine g_nm (fun M_7 e_7 => ?_)
  replace hx := hx.tr (gExt.putE e_7 e1 (by simp))
  replace e2 := g_fr e_7 e2 ((g_ne_t e2 e1 (Ne.symm h2.2.2)))
  replace e1 := g_at e_7
  refine g_aload_n (pc := 10) C dJ2_add_10 0 rfl trivial rfl ?_
  refine g_aload_n (pc := 11) C dJ2_add_11 1 rfl trivial rfl ?_
  refine g_aload_n (pc := 12) C dJ2_add_12 0 rfl trivial rfl ?_
  refine g_get (pc := 13) C dJ2_add_13 cl9 e1 1 (by decide) q454 (fun _ h9 => h9) rfl ?_
  refine g_aload_n (pc := 16) C dJ2_add_16 0 rfl trivial rfl ?_
  refine g_get (pc := 17) C dJ2_add_17 cl9 e1 2 (by decide) q455 (fun _ h9 => h9) rfl ?_
  refine g_callV (pc := 20) C (m_J2_add_2 (n := n) hl e1 e2 ⟨by omega, by omega, by omega⟩ h2 (he.ext hx)) cl9 e1 q549 q551 qs1 q75 q552 nmJ2_add_2 rfl (by decide) (by decide) (by omega) (by omega) rfl (Nat.le_of_ble_eq_true rfl) dJ2_add_20 (fun v_20 M_20 h_20 => ?_) (fun E_20 q_20 M_20 h_20 => ?_)
  rotate_left
  · exact h_20.elim
  obtain ⟨rfl, ed', z1, z2, z3⟩ := h_20
  refine g_iconst (pc := 23) C dJ2_add_23 ?_
  refine g_nret (pc := 24) hQ C rfl ?_ dJ2_add_24
  exact ⟨rfl, ed', ⟨z1, z2, by unfold gCap; split <;> omega⟩, hx.tr z3⟩
theorem gSet_self {M : gM} {a : Nat} {x : Nat × gEnt} (h : M a = some x) : gSet M a x = M := by
  funext b
  by_cases e : b = a
  · rw [e, gSet_s, h]
  · rw [gSet_n _ _ e]
theorem m_J0_init (hl : l.stackTraces = false) : gMet E l yJ0_init wJ0_init 1 0 0 [.ref a] M (fun v M1 => v = none ∧ M1 = M) (fun _ _ _ => False) := by
  refine gMet.of hl rfl (Nat.le_of_ble_eq_true rfl) ?_
  intro Z hE hl0 hQ hX C hnm htab
  subst hE; subst hl0
  replace C : gC Z RJ0 cJ0_init 1 none _ := C
  change G Z _ _ _ 0 [(0, _)] []
  refine g_aload_n (pc := 0) C dJ0_init_0 0 rfl trivial rfl ?_
  refine g_objInit (pc := 1) C q128 q115 q116 (by decide) (Nat.le_of_ble_eq_true rfl) dJ0_init_1 ?_
  refine g_vret (pc := 4) hQ C ?_ dJ0_init_4
  exact ⟨rfl, rfl⟩
theorem m_J1_init (hl : l.stackTraces = false) {u v : Value} (h : M a = some (ta, gO 9 [vi 0, u, v])) (h1 : ta ≠ 0) : gMet E l yJ1_init wJ1_init 2 0 0 [.ref a] M (fun v M1 => v = none ∧ M1 = M) (fun _ _ _ => False) := by
  have h0 := h
  refine gMet.of hl rfl (Nat.le_of_ble_eq_true rfl) ?_
  intro Z hE hl0 hQ hX C hnm htab
  subst hE; subst hl0
  replace C : gC Z RJ1 cJ1_init 1 none _ := C
  change G Z _ _ _ 0 [(0, _)] []
  refine g_aload_n (pc := 0) C dJ1_init_0 0 rfl trivial rfl ?_
  refine g_callI (pc := 1) C (m_J0_init hl) q125 q126 q73 q127 rfl nmJ0_init rfl (by decide) (by decide) (Nat.zero_le _) (Nat.zero_le _) rfl (Nat.le_of_ble_eq_true rfl) dJ1_init_1 (gkv ?_) gkx
  refine g_aload_n (pc := 4) C dJ1_init_4 0 rfl trivial rfl ?_
  refine g_iconst (pc := 5) C dJ1_init_5 ?_
  refine g_put (pc := 6) C dJ1_init_6 cl9 h h1 0 (by decide) q456 (fun _ h9 => h9) rfl rfl rfl (Nat.le_of_ble_eq_true rfl) (fs1 := [_, _, _]) rfl ?_
  refine g_nm (fun M_6 e_6 => ?_)
  replace h := g_at e_6
  refine g_vret (pc := 9) hQ C ?_ dJ1_init_9
  subst e_6; exact ⟨rfl, gSet_self h0⟩
/-- new ArrayList(n) -/
theorem m_J2_init (hl : l.stackTraces = false) (h : M a = some (ta, gO 9 [vi 0, .null, vi 0])) (h1 : ta ≠ 0 ∧ tb ≠ 0) (hc : 1 ≤ cap ∧ cap ≤ 60000) : gMet E l yJ2_init wJ2_init 3 1 cap [.ref a, vi cap] M (fun v M1 => v = none ∧ ∃ q, M q = none ∧ M1 = gSet (gSet M q (tb, gR 5 cap (fun _ => none))) a (ta, gO 9 [vi 0, .ref q, vi 0])) (fun _ _ _ => False) := by
  refine gMet.of hl rfl (Nat.le_of_ble_eq_true rfl) ?_
  intro Z hE hl0 hQ hX C hnm htab
  subst hE; subst hl0
  replace C : gC Z RJ2 cJ2_init 2 none _ := C
  change G Z _ _ _ 0 [(0, _), (1, _)] []
  refine g_aload_n (pc := 0) C dJ2_init_0 0 rfl trivial rfl ?_
  refine g_callI (pc := 1) C (m_J1_init hl h h1.1) q122 q123 q74 q124 rfl nmJ1_init rfl (by decide) (by decide) (Nat.zero_le _) (Nat.zero_le _) rfl (Nat.le_of_ble_eq_true rfl) dJ2_init_1 (gkv ?_) gkx
  refine g_iload_n (pc := 4) C dJ2_init_4 1 rfl rfl ?_
  refine g_if_le (pc := 5) C dJ2_init_5 19 ⟨by omega, by omega⟩ (by decide) (fun c_5 => ?_) (fun c_5 => ?_)
  · skip
    omega
  · skip
    refine g_aload_n (pc := 8) C dJ2_init_8 0 rfl trivial rfl ?_
    refine g_iload_n (pc := 9) C dJ2_init_9 1 rfl rfl ?_
    refine g_newR (pc := 10) C dJ2_init_10 (ti := 5) (fun _ => rfl) (gK.aoO C.2.2.1) q129 tb _ rfl (by omega) (by omega) (by omega) (fun qn1 nn1 => ?_)
    refine g_nm (fun M_10 e_10 => ?_)
    replace h := g_fr e_10 h (g_ne_new h nn1)
    have n1 := g_at e_10
    refine g_put (pc := 13) C dJ2_init_13 cl9 h h1.1 1 (by decide) q454 (fun _ h9 => h9) rfl rfl rfl (Nat.le_of_ble_eq_true rfl) (fs1 := [_, _, _]) rfl ?_
    refine g_nm (fun M_13 e_13 => ?_)
    replace h := g_at e_13
    refine g_goto (pc := 16) C dJ2_init_16 60 (by decide) ?_
    refine g_vret (pc := 60) hQ C ?_ dJ2_init_60
    subst e_13; subst e_10; exact ⟨rfl, _, nn1, rfl⟩
end
