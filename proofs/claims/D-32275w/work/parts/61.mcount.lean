/-! AppealrentModel: sums and counts, help, dues -/
set_option maxRecDepth 100000
section
variable {E : gE} {l : Launch} {M : gM} {A : Nat → Nat} {s : gS} {t : Int}
theorem m_X3_formsIn (hl : l.stackTraces = false) (hR : RM A M s t) (hW : WF s) {st : Int} (hst : r32 st) : gFun E l yX3_formsIn wX3_formsIn 0 [.ref (A 0), vi st] M (vi (spForms s st)) := by
  have hR0 := hR
  obtain ⟨hm, h1, h2, h3, h4, h5, h6, h7, h10, h11, h12, h13, h14, h15, h17, h18, h19, h20, h23, h24⟩ := hR
  have hs := hW.sc
  unfold wfSc at hs
  obtain ⟨n, hn⟩ : ∃ n : Nat, s 0 3 = n := ⟨(s 0 3).toNat, by omega⟩
  unfold spForms
  rw [hn, Int.toNat_natCast]
  refine gMet.of hl rfl (Nat.le_of_ble_eq_true rfl) ?_
  intro Z hE hl0 hQ hX C hnm htab
  subst hE; subst hl0
  replace C : gC Z RX3 cX3_formsIn 4 (some .int) _ := C
  change G Z _ _ _ 0 [(0, _), (1, _)] []
  have loop : ∀ (r i : Nat), i + r = n → G Z 0 0 M 4 [(0, .ref (A 0)), (1, vi st), (2, vi (sumN (fun k => if s 14 k = st then 1 else 0) i)), (3, vi i)] [] := by
    intro r
    induction r with
    | zero =>
      intro i hi
      obtain rfl : i = n := by omega
      refine g_iload_n (pc := 4) C dX3_formsIn_4 3 rfl rfl ?_
      refine g_aload_n (pc := 5) C dX3_formsIn_5 0 rfl trivial rfl ?_
      refine g_get (pc := 6) C dX3_formsIn_6 cl12 hm 13 (by decide) q1832 (fun _ h9 => h9) rfl ?_
      refine g_icmp_ge (pc := 9) C dX3_formsIn_9 36 ⟨by omega, by omega⟩ ⟨by omega, by omega⟩ (by decide) (fun c_9 => ?_) (fun c_9 => ?_)
      · skip
        refine g_iload_n (pc := 36) C dX3_formsIn_36 2 rfl rfl ?_
        refine g_iret (pc := 37) hQ C ?_ dX3_formsIn_37
        exact ⟨rfl, rfl⟩
      · skip
        omega
    | succ r ih =>
      intro i hi
      have hf := hW.form (f := i) (by omega)
      unfold wfForm at hf
      obtain ⟨hst1, hst2⟩ := hst
      refine g_iload_n (pc := 4) C dX3_formsIn_4 3 rfl rfl ?_
      refine g_aload_n (pc := 5) C dX3_formsIn_5 0 rfl trivial rfl ?_
      refine g_get (pc := 6) C dX3_formsIn_6 cl12 hm 13 (by decide) q1832 (fun _ h9 => h9) rfl ?_
      refine g_icmp_ge (pc := 9) C dX3_formsIn_9 36 ⟨by omega, by omega⟩ ⟨by omega, by omega⟩ (by decide) (fun c_9 => ?_) (fun c_9 => ?_)
      · skip
        omega
      · skip
        refine g_iload_n (pc := 12) C dX3_formsIn_12 2 rfl rfl ?_
        refine g_aload_n (pc := 13) C dX3_formsIn_13 0 rfl trivial rfl ?_
        refine g_get (pc := 14) C dX3_formsIn_14 cl12 hm 17 (by decide) q1836 (fun _ h9 => h9) rfl ?_
        refine g_iload_n (pc := 17) C dX3_formsIn_17 3 rfl rfl ?_
        refine g_iald (pc := 18) C dX3_formsIn_18 h14 _ rfl (by omega) (by omega) ?_
        refine g_iload_n (pc := 19) C dX3_formsIn_19 1 rfl rfl ?_
        refine g_icmp_ne (pc := 20) C dX3_formsIn_20 27 ⟨by omega, by omega⟩ ⟨by omega, by omega⟩ (by decide) (fun c_20 => ?_) (fun c_20 => ?_)
        · skip
          refine g_iconst (pc := 27) C dX3_formsIn_27 ?_
          refine g_iadd (pc := 28) C dX3_formsIn_28 ?_
          refine g_istore_n (pc := 29) C dX3_formsIn_29 (Nat.le_of_ble_eq_true rfl) rfl rfl (loc1 := [(0, _), (1, _), (2, _), (3, _)]) rfl ?_
          refine g_iinc (pc := 30) C dX3_formsIn_30 3 rfl (Nat.le_of_ble_eq_true rfl) rfl (loc1 := [(0, _), (1, _), (2, _), (3, _)]) rfl ?_
          refine g_goto (pc := 33) C dX3_formsIn_33 4 (by decide) ?_
          have h9 := ih (i + 1) (by omega)
          simp only [sumN] at h9
          first | (rw [if_pos (show s 14 i = st by omega)] at h9; exact h9) | (rw [if_neg (show ¬ (s 14 i = st) by omega)] at h9; exact h9)
        · skip
          refine g_iconst (pc := 23) C dX3_formsIn_23 ?_
          refine g_goto (pc := 24) C dX3_formsIn_24 28 (by decide) ?_
          refine g_iadd (pc := 28) C dX3_formsIn_28 ?_
          refine g_istore_n (pc := 29) C dX3_formsIn_29 (Nat.le_of_ble_eq_true rfl) rfl rfl (loc1 := [(0, _), (1, _), (2, _), (3, _)]) rfl ?_
          refine g_iinc (pc := 30) C dX3_formsIn_30 3 rfl (Nat.le_of_ble_eq_true rfl) rfl (loc1 := [(0, _), (1, _), (2, _), (3, _)]) rfl ?_
          refine g_goto (pc := 33) C dX3_formsIn_33 4 (by decide) ?_
          have h9 := ih (i + 1) (by omega)
          simp only [sumN] at h9
          first | (rw [if_pos (show s 14 i = st by omega)] at h9; exact h9) | (rw [if_neg (show ¬ (s 14 i = st) by omega)] at h9; exact h9)
  refine g_iconst (pc := 0) C dX3_formsIn_0 ?_
  refine g_istore_n (pc := 1) C dX3_formsIn_1 (Nat.le_of_ble_eq_true rfl) rfl rfl (loc1 := [(0, _), (1, _), (2, _)]) rfl ?_
  refine g_iconst (pc := 2) C dX3_formsIn_2 ?_
  refine g_istore_n (pc := 3) C dX3_formsIn_3 (Nat.le_of_ble_eq_true rfl) rfl rfl (loc1 := [(0, _), (1, _), (2, _), (3, _)]) rfl ?_
  exact loop n 0 (by omega)
theorem m_X3_formsOf (hl : l.stackTraces = false) (hR : RM A M s t) (hW : WF s) {c : Nat} (hc : (c : Int) < s 0 2) : gFun E l yX3_formsOf wX3_formsOf 0 [.ref (A 0), vi c] M (vi (spFormsOf s c)) := by
  have hR0 := hR
  obtain ⟨hm, h1, h2, h3, h4, h5, h6, h7, h10, h11, h12, h13, h14, h15, h17, h18, h19, h20, h23, h24⟩ := hR
  have hs := hW.sc
  unfold wfSc at hs
  obtain ⟨n, hn⟩ : ∃ n : Nat, s 0 3 = n := ⟨(s 0 3).toNat, by omega⟩
  unfold spFormsOf
  rw [hn, Int.toNat_natCast]
  refine gMet.of hl rfl (Nat.le_of_ble_eq_true rfl) ?_
  intro Z hE hl0 hQ hX C hnm htab
  subst hE; subst hl0
  replace C : gC Z RX3 cX3_formsOf 4 (some .int) _ := C
  change G Z _ _ _ 0 [(0, _), (1, _)] []
  have loop : ∀ (r i : Nat), i + r = n → G Z 0 0 M 4 [(0, .ref (A 0)), (1, vi c), (2, vi (sumN (fun k => if s 11 k = (c : Nat) then 1 else 0) i)), (3, vi i)] [] := by
    intro r
    induction r with
    | zero =>
      intro i hi
      obtain rfl : i = n := by omega
      refine g_iload_n (pc := 4) C dX3_formsOf_4 3 rfl rfl ?_
      refine g_aload_n (pc := 5) C dX3_formsOf_5 0 rfl trivial rfl ?_
      refine g_get (pc := 6) C dX3_formsOf_6 cl12 hm 13 (by decide) q1832 (fun _ h9 => h9) rfl ?_
      refine g_icmp_ge (pc := 9) C dX3_formsOf_9 36 ⟨by omega, by omega⟩ ⟨by omega, by omega⟩ (by decide) (fun c_9 => ?_) (fun c_9 => ?_)
      · skip
        refine g_iload_n (pc := 36) C dX3_formsOf_36 2 rfl rfl ?_
        refine g_iret (pc := 37) hQ C ?_ dX3_formsOf_37
        exact ⟨rfl, rfl⟩
      · skip
        omega
    | succ r ih =>
      intro i hi
      have hf := hW.form (f := i) (by omega)
      unfold wfForm at hf
      refine g_iload_n (pc := 4) C dX3_formsOf_4 3 rfl rfl ?_
      refine g_aload_n (pc := 5) C dX3_formsOf_5 0 rfl trivial rfl ?_
      refine g_get (pc := 6) C dX3_formsOf_6 cl12 hm 13 (by decide) q1832 (fun _ h9 => h9) rfl ?_
      refine g_icmp_ge (pc := 9) C dX3_formsOf_9 36 ⟨by omega, by omega⟩ ⟨by omega, by omega⟩ (by decide) (fun c_9 => ?_) (fun c_9 => ?_)
      · skip
        omega
      · skip
        refine g_iload_n (pc := 12) C dX3_formsOf_12 2 rfl rfl ?_
        refine g_aload_n (pc := 13) C dX3_formsOf_13 0 rfl trivial rfl ?_
        refine g_get (pc := 14) C dX3_formsOf_14 cl12 hm 14 (by decide) q1833 (fun _ h9 => h9) rfl ?_
        refine g_iload_n (pc := 17) C dX3_formsOf_17 3 rfl rfl ?_
        refine g_iald (pc := 18) C dX3_formsOf_18 h11 _ rfl (by omega) (by omega) ?_
        refine g_iload_n (pc := 19) C dX3_formsOf_19 1 rfl rfl ?_
        refine g_icmp_ne (pc := 20) C dX3_formsOf_20 27 ⟨by omega, by omega⟩ ⟨by omega, by omega⟩ (by decide) (fun c_20 => ?_) (fun c_20 => ?_)
        · skip
          refine g_iconst (pc := 27) C dX3_formsOf_27 ?_
          refine g_iadd (pc := 28) C dX3_formsOf_28 ?_
          refine g_istore_n (pc := 29) C dX3_formsOf_29 (Nat.le_of_ble_eq_true rfl) rfl rfl (loc1 := [(0, _), (1, _), (2, _), (3, _)]) rfl ?_
          refine g_iinc (pc := 30) C dX3_formsOf_30 3 rfl (Nat.le_of_ble_eq_true rfl) rfl (loc1 := [(0, _), (1, _), (2, _), (3, _)]) rfl ?_
          refine g_goto (pc := 33) C dX3_formsOf_33 4 (by decide) ?_
          have h9 := ih (i + 1) (by omega)
          simp only [sumN] at h9
          first | (rw [if_pos (show s 11 i = c by omega)] at h9; exact h9) | (rw [if_neg (show ¬ (s 11 i = c) by omega)] at h9; exact h9)
        · skip
          refine g_iconst (pc := 23) C dX3_formsOf_23 ?_
          refine g_goto (pc := 24) C dX3_formsOf_24 28 (by decide) ?_
          refine g_iadd (pc := 28) C dX3_formsOf_28 ?_
          refine g_istore_n (pc := 29) C dX3_formsOf_29 (Nat.le_of_ble_eq_true rfl) rfl rfl (loc1 := [(0, _), (1, _), (2, _), (3, _)]) rfl ?_
          refine g_iinc (pc := 30) C dX3_formsOf_30 3 rfl (Nat.le_of_ble_eq_true rfl) rfl (loc1 := [(0, _), (1, _), (2, _), (3, _)]) rfl ?_
          refine g_goto (pc := 33) C dX3_formsOf_33 4 (by decide) ?_
          have h9 := ih (i + 1) (by omega)
          simp only [sumN] at h9
          first | (rw [if_pos (show s 11 i = c by omega)] at h9; exact h9) | (rw [if_neg (show ¬ (s 11 i = c) by omega)] at h9; exact h9)
  refine g_iconst (pc := 0) C dX3_formsOf_0 ?_
  refine g_istore_n (pc := 1) C dX3_formsOf_1 (Nat.le_of_ble_eq_true rfl) rfl rfl (loc1 := [(0, _), (1, _), (2, _)]) rfl ?_
  refine g_iconst (pc := 2) C dX3_formsOf_2 ?_
  refine g_istore_n (pc := 3) C dX3_formsOf_3 (Nat.le_of_ble_eq_true rfl) rfl rfl (loc1 := [(0, _), (1, _), (2, _), (3, _)]) rfl ?_
  exact loop n 0 (by omega)
theorem m_X3_claimsOf (hl : l.stackTraces = false) (hR : RM A M s t) (hW : WF s) {c : Nat} (hc : (c : Int) < s 0 2) : gFun E l yX3_claimsOf wX3_claimsOf 0 [.ref (A 0), vi c] M (vi (spClaimsOf s c)) := by
  have hR0 := hR
  obtain ⟨hm, h1, h2, h3, h4, h5, h6, h7, h10, h11, h12, h13, h14, h15, h17, h18, h19, h20, h23, h24⟩ := hR
  have hs := hW.sc
  unfold wfSc at hs
  obtain ⟨n, hn⟩ : ∃ n : Nat, s 0 5 = n := ⟨(s 0 5).toNat, by omega⟩
  unfold spClaimsOf
  rw [hn, Int.toNat_natCast]
  refine gMet.of hl rfl (Nat.le_of_ble_eq_true rfl) ?_
  intro Z hE hl0 hQ hX C hnm htab
  subst hE; subst hl0
  replace C : gC Z RX3 cX3_claimsOf 4 (some .int) _ := C
  change G Z _ _ _ 0 [(0, _), (1, _)] []
  have loop : ∀ (r i : Nat), i + r = n → G Z 0 0 M 4 [(0, .ref (A 0)), (1, vi c), (2, vi (sumN (fun k => if s 23 (6 * k) = (c : Nat) then 1 else 0) i)), (3, vi i)] [] := by
    intro r
    induction r with
    | zero =>
      intro i hi
      obtain rfl : i = n := by omega
      refine g_iload_n (pc := 4) C dX3_claimsOf_4 3 rfl rfl ?_
      refine g_aload_n (pc := 5) C dX3_claimsOf_5 0 rfl trivial rfl ?_
      refine g_get (pc := 6) C dX3_claimsOf_6 cl12 hm 24 (by decide) q1843 (fun _ h9 => h9) rfl ?_
      refine g_icmp_ge (pc := 9) C dX3_claimsOf_9 39 ⟨by omega, by omega⟩ ⟨by omega, by omega⟩ (by decide) (fun c_9 => ?_) (fun c_9 => ?_)
      · skip
        refine g_iload_n (pc := 39) C dX3_claimsOf_39 2 rfl rfl ?_
        refine g_iret (pc := 40) hQ C ?_ dX3_claimsOf_40
        exact ⟨rfl, rfl⟩
      · skip
        omega
    | succ r ih =>
      intro i hi
      have hf := hW.claim (k := i) (by omega)
      unfold wfClaim at hf
      refine g_iload_n (pc := 4) C dX3_claimsOf_4 3 rfl rfl ?_
      refine g_aload_n (pc := 5) C dX3_claimsOf_5 0 rfl trivial rfl ?_
      refine g_get (pc := 6) C dX3_claimsOf_6 cl12 hm 24 (by decide) q1843 (fun _ h9 => h9) rfl ?_
      refine g_icmp_ge (pc := 9) C dX3_claimsOf_9 39 ⟨by omega, by omega⟩ ⟨by omega, by omega⟩ (by decide) (fun c_9 => ?_) (fun c_9 => ?_)
      · skip
        omega
      · skip
        refine g_iload_n (pc := 12) C dX3_claimsOf_12 2 rfl rfl ?_
        refine g_aload_n (pc := 13) C dX3_claimsOf_13 0 rfl trivial rfl ?_
        refine g_get (pc := 14) C dX3_claimsOf_14 cl12 hm 25 (by decide) q1844 (fun _ h9 => h9) rfl ?_
        refine g_bipush (pc := 17) C dX3_claimsOf_17 (by decide) ?_
        refine g_iload_n (pc := 19) C dX3_claimsOf_19 3 rfl rfl ?_
        refine g_imul (pc := 20) C dX3_claimsOf_20 ?_
        refine g_iald (pc := 21) C dX3_claimsOf_21 h23 (6 * i) (by omega) (by omega) (by omega) ?_
        refine g_iload_n (pc := 22) C dX3_claimsOf_22 1 rfl rfl ?_
        refine g_icmp_ne (pc := 23) C dX3_claimsOf_23 30 ⟨by omega, by omega⟩ ⟨by omega, by omega⟩ (by decide) (fun c_23 => ?_) (fun c_23 => ?_)
        · skip
          refine g_iconst (pc := 30) C dX3_claimsOf_30 ?_
          refine g_iadd (pc := 31) C dX3_claimsOf_31 ?_
          refine g_istore_n (pc := 32) C dX3_claimsOf_32 (Nat.le_of_ble_eq_true rfl) rfl rfl (loc1 := [(0, _), (1, _), (2, _), (3, _)]) rfl ?_
          refine g_iinc (pc := 33) C dX3_claimsOf_33 3 rfl (Nat.le_of_ble_eq_true rfl) rfl (loc1 := [(0, _), (1, _), (2, _), (3, _)]) rfl ?_
          refine g_goto (pc := 36) C dX3_claimsOf_36 4 (by decide) ?_
          have h9 := ih (i + 1) (by omega)
          simp only [sumN] at h9
          first | (rw [if_pos (show s 23 (6 * i) = c by omega)] at h9; exact h9) | (rw [if_neg (show ¬ (s 23 (6 * i) = c) by omega)] at h9; exact h9)
        · skip
          refine g_iconst (pc := 26) C dX3_claimsOf_26 ?_
          refine g_goto (pc := 27) C dX3_claimsOf_27 31 (by decide) ?_
          refine g_iadd (pc := 31) C dX3_claimsOf_31 ?_
          refine g_istore_n (pc := 32) C dX3_claimsOf_32 (Nat.le_of_ble_eq_true rfl) rfl rfl (loc1 := [(0, _), (1, _), (2, _), (3, _)]) rfl ?_
          refine g_iinc (pc := 33) C dX3_claimsOf_33 3 rfl (Nat.le_of_ble_eq_true rfl) rfl (loc1 := [(0, _), (1, _), (2, _), (3, _)]) rfl ?_
          refine g_goto (pc := 36) C dX3_claimsOf_36 4 (by decide) ?_
          have h9 := ih (i + 1) (by omega)
          simp only [sumN] at h9
          first | (rw [if_pos (show s 23 (6 * i) = c by omega)] at h9; exact h9) | (rw [if_neg (show ¬ (s 23 (6 * i) = c) by omega)] at h9; exact h9)
  refine g_iconst (pc := 0) C dX3_claimsOf_0 ?_
  refine g_istore_n (pc := 1) C dX3_claimsOf_1 (Nat.le_of_ble_eq_true rfl) rfl rfl (loc1 := [(0, _), (1, _), (2, _)]) rfl ?_
  refine g_iconst (pc := 2) C dX3_claimsOf_2 ?_
  refine g_istore_n (pc := 3) C dX3_claimsOf_3 (Nat.le_of_ble_eq_true rfl) rfl rfl (loc1 := [(0, _), (1, _), (2, _), (3, _)]) rfl ?_
  exact loop n 0 (by omega)
theorem m_X3_claimsIn (hl : l.stackTraces = false) (hR : RM A M s t) (hW : WF s) {st : Int} (hst : r32 st) : gFun E l yX3_claimsIn wX3_claimsIn 0 [.ref (A 0), vi st] M (vi (spClaims s st)) := by
  have hR0 := hR
  obtain ⟨hm, h1, h2, h3, h4, h5, h6, h7, h10, h11, h12, h13, h14, h15, h17, h18, h19, h20, h23, h24⟩ := hR
  have hs := hW.sc
  unfold wfSc at hs
  obtain ⟨n, hn⟩ : ∃ n : Nat, s 0 5 = n := ⟨(s 0 5).toNat, by omega⟩
  unfold spClaims
  rw [hn, Int.toNat_natCast]
  refine gMet.of hl rfl (Nat.le_of_ble_eq_true rfl) ?_
  intro Z hE hl0 hQ hX C hnm htab
  subst hE; subst hl0
  replace C : gC Z RX3 cX3_claimsIn 4 (some .int) _ := C
  change G Z _ _ _ 0 [(0, _), (1, _)] []
  have loop : ∀ (r i : Nat), i + r = n → G Z 0 0 M 4 [(0, .ref (A 0)), (1, vi st), (2, vi (sumN (fun k => if s 23 (6 * k + 5) = st then 1 else 0) i)), (3, vi i)] [] := by
    intro r
    induction r with
    | zero =>
      intro i hi
      obtain rfl : i = n := by omega
      refine g_iload_n (pc := 4) C dX3_claimsIn_4 3 rfl rfl ?_
      refine g_aload_n (pc := 5) C dX3_claimsIn_5 0 rfl trivial rfl ?_
      refine g_get (pc := 6) C dX3_claimsIn_6 cl12 hm 24 (by decide) q1843 (fun _ h9 => h9) rfl ?_
      refine g_icmp_ge (pc := 9) C dX3_claimsIn_9 41 ⟨by omega, by omega⟩ ⟨by omega, by omega⟩ (by decide) (fun c_9 => ?_) (fun c_9 => ?_)
      · skip
        refine g_iload_n (pc := 41) C dX3_claimsIn_41 2 rfl rfl ?_
        refine g_iret (pc := 42) hQ C ?_ dX3_claimsIn_42
        exact ⟨rfl, rfl⟩
      · skip
        omega
    | succ r ih =>
      intro i hi
      have hf := hW.claim (k := i) (by omega)
      unfold wfClaim at hf
      obtain ⟨hst1, hst2⟩ := hst
      refine g_iload_n (pc := 4) C dX3_claimsIn_4 3 rfl rfl ?_
      refine g_aload_n (pc := 5) C dX3_claimsIn_5 0 rfl trivial rfl ?_
      refine g_get (pc := 6) C dX3_claimsIn_6 cl12 hm 24 (by decide) q1843 (fun _ h9 => h9) rfl ?_
      refine g_icmp_ge (pc := 9) C dX3_claimsIn_9 41 ⟨by omega, by omega⟩ ⟨by omega, by omega⟩ (by decide) (fun c_9 => ?_) (fun c_9 => ?_)
      · skip
        omega
      · skip
        refine g_iload_n (pc := 12) C dX3_claimsIn_12 2 rfl rfl ?_
        refine g_aload_n (pc := 13) C dX3_claimsIn_13 0 rfl trivial rfl ?_
        refine g_get (pc := 14) C dX3_claimsIn_14 cl12 hm 25 (by decide) q1844 (fun _ h9 => h9) rfl ?_
        refine g_bipush (pc := 17) C dX3_claimsIn_17 (by decide) ?_
        refine g_iload_n (pc := 19) C dX3_claimsIn_19 3 rfl rfl ?_
        refine g_imul (pc := 20) C dX3_claimsIn_20 ?_
        refine g_iconst (pc := 21) C dX3_claimsIn_21 ?_
        refine g_iadd (pc := 22) C dX3_claimsIn_22 ?_
        refine g_iald (pc := 23) C dX3_claimsIn_23 h23 (6 * i + 5) (by omega) (by omega) (by omega) ?_
        refine g_iload_n (pc := 24) C dX3_claimsIn_24 1 rfl rfl ?_
        refine g_icmp_ne (pc := 25) C dX3_claimsIn_25 32 ⟨by omega, by omega⟩ ⟨by omega, by omega⟩ (by decide) (fun c_25 => ?_) (fun c_25 => ?_)
        · skip
          refine g_iconst (pc := 32) C dX3_claimsIn_32 ?_
          refine g_iadd (pc := 33) C dX3_claimsIn_33 ?_
          refine g_istore_n (pc := 34) C dX3_claimsIn_34 (Nat.le_of_ble_eq_true rfl) rfl rfl (loc1 := [(0, _), (1, _), (2, _), (3, _)]) rfl ?_
          refine g_iinc (pc := 35) C dX3_claimsIn_35 3 rfl (Nat.le_of_ble_eq_true rfl) rfl (loc1 := [(0, _), (1, _), (2, _), (3, _)]) rfl ?_
          refine g_goto (pc := 38) C dX3_claimsIn_38 4 (by decide) ?_
          have h9 := ih (i + 1) (by omega)
          simp only [sumN] at h9
          first | (rw [if_pos (show s 23 (6 * i + 5) = st by omega)] at h9; exact h9) | (rw [if_neg (show ¬ (s 23 (6 * i + 5) = st) by omega)] at h9; exact h9)
        · skip
          refine g_iconst (pc := 28) C dX3_claimsIn_28 ?_
          refine g_goto (pc := 29) C dX3_claimsIn_29 33 (by decide) ?_
          refine g_iadd (pc := 33) C dX3_claimsIn_33 ?_
          refine g_istore_n (pc := 34) C dX3_claimsIn_34 (Nat.le_of_ble_eq_true rfl) rfl rfl (loc1 := [(0, _), (1, _), (2, _), (3, _)]) rfl ?_
          refine g_iinc (pc := 35) C dX3_claimsIn_35 3 rfl (Nat.le_of_ble_eq_true rfl) rfl (loc1 := [(0, _), (1, _), (2, _), (3, _)]) rfl ?_
          refine g_goto (pc := 38) C dX3_claimsIn_38 4 (by decide) ?_
          have h9 := ih (i + 1) (by omega)
          simp only [sumN] at h9
          first | (rw [if_pos (show s 23 (6 * i + 5) = st by omega)] at h9; exact h9) | (rw [if_neg (show ¬ (s 23 (6 * i + 5) = st) by omega)] at h9; exact h9)
  refine g_iconst (pc := 0) C dX3_claimsIn_0 ?_
  refine g_istore_n (pc := 1) C dX3_claimsIn_1 (Nat.le_of_ble_eq_true rfl) rfl rfl (loc1 := [(0, _), (1, _), (2, _)]) rfl ?_
  refine g_iconst (pc := 2) C dX3_claimsIn_2 ?_
  refine g_istore_n (pc := 3) C dX3_claimsIn_3 (Nat.le_of_ble_eq_true rfl) rfl rfl (loc1 := [(0, _), (1, _), (2, _), (3, _)]) rfl ?_
  exact loop n 0 (by omega)
theorem m_X3_endedOnes (hl : l.stackTraces = false) (hR : RM A M s t) (hW : WF s)  : gFun E l yX3_endedOnes wX3_endedOnes 1 [.ref (A 0)] M (vi (spEnded s)) := by
  have hR0 := hR
  obtain ⟨hm, h1, h2, h3, h4, h5, h6, h7, h10, h11, h12, h13, h14, h15, h17, h18, h19, h20, h23, h24⟩ := hR
  have hs := hW.sc
  unfold wfSc at hs
  obtain ⟨n, hn⟩ : ∃ n : Nat, s 0 2 = n := ⟨(s 0 2).toNat, by omega⟩
  unfold spEnded
  rw [hn, Int.toNat_natCast]
  refine gMet.of hl rfl (Nat.le_of_ble_eq_true rfl) ?_
  intro Z hE hl0 hQ hX C hnm htab
  subst hE; subst hl0
  replace C : gC Z RX3 cX3_endedOnes 3 (some .int) _ := C
  change G Z _ _ _ 0 [(0, _)] []
  have loop : ∀ (r i : Nat), i + r = n → G Z 0 0 M 4 [(0, .ref (A 0)), (1, vi (sumN (fun k => if s 2 k = -1 then 0 else 1) i)), (2, vi i)] [] := by
    intro r
    induction r with
    | zero =>
      intro i hi
      obtain rfl : i = n := by omega
      refine g_iload_n (pc := 4) C dX3_endedOnes_4 2 rfl rfl ?_
      refine g_aload_n (pc := 5) C dX3_endedOnes_5 0 rfl trivial rfl ?_
      refine g_get (pc := 6) C dX3_endedOnes_6 cl12 hm 4 (by decide) q1823 (fun _ h9 => h9) rfl ?_
      refine g_icmp_ge (pc := 9) C dX3_endedOnes_9 34 ⟨by omega, by omega⟩ ⟨by omega, by omega⟩ (by decide) (fun c_9 => ?_) (fun c_9 => ?_)
      · skip
        refine g_iload_n (pc := 34) C dX3_endedOnes_34 1 rfl rfl ?_
        refine g_iret (pc := 35) hQ C ?_ dX3_endedOnes_35
        exact ⟨rfl, rfl⟩
      · skip
        omega
    | succ r ih =>
      intro i hi
      refine g_iload_n (pc := 4) C dX3_endedOnes_4 2 rfl rfl ?_
      refine g_aload_n (pc := 5) C dX3_endedOnes_5 0 rfl trivial rfl ?_
      refine g_get (pc := 6) C dX3_endedOnes_6 cl12 hm 4 (by decide) q1823 (fun _ h9 => h9) rfl ?_
      refine g_icmp_ge (pc := 9) C dX3_endedOnes_9 34 ⟨by omega, by omega⟩ ⟨by omega, by omega⟩ (by decide) (fun c_9 => ?_) (fun c_9 => ?_)
      · skip
        omega
      · skip
        refine g_iload_n (pc := 12) C dX3_endedOnes_12 1 rfl rfl ?_
        refine g_aload_n (pc := 13) C dX3_endedOnes_13 0 rfl trivial rfl ?_
        refine g_iload_n (pc := 14) C dX3_endedOnes_14 2 rfl rfl ?_
        refine g_callV (pc := 15) C (m_X3_isEnded hl hR0 hW (by omega)) cl12 hm q1947 q1949 qs43 q94 q1950 nmX3_isEnded rfl (by decide) (by decide) (Nat.zero_le _) (Nat.zero_le _) rfl (Nat.le_of_ble_eq_true rfl) dX3_endedOnes_15 (gkf ?_) gkx
        refine g_ifb_eq (pc := 18) C dX3_endedOnes_18 25 (by decide) (fun c_18 => ?_) (fun c_18 => ?_)
        · skip
          have d_18 := c_18
          try simp only [decide_eq_true_eq, decide_eq_false_iff_not, Bool.and_eq_true, Bool.and_eq_false_iff, ne_eq, Classical.not_not] at c_18
          refine g_iconst (pc := 25) C dX3_endedOnes_25 ?_
          refine g_iadd (pc := 26) C dX3_endedOnes_26 ?_
          refine g_istore_n (pc := 27) C dX3_endedOnes_27 (Nat.le_of_ble_eq_true rfl) rfl rfl (loc1 := [(0, _), (1, _), (2, _)]) rfl ?_
          refine g_iinc (pc := 28) C dX3_endedOnes_28 2 rfl (Nat.le_of_ble_eq_true rfl) rfl (loc1 := [(0, _), (1, _), (2, _)]) rfl ?_
          refine g_goto (pc := 31) C dX3_endedOnes_31 4 (by decide) ?_
          have h9 := ih (i + 1) (by omega)
          simp only [sumN] at h9
          first | (rw [if_pos (show s 2 i = -1 by omega)] at h9; exact h9) | (rw [if_neg (show ¬ (s 2 i = -1) by omega)] at h9; exact h9)
        · skip
          have d_18 := c_18
          try simp only [decide_eq_true_eq, decide_eq_false_iff_not, Bool.and_eq_true, Bool.and_eq_false_iff, ne_eq, Classical.not_not] at c_18
          refine g_iconst (pc := 21) C dX3_endedOnes_21 ?_
          refine g_goto (pc := 22) C dX3_endedOnes_22 26 (by decide) ?_
          refine g_iadd (pc := 26) C dX3_endedOnes_26 ?_
          refine g_istore_n (pc := 27) C dX3_endedOnes_27 (Nat.le_of_ble_eq_true rfl) rfl rfl (loc1 := [(0, _), (1, _), (2, _)]) rfl ?_
          refine g_iinc (pc := 28) C dX3_endedOnes_28 2 rfl (Nat.le_of_ble_eq_true rfl) rfl (loc1 := [(0, _), (1, _), (2, _)]) rfl ?_
          refine g_goto (pc := 31) C dX3_endedOnes_31 4 (by decide) ?_
          have h9 := ih (i + 1) (by omega)
          simp only [sumN] at h9
          first | (rw [if_pos (show s 2 i = -1 by omega)] at h9; exact h9) | (rw [if_neg (show ¬ (s 2 i = -1) by omega)] at h9; exact h9)
  refine g_iconst (pc := 0) C dX3_endedOnes_0 ?_
  refine g_istore_n (pc := 1) C dX3_endedOnes_1 (Nat.le_of_ble_eq_true rfl) rfl rfl (loc1 := [(0, _), (1, _)]) rfl ?_
  refine g_iconst (pc := 2) C dX3_endedOnes_2 ?_
  refine g_istore_n (pc := 3) C dX3_endedOnes_3 (Nat.le_of_ble_eq_true rfl) rfl rfl (loc1 := [(0, _), (1, _), (2, _)]) rfl ?_
  exact loop n 0 (by omega)
theorem m_X3_paidTo (hl : l.stackTraces = false) (hR : RM A M s t) (hW : WF s) {c : Nat} (hc : (c : Int) < s 0 2) : gFun E l yX3_paidTo wX3_paidTo 0 [.ref (A 0), vi c] M (vi (spPaidTo s c)) := by
  have hR0 := hR
  obtain ⟨hm, h1, h2, h3, h4, h5, h6, h7, h10, h11, h12, h13, h14, h15, h17, h18, h19, h20, h23, h24⟩ := hR
  have hs := hW.sc
  unfold wfSc at hs
  unfold spPaidTo
  refine gMet.of hl rfl (Nat.le_of_ble_eq_true rfl) ?_
  intro Z hE hl0 hQ hX C hnm htab
  subst hE; subst hl0
  replace C : gC Z RX3 cX3_paidTo 4 (some .int) _ := C
  change G Z _ _ _ 0 [(0, _), (1, _)] []
  have loop : ∀ (r i : Nat), i + r = 51 → G Z 0 0 M 4 [(0, .ref (A 0)), (1, vi c), (2, vi (sumN (fun m => s 6 (51 * c + m)) i)), (3, vi i)] [] := by
    intro r
    induction r with
    | zero =>
      intro i hi
      obtain rfl : i = 51 := by omega
      refine g_iload_n (pc := 4) C dX3_paidTo_4 3 rfl rfl ?_
      refine g_bipush (pc := 5) C dX3_paidTo_5 (by decide) ?_
      refine g_icmp_ge (pc := 7) C dX3_paidTo_7 30 ⟨by omega, by omega⟩ ⟨by omega, by omega⟩ (by decide) (fun c_7 => ?_) (fun c_7 => ?_)
      · skip
        refine g_iload_n (pc := 30) C dX3_paidTo_30 2 rfl rfl ?_
        refine g_iret (pc := 31) hQ C ?_ dX3_paidTo_31
        exact ⟨rfl, rfl⟩
      · skip
        omega
    | succ r ih =>
      intro i hi
      refine g_iload_n (pc := 4) C dX3_paidTo_4 3 rfl rfl ?_
      refine g_bipush (pc := 5) C dX3_paidTo_5 (by decide) ?_
      refine g_icmp_ge (pc := 7) C dX3_paidTo_7 30 ⟨by omega, by omega⟩ ⟨by omega, by omega⟩ (by decide) (fun c_7 => ?_) (fun c_7 => ?_)
      · skip
        omega
      · skip
        refine g_iload_n (pc := 10) C dX3_paidTo_10 2 rfl rfl ?_
        refine g_aload_n (pc := 11) C dX3_paidTo_11 0 rfl trivial rfl ?_
        refine g_get (pc := 12) C dX3_paidTo_12 cl12 hm 11 (by decide) q1830 (fun _ h9 => h9) rfl ?_
        refine g_bipush (pc := 15) C dX3_paidTo_15 (by decide) ?_
        refine g_iload_n (pc := 17) C dX3_paidTo_17 1 rfl rfl ?_
        refine g_imul (pc := 18) C dX3_paidTo_18 ?_
        refine g_iload_n (pc := 19) C dX3_paidTo_19 3 rfl rfl ?_
        refine g_iadd (pc := 20) C dX3_paidTo_20 ?_
        refine g_iald (pc := 21) C dX3_paidTo_21 h6 (51 * c + i) (by omega) (by omega) (by omega) ?_
        refine g_iadd (pc := 22) C dX3_paidTo_22 ?_
        refine g_istore_n (pc := 23) C dX3_paidTo_23 (Nat.le_of_ble_eq_true rfl) rfl rfl (loc1 := [(0, _), (1, _), (2, _), (3, _)]) rfl ?_
        refine g_iinc (pc := 24) C dX3_paidTo_24 3 rfl (Nat.le_of_ble_eq_true rfl) rfl (loc1 := [(0, _), (1, _), (2, _), (3, _)]) rfl ?_
        refine g_goto (pc := 27) C dX3_paidTo_27 4 (by decide) ?_
        exact ih (i + 1) (by omega)
  refine g_iconst (pc := 0) C dX3_paidTo_0 ?_
  refine g_istore_n (pc := 1) C dX3_paidTo_1 (Nat.le_of_ble_eq_true rfl) rfl rfl (loc1 := [(0, _), (1, _), (2, _)]) rfl ?_
  refine g_iconst (pc := 2) C dX3_paidTo_2 ?_
  refine g_istore_n (pc := 3) C dX3_paidTo_3 (Nat.le_of_ble_eq_true rfl) rfl rfl (loc1 := [(0, _), (1, _), (2, _), (3, _)]) rfl ?_
  exact loop 51 0 (by omega)
theorem m_X3_leftOfG (hl : l.stackTraces = false) (hR : RM A M s t) (hsc : wfSc s) (hcl : ∀ k : Nat, (k : Int) < s 0 5 → wfClaim s k) {c : Nat} {firm : Bool} (hc : (c : Int) < s 0 2) : gFun E l yX3_leftOf wX3_leftOf 0 [.ref (A 0), vi c, vi (b2 firm)] M (vi (spLeft s c firm)) := by
  have hR0 := hR
  obtain ⟨hm, h1, h2, h3, h4, h5, h6, h7, h10, h11, h12, h13, h14, h15, h17, h18, h19, h20, h23, h24⟩ := hR
  have hs := hsc
  unfold wfSc at hs
  obtain ⟨n, hn⟩ : ∃ n : Nat, s 0 5 = n := ⟨(s 0 5).toNat, by omega⟩
  unfold spLeft
  rw [hn, Int.toNat_natCast]
  refine gMet.of hl rfl (Nat.le_of_ble_eq_true rfl) ?_
  intro Z hE hl0 hQ hX C hnm htab
  subst hE; subst hl0
  replace C : gC Z RX3 cX3_leftOf 5 (some .int) _ := C
  change G Z _ _ _ 0 [(0, _), (1, _), (2, _)] []
  have loop : ∀ (r i : Nat), i + r = n → G Z 0 0 M 5 [(0, .ref (A 0)), (1, vi c), (2, vi (b2 firm)), (3, vi (sumN (fun k => if s 23 (6 * k) = (c : Nat) ∧ (firm = false ∨ s 23 (6 * k + 5) = 2) then s 23 (6 * k + 4) else 0) i)), (4, vi i)] [] := by
    intro r
    induction r with
    | zero =>
      intro i hi
      obtain rfl : i = n := by omega
      refine g_iload (pc := 5) C dX3_leftOf_5 4 rfl ?_
      refine g_aload_n (pc := 7) C dX3_leftOf_7 0 rfl trivial rfl ?_
      refine g_get (pc := 8) C dX3_leftOf_8 cl12 hm 24 (by decide) q1843 (fun _ h9 => h9) rfl ?_
      refine g_icmp_ge (pc := 11) C dX3_leftOf_11 73 ⟨by omega, by omega⟩ ⟨by omega, by omega⟩ (by decide) (fun c_11 => ?_) (fun c_11 => ?_)
      · skip
        refine g_iload_n (pc := 73) C dX3_leftOf_73 3 rfl rfl ?_
        refine g_iret (pc := 74) hQ C ?_ dX3_leftOf_74
        exact ⟨rfl, rfl⟩
      · skip
        omega
    | succ r ih =>
      intro i hi
      have hf := hcl i (by omega)
      unfold wfClaim at hf
      refine g_iload (pc := 5) C dX3_leftOf_5 4 rfl ?_
      refine g_aload_n (pc := 7) C dX3_leftOf_7 0 rfl trivial rfl ?_
      refine g_get (pc := 8) C dX3_leftOf_8 cl12 hm 24 (by decide) q1843 (fun _ h9 => h9) rfl ?_
      refine g_icmp_ge (pc := 11) C dX3_leftOf_11 73 ⟨by omega, by omega⟩ ⟨by omega, by omega⟩ (by decide) (fun c_11 => ?_) (fun c_11 => ?_)
      · skip
        omega
      · skip
        refine g_iload_n (pc := 14) C dX3_leftOf_14 3 rfl rfl ?_
        refine g_aload_n (pc := 15) C dX3_leftOf_15 0 rfl trivial rfl ?_
        refine g_get (pc := 16) C dX3_leftOf_16 cl12 hm 25 (by decide) q1844 (fun _ h9 => h9) rfl ?_
        refine g_bipush (pc := 19) C dX3_leftOf_19 (by decide) ?_
        refine g_iload (pc := 21) C dX3_leftOf_21 4 rfl ?_
        refine g_imul (pc := 23) C dX3_leftOf_23 ?_
        refine g_iald (pc := 24) C dX3_leftOf_24 h23 (6 * i) (by omega) (by omega) (by omega) ?_
        refine g_iload_n (pc := 25) C dX3_leftOf_25 1 rfl rfl ?_
        refine g_icmp_ne (pc := 26) C dX3_leftOf_26 64 ⟨by omega, by omega⟩ ⟨by omega, by omega⟩ (by decide) (fun c_26 => ?_) (fun c_26 => ?_)
        · skip
          refine g_iconst (pc := 64) C dX3_leftOf_64 ?_
          refine g_iadd (pc := 65) C dX3_leftOf_65 ?_
          refine g_istore_n (pc := 66) C dX3_leftOf_66 (Nat.le_of_ble_eq_true rfl) rfl rfl (loc1 := [(0, _), (1, _), (2, _), (3, _), (4, _)]) rfl ?_
          refine g_iinc (pc := 67) C dX3_leftOf_67 4 rfl (Nat.le_of_ble_eq_true rfl) rfl (loc1 := [(0, _), (1, _), (2, _), (3, _), (4, _)]) rfl ?_
          refine g_goto (pc := 70) C dX3_leftOf_70 5 (by decide) ?_
          have h9 := ih (i + 1) (by omega)
          simp only [sumN] at h9
          first | (rw [if_pos (show s 23 (6 * i) = c ∧ (firm = false ∨ s 23 (6 * i + 5) = 2) from ⟨by omega, by first | exact Or.inl (by assumption) | exact Or.inr (by omega)⟩)] at h9; exact h9) | (rw [if_neg (show ¬ (s 23 (6 * i) = c ∧ (firm = false ∨ s 23 (6 * i + 5) = 2)) from by rintro ⟨h1, h2 | h2⟩ <;> first | omega | exact Bool.noConfusion (h2.symm.trans c_30))] at h9; exact h9)
        · skip
          refine g_iload_n (pc := 29) C dX3_leftOf_29 2 rfl rfl ?_
          refine g_ifb_eq (pc := 30) C dX3_leftOf_30 49 (by decide) (fun c_30 => ?_) (fun c_30 => ?_)
          · skip
            have d_30 := c_30
            try simp only [decide_eq_true_eq, decide_eq_false_iff_not, Bool.and_eq_true, Bool.and_eq_false_iff, ne_eq, Classical.not_not] at c_30
            refine g_aload_n (pc := 49) C dX3_leftOf_49 0 rfl trivial rfl ?_
            refine g_get (pc := 50) C dX3_leftOf_50 cl12 hm 25 (by decide) q1844 (fun _ h9 => h9) rfl ?_
            refine g_bipush (pc := 53) C dX3_leftOf_53 (by decide) ?_
            refine g_iload (pc := 55) C dX3_leftOf_55 4 rfl ?_
            refine g_imul (pc := 57) C dX3_leftOf_57 ?_
            refine g_iconst (pc := 58) C dX3_leftOf_58 ?_
            refine g_iadd (pc := 59) C dX3_leftOf_59 ?_
            refine g_iald (pc := 60) C dX3_leftOf_60 h23 (6 * i + 4) (by omega) (by omega) (by omega) ?_
            refine g_goto (pc := 61) C dX3_leftOf_61 65 (by decide) ?_
            refine g_iadd (pc := 65) C dX3_leftOf_65 ?_
            refine g_istore_n (pc := 66) C dX3_leftOf_66 (Nat.le_of_ble_eq_true rfl) rfl rfl (loc1 := [(0, _), (1, _), (2, _), (3, _), (4, _)]) rfl ?_
            refine g_iinc (pc := 67) C dX3_leftOf_67 4 rfl (Nat.le_of_ble_eq_true rfl) rfl (loc1 := [(0, _), (1, _), (2, _), (3, _), (4, _)]) rfl ?_
            refine g_goto (pc := 70) C dX3_leftOf_70 5 (by decide) ?_
            have h9 := ih (i + 1) (by omega)
            simp only [sumN] at h9
            first | (rw [if_pos (show s 23 (6 * i) = c ∧ (firm = false ∨ s 23 (6 * i + 5) = 2) from ⟨by omega, by first | exact Or.inl (by assumption) | exact Or.inr (by omega)⟩)] at h9; exact h9) | (rw [if_neg (show ¬ (s 23 (6 * i) = c ∧ (firm = false ∨ s 23 (6 * i + 5) = 2)) from by rintro ⟨h1, h2 | h2⟩ <;> first | omega | exact Bool.noConfusion (h2.symm.trans c_30))] at h9; exact h9)
          · skip
            have d_30 := c_30
            try simp only [decide_eq_true_eq, decide_eq_false_iff_not, Bool.and_eq_true, Bool.and_eq_false_iff, ne_eq, Classical.not_not] at c_30
            refine g_aload_n (pc := 33) C dX3_leftOf_33 0 rfl trivial rfl ?_
            refine g_get (pc := 34) C dX3_leftOf_34 cl12 hm 25 (by decide) q1844 (fun _ h9 => h9) rfl ?_
            refine g_bipush (pc := 37) C dX3_leftOf_37 (by decide) ?_
            refine g_iload (pc := 39) C dX3_leftOf_39 4 rfl ?_
            refine g_imul (pc := 41) C dX3_leftOf_41 ?_
            refine g_iconst (pc := 42) C dX3_leftOf_42 ?_
            refine g_iadd (pc := 43) C dX3_leftOf_43 ?_
            refine g_iald (pc := 44) C dX3_leftOf_44 h23 (6 * i + 5) (by omega) (by omega) (by omega) ?_
            refine g_iconst (pc := 45) C dX3_leftOf_45 ?_
            refine g_icmp_ne (pc := 46) C dX3_leftOf_46 64 ⟨by omega, by omega⟩ ⟨by omega, by omega⟩ (by decide) (fun c_46 => ?_) (fun c_46 => ?_)
            · skip
              refine g_iconst (pc := 64) C dX3_leftOf_64 ?_
              refine g_iadd (pc := 65) C dX3_leftOf_65 ?_
              refine g_istore_n (pc := 66) C dX3_leftOf_66 (Nat.le_of_ble_eq_true rfl) rfl rfl (loc1 := [(0, _), (1, _), (2, _), (3, _), (4, _)]) rfl ?_
              refine g_iinc (pc := 67) C dX3_leftOf_67 4 rfl (Nat.le_of_ble_eq_true rfl) rfl (loc1 := [(0, _), (1, _), (2, _), (3, _), (4, _)]) rfl ?_
              refine g_goto (pc := 70) C dX3_leftOf_70 5 (by decide) ?_
              have h9 := ih (i + 1) (by omega)
              simp only [sumN] at h9
              first | (rw [if_pos (show s 23 (6 * i) = c ∧ (firm = false ∨ s 23 (6 * i + 5) = 2) from ⟨by omega, by first | exact Or.inl (by assumption) | exact Or.inr (by omega)⟩)] at h9; exact h9) | (rw [if_neg (show ¬ (s 23 (6 * i) = c ∧ (firm = false ∨ s 23 (6 * i + 5) = 2)) from by rintro ⟨h1, h2 | h2⟩ <;> first | omega | exact Bool.noConfusion (h2.symm.trans c_30))] at h9; exact h9)
            · skip
              refine g_aload_n (pc := 49) C dX3_leftOf_49 0 rfl trivial rfl ?_
              refine g_get (pc := 50) C dX3_leftOf_50 cl12 hm 25 (by decide) q1844 (fun _ h9 => h9) rfl ?_
              refine g_bipush (pc := 53) C dX3_leftOf_53 (by decide) ?_
              refine g_iload (pc := 55) C dX3_leftOf_55 4 rfl ?_
              refine g_imul (pc := 57) C dX3_leftOf_57 ?_
              refine g_iconst (pc := 58) C dX3_leftOf_58 ?_
              refine g_iadd (pc := 59) C dX3_leftOf_59 ?_
              refine g_iald (pc := 60) C dX3_leftOf_60 h23 (6 * i + 4) (by omega) (by omega) (by omega) ?_
              refine g_goto (pc := 61) C dX3_leftOf_61 65 (by decide) ?_
              refine g_iadd (pc := 65) C dX3_leftOf_65 ?_
              refine g_istore_n (pc := 66) C dX3_leftOf_66 (Nat.le_of_ble_eq_true rfl) rfl rfl (loc1 := [(0, _), (1, _), (2, _), (3, _), (4, _)]) rfl ?_
              refine g_iinc (pc := 67) C dX3_leftOf_67 4 rfl (Nat.le_of_ble_eq_true rfl) rfl (loc1 := [(0, _), (1, _), (2, _), (3, _), (4, _)]) rfl ?_
              refine g_goto (pc := 70) C dX3_leftOf_70 5 (by decide) ?_
              have h9 := ih (i + 1) (by omega)
              simp only [sumN] at h9
              first | (rw [if_pos (show s 23 (6 * i) = c ∧ (firm = false ∨ s 23 (6 * i + 5) = 2) from ⟨by omega, by first | exact Or.inl (by assumption) | exact Or.inr (by omega)⟩)] at h9; exact h9) | (rw [if_neg (show ¬ (s 23 (6 * i) = c ∧ (firm = false ∨ s 23 (6 * i + 5) = 2)) from by rintro ⟨h1, h2 | h2⟩ <;> first | omega | exact Bool.noConfusion (h2.symm.trans c_30))] at h9; exact h9)
  refine g_iconst (pc := 0) C dX3_leftOf_0 ?_
  refine g_istore_n (pc := 1) C dX3_leftOf_1 (Nat.le_of_ble_eq_true rfl) rfl rfl (loc1 := [(0, _), (1, _), (2, _), (3, _)]) rfl ?_
  refine g_iconst (pc := 2) C dX3_leftOf_2 ?_
  refine g_istore (pc := 3) C dX3_leftOf_3 (Nat.le_of_ble_eq_true rfl) rfl (loc1 := [(0, _), (1, _), (2, _), (3, _), (4, _)]) rfl ?_
  exact loop n 0 (by omega)
theorem m_X3_leftOf (hl : l.stackTraces = false) (hR : RM A M s t) (hW : WF s) {c : Nat} {firm : Bool} (hc : (c : Int) < s 0 2) : gFun E l yX3_leftOf wX3_leftOf 0 [.ref (A 0), vi c, vi (b2 firm)] M (vi (spLeft s c firm)) := m_X3_leftOfG hl hR hW.sc (fun _ hk => hW.claim hk) hc
theorem m_X3_isDay (hl : l.stackTraces = false) {c : Int} (hc : r32 c) : gFun E l yX3_isDay wX3_isDay 1 [vi c] M (vi (b2 (decide (0 ≤ c ∧ c ≤ 1529)))) := by
  obtain ⟨hc1, hc2⟩ := hc
  refine gMet.of hl rfl (Nat.le_of_ble_eq_true rfl) ?_
  intro Z hE hl0 hQ hX C hnm htab
  subst hE; subst hl0
  replace C : gC Z RX3 cX3_isDay 1 (some .boolean) _ := C
  change G Z _ _ _ 0 [(0, _)] []
  refine g_iload_n (pc := 0) C dX3_isDay_0 0 rfl rfl ?_
  refine g_i2l (pc := 1) C dX3_isDay_1 ⟨by omega, by omega⟩ ?_
  refine g_lconst0 (pc := 2) C dX3_isDay_2 ?_
  refine g_ldc2 (pc := 3) C dX3_isDay_3 (x := jv 1529) q2105 ?_
  refine g_callS (pc := 6) C (m_X3_isIn hl ⟨by omega, by omega⟩ ⟨by decide, by decide⟩ ⟨by decide, by decide⟩) q1917 q1918 q94 q1919 nmX3_isIn rfl (by decide) (by decide) (Nat.zero_le _) (Nat.zero_le _) rfl (Nat.le_of_ble_eq_true rfl) dX3_isDay_6 (gkf ?_) gkx
  refine g_nret (pc := 9) hQ C (b2_z _) ?_ dX3_isDay_9
  exact ⟨rfl, rfl⟩
theorem m_X3_ruleFor (hl : l.stackTraces = false) (hR : RM A M s t) (hW : WF s) {c : Nat} {day : Int} (hc : (c : Int) < s 0 2) (hd : 0 ≤ day ∧ day ≤ 100000) : gFun E l yX3_ruleFor wX3_ruleFor 0 [.ref (A 0), vi c, vi day] M (vi (spRule s c day)) := by
  obtain ⟨hm, h1, h2, h3, h4, h5, h6, h7, h10, h11, h12, h13, h14, h15, h17, h18, h19, h20, h23, h24⟩ := hR
  have hs := hW.sc
  unfold wfSc at hs
  obtain ⟨n, hn⟩ : ∃ n : Nat, s 0 4 = n := ⟨(s 0 4).toNat, by omega⟩
  unfold spRule
  rw [hn, Int.toNat_natCast]
  refine gMet.of hl rfl (Nat.le_of_ble_eq_true rfl) ?_
  intro Z hE hl0 hQ hX C hnm htab
  subst hE; subst hl0
  replace C : gC Z RX3 cX3_ruleFor 5 (some .int) _ := C
  change G Z _ _ _ 0 [(0, _), (1, _), (2, _)] []
  have loop : ∀ (r i : Nat), 1 ≤ i → i + r = n → G Z 0 0 M 5 [(0, .ref (A 0)), (1, vi c), (2, vi day), (3, vi (spRuleN s c day i)), (4, vi i)] [] := by
    intro r
    induction r with
    | zero =>
      intro i h0 hi
      obtain rfl : i = n := by omega
      refine g_iload (pc := 5) C dX3_ruleFor_5 4 rfl ?_
      refine g_aload_n (pc := 7) C dX3_ruleFor_7 0 rfl trivial rfl ?_
      refine g_get (pc := 8) C dX3_ruleFor_8 cl12 hm 19 (by decide) q1838 (fun _ h9 => h9) rfl ?_
      refine g_icmp_ge (pc := 11) C dX3_ruleFor_11 53 ⟨by omega, by omega⟩ ⟨by omega, by omega⟩ (by decide) (fun c_11 => ?_) (fun c_11 => ?_)
      · skip
        refine g_iload_n (pc := 53) C dX3_ruleFor_53 3 rfl rfl ?_
        refine g_iret (pc := 54) hQ C ?_ dX3_ruleFor_54
        exact ⟨rfl, rfl⟩
      · skip
        omega
    | succ r ih =>
      intro i h0 hi
      have hf := hW.rule (r := i) (by omega)
      have hf2 := (hf.2.2.2.1 c (by omega)).2.1 hc
      have hf1 := hf.2.1
      clear hf
      have hf3 : s 20 (10 * i + c) = 0 ∨ s 20 (10 * i + c) = 1 := by rw [hf2]; split <;> simp
      clear hf2
      refine g_iload (pc := 5) C dX3_ruleFor_5 4 rfl ?_
      refine g_aload_n (pc := 7) C dX3_ruleFor_7 0 rfl trivial rfl ?_
      refine g_get (pc := 8) C dX3_ruleFor_8 cl12 hm 19 (by decide) q1838 (fun _ h9 => h9) rfl ?_
      refine g_icmp_ge (pc := 11) C dX3_ruleFor_11 53 ⟨by omega, by omega⟩ ⟨by omega, by omega⟩ (by decide) (fun c_11 => ?_) (fun c_11 => ?_)
      · skip
        omega
      · skip
        refine g_aload_n (pc := 14) C dX3_ruleFor_14 0 rfl trivial rfl ?_
        refine g_get (pc := 15) C dX3_ruleFor_15 cl12 hm 23 (by decide) q1842 (fun _ h9 => h9) rfl ?_
        refine g_bipush (pc := 18) C dX3_ruleFor_18 (by decide) ?_
        refine g_iload (pc := 20) C dX3_ruleFor_20 4 rfl ?_
        refine g_imul (pc := 22) C dX3_ruleFor_22 ?_
        refine g_iload_n (pc := 23) C dX3_ruleFor_23 1 rfl rfl ?_
        refine g_iadd (pc := 24) C dX3_ruleFor_24 ?_
        refine g_zald (pc := 25) C dX3_ruleFor_25 h20 (10 * i + c) (by omega) (by omega) (by omega) ?_
        refine g_if_eq (pc := 26) C dX3_ruleFor_26 45 ⟨by omega, by omega⟩ (by decide) (fun c_26 => ?_) (fun c_26 => ?_)
        · skip
          refine g_iload_n (pc := 45) C dX3_ruleFor_45 3 rfl rfl ?_
          refine g_istore_n (pc := 46) C dX3_ruleFor_46 (Nat.le_of_ble_eq_true rfl) rfl rfl (loc1 := [(0, _), (1, _), (2, _), (3, _), (4, _)]) rfl ?_
          refine g_iinc (pc := 47) C dX3_ruleFor_47 4 rfl (Nat.le_of_ble_eq_true rfl) rfl (loc1 := [(0, _), (1, _), (2, _), (3, _), (4, _)]) rfl ?_
          refine g_goto (pc := 50) C dX3_ruleFor_50 5 (by decide) ?_
          have h9 := ih (i + 1) (by omega) (by omega)
          simp only [spRuleN] at h9
          first | (rw [if_pos (show s 20 (10 * i + c) = 1 ∧ s 18 i ≤ day by omega)] at h9; exact h9) | (rw [if_neg (show ¬ (s 20 (10 * i + c) = 1 ∧ s 18 i ≤ day) by omega)] at h9; exact h9)
        · skip
          refine g_aload_n (pc := 29) C dX3_ruleFor_29 0 rfl trivial rfl ?_
          refine g_get (pc := 30) C dX3_ruleFor_30 cl12 hm 21 (by decide) q1840 (fun _ h9 => h9) rfl ?_
          refine g_iload (pc := 33) C dX3_ruleFor_33 4 rfl ?_
          refine g_iald (pc := 35) C dX3_ruleFor_35 h18 _ rfl (by omega) (by omega) ?_
          refine g_iload_n (pc := 36) C dX3_ruleFor_36 2 rfl rfl ?_
          refine g_icmp_gt (pc := 37) C dX3_ruleFor_37 45 ⟨by omega, by omega⟩ ⟨by omega, by omega⟩ (by decide) (fun c_37 => ?_) (fun c_37 => ?_)
          · skip
            refine g_iload_n (pc := 45) C dX3_ruleFor_45 3 rfl rfl ?_
            refine g_istore_n (pc := 46) C dX3_ruleFor_46 (Nat.le_of_ble_eq_true rfl) rfl rfl (loc1 := [(0, _), (1, _), (2, _), (3, _), (4, _)]) rfl ?_
            refine g_iinc (pc := 47) C dX3_ruleFor_47 4 rfl (Nat.le_of_ble_eq_true rfl) rfl (loc1 := [(0, _), (1, _), (2, _), (3, _), (4, _)]) rfl ?_
            refine g_goto (pc := 50) C dX3_ruleFor_50 5 (by decide) ?_
            have h9 := ih (i + 1) (by omega) (by omega)
            simp only [spRuleN] at h9
            first | (rw [if_pos (show s 20 (10 * i + c) = 1 ∧ s 18 i ≤ day by omega)] at h9; exact h9) | (rw [if_neg (show ¬ (s 20 (10 * i + c) = 1 ∧ s 18 i ≤ day) by omega)] at h9; exact h9)
          · skip
            refine g_iload (pc := 40) C dX3_ruleFor_40 4 rfl ?_
            refine g_goto (pc := 42) C dX3_ruleFor_42 46 (by decide) ?_
            refine g_istore_n (pc := 46) C dX3_ruleFor_46 (Nat.le_of_ble_eq_true rfl) rfl rfl (loc1 := [(0, _), (1, _), (2, _), (3, _), (4, _)]) rfl ?_
            refine g_iinc (pc := 47) C dX3_ruleFor_47 4 rfl (Nat.le_of_ble_eq_true rfl) rfl (loc1 := [(0, _), (1, _), (2, _), (3, _), (4, _)]) rfl ?_
            refine g_goto (pc := 50) C dX3_ruleFor_50 5 (by decide) ?_
            have h9 := ih (i + 1) (by omega) (by omega)
            simp only [spRuleN] at h9
            first | (rw [if_pos (show s 20 (10 * i + c) = 1 ∧ s 18 i ≤ day by omega)] at h9; exact h9) | (rw [if_neg (show ¬ (s 20 (10 * i + c) = 1 ∧ s 18 i ≤ day) by omega)] at h9; exact h9)
  have h01 : spRuleN s c day 1 = 0 := by unfold spRuleN; split <;> rfl
  refine g_iconst (pc := 0) C dX3_ruleFor_0 ?_
  refine g_istore_n (pc := 1) C dX3_ruleFor_1 (Nat.le_of_ble_eq_true rfl) rfl rfl (loc1 := [(0, _), (1, _), (2, _), (3, _)]) rfl ?_
  refine g_iconst (pc := 2) C dX3_ruleFor_2 ?_
  refine g_istore (pc := 3) C dX3_ruleFor_3 (Nat.le_of_ble_eq_true rfl) rfl (loc1 := [(0, _), (1, _), (2, _), (3, _), (4, _)]) rfl ?_
  have h9 := loop (n - 1) 1 (by omega) (by omega)
  rw [h01] at h9
  exact h9
theorem m_X3_helpOn (hl : l.stackTraces = false) (hR : RM A M s t) (hW : WF s) {c : Nat} {day : Int} (hc : (c : Int) < s 0 2) (hd : 0 ≤ day ∧ day ≤ 100000) : gFun E l yX3_helpOn wX3_helpOn 1 [.ref (A 0), vi c, vi day] M (vi (spHelp s c day)) := by
  have hR0 := hR
  obtain ⟨hm, h1, h2, h3, h4, h5, h6, h7, h10, h11, h12, h13, h14, h15, h17, h18, h19, h20, h23, h24⟩ := hR
  have hs := hW.sc
  unfold wfSc at hs
  have hq := hW.case hc
  have hr := spRule_lt hW c day
  have f0 := spFact_0 hW c day
  have f1 := spFact_1 hW c day
  have f2 := spFact_2 hW c day
  have hp := spHelp_parts hW hr f0 f1 f2
  have hh := spHelpR_r hW hr f0 f1 f2
  have hru := (hW.rule hr).1
  unfold spHelpR at hh
  unfold wfCase at hq
  obtain ⟨hq1, hq2, -⟩ := hq
  refine gMet.of hl rfl (Nat.le_of_ble_eq_true rfl) ?_
  intro Z hE hl0 hQ hX C hnm htab
  subst hE; subst hl0
  replace C : gC Z RX3 cX3_helpOn 12 (some .int) _ := C
  change G Z _ _ _ 0 [(0, _), (1, _), (2, _)] []
  refine g_iload_n (pc := 0) C dX3_helpOn_0 2 rfl rfl ?_
  refine g_aload_n (pc := 1) C dX3_helpOn_1 0 rfl trivial rfl ?_
  refine g_get (pc := 2) C dX3_helpOn_2 cl12 hm 6 (by decide) q1825 (fun _ h9 => h9) rfl ?_
  refine g_iload_n (pc := 5) C dX3_helpOn_5 1 rfl rfl ?_
  refine g_iald (pc := 6) C dX3_helpOn_6 h1 _ rfl (by omega) (by omega) ?_
  refine g_icmp_lt (pc := 7) C dX3_helpOn_7 28 ⟨by omega, by omega⟩ ⟨by omega, by omega⟩ (by decide) (fun c_7 => ?_) (fun c_7 => ?_)
  · skip
    refine g_iconst (pc := 28) C dX3_helpOn_28 ?_
    refine g_iret (pc := 29) hQ C ?_ dX3_helpOn_29
    refine ⟨?_, rfl⟩
    unfold spHelp
    rw [if_neg (by omega)]
  · skip
    refine g_aload_n (pc := 10) C dX3_helpOn_10 0 rfl trivial rfl ?_
    refine g_iload_n (pc := 11) C dX3_helpOn_11 1 rfl rfl ?_
    refine g_callV (pc := 12) C (m_X3_isEnded hl hR0 hW hc) cl12 hm q1947 q1949 qs43 q94 q1950 nmX3_isEnded rfl (by decide) (by decide) (Nat.zero_le _) (Nat.zero_le _) rfl (Nat.le_of_ble_eq_true rfl) dX3_helpOn_12 (gkf ?_) gkx
    refine g_ifb_eq (pc := 15) C dX3_helpOn_15 30 (by decide) (fun c_15 => ?_) (fun c_15 => ?_)
    · skip
      have d_15 := c_15
      try simp only [decide_eq_true_eq, decide_eq_false_iff_not, Bool.and_eq_true, Bool.and_eq_false_iff, ne_eq, Classical.not_not] at c_15
      refine g_iconst (pc := 30) C dX3_helpOn_30 ?_
      refine g_aload_n (pc := 31) C dX3_helpOn_31 0 rfl trivial rfl ?_
      refine g_iload_n (pc := 32) C dX3_helpOn_32 1 rfl rfl ?_
      refine g_iload_n (pc := 33) C dX3_helpOn_33 2 rfl rfl ?_
      refine g_callV (pc := 34) C (m_X3_ruleFor hl hR0 hW hc hd) cl12 hm q2074 q2076 qs62 q94 q2077 nmX3_ruleFor rfl (by decide) (by decide) (Nat.zero_le _) (Nat.zero_le _) rfl (Nat.le_of_ble_eq_true rfl) dX3_helpOn_34 (gkf ?_) gkx
      refine g_imul (pc := 37) C dX3_helpOn_37 ?_
      refine g_istore_n (pc := 38) C dX3_helpOn_38 (Nat.le_of_ble_eq_true rfl) rfl rfl (loc1 := [(0, _), (1, _), (2, _), (3, _)]) rfl ?_
      refine g_aload_n (pc := 39) C dX3_helpOn_39 0 rfl trivial rfl ?_
      refine g_iload_n (pc := 40) C dX3_helpOn_40 1 rfl rfl ?_
      refine g_iload_n (pc := 41) C dX3_helpOn_41 2 rfl rfl ?_
      refine g_iconst (pc := 42) C dX3_helpOn_42 ?_
      refine g_callV (pc := 43) C (m_X3_factOn hl hR0 hW (which := 2) hc hd (by decide)) cl12 hm q2078 q2080 qs63 q94 q2081 nmX3_factOn rfl (by decide) (by decide) (Nat.zero_le _) (Nat.zero_le _) rfl (Nat.le_of_ble_eq_true rfl) dX3_helpOn_43 (gkf ?_) gkx
      refine g_i2l (pc := 46) C dX3_helpOn_46 ⟨by omega, by omega⟩ ?_
      refine g_lstore (pc := 47) C dX3_helpOn_47 (Nat.le_of_ble_eq_true rfl) rfl (loc1 := [(0, _), (1, _), (2, _), (3, _), (4, _)]) rfl ?_
      refine g_aload_n (pc := 49) C dX3_helpOn_49 0 rfl trivial rfl ?_
      refine g_iload_n (pc := 50) C dX3_helpOn_50 1 rfl rfl ?_
      refine g_iload_n (pc := 51) C dX3_helpOn_51 2 rfl rfl ?_
      refine g_iconst (pc := 52) C dX3_helpOn_52 ?_
      refine g_callV (pc := 53) C (m_X3_factOn hl hR0 hW (which := 0) hc hd (by decide)) cl12 hm q2078 q2080 qs63 q94 q2081 nmX3_factOn rfl (by decide) (by decide) (Nat.zero_le _) (Nat.zero_le _) rfl (Nat.le_of_ble_eq_true rfl) dX3_helpOn_53 (gkf ?_) gkx
      refine g_i2l (pc := 56) C dX3_helpOn_56 ⟨by omega, by omega⟩ ?_
      refine g_aload_n (pc := 57) C dX3_helpOn_57 0 rfl trivial rfl ?_
      refine g_get (pc := 58) C dX3_helpOn_58 cl12 hm 20 (by decide) q1839 (fun _ h9 => h9) rfl ?_
      refine g_iload_n (pc := 61) C dX3_helpOn_61 3 rfl rfl ?_
      refine g_iald (pc := 62) C dX3_helpOn_62 h17 (5 * spRule s c day) (by omega) (by omega) (by omega) ?_
      refine g_i2l (pc := 63) C dX3_helpOn_63 ⟨by omega, by omega⟩ ?_
      refine g_lload (pc := 64) C dX3_helpOn_64 4 rfl ?_
      refine g_lmul (pc := 66) C dX3_helpOn_66 ?_
      refine g_mminl (pc := 67) C dX3_helpOn_67 ⟨by omega, by omega⟩ ⟨by omega, by omega⟩ q2082 (by decide) (Nat.le_of_ble_eq_true rfl) ?_
      refine g_lstore (pc := 70) C dX3_helpOn_70 (Nat.le_of_ble_eq_true rfl) rfl (loc1 := [(0, _), (1, _), (2, _), (3, _), (4, _), (6, _)]) rfl ?_
      refine g_lconst0 (pc := 72) C dX3_helpOn_72 ?_
      refine g_aload_n (pc := 73) C dX3_helpOn_73 0 rfl trivial rfl ?_
      refine g_iload_n (pc := 74) C dX3_helpOn_74 1 rfl rfl ?_
      refine g_iload_n (pc := 75) C dX3_helpOn_75 2 rfl rfl ?_
      refine g_iconst (pc := 76) C dX3_helpOn_76 ?_
      refine g_callV (pc := 77) C (m_X3_factOn hl hR0 hW (which := 1) hc hd (by decide)) cl12 hm q2078 q2080 qs63 q94 q2081 nmX3_factOn rfl (by decide) (by decide) (Nat.zero_le _) (Nat.zero_le _) rfl (Nat.le_of_ble_eq_true rfl) dX3_helpOn_77 (gkf ?_) gkx
      refine g_i2l (pc := 80) C dX3_helpOn_80 ⟨by omega, by omega⟩ ?_
      refine g_aload_n (pc := 81) C dX3_helpOn_81 0 rfl trivial rfl ?_
      refine g_get (pc := 82) C dX3_helpOn_82 cl12 hm 20 (by decide) q1839 (fun _ h9 => h9) rfl ?_
      refine g_iload_n (pc := 85) C dX3_helpOn_85 3 rfl rfl ?_
      refine g_iconst (pc := 86) C dX3_helpOn_86 ?_
      refine g_iadd (pc := 87) C dX3_helpOn_87 ?_
      refine g_iald (pc := 88) C dX3_helpOn_88 h17 (5 * spRule s c day + 2) (by omega) (by omega) (by omega) ?_
      refine g_i2l (pc := 89) C dX3_helpOn_89 ⟨by omega, by omega⟩ ?_
      refine g_lload (pc := 90) C dX3_helpOn_90 4 rfl ?_
      refine g_lmul (pc := 92) C dX3_helpOn_92 ?_
      refine g_lsub (pc := 93) C dX3_helpOn_93 ?_
      refine g_mmaxl (pc := 94) C dX3_helpOn_94 ⟨by omega, by omega⟩ ⟨by omega, by omega⟩ q2083 (by decide) (Nat.le_of_ble_eq_true rfl) ?_
      refine g_lstore (pc := 97) C dX3_helpOn_97 (Nat.le_of_ble_eq_true rfl) rfl (loc1 := [(0, _), (1, _), (2, _), (3, _), (4, _), (6, _), (8, _)]) rfl ?_
      refine g_lload (pc := 99) C dX3_helpOn_99 5 rfl ?_
      refine g_aload_n (pc := 101) C dX3_helpOn_101 0 rfl trivial rfl ?_
      refine g_get (pc := 102) C dX3_helpOn_102 cl12 hm 20 (by decide) q1839 (fun _ h9 => h9) rfl ?_
      refine g_iload_n (pc := 105) C dX3_helpOn_105 3 rfl rfl ?_
      refine g_iconst (pc := 106) C dX3_helpOn_106 ?_
      refine g_iadd (pc := 107) C dX3_helpOn_107 ?_
      refine g_iald (pc := 108) C dX3_helpOn_108 h17 (5 * spRule s c day + 1) (by omega) (by omega) (by omega) ?_
      refine g_i2l (pc := 109) C dX3_helpOn_109 ⟨by omega, by omega⟩ ?_
      refine g_lmul (pc := 110) C dX3_helpOn_110 ?_
      refine g_ldc2 (pc := 111) C dX3_helpOn_111 (x := jv 100) q2040 ?_
      refine g_ldiv (pc := 114) C dX3_helpOn_114 ⟨by omega, by omega⟩ ⟨by omega, by omega⟩ ?_
      refine g_lload (pc := 115) C dX3_helpOn_115 6 rfl ?_
      refine g_aload_n (pc := 117) C dX3_helpOn_117 0 rfl trivial rfl ?_
      refine g_get (pc := 118) C dX3_helpOn_118 cl12 hm 20 (by decide) q1839 (fun _ h9 => h9) rfl ?_
      refine g_iload_n (pc := 121) C dX3_helpOn_121 3 rfl rfl ?_
      refine g_iconst (pc := 122) C dX3_helpOn_122 ?_
      refine g_iadd (pc := 123) C dX3_helpOn_123 ?_
      refine g_iald (pc := 124) C dX3_helpOn_124 h17 (5 * spRule s c day + 3) (by omega) (by omega) (by omega) ?_
      refine g_i2l (pc := 125) C dX3_helpOn_125 ⟨by omega, by omega⟩ ?_
      refine g_lmul (pc := 126) C dX3_helpOn_126 ?_
      refine g_ldc2 (pc := 127) C dX3_helpOn_127 (x := jv 100) q2040 ?_
      refine g_ldiv (pc := 130) C dX3_helpOn_130 ⟨by omega, by omega⟩ ⟨by omega, by omega⟩ ?_
      refine g_lsub (pc := 131) C dX3_helpOn_131 ?_
      refine g_lstore (pc := 132) C dX3_helpOn_132 (Nat.le_of_ble_eq_true rfl) rfl (loc1 := [(0, _), (1, _), (2, _), (3, _), (4, _), (6, _), (8, _), (10, _)]) rfl ?_
      refine g_lload (pc := 134) C dX3_helpOn_134 7 rfl ?_
      refine g_aload_n (pc := 136) C dX3_helpOn_136 0 rfl trivial rfl ?_
      refine g_get (pc := 137) C dX3_helpOn_137 cl12 hm 20 (by decide) q1839 (fun _ h9 => h9) rfl ?_
      refine g_iload_n (pc := 140) C dX3_helpOn_140 3 rfl rfl ?_
      refine g_iconst (pc := 141) C dX3_helpOn_141 ?_
      refine g_iadd (pc := 142) C dX3_helpOn_142 ?_
      refine g_iald (pc := 143) C dX3_helpOn_143 h17 (5 * spRule s c day + 4) (by omega) (by omega) (by omega) ?_
      refine g_i2l (pc := 144) C dX3_helpOn_144 ⟨by omega, by omega⟩ ?_
      refine g_lcmp (pc := 145) C dX3_helpOn_145 ⟨by omega, by omega⟩ ⟨by omega, by omega⟩ (fun c_145 => ?_) (fun c_145 => ?_) (fun c_145 => ?_)
      · skip
        refine g_if_ge (pc := 146) C dX3_helpOn_146 153 ⟨by omega, by omega⟩ (by decide) (fun c_146 => ?_) (fun c_146 => ?_)
        · skip
          omega
        · skip
          refine g_iconst (pc := 149) C dX3_helpOn_149 ?_
          refine g_goto (pc := 150) C dX3_helpOn_150 156 (by decide) ?_
          refine g_iret (pc := 156) hQ C ?_ dX3_helpOn_156
          refine ⟨?_, rfl⟩
          unfold spHelp spHelpR
          rw [if_pos (by omega)]
          first | rw [if_pos (by omega)] | rw [if_neg (by omega)]
      · skip
        refine g_if_ge (pc := 146) C dX3_helpOn_146 153 ⟨by omega, by omega⟩ (by decide) (fun c_146 => ?_) (fun c_146 => ?_)
        · skip
          refine g_lload (pc := 153) C dX3_helpOn_153 7 rfl ?_
          refine g_l2i (pc := 155) C dX3_helpOn_155 ⟨by omega, by omega⟩ ?_
          refine g_iret (pc := 156) hQ C ?_ dX3_helpOn_156
          refine ⟨?_, rfl⟩
          unfold spHelp spHelpR
          rw [if_pos (by omega)]
          first | rw [if_pos (by omega)] | rw [if_neg (by omega)]
        · skip
          omega
      · skip
        refine g_if_ge (pc := 146) C dX3_helpOn_146 153 ⟨by omega, by omega⟩ (by decide) (fun c_146 => ?_) (fun c_146 => ?_)
        · skip
          refine g_lload (pc := 153) C dX3_helpOn_153 7 rfl ?_
          refine g_l2i (pc := 155) C dX3_helpOn_155 ⟨by omega, by omega⟩ ?_
          refine g_iret (pc := 156) hQ C ?_ dX3_helpOn_156
          refine ⟨?_, rfl⟩
          unfold spHelp spHelpR
          rw [if_pos (by omega)]
          first | rw [if_pos (by omega)] | rw [if_neg (by omega)]
        · skip
          omega
    · skip
      have d_15 := c_15
      try simp only [decide_eq_true_eq, decide_eq_false_iff_not, Bool.and_eq_true, Bool.and_eq_false_iff, ne_eq, Classical.not_not] at c_15
      refine g_iload_n (pc := 18) C dX3_helpOn_18 2 rfl rfl ?_
      refine g_aload_n (pc := 19) C dX3_helpOn_19 0 rfl trivial rfl ?_
      refine g_get (pc := 20) C dX3_helpOn_20 cl12 hm 7 (by decide) q1826 (fun _ h9 => h9) rfl ?_
      refine g_iload_n (pc := 23) C dX3_helpOn_23 1 rfl rfl ?_
      refine g_iald (pc := 24) C dX3_helpOn_24 h2 _ rfl (by omega) (by omega) ?_
      refine g_icmp_le (pc := 25) C dX3_helpOn_25 30 ⟨by omega, by omega⟩ ⟨by omega, by omega⟩ (by decide) (fun c_25 => ?_) (fun c_25 => ?_)
      · skip
        refine g_iconst (pc := 30) C dX3_helpOn_30 ?_
        refine g_aload_n (pc := 31) C dX3_helpOn_31 0 rfl trivial rfl ?_
        refine g_iload_n (pc := 32) C dX3_helpOn_32 1 rfl rfl ?_
        refine g_iload_n (pc := 33) C dX3_helpOn_33 2 rfl rfl ?_
        refine g_callV (pc := 34) C (m_X3_ruleFor hl hR0 hW hc hd) cl12 hm q2074 q2076 qs62 q94 q2077 nmX3_ruleFor rfl (by decide) (by decide) (Nat.zero_le _) (Nat.zero_le _) rfl (Nat.le_of_ble_eq_true rfl) dX3_helpOn_34 (gkf ?_) gkx
        refine g_imul (pc := 37) C dX3_helpOn_37 ?_
        refine g_istore_n (pc := 38) C dX3_helpOn_38 (Nat.le_of_ble_eq_true rfl) rfl rfl (loc1 := [(0, _), (1, _), (2, _), (3, _)]) rfl ?_
        refine g_aload_n (pc := 39) C dX3_helpOn_39 0 rfl trivial rfl ?_
        refine g_iload_n (pc := 40) C dX3_helpOn_40 1 rfl rfl ?_
        refine g_iload_n (pc := 41) C dX3_helpOn_41 2 rfl rfl ?_
        refine g_iconst (pc := 42) C dX3_helpOn_42 ?_
        refine g_callV (pc := 43) C (m_X3_factOn hl hR0 hW (which := 2) hc hd (by decide)) cl12 hm q2078 q2080 qs63 q94 q2081 nmX3_factOn rfl (by decide) (by decide) (Nat.zero_le _) (Nat.zero_le _) rfl (Nat.le_of_ble_eq_true rfl) dX3_helpOn_43 (gkf ?_) gkx
        refine g_i2l (pc := 46) C dX3_helpOn_46 ⟨by omega, by omega⟩ ?_
        refine g_lstore (pc := 47) C dX3_helpOn_47 (Nat.le_of_ble_eq_true rfl) rfl (loc1 := [(0, _), (1, _), (2, _), (3, _), (4, _)]) rfl ?_
        refine g_aload_n (pc := 49) C dX3_helpOn_49 0 rfl trivial rfl ?_
        refine g_iload_n (pc := 50) C dX3_helpOn_50 1 rfl rfl ?_
        refine g_iload_n (pc := 51) C dX3_helpOn_51 2 rfl rfl ?_
        refine g_iconst (pc := 52) C dX3_helpOn_52 ?_
        refine g_callV (pc := 53) C (m_X3_factOn hl hR0 hW (which := 0) hc hd (by decide)) cl12 hm q2078 q2080 qs63 q94 q2081 nmX3_factOn rfl (by decide) (by decide) (Nat.zero_le _) (Nat.zero_le _) rfl (Nat.le_of_ble_eq_true rfl) dX3_helpOn_53 (gkf ?_) gkx
        refine g_i2l (pc := 56) C dX3_helpOn_56 ⟨by omega, by omega⟩ ?_
        refine g_aload_n (pc := 57) C dX3_helpOn_57 0 rfl trivial rfl ?_
        refine g_get (pc := 58) C dX3_helpOn_58 cl12 hm 20 (by decide) q1839 (fun _ h9 => h9) rfl ?_
        refine g_iload_n (pc := 61) C dX3_helpOn_61 3 rfl rfl ?_
        refine g_iald (pc := 62) C dX3_helpOn_62 h17 (5 * spRule s c day) (by omega) (by omega) (by omega) ?_
        refine g_i2l (pc := 63) C dX3_helpOn_63 ⟨by omega, by omega⟩ ?_
        refine g_lload (pc := 64) C dX3_helpOn_64 4 rfl ?_
        refine g_lmul (pc := 66) C dX3_helpOn_66 ?_
        refine g_mminl (pc := 67) C dX3_helpOn_67 ⟨by omega, by omega⟩ ⟨by omega, by omega⟩ q2082 (by decide) (Nat.le_of_ble_eq_true rfl) ?_
        refine g_lstore (pc := 70) C dX3_helpOn_70 (Nat.le_of_ble_eq_true rfl) rfl (loc1 := [(0, _), (1, _), (2, _), (3, _), (4, _), (6, _)]) rfl ?_
        refine g_lconst0 (pc := 72) C dX3_helpOn_72 ?_
        refine g_aload_n (pc := 73) C dX3_helpOn_73 0 rfl trivial rfl ?_
        refine g_iload_n (pc := 74) C dX3_helpOn_74 1 rfl rfl ?_
        refine g_iload_n (pc := 75) C dX3_helpOn_75 2 rfl rfl ?_
        refine g_iconst (pc := 76) C dX3_helpOn_76 ?_
        refine g_callV (pc := 77) C (m_X3_factOn hl hR0 hW (which := 1) hc hd (by decide)) cl12 hm q2078 q2080 qs63 q94 q2081 nmX3_factOn rfl (by decide) (by decide) (Nat.zero_le _) (Nat.zero_le _) rfl (Nat.le_of_ble_eq_true rfl) dX3_helpOn_77 (gkf ?_) gkx
        refine g_i2l (pc := 80) C dX3_helpOn_80 ⟨by omega, by omega⟩ ?_
        refine g_aload_n (pc := 81) C dX3_helpOn_81 0 rfl trivial rfl ?_
        refine g_get (pc := 82) C dX3_helpOn_82 cl12 hm 20 (by decide) q1839 (fun _ h9 => h9) rfl ?_
        refine g_iload_n (pc := 85) C dX3_helpOn_85 3 rfl rfl ?_
        refine g_iconst (pc := 86) C dX3_helpOn_86 ?_
        refine g_iadd (pc := 87) C dX3_helpOn_87 ?_
        refine g_iald (pc := 88) C dX3_helpOn_88 h17 (5 * spRule s c day + 2) (by omega) (by omega) (by omega) ?_
        refine g_i2l (pc := 89) C dX3_helpOn_89 ⟨by omega, by omega⟩ ?_
        refine g_lload (pc := 90) C dX3_helpOn_90 4 rfl ?_
        refine g_lmul (pc := 92) C dX3_helpOn_92 ?_
        refine g_lsub (pc := 93) C dX3_helpOn_93 ?_
        refine g_mmaxl (pc := 94) C dX3_helpOn_94 ⟨by omega, by omega⟩ ⟨by omega, by omega⟩ q2083 (by decide) (Nat.le_of_ble_eq_true rfl) ?_
        refine g_lstore (pc := 97) C dX3_helpOn_97 (Nat.le_of_ble_eq_true rfl) rfl (loc1 := [(0, _), (1, _), (2, _), (3, _), (4, _), (6, _), (8, _)]) rfl ?_
        refine g_lload (pc := 99) C dX3_helpOn_99 5 rfl ?_
        refine g_aload_n (pc := 101) C dX3_helpOn_101 0 rfl trivial rfl ?_
        refine g_get (pc := 102) C dX3_helpOn_102 cl12 hm 20 (by decide) q1839 (fun _ h9 => h9) rfl ?_
        refine g_iload_n (pc := 105) C dX3_helpOn_105 3 rfl rfl ?_
        refine g_iconst (pc := 106) C dX3_helpOn_106 ?_
        refine g_iadd (pc := 107) C dX3_helpOn_107 ?_
        refine g_iald (pc := 108) C dX3_helpOn_108 h17 (5 * spRule s c day + 1) (by omega) (by omega) (by omega) ?_
        refine g_i2l (pc := 109) C dX3_helpOn_109 ⟨by omega, by omega⟩ ?_
        refine g_lmul (pc := 110) C dX3_helpOn_110 ?_
        refine g_ldc2 (pc := 111) C dX3_helpOn_111 (x := jv 100) q2040 ?_
        refine g_ldiv (pc := 114) C dX3_helpOn_114 ⟨by omega, by omega⟩ ⟨by omega, by omega⟩ ?_
        refine g_lload (pc := 115) C dX3_helpOn_115 6 rfl ?_
        refine g_aload_n (pc := 117) C dX3_helpOn_117 0 rfl trivial rfl ?_
        refine g_get (pc := 118) C dX3_helpOn_118 cl12 hm 20 (by decide) q1839 (fun _ h9 => h9) rfl ?_
        refine g_iload_n (pc := 121) C dX3_helpOn_121 3 rfl rfl ?_
        refine g_iconst (pc := 122) C dX3_helpOn_122 ?_
        refine g_iadd (pc := 123) C dX3_helpOn_123 ?_
        refine g_iald (pc := 124) C dX3_helpOn_124 h17 (5 * spRule s c day + 3) (by omega) (by omega) (by omega) ?_
        refine g_i2l (pc := 125) C dX3_helpOn_125 ⟨by omega, by omega⟩ ?_
        refine g_lmul (pc := 126) C dX3_helpOn_126 ?_
        refine g_ldc2 (pc := 127) C dX3_helpOn_127 (x := jv 100) q2040 ?_
        refine g_ldiv (pc := 130) C dX3_helpOn_130 ⟨by omega, by omega⟩ ⟨by omega, by omega⟩ ?_
        refine g_lsub (pc := 131) C dX3_helpOn_131 ?_
        refine g_lstore (pc := 132) C dX3_helpOn_132 (Nat.le_of_ble_eq_true rfl) rfl (loc1 := [(0, _), (1, _), (2, _), (3, _), (4, _), (6, _), (8, _), (10, _)]) rfl ?_
        refine g_lload (pc := 134) C dX3_helpOn_134 7 rfl ?_
        refine g_aload_n (pc := 136) C dX3_helpOn_136 0 rfl trivial rfl ?_
        refine g_get (pc := 137) C dX3_helpOn_137 cl12 hm 20 (by decide) q1839 (fun _ h9 => h9) rfl ?_
        refine g_iload_n (pc := 140) C dX3_helpOn_140 3 rfl rfl ?_
        refine g_iconst (pc := 141) C dX3_helpOn_141 ?_
        refine g_iadd (pc := 142) C dX3_helpOn_142 ?_
        refine g_iald (pc := 143) C dX3_helpOn_143 h17 (5 * spRule s c day + 4) (by omega) (by omega) (by omega) ?_
        refine g_i2l (pc := 144) C dX3_helpOn_144 ⟨by omega, by omega⟩ ?_
        refine g_lcmp (pc := 145) C dX3_helpOn_145 ⟨by omega, by omega⟩ ⟨by omega, by omega⟩ (fun c_145 => ?_) (fun c_145 => ?_) (fun c_145 => ?_)
        · skip
          refine g_if_ge (pc := 146) C dX3_helpOn_146 153 ⟨by omega, by omega⟩ (by decide) (fun c_146 => ?_) (fun c_146 => ?_)
          · skip
            omega
          · skip
            refine g_iconst (pc := 149) C dX3_helpOn_149 ?_
            refine g_goto (pc := 150) C dX3_helpOn_150 156 (by decide) ?_
            refine g_iret (pc := 156) hQ C ?_ dX3_helpOn_156
            refine ⟨?_, rfl⟩
            unfold spHelp spHelpR
            rw [if_pos (by omega)]
            first | rw [if_pos (by omega)] | rw [if_neg (by omega)]
        · skip
          refine g_if_ge (pc := 146) C dX3_helpOn_146 153 ⟨by omega, by omega⟩ (by decide) (fun c_146 => ?_) (fun c_146 => ?_)
          · skip
            refine g_lload (pc := 153) C dX3_helpOn_153 7 rfl ?_
            refine g_l2i (pc := 155) C dX3_helpOn_155 ⟨by omega, by omega⟩ ?_
            refine g_iret (pc := 156) hQ C ?_ dX3_helpOn_156
            refine ⟨?_, rfl⟩
            unfold spHelp spHelpR
            rw [if_pos (by omega)]
            first | rw [if_pos (by omega)] | rw [if_neg (by omega)]
          · skip
            omega
        · skip
          refine g_if_ge (pc := 146) C dX3_helpOn_146 153 ⟨by omega, by omega⟩ (by decide) (fun c_146 => ?_) (fun c_146 => ?_)
          · skip
            refine g_lload (pc := 153) C dX3_helpOn_153 7 rfl ?_
            refine g_l2i (pc := 155) C dX3_helpOn_155 ⟨by omega, by omega⟩ ?_
            refine g_iret (pc := 156) hQ C ?_ dX3_helpOn_156
            refine ⟨?_, rfl⟩
            unfold spHelp spHelpR
            rw [if_pos (by omega)]
            first | rw [if_pos (by omega)] | rw [if_neg (by omega)]
          · skip
            omega
      · skip
        refine g_iconst (pc := 28) C dX3_helpOn_28 ?_
        refine g_iret (pc := 29) hQ C ?_ dX3_helpOn_29
        refine ⟨?_, rfl⟩
        unfold spHelp
        rw [if_neg (by omega)]
end
