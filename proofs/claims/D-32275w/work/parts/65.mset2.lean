/-! AppealrentModel: payBack, addClaim -/
set_option maxRecDepth 100000
section
variable {E : gE} {l : Launch} {M M1 : gM} {A : Nat → Nat} {s s1 : gS} {t t1 : Int}
def canPay (s : gS) (k x : Int) : Bool := okK s k && (decide (s 23 (6 * k.toNat + 5) = 2) && decide (x ≤ s 23 (6 * k.toNat + 4)))
def kPayBack (s : gS) (k x : Int) : Int := th3 (okK s k) (okI x 1 10000000) (canPay s k x)
def spPayBack (s : gS) (k x : Int) : gS := if okK s k && okI x 1 10000000 && canPay s k x then spLessen s k.toNat x else s
def qPayBack (s : gS) (k x : Int) : Int := if okK s k && okI x 1 10000000 && canPay s k x then s 23 (6 * k.toNat + 4) - x else 0
theorem m_X3_payBack (hl : l.stackTraces = false) (hR : RM A M s t) (hW : WF s) {k x : Int} (r1 : r32 k) (r2 : r32 x) : gMet E l yX3_payBack wX3_payBack 3 0 0 [.ref (A 0), vi k, vi x] M (mRes A M (spPayBack s k x) (qPayBack s k x) (kPayBack s k x)) (fun _ _ _ => False) := by
  obtain ⟨hm, h1, h2, h3, h4, h5, h6, h7, h10, h11, h12, h13, h14, h15, h17, h18, h19, h20, h23, h24⟩ := id hR
  have hs := hW.sc
  unfold wfSc at hs
  obtain ⟨r11, r12⟩ := r1
  obtain ⟨r21, r22⟩ := r2
  refine gMet.of hl rfl (Nat.le_of_ble_eq_true rfl) ?_
  intro Z hE hl0 hQ hX C hnm htab
  subst hE; subst hl0
  replace C : gC Z RX3 cX3_payBack 5 (some .int) _ := C
  change G Z _ _ _ 0 [(0, _), (1, _), (2, _)] []
  refine g_aload_n (pc := 0) C dX3_payBack_0 0 rfl trivial rfl ?_
  refine g_iload_n (pc := 1) C dX3_payBack_1 1 rfl rfl ?_
  refine g_callV (pc := 2) C (m_X3_isClaim hl hR hW ⟨by omega, by omega⟩) cl12 hm q2032 q2034 qs55 q94 q2035 nmX3_isClaim rfl (by decide) (by decide) (Nat.zero_le _) (Nat.zero_le _) rfl (Nat.le_of_ble_eq_true rfl) dX3_payBack_2 (gkf ?_) gkx
  refine g_istore_n (pc := 5) C dX3_payBack_5 (Nat.le_of_ble_eq_true rfl) rfl rfl (loc1 := [(0, _), (1, _), (2, _), (3, _)]) rfl ?_
  refine g_iload_n (pc := 6) C dX3_payBack_6 3 rfl rfl ?_
  refine g_ifb_eq (pc := 7) C dX3_payBack_7 44 (by decide) (fun c_7 => ?_) (fun c_7 => ?_)
  · skip
    have d_7 := c_7
    try simp only [decide_eq_true_eq, decide_eq_false_iff_not, Bool.and_eq_true, Bool.and_eq_false_iff, ne_eq, Classical.not_not] at c_7
    refine g_iconst (pc := 44) C dX3_payBack_44 ?_
    refine g_istore (pc := 45) C dX3_payBack_45 (Nat.le_of_ble_eq_true rfl) rfl (loc1 := [(0, _), (1, _), (2, _), (3, _), (4, _)]) rfl ?_
    refine g_aload_n (pc := 47) C dX3_payBack_47 0 rfl trivial rfl ?_
    refine g_iload_n (pc := 48) C dX3_payBack_48 3 rfl rfl ?_
    refine g_iload_n (pc := 49) C dX3_payBack_49 2 rfl rfl ?_
    refine g_i2l (pc := 50) C dX3_payBack_50 ⟨by omega, by omega⟩ ?_
    refine g_lconst1 (pc := 51) C dX3_payBack_51 ?_
    refine g_ldc2 (pc := 52) C dX3_payBack_52 (x := jv 10000000) q2053 ?_
    refine g_callS (pc := 55) C (m_X3_isIn hl ⟨by omega, by omega⟩ ⟨by decide, by decide⟩ ⟨by decide, by decide⟩) q1917 q1918 q94 q1919 nmX3_isIn rfl (by decide) (by decide) (Nat.zero_le _) (Nat.zero_le _) rfl (Nat.le_of_ble_eq_true rfl) dX3_payBack_55 (gkf ?_) gkx
    refine g_iload (pc := 58) C dX3_payBack_58 4 rfl ?_
    refine g_callV (pc := 60) C (m_X3_fits_3 hl hR (p := okK s k) (q := okI x 1 10000000) (r := canPay s k x)) cl12 hm q2041 q2043 qs56 q94 q2044 nmX3_fits_3 rfl (by decide) (by decide) (by omega) (by omega) (by first | (rw [b2_1 (show canPay s k x = true by simp only [canPay, okK, Bool.and_eq_true, decide_eq_true_eq]; omega)]; rfl) | (rw [b2_z0 (show canPay s k x = false by simp only [canPay, okK, Bool.and_eq_false_iff, decide_eq_false_iff_not]; omega)]; rfl)) (Nat.le_of_ble_eq_true rfl) dX3_payBack_60 (fun v_60 M_60 h_60 => ?_) (fun E_60 q_60 M_60 h_60 => ?_)
    rotate_left
    · exact h_60.elim
    obtain ⟨rfl, hR1, hx⟩ := h_60
    obtain ⟨hm, h1, h2, h3, h4, h5, h6, h7, h10, h11, h12, h13, h14, h15, h17, h18, h19, h20, h23, h24⟩ := id hR1
    refine g_ifb_ne (pc := 63) C dX3_payBack_63 68 (by decide) (fun c_63 => ?_) (fun c_63 => ?_)
    · skip
      have d_63 := c_63
      try simp only [decide_eq_true_eq, decide_eq_false_iff_not, Bool.and_eq_true, Bool.and_eq_false_iff, ne_eq, Classical.not_not] at c_63
      simp only [okK, canPay, okI, Bool.and_eq_true, decide_eq_true_eq] at c_63
      have hcl := hW.claim (k := k.toNat) (by omega)
      unfold wfClaim at hcl
      refine g_aload_n (pc := 68) C dX3_payBack_68 0 rfl trivial rfl ?_
      refine g_iload_n (pc := 69) C dX3_payBack_69 1 rfl rfl ?_
      refine g_iload_n (pc := 70) C dX3_payBack_70 2 rfl rfl ?_
      refine g_callV (pc := 71) C (m_X3_lessen hl hR1 (k := k.toNat) (x := x) ⟨by omega, by omega⟩ ⟨by omega, by omega⟩ ⟨by omega, by omega⟩) cl12 hm q2045 q2047 qs57 q94 q2048 nmX3_lessen rfl (by decide) (by decide) (by omega) (by omega) (by rw [iv_tn (k := k) (by omega)]; rfl) (Nat.le_of_ble_eq_true rfl) dX3_payBack_71 (fun v_71 M_71 h_71 => ?_) (fun E_71 q_71 M_71 h_71 => ?_)
      rotate_left
      · exact h_71.elim
      obtain ⟨rfl, hR3, hx3⟩ := h_71
      obtain ⟨hm, -, -, -, -, -, -, -, -, -, -, -, -, -, -, -, -, -, h23, -⟩ := id hR3
      refine g_aload_n (pc := 74) C dX3_payBack_74 0 rfl trivial rfl ?_
      refine g_get (pc := 75) C dX3_payBack_75 cl12 hm 25 (by decide) q1844 (fun _ h9 => h9) rfl ?_
      refine g_bipush (pc := 78) C dX3_payBack_78 (by decide) ?_
      refine g_iload_n (pc := 80) C dX3_payBack_80 1 rfl rfl ?_
      refine g_imul (pc := 81) C dX3_payBack_81 ?_
      refine g_iconst (pc := 82) C dX3_payBack_82 ?_
      refine g_iadd (pc := 83) C dX3_payBack_83 ?_
      refine g_iald (pc := 84) C dX3_payBack_84 h23 (6 * k.toNat + 4) (by omega) (by show _ < (s 0 6).toNat; omega) (by show (s 0 6).toNat ≤ _; omega) ?_
      refine g_iret (pc := 85) hQ C ?_ dX3_payBack_85
      refine ⟨?_, by rw [spPayBack, if_pos d_63]; exact hR3, (gT1_TM hx (by decide)).tr hx3⟩
      rw [qPayBack, if_pos d_63]
      show some (vi (gUp (gUp (s 23) _ _) _ _ _)) = _
      rw [gUp_n _ _ (by omega), gUp_s]
    · skip
      have d_63 := c_63
      try simp only [decide_eq_true_eq, decide_eq_false_iff_not, Bool.and_eq_true, Bool.and_eq_false_iff, ne_eq, Classical.not_not] at c_63
      refine g_iconst (pc := 66) C dX3_payBack_66 ?_
      refine g_iret (pc := 67) hQ C ?_ dX3_payBack_67
      exact ⟨by rw [qPayBack, if_neg (by rw [d_63]; exact Bool.false_ne_true)], by rw [spPayBack, if_neg (by rw [d_63]; exact Bool.false_ne_true)]; exact hR1, gT1_TM hx (by decide)⟩
  · skip
    have d_7 := c_7
    try simp only [decide_eq_true_eq, decide_eq_false_iff_not, Bool.and_eq_true, Bool.and_eq_false_iff, ne_eq, Classical.not_not] at c_7
    have hcl := hW.claim (k := k.toNat) (by omega)
    unfold wfClaim at hcl
    refine g_aload_n (pc := 10) C dX3_payBack_10 0 rfl trivial rfl ?_
    refine g_get (pc := 11) C dX3_payBack_11 cl12 hm 25 (by decide) q1844 (fun _ h9 => h9) rfl ?_
    refine g_bipush (pc := 14) C dX3_payBack_14 (by decide) ?_
    refine g_iload_n (pc := 16) C dX3_payBack_16 1 rfl rfl ?_
    refine g_imul (pc := 17) C dX3_payBack_17 ?_
    refine g_iconst (pc := 18) C dX3_payBack_18 ?_
    refine g_iadd (pc := 19) C dX3_payBack_19 ?_
    refine g_iald (pc := 20) C dX3_payBack_20 h23 (6 * k.toNat + 5) (by omega) (by omega) (by omega) ?_
    refine g_iconst (pc := 21) C dX3_payBack_21 ?_
    refine g_icmp_ne (pc := 22) C dX3_payBack_22 44 ⟨by omega, by omega⟩ ⟨by omega, by omega⟩ (by decide) (fun c_22 => ?_) (fun c_22 => ?_)
    · skip
      refine g_iconst (pc := 44) C dX3_payBack_44 ?_
      refine g_istore (pc := 45) C dX3_payBack_45 (Nat.le_of_ble_eq_true rfl) rfl (loc1 := [(0, _), (1, _), (2, _), (3, _), (4, _)]) rfl ?_
      refine g_aload_n (pc := 47) C dX3_payBack_47 0 rfl trivial rfl ?_
      refine g_iload_n (pc := 48) C dX3_payBack_48 3 rfl rfl ?_
      refine g_iload_n (pc := 49) C dX3_payBack_49 2 rfl rfl ?_
      refine g_i2l (pc := 50) C dX3_payBack_50 ⟨by omega, by omega⟩ ?_
      refine g_lconst1 (pc := 51) C dX3_payBack_51 ?_
      refine g_ldc2 (pc := 52) C dX3_payBack_52 (x := jv 10000000) q2053 ?_
      refine g_callS (pc := 55) C (m_X3_isIn hl ⟨by omega, by omega⟩ ⟨by decide, by decide⟩ ⟨by decide, by decide⟩) q1917 q1918 q94 q1919 nmX3_isIn rfl (by decide) (by decide) (Nat.zero_le _) (Nat.zero_le _) rfl (Nat.le_of_ble_eq_true rfl) dX3_payBack_55 (gkf ?_) gkx
      refine g_iload (pc := 58) C dX3_payBack_58 4 rfl ?_
      refine g_callV (pc := 60) C (m_X3_fits_3 hl hR (p := okK s k) (q := okI x 1 10000000) (r := canPay s k x)) cl12 hm q2041 q2043 qs56 q94 q2044 nmX3_fits_3 rfl (by decide) (by decide) (by omega) (by omega) (by first | (rw [b2_1 (show canPay s k x = true by simp only [canPay, okK, Bool.and_eq_true, decide_eq_true_eq]; omega)]; rfl) | (rw [b2_z0 (show canPay s k x = false by simp only [canPay, okK, Bool.and_eq_false_iff, decide_eq_false_iff_not]; omega)]; rfl)) (Nat.le_of_ble_eq_true rfl) dX3_payBack_60 (fun v_60 M_60 h_60 => ?_) (fun E_60 q_60 M_60 h_60 => ?_)
      rotate_left
      · exact h_60.elim
      obtain ⟨rfl, hR1, hx⟩ := h_60
      obtain ⟨hm, h1, h2, h3, h4, h5, h6, h7, h10, h11, h12, h13, h14, h15, h17, h18, h19, h20, h23, h24⟩ := id hR1
      refine g_ifb_ne (pc := 63) C dX3_payBack_63 68 (by decide) (fun c_63 => ?_) (fun c_63 => ?_)
      · skip
        have d_63 := c_63
        try simp only [decide_eq_true_eq, decide_eq_false_iff_not, Bool.and_eq_true, Bool.and_eq_false_iff, ne_eq, Classical.not_not] at c_63
        simp only [okK, canPay, okI, Bool.and_eq_true, decide_eq_true_eq] at c_63
        have hcl := hW.claim (k := k.toNat) (by omega)
        unfold wfClaim at hcl
        refine g_aload_n (pc := 68) C dX3_payBack_68 0 rfl trivial rfl ?_
        refine g_iload_n (pc := 69) C dX3_payBack_69 1 rfl rfl ?_
        refine g_iload_n (pc := 70) C dX3_payBack_70 2 rfl rfl ?_
        refine g_callV (pc := 71) C (m_X3_lessen hl hR1 (k := k.toNat) (x := x) ⟨by omega, by omega⟩ ⟨by omega, by omega⟩ ⟨by omega, by omega⟩) cl12 hm q2045 q2047 qs57 q94 q2048 nmX3_lessen rfl (by decide) (by decide) (by omega) (by omega) (by rw [iv_tn (k := k) (by omega)]; rfl) (Nat.le_of_ble_eq_true rfl) dX3_payBack_71 (fun v_71 M_71 h_71 => ?_) (fun E_71 q_71 M_71 h_71 => ?_)
        rotate_left
        · exact h_71.elim
        obtain ⟨rfl, hR3, hx3⟩ := h_71
        obtain ⟨hm, -, -, -, -, -, -, -, -, -, -, -, -, -, -, -, -, -, h23, -⟩ := id hR3
        refine g_aload_n (pc := 74) C dX3_payBack_74 0 rfl trivial rfl ?_
        refine g_get (pc := 75) C dX3_payBack_75 cl12 hm 25 (by decide) q1844 (fun _ h9 => h9) rfl ?_
        refine g_bipush (pc := 78) C dX3_payBack_78 (by decide) ?_
        refine g_iload_n (pc := 80) C dX3_payBack_80 1 rfl rfl ?_
        refine g_imul (pc := 81) C dX3_payBack_81 ?_
        refine g_iconst (pc := 82) C dX3_payBack_82 ?_
        refine g_iadd (pc := 83) C dX3_payBack_83 ?_
        refine g_iald (pc := 84) C dX3_payBack_84 h23 (6 * k.toNat + 4) (by omega) (by show _ < (s 0 6).toNat; omega) (by show (s 0 6).toNat ≤ _; omega) ?_
        refine g_iret (pc := 85) hQ C ?_ dX3_payBack_85
        refine ⟨?_, by rw [spPayBack, if_pos d_63]; exact hR3, (gT1_TM hx (by decide)).tr hx3⟩
        rw [qPayBack, if_pos d_63]
        show some (vi (gUp (gUp (s 23) _ _) _ _ _)) = _
        rw [gUp_n _ _ (by omega), gUp_s]
      · skip
        have d_63 := c_63
        try simp only [decide_eq_true_eq, decide_eq_false_iff_not, Bool.and_eq_true, Bool.and_eq_false_iff, ne_eq, Classical.not_not] at c_63
        refine g_iconst (pc := 66) C dX3_payBack_66 ?_
        refine g_iret (pc := 67) hQ C ?_ dX3_payBack_67
        exact ⟨by rw [qPayBack, if_neg (by rw [d_63]; exact Bool.false_ne_true)], by rw [spPayBack, if_neg (by rw [d_63]; exact Bool.false_ne_true)]; exact hR1, gT1_TM hx (by decide)⟩
    · skip
      refine g_aload_n (pc := 25) C dX3_payBack_25 0 rfl trivial rfl ?_
      refine g_get (pc := 26) C dX3_payBack_26 cl12 hm 25 (by decide) q1844 (fun _ h9 => h9) rfl ?_
      refine g_bipush (pc := 29) C dX3_payBack_29 (by decide) ?_
      refine g_iload_n (pc := 31) C dX3_payBack_31 1 rfl rfl ?_
      refine g_imul (pc := 32) C dX3_payBack_32 ?_
      refine g_iconst (pc := 33) C dX3_payBack_33 ?_
      refine g_iadd (pc := 34) C dX3_payBack_34 ?_
      refine g_iald (pc := 35) C dX3_payBack_35 h23 (6 * k.toNat + 4) (by omega) (by omega) (by omega) ?_
      refine g_iload_n (pc := 36) C dX3_payBack_36 2 rfl rfl ?_
      refine g_icmp_lt (pc := 37) C dX3_payBack_37 44 ⟨by omega, by omega⟩ ⟨by omega, by omega⟩ (by decide) (fun c_37 => ?_) (fun c_37 => ?_)
      · skip
        refine g_iconst (pc := 44) C dX3_payBack_44 ?_
        refine g_istore (pc := 45) C dX3_payBack_45 (Nat.le_of_ble_eq_true rfl) rfl (loc1 := [(0, _), (1, _), (2, _), (3, _), (4, _)]) rfl ?_
        refine g_aload_n (pc := 47) C dX3_payBack_47 0 rfl trivial rfl ?_
        refine g_iload_n (pc := 48) C dX3_payBack_48 3 rfl rfl ?_
        refine g_iload_n (pc := 49) C dX3_payBack_49 2 rfl rfl ?_
        refine g_i2l (pc := 50) C dX3_payBack_50 ⟨by omega, by omega⟩ ?_
        refine g_lconst1 (pc := 51) C dX3_payBack_51 ?_
        refine g_ldc2 (pc := 52) C dX3_payBack_52 (x := jv 10000000) q2053 ?_
        refine g_callS (pc := 55) C (m_X3_isIn hl ⟨by omega, by omega⟩ ⟨by decide, by decide⟩ ⟨by decide, by decide⟩) q1917 q1918 q94 q1919 nmX3_isIn rfl (by decide) (by decide) (Nat.zero_le _) (Nat.zero_le _) rfl (Nat.le_of_ble_eq_true rfl) dX3_payBack_55 (gkf ?_) gkx
        refine g_iload (pc := 58) C dX3_payBack_58 4 rfl ?_
        refine g_callV (pc := 60) C (m_X3_fits_3 hl hR (p := okK s k) (q := okI x 1 10000000) (r := canPay s k x)) cl12 hm q2041 q2043 qs56 q94 q2044 nmX3_fits_3 rfl (by decide) (by decide) (by omega) (by omega) (by first | (rw [b2_1 (show canPay s k x = true by simp only [canPay, okK, Bool.and_eq_true, decide_eq_true_eq]; omega)]; rfl) | (rw [b2_z0 (show canPay s k x = false by simp only [canPay, okK, Bool.and_eq_false_iff, decide_eq_false_iff_not]; omega)]; rfl)) (Nat.le_of_ble_eq_true rfl) dX3_payBack_60 (fun v_60 M_60 h_60 => ?_) (fun E_60 q_60 M_60 h_60 => ?_)
        rotate_left
        · exact h_60.elim
        obtain ⟨rfl, hR1, hx⟩ := h_60
        obtain ⟨hm, h1, h2, h3, h4, h5, h6, h7, h10, h11, h12, h13, h14, h15, h17, h18, h19, h20, h23, h24⟩ := id hR1
        refine g_ifb_ne (pc := 63) C dX3_payBack_63 68 (by decide) (fun c_63 => ?_) (fun c_63 => ?_)
        · skip
          have d_63 := c_63
          try simp only [decide_eq_true_eq, decide_eq_false_iff_not, Bool.and_eq_true, Bool.and_eq_false_iff, ne_eq, Classical.not_not] at c_63
          simp only [okK, canPay, okI, Bool.and_eq_true, decide_eq_true_eq] at c_63
          have hcl := hW.claim (k := k.toNat) (by omega)
          unfold wfClaim at hcl
          refine g_aload_n (pc := 68) C dX3_payBack_68 0 rfl trivial rfl ?_
          refine g_iload_n (pc := 69) C dX3_payBack_69 1 rfl rfl ?_
          refine g_iload_n (pc := 70) C dX3_payBack_70 2 rfl rfl ?_
          refine g_callV (pc := 71) C (m_X3_lessen hl hR1 (k := k.toNat) (x := x) ⟨by omega, by omega⟩ ⟨by omega, by omega⟩ ⟨by omega, by omega⟩) cl12 hm q2045 q2047 qs57 q94 q2048 nmX3_lessen rfl (by decide) (by decide) (by omega) (by omega) (by rw [iv_tn (k := k) (by omega)]; rfl) (Nat.le_of_ble_eq_true rfl) dX3_payBack_71 (fun v_71 M_71 h_71 => ?_) (fun E_71 q_71 M_71 h_71 => ?_)
          rotate_left
          · exact h_71.elim
          obtain ⟨rfl, hR3, hx3⟩ := h_71
          obtain ⟨hm, -, -, -, -, -, -, -, -, -, -, -, -, -, -, -, -, -, h23, -⟩ := id hR3
          refine g_aload_n (pc := 74) C dX3_payBack_74 0 rfl trivial rfl ?_
          refine g_get (pc := 75) C dX3_payBack_75 cl12 hm 25 (by decide) q1844 (fun _ h9 => h9) rfl ?_
          refine g_bipush (pc := 78) C dX3_payBack_78 (by decide) ?_
          refine g_iload_n (pc := 80) C dX3_payBack_80 1 rfl rfl ?_
          refine g_imul (pc := 81) C dX3_payBack_81 ?_
          refine g_iconst (pc := 82) C dX3_payBack_82 ?_
          refine g_iadd (pc := 83) C dX3_payBack_83 ?_
          refine g_iald (pc := 84) C dX3_payBack_84 h23 (6 * k.toNat + 4) (by omega) (by show _ < (s 0 6).toNat; omega) (by show (s 0 6).toNat ≤ _; omega) ?_
          refine g_iret (pc := 85) hQ C ?_ dX3_payBack_85
          refine ⟨?_, by rw [spPayBack, if_pos d_63]; exact hR3, (gT1_TM hx (by decide)).tr hx3⟩
          rw [qPayBack, if_pos d_63]
          show some (vi (gUp (gUp (s 23) _ _) _ _ _)) = _
          rw [gUp_n _ _ (by omega), gUp_s]
        · skip
          have d_63 := c_63
          try simp only [decide_eq_true_eq, decide_eq_false_iff_not, Bool.and_eq_true, Bool.and_eq_false_iff, ne_eq, Classical.not_not] at c_63
          refine g_iconst (pc := 66) C dX3_payBack_66 ?_
          refine g_iret (pc := 67) hQ C ?_ dX3_payBack_67
          exact ⟨by rw [qPayBack, if_neg (by rw [d_63]; exact Bool.false_ne_true)], by rw [spPayBack, if_neg (by rw [d_63]; exact Bool.false_ne_true)]; exact hR1, gT1_TM hx (by decide)⟩
      · skip
        refine g_iconst (pc := 40) C dX3_payBack_40 ?_
        refine g_goto (pc := 41) C dX3_payBack_41 45 (by decide) ?_
        refine g_istore (pc := 45) C dX3_payBack_45 (Nat.le_of_ble_eq_true rfl) rfl (loc1 := [(0, _), (1, _), (2, _), (3, _), (4, _)]) rfl ?_
        refine g_aload_n (pc := 47) C dX3_payBack_47 0 rfl trivial rfl ?_
        refine g_iload_n (pc := 48) C dX3_payBack_48 3 rfl rfl ?_
        refine g_iload_n (pc := 49) C dX3_payBack_49 2 rfl rfl ?_
        refine g_i2l (pc := 50) C dX3_payBack_50 ⟨by omega, by omega⟩ ?_
        refine g_lconst1 (pc := 51) C dX3_payBack_51 ?_
        refine g_ldc2 (pc := 52) C dX3_payBack_52 (x := jv 10000000) q2053 ?_
        refine g_callS (pc := 55) C (m_X3_isIn hl ⟨by omega, by omega⟩ ⟨by decide, by decide⟩ ⟨by decide, by decide⟩) q1917 q1918 q94 q1919 nmX3_isIn rfl (by decide) (by decide) (Nat.zero_le _) (Nat.zero_le _) rfl (Nat.le_of_ble_eq_true rfl) dX3_payBack_55 (gkf ?_) gkx
        refine g_iload (pc := 58) C dX3_payBack_58 4 rfl ?_
        refine g_callV (pc := 60) C (m_X3_fits_3 hl hR (p := okK s k) (q := okI x 1 10000000) (r := canPay s k x)) cl12 hm q2041 q2043 qs56 q94 q2044 nmX3_fits_3 rfl (by decide) (by decide) (by omega) (by omega) (by first | (rw [b2_1 (show canPay s k x = true by simp only [canPay, okK, Bool.and_eq_true, decide_eq_true_eq]; omega)]; rfl) | (rw [b2_z0 (show canPay s k x = false by simp only [canPay, okK, Bool.and_eq_false_iff, decide_eq_false_iff_not]; omega)]; rfl)) (Nat.le_of_ble_eq_true rfl) dX3_payBack_60 (fun v_60 M_60 h_60 => ?_) (fun E_60 q_60 M_60 h_60 => ?_)
        rotate_left
        · exact h_60.elim
        obtain ⟨rfl, hR1, hx⟩ := h_60
        obtain ⟨hm, h1, h2, h3, h4, h5, h6, h7, h10, h11, h12, h13, h14, h15, h17, h18, h19, h20, h23, h24⟩ := id hR1
        refine g_ifb_ne (pc := 63) C dX3_payBack_63 68 (by decide) (fun c_63 => ?_) (fun c_63 => ?_)
        · skip
          have d_63 := c_63
          try simp only [decide_eq_true_eq, decide_eq_false_iff_not, Bool.and_eq_true, Bool.and_eq_false_iff, ne_eq, Classical.not_not] at c_63
          simp only [okK, canPay, okI, Bool.and_eq_true, decide_eq_true_eq] at c_63
          have hcl := hW.claim (k := k.toNat) (by omega)
          unfold wfClaim at hcl
          refine g_aload_n (pc := 68) C dX3_payBack_68 0 rfl trivial rfl ?_
          refine g_iload_n (pc := 69) C dX3_payBack_69 1 rfl rfl ?_
          refine g_iload_n (pc := 70) C dX3_payBack_70 2 rfl rfl ?_
          refine g_callV (pc := 71) C (m_X3_lessen hl hR1 (k := k.toNat) (x := x) ⟨by omega, by omega⟩ ⟨by omega, by omega⟩ ⟨by omega, by omega⟩) cl12 hm q2045 q2047 qs57 q94 q2048 nmX3_lessen rfl (by decide) (by decide) (by omega) (by omega) (by rw [iv_tn (k := k) (by omega)]; rfl) (Nat.le_of_ble_eq_true rfl) dX3_payBack_71 (fun v_71 M_71 h_71 => ?_) (fun E_71 q_71 M_71 h_71 => ?_)
          rotate_left
          · exact h_71.elim
          obtain ⟨rfl, hR3, hx3⟩ := h_71
          obtain ⟨hm, -, -, -, -, -, -, -, -, -, -, -, -, -, -, -, -, -, h23, -⟩ := id hR3
          refine g_aload_n (pc := 74) C dX3_payBack_74 0 rfl trivial rfl ?_
          refine g_get (pc := 75) C dX3_payBack_75 cl12 hm 25 (by decide) q1844 (fun _ h9 => h9) rfl ?_
          refine g_bipush (pc := 78) C dX3_payBack_78 (by decide) ?_
          refine g_iload_n (pc := 80) C dX3_payBack_80 1 rfl rfl ?_
          refine g_imul (pc := 81) C dX3_payBack_81 ?_
          refine g_iconst (pc := 82) C dX3_payBack_82 ?_
          refine g_iadd (pc := 83) C dX3_payBack_83 ?_
          refine g_iald (pc := 84) C dX3_payBack_84 h23 (6 * k.toNat + 4) (by omega) (by show _ < (s 0 6).toNat; omega) (by show (s 0 6).toNat ≤ _; omega) ?_
          refine g_iret (pc := 85) hQ C ?_ dX3_payBack_85
          refine ⟨?_, by rw [spPayBack, if_pos d_63]; exact hR3, (gT1_TM hx (by decide)).tr hx3⟩
          rw [qPayBack, if_pos d_63]
          show some (vi (gUp (gUp (s 23) _ _) _ _ _)) = _
          rw [gUp_n _ _ (by omega), gUp_s]
        · skip
          have d_63 := c_63
          try simp only [decide_eq_true_eq, decide_eq_false_iff_not, Bool.and_eq_true, Bool.and_eq_false_iff, ne_eq, Classical.not_not] at c_63
          refine g_iconst (pc := 66) C dX3_payBack_66 ?_
          refine g_iret (pc := 67) hQ C ?_ dX3_payBack_67
          exact ⟨by rw [qPayBack, if_neg (by rw [d_63]; exact Bool.false_ne_true)], by rw [spPayBack, if_neg (by rw [d_63]; exact Bool.false_ne_true)]; exact hR1, gT1_TM hx (by decide)⟩
def setA (A : Nat → Nat) (k a : Nat) : Nat → Nat := fun j => if j = k then a else A j
theorem gI_ne {t n m : Nat} {f g : Nat → Int} (h : n ≠ m) : ((t, gI 0 n f) : Nat × gEnt) ≠ (t, gI 0 m g) := by
  intro e
  have e2 := (Prod.mk.inj e).2
  have e3 := (Prod.mk.inj (Prod.mk.inj (Sum.inl.inj e2)).2).1
  exact h e3
/-- the claims' array doubled -/
theorem RM.grow (hR : RM A M s t) {q : Nat} {o : gEnt} {s6 : Int} (hq : M q = some (123, gI 0 s6.toNat (s 23))) (e : gSet M (A 0) (100, o) = M1) (ho : o = gO 12 [vi t, vi (s 0 0), .ref (A 10), vi (s 0 1), vi (s 0 2), .ref (A 9), .ref (A 1), .ref (A 2), .ref (A 3), .ref (A 4), .ref (A 5), .ref (A 6), .ref (A 7), vi (s 0 3), .ref (A 11), .ref (A 12), .ref (A 13), .ref (A 14), .ref (A 15), vi (s 0 4), .ref (A 17), .ref (A 18), .ref (A 19), .ref (A 20), vi (s 0 5), .ref q, .ref (A 25), vi (s 0 9), .ref (A 24)]) : RM (setA A 23 q) M1 (up s 0 6 s6) t := by
  obtain ⟨hm, h1, h2, h3, h4, h5, h6, h7, h10, h11, h12, h13, h14, h15, h17, h18, h19, h20, h23, h24⟩ := hR
  have hz := g_at e
  rw [ho] at hz
  exact ⟨hz, g_fr_t e h1 hm (by decide), g_fr_t e h2 hm (by decide), g_fr_t e h3 hm (by decide), g_fr_t e h4 hm (by decide), g_fr_t e h5 hm (by decide), g_fr_t e h6 hm (by decide), g_fr_t e h7 hm (by decide), g_fr_t e h10 hm (by decide), g_fr_t e h11 hm (by decide), g_fr_t e h12 hm (by decide), g_fr_t e h13 hm (by decide), g_fr_t e h14 hm (by decide), g_fr_t e h15 hm (by decide), g_fr_t e h17 hm (by decide), g_fr_t e h18 hm (by decide), g_fr_t e h19 hm (by decide), g_fr_t e h20 hm (by decide), g_fr_t e hq hm (by decide), g_fr_t e h24 hm (by decide)⟩
theorem setA_self (A : Nat → Nat) (k : Nat) : setA A k (A k) = A := by
  funext j
  unfold setA
  split
  · rename_i h; rw [h]
  · rfl
theorem gUp_self (f : Nat → Int) (i : Nat) : gUp f i (f i) = f := by
  funext b
  by_cases h : b = i
  · rw [h, gUp_s]
  · rw [gUp_n _ _ h]
theorem up_self (s : gS) (k i : Nat) : up s k i (s k i) = s := by
  funext a
  by_cases h : a = k
  · rw [h, up_s, gUp_self]
  · rw [up_n _ _ _ h]
/-- a write to an int array that isn't the claims' -/
theorem RM.off (hR : RM A M s t) {q n : Nat} {f : Nat → Int} {y : Nat × gEnt} (e : gSet M q y = M1) (hq : M q = some (123, gI 0 n f)) (hne : A 23 ≠ q) : RM A M1 s t := by
  obtain ⟨hm, h1, h2, h3, h4, h5, h6, h7, h10, h11, h12, h13, h14, h15, h17, h18, h19, h20, h23, h24⟩ := hR
  exact ⟨g_fr_t e hm hq (by decide), g_fr_t e h1 hq (by decide), g_fr_t e h2 hq (by decide), g_fr_t e h3 hq (by decide), g_fr_t e h4 hq (by decide), g_fr_t e h5 hq (by decide), g_fr_t e h6 hq (by decide), g_fr_t e h7 hq (by decide), g_fr_t e h10 hq (by decide), g_fr_t e h11 hq (by decide), g_fr_t e h12 hq (by decide), g_fr_t e h13 hq (by decide), g_fr_t e h14 hq (by decide), g_fr_t e h15 hq (by decide), g_fr_t e h17 hq (by decide), g_fr_t e h18 hq (by decide), g_fr_t e h19 hq (by decide), g_fr_t e h20 hq (by decide), g_fr e h23 hne, g_fr_t e h24 hq (by decide)⟩
def spRoom (s : gS) : gS := up s 0 6 (if 6 * s 0 5 = s 0 6 then 2 * s 0 6 else s 0 6)
def spAdd1 (s : gS) (n c m : Nat) (x : Int) : gS := up (up (up (up (up (up (up (up s 23 (6 * n) c) 23 (6 * n + 1) m) 23 (6 * n + 2) (s 0 0)) 23 (6 * n + 3) x) 23 (6 * n + 4) x) 23 (6 * n + 5) 0) 0 5 (s 0 5 + 1)) 7 (51 * c + m) (s 7 (51 * c + m) + x)
def spCap (s : gS) (j : Nat) (n : Int) : gS := up s 0 j (if n = s 0 j then s 0 j + max 1 (s 0 j / 2) else s 0 j)
def spAddClaim (s : gS) (c m : Nat) (x : Int) : gS := spCap (spAdd1 (spRoom s) (s 0 5).toNat c m x) 10 (s 0 5)
theorem RM.cap (hR : RM A M s t) {j : Nat} {n : Int} (hj : 10 ≤ j) : RM A M (spCap s j n) t := by
  have e : ∀ i, i < 10 → spCap s j n 0 i = s 0 i := fun i hi => by rw [spCap, up_s, gUp_n _ _ (by omega)]
  have e2 : ∀ k, 1 ≤ k → spCap s j n k = s k := fun k hk => up_n _ _ _ (by omega)
  unfold RM at hR ⊢
  rw [e 0 (by decide), e 1 (by decide), e 2 (by decide), e 3 (by decide), e 4 (by decide), e 5 (by decide), e 6 (by decide), e 9 (by decide), e2 1 (by decide), e2 2 (by decide), e2 3 (by decide), e2 4 (by decide), e2 5 (by decide), e2 6 (by decide), e2 7 (by decide), e2 10 (by decide), e2 11 (by decide), e2 12 (by decide), e2 13 (by decide), e2 14 (by decide), e2 15 (by decide), e2 17 (by decide), e2 18 (by decide), e2 19 (by decide), e2 20 (by decide), e2 23 (by decide), e2 24 (by decide)]
  exact hR
theorem m_X3_addClaim (hl : l.stackTraces = false) (hR : RM A M s t) (hW : WF s) {c m : Nat} {x : Int} (hc : (c : Int) < s 0 2) (hm51 : m < 51) : gMet E l yX3_addClaim wX3_addClaim 0 1 ((if 6 * s 0 5 = s 0 6 then 2 * s 0 6 else 0).toNat) [.ref (A 0), vi c, vi m, vi x] M (fun v M1 => v = none ∧ (∃ q, RM (setA A 23 q) M1 (spAddClaim s c m x) t) ∧ gExt gTM M M1) (fun _ _ _ => False) := by
  have hs := hW.sc
  unfold wfSc at hs
  obtain ⟨n, hn⟩ := i_nat (z := s 0 5) (by omega)
  obtain ⟨hm, -, -, -, -, -, -, -, -, -, -, -, -, -, -, -, -, -, h23, -⟩ := id hR
  have hx0 : gExt gTM M M := gExt.rf
  refine gMet.of hl rfl (Nat.le_of_ble_eq_true rfl) ?_
  intro Z hE hl0 hQ hX C hnm htab
  subst hE; subst hl0
  replace C : gC Z RX3 cX3_addClaim 6 none _ := C
  change G Z _ _ _ 0 [(0, _), (1, _), (2, _), (3, _)] []
  have tail : ∀ (k9 n9 : Nat) (M1 : gM) (q : Nat), RM (setA A 23 q) M1 (spRoom s) t → gExt gTM M M1 → G Z k9 n9 M1 63 [(0, .ref (A 0)), (1, vi c), (2, vi m), (3, vi x)] [] := by
    intro k9 n9 M1 q hR1 hx
    have hz : 6 * s 0 5 + 6 ≤ spRoom s 0 6 ∧ spRoom s 0 6 ≤ 1000000 := by
      show 6 * s 0 5 + 6 ≤ (if 6 * s 0 5 = s 0 6 then 2 * s 0 6 else s 0 6) ∧ (if 6 * s 0 5 = s 0 6 then 2 * s 0 6 else s 0 6) ≤ 1000000
      split <;> omega
    have hm : M1 (A 0) = some (100, gO 12 [vi t, vi (s 0 0), .ref (A 10), vi (s 0 1), vi (s 0 2), .ref (A 9), .ref (A 1), .ref (A 2), .ref (A 3), .ref (A 4), .ref (A 5), .ref (A 6), .ref (A 7), vi (s 0 3), .ref (A 11), .ref (A 12), .ref (A 13), .ref (A 14), .ref (A 15), vi (s 0 4), .ref (A 17), .ref (A 18), .ref (A 19), .ref (A 20), vi (s 0 5), .ref q, .ref (A 25), vi (s 0 9), .ref (A 24)]) := hR1.1
    have h7 : M1 (A 7) = some (107, gI 0 510 (s 7)) := hR1.2.2.2.2.2.2.2.1
    obtain ⟨-, -, -, -, -, -, -, -, -, -, -, -, -, -, -, -, -, -, h23', -⟩ := id hR1
    have h23 : M1 q = some (123, gI 0 (spRoom s 0 6).toNat (s 23)) := h23'
    rw [hn] at hm hz
    refine g_bipush (pc := 63) C dX3_addClaim_63 (by decide) ?_
    refine g_aload_n (pc := 65) C dX3_addClaim_65 0 rfl trivial rfl ?_
    refine g_get (pc := 66) C dX3_addClaim_66 cl12 hm 24 (by decide) q1843 (fun _ h9 => h9) rfl ?_
    refine g_imul (pc := 69) C dX3_addClaim_69 ?_
    refine g_istore (pc := 70) C dX3_addClaim_70 (Nat.le_of_ble_eq_true rfl) rfl (loc1 := [(0, _), (1, _), (2, _), (3, _), (4, _)]) rfl ?_
    refine g_aload_n (pc := 72) C dX3_addClaim_72 0 rfl trivial rfl ?_
    refine g_get (pc := 73) C dX3_addClaim_73 cl12 hm 25 (by decide) q1844 (fun _ h9 => h9) rfl ?_
    refine g_iload (pc := 76) C dX3_addClaim_76 4 rfl ?_
    refine g_iload_n (pc := 78) C dX3_addClaim_78 1 rfl rfl ?_
    refine g_iast (pc := 79) C dX3_addClaim_79 h23 (by decide) (6 * n) (by omega) (by omega) (by omega) ?_
    refine g_nm (fun M_79 e_79 => ?_)
    replace hx := hx.tr (gExt.putE e_79 h23 (by unfold gTM; omega))
    replace h7 := g_fr e_79 h7 (g_ne h7 h23 (by intro e; cases e))
    replace hm := g_fr e_79 hm (g_ne hm h23 (by intro e; cases e))
    replace h23 := g_at e_79
    have hR2 := hR1.w23 e_79
    refine g_aload_n (pc := 80) C dX3_addClaim_80 0 rfl trivial rfl ?_
    refine g_get (pc := 81) C dX3_addClaim_81 cl12 hm 25 (by decide) q1844 (fun _ h9 => h9) rfl ?_
    refine g_iload (pc := 84) C dX3_addClaim_84 4 rfl ?_
    refine g_iconst (pc := 86) C dX3_addClaim_86 ?_
    refine g_iadd (pc := 87) C dX3_addClaim_87 ?_
    refine g_iload_n (pc := 88) C dX3_addClaim_88 2 rfl rfl ?_
    refine g_iast (pc := 89) C dX3_addClaim_89 h23 (by decide) (6 * n + 1) (by omega) (by omega) (by omega) ?_
    refine g_nm (fun M_89 e_89 => ?_)
    replace hx := hx.tr (gExt.putE e_89 h23 (by unfold gTM; omega))
    replace h7 := g_fr e_89 h7 (g_ne h7 h23 (by intro e; cases e))
    replace hm := g_fr e_89 hm (g_ne hm h23 (by intro e; cases e))
    replace h23 := g_at e_89
    have hR3 := hR2.w23 e_89
    refine g_aload_n (pc := 90) C dX3_addClaim_90 0 rfl trivial rfl ?_
    refine g_get (pc := 91) C dX3_addClaim_91 cl12 hm 25 (by decide) q1844 (fun _ h9 => h9) rfl ?_
    refine g_iload (pc := 94) C dX3_addClaim_94 4 rfl ?_
    refine g_iconst (pc := 96) C dX3_addClaim_96 ?_
    refine g_iadd (pc := 97) C dX3_addClaim_97 ?_
    refine g_aload_n (pc := 98) C dX3_addClaim_98 0 rfl trivial rfl ?_
    refine g_get (pc := 99) C dX3_addClaim_99 cl12 hm 1 (by decide) q1820 (fun _ h9 => h9) rfl ?_
    refine g_iast (pc := 102) C dX3_addClaim_102 h23 (by decide) (6 * n + 2) (by omega) (by omega) (by omega) ?_
    refine g_nm (fun M_102 e_102 => ?_)
    replace hx := hx.tr (gExt.putE e_102 h23 (by unfold gTM; omega))
    replace h7 := g_fr e_102 h7 (g_ne h7 h23 (by intro e; cases e))
    replace hm := g_fr e_102 hm (g_ne hm h23 (by intro e; cases e))
    replace h23 := g_at e_102
    have hR4 := hR3.w23 e_102
    refine g_aload_n (pc := 103) C dX3_addClaim_103 0 rfl trivial rfl ?_
    refine g_get (pc := 104) C dX3_addClaim_104 cl12 hm 25 (by decide) q1844 (fun _ h9 => h9) rfl ?_
    refine g_iload (pc := 107) C dX3_addClaim_107 4 rfl ?_
    refine g_iconst (pc := 109) C dX3_addClaim_109 ?_
    refine g_iadd (pc := 110) C dX3_addClaim_110 ?_
    refine g_iload_n (pc := 111) C dX3_addClaim_111 3 rfl rfl ?_
    refine g_iast (pc := 112) C dX3_addClaim_112 h23 (by decide) (6 * n + 3) (by omega) (by omega) (by omega) ?_
    refine g_nm (fun M_112 e_112 => ?_)
    replace hx := hx.tr (gExt.putE e_112 h23 (by unfold gTM; omega))
    replace h7 := g_fr e_112 h7 (g_ne h7 h23 (by intro e; cases e))
    replace hm := g_fr e_112 hm (g_ne hm h23 (by intro e; cases e))
    replace h23 := g_at e_112
    have hR5 := hR4.w23 e_112
    refine g_aload_n (pc := 113) C dX3_addClaim_113 0 rfl trivial rfl ?_
    refine g_get (pc := 114) C dX3_addClaim_114 cl12 hm 25 (by decide) q1844 (fun _ h9 => h9) rfl ?_
    refine g_iload (pc := 117) C dX3_addClaim_117 4 rfl ?_
    refine g_iconst (pc := 119) C dX3_addClaim_119 ?_
    refine g_iadd (pc := 120) C dX3_addClaim_120 ?_
    refine g_iload_n (pc := 121) C dX3_addClaim_121 3 rfl rfl ?_
    refine g_iast (pc := 122) C dX3_addClaim_122 h23 (by decide) (6 * n + 4) (by omega) (by omega) (by omega) ?_
    refine g_nm (fun M_122 e_122 => ?_)
    replace hx := hx.tr (gExt.putE e_122 h23 (by unfold gTM; omega))
    replace h7 := g_fr e_122 h7 (g_ne h7 h23 (by intro e; cases e))
    replace hm := g_fr e_122 hm (g_ne hm h23 (by intro e; cases e))
    replace h23 := g_at e_122
    have hR6 := hR5.w23 e_122
    refine g_aload_n (pc := 123) C dX3_addClaim_123 0 rfl trivial rfl ?_
    refine g_get (pc := 124) C dX3_addClaim_124 cl12 hm 25 (by decide) q1844 (fun _ h9 => h9) rfl ?_
    refine g_iload (pc := 127) C dX3_addClaim_127 4 rfl ?_
    refine g_iconst (pc := 129) C dX3_addClaim_129 ?_
    refine g_iadd (pc := 130) C dX3_addClaim_130 ?_
    refine g_iconst (pc := 131) C dX3_addClaim_131 ?_
    refine g_iast (pc := 132) C dX3_addClaim_132 h23 (by decide) (6 * n + 5) (by omega) (by omega) (by omega) ?_
    refine g_nm (fun M_132 e_132 => ?_)
    replace hx := hx.tr (gExt.putE e_132 h23 (by unfold gTM; omega))
    replace h7 := g_fr e_132 h7 (g_ne h7 h23 (by intro e; cases e))
    replace hm := g_fr e_132 hm (g_ne hm h23 (by intro e; cases e))
    replace h23 := g_at e_132
    have hR7 := hR6.w23 e_132
    refine g_aload_n (pc := 133) C dX3_addClaim_133 0 rfl trivial rfl ?_
    refine g_dup (pc := 134) C dX3_addClaim_134 rfl ?_
    refine g_get (pc := 135) C dX3_addClaim_135 cl12 hm 24 (by decide) q1843 (fun _ h9 => h9) rfl ?_
    refine g_iconst (pc := 138) C dX3_addClaim_138 ?_
    refine g_iadd (pc := 139) C dX3_addClaim_139 ?_
    refine g_put (pc := 140) C dX3_addClaim_140 cl12 hm (by decide) 24 (by decide) q1843 (fun _ h9 => h9) rfl rfl rfl (Nat.le_of_ble_eq_true rfl) (fs1 := [_, _, _, _, _, _, _, _, _, _, _, _, _, _, _, _, _, _, _, _, _, _, _, _, _, _, _, _, _]) rfl ?_
    refine g_nm (fun M_140 e_140 => ?_)
    replace hx := hx.tr (gExt.putE e_140 hm (by unfold gTM; omega))
    replace h7 := g_fr e_140 h7 (g_ne h7 hm (by intro e; cases e))
    replace h23 := g_fr e_140 h23 (g_ne h23 hm (by intro e; cases e))
    replace hm := g_at e_140
    have hR8 := hR7.w0 (i := 5) (v := s 0 5 + 1) e_140 (by decide) (by rw [hn]; rfl)
    refine g_aload_n (pc := 143) C dX3_addClaim_143 0 rfl trivial rfl ?_
    refine g_get (pc := 144) C dX3_addClaim_144 cl12 hm 12 (by decide) q1831 (fun _ h9 => h9) rfl ?_
    refine g_bipush (pc := 147) C dX3_addClaim_147 (by decide) ?_
    refine g_iload_n (pc := 149) C dX3_addClaim_149 1 rfl rfl ?_
    refine g_imul (pc := 150) C dX3_addClaim_150 ?_
    refine g_iload_n (pc := 151) C dX3_addClaim_151 2 rfl rfl ?_
    refine g_iadd (pc := 152) C dX3_addClaim_152 ?_
    refine g_dup2 (pc := 153) C dX3_addClaim_153 rfl rfl ?_
    refine g_iald (pc := 154) C dX3_addClaim_154 h7 (51 * c + m) (by omega) (by omega) (by omega) ?_
    refine g_iload_n (pc := 155) C dX3_addClaim_155 3 rfl rfl ?_
    refine g_iadd (pc := 156) C dX3_addClaim_156 ?_
    refine g_iast (pc := 157) C dX3_addClaim_157 h7 (by decide) (51 * c + m) (by omega) (by omega) (by omega) ?_
    refine g_nm (fun M_157 e_157 => ?_)
    replace hx := hx.tr (gExt.putE e_157 h7 (by unfold gTM; omega))
    replace h23 := g_fr e_157 h23 (g_ne h23 h7 (by intro e; cases e))
    replace hm := g_fr e_157 hm (g_ne hm h7 (by intro e; cases e))
    replace h7 := g_at e_157
    have hR9 := hR8.w7 e_157
    refine g_vret (pc := 158) hQ C ?_ dX3_addClaim_158
    refine ⟨rfl, ⟨q, ?_⟩, hx⟩
    rw [spAddClaim, hn]
    exact RM.cap hR9 (by decide)
  have loop : ∀ (r i : Nat) (M1 : gM) (q k9 n9 : Nat), i + r = (s 0 6).toNat → 6 * s 0 5 = s 0 6 → RM A M1 s t → gExt gTM M M1 → M1 q = some (123, gI 0 (2 * s 0 6).toNat (fun j => if j < i then s 23 j else 0)) → G Z k9 n9 M1 29 [(0, .ref (A 0)), (1, vi c), (2, vi m), (3, vi x), (4, .ref q), (5, vi i)] [] := by
    intro r
    induction r with
    | zero =>
      intro i M1 q k9 n9 hi hg hR1 hx hq
      obtain ⟨hm, -, -, -, -, -, -, -, -, -, -, -, -, -, -, -, -, -, h23, -⟩ := id hR1
      have hf : (fun j => if j < i then s 23 j else 0) = s 23 := by
        funext j
        by_cases h : j < i
        · exact if_pos h
        · rw [if_neg h, hW.zero (by omega)]
      rw [hf] at hq
      refine g_iload (pc := 29) C dX3_addClaim_29 5 rfl ?_
      refine g_aload_n (pc := 31) C dX3_addClaim_31 0 rfl trivial rfl ?_
      refine g_get (pc := 32) C dX3_addClaim_32 cl12 hm 25 (by decide) q1844 (fun _ h9 => h9) rfl ?_
      refine g_alen (pc := 35) C dX3_addClaim_35 h23 (fun _ => rfl) ?_
      refine g_icmp_ge (pc := 36) C dX3_addClaim_36 57 ⟨by omega, by omega⟩ ⟨by omega, by omega⟩ (by decide) (fun c_36 => ?_) (fun c_36 => ?_)
      · skip
        refine g_aload_n (pc := 57) C dX3_addClaim_57 0 rfl trivial rfl ?_
        refine g_aload (pc := 58) C dX3_addClaim_58 4 rfl trivial ?_
        have hq0 := hq
        refine g_put (pc := 60) C dX3_addClaim_60 cl12 hm (by decide) 25 (by decide) q1844 (fun _ h9 => h9) rfl rfl rfl (Nat.le_of_ble_eq_true rfl) (fs1 := [_, _, _, _, _, _, _, _, _, _, _, _, _, _, _, _, _, _, _, _, _, _, _, _, _, _, _, _, _]) rfl ?_
        refine g_nm (fun M_60 e_60 => ?_)
        replace hx := hx.tr (gExt.putE e_60 hm (by unfold gTM; omega))
        replace hq := g_fr e_60 hq (g_ne hq hm (by intro e; cases e))
        replace hm := g_at e_60
        have hR2 := hR1.grow (s6 := 2 * s 0 6) hq0 e_60 rfl
        refine G.drop 4 (loc1 := [(0, _), (1, _), (2, _), (3, _), (5, _)]) rfl ?_
        refine G.drop 4 (loc1 := [(0, _), (1, _), (2, _), (3, _)]) rfl ?_
        refine tail _ _ _ q ?_ hx
        rw [spRoom, if_pos hg]
        exact hR2
      · skip
        omega
    | succ r ih =>
      intro i M1 q k9 n9 hi hg hR1 hx hq
      obtain ⟨hm, -, -, -, -, -, -, -, -, -, -, -, -, -, -, -, -, -, h23, -⟩ := id hR1
      have hne : A 23 ≠ q := g_ne h23 hq (gI_ne (by omega))
      refine g_iload (pc := 29) C dX3_addClaim_29 5 rfl ?_
      refine g_aload_n (pc := 31) C dX3_addClaim_31 0 rfl trivial rfl ?_
      refine g_get (pc := 32) C dX3_addClaim_32 cl12 hm 25 (by decide) q1844 (fun _ h9 => h9) rfl ?_
      refine g_alen (pc := 35) C dX3_addClaim_35 h23 (fun _ => rfl) ?_
      refine g_icmp_ge (pc := 36) C dX3_addClaim_36 57 ⟨by omega, by omega⟩ ⟨by omega, by omega⟩ (by decide) (fun c_36 => ?_) (fun c_36 => ?_)
      · skip
        omega
      · skip
        refine g_aload (pc := 39) C dX3_addClaim_39 4 rfl trivial ?_
        refine g_iload (pc := 41) C dX3_addClaim_41 5 rfl ?_
        refine g_aload_n (pc := 43) C dX3_addClaim_43 0 rfl trivial rfl ?_
        refine g_get (pc := 44) C dX3_addClaim_44 cl12 hm 25 (by decide) q1844 (fun _ h9 => h9) rfl ?_
        refine g_iload (pc := 47) C dX3_addClaim_47 5 rfl ?_
        refine g_iald (pc := 49) C dX3_addClaim_49 h23 i (by omega) (by omega) (by omega) ?_
        have hqo := hq
        refine g_iast (pc := 50) C dX3_addClaim_50 hq (by decide) i (by omega) (by omega) (by omega) ?_
        refine g_nm (fun M_50 e_50 => ?_)
        replace hx := hx.tr (gExt.putE e_50 hq (by unfold gTM; omega))
        replace hm := g_fr e_50 hm (g_ne hm hq (by intro e; cases e))
        replace hq := g_at e_50
        have hR2 := RM.off hR1 e_50 hqo hne
        have hfn : gUp (fun j => if j < i then s 23 j else 0) i (s 23 i) = (fun j => if j < i + 1 then s 23 j else 0) := by
          funext j
          by_cases hj : j = i
          · rw [hj, gUp_s, if_pos (by omega)]
          · rw [gUp_n _ _ hj]
            by_cases h : j < i
            · rw [if_pos h, if_pos (by omega)]
            · rw [if_neg h, if_neg (by omega)]
        rw [hfn] at hq
        refine g_iinc (pc := 51) C dX3_addClaim_51 5 rfl (Nat.le_of_ble_eq_true rfl) rfl (loc1 := [(0, _), (1, _), (2, _), (3, _), (4, _), (5, _)]) rfl ?_
        refine g_goto (pc := 54) C dX3_addClaim_54 29 (by decide) ?_
        exact ih (i + 1) M_50 q _ _ (by omega) hg hR2 hx hq
  refine g_bipush (pc := 0) C dX3_addClaim_0 (by decide) ?_
  refine g_aload_n (pc := 2) C dX3_addClaim_2 0 rfl trivial rfl ?_
  refine g_get (pc := 3) C dX3_addClaim_3 cl12 hm 24 (by decide) q1843 (fun _ h9 => h9) rfl ?_
  refine g_imul (pc := 6) C dX3_addClaim_6 ?_
  refine g_aload_n (pc := 7) C dX3_addClaim_7 0 rfl trivial rfl ?_
  refine g_get (pc := 8) C dX3_addClaim_8 cl12 hm 25 (by decide) q1844 (fun _ h9 => h9) rfl ?_
  refine g_alen (pc := 11) C dX3_addClaim_11 h23 (fun _ => rfl) ?_
  refine g_icmp_ne (pc := 12) C dX3_addClaim_12 63 ⟨by omega, by omega⟩ ⟨by omega, by omega⟩ (by decide) (fun c_12 => ?_) (fun c_12 => ?_)
  · skip
    refine tail _ _ _ (A 23) ?_ hx0
    rw [spRoom, if_neg (by omega), up_self, setA_self]
    exact hR
  · skip
    refine g_iconst (pc := 15) C dX3_addClaim_15 ?_
    refine g_aload_n (pc := 16) C dX3_addClaim_16 0 rfl trivial rfl ?_
    refine g_get (pc := 17) C dX3_addClaim_17 cl12 hm 25 (by decide) q1844 (fun _ h9 => h9) rfl ?_
    refine g_alen (pc := 20) C dX3_addClaim_20 h23 (fun _ => rfl) ?_
    refine g_imul (pc := 21) C dX3_addClaim_21 ?_
    rw [if_pos (by omega)]
    refine g_newI (pc := 22) C dX3_addClaim_22 q538 123 (2 * s 0 6).toNat (by omega) (by omega) (by omega) (by omega) (fun qn1 nn1 => ?_)
    refine g_nm (fun M_22 e_22 => ?_)
    replace h23 := g_fr e_22 h23 (g_ne_new h23 nn1)
    replace hm := g_fr e_22 hm (g_ne_new hm nn1)
    have n1 := g_at e_22
    refine g_astore (pc := 24) C dX3_addClaim_24 trivial (Nat.le_of_ble_eq_true rfl) rfl (loc1 := [(0, _), (1, _), (2, _), (3, _), (4, _)]) rfl ?_
    refine g_iconst (pc := 26) C dX3_addClaim_26 ?_
    refine g_istore (pc := 27) C dX3_addClaim_27 (Nat.le_of_ble_eq_true rfl) rfl (loc1 := [(0, _), (1, _), (2, _), (3, _), (4, _), (5, _)]) rfl ?_
    refine loop (s 0 6).toNat 0 M_22 _ _ _ (by omega) (by omega) (hR.x (gExt.newE e_22 nn1 : gExt gNo M M_22) (fun _ _ _ h => h)) (gExt.newE e_22 nn1) ?_
    rw [n1]; rfl
end
