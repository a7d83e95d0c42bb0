/-! AppealrentModel: what stands behind a form's word -/
set_option maxRecDepth 100000
section
variable {E : gE} {l : Launch} {M M1 : gM} {A : Nat → Nat} {s s1 : gS} {t t1 : Int}
def loF (s : gS) (w : Nat) : Int := if w = 0 then 0 else if w = 1 then 0 else if w = 2 then 1 else max 0 (s 0 0 - 120)
def hiF (s : gS) (w : Nat) : Int := if w = 0 then 1000000 else if w = 1 then 9999999 else if w = 2 then 9 else s 0 0 + 30
def toF (s : gS) : Int := if spSees s (gTxt 8) then 0 else if spSees s (gTxt 9) then 1 else -1
def qFactHere (s : gS) (w : Nat) : Int := if w = 3 then toF s else qReads s (loF s w) (hiF s w)
def spFactHere (s : gS) (w : Nat) : gS := if w = 3 then (if toF s = -1 then s else spPassW s) else spReads s (loF s w) (hiF s w)
theorem m_X3_factHere (hl : l.stackTraces = false) (hR : RM A M s t) (hW : WF s) (hle : s 0 9 ≤ s 0 1) {w : Nat} (hw : w < 5) : gMet E l yX3_factHere wX3_factHere 6 0 0 [.ref (A 0), vi w] M (fun v M1 => v = some (vi (qFactHere s w)) ∧ RM A M1 (spFactHere s w) t ∧ gExt gTM M M1) (fun _ _ _ => False) := by
  have hm := hR.1
  have hs := hW.sc
  unfold wfSc at hs
  refine gMet.of hl rfl (Nat.le_of_ble_eq_true rfl) ?_
  intro Z hE hl0 hQ hX C hnm htab
  subst hE; subst hl0
  replace C : gC Z RX3 cX3_factHere 3 (some .int) _ := C
  change G Z _ _ _ 0 [(0, _), (1, _)] []
  refine G.pure (fun hp => ?_)
  have st := C.2.2.1.st
  have g8 := gStr_k (k := 8) (by decide) st hp
  have g9 := gStr_k (k := 9) (by decide) st hp
  refine g_iload_n (pc := 0) C dX3_factHere_0 1 rfl rfl ?_
  refine g_iconst (pc := 1) C dX3_factHere_1 ?_
  refine g_icmp_eq (pc := 2) C dX3_factHere_2 72 ⟨by omega, by omega⟩ ⟨by omega, by omega⟩ (by decide) (fun c_2 => ?_) (fun c_2 => ?_)
  · skip
    refine g_aload_n (pc := 72) C dX3_factHere_72 0 rfl trivial rfl ?_
    refine g_ldcS (pc := 73) C dX3_factHere_73 (tx := "tenant") (kn := 8) (by decide +kernel) ?_
    refine g_callV (pc := 75) C (m_X3_sees hl hR hW hle g8) cl12 hm q1979 q1981 qs47 q94 q1982 nmX3_sees rfl (by decide) (by decide) (Nat.zero_le _) (Nat.zero_le _) rfl (Nat.le_of_ble_eq_true rfl) dX3_factHere_75 (gkf ?_) gkx
    refine g_ifb_eq (pc := 78) C dX3_factHere_78 85 (by decide) (fun c_78 => ?_) (fun c_78 => ?_)
    · skip
      have d_78 := c_78
      try simp only [decide_eq_true_eq, decide_eq_false_iff_not, Bool.and_eq_true, Bool.and_eq_false_iff, ne_eq, Classical.not_not] at c_78
      refine g_aload_n (pc := 85) C dX3_factHere_85 0 rfl trivial rfl ?_
      refine g_ldcS (pc := 86) C dX3_factHere_86 (tx := "landlord") (kn := 9) (by decide +kernel) ?_
      refine g_callV (pc := 88) C (m_X3_sees hl hR hW hle g9) cl12 hm q1979 q1981 qs47 q94 q1982 nmX3_sees rfl (by decide) (by decide) (Nat.zero_le _) (Nat.zero_le _) rfl (Nat.le_of_ble_eq_true rfl) dX3_factHere_88 (gkf ?_) gkx
      refine g_ifb_eq (pc := 91) C dX3_factHere_91 98 (by decide) (fun c_91 => ?_) (fun c_91 => ?_)
      · skip
        have d_91 := c_91
        try simp only [decide_eq_true_eq, decide_eq_false_iff_not, Bool.and_eq_true, Bool.and_eq_false_iff, ne_eq, Classical.not_not] at c_91
        refine g_iconst (pc := 98) C dX3_factHere_98 ?_
        refine g_istore_n (pc := 99) C dX3_factHere_99 (Nat.le_of_ble_eq_true rfl) rfl rfl (loc1 := [(0, _), (1, _), (2, _)]) rfl ?_
        refine g_iload_n (pc := 100) C dX3_factHere_100 2 rfl rfl ?_
        refine g_iconst (pc := 101) C dX3_factHere_101 ?_
        refine g_icmp_eq (pc := 102) C dX3_factHere_102 109 ⟨by omega, by omega⟩ ⟨by omega, by omega⟩ (by decide) (fun c_102 => ?_) (fun c_102 => ?_)
        · skip
          refine g_iload_n (pc := 109) C dX3_factHere_109 2 rfl rfl ?_
          refine g_iret (pc := 110) hQ C ?_ dX3_factHere_110
          obtain rfl : w = 3 := by omega
          first | (have e : toF s = 0 := (by rw [toF, if_pos c_78]); refine ⟨by rw [qFactHere, if_pos rfl, e], ?_, hx2⟩; rw [spFactHere, if_pos rfl, if_neg (by rw [e]; decide)]; exact hR2) | (have e : toF s = 1 := (by rw [toF, if_neg (by rw [c_78]; decide), if_pos c_91]); refine ⟨by rw [qFactHere, if_pos rfl, e], ?_, hx2⟩; rw [spFactHere, if_pos rfl, if_neg (by rw [e]; decide)]; exact hR2) | (have e : toF s = -1 := (by rw [toF, if_neg (by rw [c_78]; decide), if_neg (by rw [c_91]; decide)]); refine ⟨by rw [qFactHere, if_pos rfl, e], ?_, gExt.rf⟩; rw [spFactHere, if_pos rfl, if_pos e]; exact hR) | omega
        · skip
          refine g_aload_n (pc := 105) C dX3_factHere_105 0 rfl trivial rfl ?_
          refine g_callV (pc := 106) C (m_X3_pass hl hR hW) cl12 hm q1989 q1991 qs49 q94 q1992 nmX3_pass rfl (by decide) (by decide) (by omega) (by omega) rfl (Nat.le_of_ble_eq_true rfl) dX3_factHere_106 (fun v_106 M_106 h_106 => ?_) (fun E_106 q_106 M_106 h_106 => ?_)
          rotate_left
          · exact h_106.elim
          obtain ⟨rfl, hR2, hx2⟩ := h_106
          refine g_iload_n (pc := 109) C dX3_factHere_109 2 rfl rfl ?_
          refine g_iret (pc := 110) hQ C ?_ dX3_factHere_110
          obtain rfl : w = 3 := by omega
          first | (have e : toF s = 0 := (by rw [toF, if_pos c_78]); refine ⟨by rw [qFactHere, if_pos rfl, e], ?_, hx2⟩; rw [spFactHere, if_pos rfl, if_neg (by rw [e]; decide)]; exact hR2) | (have e : toF s = 1 := (by rw [toF, if_neg (by rw [c_78]; decide), if_pos c_91]); refine ⟨by rw [qFactHere, if_pos rfl, e], ?_, hx2⟩; rw [spFactHere, if_pos rfl, if_neg (by rw [e]; decide)]; exact hR2) | (have e : toF s = -1 := (by rw [toF, if_neg (by rw [c_78]; decide), if_neg (by rw [c_91]; decide)]); refine ⟨by rw [qFactHere, if_pos rfl, e], ?_, gExt.rf⟩; rw [spFactHere, if_pos rfl, if_pos e]; exact hR) | omega
      · skip
        have d_91 := c_91
        try simp only [decide_eq_true_eq, decide_eq_false_iff_not, Bool.and_eq_true, Bool.and_eq_false_iff, ne_eq, Classical.not_not] at c_91
        refine g_iconst (pc := 94) C dX3_factHere_94 ?_
        refine g_goto (pc := 95) C dX3_factHere_95 99 (by decide) ?_
        refine g_istore_n (pc := 99) C dX3_factHere_99 (Nat.le_of_ble_eq_true rfl) rfl rfl (loc1 := [(0, _), (1, _), (2, _)]) rfl ?_
        refine g_iload_n (pc := 100) C dX3_factHere_100 2 rfl rfl ?_
        refine g_iconst (pc := 101) C dX3_factHere_101 ?_
        refine g_icmp_eq (pc := 102) C dX3_factHere_102 109 ⟨by omega, by omega⟩ ⟨by omega, by omega⟩ (by decide) (fun c_102 => ?_) (fun c_102 => ?_)
        · skip
          refine g_iload_n (pc := 109) C dX3_factHere_109 2 rfl rfl ?_
          refine g_iret (pc := 110) hQ C ?_ dX3_factHere_110
          obtain rfl : w = 3 := by omega
          first | (have e : toF s = 0 := (by rw [toF, if_pos c_78]); refine ⟨by rw [qFactHere, if_pos rfl, e], ?_, hx2⟩; rw [spFactHere, if_pos rfl, if_neg (by rw [e]; decide)]; exact hR2) | (have e : toF s = 1 := (by rw [toF, if_neg (by rw [c_78]; decide), if_pos c_91]); refine ⟨by rw [qFactHere, if_pos rfl, e], ?_, hx2⟩; rw [spFactHere, if_pos rfl, if_neg (by rw [e]; decide)]; exact hR2) | (have e : toF s = -1 := (by rw [toF, if_neg (by rw [c_78]; decide), if_neg (by rw [c_91]; decide)]); refine ⟨by rw [qFactHere, if_pos rfl, e], ?_, gExt.rf⟩; rw [spFactHere, if_pos rfl, if_pos e]; exact hR) | omega
        · skip
          refine g_aload_n (pc := 105) C dX3_factHere_105 0 rfl trivial rfl ?_
          refine g_callV (pc := 106) C (m_X3_pass hl hR hW) cl12 hm q1989 q1991 qs49 q94 q1992 nmX3_pass rfl (by decide) (by decide) (by omega) (by omega) rfl (Nat.le_of_ble_eq_true rfl) dX3_factHere_106 (fun v_106 M_106 h_106 => ?_) (fun E_106 q_106 M_106 h_106 => ?_)
          rotate_left
          · exact h_106.elim
          obtain ⟨rfl, hR2, hx2⟩ := h_106
          refine g_iload_n (pc := 109) C dX3_factHere_109 2 rfl rfl ?_
          refine g_iret (pc := 110) hQ C ?_ dX3_factHere_110
          obtain rfl : w = 3 := by omega
          first | (have e : toF s = 0 := (by rw [toF, if_pos c_78]); refine ⟨by rw [qFactHere, if_pos rfl, e], ?_, hx2⟩; rw [spFactHere, if_pos rfl, if_neg (by rw [e]; decide)]; exact hR2) | (have e : toF s = 1 := (by rw [toF, if_neg (by rw [c_78]; decide), if_pos c_91]); refine ⟨by rw [qFactHere, if_pos rfl, e], ?_, hx2⟩; rw [spFactHere, if_pos rfl, if_neg (by rw [e]; decide)]; exact hR2) | (have e : toF s = -1 := (by rw [toF, if_neg (by rw [c_78]; decide), if_neg (by rw [c_91]; decide)]); refine ⟨by rw [qFactHere, if_pos rfl, e], ?_, gExt.rf⟩; rw [spFactHere, if_pos rfl, if_pos e]; exact hR) | omega
    · skip
      have d_78 := c_78
      try simp only [decide_eq_true_eq, decide_eq_false_iff_not, Bool.and_eq_true, Bool.and_eq_false_iff, ne_eq, Classical.not_not] at c_78
      refine g_iconst (pc := 81) C dX3_factHere_81 ?_
      refine g_goto (pc := 82) C dX3_factHere_82 99 (by decide) ?_
      refine g_istore_n (pc := 99) C dX3_factHere_99 (Nat.le_of_ble_eq_true rfl) rfl rfl (loc1 := [(0, _), (1, _), (2, _)]) rfl ?_
      refine g_iload_n (pc := 100) C dX3_factHere_100 2 rfl rfl ?_
      refine g_iconst (pc := 101) C dX3_factHere_101 ?_
      refine g_icmp_eq (pc := 102) C dX3_factHere_102 109 ⟨by omega, by omega⟩ ⟨by omega, by omega⟩ (by decide) (fun c_102 => ?_) (fun c_102 => ?_)
      · skip
        refine g_iload_n (pc := 109) C dX3_factHere_109 2 rfl rfl ?_
        refine g_iret (pc := 110) hQ C ?_ dX3_factHere_110
        obtain rfl : w = 3 := by omega
        first | (have e : toF s = 0 := (by rw [toF, if_pos c_78]); refine ⟨by rw [qFactHere, if_pos rfl, e], ?_, hx2⟩; rw [spFactHere, if_pos rfl, if_neg (by rw [e]; decide)]; exact hR2) | (have e : toF s = 1 := (by rw [toF, if_neg (by rw [c_78]; decide), if_pos c_91]); refine ⟨by rw [qFactHere, if_pos rfl, e], ?_, hx2⟩; rw [spFactHere, if_pos rfl, if_neg (by rw [e]; decide)]; exact hR2) | (have e : toF s = -1 := (by rw [toF, if_neg (by rw [c_78]; decide), if_neg (by rw [c_91]; decide)]); refine ⟨by rw [qFactHere, if_pos rfl, e], ?_, gExt.rf⟩; rw [spFactHere, if_pos rfl, if_pos e]; exact hR) | omega
      · skip
        refine g_aload_n (pc := 105) C dX3_factHere_105 0 rfl trivial rfl ?_
        refine g_callV (pc := 106) C (m_X3_pass hl hR hW) cl12 hm q1989 q1991 qs49 q94 q1992 nmX3_pass rfl (by decide) (by decide) (by omega) (by omega) rfl (Nat.le_of_ble_eq_true rfl) dX3_factHere_106 (fun v_106 M_106 h_106 => ?_) (fun E_106 q_106 M_106 h_106 => ?_)
        rotate_left
        · exact h_106.elim
        obtain ⟨rfl, hR2, hx2⟩ := h_106
        refine g_iload_n (pc := 109) C dX3_factHere_109 2 rfl rfl ?_
        refine g_iret (pc := 110) hQ C ?_ dX3_factHere_110
        obtain rfl : w = 3 := by omega
        first | (have e : toF s = 0 := (by rw [toF, if_pos c_78]); refine ⟨by rw [qFactHere, if_pos rfl, e], ?_, hx2⟩; rw [spFactHere, if_pos rfl, if_neg (by rw [e]; decide)]; exact hR2) | (have e : toF s = 1 := (by rw [toF, if_neg (by rw [c_78]; decide), if_pos c_91]); refine ⟨by rw [qFactHere, if_pos rfl, e], ?_, hx2⟩; rw [spFactHere, if_pos rfl, if_neg (by rw [e]; decide)]; exact hR2) | (have e : toF s = -1 := (by rw [toF, if_neg (by rw [c_78]; decide), if_neg (by rw [c_91]; decide)]); refine ⟨by rw [qFactHere, if_pos rfl, e], ?_, gExt.rf⟩; rw [spFactHere, if_pos rfl, if_pos e]; exact hR) | omega
  · skip
    refine g_iload_n (pc := 5) C dX3_factHere_5 1 rfl rfl ?_
    refine g_if_ne (pc := 6) C dX3_factHere_6 19 ⟨by omega, by omega⟩ (by decide) (fun c_6 => ?_) (fun c_6 => ?_)
    · skip
      refine g_iload_n (pc := 19) C dX3_factHere_19 1 rfl rfl ?_
      refine g_iconst (pc := 20) C dX3_factHere_20 ?_
      refine g_icmp_ne (pc := 21) C dX3_factHere_21 34 ⟨by omega, by omega⟩ ⟨by omega, by omega⟩ (by decide) (fun c_21 => ?_) (fun c_21 => ?_)
      · skip
        refine g_iload_n (pc := 34) C dX3_factHere_34 1 rfl rfl ?_
        refine g_iconst (pc := 35) C dX3_factHere_35 ?_
        refine g_icmp_ne (pc := 36) C dX3_factHere_36 49 ⟨by omega, by omega⟩ ⟨by omega, by omega⟩ (by decide) (fun c_36 => ?_) (fun c_36 => ?_)
        · skip
          refine g_aload_n (pc := 49) C dX3_factHere_49 0 rfl trivial rfl ?_
          refine g_iconst (pc := 50) C dX3_factHere_50 ?_
          refine g_aload_n (pc := 51) C dX3_factHere_51 0 rfl trivial rfl ?_
          refine g_get (pc := 52) C dX3_factHere_52 cl12 hm 1 (by decide) q1820 (fun _ h9 => h9) rfl ?_
          refine g_bipush (pc := 55) C dX3_factHere_55 (by decide) ?_
          refine g_isub (pc := 57) C dX3_factHere_57 ?_
          refine g_mmax (pc := 58) C dX3_factHere_58 ⟨by omega, by omega⟩ ⟨by omega, by omega⟩ q2004 (by decide) (Nat.le_of_ble_eq_true rfl) ?_
          refine g_aload_n (pc := 61) C dX3_factHere_61 0 rfl trivial rfl ?_
          refine g_get (pc := 62) C dX3_factHere_62 cl12 hm 1 (by decide) q1820 (fun _ h9 => h9) rfl ?_
          refine g_bipush (pc := 65) C dX3_factHere_65 (by decide) ?_
          refine g_iadd (pc := 67) C dX3_factHere_67 ?_
          refine g_callV (pc := 68) C (m_X3_reads hl hR hW hle ⟨by omega, by omega⟩ ⟨by omega, by omega⟩) cl12 hm q1998 q2000 qs51 q94 q2001 nmX3_reads rfl (by decide) (by decide) (by omega) (by omega) rfl (Nat.le_of_ble_eq_true rfl) dX3_factHere_68 (fun v_68 M_68 h_68 => ?_) (fun E_68 q_68 M_68 h_68 => ?_)
          rotate_left
          · exact h_68.elim
          obtain ⟨rfl, hR2, hx2⟩ := h_68
          refine g_iret (pc := 71) hQ C ?_ dX3_factHere_71
          first | (obtain rfl : w = 0 := (by omega); exact ⟨rfl, hR2, hx2⟩) | (obtain rfl : w = 1 := (by omega); exact ⟨rfl, hR2, hx2⟩) | (obtain rfl : w = 2 := (by omega); exact ⟨rfl, hR2, hx2⟩) | (obtain rfl : w = 4 := (by omega); exact ⟨rfl, hR2, hx2⟩)
        · skip
          refine g_aload_n (pc := 39) C dX3_factHere_39 0 rfl trivial rfl ?_
          refine g_iconst (pc := 40) C dX3_factHere_40 ?_
          refine g_bipush (pc := 41) C dX3_factHere_41 (by decide) ?_
          refine g_callV (pc := 43) C (m_X3_reads hl hR hW hle ⟨by omega, by omega⟩ ⟨by omega, by omega⟩) cl12 hm q1998 q2000 qs51 q94 q2001 nmX3_reads rfl (by decide) (by decide) (by omega) (by omega) rfl (Nat.le_of_ble_eq_true rfl) dX3_factHere_43 (fun v_43 M_43 h_43 => ?_) (fun E_43 q_43 M_43 h_43 => ?_)
          rotate_left
          · exact h_43.elim
          obtain ⟨rfl, hR2, hx2⟩ := h_43
          refine g_goto (pc := 46) C dX3_factHere_46 71 (by decide) ?_
          refine g_iret (pc := 71) hQ C ?_ dX3_factHere_71
          first | (obtain rfl : w = 0 := (by omega); exact ⟨rfl, hR2, hx2⟩) | (obtain rfl : w = 1 := (by omega); exact ⟨rfl, hR2, hx2⟩) | (obtain rfl : w = 2 := (by omega); exact ⟨rfl, hR2, hx2⟩) | (obtain rfl : w = 4 := (by omega); exact ⟨rfl, hR2, hx2⟩)
      · skip
        refine g_aload_n (pc := 24) C dX3_factHere_24 0 rfl trivial rfl ?_
        refine g_iconst (pc := 25) C dX3_factHere_25 ?_
        refine g_ldc (pc := 26) C dX3_factHere_26 (x := iv 9999999) q2003 ?_
        refine g_callV (pc := 28) C (m_X3_reads hl hR hW hle ⟨by omega, by omega⟩ ⟨by omega, by omega⟩) cl12 hm q1998 q2000 qs51 q94 q2001 nmX3_reads rfl (by decide) (by decide) (by omega) (by omega) rfl (Nat.le_of_ble_eq_true rfl) dX3_factHere_28 (fun v_28 M_28 h_28 => ?_) (fun E_28 q_28 M_28 h_28 => ?_)
        rotate_left
        · exact h_28.elim
        obtain ⟨rfl, hR2, hx2⟩ := h_28
        refine g_goto (pc := 31) C dX3_factHere_31 71 (by decide) ?_
        refine g_iret (pc := 71) hQ C ?_ dX3_factHere_71
        first | (obtain rfl : w = 0 := (by omega); exact ⟨rfl, hR2, hx2⟩) | (obtain rfl : w = 1 := (by omega); exact ⟨rfl, hR2, hx2⟩) | (obtain rfl : w = 2 := (by omega); exact ⟨rfl, hR2, hx2⟩) | (obtain rfl : w = 4 := (by omega); exact ⟨rfl, hR2, hx2⟩)
    · skip
      refine g_aload_n (pc := 9) C dX3_factHere_9 0 rfl trivial rfl ?_
      refine g_iconst (pc := 10) C dX3_factHere_10 ?_
      refine g_ldc (pc := 11) C dX3_factHere_11 (x := iv 1000000) q1997 ?_
      refine g_callV (pc := 13) C (m_X3_reads hl hR hW hle ⟨by omega, by omega⟩ ⟨by omega, by omega⟩) cl12 hm q1998 q2000 qs51 q94 q2001 nmX3_reads rfl (by decide) (by decide) (by omega) (by omega) rfl (Nat.le_of_ble_eq_true rfl) dX3_factHere_13 (fun v_13 M_13 h_13 => ?_) (fun E_13 q_13 M_13 h_13 => ?_)
      rotate_left
      · exact h_13.elim
      obtain ⟨rfl, hR2, hx2⟩ := h_13
      refine g_goto (pc := 16) C dX3_factHere_16 71 (by decide) ?_
      refine g_iret (pc := 71) hQ C ?_ dX3_factHere_71
      first | (obtain rfl : w = 0 := (by omega); exact ⟨rfl, hR2, hx2⟩) | (obtain rfl : w = 1 := (by omega); exact ⟨rfl, hR2, hx2⟩) | (obtain rfl : w = 2 := (by omega); exact ⟨rfl, hR2, hx2⟩) | (obtain rfl : w = 4 := (by omega); exact ⟨rfl, hR2, hx2⟩)
end
