/-! AppealrentModel: prove, end -/
set_option maxRecDepth 100000
section
variable {E : gE} {l : Launch} {M M1 : gM} {A : Nat → Nat} {s s1 : gS} {t t1 : Int}
theorem m_X3_prove (hl : l.stackTraces = false) (hR : RM A M s t) (hW : WF s) (hb : spSpent s ≤ 63) {k : Int} (r1 : r32 k) : gMet E l yX3_prove wX3_prove 3 0 0 [.ref (A 0), vi k] M (mRes A M (spProve s k) (qProve s k) (kProve s k)) (fun _ _ _ => False) := by
  obtain ⟨hm, h1, h2, h3, h4, h5, h6, h7, h10, h11, h12, h13, h14, h15, h17, h18, h19, h20, h23, h24⟩ := id hR
  have hs := hW.sc
  unfold wfSc at hs
  obtain ⟨r11, r12⟩ := r1
  refine gMet.of hl rfl (Nat.le_of_ble_eq_true rfl) ?_
  intro Z hE hl0 hQ hX C hnm htab
  subst hE; subst hl0
  replace C : gC Z RX3 cX3_prove 3 (some .int) _ := C
  change G Z _ _ _ 0 [(0, _), (1, _)] []
  refine g_aload_n (pc := 0) C dX3_prove_0 0 rfl trivial rfl ?_
  refine g_iload_n (pc := 1) C dX3_prove_1 1 rfl rfl ?_
  refine g_callV (pc := 2) C (m_X3_isForm hl hR hW ⟨by omega, by omega⟩) cl12 hm q2015 q2017 qs53 q94 q2018 nmX3_isForm rfl (by decide) (by decide) (Nat.zero_le _) (Nat.zero_le _) rfl (Nat.le_of_ble_eq_true rfl) dX3_prove_2 (gkf ?_) gkx
  refine g_istore_n (pc := 5) C dX3_prove_5 (Nat.le_of_ble_eq_true rfl) rfl rfl (loc1 := [(0, _), (1, _), (2, _)]) rfl ?_
  refine g_aload_n (pc := 6) C dX3_prove_6 0 rfl trivial rfl ?_
  refine g_iload_n (pc := 7) C dX3_prove_7 2 rfl rfl ?_
  refine g_iload_n (pc := 8) C dX3_prove_8 2 rfl rfl ?_
  refine g_ifb_eq (pc := 9) C dX3_prove_9 25 (by decide) (fun c_9 => ?_) (fun c_9 => ?_)
  · skip
    have d_9 := c_9
    try simp only [decide_eq_true_eq, decide_eq_false_iff_not, Bool.and_eq_true, Bool.and_eq_false_iff, ne_eq, Classical.not_not] at c_9
    refine g_iconst (pc := 25) C dX3_prove_25 ?_
    refine g_callV (pc := 26) C (m_X3_fits hl hR (p := okF s k) (q := okF s k && decide (s 14 k.toNat = 0))) cl12 hm q1922 q1924 qs40 q94 q1925 nmX3_fits rfl (by decide) (by decide) (by omega) (by omega) (by first | (rw [b2_1 (show (okF s k && decide (s 14 k.toNat = 0)) = true by simp only [okF, Bool.and_eq_true, decide_eq_true_eq]; omega)]; rfl) | (rw [b2_z0 (show (okF s k && decide (s 14 k.toNat = 0)) = false by simp only [okF, Bool.and_eq_false_iff, decide_eq_false_iff_not]; omega)]; rfl)) (Nat.le_of_ble_eq_true rfl) dX3_prove_26 (fun v_26 M_26 h_26 => ?_) (fun E_26 q_26 M_26 h_26 => ?_)
    rotate_left
    · exact h_26.elim
    obtain ⟨rfl, hR1, hx⟩ := h_26
    obtain ⟨hm, h1, h2, h3, h4, h5, h6, h7, h10, h11, h12, h13, h14, -⟩ := id hR1
    refine g_ifb_ne (pc := 29) C dX3_prove_29 34 (by decide) (fun c_29 => ?_) (fun c_29 => ?_)
    · skip
      have d_29 := c_29
      try simp only [decide_eq_true_eq, decide_eq_false_iff_not, Bool.and_eq_true, Bool.and_eq_false_iff, ne_eq, Classical.not_not] at c_29
      simp only [okF, Bool.and_eq_true, decide_eq_true_eq] at c_29
      refine g_aload_n (pc := 34) C dX3_prove_34 0 rfl trivial rfl ?_
      refine g_get (pc := 35) C dX3_prove_35 cl12 hm 17 (by decide) q1836 (fun _ h9 => h9) rfl ?_
      refine g_iload_n (pc := 38) C dX3_prove_38 1 rfl rfl ?_
      refine g_iconst (pc := 39) C dX3_prove_39 ?_
      have hx2 := gT1_TM hx (by decide)
      refine g_iast (pc := 40) C dX3_prove_40 h14 (by decide) k.toNat (by omega) (by omega) (by omega) ?_
      refine g_nm (fun M_40 e_40 => ?_)
      replace hx2 := hx2.tr (gExt.putE e_40 h14 (by unfold gTM; omega))
      replace hm := g_fr e_40 hm (g_ne hm h14 (by intro e; cases e))
      replace h14 := g_at e_40
      have hR2 : RM A M_40 (spProveAt s k.toNat) _ := hR1.w14 e_40
      have hW2 := WF_proveAt hW hb (f := k.toNat) (by omega) c_29.2.2
      refine g_aload_n (pc := 41) C dX3_prove_41 0 rfl trivial rfl ?_
      refine g_iconst (pc := 42) C dX3_prove_42 ?_
      refine g_callV (pc := 43) C (m_X3_formsIn hl hR2 hW2 ⟨by decide, by decide⟩) cl12 hm q2019 q2021 qs54 q94 q2022 nmX3_formsIn rfl (by decide) (by decide) (Nat.zero_le _) (Nat.zero_le _) rfl (Nat.le_of_ble_eq_true rfl) dX3_prove_43 (gkf ?_) gkx
      refine g_iret (pc := 46) hQ C ?_ dX3_prove_46
      exact ⟨by rw [qProve, if_pos d_29], by rw [spProve, if_pos d_29]; exact hR2, hx2⟩
    · skip
      have d_29 := c_29
      try simp only [decide_eq_true_eq, decide_eq_false_iff_not, Bool.and_eq_true, Bool.and_eq_false_iff, ne_eq, Classical.not_not] at c_29
      refine g_iconst (pc := 32) C dX3_prove_32 ?_
      refine g_iret (pc := 33) hQ C ?_ dX3_prove_33
      exact ⟨by rw [qProve, if_neg (by rw [d_29]; exact Bool.false_ne_true)], by rw [spProve, if_neg (by rw [d_29]; exact Bool.false_ne_true)]; exact hR1, gT1_TM hx (by decide)⟩
  · skip
    have d_9 := c_9
    try simp only [decide_eq_true_eq, decide_eq_false_iff_not, Bool.and_eq_true, Bool.and_eq_false_iff, ne_eq, Classical.not_not] at c_9
    have hcl := hW.form (f := k.toNat) (by omega)
    unfold wfForm at hcl
    refine g_aload_n (pc := 12) C dX3_prove_12 0 rfl trivial rfl ?_
    refine g_get (pc := 13) C dX3_prove_13 cl12 hm 17 (by decide) q1836 (fun _ h9 => h9) rfl ?_
    refine g_iload_n (pc := 16) C dX3_prove_16 1 rfl rfl ?_
    refine g_iald (pc := 17) C dX3_prove_17 h14 k.toNat (by omega) (by omega) (by omega) ?_
    refine g_if_ne (pc := 18) C dX3_prove_18 25 ⟨by omega, by omega⟩ (by decide) (fun c_18 => ?_) (fun c_18 => ?_)
    · skip
      refine g_iconst (pc := 25) C dX3_prove_25 ?_
      refine g_callV (pc := 26) C (m_X3_fits hl hR (p := okF s k) (q := okF s k && decide (s 14 k.toNat = 0))) cl12 hm q1922 q1924 qs40 q94 q1925 nmX3_fits rfl (by decide) (by decide) (by omega) (by omega) (by first | (rw [b2_1 (show (okF s k && decide (s 14 k.toNat = 0)) = true by simp only [okF, Bool.and_eq_true, decide_eq_true_eq]; omega)]; rfl) | (rw [b2_z0 (show (okF s k && decide (s 14 k.toNat = 0)) = false by simp only [okF, Bool.and_eq_false_iff, decide_eq_false_iff_not]; omega)]; rfl)) (Nat.le_of_ble_eq_true rfl) dX3_prove_26 (fun v_26 M_26 h_26 => ?_) (fun E_26 q_26 M_26 h_26 => ?_)
      rotate_left
      · exact h_26.elim
      obtain ⟨rfl, hR1, hx⟩ := h_26
      obtain ⟨hm, h1, h2, h3, h4, h5, h6, h7, h10, h11, h12, h13, h14, -⟩ := id hR1
      refine g_ifb_ne (pc := 29) C dX3_prove_29 34 (by decide) (fun c_29 => ?_) (fun c_29 => ?_)
      · skip
        have d_29 := c_29
        try simp only [decide_eq_true_eq, decide_eq_false_iff_not, Bool.and_eq_true, Bool.and_eq_false_iff, ne_eq, Classical.not_not] at c_29
        simp only [okF, Bool.and_eq_true, decide_eq_true_eq] at c_29
        refine g_aload_n (pc := 34) C dX3_prove_34 0 rfl trivial rfl ?_
        refine g_get (pc := 35) C dX3_prove_35 cl12 hm 17 (by decide) q1836 (fun _ h9 => h9) rfl ?_
        refine g_iload_n (pc := 38) C dX3_prove_38 1 rfl rfl ?_
        refine g_iconst (pc := 39) C dX3_prove_39 ?_
        have hx2 := gT1_TM hx (by decide)
        refine g_iast (pc := 40) C dX3_prove_40 h14 (by decide) k.toNat (by omega) (by omega) (by omega) ?_
        refine g_nm (fun M_40 e_40 => ?_)
        replace hx2 := hx2.tr (gExt.putE e_40 h14 (by unfold gTM; omega))
        replace hm := g_fr e_40 hm (g_ne hm h14 (by intro e; cases e))
        replace h14 := g_at e_40
        have hR2 : RM A M_40 (spProveAt s k.toNat) _ := hR1.w14 e_40
        have hW2 := WF_proveAt hW hb (f := k.toNat) (by omega) c_29.2.2
        refine g_aload_n (pc := 41) C dX3_prove_41 0 rfl trivial rfl ?_
        refine g_iconst (pc := 42) C dX3_prove_42 ?_
        refine g_callV (pc := 43) C (m_X3_formsIn hl hR2 hW2 ⟨by decide, by decide⟩) cl12 hm q2019 q2021 qs54 q94 q2022 nmX3_formsIn rfl (by decide) (by decide) (Nat.zero_le _) (Nat.zero_le _) rfl (Nat.le_of_ble_eq_true rfl) dX3_prove_43 (gkf ?_) gkx
        refine g_iret (pc := 46) hQ C ?_ dX3_prove_46
        exact ⟨by rw [qProve, if_pos d_29], by rw [spProve, if_pos d_29]; exact hR2, hx2⟩
      · skip
        have d_29 := c_29
        try simp only [decide_eq_true_eq, decide_eq_false_iff_not, Bool.and_eq_true, Bool.and_eq_false_iff, ne_eq, Classical.not_not] at c_29
        refine g_iconst (pc := 32) C dX3_prove_32 ?_
        refine g_iret (pc := 33) hQ C ?_ dX3_prove_33
        exact ⟨by rw [qProve, if_neg (by rw [d_29]; exact Bool.false_ne_true)], by rw [spProve, if_neg (by rw [d_29]; exact Bool.false_ne_true)]; exact hR1, gT1_TM hx (by decide)⟩
    · skip
      refine g_iconst (pc := 21) C dX3_prove_21 ?_
      refine g_goto (pc := 22) C dX3_prove_22 26 (by decide) ?_
      refine g_callV (pc := 26) C (m_X3_fits hl hR (p := okF s k) (q := okF s k && decide (s 14 k.toNat = 0))) cl12 hm q1922 q1924 qs40 q94 q1925 nmX3_fits rfl (by decide) (by decide) (by omega) (by omega) (by first | (rw [b2_1 (show (okF s k && decide (s 14 k.toNat = 0)) = true by simp only [okF, Bool.and_eq_true, decide_eq_true_eq]; omega)]; rfl) | (rw [b2_z0 (show (okF s k && decide (s 14 k.toNat = 0)) = false by simp only [okF, Bool.and_eq_false_iff, decide_eq_false_iff_not]; omega)]; rfl)) (Nat.le_of_ble_eq_true rfl) dX3_prove_26 (fun v_26 M_26 h_26 => ?_) (fun E_26 q_26 M_26 h_26 => ?_)
      rotate_left
      · exact h_26.elim
      obtain ⟨rfl, hR1, hx⟩ := h_26
      obtain ⟨hm, h1, h2, h3, h4, h5, h6, h7, h10, h11, h12, h13, h14, -⟩ := id hR1
      refine g_ifb_ne (pc := 29) C dX3_prove_29 34 (by decide) (fun c_29 => ?_) (fun c_29 => ?_)
      · skip
        have d_29 := c_29
        try simp only [decide_eq_true_eq, decide_eq_false_iff_not, Bool.and_eq_true, Bool.and_eq_false_iff, ne_eq, Classical.not_not] at c_29
        simp only [okF, Bool.and_eq_true, decide_eq_true_eq] at c_29
        refine g_aload_n (pc := 34) C dX3_prove_34 0 rfl trivial rfl ?_
        refine g_get (pc := 35) C dX3_prove_35 cl12 hm 17 (by decide) q1836 (fun _ h9 => h9) rfl ?_
        refine g_iload_n (pc := 38) C dX3_prove_38 1 rfl rfl ?_
        refine g_iconst (pc := 39) C dX3_prove_39 ?_
        have hx2 := gT1_TM hx (by decide)
        refine g_iast (pc := 40) C dX3_prove_40 h14 (by decide) k.toNat (by omega) (by omega) (by omega) ?_
        refine g_nm (fun M_40 e_40 => ?_)
        replace hx2 := hx2.tr (gExt.putE e_40 h14 (by unfold gTM; omega))
        replace hm := g_fr e_40 hm (g_ne hm h14 (by intro e; cases e))
        replace h14 := g_at e_40
        have hR2 : RM A M_40 (spProveAt s k.toNat) _ := hR1.w14 e_40
        have hW2 := WF_proveAt hW hb (f := k.toNat) (by omega) c_29.2.2
        refine g_aload_n (pc := 41) C dX3_prove_41 0 rfl trivial rfl ?_
        refine g_iconst (pc := 42) C dX3_prove_42 ?_
        refine g_callV (pc := 43) C (m_X3_formsIn hl hR2 hW2 ⟨by decide, by decide⟩) cl12 hm q2019 q2021 qs54 q94 q2022 nmX3_formsIn rfl (by decide) (by decide) (Nat.zero_le _) (Nat.zero_le _) rfl (Nat.le_of_ble_eq_true rfl) dX3_prove_43 (gkf ?_) gkx
        refine g_iret (pc := 46) hQ C ?_ dX3_prove_46
        exact ⟨by rw [qProve, if_pos d_29], by rw [spProve, if_pos d_29]; exact hR2, hx2⟩
      · skip
        have d_29 := c_29
        try simp only [decide_eq_true_eq, decide_eq_false_iff_not, Bool.and_eq_true, Bool.and_eq_false_iff, ne_eq, Classical.not_not] at c_29
        refine g_iconst (pc := 32) C dX3_prove_32 ?_
        refine g_iret (pc := 33) hQ C ?_ dX3_prove_33
        exact ⟨by rw [qProve, if_neg (by rw [d_29]; exact Bool.false_ne_true)], by rw [spProve, if_neg (by rw [d_29]; exact Bool.false_ne_true)]; exact hR1, gT1_TM hx (by decide)⟩
theorem m_X3_end (hl : l.stackTraces = false) (hR : RM A M s t) (hW : WF s) {k : Int} (r1 : r32 k) : gMet E l yX3_end wX3_end 3 0 0 [.ref (A 0), vi k] M (mRes A M (spEnd s k) (qEnd s k) (kEnd s k)) (fun _ _ _ => False) := by
  obtain ⟨hm, h1, h2, h3, h4, h5, h6, h7, h10, h11, h12, h13, h14, h15, h17, h18, h19, h20, h23, h24⟩ := id hR
  have hs := hW.sc
  unfold wfSc at hs
  obtain ⟨r11, r12⟩ := r1
  refine gMet.of hl rfl (Nat.le_of_ble_eq_true rfl) ?_
  intro Z hE hl0 hQ hX C hnm htab
  subst hE; subst hl0
  replace C : gC Z RX3 cX3_end 3 (some .int) _ := C
  change G Z _ _ _ 0 [(0, _), (1, _)] []
  refine g_aload_n (pc := 0) C dX3_end_0 0 rfl trivial rfl ?_
  refine g_iload_n (pc := 1) C dX3_end_1 1 rfl rfl ?_
  refine g_callV (pc := 2) C (m_X3_isCase hl hR hW ⟨by omega, by omega⟩) cl12 hm q1943 q1945 qs42 q94 q1946 nmX3_isCase rfl (by decide) (by decide) (Nat.zero_le _) (Nat.zero_le _) rfl (Nat.le_of_ble_eq_true rfl) dX3_end_2 (gkf ?_) gkx
  refine g_istore_n (pc := 5) C dX3_end_5 (Nat.le_of_ble_eq_true rfl) rfl rfl (loc1 := [(0, _), (1, _), (2, _)]) rfl ?_
  refine g_aload_n (pc := 6) C dX3_end_6 0 rfl trivial rfl ?_
  refine g_iload_n (pc := 7) C dX3_end_7 2 rfl rfl ?_
  refine g_iload_n (pc := 8) C dX3_end_8 2 rfl rfl ?_
  refine g_ifb_eq (pc := 9) C dX3_end_9 24 (by decide) (fun c_9 => ?_) (fun c_9 => ?_)
  · skip
    have d_9 := c_9
    try simp only [decide_eq_true_eq, decide_eq_false_iff_not, Bool.and_eq_true, Bool.and_eq_false_iff, ne_eq, Classical.not_not] at c_9
    refine g_iconst (pc := 24) C dX3_end_24 ?_
    refine g_callV (pc := 25) C (m_X3_fits hl hR (p := okC s k) (q := okC s k && decide (s 2 k.toNat = -1))) cl12 hm q1922 q1924 qs40 q94 q1925 nmX3_fits rfl (by decide) (by decide) (by omega) (by omega) (by first | (rw [b2_1 (show (okC s k && decide (s 2 k.toNat = -1)) = true by simp only [okC, Bool.and_eq_true, decide_eq_true_eq]; omega)]; rfl) | (rw [b2_z0 (show (okC s k && decide (s 2 k.toNat = -1)) = false by simp only [okC, Bool.and_eq_false_iff, decide_eq_false_iff_not]; omega)]; rfl)) (Nat.le_of_ble_eq_true rfl) dX3_end_25 (fun v_25 M_25 h_25 => ?_) (fun E_25 q_25 M_25 h_25 => ?_)
    rotate_left
    · exact h_25.elim
    obtain ⟨rfl, hR1, hx⟩ := h_25
    obtain ⟨hm, h1, h2, -⟩ := id hR1
    refine g_ifb_ne (pc := 28) C dX3_end_28 33 (by decide) (fun c_28 => ?_) (fun c_28 => ?_)
    · skip
      have d_28 := c_28
      try simp only [decide_eq_true_eq, decide_eq_false_iff_not, Bool.and_eq_true, Bool.and_eq_false_iff, ne_eq, Classical.not_not] at c_28
      simp only [okC, Bool.and_eq_true, decide_eq_true_eq] at c_28
      refine g_aload_n (pc := 33) C dX3_end_33 0 rfl trivial rfl ?_
      refine g_get (pc := 34) C dX3_end_34 cl12 hm 7 (by decide) q1826 (fun _ h9 => h9) rfl ?_
      refine g_iload_n (pc := 37) C dX3_end_37 1 rfl rfl ?_
      refine g_aload_n (pc := 38) C dX3_end_38 0 rfl trivial rfl ?_
      refine g_get (pc := 39) C dX3_end_39 cl12 hm 1 (by decide) q1820 (fun _ h9 => h9) rfl ?_
      have hx2 := gT1_TM hx (by decide)
      refine g_iast (pc := 42) C dX3_end_42 h2 (by decide) k.toNat (by omega) (by omega) (by omega) ?_
      refine g_nm (fun M_42 e_42 => ?_)
      replace hx2 := hx2.tr (gExt.putE e_42 h2 (by unfold gTM; omega))
      replace hm := g_fr e_42 hm (g_ne hm h2 (by intro e; cases e))
      replace h2 := g_at e_42
      have hR2 : RM A M_42 (spEndAt s k.toNat) _ := hR1.w2 e_42
      have hW2 := WF_endAt hW (c := k.toNat) (by omega) c_28.2.2
      refine g_aload_n (pc := 43) C dX3_end_43 0 rfl trivial rfl ?_
      refine g_get (pc := 44) C dX3_end_44 cl12 hm 4 (by decide) q1823 (fun _ h9 => h9) rfl ?_
      refine g_aload_n (pc := 47) C dX3_end_47 0 rfl trivial rfl ?_
      refine g_callV (pc := 48) C (m_X3_endedOnes hl hR2 hW2) cl12 hm q1951 q1953 qs44 q94 q1954 nmX3_endedOnes rfl (by decide) (by decide) (Nat.zero_le _) (Nat.zero_le _) rfl (Nat.le_of_ble_eq_true rfl) dX3_end_48 (gkf ?_) gkx
      refine g_isub (pc := 51) C dX3_end_51 ?_
      refine g_iret (pc := 52) hQ C ?_ dX3_end_52
      exact ⟨by rw [qEnd, if_pos d_28], by rw [spEnd, if_pos d_28]; exact hR2, hx2⟩
    · skip
      have d_28 := c_28
      try simp only [decide_eq_true_eq, decide_eq_false_iff_not, Bool.and_eq_true, Bool.and_eq_false_iff, ne_eq, Classical.not_not] at c_28
      refine g_iconst (pc := 31) C dX3_end_31 ?_
      refine g_iret (pc := 32) hQ C ?_ dX3_end_32
      exact ⟨by rw [qEnd, if_neg (by rw [d_28]; exact Bool.false_ne_true)], by rw [spEnd, if_neg (by rw [d_28]; exact Bool.false_ne_true)]; exact hR1, gT1_TM hx (by decide)⟩
  · skip
    have d_9 := c_9
    try simp only [decide_eq_true_eq, decide_eq_false_iff_not, Bool.and_eq_true, Bool.and_eq_false_iff, ne_eq, Classical.not_not] at c_9
    refine g_aload_n (pc := 12) C dX3_end_12 0 rfl trivial rfl ?_
    refine g_iload_n (pc := 13) C dX3_end_13 1 rfl rfl ?_
    refine g_callV (pc := 14) C (m_X3_isEnded hl hR hW (c := k.toNat) (by omega)) cl12 hm q1947 q1949 qs43 q94 q1950 nmX3_isEnded rfl (by decide) (by decide) (Nat.zero_le _) (Nat.zero_le _) (by rw [iv_tn (k := k) (by omega)]; rfl) (Nat.le_of_ble_eq_true rfl) dX3_end_14 (gkf ?_) gkx
    refine g_ifb_ne (pc := 17) C dX3_end_17 24 (by decide) (fun c_17 => ?_) (fun c_17 => ?_)
    · skip
      have d_17 := c_17
      try simp only [decide_eq_true_eq, decide_eq_false_iff_not, Bool.and_eq_true, Bool.and_eq_false_iff, ne_eq, Classical.not_not] at c_17
      refine g_iconst (pc := 24) C dX3_end_24 ?_
      refine g_callV (pc := 25) C (m_X3_fits hl hR (p := okC s k) (q := okC s k && decide (s 2 k.toNat = -1))) cl12 hm q1922 q1924 qs40 q94 q1925 nmX3_fits rfl (by decide) (by decide) (by omega) (by omega) (by first | (rw [b2_1 (show (okC s k && decide (s 2 k.toNat = -1)) = true by simp only [okC, Bool.and_eq_true, decide_eq_true_eq]; omega)]; rfl) | (rw [b2_z0 (show (okC s k && decide (s 2 k.toNat = -1)) = false by simp only [okC, Bool.and_eq_false_iff, decide_eq_false_iff_not]; omega)]; rfl)) (Nat.le_of_ble_eq_true rfl) dX3_end_25 (fun v_25 M_25 h_25 => ?_) (fun E_25 q_25 M_25 h_25 => ?_)
      rotate_left
      · exact h_25.elim
      obtain ⟨rfl, hR1, hx⟩ := h_25
      obtain ⟨hm, h1, h2, -⟩ := id hR1
      refine g_ifb_ne (pc := 28) C dX3_end_28 33 (by decide) (fun c_28 => ?_) (fun c_28 => ?_)
      · skip
        have d_28 := c_28
        try simp only [decide_eq_true_eq, decide_eq_false_iff_not, Bool.and_eq_true, Bool.and_eq_false_iff, ne_eq, Classical.not_not] at c_28
        simp only [okC, Bool.and_eq_true, decide_eq_true_eq] at c_28
        refine g_aload_n (pc := 33) C dX3_end_33 0 rfl trivial rfl ?_
        refine g_get (pc := 34) C dX3_end_34 cl12 hm 7 (by decide) q1826 (fun _ h9 => h9) rfl ?_
        refine g_iload_n (pc := 37) C dX3_end_37 1 rfl rfl ?_
        refine g_aload_n (pc := 38) C dX3_end_38 0 rfl trivial rfl ?_
        refine g_get (pc := 39) C dX3_end_39 cl12 hm 1 (by decide) q1820 (fun _ h9 => h9) rfl ?_
        have hx2 := gT1_TM hx (by decide)
        refine g_iast (pc := 42) C dX3_end_42 h2 (by decide) k.toNat (by omega) (by omega) (by omega) ?_
        refine g_nm (fun M_42 e_42 => ?_)
        replace hx2 := hx2.tr (gExt.putE e_42 h2 (by unfold gTM; omega))
        replace hm := g_fr e_42 hm (g_ne hm h2 (by intro e; cases e))
        replace h2 := g_at e_42
        have hR2 : RM A M_42 (spEndAt s k.toNat) _ := hR1.w2 e_42
        have hW2 := WF_endAt hW (c := k.toNat) (by omega) c_28.2.2
        refine g_aload_n (pc := 43) C dX3_end_43 0 rfl trivial rfl ?_
        refine g_get (pc := 44) C dX3_end_44 cl12 hm 4 (by decide) q1823 (fun _ h9 => h9) rfl ?_
        refine g_aload_n (pc := 47) C dX3_end_47 0 rfl trivial rfl ?_
        refine g_callV (pc := 48) C (m_X3_endedOnes hl hR2 hW2) cl12 hm q1951 q1953 qs44 q94 q1954 nmX3_endedOnes rfl (by decide) (by decide) (Nat.zero_le _) (Nat.zero_le _) rfl (Nat.le_of_ble_eq_true rfl) dX3_end_48 (gkf ?_) gkx
        refine g_isub (pc := 51) C dX3_end_51 ?_
        refine g_iret (pc := 52) hQ C ?_ dX3_end_52
        exact ⟨by rw [qEnd, if_pos d_28], by rw [spEnd, if_pos d_28]; exact hR2, hx2⟩
      · skip
        have d_28 := c_28
        try simp only [decide_eq_true_eq, decide_eq_false_iff_not, Bool.and_eq_true, Bool.and_eq_false_iff, ne_eq, Classical.not_not] at c_28
        refine g_iconst (pc := 31) C dX3_end_31 ?_
        refine g_iret (pc := 32) hQ C ?_ dX3_end_32
        exact ⟨by rw [qEnd, if_neg (by rw [d_28]; exact Bool.false_ne_true)], by rw [spEnd, if_neg (by rw [d_28]; exact Bool.false_ne_true)]; exact hR1, gT1_TM hx (by decide)⟩
    · skip
      have d_17 := c_17
      try simp only [decide_eq_true_eq, decide_eq_false_iff_not, Bool.and_eq_true, Bool.and_eq_false_iff, ne_eq, Classical.not_not] at c_17
      refine g_iconst (pc := 20) C dX3_end_20 ?_
      refine g_goto (pc := 21) C dX3_end_21 25 (by decide) ?_
      refine g_callV (pc := 25) C (m_X3_fits hl hR (p := okC s k) (q := okC s k && decide (s 2 k.toNat = -1))) cl12 hm q1922 q1924 qs40 q94 q1925 nmX3_fits rfl (by decide) (by decide) (by omega) (by omega) (by first | (rw [b2_1 (show (okC s k && decide (s 2 k.toNat = -1)) = true by simp only [okC, Bool.and_eq_true, decide_eq_true_eq]; omega)]; rfl) | (rw [b2_z0 (show (okC s k && decide (s 2 k.toNat = -1)) = false by simp only [okC, Bool.and_eq_false_iff, decide_eq_false_iff_not]; omega)]; rfl)) (Nat.le_of_ble_eq_true rfl) dX3_end_25 (fun v_25 M_25 h_25 => ?_) (fun E_25 q_25 M_25 h_25 => ?_)
      rotate_left
      · exact h_25.elim
      obtain ⟨rfl, hR1, hx⟩ := h_25
      obtain ⟨hm, h1, h2, -⟩ := id hR1
      refine g_ifb_ne (pc := 28) C dX3_end_28 33 (by decide) (fun c_28 => ?_) (fun c_28 => ?_)
      · skip
        have d_28 := c_28
        try simp only [decide_eq_true_eq, decide_eq_false_iff_not, Bool.and_eq_true, Bool.and_eq_false_iff, ne_eq, Classical.not_not] at c_28
        simp only [okC, Bool.and_eq_true, decide_eq_true_eq] at c_28
        refine g_aload_n (pc := 33) C dX3_end_33 0 rfl trivial rfl ?_
        refine g_get (pc := 34) C dX3_end_34 cl12 hm 7 (by decide) q1826 (fun _ h9 => h9) rfl ?_
        refine g_iload_n (pc := 37) C dX3_end_37 1 rfl rfl ?_
        refine g_aload_n (pc := 38) C dX3_end_38 0 rfl trivial rfl ?_
        refine g_get (pc := 39) C dX3_end_39 cl12 hm 1 (by decide) q1820 (fun _ h9 => h9) rfl ?_
        have hx2 := gT1_TM hx (by decide)
        refine g_iast (pc := 42) C dX3_end_42 h2 (by decide) k.toNat (by omega) (by omega) (by omega) ?_
        refine g_nm (fun M_42 e_42 => ?_)
        replace hx2 := hx2.tr (gExt.putE e_42 h2 (by unfold gTM; omega))
        replace hm := g_fr e_42 hm (g_ne hm h2 (by intro e; cases e))
        replace h2 := g_at e_42
        have hR2 : RM A M_42 (spEndAt s k.toNat) _ := hR1.w2 e_42
        have hW2 := WF_endAt hW (c := k.toNat) (by omega) c_28.2.2
        refine g_aload_n (pc := 43) C dX3_end_43 0 rfl trivial rfl ?_
        refine g_get (pc := 44) C dX3_end_44 cl12 hm 4 (by decide) q1823 (fun _ h9 => h9) rfl ?_
        refine g_aload_n (pc := 47) C dX3_end_47 0 rfl trivial rfl ?_
        refine g_callV (pc := 48) C (m_X3_endedOnes hl hR2 hW2) cl12 hm q1951 q1953 qs44 q94 q1954 nmX3_endedOnes rfl (by decide) (by decide) (Nat.zero_le _) (Nat.zero_le _) rfl (Nat.le_of_ble_eq_true rfl) dX3_end_48 (gkf ?_) gkx
        refine g_isub (pc := 51) C dX3_end_51 ?_
        refine g_iret (pc := 52) hQ C ?_ dX3_end_52
        exact ⟨by rw [qEnd, if_pos d_28], by rw [spEnd, if_pos d_28]; exact hR2, hx2⟩
      · skip
        have d_28 := c_28
        try simp only [decide_eq_true_eq, decide_eq_false_iff_not, Bool.and_eq_true, Bool.and_eq_false_iff, ne_eq, Classical.not_not] at c_28
        refine g_iconst (pc := 31) C dX3_end_31 ?_
        refine g_iret (pc := 32) hQ C ?_ dX3_end_32
        exact ⟨by rw [qEnd, if_neg (by rw [d_28]; exact Bool.false_ne_true)], by rw [spEnd, if_neg (by rw [d_28]; exact Bool.false_ne_true)]; exact hR1, gT1_TM hx (by decide)⟩
end
