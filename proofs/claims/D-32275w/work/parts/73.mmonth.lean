/-! AppealrentModel: a case's month begins -/
set_option maxRecDepth 100000
section
variable {E : gE} {l : Launch} {M M1 : gM} {A : Nat → Nat} {s s1 : gS} {t t1 : Int}
theorem setA_setA (A : Nat → Nat) (k a b : Nat) : setA (setA A k a) k b = setA A k b := by
  funext j
  unfold setA
  split <;> rfl
theorem m_X3_beginMonth (hl : l.stackTraces = false) (hR : RM A M s t) (hW : WF s) {c : Nat} (hc : (c : Int) < s 0 2) (hcnt : s 0 5 + s 0 0 / 30 ≤ 500 * (s 0 0 / 30)) (h6z : s 6 (51 * c + (s 0 0 / 30).toNat) = 0) : gMet E l yX3_beginMonth wX3_beginMonth 3 (spMonth s c 0 5 - s 0 5).toNat (2 * (spMonth s c 0 6 - s 0 6)).toNat [.ref (A 0), vi c] M (fun v M1 => v = none ∧ (∃ q, RM (setA A 23 q) M1 (spMonth s c) t) ∧ gExt gTM M M1) (fun _ _ _ => False) := by
  have hs := hW.sc
  unfold wfSc at hs
  obtain ⟨n, hn⟩ := i_nat (z := s 0 0 / 30) (by omega)
  have hnt : (s 0 0 / 30).toNat = n := by omega
  have hok := spSteps_ok hW hc hn.symm (by omega)
  have hmo := fun (i k : Nat) (q1 : i ≤ k) (q2 : k ≤ n) => spSteps_mono hW hc hn.symm (by omega) (i := i) (k := k) q1 q2
  have hsm : spMonth s c 0 5 = spSteps s c n 0 5 ∧ spMonth s c 0 6 = spSteps s c n 0 6 := by
    unfold spMonth
    rw [hnt]
    split
    · rw [spPays_0]; exact ⟨rfl, rfl⟩
    · exact ⟨rfl, rfl⟩
  rw [hsm.1, hsm.2]
  obtain ⟨hm, -⟩ := id hR
  refine gMet.of hl rfl (Nat.le_of_ble_eq_true rfl) ?_
  intro Z hE hl0 hQ hX C hnm htab
  subst hE; subst hl0
  replace C : gC Z RX3 cX3_beginMonth 6 none _ := C
  change G Z _ _ _ 0 [(0, _), (1, _)] []
  have loop : ∀ (r i : Nat) (M1 : gM) (q k9 n9 : Nat), i + r = n → (spSteps s c n 0 5 - spSteps s c i 0 5).toNat ≤ k9 → (2 * (spSteps s c n 0 6 - spSteps s c i 0 6)).toNat ≤ n9 → RM (setA A 23 q) M1 (spSteps s c i) t → gExt gTM M M1 → G Z k9 n9 M1 10 [(0, .ref (A 0)), (1, vi c), (2, vi n), (3, vi i)] [] := by
    intro r
    induction r with
    | zero =>
      intro i M1 q k9 n9 hi hk9 hn9 hR1 hx
      obtain rfl : i = n := by omega
      obtain ⟨w1, w2, w3, w4⟩ := hok i (by omega)
      have e0 := w2.sc 0 (by decide)
      have e2 := w2.sc 2 (by decide)
      have er2 := w2.r 2 (by decide)
      have hd := spDue_r w1 c i
      have hL := spLeft_r w1 (c := c) (by rw [e2]; exact hc) true
      obtain ⟨hm', -⟩ := id hR1
      have hm : M1 (A 0) = some (100, gO 12 _) := hm'
      refine g_iload_n (pc := 10) C dX3_beginMonth_10 3 rfl rfl ?_
      refine g_iload_n (pc := 11) C dX3_beginMonth_11 2 rfl rfl ?_
      refine g_icmp_ge (pc := 12) C dX3_beginMonth_12 93 ⟨by omega, by omega⟩ ⟨by omega, by omega⟩ (by decide) (fun c_12 => ?_) (fun c_12 => ?_)
      · skip
        refine g_aload_n (pc := 93) C dX3_beginMonth_93 0 rfl trivial rfl ?_
        refine g_iload_n (pc := 94) C dX3_beginMonth_94 1 rfl rfl ?_
        refine g_callV (pc := 95) C (m_X3_isEnded hl hR1 w1 (c := c) (by rw [e2]; exact hc)) cl12 hm q1947 q1949 qs43 q94 q1950 nmX3_isEnded rfl (by decide) (by decide) (Nat.zero_le _) (Nat.zero_le _) rfl (Nat.le_of_ble_eq_true rfl) dX3_beginMonth_95 (gkf ?_) gkx
        rw [er2]
        refine g_ifb_ne (pc := 98) C dX3_beginMonth_98 113 (by decide) (fun c_98 => ?_) (fun c_98 => ?_)
        · skip
          have d_98 := c_98
          try simp only [decide_eq_true_eq, decide_eq_false_iff_not, Bool.and_eq_true, Bool.and_eq_false_iff, ne_eq, Classical.not_not] at c_98
          refine g_vret (pc := 113) hQ C ?_ dX3_beginMonth_113
          first | exact ⟨rfl, ⟨q, by rw [spMonth, hn, Int.toNat_natCast, if_pos (by omega)]; exact hR2⟩, hx.tr hx2⟩ | exact ⟨rfl, ⟨q, by rw [spMonth, hn, Int.toNat_natCast, if_neg (by omega)]; exact hR1⟩, hx⟩
        · skip
          have d_98 := c_98
          try simp only [decide_eq_true_eq, decide_eq_false_iff_not, Bool.and_eq_true, Bool.and_eq_false_iff, ne_eq, Classical.not_not] at c_98
          refine g_aload_n (pc := 101) C dX3_beginMonth_101 0 rfl trivial rfl ?_
          refine g_iload_n (pc := 102) C dX3_beginMonth_102 1 rfl rfl ?_
          refine g_iload_n (pc := 103) C dX3_beginMonth_103 2 rfl rfl ?_
          refine g_aload_n (pc := 104) C dX3_beginMonth_104 0 rfl trivial rfl ?_
          refine g_iload_n (pc := 105) C dX3_beginMonth_105 1 rfl rfl ?_
          refine g_iload_n (pc := 106) C dX3_beginMonth_106 2 rfl rfl ?_
          refine g_callV (pc := 107) C (m_X3_dueOf hl hR1 w1 (c := c) (by rw [e2]; exact hc) ⟨by omega, by omega⟩) cl12 hm q2066 q2068 qs60 q94 q2069 nmX3_dueOf rfl (by decide) (by decide) (Nat.zero_le _) (Nat.zero_le _) rfl (Nat.le_of_ble_eq_true rfl) dX3_beginMonth_107 (gkf ?_) gkx
          refine g_callV (pc := 110) C (m_X3_pays hl hR1 w1 (c := c) (m := i) (x := spDue (spSteps s c i) c i) (by rw [e2]; exact hc) (by omega) ⟨by omega, by omega⟩ ⟨by omega, by omega⟩) cl12 hm q2084 q2086 qs64 q94 q2087 nmX3_pays rfl (by decide) (by decide) (by omega) (by omega) rfl (Nat.le_of_ble_eq_true rfl) dX3_beginMonth_110 (fun v_110 M_110 h_110 => ?_) (fun E_110 q_110 M_110 h_110 => ?_)
          rotate_left
          · exact h_110.elim
          obtain ⟨rfl, hR2, hx2⟩ := h_110
          refine g_vret (pc := 113) hQ C ?_ dX3_beginMonth_113
          first | exact ⟨rfl, ⟨q, by rw [spMonth, hn, Int.toNat_natCast, if_pos (by omega)]; exact hR2⟩, hx.tr hx2⟩ | exact ⟨rfl, ⟨q, by rw [spMonth, hn, Int.toNat_natCast, if_neg (by omega)]; exact hR1⟩, hx⟩
      · skip
        omega
    | succ r ih =>
      intro i M1 q k9 n9 hi hk9 hn9 hR1 hx
      obtain ⟨w1, w2, w3, w4⟩ := hok i (by omega)
      have hmi := hmo (i + 1) n (by omega) (by omega)
      have hmj := hmo i (i + 1) (by omega) (by omega)
      have e0 := w2.sc 0 (by decide)
      have e2 := w2.sc 2 (by decide)
      have hd := spDue_r w1 c i
      have hL := spLeft_r w1 (c := c) (by rw [e2]; exact hc) true
      have hpm := paid_r w1 (c := c) (m := i) (by rw [e2]; exact hc) (by omega)
      obtain ⟨hm', -, -, -, -, -, h6', h7', -⟩ := id hR1
      have hm : M1 (A 0) = some (100, gO 12 _) := hm'
      have h6 : M1 (A 6) = some (106, _) := h6'
      have h7 : M1 (A 7) = some (107, _) := h7'
      refine g_iload_n (pc := 10) C dX3_beginMonth_10 3 rfl rfl ?_
      refine g_iload_n (pc := 11) C dX3_beginMonth_11 2 rfl rfl ?_
      refine g_icmp_ge (pc := 12) C dX3_beginMonth_12 93 ⟨by omega, by omega⟩ ⟨by omega, by omega⟩ (by decide) (fun c_12 => ?_) (fun c_12 => ?_)
      · skip
        omega
      · skip
        refine g_aload_n (pc := 15) C dX3_beginMonth_15 0 rfl trivial rfl ?_
        refine g_iload_n (pc := 16) C dX3_beginMonth_16 1 rfl rfl ?_
        refine g_iload_n (pc := 17) C dX3_beginMonth_17 3 rfl rfl ?_
        refine g_callV (pc := 18) C (m_X3_dueOf hl hR1 w1 (c := c) (by rw [e2]; exact hc) ⟨by omega, by omega⟩) cl12 hm q2066 q2068 qs60 q94 q2069 nmX3_dueOf rfl (by decide) (by decide) (Nat.zero_le _) (Nat.zero_le _) rfl (Nat.le_of_ble_eq_true rfl) dX3_beginMonth_18 (gkf ?_) gkx
        refine g_istore (pc := 21) C dX3_beginMonth_21 (Nat.le_of_ble_eq_true rfl) rfl (loc1 := [(0, _), (1, _), (2, _), (3, _), (4, _)]) rfl ?_
        refine g_aload_n (pc := 23) C dX3_beginMonth_23 0 rfl trivial rfl ?_
        refine g_get (pc := 24) C dX3_beginMonth_24 cl12 hm 11 (by decide) q1830 (fun _ h9 => h9) rfl ?_
        refine g_bipush (pc := 27) C dX3_beginMonth_27 (by decide) ?_
        refine g_iload_n (pc := 29) C dX3_beginMonth_29 1 rfl rfl ?_
        refine g_imul (pc := 30) C dX3_beginMonth_30 ?_
        refine g_iload_n (pc := 31) C dX3_beginMonth_31 3 rfl rfl ?_
        refine g_iadd (pc := 32) C dX3_beginMonth_32 ?_
        refine g_iald (pc := 33) C dX3_beginMonth_33 h6 (51 * c + i) (by omega) (by omega) (by omega) ?_
        refine g_aload_n (pc := 34) C dX3_beginMonth_34 0 rfl trivial rfl ?_
        refine g_get (pc := 35) C dX3_beginMonth_35 cl12 hm 12 (by decide) q1831 (fun _ h9 => h9) rfl ?_
        refine g_bipush (pc := 38) C dX3_beginMonth_38 (by decide) ?_
        refine g_iload_n (pc := 40) C dX3_beginMonth_40 1 rfl rfl ?_
        refine g_imul (pc := 41) C dX3_beginMonth_41 ?_
        refine g_iload_n (pc := 42) C dX3_beginMonth_42 3 rfl rfl ?_
        refine g_iadd (pc := 43) C dX3_beginMonth_43 ?_
        refine g_iald (pc := 44) C dX3_beginMonth_44 h7 (51 * c + i) (by omega) (by omega) (by omega) ?_
        refine g_isub (pc := 45) C dX3_beginMonth_45 ?_
        refine g_istore (pc := 46) C dX3_beginMonth_46 (Nat.le_of_ble_eq_true rfl) rfl (loc1 := [(0, _), (1, _), (2, _), (3, _), (4, _), (5, _)]) rfl ?_
        refine g_iload (pc := 48) C dX3_beginMonth_48 4 rfl ?_
        refine g_iload (pc := 50) C dX3_beginMonth_50 5 rfl ?_
        refine g_icmp_le (pc := 52) C dX3_beginMonth_52 69 ⟨by omega, by omega⟩ ⟨by omega, by omega⟩ (by decide) (fun c_52 => ?_) (fun c_52 => ?_)
        · skip
          refine g_iload (pc := 69) C dX3_beginMonth_69 4 rfl ?_
          refine g_iload (pc := 71) C dX3_beginMonth_71 5 rfl ?_
          refine g_icmp_ge (pc := 73) C dX3_beginMonth_73 87 ⟨by omega, by omega⟩ ⟨by omega, by omega⟩ (by decide) (fun c_73 => ?_) (fun c_73 => ?_)
          · skip
            refine g_iinc (pc := 87) C dX3_beginMonth_87 3 rfl (Nat.le_of_ble_eq_true rfl) rfl (loc1 := [(0, _), (1, _), (2, _), (3, _), (4, _), (5, _)]) rfl ?_
            refine g_goto (pc := 90) C dX3_beginMonth_90 10 (by decide) ?_
            refine G.drop 4 (loc1 := [(0, _), (1, _), (2, _), (3, _), (5, _)]) rfl ?_
            refine G.drop 4 (loc1 := [(0, _), (1, _), (2, _), (3, _)]) rfl ?_
            first | exact ih (i + 1) _ q _ _ (by omega) (by omega) (by omega) (by rw [e9]; exact hR2) (hx.tr hx2) | exact ih (i + 1) _ q2 _ _ (by omega) (by omega) (by omega) (by rw [e9]; exact hR2) (hx.tr hx2) | (have e9 : spSteps s c (i + 1) = spSteps s c i := (by rw [spSteps, spStep, if_neg (by omega), if_neg (by omega)]); exact ih (i + 1) _ q _ _ (by omega) (by omega) (by omega) (by rw [e9]; exact hR1) hx)
          · skip
            refine g_aload_n (pc := 76) C dX3_beginMonth_76 0 rfl trivial rfl ?_
            refine g_iload_n (pc := 77) C dX3_beginMonth_77 1 rfl rfl ?_
            refine g_iload_n (pc := 78) C dX3_beginMonth_78 3 rfl rfl ?_
            refine g_iload (pc := 79) C dX3_beginMonth_79 5 rfl ?_
            refine g_iload (pc := 81) C dX3_beginMonth_81 4 rfl ?_
            refine g_isub (pc := 83) C dX3_beginMonth_83 ?_
            have e9 : spSteps s c (i + 1) = spAddClaim (spSteps s c i) c i (spSteps s c i 6 (51 * c + i) - spSteps s c i 7 (51 * c + i) - spDue (spSteps s c i) c i) := by rw [spSteps, spStep, if_neg (by omega), if_pos (by omega)]
            have e95 : spSteps s c (i + 1) 0 5 = spSteps s c i 0 5 + 1 := by rw [e9, spAdd_5]
            have e96 : spSteps s c (i + 1) 0 6 = if 6 * spSteps s c i 0 5 = spSteps s c i 0 6 then 2 * spSteps s c i 0 6 else spSteps s c i 0 6 := by rw [e9, spAdd_6]
            have e97 : (if 6 * spSteps s c i 0 5 = spSteps s c i 0 6 then 2 * spSteps s c i 0 6 else 0).toNat ≤ (2 * (spSteps s c (i + 1) 0 6 - spSteps s c i 0 6)).toNat := by rw [e96]; split <;> omega
            refine g_callV (pc := 84) C (m_X3_addClaim hl hR1 w1 (c := c) (m := i) (x := spSteps s c i 6 (51 * c + i) - spSteps s c i 7 (51 * c + i) - spDue (spSteps s c i) c i) (by rw [e2]; exact hc) (by omega)) cl12 hm q2094 q2096 qs66 q94 q2097 nmX3_addClaim rfl (by decide) (by decide) (by omega) (by omega) rfl (Nat.le_of_ble_eq_true rfl) dX3_beginMonth_84 (fun v_84 M_84 h_84 => ?_) (fun E_84 q_84 M_84 h_84 => ?_)
            rotate_left
            · exact h_84.elim
            obtain ⟨rfl, ⟨q2, hR2⟩, hx2⟩ := h_84
            rw [setA_setA] at hR2
            refine g_iinc (pc := 87) C dX3_beginMonth_87 3 rfl (Nat.le_of_ble_eq_true rfl) rfl (loc1 := [(0, _), (1, _), (2, _), (3, _), (4, _), (5, _)]) rfl ?_
            refine g_goto (pc := 90) C dX3_beginMonth_90 10 (by decide) ?_
            refine G.drop 4 (loc1 := [(0, _), (1, _), (2, _), (3, _), (5, _)]) rfl ?_
            refine G.drop 4 (loc1 := [(0, _), (1, _), (2, _), (3, _)]) rfl ?_
            first | exact ih (i + 1) _ q _ _ (by omega) (by omega) (by omega) (by rw [e9]; exact hR2) (hx.tr hx2) | exact ih (i + 1) _ q2 _ _ (by omega) (by omega) (by omega) (by rw [e9]; exact hR2) (hx.tr hx2) | (have e9 : spSteps s c (i + 1) = spSteps s c i := (by rw [spSteps, spStep, if_neg (by omega), if_neg (by omega)]); exact ih (i + 1) _ q _ _ (by omega) (by omega) (by omega) (by rw [e9]; exact hR1) hx)
        · skip
          refine g_aload_n (pc := 55) C dX3_beginMonth_55 0 rfl trivial rfl ?_
          refine g_iload_n (pc := 56) C dX3_beginMonth_56 1 rfl rfl ?_
          refine g_iload_n (pc := 57) C dX3_beginMonth_57 3 rfl rfl ?_
          refine g_iload (pc := 58) C dX3_beginMonth_58 4 rfl ?_
          refine g_iload (pc := 60) C dX3_beginMonth_60 5 rfl ?_
          refine g_isub (pc := 62) C dX3_beginMonth_62 ?_
          have e9 : spSteps s c (i + 1) = spPays (spSteps s c i) c i (spDue (spSteps s c i) c i - (spSteps s c i 6 (51 * c + i) - spSteps s c i 7 (51 * c + i))) := by rw [spSteps, spStep, if_pos (by omega)]
          refine g_callV (pc := 63) C (m_X3_pays hl hR1 w1 (c := c) (m := i) (by rw [e2]; exact hc) (by omega) ⟨by omega, by omega⟩ ⟨by omega, by omega⟩) cl12 hm q2084 q2086 qs64 q94 q2087 nmX3_pays rfl (by decide) (by decide) (by omega) (by omega) rfl (Nat.le_of_ble_eq_true rfl) dX3_beginMonth_63 (fun v_63 M_63 h_63 => ?_) (fun E_63 q_63 M_63 h_63 => ?_)
          rotate_left
          · exact h_63.elim
          obtain ⟨rfl, hR2, hx2⟩ := h_63
          refine g_goto (pc := 66) C dX3_beginMonth_66 87 (by decide) ?_
          refine g_iinc (pc := 87) C dX3_beginMonth_87 3 rfl (Nat.le_of_ble_eq_true rfl) rfl (loc1 := [(0, _), (1, _), (2, _), (3, _), (4, _), (5, _)]) rfl ?_
          refine g_goto (pc := 90) C dX3_beginMonth_90 10 (by decide) ?_
          refine G.drop 4 (loc1 := [(0, _), (1, _), (2, _), (3, _), (5, _)]) rfl ?_
          refine G.drop 4 (loc1 := [(0, _), (1, _), (2, _), (3, _)]) rfl ?_
          first | exact ih (i + 1) _ q _ _ (by omega) (by omega) (by omega) (by rw [e9]; exact hR2) (hx.tr hx2) | exact ih (i + 1) _ q2 _ _ (by omega) (by omega) (by omega) (by rw [e9]; exact hR2) (hx.tr hx2) | (have e9 : spSteps s c (i + 1) = spSteps s c i := (by rw [spSteps, spStep, if_neg (by omega), if_neg (by omega)]); exact ih (i + 1) _ q _ _ (by omega) (by omega) (by omega) (by rw [e9]; exact hR1) hx)
  refine g_aload_n (pc := 0) C dX3_beginMonth_0 0 rfl trivial rfl ?_
  refine g_get (pc := 1) C dX3_beginMonth_1 cl12 hm 1 (by decide) q1820 (fun _ h9 => h9) rfl ?_
  refine g_bipush (pc := 4) C dX3_beginMonth_4 (by decide) ?_
  refine g_idiv (pc := 6) C dX3_beginMonth_6 ⟨by omega, by omega⟩ ⟨by omega, by omega⟩ ?_
  rw [hn]
  refine g_istore_n (pc := 7) C dX3_beginMonth_7 (Nat.le_of_ble_eq_true rfl) rfl rfl (loc1 := [(0, _), (1, _), (2, _)]) rfl ?_
  refine g_iconst (pc := 8) C dX3_beginMonth_8 ?_
  refine g_istore_n (pc := 9) C dX3_beginMonth_9 (Nat.le_of_ble_eq_true rfl) rfl rfl (loc1 := [(0, _), (1, _), (2, _), (3, _)]) rfl ?_
  exact loop n 0 M (A 23) _ _ (by omega) (Nat.le_refl _) (Nat.le_refl _) (by rw [setA_self]; exact hR) gExt.rf
end
