/-! AppealrentModel: a day begins; days pass -/
set_option maxRecDepth 100000
section
variable {E : gE} {l : Launch} {M M1 : gM} {A : Nat → Nat} {s s1 : gS} {t t1 : Int}
abbrev mO (A : Nat → Nat) (t d p c f r k a : Int) : gEnt := gO 12 [vi t, vi d, .ref (A 10), vi p, vi c, .ref (A 9), .ref (A 1), .ref (A 2), .ref (A 3), .ref (A 4), .ref (A 5), .ref (A 6), .ref (A 7), vi f, .ref (A 11), .ref (A 12), .ref (A 13), .ref (A 14), .ref (A 15), vi r, .ref (A 17), .ref (A 18), .ref (A 19), .ref (A 20), vi k, .ref (A 23), .ref (A 25), vi a, .ref (A 24)]
theorem RM.o (hR : RM A M s t) {d p c f r k a : Int} (h0 : s 0 0 = d) (h1 : s 0 1 = p) (h2 : s 0 2 = c) (h3 : s 0 3 = f) (h4 : s 0 4 = r) (h5 : s 0 5 = k) (h9 : s 0 9 = a) : M (A 0) = some (100, mO A t d p c f r k a) := by
  subst h0; subst h1; subst h2; subst h3; subst h4; subst h5; subst h9
  exact hR.1
theorem m_X3_beginDay (hl : l.stackTraces = false) (hR : RM A M s t) (hW : WF s) (ht : s 0 0 < 1500) : gMet E l yX3_beginDay wX3_beginDay 4 (spDay s 0 5 - s 0 5).toNat (2 * (spDay s 0 6 - s 0 6)).toNat [.ref (A 0)] M (fun v M1 => v = none ∧ (∃ q, RM (setA A 23 q) M1 (spDay s) t) ∧ gExt gTM M M1) (fun _ _ _ => False) := by
  have hs := hW.sc
  unfold wfSc at hs
  obtain ⟨nf, hnf⟩ := i_nat (z := s 0 3) (by omega)
  obtain ⟨nk, hnk⟩ := i_nat (z := s 0 5) (by omega)
  obtain ⟨nc, hnc⟩ := i_nat (z := s 0 2) (by omega)
  have hWB := WF_dayB hW ht
  obtain ⟨hb1, hb2⟩ := spDayB_cnt hW
  have hok := spCases_ok hWB hb1 hb2
  have hmo := fun (i k : Nat) (q1 : i ≤ k) (q2 : (k : Int) ≤ spDayB s 0 2) => spCases_mono hWB hb1 hb2 (i := i) (k := k) q1 q2
  have hday : spDay s = spCasesN (spDayB s) nc := by rw [spDay, hnc]; rfl
  have b2 : spDayB s 0 2 = s 0 2 := spDayB_j (by decide)
  have b0 : spDayB s 0 0 = s 0 0 + 1 := spDayB_00
  have b5 : spDayB s 0 5 = s 0 5 := spDayB_j (by decide)
  have b6 : spDayB s 0 6 = s 0 6 := spDayB_j (by decide)
  obtain ⟨hm, -⟩ := id hR
  have hx0 : gExt gTM M M := gExt.rf
  refine gMet.of hl rfl (Nat.le_of_ble_eq_true rfl) ?_
  intro Z hE hl0 hQ hX C hnm htab
  subst hE; subst hl0
  replace C : gC Z RX3 cX3_beginDay 3 none _ := C
  change G Z _ _ _ 0 [(0, _)] []
  have loop3 : ∀ (r i : Nat) (M1 : gM) (q k9 n9 : Nat), i + r = nc → (spCasesN (spDayB s) nc 0 5 - spCasesN (spDayB s) i 0 5).toNat ≤ k9 → (2 * (spCasesN (spDayB s) nc 0 6 - spCasesN (spDayB s) i 0 6)).toNat ≤ n9 → RM (setA A 23 q) M1 (spCasesN (spDayB s) i) t → gExt gTM M M1 → G Z k9 n9 M1 156 [(0, .ref (A 0)), (1, vi i)] [] := by
    intro r
    induction r with
    | zero =>
      intro i M1 q k9 n9 hi hk9 hn9 hR1 hx
      obtain rfl : i = nc := by omega
      obtain ⟨w1, w2, w3, w4⟩ := hok i (by omega)
      have e2 := w2.sc 2 (by decide)
      have hm : M1 (A 0) = some (100, mO (setA A 23 q) t (spCasesN (spDayB s) i 0 0) _ _ _ _ _ _) := hR1.o rfl rfl rfl rfl rfl rfl rfl
      refine g_iload_n (pc := 156) C dX3_beginDay_156 1 rfl rfl ?_
      refine g_aload_n (pc := 157) C dX3_beginDay_157 0 rfl trivial rfl ?_
      refine g_get (pc := 158) C dX3_beginDay_158 cl12 hm 4 (by decide) q1823 (fun _ h9 => h9) rfl ?_
      refine g_icmp_ge (pc := 161) C dX3_beginDay_161 185 ⟨by omega, by omega⟩ ⟨by omega, by omega⟩ (by decide) (fun c_161 => ?_) (fun c_161 => ?_)
      · skip
        refine g_vret (pc := 185) hQ C ?_ dX3_beginDay_185
        exact ⟨rfl, ⟨q, by rw [hday]; exact hR1⟩, hx⟩
      · skip
        omega
    | succ r ih =>
      intro i M1 q k9 n9 hi hk9 hn9 hR1 hx
      obtain ⟨w1, w2, w3, w4⟩ := hok i (by omega)
      have hmi := hmo (i + 1) nc (by omega) (by omega)
      have e2 := w2.sc 2 (by decide)
      have e0 := w2.sc 0 (by decide)
      have hm : M1 (A 0) = some (100, mO (setA A 23 q) t (s 0 0 + 1) _ (s 0 2) _ _ _ _) := hR1.o (by rw [e0, b0]) rfl (by rw [e2, b2]) rfl rfl rfl rfl
      refine g_iload_n (pc := 156) C dX3_beginDay_156 1 rfl rfl ?_
      refine g_aload_n (pc := 157) C dX3_beginDay_157 0 rfl trivial rfl ?_
      refine g_get (pc := 158) C dX3_beginDay_158 cl12 hm 4 (by decide) q1823 (fun _ h9 => h9) rfl ?_
      refine g_icmp_ge (pc := 161) C dX3_beginDay_161 185 ⟨by omega, by omega⟩ ⟨by omega, by omega⟩ (by decide) (fun c_161 => ?_) (fun c_161 => ?_)
      · skip
        omega
      · skip
        refine g_aload_n (pc := 164) C dX3_beginDay_164 0 rfl trivial rfl ?_
        refine g_get (pc := 165) C dX3_beginDay_165 cl12 hm 1 (by decide) q1820 (fun _ h9 => h9) rfl ?_
        refine g_bipush (pc := 168) C dX3_beginDay_168 (by decide) ?_
        refine g_irem (pc := 170) C dX3_beginDay_170 ⟨by omega, by omega⟩ ⟨by omega, by omega⟩ ?_
        refine g_if_ne (pc := 171) C dX3_beginDay_171 185 ⟨by omega, by omega⟩ (by decide) (fun c_171 => ?_) (fun c_171 => ?_)
        · skip
          clear ih
          refine g_vret (pc := 185) hQ C ?_ dX3_beginDay_185
          exact ⟨rfl, ⟨q, by rw [hday, spCases_no (by rw [b0]; omega)]; rw [spCases_no (by rw [b0]; omega)] at hR1; exact hR1⟩, hx⟩
        · skip
          refine g_aload_n (pc := 174) C dX3_beginDay_174 0 rfl trivial rfl ?_
          refine g_iload_n (pc := 175) C dX3_beginDay_175 1 rfl rfl ?_
          have e9 : spCasesN (spDayB s) (i + 1) = spMonth (spCasesN (spDayB s) i) i := by rw [spCasesN, if_pos (by omega)]
          rw [e9] at hmi
          have hc9 := hb1 (by omega)
          have hz9 := hb2 (by omega) i (by omega)
          obtain ⟨v1, v2, v3, v4⟩ := spMonth_ok w1 (c := i) (by omega) (by rw [e0]; omega) (by rw [e0, w4 _ (by omega)]; exact hz9)
          refine g_callV (pc := 176) C (m_X3_beginMonth hl hR1 w1 (c := i) (by omega) (by rw [e0]; omega) (by rw [e0, w4 _ (by omega)]; exact hz9)) cl12 hm q2062 q2064 qs59 q94 q2065 nmX3_beginMonth rfl (by decide) (by decide) (by omega) (by omega) rfl (Nat.le_of_ble_eq_true rfl) dX3_beginDay_176 (fun v_176 M_176 h_176 => ?_) (fun E_176 q_176 M_176 h_176 => ?_)
          rotate_left
          · exact h_176.elim
          obtain ⟨rfl, ⟨q2, hR2⟩, hx2⟩ := h_176
          rw [setA_setA] at hR2
          refine g_iinc (pc := 179) C dX3_beginDay_179 1 rfl (Nat.le_of_ble_eq_true rfl) rfl (loc1 := [(0, _), (1, _)]) rfl ?_
          refine g_goto (pc := 182) C dX3_beginDay_182 156 (by decide) ?_
          exact ih (i + 1) _ q2 _ _ (by omega) (by rw [e9]; omega) (by rw [e9]; omega) (by rw [e9]; exact hR2) (hx.tr hx2)
  have loop2 : ∀ (r i : Nat) (M1 : gM), i + r = nk → RM A M1 (spFirmN (spVoidN (spDayA s) nf) i) t → gExt gTM M M1 → G Z (spDay s 0 5 - s 0 5).toNat (2 * (spDay s 0 6 - s 0 6)).toNat M1 69 [(0, .ref (A 0)), (1, vi i)] [] := by
    intro r
    induction r with
    | zero =>
      intro i M1 hi hR1 hx
      obtain rfl : i = nk := by omega
      have hB : spFirmN (spVoidN (spDayA s) nf) i = spDayB s := by rw [spDayB, hnf, hnk]; rfl
      rw [hB] at hR1
      have hm : M1 (A 0) = some (100, mO A t (s 0 0 + 1) _ (s 0 2) _ _ (s 0 5) _) := hR1.o b0 rfl b2 rfl rfl b5 rfl
      refine g_iload_n (pc := 69) C dX3_beginDay_69 1 rfl rfl ?_
      refine g_aload_n (pc := 70) C dX3_beginDay_70 0 rfl trivial rfl ?_
      refine g_get (pc := 71) C dX3_beginDay_71 cl12 hm 24 (by decide) q1843 (fun _ h9 => h9) rfl ?_
      refine g_icmp_ge (pc := 74) C dX3_beginDay_74 154 ⟨by omega, by omega⟩ ⟨by omega, by omega⟩ (by decide) (fun c_74 => ?_) (fun c_74 => ?_)
      · skip
        refine g_iconst (pc := 154) C dX3_beginDay_154 ?_
        refine g_istore_n (pc := 155) C dX3_beginDay_155 (Nat.le_of_ble_eq_true rfl) rfl rfl (loc1 := [(0, _), (1, _)]) rfl ?_
        exact loop3 nc 0 M1 (A 23) _ _ (by omega) (by rw [hday]; show (_ - spDayB s 0 5).toNat ≤ _; rw [b5]; exact Nat.le_refl _) (by rw [hday]; show (2 * (_ - spDayB s 0 6)).toNat ≤ _; rw [b6]; exact Nat.le_refl _) (by rw [setA_self]; exact hR1) hx
      · skip
        omega
    | succ r ih =>
      intro i M1 hi hR1 hx
      have hcl := hW.claim (k := i) (by omega)
      unfold wfClaim at hcl
      have f0 : spFirmN (spVoidN (spDayA s) nf) i 0 = gUp (s 0) 0 (s 0 0 + 1) := by rw [spFirm_o (by decide), spVoid_o (by decide), spDayA, up_s]
      have oj : spFirmN (spVoidN (spDayA s) nf) i 23 (6 * i + 5) = s 23 (6 * i + 5) := by rw [spFirm_hi (Nat.le_refl _), spVoid_o (by decide)]; rfl
      have o2 : spFirmN (spVoidN (spDayA s) nf) i 23 (6 * i + 2) = s 23 (6 * i + 2) := by rw [spFirm_n (fun k => by omega), spVoid_o (by decide)]; rfl
      have g : ∀ j, j ≠ 0 → gUp (s 0) 0 (s 0 0 + 1) j = s 0 j := fun j hj => gUp_n _ _ hj
      have hm : M1 (A 0) = some (100, mO A t (s 0 0 + 1) _ _ _ _ (s 0 5) _) := hR1.o (by rw [f0, gUp_s]) rfl rfl rfl rfl (by rw [f0, g 5 (by decide)]) rfl
      obtain ⟨-, -, -, -, -, -, -, -, -, -, -, -, -, -, -, -, -, -, h23', -⟩ := id hR1
      have h23 : M1 (A 23) = some (123, gI 0 (s 0 6).toNat (spFirmN (spVoidN (spDayA s) nf) i 23)) := by rw [f0, g 6 (by decide)] at h23'; exact h23'
      have nx : spFirmN (spVoidN (spDayA s) nf) (i + 1) = up (spFirmN (spVoidN (spDayA s) nf) i) 23 (6 * i + 5) (if s 23 (6 * i + 5) = 0 ∧ s 23 (6 * i + 2) + 15 = s 0 0 + 1 then 2 else s 23 (6 * i + 5)) := by
        rw [spFirmN, spVoid_o (by decide), spVoid_o (by decide)]; rfl
      refine g_iload_n (pc := 69) C dX3_beginDay_69 1 rfl rfl ?_
      refine g_aload_n (pc := 70) C dX3_beginDay_70 0 rfl trivial rfl ?_
      refine g_get (pc := 71) C dX3_beginDay_71 cl12 hm 24 (by decide) q1843 (fun _ h9 => h9) rfl ?_
      refine g_icmp_ge (pc := 74) C dX3_beginDay_74 154 ⟨by omega, by omega⟩ ⟨by omega, by omega⟩ (by decide) (fun c_74 => ?_) (fun c_74 => ?_)
      · skip
        omega
      · skip
        refine g_aload_n (pc := 77) C dX3_beginDay_77 0 rfl trivial rfl ?_
        refine g_get (pc := 78) C dX3_beginDay_78 cl12 hm 25 (by decide) q1844 (fun _ h9 => h9) rfl ?_
        refine g_bipush (pc := 81) C dX3_beginDay_81 (by decide) ?_
        refine g_iload_n (pc := 83) C dX3_beginDay_83 1 rfl rfl ?_
        refine g_imul (pc := 84) C dX3_beginDay_84 ?_
        refine g_iconst (pc := 85) C dX3_beginDay_85 ?_
        refine g_iadd (pc := 86) C dX3_beginDay_86 ?_
        refine g_iald (pc := 87) C dX3_beginDay_87 h23 (6 * i + 5) (by omega) (by omega) (by omega) ?_
        try rw [oj]
        refine g_if_ne (pc := 88) C dX3_beginDay_88 116 ⟨by omega, by omega⟩ (by decide) (fun c_88 => ?_) (fun c_88 => ?_)
        · skip
          refine g_iconst (pc := 116) C dX3_beginDay_116 ?_
          refine g_istore_n (pc := 117) C dX3_beginDay_117 (Nat.le_of_ble_eq_true rfl) rfl rfl (loc1 := [(0, _), (1, _), (2, _)]) rfl ?_
          refine g_aload_n (pc := 118) C dX3_beginDay_118 0 rfl trivial rfl ?_
          refine g_get (pc := 119) C dX3_beginDay_119 cl12 hm 25 (by decide) q1844 (fun _ h9 => h9) rfl ?_
          refine g_bipush (pc := 122) C dX3_beginDay_122 (by decide) ?_
          refine g_iload_n (pc := 124) C dX3_beginDay_124 1 rfl rfl ?_
          refine g_imul (pc := 125) C dX3_beginDay_125 ?_
          refine g_iconst (pc := 126) C dX3_beginDay_126 ?_
          refine g_iadd (pc := 127) C dX3_beginDay_127 ?_
          refine g_iload_n (pc := 128) C dX3_beginDay_128 2 rfl rfl ?_
          refine g_if_eq (pc := 129) C dX3_beginDay_129 136 ⟨by omega, by omega⟩ (by decide) (fun c_129 => ?_) (fun c_129 => ?_)
          · skip
            refine g_aload_n (pc := 136) C dX3_beginDay_136 0 rfl trivial rfl ?_
            refine g_get (pc := 137) C dX3_beginDay_137 cl12 hm 25 (by decide) q1844 (fun _ h9 => h9) rfl ?_
            refine g_bipush (pc := 140) C dX3_beginDay_140 (by decide) ?_
            refine g_iload_n (pc := 142) C dX3_beginDay_142 1 rfl rfl ?_
            refine g_imul (pc := 143) C dX3_beginDay_143 ?_
            refine g_iconst (pc := 144) C dX3_beginDay_144 ?_
            refine g_iadd (pc := 145) C dX3_beginDay_145 ?_
            refine g_iald (pc := 146) C dX3_beginDay_146 h23 (6 * i + 5) (by omega) (by omega) (by omega) ?_
            try rw [oj]
            refine g_iast (pc := 147) C dX3_beginDay_147 h23 (by decide) (6 * i + 5) (by omega) (by omega) (by omega) ?_
            refine g_nm (fun M_147 e_147 => ?_)
            replace hx := hx.tr (gExt.putE e_147 h23 (by unfold gTM; omega))
            replace hm := g_fr e_147 hm (g_ne hm h23 (by intro e; cases e))
            replace h23 := g_at e_147
            have hR2 := hR1.w23 (M1 := M_147) (by rw [f0, g 6 (by decide)]; exact e_147)
            refine g_iinc (pc := 148) C dX3_beginDay_148 1 rfl (Nat.le_of_ble_eq_true rfl) rfl (loc1 := [(0, _), (1, _), (2, _)]) rfl ?_
            refine g_goto (pc := 151) C dX3_beginDay_151 69 (by decide) ?_
            refine G.drop 2 (loc1 := [(0, _), (1, _)]) rfl ?_
            refine ih (i + 1) _ (by omega) ?_ hx
            rw [nx]
            first | (rw [if_pos (by omega)]; exact hR2) | (rw [if_neg (by omega)]; exact hR2)
          · skip
            omega
        · skip
          refine g_aload_n (pc := 91) C dX3_beginDay_91 0 rfl trivial rfl ?_
          refine g_get (pc := 92) C dX3_beginDay_92 cl12 hm 25 (by decide) q1844 (fun _ h9 => h9) rfl ?_
          refine g_bipush (pc := 95) C dX3_beginDay_95 (by decide) ?_
          refine g_iload_n (pc := 97) C dX3_beginDay_97 1 rfl rfl ?_
          refine g_imul (pc := 98) C dX3_beginDay_98 ?_
          refine g_iconst (pc := 99) C dX3_beginDay_99 ?_
          refine g_iadd (pc := 100) C dX3_beginDay_100 ?_
          refine g_iald (pc := 101) C dX3_beginDay_101 h23 (6 * i + 2) (by omega) (by omega) (by omega) ?_
          rw [o2]
          refine g_bipush (pc := 102) C dX3_beginDay_102 (by decide) ?_
          refine g_iadd (pc := 104) C dX3_beginDay_104 ?_
          refine g_aload_n (pc := 105) C dX3_beginDay_105 0 rfl trivial rfl ?_
          refine g_get (pc := 106) C dX3_beginDay_106 cl12 hm 1 (by decide) q1820 (fun _ h9 => h9) rfl ?_
          refine g_icmp_ne (pc := 109) C dX3_beginDay_109 116 ⟨by omega, by omega⟩ ⟨by omega, by omega⟩ (by decide) (fun c_109 => ?_) (fun c_109 => ?_)
          · skip
            refine g_iconst (pc := 116) C dX3_beginDay_116 ?_
            refine g_istore_n (pc := 117) C dX3_beginDay_117 (Nat.le_of_ble_eq_true rfl) rfl rfl (loc1 := [(0, _), (1, _), (2, _)]) rfl ?_
            refine g_aload_n (pc := 118) C dX3_beginDay_118 0 rfl trivial rfl ?_
            refine g_get (pc := 119) C dX3_beginDay_119 cl12 hm 25 (by decide) q1844 (fun _ h9 => h9) rfl ?_
            refine g_bipush (pc := 122) C dX3_beginDay_122 (by decide) ?_
            refine g_iload_n (pc := 124) C dX3_beginDay_124 1 rfl rfl ?_
            refine g_imul (pc := 125) C dX3_beginDay_125 ?_
            refine g_iconst (pc := 126) C dX3_beginDay_126 ?_
            refine g_iadd (pc := 127) C dX3_beginDay_127 ?_
            refine g_iload_n (pc := 128) C dX3_beginDay_128 2 rfl rfl ?_
            refine g_if_eq (pc := 129) C dX3_beginDay_129 136 ⟨by omega, by omega⟩ (by decide) (fun c_129 => ?_) (fun c_129 => ?_)
            · skip
              refine g_aload_n (pc := 136) C dX3_beginDay_136 0 rfl trivial rfl ?_
              refine g_get (pc := 137) C dX3_beginDay_137 cl12 hm 25 (by decide) q1844 (fun _ h9 => h9) rfl ?_
              refine g_bipush (pc := 140) C dX3_beginDay_140 (by decide) ?_
              refine g_iload_n (pc := 142) C dX3_beginDay_142 1 rfl rfl ?_
              refine g_imul (pc := 143) C dX3_beginDay_143 ?_
              refine g_iconst (pc := 144) C dX3_beginDay_144 ?_
              refine g_iadd (pc := 145) C dX3_beginDay_145 ?_
              refine g_iald (pc := 146) C dX3_beginDay_146 h23 (6 * i + 5) (by omega) (by omega) (by omega) ?_
              try rw [oj]
              refine g_iast (pc := 147) C dX3_beginDay_147 h23 (by decide) (6 * i + 5) (by omega) (by omega) (by omega) ?_
              refine g_nm (fun M_147 e_147 => ?_)
              replace hx := hx.tr (gExt.putE e_147 h23 (by unfold gTM; omega))
              replace hm := g_fr e_147 hm (g_ne hm h23 (by intro e; cases e))
              replace h23 := g_at e_147
              have hR2 := hR1.w23 (M1 := M_147) (by rw [f0, g 6 (by decide)]; exact e_147)
              refine g_iinc (pc := 148) C dX3_beginDay_148 1 rfl (Nat.le_of_ble_eq_true rfl) rfl (loc1 := [(0, _), (1, _), (2, _)]) rfl ?_
              refine g_goto (pc := 151) C dX3_beginDay_151 69 (by decide) ?_
              refine G.drop 2 (loc1 := [(0, _), (1, _)]) rfl ?_
              refine ih (i + 1) _ (by omega) ?_ hx
              rw [nx]
              first | (rw [if_pos (by omega)]; exact hR2) | (rw [if_neg (by omega)]; exact hR2)
            · skip
              omega
          · skip
            refine g_iconst (pc := 112) C dX3_beginDay_112 ?_
            refine g_goto (pc := 113) C dX3_beginDay_113 117 (by decide) ?_
            refine g_istore_n (pc := 117) C dX3_beginDay_117 (Nat.le_of_ble_eq_true rfl) rfl rfl (loc1 := [(0, _), (1, _), (2, _)]) rfl ?_
            refine g_aload_n (pc := 118) C dX3_beginDay_118 0 rfl trivial rfl ?_
            refine g_get (pc := 119) C dX3_beginDay_119 cl12 hm 25 (by decide) q1844 (fun _ h9 => h9) rfl ?_
            refine g_bipush (pc := 122) C dX3_beginDay_122 (by decide) ?_
            refine g_iload_n (pc := 124) C dX3_beginDay_124 1 rfl rfl ?_
            refine g_imul (pc := 125) C dX3_beginDay_125 ?_
            refine g_iconst (pc := 126) C dX3_beginDay_126 ?_
            refine g_iadd (pc := 127) C dX3_beginDay_127 ?_
            refine g_iload_n (pc := 128) C dX3_beginDay_128 2 rfl rfl ?_
            refine g_if_eq (pc := 129) C dX3_beginDay_129 136 ⟨by omega, by omega⟩ (by decide) (fun c_129 => ?_) (fun c_129 => ?_)
            · skip
              omega
            · skip
              refine g_iconst (pc := 132) C dX3_beginDay_132 ?_
              refine g_goto (pc := 133) C dX3_beginDay_133 147 (by decide) ?_
              try rw [oj]
              refine g_iast (pc := 147) C dX3_beginDay_147 h23 (by decide) (6 * i + 5) (by omega) (by omega) (by omega) ?_
              refine g_nm (fun M_147 e_147 => ?_)
              replace hx := hx.tr (gExt.putE e_147 h23 (by unfold gTM; omega))
              replace hm := g_fr e_147 hm (g_ne hm h23 (by intro e; cases e))
              replace h23 := g_at e_147
              have hR2 := hR1.w23 (M1 := M_147) (by rw [f0, g 6 (by decide)]; exact e_147)
              refine g_iinc (pc := 148) C dX3_beginDay_148 1 rfl (Nat.le_of_ble_eq_true rfl) rfl (loc1 := [(0, _), (1, _), (2, _)]) rfl ?_
              refine g_goto (pc := 151) C dX3_beginDay_151 69 (by decide) ?_
              refine G.drop 2 (loc1 := [(0, _), (1, _)]) rfl ?_
              refine ih (i + 1) _ (by omega) ?_ hx
              rw [nx]
              first | (rw [if_pos (by omega)]; exact hR2) | (rw [if_neg (by omega)]; exact hR2)
  have loop1 : ∀ (r i : Nat) (M1 : gM), i + r = nf → RM A M1 (spVoidN (spDayA s) i) t → gExt gTM M M1 → G Z (spDay s 0 5 - s 0 5).toNat (2 * (spDay s 0 6 - s 0 6)).toNat M1 12 [(0, .ref (A 0)), (1, vi i)] [] := by
    intro r
    induction r with
    | zero =>
      intro i M1 hi hR1 hx
      obtain rfl : i = nf := by omega
      have f0 : spVoidN (spDayA s) i 0 = gUp (s 0) 0 (s 0 0 + 1) := by rw [spVoid_o (by decide), spDayA, up_s]
      have hm : M1 (A 0) = some (100, mO A t _ _ _ (s 0 3) _ _ _) := hR1.o rfl rfl rfl (by rw [f0, gUp_n _ _ (by decide)]) rfl rfl rfl
      refine g_iload_n (pc := 12) C dX3_beginDay_12 1 rfl rfl ?_
      refine g_aload_n (pc := 13) C dX3_beginDay_13 0 rfl trivial rfl ?_
      refine g_get (pc := 14) C dX3_beginDay_14 cl12 hm 13 (by decide) q1832 (fun _ h9 => h9) rfl ?_
      refine g_icmp_ge (pc := 17) C dX3_beginDay_17 67 ⟨by omega, by omega⟩ ⟨by omega, by omega⟩ (by decide) (fun c_17 => ?_) (fun c_17 => ?_)
      · skip
        refine g_iconst (pc := 67) C dX3_beginDay_67 ?_
        refine g_istore_n (pc := 68) C dX3_beginDay_68 (Nat.le_of_ble_eq_true rfl) rfl rfl (loc1 := [(0, _), (1, _)]) rfl ?_
        exact loop2 nk 0 M1 (by omega) hR1 hx
      · skip
        omega
    | succ r ih =>
      intro i M1 hi hR1 hx
      have hfm := hW.form (f := i) (by omega)
      unfold wfForm at hfm
      have f0 : spVoidN (spDayA s) i 0 = gUp (s 0) 0 (s 0 0 + 1) := by rw [spVoid_o (by decide), spDayA, up_s]
      have f12 : spVoidN (spDayA s) i 12 = s 12 := by rw [spVoid_o (by decide)]; rfl
      have oj : spVoidN (spDayA s) i 14 i = s 14 i := by rw [spVoid_hi (Nat.le_refl _)]; rfl
      have hm : M1 (A 0) = some (100, mO A t (s 0 0 + 1) _ _ (s 0 3) _ _ _) := hR1.o (by rw [f0, gUp_s]) rfl rfl (by rw [f0, gUp_n _ _ (by decide)]) rfl rfl rfl
      obtain ⟨-, -, -, -, -, -, -, -, -, -, h12', -, h14', -⟩ := id hR1
      have h12 : M1 (A 12) = some (112, gI 0 60 (s 12)) := by rw [f12] at h12'; exact h12'
      have h14 : M1 (A 14) = some (114, gI 0 60 (spVoidN (spDayA s) i 14)) := h14'
      have nx : spVoidN (spDayA s) (i + 1) = up (spVoidN (spDayA s) i) 14 i (if s 14 i = 0 ∧ s 12 i + 21 = s 0 0 + 1 then 2 else s 14 i) := rfl
      refine g_iload_n (pc := 12) C dX3_beginDay_12 1 rfl rfl ?_
      refine g_aload_n (pc := 13) C dX3_beginDay_13 0 rfl trivial rfl ?_
      refine g_get (pc := 14) C dX3_beginDay_14 cl12 hm 13 (by decide) q1832 (fun _ h9 => h9) rfl ?_
      refine g_icmp_ge (pc := 17) C dX3_beginDay_17 67 ⟨by omega, by omega⟩ ⟨by omega, by omega⟩ (by decide) (fun c_17 => ?_) (fun c_17 => ?_)
      · skip
        omega
      · skip
        refine g_aload_n (pc := 20) C dX3_beginDay_20 0 rfl trivial rfl ?_
        refine g_get (pc := 21) C dX3_beginDay_21 cl12 hm 17 (by decide) q1836 (fun _ h9 => h9) rfl ?_
        refine g_iload_n (pc := 24) C dX3_beginDay_24 1 rfl rfl ?_
        refine g_aload_n (pc := 25) C dX3_beginDay_25 0 rfl trivial rfl ?_
        refine g_get (pc := 26) C dX3_beginDay_26 cl12 hm 17 (by decide) q1836 (fun _ h9 => h9) rfl ?_
        refine g_iload_n (pc := 29) C dX3_beginDay_29 1 rfl rfl ?_
        refine g_iald (pc := 30) C dX3_beginDay_30 h14 _ rfl (by omega) (by omega) ?_
        try rw [oj]
        refine g_if_ne (pc := 31) C dX3_beginDay_31 54 ⟨by omega, by omega⟩ (by decide) (fun c_31 => ?_) (fun c_31 => ?_)
        · skip
          refine g_aload_n (pc := 54) C dX3_beginDay_54 0 rfl trivial rfl ?_
          refine g_get (pc := 55) C dX3_beginDay_55 cl12 hm 17 (by decide) q1836 (fun _ h9 => h9) rfl ?_
          refine g_iload_n (pc := 58) C dX3_beginDay_58 1 rfl rfl ?_
          refine g_iald (pc := 59) C dX3_beginDay_59 h14 _ rfl (by omega) (by omega) ?_
          try rw [oj]
          refine g_iast (pc := 60) C dX3_beginDay_60 h14 (by decide) _ rfl (by omega) (by omega) ?_
          refine g_nm (fun M_60 e_60 => ?_)
          replace hx := hx.tr (gExt.putE e_60 h14 (by unfold gTM; omega))
          replace hm := g_fr e_60 hm (g_ne hm h14 (by intro e; cases e))
          replace h14 := g_at e_60
          have hR2 := hR1.w14 (M1 := M_60) e_60
          refine g_iinc (pc := 61) C dX3_beginDay_61 1 rfl (Nat.le_of_ble_eq_true rfl) rfl (loc1 := [(0, _), (1, _)]) rfl ?_
          refine g_goto (pc := 64) C dX3_beginDay_64 12 (by decide) ?_
          refine ih (i + 1) _ (by omega) ?_ hx
          rw [nx]
          first | (rw [if_pos (by omega)]; exact hR2) | (rw [if_neg (by omega)]; exact hR2)
        · skip
          refine g_aload_n (pc := 34) C dX3_beginDay_34 0 rfl trivial rfl ?_
          refine g_get (pc := 35) C dX3_beginDay_35 cl12 hm 15 (by decide) q1834 (fun _ h9 => h9) rfl ?_
          refine g_iload_n (pc := 38) C dX3_beginDay_38 1 rfl rfl ?_
          refine g_iald (pc := 39) C dX3_beginDay_39 h12 _ rfl (by omega) (by omega) ?_
          refine g_bipush (pc := 40) C dX3_beginDay_40 (by decide) ?_
          refine g_iadd (pc := 42) C dX3_beginDay_42 ?_
          refine g_aload_n (pc := 43) C dX3_beginDay_43 0 rfl trivial rfl ?_
          refine g_get (pc := 44) C dX3_beginDay_44 cl12 hm 1 (by decide) q1820 (fun _ h9 => h9) rfl ?_
          refine g_icmp_ne (pc := 47) C dX3_beginDay_47 54 ⟨by omega, by omega⟩ ⟨by omega, by omega⟩ (by decide) (fun c_47 => ?_) (fun c_47 => ?_)
          · skip
            refine g_aload_n (pc := 54) C dX3_beginDay_54 0 rfl trivial rfl ?_
            refine g_get (pc := 55) C dX3_beginDay_55 cl12 hm 17 (by decide) q1836 (fun _ h9 => h9) rfl ?_
            refine g_iload_n (pc := 58) C dX3_beginDay_58 1 rfl rfl ?_
            refine g_iald (pc := 59) C dX3_beginDay_59 h14 _ rfl (by omega) (by omega) ?_
            try rw [oj]
            refine g_iast (pc := 60) C dX3_beginDay_60 h14 (by decide) _ rfl (by omega) (by omega) ?_
            refine g_nm (fun M_60 e_60 => ?_)
            replace hx := hx.tr (gExt.putE e_60 h14 (by unfold gTM; omega))
            replace hm := g_fr e_60 hm (g_ne hm h14 (by intro e; cases e))
            replace h14 := g_at e_60
            have hR2 := hR1.w14 (M1 := M_60) e_60
            refine g_iinc (pc := 61) C dX3_beginDay_61 1 rfl (Nat.le_of_ble_eq_true rfl) rfl (loc1 := [(0, _), (1, _)]) rfl ?_
            refine g_goto (pc := 64) C dX3_beginDay_64 12 (by decide) ?_
            refine ih (i + 1) _ (by omega) ?_ hx
            rw [nx]
            first | (rw [if_pos (by omega)]; exact hR2) | (rw [if_neg (by omega)]; exact hR2)
          · skip
            refine g_iconst (pc := 50) C dX3_beginDay_50 ?_
            refine g_goto (pc := 51) C dX3_beginDay_51 60 (by decide) ?_
            try rw [oj]
            refine g_iast (pc := 60) C dX3_beginDay_60 h14 (by decide) _ rfl (by omega) (by omega) ?_
            refine g_nm (fun M_60 e_60 => ?_)
            replace hx := hx.tr (gExt.putE e_60 h14 (by unfold gTM; omega))
            replace hm := g_fr e_60 hm (g_ne hm h14 (by intro e; cases e))
            replace h14 := g_at e_60
            have hR2 := hR1.w14 (M1 := M_60) e_60
            refine g_iinc (pc := 61) C dX3_beginDay_61 1 rfl (Nat.le_of_ble_eq_true rfl) rfl (loc1 := [(0, _), (1, _)]) rfl ?_
            refine g_goto (pc := 64) C dX3_beginDay_64 12 (by decide) ?_
            refine ih (i + 1) _ (by omega) ?_ hx
            rw [nx]
            first | (rw [if_pos (by omega)]; exact hR2) | (rw [if_neg (by omega)]; exact hR2)
  refine g_aload_n (pc := 0) C dX3_beginDay_0 0 rfl trivial rfl ?_
  refine g_dup (pc := 1) C dX3_beginDay_1 rfl ?_
  refine g_get (pc := 2) C dX3_beginDay_2 cl12 hm 1 (by decide) q1820 (fun _ h9 => h9) rfl ?_
  refine g_iconst (pc := 5) C dX3_beginDay_5 ?_
  refine g_iadd (pc := 6) C dX3_beginDay_6 ?_
  refine g_put (pc := 7) C dX3_beginDay_7 cl12 hm (by decide) 1 (by decide) q1820 (fun _ h9 => h9) rfl rfl rfl (Nat.le_of_ble_eq_true rfl) (fs1 := [_, _, _, _, _, _, _, _, _, _, _, _, _, _, _, _, _, _, _, _, _, _, _, _, _, _, _, _, _]) rfl ?_
  refine g_nm (fun M_7 e_7 => ?_)
  replace hx0 := hx0.tr (gExt.putE e_7 hm (by unfold gTM; omega))
  replace hm := g_at e_7
  have hR1 := hR.w0 (i := 0) (v := s 0 0 + 1) e_7 (by decide) rfl
  refine g_iconst (pc := 10) C dX3_beginDay_10 ?_
  refine g_istore_n (pc := 11) C dX3_beginDay_11 (Nat.le_of_ble_eq_true rfl) rfl rfl (loc1 := [(0, _), (1, _)]) rfl ?_
  exact loop1 nf 0 M_7 (by omega) hR1 hx0
def okP (s : gS) (d : Int) : Bool := okI d 1 100 && (okI d 1 100 && decide (s 0 0 + d ≤ 1500))
def kPass (s : gS) (d : Int) : Int := th2 (okI d 1 100) (okI d 1 100 && decide (s 0 0 + d ≤ 1500))
def spPass (s : gS) (d : Int) : gS := if okP s d then spPassN s d.toNat else s
def qPass (s : gS) (d : Int) : Int := if okP s d then s 0 0 + d else 0
theorem m_X3_pass_2 (hl : l.stackTraces = false) (hR : RM A M s t) (hW : WF s) {d : Int} (r1 : r32 d) : gMet E l yX3_pass_2 wX3_pass_2 5 (spPass s d 0 5 - s 0 5).toNat (2 * (spPass s d 0 6 - s 0 6)).toNat [.ref (A 0), vi d] M (fun v M1 => v = some (vi (qPass s d)) ∧ (∃ q, RM (setA A 23 q) M1 (spPass s d) (kPass s d)) ∧ gExt gTM M M1) (fun _ _ _ => False) := by
  have hs := hW.sc
  unfold wfSc at hs
  obtain ⟨hm, -⟩ := id hR
  obtain ⟨r11, r12⟩ := r1
  refine gMet.of hl rfl (Nat.le_of_ble_eq_true rfl) ?_
  intro Z hE hl0 hQ hX C hnm htab
  subst hE; subst hl0
  replace C : gC Z RX3 cX3_pass_2 4 (some .int) _ := C
  change G Z _ _ _ 0 [(0, _), (1, _)] []
  have loop : ∀ (r i n : Nat) (M1 : gM) (q k9 n9 : Nat) (t1 : Int), d = n → okP s d = true → t1 = kPass s d → i + r = n → s 0 0 + n ≤ 1500 → (spPassN s n 0 5 - spPassN s i 0 5).toNat ≤ k9 → (2 * (spPassN s n 0 6 - spPassN s i 0 6)).toNat ≤ n9 → RM (setA A 23 q) M1 (spPassN s i) t1 → gExt gTM M M1 → G Z k9 n9 M1 43 [(0, .ref (A 0)), (1, vi n), (3, vi i)] [] := by
    intro r
    induction r with
    | zero =>
      intro i n M1 q k9 n9 t1 hd hk ht1 hi hn hk9 hn9 hR1 hx
      obtain rfl : i = n := by omega
      obtain ⟨w1, w2, w3, w4⟩ := spPass_ok hW i hn
      have hm : M1 (A 0) = some (100, mO (setA A 23 q) t1 (s 0 0 + i) _ _ _ _ _ _) := hR1.o w2 rfl rfl rfl rfl rfl rfl
      refine g_iload_n (pc := 43) C dX3_pass_2_43 2 rfl rfl ?_
      refine g_iload_n (pc := 44) C dX3_pass_2_44 1 rfl rfl ?_
      refine g_icmp_ge (pc := 45) C dX3_pass_2_45 58 ⟨by omega, by omega⟩ ⟨by omega, by omega⟩ (by decide) (fun c_45 => ?_) (fun c_45 => ?_)
      · skip
        refine g_aload_n (pc := 58) C dX3_pass_2_58 0 rfl trivial rfl ?_
        refine g_get (pc := 59) C dX3_pass_2_59 cl12 hm 1 (by decide) q1820 (fun _ h9 => h9) rfl ?_
        refine g_iret (pc := 62) hQ C ?_ dX3_pass_2_62
        subst ht1; subst hd; exact ⟨by rw [qPass, if_pos hk], ⟨q, by rw [spPass, if_pos hk]; exact hR1⟩, hx⟩
      · skip
        omega
    | succ r ih =>
      intro i n M1 q k9 n9 t1 hd hk ht1 hi hn hk9 hn9 hR1 hx
      obtain ⟨w1, w2, w3, w4⟩ := spPass_ok hW i (by omega)
      have hmi := spPass_mono hW (i := i + 1) (k := n) (by omega) hn
      obtain ⟨v1, v2, v3, v4⟩ := spDay_ok w1 (by omega)
      have e9 : spPassN s (i + 1) = spDay (spPassN s i) := rfl
      rw [e9] at hmi
      have hm : M1 (A 0) = some (100, mO (setA A 23 q) t1 _ _ _ _ _ _ _) := hR1.o rfl rfl rfl rfl rfl rfl rfl
      refine g_iload_n (pc := 43) C dX3_pass_2_43 2 rfl rfl ?_
      refine g_iload_n (pc := 44) C dX3_pass_2_44 1 rfl rfl ?_
      refine g_icmp_ge (pc := 45) C dX3_pass_2_45 58 ⟨by omega, by omega⟩ ⟨by omega, by omega⟩ (by decide) (fun c_45 => ?_) (fun c_45 => ?_)
      · skip
        omega
      · skip
        refine g_aload_n (pc := 48) C dX3_pass_2_48 0 rfl trivial rfl ?_
        refine g_callV (pc := 49) C (m_X3_beginDay hl hR1 w1 (by omega)) cl12 hm q2058 q2060 qs58 q94 q2061 nmX3_beginDay rfl (by decide) (by decide) (by omega) (by omega) rfl (Nat.le_of_ble_eq_true rfl) dX3_pass_2_49 (fun v_49 M_49 h_49 => ?_) (fun E_49 q_49 M_49 h_49 => ?_)
        rotate_left
        · exact h_49.elim
        obtain ⟨rfl, ⟨q2, hR2⟩, hx2⟩ := h_49
        rw [setA_setA] at hR2
        refine g_iinc (pc := 52) C dX3_pass_2_52 2 rfl (Nat.le_of_ble_eq_true rfl) rfl (loc1 := [(0, _), (1, _), (3, _)]) rfl ?_
        refine g_goto (pc := 55) C dX3_pass_2_55 43 (by decide) ?_
        exact ih (i + 1) n _ q2 _ _ t1 hd hk ht1 (by omega) hn (by rw [e9]; omega) (by rw [e9]; omega) (by rw [e9]; exact hR2) (hx.tr hx2)
  refine g_iload_n (pc := 0) C dX3_pass_2_0 1 rfl rfl ?_
  refine g_i2l (pc := 1) C dX3_pass_2_1 ⟨by omega, by omega⟩ ?_
  refine g_lconst1 (pc := 2) C dX3_pass_2_2 ?_
  refine g_ldc2 (pc := 3) C dX3_pass_2_3 (x := jv 100) q2040 ?_
  refine g_callS (pc := 6) C (m_X3_isIn hl ⟨by omega, by omega⟩ ⟨by decide, by decide⟩ ⟨by decide, by decide⟩) q1917 q1918 q94 q1919 nmX3_isIn rfl (by decide) (by decide) (Nat.zero_le _) (Nat.zero_le _) rfl (Nat.le_of_ble_eq_true rfl) dX3_pass_2_6 (gkf ?_) gkx
  refine g_istore_n (pc := 9) C dX3_pass_2_9 (Nat.le_of_ble_eq_true rfl) rfl rfl (loc1 := [(0, _), (1, _), (2, _)]) rfl ?_
  refine g_aload_n (pc := 10) C dX3_pass_2_10 0 rfl trivial rfl ?_
  refine g_iload_n (pc := 11) C dX3_pass_2_11 2 rfl rfl ?_
  refine g_iload_n (pc := 12) C dX3_pass_2_12 2 rfl rfl ?_
  refine g_ifb_eq (pc := 13) C dX3_pass_2_13 32 (by decide) (fun c_13 => ?_) (fun c_13 => ?_)
  · skip
    have d_13 := c_13
    try simp only [decide_eq_true_eq, decide_eq_false_iff_not, Bool.and_eq_true, Bool.and_eq_false_iff, ne_eq, Classical.not_not] at c_13
    refine g_iconst (pc := 32) C dX3_pass_2_32 ?_
    refine g_callV (pc := 33) C (m_X3_fits hl hR (p := okI d 1 100) (q := okI d 1 100 && decide (s 0 0 + d ≤ 1500))) cl12 hm q1922 q1924 qs40 q94 q1925 nmX3_fits rfl (by decide) (by decide) (by omega) (by omega) (by first | (rw [b2_1 (show (okI d 1 100 && decide (s 0 0 + d ≤ 1500)) = true by simp only [okI, Bool.and_eq_true, decide_eq_true_eq]; omega)]; rfl) | (rw [b2_z0 (show (okI d 1 100 && decide (s 0 0 + d ≤ 1500)) = false by simp only [okI, Bool.and_eq_false_iff, decide_eq_false_iff_not]; omega)]; rfl)) (Nat.le_of_ble_eq_true rfl) dX3_pass_2_33 (fun v_33 M_33 h_33 => ?_) (fun E_33 q_33 M_33 h_33 => ?_)
    rotate_left
    · exact h_33.elim
    obtain ⟨rfl, hR1, hx⟩ := h_33
    obtain ⟨hm, -⟩ := id hR1
    refine g_ifb_ne (pc := 36) C dX3_pass_2_36 41 (by decide) (fun c_36 => ?_) (fun c_36 => ?_)
    · skip
      have d_36 := c_36
      try simp only [decide_eq_true_eq, decide_eq_false_iff_not, Bool.and_eq_true, Bool.and_eq_false_iff, ne_eq, Classical.not_not] at c_36
      simp only [okI, Bool.and_eq_true, decide_eq_true_eq] at c_36
      obtain ⟨n, rfl⟩ := i_nat (z := d) (by omega)
      refine g_iconst (pc := 41) C dX3_pass_2_41 ?_
      refine g_istore_n (pc := 42) C dX3_pass_2_42 (Nat.le_of_ble_eq_true rfl) rfl rfl (loc1 := [(0, _), (1, _), (2, _), (3, _)]) rfl ?_
      refine G.drop 2 (loc1 := [(0, _), (1, _), (3, _)]) rfl ?_
      exact loop n 0 n M_33 (A 23) _ _ _ rfl d_36 rfl (by omega) (by omega) (by rw [spPass, if_pos (show okP s (n : Int) = true from d_36), Int.toNat_natCast]; exact Nat.le_refl _) (by rw [spPass, if_pos (show okP s (n : Int) = true from d_36), Int.toNat_natCast]; exact Nat.le_refl _) (by rw [setA_self]; exact hR1) (gT1_TM hx (by decide))
    · skip
      have d_36 := c_36
      try simp only [decide_eq_true_eq, decide_eq_false_iff_not, Bool.and_eq_true, Bool.and_eq_false_iff, ne_eq, Classical.not_not] at c_36
      refine g_iconst (pc := 39) C dX3_pass_2_39 ?_
      refine g_iret (pc := 40) hQ C ?_ dX3_pass_2_40
      exact ⟨by rw [qPass, if_neg (by rw [okP, d_36]; exact Bool.false_ne_true)], ⟨A 23, by rw [setA_self, spPass, if_neg (by rw [okP, d_36]; exact Bool.false_ne_true)]; exact hR1⟩, gT1_TM hx (by decide)⟩
  · skip
    have d_13 := c_13
    try simp only [decide_eq_true_eq, decide_eq_false_iff_not, Bool.and_eq_true, Bool.and_eq_false_iff, ne_eq, Classical.not_not] at c_13
    refine g_aload_n (pc := 16) C dX3_pass_2_16 0 rfl trivial rfl ?_
    refine g_get (pc := 17) C dX3_pass_2_17 cl12 hm 1 (by decide) q1820 (fun _ h9 => h9) rfl ?_
    refine g_iload_n (pc := 20) C dX3_pass_2_20 1 rfl rfl ?_
    refine g_iadd (pc := 21) C dX3_pass_2_21 ?_
    refine g_sipush (pc := 22) C dX3_pass_2_22 (by decide) ?_
    refine g_icmp_gt (pc := 25) C dX3_pass_2_25 32 ⟨by omega, by omega⟩ ⟨by omega, by omega⟩ (by decide) (fun c_25 => ?_) (fun c_25 => ?_)
    · skip
      refine g_iconst (pc := 32) C dX3_pass_2_32 ?_
      refine g_callV (pc := 33) C (m_X3_fits hl hR (p := okI d 1 100) (q := okI d 1 100 && decide (s 0 0 + d ≤ 1500))) cl12 hm q1922 q1924 qs40 q94 q1925 nmX3_fits rfl (by decide) (by decide) (by omega) (by omega) (by first | (rw [b2_1 (show (okI d 1 100 && decide (s 0 0 + d ≤ 1500)) = true by simp only [okI, Bool.and_eq_true, decide_eq_true_eq]; omega)]; rfl) | (rw [b2_z0 (show (okI d 1 100 && decide (s 0 0 + d ≤ 1500)) = false by simp only [okI, Bool.and_eq_false_iff, decide_eq_false_iff_not]; omega)]; rfl)) (Nat.le_of_ble_eq_true rfl) dX3_pass_2_33 (fun v_33 M_33 h_33 => ?_) (fun E_33 q_33 M_33 h_33 => ?_)
      rotate_left
      · exact h_33.elim
      obtain ⟨rfl, hR1, hx⟩ := h_33
      obtain ⟨hm, -⟩ := id hR1
      refine g_ifb_ne (pc := 36) C dX3_pass_2_36 41 (by decide) (fun c_36 => ?_) (fun c_36 => ?_)
      · skip
        have d_36 := c_36
        try simp only [decide_eq_true_eq, decide_eq_false_iff_not, Bool.and_eq_true, Bool.and_eq_false_iff, ne_eq, Classical.not_not] at c_36
        simp only [okI, Bool.and_eq_true, decide_eq_true_eq] at c_36
        obtain ⟨n, rfl⟩ := i_nat (z := d) (by omega)
        refine g_iconst (pc := 41) C dX3_pass_2_41 ?_
        refine g_istore_n (pc := 42) C dX3_pass_2_42 (Nat.le_of_ble_eq_true rfl) rfl rfl (loc1 := [(0, _), (1, _), (2, _), (3, _)]) rfl ?_
        refine G.drop 2 (loc1 := [(0, _), (1, _), (3, _)]) rfl ?_
        exact loop n 0 n M_33 (A 23) _ _ _ rfl d_36 rfl (by omega) (by omega) (by rw [spPass, if_pos (show okP s (n : Int) = true from d_36), Int.toNat_natCast]; exact Nat.le_refl _) (by rw [spPass, if_pos (show okP s (n : Int) = true from d_36), Int.toNat_natCast]; exact Nat.le_refl _) (by rw [setA_self]; exact hR1) (gT1_TM hx (by decide))
      · skip
        have d_36 := c_36
        try simp only [decide_eq_true_eq, decide_eq_false_iff_not, Bool.and_eq_true, Bool.and_eq_false_iff, ne_eq, Classical.not_not] at c_36
        refine g_iconst (pc := 39) C dX3_pass_2_39 ?_
        refine g_iret (pc := 40) hQ C ?_ dX3_pass_2_40
        exact ⟨by rw [qPass, if_neg (by rw [okP, d_36]; exact Bool.false_ne_true)], ⟨A 23, by rw [setA_self, spPass, if_neg (by rw [okP, d_36]; exact Bool.false_ne_true)]; exact hR1⟩, gT1_TM hx (by decide)⟩
    · skip
      refine g_iconst (pc := 28) C dX3_pass_2_28 ?_
      refine g_goto (pc := 29) C dX3_pass_2_29 33 (by decide) ?_
      refine g_callV (pc := 33) C (m_X3_fits hl hR (p := okI d 1 100) (q := okI d 1 100 && decide (s 0 0 + d ≤ 1500))) cl12 hm q1922 q1924 qs40 q94 q1925 nmX3_fits rfl (by decide) (by decide) (by omega) (by omega) (by first | (rw [b2_1 (show (okI d 1 100 && decide (s 0 0 + d ≤ 1500)) = true by simp only [okI, Bool.and_eq_true, decide_eq_true_eq]; omega)]; rfl) | (rw [b2_z0 (show (okI d 1 100 && decide (s 0 0 + d ≤ 1500)) = false by simp only [okI, Bool.and_eq_false_iff, decide_eq_false_iff_not]; omega)]; rfl)) (Nat.le_of_ble_eq_true rfl) dX3_pass_2_33 (fun v_33 M_33 h_33 => ?_) (fun E_33 q_33 M_33 h_33 => ?_)
      rotate_left
      · exact h_33.elim
      obtain ⟨rfl, hR1, hx⟩ := h_33
      obtain ⟨hm, -⟩ := id hR1
      refine g_ifb_ne (pc := 36) C dX3_pass_2_36 41 (by decide) (fun c_36 => ?_) (fun c_36 => ?_)
      · skip
        have d_36 := c_36
        try simp only [decide_eq_true_eq, decide_eq_false_iff_not, Bool.and_eq_true, Bool.and_eq_false_iff, ne_eq, Classical.not_not] at c_36
        simp only [okI, Bool.and_eq_true, decide_eq_true_eq] at c_36
        obtain ⟨n, rfl⟩ := i_nat (z := d) (by omega)
        refine g_iconst (pc := 41) C dX3_pass_2_41 ?_
        refine g_istore_n (pc := 42) C dX3_pass_2_42 (Nat.le_of_ble_eq_true rfl) rfl rfl (loc1 := [(0, _), (1, _), (2, _), (3, _)]) rfl ?_
        refine G.drop 2 (loc1 := [(0, _), (1, _), (3, _)]) rfl ?_
        exact loop n 0 n M_33 (A 23) _ _ _ rfl d_36 rfl (by omega) (by omega) (by rw [spPass, if_pos (show okP s (n : Int) = true from d_36), Int.toNat_natCast]; exact Nat.le_refl _) (by rw [spPass, if_pos (show okP s (n : Int) = true from d_36), Int.toNat_natCast]; exact Nat.le_refl _) (by rw [setA_self]; exact hR1) (gT1_TM hx (by decide))
      · skip
        have d_36 := c_36
        try simp only [decide_eq_true_eq, decide_eq_false_iff_not, Bool.and_eq_true, Bool.and_eq_false_iff, ne_eq, Classical.not_not] at c_36
        refine g_iconst (pc := 39) C dX3_pass_2_39 ?_
        refine g_iret (pc := 40) hQ C ?_ dX3_pass_2_40
        exact ⟨by rw [qPass, if_neg (by rw [okP, d_36]; exact Bool.false_ne_true)], ⟨A 23, by rw [setA_self, spPass, if_neg (by rw [okP, d_36]; exact Bool.false_ne_true)]; exact hR1⟩, gT1_TM hx (by decide)⟩
end
