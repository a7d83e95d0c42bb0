/-! AppealrentModel: errors -/
set_option maxRecDepth 100000
section
variable {E : gE} {l : Launch} {M M1 : gM} {A : Nat → Nat} {s s1 : gS} {t t1 : Int}
theorem m_X3_errors (hl : l.stackTraces = false) (hR : RM A M s t) (hW : WF s) : gMet E l yX3_errors wX3_errors 1 0 0 [.ref (A 0)] M (qRes A M s 0 0) (fun _ _ _ => False) := by
  have hm := hR.1
  have hs := hW.sc
  unfold wfSc at hs
  obtain ⟨nc, hnc⟩ := i_nat (z := s 0 2) (by omega)
  obtain ⟨nk, hnk⟩ := i_nat (z := s 0 5) (by omega)
  have hx : gExt (gT1 100) M M := gExt.rf
  refine gMet.of hl rfl (Nat.le_of_ble_eq_true rfl) ?_
  intro Z hE hl0 hQ hX C hnm htab
  subst hE; subst hl0
  replace C : gC Z RX3 cX3_errors 5 (some .int) _ := C
  change G Z _ _ _ 0 [(0, _)] []
  have loop2 : ∀ (r i : Nat) (M1 : gM), i + r = nk → RM A M1 s 0 → gExt (gT1 100) M M1 → G Z 0 0 M1 108 [(0, .ref (A 0)), (1, vi 0), (2, vi i)] [] := by
    intro r
    induction r with
    | zero =>
      intro i M1 hi hR1 hx
      obtain rfl : i = nk := by omega
      have hm := hR1.1
      refine g_iload_n (pc := 108) C dX3_errors_108 2 rfl rfl ?_
      refine g_aload_n (pc := 109) C dX3_errors_109 0 rfl trivial rfl ?_
      refine g_get (pc := 110) C dX3_errors_110 cl12 hm 24 (by decide) q1843 (fun _ h9 => h9) rfl ?_
      refine g_icmp_ge (pc := 113) C dX3_errors_113 175 ⟨by omega, by omega⟩ ⟨by omega, by omega⟩ (by decide) (fun c_113 => ?_) (fun c_113 => ?_)
      · skip
        refine g_iload_n (pc := 175) C dX3_errors_175 1 rfl rfl ?_
        refine g_iret (pc := 176) hQ C ?_ dX3_errors_176
        exact ⟨rfl, hR1, hx⟩
      · skip
        omega
    | succ r ih =>
      intro i M1 hi hR1 hx
      obtain ⟨hm, h1, h2, h3, h4, h5, h6, h7, h10, h11, h12, h13, h14, h15, h17, h18, h19, h20, h23, h24⟩ := id hR1
      have hcl := hW.claim (k := i) (by omega)
      unfold wfClaim at hcl
      refine g_iload_n (pc := 108) C dX3_errors_108 2 rfl rfl ?_
      refine g_aload_n (pc := 109) C dX3_errors_109 0 rfl trivial rfl ?_
      refine g_get (pc := 110) C dX3_errors_110 cl12 hm 24 (by decide) q1843 (fun _ h9 => h9) rfl ?_
      refine g_icmp_ge (pc := 113) C dX3_errors_113 175 ⟨by omega, by omega⟩ ⟨by omega, by omega⟩ (by decide) (fun c_113 => ?_) (fun c_113 => ?_)
      · skip
        omega
      · skip
        refine g_aload_n (pc := 116) C dX3_errors_116 0 rfl trivial rfl ?_
        refine g_get (pc := 117) C dX3_errors_117 cl12 hm 25 (by decide) q1844 (fun _ h9 => h9) rfl ?_
        refine g_bipush (pc := 120) C dX3_errors_120 (by decide) ?_
        refine g_iload_n (pc := 122) C dX3_errors_122 2 rfl rfl ?_
        refine g_imul (pc := 123) C dX3_errors_123 ?_
        refine g_iconst (pc := 124) C dX3_errors_124 ?_
        refine g_iadd (pc := 125) C dX3_errors_125 ?_
        refine g_iald (pc := 126) C dX3_errors_126 h23 (6 * i + 4) (by omega) (by omega) (by omega) ?_
        refine g_istore_n (pc := 127) C dX3_errors_127 (Nat.le_of_ble_eq_true rfl) rfl rfl (loc1 := [(0, _), (1, _), (2, _), (3, _)]) rfl ?_
        refine g_aload_n (pc := 128) C dX3_errors_128 0 rfl trivial rfl ?_
        refine g_get (pc := 129) C dX3_errors_129 cl12 hm 25 (by decide) q1844 (fun _ h9 => h9) rfl ?_
        refine g_bipush (pc := 132) C dX3_errors_132 (by decide) ?_
        refine g_iload_n (pc := 134) C dX3_errors_134 2 rfl rfl ?_
        refine g_imul (pc := 135) C dX3_errors_135 ?_
        refine g_iconst (pc := 136) C dX3_errors_136 ?_
        refine g_iadd (pc := 137) C dX3_errors_137 ?_
        refine g_iald (pc := 138) C dX3_errors_138 h23 (6 * i + 5) (by omega) (by omega) (by omega) ?_
        refine g_istore (pc := 139) C dX3_errors_139 (Nat.le_of_ble_eq_true rfl) rfl (loc1 := [(0, _), (1, _), (2, _), (3, _), (4, _)]) rfl ?_
        refine g_iload_n (pc := 141) C dX3_errors_141 1 rfl rfl ?_
        refine g_iload (pc := 142) C dX3_errors_142 4 rfl ?_
        refine g_iconst (pc := 144) C dX3_errors_144 ?_
        refine g_icmp_ne (pc := 145) C dX3_errors_145 152 ⟨by omega, by omega⟩ ⟨by omega, by omega⟩ (by decide) (fun c_145 => ?_) (fun c_145 => ?_)
        · skip
          refine g_iload (pc := 152) C dX3_errors_152 4 rfl ?_
          refine g_iconst (pc := 154) C dX3_errors_154 ?_
          refine g_icmp_ne (pc := 155) C dX3_errors_155 166 ⟨by omega, by omega⟩ ⟨by omega, by omega⟩ (by decide) (fun c_155 => ?_) (fun c_155 => ?_)
          · skip
            refine g_iconst (pc := 166) C dX3_errors_166 ?_
            refine g_iadd (pc := 167) C dX3_errors_167 ?_
            refine g_istore_n (pc := 168) C dX3_errors_168 (Nat.le_of_ble_eq_true rfl) rfl rfl (loc1 := [(0, _), (1, _), (2, _), (3, _), (4, _)]) rfl ?_
            refine g_iinc (pc := 169) C dX3_errors_169 2 rfl (Nat.le_of_ble_eq_true rfl) rfl (loc1 := [(0, _), (1, _), (2, _), (3, _), (4, _)]) rfl ?_
            refine g_goto (pc := 172) C dX3_errors_172 108 (by decide) ?_
            refine G.drop 3 (loc1 := [(0, _), (1, _), (2, _), (4, _)]) rfl ?_
            refine G.drop 3 (loc1 := [(0, _), (1, _), (2, _)]) rfl ?_
            first | omega | exact ih (i + 1) _ (by omega) hR1 hx
          · skip
            refine g_iload_n (pc := 158) C dX3_errors_158 3 rfl rfl ?_
            refine g_if_eq (pc := 159) C dX3_errors_159 166 ⟨by omega, by omega⟩ (by decide) (fun c_159 => ?_) (fun c_159 => ?_)
            · skip
              refine g_iconst (pc := 166) C dX3_errors_166 ?_
              refine g_iadd (pc := 167) C dX3_errors_167 ?_
              refine g_istore_n (pc := 168) C dX3_errors_168 (Nat.le_of_ble_eq_true rfl) rfl rfl (loc1 := [(0, _), (1, _), (2, _), (3, _), (4, _)]) rfl ?_
              refine g_iinc (pc := 169) C dX3_errors_169 2 rfl (Nat.le_of_ble_eq_true rfl) rfl (loc1 := [(0, _), (1, _), (2, _), (3, _), (4, _)]) rfl ?_
              refine g_goto (pc := 172) C dX3_errors_172 108 (by decide) ?_
              refine G.drop 3 (loc1 := [(0, _), (1, _), (2, _), (4, _)]) rfl ?_
              refine G.drop 3 (loc1 := [(0, _), (1, _), (2, _)]) rfl ?_
              first | omega | exact ih (i + 1) _ (by omega) hR1 hx
            · skip
              refine g_iconst (pc := 162) C dX3_errors_162 ?_
              refine g_goto (pc := 163) C dX3_errors_163 167 (by decide) ?_
              refine g_iadd (pc := 167) C dX3_errors_167 ?_
              refine g_istore_n (pc := 168) C dX3_errors_168 (Nat.le_of_ble_eq_true rfl) rfl rfl (loc1 := [(0, _), (1, _), (2, _), (3, _), (4, _)]) rfl ?_
              refine g_iinc (pc := 169) C dX3_errors_169 2 rfl (Nat.le_of_ble_eq_true rfl) rfl (loc1 := [(0, _), (1, _), (2, _), (3, _), (4, _)]) rfl ?_
              refine g_goto (pc := 172) C dX3_errors_172 108 (by decide) ?_
              refine G.drop 3 (loc1 := [(0, _), (1, _), (2, _), (4, _)]) rfl ?_
              refine G.drop 3 (loc1 := [(0, _), (1, _), (2, _)]) rfl ?_
              first | omega | exact ih (i + 1) _ (by omega) hR1 hx
        · skip
          refine g_iload_n (pc := 148) C dX3_errors_148 3 rfl rfl ?_
          refine g_if_eq (pc := 149) C dX3_errors_149 162 ⟨by omega, by omega⟩ (by decide) (fun c_149 => ?_) (fun c_149 => ?_)
          · skip
            refine g_iconst (pc := 162) C dX3_errors_162 ?_
            refine g_goto (pc := 163) C dX3_errors_163 167 (by decide) ?_
            refine g_iadd (pc := 167) C dX3_errors_167 ?_
            refine g_istore_n (pc := 168) C dX3_errors_168 (Nat.le_of_ble_eq_true rfl) rfl rfl (loc1 := [(0, _), (1, _), (2, _), (3, _), (4, _)]) rfl ?_
            refine g_iinc (pc := 169) C dX3_errors_169 2 rfl (Nat.le_of_ble_eq_true rfl) rfl (loc1 := [(0, _), (1, _), (2, _), (3, _), (4, _)]) rfl ?_
            refine g_goto (pc := 172) C dX3_errors_172 108 (by decide) ?_
            refine G.drop 3 (loc1 := [(0, _), (1, _), (2, _), (4, _)]) rfl ?_
            refine G.drop 3 (loc1 := [(0, _), (1, _), (2, _)]) rfl ?_
            first | omega | exact ih (i + 1) _ (by omega) hR1 hx
          · skip
            refine g_iload (pc := 152) C dX3_errors_152 4 rfl ?_
            refine g_iconst (pc := 154) C dX3_errors_154 ?_
            refine g_icmp_ne (pc := 155) C dX3_errors_155 166 ⟨by omega, by omega⟩ ⟨by omega, by omega⟩ (by decide) (fun c_155 => ?_) (fun c_155 => ?_)
            · skip
              refine g_iconst (pc := 166) C dX3_errors_166 ?_
              refine g_iadd (pc := 167) C dX3_errors_167 ?_
              refine g_istore_n (pc := 168) C dX3_errors_168 (Nat.le_of_ble_eq_true rfl) rfl rfl (loc1 := [(0, _), (1, _), (2, _), (3, _), (4, _)]) rfl ?_
              refine g_iinc (pc := 169) C dX3_errors_169 2 rfl (Nat.le_of_ble_eq_true rfl) rfl (loc1 := [(0, _), (1, _), (2, _), (3, _), (4, _)]) rfl ?_
              refine g_goto (pc := 172) C dX3_errors_172 108 (by decide) ?_
              refine G.drop 3 (loc1 := [(0, _), (1, _), (2, _), (4, _)]) rfl ?_
              refine G.drop 3 (loc1 := [(0, _), (1, _), (2, _)]) rfl ?_
              first | omega | exact ih (i + 1) _ (by omega) hR1 hx
            · skip
              refine g_iload_n (pc := 158) C dX3_errors_158 3 rfl rfl ?_
              refine g_if_eq (pc := 159) C dX3_errors_159 166 ⟨by omega, by omega⟩ (by decide) (fun c_159 => ?_) (fun c_159 => ?_)
              · skip
                refine g_iconst (pc := 166) C dX3_errors_166 ?_
                refine g_iadd (pc := 167) C dX3_errors_167 ?_
                refine g_istore_n (pc := 168) C dX3_errors_168 (Nat.le_of_ble_eq_true rfl) rfl rfl (loc1 := [(0, _), (1, _), (2, _), (3, _), (4, _)]) rfl ?_
                refine g_iinc (pc := 169) C dX3_errors_169 2 rfl (Nat.le_of_ble_eq_true rfl) rfl (loc1 := [(0, _), (1, _), (2, _), (3, _), (4, _)]) rfl ?_
                refine g_goto (pc := 172) C dX3_errors_172 108 (by decide) ?_
                refine G.drop 3 (loc1 := [(0, _), (1, _), (2, _), (4, _)]) rfl ?_
                refine G.drop 3 (loc1 := [(0, _), (1, _), (2, _)]) rfl ?_
                first | omega | exact ih (i + 1) _ (by omega) hR1 hx
              · skip
                refine g_iconst (pc := 162) C dX3_errors_162 ?_
                refine g_goto (pc := 163) C dX3_errors_163 167 (by decide) ?_
                refine g_iadd (pc := 167) C dX3_errors_167 ?_
                refine g_istore_n (pc := 168) C dX3_errors_168 (Nat.le_of_ble_eq_true rfl) rfl rfl (loc1 := [(0, _), (1, _), (2, _), (3, _), (4, _)]) rfl ?_
                refine g_iinc (pc := 169) C dX3_errors_169 2 rfl (Nat.le_of_ble_eq_true rfl) rfl (loc1 := [(0, _), (1, _), (2, _), (3, _), (4, _)]) rfl ?_
                refine g_goto (pc := 172) C dX3_errors_172 108 (by decide) ?_
                refine G.drop 3 (loc1 := [(0, _), (1, _), (2, _), (4, _)]) rfl ?_
                refine G.drop 3 (loc1 := [(0, _), (1, _), (2, _)]) rfl ?_
                first | omega | exact ih (i + 1) _ (by omega) hR1 hx
  have loopI : ∀ (r i j : Nat) (M1 : gM), (i : Int) < s 0 2 → j + r = 51 → RM A M1 s 0 → gExt (gT1 100) M M1 → G Z 0 0 M1 9 [(0, .ref (A 0)), (1, vi 0), (2, vi ((i + 1 : Nat) : Int))] [] → G Z 0 0 M1 19 [(0, .ref (A 0)), (1, vi 0), (2, vi i), (3, vi j)] [] := by
    intro r
    induction r with
    | zero =>
      intro i j M1 hi hj hR1 hx next
      obtain rfl : j = 51 := by omega
      obtain ⟨hm, h1, h2, h3, h4, h5, -⟩ := id hR1
      have hp := spPaidTo_r hW hi
      have hq := hW.case hi
      unfold wfCase at hq
      refine g_iload_n (pc := 19) C dX3_errors_19 3 rfl rfl ?_
      refine g_bipush (pc := 20) C dX3_errors_20 (by decide) ?_
      refine g_icmp_ge (pc := 22) C dX3_errors_22 64 ⟨by omega, by omega⟩ ⟨by omega, by omega⟩ (by decide) (fun c_22 => ?_) (fun c_22 => ?_)
      · skip
        refine g_iload_n (pc := 64) C dX3_errors_64 1 rfl rfl ?_
        refine g_aload_n (pc := 65) C dX3_errors_65 0 rfl trivial rfl ?_
        refine g_iload_n (pc := 66) C dX3_errors_66 2 rfl rfl ?_
        refine g_callV (pc := 67) C (m_X3_paidTo hl hR1 hW hi) cl12 hm q2137 q2139 qs69 q94 q2140 nmX3_paidTo rfl (by decide) (by decide) (Nat.zero_le _) (Nat.zero_le _) rfl (Nat.le_of_ble_eq_true rfl) dX3_errors_67 (gkf ?_) gkx
        refine g_aload_n (pc := 70) C dX3_errors_70 0 rfl trivial rfl ?_
        refine g_get (pc := 71) C dX3_errors_71 cl12 hm 8 (by decide) q1827 (fun _ h9 => h9) rfl ?_
        refine g_iload_n (pc := 74) C dX3_errors_74 2 rfl rfl ?_
        refine g_iald (pc := 75) C dX3_errors_75 h3 _ rfl (by omega) (by omega) ?_
        refine g_aload_n (pc := 76) C dX3_errors_76 0 rfl trivial rfl ?_
        refine g_get (pc := 77) C dX3_errors_77 cl12 hm 9 (by decide) q1828 (fun _ h9 => h9) rfl ?_
        refine g_iload_n (pc := 80) C dX3_errors_80 2 rfl rfl ?_
        refine g_iald (pc := 81) C dX3_errors_81 h4 _ rfl (by omega) (by omega) ?_
        refine g_iadd (pc := 82) C dX3_errors_82 ?_
        refine g_aload_n (pc := 83) C dX3_errors_83 0 rfl trivial rfl ?_
        refine g_get (pc := 84) C dX3_errors_84 cl12 hm 10 (by decide) q1829 (fun _ h9 => h9) rfl ?_
        refine g_iload_n (pc := 87) C dX3_errors_87 2 rfl rfl ?_
        refine g_iald (pc := 88) C dX3_errors_88 h5 _ rfl (by omega) (by omega) ?_
        refine g_iadd (pc := 89) C dX3_errors_89 ?_
        refine g_icmp_ne (pc := 90) C dX3_errors_90 97 ⟨by omega, by omega⟩ ⟨by omega, by omega⟩ (by decide) (fun c_90 => ?_) (fun c_90 => ?_)
        · skip
          refine g_iconst (pc := 97) C dX3_errors_97 ?_
          refine g_iadd (pc := 98) C dX3_errors_98 ?_
          refine g_istore_n (pc := 99) C dX3_errors_99 (Nat.le_of_ble_eq_true rfl) rfl rfl (loc1 := [(0, _), (1, _), (2, _), (3, _)]) rfl ?_
          refine g_iinc (pc := 100) C dX3_errors_100 2 rfl (Nat.le_of_ble_eq_true rfl) rfl (loc1 := [(0, _), (1, _), (2, _), (3, _)]) rfl ?_
          refine g_goto (pc := 103) C dX3_errors_103 9 (by decide) ?_
          refine G.drop 3 (loc1 := [(0, _), (1, _), (2, _)]) rfl ?_
          first | omega | exact next
        · skip
          refine g_iconst (pc := 93) C dX3_errors_93 ?_
          refine g_goto (pc := 94) C dX3_errors_94 98 (by decide) ?_
          refine g_iadd (pc := 98) C dX3_errors_98 ?_
          refine g_istore_n (pc := 99) C dX3_errors_99 (Nat.le_of_ble_eq_true rfl) rfl rfl (loc1 := [(0, _), (1, _), (2, _), (3, _)]) rfl ?_
          refine g_iinc (pc := 100) C dX3_errors_100 2 rfl (Nat.le_of_ble_eq_true rfl) rfl (loc1 := [(0, _), (1, _), (2, _), (3, _)]) rfl ?_
          refine g_goto (pc := 103) C dX3_errors_103 9 (by decide) ?_
          refine G.drop 3 (loc1 := [(0, _), (1, _), (2, _)]) rfl ?_
          first | omega | exact next
      · skip
        omega
    | succ r ih =>
      intro i j M1 hi hj hR1 hx next
      obtain ⟨hm, h1, h2, h3, h4, h5, h6, h7, -⟩ := id hR1
      have hp := paid_r hW hi (m := j) (by omega)
      refine g_iload_n (pc := 19) C dX3_errors_19 3 rfl rfl ?_
      refine g_bipush (pc := 20) C dX3_errors_20 (by decide) ?_
      refine g_icmp_ge (pc := 22) C dX3_errors_22 64 ⟨by omega, by omega⟩ ⟨by omega, by omega⟩ (by decide) (fun c_22 => ?_) (fun c_22 => ?_)
      · skip
        omega
      · skip
        refine g_iload_n (pc := 25) C dX3_errors_25 1 rfl rfl ?_
        refine g_aload_n (pc := 26) C dX3_errors_26 0 rfl trivial rfl ?_
        refine g_get (pc := 27) C dX3_errors_27 cl12 hm 12 (by decide) q1831 (fun _ h9 => h9) rfl ?_
        refine g_bipush (pc := 30) C dX3_errors_30 (by decide) ?_
        refine g_iload_n (pc := 32) C dX3_errors_32 2 rfl rfl ?_
        refine g_imul (pc := 33) C dX3_errors_33 ?_
        refine g_iload_n (pc := 34) C dX3_errors_34 3 rfl rfl ?_
        refine g_iadd (pc := 35) C dX3_errors_35 ?_
        refine g_iald (pc := 36) C dX3_errors_36 h7 (51 * i + j) (by omega) (by omega) (by omega) ?_
        refine g_aload_n (pc := 37) C dX3_errors_37 0 rfl trivial rfl ?_
        refine g_get (pc := 38) C dX3_errors_38 cl12 hm 11 (by decide) q1830 (fun _ h9 => h9) rfl ?_
        refine g_bipush (pc := 41) C dX3_errors_41 (by decide) ?_
        refine g_iload_n (pc := 43) C dX3_errors_43 2 rfl rfl ?_
        refine g_imul (pc := 44) C dX3_errors_44 ?_
        refine g_iload_n (pc := 45) C dX3_errors_45 3 rfl rfl ?_
        refine g_iadd (pc := 46) C dX3_errors_46 ?_
        refine g_iald (pc := 47) C dX3_errors_47 h6 (51 * i + j) (by omega) (by omega) (by omega) ?_
        refine g_icmp_le (pc := 48) C dX3_errors_48 55 ⟨by omega, by omega⟩ ⟨by omega, by omega⟩ (by decide) (fun c_48 => ?_) (fun c_48 => ?_)
        · skip
          refine g_iconst (pc := 55) C dX3_errors_55 ?_
          refine g_iadd (pc := 56) C dX3_errors_56 ?_
          refine g_istore_n (pc := 57) C dX3_errors_57 (Nat.le_of_ble_eq_true rfl) rfl rfl (loc1 := [(0, _), (1, _), (2, _), (3, _)]) rfl ?_
          refine g_iinc (pc := 58) C dX3_errors_58 3 rfl (Nat.le_of_ble_eq_true rfl) rfl (loc1 := [(0, _), (1, _), (2, _), (3, _)]) rfl ?_
          refine g_goto (pc := 61) C dX3_errors_61 19 (by decide) ?_
          first | omega | exact ih i (j + 1) _ hi (by omega) hR1 hx next
        · skip
          refine g_iconst (pc := 51) C dX3_errors_51 ?_
          refine g_goto (pc := 52) C dX3_errors_52 56 (by decide) ?_
          refine g_iadd (pc := 56) C dX3_errors_56 ?_
          refine g_istore_n (pc := 57) C dX3_errors_57 (Nat.le_of_ble_eq_true rfl) rfl rfl (loc1 := [(0, _), (1, _), (2, _), (3, _)]) rfl ?_
          refine g_iinc (pc := 58) C dX3_errors_58 3 rfl (Nat.le_of_ble_eq_true rfl) rfl (loc1 := [(0, _), (1, _), (2, _), (3, _)]) rfl ?_
          refine g_goto (pc := 61) C dX3_errors_61 19 (by decide) ?_
          first | omega | exact ih i (j + 1) _ hi (by omega) hR1 hx next
  have loop1 : ∀ (r i : Nat) (M1 : gM), i + r = nc → RM A M1 s 0 → gExt (gT1 100) M M1 → G Z 0 0 M1 9 [(0, .ref (A 0)), (1, vi 0), (2, vi i)] [] := by
    intro r
    induction r with
    | zero =>
      intro i M1 hi hR1 hx
      obtain rfl : i = nc := by omega
      have hm := hR1.1
      refine g_iload_n (pc := 9) C dX3_errors_9 2 rfl rfl ?_
      refine g_aload_n (pc := 10) C dX3_errors_10 0 rfl trivial rfl ?_
      refine g_get (pc := 11) C dX3_errors_11 cl12 hm 4 (by decide) q1823 (fun _ h9 => h9) rfl ?_
      refine g_icmp_ge (pc := 14) C dX3_errors_14 106 ⟨by omega, by omega⟩ ⟨by omega, by omega⟩ (by decide) (fun c_14 => ?_) (fun c_14 => ?_)
      · skip
        refine g_iconst (pc := 106) C dX3_errors_106 ?_
        refine g_istore_n (pc := 107) C dX3_errors_107 (Nat.le_of_ble_eq_true rfl) rfl rfl (loc1 := [(0, _), (1, _), (2, _)]) rfl ?_
        exact loop2 nk 0 M1 (by omega) hR1 hx
      · skip
        omega
    | succ r ih =>
      intro i M1 hi hR1 hx
      have hm := hR1.1
      refine g_iload_n (pc := 9) C dX3_errors_9 2 rfl rfl ?_
      refine g_aload_n (pc := 10) C dX3_errors_10 0 rfl trivial rfl ?_
      refine g_get (pc := 11) C dX3_errors_11 cl12 hm 4 (by decide) q1823 (fun _ h9 => h9) rfl ?_
      refine g_icmp_ge (pc := 14) C dX3_errors_14 106 ⟨by omega, by omega⟩ ⟨by omega, by omega⟩ (by decide) (fun c_14 => ?_) (fun c_14 => ?_)
      · skip
        omega
      · skip
        refine g_iconst (pc := 17) C dX3_errors_17 ?_
        refine g_istore_n (pc := 18) C dX3_errors_18 (Nat.le_of_ble_eq_true rfl) rfl rfl (loc1 := [(0, _), (1, _), (2, _), (3, _)]) rfl ?_
        exact loopI 51 i 0 M1 (by omega) (by omega) hR1 hx (ih (i + 1) M1 (by omega) hR1 hx)
  refine g_aload_n (pc := 0) C dX3_errors_0 0 rfl trivial rfl ?_
  refine g_iconst (pc := 1) C dX3_errors_1 ?_
  refine g_put (pc := 2) C dX3_errors_2 cl12 hm (by decide) 0 (by decide) q1819 (fun _ h9 => h9) rfl rfl rfl (Nat.le_of_ble_eq_true rfl) (fs1 := [_, _, _, _, _, _, _, _, _, _, _, _, _, _, _, _, _, _, _, _, _, _, _, _, _, _, _, _, _]) rfl ?_
  refine g_nm (fun M_2 e_2 => ?_)
  replace hx := hx.tr (gExt.putE e_2 hm rfl)
  replace hm := g_at e_2
  have hR1 := hR.sc (s1 := s) (t1 := 0) e_2 rfl (fun _ _ => rfl) rfl
  refine g_iconst (pc := 5) C dX3_errors_5 ?_
  refine g_istore_n (pc := 6) C dX3_errors_6 (Nat.le_of_ble_eq_true rfl) rfl rfl (loc1 := [(0, _), (1, _)]) rfl ?_
  refine g_iconst (pc := 7) C dX3_errors_7 ?_
  refine g_istore_n (pc := 8) C dX3_errors_8 (Nat.le_of_ble_eq_true rfl) rfl rfl (loc1 := [(0, _), (1, _), (2, _)]) rfl ?_
  exact loop1 nc 0 M_2 (by omega) hR1 hx
end
