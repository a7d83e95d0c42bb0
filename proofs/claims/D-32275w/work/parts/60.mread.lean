/-! AppealrentModel: what only reads -/
set_option maxRecDepth 100000
/-- the model's cells: its fields are rows of the state. Tags 100.. -/
def RM (A : Nat → Nat) (M : gM) (s : gS) (t : Int) : Prop :=
  M (A 0) = some (100, gO 12 [vi t, vi (s 0 0), .ref (A 10), vi (s 0 1), vi (s 0 2), .ref (A 9), .ref (A 1), .ref (A 2), .ref (A 3), .ref (A 4), .ref (A 5), .ref (A 6), .ref (A 7), vi (s 0 3), .ref (A 11), .ref (A 12), .ref (A 13), .ref (A 14), .ref (A 15), vi (s 0 4), .ref (A 17), .ref (A 18), .ref (A 19), .ref (A 20), vi (s 0 5), .ref (A 23), .ref (A 25), vi (s 0 9), .ref (A 24)]) ∧
  M (A 1) = some (101, gI 0 10 (s 1)) ∧ M (A 2) = some (102, gI 0 10 (s 2)) ∧ M (A 3) = some (103, gI 0 10 (s 3)) ∧ M (A 4) = some (104, gI 0 10 (s 4)) ∧ M (A 5) = some (105, gI 0 10 (s 5)) ∧ M (A 6) = some (106, gI 0 510 (s 6)) ∧ M (A 7) = some (107, gI 0 510 (s 7)) ∧
  M (A 10) = some (110, gI 0 60 (s 10)) ∧ M (A 11) = some (111, gI 0 60 (s 11)) ∧ M (A 12) = some (112, gI 0 60 (s 12)) ∧ M (A 13) = some (113, gI 0 60 (s 13)) ∧ M (A 14) = some (114, gI 0 60 (s 14)) ∧ M (A 15) = some (115, gI 0 240 (s 15)) ∧
  M (A 17) = some (117, gI 0 60 (s 17)) ∧ M (A 18) = some (118, gI 0 12 (s 18)) ∧ M (A 19) = some (119, gI 2 12 (s 19)) ∧ M (A 20) = some (120, gI 2 120 (s 20)) ∧ M (A 23) = some (123, gI 0 (s 0 6).toNat (s 23)) ∧ M (A 24) = some (124, gI 0 5 (s 24))
section
variable {E : gE} {l : Launch} {M : gM} {A : Nat → Nat} {s : gS} {t : Int}
theorem m_X3_thrown (hl : l.stackTraces = false) (hR : RM A M s t) : gFun E l yX3_thrown wX3_thrown 0 [.ref (A 0)] M (vi t) := by
  obtain ⟨hm, -⟩ := hR
  refine gMet.of hl rfl (Nat.le_of_ble_eq_true rfl) ?_
  intro Z hE hl0 hQ hX C hnm htab
  subst hE; subst hl0
  replace C : gC Z RX3 cX3_thrown 1 (some .int) _ := C
  change G Z _ _ _ 0 [(0, _)] []
  refine g_aload_n (pc := 0) C dX3_thrown_0 0 rfl trivial rfl ?_
  refine g_get (pc := 1) C dX3_thrown_1 cl12 hm 0 (by decide) q1819 (fun _ h9 => h9) rfl ?_
  refine g_iret (pc := 4) hQ C ?_ dX3_thrown_4
  exact ⟨rfl, rfl⟩
theorem m_X3_isIn (hl : l.stackTraces = false) {a b c : Int} (ha : r64 a) (hb : r64 b) (hc : r64 c) : gFun E l yX3_isIn wX3_isIn 0 [vl a, vl b, vl c] M (vi (b2 (decide (b ≤ a ∧ a ≤ c)))) := by
  refine gMet.of hl rfl (Nat.le_of_ble_eq_true rfl) ?_
  intro Z hE hl0 hQ hX C hnm htab
  subst hE; subst hl0
  replace C : gC Z RX3 cX3_isIn 6 (some .boolean) _ := C
  change G Z _ _ _ 0 [(0, _), (2, _), (4, _)] []
  refine g_lload_n (pc := 0) C dX3_isIn_0 0 rfl rfl ?_
  refine g_lload_n (pc := 1) C dX3_isIn_1 1 rfl rfl ?_
  refine g_lcmp (pc := 2) C dX3_isIn_2 ha hb (fun c_2 => ?_) (fun c_2 => ?_) (fun c_2 => ?_)
  · skip
    refine g_if_lt (pc := 3) C dX3_isIn_3 17 ⟨by omega, by omega⟩ (by decide) (fun c_3 => ?_) (fun c_3 => ?_)
    · skip
      refine g_iconst (pc := 17) C dX3_isIn_17 ?_
      refine g_nret (pc := 18) hQ C rfl ?_ dX3_isIn_18
      first | exact ⟨ret_t (by omega), rfl⟩ | exact ⟨ret_f (by omega), rfl⟩
    · skip
      omega
  · skip
    refine g_if_lt (pc := 3) C dX3_isIn_3 17 ⟨by omega, by omega⟩ (by decide) (fun c_3 => ?_) (fun c_3 => ?_)
    · skip
      omega
    · skip
      refine g_lload_n (pc := 6) C dX3_isIn_6 0 rfl rfl ?_
      refine g_lload (pc := 7) C dX3_isIn_7 2 rfl ?_
      refine g_lcmp (pc := 9) C dX3_isIn_9 ha hc (fun c_9 => ?_) (fun c_9 => ?_) (fun c_9 => ?_)
      · skip
        refine g_if_gt (pc := 10) C dX3_isIn_10 17 ⟨by omega, by omega⟩ (by decide) (fun c_10 => ?_) (fun c_10 => ?_)
        · skip
          omega
        · skip
          refine g_iconst (pc := 13) C dX3_isIn_13 ?_
          refine g_goto (pc := 14) C dX3_isIn_14 18 (by decide) ?_
          refine g_nret (pc := 18) hQ C rfl ?_ dX3_isIn_18
          first | exact ⟨ret_t (by omega), rfl⟩ | exact ⟨ret_f (by omega), rfl⟩
      · skip
        refine g_if_gt (pc := 10) C dX3_isIn_10 17 ⟨by omega, by omega⟩ (by decide) (fun c_10 => ?_) (fun c_10 => ?_)
        · skip
          omega
        · skip
          refine g_iconst (pc := 13) C dX3_isIn_13 ?_
          refine g_goto (pc := 14) C dX3_isIn_14 18 (by decide) ?_
          refine g_nret (pc := 18) hQ C rfl ?_ dX3_isIn_18
          first | exact ⟨ret_t (by omega), rfl⟩ | exact ⟨ret_f (by omega), rfl⟩
      · skip
        refine g_if_gt (pc := 10) C dX3_isIn_10 17 ⟨by omega, by omega⟩ (by decide) (fun c_10 => ?_) (fun c_10 => ?_)
        · skip
          refine g_iconst (pc := 17) C dX3_isIn_17 ?_
          refine g_nret (pc := 18) hQ C rfl ?_ dX3_isIn_18
          first | exact ⟨ret_t (by omega), rfl⟩ | exact ⟨ret_f (by omega), rfl⟩
        · skip
          omega
  · skip
    refine g_if_lt (pc := 3) C dX3_isIn_3 17 ⟨by omega, by omega⟩ (by decide) (fun c_3 => ?_) (fun c_3 => ?_)
    · skip
      omega
    · skip
      refine g_lload_n (pc := 6) C dX3_isIn_6 0 rfl rfl ?_
      refine g_lload (pc := 7) C dX3_isIn_7 2 rfl ?_
      refine g_lcmp (pc := 9) C dX3_isIn_9 ha hc (fun c_9 => ?_) (fun c_9 => ?_) (fun c_9 => ?_)
      · skip
        refine g_if_gt (pc := 10) C dX3_isIn_10 17 ⟨by omega, by omega⟩ (by decide) (fun c_10 => ?_) (fun c_10 => ?_)
        · skip
          omega
        · skip
          refine g_iconst (pc := 13) C dX3_isIn_13 ?_
          refine g_goto (pc := 14) C dX3_isIn_14 18 (by decide) ?_
          refine g_nret (pc := 18) hQ C rfl ?_ dX3_isIn_18
          first | exact ⟨ret_t (by omega), rfl⟩ | exact ⟨ret_f (by omega), rfl⟩
      · skip
        refine g_if_gt (pc := 10) C dX3_isIn_10 17 ⟨by omega, by omega⟩ (by decide) (fun c_10 => ?_) (fun c_10 => ?_)
        · skip
          omega
        · skip
          refine g_iconst (pc := 13) C dX3_isIn_13 ?_
          refine g_goto (pc := 14) C dX3_isIn_14 18 (by decide) ?_
          refine g_nret (pc := 18) hQ C rfl ?_ dX3_isIn_18
          first | exact ⟨ret_t (by omega), rfl⟩ | exact ⟨ret_f (by omega), rfl⟩
      · skip
        refine g_if_gt (pc := 10) C dX3_isIn_10 17 ⟨by omega, by omega⟩ (by decide) (fun c_10 => ?_) (fun c_10 => ?_)
        · skip
          refine g_iconst (pc := 17) C dX3_isIn_17 ?_
          refine g_nret (pc := 18) hQ C rfl ?_ dX3_isIn_18
          first | exact ⟨ret_t (by omega), rfl⟩ | exact ⟨ret_f (by omega), rfl⟩
        · skip
          omega
theorem m_X3_isCase (hl : l.stackTraces = false) (hR : RM A M s t) (hW : WF s) {c : Int} (hc : r32 c) : gFun E l yX3_isCase wX3_isCase 1 [.ref (A 0), vi c] M (vi (b2 (decide (0 ≤ c ∧ c < s 0 2)))) := by
  obtain ⟨hm, -⟩ := hR
  have hs := hW.sc
  unfold wfSc at hs
  obtain ⟨hc1, hc2⟩ := hc
  refine gMet.of hl rfl (Nat.le_of_ble_eq_true rfl) ?_
  intro Z hE hl0 hQ hX C hnm htab
  subst hE; subst hl0
  replace C : gC Z RX3 cX3_isCase 2 (some .boolean) _ := C
  change G Z _ _ _ 0 [(0, _), (1, _)] []
  refine g_iload_n (pc := 0) C dX3_isCase_0 1 rfl rfl ?_
  refine g_i2l (pc := 1) C dX3_isCase_1 ⟨by omega, by omega⟩ ?_
  refine g_lconst0 (pc := 2) C dX3_isCase_2 ?_
  refine g_aload_n (pc := 3) C dX3_isCase_3 0 rfl trivial rfl ?_
  refine g_get (pc := 4) C dX3_isCase_4 cl12 hm 4 (by decide) q1823 (fun _ h9 => h9) rfl ?_
  refine g_i2l (pc := 7) C dX3_isCase_7 ⟨by omega, by omega⟩ ?_
  refine g_lconst1 (pc := 8) C dX3_isCase_8 ?_
  refine g_lsub (pc := 9) C dX3_isCase_9 ?_
  refine g_callS (pc := 10) C (m_X3_isIn hl ⟨by omega, by omega⟩ ⟨by decide, by decide⟩ ⟨by omega, by omega⟩) q1917 q1918 q94 q1919 nmX3_isIn rfl (by decide) (by decide) (Nat.zero_le _) (Nat.zero_le _) rfl (Nat.le_of_ble_eq_true rfl) dX3_isCase_10 (gkf ?_) gkx
  refine g_nret (pc := 13) hQ C (b2_z _) ?_ dX3_isCase_13
  refine ⟨?_, rfl⟩
  congr 5; simp only [eq_iff_iff]; omega
theorem m_X3_isForm (hl : l.stackTraces = false) (hR : RM A M s t) (hW : WF s) {c : Int} (hc : r32 c) : gFun E l yX3_isForm wX3_isForm 1 [.ref (A 0), vi c] M (vi (b2 (decide (0 ≤ c ∧ c < s 0 3)))) := by
  obtain ⟨hm, -⟩ := hR
  have hs := hW.sc
  unfold wfSc at hs
  obtain ⟨hc1, hc2⟩ := hc
  refine gMet.of hl rfl (Nat.le_of_ble_eq_true rfl) ?_
  intro Z hE hl0 hQ hX C hnm htab
  subst hE; subst hl0
  replace C : gC Z RX3 cX3_isForm 2 (some .boolean) _ := C
  change G Z _ _ _ 0 [(0, _), (1, _)] []
  refine g_iload_n (pc := 0) C dX3_isForm_0 1 rfl rfl ?_
  refine g_i2l (pc := 1) C dX3_isForm_1 ⟨by omega, by omega⟩ ?_
  refine g_lconst0 (pc := 2) C dX3_isForm_2 ?_
  refine g_aload_n (pc := 3) C dX3_isForm_3 0 rfl trivial rfl ?_
  refine g_get (pc := 4) C dX3_isForm_4 cl12 hm 13 (by decide) q1832 (fun _ h9 => h9) rfl ?_
  refine g_i2l (pc := 7) C dX3_isForm_7 ⟨by omega, by omega⟩ ?_
  refine g_lconst1 (pc := 8) C dX3_isForm_8 ?_
  refine g_lsub (pc := 9) C dX3_isForm_9 ?_
  refine g_callS (pc := 10) C (m_X3_isIn hl ⟨by omega, by omega⟩ ⟨by decide, by decide⟩ ⟨by omega, by omega⟩) q1917 q1918 q94 q1919 nmX3_isIn rfl (by decide) (by decide) (Nat.zero_le _) (Nat.zero_le _) rfl (Nat.le_of_ble_eq_true rfl) dX3_isForm_10 (gkf ?_) gkx
  refine g_nret (pc := 13) hQ C (b2_z _) ?_ dX3_isForm_13
  refine ⟨?_, rfl⟩
  congr 5; simp only [eq_iff_iff]; omega
theorem m_X3_isClaim (hl : l.stackTraces = false) (hR : RM A M s t) (hW : WF s) {c : Int} (hc : r32 c) : gFun E l yX3_isClaim wX3_isClaim 1 [.ref (A 0), vi c] M (vi (b2 (decide (0 ≤ c ∧ c < s 0 5)))) := by
  obtain ⟨hm, -⟩ := hR
  have hs := hW.sc
  unfold wfSc at hs
  obtain ⟨hc1, hc2⟩ := hc
  refine gMet.of hl rfl (Nat.le_of_ble_eq_true rfl) ?_
  intro Z hE hl0 hQ hX C hnm htab
  subst hE; subst hl0
  replace C : gC Z RX3 cX3_isClaim 2 (some .boolean) _ := C
  change G Z _ _ _ 0 [(0, _), (1, _)] []
  refine g_iload_n (pc := 0) C dX3_isClaim_0 1 rfl rfl ?_
  refine g_i2l (pc := 1) C dX3_isClaim_1 ⟨by omega, by omega⟩ ?_
  refine g_lconst0 (pc := 2) C dX3_isClaim_2 ?_
  refine g_aload_n (pc := 3) C dX3_isClaim_3 0 rfl trivial rfl ?_
  refine g_get (pc := 4) C dX3_isClaim_4 cl12 hm 24 (by decide) q1843 (fun _ h9 => h9) rfl ?_
  refine g_i2l (pc := 7) C dX3_isClaim_7 ⟨by omega, by omega⟩ ?_
  refine g_lconst1 (pc := 8) C dX3_isClaim_8 ?_
  refine g_lsub (pc := 9) C dX3_isClaim_9 ?_
  refine g_callS (pc := 10) C (m_X3_isIn hl ⟨by omega, by omega⟩ ⟨by decide, by decide⟩ ⟨by omega, by omega⟩) q1917 q1918 q94 q1919 nmX3_isIn rfl (by decide) (by decide) (Nat.zero_le _) (Nat.zero_le _) rfl (Nat.le_of_ble_eq_true rfl) dX3_isClaim_10 (gkf ?_) gkx
  refine g_nret (pc := 13) hQ C (b2_z _) ?_ dX3_isClaim_13
  refine ⟨?_, rfl⟩
  congr 5; simp only [eq_iff_iff]; omega
theorem m_X3_isEnded (hl : l.stackTraces = false) (hR : RM A M s t) (hW : WF s) {c : Nat} (hc : (c : Int) < s 0 2) : gFun E l yX3_isEnded wX3_isEnded 0 [.ref (A 0), vi c] M (vi (b2 (decide (s 2 c ≠ -1)))) := by
  obtain ⟨hm, h1, h2, -⟩ := hR
  have hs := hW.sc
  unfold wfSc at hs
  have hq := hW.case hc
  unfold wfCase at hq
  refine gMet.of hl rfl (Nat.le_of_ble_eq_true rfl) ?_
  intro Z hE hl0 hQ hX C hnm htab
  subst hE; subst hl0
  replace C : gC Z RX3 cX3_isEnded 2 (some .boolean) _ := C
  change G Z _ _ _ 0 [(0, _), (1, _)] []
  refine g_aload_n (pc := 0) C dX3_isEnded_0 0 rfl trivial rfl ?_
  refine g_get (pc := 1) C dX3_isEnded_1 cl12 hm 7 (by decide) q1826 (fun _ h9 => h9) rfl ?_
  refine g_iload_n (pc := 4) C dX3_isEnded_4 1 rfl rfl ?_
  refine g_iald (pc := 5) C dX3_isEnded_5 h2 _ rfl (by omega) (by omega) ?_
  refine g_iconst (pc := 6) C dX3_isEnded_6 ?_
  refine g_icmp_eq (pc := 7) C dX3_isEnded_7 14 ⟨by omega, by omega⟩ ⟨by omega, by omega⟩ (by decide) (fun c_7 => ?_) (fun c_7 => ?_)
  · skip
    refine g_iconst (pc := 14) C dX3_isEnded_14 ?_
    refine g_nret (pc := 15) hQ C rfl ?_ dX3_isEnded_15
    first | exact ⟨ret_t (by omega), rfl⟩ | exact ⟨ret_f (by omega), rfl⟩
  · skip
    refine g_iconst (pc := 10) C dX3_isEnded_10 ?_
    refine g_goto (pc := 11) C dX3_isEnded_11 15 (by decide) ?_
    refine g_nret (pc := 15) hQ C rfl ?_ dX3_isEnded_15
    first | exact ⟨ret_t (by omega), rfl⟩ | exact ⟨ret_f (by omega), rfl⟩
theorem m_X3_factOnG (hl : l.stackTraces = false) (hR : RM A M s t) (hs : wfSc s) (hfm : ∀ f : Nat, (f : Int) < s 0 3 → wfForm s f) {c which : Nat} {day : Int} (hc : (c : Int) < s 0 2) (hd : 0 ≤ day ∧ day ≤ 100000) (hw : which < 4) : gFun E l yX3_factOn wX3_factOn 0 [.ref (A 0), vi c, vi day, vi which] M (vi (spFact s c day which)) := by
  obtain ⟨hm, h1, h2, h3, h4, h5, h6, h7, h10, h11, h12, h13, h14, h15, h17, h18, h19, h20, h23, h24⟩ := hR
  unfold wfSc at hs
  obtain ⟨n, hn⟩ : ∃ n : Nat, s 0 3 = n := ⟨(s 0 3).toNat, by omega⟩
  unfold spFact
  rw [hn, Int.toNat_natCast]
  refine gMet.of hl rfl (Nat.le_of_ble_eq_true rfl) ?_
  intro Z hE hl0 hQ hX C hnm htab
  subst hE; subst hl0
  replace C : gC Z RX3 cX3_factOn 7 (some .int) _ := C
  change G Z _ _ _ 0 [(0, _), (1, _), (2, _), (3, _)] []
  have loop : ∀ (r i : Nat), i + r = n → G Z 0 0 M 6 [(0, .ref (A 0)), (1, vi c), (2, vi day), (3, vi which), (4, vi (spBest s c day which i)), (5, vi i)] [] := by
    intro r
    induction r with
    | zero =>
      intro i hi
      obtain rfl : i = n := by omega
      have hb := spBest_b s c day which i
      refine g_iload (pc := 6) C dX3_factOn_6 5 rfl ?_
      refine g_aload_n (pc := 8) C dX3_factOn_8 0 rfl trivial rfl ?_
      refine g_get (pc := 9) C dX3_factOn_9 cl12 hm 13 (by decide) q1832 (fun _ h9 => h9) rfl ?_
      refine g_icmp_ge (pc := 12) C dX3_factOn_12 113 ⟨by omega, by omega⟩ ⟨by omega, by omega⟩ (by decide) (fun c_12 => ?_) (fun c_12 => ?_)
      · skip
        refine g_iload (pc := 113) C dX3_factOn_113 4 rfl ?_
        refine g_iconst (pc := 115) C dX3_factOn_115 ?_
        refine g_icmp_ne (pc := 116) C dX3_factOn_116 132 ⟨by omega, by omega⟩ ⟨by decide, by decide⟩ (by decide) (fun c_116 => ?_) (fun c_116 => ?_)
        · skip
          obtain ⟨b, hb1, hb2⟩ := spBest_nat c_116
          rw [hb1]
          refine g_aload_n (pc := 132) C dX3_factOn_132 0 rfl trivial rfl ?_
          refine g_get (pc := 133) C dX3_factOn_133 cl12 hm 18 (by decide) q1837 (fun _ h9 => h9) rfl ?_
          refine g_iconst (pc := 136) C dX3_factOn_136 ?_
          refine g_iload (pc := 137) C dX3_factOn_137 4 rfl ?_
          refine g_imul (pc := 139) C dX3_factOn_139 ?_
          refine g_iload_n (pc := 140) C dX3_factOn_140 3 rfl rfl ?_
          refine g_iadd (pc := 141) C dX3_factOn_141 ?_
          refine g_iald (pc := 142) C dX3_factOn_142 h15 (4 * b + which) (by omega) (by omega) (by omega) ?_
          refine g_iret (pc := 143) hQ C ?_ dX3_factOn_143
          refine ⟨?_, rfl⟩
          first | rw [if_neg c_116, hb1]; rfl | rw [if_pos (by omega), if_pos (by omega)] | rw [if_pos (by omega), if_neg (by omega)]
        · skip
          refine g_iload_n (pc := 119) C dX3_factOn_119 3 rfl rfl ?_
          refine g_iconst (pc := 120) C dX3_factOn_120 ?_
          refine g_icmp_ne (pc := 121) C dX3_factOn_121 128 ⟨by omega, by omega⟩ ⟨by omega, by omega⟩ (by decide) (fun c_121 => ?_) (fun c_121 => ?_)
          · skip
            refine g_iconst (pc := 128) C dX3_factOn_128 ?_
            refine g_goto (pc := 129) C dX3_factOn_129 143 (by decide) ?_
            refine g_iret (pc := 143) hQ C ?_ dX3_factOn_143
            refine ⟨?_, rfl⟩
            first | rw [if_neg c_116, hb1]; rfl | rw [if_pos (by omega), if_pos (by omega)] | rw [if_pos (by omega), if_neg (by omega)]
          · skip
            refine g_iconst (pc := 124) C dX3_factOn_124 ?_
            refine g_goto (pc := 125) C dX3_factOn_125 143 (by decide) ?_
            refine g_iret (pc := 143) hQ C ?_ dX3_factOn_143
            refine ⟨?_, rfl⟩
            first | rw [if_neg c_116, hb1]; rfl | rw [if_pos (by omega), if_pos (by omega)] | rw [if_pos (by omega), if_neg (by omega)]
      · skip
        omega
    | succ r ih =>
      intro i hi
      have hb := spBest_b s c day which i
      have hf := hfm i (by omega)
      have ho := told_r hf hw
      unfold wfForm at hf
      refine g_iload (pc := 6) C dX3_factOn_6 5 rfl ?_
      refine g_aload_n (pc := 8) C dX3_factOn_8 0 rfl trivial rfl ?_
      refine g_get (pc := 9) C dX3_factOn_9 cl12 hm 13 (by decide) q1832 (fun _ h9 => h9) rfl ?_
      refine g_icmp_ge (pc := 12) C dX3_factOn_12 113 ⟨by omega, by omega⟩ ⟨by omega, by omega⟩ (by decide) (fun c_12 => ?_) (fun c_12 => ?_)
      · skip
        omega
      · skip
        refine g_aload_n (pc := 15) C dX3_factOn_15 0 rfl trivial rfl ?_
        refine g_get (pc := 16) C dX3_factOn_16 cl12 hm 14 (by decide) q1833 (fun _ h9 => h9) rfl ?_
        refine g_iload (pc := 19) C dX3_factOn_19 5 rfl ?_
        refine g_iald (pc := 21) C dX3_factOn_21 h11 _ rfl (by omega) (by omega) ?_
        refine g_iload_n (pc := 22) C dX3_factOn_22 1 rfl rfl ?_
        refine g_icmp_ne (pc := 23) C dX3_factOn_23 67 ⟨by omega, by omega⟩ ⟨by omega, by omega⟩ (by decide) (fun c_23 => ?_) (fun c_23 => ?_)
        · skip
          refine g_iconst (pc := 67) C dX3_factOn_67 ?_
          refine g_istore (pc := 68) C dX3_factOn_68 (Nat.le_of_ble_eq_true rfl) rfl (loc1 := [(0, _), (1, _), (2, _), (3, _), (4, _), (5, _), (6, _)]) rfl ?_
          refine g_iload (pc := 70) C dX3_factOn_70 6 rfl ?_
          refine g_if_eq (pc := 72) C dX3_factOn_72 103 ⟨by omega, by omega⟩ (by decide) (fun c_72 => ?_) (fun c_72 => ?_)
          · skip
            refine g_iload (pc := 103) C dX3_factOn_103 4 rfl ?_
            refine g_istore (pc := 105) C dX3_factOn_105 (Nat.le_of_ble_eq_true rfl) rfl (loc1 := [(0, _), (1, _), (2, _), (3, _), (4, _), (5, _), (6, _)]) rfl ?_
            refine g_iinc (pc := 107) C dX3_factOn_107 5 rfl (Nat.le_of_ble_eq_true rfl) rfl (loc1 := [(0, _), (1, _), (2, _), (3, _), (4, _), (5, _), (6, _)]) rfl ?_
            refine g_goto (pc := 110) C dX3_factOn_110 6 (by decide) ?_
            refine G.drop 6 (loc1 := [(0, _), (1, _), (2, _), (3, _), (4, _), (5, _)]) rfl ?_
            try rw [← hb1]
            have h9 := ih (i + 1) (by omega)
            first | (rw [spBest_pos (s := s) (one := c) (day := day) (which := which) (k := i) (by omega)] at h9; exact h9) | (rw [spBest_neg (s := s) (one := c) (day := day) (which := which) (k := i) (by omega)] at h9; exact h9)
          · skip
            omega
        · skip
          refine g_aload_n (pc := 26) C dX3_factOn_26 0 rfl trivial rfl ?_
          refine g_get (pc := 27) C dX3_factOn_27 cl12 hm 17 (by decide) q1836 (fun _ h9 => h9) rfl ?_
          refine g_iload (pc := 30) C dX3_factOn_30 5 rfl ?_
          refine g_iald (pc := 32) C dX3_factOn_32 h14 _ rfl (by omega) (by omega) ?_
          refine g_iconst (pc := 33) C dX3_factOn_33 ?_
          refine g_icmp_ne (pc := 34) C dX3_factOn_34 67 ⟨by omega, by omega⟩ ⟨by omega, by omega⟩ (by decide) (fun c_34 => ?_) (fun c_34 => ?_)
          · skip
            refine g_iconst (pc := 67) C dX3_factOn_67 ?_
            refine g_istore (pc := 68) C dX3_factOn_68 (Nat.le_of_ble_eq_true rfl) rfl (loc1 := [(0, _), (1, _), (2, _), (3, _), (4, _), (5, _), (6, _)]) rfl ?_
            refine g_iload (pc := 70) C dX3_factOn_70 6 rfl ?_
            refine g_if_eq (pc := 72) C dX3_factOn_72 103 ⟨by omega, by omega⟩ (by decide) (fun c_72 => ?_) (fun c_72 => ?_)
            · skip
              refine g_iload (pc := 103) C dX3_factOn_103 4 rfl ?_
              refine g_istore (pc := 105) C dX3_factOn_105 (Nat.le_of_ble_eq_true rfl) rfl (loc1 := [(0, _), (1, _), (2, _), (3, _), (4, _), (5, _), (6, _)]) rfl ?_
              refine g_iinc (pc := 107) C dX3_factOn_107 5 rfl (Nat.le_of_ble_eq_true rfl) rfl (loc1 := [(0, _), (1, _), (2, _), (3, _), (4, _), (5, _), (6, _)]) rfl ?_
              refine g_goto (pc := 110) C dX3_factOn_110 6 (by decide) ?_
              refine G.drop 6 (loc1 := [(0, _), (1, _), (2, _), (3, _), (4, _), (5, _)]) rfl ?_
              try rw [← hb1]
              have h9 := ih (i + 1) (by omega)
              first | (rw [spBest_pos (s := s) (one := c) (day := day) (which := which) (k := i) (by omega)] at h9; exact h9) | (rw [spBest_neg (s := s) (one := c) (day := day) (which := which) (k := i) (by omega)] at h9; exact h9)
            · skip
              omega
          · skip
            refine g_aload_n (pc := 37) C dX3_factOn_37 0 rfl trivial rfl ?_
            refine g_get (pc := 38) C dX3_factOn_38 cl12 hm 18 (by decide) q1837 (fun _ h9 => h9) rfl ?_
            refine g_iconst (pc := 41) C dX3_factOn_41 ?_
            refine g_iload (pc := 42) C dX3_factOn_42 5 rfl ?_
            refine g_imul (pc := 44) C dX3_factOn_44 ?_
            refine g_iload_n (pc := 45) C dX3_factOn_45 3 rfl rfl ?_
            refine g_iadd (pc := 46) C dX3_factOn_46 ?_
            refine g_iald (pc := 47) C dX3_factOn_47 h15 (4 * i + which) (by omega) (by omega) (by omega) ?_
            refine g_iconst (pc := 48) C dX3_factOn_48 ?_
            refine g_icmp_eq (pc := 49) C dX3_factOn_49 67 ⟨by omega, by omega⟩ ⟨by omega, by omega⟩ (by decide) (fun c_49 => ?_) (fun c_49 => ?_)
            · skip
              refine g_iconst (pc := 67) C dX3_factOn_67 ?_
              refine g_istore (pc := 68) C dX3_factOn_68 (Nat.le_of_ble_eq_true rfl) rfl (loc1 := [(0, _), (1, _), (2, _), (3, _), (4, _), (5, _), (6, _)]) rfl ?_
              refine g_iload (pc := 70) C dX3_factOn_70 6 rfl ?_
              refine g_if_eq (pc := 72) C dX3_factOn_72 103 ⟨by omega, by omega⟩ (by decide) (fun c_72 => ?_) (fun c_72 => ?_)
              · skip
                refine g_iload (pc := 103) C dX3_factOn_103 4 rfl ?_
                refine g_istore (pc := 105) C dX3_factOn_105 (Nat.le_of_ble_eq_true rfl) rfl (loc1 := [(0, _), (1, _), (2, _), (3, _), (4, _), (5, _), (6, _)]) rfl ?_
                refine g_iinc (pc := 107) C dX3_factOn_107 5 rfl (Nat.le_of_ble_eq_true rfl) rfl (loc1 := [(0, _), (1, _), (2, _), (3, _), (4, _), (5, _), (6, _)]) rfl ?_
                refine g_goto (pc := 110) C dX3_factOn_110 6 (by decide) ?_
                refine G.drop 6 (loc1 := [(0, _), (1, _), (2, _), (3, _), (4, _), (5, _)]) rfl ?_
                try rw [← hb1]
                have h9 := ih (i + 1) (by omega)
                first | (rw [spBest_pos (s := s) (one := c) (day := day) (which := which) (k := i) (by omega)] at h9; exact h9) | (rw [spBest_neg (s := s) (one := c) (day := day) (which := which) (k := i) (by omega)] at h9; exact h9)
              · skip
                omega
            · skip
              refine g_aload_n (pc := 52) C dX3_factOn_52 0 rfl trivial rfl ?_
              refine g_get (pc := 53) C dX3_factOn_53 cl12 hm 16 (by decide) q1835 (fun _ h9 => h9) rfl ?_
              refine g_iload (pc := 56) C dX3_factOn_56 5 rfl ?_
              refine g_iald (pc := 58) C dX3_factOn_58 h13 _ rfl (by omega) (by omega) ?_
              refine g_iload_n (pc := 59) C dX3_factOn_59 2 rfl rfl ?_
              refine g_icmp_gt (pc := 60) C dX3_factOn_60 67 ⟨by omega, by omega⟩ ⟨by omega, by omega⟩ (by decide) (fun c_60 => ?_) (fun c_60 => ?_)
              · skip
                refine g_iconst (pc := 67) C dX3_factOn_67 ?_
                refine g_istore (pc := 68) C dX3_factOn_68 (Nat.le_of_ble_eq_true rfl) rfl (loc1 := [(0, _), (1, _), (2, _), (3, _), (4, _), (5, _), (6, _)]) rfl ?_
                refine g_iload (pc := 70) C dX3_factOn_70 6 rfl ?_
                refine g_if_eq (pc := 72) C dX3_factOn_72 103 ⟨by omega, by omega⟩ (by decide) (fun c_72 => ?_) (fun c_72 => ?_)
                · skip
                  refine g_iload (pc := 103) C dX3_factOn_103 4 rfl ?_
                  refine g_istore (pc := 105) C dX3_factOn_105 (Nat.le_of_ble_eq_true rfl) rfl (loc1 := [(0, _), (1, _), (2, _), (3, _), (4, _), (5, _), (6, _)]) rfl ?_
                  refine g_iinc (pc := 107) C dX3_factOn_107 5 rfl (Nat.le_of_ble_eq_true rfl) rfl (loc1 := [(0, _), (1, _), (2, _), (3, _), (4, _), (5, _), (6, _)]) rfl ?_
                  refine g_goto (pc := 110) C dX3_factOn_110 6 (by decide) ?_
                  refine G.drop 6 (loc1 := [(0, _), (1, _), (2, _), (3, _), (4, _), (5, _)]) rfl ?_
                  try rw [← hb1]
                  have h9 := ih (i + 1) (by omega)
                  first | (rw [spBest_pos (s := s) (one := c) (day := day) (which := which) (k := i) (by omega)] at h9; exact h9) | (rw [spBest_neg (s := s) (one := c) (day := day) (which := which) (k := i) (by omega)] at h9; exact h9)
                · skip
                  omega
              · skip
                refine g_iconst (pc := 63) C dX3_factOn_63 ?_
                refine g_goto (pc := 64) C dX3_factOn_64 68 (by decide) ?_
                refine g_istore (pc := 68) C dX3_factOn_68 (Nat.le_of_ble_eq_true rfl) rfl (loc1 := [(0, _), (1, _), (2, _), (3, _), (4, _), (5, _), (6, _)]) rfl ?_
                refine g_iload (pc := 70) C dX3_factOn_70 6 rfl ?_
                refine g_if_eq (pc := 72) C dX3_factOn_72 103 ⟨by omega, by omega⟩ (by decide) (fun c_72 => ?_) (fun c_72 => ?_)
                · skip
                  omega
                · skip
                  refine g_iload (pc := 75) C dX3_factOn_75 4 rfl ?_
                  refine g_iconst (pc := 77) C dX3_factOn_77 ?_
                  refine g_icmp_eq (pc := 78) C dX3_factOn_78 98 ⟨by omega, by omega⟩ ⟨by omega, by omega⟩ (by decide) (fun c_78 => ?_) (fun c_78 => ?_)
                  · skip
                    refine g_iload (pc := 98) C dX3_factOn_98 5 rfl ?_
                    refine g_goto (pc := 100) C dX3_factOn_100 105 (by decide) ?_
                    refine g_istore (pc := 105) C dX3_factOn_105 (Nat.le_of_ble_eq_true rfl) rfl (loc1 := [(0, _), (1, _), (2, _), (3, _), (4, _), (5, _), (6, _)]) rfl ?_
                    refine g_iinc (pc := 107) C dX3_factOn_107 5 rfl (Nat.le_of_ble_eq_true rfl) rfl (loc1 := [(0, _), (1, _), (2, _), (3, _), (4, _), (5, _), (6, _)]) rfl ?_
                    refine g_goto (pc := 110) C dX3_factOn_110 6 (by decide) ?_
                    refine G.drop 6 (loc1 := [(0, _), (1, _), (2, _), (3, _), (4, _), (5, _)]) rfl ?_
                    try rw [← hb1]
                    have h9 := ih (i + 1) (by omega)
                    first | (rw [spBest_pos (s := s) (one := c) (day := day) (which := which) (k := i) (by omega)] at h9; exact h9) | (rw [spBest_neg (s := s) (one := c) (day := day) (which := which) (k := i) (by omega)] at h9; exact h9)
                  · skip
                    refine g_aload_n (pc := 81) C dX3_factOn_81 0 rfl trivial rfl ?_
                    refine g_get (pc := 82) C dX3_factOn_82 cl12 hm 16 (by decide) q1835 (fun _ h9 => h9) rfl ?_
                    refine g_iload (pc := 85) C dX3_factOn_85 5 rfl ?_
                    refine g_iald (pc := 87) C dX3_factOn_87 h13 _ rfl (by omega) (by omega) ?_
                    refine g_aload_n (pc := 88) C dX3_factOn_88 0 rfl trivial rfl ?_
                    refine g_get (pc := 89) C dX3_factOn_89 cl12 hm 16 (by decide) q1835 (fun _ h9 => h9) rfl ?_
                    refine g_iload (pc := 92) C dX3_factOn_92 4 rfl ?_
                    obtain ⟨b, hb1, hb2⟩ := spBest_nat c_78
                    have hb3 : s 13 (spBest s c day which i).toNat = s 13 b := by rw [hb1]; rfl
                    rw [hb1]
                    refine g_iald (pc := 94) C dX3_factOn_94 h13 _ rfl (by omega) (by omega) ?_
                    refine g_icmp_lt (pc := 95) C dX3_factOn_95 103 ⟨by omega, by omega⟩ ⟨by have := hfm b (by omega); unfold wfForm at this; omega, by have := hfm b (by omega); unfold wfForm at this; omega⟩ (by decide) (fun c_95 => ?_) (fun c_95 => ?_)
                    · skip
                      refine g_iload (pc := 103) C dX3_factOn_103 4 rfl ?_
                      refine g_istore (pc := 105) C dX3_factOn_105 (Nat.le_of_ble_eq_true rfl) rfl (loc1 := [(0, _), (1, _), (2, _), (3, _), (4, _), (5, _), (6, _)]) rfl ?_
                      refine g_iinc (pc := 107) C dX3_factOn_107 5 rfl (Nat.le_of_ble_eq_true rfl) rfl (loc1 := [(0, _), (1, _), (2, _), (3, _), (4, _), (5, _), (6, _)]) rfl ?_
                      refine g_goto (pc := 110) C dX3_factOn_110 6 (by decide) ?_
                      refine G.drop 6 (loc1 := [(0, _), (1, _), (2, _), (3, _), (4, _), (5, _)]) rfl ?_
                      try rw [← hb1]
                      have h9 := ih (i + 1) (by omega)
                      first | (rw [spBest_pos (s := s) (one := c) (day := day) (which := which) (k := i) (by omega)] at h9; exact h9) | (rw [spBest_neg (s := s) (one := c) (day := day) (which := which) (k := i) (by omega)] at h9; exact h9)
                    · skip
                      refine g_iload (pc := 98) C dX3_factOn_98 5 rfl ?_
                      refine g_goto (pc := 100) C dX3_factOn_100 105 (by decide) ?_
                      refine g_istore (pc := 105) C dX3_factOn_105 (Nat.le_of_ble_eq_true rfl) rfl (loc1 := [(0, _), (1, _), (2, _), (3, _), (4, _), (5, _), (6, _)]) rfl ?_
                      refine g_iinc (pc := 107) C dX3_factOn_107 5 rfl (Nat.le_of_ble_eq_true rfl) rfl (loc1 := [(0, _), (1, _), (2, _), (3, _), (4, _), (5, _), (6, _)]) rfl ?_
                      refine g_goto (pc := 110) C dX3_factOn_110 6 (by decide) ?_
                      refine G.drop 6 (loc1 := [(0, _), (1, _), (2, _), (3, _), (4, _), (5, _)]) rfl ?_
                      try rw [← hb1]
                      have h9 := ih (i + 1) (by omega)
                      first | (rw [spBest_pos (s := s) (one := c) (day := day) (which := which) (k := i) (by omega)] at h9; exact h9) | (rw [spBest_neg (s := s) (one := c) (day := day) (which := which) (k := i) (by omega)] at h9; exact h9)
  refine g_iconst (pc := 0) C dX3_factOn_0 ?_
  refine g_istore (pc := 1) C dX3_factOn_1 (Nat.le_of_ble_eq_true rfl) rfl (loc1 := [(0, _), (1, _), (2, _), (3, _), (4, _)]) rfl ?_
  refine g_iconst (pc := 3) C dX3_factOn_3 ?_
  refine g_istore (pc := 4) C dX3_factOn_4 (Nat.le_of_ble_eq_true rfl) rfl (loc1 := [(0, _), (1, _), (2, _), (3, _), (4, _), (5, _)]) rfl ?_
  exact loop n 0 (by omega)
theorem m_X3_factOn (hl : l.stackTraces = false) (hR : RM A M s t) (hW : WF s) {c which : Nat} {day : Int} (hc : (c : Int) < s 0 2) (hd : 0 ≤ day ∧ day ≤ 100000) (hw : which < 4) : gFun E l yX3_factOn wX3_factOn 0 [.ref (A 0), vi c, vi day, vi which] M (vi (spFact s c day which)) := m_X3_factOnG hl hR hW.sc (fun _ hf => hW.form hf) hc hd hw
end
