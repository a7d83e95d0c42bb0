/-! AppealrentModel: numbers in the tape -/
set_option maxRecDepth 100000
section
variable {E : gE} {l : Launch} {M M1 : gM} {A : Nat → Nat} {s s1 : gS} {t t1 : Int}
/-- digits from a on: k of them; their number -/
def spDig (T : Nat → Int) (a : Nat) : Nat → Bool
  | 0 => true
  | k + 1 => spDig T a k && decide (48 ≤ T (a + k) ∧ T (a + k) ≤ 57)
def spVal (T : Nat → Int) (a : Nat) : Nat → Int
  | 0 => 0
  | k + 1 => 10 * spVal T a k + T (a + k) - 48
theorem spDig_le {T : Nat → Int} {a : Nat} : ∀ {k n : Nat}, k ≤ n → spDig T a n = true → spDig T a k = true
  | k, 0, h, q => by rw [show k = 0 by omega]; exact q
  | k, n + 1, h, q => by
    by_cases e : k = n + 1
    · rw [e]; exact q
    · rw [spDig, Bool.and_eq_true] at q
      exact spDig_le (by omega) q.1
theorem spVal_r {T : Nat → Int} {a : Nat} : ∀ {k : Nat}, k ≤ 7 → spDig T a k = true → 0 ≤ spVal T a k ∧ spVal T a k < 10 ^ k
  | 0, _, _ => ⟨Int.le_refl 0, Int.zero_lt_one⟩
  | k + 1, h, q => by
    rw [spDig, Bool.and_eq_true, decide_eq_true_eq] at q
    have ih := spVal_r (k := k) (by omega) q.1
    rw [spVal, Int.pow_succ]
    omega
/-- the number of the word from a to b, within bounds; none: -1 -/
def spNum (T : Nat → Int) (a b : Nat) (lo hi : Int) : Int := if (1 ≤ b - a ∧ b - a ≤ 7) ∧ spDig T a (b - a) = true ∧ lo ≤ spVal T a (b - a) ∧ spVal T a (b - a) ≤ hi then spVal T a (b - a) else -1
def qReads (s : gS) (lo hi : Int) : Int := spNum (s 10) (s 0 9).toNat (spWend s (s 0 9).toNat) lo hi
def spReads (s : gS) (lo hi : Int) : gS := if qReads s lo hi = -1 then s else spPassW s
theorem m_X3_reads (hl : l.stackTraces = false) (hR : RM A M s t) (hW : WF s) (hle : s 0 9 ≤ s 0 1) {lo hi : Int} (hlo : 0 ≤ lo ∧ lo ≤ 2000000000) (hhi : 0 ≤ hi ∧ hi ≤ 2000000000) : gMet E l yX3_reads wX3_reads 2 0 0 [.ref (A 0), vi lo, vi hi] M (fun v M1 => v = some (vi (qReads s lo hi)) ∧ RM A M1 (spReads s lo hi) t ∧ gExt gTM M M1) (fun _ _ _ => False) := by
  obtain ⟨hm, h1, h2, h3, h4, h5, h6, h7, h10, -⟩ := id hR
  have hs := hW.sc
  unfold wfSc at hs
  obtain ⟨a, ha⟩ := i_nat (z := s 0 9) (by omega)
  have hwr := spWend_r hW
  have hat : (s 0 9).toNat = a := by omega
  obtain ⟨b, hb⟩ : ∃ b : Nat, spWend s (s 0 9).toNat = b := ⟨_, rfl⟩
  have hb2 : b ≤ (s 0 1).toNat := by
    have := weN_r (s 10) ((s 0 1).toNat - a) a
    rw [spWend, hat] at hb
    omega
  rw [hb, hat] at hwr
  have htp := hW.tape
  unfold wfTape at htp
  have hq : qReads s lo hi = spNum (s 10) a b lo hi := by rw [qReads, hb, hat]
  refine gMet.of hl rfl (Nat.le_of_ble_eq_true rfl) ?_
  intro Z hE hl0 hQ hX C hnm htab
  subst hE; subst hl0
  replace C : gC Z RX3 cX3_reads 7 (some .int) _ := C
  change G Z _ _ _ 0 [(0, _), (1, _), (2, _)] []
  have bad : ∀ (i : Nat) (v : Int), i ≤ 60 → qReads s lo hi = -1 → G Z 0 0 M 30 [(0, .ref (A 0)), (1, vi lo), (2, vi hi), (3, vi b), (4, vi 0), (5, vi v), (6, vi i)] [] := by
    intro i v hi6 hn
    refine g_iload (pc := 30) C dX3_reads_30 6 rfl ?_
    refine g_iload_n (pc := 32) C dX3_reads_32 3 rfl rfl ?_
    refine g_icmp_ge (pc := 33) C dX3_reads_33 96 ⟨by omega, by omega⟩ ⟨by omega, by omega⟩ (by decide) (fun c_33 => ?_) (fun c_33 => ?_)
    · skip
      refine g_iload (pc := 96) C dX3_reads_96 4 rfl ?_
      refine g_if_eq (pc := 98) C dX3_reads_98 114 ⟨by omega, by omega⟩ (by decide) (fun c_98 => ?_) (fun c_98 => ?_)
      · skip
        refine g_iconst (pc := 114) C dX3_reads_114 ?_
        refine g_iret (pc := 115) hQ C ?_ dX3_reads_115
        exact ⟨by rw [hn], by rw [spReads, if_pos hn]; exact hR, gExt.rf⟩
      · skip
        omega
    · skip
      refine g_iload (pc := 36) C dX3_reads_36 4 rfl ?_
      refine g_if_eq (pc := 38) C dX3_reads_38 96 ⟨by omega, by omega⟩ (by decide) (fun c_38 => ?_) (fun c_38 => ?_)
      · skip
        refine g_iload (pc := 96) C dX3_reads_96 4 rfl ?_
        refine g_if_eq (pc := 98) C dX3_reads_98 114 ⟨by omega, by omega⟩ (by decide) (fun c_98 => ?_) (fun c_98 => ?_)
        · skip
          refine g_iconst (pc := 114) C dX3_reads_114 ?_
          refine g_iret (pc := 115) hQ C ?_ dX3_reads_115
          exact ⟨by rw [hn], by rw [spReads, if_pos hn]; exact hR, gExt.rf⟩
        · skip
          omega
      · skip
        omega
  have loop : ∀ (r i : Nat), i + r = b - a → 1 ≤ b - a ∧ b - a ≤ 7 → spDig (s 10) a i = true → G Z 0 0 M 30 [(0, .ref (A 0)), (1, vi lo), (2, vi hi), (3, vi b), (4, vi 1), (5, vi (spVal (s 10) a i)), (6, vi ((a + i : Nat) : Int))] [] := by
    intro r
    induction r with
    | zero =>
      intro i hi9 hlen hd
      obtain rfl : i = b - a := by omega
      have hv := spVal_r hlen.2 hd
      have hp : (10 : Int) ^ (b - a) ≤ 10000000 := by
        have : b - a = 1 ∨ b - a = 2 ∨ b - a = 3 ∨ b - a = 4 ∨ b - a = 5 ∨ b - a = 6 ∨ b - a = 7 := by omega
        rcases this with e | e | e | e | e | e | e <;> rw [e] <;> decide
      refine g_iload (pc := 30) C dX3_reads_30 6 rfl ?_
      refine g_iload_n (pc := 32) C dX3_reads_32 3 rfl rfl ?_
      refine g_icmp_ge (pc := 33) C dX3_reads_33 96 ⟨by omega, by omega⟩ ⟨by omega, by omega⟩ (by decide) (fun c_33 => ?_) (fun c_33 => ?_)
      · skip
        refine g_iload (pc := 96) C dX3_reads_96 4 rfl ?_
        refine g_if_eq (pc := 98) C dX3_reads_98 114 ⟨by omega, by omega⟩ (by decide) (fun c_98 => ?_) (fun c_98 => ?_)
        · skip
          omega
        · skip
          refine g_iload (pc := 101) C dX3_reads_101 5 rfl ?_
          refine g_i2l (pc := 103) C dX3_reads_103 ⟨by omega, by omega⟩ ?_
          refine g_iload_n (pc := 104) C dX3_reads_104 1 rfl rfl ?_
          refine g_i2l (pc := 105) C dX3_reads_105 ⟨by omega, by omega⟩ ?_
          refine g_iload_n (pc := 106) C dX3_reads_106 2 rfl rfl ?_
          refine g_i2l (pc := 107) C dX3_reads_107 ⟨by omega, by omega⟩ ?_
          refine g_callS (pc := 108) C (m_X3_isIn hl ⟨by omega, by omega⟩ ⟨by omega, by omega⟩ ⟨by omega, by omega⟩) q1917 q1918 q94 q1919 nmX3_isIn rfl (by decide) (by decide) (Nat.zero_le _) (Nat.zero_le _) rfl (Nat.le_of_ble_eq_true rfl) dX3_reads_108 (gkf ?_) gkx
          refine g_ifb_ne (pc := 111) C dX3_reads_111 116 (by decide) (fun c_111 => ?_) (fun c_111 => ?_)
          · skip
            have d_111 := c_111
            try simp only [decide_eq_true_eq, decide_eq_false_iff_not, Bool.and_eq_true, Bool.and_eq_false_iff, ne_eq, Classical.not_not] at c_111
            refine g_aload_n (pc := 116) C dX3_reads_116 0 rfl trivial rfl ?_
            refine g_callV (pc := 117) C (m_X3_pass hl hR hW) cl12 hm q1989 q1991 qs49 q94 q1992 nmX3_pass rfl (by decide) (by decide) (by omega) (by omega) rfl (Nat.le_of_ble_eq_true rfl) dX3_reads_117 (fun v_117 M_117 h_117 => ?_) (fun E_117 q_117 M_117 h_117 => ?_)
            rotate_left
            · exact h_117.elim
            obtain ⟨rfl, hR2, hx2⟩ := h_117
            have hq2 : qReads s lo hi = spVal (s 10) a (b - a) := by rw [hq, spNum, if_pos ⟨hlen, hd, c_111⟩]
            refine g_iload (pc := 120) C dX3_reads_120 5 rfl ?_
            refine g_iret (pc := 122) hQ C ?_ dX3_reads_122
            exact ⟨by rw [hq2], by rw [spReads, if_neg (by rw [hq2]; omega)]; exact hR2, hx2⟩
          · skip
            have d_111 := c_111
            try simp only [decide_eq_true_eq, decide_eq_false_iff_not, Bool.and_eq_true, Bool.and_eq_false_iff, ne_eq, Classical.not_not] at c_111
            refine g_iconst (pc := 114) C dX3_reads_114 ?_
            refine g_iret (pc := 115) hQ C ?_ dX3_reads_115
            exact ⟨by rw [hq, spNum, if_neg (fun z => c_111 z.2.2)], by rw [spReads, if_pos (by rw [hq, spNum, if_neg (fun z => c_111 z.2.2)])]; exact hR, gExt.rf⟩
      · skip
        omega
    | succ r ih =>
      intro i hi9 hlen hd
      have hsg := htp (a + i) (by omega)
      unfold wfSign at hsg
      refine g_iload (pc := 30) C dX3_reads_30 6 rfl ?_
      refine g_iload_n (pc := 32) C dX3_reads_32 3 rfl rfl ?_
      refine g_icmp_ge (pc := 33) C dX3_reads_33 96 ⟨by omega, by omega⟩ ⟨by omega, by omega⟩ (by decide) (fun c_33 => ?_) (fun c_33 => ?_)
      · skip
        omega
      · skip
        refine g_iload (pc := 36) C dX3_reads_36 4 rfl ?_
        refine g_if_eq (pc := 38) C dX3_reads_38 96 ⟨by omega, by omega⟩ (by decide) (fun c_38 => ?_) (fun c_38 => ?_)
        · skip
          omega
        · skip
          refine g_aload_n (pc := 41) C dX3_reads_41 0 rfl trivial rfl ?_
          refine g_get (pc := 42) C dX3_reads_42 cl12 hm 2 (by decide) q1821 (fun _ h9 => h9) rfl ?_
          refine g_iload (pc := 45) C dX3_reads_45 6 rfl ?_
          refine g_iald (pc := 47) C dX3_reads_47 h10 (a + i) (by omega) (by omega) (by omega) ?_
          refine g_bipush (pc := 48) C dX3_reads_48 (by decide) ?_
          refine g_icmp_lt (pc := 50) C dX3_reads_50 69 ⟨by omega, by omega⟩ ⟨by omega, by omega⟩ (by decide) (fun c_50 => ?_) (fun c_50 => ?_)
          · skip
            refine g_iconst (pc := 69) C dX3_reads_69 ?_
            refine g_istore (pc := 70) C dX3_reads_70 (Nat.le_of_ble_eq_true rfl) rfl (loc1 := [(0, _), (1, _), (2, _), (3, _), (4, _), (5, _), (6, _)]) rfl ?_
            refine g_bipush (pc := 72) C dX3_reads_72 (by decide) ?_
            refine g_iload (pc := 74) C dX3_reads_74 5 rfl ?_
            refine g_imul (pc := 76) C dX3_reads_76 ?_
            refine g_aload_n (pc := 77) C dX3_reads_77 0 rfl trivial rfl ?_
            refine g_get (pc := 78) C dX3_reads_78 cl12 hm 2 (by decide) q1821 (fun _ h9 => h9) rfl ?_
            refine g_iload (pc := 81) C dX3_reads_81 6 rfl ?_
            refine g_iald (pc := 83) C dX3_reads_83 h10 (a + i) (by omega) (by omega) (by omega) ?_
            refine g_iadd (pc := 84) C dX3_reads_84 ?_
            refine g_bipush (pc := 85) C dX3_reads_85 (by decide) ?_
            refine g_isub (pc := 87) C dX3_reads_87 ?_
            refine g_istore (pc := 88) C dX3_reads_88 (Nat.le_of_ble_eq_true rfl) rfl (loc1 := [(0, _), (1, _), (2, _), (3, _), (4, _), (5, _), (6, _)]) rfl ?_
            refine g_iinc (pc := 90) C dX3_reads_90 6 rfl (Nat.le_of_ble_eq_true rfl) rfl (loc1 := [(0, _), (1, _), (2, _), (3, _), (4, _), (5, _), (6, _)]) rfl ?_
            refine g_goto (pc := 93) C dX3_reads_93 30 (by decide) ?_
            first | (have h9 := ih (i + 1) (by omega) hlen (by rw [spDig, hd, Bool.true_and, decide_eq_true_eq]; omega); exact h9) | exact bad (a + i + 1) _ (by omega) (by rw [hq, spNum, if_neg (fun z => by have z2 := spDig_le (show i + 1 ≤ b - a by omega) z.2.1; rw [spDig, hd, Bool.true_and, decide_eq_true_eq] at z2; omega)])
          · skip
            refine g_aload_n (pc := 53) C dX3_reads_53 0 rfl trivial rfl ?_
            refine g_get (pc := 54) C dX3_reads_54 cl12 hm 2 (by decide) q1821 (fun _ h9 => h9) rfl ?_
            refine g_iload (pc := 57) C dX3_reads_57 6 rfl ?_
            refine g_iald (pc := 59) C dX3_reads_59 h10 (a + i) (by omega) (by omega) (by omega) ?_
            refine g_bipush (pc := 60) C dX3_reads_60 (by decide) ?_
            refine g_icmp_gt (pc := 62) C dX3_reads_62 69 ⟨by omega, by omega⟩ ⟨by omega, by omega⟩ (by decide) (fun c_62 => ?_) (fun c_62 => ?_)
            · skip
              refine g_iconst (pc := 69) C dX3_reads_69 ?_
              refine g_istore (pc := 70) C dX3_reads_70 (Nat.le_of_ble_eq_true rfl) rfl (loc1 := [(0, _), (1, _), (2, _), (3, _), (4, _), (5, _), (6, _)]) rfl ?_
              refine g_bipush (pc := 72) C dX3_reads_72 (by decide) ?_
              refine g_iload (pc := 74) C dX3_reads_74 5 rfl ?_
              refine g_imul (pc := 76) C dX3_reads_76 ?_
              refine g_aload_n (pc := 77) C dX3_reads_77 0 rfl trivial rfl ?_
              refine g_get (pc := 78) C dX3_reads_78 cl12 hm 2 (by decide) q1821 (fun _ h9 => h9) rfl ?_
              refine g_iload (pc := 81) C dX3_reads_81 6 rfl ?_
              refine g_iald (pc := 83) C dX3_reads_83 h10 (a + i) (by omega) (by omega) (by omega) ?_
              refine g_iadd (pc := 84) C dX3_reads_84 ?_
              refine g_bipush (pc := 85) C dX3_reads_85 (by decide) ?_
              refine g_isub (pc := 87) C dX3_reads_87 ?_
              refine g_istore (pc := 88) C dX3_reads_88 (Nat.le_of_ble_eq_true rfl) rfl (loc1 := [(0, _), (1, _), (2, _), (3, _), (4, _), (5, _), (6, _)]) rfl ?_
              refine g_iinc (pc := 90) C dX3_reads_90 6 rfl (Nat.le_of_ble_eq_true rfl) rfl (loc1 := [(0, _), (1, _), (2, _), (3, _), (4, _), (5, _), (6, _)]) rfl ?_
              refine g_goto (pc := 93) C dX3_reads_93 30 (by decide) ?_
              first | (have h9 := ih (i + 1) (by omega) hlen (by rw [spDig, hd, Bool.true_and, decide_eq_true_eq]; omega); exact h9) | exact bad (a + i + 1) _ (by omega) (by rw [hq, spNum, if_neg (fun z => by have z2 := spDig_le (show i + 1 ≤ b - a by omega) z.2.1; rw [spDig, hd, Bool.true_and, decide_eq_true_eq] at z2; omega)])
            · skip
              refine g_iconst (pc := 65) C dX3_reads_65 ?_
              refine g_goto (pc := 66) C dX3_reads_66 70 (by decide) ?_
              refine g_istore (pc := 70) C dX3_reads_70 (Nat.le_of_ble_eq_true rfl) rfl (loc1 := [(0, _), (1, _), (2, _), (3, _), (4, _), (5, _), (6, _)]) rfl ?_
              refine g_bipush (pc := 72) C dX3_reads_72 (by decide) ?_
              refine g_iload (pc := 74) C dX3_reads_74 5 rfl ?_
              refine g_imul (pc := 76) C dX3_reads_76 ?_
              refine g_aload_n (pc := 77) C dX3_reads_77 0 rfl trivial rfl ?_
              refine g_get (pc := 78) C dX3_reads_78 cl12 hm 2 (by decide) q1821 (fun _ h9 => h9) rfl ?_
              refine g_iload (pc := 81) C dX3_reads_81 6 rfl ?_
              refine g_iald (pc := 83) C dX3_reads_83 h10 (a + i) (by omega) (by omega) (by omega) ?_
              refine g_iadd (pc := 84) C dX3_reads_84 ?_
              refine g_bipush (pc := 85) C dX3_reads_85 (by decide) ?_
              refine g_isub (pc := 87) C dX3_reads_87 ?_
              refine g_istore (pc := 88) C dX3_reads_88 (Nat.le_of_ble_eq_true rfl) rfl (loc1 := [(0, _), (1, _), (2, _), (3, _), (4, _), (5, _), (6, _)]) rfl ?_
              refine g_iinc (pc := 90) C dX3_reads_90 6 rfl (Nat.le_of_ble_eq_true rfl) rfl (loc1 := [(0, _), (1, _), (2, _), (3, _), (4, _), (5, _), (6, _)]) rfl ?_
              refine g_goto (pc := 93) C dX3_reads_93 30 (by decide) ?_
              first | (have h9 := ih (i + 1) (by omega) hlen (by rw [spDig, hd, Bool.true_and, decide_eq_true_eq]; omega); exact h9) | exact bad (a + i + 1) _ (by omega) (by rw [hq, spNum, if_neg (fun z => by have z2 := spDig_le (show i + 1 ≤ b - a by omega) z.2.1; rw [spDig, hd, Bool.true_and, decide_eq_true_eq] at z2; omega)])
  refine g_aload_n (pc := 0) C dX3_reads_0 0 rfl trivial rfl ?_
  refine g_callV (pc := 1) C (m_X3_wordEnd hl hR hW) cl12 hm q1983 q1985 qs48 q94 q1986 nmX3_wordEnd rfl (by decide) (by decide) (Nat.zero_le _) (Nat.zero_le _) rfl (Nat.le_of_ble_eq_true rfl) dX3_reads_1 (gkf ?_) gkx
  rw [hb]
  refine g_istore_n (pc := 4) C dX3_reads_4 (Nat.le_of_ble_eq_true rfl) rfl rfl (loc1 := [(0, _), (1, _), (2, _), (3, _)]) rfl ?_
  refine g_iload_n (pc := 5) C dX3_reads_5 3 rfl rfl ?_
  refine g_aload_n (pc := 6) C dX3_reads_6 0 rfl trivial rfl ?_
  refine g_get (pc := 7) C dX3_reads_7 cl12 hm 27 (by decide) q1846 (fun _ h9 => h9) rfl ?_
  refine g_isub (pc := 10) C dX3_reads_10 ?_
  refine g_i2l (pc := 11) C dX3_reads_11 ⟨by omega, by omega⟩ ?_
  refine g_lconst1 (pc := 12) C dX3_reads_12 ?_
  refine g_ldc2 (pc := 13) C dX3_reads_13 (x := jv 7) q2002 ?_
  refine g_callS (pc := 16) C (m_X3_isIn hl ⟨by omega, by omega⟩ ⟨by decide, by decide⟩ ⟨by decide, by decide⟩) q1917 q1918 q94 q1919 nmX3_isIn rfl (by decide) (by decide) (Nat.zero_le _) (Nat.zero_le _) rfl (Nat.le_of_ble_eq_true rfl) dX3_reads_16 (gkf ?_) gkx
  refine g_istore (pc := 19) C dX3_reads_19 (Nat.le_of_ble_eq_true rfl) rfl (loc1 := [(0, _), (1, _), (2, _), (3, _), (4, _)]) rfl ?_
  refine g_iconst (pc := 21) C dX3_reads_21 ?_
  refine g_istore (pc := 22) C dX3_reads_22 (Nat.le_of_ble_eq_true rfl) rfl (loc1 := [(0, _), (1, _), (2, _), (3, _), (4, _), (5, _)]) rfl ?_
  refine g_aload_n (pc := 24) C dX3_reads_24 0 rfl trivial rfl ?_
  refine g_get (pc := 25) C dX3_reads_25 cl12 hm 27 (by decide) q1846 (fun _ h9 => h9) rfl ?_
  refine g_istore (pc := 28) C dX3_reads_28 (Nat.le_of_ble_eq_true rfl) rfl (loc1 := [(0, _), (1, _), (2, _), (3, _), (4, _), (5, _), (6, _)]) rfl ?_
  rw [ha]
  by_cases hlen : 1 ≤ b - a ∧ b - a ≤ 7
  · rw [show decide ((1 : Int) ≤ (b : Int) - (a : Int) ∧ (b : Int) - (a : Int) ≤ 7) = true from decide_eq_true (by omega)]
    exact loop (b - a) 0 (by omega) hlen rfl
  · rw [show decide ((1 : Int) ≤ (b : Int) - (a : Int) ∧ (b : Int) - (a : Int) ≤ 7) = false from decide_eq_false (by omega)]
    exact bad a _ (by omega) (by rw [hq, spNum, if_neg (fun z => hlen z.1)])
theorem m_X3_numberHere (hl : l.stackTraces = false) (hR : RM A M s t) (hW : WF s) (hle : s 0 9 ≤ s 0 1) {w : Nat} (hw : w < 5) : gMet E l yX3_numberHere wX3_numberHere 3 0 0 [.ref (A 0), vi w] M (fun v M1 => v = some (vi (qReads s 0 (if w = 0 ∨ w = 4 then 1000000 else if w = 2 then 9999999 else 100))) ∧ RM A M1 (spReads s 0 (if w = 0 ∨ w = 4 then 1000000 else if w = 2 then 9999999 else 100)) t ∧ gExt gTM M M1) (fun _ _ _ => False) := by
  have hm := hR.1
  refine gMet.of hl rfl (Nat.le_of_ble_eq_true rfl) ?_
  intro Z hE hl0 hQ hX C hnm htab
  subst hE; subst hl0
  replace C : gC Z RX3 cX3_numberHere 2 (some .int) _ := C
  change G Z _ _ _ 0 [(0, _), (1, _)] []
  refine g_iload_n (pc := 0) C dX3_numberHere_0 1 rfl rfl ?_
  refine g_if_eq (pc := 1) C dX3_numberHere_1 9 ⟨by omega, by omega⟩ (by decide) (fun c_1 => ?_) (fun c_1 => ?_)
  · skip
    refine g_aload_n (pc := 9) C dX3_numberHere_9 0 rfl trivial rfl ?_
    refine g_iconst (pc := 10) C dX3_numberHere_10 ?_
    refine g_ldc (pc := 11) C dX3_numberHere_11 (x := iv 1000000) q1997 ?_
    refine g_callV (pc := 13) C (m_X3_reads hl hR hW hle ⟨by decide, by decide⟩ ⟨by decide, by decide⟩) cl12 hm q1998 q2000 qs51 q94 q2001 nmX3_reads rfl (by decide) (by decide) (by omega) (by omega) rfl (Nat.le_of_ble_eq_true rfl) dX3_numberHere_13 (fun v_13 M_13 h_13 => ?_) (fun E_13 q_13 M_13 h_13 => ?_)
    rotate_left
    · exact h_13.elim
    obtain ⟨rfl, hR2, hx2⟩ := h_13
    refine g_goto (pc := 16) C dX3_numberHere_16 41 (by decide) ?_
    refine g_iret (pc := 41) hQ C ?_ dX3_numberHere_41
    first | (rw [if_pos (by omega)]; exact ⟨rfl, hR2, hx2⟩) | (rw [if_neg (by omega), if_pos (by omega)]; exact ⟨rfl, hR2, hx2⟩) | (rw [if_neg (by omega), if_neg (by omega)]; exact ⟨rfl, hR2, hx2⟩)
  · skip
    refine g_iload_n (pc := 4) C dX3_numberHere_4 1 rfl rfl ?_
    refine g_iconst (pc := 5) C dX3_numberHere_5 ?_
    refine g_icmp_ne (pc := 6) C dX3_numberHere_6 19 ⟨by omega, by omega⟩ ⟨by omega, by omega⟩ (by decide) (fun c_6 => ?_) (fun c_6 => ?_)
    · skip
      refine g_iload_n (pc := 19) C dX3_numberHere_19 1 rfl rfl ?_
      refine g_iconst (pc := 20) C dX3_numberHere_20 ?_
      refine g_icmp_ne (pc := 21) C dX3_numberHere_21 34 ⟨by omega, by omega⟩ ⟨by omega, by omega⟩ (by decide) (fun c_21 => ?_) (fun c_21 => ?_)
      · skip
        refine g_aload_n (pc := 34) C dX3_numberHere_34 0 rfl trivial rfl ?_
        refine g_iconst (pc := 35) C dX3_numberHere_35 ?_
        refine g_bipush (pc := 36) C dX3_numberHere_36 (by decide) ?_
        refine g_callV (pc := 38) C (m_X3_reads hl hR hW hle ⟨by decide, by decide⟩ ⟨by decide, by decide⟩) cl12 hm q1998 q2000 qs51 q94 q2001 nmX3_reads rfl (by decide) (by decide) (by omega) (by omega) rfl (Nat.le_of_ble_eq_true rfl) dX3_numberHere_38 (fun v_38 M_38 h_38 => ?_) (fun E_38 q_38 M_38 h_38 => ?_)
        rotate_left
        · exact h_38.elim
        obtain ⟨rfl, hR2, hx2⟩ := h_38
        refine g_iret (pc := 41) hQ C ?_ dX3_numberHere_41
        first | (rw [if_pos (by omega)]; exact ⟨rfl, hR2, hx2⟩) | (rw [if_neg (by omega), if_pos (by omega)]; exact ⟨rfl, hR2, hx2⟩) | (rw [if_neg (by omega), if_neg (by omega)]; exact ⟨rfl, hR2, hx2⟩)
      · skip
        refine g_aload_n (pc := 24) C dX3_numberHere_24 0 rfl trivial rfl ?_
        refine g_iconst (pc := 25) C dX3_numberHere_25 ?_
        refine g_ldc (pc := 26) C dX3_numberHere_26 (x := iv 9999999) q2003 ?_
        refine g_callV (pc := 28) C (m_X3_reads hl hR hW hle ⟨by decide, by decide⟩ ⟨by decide, by decide⟩) cl12 hm q1998 q2000 qs51 q94 q2001 nmX3_reads rfl (by decide) (by decide) (by omega) (by omega) rfl (Nat.le_of_ble_eq_true rfl) dX3_numberHere_28 (fun v_28 M_28 h_28 => ?_) (fun E_28 q_28 M_28 h_28 => ?_)
        rotate_left
        · exact h_28.elim
        obtain ⟨rfl, hR2, hx2⟩ := h_28
        refine g_goto (pc := 31) C dX3_numberHere_31 41 (by decide) ?_
        refine g_iret (pc := 41) hQ C ?_ dX3_numberHere_41
        first | (rw [if_pos (by omega)]; exact ⟨rfl, hR2, hx2⟩) | (rw [if_neg (by omega), if_pos (by omega)]; exact ⟨rfl, hR2, hx2⟩) | (rw [if_neg (by omega), if_neg (by omega)]; exact ⟨rfl, hR2, hx2⟩)
    · skip
      refine g_aload_n (pc := 9) C dX3_numberHere_9 0 rfl trivial rfl ?_
      refine g_iconst (pc := 10) C dX3_numberHere_10 ?_
      refine g_ldc (pc := 11) C dX3_numberHere_11 (x := iv 1000000) q1997 ?_
      refine g_callV (pc := 13) C (m_X3_reads hl hR hW hle ⟨by decide, by decide⟩ ⟨by decide, by decide⟩) cl12 hm q1998 q2000 qs51 q94 q2001 nmX3_reads rfl (by decide) (by decide) (by omega) (by omega) rfl (Nat.le_of_ble_eq_true rfl) dX3_numberHere_13 (fun v_13 M_13 h_13 => ?_) (fun E_13 q_13 M_13 h_13 => ?_)
      rotate_left
      · exact h_13.elim
      obtain ⟨rfl, hR2, hx2⟩ := h_13
      refine g_goto (pc := 16) C dX3_numberHere_16 41 (by decide) ?_
      refine g_iret (pc := 41) hQ C ?_ dX3_numberHere_41
      first | (rw [if_pos (by omega)]; exact ⟨rfl, hR2, hx2⟩) | (rw [if_neg (by omega), if_pos (by omega)]; exact ⟨rfl, hR2, hx2⟩) | (rw [if_neg (by omega), if_neg (by omega)]; exact ⟨rfl, hR2, hx2⟩)
end
