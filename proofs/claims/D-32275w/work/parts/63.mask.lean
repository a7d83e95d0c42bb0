/-! AppealrentModel: questions -/
set_option maxRecDepth 100000
section
variable {E : gE} {l : Launch} {M : gM} {A : Nat → Nat} {s s1 : gS} {t t1 : Int}
theorem RM.cast (h : RM A M s t) (e : t = t1) : RM A M s t1 := e ▸ h
/-- names, output: tags 109, 150, 125.. -/
def RMn (A : Nat → Nat) (M : gM) (s : gS) : Prop :=
  M (A 9) = some (109, gR 8 10 (fun c => if (c : Int) < s 0 2 then some (A (1000 + c)) else none)) ∧ ∀ c : Nat, (c : Int) < s 0 2 → M (A (1000 + c)) = some (150, gI 0 (s 8 c).toNat (fun i => if (i : Int) < s 8 c then s 9 (12 * c + i) else 0))
def okC (s : gS) (one : Int) : Bool := decide (0 ≤ one ∧ one < s 0 2)
def okF (s : gS) (f : Int) : Bool := decide (0 ≤ f ∧ f < s 0 3)
def okR (s : gS) (f : Int) : Bool := decide (0 ≤ f ∧ f < s 0 4)
def okK (s : gS) (f : Int) : Bool := decide (0 ≤ f ∧ f < s 0 5)
def okI (x a b : Int) : Bool := decide (a ≤ x ∧ x ≤ b)
def qFact (s : gS) (one day which : Int) : Int := if okC s one && (okI day 0 1529 && okI which 0 3) then spFact s one.toNat day which.toNat else 0
def kFact (s : gS) (one day which : Int) : Int := th2 (okC s one) (okI day 0 1529 && okI which 0 3)
def qRuleOn (s : gS) (one day : Int) : Int := if okC s one && okI day 0 1529 then spRule s one.toNat day else 0
def kDay (s : gS) (one day : Int) : Int := th2 (okC s one) (okI day 0 1529)
def qHelp (s : gS) (one day : Int) : Int := if okC s one && okI day 0 1529 then spHelp s one.toNat day else 0
def qDue (s : gS) (one m : Int) : Int := if okC s one && okI m 0 50 then spDue s one.toNat m else 0
def qPaid (s : gS) (one m : Int) : Int := if okC s one && okI m 0 50 then s 6 (51 * one.toNat + m.toNat) else 0
def kMonth (s : gS) (one m : Int) : Int := th2 (okC s one) (okI m 0 50)
def qClaimAt (s : gS) (k j : Int) : Int := if okK s k && okI j 0 5 then s 23 (6 * k.toNat + j.toNat) else 0
def kClaimAt (s : gS) (k j : Int) : Int := th2 (okK s k) (okI j 0 5)
def qRuleAt (s : gS) (k j : Int) : Int := if okR s k && okI j 0 6 then (if j = 0 then s 18 k.toNat else if j = 1 then s 19 k.toNat else s 17 (5 * k.toNat + (j - 2).toNat)) else 0
def kRuleAt (s : gS) (k j : Int) : Int := th2 (okR s k) (okI j 0 6)
def spHas (s : gS) (f n : Nat) : Int := sumN (fun j => if s 15 (4 * f + j) = -1 then 0 else 1) n
def qFormAt (s : gS) (k j : Int) : Int := if okF s k && okI j 0 4 then (if j = 0 then s 11 k.toNat else if j = 1 then s 12 k.toNat else if j = 2 then s 13 k.toNat else if j = 3 then s 14 k.toNat else spHas s k.toNat 4) else 0
def kFormAt (s : gS) (k j : Int) : Int := th2 (okF s k) (okI j 0 4)
def spCaseAt (s : gS) (c : Nat) (j : Int) : Int := if j = 0 then s 1 c else if j = 1 then s 2 c else if j = 2 then s 8 c else if j = 3 then spFormsOf s c else if j = 4 then spClaimsOf s c else if j = 5 then spLeft s c false else if j = 6 then spLeft s c true else if j = 7 then spPaidTo s c else if j = 8 then s 3 c else if j = 9 then s 4 c else s 5 c
def qCaseAt (s : gS) (k j : Int) : Int := if okC s k && okI j 0 10 then spCaseAt s k.toNat j else 0
def kCaseAt (s : gS) (k j : Int) : Int := th2 (okC s k) (okI j 0 10)
def spCount (s : gS) (j : Int) : Int := if j = 0 then s 0 0 else if j = 1 then s 0 2 else if j = 2 then spEnded s else if j = 3 then s 0 3 else if j = 4 then spForms s 0 else if j = 5 then spForms s 1 else if j = 6 then spForms s 2 else if j = 7 then s 0 4 else if j = 8 then s 0 5 else if j = 13 then s 0 1 else spClaims s (j - 9)
def qCount (s : gS) (j : Int) : Int := if okI j 0 13 then spCount s j else 0
def kCount (j : Int) : Int := th1 (okI j 0 13)
/-- a question that has thrown nothing stands where it stood -/
def qRes (A : Nat → Nat) (M : gM) (s : gS) (v : Int) (k : Int) : Option Value → gM → Prop := fun w M1 => w = some (vi v) ∧ RM A M1 s k ∧ gExt (gT1 100) M M1
theorem b2_1 {b : Bool} (h : b = true) : b2 b = 1 := by rw [h]; rfl
theorem b2_z0 {b : Bool} (h : b = false) : b2 b = 0 := by rw [h]; rfl
theorem i_nat {z : Int} (h : 0 ≤ z) : ∃ c : Nat, z = c := ⟨z.toNat, by omega⟩

theorem m_X3_fact (hl : l.stackTraces = false) (hR : RM A M s t) (hW : WF s) {one day which : Int} (r1 : r32 one) (r2 : r32 day) (r3 : r32 which) : gMet E l yX3_fact wX3_fact 3 0 0 [.ref (A 0), vi one, vi day, vi which] M (qRes A M s (qFact s one day which) (kFact s one day which)) (fun _ _ _ => False) := by
  have hm := hR.1
  have hs := hW.sc
  unfold wfSc at hs
  obtain ⟨r11, r12⟩ := r1
  obtain ⟨r21, r22⟩ := r2
  obtain ⟨r31, r32⟩ := r3
  refine gMet.of hl rfl (Nat.le_of_ble_eq_true rfl) ?_
  intro Z hE hl0 hQ hX C hnm htab
  subst hE; subst hl0
  replace C : gC Z RX3 cX3_fact 4 (some .int) _ := C
  change G Z _ _ _ 0 [(0, _), (1, _), (2, _), (3, _)] []
  refine g_aload_n (pc := 0) C dX3_fact_0 0 rfl trivial rfl ?_
  refine g_aload_n (pc := 1) C dX3_fact_1 0 rfl trivial rfl ?_
  refine g_iload_n (pc := 2) C dX3_fact_2 1 rfl rfl ?_
  refine g_callV (pc := 3) C (m_X3_isCase hl hR hW ⟨by omega, by omega⟩) cl12 hm q1943 q1945 qs42 q94 q1946 nmX3_isCase rfl (by decide) (by decide) (Nat.zero_le _) (Nat.zero_le _) rfl (Nat.le_of_ble_eq_true rfl) dX3_fact_3 (gkf ?_) gkx
  refine g_iload_n (pc := 6) C dX3_fact_6 2 rfl rfl ?_
  refine g_callS (pc := 7) C (m_X3_isDay hl ⟨by omega, by omega⟩) q2102 q2103 q94 q2104 nmX3_isDay rfl (by decide) (by decide) (Nat.zero_le _) (Nat.zero_le _) rfl (Nat.le_of_ble_eq_true rfl) dX3_fact_7 (gkf ?_) gkx
  refine g_ifb_eq (pc := 10) C dX3_fact_10 29 (by decide) (fun c_10 => ?_) (fun c_10 => ?_)
  · skip
    have d_10 := c_10
    try simp only [decide_eq_true_eq, decide_eq_false_iff_not, Bool.and_eq_true, Bool.and_eq_false_iff, ne_eq, Classical.not_not] at c_10
    refine g_iconst (pc := 29) C dX3_fact_29 ?_
    refine g_callV (pc := 30) C (m_X3_fits hl hR (p := okC s one) (q := okI day 0 1529 && okI which 0 3)) cl12 hm q1922 q1924 qs40 q94 q1925 nmX3_fits rfl (by decide) (by decide) (by omega) (by omega) (by first | (rw [b2_1 (show (okI day 0 1529 && okI which 0 3) = true by simp only [okC, okF, okR, okK, okI, Bool.and_eq_true, decide_eq_true_eq]; omega)]; rfl) | (rw [b2_z0 (show (okI day 0 1529 && okI which 0 3) = false by simp only [okC, okF, okR, okK, okI, Bool.and_eq_false_iff, decide_eq_false_iff_not]; omega)]; rfl)) (Nat.le_of_ble_eq_true rfl) dX3_fact_30 (fun v_30 M_30 h_30 => ?_) (fun E_30 q_30 M_30 h_30 => ?_)
    rotate_left
    · exact h_30.elim
    obtain ⟨rfl, hR1, hx⟩ := h_30
    obtain ⟨hm, h1, h2, h3, h4, h5, h6, h7, h10, h11, h12, h13, h14, h15, h17, h18, h19, h20, h23, h24⟩ := id hR1
    refine g_ifb_eq (pc := 33) C dX3_fact_33 46 (by decide) (fun c_33 => ?_) (fun c_33 => ?_)
    · skip
      have d_33 := c_33
      try simp only [decide_eq_true_eq, decide_eq_false_iff_not, Bool.and_eq_true, Bool.and_eq_false_iff, ne_eq, Classical.not_not] at c_33
      refine g_iconst (pc := 46) C dX3_fact_46 ?_
      refine g_iret (pc := 47) hQ C ?_ dX3_fact_47
      first | exact ⟨by rw [qFact, if_pos d_33]; rfl, hR1, hx⟩ | exact ⟨by rw [qFact, if_neg (by rw [d_33]; exact Bool.false_ne_true)], hR1, hx⟩
    · skip
      have d_33 := c_33
      try simp only [decide_eq_true_eq, decide_eq_false_iff_not, Bool.and_eq_true, Bool.and_eq_false_iff, ne_eq, Classical.not_not] at c_33
      simp only [okC, okF, okR, okK, okI, Bool.and_eq_true, decide_eq_true_eq] at c_33
      obtain ⟨c, rfl⟩ := i_nat (z := one) (by omega)
      obtain ⟨j, rfl⟩ := i_nat (z := which) (by omega)
      refine g_aload_n (pc := 36) C dX3_fact_36 0 rfl trivial rfl ?_
      refine g_iload_n (pc := 37) C dX3_fact_37 1 rfl rfl ?_
      refine g_iload_n (pc := 38) C dX3_fact_38 2 rfl rfl ?_
      refine g_iload_n (pc := 39) C dX3_fact_39 3 rfl rfl ?_
      refine g_callV (pc := 40) C (m_X3_factOn hl hR1 hW (which := j) (by omega) ⟨by omega, by omega⟩ (by omega)) cl12 hm q2078 q2080 qs63 q94 q2081 nmX3_factOn rfl (by decide) (by decide) (Nat.zero_le _) (Nat.zero_le _) rfl (Nat.le_of_ble_eq_true rfl) dX3_fact_40 (gkf ?_) gkx
      refine g_goto (pc := 43) C dX3_fact_43 47 (by decide) ?_
      refine g_iret (pc := 47) hQ C ?_ dX3_fact_47
      first | exact ⟨by rw [qFact, if_pos d_33]; rfl, hR1, hx⟩ | exact ⟨by rw [qFact, if_neg (by rw [d_33]; exact Bool.false_ne_true)], hR1, hx⟩
  · skip
    have d_10 := c_10
    try simp only [decide_eq_true_eq, decide_eq_false_iff_not, Bool.and_eq_true, Bool.and_eq_false_iff, ne_eq, Classical.not_not] at c_10
    refine g_iload_n (pc := 13) C dX3_fact_13 3 rfl rfl ?_
    refine g_i2l (pc := 14) C dX3_fact_14 ⟨by omega, by omega⟩ ?_
    refine g_lconst0 (pc := 15) C dX3_fact_15 ?_
    refine g_ldc2 (pc := 16) C dX3_fact_16 (x := jv 3) q2106 ?_
    refine g_callS (pc := 19) C (m_X3_isIn hl ⟨by omega, by omega⟩ ⟨by decide, by decide⟩ ⟨by first | decide | omega, by first | decide | omega⟩) q1917 q1918 q94 q1919 nmX3_isIn rfl (by decide) (by decide) (Nat.zero_le _) (Nat.zero_le _) rfl (Nat.le_of_ble_eq_true rfl) dX3_fact_19 (gkf ?_) gkx
    refine g_ifb_eq (pc := 22) C dX3_fact_22 29 (by decide) (fun c_22 => ?_) (fun c_22 => ?_)
    · skip
      have d_22 := c_22
      try simp only [decide_eq_true_eq, decide_eq_false_iff_not, Bool.and_eq_true, Bool.and_eq_false_iff, ne_eq, Classical.not_not] at c_22
      refine g_iconst (pc := 29) C dX3_fact_29 ?_
      refine g_callV (pc := 30) C (m_X3_fits hl hR (p := okC s one) (q := okI day 0 1529 && okI which 0 3)) cl12 hm q1922 q1924 qs40 q94 q1925 nmX3_fits rfl (by decide) (by decide) (by omega) (by omega) (by first | (rw [b2_1 (show (okI day 0 1529 && okI which 0 3) = true by simp only [okC, okF, okR, okK, okI, Bool.and_eq_true, decide_eq_true_eq]; omega)]; rfl) | (rw [b2_z0 (show (okI day 0 1529 && okI which 0 3) = false by simp only [okC, okF, okR, okK, okI, Bool.and_eq_false_iff, decide_eq_false_iff_not]; omega)]; rfl)) (Nat.le_of_ble_eq_true rfl) dX3_fact_30 (fun v_30 M_30 h_30 => ?_) (fun E_30 q_30 M_30 h_30 => ?_)
      rotate_left
      · exact h_30.elim
      obtain ⟨rfl, hR1, hx⟩ := h_30
      obtain ⟨hm, h1, h2, h3, h4, h5, h6, h7, h10, h11, h12, h13, h14, h15, h17, h18, h19, h20, h23, h24⟩ := id hR1
      refine g_ifb_eq (pc := 33) C dX3_fact_33 46 (by decide) (fun c_33 => ?_) (fun c_33 => ?_)
      · skip
        have d_33 := c_33
        try simp only [decide_eq_true_eq, decide_eq_false_iff_not, Bool.and_eq_true, Bool.and_eq_false_iff, ne_eq, Classical.not_not] at c_33
        refine g_iconst (pc := 46) C dX3_fact_46 ?_
        refine g_iret (pc := 47) hQ C ?_ dX3_fact_47
        first | exact ⟨by rw [qFact, if_pos d_33]; rfl, hR1, hx⟩ | exact ⟨by rw [qFact, if_neg (by rw [d_33]; exact Bool.false_ne_true)], hR1, hx⟩
      · skip
        have d_33 := c_33
        try simp only [decide_eq_true_eq, decide_eq_false_iff_not, Bool.and_eq_true, Bool.and_eq_false_iff, ne_eq, Classical.not_not] at c_33
        simp only [okC, okF, okR, okK, okI, Bool.and_eq_true, decide_eq_true_eq] at c_33
        obtain ⟨c, rfl⟩ := i_nat (z := one) (by omega)
        obtain ⟨j, rfl⟩ := i_nat (z := which) (by omega)
        refine g_aload_n (pc := 36) C dX3_fact_36 0 rfl trivial rfl ?_
        refine g_iload_n (pc := 37) C dX3_fact_37 1 rfl rfl ?_
        refine g_iload_n (pc := 38) C dX3_fact_38 2 rfl rfl ?_
        refine g_iload_n (pc := 39) C dX3_fact_39 3 rfl rfl ?_
        refine g_callV (pc := 40) C (m_X3_factOn hl hR1 hW (which := j) (by omega) ⟨by omega, by omega⟩ (by omega)) cl12 hm q2078 q2080 qs63 q94 q2081 nmX3_factOn rfl (by decide) (by decide) (Nat.zero_le _) (Nat.zero_le _) rfl (Nat.le_of_ble_eq_true rfl) dX3_fact_40 (gkf ?_) gkx
        refine g_goto (pc := 43) C dX3_fact_43 47 (by decide) ?_
        refine g_iret (pc := 47) hQ C ?_ dX3_fact_47
        first | exact ⟨by rw [qFact, if_pos d_33]; rfl, hR1, hx⟩ | exact ⟨by rw [qFact, if_neg (by rw [d_33]; exact Bool.false_ne_true)], hR1, hx⟩
    · skip
      have d_22 := c_22
      try simp only [decide_eq_true_eq, decide_eq_false_iff_not, Bool.and_eq_true, Bool.and_eq_false_iff, ne_eq, Classical.not_not] at c_22
      refine g_iconst (pc := 25) C dX3_fact_25 ?_
      refine g_goto (pc := 26) C dX3_fact_26 30 (by decide) ?_
      refine g_callV (pc := 30) C (m_X3_fits hl hR (p := okC s one) (q := okI day 0 1529 && okI which 0 3)) cl12 hm q1922 q1924 qs40 q94 q1925 nmX3_fits rfl (by decide) (by decide) (by omega) (by omega) (by first | (rw [b2_1 (show (okI day 0 1529 && okI which 0 3) = true by simp only [okC, okF, okR, okK, okI, Bool.and_eq_true, decide_eq_true_eq]; omega)]; rfl) | (rw [b2_z0 (show (okI day 0 1529 && okI which 0 3) = false by simp only [okC, okF, okR, okK, okI, Bool.and_eq_false_iff, decide_eq_false_iff_not]; omega)]; rfl)) (Nat.le_of_ble_eq_true rfl) dX3_fact_30 (fun v_30 M_30 h_30 => ?_) (fun E_30 q_30 M_30 h_30 => ?_)
      rotate_left
      · exact h_30.elim
      obtain ⟨rfl, hR1, hx⟩ := h_30
      obtain ⟨hm, h1, h2, h3, h4, h5, h6, h7, h10, h11, h12, h13, h14, h15, h17, h18, h19, h20, h23, h24⟩ := id hR1
      refine g_ifb_eq (pc := 33) C dX3_fact_33 46 (by decide) (fun c_33 => ?_) (fun c_33 => ?_)
      · skip
        have d_33 := c_33
        try simp only [decide_eq_true_eq, decide_eq_false_iff_not, Bool.and_eq_true, Bool.and_eq_false_iff, ne_eq, Classical.not_not] at c_33
        refine g_iconst (pc := 46) C dX3_fact_46 ?_
        refine g_iret (pc := 47) hQ C ?_ dX3_fact_47
        first | exact ⟨by rw [qFact, if_pos d_33]; rfl, hR1, hx⟩ | exact ⟨by rw [qFact, if_neg (by rw [d_33]; exact Bool.false_ne_true)], hR1, hx⟩
      · skip
        have d_33 := c_33
        try simp only [decide_eq_true_eq, decide_eq_false_iff_not, Bool.and_eq_true, Bool.and_eq_false_iff, ne_eq, Classical.not_not] at c_33
        simp only [okC, okF, okR, okK, okI, Bool.and_eq_true, decide_eq_true_eq] at c_33
        obtain ⟨c, rfl⟩ := i_nat (z := one) (by omega)
        obtain ⟨j, rfl⟩ := i_nat (z := which) (by omega)
        refine g_aload_n (pc := 36) C dX3_fact_36 0 rfl trivial rfl ?_
        refine g_iload_n (pc := 37) C dX3_fact_37 1 rfl rfl ?_
        refine g_iload_n (pc := 38) C dX3_fact_38 2 rfl rfl ?_
        refine g_iload_n (pc := 39) C dX3_fact_39 3 rfl rfl ?_
        refine g_callV (pc := 40) C (m_X3_factOn hl hR1 hW (which := j) (by omega) ⟨by omega, by omega⟩ (by omega)) cl12 hm q2078 q2080 qs63 q94 q2081 nmX3_factOn rfl (by decide) (by decide) (Nat.zero_le _) (Nat.zero_le _) rfl (Nat.le_of_ble_eq_true rfl) dX3_fact_40 (gkf ?_) gkx
        refine g_goto (pc := 43) C dX3_fact_43 47 (by decide) ?_
        refine g_iret (pc := 47) hQ C ?_ dX3_fact_47
        first | exact ⟨by rw [qFact, if_pos d_33]; rfl, hR1, hx⟩ | exact ⟨by rw [qFact, if_neg (by rw [d_33]; exact Bool.false_ne_true)], hR1, hx⟩
theorem m_X3_ruleOn (hl : l.stackTraces = false) (hR : RM A M s t) (hW : WF s) {one day : Int} (r1 : r32 one) (r2 : r32 day) : gMet E l yX3_ruleOn wX3_ruleOn 3 0 0 [.ref (A 0), vi one, vi day] M (qRes A M s (qRuleOn s one day) (kDay s one day)) (fun _ _ _ => False) := by
  have hm := hR.1
  have hs := hW.sc
  unfold wfSc at hs
  obtain ⟨r11, r12⟩ := r1
  obtain ⟨r21, r22⟩ := r2
  refine gMet.of hl rfl (Nat.le_of_ble_eq_true rfl) ?_
  intro Z hE hl0 hQ hX C hnm htab
  subst hE; subst hl0
  replace C : gC Z RX3 cX3_ruleOn 3 (some .int) _ := C
  change G Z _ _ _ 0 [(0, _), (1, _), (2, _)] []
  refine g_aload_n (pc := 0) C dX3_ruleOn_0 0 rfl trivial rfl ?_
  refine g_aload_n (pc := 1) C dX3_ruleOn_1 0 rfl trivial rfl ?_
  refine g_iload_n (pc := 2) C dX3_ruleOn_2 1 rfl rfl ?_
  refine g_callV (pc := 3) C (m_X3_isCase hl hR hW ⟨by omega, by omega⟩) cl12 hm q1943 q1945 qs42 q94 q1946 nmX3_isCase rfl (by decide) (by decide) (Nat.zero_le _) (Nat.zero_le _) rfl (Nat.le_of_ble_eq_true rfl) dX3_ruleOn_3 (gkf ?_) gkx
  refine g_iload_n (pc := 6) C dX3_ruleOn_6 2 rfl rfl ?_
  refine g_callS (pc := 7) C (m_X3_isDay hl ⟨by omega, by omega⟩) q2102 q2103 q94 q2104 nmX3_isDay rfl (by decide) (by decide) (Nat.zero_le _) (Nat.zero_le _) rfl (Nat.le_of_ble_eq_true rfl) dX3_ruleOn_7 (gkf ?_) gkx
  refine g_callV (pc := 10) C (m_X3_fits hl hR (p := okC s one) (q := okI day 0 1529)) cl12 hm q1922 q1924 qs40 q94 q1925 nmX3_fits rfl (by decide) (by decide) (by omega) (by omega) rfl (Nat.le_of_ble_eq_true rfl) dX3_ruleOn_10 (fun v_10 M_10 h_10 => ?_) (fun E_10 q_10 M_10 h_10 => ?_)
  rotate_left
  · exact h_10.elim
  obtain ⟨rfl, hR1, hx⟩ := h_10
  obtain ⟨hm, h1, h2, h3, h4, h5, h6, h7, h10, h11, h12, h13, h14, h15, h17, h18, h19, h20, h23, h24⟩ := id hR1
  refine g_ifb_eq (pc := 13) C dX3_ruleOn_13 25 (by decide) (fun c_13 => ?_) (fun c_13 => ?_)
  · skip
    have d_13 := c_13
    try simp only [decide_eq_true_eq, decide_eq_false_iff_not, Bool.and_eq_true, Bool.and_eq_false_iff, ne_eq, Classical.not_not] at c_13
    refine g_iconst (pc := 25) C dX3_ruleOn_25 ?_
    refine g_iret (pc := 26) hQ C ?_ dX3_ruleOn_26
    first | exact ⟨by rw [qRuleOn, if_pos d_13]; rfl, hR1, hx⟩ | exact ⟨by rw [qRuleOn, if_neg (by rw [d_13]; exact Bool.false_ne_true)], hR1, hx⟩
  · skip
    have d_13 := c_13
    try simp only [decide_eq_true_eq, decide_eq_false_iff_not, Bool.and_eq_true, Bool.and_eq_false_iff, ne_eq, Classical.not_not] at c_13
    simp only [okC, okF, okR, okK, okI, Bool.and_eq_true, decide_eq_true_eq] at c_13
    obtain ⟨c, rfl⟩ := i_nat (z := one) (by omega)
    refine g_aload_n (pc := 16) C dX3_ruleOn_16 0 rfl trivial rfl ?_
    refine g_iload_n (pc := 17) C dX3_ruleOn_17 1 rfl rfl ?_
    refine g_iload_n (pc := 18) C dX3_ruleOn_18 2 rfl rfl ?_
    refine g_callV (pc := 19) C (m_X3_ruleFor hl hR1 hW (by omega) ⟨by omega, by omega⟩) cl12 hm q2074 q2076 qs62 q94 q2077 nmX3_ruleFor rfl (by decide) (by decide) (Nat.zero_le _) (Nat.zero_le _) rfl (Nat.le_of_ble_eq_true rfl) dX3_ruleOn_19 (gkf ?_) gkx
    refine g_goto (pc := 22) C dX3_ruleOn_22 26 (by decide) ?_
    refine g_iret (pc := 26) hQ C ?_ dX3_ruleOn_26
    first | exact ⟨by rw [qRuleOn, if_pos d_13]; rfl, hR1, hx⟩ | exact ⟨by rw [qRuleOn, if_neg (by rw [d_13]; exact Bool.false_ne_true)], hR1, hx⟩
theorem m_X3_help (hl : l.stackTraces = false) (hR : RM A M s t) (hW : WF s) {one day : Int} (r1 : r32 one) (r2 : r32 day) : gMet E l yX3_help wX3_help 3 0 0 [.ref (A 0), vi one, vi day] M (qRes A M s (qHelp s one day) (kDay s one day)) (fun _ _ _ => False) := by
  have hm := hR.1
  have hs := hW.sc
  unfold wfSc at hs
  obtain ⟨r11, r12⟩ := r1
  obtain ⟨r21, r22⟩ := r2
  refine gMet.of hl rfl (Nat.le_of_ble_eq_true rfl) ?_
  intro Z hE hl0 hQ hX C hnm htab
  subst hE; subst hl0
  replace C : gC Z RX3 cX3_help 3 (some .int) _ := C
  change G Z _ _ _ 0 [(0, _), (1, _), (2, _)] []
  refine g_aload_n (pc := 0) C dX3_help_0 0 rfl trivial rfl ?_
  refine g_aload_n (pc := 1) C dX3_help_1 0 rfl trivial rfl ?_
  refine g_iload_n (pc := 2) C dX3_help_2 1 rfl rfl ?_
  refine g_callV (pc := 3) C (m_X3_isCase hl hR hW ⟨by omega, by omega⟩) cl12 hm q1943 q1945 qs42 q94 q1946 nmX3_isCase rfl (by decide) (by decide) (Nat.zero_le _) (Nat.zero_le _) rfl (Nat.le_of_ble_eq_true rfl) dX3_help_3 (gkf ?_) gkx
  refine g_iload_n (pc := 6) C dX3_help_6 2 rfl rfl ?_
  refine g_callS (pc := 7) C (m_X3_isDay hl ⟨by omega, by omega⟩) q2102 q2103 q94 q2104 nmX3_isDay rfl (by decide) (by decide) (Nat.zero_le _) (Nat.zero_le _) rfl (Nat.le_of_ble_eq_true rfl) dX3_help_7 (gkf ?_) gkx
  refine g_callV (pc := 10) C (m_X3_fits hl hR (p := okC s one) (q := okI day 0 1529)) cl12 hm q1922 q1924 qs40 q94 q1925 nmX3_fits rfl (by decide) (by decide) (by omega) (by omega) rfl (Nat.le_of_ble_eq_true rfl) dX3_help_10 (fun v_10 M_10 h_10 => ?_) (fun E_10 q_10 M_10 h_10 => ?_)
  rotate_left
  · exact h_10.elim
  obtain ⟨rfl, hR1, hx⟩ := h_10
  obtain ⟨hm, h1, h2, h3, h4, h5, h6, h7, h10, h11, h12, h13, h14, h15, h17, h18, h19, h20, h23, h24⟩ := id hR1
  refine g_ifb_eq (pc := 13) C dX3_help_13 25 (by decide) (fun c_13 => ?_) (fun c_13 => ?_)
  · skip
    have d_13 := c_13
    try simp only [decide_eq_true_eq, decide_eq_false_iff_not, Bool.and_eq_true, Bool.and_eq_false_iff, ne_eq, Classical.not_not] at c_13
    refine g_iconst (pc := 25) C dX3_help_25 ?_
    refine g_iret (pc := 26) hQ C ?_ dX3_help_26
    first | exact ⟨by rw [qHelp, if_pos d_13]; rfl, hR1, hx⟩ | exact ⟨by rw [qHelp, if_neg (by rw [d_13]; exact Bool.false_ne_true)], hR1, hx⟩
  · skip
    have d_13 := c_13
    try simp only [decide_eq_true_eq, decide_eq_false_iff_not, Bool.and_eq_true, Bool.and_eq_false_iff, ne_eq, Classical.not_not] at c_13
    simp only [okC, okF, okR, okK, okI, Bool.and_eq_true, decide_eq_true_eq] at c_13
    obtain ⟨c, rfl⟩ := i_nat (z := one) (by omega)
    refine g_aload_n (pc := 16) C dX3_help_16 0 rfl trivial rfl ?_
    refine g_iload_n (pc := 17) C dX3_help_17 1 rfl rfl ?_
    refine g_iload_n (pc := 18) C dX3_help_18 2 rfl rfl ?_
    refine g_callV (pc := 19) C (m_X3_helpOn hl hR1 hW (by omega) ⟨by omega, by omega⟩) cl12 hm q2070 q2072 qs61 q94 q2073 nmX3_helpOn rfl (by decide) (by decide) (Nat.zero_le _) (Nat.zero_le _) rfl (Nat.le_of_ble_eq_true rfl) dX3_help_19 (gkf ?_) gkx
    refine g_goto (pc := 22) C dX3_help_22 26 (by decide) ?_
    refine g_iret (pc := 26) hQ C ?_ dX3_help_26
    first | exact ⟨by rw [qHelp, if_pos d_13]; rfl, hR1, hx⟩ | exact ⟨by rw [qHelp, if_neg (by rw [d_13]; exact Bool.false_ne_true)], hR1, hx⟩
theorem m_X3_due (hl : l.stackTraces = false) (hR : RM A M s t) (hW : WF s) {one m : Int} (r1 : r32 one) (r2 : r32 m) : gMet E l yX3_due wX3_due 3 0 0 [.ref (A 0), vi one, vi m] M (qRes A M s (qDue s one m) (kMonth s one m)) (fun _ _ _ => False) := by
  have hm := hR.1
  have hs := hW.sc
  unfold wfSc at hs
  obtain ⟨r11, r12⟩ := r1
  obtain ⟨r21, r22⟩ := r2
  refine gMet.of hl rfl (Nat.le_of_ble_eq_true rfl) ?_
  intro Z hE hl0 hQ hX C hnm htab
  subst hE; subst hl0
  replace C : gC Z RX3 cX3_due 3 (some .int) _ := C
  change G Z _ _ _ 0 [(0, _), (1, _), (2, _)] []
  refine g_aload_n (pc := 0) C dX3_due_0 0 rfl trivial rfl ?_
  refine g_aload_n (pc := 1) C dX3_due_1 0 rfl trivial rfl ?_
  refine g_iload_n (pc := 2) C dX3_due_2 1 rfl rfl ?_
  refine g_callV (pc := 3) C (m_X3_isCase hl hR hW ⟨by omega, by omega⟩) cl12 hm q1943 q1945 qs42 q94 q1946 nmX3_isCase rfl (by decide) (by decide) (Nat.zero_le _) (Nat.zero_le _) rfl (Nat.le_of_ble_eq_true rfl) dX3_due_3 (gkf ?_) gkx
  refine g_iload_n (pc := 6) C dX3_due_6 2 rfl rfl ?_
  refine g_i2l (pc := 7) C dX3_due_7 ⟨by omega, by omega⟩ ?_
  refine g_lconst0 (pc := 8) C dX3_due_8 ?_
  refine g_ldc2 (pc := 9) C dX3_due_9 (x := jv 50) q2119 ?_
  refine g_callS (pc := 12) C (m_X3_isIn hl ⟨by omega, by omega⟩ ⟨by decide, by decide⟩ ⟨by first | decide | omega, by first | decide | omega⟩) q1917 q1918 q94 q1919 nmX3_isIn rfl (by decide) (by decide) (Nat.zero_le _) (Nat.zero_le _) rfl (Nat.le_of_ble_eq_true rfl) dX3_due_12 (gkf ?_) gkx
  refine g_callV (pc := 15) C (m_X3_fits hl hR (p := okC s one) (q := okI m 0 50)) cl12 hm q1922 q1924 qs40 q94 q1925 nmX3_fits rfl (by decide) (by decide) (by omega) (by omega) rfl (Nat.le_of_ble_eq_true rfl) dX3_due_15 (fun v_15 M_15 h_15 => ?_) (fun E_15 q_15 M_15 h_15 => ?_)
  rotate_left
  · exact h_15.elim
  obtain ⟨rfl, hR1, hx⟩ := h_15
  obtain ⟨hm, h1, h2, h3, h4, h5, h6, h7, h10, h11, h12, h13, h14, h15, h17, h18, h19, h20, h23, h24⟩ := id hR1
  refine g_ifb_eq (pc := 18) C dX3_due_18 30 (by decide) (fun c_18 => ?_) (fun c_18 => ?_)
  · skip
    have d_18 := c_18
    try simp only [decide_eq_true_eq, decide_eq_false_iff_not, Bool.and_eq_true, Bool.and_eq_false_iff, ne_eq, Classical.not_not] at c_18
    refine g_iconst (pc := 30) C dX3_due_30 ?_
    refine g_iret (pc := 31) hQ C ?_ dX3_due_31
    first | exact ⟨by rw [qDue, if_pos d_18]; rfl, hR1, hx⟩ | exact ⟨by rw [qDue, if_neg (by rw [d_18]; exact Bool.false_ne_true)], hR1, hx⟩
  · skip
    have d_18 := c_18
    try simp only [decide_eq_true_eq, decide_eq_false_iff_not, Bool.and_eq_true, Bool.and_eq_false_iff, ne_eq, Classical.not_not] at c_18
    simp only [okC, okF, okR, okK, okI, Bool.and_eq_true, decide_eq_true_eq] at c_18
    obtain ⟨c, rfl⟩ := i_nat (z := one) (by omega)
    refine g_aload_n (pc := 21) C dX3_due_21 0 rfl trivial rfl ?_
    refine g_iload_n (pc := 22) C dX3_due_22 1 rfl rfl ?_
    refine g_iload_n (pc := 23) C dX3_due_23 2 rfl rfl ?_
    refine g_callV (pc := 24) C (m_X3_dueOf hl hR1 hW (by omega) ⟨by omega, by omega⟩) cl12 hm q2066 q2068 qs60 q94 q2069 nmX3_dueOf rfl (by decide) (by decide) (Nat.zero_le _) (Nat.zero_le _) rfl (Nat.le_of_ble_eq_true rfl) dX3_due_24 (gkf ?_) gkx
    refine g_goto (pc := 27) C dX3_due_27 31 (by decide) ?_
    refine g_iret (pc := 31) hQ C ?_ dX3_due_31
    first | exact ⟨by rw [qDue, if_pos d_18]; rfl, hR1, hx⟩ | exact ⟨by rw [qDue, if_neg (by rw [d_18]; exact Bool.false_ne_true)], hR1, hx⟩
theorem m_X3_paid (hl : l.stackTraces = false) (hR : RM A M s t) (hW : WF s) {one m : Int} (r1 : r32 one) (r2 : r32 m) : gMet E l yX3_paid wX3_paid 3 0 0 [.ref (A 0), vi one, vi m] M (qRes A M s (qPaid s one m) (kMonth s one m)) (fun _ _ _ => False) := by
  have hm := hR.1
  have hs := hW.sc
  unfold wfSc at hs
  obtain ⟨r11, r12⟩ := r1
  obtain ⟨r21, r22⟩ := r2
  refine gMet.of hl rfl (Nat.le_of_ble_eq_true rfl) ?_
  intro Z hE hl0 hQ hX C hnm htab
  subst hE; subst hl0
  replace C : gC Z RX3 cX3_paid 3 (some .int) _ := C
  change G Z _ _ _ 0 [(0, _), (1, _), (2, _)] []
  refine g_aload_n (pc := 0) C dX3_paid_0 0 rfl trivial rfl ?_
  refine g_aload_n (pc := 1) C dX3_paid_1 0 rfl trivial rfl ?_
  refine g_iload_n (pc := 2) C dX3_paid_2 1 rfl rfl ?_
  refine g_callV (pc := 3) C (m_X3_isCase hl hR hW ⟨by omega, by omega⟩) cl12 hm q1943 q1945 qs42 q94 q1946 nmX3_isCase rfl (by decide) (by decide) (Nat.zero_le _) (Nat.zero_le _) rfl (Nat.le_of_ble_eq_true rfl) dX3_paid_3 (gkf ?_) gkx
  refine g_iload_n (pc := 6) C dX3_paid_6 2 rfl rfl ?_
  refine g_i2l (pc := 7) C dX3_paid_7 ⟨by omega, by omega⟩ ?_
  refine g_lconst0 (pc := 8) C dX3_paid_8 ?_
  refine g_ldc2 (pc := 9) C dX3_paid_9 (x := jv 50) q2119 ?_
  refine g_callS (pc := 12) C (m_X3_isIn hl ⟨by omega, by omega⟩ ⟨by decide, by decide⟩ ⟨by first | decide | omega, by first | decide | omega⟩) q1917 q1918 q94 q1919 nmX3_isIn rfl (by decide) (by decide) (Nat.zero_le _) (Nat.zero_le _) rfl (Nat.le_of_ble_eq_true rfl) dX3_paid_12 (gkf ?_) gkx
  refine g_callV (pc := 15) C (m_X3_fits hl hR (p := okC s one) (q := okI m 0 50)) cl12 hm q1922 q1924 qs40 q94 q1925 nmX3_fits rfl (by decide) (by decide) (by omega) (by omega) rfl (Nat.le_of_ble_eq_true rfl) dX3_paid_15 (fun v_15 M_15 h_15 => ?_) (fun E_15 q_15 M_15 h_15 => ?_)
  rotate_left
  · exact h_15.elim
  obtain ⟨rfl, hR1, hx⟩ := h_15
  obtain ⟨hm, h1, h2, h3, h4, h5, h6, h7, h10, h11, h12, h13, h14, h15, h17, h18, h19, h20, h23, h24⟩ := id hR1
  refine g_ifb_eq (pc := 18) C dX3_paid_18 35 (by decide) (fun c_18 => ?_) (fun c_18 => ?_)
  · skip
    have d_18 := c_18
    try simp only [decide_eq_true_eq, decide_eq_false_iff_not, Bool.and_eq_true, Bool.and_eq_false_iff, ne_eq, Classical.not_not] at c_18
    refine g_iconst (pc := 35) C dX3_paid_35 ?_
    refine g_iret (pc := 36) hQ C ?_ dX3_paid_36
    first | exact ⟨by rw [qPaid, if_pos d_18]; rfl, hR1, hx⟩ | exact ⟨by rw [qPaid, if_neg (by rw [d_18]; exact Bool.false_ne_true)], hR1, hx⟩
  · skip
    have d_18 := c_18
    try simp only [decide_eq_true_eq, decide_eq_false_iff_not, Bool.and_eq_true, Bool.and_eq_false_iff, ne_eq, Classical.not_not] at c_18
    simp only [okC, okF, okR, okK, okI, Bool.and_eq_true, decide_eq_true_eq] at c_18
    obtain ⟨c, rfl⟩ := i_nat (z := one) (by omega)
    obtain ⟨j, rfl⟩ := i_nat (z := m) (by omega)
    refine g_aload_n (pc := 21) C dX3_paid_21 0 rfl trivial rfl ?_
    refine g_get (pc := 22) C dX3_paid_22 cl12 hm 11 (by decide) q1830 (fun _ h9 => h9) rfl ?_
    refine g_bipush (pc := 25) C dX3_paid_25 (by decide) ?_
    refine g_iload_n (pc := 27) C dX3_paid_27 1 rfl rfl ?_
    refine g_imul (pc := 28) C dX3_paid_28 ?_
    refine g_iload_n (pc := 29) C dX3_paid_29 2 rfl rfl ?_
    refine g_iadd (pc := 30) C dX3_paid_30 ?_
    refine g_iald (pc := 31) C dX3_paid_31 h6 (51 * c + j) (by omega) (by omega) (by omega) ?_
    refine g_goto (pc := 32) C dX3_paid_32 36 (by decide) ?_
    refine g_iret (pc := 36) hQ C ?_ dX3_paid_36
    first | exact ⟨by rw [qPaid, if_pos d_18]; rfl, hR1, hx⟩ | exact ⟨by rw [qPaid, if_neg (by rw [d_18]; exact Bool.false_ne_true)], hR1, hx⟩
theorem m_X3_claimAt (hl : l.stackTraces = false) (hR : RM A M s t) (hW : WF s) {k j : Int} (r1 : r32 k) (r2 : r32 j) : gMet E l yX3_claimAt wX3_claimAt 3 0 0 [.ref (A 0), vi k, vi j] M (qRes A M s (qClaimAt s k j) (kClaimAt s k j)) (fun _ _ _ => False) := by
  have hm := hR.1
  have hs := hW.sc
  unfold wfSc at hs
  obtain ⟨r11, r12⟩ := r1
  obtain ⟨r21, r22⟩ := r2
  refine gMet.of hl rfl (Nat.le_of_ble_eq_true rfl) ?_
  intro Z hE hl0 hQ hX C hnm htab
  subst hE; subst hl0
  replace C : gC Z RX3 cX3_claimAt 3 (some .int) _ := C
  change G Z _ _ _ 0 [(0, _), (1, _), (2, _)] []
  refine g_aload_n (pc := 0) C dX3_claimAt_0 0 rfl trivial rfl ?_
  refine g_aload_n (pc := 1) C dX3_claimAt_1 0 rfl trivial rfl ?_
  refine g_iload_n (pc := 2) C dX3_claimAt_2 1 rfl rfl ?_
  refine g_callV (pc := 3) C (m_X3_isClaim hl hR hW ⟨by omega, by omega⟩) cl12 hm q2032 q2034 qs55 q94 q2035 nmX3_isClaim rfl (by decide) (by decide) (Nat.zero_le _) (Nat.zero_le _) rfl (Nat.le_of_ble_eq_true rfl) dX3_claimAt_3 (gkf ?_) gkx
  refine g_iload_n (pc := 6) C dX3_claimAt_6 2 rfl rfl ?_
  refine g_i2l (pc := 7) C dX3_claimAt_7 ⟨by omega, by omega⟩ ?_
  refine g_lconst0 (pc := 8) C dX3_claimAt_8 ?_
  refine g_ldc2 (pc := 9) C dX3_claimAt_9 (x := jv 5) q2155 ?_
  refine g_callS (pc := 12) C (m_X3_isIn hl ⟨by omega, by omega⟩ ⟨by decide, by decide⟩ ⟨by first | decide | omega, by first | decide | omega⟩) q1917 q1918 q94 q1919 nmX3_isIn rfl (by decide) (by decide) (Nat.zero_le _) (Nat.zero_le _) rfl (Nat.le_of_ble_eq_true rfl) dX3_claimAt_12 (gkf ?_) gkx
  refine g_callV (pc := 15) C (m_X3_fits hl hR (p := okK s k) (q := okI j 0 5)) cl12 hm q1922 q1924 qs40 q94 q1925 nmX3_fits rfl (by decide) (by decide) (by omega) (by omega) rfl (Nat.le_of_ble_eq_true rfl) dX3_claimAt_15 (fun v_15 M_15 h_15 => ?_) (fun E_15 q_15 M_15 h_15 => ?_)
  rotate_left
  · exact h_15.elim
  obtain ⟨rfl, hR1, hx⟩ := h_15
  obtain ⟨hm, h1, h2, h3, h4, h5, h6, h7, h10, h11, h12, h13, h14, h15, h17, h18, h19, h20, h23, h24⟩ := id hR1
  refine g_ifb_eq (pc := 18) C dX3_claimAt_18 35 (by decide) (fun c_18 => ?_) (fun c_18 => ?_)
  · skip
    have d_18 := c_18
    try simp only [decide_eq_true_eq, decide_eq_false_iff_not, Bool.and_eq_true, Bool.and_eq_false_iff, ne_eq, Classical.not_not] at c_18
    refine g_iconst (pc := 35) C dX3_claimAt_35 ?_
    refine g_iret (pc := 36) hQ C ?_ dX3_claimAt_36
    first | exact ⟨by rw [qClaimAt, if_pos d_18]; rfl, hR1, hx⟩ | exact ⟨by rw [qClaimAt, if_neg (by rw [d_18]; exact Bool.false_ne_true)], hR1, hx⟩
  · skip
    have d_18 := c_18
    try simp only [decide_eq_true_eq, decide_eq_false_iff_not, Bool.and_eq_true, Bool.and_eq_false_iff, ne_eq, Classical.not_not] at c_18
    simp only [okC, okF, okR, okK, okI, Bool.and_eq_true, decide_eq_true_eq] at c_18
    obtain ⟨c, rfl⟩ := i_nat (z := k) (by omega)
    obtain ⟨i, rfl⟩ := i_nat (z := j) (by omega)
    refine g_aload_n (pc := 21) C dX3_claimAt_21 0 rfl trivial rfl ?_
    refine g_get (pc := 22) C dX3_claimAt_22 cl12 hm 25 (by decide) q1844 (fun _ h9 => h9) rfl ?_
    refine g_bipush (pc := 25) C dX3_claimAt_25 (by decide) ?_
    refine g_iload_n (pc := 27) C dX3_claimAt_27 1 rfl rfl ?_
    refine g_imul (pc := 28) C dX3_claimAt_28 ?_
    refine g_iload_n (pc := 29) C dX3_claimAt_29 2 rfl rfl ?_
    refine g_iadd (pc := 30) C dX3_claimAt_30 ?_
    refine g_iald (pc := 31) C dX3_claimAt_31 h23 (6 * c + i) (by omega) (by omega) (by omega) ?_
    refine g_goto (pc := 32) C dX3_claimAt_32 36 (by decide) ?_
    refine g_iret (pc := 36) hQ C ?_ dX3_claimAt_36
    first | exact ⟨by rw [qClaimAt, if_pos d_18]; rfl, hR1, hx⟩ | exact ⟨by rw [qClaimAt, if_neg (by rw [d_18]; exact Bool.false_ne_true)], hR1, hx⟩
theorem m_X3_ruleAt (hl : l.stackTraces = false) (hR : RM A M s t) (hW : WF s) {k j : Int} (r1 : r32 k) (r2 : r32 j) : gMet E l yX3_ruleAt wX3_ruleAt 3 0 0 [.ref (A 0), vi k, vi j] M (qRes A M s (qRuleAt s k j) (kRuleAt s k j)) (fun _ _ _ => False) := by
  have hm := hR.1
  have hs := hW.sc
  unfold wfSc at hs
  obtain ⟨r11, r12⟩ := r1
  obtain ⟨r21, r22⟩ := r2
  refine gMet.of hl rfl (Nat.le_of_ble_eq_true rfl) ?_
  intro Z hE hl0 hQ hX C hnm htab
  subst hE; subst hl0
  replace C : gC Z RX3 cX3_ruleAt 3 (some .int) _ := C
  change G Z _ _ _ 0 [(0, _), (1, _), (2, _)] []
  refine g_aload_n (pc := 0) C dX3_ruleAt_0 0 rfl trivial rfl ?_
  refine g_iload_n (pc := 1) C dX3_ruleAt_1 1 rfl rfl ?_
  refine g_i2l (pc := 2) C dX3_ruleAt_2 ⟨by omega, by omega⟩ ?_
  refine g_lconst0 (pc := 3) C dX3_ruleAt_3 ?_
  refine g_aload_n (pc := 4) C dX3_ruleAt_4 0 rfl trivial rfl ?_
  refine g_get (pc := 5) C dX3_ruleAt_5 cl12 hm 19 (by decide) q1838 (fun _ h9 => h9) rfl ?_
  refine g_i2l (pc := 8) C dX3_ruleAt_8 ⟨by omega, by omega⟩ ?_
  refine g_lconst1 (pc := 9) C dX3_ruleAt_9 ?_
  refine g_lsub (pc := 10) C dX3_ruleAt_10 ?_
  refine g_callS (pc := 11) C (m_X3_isIn hl ⟨by omega, by omega⟩ ⟨by decide, by decide⟩ ⟨by first | decide | omega, by first | decide | omega⟩) q1917 q1918 q94 q1919 nmX3_isIn rfl (by decide) (by decide) (Nat.zero_le _) (Nat.zero_le _) rfl (Nat.le_of_ble_eq_true rfl) dX3_ruleAt_11 (gkf ?_) gkx
  rw [show decide (0 ≤ k ∧ k ≤ s 0 4 - 1) = okR s k from decide_eq_decide.mpr (by omega)]
  refine g_iload_n (pc := 14) C dX3_ruleAt_14 2 rfl rfl ?_
  refine g_i2l (pc := 15) C dX3_ruleAt_15 ⟨by omega, by omega⟩ ?_
  refine g_lconst0 (pc := 16) C dX3_ruleAt_16 ?_
  refine g_ldc2 (pc := 17) C dX3_ruleAt_17 (x := jv 6) q2150 ?_
  refine g_callS (pc := 20) C (m_X3_isIn hl ⟨by omega, by omega⟩ ⟨by decide, by decide⟩ ⟨by first | decide | omega, by first | decide | omega⟩) q1917 q1918 q94 q1919 nmX3_isIn rfl (by decide) (by decide) (Nat.zero_le _) (Nat.zero_le _) rfl (Nat.le_of_ble_eq_true rfl) dX3_ruleAt_20 (gkf ?_) gkx
  refine g_callV (pc := 23) C (m_X3_fits hl hR (p := okR s k) (q := okI j 0 6)) cl12 hm q1922 q1924 qs40 q94 q1925 nmX3_fits rfl (by decide) (by decide) (by omega) (by omega) rfl (Nat.le_of_ble_eq_true rfl) dX3_ruleAt_23 (fun v_23 M_23 h_23 => ?_) (fun E_23 q_23 M_23 h_23 => ?_)
  rotate_left
  · exact h_23.elim
  obtain ⟨rfl, hR1, hx⟩ := h_23
  obtain ⟨hm, h1, h2, h3, h4, h5, h6, h7, h10, h11, h12, h13, h14, h15, h17, h18, h19, h20, h23, h24⟩ := id hR1
  refine g_ifb_ne (pc := 26) C dX3_ruleAt_26 31 (by decide) (fun c_26 => ?_) (fun c_26 => ?_)
  · skip
    have d_26 := c_26
    try simp only [decide_eq_true_eq, decide_eq_false_iff_not, Bool.and_eq_true, Bool.and_eq_false_iff, ne_eq, Classical.not_not] at c_26
    simp only [okC, okF, okR, okK, okI, Bool.and_eq_true, decide_eq_true_eq] at c_26
    obtain ⟨c, rfl⟩ := i_nat (z := k) (by omega)
    obtain ⟨i, rfl⟩ := i_nat (z := j) (by omega)
    have hru := (hW.rule (r := c) (by omega)).2.2.1
    refine g_iload_n (pc := 31) C dX3_ruleAt_31 2 rfl rfl ?_
    refine g_if_ne (pc := 32) C dX3_ruleAt_32 44 ⟨by omega, by omega⟩ (by decide) (fun c_32 => ?_) (fun c_32 => ?_)
    · skip
      refine g_iload_n (pc := 44) C dX3_ruleAt_44 2 rfl rfl ?_
      refine g_iconst (pc := 45) C dX3_ruleAt_45 ?_
      refine g_icmp_ne (pc := 46) C dX3_ruleAt_46 66 ⟨by omega, by omega⟩ ⟨by omega, by omega⟩ (by decide) (fun c_46 => ?_) (fun c_46 => ?_)
      · skip
        refine g_aload_n (pc := 66) C dX3_ruleAt_66 0 rfl trivial rfl ?_
        refine g_get (pc := 67) C dX3_ruleAt_67 cl12 hm 20 (by decide) q1839 (fun _ h9 => h9) rfl ?_
        refine g_iconst (pc := 70) C dX3_ruleAt_70 ?_
        refine g_iload_n (pc := 71) C dX3_ruleAt_71 1 rfl rfl ?_
        refine g_imul (pc := 72) C dX3_ruleAt_72 ?_
        refine g_iload_n (pc := 73) C dX3_ruleAt_73 2 rfl rfl ?_
        refine g_iadd (pc := 74) C dX3_ruleAt_74 ?_
        refine g_iconst (pc := 75) C dX3_ruleAt_75 ?_
        refine g_isub (pc := 76) C dX3_ruleAt_76 ?_
        refine g_iald (pc := 77) C dX3_ruleAt_77 h17 (5 * c + (i - 2)) (by omega) (by omega) (by omega) ?_
        refine g_iret (pc := 78) hQ C ?_ dX3_ruleAt_78
        first | exact ⟨by rw [qRuleAt, if_pos d_26, if_pos (by omega)]; rfl, hR1, hx⟩ | exact ⟨by rw [qRuleAt, if_pos d_26, if_neg (by omega), if_pos (by omega)]; first | (rw [show s 19 (c : Int).toNat = 1 from by show s 19 c = 1; omega]) | (rw [show s 19 (c : Int).toNat = 0 from by show s 19 c = 0; omega]), hR1, hx⟩ | exact ⟨by rw [qRuleAt, if_pos d_26, if_neg (by omega), if_neg (by omega)]; show _ = some (vi (s 17 (5 * c + ((i : Int) - 2).toNat))); rw [show ((i : Int) - 2).toNat = i - 2 by omega], hR1, hx⟩
      · skip
        refine g_aload_n (pc := 49) C dX3_ruleAt_49 0 rfl trivial rfl ?_
        refine g_get (pc := 50) C dX3_ruleAt_50 cl12 hm 22 (by decide) q1841 (fun _ h9 => h9) rfl ?_
        refine g_iload_n (pc := 53) C dX3_ruleAt_53 1 rfl rfl ?_
        refine g_zald (pc := 54) C dX3_ruleAt_54 h19 c rfl (by omega) (by omega) ?_
        refine g_if_eq (pc := 55) C dX3_ruleAt_55 62 ⟨by omega, by omega⟩ (by decide) (fun c_55 => ?_) (fun c_55 => ?_)
        · skip
          refine g_iconst (pc := 62) C dX3_ruleAt_62 ?_
          refine g_goto (pc := 63) C dX3_ruleAt_63 78 (by decide) ?_
          refine g_iret (pc := 78) hQ C ?_ dX3_ruleAt_78
          first | exact ⟨by rw [qRuleAt, if_pos d_26, if_pos (by omega)]; rfl, hR1, hx⟩ | exact ⟨by rw [qRuleAt, if_pos d_26, if_neg (by omega), if_pos (by omega)]; first | (rw [show s 19 (c : Int).toNat = 1 from by show s 19 c = 1; omega]) | (rw [show s 19 (c : Int).toNat = 0 from by show s 19 c = 0; omega]), hR1, hx⟩ | exact ⟨by rw [qRuleAt, if_pos d_26, if_neg (by omega), if_neg (by omega)]; show _ = some (vi (s 17 (5 * c + ((i : Int) - 2).toNat))); rw [show ((i : Int) - 2).toNat = i - 2 by omega], hR1, hx⟩
        · skip
          refine g_iconst (pc := 58) C dX3_ruleAt_58 ?_
          refine g_goto (pc := 59) C dX3_ruleAt_59 78 (by decide) ?_
          refine g_iret (pc := 78) hQ C ?_ dX3_ruleAt_78
          first | exact ⟨by rw [qRuleAt, if_pos d_26, if_pos (by omega)]; rfl, hR1, hx⟩ | exact ⟨by rw [qRuleAt, if_pos d_26, if_neg (by omega), if_pos (by omega)]; first | (rw [show s 19 (c : Int).toNat = 1 from by show s 19 c = 1; omega]) | (rw [show s 19 (c : Int).toNat = 0 from by show s 19 c = 0; omega]), hR1, hx⟩ | exact ⟨by rw [qRuleAt, if_pos d_26, if_neg (by omega), if_neg (by omega)]; show _ = some (vi (s 17 (5 * c + ((i : Int) - 2).toNat))); rw [show ((i : Int) - 2).toNat = i - 2 by omega], hR1, hx⟩
    · skip
      refine g_aload_n (pc := 35) C dX3_ruleAt_35 0 rfl trivial rfl ?_
      refine g_get (pc := 36) C dX3_ruleAt_36 cl12 hm 21 (by decide) q1840 (fun _ h9 => h9) rfl ?_
      refine g_iload_n (pc := 39) C dX3_ruleAt_39 1 rfl rfl ?_
      refine g_iald (pc := 40) C dX3_ruleAt_40 h18 _ rfl (by omega) (by omega) ?_
      refine g_goto (pc := 41) C dX3_ruleAt_41 78 (by decide) ?_
      refine g_iret (pc := 78) hQ C ?_ dX3_ruleAt_78
      first | exact ⟨by rw [qRuleAt, if_pos d_26, if_pos (by omega)]; rfl, hR1, hx⟩ | exact ⟨by rw [qRuleAt, if_pos d_26, if_neg (by omega), if_pos (by omega)]; first | (rw [show s 19 (c : Int).toNat = 1 from by show s 19 c = 1; omega]) | (rw [show s 19 (c : Int).toNat = 0 from by show s 19 c = 0; omega]), hR1, hx⟩ | exact ⟨by rw [qRuleAt, if_pos d_26, if_neg (by omega), if_neg (by omega)]; show _ = some (vi (s 17 (5 * c + ((i : Int) - 2).toNat))); rw [show ((i : Int) - 2).toNat = i - 2 by omega], hR1, hx⟩
  · skip
    have d_26 := c_26
    try simp only [decide_eq_true_eq, decide_eq_false_iff_not, Bool.and_eq_true, Bool.and_eq_false_iff, ne_eq, Classical.not_not] at c_26
    refine g_iconst (pc := 29) C dX3_ruleAt_29 ?_
    refine g_iret (pc := 30) hQ C ?_ dX3_ruleAt_30
    exact ⟨by rw [qRuleAt, if_neg (by rw [d_26]; exact Bool.false_ne_true)], hR1, hx⟩
theorem m_X3_formAt (hl : l.stackTraces = false) (hR : RM A M s t) (hW : WF s) {k j : Int} (r1 : r32 k) (r2 : r32 j) : gMet E l yX3_formAt wX3_formAt 3 0 0 [.ref (A 0), vi k, vi j] M (qRes A M s (qFormAt s k j) (kFormAt s k j)) (fun _ _ _ => False) := by
  have hm := hR.1
  have hs := hW.sc
  unfold wfSc at hs
  obtain ⟨r11, r12⟩ := r1
  obtain ⟨r21, r22⟩ := r2
  refine gMet.of hl rfl (Nat.le_of_ble_eq_true rfl) ?_
  intro Z hE hl0 hQ hX C hnm htab
  subst hE; subst hl0
  replace C : gC Z RX3 cX3_formAt 5 (some .int) _ := C
  change G Z _ _ _ 0 [(0, _), (1, _), (2, _)] []
  have loop : ∀ (M1 : gM) (c i : Nat), k = c → j = i → RM A M1 s (kFormAt s k j) → gExt (gT1 100) M M1 → (okF s k && okI j 0 4) = true → (c : Int) < s 0 3 → i ≤ 4 → ∀ (r n : Nat), n + r = 4 → G Z 0 0 M1 28 [(0, .ref (A 0)), (1, vi c), (2, vi i), (3, vi (spHas s c n)), (4, vi n)] [] := by
    intro M1 c i hk hj hR1 hx hd hc hi r
    subst hk; subst hj
    obtain ⟨hm, h1, h2, h3, h4, h5, h6, h7, h10, h11, h12, h13, h14, h15, h17, h18, h19, h20, h23, h24⟩ := id hR1
    have hf := hW.form (f := c) hc
    induction r with
    | zero =>
      intro n hn
      obtain rfl : n = 4 := by omega
      refine g_iload (pc := 28) C dX3_formAt_28 4 rfl ?_
      refine g_iconst (pc := 30) C dX3_formAt_30 ?_
      refine g_icmp_ge (pc := 31) C dX3_formAt_31 63 ⟨by omega, by omega⟩ ⟨by omega, by omega⟩ (by decide) (fun c_31 => ?_) (fun c_31 => ?_)
      · skip
        refine g_iload_n (pc := 63) C dX3_formAt_63 2 rfl rfl ?_
        refine g_if_ne (pc := 64) C dX3_formAt_64 76 ⟨by omega, by omega⟩ (by decide) (fun c_64 => ?_) (fun c_64 => ?_)
        · skip
          refine g_iload_n (pc := 76) C dX3_formAt_76 2 rfl rfl ?_
          refine g_iconst (pc := 77) C dX3_formAt_77 ?_
          refine g_icmp_ne (pc := 78) C dX3_formAt_78 90 ⟨by omega, by omega⟩ ⟨by omega, by omega⟩ (by decide) (fun c_78 => ?_) (fun c_78 => ?_)
          · skip
            refine g_iload_n (pc := 90) C dX3_formAt_90 2 rfl rfl ?_
            refine g_iconst (pc := 91) C dX3_formAt_91 ?_
            refine g_icmp_ne (pc := 92) C dX3_formAt_92 104 ⟨by omega, by omega⟩ ⟨by omega, by omega⟩ (by decide) (fun c_92 => ?_) (fun c_92 => ?_)
            · skip
              refine g_iload_n (pc := 104) C dX3_formAt_104 2 rfl rfl ?_
              refine g_iconst (pc := 105) C dX3_formAt_105 ?_
              refine g_icmp_ne (pc := 106) C dX3_formAt_106 118 ⟨by omega, by omega⟩ ⟨by omega, by omega⟩ (by decide) (fun c_106 => ?_) (fun c_106 => ?_)
              · skip
                refine g_iload_n (pc := 118) C dX3_formAt_118 3 rfl rfl ?_
                refine g_iret (pc := 119) hQ C ?_ dX3_formAt_119
                first | exact ⟨by rw [qFormAt, if_pos hd, if_pos (by omega)]; rfl, hR1, hx⟩ | exact ⟨by rw [qFormAt, if_pos hd, if_neg (by omega), if_pos (by omega)]; rfl, hR1, hx⟩ | exact ⟨by rw [qFormAt, if_pos hd, if_neg (by omega), if_neg (by omega), if_pos (by omega)]; rfl, hR1, hx⟩ | exact ⟨by rw [qFormAt, if_pos hd, if_neg (by omega), if_neg (by omega), if_neg (by omega), if_pos (by omega)]; rfl, hR1, hx⟩ | exact ⟨by rw [qFormAt, if_pos hd, if_neg (by omega), if_neg (by omega), if_neg (by omega), if_neg (by omega)]; rfl, hR1, hx⟩
              · skip
                refine g_aload_n (pc := 109) C dX3_formAt_109 0 rfl trivial rfl ?_
                refine g_get (pc := 110) C dX3_formAt_110 cl12 hm 17 (by decide) q1836 (fun _ h9 => h9) rfl ?_
                refine g_iload_n (pc := 113) C dX3_formAt_113 1 rfl rfl ?_
                refine g_iald (pc := 114) C dX3_formAt_114 h14 _ rfl (by omega) (by omega) ?_
                refine g_goto (pc := 115) C dX3_formAt_115 119 (by decide) ?_
                refine g_iret (pc := 119) hQ C ?_ dX3_formAt_119
                first | exact ⟨by rw [qFormAt, if_pos hd, if_pos (by omega)]; rfl, hR1, hx⟩ | exact ⟨by rw [qFormAt, if_pos hd, if_neg (by omega), if_pos (by omega)]; rfl, hR1, hx⟩ | exact ⟨by rw [qFormAt, if_pos hd, if_neg (by omega), if_neg (by omega), if_pos (by omega)]; rfl, hR1, hx⟩ | exact ⟨by rw [qFormAt, if_pos hd, if_neg (by omega), if_neg (by omega), if_neg (by omega), if_pos (by omega)]; rfl, hR1, hx⟩ | exact ⟨by rw [qFormAt, if_pos hd, if_neg (by omega), if_neg (by omega), if_neg (by omega), if_neg (by omega)]; rfl, hR1, hx⟩
            · skip
              refine g_aload_n (pc := 95) C dX3_formAt_95 0 rfl trivial rfl ?_
              refine g_get (pc := 96) C dX3_formAt_96 cl12 hm 16 (by decide) q1835 (fun _ h9 => h9) rfl ?_
              refine g_iload_n (pc := 99) C dX3_formAt_99 1 rfl rfl ?_
              refine g_iald (pc := 100) C dX3_formAt_100 h13 _ rfl (by omega) (by omega) ?_
              refine g_goto (pc := 101) C dX3_formAt_101 119 (by decide) ?_
              refine g_iret (pc := 119) hQ C ?_ dX3_formAt_119
              first | exact ⟨by rw [qFormAt, if_pos hd, if_pos (by omega)]; rfl, hR1, hx⟩ | exact ⟨by rw [qFormAt, if_pos hd, if_neg (by omega), if_pos (by omega)]; rfl, hR1, hx⟩ | exact ⟨by rw [qFormAt, if_pos hd, if_neg (by omega), if_neg (by omega), if_pos (by omega)]; rfl, hR1, hx⟩ | exact ⟨by rw [qFormAt, if_pos hd, if_neg (by omega), if_neg (by omega), if_neg (by omega), if_pos (by omega)]; rfl, hR1, hx⟩ | exact ⟨by rw [qFormAt, if_pos hd, if_neg (by omega), if_neg (by omega), if_neg (by omega), if_neg (by omega)]; rfl, hR1, hx⟩
          · skip
            refine g_aload_n (pc := 81) C dX3_formAt_81 0 rfl trivial rfl ?_
            refine g_get (pc := 82) C dX3_formAt_82 cl12 hm 15 (by decide) q1834 (fun _ h9 => h9) rfl ?_
            refine g_iload_n (pc := 85) C dX3_formAt_85 1 rfl rfl ?_
            refine g_iald (pc := 86) C dX3_formAt_86 h12 _ rfl (by omega) (by omega) ?_
            refine g_goto (pc := 87) C dX3_formAt_87 119 (by decide) ?_
            refine g_iret (pc := 119) hQ C ?_ dX3_formAt_119
            first | exact ⟨by rw [qFormAt, if_pos hd, if_pos (by omega)]; rfl, hR1, hx⟩ | exact ⟨by rw [qFormAt, if_pos hd, if_neg (by omega), if_pos (by omega)]; rfl, hR1, hx⟩ | exact ⟨by rw [qFormAt, if_pos hd, if_neg (by omega), if_neg (by omega), if_pos (by omega)]; rfl, hR1, hx⟩ | exact ⟨by rw [qFormAt, if_pos hd, if_neg (by omega), if_neg (by omega), if_neg (by omega), if_pos (by omega)]; rfl, hR1, hx⟩ | exact ⟨by rw [qFormAt, if_pos hd, if_neg (by omega), if_neg (by omega), if_neg (by omega), if_neg (by omega)]; rfl, hR1, hx⟩
        · skip
          refine g_aload_n (pc := 67) C dX3_formAt_67 0 rfl trivial rfl ?_
          refine g_get (pc := 68) C dX3_formAt_68 cl12 hm 14 (by decide) q1833 (fun _ h9 => h9) rfl ?_
          refine g_iload_n (pc := 71) C dX3_formAt_71 1 rfl rfl ?_
          refine g_iald (pc := 72) C dX3_formAt_72 h11 _ rfl (by omega) (by omega) ?_
          refine g_goto (pc := 73) C dX3_formAt_73 119 (by decide) ?_
          refine g_iret (pc := 119) hQ C ?_ dX3_formAt_119
          first | exact ⟨by rw [qFormAt, if_pos hd, if_pos (by omega)]; rfl, hR1, hx⟩ | exact ⟨by rw [qFormAt, if_pos hd, if_neg (by omega), if_pos (by omega)]; rfl, hR1, hx⟩ | exact ⟨by rw [qFormAt, if_pos hd, if_neg (by omega), if_neg (by omega), if_pos (by omega)]; rfl, hR1, hx⟩ | exact ⟨by rw [qFormAt, if_pos hd, if_neg (by omega), if_neg (by omega), if_neg (by omega), if_pos (by omega)]; rfl, hR1, hx⟩ | exact ⟨by rw [qFormAt, if_pos hd, if_neg (by omega), if_neg (by omega), if_neg (by omega), if_neg (by omega)]; rfl, hR1, hx⟩
      · skip
        omega
    | succ r ih =>
      intro n hn
      have ho := told_r hf (which := n) (by omega)
      refine g_iload (pc := 28) C dX3_formAt_28 4 rfl ?_
      refine g_iconst (pc := 30) C dX3_formAt_30 ?_
      refine g_icmp_ge (pc := 31) C dX3_formAt_31 63 ⟨by omega, by omega⟩ ⟨by omega, by omega⟩ (by decide) (fun c_31 => ?_) (fun c_31 => ?_)
      · skip
        omega
      · skip
        refine g_iload_n (pc := 34) C dX3_formAt_34 3 rfl rfl ?_
        refine g_aload_n (pc := 35) C dX3_formAt_35 0 rfl trivial rfl ?_
        refine g_get (pc := 36) C dX3_formAt_36 cl12 hm 18 (by decide) q1837 (fun _ h9 => h9) rfl ?_
        refine g_iconst (pc := 39) C dX3_formAt_39 ?_
        refine g_iload_n (pc := 40) C dX3_formAt_40 1 rfl rfl ?_
        refine g_imul (pc := 41) C dX3_formAt_41 ?_
        refine g_iload (pc := 42) C dX3_formAt_42 4 rfl ?_
        refine g_iadd (pc := 44) C dX3_formAt_44 ?_
        refine g_iald (pc := 45) C dX3_formAt_45 h15 (4 * c + n) (by omega) (by omega) (by omega) ?_
        refine g_iconst (pc := 46) C dX3_formAt_46 ?_
        refine g_icmp_ne (pc := 47) C dX3_formAt_47 54 ⟨by omega, by omega⟩ ⟨by omega, by omega⟩ (by decide) (fun c_47 => ?_) (fun c_47 => ?_)
        · skip
          refine g_iconst (pc := 54) C dX3_formAt_54 ?_
          refine g_iadd (pc := 55) C dX3_formAt_55 ?_
          refine g_istore_n (pc := 56) C dX3_formAt_56 (Nat.le_of_ble_eq_true rfl) rfl rfl (loc1 := [(0, _), (1, _), (2, _), (3, _), (4, _)]) rfl ?_
          refine g_iinc (pc := 57) C dX3_formAt_57 4 rfl (Nat.le_of_ble_eq_true rfl) rfl (loc1 := [(0, _), (1, _), (2, _), (3, _), (4, _)]) rfl ?_
          refine g_goto (pc := 60) C dX3_formAt_60 28 (by decide) ?_
          have h9 := ih (n + 1) (by omega)
          simp only [spHas, sumN] at h9
          first | (rw [if_pos (show s 15 (4 * c + n) = -1 by omega)] at h9; exact h9) | (rw [if_neg (show ¬ (s 15 (4 * c + n) = -1) by omega)] at h9; exact h9)
        · skip
          refine g_iconst (pc := 50) C dX3_formAt_50 ?_
          refine g_goto (pc := 51) C dX3_formAt_51 55 (by decide) ?_
          refine g_iadd (pc := 55) C dX3_formAt_55 ?_
          refine g_istore_n (pc := 56) C dX3_formAt_56 (Nat.le_of_ble_eq_true rfl) rfl rfl (loc1 := [(0, _), (1, _), (2, _), (3, _), (4, _)]) rfl ?_
          refine g_iinc (pc := 57) C dX3_formAt_57 4 rfl (Nat.le_of_ble_eq_true rfl) rfl (loc1 := [(0, _), (1, _), (2, _), (3, _), (4, _)]) rfl ?_
          refine g_goto (pc := 60) C dX3_formAt_60 28 (by decide) ?_
          have h9 := ih (n + 1) (by omega)
          simp only [spHas, sumN] at h9
          first | (rw [if_pos (show s 15 (4 * c + n) = -1 by omega)] at h9; exact h9) | (rw [if_neg (show ¬ (s 15 (4 * c + n) = -1) by omega)] at h9; exact h9)
  refine g_aload_n (pc := 0) C dX3_formAt_0 0 rfl trivial rfl ?_
  refine g_aload_n (pc := 1) C dX3_formAt_1 0 rfl trivial rfl ?_
  refine g_iload_n (pc := 2) C dX3_formAt_2 1 rfl rfl ?_
  refine g_callV (pc := 3) C (m_X3_isForm hl hR hW ⟨by omega, by omega⟩) cl12 hm q2015 q2017 qs53 q94 q2018 nmX3_isForm rfl (by decide) (by decide) (Nat.zero_le _) (Nat.zero_le _) rfl (Nat.le_of_ble_eq_true rfl) dX3_formAt_3 (gkf ?_) gkx
  refine g_iload_n (pc := 6) C dX3_formAt_6 2 rfl rfl ?_
  refine g_i2l (pc := 7) C dX3_formAt_7 ⟨by omega, by omega⟩ ?_
  refine g_lconst0 (pc := 8) C dX3_formAt_8 ?_
  refine g_ldc2 (pc := 9) C dX3_formAt_9 (x := jv 4) q2145 ?_
  refine g_callS (pc := 12) C (m_X3_isIn hl ⟨by omega, by omega⟩ ⟨by decide, by decide⟩ ⟨by first | decide | omega, by first | decide | omega⟩) q1917 q1918 q94 q1919 nmX3_isIn rfl (by decide) (by decide) (Nat.zero_le _) (Nat.zero_le _) rfl (Nat.le_of_ble_eq_true rfl) dX3_formAt_12 (gkf ?_) gkx
  refine g_callV (pc := 15) C (m_X3_fits hl hR (p := okF s k) (q := okI j 0 4)) cl12 hm q1922 q1924 qs40 q94 q1925 nmX3_fits rfl (by decide) (by decide) (by omega) (by omega) rfl (Nat.le_of_ble_eq_true rfl) dX3_formAt_15 (fun v_15 M_15 h_15 => ?_) (fun E_15 q_15 M_15 h_15 => ?_)
  rotate_left
  · exact h_15.elim
  obtain ⟨rfl, hR1, hx⟩ := h_15
  obtain ⟨hm, h1, h2, h3, h4, h5, h6, h7, h10, h11, h12, h13, h14, h15, h17, h18, h19, h20, h23, h24⟩ := id hR1
  refine g_ifb_ne (pc := 18) C dX3_formAt_18 23 (by decide) (fun c_18 => ?_) (fun c_18 => ?_)
  · skip
    have d_18 := c_18
    try simp only [decide_eq_true_eq, decide_eq_false_iff_not, Bool.and_eq_true, Bool.and_eq_false_iff, ne_eq, Classical.not_not] at c_18
    simp only [okC, okF, okR, okK, okI, Bool.and_eq_true, decide_eq_true_eq] at c_18
    obtain ⟨c, rfl⟩ := i_nat (z := k) (by omega)
    obtain ⟨i, rfl⟩ := i_nat (z := j) (by omega)
    refine g_iconst (pc := 23) C dX3_formAt_23 ?_
    refine g_istore_n (pc := 24) C dX3_formAt_24 (Nat.le_of_ble_eq_true rfl) rfl rfl (loc1 := [(0, _), (1, _), (2, _), (3, _)]) rfl ?_
    refine g_iconst (pc := 25) C dX3_formAt_25 ?_
    refine g_istore (pc := 26) C dX3_formAt_26 (Nat.le_of_ble_eq_true rfl) rfl (loc1 := [(0, _), (1, _), (2, _), (3, _), (4, _)]) rfl ?_
    exact loop _ c i rfl rfl hR1 hx d_18 (by omega) (by omega) 4 0 rfl
  · skip
    have d_18 := c_18
    try simp only [decide_eq_true_eq, decide_eq_false_iff_not, Bool.and_eq_true, Bool.and_eq_false_iff, ne_eq, Classical.not_not] at c_18
    refine g_iconst (pc := 21) C dX3_formAt_21 ?_
    refine g_iret (pc := 22) hQ C ?_ dX3_formAt_22
    exact ⟨by rw [qFormAt, if_neg (by rw [d_18]; exact Bool.false_ne_true)], hR1, hx⟩
theorem m_X3_caseAt (hl : l.stackTraces = false) (hR : RM A M s t) (hN : RMn A M s) (hW : WF s) {k j : Int} (r1 : r32 k) (r2 : r32 j) : gMet E l yX3_caseAt wX3_caseAt 3 0 0 [.ref (A 0), vi k, vi j] M (qRes A M s (qCaseAt s k j) (kCaseAt s k j)) (fun _ _ _ => False) := by
  have hm := hR.1
  have hs := hW.sc
  unfold wfSc at hs
  obtain ⟨r11, r12⟩ := r1
  obtain ⟨r21, r22⟩ := r2
  obtain ⟨n1, n2⟩ := hN
  refine gMet.of hl rfl (Nat.le_of_ble_eq_true rfl) ?_
  intro Z hE hl0 hQ hX C hnm htab
  subst hE; subst hl0
  replace C : gC Z RX3 cX3_caseAt 3 (some .int) _ := C
  change G Z _ _ _ 0 [(0, _), (1, _), (2, _)] []
  refine g_aload_n (pc := 0) C dX3_caseAt_0 0 rfl trivial rfl ?_
  refine g_aload_n (pc := 1) C dX3_caseAt_1 0 rfl trivial rfl ?_
  refine g_iload_n (pc := 2) C dX3_caseAt_2 1 rfl rfl ?_
  refine g_callV (pc := 3) C (m_X3_isCase hl hR hW ⟨by omega, by omega⟩) cl12 hm q1943 q1945 qs42 q94 q1946 nmX3_isCase rfl (by decide) (by decide) (Nat.zero_le _) (Nat.zero_le _) rfl (Nat.le_of_ble_eq_true rfl) dX3_caseAt_3 (gkf ?_) gkx
  refine g_iload_n (pc := 6) C dX3_caseAt_6 2 rfl rfl ?_
  refine g_i2l (pc := 7) C dX3_caseAt_7 ⟨by omega, by omega⟩ ?_
  refine g_lconst0 (pc := 8) C dX3_caseAt_8 ?_
  refine g_ldc2 (pc := 9) C dX3_caseAt_9 (x := jv 10) q2128 ?_
  refine g_callS (pc := 12) C (m_X3_isIn hl ⟨by omega, by omega⟩ ⟨by decide, by decide⟩ ⟨by first | decide | omega, by first | decide | omega⟩) q1917 q1918 q94 q1919 nmX3_isIn rfl (by decide) (by decide) (Nat.zero_le _) (Nat.zero_le _) rfl (Nat.le_of_ble_eq_true rfl) dX3_caseAt_12 (gkf ?_) gkx
  refine g_callV (pc := 15) C (m_X3_fits hl hR (p := okC s k) (q := okI j 0 10)) cl12 hm q1922 q1924 qs40 q94 q1925 nmX3_fits rfl (by decide) (by decide) (by omega) (by omega) rfl (Nat.le_of_ble_eq_true rfl) dX3_caseAt_15 (fun v_15 M_15 h_15 => ?_) (fun E_15 q_15 M_15 h_15 => ?_)
  rotate_left
  · exact h_15.elim
  obtain ⟨rfl, hR1, hx⟩ := h_15
  obtain ⟨hm, h1, h2, h3, h4, h5, h6, h7, h10, h11, h12, h13, h14, h15, h17, h18, h19, h20, h23, h24⟩ := id hR1
  refine g_ifb_ne (pc := 18) C dX3_caseAt_18 23 (by decide) (fun c_18 => ?_) (fun c_18 => ?_)
  · skip
    have d_18 := c_18
    try simp only [decide_eq_true_eq, decide_eq_false_iff_not, Bool.and_eq_true, Bool.and_eq_false_iff, ne_eq, Classical.not_not] at c_18
    simp only [okC, okF, okR, okK, okI, Bool.and_eq_true, decide_eq_true_eq] at c_18
    obtain ⟨c, rfl⟩ := i_nat (z := k) (by omega)
    obtain ⟨i, rfl⟩ := i_nat (z := j) (by omega)
    have h9 := hx.t n1 (by decide)
    have n3 := hx.t (n2 c (by omega)) (by decide)
    have hc8 := (hW.case (c := c) (by omega)).2.2.2.1
    refine g_iload_n (pc := 23) C dX3_caseAt_23 2 rfl rfl ?_
    by_cases c_24_0 : (i : Int) = 0
    · rw [c_24_0]
      refine g_tsw (pc := 24) C (0) ⟨by decide, by decide⟩ dX3_caseAt_24 80 rfl ⟨by decide, by decide⟩ (by decide) ?_
      refine g_aload_n (pc := 80) C dX3_caseAt_80 0 rfl trivial rfl ?_
      refine g_get (pc := 81) C dX3_caseAt_81 cl12 hm 6 (by decide) q1825 (fun _ h9 => h9) rfl ?_
      refine g_iload_n (pc := 84) C dX3_caseAt_84 1 rfl rfl ?_
      refine g_iald (pc := 85) C dX3_caseAt_85 h1 _ rfl (by omega) (by omega) ?_
      refine g_iret (pc := 86) hQ C ?_ dX3_caseAt_86
      exact ⟨by rw [qCaseAt, if_pos d_18, c_24_0]; rfl, hR1, hx⟩
    by_cases c_24_1 : (i : Int) = 1
    · rw [c_24_1]
      refine g_tsw (pc := 24) C (1) ⟨by decide, by decide⟩ dX3_caseAt_24 87 rfl ⟨by decide, by decide⟩ (by decide) ?_
      refine g_aload_n (pc := 87) C dX3_caseAt_87 0 rfl trivial rfl ?_
      refine g_get (pc := 88) C dX3_caseAt_88 cl12 hm 7 (by decide) q1826 (fun _ h9 => h9) rfl ?_
      refine g_iload_n (pc := 91) C dX3_caseAt_91 1 rfl rfl ?_
      refine g_iald (pc := 92) C dX3_caseAt_92 h2 _ rfl (by omega) (by omega) ?_
      refine g_iret (pc := 93) hQ C ?_ dX3_caseAt_93
      exact ⟨by rw [qCaseAt, if_pos d_18, c_24_1]; rfl, hR1, hx⟩
    by_cases c_24_2 : (i : Int) = 2
    · rw [c_24_2]
      refine g_tsw (pc := 24) C (2) ⟨by decide, by decide⟩ dX3_caseAt_24 94 rfl ⟨by decide, by decide⟩ (by decide) ?_
      refine g_aload_n (pc := 94) C dX3_caseAt_94 0 rfl trivial rfl ?_
      refine g_get (pc := 95) C dX3_caseAt_95 cl12 hm 5 (by decide) q1824 (fun _ h9 => h9) rfl ?_
      refine g_iload_n (pc := 98) C dX3_caseAt_98 1 rfl rfl ?_
      refine g_aaldA (pc := 99) C dX3_caseAt_99 h9 (fun _ => rfl) _ rfl (by omega) (by omega) ?_
      rw [if_pos (show (c : Int) < s 0 2 by omega)]
      refine g_alen (pc := 100) C dX3_caseAt_100 n3 (fun _ => rfl) ?_
      refine g_iret (pc := 101) hQ C ?_ dX3_caseAt_101
      exact ⟨by rw [qCaseAt, if_pos d_18, c_24_2, show (((s 8 c).toNat : Nat) : Int) = s 8 c by omega]; rfl, hR1, hx⟩
    by_cases c_24_3 : (i : Int) = 3
    · rw [c_24_3]
      refine g_tsw (pc := 24) C (3) ⟨by decide, by decide⟩ dX3_caseAt_24 102 rfl ⟨by decide, by decide⟩ (by decide) ?_
      refine g_aload_n (pc := 102) C dX3_caseAt_102 0 rfl trivial rfl ?_
      refine g_iload_n (pc := 103) C dX3_caseAt_103 1 rfl rfl ?_
      refine g_callV (pc := 104) C (m_X3_formsOf hl hR1 hW (by omega)) cl12 hm q2129 q2131 qs67 q94 q2132 nmX3_formsOf rfl (by decide) (by decide) (Nat.zero_le _) (Nat.zero_le _) rfl (Nat.le_of_ble_eq_true rfl) dX3_caseAt_104 (gkf ?_) gkx
      refine g_iret (pc := 107) hQ C ?_ dX3_caseAt_107
      exact ⟨by rw [qCaseAt, if_pos d_18, c_24_3]; rfl, hR1, hx⟩
    by_cases c_24_4 : (i : Int) = 4
    · rw [c_24_4]
      refine g_tsw (pc := 24) C (4) ⟨by decide, by decide⟩ dX3_caseAt_24 108 rfl ⟨by decide, by decide⟩ (by decide) ?_
      refine g_aload_n (pc := 108) C dX3_caseAt_108 0 rfl trivial rfl ?_
      refine g_iload_n (pc := 109) C dX3_caseAt_109 1 rfl rfl ?_
      refine g_callV (pc := 110) C (m_X3_claimsOf hl hR1 hW (by omega)) cl12 hm q2133 q2135 qs68 q94 q2136 nmX3_claimsOf rfl (by decide) (by decide) (Nat.zero_le _) (Nat.zero_le _) rfl (Nat.le_of_ble_eq_true rfl) dX3_caseAt_110 (gkf ?_) gkx
      refine g_iret (pc := 113) hQ C ?_ dX3_caseAt_113
      exact ⟨by rw [qCaseAt, if_pos d_18, c_24_4]; rfl, hR1, hx⟩
    by_cases c_24_5 : (i : Int) = 5
    · rw [c_24_5]
      refine g_tsw (pc := 24) C (5) ⟨by decide, by decide⟩ dX3_caseAt_24 114 rfl ⟨by decide, by decide⟩ (by decide) ?_
      refine g_aload_n (pc := 114) C dX3_caseAt_114 0 rfl trivial rfl ?_
      refine g_iload_n (pc := 115) C dX3_caseAt_115 1 rfl rfl ?_
      refine g_iconst (pc := 116) C dX3_caseAt_116 ?_
      refine g_callV (pc := 117) C (m_X3_leftOf hl hR1 hW (firm := false) (by omega)) cl12 hm q2089 q2091 qs65 q94 q2092 nmX3_leftOf rfl (by decide) (by decide) (Nat.zero_le _) (Nat.zero_le _) rfl (Nat.le_of_ble_eq_true rfl) dX3_caseAt_117 (gkf ?_) gkx
      refine g_iret (pc := 120) hQ C ?_ dX3_caseAt_120
      exact ⟨by rw [qCaseAt, if_pos d_18, c_24_5]; rfl, hR1, hx⟩
    by_cases c_24_6 : (i : Int) = 6
    · rw [c_24_6]
      refine g_tsw (pc := 24) C (6) ⟨by decide, by decide⟩ dX3_caseAt_24 121 rfl ⟨by decide, by decide⟩ (by decide) ?_
      refine g_aload_n (pc := 121) C dX3_caseAt_121 0 rfl trivial rfl ?_
      refine g_iload_n (pc := 122) C dX3_caseAt_122 1 rfl rfl ?_
      refine g_iconst (pc := 123) C dX3_caseAt_123 ?_
      refine g_callV (pc := 124) C (m_X3_leftOf hl hR1 hW (firm := true) (by omega)) cl12 hm q2089 q2091 qs65 q94 q2092 nmX3_leftOf rfl (by decide) (by decide) (Nat.zero_le _) (Nat.zero_le _) rfl (Nat.le_of_ble_eq_true rfl) dX3_caseAt_124 (gkf ?_) gkx
      refine g_iret (pc := 127) hQ C ?_ dX3_caseAt_127
      exact ⟨by rw [qCaseAt, if_pos d_18, c_24_6]; rfl, hR1, hx⟩
    by_cases c_24_7 : (i : Int) = 7
    · rw [c_24_7]
      refine g_tsw (pc := 24) C (7) ⟨by decide, by decide⟩ dX3_caseAt_24 128 rfl ⟨by decide, by decide⟩ (by decide) ?_
      refine g_aload_n (pc := 128) C dX3_caseAt_128 0 rfl trivial rfl ?_
      refine g_iload_n (pc := 129) C dX3_caseAt_129 1 rfl rfl ?_
      refine g_callV (pc := 130) C (m_X3_paidTo hl hR1 hW (by omega)) cl12 hm q2137 q2139 qs69 q94 q2140 nmX3_paidTo rfl (by decide) (by decide) (Nat.zero_le _) (Nat.zero_le _) rfl (Nat.le_of_ble_eq_true rfl) dX3_caseAt_130 (gkf ?_) gkx
      refine g_iret (pc := 133) hQ C ?_ dX3_caseAt_133
      exact ⟨by rw [qCaseAt, if_pos d_18, c_24_7]; rfl, hR1, hx⟩
    by_cases c_24_8 : (i : Int) = 8
    · rw [c_24_8]
      refine g_tsw (pc := 24) C (8) ⟨by decide, by decide⟩ dX3_caseAt_24 134 rfl ⟨by decide, by decide⟩ (by decide) ?_
      refine g_aload_n (pc := 134) C dX3_caseAt_134 0 rfl trivial rfl ?_
      refine g_get (pc := 135) C dX3_caseAt_135 cl12 hm 8 (by decide) q1827 (fun _ h9 => h9) rfl ?_
      refine g_iload_n (pc := 138) C dX3_caseAt_138 1 rfl rfl ?_
      refine g_iald (pc := 139) C dX3_caseAt_139 h3 _ rfl (by omega) (by omega) ?_
      refine g_iret (pc := 140) hQ C ?_ dX3_caseAt_140
      exact ⟨by rw [qCaseAt, if_pos d_18, c_24_8]; rfl, hR1, hx⟩
    by_cases c_24_9 : (i : Int) = 9
    · rw [c_24_9]
      refine g_tsw (pc := 24) C (9) ⟨by decide, by decide⟩ dX3_caseAt_24 141 rfl ⟨by decide, by decide⟩ (by decide) ?_
      refine g_aload_n (pc := 141) C dX3_caseAt_141 0 rfl trivial rfl ?_
      refine g_get (pc := 142) C dX3_caseAt_142 cl12 hm 9 (by decide) q1828 (fun _ h9 => h9) rfl ?_
      refine g_iload_n (pc := 145) C dX3_caseAt_145 1 rfl rfl ?_
      refine g_iald (pc := 146) C dX3_caseAt_146 h4 _ rfl (by omega) (by omega) ?_
      refine g_iret (pc := 147) hQ C ?_ dX3_caseAt_147
      exact ⟨by rw [qCaseAt, if_pos d_18, c_24_9]; rfl, hR1, hx⟩
    refine g_tswd (pc := 24) C ⟨by omega, by omega⟩ dX3_caseAt_24 148 (by omega) (by decide) ?_
    refine g_aload_n (pc := 148) C dX3_caseAt_148 0 rfl trivial rfl ?_
    refine g_get (pc := 149) C dX3_caseAt_149 cl12 hm 10 (by decide) q1829 (fun _ h9 => h9) rfl ?_
    refine g_iload_n (pc := 152) C dX3_caseAt_152 1 rfl rfl ?_
    refine g_iald (pc := 153) C dX3_caseAt_153 h5 _ rfl (by omega) (by omega) ?_
    refine g_iret (pc := 154) hQ C ?_ dX3_caseAt_154
    exact ⟨by rw [qCaseAt, if_pos d_18, show (i : Int) = 10 by omega]; rfl, hR1, hx⟩
  · skip
    have d_18 := c_18
    try simp only [decide_eq_true_eq, decide_eq_false_iff_not, Bool.and_eq_true, Bool.and_eq_false_iff, ne_eq, Classical.not_not] at c_18
    refine g_iconst (pc := 21) C dX3_caseAt_21 ?_
    refine g_iret (pc := 22) hQ C ?_ dX3_caseAt_22
    exact ⟨by rw [qCaseAt, if_neg (by rw [d_18]; exact Bool.false_ne_true)], hR1, hx⟩
theorem m_X3_count (hl : l.stackTraces = false) (hR : RM A M s t) (hW : WF s) {j : Int} (r2 : r32 j) : gMet E l yX3_count wX3_count 3 0 0 [.ref (A 0), vi j] M (qRes A M s (qCount s j) (kCount j)) (fun _ _ _ => False) := by
  have hm := hR.1
  have hs := hW.sc
  unfold wfSc at hs
  obtain ⟨r21, r22⟩ := r2
  refine gMet.of hl rfl (Nat.le_of_ble_eq_true rfl) ?_
  intro Z hE hl0 hQ hX C hnm htab
  subst hE; subst hl0
  replace C : gC Z RX3 cX3_count 2 (some .int) _ := C
  change G Z _ _ _ 0 [(0, _), (1, _)] []
  refine g_aload_n (pc := 0) C dX3_count_0 0 rfl trivial rfl ?_
  refine g_iload_n (pc := 1) C dX3_count_1 1 rfl rfl ?_
  refine g_i2l (pc := 2) C dX3_count_2 ⟨by omega, by omega⟩ ?_
  refine g_lconst0 (pc := 3) C dX3_count_3 ?_
  refine g_ldc2 (pc := 4) C dX3_count_4 (x := jv 13) q2184 ?_
  refine g_callS (pc := 7) C (m_X3_isIn hl ⟨by omega, by omega⟩ ⟨by decide, by decide⟩ ⟨by first | decide | omega, by first | decide | omega⟩) q1917 q1918 q94 q1919 nmX3_isIn rfl (by decide) (by decide) (Nat.zero_le _) (Nat.zero_le _) rfl (Nat.le_of_ble_eq_true rfl) dX3_count_7 (gkf ?_) gkx
  refine g_callV (pc := 10) C (m_X3_fits_2 hl hR (p := okI j 0 13)) cl12 hm q1935 q1937 qs41 q94 q1938 nmX3_fits_2 rfl (by decide) (by decide) (by omega) (by omega) rfl (Nat.le_of_ble_eq_true rfl) dX3_count_10 (fun v_10 M_10 h_10 => ?_) (fun E_10 q_10 M_10 h_10 => ?_)
  rotate_left
  · exact h_10.elim
  obtain ⟨rfl, hR1, hx⟩ := h_10
  obtain ⟨hm, h1, h2, h3, h4, h5, h6, h7, h10, h11, h12, h13, h14, h15, h17, h18, h19, h20, h23, h24⟩ := id hR1
  refine g_ifb_ne (pc := 13) C dX3_count_13 18 (by decide) (fun c_13 => ?_) (fun c_13 => ?_)
  · skip
    have d_13 := c_13
    try simp only [decide_eq_true_eq, decide_eq_false_iff_not, Bool.and_eq_true, Bool.and_eq_false_iff, ne_eq, Classical.not_not] at c_13
    simp only [okC, okF, okR, okK, okI, Bool.and_eq_true, decide_eq_true_eq] at c_13
    obtain ⟨i, rfl⟩ := i_nat (z := j) (by omega)
    refine g_iload_n (pc := 18) C dX3_count_18 1 rfl rfl ?_
    by_cases c_19_0 : (i : Int) = 0
    · rw [c_19_0]
      refine g_tsw (pc := 19) C (0) ⟨by decide, by decide⟩ dX3_count_19 88 rfl ⟨by decide, by decide⟩ (by decide) ?_
      refine g_aload_n (pc := 88) C dX3_count_88 0 rfl trivial rfl ?_
      refine g_get (pc := 89) C dX3_count_89 cl12 hm 1 (by decide) q1820 (fun _ h9 => h9) rfl ?_
      refine g_iret (pc := 92) hQ C ?_ dX3_count_92
      exact ⟨by rw [qCount, if_pos d_13, c_19_0]; rfl, hR1, hx⟩
    by_cases c_19_1 : (i : Int) = 1
    · rw [c_19_1]
      refine g_tsw (pc := 19) C (1) ⟨by decide, by decide⟩ dX3_count_19 93 rfl ⟨by decide, by decide⟩ (by decide) ?_
      refine g_aload_n (pc := 93) C dX3_count_93 0 rfl trivial rfl ?_
      refine g_get (pc := 94) C dX3_count_94 cl12 hm 4 (by decide) q1823 (fun _ h9 => h9) rfl ?_
      refine g_iret (pc := 97) hQ C ?_ dX3_count_97
      exact ⟨by rw [qCount, if_pos d_13, c_19_1]; rfl, hR1, hx⟩
    by_cases c_19_2 : (i : Int) = 2
    · rw [c_19_2]
      refine g_tsw (pc := 19) C (2) ⟨by decide, by decide⟩ dX3_count_19 98 rfl ⟨by decide, by decide⟩ (by decide) ?_
      refine g_aload_n (pc := 98) C dX3_count_98 0 rfl trivial rfl ?_
      refine g_callV (pc := 99) C (m_X3_endedOnes hl hR1 hW) cl12 hm q1951 q1953 qs44 q94 q1954 nmX3_endedOnes rfl (by decide) (by decide) (Nat.zero_le _) (Nat.zero_le _) rfl (Nat.le_of_ble_eq_true rfl) dX3_count_99 (gkf ?_) gkx
      refine g_iret (pc := 102) hQ C ?_ dX3_count_102
      exact ⟨by rw [qCount, if_pos d_13, c_19_2]; rfl, hR1, hx⟩
    by_cases c_19_3 : (i : Int) = 3
    · rw [c_19_3]
      refine g_tsw (pc := 19) C (3) ⟨by decide, by decide⟩ dX3_count_19 103 rfl ⟨by decide, by decide⟩ (by decide) ?_
      refine g_aload_n (pc := 103) C dX3_count_103 0 rfl trivial rfl ?_
      refine g_get (pc := 104) C dX3_count_104 cl12 hm 13 (by decide) q1832 (fun _ h9 => h9) rfl ?_
      refine g_iret (pc := 107) hQ C ?_ dX3_count_107
      exact ⟨by rw [qCount, if_pos d_13, c_19_3]; rfl, hR1, hx⟩
    by_cases c_19_4 : (i : Int) = 4
    · rw [c_19_4]
      refine g_tsw (pc := 19) C (4) ⟨by decide, by decide⟩ dX3_count_19 108 rfl ⟨by decide, by decide⟩ (by decide) ?_
      refine g_aload_n (pc := 108) C dX3_count_108 0 rfl trivial rfl ?_
      refine g_iconst (pc := 109) C dX3_count_109 ?_
      refine g_callV (pc := 110) C (m_X3_formsIn hl hR1 hW ⟨by decide, by decide⟩) cl12 hm q2019 q2021 qs54 q94 q2022 nmX3_formsIn rfl (by decide) (by decide) (Nat.zero_le _) (Nat.zero_le _) rfl (Nat.le_of_ble_eq_true rfl) dX3_count_110 (gkf ?_) gkx
      refine g_iret (pc := 113) hQ C ?_ dX3_count_113
      exact ⟨by rw [qCount, if_pos d_13, c_19_4]; rfl, hR1, hx⟩
    by_cases c_19_5 : (i : Int) = 5
    · rw [c_19_5]
      refine g_tsw (pc := 19) C (5) ⟨by decide, by decide⟩ dX3_count_19 114 rfl ⟨by decide, by decide⟩ (by decide) ?_
      refine g_aload_n (pc := 114) C dX3_count_114 0 rfl trivial rfl ?_
      refine g_iconst (pc := 115) C dX3_count_115 ?_
      refine g_callV (pc := 116) C (m_X3_formsIn hl hR1 hW ⟨by decide, by decide⟩) cl12 hm q2019 q2021 qs54 q94 q2022 nmX3_formsIn rfl (by decide) (by decide) (Nat.zero_le _) (Nat.zero_le _) rfl (Nat.le_of_ble_eq_true rfl) dX3_count_116 (gkf ?_) gkx
      refine g_iret (pc := 119) hQ C ?_ dX3_count_119
      exact ⟨by rw [qCount, if_pos d_13, c_19_5]; rfl, hR1, hx⟩
    by_cases c_19_6 : (i : Int) = 6
    · rw [c_19_6]
      refine g_tsw (pc := 19) C (6) ⟨by decide, by decide⟩ dX3_count_19 120 rfl ⟨by decide, by decide⟩ (by decide) ?_
      refine g_aload_n (pc := 120) C dX3_count_120 0 rfl trivial rfl ?_
      refine g_iconst (pc := 121) C dX3_count_121 ?_
      refine g_callV (pc := 122) C (m_X3_formsIn hl hR1 hW ⟨by decide, by decide⟩) cl12 hm q2019 q2021 qs54 q94 q2022 nmX3_formsIn rfl (by decide) (by decide) (Nat.zero_le _) (Nat.zero_le _) rfl (Nat.le_of_ble_eq_true rfl) dX3_count_122 (gkf ?_) gkx
      refine g_iret (pc := 125) hQ C ?_ dX3_count_125
      exact ⟨by rw [qCount, if_pos d_13, c_19_6]; rfl, hR1, hx⟩
    by_cases c_19_7 : (i : Int) = 7
    · rw [c_19_7]
      refine g_tsw (pc := 19) C (7) ⟨by decide, by decide⟩ dX3_count_19 126 rfl ⟨by decide, by decide⟩ (by decide) ?_
      refine g_aload_n (pc := 126) C dX3_count_126 0 rfl trivial rfl ?_
      refine g_get (pc := 127) C dX3_count_127 cl12 hm 19 (by decide) q1838 (fun _ h9 => h9) rfl ?_
      refine g_iret (pc := 130) hQ C ?_ dX3_count_130
      exact ⟨by rw [qCount, if_pos d_13, c_19_7]; rfl, hR1, hx⟩
    by_cases c_19_8 : (i : Int) = 8
    · rw [c_19_8]
      refine g_tsw (pc := 19) C (8) ⟨by decide, by decide⟩ dX3_count_19 131 rfl ⟨by decide, by decide⟩ (by decide) ?_
      refine g_aload_n (pc := 131) C dX3_count_131 0 rfl trivial rfl ?_
      refine g_get (pc := 132) C dX3_count_132 cl12 hm 24 (by decide) q1843 (fun _ h9 => h9) rfl ?_
      refine g_iret (pc := 135) hQ C ?_ dX3_count_135
      exact ⟨by rw [qCount, if_pos d_13, c_19_8]; rfl, hR1, hx⟩
    by_cases c_19_9 : (i : Int) = 9
    · rw [c_19_9]
      refine g_tsw (pc := 19) C (9) ⟨by decide, by decide⟩ dX3_count_19 141 rfl ⟨by decide, by decide⟩ (by decide) ?_
      refine g_aload_n (pc := 141) C dX3_count_141 0 rfl trivial rfl ?_
      refine g_iload_n (pc := 142) C dX3_count_142 1 rfl rfl ?_
      refine g_bipush (pc := 143) C dX3_count_143 (by decide) ?_
      refine g_isub (pc := 145) C dX3_count_145 ?_
      refine g_callV (pc := 146) C (m_X3_claimsIn hl hR1 hW ⟨by omega, by omega⟩) cl12 hm q2185 q2187 qs70 q94 q2188 nmX3_claimsIn rfl (by decide) (by decide) (Nat.zero_le _) (Nat.zero_le _) rfl (Nat.le_of_ble_eq_true rfl) dX3_count_146 (gkf ?_) gkx
      refine g_iret (pc := 149) hQ C ?_ dX3_count_149
      exact ⟨by first | (rw [qCount, if_pos d_13, c_19_9]; rfl) | (rw [qCount, if_pos d_13, c_19_10]; rfl) | (rw [qCount, if_pos d_13, c_19_11]; rfl) | (rw [qCount, if_pos d_13, c_19_12]; rfl) | omega, hR1, hx⟩
    by_cases c_19_10 : (i : Int) = 10
    · rw [c_19_10]
      refine g_tsw (pc := 19) C (10) ⟨by decide, by decide⟩ dX3_count_19 141 rfl ⟨by decide, by decide⟩ (by decide) ?_
      refine g_aload_n (pc := 141) C dX3_count_141 0 rfl trivial rfl ?_
      refine g_iload_n (pc := 142) C dX3_count_142 1 rfl rfl ?_
      refine g_bipush (pc := 143) C dX3_count_143 (by decide) ?_
      refine g_isub (pc := 145) C dX3_count_145 ?_
      refine g_callV (pc := 146) C (m_X3_claimsIn hl hR1 hW ⟨by omega, by omega⟩) cl12 hm q2185 q2187 qs70 q94 q2188 nmX3_claimsIn rfl (by decide) (by decide) (Nat.zero_le _) (Nat.zero_le _) rfl (Nat.le_of_ble_eq_true rfl) dX3_count_146 (gkf ?_) gkx
      refine g_iret (pc := 149) hQ C ?_ dX3_count_149
      exact ⟨by first | (rw [qCount, if_pos d_13, c_19_9]; rfl) | (rw [qCount, if_pos d_13, c_19_10]; rfl) | (rw [qCount, if_pos d_13, c_19_11]; rfl) | (rw [qCount, if_pos d_13, c_19_12]; rfl) | omega, hR1, hx⟩
    by_cases c_19_11 : (i : Int) = 11
    · rw [c_19_11]
      refine g_tsw (pc := 19) C (11) ⟨by decide, by decide⟩ dX3_count_19 141 rfl ⟨by decide, by decide⟩ (by decide) ?_
      refine g_aload_n (pc := 141) C dX3_count_141 0 rfl trivial rfl ?_
      refine g_iload_n (pc := 142) C dX3_count_142 1 rfl rfl ?_
      refine g_bipush (pc := 143) C dX3_count_143 (by decide) ?_
      refine g_isub (pc := 145) C dX3_count_145 ?_
      refine g_callV (pc := 146) C (m_X3_claimsIn hl hR1 hW ⟨by omega, by omega⟩) cl12 hm q2185 q2187 qs70 q94 q2188 nmX3_claimsIn rfl (by decide) (by decide) (Nat.zero_le _) (Nat.zero_le _) rfl (Nat.le_of_ble_eq_true rfl) dX3_count_146 (gkf ?_) gkx
      refine g_iret (pc := 149) hQ C ?_ dX3_count_149
      exact ⟨by first | (rw [qCount, if_pos d_13, c_19_9]; rfl) | (rw [qCount, if_pos d_13, c_19_10]; rfl) | (rw [qCount, if_pos d_13, c_19_11]; rfl) | (rw [qCount, if_pos d_13, c_19_12]; rfl) | omega, hR1, hx⟩
    by_cases c_19_12 : (i : Int) = 12
    · rw [c_19_12]
      refine g_tsw (pc := 19) C (12) ⟨by decide, by decide⟩ dX3_count_19 141 rfl ⟨by decide, by decide⟩ (by decide) ?_
      refine g_aload_n (pc := 141) C dX3_count_141 0 rfl trivial rfl ?_
      refine g_iload_n (pc := 142) C dX3_count_142 1 rfl rfl ?_
      refine g_bipush (pc := 143) C dX3_count_143 (by decide) ?_
      refine g_isub (pc := 145) C dX3_count_145 ?_
      refine g_callV (pc := 146) C (m_X3_claimsIn hl hR1 hW ⟨by omega, by omega⟩) cl12 hm q2185 q2187 qs70 q94 q2188 nmX3_claimsIn rfl (by decide) (by decide) (Nat.zero_le _) (Nat.zero_le _) rfl (Nat.le_of_ble_eq_true rfl) dX3_count_146 (gkf ?_) gkx
      refine g_iret (pc := 149) hQ C ?_ dX3_count_149
      exact ⟨by first | (rw [qCount, if_pos d_13, c_19_9]; rfl) | (rw [qCount, if_pos d_13, c_19_10]; rfl) | (rw [qCount, if_pos d_13, c_19_11]; rfl) | (rw [qCount, if_pos d_13, c_19_12]; rfl) | omega, hR1, hx⟩
    by_cases c_19_13 : (i : Int) = 13
    · rw [c_19_13]
      refine g_tsw (pc := 19) C (13) ⟨by decide, by decide⟩ dX3_count_19 136 rfl ⟨by decide, by decide⟩ (by decide) ?_
      refine g_aload_n (pc := 136) C dX3_count_136 0 rfl trivial rfl ?_
      refine g_get (pc := 137) C dX3_count_137 cl12 hm 3 (by decide) q1822 (fun _ h9 => h9) rfl ?_
      refine g_iret (pc := 140) hQ C ?_ dX3_count_140
      exact ⟨by rw [qCount, if_pos d_13, c_19_13]; rfl, hR1, hx⟩
    refine g_tswd (pc := 19) C ⟨by omega, by omega⟩ dX3_count_19 141 (by omega) (by decide) ?_
    refine g_aload_n (pc := 141) C dX3_count_141 0 rfl trivial rfl ?_
    refine g_iload_n (pc := 142) C dX3_count_142 1 rfl rfl ?_
    refine g_bipush (pc := 143) C dX3_count_143 (by decide) ?_
    refine g_isub (pc := 145) C dX3_count_145 ?_
    refine g_callV (pc := 146) C (m_X3_claimsIn hl hR1 hW ⟨by omega, by omega⟩) cl12 hm q2185 q2187 qs70 q94 q2188 nmX3_claimsIn rfl (by decide) (by decide) (Nat.zero_le _) (Nat.zero_le _) rfl (Nat.le_of_ble_eq_true rfl) dX3_count_146 (gkf ?_) gkx
    refine g_iret (pc := 149) hQ C ?_ dX3_count_149
    exact ⟨by first | (rw [qCount, if_pos d_13, c_19_9]; rfl) | (rw [qCount, if_pos d_13, c_19_10]; rfl) | (rw [qCount, if_pos d_13, c_19_11]; rfl) | (rw [qCount, if_pos d_13, c_19_12]; rfl) | omega, hR1, hx⟩
  · skip
    have d_13 := c_13
    try simp only [decide_eq_true_eq, decide_eq_false_iff_not, Bool.and_eq_true, Bool.and_eq_false_iff, ne_eq, Classical.not_not] at c_13
    refine g_iconst (pc := 16) C dX3_count_16 ?_
    refine g_iret (pc := 17) hQ C ?_ dX3_count_17
    exact ⟨by rw [qCount, if_neg (by rw [d_13]; exact Bool.false_ne_true)], hR1, hx⟩
end
