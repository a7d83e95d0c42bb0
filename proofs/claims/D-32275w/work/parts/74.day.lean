/-! the plain law: a day -/
set_option maxRecDepth 100000
section
variable {s s1 : gS}
theorem spBest_cgi (h11 : s1 11 = s 11) (h13 : s1 13 = s 13) (h14 : ∀ k, s1 14 k = 1 ↔ s 14 k = 1) (h15 : s1 15 = s 15) : spBest s1 = spBest s := by
  funext one day which k
  induction k with
  | zero => rfl
  | succ k ih => simp only [spBest, h11, h13, h14, h15, ih]
theorem spDue_cgi (h3 : s1 0 3 = s 0 3) (h4 : s1 0 4 = s 0 4) (h1 : s1 1 = s 1) (h2 : s1 2 = s 2) (h11 : s1 11 = s 11) (h13 : s1 13 = s 13) (h14 : ∀ k, s1 14 k = 1 ↔ s 14 k = 1) (h15 : s1 15 = s 15) (h17 : s1 17 = s 17) (h18 : s1 18 = s 18) (h20 : s1 20 = s 20) : spDue s1 = spDue s := by
  have hf : spFact s1 = spFact s := by
    funext one day which
    simp only [spFact, spBest_cgi h11 h13 h14 h15, h3, h15]
  have hh : spHelp s1 = spHelp s := by
    funext one day
    simp only [spHelp, h1, h2, spRule_cg h4 h18 h20, hf, spHelpR_cg h17]
  funext one month
  simp only [spDue, hh]
theorem spProven_cgi (h3 : s1 0 3 = s 0 3) (h11 : s1 11 = s 11) (h14 : ∀ k, s1 14 k = 1 ↔ s 14 k = 1) : spProven s1 = spProven s := by
  funext one
  simp only [spProven, h3, h11, h14]
theorem spSpent_cgi (h1 : s1 0 1 = s 0 1) (h3 : s1 0 3 = s 0 3) (h4 : s1 0 4 = s 0 4) (h14 : ∀ k, s1 14 k = 1 ↔ s 14 k = 1) : spSpent s1 = spSpent s := by
  simp only [spSpent, h1, h3, h4, h14]
def spVoidN (s : gS) : Nat → gS
  | 0 => s
  | k + 1 => up (spVoidN s k) 14 k (if s 14 k = 0 ∧ s 12 k + 21 = s 0 0 then 2 else s 14 k)
theorem spVoid_o {j : Nat} (h : j ≠ 14) : ∀ n, spVoidN s n j = s j
  | 0 => rfl
  | n + 1 => by rw [spVoidN, up_n _ _ _ h, spVoid_o h n]
theorem spVoid_hi : ∀ {n k : Nat}, n ≤ k → spVoidN s n 14 k = s 14 k
  | 0, _, _ => rfl
  | n + 1, k, h => by rw [spVoidN, up_s, gUp_n _ _ (by omega), spVoid_hi (by omega)]
theorem spVoid_lo : ∀ {n k : Nat}, k < n → spVoidN s n 14 k = if s 14 k = 0 ∧ s 12 k + 21 = s 0 0 then 2 else s 14 k
  | n + 1, k, h => by
    rw [spVoidN, up_s]
    by_cases e : k = n
    · rw [e, gUp_s]
    · rw [gUp_n _ _ e, spVoid_lo (by omega)]
def spFirmN (s : gS) : Nat → gS
  | 0 => s
  | k + 1 => up (spFirmN s k) 23 (6 * k + 5) (if s 23 (6 * k + 5) = 0 ∧ s 23 (6 * k + 2) + 15 = s 0 0 then 2 else s 23 (6 * k + 5))
theorem spFirm_o {j : Nat} (h : j ≠ 23) : ∀ n, spFirmN s n j = s j
  | 0 => rfl
  | n + 1 => by rw [spFirmN, up_n _ _ _ h, spFirm_o h n]
theorem spFirm_n {j : Nat} (h : ∀ k, j ≠ 6 * k + 5) : ∀ n, spFirmN s n 23 j = s 23 j
  | 0 => rfl
  | n + 1 => by rw [spFirmN, up_s, gUp_n _ _ (h n), spFirm_n h n]
theorem spFirm_hi : ∀ {n k : Nat}, n ≤ k → spFirmN s n 23 (6 * k + 5) = s 23 (6 * k + 5)
  | 0, _, _ => rfl
  | n + 1, k, h => by rw [spFirmN, up_s, gUp_n _ _ (by omega), spFirm_hi (by omega)]
theorem spFirm_lo : ∀ {n k : Nat}, k < n → spFirmN s n 23 (6 * k + 5) = if s 23 (6 * k + 5) = 0 ∧ s 23 (6 * k + 2) + 15 = s 0 0 then 2 else s 23 (6 * k + 5)
  | n + 1, k, h => by
    rw [spFirmN, up_s]
    by_cases e : k = n
    · rw [e, gUp_s]
    · rw [gUp_n _ _ (by omega), spFirm_lo (by omega)]
def spDayA (s : gS) : gS := up s 0 0 (s 0 0 + 1)
def spDayB (s : gS) : gS := spFirmN (spVoidN (spDayA s) (s 0 3).toNat) (s 0 5).toNat
theorem spDayB_o {j : Nat} (h0 : j ≠ 0) (h14 : j ≠ 14) (h23 : j ≠ 23) : spDayB s j = s j := by
  rw [spDayB, spFirm_o h23, spVoid_o h14, spDayA, up_n _ _ _ h0]
theorem spDayB_0 : spDayB s 0 = gUp (s 0) 0 (s 0 0 + 1) := by
  rw [spDayB, spFirm_o (by decide), spVoid_o (by decide), spDayA, up_s]
theorem spDayB_j {j : Nat} (h : j ≠ 0) : spDayB s 0 j = s 0 j := by rw [spDayB_0, gUp_n _ _ h]
theorem spDayB_00 : spDayB s 0 0 = s 0 0 + 1 := by rw [spDayB_0, gUp_s]
theorem spDayB_14 {k : Nat} (h : (k : Int) < s 0 3) : spDayB s 14 k = if s 14 k = 0 ∧ s 12 k + 21 = s 0 0 + 1 then 2 else s 14 k := by
  rw [spDayB, spFirm_o (by decide), spVoid_lo (by omega)]
  rfl
theorem spDayB_14h {k : Nat} (h : s 0 3 ≤ (k : Int)) : spDayB s 14 k = s 14 k := by
  rw [spDayB, spFirm_o (by decide), spVoid_hi (by omega)]
  rfl
theorem spDayB_23n {j : Nat} (h : ∀ k, j ≠ 6 * k + 5) : spDayB s 23 j = s 23 j := by
  rw [spDayB, spFirm_n h, spVoid_o (by decide)]
  rfl
theorem spDayB_23 {k : Nat} (h : (k : Int) < s 0 5) : spDayB s 23 (6 * k + 5) = if s 23 (6 * k + 5) = 0 ∧ s 23 (6 * k + 2) + 15 = s 0 0 + 1 then 2 else s 23 (6 * k + 5) := by
  rw [spDayB, spFirm_lo (by omega), spVoid_o (by decide), spVoid_o (by decide)]
  rfl
theorem spDayB_23h {k : Nat} (h : s 0 5 ≤ (k : Int)) : spDayB s 23 (6 * k + 5) = s 23 (6 * k + 5) := by
  rw [spDayB, spFirm_hi (by omega), spVoid_o (by decide)]
  rfl
theorem WF_dayB (h : WF s) (ht : s 0 0 < 1500) : WF (spDayB s) := by
  have hs := h.sc
  have R := fun (j : Nat) (q : j ≠ 0 ∧ j ≠ 14 ∧ j ≠ 23) => spDayB_o (s := s) q.1 q.2.1 q.2.2
  have Z := fun (j : Nat) (q : j ≠ 0) => spDayB_j (s := s) q
  have h14 : ∀ k, spDayB s 14 k = 1 ↔ s 14 k = 1 := fun k => by
    by_cases q : (k : Int) < s 0 3
    · rw [spDayB_14 q]
      by_cases p : s 14 k = 0 ∧ s 12 k + 21 = s 0 0 + 1
      · rw [if_pos p]; omega
      · rw [if_neg p]
    · rw [spDayB_14h (by omega)]
  have hdue : spDue (spDayB s) = spDue s := spDue_cgi (Z 3 (by decide)) (Z 4 (by decide)) (R 1 (by decide)) (R 2 (by decide)) (R 11 (by decide)) (R 13 (by decide)) h14 (R 15 (by decide)) (R 17 (by decide)) (R 18 (by decide)) (R 20 (by decide))
  have hpr : spProven (spDayB s) = spProven s := spProven_cgi (Z 3 (by decide)) (R 11 (by decide)) h14
  have hev : spEv (spDayB s) = spEv s := by
    funext one
    simp only [spEv, hpr, Z 4 (by decide)]
  refine ⟨?_, ?_, fun c hc => ⟨?_, fun m hm => ?_, ?_⟩, fun f hf => ?_, fun r hr => ?_, fun k hk => ?_, ?_, fun j hj => ?_⟩
  · unfold wfSc at hs ⊢
    rw [spDayB_00, Z 1 (by decide), Z 2 (by decide), Z 3 (by decide), Z 4 (by decide), Z 5 (by decide), Z 6 (by decide), Z 7 (by decide), Z 9 (by decide), Z 10 (by decide), Z 11 (by decide), Z 12 (by decide), Z 13 (by decide)]
    omega
  · have := h.tape
    unfold wfTape at this ⊢
    rw [Z 1 (by decide), R 10 (by decide)]; exact this
  · rw [Z 2 (by decide)] at hc
    have h1 := h.case hc
    unfold wfCase at h1 ⊢
    rw [R 1 (by decide), R 2 (by decide), R 3 (by decide), R 4 (by decide), R 5 (by decide), R 8 (by decide), R 9 (by decide), spDayB_00, spPaidTo_cg (R 6 (by decide))]
    exact ⟨by omega, by omega, h1.2.2⟩
  · rw [Z 2 (by decide)] at hc
    have h1 := h.paid hc hm
    unfold wfPaid at h1 ⊢
    rw [R 6 (by decide), R 7 (by decide), spDayB_00, hdue, hev]
    exact ⟨h1.1, h1.2.1, h1.2.2.1, h1.2.2.2.1, fun q => h1.2.2.2.2 (by omega)⟩
  · rw [Z 2 (by decide)] at hc
    have h1 := h.sum hc
    unfold wfSum at h1 ⊢
    rw [Z 5 (by decide), R 7 (by decide), ← h1]
    exact sumN_congr (fun i hi => by rw [spDayB_23n (fun k => by omega), spDayB_23n (fun k => by omega)])
  · rw [Z 3 (by decide)] at hf
    have h1 := h.form hf
    unfold wfForm at h1 ⊢
    rw [R 11 (by decide), R 12 (by decide), R 13 (by decide), R 15 (by decide), R 16 (by decide), spDayB_00, Z 2 (by decide), spDayB_14 hf]
    refine ⟨h1.1, by omega, h1.2.2.1, ?_, h1.2.2.2.2⟩
    split <;> omega
  · rw [Z 4 (by decide)] at hr
    have h1 := h.rule hr
    unfold wfRule at h1 ⊢
    rw [R 17 (by decide), R 18 (by decide), R 19 (by decide), R 20 (by decide), R 21 (by decide), R 22 (by decide), Z 2 (by decide)]
    exact h1
  · rw [Z 5 (by decide)] at hk
    have h1 := h.claim hk
    unfold wfClaim at h1 ⊢
    rw [spDayB_00, Z 2 (by decide), spDayB_23 hk, spDayB_23n (j := 6 * k) (fun k => by omega), spDayB_23n (j := 6 * k + 1) (fun k => by omega), spDayB_23n (j := 6 * k + 2) (fun k => by omega), spDayB_23n (j := 6 * k + 3) (fun k => by omega), spDayB_23n (j := 6 * k + 4) (fun k => by omega)]
    refine ⟨h1.1, h1.2.1, by omega, h1.2.2.2.1, h1.2.2.2.2.1, ?_⟩
    split <;> omega
  · rw [spSpent_cgi (Z 1 (by decide)) (Z 3 (by decide)) (Z 4 (by decide)) h14]
    exact h.spent
  · rw [Z 6 (by decide)] at hj
    by_cases q : ∃ k, j = 6 * k + 5
    · obtain ⟨k, rfl⟩ := q
      rw [spDayB_23h (by unfold wfSc at hs; omega)]
      exact h.zero hj
    · rw [spDayB_23n (fun k e => q ⟨k, e⟩)]
      exact h.zero hj
def spCasesN (s : gS) : Nat → gS
  | 0 => s
  | k + 1 => if s 0 0 % 30 = 0 then spMonth (spCasesN s k) k else spCasesN s k
def spDay (s : gS) : gS := spCasesN (spDayB s) (s 0 2).toNat
theorem spCases_ok (h : WF s) (hcnt : s 0 0 % 30 = 0 → s 0 5 ≤ 500 * (s 0 0 / 30 - 1)) (hz : s 0 0 % 30 = 0 → ∀ c : Nat, (c : Int) < s 0 2 → s 6 (51 * c + (s 0 0 / 30).toNat) = 0) : ∀ k : Nat, (k : Int) ≤ s 0 2 → WF (spCasesN s k) ∧ sameB s (spCasesN s k) ∧ (s 0 5 ≤ spCasesN s k 0 5 ∧ spCasesN s k 0 5 ≤ s 0 5 + 50 * k ∧ s 0 6 ≤ spCasesN s k 0 6) ∧ ∀ i, 51 * k ≤ i → spCasesN s k 6 i = s 6 i
  | 0, _ => ⟨h, sameB.rf, ⟨Int.le_refl _, by simp [spCasesN], Int.le_refl _⟩, fun _ _ => rfl⟩
  | k + 1, hk => by
    obtain ⟨h1, h2, h3, h4⟩ := spCases_ok h hcnt hz k (by omega)
    have hs := h.sc
    unfold wfSc at hs
    unfold spCasesN
    split
    · rename_i q
      have e0 := h2.sc 0 (by decide)
      have e2 := h2.sc 2 (by decide)
      have hc := hcnt q
      obtain ⟨g1, g2, g3, g4⟩ := spMonth_ok h1 (c := k) (by rw [e2]; omega) (by rw [e0]; omega) (by rw [e0, h4 _ (by omega)]; exact hz q k (by omega))
      refine ⟨g1, h2.tr g2, by omega, fun i hi => ?_⟩
      rw [g4 i (fun m hm => by omega), h4 i (by omega)]
    · exact ⟨h1, h2, by omega, fun i hi => h4 i (by omega)⟩
theorem spDayB_cnt (h : WF s) : (spDayB s 0 0 % 30 = 0 → spDayB s 0 5 ≤ 500 * (spDayB s 0 0 / 30 - 1)) ∧ (spDayB s 0 0 % 30 = 0 → ∀ c : Nat, (c : Int) < spDayB s 0 2 → spDayB s 6 (51 * c + (spDayB s 0 0 / 30).toNat) = 0) := by
  have hs := h.sc
  unfold wfSc at hs
  rw [spDayB_00, spDayB_j (by decide), spDayB_j (by decide), spDayB_o (by decide) (by decide) (by decide)]
  refine ⟨fun q => by omega, fun q c hc => ?_⟩
  by_cases w : (s 0 0 + 1) / 30 < 51
  · have := h.paid (c := c) (m := ((s 0 0 + 1) / 30).toNat) hc (by omega)
    unfold wfPaid at this
    exact this.2.2.2.2 (by omega)
  · omega
theorem spDay_ok (h : WF s) (ht : s 0 0 < 1500) : WF (spDay s) ∧ sameB (spDayB s) (spDay s) ∧ (s 0 5 ≤ spDay s 0 5 ∧ s 0 6 ≤ spDay s 0 6) ∧ spDay s 0 0 = s 0 0 + 1 := by
  have hs := h.sc
  unfold wfSc at hs
  obtain ⟨g1, g2⟩ := spDayB_cnt h
  have e2 : spDayB s 0 2 = s 0 2 := spDayB_j (by decide)
  obtain ⟨h1, h2, h3, -⟩ := spCases_ok (WF_dayB h ht) g1 g2 (s 0 2).toNat (by rw [e2]; omega)
  refine ⟨h1, h2, ?_, ?_⟩
  · rw [spDayB_j (by decide), spDayB_j (by decide)] at h3
    exact ⟨h3.1, h3.2.2⟩
  · exact (h2.sc 0 (by decide)).trans spDayB_00
def spPassN (s : gS) : Nat → gS
  | 0 => s
  | k + 1 => spDay (spPassN s k)
theorem spPass_ok (h : WF s) : ∀ k : Nat, s 0 0 + k ≤ 1500 → WF (spPassN s k) ∧ spPassN s k 0 0 = s 0 0 + k ∧ s 0 5 ≤ spPassN s k 0 5 ∧ s 0 6 ≤ spPassN s k 0 6
  | 0, _ => ⟨h, by simp [spPassN], Int.le_refl _, Int.le_refl _⟩
  | k + 1, hk => by
    obtain ⟨h1, h2, h3, h4⟩ := spPass_ok h k (by omega)
    obtain ⟨g1, g2, g3, g4⟩ := spDay_ok h1 (by omega)
    exact ⟨g1, by show spDay (spPassN s k) 0 0 = _; omega, by show _ ≤ spDay (spPassN s k) 0 5; omega, by show _ ≤ spDay (spPassN s k) 0 6; omega⟩
theorem spCases_mono (h : WF s) (hcnt : s 0 0 % 30 = 0 → s 0 5 ≤ 500 * (s 0 0 / 30 - 1)) (hz : s 0 0 % 30 = 0 → ∀ c : Nat, (c : Int) < s 0 2 → s 6 (51 * c + (s 0 0 / 30).toNat) = 0) {i : Nat} : ∀ {k : Nat}, i ≤ k → (k : Int) ≤ s 0 2 → spCasesN s i 0 5 ≤ spCasesN s k 0 5 ∧ spCasesN s i 0 6 ≤ spCasesN s k 0 6
  | 0, h1, _ => by rw [show i = 0 by omega]; omega
  | k + 1, h1, h2 => by
    by_cases e : i = k + 1
    · subst e; omega
    · have ih := spCases_mono h hcnt hz (i := i) (k := k) (by omega) (by omega)
      obtain ⟨q1, q2, q3, q4⟩ := spCases_ok h hcnt hz k (by omega)
      have hs := h.sc
      unfold wfSc at hs
      rw [spCasesN]
      split
      · rename_i q
        have e0 := q2.sc 0 (by decide)
        have e2 := q2.sc 2 (by decide)
        have hc := hcnt q
        obtain ⟨g1, g2, g3, g4⟩ := spMonth_ok q1 (c := k) (by rw [e2]; omega) (by rw [e0]; omega) (by rw [e0, q4 _ (by omega)]; exact hz q k (by omega))
        omega
      · exact ih
theorem spCases_no (h : ¬ s 0 0 % 30 = 0) : ∀ k : Nat, spCasesN s k = s
  | 0 => rfl
  | k + 1 => by rw [spCasesN, if_neg h, spCases_no h k]
theorem spPass_mono (h : WF s) {i : Nat} : ∀ {k : Nat}, i ≤ k → s 0 0 + k ≤ 1500 → spPassN s i 0 5 ≤ spPassN s k 0 5 ∧ spPassN s i 0 6 ≤ spPassN s k 0 6
  | 0, h1, _ => by rw [show i = 0 by omega]; omega
  | k + 1, h1, h2 => by
    by_cases e : i = k + 1
    · subst e; omega
    · have ih := spPass_mono h (i := i) (k := k) (by omega) (by omega)
      obtain ⟨q1, q2, q3, q4⟩ := spPass_ok h k (by omega)
      obtain ⟨g1, g2, g3, g4⟩ := spDay_ok q1 (by omega)
      show _ ≤ spDay (spPassN s k) 0 5 ∧ _ ≤ spDay (spPassN s k) 0 6
      omega
end
