/-! the plain law: the simple changes keep WF -/
set_option maxRecDepth 100000
section
variable {s s1 : gS}
/-- only claims' last two places have changed -/
theorem WF_claims (h : WF s) (hr : ∀ k, k ≠ 23 → s1 k = s k) (ho : ∀ k : Nat, (k : Int) < s 0 5 → s1 23 (6 * k) = s 23 (6 * k) ∧ s1 23 (6 * k + 3) = s 23 (6 * k + 3)) (hcl : ∀ k : Nat, (k : Int) < s 0 5 → wfClaim s1 k) (hz : ∀ j : Nat, s 0 6 ≤ (j : Int) → s1 23 j = s 23 j) : WF s1 := by
  have e0 : s1 0 = s 0 := hr 0 (by decide)
  have hs := h.sc
  refine h.of (fun k _ _ _ _ _ _ q => hr k q) (fun j _ _ _ => by rw [e0]) (by unfold wfSc at hs ⊢; rw [e0]; exact hs) (fun c hc => ⟨?_, fun m hm => ?_, ?_⟩) (fun k hk => by rw [e0] at hk; exact hcl k hk) (fun j hj => by rw [e0] at hj; rw [hz j hj]; exact h.zero hj)
  · rw [hr 3 (by decide), hr 4 (by decide), hr 5 (by decide), spPaidTo_cg (hr 6 (by decide))]
    exact (h.case hc).2.2.1
  · have h1 := h.paid hc hm
    unfold wfPaid at h1
    rw [hr 6 (by decide), hr 7 (by decide)]
    exact h1
  · have h1 := h.sum hc
    unfold wfSum at h1 ⊢
    rw [e0, hr 7 (by decide), ← h1]
    exact sumN_congr (fun i hi => by
      have hi' : (i : Int) < s 0 5 := by unfold wfSc at hs; omega
      rw [(ho i hi').1, (ho i hi').2])
theorem WF_appeal (h : WF s) (k : Int) : WF (spAppeal s k) := by
  unfold spAppeal
  split
  · rename_i q
    simp only [okA, okK, Bool.and_eq_true, decide_eq_true_eq] at q
    have hs := h.sc
    unfold wfSc at hs
    refine WF_claims h (fun j hj => up_n _ _ _ hj) (fun i hi => ?_) (fun i hi => ?_) (fun j hj => ?_)
    · rw [up_s, gUp_n _ _ (by omega), gUp_n _ _ (by omega)]; exact ⟨rfl, rfl⟩
    · have h1 := h.claim hi
      unfold wfClaim at h1 ⊢
      rw [show up s 23 (6 * k.toNat + 5) 1 0 = s 0 from rfl, up_s, gUp_n _ _ (by omega), gUp_n _ _ (by omega), gUp_n _ _ (by omega), gUp_n _ _ (by omega), gUp_n _ _ (by omega)]
      by_cases e : i = k.toNat
      · subst e; rw [gUp_s]; omega
      · rw [gUp_n _ _ (by omega)]; exact h1
    · rw [up_s, gUp_n _ _ (by omega)]
  · exact h
/-- a firm claim's rest gets less, by what it bears -/
theorem WF_lessen (h : WF s) {k : Nat} {x : Int} (hk : (k : Int) < s 0 5) {v : Int} (hv : s1 = up s 23 (6 * k + 5) v) (h2 : v = 2) (hx : 0 ≤ x ∧ x ≤ s 23 (6 * k + 4)) : WF (spLessen s1 k x) := by
  subst h2; subst hv
  have hs := h.sc
  unfold wfSc at hs
  have e23 : spLessen (up s 23 (6 * k + 5) 2) k x 23 = gUp (gUp (gUp (s 23) (6 * k + 5) 2) (6 * k + 4) (s 23 (6 * k + 4) - x)) (6 * k + 5) (if s 23 (6 * k + 4) - x = 0 then 3 else 2) := by
    unfold spLessen
    rw [up_s, up_s, up_s, gUp_s, gUp_n (s 23) _ (by omega : 6 * k + 4 ≠ 6 * k + 5)]
    congr 1
    by_cases z : s 23 (6 * k + 4) - x = 0
    · rw [if_pos z, if_pos ⟨rfl, z⟩]
    · rw [if_neg z, if_neg (fun y => z y.2)]
  have eo : ∀ j, j ≠ 23 → spLessen (up s 23 (6 * k + 5) 2) k x j = s j := fun j hj => by rw [spLessen_o hj, up_n _ _ _ hj]
  refine WF_claims h eo (fun i hi => ?_) (fun i hi => ?_) (fun j hj => ?_)
  · rw [e23, gUp_n _ _ (by omega), gUp_n _ _ (by omega), gUp_n _ _ (by omega), gUp_n _ _ (by omega), gUp_n _ _ (by omega), gUp_n _ _ (by omega)]; exact ⟨rfl, rfl⟩
  · have h1 := h.claim hi
    unfold wfClaim at h1 ⊢
    have n0 : spLessen (up s 23 (6 * k + 5) 2) k x 23 (6 * i) = s 23 (6 * i) := by rw [e23, gUp_n _ _ (by omega), gUp_n _ _ (by omega), gUp_n _ _ (by omega)]
    have n1 : spLessen (up s 23 (6 * k + 5) 2) k x 23 (6 * i + 1) = s 23 (6 * i + 1) := by rw [e23, gUp_n _ _ (by omega), gUp_n _ _ (by omega), gUp_n _ _ (by omega)]
    have n2 : spLessen (up s 23 (6 * k + 5) 2) k x 23 (6 * i + 2) = s 23 (6 * i + 2) := by rw [e23, gUp_n _ _ (by omega), gUp_n _ _ (by omega), gUp_n _ _ (by omega)]
    have n3 : spLessen (up s 23 (6 * k + 5) 2) k x 23 (6 * i + 3) = s 23 (6 * i + 3) := by rw [e23, gUp_n _ _ (by omega), gUp_n _ _ (by omega), gUp_n _ _ (by omega)]
    rw [eo 0 (by decide), n0, n1, n2, n3]
    by_cases e : i = k
    · subst e
      have n4 : spLessen (up s 23 (6 * i + 5) 2) i x 23 (6 * i + 4) = s 23 (6 * i + 4) - x := by rw [e23, gUp_n _ _ (by omega), gUp_s]
      have n5 : spLessen (up s 23 (6 * i + 5) 2) i x 23 (6 * i + 5) = if s 23 (6 * i + 4) - x = 0 then 3 else 2 := by rw [e23, gUp_s]
      rw [n4, n5]
      by_cases z : s 23 (6 * i + 4) - x = 0
      · rw [if_pos z]; omega
      · rw [if_neg z]; omega
    · have n4 : spLessen (up s 23 (6 * k + 5) 2) k x 23 (6 * i + 4) = s 23 (6 * i + 4) := by rw [e23, gUp_n _ _ (by omega), gUp_n _ _ (by omega), gUp_n _ _ (by omega)]
      have n5 : spLessen (up s 23 (6 * k + 5) 2) k x 23 (6 * i + 5) = s 23 (6 * i + 5) := by rw [e23, gUp_n _ _ (by omega), gUp_n _ _ (by omega), gUp_n _ _ (by omega)]
      rw [n4, n5]
      exact h1
  · rw [e23, gUp_n _ _ (by omega), gUp_n _ _ (by omega), gUp_n _ _ (by omega)]
theorem WF_decide (h : WF s) (k won : Int) : WF (spDecide s k won) := by
  unfold spDecide
  split
  · rename_i q
    simp only [okA, okK, okI, Bool.and_eq_true, decide_eq_true_eq] at q
    have h1 := h.claim (k := k.toNat) (by omega)
    unfold wfClaim at h1
    have p1 := Int.mul_le_mul_of_nonneg_left q.1.2.2 (show 0 ≤ s 23 (6 * k.toNat + 3) by omega)
    have p2 := Int.mul_nonneg (show 0 ≤ s 23 (6 * k.toNat + 3) by omega) q.1.2.1
    exact WF_lessen h (by omega) rfl rfl ⟨by omega, by omega⟩
  · exact h
theorem WF_payBack (h : WF s) (k x : Int) : WF (spPayBack s k x) := by
  unfold spPayBack
  split
  · rename_i q
    simp only [canPay, okK, okI, Bool.and_eq_true, decide_eq_true_eq] at q
    have e : s = up s 23 (6 * k.toNat + 5) 2 := by
      have := up_self s 23 (6 * k.toNat + 5)
      rw [q.2.2.1] at this
      exact this.symm
    exact WF_lessen h (by omega) e rfl ⟨by omega, by omega⟩
  · exact h
/-- the tape -/
theorem WF_tape (h : WF s) (hr : ∀ k, k ≠ 0 → k ≠ 10 → s1 k = s k) (h0 : ∀ j, j ≠ 1 → s1 0 j = s 0 j) (h1 : 0 ≤ s1 0 1 ∧ s1 0 1 ≤ 60) (ht : wfTape s1) (hb : spSpent s1 ≤ 64) : WF s1 := by
  have a0 := h0 0 (by decide)
  have a2 := h0 2 (by decide)
  have a3 := h0 3 (by decide)
  have a4 := h0 4 (by decide)
  have R := fun k (q : k ≠ 0 ∧ k ≠ 10) => hr k q.1 q.2
  have r11 := R 11 (by decide)
  have r14 := R 14 (by decide)
  refine ⟨?_, ht, fun c hc => ⟨?_, fun m hm => ?_, ?_⟩, fun f hf => ?_, fun r hr => ?_, fun k hk => ?_, hb, fun j hj => ?_⟩
  · have hs := h.sc
    unfold wfSc at hs ⊢
    rw [a0, a2, a3, a4, h0 5 (by decide), h0 6 (by decide), h0 7 (by decide), h0 9 (by decide), h0 10 (by decide), h0 11 (by decide), h0 12 (by decide), h0 13 (by decide)]
    exact ⟨hs.1, h1, hs.2.2⟩
  · rw [a2] at hc
    have q := h.case hc
    unfold wfCase at q ⊢
    rw [R 1 (by decide), R 2 (by decide), R 3 (by decide), R 4 (by decide), R 5 (by decide), R 8 (by decide), R 9 (by decide), a0, spPaidTo_cg (R 6 (by decide))]
    exact q
  · rw [a2] at hc
    have q := h.paid hc hm
    unfold wfPaid at q ⊢
    rw [R 6 (by decide), R 7 (by decide), a0, spDue_cg a3 a4 (R 1 (by decide)) (R 2 (by decide)) r11 (R 13 (by decide)) r14 (R 15 (by decide)) (R 17 (by decide)) (R 18 (by decide)) (R 20 (by decide)), spEv_cg a3 a4 r11 r14]
    exact q
  · rw [a2] at hc
    have q := h.sum hc
    unfold wfSum at q ⊢
    rw [R 23 (by decide), R 7 (by decide), h0 5 (by decide)]
    exact q
  · rw [a3] at hf
    have q := h.form hf
    unfold wfForm at q ⊢
    rw [r11, R 12 (by decide), R 13 (by decide), r14, R 15 (by decide), R 16 (by decide), a0, a2]
    exact q
  · rw [a4] at hr
    have q := h.rule hr
    unfold wfRule at q ⊢
    rw [R 17 (by decide), R 18 (by decide), R 19 (by decide), R 20 (by decide), R 21 (by decide), R 22 (by decide), a2]
    exact q
  · rw [h0 5 (by decide)] at hk
    have q := h.claim hk
    unfold wfClaim at q ⊢
    rw [R 23 (by decide), a0, a2]
    exact q
  · rw [h0 6 (by decide)] at hj
    rw [R 23 (by decide)]
    exact h.zero hj
theorem WF_clear (h : WF s) : WF (up s 0 1 0) := by
  have hs := h.sc
  unfold wfSc at hs
  have hb := h.spent
  refine WF_tape h (fun k hk _ => up_n _ _ _ hk) (fun j hj => by rw [up_s, gUp_n _ _ hj]) (by rw [up_s, gUp_s]; decide) (fun i hi => by rw [up_s, gUp_s] at hi; omega) ?_
  show (0 : Int) + 5 * s 0 3 + _ + 5 * (s 0 4 - 1) ≤ 64
  unfold spSpent at hb
  show (0 : Int) + 5 * s 0 3 + sumN (fun k => if s 14 k = 1 then 1 else 0) (s 0 3).toNat + 5 * (s 0 4 - 1) ≤ 64
  omega
theorem spSpent_clear (h : WF s) : spSpent (up s 0 1 0) ≤ spSpent s := by
  have hs := h.sc
  unfold wfSc at hs
  show (0 : Int) + 5 * s 0 3 + sumN (fun k => if s 14 k = 1 then 1 else 0) (s 0 3).toNat + 5 * (s 0 4 - 1) ≤ s 0 1 + 5 * s 0 3 + sumN (fun k => if s 14 k = 1 then 1 else 0) (s 0 3).toNat + 5 * (s 0 4 - 1)
  omega
theorem spSpent_sign (x : Int) : spSpent (spSign s x) ≤ spSpent s + 1 := by
  unfold spSign
  split
  · show (s 0 1 + 1) + 5 * s 0 3 + sumN (fun k => if s 14 k = 1 then 1 else 0) (s 0 3).toNat + 5 * (s 0 4 - 1) ≤ s 0 1 + 5 * s 0 3 + sumN (fun k => if s 14 k = 1 then 1 else 0) (s 0 3).toNat + 5 * (s 0 4 - 1) + 1
    omega
  · omega
theorem WF_sign (h : WF s) (hb : spSpent s ≤ 63) (x : Int) : WF (spSign s x) := by
  have hq := spSpent_sign (s := s) x
  revert hq
  unfold spSign
  split
  · rename_i q
    intro hq
    simp only [okS, Bool.and_eq_true, decide_eq_true_eq] at q
    have hs := h.sc
    unfold wfSc at hs
    refine WF_tape h (fun k hk h10 => by rw [up_n _ _ _ hk, up_n _ _ _ h10]) (fun j hj => by rw [up_s, gUp_n _ _ hj]; rfl) (by rw [up_s, gUp_s]; omega) (fun i hi => ?_) (by omega)
    rw [up_s, gUp_s] at hi
    rw [up_n _ _ _ (by decide), up_s]
    by_cases e : i = (s 0 1).toNat
    · rw [e, gUp_s]; exact q.1
    · rw [gUp_n _ _ e]; exact h.tape i (by omega)
  · intro _; exact h
end
