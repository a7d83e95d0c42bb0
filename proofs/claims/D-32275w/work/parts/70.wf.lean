/-! the plain law: ranges that follow from WF; pays and addClaim keep it -/
set_option maxRecDepth 100000
section
variable {s s1 : gS}
theorem sumN_add {f g : Nat → Int} : ∀ {n : Nat}, sumN (fun i => f i + g i) n = sumN f n + sumN g n
  | 0 => rfl
  | n + 1 => by rw [sumN, sumN, sumN, sumN_add]; omega
theorem sumN_zero {n : Nat} : sumN (fun _ => (0 : Int)) n = 0 := by
  induction n with
  | zero => rfl
  | succ n ih => rw [sumN, ih]; rfl
/-- a sum of which one part is changed -/
theorem sumN_up {f g : Nat → Int} {j : Nat} {x : Int} (hj : ∀ i, i ≠ j → g i = f i) (hx : g j = f j + x) : ∀ {n : Nat}, sumN g n = sumN f n + if j < n then x else 0
  | 0 => by simp [sumN]
  | n + 1 => by
    rw [sumN, sumN, sumN_up hj hx]
    by_cases e : n = j
    · subst e
      rw [if_neg (by omega), if_pos (by omega), hx]
      omega
    · rw [hj n e]
      by_cases h : j < n
      · rw [if_pos h, if_pos (by omega)]; omega
      · rw [if_neg h, if_neg (by omega)]; omega
theorem spProven_r (h : WF s) (c : Nat) : 0 ≤ spProven s c ∧ spProven s c ≤ s 0 3 ∧ spProven s c ≤ sumN (fun k => if s 14 k = 1 then 1 else 0) (s 0 3).toNat := by
  have hs := h.sc
  unfold wfSc at hs
  have h1 := sumN_r (f := fun k => if s 11 k = (c : Nat) ∧ s 14 k = 1 then 1 else 0) (a := 0) (b := 1) (n := (s 0 3).toNat) (fun i _ => by split <;> decide)
  have h2 := sumN_mono (f := fun k => if s 11 k = (c : Nat) ∧ s 14 k = 1 then 1 else 0) (g := fun k => if s 14 k = 1 then 1 else 0) (n := (s 0 3).toNat) (fun i _ => by
    by_cases q : s 14 i = 1
    · rw [if_pos q]; split <;> decide
    · rw [if_neg q, if_neg (fun z => q z.2)]; decide)
  refine ⟨?_, ?_, h2⟩
  · have := h1.1; unfold spProven; omega
  · have := h1.2; unfold spProven; omega
theorem spEv_r (h : WF s) (c : Nat) : 0 ≤ spEv s c ∧ spEv s c ≤ 12 := by
  have hs := h.sc
  unfold wfSc at hs
  have hb := h.spent
  have hp := spProven_r h c
  unfold spSpent at hb
  unfold spEv
  split <;> omega
theorem paid_r (h : WF s) {c m : Nat} (hc : (c : Int) < s 0 2) (hm : m < 51) : 0 ≤ s 7 (51 * c + m) ∧ s 7 (51 * c + m) ≤ s 6 (51 * c + m) ∧ s 6 (51 * c + m) - s 7 (51 * c + m) ≤ 1000000 ∧ s 6 (51 * c + m) ≤ 12000000 := by
  have h1 := h.paid hc hm
  have h2 := spEv_r h c
  unfold wfPaid at h1
  omega
theorem spPaidTo_r (h : WF s) {c : Nat} (hc : (c : Int) < s 0 2) : 0 ≤ spPaidTo s c ∧ spPaidTo s c ≤ 612000000 := by
  have := sumN_r (f := fun m => s 6 (51 * c + m)) (a := 0) (b := 12000000) (n := 51) (fun m hm => by have := paid_r h hc hm; omega)
  unfold spPaidTo
  omega
theorem spLeft_r (h : WF s) {c : Nat} (hc : (c : Int) < s 0 2) (firm : Bool) : 0 ≤ spLeft s c firm ∧ spLeft s c firm ≤ 612000000 := by
  have hs := h.sc
  unfold wfSc at hs
  have hcl : ∀ i, i < (s 0 5).toNat → wfClaim s i := fun i hi => h.claim (by omega)
  have h1 := h.sum hc
  unfold wfSum at h1
  have h2 := sumN_mono (f := fun m => s 7 (51 * c + m)) (g := fun m => s 6 (51 * c + m)) (n := 51) (fun m hm => (paid_r h hc hm).2.1)
  have h3 := spPaidTo_r h hc
  have h4 := sumN_mono (f := fun k => if s 23 (6 * k) = (c : Nat) ∧ (firm = false ∨ s 23 (6 * k + 5) = 2) then s 23 (6 * k + 4) else 0) (g := fun k => if s 23 (6 * k) = (c : Nat) then s 23 (6 * k + 3) else 0) (n := (s 0 5).toNat) (fun i hi => by
    have := hcl i hi
    unfold wfClaim at this
    by_cases q : s 23 (6 * i) = (c : Nat)
    · rw [if_pos q]; split <;> omega
    · rw [if_neg q, if_neg (fun z => q z.1)]; decide)
  have h5 := sumN_nn (f := fun k => if s 23 (6 * k) = (c : Nat) ∧ (firm = false ∨ s 23 (6 * k + 5) = 2) then s 23 (6 * k + 4) else 0) (n := (s 0 5).toNat) (fun i hi => by
    have := hcl i hi
    unfold wfClaim at this
    split <;> omega)
  unfold spLeft
  unfold spPaidTo at h3
  exact ⟨h5, by omega⟩
/-- what is kept: a claim stays as it is, or less of it is left -/
theorem spKeep_at {c : Nat} {left : Int} (h0 : 0 ≤ left) {n : Nat} (hcl : ∀ i, i < n → 0 ≤ s 23 (6 * i + 4)) : ∀ {k : Nat}, k ≤ n → ∀ i, i < k →
    (spKeep s c left k).1 23 (6 * i) = s 23 (6 * i) ∧ (spKeep s c left k).1 23 (6 * i + 1) = s 23 (6 * i + 1) ∧ (spKeep s c left k).1 23 (6 * i + 2) = s 23 (6 * i + 2) ∧ (spKeep s c left k).1 23 (6 * i + 3) = s 23 (6 * i + 3) ∧
    (((spKeep s c left k).1 23 (6 * i + 4) = s 23 (6 * i + 4) ∧ (spKeep s c left k).1 23 (6 * i + 5) = s 23 (6 * i + 5)) ∨ (s 23 (6 * i) = c ∧ s 23 (6 * i + 5) = 2 ∧ 0 ≤ (spKeep s c left k).1 23 (6 * i + 4) ∧ (spKeep s c left k).1 23 (6 * i + 4) ≤ s 23 (6 * i + 4) ∧ ((spKeep s c left k).1 23 (6 * i + 4) = 0 ∧ (spKeep s c left k).1 23 (6 * i + 5) = 3 ∨ (spKeep s c left k).1 23 (6 * i + 4) ≠ 0 ∧ (spKeep s c left k).1 23 (6 * i + 5) = 2)))
  | 0, _, i, hi => by omega
  | k + 1, hk, i, hi => by
    by_cases q : s 23 (6 * k) = c ∧ s 23 (6 * k + 5) = 2
    · have hr := spKeep_r (s := s) (c := c) h0 (k := k) (fun j hj => hcl j (by omega))
      have hz := hcl k (by omega)
      rw [spKeep_pos q]
      dsimp only
      by_cases e : i = k
      · subst e
        rw [spLessen_j (k := i) (by omega) (by omega), spLessen_j (k := i) (by omega) (by omega), spLessen_j (k := i) (by omega) (by omega), spLessen_j (k := i) (by omega) (by omega), spKeep_j (by omega), spKeep_j (by omega), spKeep_j (by omega), spKeep_j (by omega)]
        refine ⟨rfl, rfl, rfl, rfl, Or.inr ⟨q.1, q.2, ?_⟩⟩
        have e4 : spLessen (spKeep s c left i).1 i (min (spKeep s c left i).2 (s 23 (6 * i + 4))) 23 (6 * i + 4) = s 23 (6 * i + 4) - min (spKeep s c left i).2 (s 23 (6 * i + 4)) := by
          unfold spLessen
          rw [up_s, gUp_n _ _ (by omega), up_s, gUp_s, spKeep_j (by omega)]
        have e5 : spLessen (spKeep s c left i).1 i (min (spKeep s c left i).2 (s 23 (6 * i + 4))) 23 (6 * i + 5) = if s 23 (6 * i + 4) - min (spKeep s c left i).2 (s 23 (6 * i + 4)) = 0 then 3 else 2 := by
          unfold spLessen
          rw [up_s, gUp_s, spKeep_j (by omega), spKeep_j (by omega), q.2]
          by_cases z : s 23 (6 * i + 4) - min (spKeep s c left i).2 (s 23 (6 * i + 4)) = 0
          · rw [if_pos z, if_pos ⟨rfl, z⟩]
          · rw [if_neg z, if_neg (fun y => z y.2)]
        rw [e4, e5]
        refine ⟨by omega, by omega, ?_⟩
        by_cases z : s 23 (6 * i + 4) - min (spKeep s c left i).2 (s 23 (6 * i + 4)) = 0
        · exact Or.inl ⟨z, if_pos z⟩
        · exact Or.inr ⟨z, if_neg z⟩
      · rw [spLessen_j (k := k) (by omega) (by omega), spLessen_j (k := k) (by omega) (by omega), spLessen_j (k := k) (by omega) (by omega), spLessen_j (k := k) (by omega) (by omega), spLessen_j (k := k) (by omega) (by omega), spLessen_j (k := k) (by omega) (by omega)]
        exact spKeep_at h0 hcl (k := k) (by omega) i (by omega)
    · rw [spKeep_neg q]
      by_cases e : i = k
      · subst e
        rw [spKeep_j (by omega), spKeep_j (by omega), spKeep_j (by omega), spKeep_j (by omega), spKeep_j (by omega), spKeep_j (by omega)]
        exact ⟨rfl, rfl, rfl, rfl, Or.inl ⟨rfl, rfl⟩⟩
      · exact spKeep_at h0 hcl (k := k) (by omega) i (by omega)
end
