/-! the plain law: a case's month -/
set_option maxRecDepth 100000
section
variable {s s1 s2 : gS}
/-- nothing has changed but sums and claims -/
def sameB (s s1 : gS) : Prop := (∀ k, k ≠ 0 → k ≠ 3 → k ≠ 4 → k ≠ 5 → k ≠ 6 → k ≠ 7 → k ≠ 23 → s1 k = s k) ∧ ∀ j, j ≠ 5 → j ≠ 6 → j ≠ 10 → s1 0 j = s 0 j
theorem sameB.rf : sameB s s := ⟨fun _ _ _ _ _ _ _ _ => rfl, fun _ _ _ _ => rfl⟩
theorem sameB.tr (h : sameB s s1) (h2 : sameB s1 s2) : sameB s s2 := ⟨fun k a b c d e f g => (h2.1 k a b c d e f g).trans (h.1 k a b c d e f g), fun j a b c => (h2.2 j a b c).trans (h.2 j a b c)⟩
theorem sameB.sc (h : sameB s s1) (j : Nat) (hj : j ≠ 5 ∧ j ≠ 6 ∧ j ≠ 10) : s1 0 j = s 0 j := h.2 j hj.1 hj.2.1 hj.2.2
theorem sameB.r (h : sameB s s1) (k : Nat) (q : k ≠ 0 ∧ k ≠ 3 ∧ k ≠ 4 ∧ k ≠ 5 ∧ k ≠ 6 ∧ k ≠ 7 ∧ k ≠ 23) : s1 k = s k := h.1 k q.1 q.2.1 q.2.2.1 q.2.2.2.1 q.2.2.2.2.1 q.2.2.2.2.2.1 q.2.2.2.2.2.2
theorem sameB.due (h : sameB s s1) : spDue s1 = spDue s := spDue_cg (h.sc 3 (by decide)) (h.sc 4 (by decide)) (h.r 1 (by decide)) (h.r 2 (by decide)) (h.r 11 (by decide)) (h.r 13 (by decide)) (h.r 14 (by decide)) (h.r 15 (by decide)) (h.r 17 (by decide)) (h.r 18 (by decide)) (h.r 20 (by decide))
theorem sameB_pays {c m : Nat} {x : Int} : sameB s (spPays s c m x) := ⟨fun k a b c d e f g => spPays_o b c d e g, fun j _ _ _ => by rw [spPays_o (by decide) (by decide) (by decide) (by decide) (by decide)]⟩
theorem sameB_add {c m : Nat} {x : Int} : sameB s (spAddClaim s c m x) := ⟨fun k a b c d e f g => spAdd_o a f g, fun j a b c => spAdd_0 a b c⟩
def spStep (s : gS) (c k : Nat) : gS := if s 6 (51 * c + k) - s 7 (51 * c + k) < spDue s c k then spPays s c k (spDue s c k - (s 6 (51 * c + k) - s 7 (51 * c + k))) else if spDue s c k < s 6 (51 * c + k) - s 7 (51 * c + k) then spAddClaim s c k (s 6 (51 * c + k) - s 7 (51 * c + k) - spDue s c k) else s
def spSteps (s : gS) (c : Nat) : Nat → gS
  | 0 => s
  | k + 1 => spStep (spSteps s c k) c k
def spMonth (s : gS) (c : Nat) : gS := if s 2 c = -1 then spPays (spSteps s c (s 0 0 / 30).toNat) c (s 0 0 / 30).toNat (spDue (spSteps s c (s 0 0 / 30).toNat) c (s 0 0 / 30)) else spSteps s c (s 0 0 / 30).toNat
theorem spPays_0 {c m : Nat} {x : Int} : spPays s c m x 0 = s 0 := spPays_o (by decide) (by decide) (by decide) (by decide) (by decide)
theorem spPays_7 {c m : Nat} {x : Int} : spPays s c m x 7 = s 7 := spPays_o (by decide) (by decide) (by decide) (by decide) (by decide)
theorem spPays_6n {c m i : Nat} {x : Int} (h : i ≠ 51 * c + m) : spPays s c m x 6 i = s 6 i := by
  by_cases hx : x = 0
  · unfold spPays; rw [if_pos hx]
  · rw [spPays_6 hx, gUp_n _ _ h]
theorem spStep_ok (h : WF s) {c k : Nat} (hc : (c : Int) < s 0 2) (hk : k < 51) (hkt : (k : Int) ≤ s 0 0 / 30) (hcnt : s 0 5 + 1 ≤ 500 * (s 0 0 / 30)) : WF (spStep s c k) ∧ sameB s (spStep s c k) ∧ (s 0 5 ≤ spStep s c k 0 5 ∧ spStep s c k 0 5 ≤ s 0 5 + 1 ∧ s 0 6 ≤ spStep s c k 0 6) ∧ ∀ i, i ≠ 51 * c + k → spStep s c k 6 i = s 6 i := by
  unfold spStep
  split
  · rename_i q
    refine ⟨WF_pays h hc hk hkt rfl (by omega), sameB_pays, ?_, fun i hi => spPays_6n hi⟩
    rw [spPays_0]; omega
  · split
    · rename_i q1 q2
      refine ⟨WF_add h hc hk rfl (by omega) hcnt, sameB_add, ?_, fun i _ => by rw [spAdd_o (by decide) (by decide) (by decide)]⟩
      have hs := h.sc
      unfold wfSc at hs
      rw [spAdd_5, spAdd_6]
      split <;> omega
    · exact ⟨h, sameB.rf, by omega, fun _ _ => rfl⟩
theorem spSteps_ok (h : WF s) {c : Nat} (hc : (c : Int) < s 0 2) {n : Nat} (hn : (n : Int) = s 0 0 / 30) (hcnt : s 0 5 + n ≤ 500 * (s 0 0 / 30)) : ∀ k : Nat, k ≤ n → WF (spSteps s c k) ∧ sameB s (spSteps s c k) ∧ (s 0 5 ≤ spSteps s c k 0 5 ∧ spSteps s c k 0 5 ≤ s 0 5 + k ∧ s 0 6 ≤ spSteps s c k 0 6) ∧ ∀ i, (∀ m, m < k → i ≠ 51 * c + m) → spSteps s c k 6 i = s 6 i
  | 0, _ => ⟨h, sameB.rf, ⟨Int.le_refl _, by simp [spSteps], Int.le_refl _⟩, fun _ _ => rfl⟩
  | k + 1, hk => by
    obtain ⟨h1, h2, h3, h4⟩ := spSteps_ok h hc hn hcnt k (by omega)
    have hs := h.sc
    unfold wfSc at hs
    have e0 := h2.sc 0 (by decide)
    have e2 := h2.sc 2 (by decide)
    obtain ⟨g1, g2, g3, g4⟩ := spStep_ok h1 (c := c) (k := k) (by rw [e2]; exact hc) (by omega) (by rw [e0]; omega) (by rw [e0]; omega)
    refine ⟨g1, h2.tr g2, ?_, fun i hi => ?_⟩
    · show _ ≤ spStep (spSteps s c k) c k 0 5 ∧ spStep (spSteps s c k) c k 0 5 ≤ _ ∧ _ ≤ spStep (spSteps s c k) c k 0 6
      omega
    · show spStep (spSteps s c k) c k 6 i = _
      rw [g4 i (hi k (by omega)), h4 i (fun m hm => hi m (by omega))]
theorem spSteps_mono (h : WF s) {c : Nat} (hc : (c : Int) < s 0 2) {n : Nat} (hn : (n : Int) = s 0 0 / 30) (hcnt : s 0 5 + n ≤ 500 * (s 0 0 / 30)) {i : Nat} : ∀ {k : Nat}, i ≤ k → k ≤ n → spSteps s c i 0 5 ≤ spSteps s c k 0 5 ∧ spSteps s c i 0 6 ≤ spSteps s c k 0 6
  | 0, h1, _ => by rw [show i = 0 by omega]; omega
  | k + 1, h1, h2 => by
    by_cases e : i = k + 1
    · subst e; omega
    · have ih := spSteps_mono h hc hn hcnt (i := i) (k := k) (by omega) (by omega)
      obtain ⟨q1, q2, q3, q4⟩ := spSteps_ok h hc hn hcnt k (by omega)
      have hs := h.sc
      unfold wfSc at hs
      have e0 := q2.sc 0 (by decide)
      have e2 := q2.sc 2 (by decide)
      obtain ⟨g1, g2, g3, g4⟩ := spStep_ok q1 (c := c) (k := k) (by rw [e2]; exact hc) (by omega) (by rw [e0]; omega) (by rw [e0]; omega)
      show _ ≤ spStep (spSteps s c k) c k 0 5 ∧ _ ≤ spStep (spSteps s c k) c k 0 6
      omega
theorem spMonth_ok (h : WF s) {c : Nat} (hc : (c : Int) < s 0 2) (hcnt : s 0 5 + s 0 0 / 30 ≤ 500 * (s 0 0 / 30)) (h6 : s 6 (51 * c + (s 0 0 / 30).toNat) = 0) : WF (spMonth s c) ∧ sameB s (spMonth s c) ∧ (s 0 5 ≤ spMonth s c 0 5 ∧ spMonth s c 0 5 ≤ s 0 5 + s 0 0 / 30 ∧ s 0 6 ≤ spMonth s c 0 6) ∧ ∀ i, (∀ m, m < 51 → i ≠ 51 * c + m) → spMonth s c 6 i = s 6 i := by
  have hs := h.sc
  unfold wfSc at hs
  obtain ⟨n, hn⟩ := i_nat (z := s 0 0 / 30) (by omega)
  have hnt : (s 0 0 / 30).toNat = n := by omega
  rw [hnt] at h6
  obtain ⟨g1, g2, g3, g4⟩ := spSteps_ok h hc hn.symm (by omega) n (Nat.le_refl _)
  have e0 := g2.sc 0 (by decide)
  have e2 := g2.sc 2 (by decide)
  unfold spMonth
  rw [hnt]
  split
  · have h61 : spSteps s c n 6 (51 * c + n) = 0 := by rw [g4 _ (fun m hm => by omega), h6]
    have hp := g1.paid (c := c) (m := n) (by rw [e2]; exact hc) (by omega)
    unfold wfPaid at hp
    have hd := spDue_r g1 c (s 0 0 / 30)
    refine ⟨?_, g2.tr sameB_pays, ?_, fun i hi => ?_⟩
    · by_cases q : spDue (spSteps s c n) c (s 0 0 / 30) = 0
      · unfold spPays; rw [if_pos q]; exact g1
      · exact WF_pays g1 (by rw [e2]; exact hc) (by omega) (by rw [e0]; omega) (by rw [← hn]; omega) (by omega)
    · rw [spPays_0]; omega
    · rw [spPays_6n (hi n (by omega)), g4 i (fun m hm => hi m (by omega))]
  · exact ⟨g1, g2, by omega, fun i hi => g4 i (fun m hm => hi m (by omega))⟩
end
