/-! the plain law: pays and addClaim keep WF -/
set_option maxRecDepth 100000
section
variable {s s1 : gS}
theorem spPays_o {c m : Nat} {x : Int} {j : Nat} (h3 : j ≠ 3) (h4 : j ≠ 4) (h5 : j ≠ 5) (h6 : j ≠ 6) (h23 : j ≠ 23) : spPays s c m x j = s j := by
  unfold spPays
  split
  · rfl
  · split
    · rw [up_n _ _ _ h4, spPays2, up_n _ _ _ h3, spPays1_o h23 h6]
    · rw [up_n _ _ _ h5, spPays2, up_n _ _ _ h3, spPays1_o h23 h6]
theorem spPays_6 {c m : Nat} {x : Int} (hx : x ≠ 0) : spPays s c m x 6 = gUp (s 6) (51 * c + m) (s 6 (51 * c + m) + x) := by
  unfold spPays
  rw [if_neg hx]
  split
  · rw [up_n _ _ _ (by decide), spPays2, up_n _ _ _ (by decide), spPays1, spKeep_o (by decide), up_s]
  · rw [up_n _ _ _ (by decide), spPays2, up_n _ _ _ (by decide), spPays1, spKeep_o (by decide), up_s]
theorem spPays_23 {c m : Nat} {x : Int} (hx : x ≠ 0) : spPays s c m x 23 = (spKeep (up s 6 (51 * c + m) (s 6 (51 * c + m) + x)) c (spKeeps s c x) (s 0 5).toNat).1 23 := by
  unfold spPays
  rw [if_neg hx]
  split
  · rw [up_n _ _ _ (by decide), spPays2, up_n _ _ _ (by decide), spPays1]
  · rw [up_n _ _ _ (by decide), spPays2, up_n _ _ _ (by decide), spPays1]
theorem spPays_k {c m : Nat} {x : Int} (hx : x ≠ 0) (hk : 0 ≤ spKeeps s c x ∧ spKeeps s c x ≤ x) : (∀ i, i ≠ c → spPays s c m x 3 i = s 3 i ∧ spPays s c m x 4 i = s 4 i ∧ spPays s c m x 5 i = s 5 i) ∧ s 3 c ≤ spPays s c m x 3 c ∧ s 4 c ≤ spPays s c m x 4 c ∧ s 5 c ≤ spPays s c m x 5 c ∧ spPays s c m x 3 c + spPays s c m x 4 c + spPays s c m x 5 c = s 3 c + s 4 c + s 5 c + x := by
  have e3 : spPays2 s c m x 3 = gUp (s 3) c (s 3 c + spKeeps s c x) := by rw [spPays2, up_s, spPays1_o (by decide) (by decide)]
  have e4 : spPays2 s c m x 4 = s 4 := by rw [spPays2, up_n _ _ _ (by decide), spPays1_o (by decide) (by decide)]
  have e5 : spPays2 s c m x 5 = s 5 := by rw [spPays2, up_n _ _ _ (by decide), spPays1_o (by decide) (by decide)]
  unfold spPays
  rw [if_neg hx]
  split
  · rw [up_n _ _ _ (by decide), up_s, up_n _ _ _ (by decide), e3, e4, e5, gUp_s, gUp_s]
    exact ⟨fun i hi => ⟨gUp_n _ _ hi, gUp_n _ _ hi, rfl⟩, by omega, by omega, by omega, by omega⟩
  · rw [up_n _ _ _ (by decide), up_n _ _ _ (by decide), up_s, e3, e4, e5, gUp_s, gUp_s]
    exact ⟨fun i hi => ⟨gUp_n _ _ hi, rfl, gUp_n _ _ hi⟩, by omega, by omega, by omega, by omega⟩
/-- nothing has changed but sums and claims -/
theorem WF.of (h : WF s) (hr : ∀ k, k ≠ 0 → k ≠ 3 → k ≠ 4 → k ≠ 5 → k ≠ 6 → k ≠ 7 → k ≠ 23 → s1 k = s k) (h0 : ∀ j, j ≠ 5 → j ≠ 6 → j ≠ 10 → s1 0 j = s 0 j) (hsc : wfSc s1) (hcase : ∀ c : Nat, (c : Int) < s 0 2 → (0 ≤ s1 3 c ∧ 0 ≤ s1 4 c ∧ 0 ≤ s1 5 c ∧ s1 3 c + s1 4 c + s1 5 c = spPaidTo s1 c) ∧ (∀ m : Nat, m < 51 → 0 ≤ s1 7 (51 * c + m) ∧ s1 7 (51 * c + m) ≤ s1 6 (51 * c + m) ∧ s1 6 (51 * c + m) - s1 7 (51 * c + m) ≤ 1000000 ∧ s1 6 (51 * c + m) + max 0 (spDue s c m - (s1 6 (51 * c + m) - s1 7 (51 * c + m))) ≤ 1000000 * spEv s c ∧ (s 0 0 / 30 < m → s1 6 (51 * c + m) = 0)) ∧ wfSum s1 c) (hcl : ∀ k : Nat, (k : Int) < s1 0 5 → wfClaim s1 k) (hz : ∀ j : Nat, s1 0 6 ≤ (j : Int) → s1 23 j = 0) : WF s1 := by
  have a0 := h0 0 (by decide) (by decide) (by decide)
  have a1 := h0 1 (by decide) (by decide) (by decide)
  have a2 := h0 2 (by decide) (by decide) (by decide)
  have a3 := h0 3 (by decide) (by decide) (by decide)
  have a4 := h0 4 (by decide) (by decide) (by decide)
  have R := fun k (q : k ≠ 0 ∧ k ≠ 3 ∧ k ≠ 4 ∧ k ≠ 5 ∧ k ≠ 6 ∧ k ≠ 7 ∧ k ≠ 23) => hr k q.1 q.2.1 q.2.2.1 q.2.2.2.1 q.2.2.2.2.1 q.2.2.2.2.2.1 q.2.2.2.2.2.2
  have r1 := R 1 (by decide)
  have r2 := R 2 (by decide)
  have r8 := R 8 (by decide)
  have r9 := R 9 (by decide)
  have r10 := R 10 (by decide)
  have r11 := R 11 (by decide)
  have r12 := R 12 (by decide)
  have r13 := R 13 (by decide)
  have r14 := R 14 (by decide)
  have r15 := R 15 (by decide)
  have r16 := R 16 (by decide)
  have r17 := R 17 (by decide)
  have r18 := R 18 (by decide)
  have r19 := R 19 (by decide)
  have r20 := R 20 (by decide)
  have r21 := R 21 (by decide)
  have r22 := R 22 (by decide)
  refine ⟨hsc, ?_, fun c hc => ⟨?_, fun m hm => ?_, ?_⟩, fun f hf => ?_, fun r hr => ?_, hcl, ?_, hz⟩
  · have := h.tape
    unfold wfTape at this ⊢
    rw [a1, r10]; exact this
  · rw [a2] at hc
    have h1 := h.case hc
    have h2 := (hcase c hc).1
    unfold wfCase at h1 ⊢
    rw [r1, r2, r8, r9, a0]
    exact ⟨h1.1, h1.2.1, h2, h1.2.2.2⟩
  · rw [a2] at hc
    have h2 := (hcase c hc).2.1 m hm
    unfold wfPaid
    rw [spDue_cg a3 a4 r1 r2 r11 r13 r14 r15 r17 r18 r20, spEv_cg a3 a4 r11 r14, a0]
    exact h2
  · rw [a2] at hc
    exact (hcase c hc).2.2
  · rw [a3] at hf
    have h1 := h.form hf
    unfold wfForm at h1 ⊢
    rw [r11, r12, r13, r14, r15, r16, a0, a2]
    exact h1
  · rw [a4] at hr
    have h1 := h.rule hr
    unfold wfRule at h1 ⊢
    rw [r17, r18, r19, r20, r21, r22, a2]
    exact h1
  · rw [spSpent_cg a1 a3 a4 r14]
    exact h.spent
theorem WF_pays (h : WF s) {c m : Nat} {x : Int} (hc : (c : Int) < s 0 2) (hm : m < 51) (hmt : (m : Int) ≤ s 0 0 / 30) (hx : x = spDue s c m - (s 6 (51 * c + m) - s 7 (51 * c + m))) (h0 : 0 < x) : WF (spPays s c m x) := by
  have hL := spLeft_r h hc true
  have hk : 0 ≤ spKeeps s c x ∧ spKeeps s c x ≤ x := by unfold spKeeps; omega
  have hx0 : x ≠ 0 := by omega
  have e0 : spPays s c m x 0 = s 0 := spPays_o (by decide) (by decide) (by decide) (by decide) (by decide)
  have e7 : spPays s c m x 7 = s 7 := spPays_o (by decide) (by decide) (by decide) (by decide) (by decide)
  have e6 := spPays_6 (s := s) (c := c) (m := m) hx0
  have e23 := spPays_23 (s := s) (c := c) (m := m) hx0
  obtain ⟨k1, k2, k3, k4, k5⟩ := spPays_k (s := s) (c := c) (m := m) hx0 hk
  have hs := h.sc
  have hclo : ∀ i, i < (s 0 5).toNat → wfClaim s i := fun i hi => h.claim (by have := hs; unfold wfSc at this; omega)
  have hat := spKeep_at (s := up s 6 (51 * c + m) (s 6 (51 * c + m) + x)) (c := c) hk.1 (n := (s 0 5).toNat) (fun i hi => (hclo i hi).2.2.2.2.1.1) (k := (s 0 5).toNat) (Nat.le_refl _)
  refine h.of (fun k _ a b c d _ e => spPays_o a b c d e) (fun j _ _ _ => by rw [e0]) (by unfold wfSc; rw [e0]; exact hs) (fun c' hc' => ⟨?_, fun m' hm' => ?_, ?_⟩) (fun k hk' => ?_) (fun j hj => ?_)
  · have hq := (h.case hc').2.2.1
    by_cases e : c' = c
    · subst e
      have hp : spPaidTo (spPays s c' m x) c' = spPaidTo s c' + x := by
        unfold spPaidTo
        rw [e6, sumN_up (f := fun m => s 6 (51 * c' + m)) (g := fun m1 => gUp (s 6) (51 * c' + m) (s 6 (51 * c' + m) + x) (51 * c' + m1)) (j := m) (x := x) (fun i hi => gUp_n _ _ (by omega)) (gUp_s _ _ _), if_pos hm]
      rw [hp]
      omega
    · obtain ⟨z3, z4, z5⟩ := k1 c' e
      have hp : spPaidTo (spPays s c m x) c' = spPaidTo s c' := by
        unfold spPaidTo
        rw [e6]
        exact sumN_congr (fun i hi => gUp_n _ _ (by omega))
      rw [hp, z3, z4, z5]
      exact hq
  · have hq := h.paid hc' hm'
    have hd := spDue_r h c m
    unfold wfPaid at hq
    rw [e6, e7]
    by_cases e : 51 * c' + m' = 51 * c + m
    · have e1 : c' = c := by omega
      have e2 : m' = m := by omega
      subst e1; subst e2
      rw [gUp_s]
      omega
    · rw [gUp_n _ _ e]
      exact hq
  · have hq := h.sum hc'
    unfold wfSum at hq ⊢
    rw [e0, e7, e23, ← hq]
    exact sumN_congr (fun i hi => by rw [(hat i hi).1, (hat i hi).2.2.2.1]; rfl)
  · rw [e0] at hk'
    have hki : k < (s 0 5).toNat := by omega
    have hq := hclo k hki
    obtain ⟨z0, z1, z2, z3, z4⟩ := hat k hki
    unfold wfClaim at hq ⊢
    rw [e0, e23, z0, z1, z2, z3]
    rcases z4 with ⟨z4, z5⟩ | ⟨y1, y2, y3, y4, y5⟩
    · rw [z4, z5]; exact hq
    · have w4 : up s 6 (51 * c + m) (s 6 (51 * c + m) + x) 23 = s 23 := rfl
      rw [w4] at y1 y2 y4 ⊢
      refine ⟨hq.1, hq.2.1, hq.2.2.1, hq.2.2.2.1, ?_, ?_, ?_, ?_, ?_, ?_⟩
      · omega
      · rcases y5 with ⟨y5, y6⟩ | ⟨y5, y6⟩ <;> rw [y6] <;> decide
      · rcases y5 with ⟨y5, y6⟩ | ⟨y5, y6⟩ <;> rw [y6] <;> intro q <;> exact absurd q (by decide)
      · rcases y5 with ⟨y5, y6⟩ | ⟨y5, y6⟩
        · rw [y6]; intro q; exact absurd q (by decide)
        · intro _; omega
      · rcases y5 with ⟨y5, y6⟩ | ⟨y5, y6⟩
        · intro _; exact y5
        · rw [y6]; intro q; exact absurd q (by decide)
      · rcases y5 with ⟨y5, y6⟩ | ⟨y5, y6⟩ <;> rw [y6] <;> intro q <;> exact absurd q (by decide)
  · rw [e0] at hj
    rw [e23, spKeep_j (by have := hs; unfold wfSc at this; omega)]
    exact h.zero hj
theorem spCap_o {j : Nat} {n : Int} {k : Nat} (h : k ≠ 0) : spCap s j n k = s k := up_n _ _ _ h
theorem spAdd_o {c m k : Nat} {x : Int} (h0 : k ≠ 0) (h7 : k ≠ 7) (h23 : k ≠ 23) : spAddClaim s c m x k = s k := by
  rw [spAddClaim, spCap_o h0, spAdd1, up_n _ _ _ h7, up_n _ _ _ h0, up_n _ _ _ h23, up_n _ _ _ h23, up_n _ _ _ h23, up_n _ _ _ h23, up_n _ _ _ h23, up_n _ _ _ h23, spRoom, up_n _ _ _ h0]
theorem spAdd_7 {c m : Nat} {x : Int} : spAddClaim s c m x 7 = gUp (s 7) (51 * c + m) (s 7 (51 * c + m) + x) := rfl
theorem spAdd_23 {c m : Nat} {x : Int} {n : Nat} (hn : (s 0 5).toNat = n) : spAddClaim s c m x 23 = gUp (gUp (gUp (gUp (gUp (gUp (s 23) (6 * n) c) (6 * n + 1) m) (6 * n + 2) (s 0 0)) (6 * n + 3) x) (6 * n + 4) x) (6 * n + 5) 0 := by subst hn; rfl
theorem spAdd_5 {c m : Nat} {x : Int} : spAddClaim s c m x 0 5 = s 0 5 + 1 := rfl
theorem spAdd_6 {c m : Nat} {x : Int} : spAddClaim s c m x 0 6 = if 6 * s 0 5 = s 0 6 then 2 * s 0 6 else s 0 6 := rfl
theorem spAdd_10 {c m : Nat} {x : Int} : spAddClaim s c m x 0 10 = if s 0 5 = s 0 10 then s 0 10 + max 1 (s 0 10 / 2) else s 0 10 := rfl
theorem spAdd_0 {c m j : Nat} {x : Int} (h5 : j ≠ 5) (h6 : j ≠ 6) (h10 : j ≠ 10) : spAddClaim s c m x 0 j = s 0 j := by
  show gUp (gUp (gUp (s 0) 6 _) 5 _) 10 _ j = _
  rw [gUp_n _ _ h10, gUp_n _ _ h5, gUp_n _ _ h6]
theorem WF_add (h : WF s) {c m : Nat} {x : Int} (hc : (c : Int) < s 0 2) (hm : m < 51) (hx : x = (s 6 (51 * c + m) - s 7 (51 * c + m)) - spDue s c m) (h0 : 0 < x) (hcnt : s 0 5 + 1 ≤ 500 * (s 0 0 / 30)) : WF (spAddClaim s c m x) := by
  have hs := h.sc
  have hd := spDue_r h c m
  have hpm := paid_r h hc hm
  obtain ⟨n, hn⟩ := i_nat (z := s 0 5) (by have := hs; unfold wfSc at this; omega)
  have hnt : (s 0 5).toNat = n := by omega
  have e23 := spAdd_23 (s := s) (c := c) (m := m) (x := x) hnt
  have z := fun (j : Nat) (a : j ≠ 5) (b : j ≠ 6) (d : j ≠ 10) => spAdd_0 (s := s) (c := c) (m := m) (x := x) a b d
  have old : ∀ j, j < 6 * n ∨ 6 * n + 6 ≤ j → spAddClaim s c m x 23 j = s 23 j := fun j hj => by
    rw [e23, gUp_n _ _ (by omega), gUp_n _ _ (by omega), gUp_n _ _ (by omega), gUp_n _ _ (by omega), gUp_n _ _ (by omega), gUp_n _ _ (by omega)]
  refine h.of (fun k a _ _ _ _ b d => spAdd_o a b d) z ?_ (fun c' hc' => ⟨?_, fun m' hm' => ?_, ?_⟩) (fun k hk => ?_) (fun j hj => ?_)
  · unfold wfSc at hs ⊢
    rw [spAdd_5, spAdd_6, spAdd_10, z 0 (by decide) (by decide) (by decide), z 1 (by decide) (by decide) (by decide), z 2 (by decide) (by decide) (by decide), z 3 (by decide) (by decide) (by decide), z 4 (by decide) (by decide) (by decide), z 7 (by decide) (by decide) (by decide), z 9 (by decide) (by decide) (by decide), z 11 (by decide) (by decide) (by decide), z 12 (by decide) (by decide) (by decide), z 13 (by decide) (by decide) (by decide)]
    by_cases q1 : 6 * s 0 5 = s 0 6
    · rw [if_pos q1]
      by_cases q2 : s 0 5 = s 0 10
      · rw [if_pos q2]; omega
      · rw [if_neg q2]; omega
    · rw [if_neg q1]
      by_cases q2 : s 0 5 = s 0 10
      · rw [if_pos q2]; omega
      · rw [if_neg q2]; omega
  · have hp : spPaidTo (spAddClaim s c m x) = spPaidTo s := spPaidTo_cg (spAdd_o (by decide) (by decide) (by decide))
    rw [hp, spAdd_o (k := 3) (by decide) (by decide) (by decide), spAdd_o (k := 4) (by decide) (by decide) (by decide), spAdd_o (k := 5) (by decide) (by decide) (by decide)]
    exact (h.case hc').2.2.1
  · have hq := h.paid hc' hm'
    unfold wfPaid at hq
    rw [spAdd_o (k := 6) (by decide) (by decide) (by decide), spAdd_7]
    by_cases e : 51 * c' + m' = 51 * c + m
    · have e1 : c' = c := by omega
      have e2 : m' = m := by omega
      subst e1; subst e2
      rw [gUp_s]
      omega
    · rw [gUp_n _ _ e]
      exact hq
  · have hq := h.sum hc'
    unfold wfSum at hq ⊢
    rw [spAdd_5, show (s 0 5 + 1).toNat = n + 1 by omega, sumN]
    rw [hnt] at hq
    have h1 : sumN (fun k => if spAddClaim s c m x 23 (6 * k) = (c' : Nat) then spAddClaim s c m x 23 (6 * k + 3) else 0) n = sumN (fun m => s 7 (51 * c' + m)) 51 := by
      rw [← hq]
      exact sumN_congr (fun i hi => by rw [old _ (by omega), old _ (by omega)])
    have h2 : spAddClaim s c m x 23 (6 * n) = c := by rw [e23, gUp_n _ _ (by omega), gUp_n _ _ (by omega), gUp_n _ _ (by omega), gUp_n _ _ (by omega), gUp_n _ _ (by omega), gUp_s]
    have h3 : spAddClaim s c m x 23 (6 * n + 3) = x := by rw [e23, gUp_n _ _ (by omega), gUp_n _ _ (by omega), gUp_s]
    rw [h1, h2, h3, spAdd_7]
    by_cases e : c' = c
    · subst e
      rw [sumN_up (f := fun m => s 7 (51 * c' + m)) (g := fun m1 => gUp (s 7) (51 * c' + m) (s 7 (51 * c' + m) + x) (51 * c' + m1)) (j := m) (x := x) (fun i hi => gUp_n _ _ (by omega)) (gUp_s _ _ _), if_pos hm, if_pos rfl]
    · rw [if_neg (by omega), Int.add_zero]
      exact sumN_congr (fun i hi => (gUp_n _ _ (by omega)).symm)
  · rw [spAdd_5] at hk
    unfold wfClaim
    rw [z 0 (by decide) (by decide) (by decide), z 2 (by decide) (by decide) (by decide)]
    by_cases e : k = n
    · subst e
      have g0 : spAddClaim s c m x 23 (6 * k) = c := by rw [e23, gUp_n _ _ (by omega), gUp_n _ _ (by omega), gUp_n _ _ (by omega), gUp_n _ _ (by omega), gUp_n _ _ (by omega), gUp_s]
      have g1 : spAddClaim s c m x 23 (6 * k + 1) = m := by rw [e23, gUp_n _ _ (by omega), gUp_n _ _ (by omega), gUp_n _ _ (by omega), gUp_n _ _ (by omega), gUp_s]
      have g2 : spAddClaim s c m x 23 (6 * k + 2) = s 0 0 := by rw [e23, gUp_n _ _ (by omega), gUp_n _ _ (by omega), gUp_n _ _ (by omega), gUp_s]
      have g3 : spAddClaim s c m x 23 (6 * k + 3) = x := by rw [e23, gUp_n _ _ (by omega), gUp_n _ _ (by omega), gUp_s]
      have g4 : spAddClaim s c m x 23 (6 * k + 4) = x := by rw [e23, gUp_n _ _ (by omega), gUp_s]
      have g5 : spAddClaim s c m x 23 (6 * k + 5) = 0 := by rw [e23, gUp_s]
      rw [g0, g1, g2, g3, g4, g5]
      unfold wfSc at hs
      omega
    · rw [old _ (by omega), old _ (by omega), old _ (by omega), old _ (by omega), old _ (by omega), old _ (by omega)]
      have := h.claim (k := k) (by omega)
      unfold wfClaim at this
      exact this
  · rw [spAdd_6] at hj
    have hj2 : 6 * n + 6 ≤ j ∧ s 0 6 ≤ (j : Int) := by
      unfold wfSc at hs
      by_cases q1 : 6 * s 0 5 = s 0 6
      · rw [if_pos q1] at hj; omega
      · rw [if_neg q1] at hj; omega
    rw [old _ (by omega)]
    exact h.zero hj2.2
end
