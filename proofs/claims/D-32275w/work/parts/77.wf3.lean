/-! the plain law: a form is proven, a case ends -/
set_option maxRecDepth 100000
section
variable {s s1 : gS}
theorem spBest_cg2 {one : Nat} (h11 : s1 11 = s 11) (h13 : s1 13 = s 13) (h14 : ∀ k, s 11 k = (one : Int) → (s1 14 k = 1 ↔ s 14 k = 1)) (h15 : s1 15 = s 15) : spBest s1 one = spBest s one := by
  funext day which k
  induction k with
  | zero => rfl
  | succ k ih =>
    by_cases q : s 11 k = (one : Int)
    · simp only [spBest, h11, h13, h15, ih, h14 k q]
    · rw [spBest_neg (s := s1) (by rw [h11]; exact fun z => q z.1), spBest_neg (s := s) (fun z => q z.1), ih]
theorem spDue_cg2 {one : Nat} (h3 : s1 0 3 = s 0 3) (h4 : s1 0 4 = s 0 4) (h1 : s1 1 = s 1) (h2 : s1 2 = s 2) (h11 : s1 11 = s 11) (h13 : s1 13 = s 13) (h14 : ∀ k, s 11 k = (one : Int) → (s1 14 k = 1 ↔ s 14 k = 1)) (h15 : s1 15 = s 15) (h17 : s1 17 = s 17) (h18 : s1 18 = s 18) (h20 : s1 20 = s 20) : spDue s1 one = spDue s one := by
  have hf : spFact s1 one = spFact s one := by
    funext day which
    simp only [spFact, spBest_cg2 h11 h13 h14 h15, h3, h15]
  have hh : spHelp s1 one = spHelp s one := by
    funext day
    simp only [spHelp, h1, h2, spRule_cg h4 h18 h20, hf, spHelpR_cg h17]
  funext month
  simp only [spDue, hh]
theorem spProven_cg2 {one : Nat} (h3 : s1 0 3 = s 0 3) (h11 : s1 11 = s 11) (h14 : ∀ k, s 11 k = (one : Int) → (s1 14 k = 1 ↔ s 14 k = 1)) : spProven s1 one = spProven s one := by
  unfold spProven
  rw [h3, h11]
  refine sumN_congr (fun k _ => ?_)
  by_cases q : s 11 k = (one : Int)
  · simp only [q, true_and, h14 k q]
  · rw [if_neg (fun z => q z.1), if_neg (fun z => q z.1)]
def spProveAt (s : gS) (f : Nat) : gS := up s 14 f 1
def spProve (s : gS) (f : Int) : gS := if okF s f && (okF s f && decide (s 14 f.toNat = 0)) then spProveAt s f.toNat else s
def qProve (s : gS) (f : Int) : Int := if okF s f && (okF s f && decide (s 14 f.toNat = 0)) then spForms (spProveAt s f.toNat) 0 else 0
def kProve (s : gS) (f : Int) : Int := th2 (okF s f) (okF s f && decide (s 14 f.toNat = 0))
theorem sum_prove {f : Nat} (hf : (f : Int) < s 0 3) (h0 : s 14 f = 0) : sumN (fun k => if spProveAt s f 14 k = 1 then 1 else 0) (s 0 3).toNat = sumN (fun k => if s 14 k = 1 then 1 else 0) (s 0 3).toNat + 1 := by
  have e14 : spProveAt s f 14 = gUp (s 14) f 1 := up_s _ _ _ _
  rw [e14, sumN_up (f := fun k => if s 14 k = 1 then (1 : Int) else 0) (j := f) (x := 1) (fun i hi => by rw [gUp_n _ _ hi]) (by rw [gUp_s, h0]; decide), if_pos (by omega)]
theorem spSpent_prove {f : Nat} (hf : (f : Int) < s 0 3) (h0 : s 14 f = 0) : spSpent (spProveAt s f) = spSpent s + 1 := by
  show s 0 1 + 5 * s 0 3 + sumN (fun k => if spProveAt s f 14 k = 1 then 1 else 0) (s 0 3).toNat + 5 * (s 0 4 - 1) = s 0 1 + 5 * s 0 3 + sumN (fun k => if s 14 k = 1 then 1 else 0) (s 0 3).toNat + 5 * (s 0 4 - 1) + 1
  rw [sum_prove hf h0]
  omega
theorem WF_proveAt (h : WF s) (hb : spSpent s ≤ 63) {f : Nat} (hf : (f : Int) < s 0 3) (h0 : s 14 f = 0) : WF (spProveAt s f) := by
  have hs := h.sc
  have e14 : spProveAt s f 14 = gUp (s 14) f 1 := up_s _ _ _ _
  have e0 : spProveAt s f 0 = s 0 := rfl
  have hform : ∀ g : Nat, (g : Int) < s 0 3 → wfForm (spProveAt s f) g := fun g hg => by
    have q := h.form hg
    unfold wfForm at q ⊢
    rw [e0, e14, show spProveAt s f 11 = s 11 from rfl, show spProveAt s f 12 = s 12 from rfl, show spProveAt s f 13 = s 13 from rfl, show spProveAt s f 15 = s 15 from rfl, show spProveAt s f 16 = s 16 from rfl]
    by_cases e : g = f
    · subst e
      rw [gUp_s]
      exact ⟨q.1, q.2.1, q.2.2.1, ⟨by decide, by decide, fun z => absurd z (by decide)⟩, q.2.2.2.2⟩
    · rw [gUp_n _ _ e]; exact q
  have h00 : WF0 (spProveAt s f) := ⟨hs, hform, fun r hr => h.rule hr⟩
  refine ⟨hs, h.tape, fun c hc => ⟨h.case hc, fun m hm => ?_, h.sum hc⟩, hform, fun r hr => h.rule hr, fun k hk => h.claim hk, by rw [spSpent_prove hf h0]; omega, fun j hj => h.zero hj⟩
  have q := h.paid (c := c) hc hm
  unfold wfPaid at q ⊢
  rw [e0, show spProveAt s f 6 = s 6 from rfl, show spProveAt s f 7 = s 7 from rfl]
  refine ⟨q.1, q.2.1, q.2.2.1, ?_, q.2.2.2.2⟩
  by_cases e : s 11 f = (c : Int)
  · have hd := spDue_r0 h00 c m
    have hp : spProven (spProveAt s f) c = spProven s c + 1 := by
      show sumN (fun k => if s 11 k = (c : Int) ∧ spProveAt s f 14 k = 1 then (1 : Int) else 0) (s 0 3).toNat = _
      rw [e14, sumN_up (f := fun k => if s 11 k = (c : Int) ∧ s 14 k = 1 then (1 : Int) else 0) (j := f) (x := 1) (fun i hi => by rw [gUp_n _ _ hi]) (by rw [gUp_s, h0, if_pos ⟨e, rfl⟩, if_neg (fun z => absurd z.2 (by decide))]; rfl), if_pos (by omega)]
      rfl
    have hr := spProven_r h c
    have hev : spEv s c + 1 ≤ spEv (spProveAt s f) c := by
      unfold spEv
      rw [hp, e0]
      unfold wfSc at hs
      rw [if_neg (show ¬ spProven s c + 1 = 0 by omega)]
      split <;> omega
    omega
  · have hi : ∀ k, s 11 k = (c : Int) → (spProveAt s f 14 k = 1 ↔ s 14 k = 1) := fun k hk => by
      rw [e14, gUp_n _ _ (fun z => e (by rw [← z]; exact hk))]
    have hdue : spDue (spProveAt s f) c = spDue s c := spDue_cg2 rfl rfl rfl rfl rfl rfl hi rfl rfl rfl rfl
    have hev : spEv (spProveAt s f) c = spEv s c := by
      unfold spEv
      rw [spProven_cg2 (s := s) (s1 := spProveAt s f) rfl rfl hi]
      rfl
    rw [hdue, hev]
    exact q.2.2.2.1
/-- a case ends -/
def spEndAt (s : gS) (c : Nat) : gS := up s 2 c (s 0 0)
def spEnd (s : gS) (c : Int) : gS := if okC s c && (okC s c && decide (s 2 c.toNat = -1)) then spEndAt s c.toNat else s
def qEnd (s : gS) (c : Int) : Int := if okC s c && (okC s c && decide (s 2 c.toNat = -1)) then s 0 2 - spEnded (spEndAt s c.toNat) else 0
def kEnd (s : gS) (c : Int) : Int := th2 (okC s c) (okC s c && decide (s 2 c.toNat = -1))
theorem WF_endAt (h : WF s) {c : Nat} (hc : (c : Int) < s 0 2) (h0 : s 2 c = -1) : WF (spEndAt s c) := by
  have hs := h.sc
  have e2 : spEndAt s c 2 = gUp (s 2) c (s 0 0) := up_s _ _ _ _
  have hh : ∀ (one : Nat) (day : Int), spHelp (spEndAt s c) one day ≤ spHelp s one day := fun one day => by
    have h9 := spHelpR_r h (spRule_lt h one day) (spFact_0 h one day) (spFact_1 h one day) (spFact_2 h one day)
    have a1 : spFact (spEndAt s c) = spFact s := spFact_cg rfl rfl rfl rfl rfl
    have a2 : spRule (spEndAt s c) = spRule s := spRule_cg rfl rfl rfl
    have a3 : spHelpR (spEndAt s c) = spHelpR s := spHelpR_cg rfl
    unfold spHelp
    rw [a1, a2, a3, e2, show spEndAt s c 1 = s 1 from rfl]
    by_cases e : one = c
    · subst e
      rw [gUp_s, h0]
      split
      · rename_i q
        rw [if_pos ⟨q.1, Or.inl rfl⟩]
        exact Int.le_refl _
      · split
        · exact h9.1
        · exact Int.le_refl _
    · rw [gUp_n _ _ e]
      exact Int.le_refl _
  have hd : ∀ (one : Nat) (m : Int), spDue (spEndAt s c) one m ≤ spDue s one m := fun one m => sumN_mono (fun i _ => by
    have := hh one (30 * m + i)
    show spHelp (spEndAt s c) one (30 * m + i) / 30 ≤ spHelp s one (30 * m + i) / 30
    omega)
  refine ⟨hs, h.tape, fun c' hc' => ⟨?_, fun m hm => ?_, h.sum hc'⟩, fun g hg => h.form hg, fun r hr => h.rule hr, fun k hk => h.claim hk, h.spent, fun j hj => h.zero hj⟩
  · have q := h.case hc'
    unfold wfCase at q ⊢
    rw [e2, show spEndAt s c 0 = s 0 from rfl, show spEndAt s c 1 = s 1 from rfl, show spEndAt s c 3 = s 3 from rfl, show spEndAt s c 4 = s 4 from rfl, show spEndAt s c 5 = s 5 from rfl, show spEndAt s c 8 = s 8 from rfl, show spEndAt s c 9 = s 9 from rfl, show spPaidTo (spEndAt s c) c' = spPaidTo s c' from rfl]
    by_cases e : c' = c
    · subst e
      rw [gUp_s]
      unfold wfSc at hs
      exact ⟨q.1, by omega, q.2.2⟩
    · rw [gUp_n _ _ e]; exact q
  · have q := h.paid (c := c') hc' hm
    have := hd c' m
    unfold wfPaid at q ⊢
    rw [show spEndAt s c 6 = s 6 from rfl, show spEndAt s c 7 = s 7 from rfl, show spEndAt s c 0 = s 0 from rfl, spEv_cg (s := s) (s1 := spEndAt s c) rfl rfl rfl rfl]
    exact ⟨q.1, q.2.1, q.2.2.1, by omega, q.2.2.2.2⟩
end
