/-! what the system computes, in plain Lean. A state is a table of rows of whole numbers. -/
set_option maxRecDepth 100000
/-- rows: 0 scalars (0 today 1 taped 2 cases 3 forms 4 rules 5 claims 6 claim room (model) 7 signs of output 9 at 10 claim room (list) 11 cases' room 12 forms' room 13 rules' room), 1 first, 2 end, 3 kept, 4 to tenants, 5 to landlords, 6 paid (51c+m), 7 claimed, 8 name's signs, 9 name (12c+i), 10 tape, 11 form's case, 12 came, 13 from, 14 state, 15 told (4f+j), 16 is from told, 17 numbers (5r+j), 18 rule's from, 19 court, 20 counts (10r+c), 21 closed, 22 told in a rule (5r+j), 23 claims (6k+j: case, month, came, cents, left, state), 24 read, 25 output -/
abbrev gS : Type := Nat → Nat → Int
def up (s : gS) (k i : Nat) (v : Int) : gS := fun a => if a = k then gUp (s k) i v else s a
theorem up_s (s : gS) (k i : Nat) (v : Int) : up s k i v k = gUp (s k) i v := if_pos rfl
theorem up_n (s : gS) {k a : Nat} (i : Nat) (v : Int) (h : a ≠ k) : up s k i v a = s a := if_neg h
/-- the form that tells a fact, none: -1 -/
def spBest (s : gS) (one : Nat) (day : Int) (which : Nat) : Nat → Int
  | 0 => -1
  | k + 1 => if s 11 k = one ∧ s 14 k = 1 ∧ s 15 (4 * k + which) ≠ -1 ∧ s 13 k ≤ day ∧ (spBest s one day which k = -1 ∨ s 13 (spBest s one day which k).toNat ≤ s 13 k) then (k : Int) else spBest s one day which k
def spFact (s : gS) (one : Nat) (day : Int) (which : Nat) : Int :=
  if spBest s one day which (s 0 3).toNat = -1 then (if which = 2 then 1 else 0) else s 15 (4 * (spBest s one day which (s 0 3).toNat).toNat + which)
def spRuleN (s : gS) (one : Nat) (day : Int) : Nat → Nat
  | 0 => 0
  | k + 1 => if s 20 (10 * k + one) = 1 ∧ s 18 k ≤ day then k else spRuleN s one day k
def spRule (s : gS) (one : Nat) (day : Int) : Nat := spRuleN s one day (s 0 4).toNat
def spHelpR (s : gS) (r : Nat) (rent income heads : Int) : Int :=
  if min rent (s 17 (5 * r) * heads) * s 17 (5 * r + 1) / 100 - max 0 (income - s 17 (5 * r + 2) * heads) * s 17 (5 * r + 3) / 100 < s 17 (5 * r + 4) then 0
  else min rent (s 17 (5 * r) * heads) * s 17 (5 * r + 1) / 100 - max 0 (income - s 17 (5 * r + 2) * heads) * s 17 (5 * r + 3) / 100
def spHelp (s : gS) (one : Nat) (day : Int) : Int :=
  if s 1 one ≤ day ∧ (s 2 one = -1 ∨ day ≤ s 2 one) then spHelpR s (spRule s one day) (spFact s one day 0) (spFact s one day 1) (spFact s one day 2) else 0
def spDue (s : gS) (one : Nat) (month : Int) : Int := sumN (fun d => spHelp s one (30 * month + d) / 30) 30
def spLeft (s : gS) (one : Nat) (firm : Bool) : Int := sumN (fun k => if s 23 (6 * k) = one ∧ (firm = false ∨ s 23 (6 * k + 5) = 2) then s 23 (6 * k + 4) else 0) (s 0 5).toNat
def spForms (s : gS) (st : Int) : Int := sumN (fun k => if s 14 k = st then 1 else 0) (s 0 3).toNat
def spClaims (s : gS) (st : Int) : Int := sumN (fun k => if s 23 (6 * k + 5) = st then 1 else 0) (s 0 5).toNat
def spFormsOf (s : gS) (one : Nat) : Int := sumN (fun k => if s 11 k = one then 1 else 0) (s 0 3).toNat
def spClaimsOf (s : gS) (one : Nat) : Int := sumN (fun k => if s 23 (6 * k) = one then 1 else 0) (s 0 5).toNat
def spEnded (s : gS) : Int := sumN (fun k => if s 2 k = -1 then 0 else 1) (s 0 2).toNat
def spPaidTo (s : gS) (c : Nat) : Int := sumN (fun m => s 6 (51 * c + m)) 51
/-- forms that were proven, of a case; what may come of them -/
def spProven (s : gS) (one : Nat) : Int := sumN (fun k => if s 11 k = one ∧ s 14 k = 1 then 1 else 0) (s 0 3).toNat
def spEv (s : gS) (one : Nat) : Int := if spProven s one = 0 then 0 else spProven s one + (s 0 4 - 1)
/-- what is spent of the script -/
def spSpent (s : gS) : Int := s 0 1 + 5 * s 0 3 + sumN (fun k => if s 14 k = 1 then 1 else 0) (s 0 3).toNat + 5 * (s 0 4 - 1)
/-- ranges -/
def wfSc (s : gS) : Prop := (0 ≤ s 0 0 ∧ s 0 0 ≤ 1500) ∧ (0 ≤ s 0 1 ∧ s 0 1 ≤ 60) ∧ (0 ≤ s 0 2 ∧ s 0 2 ≤ 10) ∧ (0 ≤ s 0 3 ∧ s 0 3 ≤ 60) ∧ (1 ≤ s 0 4 ∧ s 0 4 ≤ 12) ∧ (0 ≤ s 0 5 ∧ s 0 5 ≤ 500 * (s 0 0 / 30)) ∧ (96 ≤ s 0 6 ∧ 6 * s 0 5 ≤ s 0 6 ∧ s 0 6 ≤ 12 * s 0 5 + 96 ∧ s 0 6 % 6 = 0) ∧ (0 ≤ s 0 7 ∧ s 0 7 ≤ 100) ∧ (0 ≤ s 0 9 ∧ s 0 9 ≤ 60) ∧ (1 ≤ s 0 10 ∧ s 0 5 ≤ s 0 10 ∧ s 0 10 ≤ 2 * s 0 5 + 2) ∧ (1 ≤ s 0 11 ∧ s 0 2 ≤ s 0 11 ∧ s 0 11 ≤ 2 * s 0 2 + 2) ∧ (1 ≤ s 0 12 ∧ s 0 3 ≤ s 0 12 ∧ s 0 12 ≤ 2 * s 0 3 + 2) ∧ (1 ≤ s 0 13 ∧ s 0 4 ≤ s 0 13 ∧ s 0 13 ≤ 2 * s 0 4 + 2)
def wfSign (x : Int) : Prop := 32 ≤ x ∧ x ≤ 1114111 ∧ ¬ (55296 ≤ x ∧ x ≤ 57343)
def wfTape (s : gS) : Prop := ∀ i : Nat, (i : Int) < s 0 1 → wfSign (s 10 i)
def wfCase (s : gS) (c : Nat) : Prop := (0 ≤ s 1 c ∧ s 1 c ≤ s 0 0) ∧ (-1 ≤ s 2 c ∧ s 2 c ≤ s 0 0) ∧ (0 ≤ s 3 c ∧ 0 ≤ s 4 c ∧ 0 ≤ s 5 c ∧ s 3 c + s 4 c + s 5 c = spPaidTo s c) ∧ (1 ≤ s 8 c ∧ s 8 c ≤ 12) ∧ (∀ i : Nat, (i : Int) < s 8 c → wfSign (s 9 (12 * c + i)))
def wfPaid (s : gS) (c m : Nat) : Prop := 0 ≤ s 7 (51 * c + m) ∧ s 7 (51 * c + m) ≤ s 6 (51 * c + m) ∧ s 6 (51 * c + m) - s 7 (51 * c + m) ≤ 1000000 ∧ s 6 (51 * c + m) + max 0 (spDue s c m - (s 6 (51 * c + m) - s 7 (51 * c + m))) ≤ 1000000 * spEv s c ∧ (s 0 0 / 30 < m → s 6 (51 * c + m) = 0)
def wfForm (s : gS) (f : Nat) : Prop := (0 ≤ s 11 f ∧ s 11 f < s 0 2) ∧ (0 ≤ s 12 f ∧ s 12 f ≤ s 0 0) ∧ (0 ≤ s 13 f ∧ s 13 f ≤ 1600) ∧ (0 ≤ s 14 f ∧ s 14 f ≤ 2 ∧ (s 14 f = 0 → s 0 0 ≤ s 12 f + 20)) ∧ (-1 ≤ s 15 (4 * f) ∧ s 15 (4 * f) ≤ 1000000) ∧ (-1 ≤ s 15 (4 * f + 1) ∧ s 15 (4 * f + 1) ≤ 9999999) ∧ (s 15 (4 * f + 2) = -1 ∨ 1 ≤ s 15 (4 * f + 2) ∧ s 15 (4 * f + 2) ≤ 9) ∧ (-1 ≤ s 15 (4 * f + 3) ∧ s 15 (4 * f + 3) ≤ 1) ∧ (s 16 f = 0 ∨ s 16 f = 1)
def wfRule (s : gS) (r : Nat) : Prop := ((0 ≤ s 17 (5 * r) ∧ s 17 (5 * r) ≤ 1000000) ∧ (0 ≤ s 17 (5 * r + 1) ∧ s 17 (5 * r + 1) ≤ 100) ∧ (0 ≤ s 17 (5 * r + 2) ∧ s 17 (5 * r + 2) ≤ 9999999) ∧ (0 ≤ s 17 (5 * r + 3) ∧ s 17 (5 * r + 3) ≤ 100) ∧ (0 ≤ s 17 (5 * r + 4) ∧ s 17 (5 * r + 4) ≤ 1000000)) ∧ (0 ≤ s 18 r ∧ s 18 r ≤ 1500) ∧ (s 19 r = 0 ∨ s 19 r = 1) ∧ (∀ c : Nat, c < 10 → (s 21 (10 * r + c) = 0 ∨ s 21 (10 * r + c) = 1) ∧ ((c : Int) < s 0 2 → s 20 (10 * r + c) = if s 19 r = 1 ∧ s 21 (10 * r + c) = 1 then 0 else 1) ∧ (s 0 2 ≤ (c : Int) → s 21 (10 * r + c) = 0)) ∧ (r = 0 → s 18 r = 0 ∧ s 19 r = 0) ∧ (∀ j : Nat, j < 5 → s 22 (5 * r + j) = 0 ∨ s 22 (5 * r + j) = 1)
def wfClaim (s : gS) (k : Nat) : Prop := (0 ≤ s 23 (6 * k) ∧ s 23 (6 * k) < s 0 2) ∧ (0 ≤ s 23 (6 * k + 1) ∧ s 23 (6 * k + 1) ≤ 50) ∧ (0 ≤ s 23 (6 * k + 2) ∧ s 23 (6 * k + 2) ≤ s 0 0) ∧ (0 < s 23 (6 * k + 3) ∧ s 23 (6 * k + 3) ≤ 1000000) ∧ (0 ≤ s 23 (6 * k + 4) ∧ s 23 (6 * k + 4) ≤ s 23 (6 * k + 3)) ∧ (0 ≤ s 23 (6 * k + 5) ∧ s 23 (6 * k + 5) ≤ 3) ∧ (s 23 (6 * k + 5) = 0 → s 0 0 ≤ s 23 (6 * k + 2) + 14) ∧ (s 23 (6 * k + 5) = 2 → 0 < s 23 (6 * k + 4)) ∧ (s 23 (6 * k + 5) = 3 → s 23 (6 * k + 4) = 0) ∧ (s 23 (6 * k + 5) ≤ 1 → s 23 (6 * k + 4) = s 23 (6 * k + 3))
/-- the claims of a case's month come to what was claimed -/
def wfSum (s : gS) (c : Nat) : Prop := sumN (fun k => if s 23 (6 * k) = c then s 23 (6 * k + 3) else 0) (s 0 5).toNat = sumN (fun m => s 7 (51 * c + m)) 51
def WF (s : gS) : Prop := wfSc s ∧ wfTape s ∧ (∀ c : Nat, (c : Int) < s 0 2 → wfCase s c ∧ (∀ m : Nat, m < 51 → wfPaid s c m) ∧ wfSum s c) ∧ (∀ f : Nat, (f : Int) < s 0 3 → wfForm s f) ∧ (∀ r : Nat, (r : Int) < s 0 4 → wfRule s r) ∧ (∀ k : Nat, (k : Int) < s 0 5 → wfClaim s k) ∧ spSpent s ≤ 64 ∧ ∀ j : Nat, s 0 6 ≤ (j : Int) → s 23 j = 0
theorem WF.sc {s : gS} (h : WF s) : wfSc s := h.1
theorem WF.case {s : gS} (h : WF s) {c : Nat} (hc : (c : Int) < s 0 2) : wfCase s c := (h.2.2.1 c hc).1
theorem WF.paid {s : gS} (h : WF s) {c m : Nat} (hc : (c : Int) < s 0 2) (hm : m < 51) : wfPaid s c m := (h.2.2.1 c hc).2.1 m hm
theorem WF.sum {s : gS} (h : WF s) {c : Nat} (hc : (c : Int) < s 0 2) : wfSum s c := (h.2.2.1 c hc).2.2
theorem WF.form {s : gS} (h : WF s) {f : Nat} (hf : (f : Int) < s 0 3) : wfForm s f := h.2.2.2.1 f hf
theorem WF.rule {s : gS} (h : WF s) {r : Nat} (hr : (r : Int) < s 0 4) : wfRule s r := h.2.2.2.2.1 r hr
theorem WF.claim {s : gS} (h : WF s) {k : Nat} (hk : (k : Int) < s 0 5) : wfClaim s k := h.2.2.2.2.2.1 k hk
theorem WF.spent {s : gS} (h : WF s) : spSpent s ≤ 64 := h.2.2.2.2.2.2.1
theorem WF.zero {s : gS} (h : WF s) {j : Nat} (hj : s 0 6 ≤ (j : Int)) : s 23 j = 0 := h.2.2.2.2.2.2.2 j hj
theorem WF.tape {s : gS} (h : WF s) : wfTape s := h.2.1
theorem spBest_r (s : gS) (one : Nat) (day : Int) (which : Nat) : ∀ k : Nat, spBest s one day which k = -1 ∨ ∃ b : Nat, spBest s one day which k = b ∧ b < k ∧ s 11 b = one ∧ s 14 b = 1 ∧ s 15 (4 * b + which) ≠ -1 ∧ s 13 b ≤ day
  | 0 => Or.inl rfl
  | k + 1 => by
    unfold spBest
    split
    · rename_i h; exact Or.inr ⟨k, rfl, by omega, h.1, h.2.1, h.2.2.1, h.2.2.2.1⟩
    · rcases spBest_r s one day which k with h | ⟨b, h1, h2, h3⟩
      · exact Or.inl h
      · exact Or.inr ⟨b, h1, by omega, h3⟩
/-- the ranges that help hangs on -/
def WF0 (s : gS) : Prop := wfSc s ∧ (∀ f : Nat, (f : Int) < s 0 3 → wfForm s f) ∧ ∀ r : Nat, (r : Int) < s 0 4 → wfRule s r
theorem WF0.form {s : gS} (h : WF0 s) {f : Nat} (hf : (f : Int) < s 0 3) : wfForm s f := h.2.1 f hf
theorem WF0.rule {s : gS} (h : WF0 s) {r : Nat} (hr : (r : Int) < s 0 4) : wfRule s r := h.2.2 r hr
theorem WF.to0 {s : gS} (h : WF s) : WF0 s := ⟨h.1, h.2.2.2.1, h.2.2.2.2.1⟩
theorem spFact_told0 {s : gS} (h : WF0 s) (one : Nat) (day : Int) (which : Nat) : spFact s one day which = (if which = 2 then 1 else 0) ∨ ∃ b : Nat, (b : Int) < s 0 3 ∧ spFact s one day which = s 15 (4 * b + which) ∧ s 15 (4 * b + which) ≠ -1 ∧ s 11 b = one ∧ s 14 b = 1 := by
  have h1 := h.1
  unfold wfSc at h1
  unfold spFact
  split
  · exact Or.inl rfl
  · rename_i hb
    rcases spBest_r s one day which (s 0 3).toNat with h2 | ⟨b, h2, h3, h4, h5, h6, -⟩
    · exact absurd h2 hb
    · exact Or.inr ⟨b, by omega, by rw [h2]; rfl, h6, h4, h5⟩
theorem spFact_00 {s : gS} (h : WF0 s) (one : Nat) (day : Int) : 0 ≤ spFact s one day 0 ∧ spFact s one day 0 ≤ 1000000 := by
  rcases spFact_told0 h one day 0 with e | ⟨b, hb, e, n, -, -⟩
  · rw [e]; decide
  · have := (h.form hb).2.2.2.2.1; rw [e]; simp only [Nat.add_zero] at n ⊢; omega
theorem spFact_10 {s : gS} (h : WF0 s) (one : Nat) (day : Int) : 0 ≤ spFact s one day 1 ∧ spFact s one day 1 ≤ 9999999 := by
  rcases spFact_told0 h one day 1 with e | ⟨b, hb, e, n, -, -⟩
  · rw [e]; decide
  · have := (h.form hb).2.2.2.2.2.1; rw [e]; omega
theorem spFact_20 {s : gS} (h : WF0 s) (one : Nat) (day : Int) : 1 ≤ spFact s one day 2 ∧ spFact s one day 2 ≤ 9 := by
  rcases spFact_told0 h one day 2 with e | ⟨b, hb, e, n, -, -⟩
  · rw [e]; decide
  · have := (h.form hb).2.2.2.2.2.2.1; rw [e]; omega
theorem spFact_30 {s : gS} (h : WF0 s) (one : Nat) (day : Int) : 0 ≤ spFact s one day 3 ∧ spFact s one day 3 ≤ 1 := by
  rcases spFact_told0 h one day 3 with e | ⟨b, hb, e, n, -, -⟩
  · rw [e]; decide
  · have := (h.form hb).2.2.2.2.2.2.2.1; rw [e]; omega
theorem spRuleN_lt (s : gS) (one : Nat) (day : Int) : ∀ {k : Nat}, 0 < k → spRuleN s one day k < k
  | k + 1, _ => by
    unfold spRuleN
    split
    · omega
    · cases k with
      | zero => exact Nat.lt_succ_self 0
      | succ k => have := spRuleN_lt s one day (k := k + 1) (by omega); omega
theorem spRule_lt0 {s : gS} (h : WF0 s) (one : Nat) (day : Int) : ((spRule s one day : Nat) : Int) < s 0 4 := by
  have h1 := h.1
  unfold wfSc at h1
  have := spRuleN_lt s one day (k := (s 0 4).toNat) (by omega)
  unfold spRule
  omega
/-- what help comes of: the parts, in range -/
theorem spHelp_parts0 {s : gS} (h : WF0 s) {r : Nat} (hr : (r : Int) < s 0 4) {rent income heads : Int} (h0 : 0 ≤ rent ∧ rent ≤ 1000000) (h1 : 0 ≤ income ∧ income ≤ 9999999) (h2 : 1 ≤ heads ∧ heads ≤ 9) :
    (0 ≤ s 17 (5 * r) * heads ∧ s 17 (5 * r) * heads ≤ 9000000) ∧ (0 ≤ min rent (s 17 (5 * r) * heads) * s 17 (5 * r + 1) ∧ min rent (s 17 (5 * r) * heads) * s 17 (5 * r + 1) ≤ 100000000) ∧ (0 ≤ s 17 (5 * r + 2) * heads ∧ s 17 (5 * r + 2) * heads ≤ 90000000) ∧ (0 ≤ max 0 (income - s 17 (5 * r + 2) * heads) * s 17 (5 * r + 3) ∧ max 0 (income - s 17 (5 * r + 2) * heads) * s 17 (5 * r + 3) ≤ 1000000000) := by
  obtain ⟨⟨⟨a1, a2⟩, ⟨b1, b2⟩, ⟨c1, c2⟩, ⟨d1, d2⟩, -⟩, -⟩ := h.rule hr
  have m1 := Int.mul_nonneg a1 (show 0 ≤ heads by omega)
  have m2 := Int.mul_le_mul a2 h2.2 (by omega) (by omega)
  have m3 := Int.mul_nonneg c1 (show 0 ≤ heads by omega)
  have m4 := Int.mul_le_mul c2 h2.2 (by omega) (by omega)
  have m5 := Int.mul_nonneg (show 0 ≤ min rent (s 17 (5 * r) * heads) by omega) b1
  have m6 := Int.mul_le_mul (show min rent (s 17 (5 * r) * heads) ≤ 1000000 by omega) b2 b1 (by omega)
  have m7 := Int.mul_nonneg (show 0 ≤ max 0 (income - s 17 (5 * r + 2) * heads) by omega) d1
  have m8 := Int.mul_le_mul (show max 0 (income - s 17 (5 * r + 2) * heads) ≤ 9999999 by omega) d2 d1 (by omega)
  refine ⟨⟨m1, by omega⟩, ⟨m5, by omega⟩, ⟨m3, by omega⟩, m7, by omega⟩
theorem spHelpR_r0 {s : gS} (h : WF0 s) {r : Nat} (hr : (r : Int) < s 0 4) {rent income heads : Int} (h0 : 0 ≤ rent ∧ rent ≤ 1000000) (h1 : 0 ≤ income ∧ income ≤ 9999999) (h2 : 1 ≤ heads ∧ heads ≤ 9) : 0 ≤ spHelpR s r rent income heads ∧ spHelpR s r rent income heads ≤ 1000000 := by
  have hp := spHelp_parts0 h hr h0 h1 h2
  have h9 := (h.rule hr).1.2.2.2.2
  unfold spHelpR
  split <;> omega
theorem spHelp_r0 {s : gS} (h : WF0 s) (one : Nat) (day : Int) : 0 ≤ spHelp s one day ∧ spHelp s one day ≤ 1000000 := by
  unfold spHelp
  split
  · exact spHelpR_r0 h (spRule_lt0 h one day) (spFact_00 h one day) (spFact_10 h one day) (spFact_20 h one day)
  · decide
theorem sumN_r {f : Nat → Int} {a b : Int} : ∀ {n : Nat}, (∀ i, i < n → a ≤ f i ∧ f i ≤ b) → a * n ≤ sumN f n ∧ sumN f n ≤ b * n
  | 0, _ => by simp [sumN]
  | n + 1, h => by
    have h1 := sumN_r (n := n) (fun i hi => h i (by omega))
    have h2 := h n (by omega)
    rw [sumN, Int.natCast_add, Int.mul_add, Int.mul_add]
    omega
theorem sumN_nn {f : Nat → Int} {n : Nat} (h : ∀ i, i < n → 0 ≤ f i) : 0 ≤ sumN f n := by
  induction n with
  | zero => exact Int.le_refl 0
  | succ n ih => have := ih (fun i hi => h i (by omega)); have := h n (by omega); rw [sumN]; omega
theorem sumN_mono {f g : Nat → Int} {n : Nat} (h : ∀ i, i < n → f i ≤ g i) : sumN f n ≤ sumN g n := by
  induction n with
  | zero => exact Int.le_refl 0
  | succ n ih => have := ih (fun i hi => h i (by omega)); have := h n (by omega); rw [sumN, sumN]; omega
/-- part of a sum of numbers that aren't negative -/
theorem sumN_part {f : Nat → Int} {n : Nat} : ∀ {m : Nat}, (∀ i, i < m → 0 ≤ f i) → n ≤ m → sumN f n ≤ sumN f m
  | 0, _, hn => by rw [show n = 0 by omega]; exact Int.le_refl _
  | m + 1, h, hn => by
    by_cases e : n = m + 1
    · rw [e]; exact Int.le_refl _
    · have h1 := sumN_part (n := n) (m := m) (fun i hi => h i (by omega)) (by omega)
      have h2 := h m (by omega)
      rw [sumN]; omega
theorem spDueN_r0 {s : gS} (h : WF0 s) (one : Nat) (month : Int) {n : Nat} : 0 ≤ sumN (fun d => spHelp s one (30 * month + d) / 30) n ∧ sumN (fun d => spHelp s one (30 * month + d) / 30) n ≤ 33333 * n := by
  have := sumN_r (f := fun d => spHelp s one (30 * month + d) / 30) (a := 0) (b := 33333) (n := n) (fun i _ => by have := spHelp_r0 h one (30 * month + i); show 0 ≤ spHelp s one (30 * month + i) / 30 ∧ spHelp s one (30 * month + i) / 30 ≤ 33333; omega)
  omega
theorem spDue_r0 {s : gS} (h : WF0 s) (one : Nat) (month : Int) : 0 ≤ spDue s one month ∧ spDue s one month ≤ 999990 := by
  have := spDueN_r0 h one month (n := 30)
  unfold spDue
  omega
theorem spFact_told {s : gS} (h : WF s) (one : Nat) (day : Int) (which : Nat) : spFact s one day which = (if which = 2 then 1 else 0) ∨ ∃ b : Nat, (b : Int) < s 0 3 ∧ spFact s one day which = s 15 (4 * b + which) ∧ s 15 (4 * b + which) ≠ -1 ∧ s 11 b = one ∧ s 14 b = 1 := spFact_told0 h.to0 one day which
theorem spFact_0 {s : gS} (h : WF s) (one : Nat) (day : Int) : 0 ≤ spFact s one day 0 ∧ spFact s one day 0 ≤ 1000000 := spFact_00 h.to0 one day
theorem spFact_1 {s : gS} (h : WF s) (one : Nat) (day : Int) : 0 ≤ spFact s one day 1 ∧ spFact s one day 1 ≤ 9999999 := spFact_10 h.to0 one day
theorem spFact_2 {s : gS} (h : WF s) (one : Nat) (day : Int) : 1 ≤ spFact s one day 2 ∧ spFact s one day 2 ≤ 9 := spFact_20 h.to0 one day
theorem spFact_3 {s : gS} (h : WF s) (one : Nat) (day : Int) : 0 ≤ spFact s one day 3 ∧ spFact s one day 3 ≤ 1 := spFact_30 h.to0 one day
theorem spRule_lt {s : gS} (h : WF s) (one : Nat) (day : Int) : ((spRule s one day : Nat) : Int) < s 0 4 := spRule_lt0 h.to0 one day
theorem spHelp_parts {s : gS} (h : WF s) {r : Nat} (hr : (r : Int) < s 0 4) {rent income heads : Int} (h0 : 0 ≤ rent ∧ rent ≤ 1000000) (h1 : 0 ≤ income ∧ income ≤ 9999999) (h2 : 1 ≤ heads ∧ heads ≤ 9) :
    (0 ≤ s 17 (5 * r) * heads ∧ s 17 (5 * r) * heads ≤ 9000000) ∧ (0 ≤ min rent (s 17 (5 * r) * heads) * s 17 (5 * r + 1) ∧ min rent (s 17 (5 * r) * heads) * s 17 (5 * r + 1) ≤ 100000000) ∧ (0 ≤ s 17 (5 * r + 2) * heads ∧ s 17 (5 * r + 2) * heads ≤ 90000000) ∧ (0 ≤ max 0 (income - s 17 (5 * r + 2) * heads) * s 17 (5 * r + 3) ∧ max 0 (income - s 17 (5 * r + 2) * heads) * s 17 (5 * r + 3) ≤ 1000000000) := spHelp_parts0 h.to0 (r := r) hr (rent := rent) (income := income) (heads := heads) h0 h1 h2
theorem spHelpR_r {s : gS} (h : WF s) {r : Nat} (hr : (r : Int) < s 0 4) {rent income heads : Int} (h0 : 0 ≤ rent ∧ rent ≤ 1000000) (h1 : 0 ≤ income ∧ income ≤ 9999999) (h2 : 1 ≤ heads ∧ heads ≤ 9) : 0 ≤ spHelpR s r rent income heads ∧ spHelpR s r rent income heads ≤ 1000000 := spHelpR_r0 h.to0 (r := r) hr (rent := rent) (income := income) (heads := heads) h0 h1 h2
theorem spHelp_r {s : gS} (h : WF s) (one : Nat) (day : Int) : 0 ≤ spHelp s one day ∧ spHelp s one day ≤ 1000000 := spHelp_r0 h.to0 one day
theorem spDueN_r {s : gS} (h : WF s) (one : Nat) (month : Int) {n : Nat} : 0 ≤ sumN (fun d => spHelp s one (30 * month + d) / 30) n ∧ sumN (fun d => spHelp s one (30 * month + d) / 30) n ≤ 33333 * n := spDueN_r0 h.to0 one month (n := n)
theorem spDue_r {s : gS} (h : WF s) (one : Nat) (month : Int) : 0 ≤ spDue s one month ∧ spDue s one month ≤ 999990 := spDue_r0 h.to0 one month
theorem spBest_b (s : gS) (one : Nat) (day : Int) (which k : Nat) : -1 ≤ spBest s one day which k ∧ spBest s one day which k < k := by
  rcases spBest_r s one day which k with h | ⟨b, h1, h2, -⟩ <;> omega
theorem spBest_pos {s : gS} {one : Nat} {day : Int} {which k : Nat} (h : s 11 k = one ∧ s 14 k = 1 ∧ s 15 (4 * k + which) ≠ -1 ∧ s 13 k ≤ day ∧ (spBest s one day which k = -1 ∨ s 13 (spBest s one day which k).toNat ≤ s 13 k)) : spBest s one day which (k + 1) = k := if_pos h
theorem spBest_neg {s : gS} {one : Nat} {day : Int} {which k : Nat} (h : ¬ (s 11 k = one ∧ s 14 k = 1 ∧ s 15 (4 * k + which) ≠ -1 ∧ s 13 k ≤ day ∧ (spBest s one day which k = -1 ∨ s 13 (spBest s one day which k).toNat ≤ s 13 k))) : spBest s one day which (k + 1) = spBest s one day which k := if_neg h
theorem spBest_nat {s : gS} {one : Nat} {day : Int} {which k : Nat} (h : spBest s one day which k ≠ -1) : ∃ b : Nat, spBest s one day which k = b ∧ b < k := by
  rcases spBest_r s one day which k with h1 | ⟨b, h1, h2, -⟩
  · exact absurd h1 h
  · exact ⟨b, h1, h2⟩
theorem told_r {s : gS} {i which : Nat} (hf : wfForm s i) (hw : which < 4) : -1 ≤ s 15 (4 * i + which) ∧ s 15 (4 * i + which) ≤ 9999999 := by
  unfold wfForm at hf
  have : which = 0 ∨ which = 1 ∨ which = 2 ∨ which = 3 := by omega
  rcases this with rfl | rfl | rfl | rfl
  · rw [Nat.add_zero]; omega
  · omega
  · omega
  · omega
