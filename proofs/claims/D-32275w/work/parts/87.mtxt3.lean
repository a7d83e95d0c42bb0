/-! AppealrentModel: a whole text, word by word -/
set_option maxRecDepth 100000
section
variable {E : gE} {l : Launch} {M M1 : gM} {A : Nat → Nat} {s s1 : gS} {t t1 : Int}
theorem skN_ns (T : Nat → Int) : ∀ f a : Nat, skN T f a = a + f ∨ T (skN T f a) ≠ 32
  | 0, a => Or.inl rfl
  | f + 1, a => by
    unfold skN
    split
    · rcases skN_ns T f (a + 1) with h | h
      · exact Or.inl (by omega)
      · exact Or.inr h
    · rename_i h; exact Or.inr h
def noSp (s : gS) : Prop := s 0 9 < s 0 1 → s 10 (s 0 9).toNat ≠ 32
theorem passW_ns (h : WF s) (hle : s 0 9 ≤ s 0 1) : noSp (spPassW s) := by
  have hs := h.sc
  unfold wfSc at hs
  have h1 := spWend_le h hle
  intro hlt
  have e : spPassW s 0 9 = (spSkip s (spWend s (s 0 9).toNat) : Nat) := by rw [spPassW, up_s, gUp_s]
  have e1 : spPassW s 0 1 = s 0 1 := rfl
  rw [e, e1] at hlt
  rw [e, Int.toNat_natCast]
  show s 10 _ ≠ 32
  rcases skN_ns (s 10) ((s 0 1).toNat - spWend s (s 0 9).toNat) (spWend s (s 0 9).toNat) with q | q
  · unfold spSkip at hlt; omega
  · exact q
theorem here_ns (h : WF s) (hle : s 0 9 ≤ s 0 1) (hn : noSp s) (form : Bool) (w : Nat) : noSp (spHere s form w) := by
  unfold spHere spFactHere spReads
  repeat' split
  all_goals first | exact hn | exact passW_ns h hle
theorem qReads_r {lo hi : Int} (hlo : 0 ≤ lo) (hhi : hi ≤ 10000000) : -1 ≤ qReads s lo hi ∧ qReads s lo hi ≤ 10000000 := by
  unfold qReads spNum
  split <;> omega
theorem qHere_r (h : WF s) (form : Bool) (w : Nat) : -1 ≤ qHere s form w ∧ qHere s form w ≤ 10000000 := by
  have hs := h.sc
  unfold wfSc at hs
  unfold qHere
  split
  · unfold qFactHere
    split
    · unfold toF; repeat' split
      all_goals omega
    · refine qReads_r ?_ ?_
      · unfold loF; repeat' split
        all_goals omega
      · unfold hiF; repeat' split
        all_goals omega
  · refine qReads_r (Int.le_refl _) ?_
    unfold hiN; repeat' split
    all_goals omega
end
