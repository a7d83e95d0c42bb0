/-! the plain law: a text of a form or a rule, word by word -/
set_option maxRecDepth 100000
section
variable {s s1 : gS}
/-- the reading has moved on: only the place (scalar 9) differs -/
theorem WF_passW (h : WF s) : WF (spPassW s) := by
  have h1 := spWend_r h
  have h2 := spSkip_r h (a := spWend s (s 0 9).toNat) h1.2
  exact h.at9 ⟨by omega, by omega⟩
theorem WF_reads (h : WF s) (lo hi : Int) : WF (spReads s lo hi) := by
  unfold spReads
  split
  · exact h
  · exact WF_passW h
theorem WF_factHere (h : WF s) (w : Nat) : WF (spFactHere s w) := by
  unfold spFactHere
  split
  · split
    · exact h
    · exact WF_passW h
  · exact WF_reads h _ _
theorem WF_read (h : WF s) (i : Nat) (v : Int) : WF (up s 24 i v) := by
  have hs := h.sc
  unfold wfSc at hs
  exact h.cg (fun k _ h24 _ => up_n s i v h24) (fun j _ _ _ => rfl) (by show 0 ≤ s 0 7 ∧ s 0 7 ≤ 100; omega) (by show 0 ≤ s 0 9 ∧ s 0 9 ≤ 60; omega)
/-- a place within the tape stays there; behind a word it has moved -/
theorem spWend_le (h : WF s) (hle : s 0 9 ≤ s 0 1) : (spWend s (s 0 9).toNat : Int) ≤ s 0 1 := by
  have hs := h.sc
  unfold wfSc at hs
  have := weN_r (s 10) ((s 0 1).toNat - (s 0 9).toNat) (s 0 9).toNat
  unfold spWend
  omega
theorem passW_at (h : WF s) (hle : s 0 9 ≤ s 0 1) : s 0 9 ≤ spPassW s 0 9 ∧ spPassW s 0 9 ≤ s 0 1 ∧ spPassW s 0 1 = s 0 1 := by
  have hs := h.sc
  unfold wfSc at hs
  have h1 := spWend_le h hle
  have h2 := weN_r (s 10) ((s 0 1).toNat - (s 0 9).toNat) (s 0 9).toNat
  have h3 := skN_r (s 10) ((s 0 1).toNat - spWend s (s 0 9).toNat) (spWend s (s 0 9).toNat)
  have e : spPassW s 0 9 = (spSkip s (spWend s (s 0 9).toNat) : Nat) := by rw [spPassW, up_s, gUp_s]
  refine ⟨?_, ?_, rfl⟩
  · rw [e]; unfold spSkip; unfold spWend at h3 ⊢; omega
  · rw [e]; unfold spSkip; omega
/-- behind a word that begins with no space the place has moved -/
theorem passW_lt (h : WF s) (hlt : s 0 9 < s 0 1) (hw : s 10 (s 0 9).toNat ≠ 32) : s 0 9 < spPassW s 0 9 := by
  have hs := h.sc
  unfold wfSc at hs
  obtain ⟨f, hf⟩ : ∃ f, (s 0 1).toNat - (s 0 9).toNat = f + 1 := ⟨(s 0 1).toNat - (s 0 9).toNat - 1, by omega⟩
  have hwe : spWend s (s 0 9).toNat = weN (s 10) f ((s 0 9).toNat + 1) := by rw [spWend, hf, weN, if_neg hw]
  have h2 := weN_r (s 10) f ((s 0 9).toNat + 1)
  have h3 := skN_r (s 10) ((s 0 1).toNat - spWend s (s 0 9).toNat) (spWend s (s 0 9).toNat)
  have e : spPassW s 0 9 = (spSkip s (spWend s (s 0 9).toNat) : Nat) := by rw [spPassW, up_s, gUp_s]
  rw [e]
  unfold spSkip
  omega
theorem reads_at (h : WF s) (hle : s 0 9 ≤ s 0 1) (lo hi : Int) : s 0 9 ≤ spReads s lo hi 0 9 ∧ spReads s lo hi 0 9 ≤ s 0 1 ∧ spReads s lo hi 0 1 = s 0 1 := by
  unfold spReads
  split
  · exact ⟨Int.le_refl _, hle, rfl⟩
  · exact passW_at h hle
theorem factHere_at (h : WF s) (hle : s 0 9 ≤ s 0 1) (w : Nat) : s 0 9 ≤ spFactHere s w 0 9 ∧ spFactHere s w 0 9 ≤ s 0 1 ∧ spFactHere s w 0 1 = s 0 1 := by
  unfold spFactHere
  split
  · split
    · exact ⟨Int.le_refl _, hle, rfl⟩
    · exact passW_at h hle
  · exact reads_at h hle _ _
/-- the words of forms and of rules -/
def wdOf (form : Bool) (k : Nat) : Nat := if form then 3 + k else 10 + k
/-- which word stands there, of those that weren't told; none: -1 -/
def spWhich (s : gS) (form : Bool) : Nat → Int
  | 0 => -1
  | k + 1 => if s 24 k = -1 ∧ spSees s (gTxt (wdOf form k)) = true then (k : Int) else spWhich s form k
theorem spWhich_r (s : gS) (form : Bool) : ∀ k : Nat, -1 ≤ spWhich s form k ∧ spWhich s form k < k
  | 0 => by unfold spWhich; omega
  | k + 1 => by
    unfold spWhich
    split
    · omega
    · have := spWhich_r s form k; omega
def hiN (w : Nat) : Int := if w = 0 ∨ w = 4 then 1000000 else if w = 2 then 9999999 else 100
/-- what stands behind the word: its number, the state then -/
def qHere (s : gS) (form : Bool) (w : Nat) : Int := if form then qFactHere s w else qReads s 0 (hiN w)
def spHere (s : gS) (form : Bool) (w : Nat) : gS := if form then spFactHere s w else spReads s 0 (hiN w)
/-- the text's words: the state, whether something was told, whether it is right -/
def spWords (form : Bool) : Nat → gS → Bool → gS × Bool
  | 0, s, sm => (s, sm)
  | f + 1, s, sm =>
    if s 0 1 ≤ s 0 9 then (s, sm)
    else if spWhich s form 5 = -1 then (s, false)
    else if qHere (spPassW s) form (spWhich s form 5).toNat = -1 then (spHere (spPassW s) form (spWhich s form 5).toNat, false)
    else spWords form f (up (spHere (spPassW s) form (spWhich s form 5).toNat) 24 (spWhich s form 5).toNat (qHere (spPassW s) form (spWhich s form 5).toNat)) (sm || !form || decide (spWhich s form 5 ≠ 4))
def spNone (s : gS) : Nat → gS
  | 0 => s
  | k + 1 => up (spNone s k) 24 k (-1)
def spBegin (s : gS) : gS := up (up (spNone s 5) 0 9 0) 0 9 (spSkip (up (spNone s 5) 0 9 0) 0)
def spText (s : gS) (form : Bool) : gS × Bool := spWords form 61 (spBegin s) false
theorem WF_here (h : WF s) (form : Bool) (w : Nat) : WF (spHere s form w) := by
  unfold spHere
  split
  · exact WF_factHere h w
  · exact WF_reads h _ _
theorem here_at (h : WF s) (hle : s 0 9 ≤ s 0 1) (form : Bool) (w : Nat) : s 0 9 ≤ spHere s form w 0 9 ∧ spHere s form w 0 9 ≤ s 0 1 ∧ spHere s form w 0 1 = s 0 1 := by
  unfold spHere
  split
  · exact factHere_at h hle w
  · exact reads_at h hle _ _
end
