/-! AppealrentModel: thrown, dues, and what the state's parts hang on -/
set_option maxRecDepth 100000
section
variable {E : gE} {l : Launch} {M : gM} {A : Nat → Nat} {s s1 : gS} {t t1 : Int}
def gTM : Nat → Prop := fun t => 100 ≤ t ∧ t < 200
theorem spBest_cg (h11 : s1 11 = s 11) (h13 : s1 13 = s 13) (h14 : s1 14 = s 14) (h15 : s1 15 = s 15) : spBest s1 = spBest s := by
  funext one day which k
  induction k with
  | zero => rfl
  | succ k ih => simp only [spBest, h11, h13, h14, h15, ih]
theorem spFact_cg (h3 : s1 0 3 = s 0 3) (h11 : s1 11 = s 11) (h13 : s1 13 = s 13) (h14 : s1 14 = s 14) (h15 : s1 15 = s 15) : spFact s1 = spFact s := by
  funext one day which
  simp only [spFact, spBest_cg h11 h13 h14 h15, h3, h15]
theorem spRuleN_cg (h18 : s1 18 = s 18) (h20 : s1 20 = s 20) : spRuleN s1 = spRuleN s := by
  funext one day k
  induction k with
  | zero => rfl
  | succ k ih => simp only [spRuleN, h18, h20, ih]
theorem spRule_cg (h4 : s1 0 4 = s 0 4) (h18 : s1 18 = s 18) (h20 : s1 20 = s 20) : spRule s1 = spRule s := by
  funext one day
  simp only [spRule, spRuleN_cg h18 h20, h4]
theorem spHelpR_cg (h17 : s1 17 = s 17) : spHelpR s1 = spHelpR s := by
  funext r a b c
  simp only [spHelpR, h17]
theorem spHelp_cg (h3 : s1 0 3 = s 0 3) (h4 : s1 0 4 = s 0 4) (h1 : s1 1 = s 1) (h2 : s1 2 = s 2) (h11 : s1 11 = s 11) (h13 : s1 13 = s 13) (h14 : s1 14 = s 14) (h15 : s1 15 = s 15) (h17 : s1 17 = s 17) (h18 : s1 18 = s 18) (h20 : s1 20 = s 20) : spHelp s1 = spHelp s := by
  funext one day
  simp only [spHelp, h1, h2, spRule_cg h4 h18 h20, spFact_cg h3 h11 h13 h14 h15, spHelpR_cg h17]
theorem spDue_cg (h3 : s1 0 3 = s 0 3) (h4 : s1 0 4 = s 0 4) (h1 : s1 1 = s 1) (h2 : s1 2 = s 2) (h11 : s1 11 = s 11) (h13 : s1 13 = s 13) (h14 : s1 14 = s 14) (h15 : s1 15 = s 15) (h17 : s1 17 = s 17) (h18 : s1 18 = s 18) (h20 : s1 20 = s 20) : spDue s1 = spDue s := by
  funext one month
  simp only [spDue, spHelp_cg h3 h4 h1 h2 h11 h13 h14 h15 h17 h18 h20]
theorem spProven_cg (h3 : s1 0 3 = s 0 3) (h11 : s1 11 = s 11) (h14 : s1 14 = s 14) : spProven s1 = spProven s := by
  funext one
  simp only [spProven, h3, h11, h14]
theorem spEv_cg (h3 : s1 0 3 = s 0 3) (h4 : s1 0 4 = s 0 4) (h11 : s1 11 = s 11) (h14 : s1 14 = s 14) : spEv s1 = spEv s := by
  funext one
  simp only [spEv, spProven_cg h3 h11 h14, h4]
theorem spSpent_cg (h1 : s1 0 1 = s 0 1) (h3 : s1 0 3 = s 0 3) (h4 : s1 0 4 = s 0 4) (h14 : s1 14 = s 14) : spSpent s1 = spSpent s := by
  simp only [spSpent, h1, h3, h4, h14]
theorem spPaidTo_cg (h6 : s1 6 = s 6) : spPaidTo s1 = spPaidTo s := by
  funext one
  simp only [spPaidTo, h6]
/-- but for the scalars 6.., that have their own ranges, nothing has changed -/
theorem WF.cg (h : WF s) (hr : ∀ k, 1 ≤ k → k ≠ 24 → k ≠ 25 → s1 k = s k) (h0 : ∀ j, j ≠ 7 → j ≠ 8 → j ≠ 9 → s1 0 j = s 0 j) (h7 : 0 ≤ s1 0 7 ∧ s1 0 7 ≤ 100) (h9 : 0 ≤ s1 0 9 ∧ s1 0 9 ≤ 60) : WF s1 := by
  have a0 := h0 0 (by decide) (by decide) (by decide)
  have a1 := h0 1 (by decide) (by decide) (by decide)
  have a2 := h0 2 (by decide) (by decide) (by decide)
  have a3 := h0 3 (by decide) (by decide) (by decide)
  have a4 := h0 4 (by decide) (by decide) (by decide)
  have a5 := h0 5 (by decide) (by decide) (by decide)
  have a6 := h0 6 (by decide) (by decide) (by decide)
  have a10 := h0 10 (by decide) (by decide) (by decide)
  have a11 := h0 11 (by decide) (by decide) (by decide)
  have a12 := h0 12 (by decide) (by decide) (by decide)
  have a13 := h0 13 (by decide) (by decide) (by decide)
  have r1 := hr 1 (by decide) (by decide) (by decide)
  have r2 := hr 2 (by decide) (by decide) (by decide)
  have r3 := hr 3 (by decide) (by decide) (by decide)
  have r4 := hr 4 (by decide) (by decide) (by decide)
  have r5 := hr 5 (by decide) (by decide) (by decide)
  have r6 := hr 6 (by decide) (by decide) (by decide)
  have r7 := hr 7 (by decide) (by decide) (by decide)
  have r8 := hr 8 (by decide) (by decide) (by decide)
  have r9 := hr 9 (by decide) (by decide) (by decide)
  have r10 := hr 10 (by decide) (by decide) (by decide)
  have r11 := hr 11 (by decide) (by decide) (by decide)
  have r12 := hr 12 (by decide) (by decide) (by decide)
  have r13 := hr 13 (by decide) (by decide) (by decide)
  have r14 := hr 14 (by decide) (by decide) (by decide)
  have r15 := hr 15 (by decide) (by decide) (by decide)
  have r16 := hr 16 (by decide) (by decide) (by decide)
  have r17 := hr 17 (by decide) (by decide) (by decide)
  have r18 := hr 18 (by decide) (by decide) (by decide)
  have r19 := hr 19 (by decide) (by decide) (by decide)
  have r20 := hr 20 (by decide) (by decide) (by decide)
  have r21 := hr 21 (by decide) (by decide) (by decide)
  have r22 := hr 22 (by decide) (by decide) (by decide)
  have r23 := hr 23 (by decide) (by decide) (by decide)
  unfold WF wfSc wfTape wfCase wfPaid wfSum wfForm wfRule wfClaim at *
  rw [spSpent_cg a1 a3 a4 r14]
  simp only [spDue_cg a3 a4 r1 r2 r11 r13 r14 r15 r17 r18 r20, spEv_cg a3 a4 r11 r14, spPaidTo_cg r6, a0, a1, a2, a3, a4, a5, a6, a10, a11, a12, a13, r1, r2, r3, r4, r5, r6, r7, r8, r9, r10, r11, r12, r13, r14, r15, r16, r17, r18, r19, r20, r21, r22, r23]
  obtain ⟨⟨b0, b1, b2, b3, b4, b5, b6, b7, b9, b10⟩, b⟩ := h
  exact ⟨⟨b0, b1, b2, b3, b4, b5, b6, h7, h9, b10⟩, b⟩
/-- a write to a scalar of the model -/
theorem RM.sc {M1 : gM} {o : gEnt} (hR : RM A M s t) (e : gSet M (A 0) (100, o) = M1) (ho : o = gO 12 [vi t1, vi (s1 0 0), .ref (A 10), vi (s1 0 1), vi (s1 0 2), .ref (A 9), .ref (A 1), .ref (A 2), .ref (A 3), .ref (A 4), .ref (A 5), .ref (A 6), .ref (A 7), vi (s1 0 3), .ref (A 11), .ref (A 12), .ref (A 13), .ref (A 14), .ref (A 15), vi (s1 0 4), .ref (A 17), .ref (A 18), .ref (A 19), .ref (A 20), vi (s1 0 5), .ref (A 23), .ref (A 25), vi (s1 0 9), .ref (A 24)]) (hr : ∀ k, 1 ≤ k → s1 k = s k) (h6 : s1 0 6 = s 0 6) : RM A M1 s1 t1 := by
  obtain ⟨hm, h1, h2, h3, h4, h5, h6', h7, h10, h11, h12, h13, h14, h15, h17, h18, h19, h20, h23, h24⟩ := hR
  unfold RM
  rw [h6, hr 1 (by decide), hr 2 (by decide), hr 3 (by decide), hr 4 (by decide), hr 5 (by decide), hr 6 (by decide), hr 7 (by decide), hr 10 (by decide), hr 11 (by decide), hr 12 (by decide), hr 13 (by decide), hr 14 (by decide), hr 15 (by decide), hr 17 (by decide), hr 18 (by decide), hr 19 (by decide), hr 20 (by decide), hr 23 (by decide), hr 24 (by decide)]
  have hq := g_at e
  rw [ho] at hq
  exact ⟨hq, g_fr_t e h1 hm (by decide), g_fr_t e h2 hm (by decide), g_fr_t e h3 hm (by decide), g_fr_t e h4 hm (by decide), g_fr_t e h5 hm (by decide), g_fr_t e h6' hm (by decide), g_fr_t e h7 hm (by decide), g_fr_t e h10 hm (by decide), g_fr_t e h11 hm (by decide), g_fr_t e h12 hm (by decide), g_fr_t e h13 hm (by decide), g_fr_t e h14 hm (by decide), g_fr_t e h15 hm (by decide), g_fr_t e h17 hm (by decide), g_fr_t e h18 hm (by decide), g_fr_t e h19 hm (by decide), g_fr_t e h20 hm (by decide), g_fr_t e h23 hm (by decide), g_fr_t e h24 hm (by decide)⟩
theorem RM.x {T : Nat → Prop} (hR : RM A M s t) {M1 : gM} (x : gExt T M M1) (hT : ∀ t, 100 ≤ t → t < 125 → ¬ T t) : RM A M1 s t := by
  obtain ⟨hm, h1, h2, h3, h4, h5, h6, h7, h10, h11, h12, h13, h14, h15, h17, h18, h19, h20, h23, h24⟩ := hR
  exact ⟨x.t hm (hT _ (by decide) (by decide)), x.t h1 (hT _ (by decide) (by decide)), x.t h2 (hT _ (by decide) (by decide)), x.t h3 (hT _ (by decide) (by decide)), x.t h4 (hT _ (by decide) (by decide)), x.t h5 (hT _ (by decide) (by decide)), x.t h6 (hT _ (by decide) (by decide)), x.t h7 (hT _ (by decide) (by decide)), x.t h10 (hT _ (by decide) (by decide)), x.t h11 (hT _ (by decide) (by decide)), x.t h12 (hT _ (by decide) (by decide)), x.t h13 (hT _ (by decide) (by decide)), x.t h14 (hT _ (by decide) (by decide)), x.t h15 (hT _ (by decide) (by decide)), x.t h17 (hT _ (by decide) (by decide)), x.t h18 (hT _ (by decide) (by decide)), x.t h19 (hT _ (by decide) (by decide)), x.t h20 (hT _ (by decide) (by decide)), x.t h23 (hT _ (by decide) (by decide)), x.t h24 (hT _ (by decide) (by decide))⟩
def th1 (p : Bool) : Int := if p then 0 else 1
def th2 (p q : Bool) : Int := if p then (if q then 0 else 2) else 1
def th3 (p q r : Bool) : Int := if p then (if q then (if r then 0 else 3) else 2) else 1
theorem m_X3_fits_2 (hl : l.stackTraces = false) (hR : RM A M s t) {p : Bool} : gMet E l yX3_fits_2 wX3_fits_2 0 0 0 [.ref (A 0), vi (b2 p)] M (fun v M1 => v = some (vi (b2 p)) ∧ RM A M1 s (th1 p) ∧ gExt (gT1 100) M M1) (fun _ _ _ => False) := by
  have hm := hR.1
  have hx : gExt (gT1 100) M M := gExt.rf
  refine gMet.of hl rfl (Nat.le_of_ble_eq_true rfl) ?_
  intro Z hE hl0 hQ hX C hnm htab
  subst hE; subst hl0
  replace C : gC Z RX3 cX3_fits_2 2 (some .boolean) _ := C
  change G Z _ _ _ 0 [(0, _), (1, _)] []
  refine g_aload_n (pc := 0) C dX3_fits_2_0 0 rfl trivial rfl ?_
  refine g_iload_n (pc := 1) C dX3_fits_2_1 1 rfl rfl ?_
  refine g_ifb_eq (pc := 2) C dX3_fits_2_2 9 (by decide) (fun c_2 => ?_) (fun c_2 => ?_)
  · skip
    have d_2 := c_2
    try simp only [decide_eq_true_eq, decide_eq_false_iff_not, Bool.and_eq_true, Bool.and_eq_false_iff, ne_eq, Classical.not_not] at c_2
    refine g_iconst (pc := 9) C dX3_fits_2_9 ?_
    refine g_put (pc := 10) C dX3_fits_2_10 cl12 hm (by decide) 0 (by decide) q1819 (fun _ h9 => h9) rfl rfl rfl (Nat.le_of_ble_eq_true rfl) (fs1 := [_, _, _, _, _, _, _, _, _, _, _, _, _, _, _, _, _, _, _, _, _, _, _, _, _, _, _, _, _]) rfl ?_
    refine g_nm (fun M_10 e_10 => ?_)
    replace hx := hx.tr (gExt.putE e_10 hm rfl)
    replace hm := g_at e_10
    refine g_iload_n (pc := 13) C dX3_fits_2_13 1 rfl rfl ?_
    refine g_nret (pc := 14) hQ C (b2_z _) ?_ dX3_fits_2_14
    exact ⟨rfl, hR.sc e_10 (by rw [c_2]; rfl) (fun _ _ => rfl) rfl, hx⟩
  · skip
    have d_2 := c_2
    try simp only [decide_eq_true_eq, decide_eq_false_iff_not, Bool.and_eq_true, Bool.and_eq_false_iff, ne_eq, Classical.not_not] at c_2
    refine g_iconst (pc := 5) C dX3_fits_2_5 ?_
    refine g_goto (pc := 6) C dX3_fits_2_6 10 (by decide) ?_
    refine g_put (pc := 10) C dX3_fits_2_10 cl12 hm (by decide) 0 (by decide) q1819 (fun _ h9 => h9) rfl rfl rfl (Nat.le_of_ble_eq_true rfl) (fs1 := [_, _, _, _, _, _, _, _, _, _, _, _, _, _, _, _, _, _, _, _, _, _, _, _, _, _, _, _, _]) rfl ?_
    refine g_nm (fun M_10 e_10 => ?_)
    replace hx := hx.tr (gExt.putE e_10 hm rfl)
    replace hm := g_at e_10
    refine g_iload_n (pc := 13) C dX3_fits_2_13 1 rfl rfl ?_
    refine g_nret (pc := 14) hQ C (b2_z _) ?_ dX3_fits_2_14
    exact ⟨rfl, hR.sc e_10 (by rw [c_2]; rfl) (fun _ _ => rfl) rfl, hx⟩
theorem m_X3_fits (hl : l.stackTraces = false) (hR : RM A M s t) {p q : Bool} : gMet E l yX3_fits wX3_fits 0 0 0 [.ref (A 0), vi (b2 p), vi (b2 q)] M (fun v M1 => v = some (vi (b2 (p && q))) ∧ RM A M1 s (th2 p q) ∧ gExt (gT1 100) M M1) (fun _ _ _ => False) := by
  have hm := hR.1
  have hx : gExt (gT1 100) M M := gExt.rf
  refine gMet.of hl rfl (Nat.le_of_ble_eq_true rfl) ?_
  intro Z hE hl0 hQ hX C hnm htab
  subst hE; subst hl0
  replace C : gC Z RX3 cX3_fits 3 (some .boolean) _ := C
  change G Z _ _ _ 0 [(0, _), (1, _), (2, _)] []
  refine g_aload_n (pc := 0) C dX3_fits_0 0 rfl trivial rfl ?_
  refine g_iload_n (pc := 1) C dX3_fits_1 1 rfl rfl ?_
  refine g_ifb_ne (pc := 2) C dX3_fits_2 9 (by decide) (fun c_2 => ?_) (fun c_2 => ?_)
  · skip
    have d_2 := c_2
    try simp only [decide_eq_true_eq, decide_eq_false_iff_not, Bool.and_eq_true, Bool.and_eq_false_iff, ne_eq, Classical.not_not] at c_2
    refine g_iload_n (pc := 9) C dX3_fits_9 2 rfl rfl ?_
    refine g_ifb_eq (pc := 10) C dX3_fits_10 17 (by decide) (fun c_10 => ?_) (fun c_10 => ?_)
    · skip
      have d_10 := c_10
      try simp only [decide_eq_true_eq, decide_eq_false_iff_not, Bool.and_eq_true, Bool.and_eq_false_iff, ne_eq, Classical.not_not] at c_10
      refine g_iconst (pc := 17) C dX3_fits_17 ?_
      refine g_put (pc := 18) C dX3_fits_18 cl12 hm (by decide) 0 (by decide) q1819 (fun _ h9 => h9) rfl rfl rfl (Nat.le_of_ble_eq_true rfl) (fs1 := [_, _, _, _, _, _, _, _, _, _, _, _, _, _, _, _, _, _, _, _, _, _, _, _, _, _, _, _, _]) rfl ?_
      refine g_nm (fun M_18 e_18 => ?_)
      replace hx := hx.tr (gExt.putE e_18 hm rfl)
      replace hm := g_at e_18
      refine g_aload_n (pc := 21) C dX3_fits_21 0 rfl trivial rfl ?_
      refine g_get (pc := 22) C dX3_fits_22 cl12 hm 0 (by decide) q1819 (fun _ h9 => h9) rfl ?_
      refine g_if_ne (pc := 25) C dX3_fits_25 32 ⟨by omega, by omega⟩ (by decide) (fun c_25 => ?_) (fun c_25 => ?_)
      · skip
        refine g_iconst (pc := 32) C dX3_fits_32 ?_
        refine g_nret (pc := 33) hQ C rfl ?_ dX3_fits_33
        first | omega | (subst c_2; exact ⟨rfl, hR.sc e_18 rfl (fun _ _ => rfl) rfl, hx⟩) | (subst c_2; subst c_10; exact ⟨rfl, hR.sc e_18 rfl (fun _ _ => rfl) rfl, hx⟩)
      · skip
        refine g_iconst (pc := 28) C dX3_fits_28 ?_
        refine g_goto (pc := 29) C dX3_fits_29 33 (by decide) ?_
        refine g_nret (pc := 33) hQ C rfl ?_ dX3_fits_33
        first | omega | (subst c_2; exact ⟨rfl, hR.sc e_18 rfl (fun _ _ => rfl) rfl, hx⟩) | (subst c_2; subst c_10; exact ⟨rfl, hR.sc e_18 rfl (fun _ _ => rfl) rfl, hx⟩)
    · skip
      have d_10 := c_10
      try simp only [decide_eq_true_eq, decide_eq_false_iff_not, Bool.and_eq_true, Bool.and_eq_false_iff, ne_eq, Classical.not_not] at c_10
      refine g_iconst (pc := 13) C dX3_fits_13 ?_
      refine g_goto (pc := 14) C dX3_fits_14 18 (by decide) ?_
      refine g_put (pc := 18) C dX3_fits_18 cl12 hm (by decide) 0 (by decide) q1819 (fun _ h9 => h9) rfl rfl rfl (Nat.le_of_ble_eq_true rfl) (fs1 := [_, _, _, _, _, _, _, _, _, _, _, _, _, _, _, _, _, _, _, _, _, _, _, _, _, _, _, _, _]) rfl ?_
      refine g_nm (fun M_18 e_18 => ?_)
      replace hx := hx.tr (gExt.putE e_18 hm rfl)
      replace hm := g_at e_18
      refine g_aload_n (pc := 21) C dX3_fits_21 0 rfl trivial rfl ?_
      refine g_get (pc := 22) C dX3_fits_22 cl12 hm 0 (by decide) q1819 (fun _ h9 => h9) rfl ?_
      refine g_if_ne (pc := 25) C dX3_fits_25 32 ⟨by omega, by omega⟩ (by decide) (fun c_25 => ?_) (fun c_25 => ?_)
      · skip
        refine g_iconst (pc := 32) C dX3_fits_32 ?_
        refine g_nret (pc := 33) hQ C rfl ?_ dX3_fits_33
        first | omega | (subst c_2; exact ⟨rfl, hR.sc e_18 rfl (fun _ _ => rfl) rfl, hx⟩) | (subst c_2; subst c_10; exact ⟨rfl, hR.sc e_18 rfl (fun _ _ => rfl) rfl, hx⟩)
      · skip
        refine g_iconst (pc := 28) C dX3_fits_28 ?_
        refine g_goto (pc := 29) C dX3_fits_29 33 (by decide) ?_
        refine g_nret (pc := 33) hQ C rfl ?_ dX3_fits_33
        first | omega | (subst c_2; exact ⟨rfl, hR.sc e_18 rfl (fun _ _ => rfl) rfl, hx⟩) | (subst c_2; subst c_10; exact ⟨rfl, hR.sc e_18 rfl (fun _ _ => rfl) rfl, hx⟩)
  · skip
    have d_2 := c_2
    try simp only [decide_eq_true_eq, decide_eq_false_iff_not, Bool.and_eq_true, Bool.and_eq_false_iff, ne_eq, Classical.not_not] at c_2
    refine g_iconst (pc := 5) C dX3_fits_5 ?_
    refine g_goto (pc := 6) C dX3_fits_6 18 (by decide) ?_
    refine g_put (pc := 18) C dX3_fits_18 cl12 hm (by decide) 0 (by decide) q1819 (fun _ h9 => h9) rfl rfl rfl (Nat.le_of_ble_eq_true rfl) (fs1 := [_, _, _, _, _, _, _, _, _, _, _, _, _, _, _, _, _, _, _, _, _, _, _, _, _, _, _, _, _]) rfl ?_
    refine g_nm (fun M_18 e_18 => ?_)
    replace hx := hx.tr (gExt.putE e_18 hm rfl)
    replace hm := g_at e_18
    refine g_aload_n (pc := 21) C dX3_fits_21 0 rfl trivial rfl ?_
    refine g_get (pc := 22) C dX3_fits_22 cl12 hm 0 (by decide) q1819 (fun _ h9 => h9) rfl ?_
    refine g_if_ne (pc := 25) C dX3_fits_25 32 ⟨by omega, by omega⟩ (by decide) (fun c_25 => ?_) (fun c_25 => ?_)
    · skip
      refine g_iconst (pc := 32) C dX3_fits_32 ?_
      refine g_nret (pc := 33) hQ C rfl ?_ dX3_fits_33
      first | omega | (subst c_2; exact ⟨rfl, hR.sc e_18 rfl (fun _ _ => rfl) rfl, hx⟩) | (subst c_2; subst c_10; exact ⟨rfl, hR.sc e_18 rfl (fun _ _ => rfl) rfl, hx⟩)
    · skip
      refine g_iconst (pc := 28) C dX3_fits_28 ?_
      refine g_goto (pc := 29) C dX3_fits_29 33 (by decide) ?_
      refine g_nret (pc := 33) hQ C rfl ?_ dX3_fits_33
      first | omega | (subst c_2; exact ⟨rfl, hR.sc e_18 rfl (fun _ _ => rfl) rfl, hx⟩) | (subst c_2; subst c_10; exact ⟨rfl, hR.sc e_18 rfl (fun _ _ => rfl) rfl, hx⟩)
theorem m_X3_fits_3 (hl : l.stackTraces = false) (hR : RM A M s t) {p q r : Bool} : gMet E l yX3_fits_3 wX3_fits_3 0 0 0 [.ref (A 0), vi (b2 p), vi (b2 q), vi (b2 r)] M (fun v M1 => v = some (vi (b2 (p && q && r))) ∧ RM A M1 s (th3 p q r) ∧ gExt (gT1 100) M M1) (fun _ _ _ => False) := by
  have hm := hR.1
  have hx : gExt (gT1 100) M M := gExt.rf
  refine gMet.of hl rfl (Nat.le_of_ble_eq_true rfl) ?_
  intro Z hE hl0 hQ hX C hnm htab
  subst hE; subst hl0
  replace C : gC Z RX3 cX3_fits_3 4 (some .boolean) _ := C
  change G Z _ _ _ 0 [(0, _), (1, _), (2, _), (3, _)] []
  refine g_aload_n (pc := 0) C dX3_fits_3_0 0 rfl trivial rfl ?_
  refine g_iload_n (pc := 1) C dX3_fits_3_1 1 rfl rfl ?_
  refine g_ifb_ne (pc := 2) C dX3_fits_3_2 9 (by decide) (fun c_2 => ?_) (fun c_2 => ?_)
  · skip
    have d_2 := c_2
    try simp only [decide_eq_true_eq, decide_eq_false_iff_not, Bool.and_eq_true, Bool.and_eq_false_iff, ne_eq, Classical.not_not] at c_2
    refine g_iload_n (pc := 9) C dX3_fits_3_9 2 rfl rfl ?_
    refine g_ifb_ne (pc := 10) C dX3_fits_3_10 17 (by decide) (fun c_10 => ?_) (fun c_10 => ?_)
    · skip
      have d_10 := c_10
      try simp only [decide_eq_true_eq, decide_eq_false_iff_not, Bool.and_eq_true, Bool.and_eq_false_iff, ne_eq, Classical.not_not] at c_10
      refine g_iload_n (pc := 17) C dX3_fits_3_17 3 rfl rfl ?_
      refine g_ifb_eq (pc := 18) C dX3_fits_3_18 25 (by decide) (fun c_18 => ?_) (fun c_18 => ?_)
      · skip
        have d_18 := c_18
        try simp only [decide_eq_true_eq, decide_eq_false_iff_not, Bool.and_eq_true, Bool.and_eq_false_iff, ne_eq, Classical.not_not] at c_18
        refine g_iconst (pc := 25) C dX3_fits_3_25 ?_
        refine g_put (pc := 26) C dX3_fits_3_26 cl12 hm (by decide) 0 (by decide) q1819 (fun _ h9 => h9) rfl rfl rfl (Nat.le_of_ble_eq_true rfl) (fs1 := [_, _, _, _, _, _, _, _, _, _, _, _, _, _, _, _, _, _, _, _, _, _, _, _, _, _, _, _, _]) rfl ?_
        refine g_nm (fun M_26 e_26 => ?_)
        replace hx := hx.tr (gExt.putE e_26 hm rfl)
        replace hm := g_at e_26
        refine g_aload_n (pc := 29) C dX3_fits_3_29 0 rfl trivial rfl ?_
        refine g_get (pc := 30) C dX3_fits_3_30 cl12 hm 0 (by decide) q1819 (fun _ h9 => h9) rfl ?_
        refine g_if_ne (pc := 33) C dX3_fits_3_33 40 ⟨by omega, by omega⟩ (by decide) (fun c_33 => ?_) (fun c_33 => ?_)
        · skip
          refine g_iconst (pc := 40) C dX3_fits_3_40 ?_
          refine g_nret (pc := 41) hQ C rfl ?_ dX3_fits_3_41
          first | omega | (subst c_2; exact ⟨by cases q <;> cases r <;> rfl, hR.sc e_26 rfl (fun _ _ => rfl) rfl, hx⟩) | (subst c_2; subst c_10; exact ⟨by cases r <;> rfl, hR.sc e_26 rfl (fun _ _ => rfl) rfl, hx⟩) | (subst c_2; subst c_10; subst c_18; exact ⟨rfl, hR.sc e_26 rfl (fun _ _ => rfl) rfl, hx⟩)
        · skip
          refine g_iconst (pc := 36) C dX3_fits_3_36 ?_
          refine g_goto (pc := 37) C dX3_fits_3_37 41 (by decide) ?_
          refine g_nret (pc := 41) hQ C rfl ?_ dX3_fits_3_41
          first | omega | (subst c_2; exact ⟨by cases q <;> cases r <;> rfl, hR.sc e_26 rfl (fun _ _ => rfl) rfl, hx⟩) | (subst c_2; subst c_10; exact ⟨by cases r <;> rfl, hR.sc e_26 rfl (fun _ _ => rfl) rfl, hx⟩) | (subst c_2; subst c_10; subst c_18; exact ⟨rfl, hR.sc e_26 rfl (fun _ _ => rfl) rfl, hx⟩)
      · skip
        have d_18 := c_18
        try simp only [decide_eq_true_eq, decide_eq_false_iff_not, Bool.and_eq_true, Bool.and_eq_false_iff, ne_eq, Classical.not_not] at c_18
        refine g_iconst (pc := 21) C dX3_fits_3_21 ?_
        refine g_goto (pc := 22) C dX3_fits_3_22 26 (by decide) ?_
        refine g_put (pc := 26) C dX3_fits_3_26 cl12 hm (by decide) 0 (by decide) q1819 (fun _ h9 => h9) rfl rfl rfl (Nat.le_of_ble_eq_true rfl) (fs1 := [_, _, _, _, _, _, _, _, _, _, _, _, _, _, _, _, _, _, _, _, _, _, _, _, _, _, _, _, _]) rfl ?_
        refine g_nm (fun M_26 e_26 => ?_)
        replace hx := hx.tr (gExt.putE e_26 hm rfl)
        replace hm := g_at e_26
        refine g_aload_n (pc := 29) C dX3_fits_3_29 0 rfl trivial rfl ?_
        refine g_get (pc := 30) C dX3_fits_3_30 cl12 hm 0 (by decide) q1819 (fun _ h9 => h9) rfl ?_
        refine g_if_ne (pc := 33) C dX3_fits_3_33 40 ⟨by omega, by omega⟩ (by decide) (fun c_33 => ?_) (fun c_33 => ?_)
        · skip
          refine g_iconst (pc := 40) C dX3_fits_3_40 ?_
          refine g_nret (pc := 41) hQ C rfl ?_ dX3_fits_3_41
          first | omega | (subst c_2; exact ⟨by cases q <;> cases r <;> rfl, hR.sc e_26 rfl (fun _ _ => rfl) rfl, hx⟩) | (subst c_2; subst c_10; exact ⟨by cases r <;> rfl, hR.sc e_26 rfl (fun _ _ => rfl) rfl, hx⟩) | (subst c_2; subst c_10; subst c_18; exact ⟨rfl, hR.sc e_26 rfl (fun _ _ => rfl) rfl, hx⟩)
        · skip
          refine g_iconst (pc := 36) C dX3_fits_3_36 ?_
          refine g_goto (pc := 37) C dX3_fits_3_37 41 (by decide) ?_
          refine g_nret (pc := 41) hQ C rfl ?_ dX3_fits_3_41
          first | omega | (subst c_2; exact ⟨by cases q <;> cases r <;> rfl, hR.sc e_26 rfl (fun _ _ => rfl) rfl, hx⟩) | (subst c_2; subst c_10; exact ⟨by cases r <;> rfl, hR.sc e_26 rfl (fun _ _ => rfl) rfl, hx⟩) | (subst c_2; subst c_10; subst c_18; exact ⟨rfl, hR.sc e_26 rfl (fun _ _ => rfl) rfl, hx⟩)
    · skip
      have d_10 := c_10
      try simp only [decide_eq_true_eq, decide_eq_false_iff_not, Bool.and_eq_true, Bool.and_eq_false_iff, ne_eq, Classical.not_not] at c_10
      refine g_iconst (pc := 13) C dX3_fits_3_13 ?_
      refine g_goto (pc := 14) C dX3_fits_3_14 26 (by decide) ?_
      refine g_put (pc := 26) C dX3_fits_3_26 cl12 hm (by decide) 0 (by decide) q1819 (fun _ h9 => h9) rfl rfl rfl (Nat.le_of_ble_eq_true rfl) (fs1 := [_, _, _, _, _, _, _, _, _, _, _, _, _, _, _, _, _, _, _, _, _, _, _, _, _, _, _, _, _]) rfl ?_
      refine g_nm (fun M_26 e_26 => ?_)
      replace hx := hx.tr (gExt.putE e_26 hm rfl)
      replace hm := g_at e_26
      refine g_aload_n (pc := 29) C dX3_fits_3_29 0 rfl trivial rfl ?_
      refine g_get (pc := 30) C dX3_fits_3_30 cl12 hm 0 (by decide) q1819 (fun _ h9 => h9) rfl ?_
      refine g_if_ne (pc := 33) C dX3_fits_3_33 40 ⟨by omega, by omega⟩ (by decide) (fun c_33 => ?_) (fun c_33 => ?_)
      · skip
        refine g_iconst (pc := 40) C dX3_fits_3_40 ?_
        refine g_nret (pc := 41) hQ C rfl ?_ dX3_fits_3_41
        first | omega | (subst c_2; exact ⟨by cases q <;> cases r <;> rfl, hR.sc e_26 rfl (fun _ _ => rfl) rfl, hx⟩) | (subst c_2; subst c_10; exact ⟨by cases r <;> rfl, hR.sc e_26 rfl (fun _ _ => rfl) rfl, hx⟩) | (subst c_2; subst c_10; subst c_18; exact ⟨rfl, hR.sc e_26 rfl (fun _ _ => rfl) rfl, hx⟩)
      · skip
        refine g_iconst (pc := 36) C dX3_fits_3_36 ?_
        refine g_goto (pc := 37) C dX3_fits_3_37 41 (by decide) ?_
        refine g_nret (pc := 41) hQ C rfl ?_ dX3_fits_3_41
        first | omega | (subst c_2; exact ⟨by cases q <;> cases r <;> rfl, hR.sc e_26 rfl (fun _ _ => rfl) rfl, hx⟩) | (subst c_2; subst c_10; exact ⟨by cases r <;> rfl, hR.sc e_26 rfl (fun _ _ => rfl) rfl, hx⟩) | (subst c_2; subst c_10; subst c_18; exact ⟨rfl, hR.sc e_26 rfl (fun _ _ => rfl) rfl, hx⟩)
  · skip
    have d_2 := c_2
    try simp only [decide_eq_true_eq, decide_eq_false_iff_not, Bool.and_eq_true, Bool.and_eq_false_iff, ne_eq, Classical.not_not] at c_2
    refine g_iconst (pc := 5) C dX3_fits_3_5 ?_
    refine g_goto (pc := 6) C dX3_fits_3_6 26 (by decide) ?_
    refine g_put (pc := 26) C dX3_fits_3_26 cl12 hm (by decide) 0 (by decide) q1819 (fun _ h9 => h9) rfl rfl rfl (Nat.le_of_ble_eq_true rfl) (fs1 := [_, _, _, _, _, _, _, _, _, _, _, _, _, _, _, _, _, _, _, _, _, _, _, _, _, _, _, _, _]) rfl ?_
    refine g_nm (fun M_26 e_26 => ?_)
    replace hx := hx.tr (gExt.putE e_26 hm rfl)
    replace hm := g_at e_26
    refine g_aload_n (pc := 29) C dX3_fits_3_29 0 rfl trivial rfl ?_
    refine g_get (pc := 30) C dX3_fits_3_30 cl12 hm 0 (by decide) q1819 (fun _ h9 => h9) rfl ?_
    refine g_if_ne (pc := 33) C dX3_fits_3_33 40 ⟨by omega, by omega⟩ (by decide) (fun c_33 => ?_) (fun c_33 => ?_)
    · skip
      refine g_iconst (pc := 40) C dX3_fits_3_40 ?_
      refine g_nret (pc := 41) hQ C rfl ?_ dX3_fits_3_41
      first | omega | (subst c_2; exact ⟨by cases q <;> cases r <;> rfl, hR.sc e_26 rfl (fun _ _ => rfl) rfl, hx⟩) | (subst c_2; subst c_10; exact ⟨by cases r <;> rfl, hR.sc e_26 rfl (fun _ _ => rfl) rfl, hx⟩) | (subst c_2; subst c_10; subst c_18; exact ⟨rfl, hR.sc e_26 rfl (fun _ _ => rfl) rfl, hx⟩)
    · skip
      refine g_iconst (pc := 36) C dX3_fits_3_36 ?_
      refine g_goto (pc := 37) C dX3_fits_3_37 41 (by decide) ?_
      refine g_nret (pc := 41) hQ C rfl ?_ dX3_fits_3_41
      first | omega | (subst c_2; exact ⟨by cases q <;> cases r <;> rfl, hR.sc e_26 rfl (fun _ _ => rfl) rfl, hx⟩) | (subst c_2; subst c_10; exact ⟨by cases r <;> rfl, hR.sc e_26 rfl (fun _ _ => rfl) rfl, hx⟩) | (subst c_2; subst c_10; subst c_18; exact ⟨rfl, hR.sc e_26 rfl (fun _ _ => rfl) rfl, hx⟩)
theorem m_X3_dueOf (hl : l.stackTraces = false) (hR : RM A M s t) (hW : WF s) {c : Nat} {month : Int} (hc : (c : Int) < s 0 2) (hd : 0 ≤ month ∧ month ≤ 50) : gFun E l yX3_dueOf wX3_dueOf 2 [.ref (A 0), vi c, vi month] M (vi (spDue s c month)) := by
  have hm := hR.1
  refine gMet.of hl rfl (Nat.le_of_ble_eq_true rfl) ?_
  intro Z hE hl0 hQ hX C hnm htab
  subst hE; subst hl0
  replace C : gC Z RX3 cX3_dueOf 5 (some .int) _ := C
  change G Z _ _ _ 0 [(0, _), (1, _), (2, _)] []
  have loop : ∀ (r i : Nat), i + r = 30 → G Z 0 0 M 8 [(0, .ref (A 0)), (1, vi c), (2, vi month), (3, vi (sumN (fun d => spHelp s c (30 * month + d) / 30) i)), (4, vi (30 * month + i))] [] := by
    intro r
    induction r with
    | zero =>
      intro i hi
      obtain rfl : i = 30 := by omega
      refine g_iload (pc := 8) C dX3_dueOf_8 4 rfl ?_
      refine g_bipush (pc := 10) C dX3_dueOf_10 (by decide) ?_
      refine g_iload_n (pc := 12) C dX3_dueOf_12 2 rfl rfl ?_
      refine g_imul (pc := 13) C dX3_dueOf_13 ?_
      refine g_bipush (pc := 14) C dX3_dueOf_14 (by decide) ?_
      refine g_iadd (pc := 16) C dX3_dueOf_16 ?_
      refine g_icmp_ge (pc := 17) C dX3_dueOf_17 39 ⟨by omega, by omega⟩ ⟨by omega, by omega⟩ (by decide) (fun c_17 => ?_) (fun c_17 => ?_)
      · skip
        refine g_iload_n (pc := 39) C dX3_dueOf_39 3 rfl rfl ?_
        refine g_iret (pc := 40) hQ C ?_ dX3_dueOf_40
        exact ⟨rfl, rfl⟩
      · skip
        omega
    | succ r ih =>
      intro i hi
      have hh := spHelp_r hW c (30 * month + i)
      refine g_iload (pc := 8) C dX3_dueOf_8 4 rfl ?_
      refine g_bipush (pc := 10) C dX3_dueOf_10 (by decide) ?_
      refine g_iload_n (pc := 12) C dX3_dueOf_12 2 rfl rfl ?_
      refine g_imul (pc := 13) C dX3_dueOf_13 ?_
      refine g_bipush (pc := 14) C dX3_dueOf_14 (by decide) ?_
      refine g_iadd (pc := 16) C dX3_dueOf_16 ?_
      refine g_icmp_ge (pc := 17) C dX3_dueOf_17 39 ⟨by omega, by omega⟩ ⟨by omega, by omega⟩ (by decide) (fun c_17 => ?_) (fun c_17 => ?_)
      · skip
        omega
      · skip
        refine g_iload_n (pc := 20) C dX3_dueOf_20 3 rfl rfl ?_
        refine g_aload_n (pc := 21) C dX3_dueOf_21 0 rfl trivial rfl ?_
        refine g_iload_n (pc := 22) C dX3_dueOf_22 1 rfl rfl ?_
        refine g_iload (pc := 23) C dX3_dueOf_23 4 rfl ?_
        refine g_callV (pc := 25) C (m_X3_helpOn hl hR hW hc (by omega)) cl12 hm q2070 q2072 qs61 q94 q2073 nmX3_helpOn rfl (by decide) (by decide) (Nat.zero_le _) (Nat.zero_le _) rfl (Nat.le_of_ble_eq_true rfl) dX3_dueOf_25 (gkf ?_) gkx
        refine g_bipush (pc := 28) C dX3_dueOf_28 (by decide) ?_
        refine g_idiv (pc := 30) C dX3_dueOf_30 ⟨by omega, by omega⟩ ⟨by omega, by omega⟩ ?_
        refine g_iadd (pc := 31) C dX3_dueOf_31 ?_
        refine g_istore_n (pc := 32) C dX3_dueOf_32 (Nat.le_of_ble_eq_true rfl) rfl rfl (loc1 := [(0, _), (1, _), (2, _), (3, _), (4, _)]) rfl ?_
        refine g_iinc (pc := 33) C dX3_dueOf_33 4 rfl (Nat.le_of_ble_eq_true rfl) rfl (loc1 := [(0, _), (1, _), (2, _), (3, _), (4, _)]) rfl ?_
        refine g_goto (pc := 36) C dX3_dueOf_36 8 (by decide) ?_
        have h9 := ih (i + 1) (by omega)
        rw [show ((30 : Int) * month + (i : Int) + 1) = 30 * month + ((i + 1 : Nat) : Int) by omega]
        exact h9
  refine g_iconst (pc := 0) C dX3_dueOf_0 ?_
  refine g_istore_n (pc := 1) C dX3_dueOf_1 (Nat.le_of_ble_eq_true rfl) rfl rfl (loc1 := [(0, _), (1, _), (2, _), (3, _)]) rfl ?_
  refine g_bipush (pc := 2) C dX3_dueOf_2 (by decide) ?_
  refine g_iload_n (pc := 4) C dX3_dueOf_4 2 rfl rfl ?_
  refine g_imul (pc := 5) C dX3_dueOf_5 ?_
  refine g_istore (pc := 6) C dX3_dueOf_6 (Nat.le_of_ble_eq_true rfl) rfl (loc1 := [(0, _), (1, _), (2, _), (3, _), (4, _)]) rfl ?_
  have h9 := loop 30 0 (by omega)
  rw [show ((30 : Int) * month + ((0 : Nat) : Int)) = 30 * month by omega] at h9
  exact h9
end
