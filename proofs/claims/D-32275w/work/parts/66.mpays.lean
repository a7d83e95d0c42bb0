/-! AppealrentModel: pays -/
set_option maxRecDepth 100000
section
variable {E : gE} {l : Launch} {M M1 : gM} {A : Nat → Nat} {s s1 : gS} {t t1 : Int}
/-- what is kept of a payment goes to the firm claims, one after the other -/
def spKeep (s : gS) (c : Nat) (left : Int) : Nat → gS × Int
  | 0 => (s, left)
  | k + 1 => if (spKeep s c left k).1 23 (6 * k) = c ∧ (spKeep s c left k).1 23 (6 * k + 5) = 2 then (spLessen (spKeep s c left k).1 k (min (spKeep s c left k).2 ((spKeep s c left k).1 23 (6 * k + 4))), (spKeep s c left k).2 - min (spKeep s c left k).2 ((spKeep s c left k).1 23 (6 * k + 4))) else spKeep s c left k
theorem spLessen_o {s : gS} {k j : Nat} {x : Int} (h : j ≠ 23) : spLessen s k x j = s j := by
  unfold spLessen
  rw [up_n _ _ _ h, up_n _ _ _ h]
theorem spLessen_j {s : gS} {k j : Nat} {x : Int} (h : j ≠ 6 * k + 4) (h2 : j ≠ 6 * k + 5) : spLessen s k x 23 j = s 23 j := by
  unfold spLessen
  rw [up_s, gUp_n _ _ h2, up_s, gUp_n _ _ h]
theorem spKeep_o {s : gS} {c : Nat} {left : Int} {j : Nat} (h : j ≠ 23) : ∀ k, (spKeep s c left k).1 j = s j
  | 0 => rfl
  | k + 1 => by
    unfold spKeep
    split
    · dsimp only; rw [spLessen_o h]; exact spKeep_o h k
    · exact spKeep_o h k
theorem spKeep_j {s : gS} {c : Nat} {left : Int} : ∀ {k j : Nat}, 6 * k ≤ j → (spKeep s c left k).1 23 j = s 23 j
  | 0, _, _ => rfl
  | k + 1, j, h => by
    unfold spKeep
    split
    · dsimp only; rw [spLessen_j (k := k) (by omega) (by omega)]; exact spKeep_j (by omega)
    · exact spKeep_j (by omega)
theorem spKeep_pos {s : gS} {c : Nat} {left : Int} {k : Nat} (h : s 23 (6 * k) = c ∧ s 23 (6 * k + 5) = 2) : spKeep s c left (k + 1) = (spLessen (spKeep s c left k).1 k (min (spKeep s c left k).2 (s 23 (6 * k + 4))), (spKeep s c left k).2 - min (spKeep s c left k).2 (s 23 (6 * k + 4))) := by
  rw [spKeep, spKeep_j (by omega), spKeep_j (by omega), spKeep_j (by omega), if_pos h]
theorem spKeep_neg {s : gS} {c : Nat} {left : Int} {k : Nat} (h : ¬ (s 23 (6 * k) = c ∧ s 23 (6 * k + 5) = 2)) : spKeep s c left (k + 1) = spKeep s c left k := by
  rw [spKeep, spKeep_j (by omega), spKeep_j (by omega), if_neg h]
theorem spKeep_r {s : gS} {c : Nat} {left : Int} (h0 : 0 ≤ left) : ∀ {k : Nat}, (∀ i, i < k → 0 ≤ s 23 (6 * i + 4)) → 0 ≤ (spKeep s c left k).2 ∧ (spKeep s c left k).2 ≤ left
  | 0, _ => ⟨h0, Int.le_refl _⟩
  | k + 1, h => by
    have ih := spKeep_r (c := c) h0 (fun i hi => h i (by omega : i < k + 1)) (k := k)
    have := h k (by omega)
    by_cases q : s 23 (6 * k) = c ∧ s 23 (6 * k + 5) = 2
    · rw [spKeep_pos q]; show 0 ≤ _ - min _ _ ∧ _ - min _ _ ≤ _; omega
    · rw [spKeep_neg q]; exact ih
def spKeeps (s : gS) (c : Nat) (x : Int) : Int := min (x * 20 / 100) (spLeft s c true)
def spPays1 (s : gS) (c m : Nat) (x : Int) : gS := (spKeep (up s 6 (51 * c + m) (s 6 (51 * c + m) + x)) c (spKeeps s c x) (s 0 5).toNat).1
def spPays2 (s : gS) (c m : Nat) (x : Int) : gS := up (spPays1 s c m x) 3 c (s 3 c + spKeeps s c x)
def spPays (s : gS) (c m : Nat) (x : Int) : gS := if x = 0 then s else if spFact s c (s 0 0) 3 = 0 then up (spPays2 s c m x) 4 c (s 4 c + (x - spKeeps s c x)) else up (spPays2 s c m x) 5 c (s 5 c + (x - spKeeps s c x))
theorem spPays1_o {s : gS} {c m : Nat} {x : Int} {j : Nat} (h : j ≠ 23) (h6 : j ≠ 6) : spPays1 s c m x j = s j := by
  rw [spPays1, spKeep_o h, up_n _ _ _ h6]
theorem m_X3_pays (hl : l.stackTraces = false) (hR : RM A M s t) (hW : WF s) {c m : Nat} {x : Int} (hc : (c : Int) < s 0 2) (hm51 : m < 51) (hx1 : 0 ≤ x ∧ x ≤ 1000000) (hL : 0 ≤ spLeft s c true ∧ spLeft s c true ≤ 2000000000) : gMet E l yX3_pays wX3_pays 2 0 0 [.ref (A 0), vi c, vi m, vi x] M (fun v M1 => v = none ∧ RM A M1 (spPays s c m x) t ∧ gExt gTM M M1) (fun _ _ _ => False) := by
  have hs := hW.sc
  have hsc := hW.sc
  have hclm := fun (k : Nat) (hk : (k : Int) < s 0 5) => hW.claim hk
  have hfm := fun (f : Nat) (hf : (f : Int) < s 0 3) => hW.form hf
  have hf3 := spFact_3 hW c (s 0 0)
  unfold wfSc at hs
  obtain ⟨n, hn⟩ := i_nat (z := s 0 5) (by omega)
  obtain ⟨hm, -, -, -, -, -, h6, -⟩ := id hR
  have hx : gExt gTM M M := gExt.rf
  have hkr : 0 ≤ spKeeps s c x ∧ spKeeps s c x ≤ 2000000000 := by unfold spKeeps; omega
  refine gMet.of hl rfl (Nat.le_of_ble_eq_true rfl) ?_
  intro Z hE hl0 hQ hX C hnm htab
  subst hE; subst hl0
  replace C : gC Z RX3 cX3_pays 8 none _ := C
  change G Z _ _ _ 0 [(0, _), (1, _), (2, _), (3, _)] []
  have loop : ∀ (r i : Nat) (M1 : gM), x ≠ 0 → i + r = n → RM A M1 (spKeep (up s 6 (51 * c + m) (s 6 (51 * c + m) + x)) c (spKeeps s c x) i).1 t → gExt gTM M M1 → G Z 0 0 M1 49 [(0, .ref (A 0)), (1, vi c), (2, vi m), (3, vi x), (4, vi (spKeeps s c x)), (5, vi (spKeep (up s 6 (51 * c + m) (s 6 (51 * c + m) + x)) c (spKeeps s c x) i).2), (6, vi i)] [] := by
    intro r
    induction r with
    | zero =>
      intro i M1 hx0 hi hR1 hx
      obtain rfl : i = n := by omega
      have h1e : (spKeep (up s 6 (51 * c + m) (s 6 (51 * c + m) + x)) c (spKeeps s c x) i).1 = spPays1 s c m x := by rw [spPays1, hn]; rfl
      rw [h1e] at hR1
      have o0 : spPays1 s c m x 0 = s 0 := spPays1_o (by decide) (by decide)
      have o3 : spPays1 s c m x 3 = s 3 := spPays1_o (by decide) (by decide)
      have o4 : spPays1 s c m x 4 = s 4 := spPays1_o (by decide) (by decide)
      have o5 : spPays1 s c m x 5 = s 5 := spPays1_o (by decide) (by decide)
      obtain ⟨hm, h1, h2, h3, h4, h5, -⟩ := id hR1
      rw [o0] at hm
      rw [o3] at h3
      rw [o4] at h4
      rw [o5] at h5
      refine g_iload (pc := 49) C dX3_pays_49 6 rfl ?_
      refine g_aload_n (pc := 51) C dX3_pays_51 0 rfl trivial rfl ?_
      refine g_get (pc := 52) C dX3_pays_52 cl12 hm 24 (by decide) q1843 (fun _ h9 => h9) rfl ?_
      refine g_icmp_ge (pc := 55) C dX3_pays_55 128 ⟨by omega, by omega⟩ ⟨by omega, by omega⟩ (by decide) (fun c_55 => ?_) (fun c_55 => ?_)
      · skip
        refine g_aload_n (pc := 128) C dX3_pays_128 0 rfl trivial rfl ?_
        refine g_get (pc := 129) C dX3_pays_129 cl12 hm 8 (by decide) q1827 (fun _ h9 => h9) rfl ?_
        refine g_iload_n (pc := 132) C dX3_pays_132 1 rfl rfl ?_
        refine g_dup2 (pc := 133) C dX3_pays_133 rfl rfl ?_
        refine g_iald (pc := 134) C dX3_pays_134 h3 c rfl (by omega) (by omega) ?_
        refine g_iload (pc := 135) C dX3_pays_135 4 rfl ?_
        refine g_iadd (pc := 137) C dX3_pays_137 ?_
        have h3o := h3
        refine g_iast (pc := 138) C dX3_pays_138 h3 (by decide) c rfl (by omega) (by omega) ?_
        refine g_nm (fun M_138 e_138 => ?_)
        replace hx := hx.tr (gExt.putE e_138 h3 (by unfold gTM; omega))
        replace h4 := g_fr e_138 h4 (g_ne h4 h3 (by intro e; cases e))
        replace h5 := g_fr e_138 h5 (g_ne h5 h3 (by intro e; cases e))
        replace hm := g_fr e_138 hm (g_ne hm h3 (by intro e; cases e))
        replace h3 := g_at e_138
        have hR2 := hR1.w3 (M1 := M_138) (i := c) (v := s 3 c + spKeeps s c x) (by rw [o3]; exact e_138)
        refine g_aload_n (pc := 139) C dX3_pays_139 0 rfl trivial rfl ?_
        refine g_iload_n (pc := 140) C dX3_pays_140 1 rfl rfl ?_
        refine g_aload_n (pc := 141) C dX3_pays_141 0 rfl trivial rfl ?_
        refine g_get (pc := 142) C dX3_pays_142 cl12 hm 1 (by decide) q1820 (fun _ h9 => h9) rfl ?_
        refine g_iconst (pc := 145) C dX3_pays_145 ?_
        refine g_callV (pc := 146) C (m_X3_factOnG hl hR2 (c := c) (which := 3) (day := s 0 0) (by have h := hsc; unfold wfSc at h ⊢; show _ ∧ _; rw [show up (spPays1 s c m x) 3 c (s 3 c + spKeeps s c x) 0 = s 0 from o0]; exact h) (fun f hf => by rw [show up (spPays1 s c m x) 3 c (s 3 c + spKeeps s c x) 0 = s 0 from o0] at hf; have h := hfm f hf; unfold wfForm at h ⊢; rw [show up (spPays1 s c m x) 3 c (s 3 c + spKeeps s c x) 0 = s 0 from o0, show up (spPays1 s c m x) 3 c (s 3 c + spKeeps s c x) 11 = s 11 from spPays1_o (by decide) (by decide), show up (spPays1 s c m x) 3 c (s 3 c + spKeeps s c x) 12 = s 12 from spPays1_o (by decide) (by decide), show up (spPays1 s c m x) 3 c (s 3 c + spKeeps s c x) 13 = s 13 from spPays1_o (by decide) (by decide), show up (spPays1 s c m x) 3 c (s 3 c + spKeeps s c x) 14 = s 14 from spPays1_o (by decide) (by decide), show up (spPays1 s c m x) 3 c (s 3 c + spKeeps s c x) 15 = s 15 from spPays1_o (by decide) (by decide), show up (spPays1 s c m x) 3 c (s 3 c + spKeeps s c x) 16 = s 16 from spPays1_o (by decide) (by decide)]; exact h) (by rw [show up (spPays1 s c m x) 3 c (s 3 c + spKeeps s c x) 0 = s 0 from o0]; exact hc) ⟨by omega, by omega⟩ (by decide)) cl12 hm q2078 q2080 qs63 q94 q2081 nmX3_factOn rfl (by decide) (by decide) (Nat.zero_le _) (Nat.zero_le _) rfl (Nat.le_of_ble_eq_true rfl) dX3_pays_146 (gkf ?_) gkx
        rw [spFact_cg (s := s) (s1 := up (spPays1 s c m x) 3 c (s 3 c + spKeeps s c x)) (congrFun o0 3) (spPays1_o (by decide) (by decide)) (spPays1_o (by decide) (by decide)) (spPays1_o (by decide) (by decide)) (spPays1_o (by decide) (by decide))]
        refine g_if_ne (pc := 149) C dX3_pays_149 168 ⟨by omega, by omega⟩ (by decide) (fun c_149 => ?_) (fun c_149 => ?_)
        · skip
          refine g_aload_n (pc := 168) C dX3_pays_168 0 rfl trivial rfl ?_
          refine g_get (pc := 169) C dX3_pays_169 cl12 hm 10 (by decide) q1829 (fun _ h9 => h9) rfl ?_
          refine g_iload_n (pc := 172) C dX3_pays_172 1 rfl rfl ?_
          refine g_dup2 (pc := 173) C dX3_pays_173 rfl rfl ?_
          refine g_iald (pc := 174) C dX3_pays_174 h5 c rfl (by omega) (by omega) ?_
          refine g_iload_n (pc := 175) C dX3_pays_175 3 rfl rfl ?_
          refine g_iload (pc := 176) C dX3_pays_176 4 rfl ?_
          refine g_isub (pc := 178) C dX3_pays_178 ?_
          refine g_iadd (pc := 179) C dX3_pays_179 ?_
          refine g_iast (pc := 180) C dX3_pays_180 h5 (by decide) c rfl (by omega) (by omega) ?_
          refine g_nm (fun M_180 e_180 => ?_)
          replace hx := hx.tr (gExt.putE e_180 h5 (by unfold gTM; omega))
          replace h3 := g_fr e_180 h3 (g_ne h3 h5 (by intro e; cases e))
          replace h4 := g_fr e_180 h4 (g_ne h4 h5 (by intro e; cases e))
          replace hm := g_fr e_180 hm (g_ne hm h5 (by intro e; cases e))
          replace h5 := g_at e_180
          have hR3 := hR2.w5 (M1 := M_180) (i := c) (v := s 5 c + (x - spKeeps s c x)) (by show gSet _ _ (105, gI 0 10 (gUp (spPays1 s c m x 5) _ _)) = _; rw [o5]; exact e_180)
          refine g_vret (pc := 181) hQ C ?_ dX3_pays_181
          refine ⟨rfl, ?_, hx⟩
          rw [spPays, if_neg hx0]
          first | (rw [if_pos (by omega)]; exact hR3) | (rw [if_neg (by omega)]; exact hR3)
        · skip
          refine g_aload_n (pc := 152) C dX3_pays_152 0 rfl trivial rfl ?_
          refine g_get (pc := 153) C dX3_pays_153 cl12 hm 9 (by decide) q1828 (fun _ h9 => h9) rfl ?_
          refine g_iload_n (pc := 156) C dX3_pays_156 1 rfl rfl ?_
          refine g_dup2 (pc := 157) C dX3_pays_157 rfl rfl ?_
          refine g_iald (pc := 158) C dX3_pays_158 h4 c rfl (by omega) (by omega) ?_
          refine g_iload_n (pc := 159) C dX3_pays_159 3 rfl rfl ?_
          refine g_iload (pc := 160) C dX3_pays_160 4 rfl ?_
          refine g_isub (pc := 162) C dX3_pays_162 ?_
          refine g_iadd (pc := 163) C dX3_pays_163 ?_
          refine g_iast (pc := 164) C dX3_pays_164 h4 (by decide) c rfl (by omega) (by omega) ?_
          refine g_nm (fun M_164 e_164 => ?_)
          replace hx := hx.tr (gExt.putE e_164 h4 (by unfold gTM; omega))
          replace h3 := g_fr e_164 h3 (g_ne h3 h4 (by intro e; cases e))
          replace h5 := g_fr e_164 h5 (g_ne h5 h4 (by intro e; cases e))
          replace hm := g_fr e_164 hm (g_ne hm h4 (by intro e; cases e))
          replace h4 := g_at e_164
          have hR3 := hR2.w4 (M1 := M_164) (i := c) (v := s 4 c + (x - spKeeps s c x)) (by show gSet _ _ (104, gI 0 10 (gUp (spPays1 s c m x 4) _ _)) = _; rw [o4]; exact e_164)
          refine g_goto (pc := 165) C dX3_pays_165 181 (by decide) ?_
          refine g_vret (pc := 181) hQ C ?_ dX3_pays_181
          refine ⟨rfl, ?_, hx⟩
          rw [spPays, if_neg hx0]
          first | (rw [if_pos (by omega)]; exact hR3) | (rw [if_neg (by omega)]; exact hR3)
      · skip
        omega
    | succ r ih =>
      intro i M1 hx0 hi hR1 hx
      have hk := spKeep_r (s := up s 6 (51 * c + m) (s 6 (51 * c + m) + x)) (c := c) hkr.1 (k := i) (fun j hj => by have h := hclm j (by omega); unfold wfClaim at h; exact h.2.2.2.2.1.1)
      have hcl := hclm i (by omega)
      unfold wfClaim at hcl
      have o0 : (spKeep (up s 6 (51 * c + m) (s 6 (51 * c + m) + x)) c (spKeeps s c x) i).1 0 = s 0 := (spKeep_o (by decide) i).trans (up_n _ _ _ (by decide))
      have oj : ∀ j, 6 * i ≤ j → (spKeep (up s 6 (51 * c + m) (s 6 (51 * c + m) + x)) c (spKeeps s c x) i).1 23 j = s 23 j := fun j hj => spKeep_j hj
      obtain ⟨hm, -, -, -, -, -, -, -, -, -, -, -, -, -, -, -, -, -, h23, -⟩ := id hR1
      rw [o0] at hm h23
      refine g_iload (pc := 49) C dX3_pays_49 6 rfl ?_
      refine g_aload_n (pc := 51) C dX3_pays_51 0 rfl trivial rfl ?_
      refine g_get (pc := 52) C dX3_pays_52 cl12 hm 24 (by decide) q1843 (fun _ h9 => h9) rfl ?_
      refine g_icmp_ge (pc := 55) C dX3_pays_55 128 ⟨by omega, by omega⟩ ⟨by omega, by omega⟩ (by decide) (fun c_55 => ?_) (fun c_55 => ?_)
      · skip
        omega
      · skip
        refine g_aload_n (pc := 58) C dX3_pays_58 0 rfl trivial rfl ?_
        refine g_get (pc := 59) C dX3_pays_59 cl12 hm 25 (by decide) q1844 (fun _ h9 => h9) rfl ?_
        refine g_bipush (pc := 62) C dX3_pays_62 (by decide) ?_
        refine g_iload (pc := 64) C dX3_pays_64 6 rfl ?_
        refine g_imul (pc := 66) C dX3_pays_66 ?_
        refine g_iald (pc := 67) C dX3_pays_67 h23 (6 * i) (by omega) (by omega) (by omega) ?_
        rw [oj _ (by omega)]
        refine g_iload_n (pc := 68) C dX3_pays_68 1 rfl rfl ?_
        refine g_icmp_ne (pc := 69) C dX3_pays_69 122 ⟨by omega, by omega⟩ ⟨by omega, by omega⟩ (by decide) (fun c_69 => ?_) (fun c_69 => ?_)
        · skip
          refine g_iinc (pc := 122) C dX3_pays_122 6 rfl (Nat.le_of_ble_eq_true rfl) rfl (loc1 := [(0, _), (1, _), (2, _), (3, _), (4, _), (5, _), (6, _)]) rfl ?_
          refine g_goto (pc := 125) C dX3_pays_125 49 (by decide) ?_
          first | (have h9 := ih (i + 1) M_119 hx0 (by omega) (by rw [spKeep_pos (s := up s 6 (51 * c + m) (s 6 (51 * c + m) + x)) (show s 23 (6 * i) = c ∧ s 23 (6 * i + 5) = 2 by omega)]; exact hR3) (hx.tr hx3); rw [spKeep_pos (s := up s 6 (51 * c + m) (s 6 (51 * c + m) + x)) (show s 23 (6 * i) = c ∧ s 23 (6 * i + 5) = 2 by omega)] at h9; exact h9) | (have h9 := ih (i + 1) M1 hx0 (by omega) (by rw [spKeep_neg (s := up s 6 (51 * c + m) (s 6 (51 * c + m) + x)) (show ¬ (s 23 (6 * i) = c ∧ s 23 (6 * i + 5) = 2) by omega)]; exact hR1) hx; rw [spKeep_neg (s := up s 6 (51 * c + m) (s 6 (51 * c + m) + x)) (show ¬ (s 23 (6 * i) = c ∧ s 23 (6 * i + 5) = 2) by omega)] at h9; exact h9)
        · skip
          refine g_aload_n (pc := 72) C dX3_pays_72 0 rfl trivial rfl ?_
          refine g_get (pc := 73) C dX3_pays_73 cl12 hm 25 (by decide) q1844 (fun _ h9 => h9) rfl ?_
          refine g_bipush (pc := 76) C dX3_pays_76 (by decide) ?_
          refine g_iload (pc := 78) C dX3_pays_78 6 rfl ?_
          refine g_imul (pc := 80) C dX3_pays_80 ?_
          refine g_iconst (pc := 81) C dX3_pays_81 ?_
          refine g_iadd (pc := 82) C dX3_pays_82 ?_
          refine g_iald (pc := 83) C dX3_pays_83 h23 (6 * i + 5) (by omega) (by omega) (by omega) ?_
          rw [oj _ (by omega)]
          refine g_iconst (pc := 84) C dX3_pays_84 ?_
          refine g_icmp_ne (pc := 85) C dX3_pays_85 122 ⟨by omega, by omega⟩ ⟨by omega, by omega⟩ (by decide) (fun c_85 => ?_) (fun c_85 => ?_)
          · skip
            refine g_iinc (pc := 122) C dX3_pays_122 6 rfl (Nat.le_of_ble_eq_true rfl) rfl (loc1 := [(0, _), (1, _), (2, _), (3, _), (4, _), (5, _), (6, _)]) rfl ?_
            refine g_goto (pc := 125) C dX3_pays_125 49 (by decide) ?_
            first | (have h9 := ih (i + 1) M_119 hx0 (by omega) (by rw [spKeep_pos (s := up s 6 (51 * c + m) (s 6 (51 * c + m) + x)) (show s 23 (6 * i) = c ∧ s 23 (6 * i + 5) = 2 by omega)]; exact hR3) (hx.tr hx3); rw [spKeep_pos (s := up s 6 (51 * c + m) (s 6 (51 * c + m) + x)) (show s 23 (6 * i) = c ∧ s 23 (6 * i + 5) = 2 by omega)] at h9; exact h9) | (have h9 := ih (i + 1) M1 hx0 (by omega) (by rw [spKeep_neg (s := up s 6 (51 * c + m) (s 6 (51 * c + m) + x)) (show ¬ (s 23 (6 * i) = c ∧ s 23 (6 * i + 5) = 2) by omega)]; exact hR1) hx; rw [spKeep_neg (s := up s 6 (51 * c + m) (s 6 (51 * c + m) + x)) (show ¬ (s 23 (6 * i) = c ∧ s 23 (6 * i + 5) = 2) by omega)] at h9; exact h9)
          · skip
            refine g_iload (pc := 88) C dX3_pays_88 5 rfl ?_
            refine g_aload_n (pc := 90) C dX3_pays_90 0 rfl trivial rfl ?_
            refine g_get (pc := 91) C dX3_pays_91 cl12 hm 25 (by decide) q1844 (fun _ h9 => h9) rfl ?_
            refine g_bipush (pc := 94) C dX3_pays_94 (by decide) ?_
            refine g_iload (pc := 96) C dX3_pays_96 6 rfl ?_
            refine g_imul (pc := 98) C dX3_pays_98 ?_
            refine g_iconst (pc := 99) C dX3_pays_99 ?_
            refine g_iadd (pc := 100) C dX3_pays_100 ?_
            refine g_iald (pc := 101) C dX3_pays_101 h23 (6 * i + 4) (by omega) (by omega) (by omega) ?_
            rw [oj _ (by omega)]
            refine g_mmin (pc := 102) C dX3_pays_102 ⟨by omega, by omega⟩ ⟨by omega, by omega⟩ q2093 (by decide) (Nat.le_of_ble_eq_true rfl) ?_
            refine g_istore (pc := 105) C dX3_pays_105 (Nat.le_of_ble_eq_true rfl) rfl (loc1 := [(0, _), (1, _), (2, _), (3, _), (4, _), (5, _), (6, _), (7, _)]) rfl ?_
            refine g_iload (pc := 107) C dX3_pays_107 5 rfl ?_
            refine g_iload (pc := 109) C dX3_pays_109 7 rfl ?_
            refine g_isub (pc := 111) C dX3_pays_111 ?_
            refine g_istore (pc := 112) C dX3_pays_112 (Nat.le_of_ble_eq_true rfl) rfl (loc1 := [(0, _), (1, _), (2, _), (3, _), (4, _), (5, _), (6, _), (7, _)]) rfl ?_
            refine g_aload_n (pc := 114) C dX3_pays_114 0 rfl trivial rfl ?_
            refine g_iload (pc := 115) C dX3_pays_115 6 rfl ?_
            refine g_iload (pc := 117) C dX3_pays_117 7 rfl ?_
            refine g_callV (pc := 119) C (m_X3_lessen hl hR1 (k := i) (x := min (spKeep (up s 6 (51 * c + m) (s 6 (51 * c + m) + x)) c (spKeeps s c x) i).2 (s 23 (6 * i + 4))) (by rw [o0]; omega) (by rw [oj _ (by omega)]; exact ⟨by omega, by omega⟩) (by rw [oj _ (by omega)]; exact ⟨by omega, by omega⟩)) cl12 hm q2045 q2047 qs57 q94 q2048 nmX3_lessen rfl (by decide) (by decide) (by omega) (by omega) rfl (Nat.le_of_ble_eq_true rfl) dX3_pays_119 (fun v_119 M_119 h_119 => ?_) (fun E_119 q_119 M_119 h_119 => ?_)
            rotate_left
            · exact h_119.elim
            obtain ⟨rfl, hR3, hx3⟩ := h_119
            refine g_iinc (pc := 122) C dX3_pays_122 6 rfl (Nat.le_of_ble_eq_true rfl) rfl (loc1 := [(0, _), (1, _), (2, _), (3, _), (4, _), (5, _), (6, _), (7, _)]) rfl ?_
            refine g_goto (pc := 125) C dX3_pays_125 49 (by decide) ?_
            refine G.drop 7 (loc1 := [(0, _), (1, _), (2, _), (3, _), (4, _), (5, _), (6, _)]) rfl ?_
            first | (have h9 := ih (i + 1) M_119 hx0 (by omega) (by rw [spKeep_pos (s := up s 6 (51 * c + m) (s 6 (51 * c + m) + x)) (show s 23 (6 * i) = c ∧ s 23 (6 * i + 5) = 2 by omega)]; exact hR3) (hx.tr hx3); rw [spKeep_pos (s := up s 6 (51 * c + m) (s 6 (51 * c + m) + x)) (show s 23 (6 * i) = c ∧ s 23 (6 * i + 5) = 2 by omega)] at h9; exact h9) | (have h9 := ih (i + 1) M1 hx0 (by omega) (by rw [spKeep_neg (s := up s 6 (51 * c + m) (s 6 (51 * c + m) + x)) (show ¬ (s 23 (6 * i) = c ∧ s 23 (6 * i + 5) = 2) by omega)]; exact hR1) hx; rw [spKeep_neg (s := up s 6 (51 * c + m) (s 6 (51 * c + m) + x)) (show ¬ (s 23 (6 * i) = c ∧ s 23 (6 * i + 5) = 2) by omega)] at h9; exact h9)
  refine g_iload_n (pc := 0) C dX3_pays_0 3 rfl rfl ?_
  refine g_if_ne (pc := 1) C dX3_pays_1 5 ⟨by omega, by omega⟩ (by decide) (fun c_1 => ?_) (fun c_1 => ?_)
  · skip
    refine g_aload_n (pc := 5) C dX3_pays_5 0 rfl trivial rfl ?_
    refine g_get (pc := 6) C dX3_pays_6 cl12 hm 11 (by decide) q1830 (fun _ h9 => h9) rfl ?_
    refine g_bipush (pc := 9) C dX3_pays_9 (by decide) ?_
    refine g_iload_n (pc := 11) C dX3_pays_11 1 rfl rfl ?_
    refine g_imul (pc := 12) C dX3_pays_12 ?_
    refine g_iload_n (pc := 13) C dX3_pays_13 2 rfl rfl ?_
    refine g_iadd (pc := 14) C dX3_pays_14 ?_
    refine g_dup2 (pc := 15) C dX3_pays_15 rfl rfl ?_
    refine g_iald (pc := 16) C dX3_pays_16 h6 (51 * c + m) (by omega) (by omega) (by omega) ?_
    refine g_iload_n (pc := 17) C dX3_pays_17 3 rfl rfl ?_
    refine g_iadd (pc := 18) C dX3_pays_18 ?_
    refine g_iast (pc := 19) C dX3_pays_19 h6 (by decide) (51 * c + m) (by omega) (by omega) (by omega) ?_
    refine g_nm (fun M_19 e_19 => ?_)
    replace hx := hx.tr (gExt.putE e_19 h6 (by unfold gTM; omega))
    replace hm := g_fr e_19 hm (g_ne hm h6 (by intro e; cases e))
    replace h6 := g_at e_19
    have hR1 := hR.w6 e_19
    refine g_iload_n (pc := 20) C dX3_pays_20 3 rfl rfl ?_
    refine g_i2l (pc := 21) C dX3_pays_21 ⟨by omega, by omega⟩ ?_
    refine g_ldc2 (pc := 22) C dX3_pays_22 (x := jv 20) q2088 ?_
    refine g_lmul (pc := 25) C dX3_pays_25 ?_
    refine g_ldc2 (pc := 26) C dX3_pays_26 (x := jv 100) q2040 ?_
    refine g_ldiv (pc := 29) C dX3_pays_29 ⟨by omega, by omega⟩ ⟨by omega, by omega⟩ ?_
    refine g_l2i (pc := 30) C dX3_pays_30 ⟨by omega, by omega⟩ ?_
    refine g_aload_n (pc := 31) C dX3_pays_31 0 rfl trivial rfl ?_
    refine g_iload_n (pc := 32) C dX3_pays_32 1 rfl rfl ?_
    refine g_iconst (pc := 33) C dX3_pays_33 ?_
    refine g_callV (pc := 34) C (m_X3_leftOfG hl hR1 (c := c) (firm := true) hsc (fun k hk => hclm k hk) hc) cl12 hm q2089 q2091 qs65 q94 q2092 nmX3_leftOf rfl (by decide) (by decide) (Nat.zero_le _) (Nat.zero_le _) rfl (Nat.le_of_ble_eq_true rfl) dX3_pays_34 (gkf ?_) gkx
    rw [show spLeft (up s 6 (51 * c + m) (s 6 (51 * c + m) + x)) c true = spLeft s c true from rfl]
    refine g_mmin (pc := 37) C dX3_pays_37 ⟨by omega, by omega⟩ ⟨by omega, by omega⟩ q2093 (by decide) (Nat.le_of_ble_eq_true rfl) ?_
    refine g_istore (pc := 40) C dX3_pays_40 (Nat.le_of_ble_eq_true rfl) rfl (loc1 := [(0, _), (1, _), (2, _), (3, _), (4, _)]) rfl ?_
    refine g_iload (pc := 42) C dX3_pays_42 4 rfl ?_
    refine g_istore (pc := 44) C dX3_pays_44 (Nat.le_of_ble_eq_true rfl) rfl (loc1 := [(0, _), (1, _), (2, _), (3, _), (4, _), (5, _)]) rfl ?_
    refine g_iconst (pc := 46) C dX3_pays_46 ?_
    refine g_istore (pc := 47) C dX3_pays_47 (Nat.le_of_ble_eq_true rfl) rfl (loc1 := [(0, _), (1, _), (2, _), (3, _), (4, _), (5, _), (6, _)]) rfl ?_
    exact loop n 0 M_19 (by omega) (by omega) hR1 hx
  · skip
    refine g_vret (pc := 4) hQ C ?_ dX3_pays_4
    exact ⟨rfl, by rw [spPays, if_pos (by omega)]; exact hR, hx⟩
end
