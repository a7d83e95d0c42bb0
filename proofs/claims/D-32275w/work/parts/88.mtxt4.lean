/-! AppealrentModel: a text's words -/
set_option maxRecDepth 100000
section
variable {M M0 M1 : gM} {A : Nat → Nat} {s s1 : gS} {t t1 : Int}
theorem h24_here {form : Bool} {w : Nat} : spHere s form w 24 = s 24 := by
  unfold spHere spFactHere spReads spPassW
  repeat' split
  all_goals first | rfl | exact up_n _ _ _ (by decide)
theorem or3_t1 {sm form : Bool} {p : Prop} [Decidable p] (h : sm = true) : (sm || !form || decide p) = true := by rw [h]; rfl
theorem or3_t2 {sm form : Bool} {p : Prop} [Decidable p] (h : form = false) : (sm || !form || decide p) = true := by rw [h]; cases sm <;> rfl
theorem or3_t3 {sm form : Bool} {p : Prop} [Decidable p] (h : p) : (sm || !form || decide p) = true := by rw [decide_eq_true h]; cases sm <;> cases form <;> rfl
theorem or3_f {sm form : Bool} {p : Prop} [Decidable p] (h : sm = false) (h1 : form = true) (h2 : ¬ p) : (sm || !form || decide p) = false := by rw [h, h1, decide_eq_false h2]; rfl
theorem up24_r {i : Nat} {v : Int} (e : s1 24 = s 24) (h : ∀ k, k < 5 → -1 ≤ s 24 k ∧ s 24 k ≤ 10000000) (hv : -1 ≤ v ∧ v ≤ 10000000) : ∀ k, k < 5 → -1 ≤ up s1 24 i v 24 k ∧ up s1 24 i v 24 k ≤ 10000000 := fun k hk => by
  rw [up_s]
  by_cases q : k = i
  · rw [q, gUp_s]; exact hv
  · rw [gUp_n _ _ q, e]; exact h k hk
theorem x_X3_words {Z : gZ} (C : gC Z RX3 cX3_text 6 (some .boolean) 7) (hl : (gZl Z).stackTraces = false) {form : Bool} {F : Nat → Option Nat} {q : Nat} (hF : ∀ k, k < 5 → F k = some (Z.1.2.2.2.2 (2 * wdOf form k + 1))) {R : gS × Bool} {k9 n9 : Nat} (hQ : Z.2.2.1 = fun w M1 => w = some (vi (b2 R.2)) ∧ RM A M1 R.1 t ∧ gExt gTM M0 M1) : ∀ (f : Nat) (s : gS) (sm : Bool) (M : gM), spWords form f s sm = R → s 0 1 - s 0 9 < f → RM A M s t → WF s → s 0 9 ≤ s 0 1 → noSp s → (∀ k, k < 5 → -1 ≤ s 24 k ∧ s 24 k ≤ 10000000) → M q = some (90, gR 7 5 F) → gExt gTM M0 M → G Z k9 n9 M 109 [(0, .ref (A 0)), (1, vi (b2 form)), (2, .ref q), (3, vi (b2 sm))] [] := by
  intro f
  induction f with
  | zero =>
    intro s sm M hsp hf hR hW hle hns h24r hq hx
    have hs := hW.sc
    unfold wfSc at hs
    omega
  | succ f ih =>
    intro s sm M hsp hf hR hW hle hns h24r hq hx
    have hs := hW.sc
    unfold wfSc at hs
    have hm := hR.1
    have hwr := spWhich_r s form 5
    have hW1 := WF_passW hW
    have hp1 := passW_at hW hle
    have hp2 := fun z : s 0 9 < s 0 1 => passW_lt hW z (hns z)
    have hqh := qHere_r hW1 form (spWhich s form 5).toNat
    have hha := here_at hW1 (by omega : spPassW s 0 9 ≤ spPassW s 0 1) form (spWhich s form 5).toNat
    have hW2 := WF_here hW1 form (spWhich s form 5).toNat
    have hn2 := here_ns hW1 (by omega) (passW_ns hW hle) form (spWhich s form 5).toNat
    have body : ¬ s 0 1 ≤ s 0 9 → (if spWhich s form 5 = -1 then (s, false) else if qHere (spPassW s) form (spWhich s form 5).toNat = -1 then (spHere (spPassW s) form (spWhich s form 5).toNat, false) else spWords form f (up (spHere (spPassW s) form (spWhich s form 5).toNat) 24 (spWhich s form 5).toNat (qHere (spPassW s) form (spWhich s form 5).toNat)) (sm || !form || decide (spWhich s form 5 ≠ 4))) = R → G Z k9 n9 M 169 [(0, .ref (A 0)), (1, vi (b2 form)), (2, .ref q), (3, vi (b2 sm)), (4, vi (spWhich s form 5))] [] := by
      intro hlt hsp
      refine g_iload (pc := 169) C dX3_text_169 4 rfl ?_
      refine g_iconst (pc := 171) C dX3_text_171 ?_
      refine g_icmp_ne (pc := 172) C dX3_text_172 177 ⟨by omega, by omega⟩ ⟨by omega, by omega⟩ (by decide) (fun c_172 => ?_) (fun c_172 => ?_)
      · skip
        rw [if_neg (by omega)] at hsp
        refine g_aload_n (pc := 177) C dX3_text_177 0 rfl trivial rfl ?_
        refine g_callV (pc := 178) C (m_X3_pass hl hR hW) cl12 hm q1989 q1991 qs49 q94 q1992 nmX3_pass rfl (by decide) (by decide) (by omega) (by omega) rfl (Nat.le_of_ble_eq_true rfl) dX3_text_178 (fun v_178 M_178 h_178 => ?_) (fun E_178 q_178 M_178 h_178 => ?_)
        rotate_left
        · exact h_178.elim
        obtain ⟨rfl, hR2, hx2⟩ := h_178
        replace hq := hx2.t hq (by unfold gTM; omega)
        replace hm := hR2.1
        refine g_iload_n (pc := 181) C dX3_text_181 1 rfl rfl ?_
        refine g_ifb_eq (pc := 182) C dX3_text_182 194 (by decide) (fun c_182 => ?_) (fun c_182 => ?_)
        · skip
          have d_182 := c_182
          try simp only [decide_eq_true_eq, decide_eq_false_iff_not, Bool.and_eq_true, Bool.and_eq_false_iff, ne_eq, Classical.not_not] at c_182
          refine g_aload_n (pc := 194) C dX3_text_194 0 rfl trivial rfl ?_
          refine g_iload (pc := 195) C dX3_text_195 4 rfl ?_
          refine g_callV (pc := 197) C (m_X3_numberHere hl hR2 hW1 (by omega) (w := (spWhich s form 5).toNat) (by omega)) cl12 hm q2007 q2009 qs52 q94 q2010 nmX3_numberHere rfl (by decide) (by decide) (by omega) (by omega) (by rw [iv_tn (k := spWhich s form 5) (by omega)]; rfl) (Nat.le_of_ble_eq_true rfl) dX3_text_197 (fun v_197 M_197 h_197 => ?_) (fun E_197 q_197 M_197 h_197 => ?_)
          rotate_left
          · exact h_197.elim
          obtain ⟨rfl, hR3, hx3⟩ := h_197
          replace hq := hx3.t hq (by unfold gTM; omega)
          have eq1 : qReads (spPassW s) 0 (if (spWhich s form 5).toNat = 0 ∨ (spWhich s form 5).toNat = 4 then 1000000 else if (spWhich s form 5).toNat = 2 then 9999999 else 100) = qHere (spPassW s) form (spWhich s form 5).toNat := by unfold qHere; rw [if_neg (show ¬ form = true by rw [c_182]; exact Bool.false_ne_true)]; rfl
          have es1 : spReads (spPassW s) 0 (if (spWhich s form 5).toNat = 0 ∨ (spWhich s form 5).toNat = 4 then 1000000 else if (spWhich s form 5).toNat = 2 then 9999999 else 100) = spHere (spPassW s) form (spWhich s form 5).toNat := by unfold spHere; rw [if_neg (show ¬ form = true by rw [c_182]; exact Bool.false_ne_true)]; rfl
          rw [eq1]
          rw [es1] at hR3
          refine g_istore (pc := 200) C dX3_text_200 (Nat.le_of_ble_eq_true rfl) rfl (loc1 := [(0, _), (1, _), (2, _), (3, _), (4, _), (5, _)]) rfl ?_
          refine g_iload (pc := 202) C dX3_text_202 5 rfl ?_
          refine g_iconst (pc := 204) C dX3_text_204 ?_
          refine g_icmp_ne (pc := 205) C dX3_text_205 210 ⟨by omega, by omega⟩ ⟨by omega, by omega⟩ (by decide) (fun c_205 => ?_) (fun c_205 => ?_)
          · skip
            rw [if_neg (by omega)] at hsp
            obtain ⟨hm, -, -, -, -, -, -, -, -, -, -, -, -, -, -, -, -, -, -, h24⟩ := id hR3
            have hx4 := (hx.tr hx2).tr hx3
            refine g_aload_n (pc := 210) C dX3_text_210 0 rfl trivial rfl ?_
            refine g_get (pc := 211) C dX3_text_211 cl12 hm 28 (by decide) q1847 (fun _ h9 => h9) rfl ?_
            refine g_iload (pc := 214) C dX3_text_214 4 rfl ?_
            refine g_iload (pc := 216) C dX3_text_216 5 rfl ?_
            refine g_iast (pc := 218) C dX3_text_218 h24 (by decide) (spWhich s form 5).toNat (by omega) (by omega) (by omega) ?_
            refine g_nm (fun M_218 e_218 => ?_)
            replace hx4 := hx4.tr (gExt.putE e_218 h24 (by unfold gTM; omega))
            replace hm := g_fr e_218 hm (g_ne hm h24 (by intro e; cases e))
            replace hq := g_fr e_218 hq (g_ne hq h24 (by intro e; cases e))
            replace h24 := g_at e_218
            have hR4 := hR3.w24 e_218
            refine g_iload_n (pc := 219) C dX3_text_219 3 rfl rfl ?_
            refine g_ifb_ne (pc := 220) C dX3_text_220 233 (by decide) (fun c_220 => ?_) (fun c_220 => ?_)
            · skip
              have d_220 := c_220
              try simp only [decide_eq_true_eq, decide_eq_false_iff_not, Bool.and_eq_true, Bool.and_eq_false_iff, ne_eq, Classical.not_not] at c_220
              refine g_iconst (pc := 233) C dX3_text_233 ?_
              refine g_goto (pc := 234) C dX3_text_234 238 (by decide) ?_
              refine g_istore_n (pc := 238) C dX3_text_238 (Nat.le_of_ble_eq_true rfl) rfl rfl (loc1 := [(0, _), (1, _), (2, _), (3, _), (4, _), (5, _)]) rfl ?_
              refine g_goto (pc := 239) C dX3_text_239 109 (by decide) ?_
              refine G.drop 4 (loc1 := [(0, _), (1, _), (2, _), (3, _), (5, _)]) rfl ?_
              refine G.drop 4 (loc1 := [(0, _), (1, _), (2, _), (3, _)]) rfl ?_
              have h24b : spHere (spPassW s) form (spWhich s form 5).toNat 24 = s 24 := h24_here
              have h9 := ih _ _ M_218 hsp (by show spHere (spPassW s) form (spWhich s form 5).toNat 0 1 - spHere (spPassW s) form (spWhich s form 5).toNat 0 9 < f; have := hp2 (by omega); omega) hR4 (WF_read hW2 _ _) (by show spHere (spPassW s) form (spWhich s form 5).toNat 0 9 ≤ spHere (spPassW s) form (spWhich s form 5).toNat 0 1; omega) hn2 (up24_r h24b h24r hqh) hq hx4
              first | (rw [or3_t1 c_220] at h9; exact h9) | (rw [or3_t2 c_224] at h9; exact h9) | (rw [or3_t3 (show spWhich s form 5 ≠ 4 from by omega)] at h9; exact h9) | (rw [or3_f c_220 c_224 (show ¬ (spWhich s form 5 ≠ 4) from fun z => by omega)] at h9; exact h9)
            · skip
              have d_220 := c_220
              try simp only [decide_eq_true_eq, decide_eq_false_iff_not, Bool.and_eq_true, Bool.and_eq_false_iff, ne_eq, Classical.not_not] at c_220
              refine g_iload_n (pc := 223) C dX3_text_223 1 rfl rfl ?_
              refine g_ifb_eq (pc := 224) C dX3_text_224 233 (by decide) (fun c_224 => ?_) (fun c_224 => ?_)
              · skip
                have d_224 := c_224
                try simp only [decide_eq_true_eq, decide_eq_false_iff_not, Bool.and_eq_true, Bool.and_eq_false_iff, ne_eq, Classical.not_not] at c_224
                refine g_iconst (pc := 233) C dX3_text_233 ?_
                refine g_goto (pc := 234) C dX3_text_234 238 (by decide) ?_
                refine g_istore_n (pc := 238) C dX3_text_238 (Nat.le_of_ble_eq_true rfl) rfl rfl (loc1 := [(0, _), (1, _), (2, _), (3, _), (4, _), (5, _)]) rfl ?_
                refine g_goto (pc := 239) C dX3_text_239 109 (by decide) ?_
                refine G.drop 4 (loc1 := [(0, _), (1, _), (2, _), (3, _), (5, _)]) rfl ?_
                refine G.drop 4 (loc1 := [(0, _), (1, _), (2, _), (3, _)]) rfl ?_
                have h24b : spHere (spPassW s) form (spWhich s form 5).toNat 24 = s 24 := h24_here
                have h9 := ih _ _ M_218 hsp (by show spHere (spPassW s) form (spWhich s form 5).toNat 0 1 - spHere (spPassW s) form (spWhich s form 5).toNat 0 9 < f; have := hp2 (by omega); omega) hR4 (WF_read hW2 _ _) (by show spHere (spPassW s) form (spWhich s form 5).toNat 0 9 ≤ spHere (spPassW s) form (spWhich s form 5).toNat 0 1; omega) hn2 (up24_r h24b h24r hqh) hq hx4
                first | (rw [or3_t1 c_220] at h9; exact h9) | (rw [or3_t2 c_224] at h9; exact h9) | (rw [or3_t3 (show spWhich s form 5 ≠ 4 from by omega)] at h9; exact h9) | (rw [or3_f c_220 c_224 (show ¬ (spWhich s form 5 ≠ 4) from fun z => by omega)] at h9; exact h9)
              · skip
                have d_224 := c_224
                try simp only [decide_eq_true_eq, decide_eq_false_iff_not, Bool.and_eq_true, Bool.and_eq_false_iff, ne_eq, Classical.not_not] at c_224
                refine g_iload (pc := 227) C dX3_text_227 4 rfl ?_
                refine g_iconst (pc := 229) C dX3_text_229 ?_
                refine g_icmp_eq (pc := 230) C dX3_text_230 237 ⟨by omega, by omega⟩ ⟨by omega, by omega⟩ (by decide) (fun c_230 => ?_) (fun c_230 => ?_)
                · skip
                  refine g_iconst (pc := 237) C dX3_text_237 ?_
                  refine g_istore_n (pc := 238) C dX3_text_238 (Nat.le_of_ble_eq_true rfl) rfl rfl (loc1 := [(0, _), (1, _), (2, _), (3, _), (4, _), (5, _)]) rfl ?_
                  refine g_goto (pc := 239) C dX3_text_239 109 (by decide) ?_
                  refine G.drop 4 (loc1 := [(0, _), (1, _), (2, _), (3, _), (5, _)]) rfl ?_
                  refine G.drop 4 (loc1 := [(0, _), (1, _), (2, _), (3, _)]) rfl ?_
                  have h24b : spHere (spPassW s) form (spWhich s form 5).toNat 24 = s 24 := h24_here
                  have h9 := ih _ _ M_218 hsp (by show spHere (spPassW s) form (spWhich s form 5).toNat 0 1 - spHere (spPassW s) form (spWhich s form 5).toNat 0 9 < f; have := hp2 (by omega); omega) hR4 (WF_read hW2 _ _) (by show spHere (spPassW s) form (spWhich s form 5).toNat 0 9 ≤ spHere (spPassW s) form (spWhich s form 5).toNat 0 1; omega) hn2 (up24_r h24b h24r hqh) hq hx4
                  first | (rw [or3_t1 c_220] at h9; exact h9) | (rw [or3_t2 c_224] at h9; exact h9) | (rw [or3_t3 (show spWhich s form 5 ≠ 4 from by omega)] at h9; exact h9) | (rw [or3_f c_220 c_224 (show ¬ (spWhich s form 5 ≠ 4) from fun z => by omega)] at h9; exact h9)
                · skip
                  refine g_iconst (pc := 233) C dX3_text_233 ?_
                  refine g_goto (pc := 234) C dX3_text_234 238 (by decide) ?_
                  refine g_istore_n (pc := 238) C dX3_text_238 (Nat.le_of_ble_eq_true rfl) rfl rfl (loc1 := [(0, _), (1, _), (2, _), (3, _), (4, _), (5, _)]) rfl ?_
                  refine g_goto (pc := 239) C dX3_text_239 109 (by decide) ?_
                  refine G.drop 4 (loc1 := [(0, _), (1, _), (2, _), (3, _), (5, _)]) rfl ?_
                  refine G.drop 4 (loc1 := [(0, _), (1, _), (2, _), (3, _)]) rfl ?_
                  have h24b : spHere (spPassW s) form (spWhich s form 5).toNat 24 = s 24 := h24_here
                  have h9 := ih _ _ M_218 hsp (by show spHere (spPassW s) form (spWhich s form 5).toNat 0 1 - spHere (spPassW s) form (spWhich s form 5).toNat 0 9 < f; have := hp2 (by omega); omega) hR4 (WF_read hW2 _ _) (by show spHere (spPassW s) form (spWhich s form 5).toNat 0 9 ≤ spHere (spPassW s) form (spWhich s form 5).toNat 0 1; omega) hn2 (up24_r h24b h24r hqh) hq hx4
                  first | (rw [or3_t1 c_220] at h9; exact h9) | (rw [or3_t2 c_224] at h9; exact h9) | (rw [or3_t3 (show spWhich s form 5 ≠ 4 from by omega)] at h9; exact h9) | (rw [or3_f c_220 c_224 (show ¬ (spWhich s form 5 ≠ 4) from fun z => by omega)] at h9; exact h9)
          · skip
            rw [if_pos (by omega)] at hsp; subst hsp
            refine g_iconst (pc := 208) C dX3_text_208 ?_
            refine g_nret (pc := 209) hQ C rfl ?_ dX3_text_209
            exact ⟨rfl, hR3, (hx.tr hx2).tr hx3⟩
        · skip
          have d_182 := c_182
          try simp only [decide_eq_true_eq, decide_eq_false_iff_not, Bool.and_eq_true, Bool.and_eq_false_iff, ne_eq, Classical.not_not] at c_182
          refine g_aload_n (pc := 185) C dX3_text_185 0 rfl trivial rfl ?_
          refine g_iload (pc := 186) C dX3_text_186 4 rfl ?_
          refine g_callV (pc := 188) C (m_X3_factHere hl hR2 hW1 (by omega) (w := (spWhich s form 5).toNat) (by omega)) cl12 hm q1993 q1995 qs50 q94 q1996 nmX3_factHere rfl (by decide) (by decide) (by omega) (by omega) (by rw [iv_tn (k := spWhich s form 5) (by omega)]; rfl) (Nat.le_of_ble_eq_true rfl) dX3_text_188 (fun v_188 M_188 h_188 => ?_) (fun E_188 q_188 M_188 h_188 => ?_)
          rotate_left
          · exact h_188.elim
          obtain ⟨rfl, hR3, hx3⟩ := h_188
          replace hq := hx3.t hq (by unfold gTM; omega)
          have eq1 : qFactHere (spPassW s) (spWhich s form 5).toNat = qHere (spPassW s) form (spWhich s form 5).toNat := by rw [qHere, if_pos c_182]
          have es1 : spFactHere (spPassW s) (spWhich s form 5).toNat = spHere (spPassW s) form (spWhich s form 5).toNat := by rw [spHere, if_pos c_182]
          rw [eq1]
          rw [es1] at hR3
          refine g_goto (pc := 191) C dX3_text_191 200 (by decide) ?_
          refine g_istore (pc := 200) C dX3_text_200 (Nat.le_of_ble_eq_true rfl) rfl (loc1 := [(0, _), (1, _), (2, _), (3, _), (4, _), (5, _)]) rfl ?_
          refine g_iload (pc := 202) C dX3_text_202 5 rfl ?_
          refine g_iconst (pc := 204) C dX3_text_204 ?_
          refine g_icmp_ne (pc := 205) C dX3_text_205 210 ⟨by omega, by omega⟩ ⟨by omega, by omega⟩ (by decide) (fun c_205 => ?_) (fun c_205 => ?_)
          · skip
            rw [if_neg (by omega)] at hsp
            obtain ⟨hm, -, -, -, -, -, -, -, -, -, -, -, -, -, -, -, -, -, -, h24⟩ := id hR3
            have hx4 := (hx.tr hx2).tr hx3
            refine g_aload_n (pc := 210) C dX3_text_210 0 rfl trivial rfl ?_
            refine g_get (pc := 211) C dX3_text_211 cl12 hm 28 (by decide) q1847 (fun _ h9 => h9) rfl ?_
            refine g_iload (pc := 214) C dX3_text_214 4 rfl ?_
            refine g_iload (pc := 216) C dX3_text_216 5 rfl ?_
            refine g_iast (pc := 218) C dX3_text_218 h24 (by decide) (spWhich s form 5).toNat (by omega) (by omega) (by omega) ?_
            refine g_nm (fun M_218 e_218 => ?_)
            replace hx4 := hx4.tr (gExt.putE e_218 h24 (by unfold gTM; omega))
            replace hm := g_fr e_218 hm (g_ne hm h24 (by intro e; cases e))
            replace hq := g_fr e_218 hq (g_ne hq h24 (by intro e; cases e))
            replace h24 := g_at e_218
            have hR4 := hR3.w24 e_218
            refine g_iload_n (pc := 219) C dX3_text_219 3 rfl rfl ?_
            refine g_ifb_ne (pc := 220) C dX3_text_220 233 (by decide) (fun c_220 => ?_) (fun c_220 => ?_)
            · skip
              have d_220 := c_220
              try simp only [decide_eq_true_eq, decide_eq_false_iff_not, Bool.and_eq_true, Bool.and_eq_false_iff, ne_eq, Classical.not_not] at c_220
              refine g_iconst (pc := 233) C dX3_text_233 ?_
              refine g_goto (pc := 234) C dX3_text_234 238 (by decide) ?_
              refine g_istore_n (pc := 238) C dX3_text_238 (Nat.le_of_ble_eq_true rfl) rfl rfl (loc1 := [(0, _), (1, _), (2, _), (3, _), (4, _), (5, _)]) rfl ?_
              refine g_goto (pc := 239) C dX3_text_239 109 (by decide) ?_
              refine G.drop 4 (loc1 := [(0, _), (1, _), (2, _), (3, _), (5, _)]) rfl ?_
              refine G.drop 4 (loc1 := [(0, _), (1, _), (2, _), (3, _)]) rfl ?_
              have h24b : spHere (spPassW s) form (spWhich s form 5).toNat 24 = s 24 := h24_here
              have h9 := ih _ _ M_218 hsp (by show spHere (spPassW s) form (spWhich s form 5).toNat 0 1 - spHere (spPassW s) form (spWhich s form 5).toNat 0 9 < f; have := hp2 (by omega); omega) hR4 (WF_read hW2 _ _) (by show spHere (spPassW s) form (spWhich s form 5).toNat 0 9 ≤ spHere (spPassW s) form (spWhich s form 5).toNat 0 1; omega) hn2 (up24_r h24b h24r hqh) hq hx4
              first | (rw [or3_t1 c_220] at h9; exact h9) | (rw [or3_t2 c_224] at h9; exact h9) | (rw [or3_t3 (show spWhich s form 5 ≠ 4 from by omega)] at h9; exact h9) | (rw [or3_f c_220 c_224 (show ¬ (spWhich s form 5 ≠ 4) from fun z => by omega)] at h9; exact h9)
            · skip
              have d_220 := c_220
              try simp only [decide_eq_true_eq, decide_eq_false_iff_not, Bool.and_eq_true, Bool.and_eq_false_iff, ne_eq, Classical.not_not] at c_220
              refine g_iload_n (pc := 223) C dX3_text_223 1 rfl rfl ?_
              refine g_ifb_eq (pc := 224) C dX3_text_224 233 (by decide) (fun c_224 => ?_) (fun c_224 => ?_)
              · skip
                have d_224 := c_224
                try simp only [decide_eq_true_eq, decide_eq_false_iff_not, Bool.and_eq_true, Bool.and_eq_false_iff, ne_eq, Classical.not_not] at c_224
                refine g_iconst (pc := 233) C dX3_text_233 ?_
                refine g_goto (pc := 234) C dX3_text_234 238 (by decide) ?_
                refine g_istore_n (pc := 238) C dX3_text_238 (Nat.le_of_ble_eq_true rfl) rfl rfl (loc1 := [(0, _), (1, _), (2, _), (3, _), (4, _), (5, _)]) rfl ?_
                refine g_goto (pc := 239) C dX3_text_239 109 (by decide) ?_
                refine G.drop 4 (loc1 := [(0, _), (1, _), (2, _), (3, _), (5, _)]) rfl ?_
                refine G.drop 4 (loc1 := [(0, _), (1, _), (2, _), (3, _)]) rfl ?_
                have h24b : spHere (spPassW s) form (spWhich s form 5).toNat 24 = s 24 := h24_here
                have h9 := ih _ _ M_218 hsp (by show spHere (spPassW s) form (spWhich s form 5).toNat 0 1 - spHere (spPassW s) form (spWhich s form 5).toNat 0 9 < f; have := hp2 (by omega); omega) hR4 (WF_read hW2 _ _) (by show spHere (spPassW s) form (spWhich s form 5).toNat 0 9 ≤ spHere (spPassW s) form (spWhich s form 5).toNat 0 1; omega) hn2 (up24_r h24b h24r hqh) hq hx4
                first | (rw [or3_t1 c_220] at h9; exact h9) | (rw [or3_t2 c_224] at h9; exact h9) | (rw [or3_t3 (show spWhich s form 5 ≠ 4 from by omega)] at h9; exact h9) | (rw [or3_f c_220 c_224 (show ¬ (spWhich s form 5 ≠ 4) from fun z => by omega)] at h9; exact h9)
              · skip
                have d_224 := c_224
                try simp only [decide_eq_true_eq, decide_eq_false_iff_not, Bool.and_eq_true, Bool.and_eq_false_iff, ne_eq, Classical.not_not] at c_224
                refine g_iload (pc := 227) C dX3_text_227 4 rfl ?_
                refine g_iconst (pc := 229) C dX3_text_229 ?_
                refine g_icmp_eq (pc := 230) C dX3_text_230 237 ⟨by omega, by omega⟩ ⟨by omega, by omega⟩ (by decide) (fun c_230 => ?_) (fun c_230 => ?_)
                · skip
                  refine g_iconst (pc := 237) C dX3_text_237 ?_
                  refine g_istore_n (pc := 238) C dX3_text_238 (Nat.le_of_ble_eq_true rfl) rfl rfl (loc1 := [(0, _), (1, _), (2, _), (3, _), (4, _), (5, _)]) rfl ?_
                  refine g_goto (pc := 239) C dX3_text_239 109 (by decide) ?_
                  refine G.drop 4 (loc1 := [(0, _), (1, _), (2, _), (3, _), (5, _)]) rfl ?_
                  refine G.drop 4 (loc1 := [(0, _), (1, _), (2, _), (3, _)]) rfl ?_
                  have h24b : spHere (spPassW s) form (spWhich s form 5).toNat 24 = s 24 := h24_here
                  have h9 := ih _ _ M_218 hsp (by show spHere (spPassW s) form (spWhich s form 5).toNat 0 1 - spHere (spPassW s) form (spWhich s form 5).toNat 0 9 < f; have := hp2 (by omega); omega) hR4 (WF_read hW2 _ _) (by show spHere (spPassW s) form (spWhich s form 5).toNat 0 9 ≤ spHere (spPassW s) form (spWhich s form 5).toNat 0 1; omega) hn2 (up24_r h24b h24r hqh) hq hx4
                  first | (rw [or3_t1 c_220] at h9; exact h9) | (rw [or3_t2 c_224] at h9; exact h9) | (rw [or3_t3 (show spWhich s form 5 ≠ 4 from by omega)] at h9; exact h9) | (rw [or3_f c_220 c_224 (show ¬ (spWhich s form 5 ≠ 4) from fun z => by omega)] at h9; exact h9)
                · skip
                  refine g_iconst (pc := 233) C dX3_text_233 ?_
                  refine g_goto (pc := 234) C dX3_text_234 238 (by decide) ?_
                  refine g_istore_n (pc := 238) C dX3_text_238 (Nat.le_of_ble_eq_true rfl) rfl rfl (loc1 := [(0, _), (1, _), (2, _), (3, _), (4, _), (5, _)]) rfl ?_
                  refine g_goto (pc := 239) C dX3_text_239 109 (by decide) ?_
                  refine G.drop 4 (loc1 := [(0, _), (1, _), (2, _), (3, _), (5, _)]) rfl ?_
                  refine G.drop 4 (loc1 := [(0, _), (1, _), (2, _), (3, _)]) rfl ?_
                  have h24b : spHere (spPassW s) form (spWhich s form 5).toNat 24 = s 24 := h24_here
                  have h9 := ih _ _ M_218 hsp (by show spHere (spPassW s) form (spWhich s form 5).toNat 0 1 - spHere (spPassW s) form (spWhich s form 5).toNat 0 9 < f; have := hp2 (by omega); omega) hR4 (WF_read hW2 _ _) (by show spHere (spPassW s) form (spWhich s form 5).toNat 0 9 ≤ spHere (spPassW s) form (spWhich s form 5).toNat 0 1; omega) hn2 (up24_r h24b h24r hqh) hq hx4
                  first | (rw [or3_t1 c_220] at h9; exact h9) | (rw [or3_t2 c_224] at h9; exact h9) | (rw [or3_t3 (show spWhich s form 5 ≠ 4 from by omega)] at h9; exact h9) | (rw [or3_f c_220 c_224 (show ¬ (spWhich s form 5 ≠ 4) from fun z => by omega)] at h9; exact h9)
          · skip
            rw [if_pos (by omega)] at hsp; subst hsp
            refine g_iconst (pc := 208) C dX3_text_208 ?_
            refine g_nret (pc := 209) hQ C rfl ?_ dX3_text_209
            exact ⟨rfl, hR3, (hx.tr hx2).tr hx3⟩
      · skip
        rw [if_pos (by omega)] at hsp; subst hsp
        refine g_iconst (pc := 175) C dX3_text_175 ?_
        refine g_nret (pc := 176) hQ C rfl ?_ dX3_text_176
        exact ⟨rfl, hR, hx⟩
    refine g_aload_n (pc := 109) C dX3_text_109 0 rfl trivial rfl ?_
    refine g_get (pc := 110) C dX3_text_110 cl12 hm 27 (by decide) q1846 (fun _ h9 => h9) rfl ?_
    refine g_aload_n (pc := 113) C dX3_text_113 0 rfl trivial rfl ?_
    refine g_get (pc := 114) C dX3_text_114 cl12 hm 3 (by decide) q1822 (fun _ h9 => h9) rfl ?_
    refine g_icmp_ge (pc := 117) C dX3_text_117 242 ⟨by omega, by omega⟩ ⟨by omega, by omega⟩ (by decide) (fun c_117 => ?_) (fun c_117 => ?_)
    · skip
      rw [spWords, if_pos (by omega)] at hsp; subst hsp
      refine g_iload_n (pc := 242) C dX3_text_242 3 rfl rfl ?_
      refine g_nret (pc := 243) hQ C (b2_z _) ?_ dX3_text_243
      exact ⟨rfl, hR, hx⟩
    · skip
      rw [spWords, if_neg (by omega)] at hsp
      refine g_iconst (pc := 120) C dX3_text_120 ?_
      refine g_istore (pc := 121) C dX3_text_121 (Nat.le_of_ble_eq_true rfl) rfl (loc1 := [(0, _), (1, _), (2, _), (3, _), (4, _)]) rfl ?_
      refine g_iconst (pc := 123) C dX3_text_123 ?_
      refine g_istore (pc := 124) C dX3_text_124 (Nat.le_of_ble_eq_true rfl) rfl (loc1 := [(0, _), (1, _), (2, _), (3, _), (4, _), (5, _)]) rfl ?_
      refine x_X3_which C hl hR hW hle hq hF h24r ?_ 5 0 rfl
      exact body (by omega) hsp
end
