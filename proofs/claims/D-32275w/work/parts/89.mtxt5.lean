/-! AppealrentModel: text -/
set_option maxRecDepth 100000
section
variable {E : gE} {l : Launch} {M M1 : gM} {A : Nat → Nat} {s s1 : gS} {t t1 : Int}
theorem spNone_o {j : Nat} (h : j ≠ 24) : ∀ n, spNone s n j = s j
  | 0 => rfl
  | n + 1 => by rw [spNone, up_n _ _ _ h, spNone_o h n]
theorem WF_none (h : WF s) : ∀ n, WF (spNone s n)
  | 0 => h
  | n + 1 => WF_read (WF_none h n) _ _
theorem spNone_24 : ∀ {n k : Nat}, k < n → spNone s n 24 k = -1
  | n + 1, k, h => by
    rw [spNone, up_s]
    by_cases e : k = n
    · rw [e, gUp_s]
    · rw [gUp_n _ _ e, spNone_24 (by omega)]
theorem begin_ok (h : WF s) : WF (spBegin s) ∧ spBegin s 0 9 ≤ spBegin s 0 1 ∧ noSp (spBegin s) ∧ (∀ k, k < 5 → -1 ≤ spBegin s 24 k ∧ spBegin s 24 k ≤ 10000000) := by
  have h5 := WF_none h 5
  have h9 := h5.at9 (v := 0) ⟨by decide, by decide⟩
  have hs := h.sc
  unfold wfSc at hs
  have hsk := spSkip_r h9 (a := 0) (by decide)
  have e0 : spNone s 5 0 = s 0 := spNone_o (by decide) 5
  have e9 : spBegin s 0 9 = (spSkip (up (spNone s 5) 0 9 0) 0 : Nat) := by rw [spBegin, up_s, gUp_s]
  have e1 : spBegin s 0 1 = s 0 1 := by show spNone s 5 0 1 = _; rw [e0]
  have e10 : spBegin s 10 = s 10 := by show spNone s 5 10 = _; exact spNone_o (by decide) 5
  have ek : spSkip (up (spNone s 5) 0 9 0) 0 = skN (s 10) ((s 0 1).toNat - 0) 0 := by
    show skN (spNone s 5 10) ((spNone s 5 0 1).toNat - 0) 0 = _
    rw [e0, spNone_o (by decide) 5]
  have hr := skN_r (s 10) ((s 0 1).toNat - 0) 0
  refine ⟨h9.at9 ⟨by omega, by omega⟩, by rw [e9, e1, ek]; omega, fun hlt => ?_, fun k hk => ?_⟩
  · rw [e9, e1, ek] at hlt
    rw [e9, e10, ek, Int.toNat_natCast]
    rcases skN_ns (s 10) ((s 0 1).toNat - 0) 0 with q | q
    · omega
    · exact q
  · rw [show spBegin s 24 = spNone s 5 24 from rfl, spNone_24 hk]; decide
theorem x_X3_text75 {Z : gZ} {M0 : gM} (C : gC Z RX3 cX3_text 6 (some .boolean) 7) (hl : (gZl Z).stackTraces = false) {form : Bool} {F : Nat → Option Nat} {q : Nat} (hF : ∀ k, k < 5 → F k = some (Z.1.2.2.2.2 (2 * wdOf form k + 1))) {k9 n9 : Nat} (hQ : Z.2.2.1 = fun w M1 => w = some (vi (b2 (spText s form).2)) ∧ RM A M1 (spText s form).1 t ∧ gExt gTM M0 M1) (hR : RM A M s t) (hW : WF s) (hq : M q = some (90, gR 7 5 F)) (hx : gExt gTM M0 M) : G Z k9 n9 M 75 [(0, .ref (A 0)), (1, vi (b2 form)), (2, .ref q)] [] := by
  have hm := hR.1
  have loop : ∀ (r i : Nat) (M1 : gM), i + r = 5 → RM A M1 (spNone s i) t → M1 q = some (90, gR 7 5 F) → gExt gTM M0 M1 → G Z k9 n9 M1 80 [(0, .ref (A 0)), (1, vi (b2 form)), (2, .ref q), (3, vi 0), (4, vi i)] [] := by
    intro r
    induction r with
    | zero =>
      intro i M1 hi hR1 hq hx
      obtain rfl : i = 5 := by omega
      have hm := hR1.1
      have hb := begin_ok hW
      have h9 := (WF_none hW 5).at9 (v := 0) ⟨by decide, by decide⟩
      have hs := hW.sc
      unfold wfSc at hs
      refine g_iload (pc := 80) C dX3_text_80 4 rfl ?_
      refine g_iconst (pc := 82) C dX3_text_82 ?_
      refine g_icmp_ge (pc := 83) C dX3_text_83 100 ⟨by omega, by omega⟩ ⟨by omega, by omega⟩ (by decide) (fun c_83 => ?_) (fun c_83 => ?_)
      · skip
        refine g_aload_n (pc := 100) C dX3_text_100 0 rfl trivial rfl ?_
        refine g_iconst (pc := 101) C dX3_text_101 ?_
        refine g_put (pc := 102) C dX3_text_102 cl12 hm (by decide) 27 (by decide) q1846 (fun _ h9 => h9) rfl rfl rfl (Nat.le_of_ble_eq_true rfl) (fs1 := [_, _, _, _, _, _, _, _, _, _, _, _, _, _, _, _, _, _, _, _, _, _, _, _, _, _, _, _, _]) rfl ?_
        refine g_nm (fun M_102 e_102 => ?_)
        replace hx := hx.tr (gExt.putE e_102 hm (by unfold gTM; omega))
        replace hq := g_fr e_102 hq (g_ne hq hm (by intro e; cases e))
        replace hm := g_at e_102
        have hR2 := hR1.sc (s1 := up (spNone s 5) 0 9 0) (t1 := t) e_102 rfl (fun k hk => up_n _ _ _ (by omega)) rfl
        refine g_aload_n (pc := 105) C dX3_text_105 0 rfl trivial rfl ?_
        refine g_callV (pc := 106) C (m_X3_skip hl hR2 h9) cl12 hm q1975 q1977 qs46 q94 q1978 nmX3_skip rfl (by decide) (by decide) (by omega) (by omega) rfl (Nat.le_of_ble_eq_true rfl) dX3_text_106 (fun v_106 M_106 h_106 => ?_) (fun E_106 q_106 M_106 h_106 => ?_)
        rotate_left
        · exact h_106.elim
        obtain ⟨rfl, hR3, hx3⟩ := h_106
        replace hq := hx3.t hq (by unfold gTM; omega)
        replace hR3 : RM A M_106 (spBegin s) t := hR3
        refine G.drop 4 (loc1 := [(0, _), (1, _), (2, _), (3, _)]) rfl ?_
        exact x_X3_words C hl hF hQ 61 (spBegin s) false M_106 rfl (by have := hb.1.sc; unfold wfSc at this; omega) hR3 hb.1 hb.2.1 hb.2.2.1 hb.2.2.2 hq (hx.tr hx3)
      · skip
        omega
    | succ r ih =>
      intro i M1 hi hR1 hq hx
      obtain ⟨hm, -, -, -, -, -, -, -, -, -, -, -, -, -, -, -, -, -, -, h24⟩ := id hR1
      refine g_iload (pc := 80) C dX3_text_80 4 rfl ?_
      refine g_iconst (pc := 82) C dX3_text_82 ?_
      refine g_icmp_ge (pc := 83) C dX3_text_83 100 ⟨by omega, by omega⟩ ⟨by omega, by omega⟩ (by decide) (fun c_83 => ?_) (fun c_83 => ?_)
      · skip
        omega
      · skip
        refine g_aload_n (pc := 86) C dX3_text_86 0 rfl trivial rfl ?_
        refine g_get (pc := 87) C dX3_text_87 cl12 hm 28 (by decide) q1847 (fun _ h9 => h9) rfl ?_
        refine g_iload (pc := 90) C dX3_text_90 4 rfl ?_
        refine g_iconst (pc := 92) C dX3_text_92 ?_
        refine g_iast (pc := 93) C dX3_text_93 h24 (by decide) _ rfl (by omega) (by omega) ?_
        refine g_nm (fun M_93 e_93 => ?_)
        replace hx := hx.tr (gExt.putE e_93 h24 (by unfold gTM; omega))
        replace hm := g_fr e_93 hm (g_ne hm h24 (by intro e; cases e))
        replace hq := g_fr e_93 hq (g_ne hq h24 (by intro e; cases e))
        replace h24 := g_at e_93
        have hR2 := hR1.w24 e_93
        refine g_iinc (pc := 94) C dX3_text_94 4 rfl (Nat.le_of_ble_eq_true rfl) rfl (loc1 := [(0, _), (1, _), (2, _), (3, _), (4, _)]) rfl ?_
        refine g_goto (pc := 97) C dX3_text_97 80 (by decide) ?_
        exact ih (i + 1) M_93 (by omega) hR2 hq hx
  refine g_iconst (pc := 75) C dX3_text_75 ?_
  refine g_istore_n (pc := 76) C dX3_text_76 (Nat.le_of_ble_eq_true rfl) rfl rfl (loc1 := [(0, _), (1, _), (2, _), (3, _)]) rfl ?_
  refine g_iconst (pc := 77) C dX3_text_77 ?_
  refine g_istore (pc := 78) C dX3_text_78 (Nat.le_of_ble_eq_true rfl) rfl (loc1 := [(0, _), (1, _), (2, _), (3, _), (4, _)]) rfl ?_
  exact loop 5 0 M (by omega) hR hq hx
end
