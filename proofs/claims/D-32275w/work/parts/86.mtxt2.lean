/-! AppealrentModel: a whole text -/
set_option maxRecDepth 100000
section
variable {E : gE} {l : Launch} {M M1 : gM} {A : Nat → Nat} {s s1 : gS} {t t1 : Int}
theorem G.pure1 {Z : gZ} {k n pc : Nat} {P : Nat → Prop} {loc : Nat → List (Nat × Value)} {st : List Value} (h : (∀ (a : Nat) (x : gEnt), Z.1.2.2.2.1 a = some x → M a = some (0, x)) → ∀ i, P i → G Z k n M pc (loc i) st) : ∀ i, P i → G Z k n M pc (loc i) st := fun i hi => G.pure (fun hp => h hp i hi)
/-- the text's words are looked for, and read, one after the other -/
theorem x_X3_which {Z : gZ} (C : gC Z RX3 cX3_text 6 (some .boolean) 7) (hl : (gZl Z).stackTraces = false) {k9 n9 : Nat} {form sm : Bool} {F : Nat → Option Nat} {q tq : Nat} (hR : RM A M s t) (hW : WF s) (hle : s 0 9 ≤ s 0 1) (hq : M q = some (tq, gR 7 5 F)) (hF : ∀ k, k < 5 → F k = some (Z.1.2.2.2.2 (2 * wdOf form k + 1))) (h24r : ∀ k, k < 5 → -1 ≤ s 24 k ∧ s 24 k ≤ 10000000)
    (kk : G Z k9 n9 M 169 [(0, .ref (A 0)), (1, vi (b2 form)), (2, .ref q), (3, vi (b2 sm)), (4, vi (spWhich s form 5))] []) : ∀ (r i : Nat), i + r = 5 → G Z k9 n9 M 126 [(0, .ref (A 0)), (1, vi (b2 form)), (2, .ref q), (3, vi (b2 sm)), (4, vi (spWhich s form i)), (5, vi i)] [] := by
  refine fun r => G.pure1 (fun hp => ?_)
  have st := C.2.2.1.st
  obtain ⟨hm, h1, h2, h3, h4, h5, h6, h7, h10, h11, h12, h13, h14, h15, h17, h18, h19, h20, h23, h24⟩ := id hR
  induction r with
  | zero =>
    intro i hi
    obtain rfl : i = 5 := by omega
    refine g_iload (pc := 126) C dX3_text_126 5 rfl ?_
    refine g_iconst (pc := 128) C dX3_text_128 ?_
    refine g_icmp_ge (pc := 129) C dX3_text_129 169 ⟨by omega, by omega⟩ ⟨by omega, by omega⟩ (by decide) (fun c_129 => ?_) (fun c_129 => ?_)
    · skip
      refine G.drop 5 (loc1 := [(0, _), (1, _), (2, _), (3, _), (4, _)]) rfl ?_
      exact kk
    · skip
      omega
  | succ r ih =>
    intro i hi
    have hr := h24r i (by omega)
    have hg := gStr_k (k := wdOf form i) (by unfold wdOf; split <;> omega) st hp
    refine g_iload (pc := 126) C dX3_text_126 5 rfl ?_
    refine g_iconst (pc := 128) C dX3_text_128 ?_
    refine g_icmp_ge (pc := 129) C dX3_text_129 169 ⟨by omega, by omega⟩ ⟨by omega, by omega⟩ (by decide) (fun c_129 => ?_) (fun c_129 => ?_)
    · skip
      omega
    · skip
      refine g_aload_n (pc := 132) C dX3_text_132 0 rfl trivial rfl ?_
      refine g_get (pc := 133) C dX3_text_133 cl12 hm 28 (by decide) q1847 (fun _ h9 => h9) rfl ?_
      refine g_iload (pc := 136) C dX3_text_136 5 rfl ?_
      refine g_iald (pc := 138) C dX3_text_138 h24 _ rfl (by omega) (by omega) ?_
      refine g_iconst (pc := 139) C dX3_text_139 ?_
      refine g_icmp_ne (pc := 140) C dX3_text_140 159 ⟨by omega, by omega⟩ ⟨by omega, by omega⟩ (by decide) (fun c_140 => ?_) (fun c_140 => ?_)
      · skip
        refine g_iload (pc := 159) C dX3_text_159 4 rfl ?_
        refine g_istore (pc := 161) C dX3_text_161 (Nat.le_of_ble_eq_true rfl) rfl (loc1 := [(0, _), (1, _), (2, _), (3, _), (4, _), (5, _)]) rfl ?_
        refine g_iinc (pc := 163) C dX3_text_163 5 rfl (Nat.le_of_ble_eq_true rfl) rfl (loc1 := [(0, _), (1, _), (2, _), (3, _), (4, _), (5, _)]) rfl ?_
        refine g_goto (pc := 166) C dX3_text_166 126 (by decide) ?_
        have h9 := ih (i + 1) (by omega)
        simp only [spWhich] at h9
        first | (rw [if_pos (show s 24 i = -1 ∧ spSees s (gTxt (wdOf form i)) = true from ⟨by omega, by assumption⟩)] at h9; exact h9) | (rw [if_neg (show ¬ (s 24 i = -1 ∧ spSees s (gTxt (wdOf form i)) = true) from fun z => by first | omega | (rw [c_151] at z; exact Bool.noConfusion z.2))] at h9; exact h9)
      · skip
        refine g_aload_n (pc := 143) C dX3_text_143 0 rfl trivial rfl ?_
        refine g_aload_n (pc := 144) C dX3_text_144 2 rfl trivial rfl ?_
        refine g_iload (pc := 145) C dX3_text_145 5 rfl ?_
        refine g_aald (pc := 147) C dX3_text_147 hq (fun _ => rfl) _ rfl (by omega) (by omega) ?_
        rw [hF i (by omega)]
        refine g_callV (pc := 148) C (m_X3_sees hl hR hW hle hg) cl12 hm q1979 q1981 qs47 q94 q1982 nmX3_sees rfl (by decide) (by decide) (Nat.zero_le _) (Nat.zero_le _) rfl (Nat.le_of_ble_eq_true rfl) dX3_text_148 (gkf ?_) gkx
        refine g_ifb_eq (pc := 151) C dX3_text_151 159 (by decide) (fun c_151 => ?_) (fun c_151 => ?_)
        · skip
          have d_151 := c_151
          try simp only [decide_eq_true_eq, decide_eq_false_iff_not, Bool.and_eq_true, Bool.and_eq_false_iff, ne_eq, Classical.not_not] at c_151
          refine g_iload (pc := 159) C dX3_text_159 4 rfl ?_
          refine g_istore (pc := 161) C dX3_text_161 (Nat.le_of_ble_eq_true rfl) rfl (loc1 := [(0, _), (1, _), (2, _), (3, _), (4, _), (5, _)]) rfl ?_
          refine g_iinc (pc := 163) C dX3_text_163 5 rfl (Nat.le_of_ble_eq_true rfl) rfl (loc1 := [(0, _), (1, _), (2, _), (3, _), (4, _), (5, _)]) rfl ?_
          refine g_goto (pc := 166) C dX3_text_166 126 (by decide) ?_
          have h9 := ih (i + 1) (by omega)
          simp only [spWhich] at h9
          first | (rw [if_pos (show s 24 i = -1 ∧ spSees s (gTxt (wdOf form i)) = true from ⟨by omega, by assumption⟩)] at h9; exact h9) | (rw [if_neg (show ¬ (s 24 i = -1 ∧ spSees s (gTxt (wdOf form i)) = true) from fun z => by first | omega | (rw [c_151] at z; exact Bool.noConfusion z.2))] at h9; exact h9)
        · skip
          have d_151 := c_151
          try simp only [decide_eq_true_eq, decide_eq_false_iff_not, Bool.and_eq_true, Bool.and_eq_false_iff, ne_eq, Classical.not_not] at c_151
          refine g_iload (pc := 154) C dX3_text_154 5 rfl ?_
          refine g_goto (pc := 156) C dX3_text_156 161 (by decide) ?_
          refine g_istore (pc := 161) C dX3_text_161 (Nat.le_of_ble_eq_true rfl) rfl (loc1 := [(0, _), (1, _), (2, _), (3, _), (4, _), (5, _)]) rfl ?_
          refine g_iinc (pc := 163) C dX3_text_163 5 rfl (Nat.le_of_ble_eq_true rfl) rfl (loc1 := [(0, _), (1, _), (2, _), (3, _), (4, _), (5, _)]) rfl ?_
          refine g_goto (pc := 166) C dX3_text_166 126 (by decide) ?_
          have h9 := ih (i + 1) (by omega)
          simp only [spWhich] at h9
          first | (rw [if_pos (show s 24 i = -1 ∧ spSees s (gTxt (wdOf form i)) = true from ⟨by omega, by assumption⟩)] at h9; exact h9) | (rw [if_neg (show ¬ (s 24 i = -1 ∧ spSees s (gTxt (wdOf form i)) = true) from fun z => by first | omega | (rw [c_151] at z; exact Bool.noConfusion z.2))] at h9; exact h9)
end
