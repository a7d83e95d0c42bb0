/-! AppealrentModel: the words of the tape -/
set_option maxRecDepth 100000
section
variable {E : gE} {l : Launch} {M M1 : gM} {A : Nat → Nat} {s s1 : gS} {t t1 : Int}
/-- over spaces; over a word: f places at most -/
def skN (T : Nat → Int) : Nat → Nat → Nat
  | 0, a => a
  | f + 1, a => if T a = 32 then skN T f (a + 1) else a
def weN (T : Nat → Int) : Nat → Nat → Nat
  | 0, a => a
  | f + 1, a => if T a = 32 then a else weN T f (a + 1)
def spSkip (s : gS) (a : Nat) : Nat := skN (s 10) ((s 0 1).toNat - a) a
def spWend (s : gS) (a : Nat) : Nat := weN (s 10) ((s 0 1).toNat - a) a
theorem skN_r (T : Nat → Int) : ∀ f a : Nat, a ≤ skN T f a ∧ skN T f a ≤ a + f
  | 0, a => ⟨Nat.le_refl _, Nat.le_refl _⟩
  | f + 1, a => by
    unfold skN
    split
    · have := skN_r T f (a + 1); omega
    · omega
theorem weN_r (T : Nat → Int) : ∀ f a : Nat, a ≤ weN T f a ∧ weN T f a ≤ a + f
  | 0, a => ⟨Nat.le_refl _, Nat.le_refl _⟩
  | f + 1, a => by
    unfold weN
    split
    · omega
    · have := weN_r T f (a + 1); omega
theorem m_X3_wordEnd (hl : l.stackTraces = false) (hR : RM A M s t) (hW : WF s) : gFun E l yX3_wordEnd wX3_wordEnd 0 [.ref (A 0)] M (vi (spWend s (s 0 9).toNat)) := by
  obtain ⟨hm, h1, h2, h3, h4, h5, h6, h7, h10, -⟩ := id hR
  have hs := hW.sc
  unfold wfSc at hs
  obtain ⟨n, hn⟩ := i_nat (z := s 0 1) (by omega)
  obtain ⟨a, ha⟩ := i_nat (z := s 0 9) (by omega)
  have htp := hW.tape
  unfold wfTape at htp
  rw [spWend, hn, ha, Int.toNat_natCast, Int.toNat_natCast]
  rw [hn] at hm
  refine gMet.of hl rfl (Nat.le_of_ble_eq_true rfl) ?_
  intro Z hE hl0 hQ hX C hnm htab
  subst hE; subst hl0
  replace C : gC Z RX3 cX3_wordEnd 2 (some .int) _ := C
  change G Z _ _ _ 0 [(0, _)] []
  have loop : ∀ (r i : Nat), i ≤ 60 → r = n - i → weN (s 10) (n - a) a = weN (s 10) r i → G Z 0 0 M 5 [(0, .ref (A 0)), (1, vi i)] [] := by
    intro r
    induction r with
    | zero =>
      intro i h60 hi he
      refine g_iload_n (pc := 5) C dX3_wordEnd_5 1 rfl rfl ?_
      refine g_aload_n (pc := 6) C dX3_wordEnd_6 0 rfl trivial rfl ?_
      refine g_get (pc := 7) C dX3_wordEnd_7 cl12 hm 3 (by decide) q1822 (fun _ h9 => h9) rfl ?_
      refine g_icmp_ge (pc := 10) C dX3_wordEnd_10 30 ⟨by omega, by omega⟩ ⟨by omega, by omega⟩ (by decide) (fun c_10 => ?_) (fun c_10 => ?_)
      · skip
        refine g_iload_n (pc := 30) C dX3_wordEnd_30 1 rfl rfl ?_
        refine g_iret (pc := 31) hQ C ?_ dX3_wordEnd_31
        exact ⟨by rw [he]; rfl, rfl⟩
      · skip
        omega
    | succ r ih =>
      intro i h60 hi he
      have hq := htp i (by omega)
      unfold wfSign at hq
      refine g_iload_n (pc := 5) C dX3_wordEnd_5 1 rfl rfl ?_
      refine g_aload_n (pc := 6) C dX3_wordEnd_6 0 rfl trivial rfl ?_
      refine g_get (pc := 7) C dX3_wordEnd_7 cl12 hm 3 (by decide) q1822 (fun _ h9 => h9) rfl ?_
      refine g_icmp_ge (pc := 10) C dX3_wordEnd_10 30 ⟨by omega, by omega⟩ ⟨by omega, by omega⟩ (by decide) (fun c_10 => ?_) (fun c_10 => ?_)
      · skip
        omega
      · skip
        refine g_aload_n (pc := 13) C dX3_wordEnd_13 0 rfl trivial rfl ?_
        refine g_get (pc := 14) C dX3_wordEnd_14 cl12 hm 2 (by decide) q1821 (fun _ h9 => h9) rfl ?_
        refine g_iload_n (pc := 17) C dX3_wordEnd_17 1 rfl rfl ?_
        refine g_iald (pc := 18) C dX3_wordEnd_18 h10 _ rfl (by omega) (by omega) ?_
        refine g_bipush (pc := 19) C dX3_wordEnd_19 (by decide) ?_
        refine g_icmp_eq (pc := 21) C dX3_wordEnd_21 30 ⟨by omega, by omega⟩ ⟨by omega, by omega⟩ (by decide) (fun c_21 => ?_) (fun c_21 => ?_)
        · skip
          refine g_iload_n (pc := 30) C dX3_wordEnd_30 1 rfl rfl ?_
          refine g_iret (pc := 31) hQ C ?_ dX3_wordEnd_31
          exact ⟨by rw [he, weN, if_pos (by omega)], rfl⟩
        · skip
          refine g_iinc (pc := 24) C dX3_wordEnd_24 1 rfl (Nat.le_of_ble_eq_true rfl) rfl (loc1 := [(0, _), (1, _)]) rfl ?_
          refine g_goto (pc := 27) C dX3_wordEnd_27 5 (by decide) ?_
          exact ih (i + 1) (by omega) (by omega) (by rw [he, weN, if_neg (by omega)])
  refine g_aload_n (pc := 0) C dX3_wordEnd_0 0 rfl trivial rfl ?_
  refine g_get (pc := 1) C dX3_wordEnd_1 cl12 hm 27 (by decide) q1846 (fun _ h9 => h9) rfl ?_
  rw [ha]
  refine g_istore_n (pc := 4) C dX3_wordEnd_4 (Nat.le_of_ble_eq_true rfl) rfl rfl (loc1 := [(0, _), (1, _)]) rfl ?_
  exact loop (n - a) a (by omega) rfl rfl
theorem m_X3_skip (hl : l.stackTraces = false) (hR : RM A M s t) (hW : WF s) : gMet E l yX3_skip wX3_skip 0 0 0 [.ref (A 0)] M (fun v M1 => v = none ∧ RM A M1 (up s 0 9 (spSkip s (s 0 9).toNat)) t ∧ gExt gTM M M1) (fun _ _ _ => False) := by
  have hs := hW.sc
  unfold wfSc at hs
  obtain ⟨n, hn⟩ := i_nat (z := s 0 1) (by omega)
  obtain ⟨a, ha⟩ := i_nat (z := s 0 9) (by omega)
  have htp := hW.tape
  unfold wfTape at htp
  rw [spSkip, hn, ha, Int.toNat_natCast, Int.toNat_natCast]
  refine gMet.of hl rfl (Nat.le_of_ble_eq_true rfl) ?_
  intro Z hE hl0 hQ hX C hnm htab
  subst hE; subst hl0
  replace C : gC Z RX3 cX3_skip 1 none _ := C
  change G Z _ _ _ 0 [(0, _)] []
  have loop : ∀ (r i : Nat) (M1 : gM), i ≤ 60 → r = n - i → skN (s 10) (n - a) a = skN (s 10) r i → RM A M1 (up s 0 9 i) t → gExt gTM M M1 → G Z 0 0 M1 0 [(0, .ref (A 0))] [] := by
    intro r
    induction r with
    | zero =>
      intro i M1 h60 hi he hR1 hx
      have hm : M1 (A 0) = some (100, mO A t (s 0 0) (n : Int) (s 0 2) (s 0 3) (s 0 4) (s 0 5) i) := hR1.o rfl hn rfl rfl rfl rfl rfl
      refine g_aload_n (pc := 0) C dX3_skip_0 0 rfl trivial rfl ?_
      refine g_get (pc := 1) C dX3_skip_1 cl12 hm 27 (by decide) q1846 (fun _ h9 => h9) rfl ?_
      refine g_aload_n (pc := 4) C dX3_skip_4 0 rfl trivial rfl ?_
      refine g_get (pc := 5) C dX3_skip_5 cl12 hm 3 (by decide) q1822 (fun _ h9 => h9) rfl ?_
      refine g_icmp_ge (pc := 8) C dX3_skip_8 38 ⟨by omega, by omega⟩ ⟨by omega, by omega⟩ (by decide) (fun c_8 => ?_) (fun c_8 => ?_)
      · skip
        refine g_vret (pc := 38) hQ C ?_ dX3_skip_38
        exact ⟨rfl, by rw [he]; exact hR1, hx⟩
      · skip
        omega
    | succ r ih =>
      intro i M1 h60 hi he hR1 hx
      have hm : M1 (A 0) = some (100, mO A t (s 0 0) (n : Int) (s 0 2) (s 0 3) (s 0 4) (s 0 5) i) := hR1.o rfl hn rfl rfl rfl rfl rfl
      have h10 : M1 (A 10) = some (110, gI 0 60 (s 10)) := hR1.2.2.2.2.2.2.2.2.1
      have hq := htp i (by omega)
      unfold wfSign at hq
      refine g_aload_n (pc := 0) C dX3_skip_0 0 rfl trivial rfl ?_
      refine g_get (pc := 1) C dX3_skip_1 cl12 hm 27 (by decide) q1846 (fun _ h9 => h9) rfl ?_
      refine g_aload_n (pc := 4) C dX3_skip_4 0 rfl trivial rfl ?_
      refine g_get (pc := 5) C dX3_skip_5 cl12 hm 3 (by decide) q1822 (fun _ h9 => h9) rfl ?_
      refine g_icmp_ge (pc := 8) C dX3_skip_8 38 ⟨by omega, by omega⟩ ⟨by omega, by omega⟩ (by decide) (fun c_8 => ?_) (fun c_8 => ?_)
      · skip
        omega
      · skip
        refine g_aload_n (pc := 11) C dX3_skip_11 0 rfl trivial rfl ?_
        refine g_get (pc := 12) C dX3_skip_12 cl12 hm 2 (by decide) q1821 (fun _ h9 => h9) rfl ?_
        refine g_aload_n (pc := 15) C dX3_skip_15 0 rfl trivial rfl ?_
        refine g_get (pc := 16) C dX3_skip_16 cl12 hm 27 (by decide) q1846 (fun _ h9 => h9) rfl ?_
        refine g_iald (pc := 19) C dX3_skip_19 h10 _ rfl (by omega) (by omega) ?_
        refine g_bipush (pc := 20) C dX3_skip_20 (by decide) ?_
        refine g_icmp_ne (pc := 22) C dX3_skip_22 38 ⟨by omega, by omega⟩ ⟨by omega, by omega⟩ (by decide) (fun c_22 => ?_) (fun c_22 => ?_)
        · skip
          refine g_vret (pc := 38) hQ C ?_ dX3_skip_38
          exact ⟨rfl, by rw [he, skN, if_neg (by omega)]; exact hR1, hx⟩
        · skip
          refine g_aload_n (pc := 25) C dX3_skip_25 0 rfl trivial rfl ?_
          refine g_dup (pc := 26) C dX3_skip_26 rfl ?_
          refine g_get (pc := 27) C dX3_skip_27 cl12 hm 27 (by decide) q1846 (fun _ h9 => h9) rfl ?_
          refine g_iconst (pc := 30) C dX3_skip_30 ?_
          refine g_iadd (pc := 31) C dX3_skip_31 ?_
          refine g_put (pc := 32) C dX3_skip_32 cl12 hm (by decide) 27 (by decide) q1846 (fun _ h9 => h9) rfl rfl rfl (Nat.le_of_ble_eq_true rfl) (fs1 := [_, _, _, _, _, _, _, _, _, _, _, _, _, _, _, _, _, _, _, _, _, _, _, _, _, _, _, _, _]) rfl ?_
          refine g_nm (fun M_32 e_32 => ?_)
          replace hx := hx.tr (gExt.putE e_32 hm (by unfold gTM; omega))
          replace hm := g_at e_32
          have hR2 := hR1.sc (s1 := up s 0 9 ((i + 1 : Nat) : Int)) (t1 := t) e_32 (by rw [← hn]; rfl) (fun k hk => by rw [up_n _ _ _ (by omega), up_n _ _ _ (by omega)]) rfl
          refine g_goto (pc := 35) C dX3_skip_35 0 (by decide) ?_
          exact ih (i + 1) M_32 (by omega) (by omega) (by rw [he, skN, if_pos (by omega)]) hR2 hx
  exact loop (n - a) a M (by omega) rfl rfl (by rw [← ha, up_self]; exact hR) gExt.rf
theorem WF.at9 (h : WF s) {v : Int} (hv : 0 ≤ v ∧ v ≤ 60) : WF (up s 0 9 v) := by
  have hs := h.1
  unfold wfSc at hs
  exact h.cg (fun k hk _ _ => up_n s 9 v (by omega)) (fun j _ _ h9 => by rw [up_s, gUp_n _ _ h9]) (by rw [up_s, gUp_n _ _ (by decide)]; omega) (by rw [up_s, gUp_s]; exact hv)
theorem spWend_r (hW : WF s) : (s 0 9).toNat ≤ spWend s (s 0 9).toNat ∧ spWend s (s 0 9).toNat ≤ 60 := by
  have hs := hW.sc
  unfold wfSc at hs
  have := weN_r (s 10) ((s 0 1).toNat - (s 0 9).toNat) (s 0 9).toNat
  unfold spWend
  omega
theorem spSkip_r (hW : WF s) {a : Nat} (ha : a ≤ 60) : a ≤ spSkip s a ∧ spSkip s a ≤ 60 := by
  have hs := hW.sc
  unfold wfSc at hs
  have := skN_r (s 10) ((s 0 1).toNat - a) a
  unfold spSkip
  omega
theorem up_up (s : gS) (k i : Nat) (v w : Int) : up (up s k i v) k i w = up s k i w := by
  funext a
  by_cases h : a = k
  · subst h
    rw [up_s, up_s, up_s]
    funext b
    by_cases e : b = i
    · rw [e, gUp_s, gUp_s]
    · rw [gUp_n _ _ e, gUp_n _ _ e, gUp_n _ _ e]
  · rw [up_n _ _ _ h, up_n _ _ _ h, up_n _ _ _ h]
/-- behind the word, and over the spaces there -/
def spPassW (s : gS) : gS := up s 0 9 (spSkip s (spWend s (s 0 9).toNat))
theorem m_X3_pass (hl : l.stackTraces = false) (hR : RM A M s t) (hW : WF s) : gMet E l yX3_pass wX3_pass 1 0 0 [.ref (A 0)] M (fun v M1 => v = none ∧ RM A M1 (spPassW s) t ∧ gExt gTM M M1) (fun _ _ _ => False) := by
  have hm := hR.1
  have hr := spWend_r hW
  have hx : gExt gTM M M := gExt.rf
  refine gMet.of hl rfl (Nat.le_of_ble_eq_true rfl) ?_
  intro Z hE hl0 hQ hX C hnm htab
  subst hE; subst hl0
  replace C : gC Z RX3 cX3_pass 1 none _ := C
  change G Z _ _ _ 0 [(0, _)] []
  refine g_aload_n (pc := 0) C dX3_pass_0 0 rfl trivial rfl ?_
  refine g_aload_n (pc := 1) C dX3_pass_1 0 rfl trivial rfl ?_
  refine g_callV (pc := 2) C (m_X3_wordEnd hl hR hW) cl12 hm q1983 q1985 qs48 q94 q1986 nmX3_wordEnd rfl (by decide) (by decide) (Nat.zero_le _) (Nat.zero_le _) rfl (Nat.le_of_ble_eq_true rfl) dX3_pass_2 (gkf ?_) gkx
  refine g_put (pc := 5) C dX3_pass_5 cl12 hm (by decide) 27 (by decide) q1846 (fun _ h9 => h9) rfl rfl rfl (Nat.le_of_ble_eq_true rfl) (fs1 := [_, _, _, _, _, _, _, _, _, _, _, _, _, _, _, _, _, _, _, _, _, _, _, _, _, _, _, _, _]) rfl ?_
  refine g_nm (fun M_5 e_5 => ?_)
  replace hx := hx.tr (gExt.putE e_5 hm (by unfold gTM; omega))
  replace hm := g_at e_5
  have hR2 := hR.sc (s1 := up s 0 9 (spWend s (s 0 9).toNat)) (t1 := t) e_5 rfl (fun k hk => up_n _ _ _ (by omega)) rfl
  have hW2 := hW.at9 (v := (spWend s (s 0 9).toNat : Nat)) (by omega)
  refine g_aload_n (pc := 8) C dX3_pass_8 0 rfl trivial rfl ?_
  refine g_callV (pc := 9) C (m_X3_skip hl hR2 hW2) cl12 hm q1975 q1977 qs46 q94 q1978 nmX3_skip rfl (by decide) (by decide) (by omega) (by omega) rfl (Nat.le_of_ble_eq_true rfl) dX3_pass_9 (fun v_9 M_9 h_9 => ?_) (fun E_9 q_9 M_9 h_9 => ?_)
  rotate_left
  · exact h_9.elim
  obtain ⟨rfl, hR3, hx3⟩ := h_9
  refine g_vret (pc := 12) hQ C ?_ dX3_pass_12
  refine ⟨rfl, ?_, hx.tr hx3⟩
  have e9 : up (up s 0 9 (spWend s (s 0 9).toNat : Nat)) 0 9 ((spSkip (up s 0 9 (spWend s (s 0 9).toNat : Nat)) (spWend s (s 0 9).toNat) : Nat) : Int) = spPassW s := up_up _ _ _ _ _
  rw [← e9]
  exact hR3
end
