/-! AppealrentModel: does the tape's word stand there -/
set_option maxRecDepth 100000
section
variable {E : gE} {l : Launch} {M M1 : gM} {A : Nat → Nat} {s s1 : gS} {t t1 : Int}
theorem getD_el {U : List Nat} {i : Nat} (h : i < U.length) : U.getD i 0 = U[i] := by rw [List.getD_eq_getElem?_getD, List.getElem?_eq_getElem h]; rfl
theorem gTxt_ok : ∀ k, k < 15 → ∀ i, (h : i < (gTxt k).length) → (gTxt k)[i] < 128 := by decide
theorem gStr_k {k : Nat} (hk : k < 15) (hs : gStat E) (hp : ∀ (a : Nat) (x : gEnt), E.2.2.2.1 a = some x → M a = some (0, x)) : gStr M (E.2.2.2.2 (2 * k + 1)) 0 0 (gTxt k) := by
  obtain ⟨h1, h2⟩ := hs k hk
  have hlen : (gTxt k).length ≤ 1000000 := by
    have : ∀ k, k < 15 → (gTxt k).length ≤ 1000000 := by decide
    exact this k hk
  refine ⟨_, _, 0, _, _, _, hp _ _ h1, hp _ _ h2, hlen, Or.inl ⟨rfl, rfl, fun i hi => ?_⟩⟩
  have := gTxt_ok k hk i hi
  refine ⟨by omega, ?_⟩
  show (((gTxt k).getD i 0 : Nat) : Int) = _
  rw [getD_el hi, sby, if_pos this]
def seeN (T : Nat → Int) (a : Nat) (U : List Nat) : Nat → Bool
  | 0 => true
  | k + 1 => seeN T a U k && decide (T (a + k) = ((U.getD k 0 : Nat) : Int))
theorem seeN_le {T : Nat → Int} {a : Nat} {U : List Nat} : ∀ {k n : Nat}, k ≤ n → seeN T a U n = true → seeN T a U k = true
  | k, 0, h, q => by rw [show k = 0 by omega]; exact q
  | k, n + 1, h, q => by
    by_cases e : k = n + 1
    · rw [e]; exact q
    · rw [seeN, Bool.and_eq_true] at q
      exact seeN_le (by omega) q.1
def spSees (s : gS) (U : List Nat) : Bool := decide (spWend s (s 0 9).toNat - (s 0 9).toNat = U.length) && seeN (s 10) (s 0 9).toNat U U.length
theorem m_X3_sees (hl : l.stackTraces = false) (hR : RM A M s t) (hW : WF s) (hle : s 0 9 ≤ s 0 1) {w t1 t2 : Nat} {U : List Nat} (hU : gStr M w t1 t2 U) : gFun E l yX3_sees wX3_sees 5 [.ref (A 0), .ref w] M (vi (b2 (spSees s U))) := by
  obtain ⟨hm, h1, h2, h3, h4, h5, h6, h7, h10, -⟩ := id hR
  have hs := hW.sc
  unfold wfSc at hs
  obtain ⟨a, ha⟩ := i_nat (z := s 0 9) (by omega)
  have hwr := spWend_r hW
  have hat : (s 0 9).toNat = a := by omega
  obtain ⟨b, hb⟩ : ∃ b : Nat, spWend s (s 0 9).toNat = b := ⟨_, rfl⟩
  have hb2 : b ≤ (s 0 1).toNat := by
    have := weN_r (s 10) ((s 0 1).toNat - a) a
    rw [spWend, hat] at hb
    omega
  rw [hb, hat] at hwr
  have htp := hW.tape
  unfold wfTape at htp
  have hUl : U.length ≤ 1000000 := by
    obtain ⟨v, len, c, hh, z, F, e1, e2, e3, e4⟩ := hU
    rcases e4 with ⟨-, e5, -⟩ | ⟨-, e5, -⟩ <;> omega
  have hUc : ∀ i, (h : i < U.length) → U[i] < 65536 := by
    obtain ⟨v, len, c, hh, z, F, e1, e2, e3, e4⟩ := hU
    intro i hi
    rcases e4 with ⟨-, -, e5⟩ | ⟨-, -, e5⟩ <;> have := e5 i hi <;> omega
  have hq : spSees s U = (decide (b - a = U.length) && seeN (s 10) a U U.length) := by rw [spSees, hb, hat]
  obtain ⟨v0, len0, c0, hh0, z0, F0', e1, -⟩ := id hU
  refine gMet.of hl rfl (Nat.le_of_ble_eq_true rfl) ?_
  intro Z hE hl0 hQ hX C hnm htab
  subst hE; subst hl0
  replace C : gC Z RX3 cX3_sees 5 (some .boolean) _ := C
  change G Z _ _ _ 0 [(0, _), (1, _)] []
  have bad : ∀ i : Nat, i ≤ 1000000 → spSees s U = false → G Z 0 0 M 27 [(0, .ref (A 0)), (1, .ref w), (2, vi b), (3, vi 0), (4, vi i)] [] := by
    intro i hi6 hn
    refine g_iload (pc := 27) C dX3_sees_27 4 rfl ?_
    refine g_aload_n (pc := 29) C dX3_sees_29 1 rfl trivial rfl ?_
    refine g_callV (pc := 30) C (m_J9_length hl hU) cl11 e1 q1987 q292 q293 q82 q294 nmJ9_length rfl (by decide) (by decide) (Nat.zero_le _) (Nat.zero_le _) rfl (Nat.le_of_ble_eq_true rfl) dX3_sees_30 (gkf ?_) gkx
    refine g_icmp_ge (pc := 33) C dX3_sees_33 73 ⟨by omega, by omega⟩ ⟨by omega, by omega⟩ (by decide) (fun c_33 => ?_) (fun c_33 => ?_)
    · skip
      refine g_iload_n (pc := 73) C dX3_sees_73 3 rfl rfl ?_
      refine g_nret (pc := 74) hQ C rfl ?_ dX3_sees_74
      exact ⟨by rw [hn]; rfl, rfl⟩
    · skip
      refine g_iload_n (pc := 36) C dX3_sees_36 3 rfl rfl ?_
      refine g_if_eq (pc := 37) C dX3_sees_37 73 ⟨by omega, by omega⟩ (by decide) (fun c_37 => ?_) (fun c_37 => ?_)
      · skip
        refine g_iload_n (pc := 73) C dX3_sees_73 3 rfl rfl ?_
        refine g_nret (pc := 74) hQ C rfl ?_ dX3_sees_74
        exact ⟨by rw [hn]; rfl, rfl⟩
      · skip
        omega
  have loop : ∀ (r i : Nat), i + r = U.length → b - a = U.length → seeN (s 10) a U i = true → G Z 0 0 M 27 [(0, .ref (A 0)), (1, .ref w), (2, vi b), (3, vi 1), (4, vi i)] [] := by
    intro r
    induction r with
    | zero =>
      intro i hi9 hlen hd
      obtain rfl : i = U.length := by omega
      refine g_iload (pc := 27) C dX3_sees_27 4 rfl ?_
      refine g_aload_n (pc := 29) C dX3_sees_29 1 rfl trivial rfl ?_
      refine g_callV (pc := 30) C (m_J9_length hl hU) cl11 e1 q1987 q292 q293 q82 q294 nmJ9_length rfl (by decide) (by decide) (Nat.zero_le _) (Nat.zero_le _) rfl (Nat.le_of_ble_eq_true rfl) dX3_sees_30 (gkf ?_) gkx
      refine g_icmp_ge (pc := 33) C dX3_sees_33 73 ⟨by omega, by omega⟩ ⟨by omega, by omega⟩ (by decide) (fun c_33 => ?_) (fun c_33 => ?_)
      · skip
        refine g_iload_n (pc := 73) C dX3_sees_73 3 rfl rfl ?_
        refine g_nret (pc := 74) hQ C rfl ?_ dX3_sees_74
        exact ⟨by rw [hq, hd, decide_eq_true hlen]; rfl, rfl⟩
      · skip
        omega
    | succ r ih =>
      intro i hi9 hlen hd
      have hsg := htp (a + i) (by omega)
      unfold wfSign at hsg
      have hil : i < U.length := by omega
      have huc := hUc i hil
      have hgd : (U.getD i 0) = U[i] := getD_el hil
      refine g_iload (pc := 27) C dX3_sees_27 4 rfl ?_
      refine g_aload_n (pc := 29) C dX3_sees_29 1 rfl trivial rfl ?_
      refine g_callV (pc := 30) C (m_J9_length hl hU) cl11 e1 q1987 q292 q293 q82 q294 nmJ9_length rfl (by decide) (by decide) (Nat.zero_le _) (Nat.zero_le _) rfl (Nat.le_of_ble_eq_true rfl) dX3_sees_30 (gkf ?_) gkx
      refine g_icmp_ge (pc := 33) C dX3_sees_33 73 ⟨by omega, by omega⟩ ⟨by omega, by omega⟩ (by decide) (fun c_33 => ?_) (fun c_33 => ?_)
      · skip
        omega
      · skip
        refine g_iload_n (pc := 36) C dX3_sees_36 3 rfl rfl ?_
        refine g_if_eq (pc := 37) C dX3_sees_37 73 ⟨by omega, by omega⟩ (by decide) (fun c_37 => ?_) (fun c_37 => ?_)
        · skip
          omega
        · skip
          refine g_aload_n (pc := 40) C dX3_sees_40 0 rfl trivial rfl ?_
          refine g_get (pc := 41) C dX3_sees_41 cl12 hm 2 (by decide) q1821 (fun _ h9 => h9) rfl ?_
          refine g_aload_n (pc := 44) C dX3_sees_44 0 rfl trivial rfl ?_
          refine g_get (pc := 45) C dX3_sees_45 cl12 hm 27 (by decide) q1846 (fun _ h9 => h9) rfl ?_
          refine g_iload (pc := 48) C dX3_sees_48 4 rfl ?_
          refine g_iadd (pc := 50) C dX3_sees_50 ?_
          rw [ha]
          refine g_iald (pc := 51) C dX3_sees_51 h10 (a + i) (by omega) (by omega) (by omega) ?_
          refine g_aload_n (pc := 52) C dX3_sees_52 1 rfl trivial rfl ?_
          refine g_iload (pc := 53) C dX3_sees_53 4 rfl ?_
          refine g_callV (pc := 55) C (m_J9_charAt hl hU hil) cl11 e1 q1988 q1252 q1253 q82 q1254 nmJ9_charAt rfl (by decide) (by decide) (Nat.zero_le _) (Nat.zero_le _) rfl (Nat.le_of_ble_eq_true rfl) dX3_sees_55 (gkf ?_) gkx
          refine g_icmp_ne (pc := 58) C dX3_sees_58 65 ⟨by omega, by omega⟩ ⟨by omega, by omega⟩ (by decide) (fun c_58 => ?_) (fun c_58 => ?_)
          · skip
            refine g_iconst (pc := 65) C dX3_sees_65 ?_
            refine g_istore_n (pc := 66) C dX3_sees_66 (Nat.le_of_ble_eq_true rfl) rfl rfl (loc1 := [(0, _), (1, _), (2, _), (3, _), (4, _)]) rfl ?_
            refine g_iinc (pc := 67) C dX3_sees_67 4 rfl (Nat.le_of_ble_eq_true rfl) rfl (loc1 := [(0, _), (1, _), (2, _), (3, _), (4, _)]) rfl ?_
            refine g_goto (pc := 70) C dX3_sees_70 27 (by decide) ?_
            first | exact ih (i + 1) (by omega) hlen (by rw [seeN, hd, Bool.true_and, decide_eq_true_eq, hgd]; omega) | exact bad (i + 1) (by omega) (by rw [hq, Bool.and_eq_false_iff]; refine Or.inr (Bool.eq_false_iff.mpr (fun z => ?_)); have z2 := seeN_le (show i + 1 ≤ U.length by omega) z; rw [seeN, hd, Bool.true_and, decide_eq_true_eq, hgd] at z2; omega)
          · skip
            refine g_iconst (pc := 61) C dX3_sees_61 ?_
            refine g_goto (pc := 62) C dX3_sees_62 66 (by decide) ?_
            refine g_istore_n (pc := 66) C dX3_sees_66 (Nat.le_of_ble_eq_true rfl) rfl rfl (loc1 := [(0, _), (1, _), (2, _), (3, _), (4, _)]) rfl ?_
            refine g_iinc (pc := 67) C dX3_sees_67 4 rfl (Nat.le_of_ble_eq_true rfl) rfl (loc1 := [(0, _), (1, _), (2, _), (3, _), (4, _)]) rfl ?_
            refine g_goto (pc := 70) C dX3_sees_70 27 (by decide) ?_
            first | exact ih (i + 1) (by omega) hlen (by rw [seeN, hd, Bool.true_and, decide_eq_true_eq, hgd]; omega) | exact bad (i + 1) (by omega) (by rw [hq, Bool.and_eq_false_iff]; refine Or.inr (Bool.eq_false_iff.mpr (fun z => ?_)); have z2 := seeN_le (show i + 1 ≤ U.length by omega) z; rw [seeN, hd, Bool.true_and, decide_eq_true_eq, hgd] at z2; omega)
  refine g_aload_n (pc := 0) C dX3_sees_0 0 rfl trivial rfl ?_
  refine g_callV (pc := 1) C (m_X3_wordEnd hl hR hW) cl12 hm q1983 q1985 qs48 q94 q1986 nmX3_wordEnd rfl (by decide) (by decide) (Nat.zero_le _) (Nat.zero_le _) rfl (Nat.le_of_ble_eq_true rfl) dX3_sees_1 (gkf ?_) gkx
  rw [hb]
  refine g_istore_n (pc := 4) C dX3_sees_4 (Nat.le_of_ble_eq_true rfl) rfl rfl (loc1 := [(0, _), (1, _), (2, _)]) rfl ?_
  refine g_iload_n (pc := 5) C dX3_sees_5 2 rfl rfl ?_
  refine g_aload_n (pc := 6) C dX3_sees_6 0 rfl trivial rfl ?_
  refine g_get (pc := 7) C dX3_sees_7 cl12 hm 27 (by decide) q1846 (fun _ h9 => h9) rfl ?_
  refine g_isub (pc := 10) C dX3_sees_10 ?_
  refine g_aload_n (pc := 11) C dX3_sees_11 1 rfl trivial rfl ?_
  refine g_callV (pc := 12) C (m_J9_length hl hU) cl11 e1 q1987 q292 q293 q82 q294 nmJ9_length rfl (by decide) (by decide) (Nat.zero_le _) (Nat.zero_le _) rfl (Nat.le_of_ble_eq_true rfl) dX3_sees_12 (gkf ?_) gkx
  rw [ha]
  refine g_icmp_ne (pc := 15) C dX3_sees_15 22 ⟨by omega, by omega⟩ ⟨by omega, by omega⟩ (by decide) (fun c_15 => ?_) (fun c_15 => ?_)
  · skip
    refine g_iconst (pc := 22) C dX3_sees_22 ?_
    refine g_istore_n (pc := 23) C dX3_sees_23 (Nat.le_of_ble_eq_true rfl) rfl rfl (loc1 := [(0, _), (1, _), (2, _), (3, _)]) rfl ?_
    refine g_iconst (pc := 24) C dX3_sees_24 ?_
    refine g_istore (pc := 25) C dX3_sees_25 (Nat.le_of_ble_eq_true rfl) rfl (loc1 := [(0, _), (1, _), (2, _), (3, _), (4, _)]) rfl ?_
    first | exact loop U.length 0 (by omega) (by omega) rfl | exact bad 0 (by omega) (by rw [hq, decide_eq_false (show ¬ (b - a = U.length) by omega)]; rfl)
  · skip
    refine g_iconst (pc := 18) C dX3_sees_18 ?_
    refine g_goto (pc := 19) C dX3_sees_19 23 (by decide) ?_
    refine g_istore_n (pc := 23) C dX3_sees_23 (Nat.le_of_ble_eq_true rfl) rfl rfl (loc1 := [(0, _), (1, _), (2, _), (3, _)]) rfl ?_
    refine g_iconst (pc := 24) C dX3_sees_24 ?_
    refine g_istore (pc := 25) C dX3_sees_25 (Nat.le_of_ble_eq_true rfl) rfl (loc1 := [(0, _), (1, _), (2, _), (3, _), (4, _)]) rfl ?_
    first | exact loop U.length 0 (by omega) (by omega) rfl | exact bad 0 (by omega) (by rw [hq, decide_eq_false (show ¬ (b - a = U.length) by omega)]; rfl)
end
