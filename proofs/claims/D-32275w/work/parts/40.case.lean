/-! Appealrent$Case: what it answers -/
set_option maxRecDepth 100000
section
variable {E : gE} {l : Launch} {M : gM} {h t : Nat}
theorem m_X4_hasEnded (hl : l.stackTraces = false) {v0 v1 v2 v4 v5 v6 v7 : Value} {last : Int} (hM : M h = some (t, gO 1 [v0, v1, v2, vi last, v4, v5, v6, v7])) (hr : -1 ≤ last ∧ last ≤ 100000) : gFun E l yX4_hasEnded wX4_hasEnded 0 [.ref h] M (vi (b2 (decide (last ≠ -1)))) := by
  refine gMet.of hl rfl (Nat.le_of_ble_eq_true rfl) ?_
  intro Z hE hl0 hQ hX C hnm htab
  subst hE; subst hl0
  replace C : gC Z RX4 cX4_hasEnded 1 (some .boolean) _ := C
  change G Z _ _ _ 0 [(0, _)] []
  refine g_aload_n (pc := 0) C dX4_hasEnded_0 0 rfl trivial rfl ?_
  refine g_get (pc := 1) C dX4_hasEnded_1 cl1 hM 3 (by decide) q941 (fun _ h9 => h9) rfl ?_
  refine g_iconst (pc := 4) C dX4_hasEnded_4 ?_
  refine g_icmp_eq (pc := 5) C dX4_hasEnded_5 12 ⟨by omega, by omega⟩ ⟨by omega, by omega⟩ (by decide) (fun c_5 => ?_) (fun c_5 => ?_)
  · skip
    refine g_iconst (pc := 12) C dX4_hasEnded_12 ?_
    refine g_nret (pc := 13) hQ C rfl ?_ dX4_hasEnded_13
    first | exact ⟨ret_t (by omega), rfl⟩ | exact ⟨ret_f (by omega), rfl⟩
  · skip
    refine g_iconst (pc := 8) C dX4_hasEnded_8 ?_
    refine g_goto (pc := 9) C dX4_hasEnded_9 13 (by decide) ?_
    refine g_nret (pc := 13) hQ C rfl ?_ dX4_hasEnded_13
    first | exact ⟨ret_t (by omega), rfl⟩ | exact ⟨ret_f (by omega), rfl⟩
theorem m_X4_has (hl : l.stackTraces = false) {v0 v1 v4 v5 v6 v7 : Value} {first last day : Int} (hM : M h = some (t, gO 1 [v0, v1, vi first, vi last, v4, v5, v6, v7])) (hr : -1 ≤ last ∧ last ≤ 100000) (h2 : 0 ≤ first ∧ first ≤ 100000) (h3 : 0 ≤ day ∧ day ≤ 100000) : gFun E l yX4_has wX4_has 0 [.ref h, vi day] M (vi (b2 (decide (first ≤ day ∧ (last = -1 ∨ day ≤ last))))) := by
  refine gMet.of hl rfl (Nat.le_of_ble_eq_true rfl) ?_
  intro Z hE hl0 hQ hX C hnm htab
  subst hE; subst hl0
  replace C : gC Z RX4 cX4_has 2 (some .boolean) _ := C
  change G Z _ _ _ 0 [(0, _), (1, _)] []
  refine g_iload_n (pc := 0) C dX4_has_0 1 rfl rfl ?_
  refine g_aload_n (pc := 1) C dX4_has_1 0 rfl trivial rfl ?_
  refine g_get (pc := 2) C dX4_has_2 cl1 hM 2 (by decide) q939 (fun _ h9 => h9) rfl ?_
  refine g_icmp_lt (pc := 5) C dX4_has_5 28 ⟨by omega, by omega⟩ ⟨by omega, by omega⟩ (by decide) (fun c_5 => ?_) (fun c_5 => ?_)
  · skip
    refine g_iconst (pc := 28) C dX4_has_28 ?_
    refine g_nret (pc := 29) hQ C rfl ?_ dX4_has_29
    first | exact ⟨ret_t (by omega), rfl⟩ | exact ⟨ret_f (by omega), rfl⟩
  · skip
    refine g_aload_n (pc := 8) C dX4_has_8 0 rfl trivial rfl ?_
    refine g_get (pc := 9) C dX4_has_9 cl1 hM 3 (by decide) q941 (fun _ h9 => h9) rfl ?_
    refine g_iconst (pc := 12) C dX4_has_12 ?_
    refine g_icmp_eq (pc := 13) C dX4_has_13 24 ⟨by omega, by omega⟩ ⟨by omega, by omega⟩ (by decide) (fun c_13 => ?_) (fun c_13 => ?_)
    · skip
      refine g_iconst (pc := 24) C dX4_has_24 ?_
      refine g_goto (pc := 25) C dX4_has_25 29 (by decide) ?_
      refine g_nret (pc := 29) hQ C rfl ?_ dX4_has_29
      first | exact ⟨ret_t (by omega), rfl⟩ | exact ⟨ret_f (by omega), rfl⟩
    · skip
      refine g_iload_n (pc := 16) C dX4_has_16 1 rfl rfl ?_
      refine g_aload_n (pc := 17) C dX4_has_17 0 rfl trivial rfl ?_
      refine g_get (pc := 18) C dX4_has_18 cl1 hM 3 (by decide) q941 (fun _ h9 => h9) rfl ?_
      refine g_icmp_gt (pc := 21) C dX4_has_21 28 ⟨by omega, by omega⟩ ⟨by omega, by omega⟩ (by decide) (fun c_21 => ?_) (fun c_21 => ?_)
      · skip
        refine g_iconst (pc := 28) C dX4_has_28 ?_
        refine g_nret (pc := 29) hQ C rfl ?_ dX4_has_29
        first | exact ⟨ret_t (by omega), rfl⟩ | exact ⟨ret_f (by omega), rfl⟩
      · skip
        refine g_iconst (pc := 24) C dX4_has_24 ?_
        refine g_goto (pc := 25) C dX4_has_25 29 (by decide) ?_
        refine g_nret (pc := 29) hQ C rfl ?_ dX4_has_29
        first | exact ⟨ret_t (by omega), rfl⟩ | exact ⟨ret_f (by omega), rfl⟩
/-- a sum over an array's first n places -/
def sumN (f : Nat → Int) : Nat → Int
  | 0 => 0
  | n + 1 => sumN f n + f n
theorem sumN_congr {f g : Nat → Int} : ∀ {n : Nat}, (∀ i, i < n → f i = g i) → sumN f n = sumN g n
  | 0, _ => rfl
  | n + 1, h => by rw [sumN, sumN, sumN_congr (fun i hi => h i (by omega)), h n (by omega)]
theorem m_X4_allPaid (hl : l.stackTraces = false) {v0 v1 v2 v3 v5 v6 v7 : Value} {p tp : Nat} {f : Nat → Int} (hM : M h = some (t, gO 1 [v0, v1, v2, v3, .ref p, v5, v6, v7])) (hp : M p = some (tp, gI 0 51 f)) : gFun E l yX4_allPaid wX4_allPaid 0 [.ref h] M (vi (sumN f 51)) := by
  refine gMet.of hl rfl (Nat.le_of_ble_eq_true rfl) ?_
  intro Z hE hl0 hQ hX C hnm htab
  subst hE; subst hl0
  replace C : gC Z RX4 cX4_allPaid 3 (some .int) _ := C
  change G Z _ _ _ 0 [(0, _)] []
  have loop : ∀ (r i : Nat), i + r = 51 → G Z 0 0 M 4 [(0, .ref h), (1, vi (sumN f i)), (2, vi i)] [] := by
    intro r
    induction r with
    | zero =>
      intro i hi
      refine g_iload_n (pc := 4) C dX4_allPaid_4 2 rfl rfl ?_
      refine g_bipush (pc := 5) C dX4_allPaid_5 (by decide) ?_
      refine g_icmp_ge (pc := 7) C dX4_allPaid_7 25 ⟨by omega, by omega⟩ ⟨by omega, by omega⟩ (by decide) (fun c_7 => ?_) (fun c_7 => ?_)
      · skip
        refine g_iload_n (pc := 25) C dX4_allPaid_25 1 rfl rfl ?_
        refine g_iret (pc := 26) hQ C ?_ dX4_allPaid_26
        obtain rfl : i = 51 := by omega
        exact ⟨rfl, rfl⟩
      · skip
        omega
    | succ r ih =>
      intro i hi
      refine g_iload_n (pc := 4) C dX4_allPaid_4 2 rfl rfl ?_
      refine g_bipush (pc := 5) C dX4_allPaid_5 (by decide) ?_
      refine g_icmp_ge (pc := 7) C dX4_allPaid_7 25 ⟨by omega, by omega⟩ ⟨by omega, by omega⟩ (by decide) (fun c_7 => ?_) (fun c_7 => ?_)
      · skip
        omega
      · skip
        refine g_iload_n (pc := 10) C dX4_allPaid_10 1 rfl rfl ?_
        refine g_aload_n (pc := 11) C dX4_allPaid_11 0 rfl trivial rfl ?_
        refine g_get (pc := 12) C dX4_allPaid_12 cl1 hM 4 (by decide) q943 (fun _ h9 => h9) rfl ?_
        refine g_iload_n (pc := 15) C dX4_allPaid_15 2 rfl rfl ?_
        refine g_iald (pc := 16) C dX4_allPaid_16 hp _ rfl (by omega) (by omega) ?_
        refine g_iadd (pc := 17) C dX4_allPaid_17 ?_
        refine g_istore_n (pc := 18) C dX4_allPaid_18 (Nat.le_of_ble_eq_true rfl) rfl rfl (loc1 := [(0, _), (1, _), (2, _)]) rfl ?_
        refine g_iinc (pc := 19) C dX4_allPaid_19 2 rfl (Nat.le_of_ble_eq_true rfl) rfl (loc1 := [(0, _), (1, _), (2, _)]) rfl ?_
        refine g_goto (pc := 22) C dX4_allPaid_22 4 (by decide) ?_
        exact ih (i + 1) (by omega)
  refine g_iconst (pc := 0) C dX4_allPaid_0 ?_
  refine g_istore_n (pc := 1) C dX4_allPaid_1 (Nat.le_of_ble_eq_true rfl) rfl rfl (loc1 := [(0, _), (1, _)]) rfl ?_
  refine g_iconst (pc := 2) C dX4_allPaid_2 ?_
  refine g_istore_n (pc := 3) C dX4_allPaid_3 (Nat.le_of_ble_eq_true rfl) rfl rfl (loc1 := [(0, _), (1, _), (2, _)]) rfl ?_
  exact loop 51 0 rfl
end
