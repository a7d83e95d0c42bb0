/-! AppealrentModel: text, its table of words -/
set_option maxRecDepth 100000
section
variable {E : gE} {l : Launch} {M M1 : gM} {A : Nat → Nat} {s s1 : gS} {t t1 : Int}
theorem g_aastS {Z : gZ} {own : String} {cc : ByteArray} {nL : Nat} {rt : Option FieldType} {d0 k n pc a : Nat} {loc : List (Nat × Value)} {st : List Value} {ci N : Nat} {Cn : String} {T : u_T} {ty : Nat → FieldType} {fs : List Value} {t : Nat} (C : gC Z own cc nL rt d0) {ti m tv : Nat} {f : Nat → Option Nat} {v : Nat} {i : Int} (dd : decode cc pc = .ok (.aastore, 1)) (hM : M a = some (t, gR ti m f)) (ht : t ≠ 0) (hti : ∀ E : gE, (gTys E)[ti]? = some (E.2.1 ti, .object Cn)) (c : gCls ci Cn T N ty) (hv : M v = some (tv, gO ci fs)) (j : Nat) (hi : i = j) (hj : j < m) (hb : m ≤ 2147483647) (kk : G Z k n (gSet M a (t, gR ti m (gUpR f j (some v)))) (pc + 1) loc st) : G Z k n M pc loc (.ref v :: vi i :: .ref a :: st) := by
  subst hi
  intro H locs cells slots ls hA hl
  obtain ⟨cellV, g1, g2, g3⟩ := g_recv C c hv hA
  obtain ⟨kA, comp, k1, k2, k3, -⟩ := (C.K.2 ti _ (hti Z.1)).2
  cases k3.symm.trans g3
  have hasg : (gZs' Z).vm.assignable cellV.cls cellV.cls = true := by
    have h9 := (C.K.1 ci _ c.1).2.1
    have h8 := h9
    obtain ⟨kC, hkC, hkind⟩ := (C.K.1 ci _ c.1).2.2
    have e9 : cellV.cls = Z.1.1.1 ci := Option.some.inj (g3.symm.trans h8)
    rw [e9]
    exact va_assign ⟨h9, kC, hkC, hkind⟩
  obtain ⟨kC, hkC, -⟩ := Vm.findClass_spec g3
  refine W.aast C.x C.b ((hA.P hM) 0 _ rfl) (fun q h => by cases h) (fun h => by cases h) k1 k2 rfl hkC ⟨fun h => ?_, ?_⟩ g1 (fun q h => by rw [h] at g2; cases g2) hkC hasg rfl rfl dd fun H1 e z oq => ?_
  · have := (iv_lt (a := (j : Int)) (b := 0) ⟨by omega, by omega⟩ r32_0).mp h
    omega
  · show _ < (arrV _ _ _).slots.size
    rw [arrV_size, iv_cl ⟨by omega, by omega⟩]
    exact hj
  · refine kk H1 _ cells slots ls (hA.put hM ht z oq ?_) hl
    rw [iv_cl ⟨by omega, by omega⟩] at e
    exact e.trans (congrArg some ((arrV_store _ _ _ _ _).trans (gUpR_v f _ (some v) _ m)))
theorem gExt.off {T : Nat → Prop} {M0 M M1 : gM} {q : Nat} {y : Nat × gEnt} (h : gExt T M0 M) (e : gSet M q y = M1) (nn : M0 q = none) : gExt T M0 M1 := fun a x ha n => by
  subst e
  rw [gSet_n _ _ (fun z => by rw [z, nn] at ha; cases ha)]
  exact h a x ha n
theorem gStr_o {k : Nat} (hk : k < 15) (hs : gStat E) (hp : ∀ (a : Nat) (x : gEnt), E.2.2.2.1 a = some x → M a = some (0, x)) : M (E.2.2.2.2 (2 * k + 1)) = some (0, gO 11 [.ref (E.2.2.2.2 (2 * k + 2)), vi 0, vi (gHash (gTxt k)), vi (if k = 0 then 1 else 0)]) := hp _ _ (hs k hk).1
theorem m_X3_text (hl : l.stackTraces = false) (hR : RM A M s t) (hW : WF s) {form : Bool} : gMet E l yX3_text wX3_text 7 1 5 [.ref (A 0), vi (b2 form)] M (fun v M1 => v = some (vi (b2 (spText s form).2)) ∧ RM A M1 (spText s form).1 t ∧ gExt gTM M M1) (fun _ _ _ => False) := by
  have hx0 : gExt gTM M M := gExt.rf
  cases form with
  | false =>
    show gMet E l yX3_text wX3_text 7 1 5 [.ref (A 0), vi 0] M _ _
    refine gMet.of hl rfl (Nat.le_of_ble_eq_true rfl) ?_
    intro Z hE hl0 hQ hX C hnm htab
    subst hE; subst hl0
    replace C : gC Z RX3 cX3_text 6 (some .boolean) _ := C
    change G Z _ _ _ 0 [(0, _), (1, _)] []
    refine G.pure (fun hp => ?_)
    have st := C.2.2.1.st
    have g0 := gStr_o (k := 10) (by decide) st hp
    have g1 := gStr_o (k := 11) (by decide) st hp
    have g2 := gStr_o (k := 12) (by decide) st hp
    have g3 := gStr_o (k := 13) (by decide) st hp
    have g4 := gStr_o (k := 14) (by decide) st hp
    refine g_iconst (pc := 0) C dX3_text_0 ?_
    refine g_newR (pc := 1) C dX3_text_1 (ti := 7) (fun _ => rfl) (gK.aoS C.2.2.1) q1963 90 5 rfl (by decide) (by omega) (by omega) (fun qn1 nn1 => ?_)
    refine g_nm (fun M_1 e_1 => ?_)
    replace g0 := g_fr e_1 g0 (g_ne_new g0 nn1)
    replace g1 := g_fr e_1 g1 (g_ne_new g1 nn1)
    replace g2 := g_fr e_1 g2 (g_ne_new g2 nn1)
    replace g3 := g_fr e_1 g3 (g_ne_new g3 nn1)
    replace g4 := g_fr e_1 g4 (g_ne_new g4 nn1)
    have n1 := g_at e_1
    replace hR : RM A M_1 s t := hR.x (gExt.newE (T := gNo) e_1 nn1) (fun _ _ _ h => h)
    replace hx0 := hx0.off e_1 nn1
    refine g_dup (pc := 4) C dX3_text_4 rfl ?_
    refine g_iconst (pc := 5) C dX3_text_5 ?_
    refine g_iload_n (pc := 6) C dX3_text_6 1 rfl rfl ?_
    refine g_if_eq (pc := 7) C dX3_text_7 15 ⟨by omega, by omega⟩ (by decide) (fun c_7 => ?_) (fun c_7 => ?_)
    · skip
      refine g_ldcS (pc := 15) C dX3_text_15 (tx := "cap") (kn := 10) (by decide +kernel) ?_
      have hqo := n1
      refine g_aastS (pc := 17) C dX3_text_17 n1 (by decide) (fun _ => rfl) cl11 g0  0 rfl (by decide) (by decide) ?_
      refine g_nm (fun M_17 e_17 => ?_)
      replace g0 := g_fr e_17 g0 (g_ne g0 n1 (by intro e; cases e))
      replace g1 := g_fr e_17 g1 (g_ne g1 n1 (by intro e; cases e))
      replace g2 := g_fr e_17 g2 (g_ne g2 n1 (by intro e; cases e))
      replace g3 := g_fr e_17 g3 (g_ne g3 n1 (by intro e; cases e))
      replace g4 := g_fr e_17 g4 (g_ne g4 n1 (by intro e; cases e))
      replace n1 := g_at e_17
      replace hR : RM A M_17 s t := hR.x (gExt.putE (T := gT1 90) e_17 hqo rfl) (fun u h1 h2 h3 => by have : u = 90 := h3; omega)
      replace hx0 := hx0.off e_17 nn1
      refine g_dup (pc := 18) C dX3_text_18 rfl ?_
      refine g_iconst (pc := 19) C dX3_text_19 ?_
      refine g_iload_n (pc := 20) C dX3_text_20 1 rfl rfl ?_
      refine g_if_eq (pc := 21) C dX3_text_21 29 ⟨by omega, by omega⟩ (by decide) (fun c_21 => ?_) (fun c_21 => ?_)
      · skip
        refine g_ldcS (pc := 29) C dX3_text_29 (tx := "share") (kn := 11) (by decide +kernel) ?_
        have hqo := n1
        refine g_aastS (pc := 31) C dX3_text_31 n1 (by decide) (fun _ => rfl) cl11 g1  1 rfl (by decide) (by decide) ?_
        refine g_nm (fun M_31 e_31 => ?_)
        replace g0 := g_fr e_31 g0 (g_ne g0 n1 (by intro e; cases e))
        replace g1 := g_fr e_31 g1 (g_ne g1 n1 (by intro e; cases e))
        replace g2 := g_fr e_31 g2 (g_ne g2 n1 (by intro e; cases e))
        replace g3 := g_fr e_31 g3 (g_ne g3 n1 (by intro e; cases e))
        replace g4 := g_fr e_31 g4 (g_ne g4 n1 (by intro e; cases e))
        replace n1 := g_at e_31
        replace hR : RM A M_31 s t := hR.x (gExt.putE (T := gT1 90) e_31 hqo rfl) (fun u h1 h2 h3 => by have : u = 90 := h3; omega)
        replace hx0 := hx0.off e_31 nn1
        refine g_dup (pc := 32) C dX3_text_32 rfl ?_
        refine g_iconst (pc := 33) C dX3_text_33 ?_
        refine g_iload_n (pc := 34) C dX3_text_34 1 rfl rfl ?_
        refine g_if_eq (pc := 35) C dX3_text_35 43 ⟨by omega, by omega⟩ (by decide) (fun c_35 => ?_) (fun c_35 => ?_)
        · skip
          refine g_ldcS (pc := 43) C dX3_text_43 (tx := "free") (kn := 12) (by decide +kernel) ?_
          have hqo := n1
          refine g_aastS (pc := 45) C dX3_text_45 n1 (by decide) (fun _ => rfl) cl11 g2  2 rfl (by decide) (by decide) ?_
          refine g_nm (fun M_45 e_45 => ?_)
          replace g0 := g_fr e_45 g0 (g_ne g0 n1 (by intro e; cases e))
          replace g1 := g_fr e_45 g1 (g_ne g1 n1 (by intro e; cases e))
          replace g2 := g_fr e_45 g2 (g_ne g2 n1 (by intro e; cases e))
          replace g3 := g_fr e_45 g3 (g_ne g3 n1 (by intro e; cases e))
          replace g4 := g_fr e_45 g4 (g_ne g4 n1 (by intro e; cases e))
          replace n1 := g_at e_45
          replace hR : RM A M_45 s t := hR.x (gExt.putE (T := gT1 90) e_45 hqo rfl) (fun u h1 h2 h3 => by have : u = 90 := h3; omega)
          replace hx0 := hx0.off e_45 nn1
          refine g_dup (pc := 46) C dX3_text_46 rfl ?_
          refine g_iconst (pc := 47) C dX3_text_47 ?_
          refine g_iload_n (pc := 48) C dX3_text_48 1 rfl rfl ?_
          refine g_if_eq (pc := 49) C dX3_text_49 57 ⟨by omega, by omega⟩ (by decide) (fun c_49 => ?_) (fun c_49 => ?_)
          · skip
            refine g_ldcS (pc := 57) C dX3_text_57 (tx := "cut") (kn := 13) (by decide +kernel) ?_
            have hqo := n1
            refine g_aastS (pc := 59) C dX3_text_59 n1 (by decide) (fun _ => rfl) cl11 g3  3 rfl (by decide) (by decide) ?_
            refine g_nm (fun M_59 e_59 => ?_)
            replace g0 := g_fr e_59 g0 (g_ne g0 n1 (by intro e; cases e))
            replace g1 := g_fr e_59 g1 (g_ne g1 n1 (by intro e; cases e))
            replace g2 := g_fr e_59 g2 (g_ne g2 n1 (by intro e; cases e))
            replace g3 := g_fr e_59 g3 (g_ne g3 n1 (by intro e; cases e))
            replace g4 := g_fr e_59 g4 (g_ne g4 n1 (by intro e; cases e))
            replace n1 := g_at e_59
            replace hR : RM A M_59 s t := hR.x (gExt.putE (T := gT1 90) e_59 hqo rfl) (fun u h1 h2 h3 => by have : u = 90 := h3; omega)
            replace hx0 := hx0.off e_59 nn1
            refine g_dup (pc := 60) C dX3_text_60 rfl ?_
            refine g_iconst (pc := 61) C dX3_text_61 ?_
            refine g_iload_n (pc := 62) C dX3_text_62 1 rfl rfl ?_
            refine g_if_eq (pc := 63) C dX3_text_63 71 ⟨by omega, by omega⟩ (by decide) (fun c_63 => ?_) (fun c_63 => ?_)
            · skip
              refine g_ldcS (pc := 71) C dX3_text_71 (tx := "least") (kn := 14) (by decide +kernel) ?_
              have hqo := n1
              refine g_aastS (pc := 73) C dX3_text_73 n1 (by decide) (fun _ => rfl) cl11 g4  4 rfl (by decide) (by decide) ?_
              refine g_nm (fun M_73 e_73 => ?_)
              replace g0 := g_fr e_73 g0 (g_ne g0 n1 (by intro e; cases e))
              replace g1 := g_fr e_73 g1 (g_ne g1 n1 (by intro e; cases e))
              replace g2 := g_fr e_73 g2 (g_ne g2 n1 (by intro e; cases e))
              replace g3 := g_fr e_73 g3 (g_ne g3 n1 (by intro e; cases e))
              replace g4 := g_fr e_73 g4 (g_ne g4 n1 (by intro e; cases e))
              replace n1 := g_at e_73
              replace hR : RM A M_73 s t := hR.x (gExt.putE (T := gT1 90) e_73 hqo rfl) (fun u h1 h2 h3 => by have : u = 90 := h3; omega)
              replace hx0 := hx0.off e_73 nn1
              refine g_astore_n (pc := 74) C dX3_text_74 trivial (Nat.le_of_ble_eq_true rfl) rfl rfl (loc1 := [(0, _), (1, _), (2, _)]) rfl ?_
              exact x_X3_text75 C hl (fun k hk => by
                have : k = 0 ∨ k = 1 ∨ k = 2 ∨ k = 3 ∨ k = 4 := by omega
                rcases this with rfl | rfl | rfl | rfl | rfl <;> rfl) hQ hR hW n1 hx0
            · skip
              omega
          · skip
            omega
        · skip
          omega
      · skip
        omega
    · skip
      omega
  | true =>
    show gMet E l yX3_text wX3_text 7 1 5 [.ref (A 0), vi 1] M _ _
    refine gMet.of hl rfl (Nat.le_of_ble_eq_true rfl) ?_
    intro Z hE hl0 hQ hX C hnm htab
    subst hE; subst hl0
    replace C : gC Z RX3 cX3_text 6 (some .boolean) _ := C
    change G Z _ _ _ 0 [(0, _), (1, _)] []
    refine G.pure (fun hp => ?_)
    have st := C.2.2.1.st
    have g0 := gStr_o (k := 3) (by decide) st hp
    have g1 := gStr_o (k := 4) (by decide) st hp
    have g2 := gStr_o (k := 5) (by decide) st hp
    have g3 := gStr_o (k := 6) (by decide) st hp
    have g4 := gStr_o (k := 7) (by decide) st hp
    refine g_iconst (pc := 0) C dX3_text_0 ?_
    refine g_newR (pc := 1) C dX3_text_1 (ti := 7) (fun _ => rfl) (gK.aoS C.2.2.1) q1963 90 5 rfl (by decide) (by omega) (by omega) (fun qn1 nn1 => ?_)
    refine g_nm (fun M_1 e_1 => ?_)
    replace g0 := g_fr e_1 g0 (g_ne_new g0 nn1)
    replace g1 := g_fr e_1 g1 (g_ne_new g1 nn1)
    replace g2 := g_fr e_1 g2 (g_ne_new g2 nn1)
    replace g3 := g_fr e_1 g3 (g_ne_new g3 nn1)
    replace g4 := g_fr e_1 g4 (g_ne_new g4 nn1)
    have n1 := g_at e_1
    replace hR : RM A M_1 s t := hR.x (gExt.newE (T := gNo) e_1 nn1) (fun _ _ _ h => h)
    replace hx0 := hx0.off e_1 nn1
    refine g_dup (pc := 4) C dX3_text_4 rfl ?_
    refine g_iconst (pc := 5) C dX3_text_5 ?_
    refine g_iload_n (pc := 6) C dX3_text_6 1 rfl rfl ?_
    refine g_if_eq (pc := 7) C dX3_text_7 15 ⟨by omega, by omega⟩ (by decide) (fun c_7 => ?_) (fun c_7 => ?_)
    · skip
      omega
    · skip
      refine g_ldcS (pc := 10) C dX3_text_10 (tx := "rent") (kn := 3) (by decide +kernel) ?_
      refine g_goto (pc := 12) C dX3_text_12 17 (by decide) ?_
      have hqo := n1
      refine g_aastS (pc := 17) C dX3_text_17 n1 (by decide) (fun _ => rfl) cl11 g0  0 rfl (by decide) (by decide) ?_
      refine g_nm (fun M_17 e_17 => ?_)
      replace g0 := g_fr e_17 g0 (g_ne g0 n1 (by intro e; cases e))
      replace g1 := g_fr e_17 g1 (g_ne g1 n1 (by intro e; cases e))
      replace g2 := g_fr e_17 g2 (g_ne g2 n1 (by intro e; cases e))
      replace g3 := g_fr e_17 g3 (g_ne g3 n1 (by intro e; cases e))
      replace g4 := g_fr e_17 g4 (g_ne g4 n1 (by intro e; cases e))
      replace n1 := g_at e_17
      replace hR : RM A M_17 s t := hR.x (gExt.putE (T := gT1 90) e_17 hqo rfl) (fun u h1 h2 h3 => by have : u = 90 := h3; omega)
      replace hx0 := hx0.off e_17 nn1
      refine g_dup (pc := 18) C dX3_text_18 rfl ?_
      refine g_iconst (pc := 19) C dX3_text_19 ?_
      refine g_iload_n (pc := 20) C dX3_text_20 1 rfl rfl ?_
      refine g_if_eq (pc := 21) C dX3_text_21 29 ⟨by omega, by omega⟩ (by decide) (fun c_21 => ?_) (fun c_21 => ?_)
      · skip
        omega
      · skip
        refine g_ldcS (pc := 24) C dX3_text_24 (tx := "income") (kn := 4) (by decide +kernel) ?_
        refine g_goto (pc := 26) C dX3_text_26 31 (by decide) ?_
        have hqo := n1
        refine g_aastS (pc := 31) C dX3_text_31 n1 (by decide) (fun _ => rfl) cl11 g1  1 rfl (by decide) (by decide) ?_
        refine g_nm (fun M_31 e_31 => ?_)
        replace g0 := g_fr e_31 g0 (g_ne g0 n1 (by intro e; cases e))
        replace g1 := g_fr e_31 g1 (g_ne g1 n1 (by intro e; cases e))
        replace g2 := g_fr e_31 g2 (g_ne g2 n1 (by intro e; cases e))
        replace g3 := g_fr e_31 g3 (g_ne g3 n1 (by intro e; cases e))
        replace g4 := g_fr e_31 g4 (g_ne g4 n1 (by intro e; cases e))
        replace n1 := g_at e_31
        replace hR : RM A M_31 s t := hR.x (gExt.putE (T := gT1 90) e_31 hqo rfl) (fun u h1 h2 h3 => by have : u = 90 := h3; omega)
        replace hx0 := hx0.off e_31 nn1
        refine g_dup (pc := 32) C dX3_text_32 rfl ?_
        refine g_iconst (pc := 33) C dX3_text_33 ?_
        refine g_iload_n (pc := 34) C dX3_text_34 1 rfl rfl ?_
        refine g_if_eq (pc := 35) C dX3_text_35 43 ⟨by omega, by omega⟩ (by decide) (fun c_35 => ?_) (fun c_35 => ?_)
        · skip
          omega
        · skip
          refine g_ldcS (pc := 38) C dX3_text_38 (tx := "heads") (kn := 5) (by decide +kernel) ?_
          refine g_goto (pc := 40) C dX3_text_40 45 (by decide) ?_
          have hqo := n1
          refine g_aastS (pc := 45) C dX3_text_45 n1 (by decide) (fun _ => rfl) cl11 g2  2 rfl (by decide) (by decide) ?_
          refine g_nm (fun M_45 e_45 => ?_)
          replace g0 := g_fr e_45 g0 (g_ne g0 n1 (by intro e; cases e))
          replace g1 := g_fr e_45 g1 (g_ne g1 n1 (by intro e; cases e))
          replace g2 := g_fr e_45 g2 (g_ne g2 n1 (by intro e; cases e))
          replace g3 := g_fr e_45 g3 (g_ne g3 n1 (by intro e; cases e))
          replace g4 := g_fr e_45 g4 (g_ne g4 n1 (by intro e; cases e))
          replace n1 := g_at e_45
          replace hR : RM A M_45 s t := hR.x (gExt.putE (T := gT1 90) e_45 hqo rfl) (fun u h1 h2 h3 => by have : u = 90 := h3; omega)
          replace hx0 := hx0.off e_45 nn1
          refine g_dup (pc := 46) C dX3_text_46 rfl ?_
          refine g_iconst (pc := 47) C dX3_text_47 ?_
          refine g_iload_n (pc := 48) C dX3_text_48 1 rfl rfl ?_
          refine g_if_eq (pc := 49) C dX3_text_49 57 ⟨by omega, by omega⟩ (by decide) (fun c_49 => ?_) (fun c_49 => ?_)
          · skip
            omega
          · skip
            refine g_ldcS (pc := 52) C dX3_text_52 (tx := "to") (kn := 6) (by decide +kernel) ?_
            refine g_goto (pc := 54) C dX3_text_54 59 (by decide) ?_
            have hqo := n1
            refine g_aastS (pc := 59) C dX3_text_59 n1 (by decide) (fun _ => rfl) cl11 g3  3 rfl (by decide) (by decide) ?_
            refine g_nm (fun M_59 e_59 => ?_)
            replace g0 := g_fr e_59 g0 (g_ne g0 n1 (by intro e; cases e))
            replace g1 := g_fr e_59 g1 (g_ne g1 n1 (by intro e; cases e))
            replace g2 := g_fr e_59 g2 (g_ne g2 n1 (by intro e; cases e))
            replace g3 := g_fr e_59 g3 (g_ne g3 n1 (by intro e; cases e))
            replace g4 := g_fr e_59 g4 (g_ne g4 n1 (by intro e; cases e))
            replace n1 := g_at e_59
            replace hR : RM A M_59 s t := hR.x (gExt.putE (T := gT1 90) e_59 hqo rfl) (fun u h1 h2 h3 => by have : u = 90 := h3; omega)
            replace hx0 := hx0.off e_59 nn1
            refine g_dup (pc := 60) C dX3_text_60 rfl ?_
            refine g_iconst (pc := 61) C dX3_text_61 ?_
            refine g_iload_n (pc := 62) C dX3_text_62 1 rfl rfl ?_
            refine g_if_eq (pc := 63) C dX3_text_63 71 ⟨by omega, by omega⟩ (by decide) (fun c_63 => ?_) (fun c_63 => ?_)
            · skip
              omega
            · skip
              refine g_ldcS (pc := 66) C dX3_text_66 (tx := "from") (kn := 7) (by decide +kernel) ?_
              refine g_goto (pc := 68) C dX3_text_68 73 (by decide) ?_
              have hqo := n1
              refine g_aastS (pc := 73) C dX3_text_73 n1 (by decide) (fun _ => rfl) cl11 g4  4 rfl (by decide) (by decide) ?_
              refine g_nm (fun M_73 e_73 => ?_)
              replace g0 := g_fr e_73 g0 (g_ne g0 n1 (by intro e; cases e))
              replace g1 := g_fr e_73 g1 (g_ne g1 n1 (by intro e; cases e))
              replace g2 := g_fr e_73 g2 (g_ne g2 n1 (by intro e; cases e))
              replace g3 := g_fr e_73 g3 (g_ne g3 n1 (by intro e; cases e))
              replace g4 := g_fr e_73 g4 (g_ne g4 n1 (by intro e; cases e))
              replace n1 := g_at e_73
              replace hR : RM A M_73 s t := hR.x (gExt.putE (T := gT1 90) e_73 hqo rfl) (fun u h1 h2 h3 => by have : u = 90 := h3; omega)
              replace hx0 := hx0.off e_73 nn1
              refine g_astore_n (pc := 74) C dX3_text_74 trivial (Nat.le_of_ble_eq_true rfl) rfl rfl (loc1 := [(0, _), (1, _), (2, _)]) rfl ?_
              exact x_X3_text75 C hl (fun k hk => by
                have : k = 0 ∨ k = 1 ∨ k = 2 ∨ k = 3 ∨ k = 4 := by omega
                rcases this with rfl | rfl | rfl | rfl | rfl <;> rfl) hQ hR hW n1 hx0
end
