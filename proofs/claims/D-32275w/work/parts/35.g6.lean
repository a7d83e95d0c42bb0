/-! rows: statics, calls through interfaces, casts, arrays of references, System.arraycopy, switches, floats -/
set_option maxRecDepth 100000
section GI
variable {Z : gZ} {own : String} {cc : ByteArray} {nL : Nat} {rt : Option FieldType} {d0 k n pc : Nat} {M : gM} {loc : List (Nat × Value)} {st : List Value}
variable {y : MethodName} {b : ByteArray} {L d mc ms index : Nat} {r : Option FieldType} {as rest : List Value} {Qc : Option Value → gM → Prop} {QXc : String → Nat → gM → Prop}
variable {ci a t m : Nat} {Cn : String} {T : u_T} {N : Nat} {ty : Nat → FieldType} {fs : List Value}
theorem g_gets (C : gC Z own cc nL rt d0) {Cx nx dx ref : String} {x : Int} (dd : decode cc pc = .ok (.getstatic index, 3)) (hz : (Cx, nx, dx, x) ∈ gZs) (q : Cond.fieldLink own index ref nx dx ∈ lw_all) (hsame : ∀ x, (gZs' Z).fieldFound? Cx nx dx = some x → (gZs' Z).fieldFound? ref nx dx = some x) (kk : G Z k n M (pc + 3) loc (vi x :: st)) : G Z k n M pc loc st :=
  fun H locs cells slots ls hA hl => va_gets C.x C.b ((C.2.2.1.zs _ hz).kept (fun q h1 _ => C.2.2.2.1.2 q h1)) (hA.S C) C.ow (C.ts _ q) hsame dd (kk H locs cells slots ls hA hl)
theorem G.run5 {st0 : List Value} {a0 : Array Value} (hk : mc ≤ k) (hn : ms ≤ n)
    (hr : ∀ (H : Heap) (locs : List Loc) (cells slots : Nat) (ls : Array Slot), gAt Z k n M H locs cells slots → lv_has ls (gZc Z).maxLocals loc → vx_Run5 (gZp Z) (gZl Z) (gZe Z) (gZr Z) (gZs' Z) (gZm Z) (gZa Z) (gZb Z) (gZt Z) (gZc Z) H locs cells slots mc ms (F0 (gZm Z) pc ls st0) rest (gQ Z.1 Qc a0) (gQX Z.1 QXc) (gFr Z.1))
    (kk : ∀ (v : Option Value) (M1 : gM), Qc v M1 → G Z (k - mc) (n - ms) M1 (pc + 5) loc (v.toList ++ rest)) (kx : ∀ (En : String) (q : Nat) (M1 : gM), QXc En q M1 → GX Z (k - mc) (n - ms) M1 pc loc En q) : G Z k n M pc loc st0 := by
  intro H locs cells slots ls hA hl T hT X
  obtain ⟨h1, h2, h3, h4, h5⟩ := hA
  rcases hr H locs cells slots ls ⟨h1, h2, h3, h4, h5⟩ hl T hT X with ⟨v, st₀, t, T', L, e0, X', hL, e1, e2, ⟨v', M1, hv, hq, hI, hz⟩, hgo⟩ | ⟨q, st₀, t, T', L, En, ce, e0, X', hL, e1, e2, ⟨M1, hq, hI, hz⟩, hce, hcv, hcl, hgo⟩
  · cases hv
    rw [e0] at hz
    have hA' : gAt Z (k - mc) (n - ms) M1 T'.heap (locs ++ L) (cells + mc) (slots + ms) := ⟨by rw [e1]; exact hI, by rw [e1]; omega, fun z hz => (List.mem_append.mp hz).elim (h3 z) (hL z), by omega, by omega⟩
    obtain ⟨u, a1, b1⟩ := kk v M1 hq T'.heap _ _ _ ls hA' hl T' rfl X'
    exact ⟨u, hgo u a1, b1⟩
  · rw [e0] at hz
    have hA' : gAt Z (k - mc) (n - ms) M1 T'.heap (locs ++ L) (cells + mc) (slots + ms) := ⟨by rw [e1]; exact hI, by rw [e1]; omega, fun z hz => (List.mem_append.mp hz).elim (h3 z) (hL z), by omega, by omega⟩
    obtain ⟨u, a1, b1⟩ := kx En q M1 hq T'.heap _ _ _ ls rest ce hA' hl (by rw [e1]; exact hce) hcv hcl T' rfl X'
    exact ⟨u, hgo.trans a1, b1⟩
theorem lw_F {own : String} {idx : Nat} {C : String} {x y : MethodName} {b : ByteArray} {L : Nat} {r : Option FieldType} (h1 : Cond.methodLink own idx x ∈ lw_all) (h2 : Cond.selects C x y ∈ lw_all) (h3 : Cond.instanceMethod y ∈ lw_all) (h4 : Cond.initialized y.cls ∈ lw_all) (h5 : Cond.code y b L r ∈ lw_all) : GoodIn lw_all (va_wsF own idx C x y (ws_ y b L r)) := by
  refine lw_app ?_ (lw_meth h5)
  intro w hw
  simp only [List.mem_cons, List.not_mem_nil, or_false] at hw
  rcases hw with e | e | e | e
  · rw [e]; exact h1
  · rw [e]; exact h2
  · rw [e]; exact h3
  · rw [e]; exact h4
theorem g_callF {x : MethodName} {cnt : Nat} (C : gC Z own cc nL rt d0) (hm : gMet Z.1 (gZl Z) y (ws_ y b L r) d mc ms (.ref a :: as) M Qc QXc) (c : gCls ci Cn T N ty) (hM : M a = some (t, gO ci fs)) (hf : (Cn, x, y) ∈ gFw) (q1 : Cond.methodLink own index x ∈ lw_all) (q2 : Cond.selects Cn x y ∈ lw_all) (q3 : Cond.instanceMethod y ∈ lw_all) (q4 : Cond.initialized y.cls ∈ lw_all) (q5 : Cond.code y b L r ∈ lw_all) (hy : gNm x x.cls m) (ha : as.length = m) (hd : d < d0) (hL : L ≤ 80) (hk : mc ≤ k) (hn : ms ≤ n) {st0 : List Value} (hs : st0 = as.reverse ++ .ref a :: rest) (hr : (rest.map fun v => v.category).sum ≤ 8) (dd : decode cc pc = .ok (.invokeinterface index cnt, 5))
    (kk : ∀ (v : Option Value) (M1 : gM), Qc v M1 → G Z (k - mc) (n - ms) M1 (pc + 5) loc (v.toList ++ rest)) (kx : ∀ (En : String) (q : Nat) (M1 : gM), QXc En q M1 → GX Z (k - mc) (n - ms) M1 pc loc En q) : G Z k n M pc loc st0 := by
  subst hs
  exact G.run5 hk hn (fun H locs cells slots ls hA hl => vx_runF (C.K.1 ci _ c.1).2 C.1 hm (va_cwF m C.ts (lw_F q1 q2 q3 q4 q5) rfl rfl rfl (C.2.2.1.fw _ hf) hy.2 (g_room C hd hL)) (g_preV C c hM hA) rfl ha (by rw [← C.ml]; exact hl.1) rfl (lv_room hr) dd ⟨by have := hA.2.2.2.1; omega, by have := hA.2.2.2.2; omega⟩) kk kx
/-! casts -/
theorem g_cast_s (C : gC Z own cc nL rt d0) (dd : decode cc pc = .ok (.checkcast index, 3)) (c : gCls ci Cn T N ty) (hM : M a = some (t, gO ci fs)) (q1 : Cond.classLink own index Cn ∈ lw_all) (kk : G Z k n M (pc + 3) loc (.ref a :: st)) : G Z k n M pc loc (.ref a :: st) :=
  fun H locs cells slots ls hA hl => va_castS C.x C.b C.ow (C.ts _ q1) (C.K.1 ci _ c.1).2 (g_recv C c hM hA) dd (kk H locs cells slots ls hA hl)
theorem g_cast_n (C : gC Z own cc nL rt d0) (dd : decode cc pc = .ok (.checkcast index, 3)) (kk : G Z k n M (pc + 3) loc (.null :: st)) : G Z k n M pc loc (.null :: st) :=
  G.lift (fun _ _ _ _ ls hl w => lv_castN C.x C.b dd w) kk
theorem g_cast_a (C : gC Z own cc nL rt d0) {ti m : Nat} {ar : (Nat → Int32) ⊕ (Nat → Int64) ⊕ (Nat → UInt32) ⊕ (Nat → UInt64) ⊕ (Nat → Option Nat)} {nm : String} {tf : FieldType} (dd : decode cc pc = .ok (.checkcast index, 3)) (hM : M a = some (t, .inl (ti, m, ar))) (q1 : Cond.classLink own index nm ∈ lw_all) (hti : ∀ E : gE, (gTys E)[ti]? = some (E.2.1 ti, tf)) (hnm : ∀ (U : State) (cA : ClassId), va_RA U cA tf → U.vm.findClass nm = some cA) (kk : G Z k n M (pc + 3) loc (.ref a :: st)) : G Z k n M pc loc (.ref a :: st) :=
  fun H locs cells slots ls hA hl => va_castA C.x C.b C.ow (C.ts _ q1) (hA.P hM) 0 rfl (hnm _ _ (C.K.2 ti _ (hti Z.1)).2) dd (kk H locs cells slots ls hA hl)
theorem g_inst_y (C : gC Z own cc nL rt d0) {nm : String} (dd : decode cc pc = .ok (.instanceof index, 3)) (c : gCls ci Cn T N ty) (hM : M a = some (t, gO ci fs)) (q1 : Cond.classLink own index nm ∈ lw_all) (q2 : Cond.castable Cn nm ∈ lw_tbl) (kk : G Z k n M (pc + 3) loc (vi 1 :: st)) : G Z k n M pc loc (.ref a :: st) :=
  fun H locs cells slots ls hA hl => va_instY C.x C.b C.ow (C.ts _ q1) (C.2.2.1.nw _ q2 rfl) (g_recv C c hM hA) dd (kk H locs cells slots ls hA hl)
theorem g_inst_n (C : gC Z own cc nL rt d0) (dd : decode cc pc = .ok (.instanceof index, 3)) (kk : G Z k n M (pc + 3) loc (vi 0 :: st)) : G Z k n M pc loc (.null :: st) :=
  G.lift (fun _ _ _ _ ls hl w => lv_instN C.x C.b dd w) kk
/-! arrays of references -/
def gUpR (f : Nat → Option Nat) (j : Nat) (x : Option Nat) : Nat → Option Nat := fun i => if i = j then x else f i
theorem gUpR_s (f : Nat → Option Nat) (j : Nat) (x : Option Nat) : gUpR f j x j = x := if_pos rfl
theorem gUpR_n (f : Nat → Option Nat) {i j : Nat} (x : Option Nat) (h : i ≠ j) : gUpR f j x i = f i := if_neg h
theorem gUpR_v (f : Nat → Option Nat) (j : Nat) (x : Option Nat) (cA : ClassId) (m : Nat) : arrV cA m (updV (fun i => va_rf (f i)) j (va_rf x)) = vp_cell cA (m, .inr (.inr (.inr (.inr (gUpR f j x))))) := by
  rw [vp_cell_q]
  congr 1
  funext q
  by_cases hq : q = j
  · subst hq; simp [updV, gUpR]
  · simp [updV, gUpR, hq]
/-- an object of the class Cn is put into an array of type Cx, by the word castable -/
theorem g_aast (C : gC Z own cc nL rt d0) {ti m tv : Nat} {Cx : String} {f : Nat → Option Nat} {v : Nat} {i : Int} (dd : decode cc pc = .ok (.aastore, 1)) (hM : M a = some (t, gR ti m f)) (ht : t ≠ 0) (hti : ∀ E : gE, (gTys E)[ti]? = some (E.2.1 ti, .object Cx)) (c : gCls ci Cn T N ty) (hv : M v = some (tv, gO ci fs)) (q : Cond.castable Cn Cx ∈ lw_tbl) (j : Nat) (hi : i = j) (hj : j < m) (hb : m ≤ 2147483647) (kk : G Z k n (gSet M a (t, gR ti m (gUpR f j (some v)))) (pc + 1) loc st) : G Z k n M pc loc (.ref v :: vi i :: .ref a :: st) := by
  subst hi
  intro H locs cells slots ls hA hl
  obtain ⟨cellV, g1, g2, g3⟩ := g_recv C c hv hA
  obtain ⟨kA, comp, k1, k2, k3, -⟩ := (C.K.2 ti _ (hti Z.1)).2
  obtain ⟨c3, c4, hc3, hc4, hasg⟩ := Cond.castable_spec (C.nw q rfl rfl)
  cases hc3.symm.trans g3
  cases hc4.symm.trans k3
  obtain ⟨kC, hkC, -⟩ := Vm.findClass_spec g3
  obtain ⟨kE, hkE, -⟩ := Vm.findClass_spec k3
  refine W.aast C.x C.b ((hA.P hM) 0 _ rfl) (fun q h => by cases h) (fun h => by cases h) k1 k2 rfl hkE ⟨fun h => ?_, ?_⟩ g1 (fun q h => by rw [h] at g2; cases g2) hkC hasg rfl rfl dd fun H1 e z oq => ?_
  · have := (iv_lt (a := (j : Int)) (b := 0) ⟨by omega, by omega⟩ r32_0).mp h
    omega
  · show _ < (arrV _ _ _).slots.size
    rw [arrV_size, iv_cl ⟨by omega, by omega⟩]
    exact hj
  · refine kk H1 _ cells slots ls (hA.put hM ht z oq ?_) hl
    rw [iv_cl ⟨by omega, by omega⟩] at e
    exact e.trans (congrArg some ((arrV_store _ _ _ _ _).trans (gUpR_v f _ (some v) _ m)))
theorem g_newR (C : gC Z own cc nL rt d0) {ti : Nat} {Cx : String} {i : Int} (dd : decode cc pc = .ok (.anewarray index, 3)) (hti : ∀ E : gE, (gTys E)[ti]? = some (E.2.1 ti, .object Cx)) (hO : va_AO Cx (gZs' Z)) (q : Cond.classLink own index Cx ∈ lw_all) (t : Nat) (m : Nat) (hi : i = m) (hb : m ≤ 100000000) (hk : 1 ≤ k) (hn : m ≤ n) (kk : ∀ q : Nat, M q = none → G Z (k - 1) (n - m) (gSet M q (t, gR ti m (fun _ => none))) (pc + 3) loc (.ref q :: st)) : G Z k n M pc loc (vi i :: st) := by
  subst hi
  intro H locs cells slots ls hA hl
  have h4 := hA.2.2.2.1
  have h5 := hA.2.2.2.2
  refine W.anew C.x C.b C.ow (C.ts _ q) (va_AO.use hO) rfl dd rfl (fun h => ?_) (by rw [iv_cl ⟨by omega, by omega⟩, Int.toNat_natCast]; omega) (by omega) (by rw [iv_cl ⟨by omega, by omega⟩, Int.toNat_natCast]; omega) fun cA kA comp f1 f2 f3 f4 => ?_
  · have := (iv_lt (a := (m : Int)) (b := 0) ⟨by omega, by omega⟩ r32_0).mp h
    omega
  · obtain ⟨kA', comp', k1, k2, k3, k4⟩ := (C.K.2 ti _ (hti Z.1)).2
    have e2 : cA = Z.1.2.1 ti := Option.some.inj (f1.symm.trans k4)
    subst e2
    rw [iv_cl ⟨by omega, by omega⟩, Int.toNat_natCast]
    refine kk H.size hA.1.fresh _ locs (cells + 1) (slots + m) ls (hA.push hk hn (by simp) (fun q hq => by rw [Array.getElem?_push, if_neg (Nat.ne_of_lt hq)]) ?_) hl
    show _ = some (vp_cell _ _)
    rw [Array.getElem?_push_size, vp_cell_q, arrV_new]
    rfl
/-! System.arraycopy -/
/-- a stretch copied -/
def gCpy {α : Type} (f g : Nat → α) (sp dp n : Nat) : Nat → α := fun j => if dp ≤ j ∧ j < dp + n then f (sp + (j - dp)) else g j
theorem g_copyI (C : gC Z own cc nL rt d0) {ti : Nat} {tf : FieldType} (hti : ∀ E : gE, (gTys E)[ti]? = some (E.2.1 ti, tf)) (hprim : refKind tf = false) {a0 t0 n0 n1 : Nat} {f g : Nat → Int} (h0 : M a0 = some (t0, gI ti n0 f)) (h1 : M a = some (t, gI ti n1 g)) (ht : t ≠ 0) (q1 : Cond.methodLink own index arraycopyName ∈ lw_all) (q2 : Cond.native arraycopyName ∈ lw_all) (q3 : Cond.static arraycopyName ∈ lw_all) (q4 : Cond.initialized "java/lang/System" ∈ lw_all)
    {x y z : Int} (sp dp m : Nat) (hx : x = sp) (hy : y = dp) (hz : z = m) (h4 : sp + m ≤ n0) (h5 : dp + m ≤ n1) (hb : n0 ≤ 2147483647) (hb1 : n1 ≤ 2147483647) (hfit : ∀ i, i < m → fits tf (vi (f (sp + i))) = true) (hd : 0 < d0) (hr : (st.map fun v => v.category).sum ≤ 8) (dd : decode cc pc = .ok (.invokestatic index, 3))
    (kk : G Z k n (gSet M a (t, gI ti n1 (gCpy f g sp dp m))) (pc + 3) loc st) : G Z k n M pc loc (vi z :: vi y :: .ref a :: vi x :: .ref a0 :: st) := by
  subst hx; subst hy; subst hz
  intro H locs cells slots ls hA hl T hT X
  have c1 : (iv (sp : Int)).toNatClampNeg = sp := by rw [iv_cl ⟨by omega, by omega⟩]; exact Int.toNat_natCast _
  have c2 : (iv (dp : Int)).toNatClampNeg = dp := by rw [iv_cl ⟨by omega, by omega⟩]; exact Int.toNat_natCast _
  have c3 : (iv (m : Int)).toNatClampNeg = m := by rw [iv_cl ⟨by omega, by omega⟩]; exact Int.toNat_natCast _
  have s1 : (iv (sp : Int)).toInt = sp := iv_toInt ⟨by omega, by omega⟩
  have s2 : (iv (dp : Int)).toInt = dp := iv_toInt ⟨by omega, by omega⟩
  have s3 : (iv (m : Int)).toInt = m := iv_toInt ⟨by omega, by omega⟩
  have np : ∀ w : Nat, w ≤ 2147483647 → ¬ iv (w : Int) < 0 := fun w hw h => by
    have := (iv_lt (a := (w : Int)) (b := 0) ⟨by omega, by omega⟩ r32_0).mp h
    omega
  have hc0 : H[a0]? = some (vp_cell (Z.1.2.1 ti) (n0, .inl (fun j => iv (f j)))) := (hA.P h0) 0 _ rfl
  have hc1 : H[a]? = some (vp_cell (Z.1.2.1 ti) (n1, .inl (fun j => iv (g j)))) := (hA.P h1) 0 _ rfl
  obtain ⟨-, k0, hk0, cm0, hkk0⟩ := (C.K.2 ti _ (hti Z.1)).1 n0 (fun j => vi (f j))
  have f1 := C.fr.1
  have f2 := C.fr.2
  have hw : nativeFrameWords "java/lang/System" "arraycopy" 5 + 11 ≤ 100 := by decide
  obtain ⟨vm', X', step⟩ := X.arraycopy C.x C.ow (C.ts _ q1) (C.ts _ q2) (C.ts _ q3) (C.ts _ q4) (src := a0) (dst := a) (cs := vp_cell (Z.1.2.1 ti) (n0, .inl (fun j => iv (f j)))) (cd := vp_cell (Z.1.2.1 ti) (n1, .inl (fun j => iv (g j)))) (srcPos := iv sp) (destPos := iv dp) (n := iv m) (by rw [hT]; exact hc0) (by rw [hT]; exact hc1)
    (fun _ h => by cases h) (fun _ h => by cases h) (fun h => by cases h) (fun h => by cases h) hk0 hk0 hkk0 hkk0 (by simp [hprim]) (np sp (by omega)) (np dp (by omega)) (np m (by omega))
    (by rw [s1, s3]; show ¬ _ > ((arrV _ n0 (fun j => vi (f j))).slots.size : Int); rw [arrV_size]; omega)
    (by rw [s2, s3]; show ¬ _ > ((arrV _ n1 (fun j => vi (g j))).slots.size : Int); rw [arrV_size]; omega)
    (fun vm₁ _ i hi => by
      rw [c3] at hi
      have e : (vp_cell (Z.1.2.1 ti) (n0, .inl (fun j => iv (f j)))).slots.getD ((iv (sp : Int)).toNatClampNeg + i) .null = vi (f (sp + i)) := by
        rw [c1]
        show (arrV _ n0 (fun j => vi (f j))).slots.getD _ _ = _
        rw [Array.getD_eq_getD_getElem?, arrV_read _ _ (by omega)]
        rfl
      refine ⟨?_, ?_⟩
      · rw [e]
        exact hfit i hi
      · rw [e]
        exact trivial)
    (g := F0 (gZm Z) pc ls (vi m :: vi dp :: .ref a :: vi sp :: .ref a0 :: st)) rfl hl.1 (rest := st) rfl (by rw [C.b]; exact dd) (by omega) (by show 2 * 0 + _ + _ ≤ _; omega)
  have e1 : copied (vp_cell (Z.1.2.1 ti) (n0, .inl (fun j => iv (f j)))) (vp_cell (Z.1.2.1 ti) (n1, .inl (fun j => iv (g j)))) (iv sp) (iv dp) (iv m) = vp_cell (Z.1.2.1 ti) (n1, .inl (fun j => iv (gCpy f g sp dp m j))) := by
    have h9 := va_copied (fun z : Int => vi z) (Z.1.2.1 ti) (Z.1.2.1 ti) (n0 := n0) (n1 := n1) (sp := sp) (dp := dp) (n := m) f g h4
    have h8 : copied (vp_cell (Z.1.2.1 ti) (n0, .inl (fun j => iv (f j)))) (vp_cell (Z.1.2.1 ti) (n1, .inl (fun j => iv (g j)))) (iv sp) (iv dp) (iv m) = (arrV (Z.1.2.1 ti) n1 (fun j => vi (g j))).storeRun dp ((arrV (Z.1.2.1 ti) n0 (fun j => vi (f j))).stretch sp m) := by
      unfold copied
      rw [c1, c2, c3]
      rfl
    rw [h8, h9]
    rfl
  rw [e1] at X' step
  have hl2 : a < H.size := (Array.getElem?_eq_some_iff.mp hc1).1
  have hheap : ((T.setVm vm').setCell a (vp_cell (Z.1.2.1 ti) (n1, .inl (fun j => iv (gCpy f g sp dp m j))))).heap = H.setIfInBounds a (vp_cell (Z.1.2.1 ti) (n1, .inl (fun j => iv (gCpy f g sp dp m j)))) := by rw [← hT]; rfl
  have hA' := hA.put (i := 0) (y := gI ti n1 (gCpy f g sp dp m)) (H1 := H.setIfInBounds a (vp_cell (Z.1.2.1 ti) (n1, .inl (fun j => iv (gCpy f g sp dp m j))))) h1 ht (by simp) (fun q hq => by simp [Array.getElem?_setIfInBounds, Ne.symm hq]) (show (H.setIfInBounds a _)[a]? = some _ by simp [Array.getElem?_setIfInBounds, hl2])
  obtain ⟨u, a1, b1⟩ := kk _ _ cells slots ls ⟨hA'.1, hA'.2.1, fun q hq => by
      rcases List.mem_append.mp hq with h | h
      · exact hA.2.2.1 q h
      · obtain ⟨z, -, hz⟩ := List.mem_map.mp h
        rw [← hz]
        exact (hA.1.2.1 a _ h1).2 ht, hA'.2.2.2⟩ hl _ hheap X'
  exact ⟨u, step u a1, b1⟩
theorem g_copyR (C : gC Z own cc nL rt d0) {ti : Nat} {Cx : String} (hti : ∀ E : gE, (gTys E)[ti]? = some (E.2.1 ti, .object Cx)) {a0 t0 n0 n1 : Nat} {f g : Nat → Option Nat} (h0 : M a0 = some (t0, gR ti n0 f)) (h1 : M a = some (t, gR ti n1 g)) (ht : t ≠ 0) (q1 : Cond.methodLink own index arraycopyName ∈ lw_all) (q2 : Cond.native arraycopyName ∈ lw_all) (q3 : Cond.static arraycopyName ∈ lw_all) (q4 : Cond.initialized "java/lang/System" ∈ lw_all)
    {x y z : Int} (sp dp m : Nat) (hx : x = sp) (hy : y = dp) (hz : z = m) (h4 : sp + m ≤ n0) (h5 : dp + m ≤ n1) (hb : n0 ≤ 2147483647) (hb1 : n1 ≤ 2147483647) (hel : ∀ i, i < m → ∀ y : Nat, f (sp + i) = some y → ∃ (ty cy : Nat) (vs : List Value) (q : vw_C), M y = some (ty, gO cy vs) ∧ gCl[cy]? = some q ∧ Cond.castable q.1 Cx ∈ lw_tbl) (hd : 0 < d0) (hr : (st.map fun v => v.category).sum ≤ 8) (dd : decode cc pc = .ok (.invokestatic index, 3))
    (kk : G Z k n (gSet M a (t, gR ti n1 (gCpy f g sp dp m))) (pc + 3) loc st) : G Z k n M pc loc (vi z :: vi y :: .ref a :: vi x :: .ref a0 :: st) := by
  subst hx; subst hy; subst hz
  intro H locs cells slots ls hA hl T hT X
  have c1 : (iv (sp : Int)).toNatClampNeg = sp := by rw [iv_cl ⟨by omega, by omega⟩]; exact Int.toNat_natCast _
  have c2 : (iv (dp : Int)).toNatClampNeg = dp := by rw [iv_cl ⟨by omega, by omega⟩]; exact Int.toNat_natCast _
  have c3 : (iv (m : Int)).toNatClampNeg = m := by rw [iv_cl ⟨by omega, by omega⟩]; exact Int.toNat_natCast _
  have s1 : (iv (sp : Int)).toInt = sp := iv_toInt ⟨by omega, by omega⟩
  have s2 : (iv (dp : Int)).toInt = dp := iv_toInt ⟨by omega, by omega⟩
  have s3 : (iv (m : Int)).toInt = m := iv_toInt ⟨by omega, by omega⟩
  have np : ∀ w : Nat, w ≤ 2147483647 → ¬ iv (w : Int) < 0 := fun w hw h => by
    have := (iv_lt (a := (w : Int)) (b := 0) ⟨by omega, by omega⟩ r32_0).mp h
    omega
  have hc0 : H[a0]? = some (vp_cell (Z.1.2.1 ti) (n0, .inr (.inr (.inr (.inr f))))) := (hA.P h0) 0 _ rfl
  have hc1 : H[a]? = some (vp_cell (Z.1.2.1 ti) (n1, .inr (.inr (.inr (.inr g))))) := (hA.P h1) 0 _ rfl
  obtain ⟨-, k0, hk0, cm0, hkk0⟩ := (C.K.2 ti _ (hti Z.1)).1 n0 (fun j => va_rf (f j))
  have f1 := C.fr.1
  have f2 := C.fr.2
  have hw : nativeFrameWords "java/lang/System" "arraycopy" 5 + 11 ≤ 100 := by decide
  obtain ⟨vm', X', step⟩ := X.arraycopy C.x C.ow (C.ts _ q1) (C.ts _ q2) (C.ts _ q3) (C.ts _ q4) (src := a0) (dst := a) (cs := vp_cell (Z.1.2.1 ti) (n0, .inr (.inr (.inr (.inr f))))) (cd := vp_cell (Z.1.2.1 ti) (n1, .inr (.inr (.inr (.inr g))))) (srcPos := iv sp) (destPos := iv dp) (n := iv m) (by rw [hT]; exact hc0) (by rw [hT]; exact hc1)
    (fun _ h => by cases h) (fun _ h => by cases h) (fun h => by cases h) (fun h => by cases h) hk0 hk0 hkk0 hkk0 rfl (np sp (by omega)) (np dp (by omega)) (np m (by omega))
    (by rw [s1, s3]; show ¬ _ > ((arrV _ n0 (fun j => va_rf (f j))).slots.size : Int); rw [arrV_size]; omega)
    (by rw [s2, s3]; show ¬ _ > ((arrV _ n1 (fun j => va_rf (g j))).slots.size : Int); rw [arrV_size]; omega)
    (fun vm₁ hal i hi => by
      rw [c3] at hi
      have e : (vp_cell (Z.1.2.1 ti) (n0, .inr (.inr (.inr (.inr f))))).slots.getD ((iv (sp : Int)).toNatClampNeg + i) .null = va_rf (f (sp + i)) := by
        rw [c1]
        show (arrV _ n0 (fun j => va_rf (f j))).slots.getD _ _ = _
        rw [Array.getD_eq_getD_getElem?, arrV_read _ _ (by omega)]
        rfl
      rw [e]
      cases hy : f (sp + i) with
      | none => exact ⟨rfl, trivial⟩
      | some y =>
        obtain ⟨ty, cy, vs, q, hMy, hcl, hcast⟩ := hel i hi y hy
        obtain ⟨cellV, g1, g2, g3⟩ := va_recv C.K (hA.P hMy) (ci := cy) (q0 := 0) hcl rfl
        obtain ⟨kA, comp, r1, r2, r3, -⟩ := (C.K.2 ti _ (hti Z.1)).2
        cases hk0.symm.trans r1
        cases hkk0.symm.trans r2
        obtain ⟨c3, c4, hc3, hc4, hasg⟩ := Cond.castable_spec (C.nw hcast rfl rfl)
        cases hc3.symm.trans g3
        cases hc4.symm.trans r3
        obtain ⟨kC, hkC, -⟩ := Vm.findClass_spec g3
        obtain ⟨kE, hkE, -⟩ := Vm.findClass_spec r3
        obtain ⟨kC', hkC', -⟩ := hal.2.2 _ _ hkC
        obtain ⟨kE', hkE', -⟩ := hal.2.2 _ _ hkE
        refine ⟨rfl, cellV, (show T.heap[y]? = some cellV by rw [hT]; exact g1), (fun q h => by rw [h] at g2; cases g2), ⟨kC', hkC'⟩, ?_, ?_⟩
        · exact ⟨kE', hkE'⟩
        · show vm₁.assignable _ _ = true
          rw [hal.assignable]
          exact hasg)
    (g := F0 (gZm Z) pc ls (vi m :: vi dp :: .ref a :: vi sp :: .ref a0 :: st)) rfl hl.1 (rest := st) rfl (by rw [C.b]; exact dd) (by omega) (by show 2 * 0 + _ + _ ≤ _; omega)
  have e1 : copied (vp_cell (Z.1.2.1 ti) (n0, .inr (.inr (.inr (.inr f))))) (vp_cell (Z.1.2.1 ti) (n1, .inr (.inr (.inr (.inr g))))) (iv sp) (iv dp) (iv m) = vp_cell (Z.1.2.1 ti) (n1, .inr (.inr (.inr (.inr (gCpy f g sp dp m))))) := by
    have h9 := va_copied (fun z : Option Nat => va_rf z) (Z.1.2.1 ti) (Z.1.2.1 ti) (n0 := n0) (n1 := n1) (sp := sp) (dp := dp) (n := m) f g h4
    have h8 : copied (vp_cell (Z.1.2.1 ti) (n0, .inr (.inr (.inr (.inr f))))) (vp_cell (Z.1.2.1 ti) (n1, .inr (.inr (.inr (.inr g))))) (iv sp) (iv dp) (iv m) = (arrV (Z.1.2.1 ti) n1 (fun j => va_rf (g j))).storeRun dp ((arrV (Z.1.2.1 ti) n0 (fun j => va_rf (f j))).stretch sp m) := by
      unfold copied
      rw [c1, c2, c3]
      rfl
    rw [h8, h9]
    rfl
  rw [e1] at X' step
  have hl2 : a < H.size := (Array.getElem?_eq_some_iff.mp hc1).1
  have hheap : ((T.setVm vm').setCell a (vp_cell (Z.1.2.1 ti) (n1, .inr (.inr (.inr (.inr (gCpy f g sp dp m))))))).heap = H.setIfInBounds a (vp_cell (Z.1.2.1 ti) (n1, .inr (.inr (.inr (.inr (gCpy f g sp dp m)))))) := by rw [← hT]; rfl
  have hA' := hA.put (i := 0) (y := gR ti n1 (gCpy f g sp dp m)) (H1 := H.setIfInBounds a (vp_cell (Z.1.2.1 ti) (n1, .inr (.inr (.inr (.inr (gCpy f g sp dp m))))))) h1 ht (by simp) (fun q hq => by simp [Array.getElem?_setIfInBounds, Ne.symm hq]) (show (H.setIfInBounds a _)[a]? = some _ by simp [Array.getElem?_setIfInBounds, hl2])
  obtain ⟨u, a1, b1⟩ := kk _ _ cells slots ls ⟨hA'.1, hA'.2.1, fun q hq => by
      rcases List.mem_append.mp hq with h | h
      · exact hA.2.2.1 q h
      · obtain ⟨z, -, hz⟩ := List.mem_map.mp h
        rw [← hz]
        exact (hA.1.2.1 a _ h1).2 ht, hA'.2.2.2⟩ hl _ hheap X'
  exact ⟨u, step u a1, b1⟩
/-! strings, class objects -/
theorem g_ldcS (C : gC Z own cc nL rt d0) {tx : String} {kn : Nat} (dd : decode cc pc = .ok (.ldc index, 2)) (hs : (own, index, tx, kn) ∈ gStrs) (kk : G Z k n M (pc + 2) loc (.ref (Z.1.2.2.2.2 (2 * kn + 1)) :: st)) : G Z k n M pc loc st :=
  G.lift (fun _ _ _ _ ls hl w => va_ldcS C.x C.b C.ow (C.2.2.1.sr _ hs) dd w) kk
theorem g_ldcM (C : gC Z own cc nL rt d0) (dd : decode cc pc = .ok (.ldc index, 2)) (q : Cond.classLink own index "[Ljava/lang/Object;" ∈ lw_all) (kk : G Z k n M (pc + 2) loc (.ref (Z.1.2.2.2.2 0) :: st)) : G Z k n M pc loc st :=
  G.lift (fun _ _ _ _ ls hl w => va_ldcM C.x C.b C.ow (C.ts _ q) C.2.2.1.mi dd w) kk
theorem g_getC (C : gC Z own cc nL rt d0) {m : Nat} {f : Nat → Option Nat} (dd : decode cc pc = .ok (.invokevirtual index, 3)) (hM : M a = some (t, gR 5 m f)) (q1 : Cond.methodLink own index ⟨"java/lang/Object", "getClass", "()Ljava/lang/Class;"⟩ ∈ lw_all) (hd : 0 < d0) (hr : (st.map fun v => v.category).sum ≤ 8) (kk : G Z k n M (pc + 3) loc (.ref (Z.1.2.2.2.2 0) :: st)) : G Z k n M pc loc (.ref a :: st) :=
  fun H locs cells slots ls hA hl => va_getC (C := "[Ljava/lang/Object;") C.x C.b hl.1.symm C.ow (C.ts _ q1) (C.nw q2251 rfl rfl) (C.ts _ q2250) (C.ts _ q568) (C.ts _ q590) C.2.2.1.mi ⟨_, (hA.P hM) 0 _ rfl, rfl, va_nmO (C.K.2 5 _ rfl).2 rfl⟩ (by have := C.fr.1; omega) (by have := C.fr.2; omega) dd (kk H locs cells slots ls hA hl)
end GI
