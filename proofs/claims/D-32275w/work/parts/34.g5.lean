/-! calls, entries, exceptions -/
set_option maxRecDepth 100000
/-- a method's body gives its contract -/
theorem gMet.of {E : gE} {l : Launch} (hl : l.stackTraces = false) {y : MethodName} {cc : ByteArray} {nL d mc ms : Nat} {rt : Option FieldType} {as : List Value} {M : gM} {Q : Option Value → gM → Prop} {QX : String → Nat → gM → Prop}
    (hy : plainName y.cls = true) (hn : (lg_sl as).length ≤ nL)
    (body : ∀ Z : gZ, Z.1 = E → gZl Z = l → Z.2.2.1 = Q → Z.2.2.2 = QX → gC Z y.cls cc nL rt d → (gZt Z).name = y.name → (∀ x ∈ (gZc Z).exceptionTable.toList, False) → G Z mc ms M 0 (lv_args 0 as) []) :
    gMet E l y (ws_ y cc nL rt) d mc ms as M Q QX := by
  refine vx_ofW (cc := cc) (maxL := nL) (ret := rt) hy rfl ?_
  intro p e s m args below meth c s₁ B hml htab hv
  obtain ⟨rfl, hI, hK⟩ := hv
  have hts := atoms_spec (ws := ws_ y cc nL rt) B.pre
  have hts' : ∀ w ∈ lw_all, w.before as.toArray s = true := fun w h => hts w (List.mem_cons_of_mem _ h)
  have hl0 := lv_entry as hn
  rw [lg_entry_eq]
  have key := body (E, (p, l, e, gRm d mc ms, s, m, as.toArray, below, meth, c), (Q, QX)) rfl rfl rfl rfl
    ⟨⟨B.exec, B.bytes, hml, findClass_of_methodNamed B.named, hts'⟩, ⟨B.notSynchronized, B.returns, hl⟩, hK, hI.1, ⟨Nat.le_refl _, Nat.le_refl _⟩⟩ (name_of_methodNamed B.named B.method).1 htab
  exact key s.heap [] 0 0 _ ⟨hI, Nat.le_refl _, (fun z hz => nomatch hz), Nat.le_of_eq (Nat.zero_add mc), Nat.le_of_eq (Nat.zero_add ms)⟩ (by rw [show (gZc (E, (p, l, e, gRm d mc ms, s, m, as.toArray, below, meth, c), (Q, QX))).maxLocals = nL from hml]; exact hl0)
/-- a body with handlers -/
theorem gMet.ofH {E : gE} {l : Launch} (hl : l.stackTraces = false) {y : MethodName} {cc : ByteArray} {nL d mc ms : Nat} {rt : Option FieldType} {hh : List (Nat × Nat × Nat × Nat)} {as : List Value} {M : gM} {Q : Option Value → gM → Prop} {QX : String → Nat → gM → Prop}
    (hy : plainName y.cls = true) (hn : (lg_sl as).length ≤ nL)
    (body : ∀ Z : gZ, Z.1 = E → gZl Z = l → Z.2.2.1 = Q → Z.2.2.2 = QX → gC Z y.cls cc nL rt d → (gZt Z).name = y.name → (gZc Z).exceptionTable.toList = tableOf hh → G Z mc ms M 0 (lv_args 0 as) []) :
    gMet E l y (wsW_ y cc nL rt hh) d mc ms as M Q QX := by
  refine vx_ofWH (cc := cc) (maxL := nL) (ret := rt) (hh := hh) hy rfl ?_
  intro p e s m args below meth c s₁ B hml hv
  obtain ⟨rfl, hI, hK⟩ := hv
  have hts := atoms_spec (ws := wsW_ y cc nL rt hh) B.pre
  have hts' : ∀ w ∈ lw_all, w.before as.toArray s = true := fun w h => hts w (List.mem_cons_of_mem _ h)
  have htab := vx_table (x := y) B (hts _ List.mem_cons_self)
  have hl0 := lv_entry as hn
  rw [lg_entry_eq]
  have key := body (E, (p, l, e, gRm d mc ms, s, m, as.toArray, below, meth, c), (Q, QX)) rfl rfl rfl rfl
    ⟨⟨B.exec, B.bytes, hml, findClass_of_methodNamed B.named, hts'⟩, ⟨B.notSynchronized, B.returns, hl⟩, hK, hI.1, ⟨Nat.le_refl _, Nat.le_refl _⟩⟩ (name_of_methodNamed B.named B.method).1 htab
  exact key s.heap [] 0 0 _ ⟨hI, Nat.le_refl _, (fun z hz => nomatch hz), Nat.le_of_eq (Nat.zero_add mc), Nat.le_of_eq (Nat.zero_add ms)⟩ (by rw [show (gZc (E, (p, l, e, gRm d mc ms, s, m, as.toArray, below, meth, c), (Q, QX))).maxLocals = nL from hml]; exact hl0)
section GCALL
variable {Z : gZ} {own : String} {cc : ByteArray} {nL : Nat} {rt : Option FieldType} {d0 k n pc : Nat} {M : gM} {loc : List (Nat × Value)} {st : List Value}
variable {y : MethodName} {b : ByteArray} {L d mc ms index : Nat} {r : Option FieldType} {as rest : List Value} {Qc : Option Value → gM → Prop} {QXc : String → Nat → gM → Prop}
theorem g_blind {E : gE} {as : List Value} {M : gM} : FrameBlind (va_Pc as (fun U => gInv E M U.heap ∧ gK E U)) := fun a U g mk h => ⟨h.1, h.2.1, gK.same (s := U) (U := U.calling g mk a) (Eq.refl U.vm) h.2.2⟩
/-- behind a call: it came back, or it threw -/
theorem G.run {st0 : List Value} {a0 : Array Value} (hk : mc ≤ k) (hn : ms ≤ n)
    (hr : ∀ (H : Heap) (locs : List Loc) (cells slots : Nat) (ls : Array Slot), gAt Z k n M H locs cells slots → lv_has ls (gZc Z).maxLocals loc → vx_Run (gZp Z) (gZl Z) (gZe Z) (gZr Z) (gZs' Z) (gZm Z) (gZa Z) (gZb Z) (gZt Z) (gZc Z) H locs cells slots mc ms (F0 (gZm Z) pc ls st0) rest (gQ Z.1 Qc a0) (gQX Z.1 QXc) (gFr Z.1))
    (kk : ∀ (v : Option Value) (M1 : gM), Qc v M1 → G Z (k - mc) (n - ms) M1 (pc + 3) loc (v.toList ++ rest)) (kx : ∀ (En : String) (q : Nat) (M1 : gM), QXc En q M1 → GX Z (k - mc) (n - ms) M1 pc loc En q) : G Z k n M pc loc st0 := by
  intro H locs cells slots ls hA hl T hT X
  obtain ⟨h1, h2, h3, h4, h5⟩ := hA
  rcases hr H locs cells slots ls ⟨h1, h2, h3, h4, h5⟩ hl T hT X with ⟨v, st₀, t, T', L, e0, X', hL, e1, e2, ⟨v', M1, hv, hq, hI, hz⟩, hgo⟩ | ⟨q, st₀, t, T', L, En, ce, e0, X', hL, e1, e2, ⟨M1, hq, hI, hz⟩, hce, hcv, hcl, hgo⟩
  · cases hv
    rw [e0] at hz
    have hA' : gAt Z (k - mc) (n - ms) M1 T'.heap (locs ++ L) (cells + mc) (slots + ms) := ⟨by rw [e1]; exact hI, by rw [e1]; omega, fun z hz => (List.mem_append.mp hz).elim (h3 z) (hL z), by omega, by omega⟩
    obtain ⟨u, a1, b1⟩ := kk v M1 hq T'.heap _ _ _ ls hA' hl T' rfl X'
    exact ⟨u, hgo u a1, b1⟩
  · rw [e0] at hz
    have hA' : gAt Z (k - mc) (n - ms) M1 T'.heap (locs ++ L) (cells + mc) (slots + ms) := ⟨by rw [e1]; exact hI, by rw [e1]; omega, fun z hz => (List.mem_append.mp hz).elim (h3 z) (hL z), by omega, by omega⟩
    obtain ⟨u, a1, b1⟩ := kx En q M1 hq T'.heap _ _ _ ls rest ce hA' hl (by rw [e1]; exact hce) hcv hcl T' rfl X'
    exact ⟨u, hgo.trans a1, b1⟩
theorem g_room (C : gC Z own cc nL rt d0) (hd : d < d0) (hL : L ≤ 80) : (gRm d mc ms).frames + 1 ≤ (gZr Z).frames ∧ 8 + (L + 11) + (gRm d mc ms).locals ≤ (gZr Z).locals := by
  have h1 := C.fr.1
  have h2 := C.fr.2
  refine ⟨by show d + 1 ≤ _; omega, ?_⟩
  show 8 + (L + 11) + (100 * d + 3400) ≤ _
  omega
/-- the method's name: whose it is, how many parameters -/
def gNm (y : MethodName) (Cn : String) (m : Nat) : Prop := y.cls = Cn ∧ y.cls ≠ "java/lang/invoke/MethodHandle" ∧ y.cls ≠ "java/lang/invoke/VarHandle" ∧ (parseMethodDescriptor y.desc).map (fun d => d.parameters.length) = some m
variable {ci a t m : Nat} {Cn : String} {T : u_T} {N : Nat} {ty : Nat → FieldType} {fs : List Value}
theorem g_recv (C : gC Z own cc nL rt d0) (c : gCls ci Cn T N ty) (hM : M a = some (t, gO ci fs)) {H : Heap} {locs : List Loc} {cells slots : Nat} (hA : gAt Z k n M H locs cells slots) : ∃ cell : Cell, H[a]? = some cell ∧ cell.vm.isStatics = false ∧ (gZs' Z).vm.findClass Cn = some cell.cls :=
  va_recv C.K (hA.P hM) (ci := ci) (q0 := 0) c.1 rfl
theorem g_preS (C : gC Z own cc nL rt d0) {H : Heap} {locs : List Loc} {cells slots : Nat} (hA : gAt Z k n M H locs cells slots) : PreS (gZs' Z) H (va_Pc as (fun U => gInv Z.1 M U.heap ∧ gK Z.1 U)) as :=
  ⟨g_blind, fun U hU hW => ⟨rfl, by rw [hU]; exact hA.1, C.2.2.1.warm hW⟩⟩
theorem g_preV (C : gC Z own cc nL rt d0) (c : gCls ci Cn T N ty) (hM : M a = some (t, gO ci fs)) {H : Heap} {locs : List Loc} {cells slots : Nat} (hA : gAt Z k n M H locs cells slots) : PreV (gZs' Z) H Cn a (va_Pc (.ref a :: as) (fun U => gInv Z.1 M U.heap ∧ gK Z.1 U)) as :=
  ⟨g_blind, g_recv C c hM hA, fun U hU hW => ⟨rfl, by rw [hU]; exact hA.1, C.2.2.1.warm hW⟩⟩
theorem g_callV (C : gC Z own cc nL rt d0) (hm : gMet Z.1 (gZl Z) y (ws_ y b L r) d mc ms (.ref a :: as) M Qc QXc) (c : gCls ci Cn T N ty) (hM : M a = some (t, gO ci fs)) (q1 : Cond.methodLink own index y ∈ lw_all) (q2 : Cond.instanceMethod y ∈ lw_all) (q3 : Cond.selects Cn y y ∈ lw_all) (q4 : Cond.initialized Cn ∈ lw_all) (q5 : Cond.code y b L r ∈ lw_all) (hy : gNm y Cn m) (ha : as.length = m) (hd : d < d0) (hL : L ≤ 80) (hk : mc ≤ k) (hn : ms ≤ n) {st0 : List Value} (hs : st0 = as.reverse ++ .ref a :: rest) (hr : (rest.map fun v => v.category).sum ≤ 8) (dd : decode cc pc = .ok (.invokevirtual index, 3))
    (kk : ∀ (v : Option Value) (M1 : gM), Qc v M1 → G Z (k - mc) (n - ms) M1 (pc + 3) loc (v.toList ++ rest)) (kx : ∀ (En : String) (q : Nat) (M1 : gM), QXc En q M1 → GX Z (k - mc) (n - ms) M1 pc loc En q) : G Z k n M pc loc st0 := by
  subst hs
  exact G.run hk hn (fun H locs cells slots ls hA hl => vx_runV C.1 hm (cwV m C.ts (lw_V q1 q2 q3 q4 q5) rfl rfl rfl hy (g_room C hd hL)) (g_preV C c hM hA) rfl ha (by rw [← C.ml]; exact hl.1) rfl (lv_room hr) dd ⟨by have := hA.2.2.2.1; omega, by have := hA.2.2.2.2; omega⟩) kk kx
theorem g_callS (C : gC Z own cc nL rt d0) (hm : gMet Z.1 (gZl Z) y (ws_ y b L r) d mc ms as M Qc QXc) (q1 : Cond.methodLink own index y ∈ lw_all) (q2 : Cond.static y ∈ lw_all) (q4 : Cond.initialized y.cls ∈ lw_all) (q5 : Cond.code y b L r ∈ lw_all) (hy : gNm y y.cls m) (ha : as.length = m) (hd : d < d0) (hL : L ≤ 80) (hk : mc ≤ k) (hn : ms ≤ n) {st0 : List Value} (hs : st0 = as.reverse ++ rest) (hr : (rest.map fun v => v.category).sum ≤ 8) (dd : decode cc pc = .ok (.invokestatic index, 3))
    (kk : ∀ (v : Option Value) (M1 : gM), Qc v M1 → G Z (k - mc) (n - ms) M1 (pc + 3) loc (v.toList ++ rest)) (kx : ∀ (En : String) (q : Nat) (M1 : gM), QXc En q M1 → GX Z (k - mc) (n - ms) M1 pc loc En q) : G Z k n M pc loc st0 := by
  subst hs
  exact G.run hk hn (fun H locs cells slots ls hA hl => vx_runS C.1 hm (va_cwS m C.ts (lw_S q1 q2 q4 q5) rfl rfl rfl hy.2 (g_room C hd hL)) (g_preS C hA) rfl ha (by rw [← C.ml]; exact hl.1) rfl (lv_room hr) dd ⟨by have := hA.2.2.2.1; omega, by have := hA.2.2.2.2; omega⟩) kk kx
theorem g_callI (C : gC Z own cc nL rt d0) (hm : gMet Z.1 (gZl Z) y (ws_ y b L none) d mc ms (.ref a :: as) M Qc QXc) (q1 : Cond.methodLink own index y ∈ lw_all) (q2 : Cond.instanceMethod y ∈ lw_all) (q4 : Cond.initialized y.cls ∈ lw_all) (q5 : Cond.code y b L none ∈ lw_all) (hi : y.name = "<init>") (hy : gNm y y.cls m) (ha : as.length = m) (hd : d < d0) (hL : L ≤ 80) (hk : mc ≤ k) (hn : ms ≤ n) {st0 : List Value} (hs : st0 = as.reverse ++ .ref a :: rest) (hr : (rest.map fun v => v.category).sum ≤ 8) (dd : decode cc pc = .ok (.invokespecial index, 3))
    (kk : ∀ (v : Option Value) (M1 : gM), Qc v M1 → G Z (k - mc) (n - ms) M1 (pc + 3) loc (v.toList ++ rest)) (kx : ∀ (En : String) (q : Nat) (M1 : gM), QXc En q M1 → GX Z (k - mc) (n - ms) M1 pc loc En q) : G Z k n M pc loc st0 := by
  subst hs
  exact G.run hk hn (fun H locs cells slots ls hA hl => vx_runI C.1 hm (cwI m C.ts (lw_meth q5) rfl rfl rfl (C.ts _ q4) (C.ts _ q1) (C.ts _ q2) hi hy.2 (g_room C hd hL)) (g_preS C hA) rfl ha (by rw [← C.ml]; exact hl.1) rfl (lv_room hr) dd ⟨by have := hA.2.2.2.1; omega, by have := hA.2.2.2.2; omega⟩) kk kx
/-- methods with handlers -/
theorem g_callVH {hh : List (Nat × Nat × Nat × Nat)} (C : gC Z own cc nL rt d0) (hm : gMet Z.1 (gZl Z) y (wsW_ y b L r hh) d mc ms (.ref a :: as) M Qc QXc) (c : gCls ci Cn T N ty) (hM : M a = some (t, gO ci fs)) (q1 : Cond.methodLink own index y ∈ lw_all) (q2 : Cond.instanceMethod y ∈ lw_all) (q3 : Cond.selects Cn y y ∈ lw_all) (q4 : Cond.initialized Cn ∈ lw_all) (q5 : Cond.codeWith y b L r hh ∈ lw_all) (hy : gNm y Cn m) (ha : as.length = m) (hd : d < d0) (hL : L ≤ 80) (hk : mc ≤ k) (hn : ms ≤ n) {st0 : List Value} (hs : st0 = as.reverse ++ .ref a :: rest) (hr : (rest.map fun v => v.category).sum ≤ 8) (dd : decode cc pc = .ok (.invokevirtual index, 3))
    (kk : ∀ (v : Option Value) (M1 : gM), Qc v M1 → G Z (k - mc) (n - ms) M1 (pc + 3) loc (v.toList ++ rest)) (kx : ∀ (En : String) (q : Nat) (M1 : gM), QXc En q M1 → GX Z (k - mc) (n - ms) M1 pc loc En q) : G Z k n M pc loc st0 := by
  subst hs
  exact G.run hk hn (fun H locs cells slots ls hA hl => vx_runVX C.1 hm (vx_cwVW m C.ts (lw_VW q1 q2 q3 q4 q5) rfl rfl rfl hy (g_room C hd hL)) (g_preV C c hM hA) rfl ha (by rw [← C.ml]; exact hl.1) rfl (lv_room hr) dd ⟨by have := hA.2.2.2.1; omega, by have := hA.2.2.2.2; omega⟩) kk kx
theorem g_callSH {hh : List (Nat × Nat × Nat × Nat)} (C : gC Z own cc nL rt d0) (hm : gMet Z.1 (gZl Z) y (wsW_ y b L r hh) d mc ms as M Qc QXc) (q1 : Cond.methodLink own index y ∈ lw_all) (q2 : Cond.static y ∈ lw_all) (q4 : Cond.initialized y.cls ∈ lw_all) (q5 : Cond.codeWith y b L r hh ∈ lw_all) (hy : gNm y y.cls m) (ha : as.length = m) (hd : d < d0) (hL : L ≤ 80) (hk : mc ≤ k) (hn : ms ≤ n) {st0 : List Value} (hs : st0 = as.reverse ++ rest) (hr : (rest.map fun v => v.category).sum ≤ 8) (dd : decode cc pc = .ok (.invokestatic index, 3))
    (kk : ∀ (v : Option Value) (M1 : gM), Qc v M1 → G Z (k - mc) (n - ms) M1 (pc + 3) loc (v.toList ++ rest)) (kx : ∀ (En : String) (q : Nat) (M1 : gM), QXc En q M1 → GX Z (k - mc) (n - ms) M1 pc loc En q) : G Z k n M pc loc st0 := by
  subst hs
  exact G.run hk hn (fun H locs cells slots ls hA hl => vx_runSX C.1 hm (vx_cwSW m C.ts (lw_SW q1 q2 q4 q5) rfl rfl rfl hy.2 (g_room C hd hL)) (g_preS C hA) rfl ha (by rw [← C.ml]; exact hl.1) rfl (lv_room hr) dd ⟨by have := hA.2.2.2.1; omega, by have := hA.2.2.2.2; omega⟩) kk kx
/-- Object's constructor -/
theorem g_objInit (C : gC Z own cc nL rt d0) (q1 : Cond.methodLink own index Lib.objectInit ∈ lw_all) (q2 : Cond.instanceMethod Lib.objectInit ∈ lw_all) (q3 : Cond.code Lib.objectInit ⟨#[0xb1]⟩ 1 none ∈ lw_all) (hd : 0 < d0) (hr : (rest.map fun v => v.category).sum ≤ 8) (dd : decode cc pc = .ok (.invokespecial index, 3)) (kk : G Z k n M (pc + 3) loc rest) : G Z k n M pc loc (.ref a :: rest) :=
  G.lift (pc1 := pc + 3) (st1 := rest) (fun H locs cells slots ls hl w => W.objInit C.x C.b C.ow (C.ts _ q1) (C.ts _ q2) (C.ts _ q3) rfl hl.1 rfl dd (by have := C.fr.1; omega) (by have := C.fr.2; have := lv_room (m := gZm Z) (pc := pc) (ls := ls) (rest := rest) hr; show 2 * (F0 (gZm Z) pc ls rest).monitorRoom + (rest.map fun v => v.category).sum + 12 ≤ _; omega) w) kk
/-! throwing -/
/-- not caught here -/
theorem GX.out {QX : String → Nat → gM → Prop} (hX : Z.2.2.2 = QX) (C : gC Z own cc nL rt d0) (htab : ∀ x ∈ (gZc Z).exceptionTable.toList, covers x pc = false) {En : String} {q : Nat} (hq : QX En q M) : GX Z k n M pc loc En q :=
  fun H locs cells slots ls st ce hA hl h1 h2 h3 => vx_out htab C.2.1.1 h1 h2 h3 (fun u hu _ => ⟨M, by rw [hX]; exact hq, by rw [hu]; exact hA.1, by rw [hu]; exact hA.2.1⟩) hA.2.2.1 (by have := hA.2.2.2.1; omega) (by have := hA.2.2.2.2; omega)
/-- caught by the row x of the table -/
theorem GX.catch (C : gC Z own cc nL rt d0) {En name : String} {q : Nat} (pre : List ExceptionTableEntry) (x : ExceptionTableEntry) (suf : List ExceptionTableEntry) (hsplit : (gZc Z).exceptionTable.toList = pre ++ x :: suf) (hpass : ∀ z ∈ pre, covers z pc = false ∨ (z.catchType ≠ 0 ∧ ∃ nm : String, Cond.classLink own z.catchType nm ∈ lw_all ∧ va_Nc En nm (gZs' Z))) (hx : covers x pc = true) (h0 : x.catchType ≠ 0) (q1 : Cond.classLink own x.catchType name ∈ lw_all) (q2 : Cond.castable En name ∈ lw_tbl) (kk : G Z k n M x.handlerPc loc [.ref q]) : GX Z k n M pc loc En q :=
  fun H locs cells slots ls st ce hA hl h1 h2 h3 => vx_catch C.ow pre x suf hsplit (fun z hz => (hpass z hz).imp id (fun h => ⟨h.1, h.2.elim (fun nm h => ⟨nm, C.ts _ h.1, h.2⟩)⟩)) hx h0 (C.ts _ q1) (C.nw q2 rfl rfl) h1 h2 h3 (kk H locs cells slots ls hA hl)
/-- athrow of a cell that M names -/
theorem g_athrow (C : gC Z own cc nL rt d0) (c : gCls ci Cn T N ty) (hM : M a = some (t, gO ci fs)) (dd : decode cc pc = .ok (.athrow, 1)) (kk : GX Z k n M pc loc Cn a) : G Z k n M pc loc (.ref a :: st) :=
  fun H locs cells slots ls hA hl => by
    obtain ⟨cell, h1, -, h3⟩ := g_recv C c hM hA
    obtain ⟨r, e1, cell', e2, e3, e4, -⟩ := (hA.P hM) 0 _ rfl
    cases h1.symm.trans e2
    exact vx_athrow C.x C.b dd (kk H locs cells slots ls _ cell hA hl e2 e4 h3)
/-- throw new X() for a class X of the JDK's, nothing catching it here -/
theorem g_throw0 {QX : String → Nat → gM → Prop} (hX : Z.2.2.2 = QX) (C : gC Z own cc nL rt d0) {cls : String} {names : List String} {ik ic : Nat} (hcls : Bundle.fit cls = true) (hnames : ∀ x ∈ names, Bundle.fit x = true) (q1 : Cond.classLink own ik cls ∈ lw_all) (q2 : Cond.initialized cls ∈ lw_all) (hat : ∀ w ∈ vx_at0 own ic cls names, w.before (gZa Z) (gZs' Z) = true) (hgood : ∀ w ∈ Cond.classLink own ik cls :: Cond.initialized cls :: vx_at0 own ic cls names, vx_ot w = true)
    (e0 : decode cc pc = .ok (.new ik, 3)) (e3 : decode cc (pc + 3) = .ok (.dup, 1)) (e4 : decode cc (pc + 4) = .ok (.invokespecial ic, 3)) (e7 : decode cc (pc + 7) = .ok (.athrow, 1)) (hout : ∀ x ∈ (gZc Z).exceptionTable.toList, covers x (pc + 7) = false) (hd : names.length + 3 < d0) (hnl : names.length ≤ 6) (hr : (st.map fun v => v.category).sum ≤ 8) (hk : 1 ≤ k) (hn : 6 ≤ n) (hq : ∀ q : Nat, M q = none → QX cls q M) : G Z k n M pc loc st := by
  intro H locs cells slots ls hA hl
  have hS := hA.S C
  have kU : ∀ {Cx nx dx : String}, vx_Zq Cx nx dx (gFr Z.1) (gZs' Z) Z.1.2.2.1 → vx_Zq Cx nx dx (gFr Z.1) (gZs' Z) (gZs' Z).heap := fun h => h.kept (fun q h1 _ => C.2.2.2.1.2 q h1)
  have h4 := hA.2.2.2.1
  have h5 := hA.2.2.2.2
  have f1 := C.fr.1
  have f2 := C.fr.2
  exact vx_throw0 (A := gFr Z.1) C.x C.b C.2.1.2.2 C.ow hcls hnames (C.ts _ q1) (C.ts _ q2) hat hgood (kU C.2.2.1.us) (kU C.2.2.1.ss) hS hl.1 e0 e3 e4 e7 hout (by omega) (by omega) (by omega) (by omega) C.2.1.1
    (fun t hvm h1 h2 => ⟨M, by rw [hX]; exact hq _ hA.1.fresh, hA.1.grow h1 h2, Nat.le_trans hA.2.1 h1⟩) hA.2.2.1 (by omega) (by omega)
end GCALL
