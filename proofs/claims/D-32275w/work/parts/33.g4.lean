/-! rows over the ghost heap: fields, arrays, new cells, ends -/
set_option maxRecDepth 100000
/-- a class by its number, name, fields; its words, its fields' types and names -/
def gCls (ci : Nat) (Cn : String) (T : u_T) (N : Nat) (ty : Nat → FieldType) : Prop :=
  gCl[ci]? = some (Cn, T, N) ∧ (∀ w ∈ u_ws Cn T N, w ∈ lw_all) ∧ (∀ j, j < N → parseFieldDescriptor (T j).2.2.1 = some (ty j)) ∧ ∀ a, a < N → ∀ b, b < N → a ≠ b → (T a).2.1 ≠ (T b).2.1
theorem cl0 : gCls 0 RX1 TX1 7 tyX1 := ⟨rfl, in_X1, tyX1_ok, nmX1⟩
theorem cl1 : gCls 1 RX4 TX4 8 tyX4 := ⟨rfl, in_X4, tyX4_ok, nmX4⟩
theorem cl2 : gCls 2 RX11 TX11 7 tyX11 := ⟨rfl, in_X11, tyX11_ok, nmX11⟩
theorem cl3 : gCls 3 RX5 TX5 7 tyX5 := ⟨rfl, in_X5, tyX5_ok, nmX5⟩
theorem cl4 : gCls 4 RX2 TX2 7 tyX2 := ⟨rfl, in_X2, tyX2_ok, nmX2⟩
theorem cl5 : gCls 5 RX7 TX7 3 tyX7 := ⟨rfl, in_X7, tyX7_ok, nmX7⟩
theorem cl6 : gCls 6 RX8 TX8 7 tyX8 := ⟨rfl, in_X8, tyX8_ok, nmX8⟩
theorem cl7 : gCls 7 RX9 TX9 7 tyX9 := ⟨rfl, in_X9, tyX9_ok, nmX9⟩
theorem cl8 : gCls 8 RX10 TX10 6 tyX10 := ⟨rfl, in_X10, tyX10_ok, nmX10⟩
theorem cl9 : gCls 9 RJ2 TJ2 3 tyJ2 := ⟨rfl, in_J2, tyJ2_ok, nmJ2⟩
theorem cl10 : gCls 10 RJ8 TJ8 4 tyJ8 := ⟨rfl, in_J8, tyJ8_ok, nmJ8⟩
theorem cl11 : gCls 11 RJ9 TJ9 4 tyJ9 := ⟨rfl, in_J9, tyJ9_ok, nmJ9⟩
theorem cl12 : gCls 12 RX3 TX3 29 tyX3 := ⟨rfl, in_X3, tyX3_ok, nmX3⟩
section GH
variable {Z : gZ} {own : String} {cc : ByteArray} {nL : Nat} {rt : Option FieldType} {d0 k n pc : Nat} {M : gM} {loc : List (Nat × Value)} {st : List Value}
variable {ci : Nat} {Cn : String} {T : u_T} {N : Nat} {ty : Nat → FieldType} {a t : Nat} {fs : List Value}
theorem gAt.P {H : Heap} {locs : List Loc} {cells slots : Nat} (h : gAt Z k n M H locs cells slots) {x : Nat × gEnt} (hM : M a = some x) : va_P Z.1.1 gCl [(a, gIn Z.1 x.2)] H := h.1.at hM
theorem gAt.put {H H1 : Heap} {locs : List Loc} {cells slots i : Nat} {x y : gEnt} (h : gAt Z k n M H locs cells slots) (hM : M a = some (t, x)) (ht : t ≠ 0) (hz : H1.size = H.size) (ho : ∀ q : Nat, q ≠ a → H1[q]? = H[q]?) (he : va_at Z.1.1 gCl (a, gIn Z.1 y) H1) :
    gAt Z k n (gSet M a (t, y)) H1 (locs ++ [⟨a, i⟩]) cells slots := by
  obtain ⟨h1, h2, h3, h4⟩ := h
  refine ⟨h1.put hM ht hz ho he, by omega, fun z hz => ?_, h4⟩
  rcases List.mem_append.mp hz with h | h
  · exact h3 z h
  · rw [List.mem_singleton.mp h]
    exact (h1.2.1 a _ hM).2 ht
theorem gAt.push {H H1 : Heap} {locs : List Loc} {cells slots m : Nat} {y : gEnt} (h : gAt Z k n M H locs cells slots) (hk : 1 ≤ k) (hn : m ≤ n) (hz : H1.size = H.size + 1) (ho : ∀ q : Nat, q < H.size → H1[q]? = H[q]?) (he : va_at Z.1.1 gCl (H.size, gIn Z.1 y) H1) :
    gAt Z (k - 1) (n - m) (gSet M H.size (t, y)) H1 locs (cells + 1) (slots + m) := by
  obtain ⟨h1, h2, h3, h4, h5⟩ := h
  exact ⟨h1.push hz ho he, by omega, h3, by omega, by omega⟩
theorem g_get (C : gC Z own cc nL rt d0) {index : Nat} {ref : String} {v : Value} (d : decode cc pc = .ok (.getfield index, 3)) (c : gCls ci Cn T N ty) (hM : M a = some (t, gO ci fs)) (j : Nat) (hj : j < N) (q : Cond.fieldLink own index ref (T j).2.1 (T j).2.2.1 ∈ lw_all) (hsame : ∀ x, (gZs' Z).fieldFound? (T j).1 (T j).2.1 (T j).2.2.1 = some x → (gZs' Z).fieldFound? ref (T j).2.1 (T j).2.2.1 = some x) (hv : fs[j]? = some v) (kk : G Z k n M (pc + 3) loc (v :: st)) : G Z k n M pc loc (.ref a :: st) :=
  fun H locs cells slots ls hA hl => va_get (D := Z.1.1) (ci := ci) C.x C.b C.ts c.2.1 C.ow C.K (hA.P hM) 0 rfl c.1 j hj (C.ts _ q) hsame hv d (kk H locs cells slots ls hA hl)
theorem g_getN (C : gC Z own cc nL rt d0) {index : Nat} {ref host : String} {v : Value} (d : decode cc pc = .ok (.getfield index, 3)) (c : gCls ci Cn T N ty) (hM : M a = some (t, gO ci fs)) (j : Nat) (hj : j < N) (q : Cond.fieldLinkNest own index ref (T j).2.1 (T j).2.2.1 host ∈ lw_tbl) (hsame : ∀ x, (gZs' Z).fieldFound? (T j).1 (T j).2.1 (T j).2.2.1 = some x → (gZs' Z).fieldFound? ref (T j).2.1 (T j).2.2.1 = some x) (hv : fs[j]? = some v) (kk : G Z k n M (pc + 3) loc (v :: st)) : G Z k n M pc loc (.ref a :: st) :=
  fun H locs cells slots ls hA hl => va_getN (D := Z.1.1) (ci := ci) C.x C.b C.ts c.2.1 C.ow C.K (hA.P hM) 0 rfl c.1 j hj (C.nw q rfl rfl) hsame hv d (kk H locs cells slots ls hA hl)
/-- what a write to a field does to the heap: the parts that all three kinds of put share -/
theorem g_fld {H : Heap} {E : gE} {s : State} (C : va_K E.1 gCl (gTys E) s) (hts : ∀ w ∈ lw_all, w.before (gZa Z) s = true) (c : gCls ci Cn T N ty) (hP : va_P E.1 gCl [(a, gIn E (gO ci fs))] H) (j : Nat) (hj : j < N) :
    ∃ (cell : Cell) (cf i : Nat) (kf kC : Class) (f : Field), H[a]? = some cell ∧ cell.vm = .none ∧ cell.cls = E.1.1 ci ∧ s.fieldFound? (T j).1 (T j).2.1 (T j).2.2.1 = some (cf, kf, i, f) ∧ f.isStatic = false ∧ f.slot = E.1.2 ci j ∧ f.slot < cell.slots.size ∧
      s.vm.findClass Cn = some (E.1.1 ci) ∧ s.vm.classes[E.1.1 ci]? = some kC ∧ kC.kind = .ordinary ∧
      ∀ (v : Value) (H1 : Heap), j < fs.length → H1[a]? = some (cell.setSlot f.slot v) → va_at E.1 gCl (a, gIn E (gO ci (fs.set j v))) H1 := by
  obtain ⟨r, h1, cell, q1, q2, q3, q4⟩ := hP 0 _ rfl
  have hr : r = (Cn, T, N) := Option.some.inj (h1.symm.trans c.1)
  subst hr
  obtain ⟨hS, hfc, kC, hkC, hkind⟩ := C.1 ci _ c.1
  obtain ⟨cf, kf, i, f, hi, hsl⟩ := hS j hj
  have hap := va_apart (own := "") hts c.2.1 ty c.2.2.1 c.2.2.2 C c.1
  refine ⟨cell, cf, i, kf, kC, f, q1, q3, q2, hi, (u_facts hfc hkC (u_lays hts c.2.1 hj) hi).1, hsl, by rw [hsl]; exact k2_hasslot (q4 j hj), hfc, hkC, hkind, fun v H1 hl e => ?_⟩
  rw [hsl] at e
  exact ⟨_, c.1, t_OB.to (V := updV (vp_V fs) j v) ⟨_, e, q2, q3, t_set q4 hap hj v⟩ (fun x _ => vp_updV_set hl v x)⟩
theorem g_put (C : gC Z own cc nL rt d0) {index : Nat} {ref : String} {v : Value} {fs1 : List Value} (d : decode cc pc = .ok (.putfield index, 3)) (c : gCls ci Cn T N ty) (hM : M a = some (t, gO ci fs)) (ht : t ≠ 0) (j : Nat) (hj : j < N) (q : Cond.fieldLink own index ref (T j).2.1 (T j).2.2.1 ∈ lw_all) (hsame : ∀ x, (gZs' Z).fieldFound? (T j).1 (T j).2.1 (T j).2.2.1 = some x → (gZs' Z).fieldFound? ref (T j).2.1 (T j).2.2.1 = some x) (hfin : (T j).2.2.2 = false) (hn : narrow (ty j) v = v) (hf : fits (ty j) v = true) (hl : j < fs.length) (h1 : fs.set j v = fs1) (kk : G Z k n (gSet M a (t, gO ci fs1)) (pc + 3) loc st) : G Z k n M pc loc (v :: .ref a :: st) := by
  subst h1
  intro H locs cells slots ls hA hl0
  obtain ⟨cell, cf, i, kf, kC, f, e1, e2, e3, e4, e5, e6, e7, e8, e9, e10, e11⟩ := g_fld (Z := Z) C.K C.ts c (hA.P hM) j hj
  have hlay := C.ts _ (c.2.1 _ (u_in_lay hj))
  unfold u_lay at hlay
  rw [if_neg (by rw [hfin]; decide)] at hlay
  have h6 := u_store e8 e9 e10 hlay e4 (c.2.2.1 j hj) hn hf
  exact W.putK C.x C.b (f := f) ⟨C.ow, C.ts _ q, ⟨_, _, _, hsame _ e4⟩, e5⟩ (by rw [e3]; exact h6) e1 e2 e7 rfl rfl d fun H1 g1 g2 g3 => kk H1 _ cells slots ls (hA.put hM ht g2 g3 (e11 v H1 hl g1)) hl0
theorem g_putN (C : gC Z own cc nL rt d0) {index : Nat} {ref host : String} {v : Value} {fs1 : List Value} (d : decode cc pc = .ok (.putfield index, 3)) (c : gCls ci Cn T N ty) (hM : M a = some (t, gO ci fs)) (ht : t ≠ 0) (j : Nat) (hj : j < N) (q : Cond.fieldLinkNest own index ref (T j).2.1 (T j).2.2.1 host ∈ lw_tbl) (hsame : ∀ x, (gZs' Z).fieldFound? (T j).1 (T j).2.1 (T j).2.2.1 = some x → (gZs' Z).fieldFound? ref (T j).2.1 (T j).2.2.1 = some x) (hfin : (T j).2.2.2 = false) (hn : narrow (ty j) v = v) (hf : fits (ty j) v = true) (hl : j < fs.length) (h1 : fs.set j v = fs1) (kk : G Z k n (gSet M a (t, gO ci fs1)) (pc + 3) loc st) : G Z k n M pc loc (v :: .ref a :: st) := by
  subst h1
  intro H locs cells slots ls hA hl0
  obtain ⟨cell, cf, i, kf, kC, f, e1, e2, e3, e4, e5, e6, e7, e8, e9, e10, e11⟩ := g_fld (Z := Z) C.K C.ts c (hA.P hM) j hj
  have hlay := C.ts _ (c.2.1 _ (u_in_lay hj))
  unfold u_lay at hlay
  rw [if_neg (by rw [hfin]; decide)] at hlay
  have h6 := u_store e8 e9 e10 hlay e4 (c.2.2.1 j hj) hn hf
  exact va_WputK C.x C.b (f := f) C.ow (C.nw q rfl rfl) (hsame _ e4) e5 (by rw [e3]; exact h6) e1 e2 e7 rfl rfl d fun H1 g1 g2 g3 => kk H1 _ cells slots ls (hA.put hM ht g2 g3 (e11 v H1 hl g1)) hl0
theorem g_putF (C : gC Z own cc nL rt d0) {index : Nat} {ref : String} {v : Value} {fs1 : List Value} (d : decode cc pc = .ok (.putfield index, 3)) (hnm : (gZt Z).name = "<init>") (c : gCls ci Cn T N ty) (hM : M a = some (t, gO ci fs)) (ht : t ≠ 0) (j : Nat) (hj : j < N) (q : Cond.fieldLink own index ref (T j).2.1 (T j).2.2.1 ∈ lw_all) (hsame : ∀ x, (gZs' Z).fieldFound? (T j).1 (T j).2.1 (T j).2.2.1 = some x → (gZs' Z).fieldFound? ref (T j).2.1 (T j).2.2.1 = some x) (hfin : (T j).2.2.2 = true) (hdecl : (T j).1 = own) (hn : narrow (ty j) v = v) (hf : fits (ty j) v = true) (hl : j < fs.length) (h1 : fs.set j v = fs1) (kk : G Z k n (gSet M a (t, gO ci fs1)) (pc + 3) loc st) : G Z k n M pc loc (v :: .ref a :: st) := by
  subst h1
  intro H locs cells slots ls hA hl0
  obtain ⟨cell, cf, i, kf, kC, f, e1, e2, e3, e4, e5, e6, e7, e8, e9, e10, e11⟩ := g_fld (Z := Z) C.K C.ts c (hA.P hM) j hj
  have hlay := C.ts _ (c.2.1 _ (u_in_lay hj))
  unfold u_lay at hlay
  rw [if_pos hfin] at hlay
  have hcf : (gZm Z).cls = cf := by
    obtain ⟨_, _, c', _, _, _, -, -, hf', -, -, -, hown2, -⟩ := Cond.laysFinal_spec hlay
    have e1 : c' = cf := by have := e4.symm.trans hf'; simp at this; exact this.1.symm
    rw [hdecl] at hown2
    rw [← e1]; exact Option.some.inj (C.ow.symm.trans hown2)
  have h6 := u_fits e8 e9 e10 (Or.inr hlay) e4 (c.2.2.1 j hj) hn hf
  exact W.putFinK C.x C.b C.ow (C.ts _ q) (hsame _ e4) e5 hcf hnm (by rw [e3]; exact h6) e1 e2 e7 rfl rfl d fun H1 g1 g2 g3 => kk H1 _ cells slots ls (hA.put hM ht g2 g3 (e11 v H1 hl g1)) hl0
theorem g_new (C : gC Z own cc nL rt d0) {fs : List Value} {index : Nat} (d : decode cc pc = .ok (.new index, 3)) (c : gCls ci Cn T N ty) (t : Nat) (q1 : Cond.classLink own index Cn ∈ lw_all) (q2 : Cond.instantiable Cn N ∈ lw_all) (q3 : Cond.initialized Cn ∈ lw_all) (hfs : (List.range N).map (fun j => defaultValue (ty j)) = fs) (hk : 1 ≤ k) (hn : N ≤ n) (kk : ∀ q : Nat, M q = none → G Z (k - 1) (n - N) (gSet M q (t, gO ci fs)) (pc + 3) loc (.ref q :: st)) : G Z k n M pc loc st := by
  subst hfs
  intro H locs cells slots ls hA hl
  have hKn := C.K.1 ci _ c.1
  have h4 := hA.2.2.2.1
  have h5 := hA.2.2.2.2
  exact W.newcK C.x C.b C.ow (C.ts _ q1) (C.ts _ q2) (C.ts _ q3) rfl d (by omega) (by omega) hKn.2.1 rfl fun H1 kC hkC e1 z1 o1 =>
    kk H.size hA.1.fresh H1 locs (cells + 1) (slots + N) ls (hA.push hk hn z1 o1 ⟨_, c.1, (u_born ty C.ts c.2.1 hKn hkC e1 c.2.2.1).to (fun j hj => by simp [vp_V, hj])⟩) hl
/-! arrays -/
theorem g_alen (C : gC Z own cc nL rt d0) {ti m : Nat} {ar : (Nat → Int32) ⊕ (Nat → Int64) ⊕ (Nat → UInt32) ⊕ (Nat → UInt64) ⊕ (Nat → Option Nat)} {tf : FieldType} (d : decode cc pc = .ok (.arraylength, 1)) (hM : M a = some (t, .inl (ti, m, ar))) (hti : ∀ E : gE, (gTys E)[ti]? = some (E.2.1 ti, tf)) (kk : G Z k n M (pc + 1) loc (vi m :: st)) : G Z k n M pc loc (.ref a :: st) :=
  fun H locs cells slots ls hA hl => va_alen (v := iv m) C.x C.b C.K (hA.P hM) 0 ti rfl (hti Z.1) (iv_nat m) d (kk H locs cells slots ls hA hl)
theorem g_iald (C : gC Z own cc nL rt d0) {m : Nat} {f : Nat → Int} {i : Int} (d : decode cc pc = .ok (.iaload, 1)) (hM : M a = some (t, gI 0 m f)) (j : Nat) (hi : i = j) (hj : j < m) (hb : m ≤ 2147483647) (kk : G Z k n M (pc + 1) loc (vi (f j) :: st)) : G Z k n M pc loc (vi i :: .ref a :: st) := by
  subst hi
  intro H locs cells slots ls hA hl
  refine va_iald C.x C.b C.K (hA.P hM) 0 0 rfl rfl (iv_in ⟨by omega, by omega⟩ (by omega)) d ?_
  rw [iv_cl ⟨by omega, by omega⟩]
  exact kk H locs cells slots ls hA hl
theorem g_laldJ (C : gC Z own cc nL rt d0) {m : Nat} {f : Nat → Int} {i : Int} (d : decode cc pc = .ok (.laload, 1)) (hM : M a = some (t, gJ 4 m f)) (j : Nat) (hi : i = j) (hj : j < m) (hb : m ≤ 2147483647) (kk : G Z k n M (pc + 1) loc (vl (f j) :: st)) : G Z k n M pc loc (vi i :: .ref a :: st) := by
  subst hi
  intro H locs cells slots ls hA hl
  refine va_lald C.x C.b C.K (hA.P hM) 0 4 rfl rfl (iv_in ⟨by omega, by omega⟩ (by omega)) d ?_
  rw [iv_cl ⟨by omega, by omega⟩]
  exact kk H locs cells slots ls hA hl
theorem g_bald (C : gC Z own cc nL rt d0) {m : Nat} {f : Nat → Int} {i : Int} (d : decode cc pc = .ok (.baload, 1)) (hM : M a = some (t, gI 1 m f)) (j : Nat) (hi : i = j) (hj : j < m) (hb : m ≤ 2147483647) (kk : G Z k n M (pc + 1) loc (vi (f j) :: st)) : G Z k n M pc loc (vi i :: .ref a :: st) := by
  subst hi
  intro H locs cells slots ls hA hl
  refine va_bald C.x C.b C.K (hA.P hM) 0 1 rfl rfl (iv_in ⟨by omega, by omega⟩ (by omega)) d ?_
  rw [iv_cl ⟨by omega, by omega⟩]
  exact kk H locs cells slots ls hA hl
theorem g_zald (C : gC Z own cc nL rt d0) {m : Nat} {f : Nat → Int} {i : Int} (d : decode cc pc = .ok (.baload, 1)) (hM : M a = some (t, gI 2 m f)) (j : Nat) (hi : i = j) (hj : j < m) (hb : m ≤ 2147483647) (kk : G Z k n M (pc + 1) loc (vi (f j) :: st)) : G Z k n M pc loc (vi i :: .ref a :: st) := by
  subst hi
  intro H locs cells slots ls hA hl
  refine va_zald C.x C.b C.K (hA.P hM) 0 2 rfl rfl (iv_in ⟨by omega, by omega⟩ (by omega)) d ?_
  rw [iv_cl ⟨by omega, by omega⟩]
  exact kk H locs cells slots ls hA hl
theorem g_cald (C : gC Z own cc nL rt d0) {m : Nat} {f : Nat → Int} {i : Int} (d : decode cc pc = .ok (.caload, 1)) (hM : M a = some (t, gI 3 m f)) (j : Nat) (hi : i = j) (hj : j < m) (hb : m ≤ 2147483647) (kk : G Z k n M (pc + 1) loc (vi (f j) :: st)) : G Z k n M pc loc (vi i :: .ref a :: st) := by
  subst hi
  intro H locs cells slots ls hA hl
  refine va_cald C.x C.b C.K (hA.P hM) 0 3 rfl rfl (iv_in ⟨by omega, by omega⟩ (by omega)) d ?_
  rw [iv_cl ⟨by omega, by omega⟩]
  exact kk H locs cells slots ls hA hl
/-- a store's new contents -/
def gUp (f : Nat → Int) (j : Nat) (x : Int) : Nat → Int := fun i => if i = j then x else f i
theorem gUp_s (f : Nat → Int) (j : Nat) (x : Int) : gUp f j x j = x := if_pos rfl
theorem gUp_n (f : Nat → Int) {i j : Nat} (x : Int) (h : i ≠ j) : gUp f j x i = f i := if_neg h
theorem gUp_iv (f : Nat → Int) (j : Nat) (x : Int) (cA : ClassId) (m : Nat) : arrV cA m (updV (fun i => .int (iv (f i))) j (vi x)) = vp_cell cA (m, .inl (fun i => iv (gUp f j x i))) := by
  rw [vp_cell_i]
  congr 1
  funext q
  by_cases hq : q = j
  · subst hq; simp [updV, gUp]
  · simp [updV, gUp, hq]
theorem gUp_jv (f : Nat → Int) (j : Nat) (x : Int) (cA : ClassId) (m : Nat) : arrV cA m (updV (fun i => .long (jv (f i))) j (vl x)) = vp_cell cA (m, .inr (.inl (fun i => jv (gUp f j x i)))) := by
  rw [vp_cell_l]
  congr 1
  funext q
  by_cases hq : q = j
  · subst hq; simp [updV, gUp]
  · simp [updV, gUp, hq]
theorem g_iast (C : gC Z own cc nL rt d0) {m : Nat} {f : Nat → Int} {i x : Int} (d : decode cc pc = .ok (.iastore, 1)) (hM : M a = some (t, gI 0 m f)) (ht : t ≠ 0) (j : Nat) (hi : i = j) (hj : j < m) (hb : m ≤ 2147483647) (kk : G Z k n (gSet M a (t, gI 0 m (gUp f j x))) (pc + 1) loc st) : G Z k n M pc loc (vi x :: vi i :: .ref a :: st) := by
  subst hi
  intro H locs cells slots ls hA hl
  refine W.iast C.x C.b ((hA.P hM) 0 _ rfl) ((C.K.2 0 _ rfl).1 m _) (fun q => by cases q) (by show ¬ (iv (j : Int) < 0 ∨ (arrV _ _ _).slots.size ≤ _); rw [arrV_size]; exact iv_in (n := m) ⟨by omega, by omega⟩ (by omega)) rfl rfl d fun H1 e z oq => ?_
  refine kk H1 _ cells slots ls (hA.put hM ht z oq ?_) hl
  rw [iv_cl ⟨by omega, by omega⟩] at e
  exact e.trans (congrArg some ((arrV_store _ _ _ _ _).trans (gUp_iv f _ x _ m)))
theorem g_lastJ (C : gC Z own cc nL rt d0) {m : Nat} {f : Nat → Int} {i x : Int} (d : decode cc pc = .ok (.lastore, 1)) (hM : M a = some (t, gJ 4 m f)) (ht : t ≠ 0) (j : Nat) (hi : i = j) (hj : j < m) (hb : m ≤ 2147483647) (kk : G Z k n (gSet M a (t, gJ 4 m (gUp f j x))) (pc + 1) loc st) : G Z k n M pc loc (vl x :: vi i :: .ref a :: st) := by
  subst hi
  intro H locs cells slots ls hA hl
  refine W.last C.x C.b ((hA.P hM) 0 _ rfl) ((C.K.2 4 _ rfl).1 m _) (fun q => by cases q) (by show ¬ (iv (j : Int) < 0 ∨ (arrV _ _ _).slots.size ≤ _); rw [arrV_size]; exact iv_in (n := m) ⟨by omega, by omega⟩ (by omega)) rfl rfl d fun H1 e z oq => ?_
  refine kk H1 _ cells slots ls (hA.put hM ht z oq ?_) hl
  rw [iv_cl ⟨by omega, by omega⟩] at e
  exact e.trans (congrArg some ((arrV_store _ _ _ _ _).trans (gUp_jv f _ x _ m)))
theorem g_bast (C : gC Z own cc nL rt d0) {m : Nat} {f : Nat → Int} {i x : Int} (d : decode cc pc = .ok (.bastore, 1)) (hM : M a = some (t, gI 1 m f)) (ht : t ≠ 0) (j : Nat) (hi : i = j) (hj : j < m) (hb : m ≤ 2147483647) (hx : narrow .byte (vi x) = vi x) (kk : G Z k n (gSet M a (t, gI 1 m (gUp f j x))) (pc + 1) loc st) : G Z k n M pc loc (vi x :: vi i :: .ref a :: st) := by
  subst hi
  intro H locs cells slots ls hA hl
  refine W.bast C.x C.b ((hA.P hM) 0 _ rfl) ((C.K.2 1 _ rfl).1 m _) (fun q => by cases q) (by show ¬ (iv (j : Int) < 0 ∨ (arrV _ _ _).slots.size ≤ _); rw [arrV_size]; exact iv_in (n := m) ⟨by omega, by omega⟩ (by omega)) rfl rfl d fun H1 e z oq => ?_
  refine kk H1 _ cells slots ls (hA.put hM ht z oq ?_) hl
  rw [iv_cl ⟨by omega, by omega⟩, hx] at e
  exact e.trans (congrArg some ((arrV_store _ _ _ _ _).trans (gUp_iv f _ x _ m)))
theorem g_zast (C : gC Z own cc nL rt d0) {m : Nat} {f : Nat → Int} {i x : Int} (d : decode cc pc = .ok (.bastore, 1)) (hM : M a = some (t, gI 2 m f)) (ht : t ≠ 0) (j : Nat) (hi : i = j) (hj : j < m) (hb : m ≤ 2147483647) (hx : narrow .boolean (vi x) = vi x) (kk : G Z k n (gSet M a (t, gI 2 m (gUp f j x))) (pc + 1) loc st) : G Z k n M pc loc (vi x :: vi i :: .ref a :: st) := by
  subst hi
  intro H locs cells slots ls hA hl
  refine W.zast C.x C.b ((hA.P hM) 0 _ rfl) ((C.K.2 2 _ rfl).1 m _) (fun q => by cases q) (by show ¬ (iv (j : Int) < 0 ∨ (arrV _ _ _).slots.size ≤ _); rw [arrV_size]; exact iv_in (n := m) ⟨by omega, by omega⟩ (by omega)) rfl rfl d fun H1 e z oq => ?_
  refine kk H1 _ cells slots ls (hA.put hM ht z oq ?_) hl
  rw [iv_cl ⟨by omega, by omega⟩, hx] at e
  exact e.trans (congrArg some ((arrV_store _ _ _ _ _).trans (gUp_iv f _ x _ m)))
theorem g_cast (C : gC Z own cc nL rt d0) {m : Nat} {f : Nat → Int} {i x : Int} (d : decode cc pc = .ok (.castore, 1)) (hM : M a = some (t, gI 3 m f)) (ht : t ≠ 0) (j : Nat) (hi : i = j) (hj : j < m) (hb : m ≤ 2147483647) (hx : narrow .char (vi x) = vi x) (kk : G Z k n (gSet M a (t, gI 3 m (gUp f j x))) (pc + 1) loc st) : G Z k n M pc loc (vi x :: vi i :: .ref a :: st) := by
  subst hi
  intro H locs cells slots ls hA hl
  refine W.cast C.x C.b ((hA.P hM) 0 _ rfl) ((C.K.2 3 _ rfl).1 m _) (fun q => by cases q) (by show ¬ (iv (j : Int) < 0 ∨ (arrV _ _ _).slots.size ≤ _); rw [arrV_size]; exact iv_in (n := m) ⟨by omega, by omega⟩ (by omega)) rfl rfl d fun H1 e z oq => ?_
  refine kk H1 _ cells slots ls (hA.put hM ht z oq ?_) hl
  rw [iv_cl ⟨by omega, by omega⟩, hx] at e
  exact e.trans (congrArg some ((arrV_store _ _ _ _ _).trans (gUp_iv f _ x _ m)))
theorem g_newaP (C : gC Z own cc nL rt d0) {atype : ArrayType} {ti : Nat} {tf : FieldType} (hty : newarray.typeOf atype = tf) (hti : ∀ E : gE, (gTys E)[ti]? = some (E.2.1 ti, tf)) (hnm : ∀ (U : State) (cA : ClassId), va_RA U cA tf → U.vm.findClass ("[" ++ tf.toString) = some cA) (q : Cond.arrayClass tf ∈ lw_all) (t : Nat) {i : Int} (m : Nat) (hi : i = m) (hb : m ≤ 2147483647) {ar : (Nat → Int32) ⊕ (Nat → Int64) ⊕ (Nat → UInt32) ⊕ (Nat → UInt64) ⊕ (Nat → Option Nat)} (har : ∀ cA : ClassId, vp_cell cA (m, ar) = arrV cA m (fun _ => defaultValue tf)) (hbytes : m * componentBytes tf ≤ 536870912) (hk : 1 ≤ k) (hn : m ≤ n) (d : decode cc pc = .ok (.newarray atype, 2)) (kk : ∀ q : Nat, M q = none → G Z (k - 1) (n - m) (gSet M q (t, .inl (ti, m, ar))) (pc + 2) loc (.ref q :: st)) : G Z k n M pc loc (vi i :: st) := by
  subst hty
  subst hi
  intro H locs cells slots ls hA hl
  have h4 := hA.2.2.2.1
  have h5 := hA.2.2.2.2
  refine va_newaK C.x C.b (C.ts _ q) rfl d rfl (fun h => ?_) (iv_cl ⟨by omega, by omega⟩) (by simpa using hbytes) (by omega) (by simpa using (by omega : slots + m ≤ _)) rfl fun H1 cA e1 z1 o1 hAr hNm => ?_
  · have := (iv_lt (a := (m : Int)) (b := 0) ⟨by omega, by omega⟩ r32_0).mp h
    omega
  · have e2 : cA = Z.1.2.1 ti := Option.some.inj (hNm.symm.trans (hnm _ _ (C.K.2 ti _ (hti Z.1)).2))
    subst e2
    refine kk H.size hA.1.fresh H1 locs (cells + 1) (slots + m) ls (hA.push hk hn z1 o1 ?_) hl
    show H1[H.size]? = some (vp_cell _ _)
    rw [e1, har]
    rfl
theorem g_newI (C : gC Z own cc nL rt d0) {i : Int} (d : decode cc pc = .ok (.newarray .int, 2)) (q : Cond.arrayClass .int ∈ lw_all) (t : Nat) (m : Nat) (hi : i = m) (hb : m ≤ 100000000) (hk : 1 ≤ k) (hn : m ≤ n) (kk : ∀ q : Nat, M q = none → G Z (k - 1) (n - m) (gSet M q (t, gI 0 m (fun _ => 0))) (pc + 2) loc (.ref q :: st)) : G Z k n M pc loc (vi i :: st) :=
  g_newaP C (tf := .int) rfl (fun _ => rfl) (fun _ _ h => h) q t m hi (by omega) (fun _ => rfl) (by show m * 4 ≤ _; omega) hk hn d kk
theorem g_newB (C : gC Z own cc nL rt d0) {i : Int} (d : decode cc pc = .ok (.newarray .byte, 2)) (q : Cond.arrayClass .byte ∈ lw_all) (t : Nat) (m : Nat) (hi : i = m) (hb : m ≤ 100000000) (hk : 1 ≤ k) (hn : m ≤ n) (kk : ∀ q : Nat, M q = none → G Z (k - 1) (n - m) (gSet M q (t, gI 1 m (fun _ => 0))) (pc + 2) loc (.ref q :: st)) : G Z k n M pc loc (vi i :: st) :=
  g_newaP C (tf := .byte) rfl (fun _ => rfl) (fun _ _ h => h) q t m hi (by omega) (fun _ => rfl) (by show m * 1 ≤ _; omega) hk hn d kk
theorem g_newZ (C : gC Z own cc nL rt d0) {i : Int} (d : decode cc pc = .ok (.newarray .boolean, 2)) (q : Cond.arrayClass .boolean ∈ lw_all) (t : Nat) (m : Nat) (hi : i = m) (hb : m ≤ 100000000) (hk : 1 ≤ k) (hn : m ≤ n) (kk : ∀ q : Nat, M q = none → G Z (k - 1) (n - m) (gSet M q (t, gI 2 m (fun _ => 0))) (pc + 2) loc (.ref q :: st)) : G Z k n M pc loc (vi i :: st) :=
  g_newaP C (tf := .boolean) rfl (fun _ => rfl) (fun _ _ h => h) q t m hi (by omega) (fun _ => rfl) (by show m * 1 ≤ _; omega) hk hn d kk
theorem g_newC (C : gC Z own cc nL rt d0) {i : Int} (d : decode cc pc = .ok (.newarray .char, 2)) (q : Cond.arrayClass .char ∈ lw_all) (t : Nat) (m : Nat) (hi : i = m) (hb : m ≤ 100000000) (hk : 1 ≤ k) (hn : m ≤ n) (kk : ∀ q : Nat, M q = none → G Z (k - 1) (n - m) (gSet M q (t, gI 3 m (fun _ => 0))) (pc + 2) loc (.ref q :: st)) : G Z k n M pc loc (vi i :: st) :=
  g_newaP C (tf := .char) rfl (fun _ => rfl) (fun _ _ h => h) q t m hi (by omega) (fun _ => rfl) (by show m * 2 ≤ _; omega) hk hn d kk
theorem g_newJ (C : gC Z own cc nL rt d0) {i : Int} (d : decode cc pc = .ok (.newarray .long, 2)) (q : Cond.arrayClass .long ∈ lw_all) (t : Nat) (m : Nat) (hi : i = m) (hb : m ≤ 10000000) (hk : 1 ≤ k) (hn : m ≤ n) (kk : ∀ q : Nat, M q = none → G Z (k - 1) (n - m) (gSet M q (t, gJ 4 m (fun _ => 0))) (pc + 2) loc (.ref q :: st)) : G Z k n M pc loc (vi i :: st) :=
  g_newaP C (tf := .long) rfl (fun _ => rfl) (fun _ _ h => h) q t m hi (by omega) (fun _ => rfl) (by show m * 8 ≤ _; omega) hk hn d kk
/-! references in arrays -/
theorem g_aald (C : gC Z own cc nL rt d0) {ti m : Nat} {Cx : String} {f : Nat → Option Nat} {i : Int} (d : decode cc pc = .ok (.aaload, 1)) (hM : M a = some (t, gR ti m f)) (hti : ∀ E : gE, (gTys E)[ti]? = some (E.2.1 ti, .object Cx)) (j : Nat) (hi : i = j) (hj : j < m) (hb : m ≤ 2147483647) (kk : G Z k n M (pc + 1) loc (va_rf (f j) :: st)) : G Z k n M pc loc (vi i :: .ref a :: st) := by
  subst hi
  intro H locs cells slots ls hA hl
  refine va_aldq (C := Cx) C.x C.b C.K (hA.P hM) 0 ti rfl (hti Z.1) (iv_in ⟨by omega, by omega⟩ (by omega)) d ?_
  rw [iv_cl ⟨by omega, by omega⟩]
  exact kk H locs cells slots ls hA hl
/-! ends -/
theorem gAt.end' {Q : Option Value → gM → Prop} (hQ : Z.2.2.1 = Q) {H : Heap} {locs : List Loc} {cells slots : Nat} (h : gAt Z k n M H locs cells slots) {v : Option Value} (hq : Q v M) : ∀ u : State, u.heap = H → (gZs' Z).WarmedH u.vm → gQ Z.1 Z.2.2.1 (gZa Z) (gZs' Z) (.returned v) u :=
  fun u hu _ => ⟨v, M, rfl, by rw [hQ]; exact hq, by rw [hu]; exact h.1, by rw [hu]; exact h.2.1⟩
theorem g_iret {Q : Option Value → gM → Prop} (hQ : Z.2.2.1 = Q) (C : gC Z own cc nL (some .int) d0) {x : Int32} (hq : Q (some (.int x)) M) (d : decode cc pc = .ok (.ireturn, 1)) : G Z k n M pc loc [.int x] :=
  fun H locs cells slots ls hA _ => vx_ret (W.widen (by have := hA.2.2.2.1; omega) (by have := hA.2.2.2.2; omega) (W.iret C.x C.b C.2.1.2.1 (hA.end' hQ hq) hA.2.2.1 d C.2.1.1))
theorem g_nret {Q : Option Value → gM → Prop} (hQ : Z.2.2.1 = Q) {tf : FieldType} (C : gC Z own cc nL (some tf) d0) {x : Int32} (hn : narrow tf (.int x) = .int x) (hq : Q (some (.int x)) M) (d : decode cc pc = .ok (.ireturn, 1)) : G Z k n M pc loc [.int x] :=
  fun H locs cells slots ls hA _ => vx_ret (W.widen (by have := hA.2.2.2.1; omega) (by have := hA.2.2.2.2; omega) (W.zret C.x C.b C.2.1.2.1 hn (hA.end' hQ hq) hA.2.2.1 d C.2.1.1))
theorem g_vret {Q : Option Value → gM → Prop} (hQ : Z.2.2.1 = Q) (C : gC Z own cc nL none d0) (hq : Q none M) (d : decode cc pc = .ok (.return_, 1)) : G Z k n M pc loc [] :=
  fun H locs cells slots ls hA _ => vx_ret (W.widen (by have := hA.2.2.2.1; omega) (by have := hA.2.2.2.2; omega) (W.vret C.x C.b C.2.1.2.1 (hA.end' hQ hq) hA.2.2.1 d C.2.1.1))
theorem g_aret {Q : Option Value → gM → Prop} (hQ : Z.2.2.1 = Q) {tf : FieldType} (C : gC Z own cc nL (some tf) d0) {v : Value} (hrt : (∃ x, tf = .object x) ∨ ∃ x, tf = .array x) (hv : gRef v) (hq : Q (some v) M) (d : decode cc pc = .ok (.areturn, 1)) : G Z k n M pc loc [v] :=
  fun H locs cells slots ls hA _ => vx_ret (W.widen (by have := hA.2.2.2.1; omega) (by have := hA.2.2.2.2; omega) (W.aret C.x C.b C.2.1.2.1 hrt (by cases v <;> first | exact Or.inl rfl | exact Or.inr ⟨_, rfl⟩ | exact hv.elim) (hA.end' hQ hq) hA.2.2.1 d C.2.1.1))
theorem g_lret {Q : Option Value → gM → Prop} (hQ : Z.2.2.1 = Q) (C : gC Z own cc nL (some .long) d0) {x : Int64} (hq : Q (some (.long x)) M) (d : decode cc pc = .ok (.lreturn, 1)) : G Z k n M pc loc [.long x] :=
  fun H locs cells slots ls hA _ => vx_ret (W.widen (by have := hA.2.2.2.1; omega) (by have := hA.2.2.2.2; omega) (W.lret C.x C.b C.2.1.2.1 (hA.end' hQ hq) hA.2.2.1 d C.2.1.1))
end GH
