/-! rows of the machine over the ghost heap: locals, numbers, branches -/
set_option maxRecDepth 100000
def gRef (v : Value) : Prop := match v with
  | .null => True
  | .ref _ => True
  | _ => False
theorem gRef_rf (r : Option Nat) : gRef (va_rf r) := by cases r <;> trivial
theorem gCat_rf (r : Option Nat) : (va_rf r).category = 1 := by cases r <;> rfl
/-- the place i is stored to: what lay there goes; the list stays in order -/
def gIns (i : Nat) (v : Value) : List (Nat × Value) → List (Nat × Value)
  | [] => [(i, v)]
  | q :: l => if i < q.1 then (i, v) :: q :: l else q :: gIns i v l
def gSt1 (i : Nat) (v : Value) (loc : List (Nat × Value)) : List (Nat × Value) := gIns i v (loc.filter (fun q => !(q.1 == i)))
def gSt2 (i : Nat) (v : Value) (loc : List (Nat × Value)) : List (Nat × Value) := gIns i v (loc.filter (fun q => !(q.1 == i) && !(q.1 == i + 1)))
/-- no long or double reaches into the place i -/
def gOk1 (i : Nat) : List (Nat × Value) → Bool
  | [] => true
  | q :: l => (if q.1 + 1 = i then q.2.category == 1 else true) && gOk1 i l
abbrev gOk2 (i : Nat) (l : List (Nat × Value)) : Bool := gOk1 i l
theorem gIns_mem {i : Nat} {v : Value} : ∀ {l : List (Nat × Value)} {q : Nat × Value}, q ∈ gIns i v l → q = (i, v) ∨ q ∈ l
  | [], q, h => Or.inl (List.mem_singleton.mp h)
  | r :: l, q, h => by
    unfold gIns at h
    split at h
    · rcases List.mem_cons.mp h with e | e
      · exact Or.inl e
      · exact Or.inr e
    · rcases List.mem_cons.mp h with e | e
      · exact Or.inr (e ▸ List.mem_cons_self)
      · rcases gIns_mem e with e2 | e2
        · exact Or.inl e2
        · exact Or.inr (List.mem_cons_of_mem _ e2)
theorem gOk1_at {i : Nat} : ∀ {l : List (Nat × Value)}, gOk1 i l = true → ∀ q ∈ l, q.1 + 1 = i → q.2.category = 1
  | [], _, q, h, _ => nomatch h
  | r :: l, h, q, hq, e => by
    unfold gOk1 at h
    rw [Bool.and_eq_true] at h
    rcases List.mem_cons.mp hq with e2 | e2
    · subst e2
      rw [if_pos e] at h
      exact eq_of_beq h.1
    · exact gOk1_at h.2 q e2 e
theorem gSt1_has {ls : Array Slot} {nL i : Nat} {v : Value} {loc lv' : List (Nat × Value)} (e : (i, v) :: loc.filter (fun q => !(q.1 == i) && !(q.1 + 1 == i && q.2.category == 2)) = lv') (hc : gOk1 i loc = true) (h : lv_has ls nL lv') : lv_has ls nL (gSt1 i v loc) := by
  subst e
  refine ⟨h.1, h.2.1, fun q hq => h.2.2 q ?_⟩
  rcases gIns_mem hq with e | e
  · rw [e]; exact List.mem_cons_self
  · obtain ⟨h1, h2⟩ := List.mem_filter.mp e
    refine List.mem_cons_of_mem _ (List.mem_filter.mpr ⟨h1, ?_⟩)
    by_cases e3 : q.1 + 1 = i
    · have := gOk1_at hc q h1 e3
      simp_all
    · simp_all
theorem gSt2_has {ls : Array Slot} {nL i : Nat} {v : Value} {loc lv' : List (Nat × Value)} (e : (i, v) :: loc.filter (fun q => !(q.1 == i) && (!(q.1 == i + 1) && !(q.1 + 1 == i && q.2.category == 2))) = lv') (hc : gOk1 i loc = true) (h : lv_has ls nL lv') : lv_has ls nL (gSt2 i v loc) := by
  subst e
  refine ⟨h.1, h.2.1, fun q hq => h.2.2 q ?_⟩
  rcases gIns_mem hq with e | e
  · rw [e]; exact List.mem_cons_self
  · obtain ⟨h1, h2⟩ := List.mem_filter.mp e
    refine List.mem_cons_of_mem _ (List.mem_filter.mpr ⟨h1, ?_⟩)
    by_cases e3 : q.1 + 1 = i
    · have := gOk1_at hc q h1 e3
      simp_all
    · simp_all
theorem iv_b {z : Int} (h : -128 ≤ z ∧ z ≤ 127) : (Int8.ofInt z).toInt32 = iv z := Int32.toInt_inj.mp (by rw [Int8.toInt_toInt32, Int8.toInt_ofInt_of_le (by omega) (by omega), iv_toInt ⟨by omega, by omega⟩])
theorem iv_s {z : Int} (h : -32768 ≤ z ∧ z ≤ 32767) : (Int16.ofInt z).toInt32 = iv z := Int32.toInt_inj.mp (by rw [Int16.toInt_toInt32, Int16.toInt_ofInt_of_le (by omega) (by omega), iv_toInt ⟨by omega, by omega⟩])
theorem r32_0 : r32 0 := ⟨by decide, by decide⟩
theorem iv_ne0 {b : Int} (hb : 0 < b ∧ b ≤ 2147483647) : ¬ iv b = 0 := fun h => by
  have := (iv_eq (a := b) (b := 0) ⟨by omega, hb.2⟩ r32_0).mp h
  omega
theorem jv_ne0 {b : Int} (hb : 0 < b ∧ b ≤ 9223372036854775807) : ¬ jv b = 0 := fun h => by
  have := (jv_eq (a := b) (b := 0) ⟨by omega, hb.2⟩ ⟨by decide, by decide⟩).mp h
  omega
theorem c2_eq {a b : Int} (ha : r32 a) (hb : r32 b) : iv a = iv b ↔ a = b := iv_eq ha hb
theorem nc2_eq {a b : Int} (ha : r32 a) (hb : r32 b) (h : ¬ iv a = iv b) : ¬ a = b := fun e => h ((iv_eq ha hb).mpr e)
theorem c2_ne {a b : Int} (ha : r32 a) (hb : r32 b) : ¬ iv a = iv b ↔ ¬ a = b := not_congr (iv_eq ha hb)
theorem nc2_ne {a b : Int} (ha : r32 a) (hb : r32 b) (h : iv a = iv b) : a = b := (iv_eq ha hb).mp h
theorem c2_lt {a b : Int} (ha : r32 a) (hb : r32 b) : iv a < iv b ↔ a < b := iv_lt ha hb
theorem nc2_lt {a b : Int} (ha : r32 a) (hb : r32 b) (h : ¬ iv a < iv b) : b ≤ a := Int.not_lt.mp (fun e => h ((iv_lt ha hb).mpr e))
theorem c2_ge {a b : Int} (ha : r32 a) (hb : r32 b) : iv b ≤ iv a ↔ b ≤ a := iv_le hb ha
theorem nc2_ge {a b : Int} (ha : r32 a) (hb : r32 b) (h : ¬ iv b ≤ iv a) : a < b := Int.not_le.mp (fun e => h ((iv_le hb ha).mpr e))
theorem c2_gt {a b : Int} (ha : r32 a) (hb : r32 b) : iv b < iv a ↔ b < a := iv_lt hb ha
theorem nc2_gt {a b : Int} (ha : r32 a) (hb : r32 b) (h : ¬ iv b < iv a) : a ≤ b := Int.not_lt.mp (fun e => h ((iv_lt hb ha).mpr e))
theorem c2_le {a b : Int} (ha : r32 a) (hb : r32 b) : iv a ≤ iv b ↔ a ≤ b := iv_le ha hb
theorem nc2_le {a b : Int} (ha : r32 a) (hb : r32 b) (h : ¬ iv a ≤ iv b) : b < a := Int.not_le.mp (fun e => h ((iv_le ha hb).mpr e))
theorem c0_eq {a : Int} (ha : r32 a) : iv a = 0 ↔ a = 0 := iv_eq ha r32_0
theorem nc0_eq {a : Int} (ha : r32 a) (h : ¬ iv a = 0) : ¬ a = 0 := nc2_eq ha r32_0 h
theorem c0_ne {a : Int} (ha : r32 a) : ¬ iv a = 0 ↔ ¬ a = 0 := c2_ne ha r32_0
theorem nc0_ne {a : Int} (ha : r32 a) (h : iv a = 0) : a = 0 := nc2_ne ha r32_0 h
theorem c0_lt {a : Int} (ha : r32 a) : iv a < 0 ↔ a < 0 := c2_lt ha r32_0
theorem nc0_lt {a : Int} (ha : r32 a) (h : ¬ iv a < 0) : 0 ≤ a := nc2_lt ha r32_0 h
theorem c0_ge {a : Int} (ha : r32 a) : 0 ≤ iv a ↔ 0 ≤ a := c2_ge ha r32_0
theorem nc0_ge {a : Int} (ha : r32 a) (h : ¬ 0 ≤ iv a) : a < 0 := nc2_ge ha r32_0 h
theorem c0_gt {a : Int} (ha : r32 a) : 0 < iv a ↔ 0 < a := c2_gt ha r32_0
theorem nc0_gt {a : Int} (ha : r32 a) (h : ¬ 0 < iv a) : a ≤ 0 := nc2_gt ha r32_0 h
theorem c0_le {a : Int} (ha : r32 a) : iv a ≤ 0 ↔ a ≤ 0 := c2_le ha r32_0
theorem nc0_le {a : Int} (ha : r32 a) (h : ¬ iv a ≤ 0) : 0 < a := nc2_le ha r32_0 h
/-! rows: one an instruction -/
section GROWS
variable {Z : gZ} {own : String} {cc : ByteArray} {nL : Nat} {rt : Option FieldType} {d0 k n pc : Nat} {M : gM} {loc : List (Nat × Value)} {st : List Value}
theorem g_iconst (C : gC Z own cc nL rt d0) {z : Int} (d : decode cc pc = .ok (.iconst z, 1)) (kk : G Z k n M (pc + 1) loc (vi z :: st)) : G Z k n M pc loc (st) :=
  G.lift (fun _ _ _ _ ls hl w => lv_iconst C.x C.b d rfl w) kk
theorem g_bipush (C : gC Z own cc nL rt d0) {z : Int} (d : decode cc pc = .ok (.bipush z, 2)) (h : -128 ≤ z ∧ z ≤ 127) (kk : G Z k n M (pc + 2) loc (vi z :: st)) : G Z k n M pc loc (st) :=
  G.lift (fun _ _ _ _ ls hl w => lv_bipush C.x C.b d (iv_b h) w) kk
theorem g_sipush (C : gC Z own cc nL rt d0) {z : Int} (d : decode cc pc = .ok (.sipush z, 3)) (h : -32768 ≤ z ∧ z ≤ 32767) (kk : G Z k n M (pc + 3) loc (vi z :: st)) : G Z k n M pc loc (st) :=
  G.lift (fun _ _ _ _ ls hl w => lv_sipush C.x C.b d (iv_s h) w) kk
theorem g_lconst0 (C : gC Z own cc nL rt d0) (d : decode cc pc = .ok (.lconst 0, 1)) (kk : G Z k n M (pc + 1) loc (vl 0 :: st)) : G Z k n M pc loc (st) :=
  G.lift (fun _ _ _ _ ls hl w => lv_lconst C.x C.b d rfl w) kk
theorem g_lconst1 (C : gC Z own cc nL rt d0) (d : decode cc pc = .ok (.lconst 1, 1)) (kk : G Z k n M (pc + 1) loc (vl 1 :: st)) : G Z k n M pc loc (st) :=
  G.lift (fun _ _ _ _ ls hl w => lv_lconst C.x C.b d rfl w) kk
theorem g_iload_n (C : gC Z own cc nL rt d0) {q : Fin 4} {i : Nat} {x : Int32} (d : decode cc pc = .ok (.iload_n q, 1)) (j : Nat) (hl0 : loc[j]? = some (i, .int x)) (e : (q : Nat) = i) (kk : G Z k n M (pc + 1) loc (.int x :: st)) : G Z k n M pc loc (st) :=
  G.lift (fun _ _ _ _ ls hl w => lv_iload_n C.x C.b d e (lv_at hl j hl0) w) kk
theorem g_iload (C : gC Z own cc nL rt d0) {i : Nat} {x : Int32} (d : decode cc pc = .ok (.iload i, 2)) (j : Nat) (hl0 : loc[j]? = some (i, .int x)) (kk : G Z k n M (pc + 2) loc (.int x :: st)) : G Z k n M pc loc (st) :=
  G.lift (fun _ _ _ _ ls hl w => lv_iload C.x C.b d (lv_at hl j hl0) w) kk
theorem g_lload_n (C : gC Z own cc nL rt d0) {q : Fin 4} {i : Nat} {x : Int64} (d : decode cc pc = .ok (.lload_n q, 1)) (j : Nat) (hl0 : loc[j]? = some (i, .long x)) (e : (q : Nat) = i) (kk : G Z k n M (pc + 1) loc (.long x :: st)) : G Z k n M pc loc (st) :=
  G.lift (fun _ _ _ _ ls hl w => lv_lload_n C.x C.b d e (lv_at hl j hl0) w) kk
theorem g_lload (C : gC Z own cc nL rt d0) {i : Nat} {x : Int64} (d : decode cc pc = .ok (.lload i, 2)) (j : Nat) (hl0 : loc[j]? = some (i, .long x)) (kk : G Z k n M (pc + 2) loc (.long x :: st)) : G Z k n M pc loc (st) :=
  G.lift (fun _ _ _ _ ls hl w => lv_lload C.x C.b d (lv_at hl j hl0) w) kk
theorem g_dload_n (C : gC Z own cc nL rt d0) {q : Fin 4} {i : Nat} {x : UInt64} (d : decode cc pc = .ok (.dload_n q, 1)) (j : Nat) (hl0 : loc[j]? = some (i, .double x)) (e : (q : Nat) = i) (kk : G Z k n M (pc + 1) loc (.double x :: st)) : G Z k n M pc loc (st) :=
  G.lift (fun _ _ _ _ ls hl w => lv_dload_n C.x C.b d e (lv_at hl j hl0) w) kk
theorem g_dload (C : gC Z own cc nL rt d0) {i : Nat} {x : UInt64} (d : decode cc pc = .ok (.dload i, 2)) (j : Nat) (hl0 : loc[j]? = some (i, .double x)) (kk : G Z k n M (pc + 2) loc (.double x :: st)) : G Z k n M pc loc (st) :=
  G.lift (fun _ _ _ _ ls hl w => lv_dload C.x C.b d (lv_at hl j hl0) w) kk
theorem g_fload_n (C : gC Z own cc nL rt d0) {q : Fin 4} {i : Nat} {x : UInt32} (d : decode cc pc = .ok (.fload_n q, 1)) (j : Nat) (hl0 : loc[j]? = some (i, .float x)) (e : (q : Nat) = i) (kk : G Z k n M (pc + 1) loc (.float x :: st)) : G Z k n M pc loc (st) :=
  G.lift (fun _ _ _ _ ls hl w => lv_fload_n C.x C.b d e (lv_at hl j hl0) w) kk
theorem g_fload (C : gC Z own cc nL rt d0) {i : Nat} {x : UInt32} (d : decode cc pc = .ok (.fload i, 2)) (j : Nat) (hl0 : loc[j]? = some (i, .float x)) (kk : G Z k n M (pc + 2) loc (.float x :: st)) : G Z k n M pc loc (st) :=
  G.lift (fun _ _ _ _ ls hl w => lv_fload C.x C.b d (lv_at hl j hl0) w) kk
theorem g_aload_n (C : gC Z own cc nL rt d0) {q : Fin 4} {i : Nat} {v : Value} (d : decode cc pc = .ok (.aload_n q, 1)) (j : Nat) (hl0 : loc[j]? = some (i, v)) (hv : gRef v) (e : (q : Nat) = i) (kk : G Z k n M (pc + 1) loc (v :: st)) : G Z k n M pc loc st := by
  refine G.lift (fun _ _ _ _ ls hl w => ?_) kk
  cases v with
  | null => exact lv_aload_nN C.x C.b d e (lv_at hl j hl0) w
  | ref a => exact lv_aload_n C.x C.b d e (lv_at hl j hl0) w
  | _ => exact hv.elim
theorem g_aload (C : gC Z own cc nL rt d0) {i : Nat} {v : Value} (d : decode cc pc = .ok (.aload i, 2)) (j : Nat) (hl0 : loc[j]? = some (i, v)) (hv : gRef v) (kk : G Z k n M (pc + 2) loc (v :: st)) : G Z k n M pc loc st := by
  refine G.lift (fun _ _ _ _ ls hl w => ?_) kk
  cases v with
  | null => exact lv_aloadN C.x C.b d (lv_at hl j hl0) w
  | ref a => exact lv_aload C.x C.b d (lv_at hl j hl0) w
  | _ => exact hv.elim
theorem g_istore_n (C : gC Z own cc nL rt d0) {q : Fin 4} {i : Nat} {x : Int32} {loc1 : List (Nat × Value)} (d : decode cc pc = .ok (.istore_n q, 1)) (hn : i < nL) (e : (q : Nat) = i) (hc : gOk1 i loc = true) (h1 : gSt1 i (.int x) loc = loc1) (kk : G Z k n M (pc + 1) loc1 st) : G Z k n M pc loc (.int x :: st) := by
  intro H locs cells slots ls hA hl
  have hl2 : lv_has ls nL loc := by rw [← C.ml]; exact hl
  subst h1
  exact lv_istore_n C.x C.b d e hl2 hn rfl (fun ls2 h2 => kk H locs cells slots ls2 hA (by rw [C.ml]; exact gSt1_has rfl hc h2))
theorem g_istore (C : gC Z own cc nL rt d0) {i : Nat} {x : Int32} {loc1 : List (Nat × Value)} (d : decode cc pc = .ok (.istore i, 2)) (hn : i < nL) (hc : gOk1 i loc = true) (h1 : gSt1 i (.int x) loc = loc1) (kk : G Z k n M (pc + 2) loc1 st) : G Z k n M pc loc (.int x :: st) := by
  intro H locs cells slots ls hA hl
  have hl2 : lv_has ls nL loc := by rw [← C.ml]; exact hl
  subst h1
  exact lv_istore C.x C.b d hl2 hn rfl (fun ls2 h2 => kk H locs cells slots ls2 hA (by rw [C.ml]; exact gSt1_has rfl hc h2))
theorem g_astore_n (C : gC Z own cc nL rt d0) {q : Fin 4} {i : Nat} {v : Value} {loc1 : List (Nat × Value)} (d : decode cc pc = .ok (.astore_n q, 1)) (hv : gRef v) (hn : i < nL) (e : (q : Nat) = i) (hc : gOk1 i loc = true) (h1 : gSt1 i v loc = loc1) (kk : G Z k n M (pc + 1) loc1 st) : G Z k n M pc loc (v :: st) := by
  intro H locs cells slots ls hA hl
  have hl2 : lv_has ls nL loc := by rw [← C.ml]; exact hl
  subst h1
  cases v with
  | null => exact lv_astore_nN C.x C.b d e hl2 hn rfl (fun ls2 h2 => kk H locs cells slots ls2 hA (by rw [C.ml]; exact gSt1_has rfl hc h2))
  | ref a => exact lv_astore_n C.x C.b d e hl2 hn rfl (fun ls2 h2 => kk H locs cells slots ls2 hA (by rw [C.ml]; exact gSt1_has rfl hc h2))
  | _ => exact hv.elim
theorem g_astore (C : gC Z own cc nL rt d0) {i : Nat} {v : Value} {loc1 : List (Nat × Value)} (d : decode cc pc = .ok (.astore i, 2)) (hv : gRef v) (hn : i < nL) (hc : gOk1 i loc = true) (h1 : gSt1 i v loc = loc1) (kk : G Z k n M (pc + 2) loc1 st) : G Z k n M pc loc (v :: st) := by
  intro H locs cells slots ls hA hl
  have hl2 : lv_has ls nL loc := by rw [← C.ml]; exact hl
  subst h1
  cases v with
  | null => exact lv_astoreN C.x C.b d hl2 hn rfl (fun ls2 h2 => kk H locs cells slots ls2 hA (by rw [C.ml]; exact gSt1_has rfl hc h2))
  | ref a => exact lv_astore C.x C.b d hl2 hn rfl (fun ls2 h2 => kk H locs cells slots ls2 hA (by rw [C.ml]; exact gSt1_has rfl hc h2))
  | _ => exact hv.elim
theorem g_lstore_n (C : gC Z own cc nL rt d0) {q : Fin 4} {i : Nat} {x : Int64} {loc1 : List (Nat × Value)} (d : decode cc pc = .ok (.lstore_n q, 1)) (hn : i + 1 < nL) (e : (q : Nat) = i) (hc : gOk2 i loc = true) (h1 : gSt2 i (.long x) loc = loc1) (kk : G Z k n M (pc + 1) loc1 st) : G Z k n M pc loc (.long x :: st) := by
  intro H locs cells slots ls hA hl
  have hl2 : lv_has ls nL loc := by rw [← C.ml]; exact hl
  subst h1
  exact lv_lstore_n C.x C.b d e hl2 hn rfl (fun ls2 h2 => kk H locs cells slots ls2 hA (by rw [C.ml]; exact gSt2_has rfl hc h2))
theorem g_lstore (C : gC Z own cc nL rt d0) {i : Nat} {x : Int64} {loc1 : List (Nat × Value)} (d : decode cc pc = .ok (.lstore i, 2)) (hn : i + 1 < nL) (hc : gOk2 i loc = true) (h1 : gSt2 i (.long x) loc = loc1) (kk : G Z k n M (pc + 2) loc1 st) : G Z k n M pc loc (.long x :: st) := by
  intro H locs cells slots ls hA hl
  have hl2 : lv_has ls nL loc := by rw [← C.ml]; exact hl
  subst h1
  exact lv_lstore C.x C.b d hl2 hn rfl (fun ls2 h2 => kk H locs cells slots ls2 hA (by rw [C.ml]; exact gSt2_has rfl hc h2))
theorem g_dstore_n (C : gC Z own cc nL rt d0) {q : Fin 4} {i : Nat} {x : UInt64} {loc1 : List (Nat × Value)} (d : decode cc pc = .ok (.dstore_n q, 1)) (hn : i + 1 < nL) (e : (q : Nat) = i) (hc : gOk2 i loc = true) (h1 : gSt2 i (.double x) loc = loc1) (kk : G Z k n M (pc + 1) loc1 st) : G Z k n M pc loc (.double x :: st) := by
  intro H locs cells slots ls hA hl
  have hl2 : lv_has ls nL loc := by rw [← C.ml]; exact hl
  subst h1
  exact lv_dstore_n C.x C.b d e hl2 hn rfl (fun ls2 h2 => kk H locs cells slots ls2 hA (by rw [C.ml]; exact gSt2_has rfl hc h2))
theorem g_dstore (C : gC Z own cc nL rt d0) {i : Nat} {x : UInt64} {loc1 : List (Nat × Value)} (d : decode cc pc = .ok (.dstore i, 2)) (hn : i + 1 < nL) (hc : gOk2 i loc = true) (h1 : gSt2 i (.double x) loc = loc1) (kk : G Z k n M (pc + 2) loc1 st) : G Z k n M pc loc (.double x :: st) := by
  intro H locs cells slots ls hA hl
  have hl2 : lv_has ls nL loc := by rw [← C.ml]; exact hl
  subst h1
  exact lv_dstore C.x C.b d hl2 hn rfl (fun ls2 h2 => kk H locs cells slots ls2 hA (by rw [C.ml]; exact gSt2_has rfl hc h2))
theorem g_fstore_n (C : gC Z own cc nL rt d0) {q : Fin 4} {i : Nat} {x : UInt32} {loc1 : List (Nat × Value)} (d : decode cc pc = .ok (.fstore_n q, 1)) (hn : i < nL) (e : (q : Nat) = i) (hc : gOk1 i loc = true) (h1 : gSt1 i (.float x) loc = loc1) (kk : G Z k n M (pc + 1) loc1 st) : G Z k n M pc loc (.float x :: st) := by
  intro H locs cells slots ls hA hl
  have hl2 : lv_has ls nL loc := by rw [← C.ml]; exact hl
  subst h1
  exact lv_fstore_n C.x C.b d e hl2 hn rfl (fun ls2 h2 => kk H locs cells slots ls2 hA (by rw [C.ml]; exact gSt1_has rfl hc h2))
theorem g_fstore (C : gC Z own cc nL rt d0) {i : Nat} {x : UInt32} {loc1 : List (Nat × Value)} (d : decode cc pc = .ok (.fstore i, 2)) (hn : i < nL) (hc : gOk1 i loc = true) (h1 : gSt1 i (.float x) loc = loc1) (kk : G Z k n M (pc + 2) loc1 st) : G Z k n M pc loc (.float x :: st) := by
  intro H locs cells slots ls hA hl
  have hl2 : lv_has ls nL loc := by rw [← C.ml]; exact hl
  subst h1
  exact lv_fstore C.x C.b d hl2 hn rfl (fun ls2 h2 => kk H locs cells slots ls2 hA (by rw [C.ml]; exact gSt1_has rfl hc h2))
theorem g_iinc (C : gC Z own cc nL rt d0) {i : Nat} {z a : Int} {loc1 : List (Nat × Value)} (d : decode cc pc = .ok (.iinc i z, 3)) (j : Nat) (hl0 : loc[j]? = some (i, vi a)) (hn : i < nL) (hc : gOk1 i loc = true) (h1 : gSt1 i (vi (a + z)) loc = loc1) (kk : G Z k n M (pc + 3) loc1 st) : G Z k n M pc loc st := by
  intro H locs cells slots ls hA hl
  have hl2 : lv_has ls nL loc := by rw [← C.ml]; exact hl
  subst h1
  exact lv_iinc C.x C.b d hl2 hl0 (iv_add a z) hn rfl (fun ls2 h2 => kk H locs cells slots ls2 hA (by rw [C.ml]; exact gSt1_has rfl hc h2))
theorem g_iadd (C : gC Z own cc nL rt d0) {a b : Int} (d : decode cc pc = .ok (.iadd, 1)) (kk : G Z k n M (pc + 1) loc (vi (a + b) :: st)) : G Z k n M pc loc (vi b :: vi a :: st) :=
  G.lift (fun _ _ _ _ ls hl w => lv_iadd C.x C.b d (by rw [iv_add]; exact w)) kk
theorem g_isub (C : gC Z own cc nL rt d0) {a b : Int} (d : decode cc pc = .ok (.isub, 1)) (kk : G Z k n M (pc + 1) loc (vi (a - b) :: st)) : G Z k n M pc loc (vi b :: vi a :: st) :=
  G.lift (fun _ _ _ _ ls hl w => lv_isub C.x C.b d (by rw [iv_sub]; exact w)) kk
theorem g_imul (C : gC Z own cc nL rt d0) {a b : Int} (d : decode cc pc = .ok (.imul, 1)) (kk : G Z k n M (pc + 1) loc (vi (a * b) :: st)) : G Z k n M pc loc (vi b :: vi a :: st) :=
  G.lift (fun _ _ _ _ ls hl w => lv_imul C.x C.b d (by rw [iv_mul]; exact w)) kk
theorem g_ladd (C : gC Z own cc nL rt d0) {a b : Int} (d : decode cc pc = .ok (.ladd, 1)) (kk : G Z k n M (pc + 1) loc (vl (a + b) :: st)) : G Z k n M pc loc (vl b :: vl a :: st) :=
  G.lift (fun _ _ _ _ ls hl w => lv_ladd C.x C.b d (by rw [jv_add]; exact w)) kk
theorem g_lsub (C : gC Z own cc nL rt d0) {a b : Int} (d : decode cc pc = .ok (.lsub, 1)) (kk : G Z k n M (pc + 1) loc (vl (a - b) :: st)) : G Z k n M pc loc (vl b :: vl a :: st) :=
  G.lift (fun _ _ _ _ ls hl w => lv_lsub C.x C.b d (by rw [jv_sub]; exact w)) kk
theorem g_lmul (C : gC Z own cc nL rt d0) {a b : Int} (d : decode cc pc = .ok (.lmul, 1)) (kk : G Z k n M (pc + 1) loc (vl (a * b) :: st)) : G Z k n M pc loc (vl b :: vl a :: st) :=
  G.lift (fun _ _ _ _ ls hl w => lv_lmul C.x C.b d (by rw [jv_mul]; exact w)) kk
theorem g_ineg (C : gC Z own cc nL rt d0) {a : Int} (d : decode cc pc = .ok (.ineg, 1)) (kk : G Z k n M (pc + 1) loc (vi (-a) :: st)) : G Z k n M pc loc (vi a :: st) :=
  G.lift (fun _ _ _ _ ls hl w => lv_ineg C.x C.b d (by rw [iv_neg]; exact w)) kk
theorem g_idiv (C : gC Z own cc nL rt d0) {a b : Int} (d : decode cc pc = .ok (.idiv, 1)) (ha : 0 ≤ a ∧ a ≤ 2147483647) (hb : 0 < b ∧ b ≤ 2147483647) (kk : G Z k n M (pc + 1) loc (vi (a / b) :: st)) : G Z k n M pc loc (vi b :: vi a :: st) :=
  G.lift (fun _ _ _ _ ls hl w => lv_idiv C.x C.b d (iv_ne0 hb) (by rw [iv_div ha hb]; exact w)) kk
theorem g_irem (C : gC Z own cc nL rt d0) {a b : Int} (d : decode cc pc = .ok (.irem, 1)) (ha : 0 ≤ a ∧ a ≤ 2147483647) (hb : 0 < b ∧ b ≤ 2147483647) (kk : G Z k n M (pc + 1) loc (vi (a % b) :: st)) : G Z k n M pc loc (vi b :: vi a :: st) :=
  G.lift (fun _ _ _ _ ls hl w => lv_irem C.x C.b d (iv_ne0 hb) (by rw [iv_rem ha hb]; exact w)) kk
theorem g_ldiv (C : gC Z own cc nL rt d0) {a b : Int} (d : decode cc pc = .ok (.ldiv, 1)) (ha : 0 ≤ a ∧ a ≤ 9223372036854775807) (hb : 0 < b ∧ b ≤ 9223372036854775807) (kk : G Z k n M (pc + 1) loc (vl (a / b) :: st)) : G Z k n M pc loc (vl b :: vl a :: st) :=
  G.lift (fun _ _ _ _ ls hl w => lv_ldiv C.x C.b d (jv_ne0 hb) (by rw [jv_div ha hb]; exact w)) kk
theorem g_iand (C : gC Z own cc nL rt d0) {x y : Int32} {z : Int} (d : decode cc pc = .ok (.iand, 1)) (e : x &&& y = iv z) (kk : G Z k n M (pc + 1) loc (vi z :: st)) : G Z k n M pc loc (.int y :: .int x :: st) :=
  G.lift (fun _ _ _ _ ls hl w => lv_iand C.x C.b d (by rw [e]; exact w)) kk
theorem g_ior (C : gC Z own cc nL rt d0) {x y : Int32} {z : Int} (d : decode cc pc = .ok (.ior, 1)) (e : x ||| y = iv z) (kk : G Z k n M (pc + 1) loc (vi z :: st)) : G Z k n M pc loc (.int y :: .int x :: st) :=
  G.lift (fun _ _ _ _ ls hl w => lv_ior C.x C.b d (by rw [e]; exact w)) kk
theorem g_ishl (C : gC Z own cc nL rt d0) {x y : Int32} {z : Int} (d : decode cc pc = .ok (.ishl, 1)) (e : x <<< (y &&& 31) = iv z) (kk : G Z k n M (pc + 1) loc (vi z :: st)) : G Z k n M pc loc (.int y :: .int x :: st) :=
  G.lift (fun _ _ _ _ ls hl w => lv_ishl C.x C.b d (by rw [e]; exact w)) kk
theorem g_ishr (C : gC Z own cc nL rt d0) {x y : Int32} {z : Int} (d : decode cc pc = .ok (.ishr, 1)) (e : x >>> (y &&& 31) = iv z) (kk : G Z k n M (pc + 1) loc (vi z :: st)) : G Z k n M pc loc (.int y :: .int x :: st) :=
  G.lift (fun _ _ _ _ ls hl w => lv_ishr C.x C.b d (by rw [e]; exact w)) kk
theorem g_iushr (C : gC Z own cc nL rt d0) {x y : Int32} {z : Int} (d : decode cc pc = .ok (.iushr, 1)) (e : (x.toUInt32 >>> (y.toUInt32 &&& Int32.toUInt32 31)).toInt32 = iv z) (kk : G Z k n M (pc + 1) loc (vi z :: st)) : G Z k n M pc loc (.int y :: .int x :: st) :=
  G.lift (fun _ _ _ _ ls hl w => lv_iushr C.x C.b d e w) kk
theorem g_i2l (C : gC Z own cc nL rt d0) {a : Int} (d : decode cc pc = .ok (.i2l, 1)) (h : r32 a) (kk : G Z k n M (pc + 1) loc (vl a :: st)) : G Z k n M pc loc (vi a :: st) :=
  G.lift (fun _ _ _ _ ls hl w => lv_i2l C.x C.b d (iv_j h) w) kk
theorem g_l2i (C : gC Z own cc nL rt d0) {a : Int} (d : decode cc pc = .ok (.l2i, 1)) (h : r64 a) (kk : G Z k n M (pc + 1) loc (vi a :: st)) : G Z k n M pc loc (vl a :: st) :=
  G.lift (fun _ _ _ _ ls hl w => lv_l2i C.x C.b d (jv_i h) w) kk
theorem g_i2b (C : gC Z own cc nL rt d0) {x : Int32} {z : Int} (d : decode cc pc = .ok (.i2b, 1)) (e : x.toInt8.toInt32 = iv z) (kk : G Z k n M (pc + 1) loc (vi z :: st)) : G Z k n M pc loc (.int x :: st) :=
  G.lift (fun _ _ _ _ ls hl w => lv_i2b C.x C.b d e w) kk
theorem g_i2c (C : gC Z own cc nL rt d0) {x : Int32} {z : Int} (d : decode cc pc = .ok (.i2c, 1)) (e : (x.toUInt32 % 65536).toInt32 = iv z) (kk : G Z k n M (pc + 1) loc (vi z :: st)) : G Z k n M pc loc (.int x :: st) :=
  G.lift (fun _ _ _ _ ls hl w => lv_i2c C.x C.b d e w) kk
theorem g_dup (C : gC Z own cc nL rt d0) {v : Value} (d : decode cc pc = .ok (.dup, 1)) (hv : v.category = 1) (kk : G Z k n M (pc + 1) loc (v :: v :: st)) : G Z k n M pc loc (v :: st) :=
  G.lift (fun _ _ _ _ ls hl w => lv_dup C.x C.b d hv w) kk
theorem g_pop (C : gC Z own cc nL rt d0) {v : Value} (d : decode cc pc = .ok (.pop, 1)) (hv : v.category = 1) (kk : G Z k n M (pc + 1) loc (st)) : G Z k n M pc loc (v :: st) :=
  G.lift (fun _ _ _ _ ls hl w => lv_pop C.x C.b d hv w) kk
theorem g_dup_x1 (C : gC Z own cc nL rt d0) {v u : Value} (d : decode cc pc = .ok (.dup_x1, 1)) (hv : v.category = 1) (hu : u.category = 1) (kk : G Z k n M (pc + 1) loc (v :: u :: v :: st)) : G Z k n M pc loc (v :: u :: st) :=
  G.lift (fun _ _ _ _ ls hl w => lv_dup_x1 C.x C.b d hv hu w) kk
theorem g_dup2 (C : gC Z own cc nL rt d0) {v u : Value} (d : decode cc pc = .ok (.dup2, 1)) (hv : v.category = 1) (hu : u.category = 1) (kk : G Z k n M (pc + 1) loc (v :: u :: v :: u :: st)) : G Z k n M pc loc (v :: u :: st) :=
  G.lift (fun _ _ _ _ ls hl w => lv_dup2_11 C.x C.b d hv hu w) kk
theorem g_null (C : gC Z own cc nL rt d0) (d : decode cc pc = .ok (.aconst_null, 1)) (kk : G Z k n M (pc + 1) loc (.null :: st)) : G Z k n M pc loc (st) :=
  G.lift (fun _ _ _ _ ls hl w => lv_null C.x C.b d w) kk
theorem g_if_eq (C : gC Z own cc nL rt d0) {a : Int} {off : Int} (d : decode cc pc = .ok (.ifCond .eq off, 3)) (tgt : Nat) (ha : r32 a) (ht : (pc : Int) + off = (tgt : Int)) (kt : a = 0 → G Z k n M tgt loc st) (kf : ¬ a = 0 → G Z k n M (pc + 3) loc st) : G Z k n M pc loc (vi a :: st) :=
  fun H locs cells slots ls hA hl => lv_if_eq C.x C.b d ht (fun c => kt ((c0_eq ha).mp c) H locs cells slots ls hA hl) (fun c => kf (nc0_eq ha c) H locs cells slots ls hA hl)
theorem g_if_ne (C : gC Z own cc nL rt d0) {a : Int} {off : Int} (d : decode cc pc = .ok (.ifCond .ne off, 3)) (tgt : Nat) (ha : r32 a) (ht : (pc : Int) + off = (tgt : Int)) (kt : ¬ a = 0 → G Z k n M tgt loc st) (kf : a = 0 → G Z k n M (pc + 3) loc st) : G Z k n M pc loc (vi a :: st) :=
  fun H locs cells slots ls hA hl => lv_if_ne C.x C.b d ht (fun c => kt ((c0_ne ha).mp c) H locs cells slots ls hA hl) (fun c => kf (nc0_ne ha c) H locs cells slots ls hA hl)
theorem g_if_lt (C : gC Z own cc nL rt d0) {a : Int} {off : Int} (d : decode cc pc = .ok (.ifCond .lt off, 3)) (tgt : Nat) (ha : r32 a) (ht : (pc : Int) + off = (tgt : Int)) (kt : a < 0 → G Z k n M tgt loc st) (kf : 0 ≤ a → G Z k n M (pc + 3) loc st) : G Z k n M pc loc (vi a :: st) :=
  fun H locs cells slots ls hA hl => lv_if_lt C.x C.b d ht (fun c => kt ((c0_lt ha).mp c) H locs cells slots ls hA hl) (fun c => kf (nc0_lt ha c) H locs cells slots ls hA hl)
theorem g_if_ge (C : gC Z own cc nL rt d0) {a : Int} {off : Int} (d : decode cc pc = .ok (.ifCond .ge off, 3)) (tgt : Nat) (ha : r32 a) (ht : (pc : Int) + off = (tgt : Int)) (kt : 0 ≤ a → G Z k n M tgt loc st) (kf : a < 0 → G Z k n M (pc + 3) loc st) : G Z k n M pc loc (vi a :: st) :=
  fun H locs cells slots ls hA hl => lv_if_ge C.x C.b d ht (fun c => kt ((c0_ge ha).mp c) H locs cells slots ls hA hl) (fun c => kf (nc0_ge ha c) H locs cells slots ls hA hl)
theorem g_if_gt (C : gC Z own cc nL rt d0) {a : Int} {off : Int} (d : decode cc pc = .ok (.ifCond .gt off, 3)) (tgt : Nat) (ha : r32 a) (ht : (pc : Int) + off = (tgt : Int)) (kt : 0 < a → G Z k n M tgt loc st) (kf : a ≤ 0 → G Z k n M (pc + 3) loc st) : G Z k n M pc loc (vi a :: st) :=
  fun H locs cells slots ls hA hl => lv_if_gt C.x C.b d ht (fun c => kt ((c0_gt ha).mp c) H locs cells slots ls hA hl) (fun c => kf (nc0_gt ha c) H locs cells slots ls hA hl)
theorem g_if_le (C : gC Z own cc nL rt d0) {a : Int} {off : Int} (d : decode cc pc = .ok (.ifCond .le off, 3)) (tgt : Nat) (ha : r32 a) (ht : (pc : Int) + off = (tgt : Int)) (kt : a ≤ 0 → G Z k n M tgt loc st) (kf : 0 < a → G Z k n M (pc + 3) loc st) : G Z k n M pc loc (vi a :: st) :=
  fun H locs cells slots ls hA hl => lv_if_le C.x C.b d ht (fun c => kt ((c0_le ha).mp c) H locs cells slots ls hA hl) (fun c => kf (nc0_le ha c) H locs cells slots ls hA hl)
theorem g_icmp_eq (C : gC Z own cc nL rt d0) {a b : Int} {off : Int} (d : decode cc pc = .ok (.if_icmp .eq off, 3)) (tgt : Nat) (ha : r32 a) (hb : r32 b) (ht : (pc : Int) + off = (tgt : Int)) (kt : a = b → G Z k n M tgt loc st) (kf : ¬ a = b → G Z k n M (pc + 3) loc st) : G Z k n M pc loc (vi b :: vi a :: st) :=
  fun H locs cells slots ls hA hl => lv_icmp_eq C.x C.b d ht (fun c => kt ((c2_eq ha hb).mp c) H locs cells slots ls hA hl) (fun c => kf (nc2_eq ha hb c) H locs cells slots ls hA hl)
theorem g_icmp_ne (C : gC Z own cc nL rt d0) {a b : Int} {off : Int} (d : decode cc pc = .ok (.if_icmp .ne off, 3)) (tgt : Nat) (ha : r32 a) (hb : r32 b) (ht : (pc : Int) + off = (tgt : Int)) (kt : ¬ a = b → G Z k n M tgt loc st) (kf : a = b → G Z k n M (pc + 3) loc st) : G Z k n M pc loc (vi b :: vi a :: st) :=
  fun H locs cells slots ls hA hl => lv_icmp_ne C.x C.b d ht (fun c => kt ((c2_ne ha hb).mp c) H locs cells slots ls hA hl) (fun c => kf (nc2_ne ha hb c) H locs cells slots ls hA hl)
theorem g_icmp_lt (C : gC Z own cc nL rt d0) {a b : Int} {off : Int} (d : decode cc pc = .ok (.if_icmp .lt off, 3)) (tgt : Nat) (ha : r32 a) (hb : r32 b) (ht : (pc : Int) + off = (tgt : Int)) (kt : a < b → G Z k n M tgt loc st) (kf : b ≤ a → G Z k n M (pc + 3) loc st) : G Z k n M pc loc (vi b :: vi a :: st) :=
  fun H locs cells slots ls hA hl => lv_icmp_lt C.x C.b d ht (fun c => kt ((c2_lt ha hb).mp c) H locs cells slots ls hA hl) (fun c => kf (nc2_lt ha hb c) H locs cells slots ls hA hl)
theorem g_icmp_ge (C : gC Z own cc nL rt d0) {a b : Int} {off : Int} (d : decode cc pc = .ok (.if_icmp .ge off, 3)) (tgt : Nat) (ha : r32 a) (hb : r32 b) (ht : (pc : Int) + off = (tgt : Int)) (kt : b ≤ a → G Z k n M tgt loc st) (kf : a < b → G Z k n M (pc + 3) loc st) : G Z k n M pc loc (vi b :: vi a :: st) :=
  fun H locs cells slots ls hA hl => lv_icmp_ge C.x C.b d ht (fun c => kt ((c2_ge ha hb).mp c) H locs cells slots ls hA hl) (fun c => kf (nc2_ge ha hb c) H locs cells slots ls hA hl)
theorem g_icmp_gt (C : gC Z own cc nL rt d0) {a b : Int} {off : Int} (d : decode cc pc = .ok (.if_icmp .gt off, 3)) (tgt : Nat) (ha : r32 a) (hb : r32 b) (ht : (pc : Int) + off = (tgt : Int)) (kt : b < a → G Z k n M tgt loc st) (kf : a ≤ b → G Z k n M (pc + 3) loc st) : G Z k n M pc loc (vi b :: vi a :: st) :=
  fun H locs cells slots ls hA hl => lv_icmp_gt C.x C.b d ht (fun c => kt ((c2_gt ha hb).mp c) H locs cells slots ls hA hl) (fun c => kf (nc2_gt ha hb c) H locs cells slots ls hA hl)
theorem g_icmp_le (C : gC Z own cc nL rt d0) {a b : Int} {off : Int} (d : decode cc pc = .ok (.if_icmp .le off, 3)) (tgt : Nat) (ha : r32 a) (hb : r32 b) (ht : (pc : Int) + off = (tgt : Int)) (kt : a ≤ b → G Z k n M tgt loc st) (kf : b < a → G Z k n M (pc + 3) loc st) : G Z k n M pc loc (vi b :: vi a :: st) :=
  fun H locs cells slots ls hA hl => lv_icmp_le C.x C.b d ht (fun c => kt ((c2_le ha hb).mp c) H locs cells slots ls hA hl) (fun c => kf (nc2_le ha hb c) H locs cells slots ls hA hl)
theorem g_goto (C : gC Z own cc nL rt d0) {off : Int} (d : decode cc pc = .ok (.goto off, 3)) (tgt : Nat) (ht : (pc : Int) + off = (tgt : Int)) (kk : G Z k n M tgt loc st) : G Z k n M pc loc st :=
  G.lift (fun _ _ _ _ ls hl w => lv_goto C.x C.b d ht w) kk
theorem g_acmp_eq (C : gC Z own cc nL rt d0) {rx ry : Option Nat} {off : Int} (d : decode cc pc = .ok (.if_acmp .eq off, 3)) (tgt : Nat) (ht : (pc : Int) + off = (tgt : Int)) (kt : rx = ry → G Z k n M tgt loc st) (kf : ¬ rx = ry → G Z k n M (pc + 3) loc st) : G Z k n M pc loc (va_rf ry :: va_rf rx :: st) :=
  fun H locs cells slots ls hA hl => lv_acmp_eq C.x C.b d ht (fun c => kt c H locs cells slots ls hA hl) (fun c => kf c H locs cells slots ls hA hl)
theorem g_rcmp_eq (C : gC Z own cc nL rt d0) {a b : Nat} {off : Int} (d : decode cc pc = .ok (.if_acmp .eq off, 3)) (tgt : Nat) (ht : (pc : Int) + off = (tgt : Int)) (kt : a = b → G Z k n M tgt loc st) (kf : ¬ a = b → G Z k n M (pc + 3) loc st) : G Z k n M pc loc (.ref b :: .ref a :: st) :=
  g_acmp_eq (rx := some a) (ry := some b) C d tgt ht (fun c => kt (Option.some.inj c)) (fun c => kf (fun e => c (by rw [e])))
theorem g_acmp_ne (C : gC Z own cc nL rt d0) {rx ry : Option Nat} {off : Int} (d : decode cc pc = .ok (.if_acmp .ne off, 3)) (tgt : Nat) (ht : (pc : Int) + off = (tgt : Int)) (kt : ¬ rx = ry → G Z k n M tgt loc st) (kf : rx = ry → G Z k n M (pc + 3) loc st) : G Z k n M pc loc (va_rf ry :: va_rf rx :: st) :=
  fun H locs cells slots ls hA hl => lv_acmp_ne C.x C.b d ht (fun c => kt c H locs cells slots ls hA hl) (fun c => kf c H locs cells slots ls hA hl)
theorem g_rcmp_ne (C : gC Z own cc nL rt d0) {a b : Nat} {off : Int} (d : decode cc pc = .ok (.if_acmp .ne off, 3)) (tgt : Nat) (ht : (pc : Int) + off = (tgt : Int)) (kt : ¬ a = b → G Z k n M tgt loc st) (kf : a = b → G Z k n M (pc + 3) loc st) : G Z k n M pc loc (.ref b :: .ref a :: st) :=
  g_acmp_ne (rx := some a) (ry := some b) C d tgt ht (fun c => kt (fun e => c (by rw [e]))) (fun c => kf (Option.some.inj c))
theorem g_ifnull_r (C : gC Z own cc nL rt d0) {a : Nat} {off : Int} (d : decode cc pc = .ok (.ifnull off, 3)) (kk : G Z k n M (pc + 3) loc st) : G Z k n M pc loc (.ref a :: st) := G.lift (fun _ _ _ _ ls hl w => lv_ifnull C.x C.b d w) kk
theorem g_ifnull_n (C : gC Z own cc nL rt d0) {off : Int} (d : decode cc pc = .ok (.ifnull off, 3)) (tgt : Nat) (ht : (pc : Int) + off = (tgt : Int)) (kk : G Z k n M tgt loc st) : G Z k n M pc loc (.null :: st) := G.lift (fun _ _ _ _ ls hl w => lv_ifnullN C.x C.b d ht w) kk
theorem g_ifnonnull_r (C : gC Z own cc nL rt d0) {a : Nat} {off : Int} (d : decode cc pc = .ok (.ifnonnull off, 3)) (tgt : Nat) (ht : (pc : Int) + off = (tgt : Int)) (kk : G Z k n M tgt loc st) : G Z k n M pc loc (.ref a :: st) := G.lift (fun _ _ _ _ ls hl w => lv_ifnonnull C.x C.b d ht w) kk
theorem g_ifnonnull_n (C : gC Z own cc nL rt d0) {off : Int} (d : decode cc pc = .ok (.ifnonnull off, 3)) (kk : G Z k n M (pc + 3) loc st) : G Z k n M pc loc (.null :: st) := G.lift (fun _ _ _ _ ls hl w => lv_ifnonnullN C.x C.b d w) kk
theorem g_ldc (C : gC Z own cc nL rt d0) {index : Nat} {x : Int32} (d : decode cc pc = .ok (.ldc index, 2)) (q : Jvm.Cond.constant own index x ∈ lw_all) (kk : G Z k n M (pc + 2) loc (.int x :: st)) : G Z k n M pc loc st := G.lift (fun _ _ _ _ ls hl w => lv_ldc C.x C.b C.ow (C.ts _ q) d w) kk
theorem g_ldcw (C : gC Z own cc nL rt d0) {index : Nat} {x : Int32} (d : decode cc pc = .ok (.ldc_w index, 3)) (q : Jvm.Cond.constant own index x ∈ lw_all) (kk : G Z k n M (pc + 3) loc (.int x :: st)) : G Z k n M pc loc st := G.lift (fun _ _ _ _ ls hl w => lv_ldcw C.x C.b C.ow (C.ts _ q) d w) kk
theorem g_ldc2 (C : gC Z own cc nL rt d0) {index : Nat} {x : Int64} (d : decode cc pc = .ok (.ldc2_w index, 3)) (q : Jvm.Cond.constantLong own index x ∈ lw_all) (kk : G Z k n M (pc + 3) loc (.long x :: st)) : G Z k n M pc loc st := G.lift (fun _ _ _ _ ls hl w => lv_ldc2 C.x C.b C.ow (C.ts _ q) d w) kk
theorem g_lcmp (C : gC Z own cc nL rt d0) {a b : Int} (d : decode cc pc = .ok (.lcmp, 1)) (ha : r64 a) (hb : r64 b) (k1 : a < b → G Z k n M (pc + 1) loc (vi (-1) :: st)) (k2 : a = b → G Z k n M (pc + 1) loc (vi 0 :: st)) (k3 : b < a → G Z k n M (pc + 1) loc (vi 1 :: st)) : G Z k n M pc loc (vl b :: vl a :: st) := by
  intro H locs cells slots ls hA hl
  refine W.lcmp C.x C.b d ?_
  have e1 := jv_lt hb ha
  have e2 := jv_eq ha hb
  rcases Int.lt_trichotomy a b with h | h | h
  · rw [show lg_cmp (jv a) (jv b) = iv (-1) from by rw [lg_cmp, if_neg (fun z => by have := e1.mp z; omega), if_neg (fun z => by have := e2.mp z; omega)]; rfl]
    exact k1 h H locs cells slots ls hA hl
  · rw [show lg_cmp (jv a) (jv b) = iv 0 from by rw [lg_cmp, if_neg (fun z => by have := e1.mp z; omega), if_pos (e2.mpr h)]; rfl]
    exact k2 h H locs cells slots ls hA hl
  · rw [show lg_cmp (jv a) (jv b) = iv 1 from by rw [lg_cmp, if_pos (e1.mpr h)]; rfl]
    exact k3 h H locs cells slots ls hA hl
end GROWS
