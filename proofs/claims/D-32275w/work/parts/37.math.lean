/-! Math.min, Math.max: the machine has its own -/
set_option maxRecDepth 100000
section
variable {Z : gZ} {own : String} {cc : ByteArray} {nL : Nat} {rt : Option FieldType} {d0 k n pc index : Nat} {M : gM} {loc : List (Nat × Value)} {st : List Value}
theorem g_mmax (C : gC Z own cc nL rt d0) {a b : Int} (dd : decode cc pc = .ok (.invokestatic index, 3)) (ha : r32 a) (hb : r32 b) (q1 : Cond.methodLink own index Lib.Math.max.name ∈ lw_all) (hd : 0 < d0) (hr : (st.map fun v => v.category).sum ≤ 8) (kk : G Z k n M (pc + 3) loc (vi (max a b) :: st)) : G Z k n M pc loc (vi b :: vi a :: st) := by
  intro H locs cells slots ls hA hl
  refine va_mmax C.x C.b hl.1.symm C.ow (C.ts _ q1) (C.ts _ q237) (C.ts _ q85) (C.ts _ q238) (by have := C.fr.1; omega) (by have := C.fr.2; omega) (by have := hA.2.2.2.1; omega) (by have := hA.2.2.2.2; omega) dd ?_
  have e : (if iv a < iv b then iv b else iv a) = iv (max a b) := by
    have h := iv_lt ha hb
    split
    · rename_i z; have := h.mp z; congr 1; omega
    · rename_i z; have := mt h.mpr z; congr 1; omega
  rw [e]
  exact kk H locs cells slots ls hA hl
theorem g_mmin (C : gC Z own cc nL rt d0) {a b : Int} (dd : decode cc pc = .ok (.invokestatic index, 3)) (ha : r32 a) (hb : r32 b) (q1 : Cond.methodLink own index Lib.Math.min.name ∈ lw_all) (hd : 0 < d0) (hr : (st.map fun v => v.category).sum ≤ 8) (kk : G Z k n M (pc + 3) loc (vi (min a b) :: st)) : G Z k n M pc loc (vi b :: vi a :: st) := by
  intro H locs cells slots ls hA hl
  refine va_mmin C.x C.b hl.1.symm C.ow (C.ts _ q1) (C.ts _ q255) (C.ts _ q85) (C.ts _ q256) (by have := C.fr.1; omega) (by have := C.fr.2; omega) (by have := hA.2.2.2.1; omega) (by have := hA.2.2.2.2; omega) dd ?_
  have e : (if iv b < iv a then iv b else iv a) = iv (min a b) := by
    have h := iv_lt hb ha
    split
    · rename_i z; have := h.mp z; congr 1; omega
    · rename_i z; have := mt h.mpr z; congr 1; omega
  rw [e]
  exact kk H locs cells slots ls hA hl
theorem g_mmaxl (C : gC Z own cc nL rt d0) {a b : Int} (dd : decode cc pc = .ok (.invokestatic index, 3)) (ha : r64 a) (hb : r64 b) (q1 : Cond.methodLink own index Lib.MathLoose.max_long.x ∈ lw_all) (hd : 0 < d0) (hr : (st.map fun v => v.category).sum ≤ 8) (kk : G Z k n M (pc + 3) loc (vl (max a b) :: st)) : G Z k n M pc loc (vl b :: vl a :: st) := by
  intro H locs cells slots ls hA hl
  refine va_mmax_long C.x C.b hl.1.symm C.ow (C.ts _ q1) (C.ts _ q763) (C.ts _ q85) (C.ts _ q764) (by have := C.fr.1; omega) (by have := C.fr.2; omega) (by have := hA.2.2.2.1; omega) (by have := hA.2.2.2.2; omega) dd ?_
  have e : (if jv b < jv a then jv a else jv b) = jv (max a b) := by
    have h := jv_lt hb ha
    split
    · rename_i z; have := h.mp z; congr 1; omega
    · rename_i z; have := mt h.mpr z; congr 1; omega
  rw [e]
  exact kk H locs cells slots ls hA hl
theorem g_mminl (C : gC Z own cc nL rt d0) {a b : Int} (dd : decode cc pc = .ok (.invokestatic index, 3)) (ha : r64 a) (hb : r64 b) (q1 : Cond.methodLink own index Lib.MathLoose.min_long.x ∈ lw_all) (hd : 0 < d0) (hr : (st.map fun v => v.category).sum ≤ 8) (kk : G Z k n M (pc + 3) loc (vl (min a b) :: st)) : G Z k n M pc loc (vl b :: vl a :: st) := by
  intro H locs cells slots ls hA hl
  refine va_mmin_long C.x C.b hl.1.symm C.ow (C.ts _ q1) (C.ts _ q759) (C.ts _ q85) (C.ts _ q760) (by have := C.fr.1; omega) (by have := C.fr.2; omega) (by have := hA.2.2.2.1; omega) (by have := hA.2.2.2.2; omega) dd ?_
  have e : (if jv b < jv a then jv b else jv a) = jv (min a b) := by
    have h := jv_lt hb ha
    split
    · rename_i z; have := h.mp z; congr 1; omega
    · rename_i z; have := mt h.mpr z; congr 1; omega
  rw [e]
  exact kk H locs cells slots ls hA hl
end
