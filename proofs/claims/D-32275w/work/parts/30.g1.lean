/-! G: THE MACHINE OVER A GHOST HEAP. A ghost heap M names cells: tag and contents; a row of the kit, said once over it. -/
set_option maxRecDepth 100000
/-! ints and longs by the integers behind them -/
def iv (z : Int) : Int32 := Int32.ofInt z
def jv (z : Int) : Int64 := Int64.ofInt z
abbrev vi (z : Int) : Value := .int (iv z)
abbrev vl (z : Int) : Value := .long (jv z)
theorem iv_add (a b : Int) : iv a + iv b = iv (a + b) := (Int32.ofInt_add a b).symm
theorem iv_sub (a b : Int) : iv a - iv b = iv (a - b) := (Int32.ofInt_sub a b).symm
theorem iv_mul (a b : Int) : iv a * iv b = iv (a * b) := (Int32.ofInt_mul a b).symm
theorem iv_neg (a : Int) : -iv a = iv (-a) := (Int32.ofInt_neg a).symm
theorem jv_add (a b : Int) : jv a + jv b = jv (a + b) := (Int64.ofInt_add a b).symm
theorem jv_sub (a b : Int) : jv a - jv b = jv (a - b) := (Int64.ofInt_sub a b).symm
theorem jv_mul (a b : Int) : jv a * jv b = jv (a * b) := (Int64.ofInt_mul a b).symm
def r32 (z : Int) : Prop := -2147483648 ≤ z ∧ z ≤ 2147483647
def r64 (z : Int) : Prop := -9223372036854775808 ≤ z ∧ z ≤ 9223372036854775807
theorem iv_toInt {z : Int} (h : r32 z) : (iv z).toInt = z := Int32.toInt_ofInt_of_le (by have := h.1; omega) (by have := h.2; omega)
theorem jv_toInt {z : Int} (h : r64 z) : (jv z).toInt = z := Int64.toInt_ofInt_of_le (by have := h.1; omega) (by have := h.2; omega)
theorem iv_self (x : Int32) : iv x.toInt = x := Int32.ofInt_toInt x
theorem iv_any (x : Int32) : ∃ z : Int, r32 z ∧ x = iv z := ⟨x.toInt, ⟨by have := x.le_toInt; omega, by have := x.toInt_lt; omega⟩, (iv_self x).symm⟩
theorem iv_eq {a b : Int} (ha : r32 a) (hb : r32 b) : iv a = iv b ↔ a = b := ⟨fun h => by have := congrArg Int32.toInt h; rwa [iv_toInt ha, iv_toInt hb] at this, fun h => by rw [h]⟩
theorem iv_le {a b : Int} (ha : r32 a) (hb : r32 b) : iv a ≤ iv b ↔ a ≤ b := by rw [Int32.le_iff_toInt_le, iv_toInt ha, iv_toInt hb]
theorem iv_lt {a b : Int} (ha : r32 a) (hb : r32 b) : iv a < iv b ↔ a < b := by rw [Int32.lt_iff_toInt_lt, iv_toInt ha, iv_toInt hb]
theorem jv_eq {a b : Int} (ha : r64 a) (hb : r64 b) : jv a = jv b ↔ a = b := ⟨fun h => by have := congrArg Int64.toInt h; rwa [jv_toInt ha, jv_toInt hb] at this, fun h => by rw [h]⟩
theorem jv_le {a b : Int} (ha : r64 a) (hb : r64 b) : jv a ≤ jv b ↔ a ≤ b := by rw [Int64.le_iff_toInt_le, jv_toInt ha, jv_toInt hb]
theorem jv_lt {a b : Int} (ha : r64 a) (hb : r64 b) : jv a < jv b ↔ a < b := by rw [Int64.lt_iff_toInt_lt, jv_toInt ha, jv_toInt hb]
theorem iv_j {a : Int} (ha : r32 a) : (iv a).toInt64 = jv a := Int64.toInt_inj.mp (by rw [Int32.toInt_toInt64, iv_toInt ha, jv_toInt ⟨by have := ha.1; omega, by have := ha.2; omega⟩])
theorem jv_i {a : Int} (ha : r64 a) : (jv a).toInt32 = iv a := Int32.toInt_inj.mp (by rw [Int64.toInt_toInt32, jv_toInt ha, iv, Int32.toInt_ofInt])
theorem iv_div {a b : Int} (ha : 0 ≤ a ∧ a ≤ 2147483647) (hb : 0 < b ∧ b ≤ 2147483647) : iv a / iv b = iv (a / b) := by
  refine Int32.toInt_inj.mp ?_
  have h1 : (iv a).toInt = a := iv_toInt ⟨by omega, ha.2⟩
  have h2 : (iv b).toInt = b := iv_toInt ⟨by omega, hb.2⟩
  have h3 : 0 ≤ a / b := Int.ediv_nonneg ha.1 (by omega)
  have h4 : a / b ≤ a := Int.ediv_le_self _ ha.1
  rw [Int32.toInt_div, h1, h2, Int.tdiv_eq_ediv_of_nonneg ha.1, iv_toInt ⟨by omega, by omega⟩]
  exact Int.bmod_eq_of_le (by simp [Int32.size]; omega) (by simp [Int32.size]; omega)
theorem iv_rem {a b : Int} (ha : 0 ≤ a ∧ a ≤ 2147483647) (hb : 0 < b ∧ b ≤ 2147483647) : iv a - iv a / iv b * iv b = iv (a % b) := by
  rw [iv_div ha hb, iv_mul, iv_sub]
  congr 1
  have := Int.mul_ediv_add_emod a b
  have e : a / b * b = b * (a / b) := Int.mul_comm _ _
  omega
theorem jv_div {a b : Int} (ha : 0 ≤ a ∧ a ≤ 9223372036854775807) (hb : 0 < b ∧ b ≤ 9223372036854775807) : jv a / jv b = jv (a / b) := by
  refine Int64.toInt_inj.mp ?_
  have h1 : (jv a).toInt = a := jv_toInt ⟨by omega, ha.2⟩
  have h2 : (jv b).toInt = b := jv_toInt ⟨by omega, hb.2⟩
  have h3 : 0 ≤ a / b := Int.ediv_nonneg ha.1 (by omega)
  have h4 : a / b ≤ a := Int.ediv_le_self _ ha.1
  rw [Int64.toInt_div, h1, h2, Int.tdiv_eq_ediv_of_nonneg ha.1, jv_toInt ⟨by omega, by omega⟩]
  exact Int.bmod_eq_of_le (by simp [Int64.size]; omega) (by simp [Int64.size]; omega)
theorem iv_cl {z : Int} (h : 0 ≤ z ∧ z ≤ 2147483647) : (iv z).toNatClampNeg = z.toNat := by
  rw [Int32.toNatClampNeg, iv_toInt ⟨by omega, h.2⟩]
theorem iv_in {z : Int} {n : Nat} (h : 0 ≤ z ∧ z < n) (hz : z ≤ 2147483647) : vp_in (iv z) n := by
  rw [vp_in_iff, iv_toInt ⟨by omega, hz⟩]
  exact h
theorem iv_nat (n : Nat) : nI n = iv n := by
  show Int32.ofNat n = Int32.ofInt n
  exact Int32.ofInt_eq_ofNat.symm
theorem jv_nat (n : Nat) : lN n = jv n := by
  show Int64.ofNat n = Int64.ofInt n
  exact Int64.ofInt_eq_ofNat.symm
/-! the ghost heap -/
abbrev gEnt : Type := (Nat × vp_A) ⊕ (Nat × List Value)
abbrev gM : Type := Nat → Option (Nat × gEnt)
/-- classes' numbers and slots; array classes; the heap at the law's entry; its constant cells; their places -/
abbrev gE : Type := va_G × (Nat → ClassId) × Heap × (Nat → Option gEnt) × (Nat → Nat)
/-- an object: its class's number, its fields; an array: its type's number, length, contents -/
abbrev gO (ci : Nat) (fs : List Value) : gEnt := .inr (ci, fs)
abbrev gI (ti n : Nat) (f : Nat → Int) : gEnt := .inl (ti, n, .inl (fun j => iv (f j)))
abbrev gJ (ti n : Nat) (f : Nat → Int) : gEnt := .inl (ti, n, .inr (.inl (fun j => jv (f j))))
abbrev gR (ti n : Nat) (f : Nat → Option Nat) : gEnt := .inl (ti, n, .inr (.inr (.inr (.inr f))))
def gIn (E : gE) (x : gEnt) : va_E := match x with
  | .inl t => .inl (E.2.1 t.1, t.2)
  | .inr o => .inr o
def gSet (M : gM) (a : Nat) (x : Nat × gEnt) : gM := fun b => if b = a then some x else M b
theorem gSet_s (M : gM) (a : Nat) (x : Nat × gEnt) : gSet M a x a = some x := if_pos rfl
theorem gSet_n (M : gM) {a b : Nat} (x : Nat × gEnt) (h : b ≠ a) : gSet M a x b = M b := if_neg h
/-- cells that are there stay, but those of a tag in T -/
def gExt (T : Nat → Prop) (M M1 : gM) : Prop := ∀ (a : Nat) (x : Nat × gEnt), M a = some x → ¬ T x.1 → M1 a = some x
abbrev gNo : Nat → Prop := fun _ => False
abbrev gT1 (t : Nat) : Nat → Prop := fun u => u = t
theorem gExt.rf {T : Nat → Prop} {M : gM} : gExt T M M := fun _ _ h _ => h
theorem gExt.tr {T : Nat → Prop} {M M1 M2 : gM} (h1 : gExt T M M1) (h2 : gExt T M1 M2) : gExt T M M2 := fun a x h n => h2 a x (h1 a x h n) n
theorem gExt.mono {T T' : Nat → Prop} {M M1 : gM} (h : gExt T M M1) (hT : ∀ t, T t → T' t) : gExt T' M M1 := fun a x e n => h a x e (fun z => n (hT _ z))
theorem gExt.new {T : Nat → Prop} {M : gM} {q : Nat} {x : Nat × gEnt} (h : M q = none) : gExt T M (gSet M q x) := fun a y e _ => by
  rw [gSet_n _ _ (fun z => by rw [z, h] at e; cases e)]; exact e
theorem gExt.put {T : Nat → Prop} {M : gM} {q t : Nat} {y : gEnt} {x : Nat × gEnt} (h : M q = some (t, y)) (ht : T t) : gExt T M (gSet M q x) := fun a z e n => by
  rw [gSet_n _ _ (fun w => by rw [w, h] at e; cases e; exact n ht)]; exact e
/-- two cells that differ in tag or contents lie apart -/
theorem g_ne {M : gM} {a b : Nat} {x y : Nat × gEnt} (h : M a = some x) (h2 : M b = some y) (n : x ≠ y) : a ≠ b := fun e => n (by rw [e, h2] at h; exact (Option.some.inj h).symm)
theorem g_ne_t {M : gM} {a b : Nat} {x y : Nat × gEnt} (h : M a = some x) (h2 : M b = some y) (n : x.1 ≠ y.1) : a ≠ b := g_ne h h2 (fun e => n (by rw [e]))
theorem g_ne_new {M : gM} {a b : Nat} {x : Nat × gEnt} (h : M a = some x) (h2 : M b = none) : a ≠ b := fun e => by rw [e, h2] at h; cases h
/-! the classes, by number -/
def gCl : List vw_C := [(RX1, TX1, 7), (RX4, TX4, 8), (RX11, TX11, 7), (RX5, TX5, 7), (RX2, TX2, 7), (RX7, TX7, 3), (RX8, TX8, 7), (RX9, TX9, 7), (RX10, TX10, 6), (RJ2, TJ2, 3), (RJ8, TJ8, 4), (RJ9, TJ9, 4), (RX3, TX3, 29)]
/-- array types by number: 0 int, 1 byte, 2 boolean, 3 char, 4 long, 5 Object, 6 Figure, 7 String, 8 int[] -/
def gTys (E : gE) : List (ClassId × FieldType) := [(E.2.1 0, .int), (E.2.1 1, .byte), (E.2.1 2, .boolean), (E.2.1 3, .char), (E.2.1 4, .long), (E.2.1 5, .object "java/lang/Object"), (E.2.1 6, .object "Appealrent$Figure"), (E.2.1 7, .object "java/lang/String"), (E.2.1 8, .array .int)]
