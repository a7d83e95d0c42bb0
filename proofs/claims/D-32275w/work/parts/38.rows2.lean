/-! switches; arrays of arrays -/
set_option maxRecDepth 100000
section
variable {Z : gZ} {own : String} {cc : ByteArray} {nL : Nat} {rt : Option FieldType} {d0 k n pc a t index : Nat} {M : gM} {loc : List (Nat × Value)} {st : List Value}
theorem g_tsw (C : gC Z own cc nL rt d0) {dflt lo hi off : Int} {offs : Array Int} {len : Nat} (z : Int) (hz : r32 z) (d : decode cc pc = .ok (.tableswitch dflt lo hi offs, len)) (tgt : Nat) (ho : offs[(z - lo).toNat]? = some off) (h : lo ≤ z ∧ z ≤ hi) (ht : (pc : Int) + off = (tgt : Int)) (kk : G Z k n M tgt loc st) : G Z k n M pc loc (vi z :: st) :=
  G.lift (fun _ _ _ _ ls _ w => lv_tableIn C.x C.b d (by rw [iv_toInt hz]; omega) (by rw [iv_toInt hz]; omega) (by rw [iv_toInt hz]; exact ho) ht w) kk
theorem g_tswd (C : gC Z own cc nL rt d0) {dflt lo hi : Int} {offs : Array Int} {len : Nat} {z : Int} (hz : r32 z) (d : decode cc pc = .ok (.tableswitch dflt lo hi offs, len)) (tgt : Nat) (h : z < lo ∨ hi < z) (ht : (pc : Int) + dflt = (tgt : Int)) (kk : G Z k n M tgt loc st) : G Z k n M pc loc (vi z :: st) :=
  G.lift (fun _ _ _ _ ls _ w => lv_tableOut C.x C.b d (by rw [iv_toInt hz]; exact h) ht w) kk
theorem g_aaldA (C : gC Z own cc nL rt d0) {ti m : Nat} {tf : FieldType} {f : Nat → Option Nat} {i : Int} (d : decode cc pc = .ok (.aaload, 1)) (hM : M a = some (t, gR ti m f)) (hti : ∀ E : gE, (gTys E)[ti]? = some (E.2.1 ti, .array tf)) (j : Nat) (hi : i = j) (hj : j < m) (hb : m ≤ 2147483647) (kk : G Z k n M (pc + 1) loc (va_rf (f j) :: st)) : G Z k n M pc loc (vi i :: .ref a :: st) := by
  subst hi
  intro H locs cells slots ls hA hl
  have hin : vp_in (iv (j : Int)) m := iv_in ⟨by omega, by omega⟩ (by omega)
  have hlt : (iv (j : Int)).toNatClampNeg < m := Nat.not_le.mp fun q => hin (Or.inr q)
  refine W.aald (v := va_rf (f (iv (j : Int)).toNatClampNeg)) (ty := .array tf) C.x C.b ((hA.P hM) 0 _ rfl) ((C.K.2 ti _ (hti Z.1)).1 m (fun j => va_rf (f j))) rfl (fun q => by cases q) (by show ¬ (iv (j : Int) < 0 ∨ (arrV _ _ _).slots.size ≤ _); rw [arrV_size]; exact hin) (by show (arrV _ _ _).slots[_]? = _; rw [arrV_read _ _ hlt]) rfl rfl d ?_
  rw [iv_cl ⟨by omega, by omega⟩]
  exact kk H locs cells slots ls hA hl
/-- a static reference of which nothing is asked -/
theorem g_getsQ (C : gC Z own cc nL rt d0) {ref : String} (dd : decode cc pc = .ok (.getstatic index, 3)) (q : Cond.fieldLink own index ref "SIOOBE_FORMATTER" "Ljava/util/function/BiFunction;" ∈ lw_all) (hsame : ∀ x, (gZs' Z).fieldFound? "jdk/internal/util/Preconditions" "SIOOBE_FORMATTER" "Ljava/util/function/BiFunction;" = some x → (gZs' Z).fieldFound? ref "SIOOBE_FORMATTER" "Ljava/util/function/BiFunction;" = some x) (k0 : G Z k n M (pc + 3) loc (.null :: st)) (k1 : ∀ a : Nat, G Z k n M (pc + 3) loc (.ref a :: st)) : G Z k n M pc loc st := by
  rcases C.2.2.1.kd.1 with h | ⟨a, h⟩
  · exact fun H locs cells slots ls hA hl => va_gets C.x C.b (h.kept (fun q h1 _ => C.2.2.2.1.2 q h1)) (hA.S C) C.ow (C.ts _ q) hsame dd (k0 H locs cells slots ls hA hl)
  · exact fun H locs cells slots ls hA hl => va_gets C.x C.b (h.kept (fun q h1 _ => C.2.2.2.1.2 q h1)) (hA.S C) C.ow (C.ts _ q) hsame dd (k1 a H locs cells slots ls hA hl)
end
