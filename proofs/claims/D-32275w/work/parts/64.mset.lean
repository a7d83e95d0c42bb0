/-! AppealrentModel: writes to its rows; what changes little -/
set_option maxRecDepth 100000
section
variable {E : gE} {l : Launch} {M M1 : gM} {A : Nat → Nat} {s s1 : gS} {t t1 : Int}
theorem RM.w1 (hR : RM A M s t) {i : Nat} {v : Int} (e : gSet M (A 1) (101, gI 0 10 (gUp (s 1) i v)) = M1) : RM A M1 (up s 1 i v) t := by
  obtain ⟨hm, h1, h2, h3, h4, h5, h6, h7, h10, h11, h12, h13, h14, h15, h17, h18, h19, h20, h23, h24⟩ := hR
  exact ⟨g_fr_t e hm h1 (by decide), g_at e, g_fr_t e h2 h1 (by decide), g_fr_t e h3 h1 (by decide), g_fr_t e h4 h1 (by decide), g_fr_t e h5 h1 (by decide), g_fr_t e h6 h1 (by decide), g_fr_t e h7 h1 (by decide), g_fr_t e h10 h1 (by decide), g_fr_t e h11 h1 (by decide), g_fr_t e h12 h1 (by decide), g_fr_t e h13 h1 (by decide), g_fr_t e h14 h1 (by decide), g_fr_t e h15 h1 (by decide), g_fr_t e h17 h1 (by decide), g_fr_t e h18 h1 (by decide), g_fr_t e h19 h1 (by decide), g_fr_t e h20 h1 (by decide), g_fr_t e h23 h1 (by decide), g_fr_t e h24 h1 (by decide)⟩
theorem RM.w2 (hR : RM A M s t) {i : Nat} {v : Int} (e : gSet M (A 2) (102, gI 0 10 (gUp (s 2) i v)) = M1) : RM A M1 (up s 2 i v) t := by
  obtain ⟨hm, h1, h2, h3, h4, h5, h6, h7, h10, h11, h12, h13, h14, h15, h17, h18, h19, h20, h23, h24⟩ := hR
  exact ⟨g_fr_t e hm h2 (by decide), g_fr_t e h1 h2 (by decide), g_at e, g_fr_t e h3 h2 (by decide), g_fr_t e h4 h2 (by decide), g_fr_t e h5 h2 (by decide), g_fr_t e h6 h2 (by decide), g_fr_t e h7 h2 (by decide), g_fr_t e h10 h2 (by decide), g_fr_t e h11 h2 (by decide), g_fr_t e h12 h2 (by decide), g_fr_t e h13 h2 (by decide), g_fr_t e h14 h2 (by decide), g_fr_t e h15 h2 (by decide), g_fr_t e h17 h2 (by decide), g_fr_t e h18 h2 (by decide), g_fr_t e h19 h2 (by decide), g_fr_t e h20 h2 (by decide), g_fr_t e h23 h2 (by decide), g_fr_t e h24 h2 (by decide)⟩
theorem RM.w3 (hR : RM A M s t) {i : Nat} {v : Int} (e : gSet M (A 3) (103, gI 0 10 (gUp (s 3) i v)) = M1) : RM A M1 (up s 3 i v) t := by
  obtain ⟨hm, h1, h2, h3, h4, h5, h6, h7, h10, h11, h12, h13, h14, h15, h17, h18, h19, h20, h23, h24⟩ := hR
  exact ⟨g_fr_t e hm h3 (by decide), g_fr_t e h1 h3 (by decide), g_fr_t e h2 h3 (by decide), g_at e, g_fr_t e h4 h3 (by decide), g_fr_t e h5 h3 (by decide), g_fr_t e h6 h3 (by decide), g_fr_t e h7 h3 (by decide), g_fr_t e h10 h3 (by decide), g_fr_t e h11 h3 (by decide), g_fr_t e h12 h3 (by decide), g_fr_t e h13 h3 (by decide), g_fr_t e h14 h3 (by decide), g_fr_t e h15 h3 (by decide), g_fr_t e h17 h3 (by decide), g_fr_t e h18 h3 (by decide), g_fr_t e h19 h3 (by decide), g_fr_t e h20 h3 (by decide), g_fr_t e h23 h3 (by decide), g_fr_t e h24 h3 (by decide)⟩
theorem RM.w4 (hR : RM A M s t) {i : Nat} {v : Int} (e : gSet M (A 4) (104, gI 0 10 (gUp (s 4) i v)) = M1) : RM A M1 (up s 4 i v) t := by
  obtain ⟨hm, h1, h2, h3, h4, h5, h6, h7, h10, h11, h12, h13, h14, h15, h17, h18, h19, h20, h23, h24⟩ := hR
  exact ⟨g_fr_t e hm h4 (by decide), g_fr_t e h1 h4 (by decide), g_fr_t e h2 h4 (by decide), g_fr_t e h3 h4 (by decide), g_at e, g_fr_t e h5 h4 (by decide), g_fr_t e h6 h4 (by decide), g_fr_t e h7 h4 (by decide), g_fr_t e h10 h4 (by decide), g_fr_t e h11 h4 (by decide), g_fr_t e h12 h4 (by decide), g_fr_t e h13 h4 (by decide), g_fr_t e h14 h4 (by decide), g_fr_t e h15 h4 (by decide), g_fr_t e h17 h4 (by decide), g_fr_t e h18 h4 (by decide), g_fr_t e h19 h4 (by decide), g_fr_t e h20 h4 (by decide), g_fr_t e h23 h4 (by decide), g_fr_t e h24 h4 (by decide)⟩
theorem RM.w5 (hR : RM A M s t) {i : Nat} {v : Int} (e : gSet M (A 5) (105, gI 0 10 (gUp (s 5) i v)) = M1) : RM A M1 (up s 5 i v) t := by
  obtain ⟨hm, h1, h2, h3, h4, h5, h6, h7, h10, h11, h12, h13, h14, h15, h17, h18, h19, h20, h23, h24⟩ := hR
  exact ⟨g_fr_t e hm h5 (by decide), g_fr_t e h1 h5 (by decide), g_fr_t e h2 h5 (by decide), g_fr_t e h3 h5 (by decide), g_fr_t e h4 h5 (by decide), g_at e, g_fr_t e h6 h5 (by decide), g_fr_t e h7 h5 (by decide), g_fr_t e h10 h5 (by decide), g_fr_t e h11 h5 (by decide), g_fr_t e h12 h5 (by decide), g_fr_t e h13 h5 (by decide), g_fr_t e h14 h5 (by decide), g_fr_t e h15 h5 (by decide), g_fr_t e h17 h5 (by decide), g_fr_t e h18 h5 (by decide), g_fr_t e h19 h5 (by decide), g_fr_t e h20 h5 (by decide), g_fr_t e h23 h5 (by decide), g_fr_t e h24 h5 (by decide)⟩
theorem RM.w6 (hR : RM A M s t) {i : Nat} {v : Int} (e : gSet M (A 6) (106, gI 0 510 (gUp (s 6) i v)) = M1) : RM A M1 (up s 6 i v) t := by
  obtain ⟨hm, h1, h2, h3, h4, h5, h6, h7, h10, h11, h12, h13, h14, h15, h17, h18, h19, h20, h23, h24⟩ := hR
  exact ⟨g_fr_t e hm h6 (by decide), g_fr_t e h1 h6 (by decide), g_fr_t e h2 h6 (by decide), g_fr_t e h3 h6 (by decide), g_fr_t e h4 h6 (by decide), g_fr_t e h5 h6 (by decide), g_at e, g_fr_t e h7 h6 (by decide), g_fr_t e h10 h6 (by decide), g_fr_t e h11 h6 (by decide), g_fr_t e h12 h6 (by decide), g_fr_t e h13 h6 (by decide), g_fr_t e h14 h6 (by decide), g_fr_t e h15 h6 (by decide), g_fr_t e h17 h6 (by decide), g_fr_t e h18 h6 (by decide), g_fr_t e h19 h6 (by decide), g_fr_t e h20 h6 (by decide), g_fr_t e h23 h6 (by decide), g_fr_t e h24 h6 (by decide)⟩
theorem RM.w7 (hR : RM A M s t) {i : Nat} {v : Int} (e : gSet M (A 7) (107, gI 0 510 (gUp (s 7) i v)) = M1) : RM A M1 (up s 7 i v) t := by
  obtain ⟨hm, h1, h2, h3, h4, h5, h6, h7, h10, h11, h12, h13, h14, h15, h17, h18, h19, h20, h23, h24⟩ := hR
  exact ⟨g_fr_t e hm h7 (by decide), g_fr_t e h1 h7 (by decide), g_fr_t e h2 h7 (by decide), g_fr_t e h3 h7 (by decide), g_fr_t e h4 h7 (by decide), g_fr_t e h5 h7 (by decide), g_fr_t e h6 h7 (by decide), g_at e, g_fr_t e h10 h7 (by decide), g_fr_t e h11 h7 (by decide), g_fr_t e h12 h7 (by decide), g_fr_t e h13 h7 (by decide), g_fr_t e h14 h7 (by decide), g_fr_t e h15 h7 (by decide), g_fr_t e h17 h7 (by decide), g_fr_t e h18 h7 (by decide), g_fr_t e h19 h7 (by decide), g_fr_t e h20 h7 (by decide), g_fr_t e h23 h7 (by decide), g_fr_t e h24 h7 (by decide)⟩
theorem RM.w10 (hR : RM A M s t) {i : Nat} {v : Int} (e : gSet M (A 10) (110, gI 0 60 (gUp (s 10) i v)) = M1) : RM A M1 (up s 10 i v) t := by
  obtain ⟨hm, h1, h2, h3, h4, h5, h6, h7, h10, h11, h12, h13, h14, h15, h17, h18, h19, h20, h23, h24⟩ := hR
  exact ⟨g_fr_t e hm h10 (by decide), g_fr_t e h1 h10 (by decide), g_fr_t e h2 h10 (by decide), g_fr_t e h3 h10 (by decide), g_fr_t e h4 h10 (by decide), g_fr_t e h5 h10 (by decide), g_fr_t e h6 h10 (by decide), g_fr_t e h7 h10 (by decide), g_at e, g_fr_t e h11 h10 (by decide), g_fr_t e h12 h10 (by decide), g_fr_t e h13 h10 (by decide), g_fr_t e h14 h10 (by decide), g_fr_t e h15 h10 (by decide), g_fr_t e h17 h10 (by decide), g_fr_t e h18 h10 (by decide), g_fr_t e h19 h10 (by decide), g_fr_t e h20 h10 (by decide), g_fr_t e h23 h10 (by decide), g_fr_t e h24 h10 (by decide)⟩
theorem RM.w11 (hR : RM A M s t) {i : Nat} {v : Int} (e : gSet M (A 11) (111, gI 0 60 (gUp (s 11) i v)) = M1) : RM A M1 (up s 11 i v) t := by
  obtain ⟨hm, h1, h2, h3, h4, h5, h6, h7, h10, h11, h12, h13, h14, h15, h17, h18, h19, h20, h23, h24⟩ := hR
  exact ⟨g_fr_t e hm h11 (by decide), g_fr_t e h1 h11 (by decide), g_fr_t e h2 h11 (by decide), g_fr_t e h3 h11 (by decide), g_fr_t e h4 h11 (by decide), g_fr_t e h5 h11 (by decide), g_fr_t e h6 h11 (by decide), g_fr_t e h7 h11 (by decide), g_fr_t e h10 h11 (by decide), g_at e, g_fr_t e h12 h11 (by decide), g_fr_t e h13 h11 (by decide), g_fr_t e h14 h11 (by decide), g_fr_t e h15 h11 (by decide), g_fr_t e h17 h11 (by decide), g_fr_t e h18 h11 (by decide), g_fr_t e h19 h11 (by decide), g_fr_t e h20 h11 (by decide), g_fr_t e h23 h11 (by decide), g_fr_t e h24 h11 (by decide)⟩
theorem RM.w12 (hR : RM A M s t) {i : Nat} {v : Int} (e : gSet M (A 12) (112, gI 0 60 (gUp (s 12) i v)) = M1) : RM A M1 (up s 12 i v) t := by
  obtain ⟨hm, h1, h2, h3, h4, h5, h6, h7, h10, h11, h12, h13, h14, h15, h17, h18, h19, h20, h23, h24⟩ := hR
  exact ⟨g_fr_t e hm h12 (by decide), g_fr_t e h1 h12 (by decide), g_fr_t e h2 h12 (by decide), g_fr_t e h3 h12 (by decide), g_fr_t e h4 h12 (by decide), g_fr_t e h5 h12 (by decide), g_fr_t e h6 h12 (by decide), g_fr_t e h7 h12 (by decide), g_fr_t e h10 h12 (by decide), g_fr_t e h11 h12 (by decide), g_at e, g_fr_t e h13 h12 (by decide), g_fr_t e h14 h12 (by decide), g_fr_t e h15 h12 (by decide), g_fr_t e h17 h12 (by decide), g_fr_t e h18 h12 (by decide), g_fr_t e h19 h12 (by decide), g_fr_t e h20 h12 (by decide), g_fr_t e h23 h12 (by decide), g_fr_t e h24 h12 (by decide)⟩
theorem RM.w13 (hR : RM A M s t) {i : Nat} {v : Int} (e : gSet M (A 13) (113, gI 0 60 (gUp (s 13) i v)) = M1) : RM A M1 (up s 13 i v) t := by
  obtain ⟨hm, h1, h2, h3, h4, h5, h6, h7, h10, h11, h12, h13, h14, h15, h17, h18, h19, h20, h23, h24⟩ := hR
  exact ⟨g_fr_t e hm h13 (by decide), g_fr_t e h1 h13 (by decide), g_fr_t e h2 h13 (by decide), g_fr_t e h3 h13 (by decide), g_fr_t e h4 h13 (by decide), g_fr_t e h5 h13 (by decide), g_fr_t e h6 h13 (by decide), g_fr_t e h7 h13 (by decide), g_fr_t e h10 h13 (by decide), g_fr_t e h11 h13 (by decide), g_fr_t e h12 h13 (by decide), g_at e, g_fr_t e h14 h13 (by decide), g_fr_t e h15 h13 (by decide), g_fr_t e h17 h13 (by decide), g_fr_t e h18 h13 (by decide), g_fr_t e h19 h13 (by decide), g_fr_t e h20 h13 (by decide), g_fr_t e h23 h13 (by decide), g_fr_t e h24 h13 (by decide)⟩
theorem RM.w14 (hR : RM A M s t) {i : Nat} {v : Int} (e : gSet M (A 14) (114, gI 0 60 (gUp (s 14) i v)) = M1) : RM A M1 (up s 14 i v) t := by
  obtain ⟨hm, h1, h2, h3, h4, h5, h6, h7, h10, h11, h12, h13, h14, h15, h17, h18, h19, h20, h23, h24⟩ := hR
  exact ⟨g_fr_t e hm h14 (by decide), g_fr_t e h1 h14 (by decide), g_fr_t e h2 h14 (by decide), g_fr_t e h3 h14 (by decide), g_fr_t e h4 h14 (by decide), g_fr_t e h5 h14 (by decide), g_fr_t e h6 h14 (by decide), g_fr_t e h7 h14 (by decide), g_fr_t e h10 h14 (by decide), g_fr_t e h11 h14 (by decide), g_fr_t e h12 h14 (by decide), g_fr_t e h13 h14 (by decide), g_at e, g_fr_t e h15 h14 (by decide), g_fr_t e h17 h14 (by decide), g_fr_t e h18 h14 (by decide), g_fr_t e h19 h14 (by decide), g_fr_t e h20 h14 (by decide), g_fr_t e h23 h14 (by decide), g_fr_t e h24 h14 (by decide)⟩
theorem RM.w15 (hR : RM A M s t) {i : Nat} {v : Int} (e : gSet M (A 15) (115, gI 0 240 (gUp (s 15) i v)) = M1) : RM A M1 (up s 15 i v) t := by
  obtain ⟨hm, h1, h2, h3, h4, h5, h6, h7, h10, h11, h12, h13, h14, h15, h17, h18, h19, h20, h23, h24⟩ := hR
  exact ⟨g_fr_t e hm h15 (by decide), g_fr_t e h1 h15 (by decide), g_fr_t e h2 h15 (by decide), g_fr_t e h3 h15 (by decide), g_fr_t e h4 h15 (by decide), g_fr_t e h5 h15 (by decide), g_fr_t e h6 h15 (by decide), g_fr_t e h7 h15 (by decide), g_fr_t e h10 h15 (by decide), g_fr_t e h11 h15 (by decide), g_fr_t e h12 h15 (by decide), g_fr_t e h13 h15 (by decide), g_fr_t e h14 h15 (by decide), g_at e, g_fr_t e h17 h15 (by decide), g_fr_t e h18 h15 (by decide), g_fr_t e h19 h15 (by decide), g_fr_t e h20 h15 (by decide), g_fr_t e h23 h15 (by decide), g_fr_t e h24 h15 (by decide)⟩
theorem RM.w17 (hR : RM A M s t) {i : Nat} {v : Int} (e : gSet M (A 17) (117, gI 0 60 (gUp (s 17) i v)) = M1) : RM A M1 (up s 17 i v) t := by
  obtain ⟨hm, h1, h2, h3, h4, h5, h6, h7, h10, h11, h12, h13, h14, h15, h17, h18, h19, h20, h23, h24⟩ := hR
  exact ⟨g_fr_t e hm h17 (by decide), g_fr_t e h1 h17 (by decide), g_fr_t e h2 h17 (by decide), g_fr_t e h3 h17 (by decide), g_fr_t e h4 h17 (by decide), g_fr_t e h5 h17 (by decide), g_fr_t e h6 h17 (by decide), g_fr_t e h7 h17 (by decide), g_fr_t e h10 h17 (by decide), g_fr_t e h11 h17 (by decide), g_fr_t e h12 h17 (by decide), g_fr_t e h13 h17 (by decide), g_fr_t e h14 h17 (by decide), g_fr_t e h15 h17 (by decide), g_at e, g_fr_t e h18 h17 (by decide), g_fr_t e h19 h17 (by decide), g_fr_t e h20 h17 (by decide), g_fr_t e h23 h17 (by decide), g_fr_t e h24 h17 (by decide)⟩
theorem RM.w18 (hR : RM A M s t) {i : Nat} {v : Int} (e : gSet M (A 18) (118, gI 0 12 (gUp (s 18) i v)) = M1) : RM A M1 (up s 18 i v) t := by
  obtain ⟨hm, h1, h2, h3, h4, h5, h6, h7, h10, h11, h12, h13, h14, h15, h17, h18, h19, h20, h23, h24⟩ := hR
  exact ⟨g_fr_t e hm h18 (by decide), g_fr_t e h1 h18 (by decide), g_fr_t e h2 h18 (by decide), g_fr_t e h3 h18 (by decide), g_fr_t e h4 h18 (by decide), g_fr_t e h5 h18 (by decide), g_fr_t e h6 h18 (by decide), g_fr_t e h7 h18 (by decide), g_fr_t e h10 h18 (by decide), g_fr_t e h11 h18 (by decide), g_fr_t e h12 h18 (by decide), g_fr_t e h13 h18 (by decide), g_fr_t e h14 h18 (by decide), g_fr_t e h15 h18 (by decide), g_fr_t e h17 h18 (by decide), g_at e, g_fr_t e h19 h18 (by decide), g_fr_t e h20 h18 (by decide), g_fr_t e h23 h18 (by decide), g_fr_t e h24 h18 (by decide)⟩
theorem RM.w19 (hR : RM A M s t) {i : Nat} {v : Int} (e : gSet M (A 19) (119, gI 2 12 (gUp (s 19) i v)) = M1) : RM A M1 (up s 19 i v) t := by
  obtain ⟨hm, h1, h2, h3, h4, h5, h6, h7, h10, h11, h12, h13, h14, h15, h17, h18, h19, h20, h23, h24⟩ := hR
  exact ⟨g_fr_t e hm h19 (by decide), g_fr_t e h1 h19 (by decide), g_fr_t e h2 h19 (by decide), g_fr_t e h3 h19 (by decide), g_fr_t e h4 h19 (by decide), g_fr_t e h5 h19 (by decide), g_fr_t e h6 h19 (by decide), g_fr_t e h7 h19 (by decide), g_fr_t e h10 h19 (by decide), g_fr_t e h11 h19 (by decide), g_fr_t e h12 h19 (by decide), g_fr_t e h13 h19 (by decide), g_fr_t e h14 h19 (by decide), g_fr_t e h15 h19 (by decide), g_fr_t e h17 h19 (by decide), g_fr_t e h18 h19 (by decide), g_at e, g_fr_t e h20 h19 (by decide), g_fr_t e h23 h19 (by decide), g_fr_t e h24 h19 (by decide)⟩
theorem RM.w20 (hR : RM A M s t) {i : Nat} {v : Int} (e : gSet M (A 20) (120, gI 2 120 (gUp (s 20) i v)) = M1) : RM A M1 (up s 20 i v) t := by
  obtain ⟨hm, h1, h2, h3, h4, h5, h6, h7, h10, h11, h12, h13, h14, h15, h17, h18, h19, h20, h23, h24⟩ := hR
  exact ⟨g_fr_t e hm h20 (by decide), g_fr_t e h1 h20 (by decide), g_fr_t e h2 h20 (by decide), g_fr_t e h3 h20 (by decide), g_fr_t e h4 h20 (by decide), g_fr_t e h5 h20 (by decide), g_fr_t e h6 h20 (by decide), g_fr_t e h7 h20 (by decide), g_fr_t e h10 h20 (by decide), g_fr_t e h11 h20 (by decide), g_fr_t e h12 h20 (by decide), g_fr_t e h13 h20 (by decide), g_fr_t e h14 h20 (by decide), g_fr_t e h15 h20 (by decide), g_fr_t e h17 h20 (by decide), g_fr_t e h18 h20 (by decide), g_fr_t e h19 h20 (by decide), g_at e, g_fr_t e h23 h20 (by decide), g_fr_t e h24 h20 (by decide)⟩
theorem RM.w23 (hR : RM A M s t) {i : Nat} {v : Int} (e : gSet M (A 23) (123, gI 0 (s 0 6).toNat (gUp (s 23) i v)) = M1) : RM A M1 (up s 23 i v) t := by
  obtain ⟨hm, h1, h2, h3, h4, h5, h6, h7, h10, h11, h12, h13, h14, h15, h17, h18, h19, h20, h23, h24⟩ := hR
  exact ⟨g_fr_t e hm h23 (by decide), g_fr_t e h1 h23 (by decide), g_fr_t e h2 h23 (by decide), g_fr_t e h3 h23 (by decide), g_fr_t e h4 h23 (by decide), g_fr_t e h5 h23 (by decide), g_fr_t e h6 h23 (by decide), g_fr_t e h7 h23 (by decide), g_fr_t e h10 h23 (by decide), g_fr_t e h11 h23 (by decide), g_fr_t e h12 h23 (by decide), g_fr_t e h13 h23 (by decide), g_fr_t e h14 h23 (by decide), g_fr_t e h15 h23 (by decide), g_fr_t e h17 h23 (by decide), g_fr_t e h18 h23 (by decide), g_fr_t e h19 h23 (by decide), g_fr_t e h20 h23 (by decide), g_at e, g_fr_t e h24 h23 (by decide)⟩
theorem RM.w24 (hR : RM A M s t) {i : Nat} {v : Int} (e : gSet M (A 24) (124, gI 0 5 (gUp (s 24) i v)) = M1) : RM A M1 (up s 24 i v) t := by
  obtain ⟨hm, h1, h2, h3, h4, h5, h6, h7, h10, h11, h12, h13, h14, h15, h17, h18, h19, h20, h23, h24⟩ := hR
  exact ⟨g_fr_t e hm h24 (by decide), g_fr_t e h1 h24 (by decide), g_fr_t e h2 h24 (by decide), g_fr_t e h3 h24 (by decide), g_fr_t e h4 h24 (by decide), g_fr_t e h5 h24 (by decide), g_fr_t e h6 h24 (by decide), g_fr_t e h7 h24 (by decide), g_fr_t e h10 h24 (by decide), g_fr_t e h11 h24 (by decide), g_fr_t e h12 h24 (by decide), g_fr_t e h13 h24 (by decide), g_fr_t e h14 h24 (by decide), g_fr_t e h15 h24 (by decide), g_fr_t e h17 h24 (by decide), g_fr_t e h18 h24 (by decide), g_fr_t e h19 h24 (by decide), g_fr_t e h20 h24 (by decide), g_fr_t e h23 h24 (by decide), g_at e⟩
theorem RM.w0 (hR : RM A M s t) {i : Nat} {v : Int} {o : gEnt} (e : gSet M (A 0) (100, o) = M1) (hi : i ≠ 6) (ho : o = gO 12 [vi t, vi (up s 0 i v 0 0), .ref (A 10), vi (up s 0 i v 0 1), vi (up s 0 i v 0 2), .ref (A 9), .ref (A 1), .ref (A 2), .ref (A 3), .ref (A 4), .ref (A 5), .ref (A 6), .ref (A 7), vi (up s 0 i v 0 3), .ref (A 11), .ref (A 12), .ref (A 13), .ref (A 14), .ref (A 15), vi (up s 0 i v 0 4), .ref (A 17), .ref (A 18), .ref (A 19), .ref (A 20), vi (up s 0 i v 0 5), .ref (A 23), .ref (A 25), vi (up s 0 i v 0 9), .ref (A 24)]) : RM A M1 (up s 0 i v) t :=
  hR.sc e ho (fun k hk => up_n _ _ _ (by omega)) (by rw [up_s, gUp_n _ _ (Ne.symm hi)])
/-- the result of a call that may change the model -/
def mRes (A : Nat → Nat) (M : gM) (s1 : gS) (v : Int) (k : Int) : Option Value → gM → Prop := fun w M1 => w = some (vi v) ∧ RM A M1 s1 k ∧ gExt gTM M M1
theorem gT1_TM {M M1 : gM} {t : Nat} (h : gExt (gT1 t) M M1) (ht : 100 ≤ t ∧ t < 200) : gExt gTM M M1 := h.mono (fun u hu => by rw [show u = t from hu]; exact ht)
/-- sign -/
def okS (x : Int) : Bool := decide (32 ≤ x ∧ x ≤ 1114111 ∧ ¬ (55296 ≤ x ∧ x ≤ 57343))
def kSign (s : gS) (x : Int) : Int := th2 (okS x) (decide (s 0 1 < 60))
def spSign (s : gS) (x : Int) : gS := if okS x && decide (s 0 1 < 60) then up (up s 10 (s 0 1).toNat x) 0 1 (s 0 1 + 1) else s
def qSign (s : gS) (x : Int) : Int := if okS x && decide (s 0 1 < 60) then s 0 1 + 1 else 0
theorem m_X3_sign (hl : l.stackTraces = false) (hR : RM A M s t) (hW : WF s) {x : Int} (r1 : r32 x) : gMet E l yX3_sign wX3_sign 3 0 0 [.ref (A 0), vi x] M (mRes A M (spSign s x) (qSign s x) (kSign s x)) (fun _ _ _ => False) := by
  have hm := hR.1
  have hs := hW.sc
  unfold wfSc at hs
  obtain ⟨r11, r12⟩ := r1
  refine gMet.of hl rfl (Nat.le_of_ble_eq_true rfl) ?_
  intro Z hE hl0 hQ hX C hnm htab
  subst hE; subst hl0
  replace C : gC Z RX3 cX3_sign 3 (some .int) _ := C
  change G Z _ _ _ 0 [(0, _), (1, _)] []
  refine g_iload_n (pc := 0) C dX3_sign_0 1 rfl rfl ?_
  refine g_i2l (pc := 1) C dX3_sign_1 ⟨by omega, by omega⟩ ?_
  refine g_ldc2 (pc := 2) C dX3_sign_2 (x := jv 32) q1915 ?_
  refine g_ldc2 (pc := 5) C dX3_sign_5 (x := jv 1114111) q1916 ?_
  refine g_callS (pc := 8) C (m_X3_isIn hl ⟨by omega, by omega⟩ ⟨by decide, by decide⟩ ⟨by decide, by decide⟩) q1917 q1918 q94 q1919 nmX3_isIn rfl (by decide) (by decide) (Nat.zero_le _) (Nat.zero_le _) rfl (Nat.le_of_ble_eq_true rfl) dX3_sign_8 (gkf ?_) gkx
  refine g_ifb_eq (pc := 11) C dX3_sign_11 32 (by decide) (fun c_11 => ?_) (fun c_11 => ?_)
  · skip
    have d_11 := c_11
    try simp only [decide_eq_true_eq, decide_eq_false_iff_not, Bool.and_eq_true, Bool.and_eq_false_iff, ne_eq, Classical.not_not] at c_11
    refine g_iconst (pc := 32) C dX3_sign_32 ?_
    refine g_istore_n (pc := 33) C dX3_sign_33 (Nat.le_of_ble_eq_true rfl) rfl rfl (loc1 := [(0, _), (1, _), (2, _)]) rfl ?_
    refine g_aload_n (pc := 34) C dX3_sign_34 0 rfl trivial rfl ?_
    refine g_iload_n (pc := 35) C dX3_sign_35 2 rfl rfl ?_
    refine g_aload_n (pc := 36) C dX3_sign_36 0 rfl trivial rfl ?_
    refine g_get (pc := 37) C dX3_sign_37 cl12 hm 3 (by decide) q1822 (fun _ h9 => h9) rfl ?_
    refine g_bipush (pc := 40) C dX3_sign_40 (by decide) ?_
    refine g_icmp_ge (pc := 42) C dX3_sign_42 49 ⟨by omega, by omega⟩ ⟨by omega, by omega⟩ (by decide) (fun c_42 => ?_) (fun c_42 => ?_)
    · skip
      refine g_iconst (pc := 49) C dX3_sign_49 ?_
      refine g_callV (pc := 50) C (m_X3_fits hl hR (p := okS x) (q := decide (s 0 1 < 60))) cl12 hm q1922 q1924 qs40 q94 q1925 nmX3_fits rfl (by decide) (by decide) (by omega) (by omega) (by first | (rw [b2_1 (show okS x = true by simp only [okS, decide_eq_true_eq]; omega)]; first | (rw [b2_1 (show decide (s 0 1 < 60) = true by simp only [decide_eq_true_eq]; omega)]; rfl) | (rw [b2_z0 (show decide (s 0 1 < 60) = false by simp only [decide_eq_false_iff_not]; omega)]; rfl)) | (rw [b2_z0 (show okS x = false by simp only [okS, decide_eq_false_iff_not]; omega)]; first | (rw [b2_1 (show decide (s 0 1 < 60) = true by simp only [decide_eq_true_eq]; omega)]; rfl) | (rw [b2_z0 (show decide (s 0 1 < 60) = false by simp only [decide_eq_false_iff_not]; omega)]; rfl))) (Nat.le_of_ble_eq_true rfl) dX3_sign_50 (fun v_50 M_50 h_50 => ?_) (fun E_50 q_50 M_50 h_50 => ?_)
      rotate_left
      · exact h_50.elim
      obtain ⟨rfl, hR1, hx⟩ := h_50
      obtain ⟨hm, h1, h2, h3, h4, h5, h6, h7, h10, -⟩ := id hR1
      refine g_ifb_ne (pc := 53) C dX3_sign_53 58 (by decide) (fun c_53 => ?_) (fun c_53 => ?_)
      · skip
        have d_53 := c_53
        try simp only [decide_eq_true_eq, decide_eq_false_iff_not, Bool.and_eq_true, Bool.and_eq_false_iff, ne_eq, Classical.not_not] at c_53
        simp only [okS, Bool.and_eq_true, decide_eq_true_eq] at c_53
        obtain ⟨n, hn⟩ := i_nat (z := s 0 1) (by omega)
        refine g_aload_n (pc := 58) C dX3_sign_58 0 rfl trivial rfl ?_
        refine g_get (pc := 59) C dX3_sign_59 cl12 hm 2 (by decide) q1821 (fun _ h9 => h9) rfl ?_
        refine g_aload_n (pc := 62) C dX3_sign_62 0 rfl trivial rfl ?_
        refine g_get (pc := 63) C dX3_sign_63 cl12 hm 3 (by decide) q1822 (fun _ h9 => h9) rfl ?_
        refine g_iload_n (pc := 66) C dX3_sign_66 1 rfl rfl ?_
        have hx2 := gT1_TM hx (by decide)
        refine g_iast (pc := 67) C dX3_sign_67 h10 (by decide) n (by omega) (by omega) (by omega) ?_
        refine g_nm (fun M_67 e_67 => ?_)
        replace hx2 := hx2.tr (gExt.putE e_67 h10 (by unfold gTM; omega))
        replace hm := g_fr e_67 hm (g_ne hm h10 (by intro e; cases e))
        replace h10 := g_at e_67
        have hR2 := hR1.w10 e_67
        refine g_aload_n (pc := 68) C dX3_sign_68 0 rfl trivial rfl ?_
        refine g_dup (pc := 69) C dX3_sign_69 rfl ?_
        refine g_get (pc := 70) C dX3_sign_70 cl12 hm 3 (by decide) q1822 (fun _ h9 => h9) rfl ?_
        refine g_iconst (pc := 73) C dX3_sign_73 ?_
        refine g_iadd (pc := 74) C dX3_sign_74 ?_
        refine g_put (pc := 75) C dX3_sign_75 cl12 hm (by decide) 3 (by decide) q1822 (fun _ h9 => h9) rfl rfl rfl (Nat.le_of_ble_eq_true rfl) (fs1 := [_, _, _, _, _, _, _, _, _, _, _, _, _, _, _, _, _, _, _, _, _, _, _, _, _, _, _, _, _]) rfl ?_
        refine g_nm (fun M_75 e_75 => ?_)
        replace hx2 := hx2.tr (gExt.putE e_75 hm (by unfold gTM; omega))
        replace hm := g_at e_75
        have hR3 := hR2.w0 (i := 1) (v := s 0 1 + 1) e_75 (by decide) rfl
        refine g_aload_n (pc := 78) C dX3_sign_78 0 rfl trivial rfl ?_
        refine g_get (pc := 79) C dX3_sign_79 cl12 hm 3 (by decide) q1822 (fun _ h9 => h9) rfl ?_
        refine g_iret (pc := 82) hQ C ?_ dX3_sign_82
        exact ⟨by rw [qSign, if_pos d_53], by rw [spSign, if_pos d_53, show (s 0 1).toNat = n by omega]; exact hR3, hx2⟩
      · skip
        have d_53 := c_53
        try simp only [decide_eq_true_eq, decide_eq_false_iff_not, Bool.and_eq_true, Bool.and_eq_false_iff, ne_eq, Classical.not_not] at c_53
        refine g_iconst (pc := 56) C dX3_sign_56 ?_
        refine g_iret (pc := 57) hQ C ?_ dX3_sign_57
        exact ⟨by rw [qSign, if_neg (by rw [d_53]; exact Bool.false_ne_true)], by rw [spSign, if_neg (by rw [d_53]; exact Bool.false_ne_true)]; exact hR1, gT1_TM hx (by decide)⟩
    · skip
      refine g_iconst (pc := 45) C dX3_sign_45 ?_
      refine g_goto (pc := 46) C dX3_sign_46 50 (by decide) ?_
      refine g_callV (pc := 50) C (m_X3_fits hl hR (p := okS x) (q := decide (s 0 1 < 60))) cl12 hm q1922 q1924 qs40 q94 q1925 nmX3_fits rfl (by decide) (by decide) (by omega) (by omega) (by first | (rw [b2_1 (show okS x = true by simp only [okS, decide_eq_true_eq]; omega)]; first | (rw [b2_1 (show decide (s 0 1 < 60) = true by simp only [decide_eq_true_eq]; omega)]; rfl) | (rw [b2_z0 (show decide (s 0 1 < 60) = false by simp only [decide_eq_false_iff_not]; omega)]; rfl)) | (rw [b2_z0 (show okS x = false by simp only [okS, decide_eq_false_iff_not]; omega)]; first | (rw [b2_1 (show decide (s 0 1 < 60) = true by simp only [decide_eq_true_eq]; omega)]; rfl) | (rw [b2_z0 (show decide (s 0 1 < 60) = false by simp only [decide_eq_false_iff_not]; omega)]; rfl))) (Nat.le_of_ble_eq_true rfl) dX3_sign_50 (fun v_50 M_50 h_50 => ?_) (fun E_50 q_50 M_50 h_50 => ?_)
      rotate_left
      · exact h_50.elim
      obtain ⟨rfl, hR1, hx⟩ := h_50
      obtain ⟨hm, h1, h2, h3, h4, h5, h6, h7, h10, -⟩ := id hR1
      refine g_ifb_ne (pc := 53) C dX3_sign_53 58 (by decide) (fun c_53 => ?_) (fun c_53 => ?_)
      · skip
        have d_53 := c_53
        try simp only [decide_eq_true_eq, decide_eq_false_iff_not, Bool.and_eq_true, Bool.and_eq_false_iff, ne_eq, Classical.not_not] at c_53
        simp only [okS, Bool.and_eq_true, decide_eq_true_eq] at c_53
        obtain ⟨n, hn⟩ := i_nat (z := s 0 1) (by omega)
        refine g_aload_n (pc := 58) C dX3_sign_58 0 rfl trivial rfl ?_
        refine g_get (pc := 59) C dX3_sign_59 cl12 hm 2 (by decide) q1821 (fun _ h9 => h9) rfl ?_
        refine g_aload_n (pc := 62) C dX3_sign_62 0 rfl trivial rfl ?_
        refine g_get (pc := 63) C dX3_sign_63 cl12 hm 3 (by decide) q1822 (fun _ h9 => h9) rfl ?_
        refine g_iload_n (pc := 66) C dX3_sign_66 1 rfl rfl ?_
        have hx2 := gT1_TM hx (by decide)
        refine g_iast (pc := 67) C dX3_sign_67 h10 (by decide) n (by omega) (by omega) (by omega) ?_
        refine g_nm (fun M_67 e_67 => ?_)
        replace hx2 := hx2.tr (gExt.putE e_67 h10 (by unfold gTM; omega))
        replace hm := g_fr e_67 hm (g_ne hm h10 (by intro e; cases e))
        replace h10 := g_at e_67
        have hR2 := hR1.w10 e_67
        refine g_aload_n (pc := 68) C dX3_sign_68 0 rfl trivial rfl ?_
        refine g_dup (pc := 69) C dX3_sign_69 rfl ?_
        refine g_get (pc := 70) C dX3_sign_70 cl12 hm 3 (by decide) q1822 (fun _ h9 => h9) rfl ?_
        refine g_iconst (pc := 73) C dX3_sign_73 ?_
        refine g_iadd (pc := 74) C dX3_sign_74 ?_
        refine g_put (pc := 75) C dX3_sign_75 cl12 hm (by decide) 3 (by decide) q1822 (fun _ h9 => h9) rfl rfl rfl (Nat.le_of_ble_eq_true rfl) (fs1 := [_, _, _, _, _, _, _, _, _, _, _, _, _, _, _, _, _, _, _, _, _, _, _, _, _, _, _, _, _]) rfl ?_
        refine g_nm (fun M_75 e_75 => ?_)
        replace hx2 := hx2.tr (gExt.putE e_75 hm (by unfold gTM; omega))
        replace hm := g_at e_75
        have hR3 := hR2.w0 (i := 1) (v := s 0 1 + 1) e_75 (by decide) rfl
        refine g_aload_n (pc := 78) C dX3_sign_78 0 rfl trivial rfl ?_
        refine g_get (pc := 79) C dX3_sign_79 cl12 hm 3 (by decide) q1822 (fun _ h9 => h9) rfl ?_
        refine g_iret (pc := 82) hQ C ?_ dX3_sign_82
        exact ⟨by rw [qSign, if_pos d_53], by rw [spSign, if_pos d_53, show (s 0 1).toNat = n by omega]; exact hR3, hx2⟩
      · skip
        have d_53 := c_53
        try simp only [decide_eq_true_eq, decide_eq_false_iff_not, Bool.and_eq_true, Bool.and_eq_false_iff, ne_eq, Classical.not_not] at c_53
        refine g_iconst (pc := 56) C dX3_sign_56 ?_
        refine g_iret (pc := 57) hQ C ?_ dX3_sign_57
        exact ⟨by rw [qSign, if_neg (by rw [d_53]; exact Bool.false_ne_true)], by rw [spSign, if_neg (by rw [d_53]; exact Bool.false_ne_true)]; exact hR1, gT1_TM hx (by decide)⟩
  · skip
    have d_11 := c_11
    try simp only [decide_eq_true_eq, decide_eq_false_iff_not, Bool.and_eq_true, Bool.and_eq_false_iff, ne_eq, Classical.not_not] at c_11
    refine g_iload_n (pc := 14) C dX3_sign_14 1 rfl rfl ?_
    refine g_i2l (pc := 15) C dX3_sign_15 ⟨by omega, by omega⟩ ?_
    refine g_ldc2 (pc := 16) C dX3_sign_16 (x := jv 55296) q1920 ?_
    refine g_ldc2 (pc := 19) C dX3_sign_19 (x := jv 57343) q1921 ?_
    refine g_callS (pc := 22) C (m_X3_isIn hl ⟨by omega, by omega⟩ ⟨by decide, by decide⟩ ⟨by decide, by decide⟩) q1917 q1918 q94 q1919 nmX3_isIn rfl (by decide) (by decide) (Nat.zero_le _) (Nat.zero_le _) rfl (Nat.le_of_ble_eq_true rfl) dX3_sign_22 (gkf ?_) gkx
    refine g_ifb_ne (pc := 25) C dX3_sign_25 32 (by decide) (fun c_25 => ?_) (fun c_25 => ?_)
    · skip
      have d_25 := c_25
      try simp only [decide_eq_true_eq, decide_eq_false_iff_not, Bool.and_eq_true, Bool.and_eq_false_iff, ne_eq, Classical.not_not] at c_25
      refine g_iconst (pc := 32) C dX3_sign_32 ?_
      refine g_istore_n (pc := 33) C dX3_sign_33 (Nat.le_of_ble_eq_true rfl) rfl rfl (loc1 := [(0, _), (1, _), (2, _)]) rfl ?_
      refine g_aload_n (pc := 34) C dX3_sign_34 0 rfl trivial rfl ?_
      refine g_iload_n (pc := 35) C dX3_sign_35 2 rfl rfl ?_
      refine g_aload_n (pc := 36) C dX3_sign_36 0 rfl trivial rfl ?_
      refine g_get (pc := 37) C dX3_sign_37 cl12 hm 3 (by decide) q1822 (fun _ h9 => h9) rfl ?_
      refine g_bipush (pc := 40) C dX3_sign_40 (by decide) ?_
      refine g_icmp_ge (pc := 42) C dX3_sign_42 49 ⟨by omega, by omega⟩ ⟨by omega, by omega⟩ (by decide) (fun c_42 => ?_) (fun c_42 => ?_)
      · skip
        refine g_iconst (pc := 49) C dX3_sign_49 ?_
        refine g_callV (pc := 50) C (m_X3_fits hl hR (p := okS x) (q := decide (s 0 1 < 60))) cl12 hm q1922 q1924 qs40 q94 q1925 nmX3_fits rfl (by decide) (by decide) (by omega) (by omega) (by first | (rw [b2_1 (show okS x = true by simp only [okS, decide_eq_true_eq]; omega)]; first | (rw [b2_1 (show decide (s 0 1 < 60) = true by simp only [decide_eq_true_eq]; omega)]; rfl) | (rw [b2_z0 (show decide (s 0 1 < 60) = false by simp only [decide_eq_false_iff_not]; omega)]; rfl)) | (rw [b2_z0 (show okS x = false by simp only [okS, decide_eq_false_iff_not]; omega)]; first | (rw [b2_1 (show decide (s 0 1 < 60) = true by simp only [decide_eq_true_eq]; omega)]; rfl) | (rw [b2_z0 (show decide (s 0 1 < 60) = false by simp only [decide_eq_false_iff_not]; omega)]; rfl))) (Nat.le_of_ble_eq_true rfl) dX3_sign_50 (fun v_50 M_50 h_50 => ?_) (fun E_50 q_50 M_50 h_50 => ?_)
        rotate_left
        · exact h_50.elim
        obtain ⟨rfl, hR1, hx⟩ := h_50
        obtain ⟨hm, h1, h2, h3, h4, h5, h6, h7, h10, -⟩ := id hR1
        refine g_ifb_ne (pc := 53) C dX3_sign_53 58 (by decide) (fun c_53 => ?_) (fun c_53 => ?_)
        · skip
          have d_53 := c_53
          try simp only [decide_eq_true_eq, decide_eq_false_iff_not, Bool.and_eq_true, Bool.and_eq_false_iff, ne_eq, Classical.not_not] at c_53
          simp only [okS, Bool.and_eq_true, decide_eq_true_eq] at c_53
          obtain ⟨n, hn⟩ := i_nat (z := s 0 1) (by omega)
          refine g_aload_n (pc := 58) C dX3_sign_58 0 rfl trivial rfl ?_
          refine g_get (pc := 59) C dX3_sign_59 cl12 hm 2 (by decide) q1821 (fun _ h9 => h9) rfl ?_
          refine g_aload_n (pc := 62) C dX3_sign_62 0 rfl trivial rfl ?_
          refine g_get (pc := 63) C dX3_sign_63 cl12 hm 3 (by decide) q1822 (fun _ h9 => h9) rfl ?_
          refine g_iload_n (pc := 66) C dX3_sign_66 1 rfl rfl ?_
          have hx2 := gT1_TM hx (by decide)
          refine g_iast (pc := 67) C dX3_sign_67 h10 (by decide) n (by omega) (by omega) (by omega) ?_
          refine g_nm (fun M_67 e_67 => ?_)
          replace hx2 := hx2.tr (gExt.putE e_67 h10 (by unfold gTM; omega))
          replace hm := g_fr e_67 hm (g_ne hm h10 (by intro e; cases e))
          replace h10 := g_at e_67
          have hR2 := hR1.w10 e_67
          refine g_aload_n (pc := 68) C dX3_sign_68 0 rfl trivial rfl ?_
          refine g_dup (pc := 69) C dX3_sign_69 rfl ?_
          refine g_get (pc := 70) C dX3_sign_70 cl12 hm 3 (by decide) q1822 (fun _ h9 => h9) rfl ?_
          refine g_iconst (pc := 73) C dX3_sign_73 ?_
          refine g_iadd (pc := 74) C dX3_sign_74 ?_
          refine g_put (pc := 75) C dX3_sign_75 cl12 hm (by decide) 3 (by decide) q1822 (fun _ h9 => h9) rfl rfl rfl (Nat.le_of_ble_eq_true rfl) (fs1 := [_, _, _, _, _, _, _, _, _, _, _, _, _, _, _, _, _, _, _, _, _, _, _, _, _, _, _, _, _]) rfl ?_
          refine g_nm (fun M_75 e_75 => ?_)
          replace hx2 := hx2.tr (gExt.putE e_75 hm (by unfold gTM; omega))
          replace hm := g_at e_75
          have hR3 := hR2.w0 (i := 1) (v := s 0 1 + 1) e_75 (by decide) rfl
          refine g_aload_n (pc := 78) C dX3_sign_78 0 rfl trivial rfl ?_
          refine g_get (pc := 79) C dX3_sign_79 cl12 hm 3 (by decide) q1822 (fun _ h9 => h9) rfl ?_
          refine g_iret (pc := 82) hQ C ?_ dX3_sign_82
          exact ⟨by rw [qSign, if_pos d_53], by rw [spSign, if_pos d_53, show (s 0 1).toNat = n by omega]; exact hR3, hx2⟩
        · skip
          have d_53 := c_53
          try simp only [decide_eq_true_eq, decide_eq_false_iff_not, Bool.and_eq_true, Bool.and_eq_false_iff, ne_eq, Classical.not_not] at c_53
          refine g_iconst (pc := 56) C dX3_sign_56 ?_
          refine g_iret (pc := 57) hQ C ?_ dX3_sign_57
          exact ⟨by rw [qSign, if_neg (by rw [d_53]; exact Bool.false_ne_true)], by rw [spSign, if_neg (by rw [d_53]; exact Bool.false_ne_true)]; exact hR1, gT1_TM hx (by decide)⟩
      · skip
        refine g_iconst (pc := 45) C dX3_sign_45 ?_
        refine g_goto (pc := 46) C dX3_sign_46 50 (by decide) ?_
        refine g_callV (pc := 50) C (m_X3_fits hl hR (p := okS x) (q := decide (s 0 1 < 60))) cl12 hm q1922 q1924 qs40 q94 q1925 nmX3_fits rfl (by decide) (by decide) (by omega) (by omega) (by first | (rw [b2_1 (show okS x = true by simp only [okS, decide_eq_true_eq]; omega)]; first | (rw [b2_1 (show decide (s 0 1 < 60) = true by simp only [decide_eq_true_eq]; omega)]; rfl) | (rw [b2_z0 (show decide (s 0 1 < 60) = false by simp only [decide_eq_false_iff_not]; omega)]; rfl)) | (rw [b2_z0 (show okS x = false by simp only [okS, decide_eq_false_iff_not]; omega)]; first | (rw [b2_1 (show decide (s 0 1 < 60) = true by simp only [decide_eq_true_eq]; omega)]; rfl) | (rw [b2_z0 (show decide (s 0 1 < 60) = false by simp only [decide_eq_false_iff_not]; omega)]; rfl))) (Nat.le_of_ble_eq_true rfl) dX3_sign_50 (fun v_50 M_50 h_50 => ?_) (fun E_50 q_50 M_50 h_50 => ?_)
        rotate_left
        · exact h_50.elim
        obtain ⟨rfl, hR1, hx⟩ := h_50
        obtain ⟨hm, h1, h2, h3, h4, h5, h6, h7, h10, -⟩ := id hR1
        refine g_ifb_ne (pc := 53) C dX3_sign_53 58 (by decide) (fun c_53 => ?_) (fun c_53 => ?_)
        · skip
          have d_53 := c_53
          try simp only [decide_eq_true_eq, decide_eq_false_iff_not, Bool.and_eq_true, Bool.and_eq_false_iff, ne_eq, Classical.not_not] at c_53
          simp only [okS, Bool.and_eq_true, decide_eq_true_eq] at c_53
          obtain ⟨n, hn⟩ := i_nat (z := s 0 1) (by omega)
          refine g_aload_n (pc := 58) C dX3_sign_58 0 rfl trivial rfl ?_
          refine g_get (pc := 59) C dX3_sign_59 cl12 hm 2 (by decide) q1821 (fun _ h9 => h9) rfl ?_
          refine g_aload_n (pc := 62) C dX3_sign_62 0 rfl trivial rfl ?_
          refine g_get (pc := 63) C dX3_sign_63 cl12 hm 3 (by decide) q1822 (fun _ h9 => h9) rfl ?_
          refine g_iload_n (pc := 66) C dX3_sign_66 1 rfl rfl ?_
          have hx2 := gT1_TM hx (by decide)
          refine g_iast (pc := 67) C dX3_sign_67 h10 (by decide) n (by omega) (by omega) (by omega) ?_
          refine g_nm (fun M_67 e_67 => ?_)
          replace hx2 := hx2.tr (gExt.putE e_67 h10 (by unfold gTM; omega))
          replace hm := g_fr e_67 hm (g_ne hm h10 (by intro e; cases e))
          replace h10 := g_at e_67
          have hR2 := hR1.w10 e_67
          refine g_aload_n (pc := 68) C dX3_sign_68 0 rfl trivial rfl ?_
          refine g_dup (pc := 69) C dX3_sign_69 rfl ?_
          refine g_get (pc := 70) C dX3_sign_70 cl12 hm 3 (by decide) q1822 (fun _ h9 => h9) rfl ?_
          refine g_iconst (pc := 73) C dX3_sign_73 ?_
          refine g_iadd (pc := 74) C dX3_sign_74 ?_
          refine g_put (pc := 75) C dX3_sign_75 cl12 hm (by decide) 3 (by decide) q1822 (fun _ h9 => h9) rfl rfl rfl (Nat.le_of_ble_eq_true rfl) (fs1 := [_, _, _, _, _, _, _, _, _, _, _, _, _, _, _, _, _, _, _, _, _, _, _, _, _, _, _, _, _]) rfl ?_
          refine g_nm (fun M_75 e_75 => ?_)
          replace hx2 := hx2.tr (gExt.putE e_75 hm (by unfold gTM; omega))
          replace hm := g_at e_75
          have hR3 := hR2.w0 (i := 1) (v := s 0 1 + 1) e_75 (by decide) rfl
          refine g_aload_n (pc := 78) C dX3_sign_78 0 rfl trivial rfl ?_
          refine g_get (pc := 79) C dX3_sign_79 cl12 hm 3 (by decide) q1822 (fun _ h9 => h9) rfl ?_
          refine g_iret (pc := 82) hQ C ?_ dX3_sign_82
          exact ⟨by rw [qSign, if_pos d_53], by rw [spSign, if_pos d_53, show (s 0 1).toNat = n by omega]; exact hR3, hx2⟩
        · skip
          have d_53 := c_53
          try simp only [decide_eq_true_eq, decide_eq_false_iff_not, Bool.and_eq_true, Bool.and_eq_false_iff, ne_eq, Classical.not_not] at c_53
          refine g_iconst (pc := 56) C dX3_sign_56 ?_
          refine g_iret (pc := 57) hQ C ?_ dX3_sign_57
          exact ⟨by rw [qSign, if_neg (by rw [d_53]; exact Bool.false_ne_true)], by rw [spSign, if_neg (by rw [d_53]; exact Bool.false_ne_true)]; exact hR1, gT1_TM hx (by decide)⟩
    · skip
      have d_25 := c_25
      try simp only [decide_eq_true_eq, decide_eq_false_iff_not, Bool.and_eq_true, Bool.and_eq_false_iff, ne_eq, Classical.not_not] at c_25
      refine g_iconst (pc := 28) C dX3_sign_28 ?_
      refine g_goto (pc := 29) C dX3_sign_29 33 (by decide) ?_
      refine g_istore_n (pc := 33) C dX3_sign_33 (Nat.le_of_ble_eq_true rfl) rfl rfl (loc1 := [(0, _), (1, _), (2, _)]) rfl ?_
      refine g_aload_n (pc := 34) C dX3_sign_34 0 rfl trivial rfl ?_
      refine g_iload_n (pc := 35) C dX3_sign_35 2 rfl rfl ?_
      refine g_aload_n (pc := 36) C dX3_sign_36 0 rfl trivial rfl ?_
      refine g_get (pc := 37) C dX3_sign_37 cl12 hm 3 (by decide) q1822 (fun _ h9 => h9) rfl ?_
      refine g_bipush (pc := 40) C dX3_sign_40 (by decide) ?_
      refine g_icmp_ge (pc := 42) C dX3_sign_42 49 ⟨by omega, by omega⟩ ⟨by omega, by omega⟩ (by decide) (fun c_42 => ?_) (fun c_42 => ?_)
      · skip
        refine g_iconst (pc := 49) C dX3_sign_49 ?_
        refine g_callV (pc := 50) C (m_X3_fits hl hR (p := okS x) (q := decide (s 0 1 < 60))) cl12 hm q1922 q1924 qs40 q94 q1925 nmX3_fits rfl (by decide) (by decide) (by omega) (by omega) (by first | (rw [b2_1 (show okS x = true by simp only [okS, decide_eq_true_eq]; omega)]; first | (rw [b2_1 (show decide (s 0 1 < 60) = true by simp only [decide_eq_true_eq]; omega)]; rfl) | (rw [b2_z0 (show decide (s 0 1 < 60) = false by simp only [decide_eq_false_iff_not]; omega)]; rfl)) | (rw [b2_z0 (show okS x = false by simp only [okS, decide_eq_false_iff_not]; omega)]; first | (rw [b2_1 (show decide (s 0 1 < 60) = true by simp only [decide_eq_true_eq]; omega)]; rfl) | (rw [b2_z0 (show decide (s 0 1 < 60) = false by simp only [decide_eq_false_iff_not]; omega)]; rfl))) (Nat.le_of_ble_eq_true rfl) dX3_sign_50 (fun v_50 M_50 h_50 => ?_) (fun E_50 q_50 M_50 h_50 => ?_)
        rotate_left
        · exact h_50.elim
        obtain ⟨rfl, hR1, hx⟩ := h_50
        obtain ⟨hm, h1, h2, h3, h4, h5, h6, h7, h10, -⟩ := id hR1
        refine g_ifb_ne (pc := 53) C dX3_sign_53 58 (by decide) (fun c_53 => ?_) (fun c_53 => ?_)
        · skip
          have d_53 := c_53
          try simp only [decide_eq_true_eq, decide_eq_false_iff_not, Bool.and_eq_true, Bool.and_eq_false_iff, ne_eq, Classical.not_not] at c_53
          simp only [okS, Bool.and_eq_true, decide_eq_true_eq] at c_53
          obtain ⟨n, hn⟩ := i_nat (z := s 0 1) (by omega)
          refine g_aload_n (pc := 58) C dX3_sign_58 0 rfl trivial rfl ?_
          refine g_get (pc := 59) C dX3_sign_59 cl12 hm 2 (by decide) q1821 (fun _ h9 => h9) rfl ?_
          refine g_aload_n (pc := 62) C dX3_sign_62 0 rfl trivial rfl ?_
          refine g_get (pc := 63) C dX3_sign_63 cl12 hm 3 (by decide) q1822 (fun _ h9 => h9) rfl ?_
          refine g_iload_n (pc := 66) C dX3_sign_66 1 rfl rfl ?_
          have hx2 := gT1_TM hx (by decide)
          refine g_iast (pc := 67) C dX3_sign_67 h10 (by decide) n (by omega) (by omega) (by omega) ?_
          refine g_nm (fun M_67 e_67 => ?_)
          replace hx2 := hx2.tr (gExt.putE e_67 h10 (by unfold gTM; omega))
          replace hm := g_fr e_67 hm (g_ne hm h10 (by intro e; cases e))
          replace h10 := g_at e_67
          have hR2 := hR1.w10 e_67
          refine g_aload_n (pc := 68) C dX3_sign_68 0 rfl trivial rfl ?_
          refine g_dup (pc := 69) C dX3_sign_69 rfl ?_
          refine g_get (pc := 70) C dX3_sign_70 cl12 hm 3 (by decide) q1822 (fun _ h9 => h9) rfl ?_
          refine g_iconst (pc := 73) C dX3_sign_73 ?_
          refine g_iadd (pc := 74) C dX3_sign_74 ?_
          refine g_put (pc := 75) C dX3_sign_75 cl12 hm (by decide) 3 (by decide) q1822 (fun _ h9 => h9) rfl rfl rfl (Nat.le_of_ble_eq_true rfl) (fs1 := [_, _, _, _, _, _, _, _, _, _, _, _, _, _, _, _, _, _, _, _, _, _, _, _, _, _, _, _, _]) rfl ?_
          refine g_nm (fun M_75 e_75 => ?_)
          replace hx2 := hx2.tr (gExt.putE e_75 hm (by unfold gTM; omega))
          replace hm := g_at e_75
          have hR3 := hR2.w0 (i := 1) (v := s 0 1 + 1) e_75 (by decide) rfl
          refine g_aload_n (pc := 78) C dX3_sign_78 0 rfl trivial rfl ?_
          refine g_get (pc := 79) C dX3_sign_79 cl12 hm 3 (by decide) q1822 (fun _ h9 => h9) rfl ?_
          refine g_iret (pc := 82) hQ C ?_ dX3_sign_82
          exact ⟨by rw [qSign, if_pos d_53], by rw [spSign, if_pos d_53, show (s 0 1).toNat = n by omega]; exact hR3, hx2⟩
        · skip
          have d_53 := c_53
          try simp only [decide_eq_true_eq, decide_eq_false_iff_not, Bool.and_eq_true, Bool.and_eq_false_iff, ne_eq, Classical.not_not] at c_53
          refine g_iconst (pc := 56) C dX3_sign_56 ?_
          refine g_iret (pc := 57) hQ C ?_ dX3_sign_57
          exact ⟨by rw [qSign, if_neg (by rw [d_53]; exact Bool.false_ne_true)], by rw [spSign, if_neg (by rw [d_53]; exact Bool.false_ne_true)]; exact hR1, gT1_TM hx (by decide)⟩
      · skip
        refine g_iconst (pc := 45) C dX3_sign_45 ?_
        refine g_goto (pc := 46) C dX3_sign_46 50 (by decide) ?_
        refine g_callV (pc := 50) C (m_X3_fits hl hR (p := okS x) (q := decide (s 0 1 < 60))) cl12 hm q1922 q1924 qs40 q94 q1925 nmX3_fits rfl (by decide) (by decide) (by omega) (by omega) (by first | (rw [b2_1 (show okS x = true by simp only [okS, decide_eq_true_eq]; omega)]; first | (rw [b2_1 (show decide (s 0 1 < 60) = true by simp only [decide_eq_true_eq]; omega)]; rfl) | (rw [b2_z0 (show decide (s 0 1 < 60) = false by simp only [decide_eq_false_iff_not]; omega)]; rfl)) | (rw [b2_z0 (show okS x = false by simp only [okS, decide_eq_false_iff_not]; omega)]; first | (rw [b2_1 (show decide (s 0 1 < 60) = true by simp only [decide_eq_true_eq]; omega)]; rfl) | (rw [b2_z0 (show decide (s 0 1 < 60) = false by simp only [decide_eq_false_iff_not]; omega)]; rfl))) (Nat.le_of_ble_eq_true rfl) dX3_sign_50 (fun v_50 M_50 h_50 => ?_) (fun E_50 q_50 M_50 h_50 => ?_)
        rotate_left
        · exact h_50.elim
        obtain ⟨rfl, hR1, hx⟩ := h_50
        obtain ⟨hm, h1, h2, h3, h4, h5, h6, h7, h10, -⟩ := id hR1
        refine g_ifb_ne (pc := 53) C dX3_sign_53 58 (by decide) (fun c_53 => ?_) (fun c_53 => ?_)
        · skip
          have d_53 := c_53
          try simp only [decide_eq_true_eq, decide_eq_false_iff_not, Bool.and_eq_true, Bool.and_eq_false_iff, ne_eq, Classical.not_not] at c_53
          simp only [okS, Bool.and_eq_true, decide_eq_true_eq] at c_53
          obtain ⟨n, hn⟩ := i_nat (z := s 0 1) (by omega)
          refine g_aload_n (pc := 58) C dX3_sign_58 0 rfl trivial rfl ?_
          refine g_get (pc := 59) C dX3_sign_59 cl12 hm 2 (by decide) q1821 (fun _ h9 => h9) rfl ?_
          refine g_aload_n (pc := 62) C dX3_sign_62 0 rfl trivial rfl ?_
          refine g_get (pc := 63) C dX3_sign_63 cl12 hm 3 (by decide) q1822 (fun _ h9 => h9) rfl ?_
          refine g_iload_n (pc := 66) C dX3_sign_66 1 rfl rfl ?_
          have hx2 := gT1_TM hx (by decide)
          refine g_iast (pc := 67) C dX3_sign_67 h10 (by decide) n (by omega) (by omega) (by omega) ?_
          refine g_nm (fun M_67 e_67 => ?_)
          replace hx2 := hx2.tr (gExt.putE e_67 h10 (by unfold gTM; omega))
          replace hm := g_fr e_67 hm (g_ne hm h10 (by intro e; cases e))
          replace h10 := g_at e_67
          have hR2 := hR1.w10 e_67
          refine g_aload_n (pc := 68) C dX3_sign_68 0 rfl trivial rfl ?_
          refine g_dup (pc := 69) C dX3_sign_69 rfl ?_
          refine g_get (pc := 70) C dX3_sign_70 cl12 hm 3 (by decide) q1822 (fun _ h9 => h9) rfl ?_
          refine g_iconst (pc := 73) C dX3_sign_73 ?_
          refine g_iadd (pc := 74) C dX3_sign_74 ?_
          refine g_put (pc := 75) C dX3_sign_75 cl12 hm (by decide) 3 (by decide) q1822 (fun _ h9 => h9) rfl rfl rfl (Nat.le_of_ble_eq_true rfl) (fs1 := [_, _, _, _, _, _, _, _, _, _, _, _, _, _, _, _, _, _, _, _, _, _, _, _, _, _, _, _, _]) rfl ?_
          refine g_nm (fun M_75 e_75 => ?_)
          replace hx2 := hx2.tr (gExt.putE e_75 hm (by unfold gTM; omega))
          replace hm := g_at e_75
          have hR3 := hR2.w0 (i := 1) (v := s 0 1 + 1) e_75 (by decide) rfl
          refine g_aload_n (pc := 78) C dX3_sign_78 0 rfl trivial rfl ?_
          refine g_get (pc := 79) C dX3_sign_79 cl12 hm 3 (by decide) q1822 (fun _ h9 => h9) rfl ?_
          refine g_iret (pc := 82) hQ C ?_ dX3_sign_82
          exact ⟨by rw [qSign, if_pos d_53], by rw [spSign, if_pos d_53, show (s 0 1).toNat = n by omega]; exact hR3, hx2⟩
        · skip
          have d_53 := c_53
          try simp only [decide_eq_true_eq, decide_eq_false_iff_not, Bool.and_eq_true, Bool.and_eq_false_iff, ne_eq, Classical.not_not] at c_53
          refine g_iconst (pc := 56) C dX3_sign_56 ?_
          refine g_iret (pc := 57) hQ C ?_ dX3_sign_57
          exact ⟨by rw [qSign, if_neg (by rw [d_53]; exact Bool.false_ne_true)], by rw [spSign, if_neg (by rw [d_53]; exact Bool.false_ne_true)]; exact hR1, gT1_TM hx (by decide)⟩
theorem m_X3_clear (hl : l.stackTraces = false) (hR : RM A M s t) : gMet E l yX3_clear wX3_clear 0 0 0 [.ref (A 0)] M (mRes A M (up s 0 1 0) (s 0 1) 0) (fun _ _ _ => False) := by
  have hm := hR.1
  have hx : gExt gTM M M := gExt.rf
  refine gMet.of hl rfl (Nat.le_of_ble_eq_true rfl) ?_
  intro Z hE hl0 hQ hX C hnm htab
  subst hE; subst hl0
  replace C : gC Z RX3 cX3_clear 2 (some .int) _ := C
  change G Z _ _ _ 0 [(0, _)] []
  refine g_aload_n (pc := 0) C dX3_clear_0 0 rfl trivial rfl ?_
  refine g_iconst (pc := 1) C dX3_clear_1 ?_
  refine g_put (pc := 2) C dX3_clear_2 cl12 hm (by decide) 0 (by decide) q1819 (fun _ h9 => h9) rfl rfl rfl (Nat.le_of_ble_eq_true rfl) (fs1 := [_, _, _, _, _, _, _, _, _, _, _, _, _, _, _, _, _, _, _, _, _, _, _, _, _, _, _, _, _]) rfl ?_
  refine g_nm (fun M_2 e_2 => ?_)
  replace hx := hx.tr (gExt.putE e_2 hm (by unfold gTM; omega))
  replace hm := g_at e_2
  have hR1 := hR.sc (s1 := s) (t1 := 0) e_2 rfl (fun _ _ => rfl) rfl
  refine g_aload_n (pc := 5) C dX3_clear_5 0 rfl trivial rfl ?_
  refine g_get (pc := 6) C dX3_clear_6 cl12 hm 3 (by decide) q1822 (fun _ h9 => h9) rfl ?_
  refine g_istore_n (pc := 9) C dX3_clear_9 (Nat.le_of_ble_eq_true rfl) rfl rfl (loc1 := [(0, _), (1, _)]) rfl ?_
  refine g_aload_n (pc := 10) C dX3_clear_10 0 rfl trivial rfl ?_
  refine g_iconst (pc := 11) C dX3_clear_11 ?_
  refine g_put (pc := 12) C dX3_clear_12 cl12 hm (by decide) 3 (by decide) q1822 (fun _ h9 => h9) rfl rfl rfl (Nat.le_of_ble_eq_true rfl) (fs1 := [_, _, _, _, _, _, _, _, _, _, _, _, _, _, _, _, _, _, _, _, _, _, _, _, _, _, _, _, _]) rfl ?_
  refine g_nm (fun M_12 e_12 => ?_)
  replace hx := hx.tr (gExt.putE e_12 hm (by unfold gTM; omega))
  replace hm := g_at e_12
  have hR2 := hR1.w0 (i := 1) (v := 0) e_12 (by decide) rfl
  refine g_iload_n (pc := 15) C dX3_clear_15 1 rfl rfl ?_
  refine g_iret (pc := 16) hQ C ?_ dX3_clear_16
  exact ⟨rfl, hR2, hx⟩
/-- appeal -/
def okA (s : gS) (k : Int) (st : Int) : Bool := okK s k && decide (s 23 (6 * k.toNat + 5) = st)
def kAppeal (s : gS) (k : Int) : Int := th2 (okK s k) (okA s k 0)
def spAppeal (s : gS) (k : Int) : gS := if okK s k && okA s k 0 then up s 23 (6 * k.toNat + 5) 1 else s
def qAppeal (s : gS) (k : Int) : Int := if okK s k && okA s k 0 then 14 - (s 0 0 - s 23 (6 * k.toNat + 2)) else 0
theorem m_X3_appeal (hl : l.stackTraces = false) (hR : RM A M s t) (hW : WF s) {k : Int} (r1 : r32 k) : gMet E l yX3_appeal wX3_appeal 3 0 0 [.ref (A 0), vi k] M (mRes A M (spAppeal s k) (qAppeal s k) (kAppeal s k)) (fun _ _ _ => False) := by
  obtain ⟨hm, h1, h2, h3, h4, h5, h6, h7, h10, h11, h12, h13, h14, h15, h17, h18, h19, h20, h23, h24⟩ := id hR
  have hs := hW.sc
  unfold wfSc at hs
  obtain ⟨r11, r12⟩ := r1
  refine gMet.of hl rfl (Nat.le_of_ble_eq_true rfl) ?_
  intro Z hE hl0 hQ hX C hnm htab
  subst hE; subst hl0
  replace C : gC Z RX3 cX3_appeal 3 (some .int) _ := C
  change G Z _ _ _ 0 [(0, _), (1, _)] []
  refine g_aload_n (pc := 0) C dX3_appeal_0 0 rfl trivial rfl ?_
  refine g_iload_n (pc := 1) C dX3_appeal_1 1 rfl rfl ?_
  refine g_callV (pc := 2) C (m_X3_isClaim hl hR hW ⟨by omega, by omega⟩) cl12 hm q2032 q2034 qs55 q94 q2035 nmX3_isClaim rfl (by decide) (by decide) (Nat.zero_le _) (Nat.zero_le _) rfl (Nat.le_of_ble_eq_true rfl) dX3_appeal_2 (gkf ?_) gkx
  refine g_istore_n (pc := 5) C dX3_appeal_5 (Nat.le_of_ble_eq_true rfl) rfl rfl (loc1 := [(0, _), (1, _), (2, _)]) rfl ?_
  refine g_aload_n (pc := 6) C dX3_appeal_6 0 rfl trivial rfl ?_
  refine g_iload_n (pc := 7) C dX3_appeal_7 2 rfl rfl ?_
  refine g_iload_n (pc := 8) C dX3_appeal_8 2 rfl rfl ?_
  refine g_ifb_eq (pc := 9) C dX3_appeal_9 30 (by decide) (fun c_9 => ?_) (fun c_9 => ?_)
  · skip
    have d_9 := c_9
    try simp only [decide_eq_true_eq, decide_eq_false_iff_not, Bool.and_eq_true, Bool.and_eq_false_iff, ne_eq, Classical.not_not] at c_9
    refine g_iconst (pc := 30) C dX3_appeal_30 ?_
    refine g_callV (pc := 31) C (m_X3_fits hl hR (p := okK s _) (q := okA s k 0)) cl12 hm q1922 q1924 qs40 q94 q1925 nmX3_fits rfl (by decide) (by decide) (by omega) (by omega) (by first | (rw [b2_1 (show okA s k 0 = true by simp only [okA, okK, Bool.and_eq_true, decide_eq_true_eq]; omega)]; rfl) | (rw [b2_z0 (show okA s k 0 = false by simp only [okA, okK, Bool.and_eq_false_iff, decide_eq_false_iff_not]; omega)]; rfl)) (Nat.le_of_ble_eq_true rfl) dX3_appeal_31 (fun v_31 M_31 h_31 => ?_) (fun E_31 q_31 M_31 h_31 => ?_)
    rotate_left
    · exact h_31.elim
    obtain ⟨rfl, hR1, hx⟩ := h_31
    obtain ⟨hm, h1, h2, h3, h4, h5, h6, h7, h10, h11, h12, h13, h14, h15, h17, h18, h19, h20, h23, h24⟩ := id hR1
    refine g_ifb_ne (pc := 34) C dX3_appeal_34 39 (by decide) (fun c_34 => ?_) (fun c_34 => ?_)
    · skip
      have d_34 := c_34
      try simp only [decide_eq_true_eq, decide_eq_false_iff_not, Bool.and_eq_true, Bool.and_eq_false_iff, ne_eq, Classical.not_not] at c_34
      simp only [okK, okA, Bool.and_eq_true, decide_eq_true_eq] at c_34
      refine g_aload_n (pc := 39) C dX3_appeal_39 0 rfl trivial rfl ?_
      refine g_get (pc := 40) C dX3_appeal_40 cl12 hm 25 (by decide) q1844 (fun _ h9 => h9) rfl ?_
      refine g_bipush (pc := 43) C dX3_appeal_43 (by decide) ?_
      refine g_iload_n (pc := 45) C dX3_appeal_45 1 rfl rfl ?_
      refine g_imul (pc := 46) C dX3_appeal_46 ?_
      refine g_iconst (pc := 47) C dX3_appeal_47 ?_
      refine g_iadd (pc := 48) C dX3_appeal_48 ?_
      refine g_iconst (pc := 49) C dX3_appeal_49 ?_
      have hx2 := gT1_TM hx (by decide)
      refine g_iast (pc := 50) C dX3_appeal_50 h23 (by decide) (6 * k.toNat + 5) (by omega) (by omega) (by omega) ?_
      refine g_nm (fun M_50 e_50 => ?_)
      replace hx2 := hx2.tr (gExt.putE e_50 h23 (by unfold gTM; omega))
      replace hm := g_fr e_50 hm (g_ne hm h23 (by intro e; cases e))
      replace h23 := g_at e_50
      have hR2 := hR1.w23 e_50
      refine g_bipush (pc := 51) C dX3_appeal_51 (by decide) ?_
      refine g_aload_n (pc := 53) C dX3_appeal_53 0 rfl trivial rfl ?_
      refine g_get (pc := 54) C dX3_appeal_54 cl12 hm 1 (by decide) q1820 (fun _ h9 => h9) rfl ?_
      refine g_aload_n (pc := 57) C dX3_appeal_57 0 rfl trivial rfl ?_
      refine g_get (pc := 58) C dX3_appeal_58 cl12 hm 25 (by decide) q1844 (fun _ h9 => h9) rfl ?_
      refine g_bipush (pc := 61) C dX3_appeal_61 (by decide) ?_
      refine g_iload_n (pc := 63) C dX3_appeal_63 1 rfl rfl ?_
      refine g_imul (pc := 64) C dX3_appeal_64 ?_
      refine g_iconst (pc := 65) C dX3_appeal_65 ?_
      refine g_iadd (pc := 66) C dX3_appeal_66 ?_
      refine g_iald (pc := 67) C dX3_appeal_67 h23 (6 * k.toNat + 2) (by omega) (by omega) (by omega) ?_
      rw [gUp_n _ _ (by omega)]
      refine g_isub (pc := 68) C dX3_appeal_68 ?_
      refine g_isub (pc := 69) C dX3_appeal_69 ?_
      refine g_iret (pc := 70) hQ C ?_ dX3_appeal_70
      exact ⟨by rw [qAppeal, if_pos d_34], by rw [spAppeal, if_pos d_34]; exact hR2, hx2⟩
    · skip
      have d_34 := c_34
      try simp only [decide_eq_true_eq, decide_eq_false_iff_not, Bool.and_eq_true, Bool.and_eq_false_iff, ne_eq, Classical.not_not] at c_34
      refine g_iconst (pc := 37) C dX3_appeal_37 ?_
      refine g_iret (pc := 38) hQ C ?_ dX3_appeal_38
      exact ⟨by rw [qAppeal, if_neg (by rw [d_34]; exact Bool.false_ne_true)], by rw [spAppeal, if_neg (by rw [d_34]; exact Bool.false_ne_true)]; exact hR1, gT1_TM hx (by decide)⟩
  · skip
    have d_9 := c_9
    try simp only [decide_eq_true_eq, decide_eq_false_iff_not, Bool.and_eq_true, Bool.and_eq_false_iff, ne_eq, Classical.not_not] at c_9
    have hcl := hW.claim (k := k.toNat) (by omega)
    unfold wfClaim at hcl
    refine g_aload_n (pc := 12) C dX3_appeal_12 0 rfl trivial rfl ?_
    refine g_get (pc := 13) C dX3_appeal_13 cl12 hm 25 (by decide) q1844 (fun _ h9 => h9) rfl ?_
    refine g_bipush (pc := 16) C dX3_appeal_16 (by decide) ?_
    refine g_iload_n (pc := 18) C dX3_appeal_18 1 rfl rfl ?_
    refine g_imul (pc := 19) C dX3_appeal_19 ?_
    refine g_iconst (pc := 20) C dX3_appeal_20 ?_
    refine g_iadd (pc := 21) C dX3_appeal_21 ?_
    refine g_iald (pc := 22) C dX3_appeal_22 h23 (6 * k.toNat + 5) (by omega) (by omega) (by omega) ?_
    refine g_if_ne (pc := 23) C dX3_appeal_23 30 ⟨by omega, by omega⟩ (by decide) (fun c_23 => ?_) (fun c_23 => ?_)
    · skip
      refine g_iconst (pc := 30) C dX3_appeal_30 ?_
      refine g_callV (pc := 31) C (m_X3_fits hl hR (p := okK s _) (q := okA s k 0)) cl12 hm q1922 q1924 qs40 q94 q1925 nmX3_fits rfl (by decide) (by decide) (by omega) (by omega) (by first | (rw [b2_1 (show okA s k 0 = true by simp only [okA, okK, Bool.and_eq_true, decide_eq_true_eq]; omega)]; rfl) | (rw [b2_z0 (show okA s k 0 = false by simp only [okA, okK, Bool.and_eq_false_iff, decide_eq_false_iff_not]; omega)]; rfl)) (Nat.le_of_ble_eq_true rfl) dX3_appeal_31 (fun v_31 M_31 h_31 => ?_) (fun E_31 q_31 M_31 h_31 => ?_)
      rotate_left
      · exact h_31.elim
      obtain ⟨rfl, hR1, hx⟩ := h_31
      obtain ⟨hm, h1, h2, h3, h4, h5, h6, h7, h10, h11, h12, h13, h14, h15, h17, h18, h19, h20, h23, h24⟩ := id hR1
      refine g_ifb_ne (pc := 34) C dX3_appeal_34 39 (by decide) (fun c_34 => ?_) (fun c_34 => ?_)
      · skip
        have d_34 := c_34
        try simp only [decide_eq_true_eq, decide_eq_false_iff_not, Bool.and_eq_true, Bool.and_eq_false_iff, ne_eq, Classical.not_not] at c_34
        simp only [okK, okA, Bool.and_eq_true, decide_eq_true_eq] at c_34
        refine g_aload_n (pc := 39) C dX3_appeal_39 0 rfl trivial rfl ?_
        refine g_get (pc := 40) C dX3_appeal_40 cl12 hm 25 (by decide) q1844 (fun _ h9 => h9) rfl ?_
        refine g_bipush (pc := 43) C dX3_appeal_43 (by decide) ?_
        refine g_iload_n (pc := 45) C dX3_appeal_45 1 rfl rfl ?_
        refine g_imul (pc := 46) C dX3_appeal_46 ?_
        refine g_iconst (pc := 47) C dX3_appeal_47 ?_
        refine g_iadd (pc := 48) C dX3_appeal_48 ?_
        refine g_iconst (pc := 49) C dX3_appeal_49 ?_
        have hx2 := gT1_TM hx (by decide)
        refine g_iast (pc := 50) C dX3_appeal_50 h23 (by decide) (6 * k.toNat + 5) (by omega) (by omega) (by omega) ?_
        refine g_nm (fun M_50 e_50 => ?_)
        replace hx2 := hx2.tr (gExt.putE e_50 h23 (by unfold gTM; omega))
        replace hm := g_fr e_50 hm (g_ne hm h23 (by intro e; cases e))
        replace h23 := g_at e_50
        have hR2 := hR1.w23 e_50
        refine g_bipush (pc := 51) C dX3_appeal_51 (by decide) ?_
        refine g_aload_n (pc := 53) C dX3_appeal_53 0 rfl trivial rfl ?_
        refine g_get (pc := 54) C dX3_appeal_54 cl12 hm 1 (by decide) q1820 (fun _ h9 => h9) rfl ?_
        refine g_aload_n (pc := 57) C dX3_appeal_57 0 rfl trivial rfl ?_
        refine g_get (pc := 58) C dX3_appeal_58 cl12 hm 25 (by decide) q1844 (fun _ h9 => h9) rfl ?_
        refine g_bipush (pc := 61) C dX3_appeal_61 (by decide) ?_
        refine g_iload_n (pc := 63) C dX3_appeal_63 1 rfl rfl ?_
        refine g_imul (pc := 64) C dX3_appeal_64 ?_
        refine g_iconst (pc := 65) C dX3_appeal_65 ?_
        refine g_iadd (pc := 66) C dX3_appeal_66 ?_
        refine g_iald (pc := 67) C dX3_appeal_67 h23 (6 * k.toNat + 2) (by omega) (by omega) (by omega) ?_
        rw [gUp_n _ _ (by omega)]
        refine g_isub (pc := 68) C dX3_appeal_68 ?_
        refine g_isub (pc := 69) C dX3_appeal_69 ?_
        refine g_iret (pc := 70) hQ C ?_ dX3_appeal_70
        exact ⟨by rw [qAppeal, if_pos d_34], by rw [spAppeal, if_pos d_34]; exact hR2, hx2⟩
      · skip
        have d_34 := c_34
        try simp only [decide_eq_true_eq, decide_eq_false_iff_not, Bool.and_eq_true, Bool.and_eq_false_iff, ne_eq, Classical.not_not] at c_34
        refine g_iconst (pc := 37) C dX3_appeal_37 ?_
        refine g_iret (pc := 38) hQ C ?_ dX3_appeal_38
        exact ⟨by rw [qAppeal, if_neg (by rw [d_34]; exact Bool.false_ne_true)], by rw [spAppeal, if_neg (by rw [d_34]; exact Bool.false_ne_true)]; exact hR1, gT1_TM hx (by decide)⟩
    · skip
      refine g_iconst (pc := 26) C dX3_appeal_26 ?_
      refine g_goto (pc := 27) C dX3_appeal_27 31 (by decide) ?_
      refine g_callV (pc := 31) C (m_X3_fits hl hR (p := okK s _) (q := okA s k 0)) cl12 hm q1922 q1924 qs40 q94 q1925 nmX3_fits rfl (by decide) (by decide) (by omega) (by omega) (by first | (rw [b2_1 (show okA s k 0 = true by simp only [okA, okK, Bool.and_eq_true, decide_eq_true_eq]; omega)]; rfl) | (rw [b2_z0 (show okA s k 0 = false by simp only [okA, okK, Bool.and_eq_false_iff, decide_eq_false_iff_not]; omega)]; rfl)) (Nat.le_of_ble_eq_true rfl) dX3_appeal_31 (fun v_31 M_31 h_31 => ?_) (fun E_31 q_31 M_31 h_31 => ?_)
      rotate_left
      · exact h_31.elim
      obtain ⟨rfl, hR1, hx⟩ := h_31
      obtain ⟨hm, h1, h2, h3, h4, h5, h6, h7, h10, h11, h12, h13, h14, h15, h17, h18, h19, h20, h23, h24⟩ := id hR1
      refine g_ifb_ne (pc := 34) C dX3_appeal_34 39 (by decide) (fun c_34 => ?_) (fun c_34 => ?_)
      · skip
        have d_34 := c_34
        try simp only [decide_eq_true_eq, decide_eq_false_iff_not, Bool.and_eq_true, Bool.and_eq_false_iff, ne_eq, Classical.not_not] at c_34
        simp only [okK, okA, Bool.and_eq_true, decide_eq_true_eq] at c_34
        refine g_aload_n (pc := 39) C dX3_appeal_39 0 rfl trivial rfl ?_
        refine g_get (pc := 40) C dX3_appeal_40 cl12 hm 25 (by decide) q1844 (fun _ h9 => h9) rfl ?_
        refine g_bipush (pc := 43) C dX3_appeal_43 (by decide) ?_
        refine g_iload_n (pc := 45) C dX3_appeal_45 1 rfl rfl ?_
        refine g_imul (pc := 46) C dX3_appeal_46 ?_
        refine g_iconst (pc := 47) C dX3_appeal_47 ?_
        refine g_iadd (pc := 48) C dX3_appeal_48 ?_
        refine g_iconst (pc := 49) C dX3_appeal_49 ?_
        have hx2 := gT1_TM hx (by decide)
        refine g_iast (pc := 50) C dX3_appeal_50 h23 (by decide) (6 * k.toNat + 5) (by omega) (by omega) (by omega) ?_
        refine g_nm (fun M_50 e_50 => ?_)
        replace hx2 := hx2.tr (gExt.putE e_50 h23 (by unfold gTM; omega))
        replace hm := g_fr e_50 hm (g_ne hm h23 (by intro e; cases e))
        replace h23 := g_at e_50
        have hR2 := hR1.w23 e_50
        refine g_bipush (pc := 51) C dX3_appeal_51 (by decide) ?_
        refine g_aload_n (pc := 53) C dX3_appeal_53 0 rfl trivial rfl ?_
        refine g_get (pc := 54) C dX3_appeal_54 cl12 hm 1 (by decide) q1820 (fun _ h9 => h9) rfl ?_
        refine g_aload_n (pc := 57) C dX3_appeal_57 0 rfl trivial rfl ?_
        refine g_get (pc := 58) C dX3_appeal_58 cl12 hm 25 (by decide) q1844 (fun _ h9 => h9) rfl ?_
        refine g_bipush (pc := 61) C dX3_appeal_61 (by decide) ?_
        refine g_iload_n (pc := 63) C dX3_appeal_63 1 rfl rfl ?_
        refine g_imul (pc := 64) C dX3_appeal_64 ?_
        refine g_iconst (pc := 65) C dX3_appeal_65 ?_
        refine g_iadd (pc := 66) C dX3_appeal_66 ?_
        refine g_iald (pc := 67) C dX3_appeal_67 h23 (6 * k.toNat + 2) (by omega) (by omega) (by omega) ?_
        rw [gUp_n _ _ (by omega)]
        refine g_isub (pc := 68) C dX3_appeal_68 ?_
        refine g_isub (pc := 69) C dX3_appeal_69 ?_
        refine g_iret (pc := 70) hQ C ?_ dX3_appeal_70
        exact ⟨by rw [qAppeal, if_pos d_34], by rw [spAppeal, if_pos d_34]; exact hR2, hx2⟩
      · skip
        have d_34 := c_34
        try simp only [decide_eq_true_eq, decide_eq_false_iff_not, Bool.and_eq_true, Bool.and_eq_false_iff, ne_eq, Classical.not_not] at c_34
        refine g_iconst (pc := 37) C dX3_appeal_37 ?_
        refine g_iret (pc := 38) hQ C ?_ dX3_appeal_38
        exact ⟨by rw [qAppeal, if_neg (by rw [d_34]; exact Bool.false_ne_true)], by rw [spAppeal, if_neg (by rw [d_34]; exact Bool.false_ne_true)]; exact hR1, gT1_TM hx (by decide)⟩
theorem iv_tn {k : Int} (h : 0 ≤ k) : iv k = iv ((k.toNat : Nat) : Int) := by rw [Int.toNat_of_nonneg h]
/-- some of a claim goes -/
def spLessen (s : gS) (k : Nat) (x : Int) : gS := up (up s 23 (6 * k + 4) (s 23 (6 * k + 4) - x)) 23 (6 * k + 5) (if s 23 (6 * k + 5) = 2 ∧ s 23 (6 * k + 4) - x = 0 then 3 else s 23 (6 * k + 5))
theorem m_X3_lessen (hl : l.stackTraces = false) (hR : RM A M s t) {k : Nat} {x : Int} (hk : 6 * (k : Int) + 5 < s 0 6 ∧ s 0 6 ≤ 1000000) (h4 : r32 (s 23 (6 * k + 4) - x)) (h5 : r32 (s 23 (6 * k + 5))) : gMet E l yX3_lessen wX3_lessen 0 0 0 [.ref (A 0), vi k, vi x] M (fun v M1 => v = none ∧ RM A M1 (spLessen s k x) t ∧ gExt gTM M M1) (fun _ _ _ => False) := by
  obtain ⟨hm, -, -, -, -, -, -, -, -, -, -, -, -, -, -, -, -, -, h23, -⟩ := id hR
  have hx : gExt gTM M M := gExt.rf
  have h50 := h5
  have h40 := h4
  obtain ⟨h51, h52⟩ := h5
  obtain ⟨h41, h42⟩ := h4
  refine gMet.of hl rfl (Nat.le_of_ble_eq_true rfl) ?_
  intro Z hE hl0 hQ hX C hnm htab
  subst hE; subst hl0
  replace C : gC Z RX3 cX3_lessen 4 none _ := C
  change G Z _ _ _ 0 [(0, _), (1, _), (2, _)] []
  refine g_aload_n (pc := 0) C dX3_lessen_0 0 rfl trivial rfl ?_
  refine g_get (pc := 1) C dX3_lessen_1 cl12 hm 25 (by decide) q1844 (fun _ h9 => h9) rfl ?_
  refine g_bipush (pc := 4) C dX3_lessen_4 (by decide) ?_
  refine g_iload_n (pc := 6) C dX3_lessen_6 1 rfl rfl ?_
  refine g_imul (pc := 7) C dX3_lessen_7 ?_
  refine g_iconst (pc := 8) C dX3_lessen_8 ?_
  refine g_iadd (pc := 9) C dX3_lessen_9 ?_
  refine g_dup2 (pc := 10) C dX3_lessen_10 rfl rfl ?_
  refine g_iald (pc := 11) C dX3_lessen_11 h23 (6 * k + 4) (by omega) (by omega) (by omega) ?_
  refine g_iload_n (pc := 12) C dX3_lessen_12 2 rfl rfl ?_
  refine g_isub (pc := 13) C dX3_lessen_13 ?_
  refine g_iast (pc := 14) C dX3_lessen_14 h23 (by decide) (6 * k + 4) (by omega) (by omega) (by omega) ?_
  refine g_nm (fun M_14 e_14 => ?_)
  replace hx := hx.tr (gExt.putE e_14 h23 (by unfold gTM; omega))
  replace hm := g_fr e_14 hm (g_ne hm h23 (by intro e; cases e))
  replace h23 := g_at e_14
  have hR1 := hR.w23 e_14
  refine g_aload_n (pc := 15) C dX3_lessen_15 0 rfl trivial rfl ?_
  refine g_get (pc := 16) C dX3_lessen_16 cl12 hm 25 (by decide) q1844 (fun _ h9 => h9) rfl ?_
  refine g_bipush (pc := 19) C dX3_lessen_19 (by decide) ?_
  refine g_iload_n (pc := 21) C dX3_lessen_21 1 rfl rfl ?_
  refine g_imul (pc := 22) C dX3_lessen_22 ?_
  refine g_iconst (pc := 23) C dX3_lessen_23 ?_
  refine g_iadd (pc := 24) C dX3_lessen_24 ?_
  refine g_iald (pc := 25) C dX3_lessen_25 h23 (6 * k + 5) (by omega) (by omega) (by omega) ?_
  rw [gUp_n _ _ (by omega)]
  refine g_iconst (pc := 26) C dX3_lessen_26 ?_
  refine g_icmp_ne (pc := 27) C dX3_lessen_27 48 h50 ⟨by decide, by decide⟩ (by decide) (fun c_27 => ?_) (fun c_27 => ?_)
  · skip
    refine g_iconst (pc := 48) C dX3_lessen_48 ?_
    refine g_istore_n (pc := 49) C dX3_lessen_49 (Nat.le_of_ble_eq_true rfl) rfl rfl (loc1 := [(0, _), (1, _), (2, _), (3, _)]) rfl ?_
    refine g_aload_n (pc := 50) C dX3_lessen_50 0 rfl trivial rfl ?_
    refine g_get (pc := 51) C dX3_lessen_51 cl12 hm 25 (by decide) q1844 (fun _ h9 => h9) rfl ?_
    refine g_bipush (pc := 54) C dX3_lessen_54 (by decide) ?_
    refine g_iload_n (pc := 56) C dX3_lessen_56 1 rfl rfl ?_
    refine g_imul (pc := 57) C dX3_lessen_57 ?_
    refine g_iconst (pc := 58) C dX3_lessen_58 ?_
    refine g_iadd (pc := 59) C dX3_lessen_59 ?_
    refine g_iload_n (pc := 60) C dX3_lessen_60 3 rfl rfl ?_
    refine g_if_eq (pc := 61) C dX3_lessen_61 68 ⟨by omega, by omega⟩ (by decide) (fun c_61 => ?_) (fun c_61 => ?_)
    · skip
      refine g_aload_n (pc := 68) C dX3_lessen_68 0 rfl trivial rfl ?_
      refine g_get (pc := 69) C dX3_lessen_69 cl12 hm 25 (by decide) q1844 (fun _ h9 => h9) rfl ?_
      refine g_bipush (pc := 72) C dX3_lessen_72 (by decide) ?_
      refine g_iload_n (pc := 74) C dX3_lessen_74 1 rfl rfl ?_
      refine g_imul (pc := 75) C dX3_lessen_75 ?_
      refine g_iconst (pc := 76) C dX3_lessen_76 ?_
      refine g_iadd (pc := 77) C dX3_lessen_77 ?_
      refine g_iald (pc := 78) C dX3_lessen_78 h23 (6 * k + 5) (by omega) (by omega) (by omega) ?_
      try rw [gUp_n _ _ (by omega)]
      refine g_iast (pc := 79) C dX3_lessen_79 h23 (by decide) (6 * k + 5) (by omega) (by omega) (by omega) ?_
      refine g_nm (fun M_79 e_79 => ?_)
      replace hx := hx.tr (gExt.putE e_79 h23 (by unfold gTM; omega))
      replace hm := g_fr e_79 hm (g_ne hm h23 (by intro e; cases e))
      replace h23 := g_at e_79
      have hR2 := hR1.w23 e_79
      refine g_vret (pc := 80) hQ C ?_ dX3_lessen_80
      refine ⟨rfl, ?_, hx⟩
      first | (rw [spLessen, if_pos (by omega)]; exact hR2) | (rw [spLessen, if_neg (by omega)]; exact hR2)
    · skip
      omega
  · skip
    refine g_aload_n (pc := 30) C dX3_lessen_30 0 rfl trivial rfl ?_
    refine g_get (pc := 31) C dX3_lessen_31 cl12 hm 25 (by decide) q1844 (fun _ h9 => h9) rfl ?_
    refine g_bipush (pc := 34) C dX3_lessen_34 (by decide) ?_
    refine g_iload_n (pc := 36) C dX3_lessen_36 1 rfl rfl ?_
    refine g_imul (pc := 37) C dX3_lessen_37 ?_
    refine g_iconst (pc := 38) C dX3_lessen_38 ?_
    refine g_iadd (pc := 39) C dX3_lessen_39 ?_
    refine g_iald (pc := 40) C dX3_lessen_40 h23 (6 * k + 4) (by omega) (by omega) (by omega) ?_
    rw [gUp_s]
    refine g_if_ne (pc := 41) C dX3_lessen_41 48 h40 (by decide) (fun c_41 => ?_) (fun c_41 => ?_)
    · skip
      refine g_iconst (pc := 48) C dX3_lessen_48 ?_
      refine g_istore_n (pc := 49) C dX3_lessen_49 (Nat.le_of_ble_eq_true rfl) rfl rfl (loc1 := [(0, _), (1, _), (2, _), (3, _)]) rfl ?_
      refine g_aload_n (pc := 50) C dX3_lessen_50 0 rfl trivial rfl ?_
      refine g_get (pc := 51) C dX3_lessen_51 cl12 hm 25 (by decide) q1844 (fun _ h9 => h9) rfl ?_
      refine g_bipush (pc := 54) C dX3_lessen_54 (by decide) ?_
      refine g_iload_n (pc := 56) C dX3_lessen_56 1 rfl rfl ?_
      refine g_imul (pc := 57) C dX3_lessen_57 ?_
      refine g_iconst (pc := 58) C dX3_lessen_58 ?_
      refine g_iadd (pc := 59) C dX3_lessen_59 ?_
      refine g_iload_n (pc := 60) C dX3_lessen_60 3 rfl rfl ?_
      refine g_if_eq (pc := 61) C dX3_lessen_61 68 ⟨by omega, by omega⟩ (by decide) (fun c_61 => ?_) (fun c_61 => ?_)
      · skip
        refine g_aload_n (pc := 68) C dX3_lessen_68 0 rfl trivial rfl ?_
        refine g_get (pc := 69) C dX3_lessen_69 cl12 hm 25 (by decide) q1844 (fun _ h9 => h9) rfl ?_
        refine g_bipush (pc := 72) C dX3_lessen_72 (by decide) ?_
        refine g_iload_n (pc := 74) C dX3_lessen_74 1 rfl rfl ?_
        refine g_imul (pc := 75) C dX3_lessen_75 ?_
        refine g_iconst (pc := 76) C dX3_lessen_76 ?_
        refine g_iadd (pc := 77) C dX3_lessen_77 ?_
        refine g_iald (pc := 78) C dX3_lessen_78 h23 (6 * k + 5) (by omega) (by omega) (by omega) ?_
        try rw [gUp_n _ _ (by omega)]
        refine g_iast (pc := 79) C dX3_lessen_79 h23 (by decide) (6 * k + 5) (by omega) (by omega) (by omega) ?_
        refine g_nm (fun M_79 e_79 => ?_)
        replace hx := hx.tr (gExt.putE e_79 h23 (by unfold gTM; omega))
        replace hm := g_fr e_79 hm (g_ne hm h23 (by intro e; cases e))
        replace h23 := g_at e_79
        have hR2 := hR1.w23 e_79
        refine g_vret (pc := 80) hQ C ?_ dX3_lessen_80
        refine ⟨rfl, ?_, hx⟩
        first | (rw [spLessen, if_pos (by omega)]; exact hR2) | (rw [spLessen, if_neg (by omega)]; exact hR2)
      · skip
        omega
    · skip
      refine g_iconst (pc := 44) C dX3_lessen_44 ?_
      refine g_goto (pc := 45) C dX3_lessen_45 49 (by decide) ?_
      refine g_istore_n (pc := 49) C dX3_lessen_49 (Nat.le_of_ble_eq_true rfl) rfl rfl (loc1 := [(0, _), (1, _), (2, _), (3, _)]) rfl ?_
      refine g_aload_n (pc := 50) C dX3_lessen_50 0 rfl trivial rfl ?_
      refine g_get (pc := 51) C dX3_lessen_51 cl12 hm 25 (by decide) q1844 (fun _ h9 => h9) rfl ?_
      refine g_bipush (pc := 54) C dX3_lessen_54 (by decide) ?_
      refine g_iload_n (pc := 56) C dX3_lessen_56 1 rfl rfl ?_
      refine g_imul (pc := 57) C dX3_lessen_57 ?_
      refine g_iconst (pc := 58) C dX3_lessen_58 ?_
      refine g_iadd (pc := 59) C dX3_lessen_59 ?_
      refine g_iload_n (pc := 60) C dX3_lessen_60 3 rfl rfl ?_
      refine g_if_eq (pc := 61) C dX3_lessen_61 68 ⟨by omega, by omega⟩ (by decide) (fun c_61 => ?_) (fun c_61 => ?_)
      · skip
        omega
      · skip
        refine g_iconst (pc := 64) C dX3_lessen_64 ?_
        refine g_goto (pc := 65) C dX3_lessen_65 79 (by decide) ?_
        try rw [gUp_n _ _ (by omega)]
        refine g_iast (pc := 79) C dX3_lessen_79 h23 (by decide) (6 * k + 5) (by omega) (by omega) (by omega) ?_
        refine g_nm (fun M_79 e_79 => ?_)
        replace hx := hx.tr (gExt.putE e_79 h23 (by unfold gTM; omega))
        replace hm := g_fr e_79 hm (g_ne hm h23 (by intro e; cases e))
        replace h23 := g_at e_79
        have hR2 := hR1.w23 e_79
        refine g_vret (pc := 80) hQ C ?_ dX3_lessen_80
        refine ⟨rfl, ?_, hx⟩
        first | (rw [spLessen, if_pos (by omega)]; exact hR2) | (rw [spLessen, if_neg (by omega)]; exact hR2)
/-- decide, payBack -/
def kDecide (s : gS) (k won : Int) : Int := th3 (okK s k) (okI won 0 100) (okA s k 1)
def spDecide (s : gS) (k won : Int) : gS := if okK s k && okI won 0 100 && okA s k 1 then spLessen (up s 23 (6 * k.toNat + 5) 2) k.toNat (s 23 (6 * k.toNat + 3) * won / 100) else s
def qDecide (s : gS) (k won : Int) : Int := if okK s k && okI won 0 100 && okA s k 1 then s 23 (6 * k.toNat + 4) - s 23 (6 * k.toNat + 3) * won / 100 else 0
theorem m_X3_decide (hl : l.stackTraces = false) (hR : RM A M s t) (hW : WF s) {k won : Int} (r1 : r32 k) (r2 : r32 won) : gMet E l yX3_decide wX3_decide 3 0 0 [.ref (A 0), vi k, vi won] M (mRes A M (spDecide s k won) (qDecide s k won) (kDecide s k won)) (fun _ _ _ => False) := by
  obtain ⟨hm, h1, h2, h3, h4, h5, h6, h7, h10, h11, h12, h13, h14, h15, h17, h18, h19, h20, h23, h24⟩ := id hR
  have hs := hW.sc
  unfold wfSc at hs
  obtain ⟨r11, r12⟩ := r1
  obtain ⟨r21, r22⟩ := r2
  refine gMet.of hl rfl (Nat.le_of_ble_eq_true rfl) ?_
  intro Z hE hl0 hQ hX C hnm htab
  subst hE; subst hl0
  replace C : gC Z RX3 cX3_decide 4 (some .int) _ := C
  change G Z _ _ _ 0 [(0, _), (1, _), (2, _)] []
  refine g_aload_n (pc := 0) C dX3_decide_0 0 rfl trivial rfl ?_
  refine g_iload_n (pc := 1) C dX3_decide_1 1 rfl rfl ?_
  refine g_callV (pc := 2) C (m_X3_isClaim hl hR hW ⟨by omega, by omega⟩) cl12 hm q2032 q2034 qs55 q94 q2035 nmX3_isClaim rfl (by decide) (by decide) (Nat.zero_le _) (Nat.zero_le _) rfl (Nat.le_of_ble_eq_true rfl) dX3_decide_2 (gkf ?_) gkx
  refine g_istore_n (pc := 5) C dX3_decide_5 (Nat.le_of_ble_eq_true rfl) rfl rfl (loc1 := [(0, _), (1, _), (2, _), (3, _)]) rfl ?_
  refine g_aload_n (pc := 6) C dX3_decide_6 0 rfl trivial rfl ?_
  refine g_iload_n (pc := 7) C dX3_decide_7 3 rfl rfl ?_
  refine g_iload_n (pc := 8) C dX3_decide_8 2 rfl rfl ?_
  refine g_i2l (pc := 9) C dX3_decide_9 ⟨by omega, by omega⟩ ?_
  refine g_lconst0 (pc := 10) C dX3_decide_10 ?_
  refine g_ldc2 (pc := 11) C dX3_decide_11 (x := jv 100) q2040 ?_
  refine g_callS (pc := 14) C (m_X3_isIn hl ⟨by omega, by omega⟩ ⟨by decide, by decide⟩ ⟨by decide, by decide⟩) q1917 q1918 q94 q1919 nmX3_isIn rfl (by decide) (by decide) (Nat.zero_le _) (Nat.zero_le _) rfl (Nat.le_of_ble_eq_true rfl) dX3_decide_14 (gkf ?_) gkx
  refine g_iload_n (pc := 17) C dX3_decide_17 3 rfl rfl ?_
  refine g_ifb_eq (pc := 18) C dX3_decide_18 40 (by decide) (fun c_18 => ?_) (fun c_18 => ?_)
  · skip
    have d_18 := c_18
    try simp only [decide_eq_true_eq, decide_eq_false_iff_not, Bool.and_eq_true, Bool.and_eq_false_iff, ne_eq, Classical.not_not] at c_18
    refine g_iconst (pc := 40) C dX3_decide_40 ?_
    refine g_callV (pc := 41) C (m_X3_fits_3 hl hR (p := okK s k) (q := okI won 0 100) (r := okA s k 1)) cl12 hm q2041 q2043 qs56 q94 q2044 nmX3_fits_3 rfl (by decide) (by decide) (by omega) (by omega) (by first | (rw [b2_1 (show okA s k 1 = true by simp only [okA, okK, Bool.and_eq_true, decide_eq_true_eq]; omega)]; rfl) | (rw [b2_z0 (show okA s k 1 = false by simp only [okA, okK, Bool.and_eq_false_iff, decide_eq_false_iff_not]; omega)]; rfl)) (Nat.le_of_ble_eq_true rfl) dX3_decide_41 (fun v_41 M_41 h_41 => ?_) (fun E_41 q_41 M_41 h_41 => ?_)
    rotate_left
    · exact h_41.elim
    obtain ⟨rfl, hR1, hx⟩ := h_41
    obtain ⟨hm, h1, h2, h3, h4, h5, h6, h7, h10, h11, h12, h13, h14, h15, h17, h18, h19, h20, h23, h24⟩ := id hR1
    refine g_ifb_ne (pc := 44) C dX3_decide_44 49 (by decide) (fun c_44 => ?_) (fun c_44 => ?_)
    · skip
      have d_44 := c_44
      try simp only [decide_eq_true_eq, decide_eq_false_iff_not, Bool.and_eq_true, Bool.and_eq_false_iff, ne_eq, Classical.not_not] at c_44
      simp only [okK, okA, okI, Bool.and_eq_true, decide_eq_true_eq] at c_44
      have hcl := hW.claim (k := k.toNat) (by omega)
      unfold wfClaim at hcl
      refine g_aload_n (pc := 49) C dX3_decide_49 0 rfl trivial rfl ?_
      refine g_get (pc := 50) C dX3_decide_50 cl12 hm 25 (by decide) q1844 (fun _ h9 => h9) rfl ?_
      refine g_bipush (pc := 53) C dX3_decide_53 (by decide) ?_
      refine g_iload_n (pc := 55) C dX3_decide_55 1 rfl rfl ?_
      refine g_imul (pc := 56) C dX3_decide_56 ?_
      refine g_iconst (pc := 57) C dX3_decide_57 ?_
      refine g_iadd (pc := 58) C dX3_decide_58 ?_
      refine g_iconst (pc := 59) C dX3_decide_59 ?_
      have hx2 := gT1_TM hx (by decide)
      refine g_iast (pc := 60) C dX3_decide_60 h23 (by decide) (6 * k.toNat + 5) (by omega) (by omega) (by omega) ?_
      refine g_nm (fun M_60 e_60 => ?_)
      replace hx2 := hx2.tr (gExt.putE e_60 h23 (by unfold gTM; omega))
      replace hm := g_fr e_60 hm (g_ne hm h23 (by intro e; cases e))
      replace h23 := g_at e_60
      have hR2 := hR1.w23 e_60
      refine g_aload_n (pc := 61) C dX3_decide_61 0 rfl trivial rfl ?_
      refine g_iload_n (pc := 62) C dX3_decide_62 1 rfl rfl ?_
      refine g_aload_n (pc := 63) C dX3_decide_63 0 rfl trivial rfl ?_
      refine g_get (pc := 64) C dX3_decide_64 cl12 hm 25 (by decide) q1844 (fun _ h9 => h9) rfl ?_
      refine g_bipush (pc := 67) C dX3_decide_67 (by decide) ?_
      refine g_iload_n (pc := 69) C dX3_decide_69 1 rfl rfl ?_
      refine g_imul (pc := 70) C dX3_decide_70 ?_
      refine g_iconst (pc := 71) C dX3_decide_71 ?_
      refine g_iadd (pc := 72) C dX3_decide_72 ?_
      refine g_iald (pc := 73) C dX3_decide_73 h23 (6 * k.toNat + 3) (by omega) (by omega) (by omega) ?_
      rw [gUp_n _ _ (by omega)]
      have p1 := Int.mul_le_mul hcl.2.2.2.1.2 c_44.1.2.2 (by omega) (by omega)
      have p2 := Int.mul_nonneg (show 0 ≤ s 23 (6 * k.toNat + 3) by omega) c_44.1.2.1
      refine g_i2l (pc := 74) C dX3_decide_74 ⟨by omega, by omega⟩ ?_
      refine g_iload_n (pc := 75) C dX3_decide_75 2 rfl rfl ?_
      refine g_i2l (pc := 76) C dX3_decide_76 ⟨by omega, by omega⟩ ?_
      refine g_lmul (pc := 77) C dX3_decide_77 ?_
      refine g_ldc2 (pc := 78) C dX3_decide_78 (x := jv 100) q2040 ?_
      refine g_ldiv (pc := 81) C dX3_decide_81 ⟨by omega, by omega⟩ ⟨by omega, by omega⟩ ?_
      refine g_l2i (pc := 82) C dX3_decide_82 ⟨by omega, by omega⟩ ?_
      refine g_callV (pc := 83) C (m_X3_lessen hl hR2 (k := k.toNat) (x := s 23 (6 * k.toNat + 3) * won / 100) (by show _ < s 0 6 ∧ s 0 6 ≤ _; omega) (by show r32 (gUp (s 23) _ _ _ - _); rw [gUp_n _ _ (by omega)]; exact ⟨by omega, by omega⟩) (by show r32 (gUp (s 23) _ _ _); rw [gUp_s]; exact ⟨by decide, by decide⟩)) cl12 hm q2045 q2047 qs57 q94 q2048 nmX3_lessen rfl (by decide) (by decide) (by omega) (by omega) (by rw [iv_tn (k := k) (by omega)]; rfl) (Nat.le_of_ble_eq_true rfl) dX3_decide_83 (fun v_83 M_83 h_83 => ?_) (fun E_83 q_83 M_83 h_83 => ?_)
      rotate_left
      · exact h_83.elim
      obtain ⟨rfl, hR3, hx3⟩ := h_83
      obtain ⟨hm, -, -, -, -, -, -, -, -, -, -, -, -, -, -, -, -, -, h23, -⟩ := id hR3
      refine g_aload_n (pc := 86) C dX3_decide_86 0 rfl trivial rfl ?_
      refine g_get (pc := 87) C dX3_decide_87 cl12 hm 25 (by decide) q1844 (fun _ h9 => h9) rfl ?_
      refine g_bipush (pc := 90) C dX3_decide_90 (by decide) ?_
      refine g_iload_n (pc := 92) C dX3_decide_92 1 rfl rfl ?_
      refine g_imul (pc := 93) C dX3_decide_93 ?_
      refine g_iconst (pc := 94) C dX3_decide_94 ?_
      refine g_iadd (pc := 95) C dX3_decide_95 ?_
      refine g_iald (pc := 96) C dX3_decide_96 h23 (6 * k.toNat + 4) (by omega) (by show _ < (s 0 6).toNat; omega) (by show (s 0 6).toNat ≤ _; omega) ?_
      refine g_iret (pc := 97) hQ C ?_ dX3_decide_97
      refine ⟨?_, by rw [spDecide, if_pos d_44]; exact hR3, hx2.tr hx3⟩
      rw [qDecide, if_pos d_44]
      show some (vi (gUp (gUp (gUp (s 23) _ _) _ _) _ _ _)) = _
      rw [gUp_n _ _ (by omega), gUp_s]
      show some (vi (gUp (s 23) _ _ _ - _)) = _
      rw [gUp_n _ _ (by omega)]
    · skip
      have d_44 := c_44
      try simp only [decide_eq_true_eq, decide_eq_false_iff_not, Bool.and_eq_true, Bool.and_eq_false_iff, ne_eq, Classical.not_not] at c_44
      refine g_iconst (pc := 47) C dX3_decide_47 ?_
      refine g_iret (pc := 48) hQ C ?_ dX3_decide_48
      exact ⟨by rw [qDecide, if_neg (by rw [d_44]; exact Bool.false_ne_true)], by rw [spDecide, if_neg (by rw [d_44]; exact Bool.false_ne_true)]; exact hR1, gT1_TM hx (by decide)⟩
  · skip
    have d_18 := c_18
    try simp only [decide_eq_true_eq, decide_eq_false_iff_not, Bool.and_eq_true, Bool.and_eq_false_iff, ne_eq, Classical.not_not] at c_18
    have hcl := hW.claim (k := k.toNat) (by omega)
    unfold wfClaim at hcl
    refine g_aload_n (pc := 21) C dX3_decide_21 0 rfl trivial rfl ?_
    refine g_get (pc := 22) C dX3_decide_22 cl12 hm 25 (by decide) q1844 (fun _ h9 => h9) rfl ?_
    refine g_bipush (pc := 25) C dX3_decide_25 (by decide) ?_
    refine g_iload_n (pc := 27) C dX3_decide_27 1 rfl rfl ?_
    refine g_imul (pc := 28) C dX3_decide_28 ?_
    refine g_iconst (pc := 29) C dX3_decide_29 ?_
    refine g_iadd (pc := 30) C dX3_decide_30 ?_
    refine g_iald (pc := 31) C dX3_decide_31 h23 (6 * k.toNat + 5) (by omega) (by omega) (by omega) ?_
    refine g_iconst (pc := 32) C dX3_decide_32 ?_
    refine g_icmp_ne (pc := 33) C dX3_decide_33 40 ⟨by omega, by omega⟩ ⟨by omega, by omega⟩ (by decide) (fun c_33 => ?_) (fun c_33 => ?_)
    · skip
      refine g_iconst (pc := 40) C dX3_decide_40 ?_
      refine g_callV (pc := 41) C (m_X3_fits_3 hl hR (p := okK s k) (q := okI won 0 100) (r := okA s k 1)) cl12 hm q2041 q2043 qs56 q94 q2044 nmX3_fits_3 rfl (by decide) (by decide) (by omega) (by omega) (by first | (rw [b2_1 (show okA s k 1 = true by simp only [okA, okK, Bool.and_eq_true, decide_eq_true_eq]; omega)]; rfl) | (rw [b2_z0 (show okA s k 1 = false by simp only [okA, okK, Bool.and_eq_false_iff, decide_eq_false_iff_not]; omega)]; rfl)) (Nat.le_of_ble_eq_true rfl) dX3_decide_41 (fun v_41 M_41 h_41 => ?_) (fun E_41 q_41 M_41 h_41 => ?_)
      rotate_left
      · exact h_41.elim
      obtain ⟨rfl, hR1, hx⟩ := h_41
      obtain ⟨hm, h1, h2, h3, h4, h5, h6, h7, h10, h11, h12, h13, h14, h15, h17, h18, h19, h20, h23, h24⟩ := id hR1
      refine g_ifb_ne (pc := 44) C dX3_decide_44 49 (by decide) (fun c_44 => ?_) (fun c_44 => ?_)
      · skip
        have d_44 := c_44
        try simp only [decide_eq_true_eq, decide_eq_false_iff_not, Bool.and_eq_true, Bool.and_eq_false_iff, ne_eq, Classical.not_not] at c_44
        simp only [okK, okA, okI, Bool.and_eq_true, decide_eq_true_eq] at c_44
        have hcl := hW.claim (k := k.toNat) (by omega)
        unfold wfClaim at hcl
        refine g_aload_n (pc := 49) C dX3_decide_49 0 rfl trivial rfl ?_
        refine g_get (pc := 50) C dX3_decide_50 cl12 hm 25 (by decide) q1844 (fun _ h9 => h9) rfl ?_
        refine g_bipush (pc := 53) C dX3_decide_53 (by decide) ?_
        refine g_iload_n (pc := 55) C dX3_decide_55 1 rfl rfl ?_
        refine g_imul (pc := 56) C dX3_decide_56 ?_
        refine g_iconst (pc := 57) C dX3_decide_57 ?_
        refine g_iadd (pc := 58) C dX3_decide_58 ?_
        refine g_iconst (pc := 59) C dX3_decide_59 ?_
        have hx2 := gT1_TM hx (by decide)
        refine g_iast (pc := 60) C dX3_decide_60 h23 (by decide) (6 * k.toNat + 5) (by omega) (by omega) (by omega) ?_
        refine g_nm (fun M_60 e_60 => ?_)
        replace hx2 := hx2.tr (gExt.putE e_60 h23 (by unfold gTM; omega))
        replace hm := g_fr e_60 hm (g_ne hm h23 (by intro e; cases e))
        replace h23 := g_at e_60
        have hR2 := hR1.w23 e_60
        refine g_aload_n (pc := 61) C dX3_decide_61 0 rfl trivial rfl ?_
        refine g_iload_n (pc := 62) C dX3_decide_62 1 rfl rfl ?_
        refine g_aload_n (pc := 63) C dX3_decide_63 0 rfl trivial rfl ?_
        refine g_get (pc := 64) C dX3_decide_64 cl12 hm 25 (by decide) q1844 (fun _ h9 => h9) rfl ?_
        refine g_bipush (pc := 67) C dX3_decide_67 (by decide) ?_
        refine g_iload_n (pc := 69) C dX3_decide_69 1 rfl rfl ?_
        refine g_imul (pc := 70) C dX3_decide_70 ?_
        refine g_iconst (pc := 71) C dX3_decide_71 ?_
        refine g_iadd (pc := 72) C dX3_decide_72 ?_
        refine g_iald (pc := 73) C dX3_decide_73 h23 (6 * k.toNat + 3) (by omega) (by omega) (by omega) ?_
        rw [gUp_n _ _ (by omega)]
        have p1 := Int.mul_le_mul hcl.2.2.2.1.2 c_44.1.2.2 (by omega) (by omega)
        have p2 := Int.mul_nonneg (show 0 ≤ s 23 (6 * k.toNat + 3) by omega) c_44.1.2.1
        refine g_i2l (pc := 74) C dX3_decide_74 ⟨by omega, by omega⟩ ?_
        refine g_iload_n (pc := 75) C dX3_decide_75 2 rfl rfl ?_
        refine g_i2l (pc := 76) C dX3_decide_76 ⟨by omega, by omega⟩ ?_
        refine g_lmul (pc := 77) C dX3_decide_77 ?_
        refine g_ldc2 (pc := 78) C dX3_decide_78 (x := jv 100) q2040 ?_
        refine g_ldiv (pc := 81) C dX3_decide_81 ⟨by omega, by omega⟩ ⟨by omega, by omega⟩ ?_
        refine g_l2i (pc := 82) C dX3_decide_82 ⟨by omega, by omega⟩ ?_
        refine g_callV (pc := 83) C (m_X3_lessen hl hR2 (k := k.toNat) (x := s 23 (6 * k.toNat + 3) * won / 100) (by show _ < s 0 6 ∧ s 0 6 ≤ _; omega) (by show r32 (gUp (s 23) _ _ _ - _); rw [gUp_n _ _ (by omega)]; exact ⟨by omega, by omega⟩) (by show r32 (gUp (s 23) _ _ _); rw [gUp_s]; exact ⟨by decide, by decide⟩)) cl12 hm q2045 q2047 qs57 q94 q2048 nmX3_lessen rfl (by decide) (by decide) (by omega) (by omega) (by rw [iv_tn (k := k) (by omega)]; rfl) (Nat.le_of_ble_eq_true rfl) dX3_decide_83 (fun v_83 M_83 h_83 => ?_) (fun E_83 q_83 M_83 h_83 => ?_)
        rotate_left
        · exact h_83.elim
        obtain ⟨rfl, hR3, hx3⟩ := h_83
        obtain ⟨hm, -, -, -, -, -, -, -, -, -, -, -, -, -, -, -, -, -, h23, -⟩ := id hR3
        refine g_aload_n (pc := 86) C dX3_decide_86 0 rfl trivial rfl ?_
        refine g_get (pc := 87) C dX3_decide_87 cl12 hm 25 (by decide) q1844 (fun _ h9 => h9) rfl ?_
        refine g_bipush (pc := 90) C dX3_decide_90 (by decide) ?_
        refine g_iload_n (pc := 92) C dX3_decide_92 1 rfl rfl ?_
        refine g_imul (pc := 93) C dX3_decide_93 ?_
        refine g_iconst (pc := 94) C dX3_decide_94 ?_
        refine g_iadd (pc := 95) C dX3_decide_95 ?_
        refine g_iald (pc := 96) C dX3_decide_96 h23 (6 * k.toNat + 4) (by omega) (by show _ < (s 0 6).toNat; omega) (by show (s 0 6).toNat ≤ _; omega) ?_
        refine g_iret (pc := 97) hQ C ?_ dX3_decide_97
        refine ⟨?_, by rw [spDecide, if_pos d_44]; exact hR3, hx2.tr hx3⟩
        rw [qDecide, if_pos d_44]
        show some (vi (gUp (gUp (gUp (s 23) _ _) _ _) _ _ _)) = _
        rw [gUp_n _ _ (by omega), gUp_s]
        show some (vi (gUp (s 23) _ _ _ - _)) = _
        rw [gUp_n _ _ (by omega)]
      · skip
        have d_44 := c_44
        try simp only [decide_eq_true_eq, decide_eq_false_iff_not, Bool.and_eq_true, Bool.and_eq_false_iff, ne_eq, Classical.not_not] at c_44
        refine g_iconst (pc := 47) C dX3_decide_47 ?_
        refine g_iret (pc := 48) hQ C ?_ dX3_decide_48
        exact ⟨by rw [qDecide, if_neg (by rw [d_44]; exact Bool.false_ne_true)], by rw [spDecide, if_neg (by rw [d_44]; exact Bool.false_ne_true)]; exact hR1, gT1_TM hx (by decide)⟩
    · skip
      refine g_iconst (pc := 36) C dX3_decide_36 ?_
      refine g_goto (pc := 37) C dX3_decide_37 41 (by decide) ?_
      refine g_callV (pc := 41) C (m_X3_fits_3 hl hR (p := okK s k) (q := okI won 0 100) (r := okA s k 1)) cl12 hm q2041 q2043 qs56 q94 q2044 nmX3_fits_3 rfl (by decide) (by decide) (by omega) (by omega) (by first | (rw [b2_1 (show okA s k 1 = true by simp only [okA, okK, Bool.and_eq_true, decide_eq_true_eq]; omega)]; rfl) | (rw [b2_z0 (show okA s k 1 = false by simp only [okA, okK, Bool.and_eq_false_iff, decide_eq_false_iff_not]; omega)]; rfl)) (Nat.le_of_ble_eq_true rfl) dX3_decide_41 (fun v_41 M_41 h_41 => ?_) (fun E_41 q_41 M_41 h_41 => ?_)
      rotate_left
      · exact h_41.elim
      obtain ⟨rfl, hR1, hx⟩ := h_41
      obtain ⟨hm, h1, h2, h3, h4, h5, h6, h7, h10, h11, h12, h13, h14, h15, h17, h18, h19, h20, h23, h24⟩ := id hR1
      refine g_ifb_ne (pc := 44) C dX3_decide_44 49 (by decide) (fun c_44 => ?_) (fun c_44 => ?_)
      · skip
        have d_44 := c_44
        try simp only [decide_eq_true_eq, decide_eq_false_iff_not, Bool.and_eq_true, Bool.and_eq_false_iff, ne_eq, Classical.not_not] at c_44
        simp only [okK, okA, okI, Bool.and_eq_true, decide_eq_true_eq] at c_44
        have hcl := hW.claim (k := k.toNat) (by omega)
        unfold wfClaim at hcl
        refine g_aload_n (pc := 49) C dX3_decide_49 0 rfl trivial rfl ?_
        refine g_get (pc := 50) C dX3_decide_50 cl12 hm 25 (by decide) q1844 (fun _ h9 => h9) rfl ?_
        refine g_bipush (pc := 53) C dX3_decide_53 (by decide) ?_
        refine g_iload_n (pc := 55) C dX3_decide_55 1 rfl rfl ?_
        refine g_imul (pc := 56) C dX3_decide_56 ?_
        refine g_iconst (pc := 57) C dX3_decide_57 ?_
        refine g_iadd (pc := 58) C dX3_decide_58 ?_
        refine g_iconst (pc := 59) C dX3_decide_59 ?_
        have hx2 := gT1_TM hx (by decide)
        refine g_iast (pc := 60) C dX3_decide_60 h23 (by decide) (6 * k.toNat + 5) (by omega) (by omega) (by omega) ?_
        refine g_nm (fun M_60 e_60 => ?_)
        replace hx2 := hx2.tr (gExt.putE e_60 h23 (by unfold gTM; omega))
        replace hm := g_fr e_60 hm (g_ne hm h23 (by intro e; cases e))
        replace h23 := g_at e_60
        have hR2 := hR1.w23 e_60
        refine g_aload_n (pc := 61) C dX3_decide_61 0 rfl trivial rfl ?_
        refine g_iload_n (pc := 62) C dX3_decide_62 1 rfl rfl ?_
        refine g_aload_n (pc := 63) C dX3_decide_63 0 rfl trivial rfl ?_
        refine g_get (pc := 64) C dX3_decide_64 cl12 hm 25 (by decide) q1844 (fun _ h9 => h9) rfl ?_
        refine g_bipush (pc := 67) C dX3_decide_67 (by decide) ?_
        refine g_iload_n (pc := 69) C dX3_decide_69 1 rfl rfl ?_
        refine g_imul (pc := 70) C dX3_decide_70 ?_
        refine g_iconst (pc := 71) C dX3_decide_71 ?_
        refine g_iadd (pc := 72) C dX3_decide_72 ?_
        refine g_iald (pc := 73) C dX3_decide_73 h23 (6 * k.toNat + 3) (by omega) (by omega) (by omega) ?_
        rw [gUp_n _ _ (by omega)]
        have p1 := Int.mul_le_mul hcl.2.2.2.1.2 c_44.1.2.2 (by omega) (by omega)
        have p2 := Int.mul_nonneg (show 0 ≤ s 23 (6 * k.toNat + 3) by omega) c_44.1.2.1
        refine g_i2l (pc := 74) C dX3_decide_74 ⟨by omega, by omega⟩ ?_
        refine g_iload_n (pc := 75) C dX3_decide_75 2 rfl rfl ?_
        refine g_i2l (pc := 76) C dX3_decide_76 ⟨by omega, by omega⟩ ?_
        refine g_lmul (pc := 77) C dX3_decide_77 ?_
        refine g_ldc2 (pc := 78) C dX3_decide_78 (x := jv 100) q2040 ?_
        refine g_ldiv (pc := 81) C dX3_decide_81 ⟨by omega, by omega⟩ ⟨by omega, by omega⟩ ?_
        refine g_l2i (pc := 82) C dX3_decide_82 ⟨by omega, by omega⟩ ?_
        refine g_callV (pc := 83) C (m_X3_lessen hl hR2 (k := k.toNat) (x := s 23 (6 * k.toNat + 3) * won / 100) (by show _ < s 0 6 ∧ s 0 6 ≤ _; omega) (by show r32 (gUp (s 23) _ _ _ - _); rw [gUp_n _ _ (by omega)]; exact ⟨by omega, by omega⟩) (by show r32 (gUp (s 23) _ _ _); rw [gUp_s]; exact ⟨by decide, by decide⟩)) cl12 hm q2045 q2047 qs57 q94 q2048 nmX3_lessen rfl (by decide) (by decide) (by omega) (by omega) (by rw [iv_tn (k := k) (by omega)]; rfl) (Nat.le_of_ble_eq_true rfl) dX3_decide_83 (fun v_83 M_83 h_83 => ?_) (fun E_83 q_83 M_83 h_83 => ?_)
        rotate_left
        · exact h_83.elim
        obtain ⟨rfl, hR3, hx3⟩ := h_83
        obtain ⟨hm, -, -, -, -, -, -, -, -, -, -, -, -, -, -, -, -, -, h23, -⟩ := id hR3
        refine g_aload_n (pc := 86) C dX3_decide_86 0 rfl trivial rfl ?_
        refine g_get (pc := 87) C dX3_decide_87 cl12 hm 25 (by decide) q1844 (fun _ h9 => h9) rfl ?_
        refine g_bipush (pc := 90) C dX3_decide_90 (by decide) ?_
        refine g_iload_n (pc := 92) C dX3_decide_92 1 rfl rfl ?_
        refine g_imul (pc := 93) C dX3_decide_93 ?_
        refine g_iconst (pc := 94) C dX3_decide_94 ?_
        refine g_iadd (pc := 95) C dX3_decide_95 ?_
        refine g_iald (pc := 96) C dX3_decide_96 h23 (6 * k.toNat + 4) (by omega) (by show _ < (s 0 6).toNat; omega) (by show (s 0 6).toNat ≤ _; omega) ?_
        refine g_iret (pc := 97) hQ C ?_ dX3_decide_97
        refine ⟨?_, by rw [spDecide, if_pos d_44]; exact hR3, hx2.tr hx3⟩
        rw [qDecide, if_pos d_44]
        show some (vi (gUp (gUp (gUp (s 23) _ _) _ _) _ _ _)) = _
        rw [gUp_n _ _ (by omega), gUp_s]
        show some (vi (gUp (s 23) _ _ _ - _)) = _
        rw [gUp_n _ _ (by omega)]
      · skip
        have d_44 := c_44
        try simp only [decide_eq_true_eq, decide_eq_false_iff_not, Bool.and_eq_true, Bool.and_eq_false_iff, ne_eq, Classical.not_not] at c_44
        refine g_iconst (pc := 47) C dX3_decide_47 ?_
        refine g_iret (pc := 48) hQ C ?_ dX3_decide_48
        exact ⟨by rw [qDecide, if_neg (by rw [d_44]; exact Bool.false_ne_true)], by rw [spDecide, if_neg (by rw [d_44]; exact Bool.false_ne_true)]; exact hR1, gT1_TM hx (by decide)⟩
end
