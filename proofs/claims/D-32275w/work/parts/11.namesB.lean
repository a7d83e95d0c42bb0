/-! Appealrent -/
set_option maxRecDepth 100000
def RX1 : String := "Appealrent"
def TX1 : u_T := fun k => match k with
  | 0 => ("Appealrent", "cases", "Ljava/util/List;", true)
  | 1 => ("Appealrent", "forms", "Ljava/util/List;", true)
  | 2 => ("Appealrent", "rules", "Ljava/util/List;", true)
  | 3 => ("Appealrent", "claims", "Ljava/util/List;", true)
  | 4 => ("Appealrent", "tape", "Ljava/lang/StringBuilder;", true)
  | 5 => ("Appealrent", "output", "Ljava/lang/String;", false)
  | _ => ("Appealrent", "today", "I", false)
def tyX1 : Nat → FieldType := fun k => match k with
  | 0 => .object "java/util/List"
  | 1 => .object "java/util/List"
  | 2 => .object "java/util/List"
  | 3 => .object "java/util/List"
  | 4 => .object "java/lang/StringBuilder"
  | 5 => .object "java/lang/String"
  | _ => .int
abbrev wsX10 : List Cond := u_ws RX1 TX1 7
theorem nmX1 : ∀ a, a < 7 → ∀ b, b < 7 → a ≠ b → (TX1 a).2.1 ≠ (TX1 b).2.1 := by decide +kernel
theorem tyX1_ok : ∀ k, k < 7 → parseFieldDescriptor (TX1 k).2.2.1 = some (tyX1 k) := by decide +kernel
abbrev cX1_init : ByteArray := prog_1_method_8_code
def yX1_init : MethodName := ⟨RX1, "<init>", "()V"⟩
def dkwX1_init_3 : List UInt8 := [180, 0, 47, 187, 0, 66, 89, 42, 3, 3, 3, 1, 183, 0, 68, 185, 0, 71, 2, 0, 60, 177]
abbrev dktX1_init_3 : List UInt8 := dkwX1_init_3 ++ []
def dkwX1_init_2 : List UInt8 := [183, 0, 37, 181, 0, 50, 42, 187, 0, 53, 89, 183, 0, 55, 181, 0, 56, 42, 18, 60, 181, 0, 62, 42]
abbrev dktX1_init_2 : List UInt8 := dkwX1_init_2 ++ dktX1_init_3
def dkwX1_init_1 : List UInt8 := [183, 0, 37, 181, 0, 44, 42, 187, 0, 35, 89, 4, 183, 0, 37, 181, 0, 47, 42, 187, 0, 35, 89, 4]
abbrev dktX1_init_1 : List UInt8 := dkwX1_init_1 ++ dktX1_init_2
def dkwX1_init_0 : List UInt8 := [42, 183, 0, 32, 42, 187, 0, 35, 89, 4, 183, 0, 37, 181, 0, 40, 42, 187, 0, 35, 89, 4]
abbrev dktX1_init_0 : List UInt8 := dkwX1_init_0 ++ dktX1_init_1
theorem dksX1_init_0 : cX1_init.data.toList.drop 0 = dktX1_init_0 := by decide +kernel
theorem dksX1_init_1 : cX1_init.data.toList.drop 22 = dktX1_init_1 := dk_seg dksX1_init_0 22 rfl rfl
theorem dksX1_init_2 : cX1_init.data.toList.drop 46 = dktX1_init_2 := dk_seg dksX1_init_1 24 rfl rfl
theorem dksX1_init_3 : cX1_init.data.toList.drop 70 = dktX1_init_3 := dk_seg dksX1_init_2 24 rfl rfl
theorem dX1_init_0 : decode cX1_init 0 = .ok (.aload_n 0, 1) := dk_42 (dk_at dksX1_init_0 0 rfl rfl)
theorem dX1_init_1 : decode cX1_init 1 = .ok (.invokespecial 32, 3) := dk_183 0 32 (dk_at dksX1_init_0 1 rfl rfl)
theorem dX1_init_4 : decode cX1_init 4 = .ok (.aload_n 0, 1) := dk_42 (dk_at dksX1_init_0 4 rfl rfl)
theorem dX1_init_5 : decode cX1_init 5 = .ok (.new 35, 3) := dk_187 0 35 (dk_at dksX1_init_0 5 rfl rfl)
theorem dX1_init_8 : decode cX1_init 8 = .ok (.dup, 1) := dk_89 (dk_at dksX1_init_0 8 rfl rfl)
theorem dX1_init_9 : decode cX1_init 9 = .ok (.iconst 1, 1) := dk_4 (dk_at dksX1_init_0 9 rfl rfl)
theorem dX1_init_10 : decode cX1_init 10 = .ok (.invokespecial 37, 3) := dk_183 0 37 (dk_at dksX1_init_0 10 rfl rfl)
theorem dX1_init_13 : decode cX1_init 13 = .ok (.putfield 40, 3) := dk_181 0 40 (dk_at dksX1_init_0 13 rfl rfl)
theorem dX1_init_16 : decode cX1_init 16 = .ok (.aload_n 0, 1) := dk_42 (dk_at dksX1_init_0 16 rfl rfl)
theorem dX1_init_17 : decode cX1_init 17 = .ok (.new 35, 3) := dk_187 0 35 (dk_at dksX1_init_0 17 rfl rfl)
theorem dX1_init_20 : decode cX1_init 20 = .ok (.dup, 1) := dk_89 (dk_at dksX1_init_0 20 rfl rfl)
theorem dX1_init_21 : decode cX1_init 21 = .ok (.iconst 1, 1) := dk_4 (dk_at dksX1_init_0 21 rfl rfl)
theorem dX1_init_22 : decode cX1_init 22 = .ok (.invokespecial 37, 3) := dk_183 0 37 (dk_at dksX1_init_1 0 rfl rfl)
theorem dX1_init_25 : decode cX1_init 25 = .ok (.putfield 44, 3) := dk_181 0 44 (dk_at dksX1_init_1 3 rfl rfl)
theorem dX1_init_28 : decode cX1_init 28 = .ok (.aload_n 0, 1) := dk_42 (dk_at dksX1_init_1 6 rfl rfl)
theorem dX1_init_29 : decode cX1_init 29 = .ok (.new 35, 3) := dk_187 0 35 (dk_at dksX1_init_1 7 rfl rfl)
theorem dX1_init_32 : decode cX1_init 32 = .ok (.dup, 1) := dk_89 (dk_at dksX1_init_1 10 rfl rfl)
theorem dX1_init_33 : decode cX1_init 33 = .ok (.iconst 1, 1) := dk_4 (dk_at dksX1_init_1 11 rfl rfl)
theorem dX1_init_34 : decode cX1_init 34 = .ok (.invokespecial 37, 3) := dk_183 0 37 (dk_at dksX1_init_1 12 rfl rfl)
theorem dX1_init_37 : decode cX1_init 37 = .ok (.putfield 47, 3) := dk_181 0 47 (dk_at dksX1_init_1 15 rfl rfl)
theorem dX1_init_40 : decode cX1_init 40 = .ok (.aload_n 0, 1) := dk_42 (dk_at dksX1_init_1 18 rfl rfl)
theorem dX1_init_41 : decode cX1_init 41 = .ok (.new 35, 3) := dk_187 0 35 (dk_at dksX1_init_1 19 rfl rfl)
theorem dX1_init_44 : decode cX1_init 44 = .ok (.dup, 1) := dk_89 (dk_at dksX1_init_1 22 rfl rfl)
theorem dX1_init_45 : decode cX1_init 45 = .ok (.iconst 1, 1) := dk_4 (dk_at dksX1_init_1 23 rfl rfl)
theorem dX1_init_46 : decode cX1_init 46 = .ok (.invokespecial 37, 3) := dk_183 0 37 (dk_at dksX1_init_2 0 rfl rfl)
theorem dX1_init_49 : decode cX1_init 49 = .ok (.putfield 50, 3) := dk_181 0 50 (dk_at dksX1_init_2 3 rfl rfl)
theorem dX1_init_52 : decode cX1_init 52 = .ok (.aload_n 0, 1) := dk_42 (dk_at dksX1_init_2 6 rfl rfl)
theorem dX1_init_53 : decode cX1_init 53 = .ok (.new 53, 3) := dk_187 0 53 (dk_at dksX1_init_2 7 rfl rfl)
theorem dX1_init_56 : decode cX1_init 56 = .ok (.dup, 1) := dk_89 (dk_at dksX1_init_2 10 rfl rfl)
theorem dX1_init_57 : decode cX1_init 57 = .ok (.invokespecial 55, 3) := dk_183 0 55 (dk_at dksX1_init_2 11 rfl rfl)
theorem dX1_init_60 : decode cX1_init 60 = .ok (.putfield 56, 3) := dk_181 0 56 (dk_at dksX1_init_2 14 rfl rfl)
theorem dX1_init_63 : decode cX1_init 63 = .ok (.aload_n 0, 1) := dk_42 (dk_at dksX1_init_2 17 rfl rfl)
theorem dX1_init_64 : decode cX1_init 64 = .ok (.ldc 60, 2) := dk_18 60 (dk_at dksX1_init_2 18 rfl rfl)
theorem dX1_init_66 : decode cX1_init 66 = .ok (.putfield 62, 3) := dk_181 0 62 (dk_at dksX1_init_2 20 rfl rfl)
theorem dX1_init_69 : decode cX1_init 69 = .ok (.aload_n 0, 1) := dk_42 (dk_at dksX1_init_2 23 rfl rfl)
theorem dX1_init_70 : decode cX1_init 70 = .ok (.getfield 47, 3) := dk_180 0 47 (dk_at dksX1_init_3 0 rfl rfl)
theorem dX1_init_73 : decode cX1_init 73 = .ok (.new 66, 3) := dk_187 0 66 (dk_at dksX1_init_3 3 rfl rfl)
theorem dX1_init_76 : decode cX1_init 76 = .ok (.dup, 1) := dk_89 (dk_at dksX1_init_3 6 rfl rfl)
theorem dX1_init_77 : decode cX1_init 77 = .ok (.aload_n 0, 1) := dk_42 (dk_at dksX1_init_3 7 rfl rfl)
theorem dX1_init_78 : decode cX1_init 78 = .ok (.iconst 0, 1) := dk_3 (dk_at dksX1_init_3 8 rfl rfl)
theorem dX1_init_79 : decode cX1_init 79 = .ok (.iconst 0, 1) := dk_3 (dk_at dksX1_init_3 9 rfl rfl)
theorem dX1_init_80 : decode cX1_init 80 = .ok (.iconst 0, 1) := dk_3 (dk_at dksX1_init_3 10 rfl rfl)
theorem dX1_init_81 : decode cX1_init 81 = .ok (.aconst_null, 1) := dk_1 (dk_at dksX1_init_3 11 rfl rfl)
theorem dX1_init_82 : decode cX1_init 82 = .ok (.invokespecial 68, 3) := dk_183 0 68 (dk_at dksX1_init_3 12 rfl rfl)
theorem dX1_init_85 : decode cX1_init 85 = .ok (.invokeinterface 71 2, 5) := by decide +kernel
theorem dX1_init_90 : decode cX1_init 90 = .ok (.istore_n 1, 1) := dk_60 (dk_at dksX1_init_3 20 rfl rfl)
theorem dX1_init_91 : decode cX1_init 91 = .ok (.return_, 1) := dk_177 (dk_at dksX1_init_3 21 rfl rfl)
abbrev cX1_clear : ByteArray := prog_1_method_20_code
def yX1_clear : MethodName := ⟨RX1, "clear", "()I"⟩
def dkwX1_clear_0 : List UInt8 := [42, 182, 0, 100, 60, 42, 180, 0, 56, 3, 182, 0, 112, 27, 172]
abbrev dktX1_clear_0 : List UInt8 := dkwX1_clear_0 ++ []
theorem dksX1_clear_0 : cX1_clear.data.toList.drop 0 = dktX1_clear_0 := by decide +kernel
theorem dX1_clear_0 : decode cX1_clear 0 = .ok (.aload_n 0, 1) := dk_42 (dk_at dksX1_clear_0 0 rfl rfl)
theorem dX1_clear_1 : decode cX1_clear 1 = .ok (.invokevirtual 100, 3) := dk_182 0 100 (dk_at dksX1_clear_0 1 rfl rfl)
theorem dX1_clear_4 : decode cX1_clear 4 = .ok (.istore_n 1, 1) := dk_60 (dk_at dksX1_clear_0 4 rfl rfl)
theorem dX1_clear_5 : decode cX1_clear 5 = .ok (.aload_n 0, 1) := dk_42 (dk_at dksX1_clear_0 5 rfl rfl)
theorem dX1_clear_6 : decode cX1_clear 6 = .ok (.getfield 56, 3) := dk_180 0 56 (dk_at dksX1_clear_0 6 rfl rfl)
theorem dX1_clear_9 : decode cX1_clear 9 = .ok (.iconst 0, 1) := dk_3 (dk_at dksX1_clear_0 9 rfl rfl)
theorem dX1_clear_10 : decode cX1_clear 10 = .ok (.invokevirtual 112, 3) := dk_182 0 112 (dk_at dksX1_clear_0 10 rfl rfl)
theorem dX1_clear_13 : decode cX1_clear 13 = .ok (.iload_n 1, 1) := dk_27 (dk_at dksX1_clear_0 13 rfl rfl)
theorem dX1_clear_14 : decode cX1_clear 14 = .ok (.ireturn, 1) := dk_172 (dk_at dksX1_clear_0 14 rfl rfl)
abbrev cX1_tapeSigns : ByteArray := prog_1_method_12_code
def yX1_tapeSigns : MethodName := ⟨RX1, "tapeSigns", "()I"⟩
def dkwX1_tapeSigns_0 : List UInt8 := [42, 180, 0, 56, 3, 42, 180, 0, 56, 182, 0, 93, 182, 0, 96, 172]
abbrev dktX1_tapeSigns_0 : List UInt8 := dkwX1_tapeSigns_0 ++ []
theorem dksX1_tapeSigns_0 : cX1_tapeSigns.data.toList.drop 0 = dktX1_tapeSigns_0 := by decide +kernel
theorem dX1_tapeSigns_0 : decode cX1_tapeSigns 0 = .ok (.aload_n 0, 1) := dk_42 (dk_at dksX1_tapeSigns_0 0 rfl rfl)
theorem dX1_tapeSigns_1 : decode cX1_tapeSigns 1 = .ok (.getfield 56, 3) := dk_180 0 56 (dk_at dksX1_tapeSigns_0 1 rfl rfl)
theorem dX1_tapeSigns_4 : decode cX1_tapeSigns 4 = .ok (.iconst 0, 1) := dk_3 (dk_at dksX1_tapeSigns_0 4 rfl rfl)
theorem dX1_tapeSigns_5 : decode cX1_tapeSigns 5 = .ok (.aload_n 0, 1) := dk_42 (dk_at dksX1_tapeSigns_0 5 rfl rfl)
theorem dX1_tapeSigns_6 : decode cX1_tapeSigns 6 = .ok (.getfield 56, 3) := dk_180 0 56 (dk_at dksX1_tapeSigns_0 6 rfl rfl)
theorem dX1_tapeSigns_9 : decode cX1_tapeSigns 9 = .ok (.invokevirtual 93, 3) := dk_182 0 93 (dk_at dksX1_tapeSigns_0 9 rfl rfl)
theorem dX1_tapeSigns_12 : decode cX1_tapeSigns 12 = .ok (.invokevirtual 96, 3) := dk_182 0 96 (dk_at dksX1_tapeSigns_0 12 rfl rfl)
theorem dX1_tapeSigns_15 : decode cX1_tapeSigns 15 = .ok (.ireturn, 1) := dk_172 (dk_at dksX1_tapeSigns_0 15 rfl rfl)
abbrev cX1_meanHelp : ByteArray := prog_1_method_47_code
def yX1_meanHelp : MethodName := ⟨RX1, "meanHelp", "()D"⟩
def dkwX1_meanHelp_3 : List UInt8 := [185, 0, 77, 1, 0, 135, 111, 175]
abbrev dktX1_meanHelp_3 : List UInt8 := dkwX1_meanHelp_3 ++ []
def dkwX1_meanHelp_2 : List UInt8 := [42, 180, 0, 40, 185, 1, 121, 1, 0, 153, 0, 7, 14, 167, 0, 16, 31, 138, 42, 180, 0, 40]
abbrev dktX1_meanHelp_2 : List UInt8 := dkwX1_meanHelp_2 ++ dktX1_meanHelp_3
def dkwX1_meanHelp_1 : List UInt8 := [185, 0, 83, 2, 0, 192, 0, 87, 42, 180, 0, 177, 182, 0, 154, 133, 97, 64, 132, 3, 1, 167, 255, 215]
abbrev dktX1_meanHelp_1 : List UInt8 := dkwX1_meanHelp_1 ++ dktX1_meanHelp_2
def dkwX1_meanHelp_0 : List UInt8 := [9, 64, 3, 62, 29, 42, 180, 0, 40, 185, 0, 77, 1, 0, 162, 0, 34, 31, 42, 42, 180, 0, 40, 29]
abbrev dktX1_meanHelp_0 : List UInt8 := dkwX1_meanHelp_0 ++ dktX1_meanHelp_1
theorem dksX1_meanHelp_0 : cX1_meanHelp.data.toList.drop 0 = dktX1_meanHelp_0 := by decide +kernel
theorem dksX1_meanHelp_1 : cX1_meanHelp.data.toList.drop 24 = dktX1_meanHelp_1 := dk_seg dksX1_meanHelp_0 24 rfl rfl
theorem dksX1_meanHelp_2 : cX1_meanHelp.data.toList.drop 48 = dktX1_meanHelp_2 := dk_seg dksX1_meanHelp_1 24 rfl rfl
theorem dksX1_meanHelp_3 : cX1_meanHelp.data.toList.drop 70 = dktX1_meanHelp_3 := dk_seg dksX1_meanHelp_2 22 rfl rfl
theorem dX1_meanHelp_0 : decode cX1_meanHelp 0 = .ok (.lconst 0, 1) := dk_9 (dk_at dksX1_meanHelp_0 0 rfl rfl)
theorem dX1_meanHelp_1 : decode cX1_meanHelp 1 = .ok (.lstore_n 1, 1) := dk_64 (dk_at dksX1_meanHelp_0 1 rfl rfl)
theorem dX1_meanHelp_2 : decode cX1_meanHelp 2 = .ok (.iconst 0, 1) := dk_3 (dk_at dksX1_meanHelp_0 2 rfl rfl)
theorem dX1_meanHelp_3 : decode cX1_meanHelp 3 = .ok (.istore_n 3, 1) := dk_62 (dk_at dksX1_meanHelp_0 3 rfl rfl)
theorem dX1_meanHelp_4 : decode cX1_meanHelp 4 = .ok (.iload_n 3, 1) := dk_29 (dk_at dksX1_meanHelp_0 4 rfl rfl)
theorem dX1_meanHelp_5 : decode cX1_meanHelp 5 = .ok (.aload_n 0, 1) := dk_42 (dk_at dksX1_meanHelp_0 5 rfl rfl)
theorem dX1_meanHelp_6 : decode cX1_meanHelp 6 = .ok (.getfield 40, 3) := dk_180 0 40 (dk_at dksX1_meanHelp_0 6 rfl rfl)
theorem dX1_meanHelp_9 : decode cX1_meanHelp 9 = .ok (.invokeinterface 77 1, 5) := by decide +kernel
theorem dX1_meanHelp_14 : decode cX1_meanHelp 14 = .ok (.if_icmp .ge 34, 3) := dk_162 0 34 (dk_at dksX1_meanHelp_0 14 rfl rfl)
theorem dX1_meanHelp_17 : decode cX1_meanHelp 17 = .ok (.lload_n 1, 1) := dk_31 (dk_at dksX1_meanHelp_0 17 rfl rfl)
theorem dX1_meanHelp_18 : decode cX1_meanHelp 18 = .ok (.aload_n 0, 1) := dk_42 (dk_at dksX1_meanHelp_0 18 rfl rfl)
theorem dX1_meanHelp_19 : decode cX1_meanHelp 19 = .ok (.aload_n 0, 1) := dk_42 (dk_at dksX1_meanHelp_0 19 rfl rfl)
theorem dX1_meanHelp_20 : decode cX1_meanHelp 20 = .ok (.getfield 40, 3) := dk_180 0 40 (dk_at dksX1_meanHelp_0 20 rfl rfl)
theorem dX1_meanHelp_23 : decode cX1_meanHelp 23 = .ok (.iload_n 3, 1) := dk_29 (dk_at dksX1_meanHelp_0 23 rfl rfl)
theorem dX1_meanHelp_24 : decode cX1_meanHelp 24 = .ok (.invokeinterface 83 2, 5) := by decide +kernel
theorem dX1_meanHelp_29 : decode cX1_meanHelp 29 = .ok (.checkcast 87, 3) := dk_192 0 87 (dk_at dksX1_meanHelp_1 5 rfl rfl)
theorem dX1_meanHelp_32 : decode cX1_meanHelp 32 = .ok (.aload_n 0, 1) := dk_42 (dk_at dksX1_meanHelp_1 8 rfl rfl)
theorem dX1_meanHelp_33 : decode cX1_meanHelp 33 = .ok (.getfield 177, 3) := dk_180 0 177 (dk_at dksX1_meanHelp_1 9 rfl rfl)
theorem dX1_meanHelp_36 : decode cX1_meanHelp 36 = .ok (.invokevirtual 154, 3) := dk_182 0 154 (dk_at dksX1_meanHelp_1 12 rfl rfl)
theorem dX1_meanHelp_39 : decode cX1_meanHelp 39 = .ok (.i2l, 1) := dk_133 (dk_at dksX1_meanHelp_1 15 rfl rfl)
theorem dX1_meanHelp_40 : decode cX1_meanHelp 40 = .ok (.ladd, 1) := dk_97 (dk_at dksX1_meanHelp_1 16 rfl rfl)
theorem dX1_meanHelp_41 : decode cX1_meanHelp 41 = .ok (.lstore_n 1, 1) := dk_64 (dk_at dksX1_meanHelp_1 17 rfl rfl)
theorem dX1_meanHelp_42 : decode cX1_meanHelp 42 = .ok (.iinc 3 1, 3) := dk_132 3 1 (dk_at dksX1_meanHelp_1 18 rfl rfl)
theorem dX1_meanHelp_45 : decode cX1_meanHelp 45 = .ok (.goto (-41), 3) := dk_167 255 215 (dk_at dksX1_meanHelp_1 21 rfl rfl)
theorem dX1_meanHelp_48 : decode cX1_meanHelp 48 = .ok (.aload_n 0, 1) := dk_42 (dk_at dksX1_meanHelp_2 0 rfl rfl)
theorem dX1_meanHelp_49 : decode cX1_meanHelp 49 = .ok (.getfield 40, 3) := dk_180 0 40 (dk_at dksX1_meanHelp_2 1 rfl rfl)
theorem dX1_meanHelp_52 : decode cX1_meanHelp 52 = .ok (.invokeinterface 377 1, 5) := by decide +kernel
theorem dX1_meanHelp_57 : decode cX1_meanHelp 57 = .ok (.ifCond .eq 7, 3) := dk_153 0 7 (dk_at dksX1_meanHelp_2 9 rfl rfl)
theorem dX1_meanHelp_60 : decode cX1_meanHelp 60 = .ok (.dconst 0, 1) := dk_14 (dk_at dksX1_meanHelp_2 12 rfl rfl)
theorem dX1_meanHelp_61 : decode cX1_meanHelp 61 = .ok (.goto 16, 3) := dk_167 0 16 (dk_at dksX1_meanHelp_2 13 rfl rfl)
theorem dX1_meanHelp_64 : decode cX1_meanHelp 64 = .ok (.lload_n 1, 1) := dk_31 (dk_at dksX1_meanHelp_2 16 rfl rfl)
theorem dX1_meanHelp_65 : decode cX1_meanHelp 65 = .ok (.l2d, 1) := dk_138 (dk_at dksX1_meanHelp_2 17 rfl rfl)
theorem dX1_meanHelp_66 : decode cX1_meanHelp 66 = .ok (.aload_n 0, 1) := dk_42 (dk_at dksX1_meanHelp_2 18 rfl rfl)
theorem dX1_meanHelp_67 : decode cX1_meanHelp 67 = .ok (.getfield 40, 3) := dk_180 0 40 (dk_at dksX1_meanHelp_2 19 rfl rfl)
theorem dX1_meanHelp_70 : decode cX1_meanHelp 70 = .ok (.invokeinterface 77 1, 5) := by decide +kernel
theorem dX1_meanHelp_75 : decode cX1_meanHelp 75 = .ok (.i2d, 1) := dk_135 (dk_at dksX1_meanHelp_3 5 rfl rfl)
theorem dX1_meanHelp_76 : decode cX1_meanHelp 76 = .ok (.ddiv, 1) := dk_111 (dk_at dksX1_meanHelp_3 6 rfl rfl)
theorem dX1_meanHelp_77 : decode cX1_meanHelp 77 = .ok (.dreturn, 1) := dk_175 (dk_at dksX1_meanHelp_3 7 rfl rfl)
abbrev cX1_helpOn : ByteArray := prog_1_method_16_code
def yX1_helpOn : MethodName := ⟨RX1, "helpOn", "(LAppealrent$Case;I)I"⟩
def dkwX1_helpOn_1 : List UInt8 := [4, 182, 0, 146, 42, 43, 28, 5, 182, 0, 146, 182, 0, 150, 167, 0, 4, 3, 172]
abbrev dktX1_helpOn_1 : List UInt8 := dkwX1_helpOn_1 ++ []
def dkwX1_helpOn_0 : List UInt8 := [43, 28, 182, 0, 138, 153, 0, 36, 42, 43, 28, 182, 0, 142, 42, 43, 28, 3, 182, 0, 146, 42, 43, 28]
abbrev dktX1_helpOn_0 : List UInt8 := dkwX1_helpOn_0 ++ dktX1_helpOn_1
theorem dksX1_helpOn_0 : cX1_helpOn.data.toList.drop 0 = dktX1_helpOn_0 := by decide +kernel
theorem dksX1_helpOn_1 : cX1_helpOn.data.toList.drop 24 = dktX1_helpOn_1 := dk_seg dksX1_helpOn_0 24 rfl rfl
theorem dX1_helpOn_0 : decode cX1_helpOn 0 = .ok (.aload_n 1, 1) := dk_43 (dk_at dksX1_helpOn_0 0 rfl rfl)
theorem dX1_helpOn_1 : decode cX1_helpOn 1 = .ok (.iload_n 2, 1) := dk_28 (dk_at dksX1_helpOn_0 1 rfl rfl)
theorem dX1_helpOn_2 : decode cX1_helpOn 2 = .ok (.invokevirtual 138, 3) := dk_182 0 138 (dk_at dksX1_helpOn_0 2 rfl rfl)
theorem dX1_helpOn_5 : decode cX1_helpOn 5 = .ok (.ifCond .eq 36, 3) := dk_153 0 36 (dk_at dksX1_helpOn_0 5 rfl rfl)
theorem dX1_helpOn_8 : decode cX1_helpOn 8 = .ok (.aload_n 0, 1) := dk_42 (dk_at dksX1_helpOn_0 8 rfl rfl)
theorem dX1_helpOn_9 : decode cX1_helpOn 9 = .ok (.aload_n 1, 1) := dk_43 (dk_at dksX1_helpOn_0 9 rfl rfl)
theorem dX1_helpOn_10 : decode cX1_helpOn 10 = .ok (.iload_n 2, 1) := dk_28 (dk_at dksX1_helpOn_0 10 rfl rfl)
theorem dX1_helpOn_11 : decode cX1_helpOn 11 = .ok (.invokevirtual 142, 3) := dk_182 0 142 (dk_at dksX1_helpOn_0 11 rfl rfl)
theorem dX1_helpOn_14 : decode cX1_helpOn 14 = .ok (.aload_n 0, 1) := dk_42 (dk_at dksX1_helpOn_0 14 rfl rfl)
theorem dX1_helpOn_15 : decode cX1_helpOn 15 = .ok (.aload_n 1, 1) := dk_43 (dk_at dksX1_helpOn_0 15 rfl rfl)
theorem dX1_helpOn_16 : decode cX1_helpOn 16 = .ok (.iload_n 2, 1) := dk_28 (dk_at dksX1_helpOn_0 16 rfl rfl)
theorem dX1_helpOn_17 : decode cX1_helpOn 17 = .ok (.iconst 0, 1) := dk_3 (dk_at dksX1_helpOn_0 17 rfl rfl)
theorem dX1_helpOn_18 : decode cX1_helpOn 18 = .ok (.invokevirtual 146, 3) := dk_182 0 146 (dk_at dksX1_helpOn_0 18 rfl rfl)
theorem dX1_helpOn_21 : decode cX1_helpOn 21 = .ok (.aload_n 0, 1) := dk_42 (dk_at dksX1_helpOn_0 21 rfl rfl)
theorem dX1_helpOn_22 : decode cX1_helpOn 22 = .ok (.aload_n 1, 1) := dk_43 (dk_at dksX1_helpOn_0 22 rfl rfl)
theorem dX1_helpOn_23 : decode cX1_helpOn 23 = .ok (.iload_n 2, 1) := dk_28 (dk_at dksX1_helpOn_0 23 rfl rfl)
theorem dX1_helpOn_24 : decode cX1_helpOn 24 = .ok (.iconst 1, 1) := dk_4 (dk_at dksX1_helpOn_1 0 rfl rfl)
theorem dX1_helpOn_25 : decode cX1_helpOn 25 = .ok (.invokevirtual 146, 3) := dk_182 0 146 (dk_at dksX1_helpOn_1 1 rfl rfl)
theorem dX1_helpOn_28 : decode cX1_helpOn 28 = .ok (.aload_n 0, 1) := dk_42 (dk_at dksX1_helpOn_1 4 rfl rfl)
theorem dX1_helpOn_29 : decode cX1_helpOn 29 = .ok (.aload_n 1, 1) := dk_43 (dk_at dksX1_helpOn_1 5 rfl rfl)
theorem dX1_helpOn_30 : decode cX1_helpOn 30 = .ok (.iload_n 2, 1) := dk_28 (dk_at dksX1_helpOn_1 6 rfl rfl)
theorem dX1_helpOn_31 : decode cX1_helpOn 31 = .ok (.iconst 2, 1) := dk_5 (dk_at dksX1_helpOn_1 7 rfl rfl)
theorem dX1_helpOn_32 : decode cX1_helpOn 32 = .ok (.invokevirtual 146, 3) := dk_182 0 146 (dk_at dksX1_helpOn_1 8 rfl rfl)
theorem dX1_helpOn_35 : decode cX1_helpOn 35 = .ok (.invokevirtual 150, 3) := dk_182 0 150 (dk_at dksX1_helpOn_1 11 rfl rfl)
theorem dX1_helpOn_38 : decode cX1_helpOn 38 = .ok (.goto 4, 3) := dk_167 0 4 (dk_at dksX1_helpOn_1 14 rfl rfl)
theorem dX1_helpOn_41 : decode cX1_helpOn 41 = .ok (.iconst 0, 1) := dk_3 (dk_at dksX1_helpOn_1 17 rfl rfl)
theorem dX1_helpOn_42 : decode cX1_helpOn 42 = .ok (.ireturn, 1) := dk_172 (dk_at dksX1_helpOn_1 18 rfl rfl)
abbrev cX1_ruleOf : ByteArray := prog_1_method_15_code
def yX1_ruleOf : MethodName := ⟨RX1, "ruleOf", "(LAppealrent$Case;I)LAppealrent$Rule;"⟩
def dkwX1_ruleOf_3 : List UInt8 := [78, 132, 4, 1, 167, 255, 198, 45, 176]
abbrev dktX1_ruleOf_3 : List UInt8 := dkwX1_ruleOf_3 ++ []
def dkwX1_ruleOf_2 : List UInt8 := [182, 0, 134, 153, 0, 20, 42, 180, 0, 47, 21, 4, 185, 0, 83, 2, 0, 192, 0, 66, 167, 0, 4, 45]
abbrev dktX1_ruleOf_2 : List UInt8 := dkwX1_ruleOf_2 ++ dktX1_ruleOf_3
def dkwX1_ruleOf_1 : List UInt8 := [185, 0, 77, 1, 0, 162, 0, 50, 42, 180, 0, 47, 21, 4, 185, 0, 83, 2, 0, 192, 0, 66, 43, 28]
abbrev dktX1_ruleOf_1 : List UInt8 := dkwX1_ruleOf_1 ++ dktX1_ruleOf_2
def dkwX1_ruleOf_0 : List UInt8 := [42, 180, 0, 47, 3, 185, 0, 83, 2, 0, 192, 0, 66, 78, 3, 54, 4, 21, 4, 42, 180, 0, 47]
abbrev dktX1_ruleOf_0 : List UInt8 := dkwX1_ruleOf_0 ++ dktX1_ruleOf_1
theorem dksX1_ruleOf_0 : cX1_ruleOf.data.toList.drop 0 = dktX1_ruleOf_0 := by decide +kernel
theorem dksX1_ruleOf_1 : cX1_ruleOf.data.toList.drop 23 = dktX1_ruleOf_1 := dk_seg dksX1_ruleOf_0 23 rfl rfl
theorem dksX1_ruleOf_2 : cX1_ruleOf.data.toList.drop 47 = dktX1_ruleOf_2 := dk_seg dksX1_ruleOf_1 24 rfl rfl
theorem dksX1_ruleOf_3 : cX1_ruleOf.data.toList.drop 71 = dktX1_ruleOf_3 := dk_seg dksX1_ruleOf_2 24 rfl rfl
theorem dX1_ruleOf_0 : decode cX1_ruleOf 0 = .ok (.aload_n 0, 1) := dk_42 (dk_at dksX1_ruleOf_0 0 rfl rfl)
theorem dX1_ruleOf_1 : decode cX1_ruleOf 1 = .ok (.getfield 47, 3) := dk_180 0 47 (dk_at dksX1_ruleOf_0 1 rfl rfl)
theorem dX1_ruleOf_4 : decode cX1_ruleOf 4 = .ok (.iconst 0, 1) := dk_3 (dk_at dksX1_ruleOf_0 4 rfl rfl)
theorem dX1_ruleOf_5 : decode cX1_ruleOf 5 = .ok (.invokeinterface 83 2, 5) := by decide +kernel
theorem dX1_ruleOf_10 : decode cX1_ruleOf 10 = .ok (.checkcast 66, 3) := dk_192 0 66 (dk_at dksX1_ruleOf_0 10 rfl rfl)
theorem dX1_ruleOf_13 : decode cX1_ruleOf 13 = .ok (.astore_n 3, 1) := dk_78 (dk_at dksX1_ruleOf_0 13 rfl rfl)
theorem dX1_ruleOf_14 : decode cX1_ruleOf 14 = .ok (.iconst 0, 1) := dk_3 (dk_at dksX1_ruleOf_0 14 rfl rfl)
theorem dX1_ruleOf_15 : decode cX1_ruleOf 15 = .ok (.istore 4, 2) := dk_54 4 (dk_at dksX1_ruleOf_0 15 rfl rfl)
theorem dX1_ruleOf_17 : decode cX1_ruleOf 17 = .ok (.iload 4, 2) := dk_21 4 (dk_at dksX1_ruleOf_0 17 rfl rfl)
theorem dX1_ruleOf_19 : decode cX1_ruleOf 19 = .ok (.aload_n 0, 1) := dk_42 (dk_at dksX1_ruleOf_0 19 rfl rfl)
theorem dX1_ruleOf_20 : decode cX1_ruleOf 20 = .ok (.getfield 47, 3) := dk_180 0 47 (dk_at dksX1_ruleOf_0 20 rfl rfl)
theorem dX1_ruleOf_23 : decode cX1_ruleOf 23 = .ok (.invokeinterface 77 1, 5) := by decide +kernel
theorem dX1_ruleOf_28 : decode cX1_ruleOf 28 = .ok (.if_icmp .ge 50, 3) := dk_162 0 50 (dk_at dksX1_ruleOf_1 5 rfl rfl)
theorem dX1_ruleOf_31 : decode cX1_ruleOf 31 = .ok (.aload_n 0, 1) := dk_42 (dk_at dksX1_ruleOf_1 8 rfl rfl)
theorem dX1_ruleOf_32 : decode cX1_ruleOf 32 = .ok (.getfield 47, 3) := dk_180 0 47 (dk_at dksX1_ruleOf_1 9 rfl rfl)
theorem dX1_ruleOf_35 : decode cX1_ruleOf 35 = .ok (.iload 4, 2) := dk_21 4 (dk_at dksX1_ruleOf_1 12 rfl rfl)
theorem dX1_ruleOf_37 : decode cX1_ruleOf 37 = .ok (.invokeinterface 83 2, 5) := by decide +kernel
theorem dX1_ruleOf_42 : decode cX1_ruleOf 42 = .ok (.checkcast 66, 3) := dk_192 0 66 (dk_at dksX1_ruleOf_1 19 rfl rfl)
theorem dX1_ruleOf_45 : decode cX1_ruleOf 45 = .ok (.aload_n 1, 1) := dk_43 (dk_at dksX1_ruleOf_1 22 rfl rfl)
theorem dX1_ruleOf_46 : decode cX1_ruleOf 46 = .ok (.iload_n 2, 1) := dk_28 (dk_at dksX1_ruleOf_1 23 rfl rfl)
theorem dX1_ruleOf_47 : decode cX1_ruleOf 47 = .ok (.invokevirtual 134, 3) := dk_182 0 134 (dk_at dksX1_ruleOf_2 0 rfl rfl)
theorem dX1_ruleOf_50 : decode cX1_ruleOf 50 = .ok (.ifCond .eq 20, 3) := dk_153 0 20 (dk_at dksX1_ruleOf_2 3 rfl rfl)
theorem dX1_ruleOf_53 : decode cX1_ruleOf 53 = .ok (.aload_n 0, 1) := dk_42 (dk_at dksX1_ruleOf_2 6 rfl rfl)
theorem dX1_ruleOf_54 : decode cX1_ruleOf 54 = .ok (.getfield 47, 3) := dk_180 0 47 (dk_at dksX1_ruleOf_2 7 rfl rfl)
theorem dX1_ruleOf_57 : decode cX1_ruleOf 57 = .ok (.iload 4, 2) := dk_21 4 (dk_at dksX1_ruleOf_2 10 rfl rfl)
theorem dX1_ruleOf_59 : decode cX1_ruleOf 59 = .ok (.invokeinterface 83 2, 5) := by decide +kernel
theorem dX1_ruleOf_64 : decode cX1_ruleOf 64 = .ok (.checkcast 66, 3) := dk_192 0 66 (dk_at dksX1_ruleOf_2 17 rfl rfl)
theorem dX1_ruleOf_67 : decode cX1_ruleOf 67 = .ok (.goto 4, 3) := dk_167 0 4 (dk_at dksX1_ruleOf_2 20 rfl rfl)
theorem dX1_ruleOf_70 : decode cX1_ruleOf 70 = .ok (.aload_n 3, 1) := dk_45 (dk_at dksX1_ruleOf_2 23 rfl rfl)
theorem dX1_ruleOf_71 : decode cX1_ruleOf 71 = .ok (.astore_n 3, 1) := dk_78 (dk_at dksX1_ruleOf_3 0 rfl rfl)
theorem dX1_ruleOf_72 : decode cX1_ruleOf 72 = .ok (.iinc 4 1, 3) := dk_132 4 1 (dk_at dksX1_ruleOf_3 1 rfl rfl)
theorem dX1_ruleOf_75 : decode cX1_ruleOf 75 = .ok (.goto (-58), 3) := dk_167 255 198 (dk_at dksX1_ruleOf_3 4 rfl rfl)
theorem dX1_ruleOf_78 : decode cX1_ruleOf 78 = .ok (.aload_n 3, 1) := dk_45 (dk_at dksX1_ruleOf_3 7 rfl rfl)
theorem dX1_ruleOf_79 : decode cX1_ruleOf 79 = .ok (.areturn, 1) := dk_176 (dk_at dksX1_ruleOf_3 8 rfl rfl)
abbrev cX1_factOn : ByteArray := prog_1_method_14_code
def yX1_factOn : MethodName := ⟨RX1, "factOn", "(LAppealrent$Case;II)I"⟩
def dkwX1_factOn_6 : List UInt8 := [167, 0, 4, 3, 184, 0, 130, 172]
abbrev dktX1_factOn_6 : List UInt8 := dkwX1_factOn_6 ++ []
def dkwX1_factOn_5 : List UInt8 := [167, 255, 146, 25, 4, 198, 0, 13, 25, 4, 180, 0, 123, 29, 46, 167, 0, 16, 29, 5, 160, 0, 7, 4]
abbrev dktX1_factOn_5 : List UInt8 := dkwX1_factOn_5 ++ dktX1_factOn_6
def dkwX1_factOn_4 : List UInt8 := [180, 0, 127, 25, 4, 180, 0, 127, 161, 0, 8, 25, 6, 167, 0, 5, 25, 4, 58, 4, 132, 5, 1]
abbrev dktX1_factOn_4 : List UInt8 := dkwX1_factOn_4 ++ dktX1_factOn_5
def dkwX1_factOn_3 : List UInt8 := [163, 0, 7, 4, 167, 0, 4, 3, 54, 7, 21, 7, 153, 0, 26, 25, 4, 198, 0, 16, 25, 6]
abbrev dktX1_factOn_3 : List UInt8 := dkwX1_factOn_3 ++ dktX1_factOn_4
def dkwX1_factOn_2 : List UInt8 := [180, 0, 119, 4, 160, 0, 27, 25, 6, 180, 0, 123, 29, 46, 2, 159, 0, 16, 25, 6, 180, 0, 127, 28]
abbrev dktX1_factOn_2 : List UInt8 := dkwX1_factOn_2 ++ dktX1_factOn_3
def dkwX1_factOn_1 : List UInt8 := [21, 5, 185, 0, 83, 2, 0, 192, 0, 89, 58, 6, 25, 6, 180, 0, 115, 43, 166, 0, 36, 25, 6]
abbrev dktX1_factOn_1 : List UInt8 := dkwX1_factOn_1 ++ dktX1_factOn_2
def dkwX1_factOn_0 : List UInt8 := [1, 58, 4, 3, 54, 5, 21, 5, 42, 180, 0, 44, 185, 0, 77, 1, 0, 162, 0, 102, 42, 180, 0, 44]
abbrev dktX1_factOn_0 : List UInt8 := dkwX1_factOn_0 ++ dktX1_factOn_1
theorem dksX1_factOn_0 : cX1_factOn.data.toList.drop 0 = dktX1_factOn_0 := by decide +kernel
theorem dksX1_factOn_1 : cX1_factOn.data.toList.drop 24 = dktX1_factOn_1 := dk_seg dksX1_factOn_0 24 rfl rfl
theorem dksX1_factOn_2 : cX1_factOn.data.toList.drop 47 = dktX1_factOn_2 := dk_seg dksX1_factOn_1 23 rfl rfl
theorem dksX1_factOn_3 : cX1_factOn.data.toList.drop 71 = dktX1_factOn_3 := dk_seg dksX1_factOn_2 24 rfl rfl
theorem dksX1_factOn_4 : cX1_factOn.data.toList.drop 93 = dktX1_factOn_4 := dk_seg dksX1_factOn_3 22 rfl rfl
theorem dksX1_factOn_5 : cX1_factOn.data.toList.drop 116 = dktX1_factOn_5 := dk_seg dksX1_factOn_4 23 rfl rfl
theorem dksX1_factOn_6 : cX1_factOn.data.toList.drop 140 = dktX1_factOn_6 := dk_seg dksX1_factOn_5 24 rfl rfl
theorem dX1_factOn_0 : decode cX1_factOn 0 = .ok (.aconst_null, 1) := dk_1 (dk_at dksX1_factOn_0 0 rfl rfl)
theorem dX1_factOn_1 : decode cX1_factOn 1 = .ok (.astore 4, 2) := dk_58 4 (dk_at dksX1_factOn_0 1 rfl rfl)
theorem dX1_factOn_3 : decode cX1_factOn 3 = .ok (.iconst 0, 1) := dk_3 (dk_at dksX1_factOn_0 3 rfl rfl)
theorem dX1_factOn_4 : decode cX1_factOn 4 = .ok (.istore 5, 2) := dk_54 5 (dk_at dksX1_factOn_0 4 rfl rfl)
theorem dX1_factOn_6 : decode cX1_factOn 6 = .ok (.iload 5, 2) := dk_21 5 (dk_at dksX1_factOn_0 6 rfl rfl)
theorem dX1_factOn_8 : decode cX1_factOn 8 = .ok (.aload_n 0, 1) := dk_42 (dk_at dksX1_factOn_0 8 rfl rfl)
theorem dX1_factOn_9 : decode cX1_factOn 9 = .ok (.getfield 44, 3) := dk_180 0 44 (dk_at dksX1_factOn_0 9 rfl rfl)
theorem dX1_factOn_12 : decode cX1_factOn 12 = .ok (.invokeinterface 77 1, 5) := by decide +kernel
theorem dX1_factOn_17 : decode cX1_factOn 17 = .ok (.if_icmp .ge 102, 3) := dk_162 0 102 (dk_at dksX1_factOn_0 17 rfl rfl)
theorem dX1_factOn_20 : decode cX1_factOn 20 = .ok (.aload_n 0, 1) := dk_42 (dk_at dksX1_factOn_0 20 rfl rfl)
theorem dX1_factOn_21 : decode cX1_factOn 21 = .ok (.getfield 44, 3) := dk_180 0 44 (dk_at dksX1_factOn_0 21 rfl rfl)
theorem dX1_factOn_24 : decode cX1_factOn 24 = .ok (.iload 5, 2) := dk_21 5 (dk_at dksX1_factOn_1 0 rfl rfl)
theorem dX1_factOn_26 : decode cX1_factOn 26 = .ok (.invokeinterface 83 2, 5) := by decide +kernel
theorem dX1_factOn_31 : decode cX1_factOn 31 = .ok (.checkcast 89, 3) := dk_192 0 89 (dk_at dksX1_factOn_1 7 rfl rfl)
theorem dX1_factOn_34 : decode cX1_factOn 34 = .ok (.astore 6, 2) := dk_58 6 (dk_at dksX1_factOn_1 10 rfl rfl)
theorem dX1_factOn_36 : decode cX1_factOn 36 = .ok (.aload 6, 2) := dk_25 6 (dk_at dksX1_factOn_1 12 rfl rfl)
theorem dX1_factOn_38 : decode cX1_factOn 38 = .ok (.getfield 115, 3) := dk_180 0 115 (dk_at dksX1_factOn_1 14 rfl rfl)
theorem dX1_factOn_41 : decode cX1_factOn 41 = .ok (.aload_n 1, 1) := dk_43 (dk_at dksX1_factOn_1 17 rfl rfl)
theorem dX1_factOn_42 : decode cX1_factOn 42 = .ok (.if_acmp .ne 36, 3) := dk_166 0 36 (dk_at dksX1_factOn_1 18 rfl rfl)
theorem dX1_factOn_45 : decode cX1_factOn 45 = .ok (.aload 6, 2) := dk_25 6 (dk_at dksX1_factOn_1 21 rfl rfl)
theorem dX1_factOn_47 : decode cX1_factOn 47 = .ok (.getfield 119, 3) := dk_180 0 119 (dk_at dksX1_factOn_2 0 rfl rfl)
theorem dX1_factOn_50 : decode cX1_factOn 50 = .ok (.iconst 1, 1) := dk_4 (dk_at dksX1_factOn_2 3 rfl rfl)
theorem dX1_factOn_51 : decode cX1_factOn 51 = .ok (.if_icmp .ne 27, 3) := dk_160 0 27 (dk_at dksX1_factOn_2 4 rfl rfl)
theorem dX1_factOn_54 : decode cX1_factOn 54 = .ok (.aload 6, 2) := dk_25 6 (dk_at dksX1_factOn_2 7 rfl rfl)
theorem dX1_factOn_56 : decode cX1_factOn 56 = .ok (.getfield 123, 3) := dk_180 0 123 (dk_at dksX1_factOn_2 9 rfl rfl)
theorem dX1_factOn_59 : decode cX1_factOn 59 = .ok (.iload_n 3, 1) := dk_29 (dk_at dksX1_factOn_2 12 rfl rfl)
theorem dX1_factOn_60 : decode cX1_factOn 60 = .ok (.iaload, 1) := dk_46 (dk_at dksX1_factOn_2 13 rfl rfl)
theorem dX1_factOn_61 : decode cX1_factOn 61 = .ok (.iconst (-1), 1) := dk_2 (dk_at dksX1_factOn_2 14 rfl rfl)
theorem dX1_factOn_62 : decode cX1_factOn 62 = .ok (.if_icmp .eq 16, 3) := dk_159 0 16 (dk_at dksX1_factOn_2 15 rfl rfl)
theorem dX1_factOn_65 : decode cX1_factOn 65 = .ok (.aload 6, 2) := dk_25 6 (dk_at dksX1_factOn_2 18 rfl rfl)
theorem dX1_factOn_67 : decode cX1_factOn 67 = .ok (.getfield 127, 3) := dk_180 0 127 (dk_at dksX1_factOn_2 20 rfl rfl)
theorem dX1_factOn_70 : decode cX1_factOn 70 = .ok (.iload_n 2, 1) := dk_28 (dk_at dksX1_factOn_2 23 rfl rfl)
theorem dX1_factOn_71 : decode cX1_factOn 71 = .ok (.if_icmp .gt 7, 3) := dk_163 0 7 (dk_at dksX1_factOn_3 0 rfl rfl)
theorem dX1_factOn_74 : decode cX1_factOn 74 = .ok (.iconst 1, 1) := dk_4 (dk_at dksX1_factOn_3 3 rfl rfl)
theorem dX1_factOn_75 : decode cX1_factOn 75 = .ok (.goto 4, 3) := dk_167 0 4 (dk_at dksX1_factOn_3 4 rfl rfl)
theorem dX1_factOn_78 : decode cX1_factOn 78 = .ok (.iconst 0, 1) := dk_3 (dk_at dksX1_factOn_3 7 rfl rfl)
theorem dX1_factOn_79 : decode cX1_factOn 79 = .ok (.istore 7, 2) := dk_54 7 (dk_at dksX1_factOn_3 8 rfl rfl)
theorem dX1_factOn_81 : decode cX1_factOn 81 = .ok (.iload 7, 2) := dk_21 7 (dk_at dksX1_factOn_3 10 rfl rfl)
theorem dX1_factOn_83 : decode cX1_factOn 83 = .ok (.ifCond .eq 26, 3) := dk_153 0 26 (dk_at dksX1_factOn_3 12 rfl rfl)
theorem dX1_factOn_86 : decode cX1_factOn 86 = .ok (.aload 4, 2) := dk_25 4 (dk_at dksX1_factOn_3 15 rfl rfl)
theorem dX1_factOn_88 : decode cX1_factOn 88 = .ok (.ifnull 16, 3) := dk_198 0 16 (dk_at dksX1_factOn_3 17 rfl rfl)
theorem dX1_factOn_91 : decode cX1_factOn 91 = .ok (.aload 6, 2) := dk_25 6 (dk_at dksX1_factOn_3 20 rfl rfl)
theorem dX1_factOn_93 : decode cX1_factOn 93 = .ok (.getfield 127, 3) := dk_180 0 127 (dk_at dksX1_factOn_4 0 rfl rfl)
theorem dX1_factOn_96 : decode cX1_factOn 96 = .ok (.aload 4, 2) := dk_25 4 (dk_at dksX1_factOn_4 3 rfl rfl)
theorem dX1_factOn_98 : decode cX1_factOn 98 = .ok (.getfield 127, 3) := dk_180 0 127 (dk_at dksX1_factOn_4 5 rfl rfl)
theorem dX1_factOn_101 : decode cX1_factOn 101 = .ok (.if_icmp .lt 8, 3) := dk_161 0 8 (dk_at dksX1_factOn_4 8 rfl rfl)
theorem dX1_factOn_104 : decode cX1_factOn 104 = .ok (.aload 6, 2) := dk_25 6 (dk_at dksX1_factOn_4 11 rfl rfl)
theorem dX1_factOn_106 : decode cX1_factOn 106 = .ok (.goto 5, 3) := dk_167 0 5 (dk_at dksX1_factOn_4 13 rfl rfl)
theorem dX1_factOn_109 : decode cX1_factOn 109 = .ok (.aload 4, 2) := dk_25 4 (dk_at dksX1_factOn_4 16 rfl rfl)
theorem dX1_factOn_111 : decode cX1_factOn 111 = .ok (.astore 4, 2) := dk_58 4 (dk_at dksX1_factOn_4 18 rfl rfl)
theorem dX1_factOn_113 : decode cX1_factOn 113 = .ok (.iinc 5 1, 3) := dk_132 5 1 (dk_at dksX1_factOn_4 20 rfl rfl)
theorem dX1_factOn_116 : decode cX1_factOn 116 = .ok (.goto (-110), 3) := dk_167 255 146 (dk_at dksX1_factOn_5 0 rfl rfl)
theorem dX1_factOn_119 : decode cX1_factOn 119 = .ok (.aload 4, 2) := dk_25 4 (dk_at dksX1_factOn_5 3 rfl rfl)
theorem dX1_factOn_121 : decode cX1_factOn 121 = .ok (.ifnull 13, 3) := dk_198 0 13 (dk_at dksX1_factOn_5 5 rfl rfl)
theorem dX1_factOn_124 : decode cX1_factOn 124 = .ok (.aload 4, 2) := dk_25 4 (dk_at dksX1_factOn_5 8 rfl rfl)
theorem dX1_factOn_126 : decode cX1_factOn 126 = .ok (.getfield 123, 3) := dk_180 0 123 (dk_at dksX1_factOn_5 10 rfl rfl)
theorem dX1_factOn_129 : decode cX1_factOn 129 = .ok (.iload_n 3, 1) := dk_29 (dk_at dksX1_factOn_5 13 rfl rfl)
theorem dX1_factOn_130 : decode cX1_factOn 130 = .ok (.iaload, 1) := dk_46 (dk_at dksX1_factOn_5 14 rfl rfl)
theorem dX1_factOn_131 : decode cX1_factOn 131 = .ok (.goto 16, 3) := dk_167 0 16 (dk_at dksX1_factOn_5 15 rfl rfl)
theorem dX1_factOn_134 : decode cX1_factOn 134 = .ok (.iload_n 3, 1) := dk_29 (dk_at dksX1_factOn_5 18 rfl rfl)
theorem dX1_factOn_135 : decode cX1_factOn 135 = .ok (.iconst 2, 1) := dk_5 (dk_at dksX1_factOn_5 19 rfl rfl)
theorem dX1_factOn_136 : decode cX1_factOn 136 = .ok (.if_icmp .ne 7, 3) := dk_160 0 7 (dk_at dksX1_factOn_5 20 rfl rfl)
theorem dX1_factOn_139 : decode cX1_factOn 139 = .ok (.iconst 1, 1) := dk_4 (dk_at dksX1_factOn_5 23 rfl rfl)
theorem dX1_factOn_140 : decode cX1_factOn 140 = .ok (.goto 4, 3) := dk_167 0 4 (dk_at dksX1_factOn_6 0 rfl rfl)
theorem dX1_factOn_143 : decode cX1_factOn 143 = .ok (.iconst 0, 1) := dk_3 (dk_at dksX1_factOn_6 3 rfl rfl)
theorem dX1_factOn_144 : decode cX1_factOn 144 = .ok (.invokestatic 130, 3) := dk_184 0 130 (dk_at dksX1_factOn_6 4 rfl rfl)
theorem dX1_factOn_147 : decode cX1_factOn 147 = .ok (.ireturn, 1) := dk_172 (dk_at dksX1_factOn_6 7 rfl rfl)
abbrev cX1_one : ByteArray := prog_1_method_6_code
def yX1_one : MethodName := ⟨RX1, "one", "(Z)I"⟩
def dkwX1_one_0 : List UInt8 := [26, 153, 0, 7, 4, 167, 0, 4, 3, 172]
abbrev dktX1_one_0 : List UInt8 := dkwX1_one_0 ++ []
theorem dksX1_one_0 : cX1_one.data.toList.drop 0 = dktX1_one_0 := by decide +kernel
theorem dX1_one_0 : decode cX1_one 0 = .ok (.iload_n 0, 1) := dk_26 (dk_at dksX1_one_0 0 rfl rfl)
theorem dX1_one_1 : decode cX1_one 1 = .ok (.ifCond .eq 7, 3) := dk_153 0 7 (dk_at dksX1_one_0 1 rfl rfl)
theorem dX1_one_4 : decode cX1_one 4 = .ok (.iconst 1, 1) := dk_4 (dk_at dksX1_one_0 4 rfl rfl)
theorem dX1_one_5 : decode cX1_one 5 = .ok (.goto 4, 3) := dk_167 0 4 (dk_at dksX1_one_0 5 rfl rfl)
theorem dX1_one_8 : decode cX1_one 8 = .ok (.iconst 0, 1) := dk_3 (dk_at dksX1_one_0 8 rfl rfl)
theorem dX1_one_9 : decode cX1_one 9 = .ok (.ireturn, 1) := dk_172 (dk_at dksX1_one_0 9 rfl rfl)
abbrev cX1_calledBack : ByteArray := prog_1_method_48_code
def yX1_calledBack : MethodName := ⟨RX1, "calledBack", "()F"⟩
def dkwX1_calledBack_4 : List UInt8 := [28, 134, 110, 174]
abbrev dktX1_calledBack_4 : List UInt8 := dkwX1_calledBack_4 ++ []
def dkwX1_calledBack_3 : List UInt8 := [192, 0, 87, 182, 1, 124, 96, 61, 132, 3, 1, 167, 255, 221, 28, 154, 0, 7, 11, 167, 0, 8, 27, 134]
abbrev dktX1_calledBack_3 : List UInt8 := dkwX1_calledBack_3 ++ dktX1_calledBack_4
def dkwX1_calledBack_2 : List UInt8 := [42, 180, 0, 40, 185, 0, 77, 1, 0, 162, 0, 28, 28, 42, 180, 0, 40, 29, 185, 0, 83, 2, 0]
abbrev dktX1_calledBack_2 : List UInt8 := dkwX1_calledBack_2 ++ dktX1_calledBack_3
def dkwX1_calledBack_1 : List UInt8 := [185, 0, 83, 2, 0, 192, 0, 91, 180, 0, 225, 96, 60, 132, 2, 1, 167, 255, 221, 3, 61, 3, 62, 29]
abbrev dktX1_calledBack_1 : List UInt8 := dkwX1_calledBack_1 ++ dktX1_calledBack_2
def dkwX1_calledBack_0 : List UInt8 := [3, 60, 3, 61, 28, 42, 180, 0, 50, 185, 0, 77, 1, 0, 162, 0, 28, 27, 42, 180, 0, 50, 28]
abbrev dktX1_calledBack_0 : List UInt8 := dkwX1_calledBack_0 ++ dktX1_calledBack_1
theorem dksX1_calledBack_0 : cX1_calledBack.data.toList.drop 0 = dktX1_calledBack_0 := by decide +kernel
theorem dksX1_calledBack_1 : cX1_calledBack.data.toList.drop 23 = dktX1_calledBack_1 := dk_seg dksX1_calledBack_0 23 rfl rfl
theorem dksX1_calledBack_2 : cX1_calledBack.data.toList.drop 47 = dktX1_calledBack_2 := dk_seg dksX1_calledBack_1 24 rfl rfl
theorem dksX1_calledBack_3 : cX1_calledBack.data.toList.drop 70 = dktX1_calledBack_3 := dk_seg dksX1_calledBack_2 23 rfl rfl
theorem dksX1_calledBack_4 : cX1_calledBack.data.toList.drop 94 = dktX1_calledBack_4 := dk_seg dksX1_calledBack_3 24 rfl rfl
theorem dX1_calledBack_0 : decode cX1_calledBack 0 = .ok (.iconst 0, 1) := dk_3 (dk_at dksX1_calledBack_0 0 rfl rfl)
theorem dX1_calledBack_1 : decode cX1_calledBack 1 = .ok (.istore_n 1, 1) := dk_60 (dk_at dksX1_calledBack_0 1 rfl rfl)
theorem dX1_calledBack_2 : decode cX1_calledBack 2 = .ok (.iconst 0, 1) := dk_3 (dk_at dksX1_calledBack_0 2 rfl rfl)
theorem dX1_calledBack_3 : decode cX1_calledBack 3 = .ok (.istore_n 2, 1) := dk_61 (dk_at dksX1_calledBack_0 3 rfl rfl)
theorem dX1_calledBack_4 : decode cX1_calledBack 4 = .ok (.iload_n 2, 1) := dk_28 (dk_at dksX1_calledBack_0 4 rfl rfl)
theorem dX1_calledBack_5 : decode cX1_calledBack 5 = .ok (.aload_n 0, 1) := dk_42 (dk_at dksX1_calledBack_0 5 rfl rfl)
theorem dX1_calledBack_6 : decode cX1_calledBack 6 = .ok (.getfield 50, 3) := dk_180 0 50 (dk_at dksX1_calledBack_0 6 rfl rfl)
theorem dX1_calledBack_9 : decode cX1_calledBack 9 = .ok (.invokeinterface 77 1, 5) := by decide +kernel
theorem dX1_calledBack_14 : decode cX1_calledBack 14 = .ok (.if_icmp .ge 28, 3) := dk_162 0 28 (dk_at dksX1_calledBack_0 14 rfl rfl)
theorem dX1_calledBack_17 : decode cX1_calledBack 17 = .ok (.iload_n 1, 1) := dk_27 (dk_at dksX1_calledBack_0 17 rfl rfl)
theorem dX1_calledBack_18 : decode cX1_calledBack 18 = .ok (.aload_n 0, 1) := dk_42 (dk_at dksX1_calledBack_0 18 rfl rfl)
theorem dX1_calledBack_19 : decode cX1_calledBack 19 = .ok (.getfield 50, 3) := dk_180 0 50 (dk_at dksX1_calledBack_0 19 rfl rfl)
theorem dX1_calledBack_22 : decode cX1_calledBack 22 = .ok (.iload_n 2, 1) := dk_28 (dk_at dksX1_calledBack_0 22 rfl rfl)
theorem dX1_calledBack_23 : decode cX1_calledBack 23 = .ok (.invokeinterface 83 2, 5) := by decide +kernel
theorem dX1_calledBack_28 : decode cX1_calledBack 28 = .ok (.checkcast 91, 3) := dk_192 0 91 (dk_at dksX1_calledBack_1 5 rfl rfl)
theorem dX1_calledBack_31 : decode cX1_calledBack 31 = .ok (.getfield 225, 3) := dk_180 0 225 (dk_at dksX1_calledBack_1 8 rfl rfl)
theorem dX1_calledBack_34 : decode cX1_calledBack 34 = .ok (.iadd, 1) := dk_96 (dk_at dksX1_calledBack_1 11 rfl rfl)
theorem dX1_calledBack_35 : decode cX1_calledBack 35 = .ok (.istore_n 1, 1) := dk_60 (dk_at dksX1_calledBack_1 12 rfl rfl)
theorem dX1_calledBack_36 : decode cX1_calledBack 36 = .ok (.iinc 2 1, 3) := dk_132 2 1 (dk_at dksX1_calledBack_1 13 rfl rfl)
theorem dX1_calledBack_39 : decode cX1_calledBack 39 = .ok (.goto (-35), 3) := dk_167 255 221 (dk_at dksX1_calledBack_1 16 rfl rfl)
theorem dX1_calledBack_42 : decode cX1_calledBack 42 = .ok (.iconst 0, 1) := dk_3 (dk_at dksX1_calledBack_1 19 rfl rfl)
theorem dX1_calledBack_43 : decode cX1_calledBack 43 = .ok (.istore_n 2, 1) := dk_61 (dk_at dksX1_calledBack_1 20 rfl rfl)
theorem dX1_calledBack_44 : decode cX1_calledBack 44 = .ok (.iconst 0, 1) := dk_3 (dk_at dksX1_calledBack_1 21 rfl rfl)
theorem dX1_calledBack_45 : decode cX1_calledBack 45 = .ok (.istore_n 3, 1) := dk_62 (dk_at dksX1_calledBack_1 22 rfl rfl)
theorem dX1_calledBack_46 : decode cX1_calledBack 46 = .ok (.iload_n 3, 1) := dk_29 (dk_at dksX1_calledBack_1 23 rfl rfl)
theorem dX1_calledBack_47 : decode cX1_calledBack 47 = .ok (.aload_n 0, 1) := dk_42 (dk_at dksX1_calledBack_2 0 rfl rfl)
theorem dX1_calledBack_48 : decode cX1_calledBack 48 = .ok (.getfield 40, 3) := dk_180 0 40 (dk_at dksX1_calledBack_2 1 rfl rfl)
theorem dX1_calledBack_51 : decode cX1_calledBack 51 = .ok (.invokeinterface 77 1, 5) := by decide +kernel
theorem dX1_calledBack_56 : decode cX1_calledBack 56 = .ok (.if_icmp .ge 28, 3) := dk_162 0 28 (dk_at dksX1_calledBack_2 9 rfl rfl)
theorem dX1_calledBack_59 : decode cX1_calledBack 59 = .ok (.iload_n 2, 1) := dk_28 (dk_at dksX1_calledBack_2 12 rfl rfl)
theorem dX1_calledBack_60 : decode cX1_calledBack 60 = .ok (.aload_n 0, 1) := dk_42 (dk_at dksX1_calledBack_2 13 rfl rfl)
theorem dX1_calledBack_61 : decode cX1_calledBack 61 = .ok (.getfield 40, 3) := dk_180 0 40 (dk_at dksX1_calledBack_2 14 rfl rfl)
theorem dX1_calledBack_64 : decode cX1_calledBack 64 = .ok (.iload_n 3, 1) := dk_29 (dk_at dksX1_calledBack_2 17 rfl rfl)
theorem dX1_calledBack_65 : decode cX1_calledBack 65 = .ok (.invokeinterface 83 2, 5) := by decide +kernel
theorem dX1_calledBack_70 : decode cX1_calledBack 70 = .ok (.checkcast 87, 3) := dk_192 0 87 (dk_at dksX1_calledBack_3 0 rfl rfl)
theorem dX1_calledBack_73 : decode cX1_calledBack 73 = .ok (.invokevirtual 380, 3) := dk_182 1 124 (dk_at dksX1_calledBack_3 3 rfl rfl)
theorem dX1_calledBack_76 : decode cX1_calledBack 76 = .ok (.iadd, 1) := dk_96 (dk_at dksX1_calledBack_3 6 rfl rfl)
theorem dX1_calledBack_77 : decode cX1_calledBack 77 = .ok (.istore_n 2, 1) := dk_61 (dk_at dksX1_calledBack_3 7 rfl rfl)
theorem dX1_calledBack_78 : decode cX1_calledBack 78 = .ok (.iinc 3 1, 3) := dk_132 3 1 (dk_at dksX1_calledBack_3 8 rfl rfl)
theorem dX1_calledBack_81 : decode cX1_calledBack 81 = .ok (.goto (-35), 3) := dk_167 255 221 (dk_at dksX1_calledBack_3 11 rfl rfl)
theorem dX1_calledBack_84 : decode cX1_calledBack 84 = .ok (.iload_n 2, 1) := dk_28 (dk_at dksX1_calledBack_3 14 rfl rfl)
theorem dX1_calledBack_85 : decode cX1_calledBack 85 = .ok (.ifCond .ne 7, 3) := dk_154 0 7 (dk_at dksX1_calledBack_3 15 rfl rfl)
theorem dX1_calledBack_88 : decode cX1_calledBack 88 = .ok (.fconst 0, 1) := dk_11 (dk_at dksX1_calledBack_3 18 rfl rfl)
theorem dX1_calledBack_89 : decode cX1_calledBack 89 = .ok (.goto 8, 3) := dk_167 0 8 (dk_at dksX1_calledBack_3 19 rfl rfl)
theorem dX1_calledBack_92 : decode cX1_calledBack 92 = .ok (.iload_n 1, 1) := dk_27 (dk_at dksX1_calledBack_3 22 rfl rfl)
theorem dX1_calledBack_93 : decode cX1_calledBack 93 = .ok (.i2f, 1) := dk_134 (dk_at dksX1_calledBack_3 23 rfl rfl)
theorem dX1_calledBack_94 : decode cX1_calledBack 94 = .ok (.iload_n 2, 1) := dk_28 (dk_at dksX1_calledBack_4 0 rfl rfl)
theorem dX1_calledBack_95 : decode cX1_calledBack 95 = .ok (.i2f, 1) := dk_134 (dk_at dksX1_calledBack_4 1 rfl rfl)
theorem dX1_calledBack_96 : decode cX1_calledBack 96 = .ok (.fdiv, 1) := dk_110 (dk_at dksX1_calledBack_4 2 rfl rfl)
theorem dX1_calledBack_97 : decode cX1_calledBack 97 = .ok (.freturn, 1) := dk_174 (dk_at dksX1_calledBack_4 3 rfl rfl)
abbrev cX1_errors : ByteArray := prog_1_method_51_code
def yX1_errors : MethodName := ⟨RX1, "errors", "()I"⟩
def dkwX1_errors_5 : List UInt8 := [167, 255, 185, 27, 172]
abbrev dktX1_errors_5 : List UInt8 := dkwX1_errors_5 ++ []
def dkwX1_errors_4 : List UInt8 := [160, 0, 14, 45, 180, 0, 160, 158, 0, 7, 4, 167, 0, 4, 3, 184, 0, 130, 96, 60, 132, 2, 1]
abbrev dktX1_errors_4 : List UInt8 := dkwX1_errors_4 ++ dktX1_errors_5
def dkwX1_errors_3 : List UInt8 := [78, 27, 45, 180, 0, 159, 5, 160, 0, 10, 45, 180, 0, 160, 153, 0, 18, 45, 180, 0, 159, 6]
abbrev dktX1_errors_3 : List UInt8 := dkwX1_errors_3 ++ dktX1_errors_4
def dkwX1_errors_2 : List UInt8 := [180, 0, 50, 185, 0, 77, 1, 0, 162, 0, 64, 42, 180, 0, 50, 28, 185, 0, 83, 2, 0, 192, 0, 91]
abbrev dktX1_errors_2 : List UInt8 := dkwX1_errors_2 ++ dktX1_errors_3
def dkwX1_errors_1 : List UInt8 := [185, 0, 83, 2, 0, 192, 0, 87, 182, 1, 130, 96, 60, 132, 2, 1, 167, 255, 220, 3, 61, 28, 42]
abbrev dktX1_errors_1 : List UInt8 := dkwX1_errors_1 ++ dktX1_errors_2
def dkwX1_errors_0 : List UInt8 := [3, 60, 3, 61, 28, 42, 180, 0, 40, 185, 0, 77, 1, 0, 162, 0, 29, 27, 42, 42, 180, 0, 40, 28]
abbrev dktX1_errors_0 : List UInt8 := dkwX1_errors_0 ++ dktX1_errors_1
theorem dksX1_errors_0 : cX1_errors.data.toList.drop 0 = dktX1_errors_0 := by decide +kernel
theorem dksX1_errors_1 : cX1_errors.data.toList.drop 24 = dktX1_errors_1 := dk_seg dksX1_errors_0 24 rfl rfl
theorem dksX1_errors_2 : cX1_errors.data.toList.drop 47 = dktX1_errors_2 := dk_seg dksX1_errors_1 23 rfl rfl
theorem dksX1_errors_3 : cX1_errors.data.toList.drop 71 = dktX1_errors_3 := dk_seg dksX1_errors_2 24 rfl rfl
theorem dksX1_errors_4 : cX1_errors.data.toList.drop 93 = dktX1_errors_4 := dk_seg dksX1_errors_3 22 rfl rfl
theorem dksX1_errors_5 : cX1_errors.data.toList.drop 116 = dktX1_errors_5 := dk_seg dksX1_errors_4 23 rfl rfl
theorem dX1_errors_0 : decode cX1_errors 0 = .ok (.iconst 0, 1) := dk_3 (dk_at dksX1_errors_0 0 rfl rfl)
theorem dX1_errors_1 : decode cX1_errors 1 = .ok (.istore_n 1, 1) := dk_60 (dk_at dksX1_errors_0 1 rfl rfl)
theorem dX1_errors_2 : decode cX1_errors 2 = .ok (.iconst 0, 1) := dk_3 (dk_at dksX1_errors_0 2 rfl rfl)
theorem dX1_errors_3 : decode cX1_errors 3 = .ok (.istore_n 2, 1) := dk_61 (dk_at dksX1_errors_0 3 rfl rfl)
theorem dX1_errors_4 : decode cX1_errors 4 = .ok (.iload_n 2, 1) := dk_28 (dk_at dksX1_errors_0 4 rfl rfl)
theorem dX1_errors_5 : decode cX1_errors 5 = .ok (.aload_n 0, 1) := dk_42 (dk_at dksX1_errors_0 5 rfl rfl)
theorem dX1_errors_6 : decode cX1_errors 6 = .ok (.getfield 40, 3) := dk_180 0 40 (dk_at dksX1_errors_0 6 rfl rfl)
theorem dX1_errors_9 : decode cX1_errors 9 = .ok (.invokeinterface 77 1, 5) := by decide +kernel
theorem dX1_errors_14 : decode cX1_errors 14 = .ok (.if_icmp .ge 29, 3) := dk_162 0 29 (dk_at dksX1_errors_0 14 rfl rfl)
theorem dX1_errors_17 : decode cX1_errors 17 = .ok (.iload_n 1, 1) := dk_27 (dk_at dksX1_errors_0 17 rfl rfl)
theorem dX1_errors_18 : decode cX1_errors 18 = .ok (.aload_n 0, 1) := dk_42 (dk_at dksX1_errors_0 18 rfl rfl)
theorem dX1_errors_19 : decode cX1_errors 19 = .ok (.aload_n 0, 1) := dk_42 (dk_at dksX1_errors_0 19 rfl rfl)
theorem dX1_errors_20 : decode cX1_errors 20 = .ok (.getfield 40, 3) := dk_180 0 40 (dk_at dksX1_errors_0 20 rfl rfl)
theorem dX1_errors_23 : decode cX1_errors 23 = .ok (.iload_n 2, 1) := dk_28 (dk_at dksX1_errors_0 23 rfl rfl)
theorem dX1_errors_24 : decode cX1_errors 24 = .ok (.invokeinterface 83 2, 5) := by decide +kernel
theorem dX1_errors_29 : decode cX1_errors 29 = .ok (.checkcast 87, 3) := dk_192 0 87 (dk_at dksX1_errors_1 5 rfl rfl)
theorem dX1_errors_32 : decode cX1_errors 32 = .ok (.invokevirtual 386, 3) := dk_182 1 130 (dk_at dksX1_errors_1 8 rfl rfl)
theorem dX1_errors_35 : decode cX1_errors 35 = .ok (.iadd, 1) := dk_96 (dk_at dksX1_errors_1 11 rfl rfl)
theorem dX1_errors_36 : decode cX1_errors 36 = .ok (.istore_n 1, 1) := dk_60 (dk_at dksX1_errors_1 12 rfl rfl)
theorem dX1_errors_37 : decode cX1_errors 37 = .ok (.iinc 2 1, 3) := dk_132 2 1 (dk_at dksX1_errors_1 13 rfl rfl)
theorem dX1_errors_40 : decode cX1_errors 40 = .ok (.goto (-36), 3) := dk_167 255 220 (dk_at dksX1_errors_1 16 rfl rfl)
theorem dX1_errors_43 : decode cX1_errors 43 = .ok (.iconst 0, 1) := dk_3 (dk_at dksX1_errors_1 19 rfl rfl)
theorem dX1_errors_44 : decode cX1_errors 44 = .ok (.istore_n 2, 1) := dk_61 (dk_at dksX1_errors_1 20 rfl rfl)
theorem dX1_errors_45 : decode cX1_errors 45 = .ok (.iload_n 2, 1) := dk_28 (dk_at dksX1_errors_1 21 rfl rfl)
theorem dX1_errors_46 : decode cX1_errors 46 = .ok (.aload_n 0, 1) := dk_42 (dk_at dksX1_errors_1 22 rfl rfl)
theorem dX1_errors_47 : decode cX1_errors 47 = .ok (.getfield 50, 3) := dk_180 0 50 (dk_at dksX1_errors_2 0 rfl rfl)
theorem dX1_errors_50 : decode cX1_errors 50 = .ok (.invokeinterface 77 1, 5) := by decide +kernel
theorem dX1_errors_55 : decode cX1_errors 55 = .ok (.if_icmp .ge 64, 3) := dk_162 0 64 (dk_at dksX1_errors_2 8 rfl rfl)
theorem dX1_errors_58 : decode cX1_errors 58 = .ok (.aload_n 0, 1) := dk_42 (dk_at dksX1_errors_2 11 rfl rfl)
theorem dX1_errors_59 : decode cX1_errors 59 = .ok (.getfield 50, 3) := dk_180 0 50 (dk_at dksX1_errors_2 12 rfl rfl)
theorem dX1_errors_62 : decode cX1_errors 62 = .ok (.iload_n 2, 1) := dk_28 (dk_at dksX1_errors_2 15 rfl rfl)
theorem dX1_errors_63 : decode cX1_errors 63 = .ok (.invokeinterface 83 2, 5) := by decide +kernel
theorem dX1_errors_68 : decode cX1_errors 68 = .ok (.checkcast 91, 3) := dk_192 0 91 (dk_at dksX1_errors_2 21 rfl rfl)
theorem dX1_errors_71 : decode cX1_errors 71 = .ok (.astore_n 3, 1) := dk_78 (dk_at dksX1_errors_3 0 rfl rfl)
theorem dX1_errors_72 : decode cX1_errors 72 = .ok (.iload_n 1, 1) := dk_27 (dk_at dksX1_errors_3 1 rfl rfl)
theorem dX1_errors_73 : decode cX1_errors 73 = .ok (.aload_n 3, 1) := dk_45 (dk_at dksX1_errors_3 2 rfl rfl)
theorem dX1_errors_74 : decode cX1_errors 74 = .ok (.getfield 159, 3) := dk_180 0 159 (dk_at dksX1_errors_3 3 rfl rfl)
theorem dX1_errors_77 : decode cX1_errors 77 = .ok (.iconst 2, 1) := dk_5 (dk_at dksX1_errors_3 6 rfl rfl)
theorem dX1_errors_78 : decode cX1_errors 78 = .ok (.if_icmp .ne 10, 3) := dk_160 0 10 (dk_at dksX1_errors_3 7 rfl rfl)
theorem dX1_errors_81 : decode cX1_errors 81 = .ok (.aload_n 3, 1) := dk_45 (dk_at dksX1_errors_3 10 rfl rfl)
theorem dX1_errors_82 : decode cX1_errors 82 = .ok (.getfield 160, 3) := dk_180 0 160 (dk_at dksX1_errors_3 11 rfl rfl)
theorem dX1_errors_85 : decode cX1_errors 85 = .ok (.ifCond .eq 18, 3) := dk_153 0 18 (dk_at dksX1_errors_3 14 rfl rfl)
theorem dX1_errors_88 : decode cX1_errors 88 = .ok (.aload_n 3, 1) := dk_45 (dk_at dksX1_errors_3 17 rfl rfl)
theorem dX1_errors_89 : decode cX1_errors 89 = .ok (.getfield 159, 3) := dk_180 0 159 (dk_at dksX1_errors_3 18 rfl rfl)
theorem dX1_errors_92 : decode cX1_errors 92 = .ok (.iconst 3, 1) := dk_6 (dk_at dksX1_errors_3 21 rfl rfl)
theorem dX1_errors_93 : decode cX1_errors 93 = .ok (.if_icmp .ne 14, 3) := dk_160 0 14 (dk_at dksX1_errors_4 0 rfl rfl)
theorem dX1_errors_96 : decode cX1_errors 96 = .ok (.aload_n 3, 1) := dk_45 (dk_at dksX1_errors_4 3 rfl rfl)
theorem dX1_errors_97 : decode cX1_errors 97 = .ok (.getfield 160, 3) := dk_180 0 160 (dk_at dksX1_errors_4 4 rfl rfl)
theorem dX1_errors_100 : decode cX1_errors 100 = .ok (.ifCond .le 7, 3) := dk_158 0 7 (dk_at dksX1_errors_4 7 rfl rfl)
theorem dX1_errors_103 : decode cX1_errors 103 = .ok (.iconst 1, 1) := dk_4 (dk_at dksX1_errors_4 10 rfl rfl)
theorem dX1_errors_104 : decode cX1_errors 104 = .ok (.goto 4, 3) := dk_167 0 4 (dk_at dksX1_errors_4 11 rfl rfl)
theorem dX1_errors_107 : decode cX1_errors 107 = .ok (.iconst 0, 1) := dk_3 (dk_at dksX1_errors_4 14 rfl rfl)
theorem dX1_errors_108 : decode cX1_errors 108 = .ok (.invokestatic 130, 3) := dk_184 0 130 (dk_at dksX1_errors_4 15 rfl rfl)
theorem dX1_errors_111 : decode cX1_errors 111 = .ok (.iadd, 1) := dk_96 (dk_at dksX1_errors_4 18 rfl rfl)
theorem dX1_errors_112 : decode cX1_errors 112 = .ok (.istore_n 1, 1) := dk_60 (dk_at dksX1_errors_4 19 rfl rfl)
theorem dX1_errors_113 : decode cX1_errors 113 = .ok (.iinc 2 1, 3) := dk_132 2 1 (dk_at dksX1_errors_4 20 rfl rfl)
theorem dX1_errors_116 : decode cX1_errors 116 = .ok (.goto (-71), 3) := dk_167 255 185 (dk_at dksX1_errors_5 0 rfl rfl)
theorem dX1_errors_119 : decode cX1_errors 119 = .ok (.iload_n 1, 1) := dk_27 (dk_at dksX1_errors_5 3 rfl rfl)
theorem dX1_errors_120 : decode cX1_errors 120 = .ok (.ireturn, 1) := dk_172 (dk_at dksX1_errors_5 4 rfl rfl)
abbrev cX1_wrong : ByteArray := prog_1_method_50_code
def yX1_wrong : MethodName := ⟨RX1, "wrong", "(LAppealrent$Case;)I"⟩
def dkwX1_wrong_4 : List UInt8 := [46, 96, 159, 0, 7, 4, 167, 0, 4, 3, 184, 0, 130, 96, 172]
abbrev dktX1_wrong_4 : List UInt8 := dkwX1_wrong_4 ++ []
def dkwX1_wrong_3 : List UInt8 := [167, 255, 192, 28, 43, 182, 1, 124, 43, 180, 0, 246, 43, 180, 0, 249, 3, 46, 96, 43, 180, 0, 249, 4]
abbrev dktX1_wrong_3 : List UInt8 := dkwX1_wrong_3 ++ dktX1_wrong_4
def dkwX1_wrong_2 : List UInt8 := [180, 0, 234, 29, 46, 164, 0, 7, 4, 167, 0, 4, 3, 184, 0, 130, 96, 96, 61, 132, 3, 1]
abbrev dktX1_wrong_2 : List UInt8 := dkwX1_wrong_2 ++ dktX1_wrong_3
def dkwX1_wrong_1 : List UInt8 := [29, 182, 0, 252, 159, 0, 7, 4, 167, 0, 4, 3, 184, 0, 130, 43, 180, 0, 255, 29, 46, 43]
abbrev dktX1_wrong_1 : List UInt8 := dkwX1_wrong_1 ++ dktX1_wrong_2
def dkwX1_wrong_0 : List UInt8 := [3, 61, 3, 62, 29, 42, 180, 0, 177, 16, 30, 108, 163, 0, 59, 28, 42, 43, 29, 182, 1, 127, 42, 43]
abbrev dktX1_wrong_0 : List UInt8 := dkwX1_wrong_0 ++ dktX1_wrong_1
theorem dksX1_wrong_0 : cX1_wrong.data.toList.drop 0 = dktX1_wrong_0 := by decide +kernel
theorem dksX1_wrong_1 : cX1_wrong.data.toList.drop 24 = dktX1_wrong_1 := dk_seg dksX1_wrong_0 24 rfl rfl
theorem dksX1_wrong_2 : cX1_wrong.data.toList.drop 46 = dktX1_wrong_2 := dk_seg dksX1_wrong_1 22 rfl rfl
theorem dksX1_wrong_3 : cX1_wrong.data.toList.drop 68 = dktX1_wrong_3 := dk_seg dksX1_wrong_2 22 rfl rfl
theorem dksX1_wrong_4 : cX1_wrong.data.toList.drop 92 = dktX1_wrong_4 := dk_seg dksX1_wrong_3 24 rfl rfl
theorem dX1_wrong_0 : decode cX1_wrong 0 = .ok (.iconst 0, 1) := dk_3 (dk_at dksX1_wrong_0 0 rfl rfl)
theorem dX1_wrong_1 : decode cX1_wrong 1 = .ok (.istore_n 2, 1) := dk_61 (dk_at dksX1_wrong_0 1 rfl rfl)
theorem dX1_wrong_2 : decode cX1_wrong 2 = .ok (.iconst 0, 1) := dk_3 (dk_at dksX1_wrong_0 2 rfl rfl)
theorem dX1_wrong_3 : decode cX1_wrong 3 = .ok (.istore_n 3, 1) := dk_62 (dk_at dksX1_wrong_0 3 rfl rfl)
theorem dX1_wrong_4 : decode cX1_wrong 4 = .ok (.iload_n 3, 1) := dk_29 (dk_at dksX1_wrong_0 4 rfl rfl)
theorem dX1_wrong_5 : decode cX1_wrong 5 = .ok (.aload_n 0, 1) := dk_42 (dk_at dksX1_wrong_0 5 rfl rfl)
theorem dX1_wrong_6 : decode cX1_wrong 6 = .ok (.getfield 177, 3) := dk_180 0 177 (dk_at dksX1_wrong_0 6 rfl rfl)
theorem dX1_wrong_9 : decode cX1_wrong 9 = .ok (.bipush 30, 2) := dk_16 30 (dk_at dksX1_wrong_0 9 rfl rfl)
theorem dX1_wrong_11 : decode cX1_wrong 11 = .ok (.idiv, 1) := dk_108 (dk_at dksX1_wrong_0 11 rfl rfl)
theorem dX1_wrong_12 : decode cX1_wrong 12 = .ok (.if_icmp .gt 59, 3) := dk_163 0 59 (dk_at dksX1_wrong_0 12 rfl rfl)
theorem dX1_wrong_15 : decode cX1_wrong 15 = .ok (.iload_n 2, 1) := dk_28 (dk_at dksX1_wrong_0 15 rfl rfl)
theorem dX1_wrong_16 : decode cX1_wrong 16 = .ok (.aload_n 0, 1) := dk_42 (dk_at dksX1_wrong_0 16 rfl rfl)
theorem dX1_wrong_17 : decode cX1_wrong 17 = .ok (.aload_n 1, 1) := dk_43 (dk_at dksX1_wrong_0 17 rfl rfl)
theorem dX1_wrong_18 : decode cX1_wrong 18 = .ok (.iload_n 3, 1) := dk_29 (dk_at dksX1_wrong_0 18 rfl rfl)
theorem dX1_wrong_19 : decode cX1_wrong 19 = .ok (.invokevirtual 383, 3) := dk_182 1 127 (dk_at dksX1_wrong_0 19 rfl rfl)
theorem dX1_wrong_22 : decode cX1_wrong 22 = .ok (.aload_n 0, 1) := dk_42 (dk_at dksX1_wrong_0 22 rfl rfl)
theorem dX1_wrong_23 : decode cX1_wrong 23 = .ok (.aload_n 1, 1) := dk_43 (dk_at dksX1_wrong_0 23 rfl rfl)
theorem dX1_wrong_24 : decode cX1_wrong 24 = .ok (.iload_n 3, 1) := dk_29 (dk_at dksX1_wrong_1 0 rfl rfl)
theorem dX1_wrong_25 : decode cX1_wrong 25 = .ok (.invokevirtual 252, 3) := dk_182 0 252 (dk_at dksX1_wrong_1 1 rfl rfl)
theorem dX1_wrong_28 : decode cX1_wrong 28 = .ok (.if_icmp .eq 7, 3) := dk_159 0 7 (dk_at dksX1_wrong_1 4 rfl rfl)
theorem dX1_wrong_31 : decode cX1_wrong 31 = .ok (.iconst 1, 1) := dk_4 (dk_at dksX1_wrong_1 7 rfl rfl)
theorem dX1_wrong_32 : decode cX1_wrong 32 = .ok (.goto 4, 3) := dk_167 0 4 (dk_at dksX1_wrong_1 8 rfl rfl)
theorem dX1_wrong_35 : decode cX1_wrong 35 = .ok (.iconst 0, 1) := dk_3 (dk_at dksX1_wrong_1 11 rfl rfl)
theorem dX1_wrong_36 : decode cX1_wrong 36 = .ok (.invokestatic 130, 3) := dk_184 0 130 (dk_at dksX1_wrong_1 12 rfl rfl)
theorem dX1_wrong_39 : decode cX1_wrong 39 = .ok (.aload_n 1, 1) := dk_43 (dk_at dksX1_wrong_1 15 rfl rfl)
theorem dX1_wrong_40 : decode cX1_wrong 40 = .ok (.getfield 255, 3) := dk_180 0 255 (dk_at dksX1_wrong_1 16 rfl rfl)
theorem dX1_wrong_43 : decode cX1_wrong 43 = .ok (.iload_n 3, 1) := dk_29 (dk_at dksX1_wrong_1 19 rfl rfl)
theorem dX1_wrong_44 : decode cX1_wrong 44 = .ok (.iaload, 1) := dk_46 (dk_at dksX1_wrong_1 20 rfl rfl)
theorem dX1_wrong_45 : decode cX1_wrong 45 = .ok (.aload_n 1, 1) := dk_43 (dk_at dksX1_wrong_1 21 rfl rfl)
theorem dX1_wrong_46 : decode cX1_wrong 46 = .ok (.getfield 234, 3) := dk_180 0 234 (dk_at dksX1_wrong_2 0 rfl rfl)
theorem dX1_wrong_49 : decode cX1_wrong 49 = .ok (.iload_n 3, 1) := dk_29 (dk_at dksX1_wrong_2 3 rfl rfl)
theorem dX1_wrong_50 : decode cX1_wrong 50 = .ok (.iaload, 1) := dk_46 (dk_at dksX1_wrong_2 4 rfl rfl)
theorem dX1_wrong_51 : decode cX1_wrong 51 = .ok (.if_icmp .le 7, 3) := dk_164 0 7 (dk_at dksX1_wrong_2 5 rfl rfl)
theorem dX1_wrong_54 : decode cX1_wrong 54 = .ok (.iconst 1, 1) := dk_4 (dk_at dksX1_wrong_2 8 rfl rfl)
theorem dX1_wrong_55 : decode cX1_wrong 55 = .ok (.goto 4, 3) := dk_167 0 4 (dk_at dksX1_wrong_2 9 rfl rfl)
theorem dX1_wrong_58 : decode cX1_wrong 58 = .ok (.iconst 0, 1) := dk_3 (dk_at dksX1_wrong_2 12 rfl rfl)
theorem dX1_wrong_59 : decode cX1_wrong 59 = .ok (.invokestatic 130, 3) := dk_184 0 130 (dk_at dksX1_wrong_2 13 rfl rfl)
theorem dX1_wrong_62 : decode cX1_wrong 62 = .ok (.iadd, 1) := dk_96 (dk_at dksX1_wrong_2 16 rfl rfl)
theorem dX1_wrong_63 : decode cX1_wrong 63 = .ok (.iadd, 1) := dk_96 (dk_at dksX1_wrong_2 17 rfl rfl)
theorem dX1_wrong_64 : decode cX1_wrong 64 = .ok (.istore_n 2, 1) := dk_61 (dk_at dksX1_wrong_2 18 rfl rfl)
theorem dX1_wrong_65 : decode cX1_wrong 65 = .ok (.iinc 3 1, 3) := dk_132 3 1 (dk_at dksX1_wrong_2 19 rfl rfl)
theorem dX1_wrong_68 : decode cX1_wrong 68 = .ok (.goto (-64), 3) := dk_167 255 192 (dk_at dksX1_wrong_3 0 rfl rfl)
theorem dX1_wrong_71 : decode cX1_wrong 71 = .ok (.iload_n 2, 1) := dk_28 (dk_at dksX1_wrong_3 3 rfl rfl)
theorem dX1_wrong_72 : decode cX1_wrong 72 = .ok (.aload_n 1, 1) := dk_43 (dk_at dksX1_wrong_3 4 rfl rfl)
theorem dX1_wrong_73 : decode cX1_wrong 73 = .ok (.invokevirtual 380, 3) := dk_182 1 124 (dk_at dksX1_wrong_3 5 rfl rfl)
theorem dX1_wrong_76 : decode cX1_wrong 76 = .ok (.aload_n 1, 1) := dk_43 (dk_at dksX1_wrong_3 8 rfl rfl)
theorem dX1_wrong_77 : decode cX1_wrong 77 = .ok (.getfield 246, 3) := dk_180 0 246 (dk_at dksX1_wrong_3 9 rfl rfl)
theorem dX1_wrong_80 : decode cX1_wrong 80 = .ok (.aload_n 1, 1) := dk_43 (dk_at dksX1_wrong_3 12 rfl rfl)
theorem dX1_wrong_81 : decode cX1_wrong 81 = .ok (.getfield 249, 3) := dk_180 0 249 (dk_at dksX1_wrong_3 13 rfl rfl)
theorem dX1_wrong_84 : decode cX1_wrong 84 = .ok (.iconst 0, 1) := dk_3 (dk_at dksX1_wrong_3 16 rfl rfl)
theorem dX1_wrong_85 : decode cX1_wrong 85 = .ok (.iaload, 1) := dk_46 (dk_at dksX1_wrong_3 17 rfl rfl)
theorem dX1_wrong_86 : decode cX1_wrong 86 = .ok (.iadd, 1) := dk_96 (dk_at dksX1_wrong_3 18 rfl rfl)
theorem dX1_wrong_87 : decode cX1_wrong 87 = .ok (.aload_n 1, 1) := dk_43 (dk_at dksX1_wrong_3 19 rfl rfl)
theorem dX1_wrong_88 : decode cX1_wrong 88 = .ok (.getfield 249, 3) := dk_180 0 249 (dk_at dksX1_wrong_3 20 rfl rfl)
theorem dX1_wrong_91 : decode cX1_wrong 91 = .ok (.iconst 1, 1) := dk_4 (dk_at dksX1_wrong_3 23 rfl rfl)
theorem dX1_wrong_92 : decode cX1_wrong 92 = .ok (.iaload, 1) := dk_46 (dk_at dksX1_wrong_4 0 rfl rfl)
theorem dX1_wrong_93 : decode cX1_wrong 93 = .ok (.iadd, 1) := dk_96 (dk_at dksX1_wrong_4 1 rfl rfl)
theorem dX1_wrong_94 : decode cX1_wrong 94 = .ok (.if_icmp .eq 7, 3) := dk_159 0 7 (dk_at dksX1_wrong_4 2 rfl rfl)
theorem dX1_wrong_97 : decode cX1_wrong 97 = .ok (.iconst 1, 1) := dk_4 (dk_at dksX1_wrong_4 5 rfl rfl)
theorem dX1_wrong_98 : decode cX1_wrong 98 = .ok (.goto 4, 3) := dk_167 0 4 (dk_at dksX1_wrong_4 6 rfl rfl)
theorem dX1_wrong_101 : decode cX1_wrong 101 = .ok (.iconst 0, 1) := dk_3 (dk_at dksX1_wrong_4 9 rfl rfl)
theorem dX1_wrong_102 : decode cX1_wrong 102 = .ok (.invokestatic 130, 3) := dk_184 0 130 (dk_at dksX1_wrong_4 10 rfl rfl)
theorem dX1_wrong_105 : decode cX1_wrong 105 = .ok (.iadd, 1) := dk_96 (dk_at dksX1_wrong_4 13 rfl rfl)
theorem dX1_wrong_106 : decode cX1_wrong 106 = .ok (.ireturn, 1) := dk_172 (dk_at dksX1_wrong_4 14 rfl rfl)
abbrev cX1_again : ByteArray := prog_1_method_49_code
def yX1_again : MethodName := ⟨RX1, "again", "(LAppealrent$Case;I)I"⟩
def dkwX1_again_13 : List UInt8 := [132, 5, 1, 167, 254, 225, 29, 172]
abbrev dktX1_again_13 : List UInt8 := dkwX1_again_13 ++ []
def dkwX1_again_12 : List UInt8 := [3, 46, 25, 4, 4, 46, 25, 4, 5, 46, 182, 0, 150, 16, 30, 108, 167, 0, 4, 3, 96, 62]
abbrev dktX1_again_12 : List UInt8 := dkwX1_again_12 ++ dktX1_again_13
def dkwX1_again_11 : List UInt8 := [21, 5, 182, 0, 138, 153, 0, 38, 42, 180, 0, 47, 21, 6, 185, 0, 83, 2, 0, 192, 0, 66, 25, 4]
abbrev dktX1_again_11 : List UInt8 := dkwX1_again_11 ++ dktX1_again_12
def dkwX1_again_10 : List UInt8 := [180, 0, 127, 167, 0, 5, 21, 8, 54, 8, 132, 9, 255, 167, 255, 132, 132, 7, 1, 167, 255, 85, 29, 43]
abbrev dktX1_again_10 : List UInt8 := dkwX1_again_10 ++ dktX1_again_11
def dkwX1_again_9 : List UInt8 := [25, 10, 180, 0, 123, 21, 7, 46, 167, 0, 8, 25, 4, 21, 7, 46, 79, 21, 11, 153, 0, 11, 25, 10]
abbrev dktX1_again_9 : List UInt8 := dkwX1_again_9 ++ dktX1_again_10
def dkwX1_again_8 : List UInt8 := [21, 7, 46, 2, 159, 0, 7, 4, 167, 0, 4, 3, 54, 11, 25, 4, 21, 7, 21, 11, 153, 0, 14]
abbrev dktX1_again_8 : List UInt8 := dkwX1_again_8 ++ dktX1_again_9
def dkwX1_again_7 : List UInt8 := [180, 0, 127, 21, 5, 163, 0, 29, 25, 10, 180, 0, 127, 21, 8, 164, 0, 19, 25, 10, 180, 0, 123]
abbrev dktX1_again_7 : List UInt8 := dkwX1_again_7 ++ dktX1_again_8
def dkwX1_again_6 : List UInt8 := [58, 10, 25, 10, 180, 0, 115, 43, 166, 0, 48, 25, 10, 180, 0, 119, 4, 160, 0, 39, 25, 10]
abbrev dktX1_again_6 : List UInt8 := dkwX1_again_6 ++ dktX1_again_7
def dkwX1_again_5 : List UInt8 := [4, 100, 54, 9, 21, 9, 155, 0, 125, 42, 180, 0, 44, 21, 9, 185, 0, 83, 2, 0, 192, 0, 89]
abbrev dktX1_again_5 : List UInt8 := dkwX1_again_5 ++ dktX1_again_6
def dkwX1_again_4 : List UInt8 := [160, 0, 7, 4, 167, 0, 4, 3, 184, 0, 130, 79, 2, 54, 8, 42, 180, 0, 44, 185, 0, 77, 1, 0]
abbrev dktX1_again_4 : List UInt8 := dkwX1_again_4 ++ dktX1_again_5
def dkwX1_again_3 : List UInt8 := [132, 6, 255, 167, 255, 225, 3, 54, 7, 21, 7, 6, 162, 0, 171, 25, 4, 21, 7, 21, 7, 5]
abbrev dktX1_again_3 : List UInt8 := dkwX1_again_3 ++ dktX1_again_4
def dkwX1_again_2 : List UInt8 := [180, 0, 47, 21, 6, 185, 0, 83, 2, 0, 192, 0, 66, 43, 21, 5, 182, 0, 134, 154, 0, 9]
abbrev dktX1_again_2 : List UInt8 := dkwX1_again_2 ++ dktX1_again_3
def dkwX1_again_1 : List UInt8 := [162, 1, 25, 42, 180, 0, 47, 185, 0, 77, 1, 0, 4, 100, 54, 6, 21, 6, 158, 0, 32, 42]
abbrev dktX1_again_1 : List UInt8 := dkwX1_again_1 ++ dktX1_again_2
def dkwX1_again_0 : List UInt8 := [3, 62, 6, 188, 10, 58, 4, 16, 30, 28, 104, 54, 5, 21, 5, 16, 30, 28, 104, 16, 30, 96]
abbrev dktX1_again_0 : List UInt8 := dkwX1_again_0 ++ dktX1_again_1
theorem dksX1_again_0 : cX1_again.data.toList.drop 0 = dktX1_again_0 := by decide +kernel
theorem dksX1_again_1 : cX1_again.data.toList.drop 22 = dktX1_again_1 := dk_seg dksX1_again_0 22 rfl rfl
theorem dksX1_again_2 : cX1_again.data.toList.drop 44 = dktX1_again_2 := dk_seg dksX1_again_1 22 rfl rfl
theorem dksX1_again_3 : cX1_again.data.toList.drop 66 = dktX1_again_3 := dk_seg dksX1_again_2 22 rfl rfl
theorem dksX1_again_4 : cX1_again.data.toList.drop 88 = dktX1_again_4 := dk_seg dksX1_again_3 22 rfl rfl
theorem dksX1_again_5 : cX1_again.data.toList.drop 112 = dktX1_again_5 := dk_seg dksX1_again_4 24 rfl rfl
theorem dksX1_again_6 : cX1_again.data.toList.drop 135 = dktX1_again_6 := dk_seg dksX1_again_5 23 rfl rfl
theorem dksX1_again_7 : cX1_again.data.toList.drop 157 = dktX1_again_7 := dk_seg dksX1_again_6 22 rfl rfl
theorem dksX1_again_8 : cX1_again.data.toList.drop 180 = dktX1_again_8 := dk_seg dksX1_again_7 23 rfl rfl
theorem dksX1_again_9 : cX1_again.data.toList.drop 203 = dktX1_again_9 := dk_seg dksX1_again_8 23 rfl rfl
theorem dksX1_again_10 : cX1_again.data.toList.drop 227 = dktX1_again_10 := dk_seg dksX1_again_9 24 rfl rfl
theorem dksX1_again_11 : cX1_again.data.toList.drop 251 = dktX1_again_11 := dk_seg dksX1_again_10 24 rfl rfl
theorem dksX1_again_12 : cX1_again.data.toList.drop 275 = dktX1_again_12 := dk_seg dksX1_again_11 24 rfl rfl
theorem dksX1_again_13 : cX1_again.data.toList.drop 297 = dktX1_again_13 := dk_seg dksX1_again_12 22 rfl rfl
theorem dX1_again_0 : decode cX1_again 0 = .ok (.iconst 0, 1) := dk_3 (dk_at dksX1_again_0 0 rfl rfl)
theorem dX1_again_1 : decode cX1_again 1 = .ok (.istore_n 3, 1) := dk_62 (dk_at dksX1_again_0 1 rfl rfl)
theorem dX1_again_2 : decode cX1_again 2 = .ok (.iconst 3, 1) := dk_6 (dk_at dksX1_again_0 2 rfl rfl)
theorem dX1_again_3 : decode cX1_again 3 = .ok (.newarray .int, 2) := dk_188_10 (dk_at dksX1_again_0 3 rfl rfl)
theorem dX1_again_5 : decode cX1_again 5 = .ok (.astore 4, 2) := dk_58 4 (dk_at dksX1_again_0 5 rfl rfl)
theorem dX1_again_7 : decode cX1_again 7 = .ok (.bipush 30, 2) := dk_16 30 (dk_at dksX1_again_0 7 rfl rfl)
theorem dX1_again_9 : decode cX1_again 9 = .ok (.iload_n 2, 1) := dk_28 (dk_at dksX1_again_0 9 rfl rfl)
theorem dX1_again_10 : decode cX1_again 10 = .ok (.imul, 1) := dk_104 (dk_at dksX1_again_0 10 rfl rfl)
theorem dX1_again_11 : decode cX1_again 11 = .ok (.istore 5, 2) := dk_54 5 (dk_at dksX1_again_0 11 rfl rfl)
theorem dX1_again_13 : decode cX1_again 13 = .ok (.iload 5, 2) := dk_21 5 (dk_at dksX1_again_0 13 rfl rfl)
theorem dX1_again_15 : decode cX1_again 15 = .ok (.bipush 30, 2) := dk_16 30 (dk_at dksX1_again_0 15 rfl rfl)
theorem dX1_again_17 : decode cX1_again 17 = .ok (.iload_n 2, 1) := dk_28 (dk_at dksX1_again_0 17 rfl rfl)
theorem dX1_again_18 : decode cX1_again 18 = .ok (.imul, 1) := dk_104 (dk_at dksX1_again_0 18 rfl rfl)
theorem dX1_again_19 : decode cX1_again 19 = .ok (.bipush 30, 2) := dk_16 30 (dk_at dksX1_again_0 19 rfl rfl)
theorem dX1_again_21 : decode cX1_again 21 = .ok (.iadd, 1) := dk_96 (dk_at dksX1_again_0 21 rfl rfl)
theorem dX1_again_22 : decode cX1_again 22 = .ok (.if_icmp .ge 281, 3) := dk_162 1 25 (dk_at dksX1_again_1 0 rfl rfl)
theorem dX1_again_25 : decode cX1_again 25 = .ok (.aload_n 0, 1) := dk_42 (dk_at dksX1_again_1 3 rfl rfl)
theorem dX1_again_26 : decode cX1_again 26 = .ok (.getfield 47, 3) := dk_180 0 47 (dk_at dksX1_again_1 4 rfl rfl)
theorem dX1_again_29 : decode cX1_again 29 = .ok (.invokeinterface 77 1, 5) := by decide +kernel
theorem dX1_again_34 : decode cX1_again 34 = .ok (.iconst 1, 1) := dk_4 (dk_at dksX1_again_1 12 rfl rfl)
theorem dX1_again_35 : decode cX1_again 35 = .ok (.isub, 1) := dk_100 (dk_at dksX1_again_1 13 rfl rfl)
theorem dX1_again_36 : decode cX1_again 36 = .ok (.istore 6, 2) := dk_54 6 (dk_at dksX1_again_1 14 rfl rfl)
theorem dX1_again_38 : decode cX1_again 38 = .ok (.iload 6, 2) := dk_21 6 (dk_at dksX1_again_1 16 rfl rfl)
theorem dX1_again_40 : decode cX1_again 40 = .ok (.ifCond .le 32, 3) := dk_158 0 32 (dk_at dksX1_again_1 18 rfl rfl)
theorem dX1_again_43 : decode cX1_again 43 = .ok (.aload_n 0, 1) := dk_42 (dk_at dksX1_again_1 21 rfl rfl)
theorem dX1_again_44 : decode cX1_again 44 = .ok (.getfield 47, 3) := dk_180 0 47 (dk_at dksX1_again_2 0 rfl rfl)
theorem dX1_again_47 : decode cX1_again 47 = .ok (.iload 6, 2) := dk_21 6 (dk_at dksX1_again_2 3 rfl rfl)
theorem dX1_again_49 : decode cX1_again 49 = .ok (.invokeinterface 83 2, 5) := by decide +kernel
theorem dX1_again_54 : decode cX1_again 54 = .ok (.checkcast 66, 3) := dk_192 0 66 (dk_at dksX1_again_2 10 rfl rfl)
theorem dX1_again_57 : decode cX1_again 57 = .ok (.aload_n 1, 1) := dk_43 (dk_at dksX1_again_2 13 rfl rfl)
theorem dX1_again_58 : decode cX1_again 58 = .ok (.iload 5, 2) := dk_21 5 (dk_at dksX1_again_2 14 rfl rfl)
theorem dX1_again_60 : decode cX1_again 60 = .ok (.invokevirtual 134, 3) := dk_182 0 134 (dk_at dksX1_again_2 16 rfl rfl)
theorem dX1_again_63 : decode cX1_again 63 = .ok (.ifCond .ne 9, 3) := dk_154 0 9 (dk_at dksX1_again_2 19 rfl rfl)
theorem dX1_again_66 : decode cX1_again 66 = .ok (.iinc 6 (-1), 3) := dk_132 6 255 (dk_at dksX1_again_3 0 rfl rfl)
theorem dX1_again_69 : decode cX1_again 69 = .ok (.goto (-31), 3) := dk_167 255 225 (dk_at dksX1_again_3 3 rfl rfl)
theorem dX1_again_72 : decode cX1_again 72 = .ok (.iconst 0, 1) := dk_3 (dk_at dksX1_again_3 6 rfl rfl)
theorem dX1_again_73 : decode cX1_again 73 = .ok (.istore 7, 2) := dk_54 7 (dk_at dksX1_again_3 7 rfl rfl)
theorem dX1_again_75 : decode cX1_again 75 = .ok (.iload 7, 2) := dk_21 7 (dk_at dksX1_again_3 9 rfl rfl)
theorem dX1_again_77 : decode cX1_again 77 = .ok (.iconst 3, 1) := dk_6 (dk_at dksX1_again_3 11 rfl rfl)
theorem dX1_again_78 : decode cX1_again 78 = .ok (.if_icmp .ge 171, 3) := dk_162 0 171 (dk_at dksX1_again_3 12 rfl rfl)
theorem dX1_again_81 : decode cX1_again 81 = .ok (.aload 4, 2) := dk_25 4 (dk_at dksX1_again_3 15 rfl rfl)
theorem dX1_again_83 : decode cX1_again 83 = .ok (.iload 7, 2) := dk_21 7 (dk_at dksX1_again_3 17 rfl rfl)
theorem dX1_again_85 : decode cX1_again 85 = .ok (.iload 7, 2) := dk_21 7 (dk_at dksX1_again_3 19 rfl rfl)
theorem dX1_again_87 : decode cX1_again 87 = .ok (.iconst 2, 1) := dk_5 (dk_at dksX1_again_3 21 rfl rfl)
theorem dX1_again_88 : decode cX1_again 88 = .ok (.if_icmp .ne 7, 3) := dk_160 0 7 (dk_at dksX1_again_4 0 rfl rfl)
theorem dX1_again_91 : decode cX1_again 91 = .ok (.iconst 1, 1) := dk_4 (dk_at dksX1_again_4 3 rfl rfl)
theorem dX1_again_92 : decode cX1_again 92 = .ok (.goto 4, 3) := dk_167 0 4 (dk_at dksX1_again_4 4 rfl rfl)
theorem dX1_again_95 : decode cX1_again 95 = .ok (.iconst 0, 1) := dk_3 (dk_at dksX1_again_4 7 rfl rfl)
theorem dX1_again_96 : decode cX1_again 96 = .ok (.invokestatic 130, 3) := dk_184 0 130 (dk_at dksX1_again_4 8 rfl rfl)
theorem dX1_again_99 : decode cX1_again 99 = .ok (.iastore, 1) := dk_79 (dk_at dksX1_again_4 11 rfl rfl)
theorem dX1_again_100 : decode cX1_again 100 = .ok (.iconst (-1), 1) := dk_2 (dk_at dksX1_again_4 12 rfl rfl)
theorem dX1_again_101 : decode cX1_again 101 = .ok (.istore 8, 2) := dk_54 8 (dk_at dksX1_again_4 13 rfl rfl)
theorem dX1_again_103 : decode cX1_again 103 = .ok (.aload_n 0, 1) := dk_42 (dk_at dksX1_again_4 15 rfl rfl)
theorem dX1_again_104 : decode cX1_again 104 = .ok (.getfield 44, 3) := dk_180 0 44 (dk_at dksX1_again_4 16 rfl rfl)
theorem dX1_again_107 : decode cX1_again 107 = .ok (.invokeinterface 77 1, 5) := by decide +kernel
theorem dX1_again_112 : decode cX1_again 112 = .ok (.iconst 1, 1) := dk_4 (dk_at dksX1_again_5 0 rfl rfl)
theorem dX1_again_113 : decode cX1_again 113 = .ok (.isub, 1) := dk_100 (dk_at dksX1_again_5 1 rfl rfl)
theorem dX1_again_114 : decode cX1_again 114 = .ok (.istore 9, 2) := dk_54 9 (dk_at dksX1_again_5 2 rfl rfl)
theorem dX1_again_116 : decode cX1_again 116 = .ok (.iload 9, 2) := dk_21 9 (dk_at dksX1_again_5 4 rfl rfl)
theorem dX1_again_118 : decode cX1_again 118 = .ok (.ifCond .lt 125, 3) := dk_155 0 125 (dk_at dksX1_again_5 6 rfl rfl)
theorem dX1_again_121 : decode cX1_again 121 = .ok (.aload_n 0, 1) := dk_42 (dk_at dksX1_again_5 9 rfl rfl)
theorem dX1_again_122 : decode cX1_again 122 = .ok (.getfield 44, 3) := dk_180 0 44 (dk_at dksX1_again_5 10 rfl rfl)
theorem dX1_again_125 : decode cX1_again 125 = .ok (.iload 9, 2) := dk_21 9 (dk_at dksX1_again_5 13 rfl rfl)
theorem dX1_again_127 : decode cX1_again 127 = .ok (.invokeinterface 83 2, 5) := by decide +kernel
theorem dX1_again_132 : decode cX1_again 132 = .ok (.checkcast 89, 3) := dk_192 0 89 (dk_at dksX1_again_5 20 rfl rfl)
theorem dX1_again_135 : decode cX1_again 135 = .ok (.astore 10, 2) := dk_58 10 (dk_at dksX1_again_6 0 rfl rfl)
theorem dX1_again_137 : decode cX1_again 137 = .ok (.aload 10, 2) := dk_25 10 (dk_at dksX1_again_6 2 rfl rfl)
theorem dX1_again_139 : decode cX1_again 139 = .ok (.getfield 115, 3) := dk_180 0 115 (dk_at dksX1_again_6 4 rfl rfl)
theorem dX1_again_142 : decode cX1_again 142 = .ok (.aload_n 1, 1) := dk_43 (dk_at dksX1_again_6 7 rfl rfl)
theorem dX1_again_143 : decode cX1_again 143 = .ok (.if_acmp .ne 48, 3) := dk_166 0 48 (dk_at dksX1_again_6 8 rfl rfl)
theorem dX1_again_146 : decode cX1_again 146 = .ok (.aload 10, 2) := dk_25 10 (dk_at dksX1_again_6 11 rfl rfl)
theorem dX1_again_148 : decode cX1_again 148 = .ok (.getfield 119, 3) := dk_180 0 119 (dk_at dksX1_again_6 13 rfl rfl)
theorem dX1_again_151 : decode cX1_again 151 = .ok (.iconst 1, 1) := dk_4 (dk_at dksX1_again_6 16 rfl rfl)
theorem dX1_again_152 : decode cX1_again 152 = .ok (.if_icmp .ne 39, 3) := dk_160 0 39 (dk_at dksX1_again_6 17 rfl rfl)
theorem dX1_again_155 : decode cX1_again 155 = .ok (.aload 10, 2) := dk_25 10 (dk_at dksX1_again_6 20 rfl rfl)
theorem dX1_again_157 : decode cX1_again 157 = .ok (.getfield 127, 3) := dk_180 0 127 (dk_at dksX1_again_7 0 rfl rfl)
theorem dX1_again_160 : decode cX1_again 160 = .ok (.iload 5, 2) := dk_21 5 (dk_at dksX1_again_7 3 rfl rfl)
theorem dX1_again_162 : decode cX1_again 162 = .ok (.if_icmp .gt 29, 3) := dk_163 0 29 (dk_at dksX1_again_7 5 rfl rfl)
theorem dX1_again_165 : decode cX1_again 165 = .ok (.aload 10, 2) := dk_25 10 (dk_at dksX1_again_7 8 rfl rfl)
theorem dX1_again_167 : decode cX1_again 167 = .ok (.getfield 127, 3) := dk_180 0 127 (dk_at dksX1_again_7 10 rfl rfl)
theorem dX1_again_170 : decode cX1_again 170 = .ok (.iload 8, 2) := dk_21 8 (dk_at dksX1_again_7 13 rfl rfl)
theorem dX1_again_172 : decode cX1_again 172 = .ok (.if_icmp .le 19, 3) := dk_164 0 19 (dk_at dksX1_again_7 15 rfl rfl)
theorem dX1_again_175 : decode cX1_again 175 = .ok (.aload 10, 2) := dk_25 10 (dk_at dksX1_again_7 18 rfl rfl)
theorem dX1_again_177 : decode cX1_again 177 = .ok (.getfield 123, 3) := dk_180 0 123 (dk_at dksX1_again_7 20 rfl rfl)
theorem dX1_again_180 : decode cX1_again 180 = .ok (.iload 7, 2) := dk_21 7 (dk_at dksX1_again_8 0 rfl rfl)
theorem dX1_again_182 : decode cX1_again 182 = .ok (.iaload, 1) := dk_46 (dk_at dksX1_again_8 2 rfl rfl)
theorem dX1_again_183 : decode cX1_again 183 = .ok (.iconst (-1), 1) := dk_2 (dk_at dksX1_again_8 3 rfl rfl)
theorem dX1_again_184 : decode cX1_again 184 = .ok (.if_icmp .eq 7, 3) := dk_159 0 7 (dk_at dksX1_again_8 4 rfl rfl)
theorem dX1_again_187 : decode cX1_again 187 = .ok (.iconst 1, 1) := dk_4 (dk_at dksX1_again_8 7 rfl rfl)
theorem dX1_again_188 : decode cX1_again 188 = .ok (.goto 4, 3) := dk_167 0 4 (dk_at dksX1_again_8 8 rfl rfl)
theorem dX1_again_191 : decode cX1_again 191 = .ok (.iconst 0, 1) := dk_3 (dk_at dksX1_again_8 11 rfl rfl)
theorem dX1_again_192 : decode cX1_again 192 = .ok (.istore 11, 2) := dk_54 11 (dk_at dksX1_again_8 12 rfl rfl)
theorem dX1_again_194 : decode cX1_again 194 = .ok (.aload 4, 2) := dk_25 4 (dk_at dksX1_again_8 14 rfl rfl)
theorem dX1_again_196 : decode cX1_again 196 = .ok (.iload 7, 2) := dk_21 7 (dk_at dksX1_again_8 16 rfl rfl)
theorem dX1_again_198 : decode cX1_again 198 = .ok (.iload 11, 2) := dk_21 11 (dk_at dksX1_again_8 18 rfl rfl)
theorem dX1_again_200 : decode cX1_again 200 = .ok (.ifCond .eq 14, 3) := dk_153 0 14 (dk_at dksX1_again_8 20 rfl rfl)
theorem dX1_again_203 : decode cX1_again 203 = .ok (.aload 10, 2) := dk_25 10 (dk_at dksX1_again_9 0 rfl rfl)
theorem dX1_again_205 : decode cX1_again 205 = .ok (.getfield 123, 3) := dk_180 0 123 (dk_at dksX1_again_9 2 rfl rfl)
theorem dX1_again_208 : decode cX1_again 208 = .ok (.iload 7, 2) := dk_21 7 (dk_at dksX1_again_9 5 rfl rfl)
theorem dX1_again_210 : decode cX1_again 210 = .ok (.iaload, 1) := dk_46 (dk_at dksX1_again_9 7 rfl rfl)
theorem dX1_again_211 : decode cX1_again 211 = .ok (.goto 8, 3) := dk_167 0 8 (dk_at dksX1_again_9 8 rfl rfl)
theorem dX1_again_214 : decode cX1_again 214 = .ok (.aload 4, 2) := dk_25 4 (dk_at dksX1_again_9 11 rfl rfl)
theorem dX1_again_216 : decode cX1_again 216 = .ok (.iload 7, 2) := dk_21 7 (dk_at dksX1_again_9 13 rfl rfl)
theorem dX1_again_218 : decode cX1_again 218 = .ok (.iaload, 1) := dk_46 (dk_at dksX1_again_9 15 rfl rfl)
theorem dX1_again_219 : decode cX1_again 219 = .ok (.iastore, 1) := dk_79 (dk_at dksX1_again_9 16 rfl rfl)
theorem dX1_again_220 : decode cX1_again 220 = .ok (.iload 11, 2) := dk_21 11 (dk_at dksX1_again_9 17 rfl rfl)
theorem dX1_again_222 : decode cX1_again 222 = .ok (.ifCond .eq 11, 3) := dk_153 0 11 (dk_at dksX1_again_9 19 rfl rfl)
theorem dX1_again_225 : decode cX1_again 225 = .ok (.aload 10, 2) := dk_25 10 (dk_at dksX1_again_9 22 rfl rfl)
theorem dX1_again_227 : decode cX1_again 227 = .ok (.getfield 127, 3) := dk_180 0 127 (dk_at dksX1_again_10 0 rfl rfl)
theorem dX1_again_230 : decode cX1_again 230 = .ok (.goto 5, 3) := dk_167 0 5 (dk_at dksX1_again_10 3 rfl rfl)
theorem dX1_again_233 : decode cX1_again 233 = .ok (.iload 8, 2) := dk_21 8 (dk_at dksX1_again_10 6 rfl rfl)
theorem dX1_again_235 : decode cX1_again 235 = .ok (.istore 8, 2) := dk_54 8 (dk_at dksX1_again_10 8 rfl rfl)
theorem dX1_again_237 : decode cX1_again 237 = .ok (.iinc 9 (-1), 3) := dk_132 9 255 (dk_at dksX1_again_10 10 rfl rfl)
theorem dX1_again_240 : decode cX1_again 240 = .ok (.goto (-124), 3) := dk_167 255 132 (dk_at dksX1_again_10 13 rfl rfl)
theorem dX1_again_243 : decode cX1_again 243 = .ok (.iinc 7 1, 3) := dk_132 7 1 (dk_at dksX1_again_10 16 rfl rfl)
theorem dX1_again_246 : decode cX1_again 246 = .ok (.goto (-171), 3) := dk_167 255 85 (dk_at dksX1_again_10 19 rfl rfl)
theorem dX1_again_249 : decode cX1_again 249 = .ok (.iload_n 3, 1) := dk_29 (dk_at dksX1_again_10 22 rfl rfl)
theorem dX1_again_250 : decode cX1_again 250 = .ok (.aload_n 1, 1) := dk_43 (dk_at dksX1_again_10 23 rfl rfl)
theorem dX1_again_251 : decode cX1_again 251 = .ok (.iload 5, 2) := dk_21 5 (dk_at dksX1_again_11 0 rfl rfl)
theorem dX1_again_253 : decode cX1_again 253 = .ok (.invokevirtual 138, 3) := dk_182 0 138 (dk_at dksX1_again_11 2 rfl rfl)
theorem dX1_again_256 : decode cX1_again 256 = .ok (.ifCond .eq 38, 3) := dk_153 0 38 (dk_at dksX1_again_11 5 rfl rfl)
theorem dX1_again_259 : decode cX1_again 259 = .ok (.aload_n 0, 1) := dk_42 (dk_at dksX1_again_11 8 rfl rfl)
theorem dX1_again_260 : decode cX1_again 260 = .ok (.getfield 47, 3) := dk_180 0 47 (dk_at dksX1_again_11 9 rfl rfl)
theorem dX1_again_263 : decode cX1_again 263 = .ok (.iload 6, 2) := dk_21 6 (dk_at dksX1_again_11 12 rfl rfl)
theorem dX1_again_265 : decode cX1_again 265 = .ok (.invokeinterface 83 2, 5) := by decide +kernel
theorem dX1_again_270 : decode cX1_again 270 = .ok (.checkcast 66, 3) := dk_192 0 66 (dk_at dksX1_again_11 19 rfl rfl)
theorem dX1_again_273 : decode cX1_again 273 = .ok (.aload 4, 2) := dk_25 4 (dk_at dksX1_again_11 22 rfl rfl)
theorem dX1_again_275 : decode cX1_again 275 = .ok (.iconst 0, 1) := dk_3 (dk_at dksX1_again_12 0 rfl rfl)
theorem dX1_again_276 : decode cX1_again 276 = .ok (.iaload, 1) := dk_46 (dk_at dksX1_again_12 1 rfl rfl)
theorem dX1_again_277 : decode cX1_again 277 = .ok (.aload 4, 2) := dk_25 4 (dk_at dksX1_again_12 2 rfl rfl)
theorem dX1_again_279 : decode cX1_again 279 = .ok (.iconst 1, 1) := dk_4 (dk_at dksX1_again_12 4 rfl rfl)
theorem dX1_again_280 : decode cX1_again 280 = .ok (.iaload, 1) := dk_46 (dk_at dksX1_again_12 5 rfl rfl)
theorem dX1_again_281 : decode cX1_again 281 = .ok (.aload 4, 2) := dk_25 4 (dk_at dksX1_again_12 6 rfl rfl)
theorem dX1_again_283 : decode cX1_again 283 = .ok (.iconst 2, 1) := dk_5 (dk_at dksX1_again_12 8 rfl rfl)
theorem dX1_again_284 : decode cX1_again 284 = .ok (.iaload, 1) := dk_46 (dk_at dksX1_again_12 9 rfl rfl)
theorem dX1_again_285 : decode cX1_again 285 = .ok (.invokevirtual 150, 3) := dk_182 0 150 (dk_at dksX1_again_12 10 rfl rfl)
theorem dX1_again_288 : decode cX1_again 288 = .ok (.bipush 30, 2) := dk_16 30 (dk_at dksX1_again_12 13 rfl rfl)
theorem dX1_again_290 : decode cX1_again 290 = .ok (.idiv, 1) := dk_108 (dk_at dksX1_again_12 15 rfl rfl)
theorem dX1_again_291 : decode cX1_again 291 = .ok (.goto 4, 3) := dk_167 0 4 (dk_at dksX1_again_12 16 rfl rfl)
theorem dX1_again_294 : decode cX1_again 294 = .ok (.iconst 0, 1) := dk_3 (dk_at dksX1_again_12 19 rfl rfl)
theorem dX1_again_295 : decode cX1_again 295 = .ok (.iadd, 1) := dk_96 (dk_at dksX1_again_12 20 rfl rfl)
theorem dX1_again_296 : decode cX1_again 296 = .ok (.istore_n 3, 1) := dk_62 (dk_at dksX1_again_12 21 rfl rfl)
theorem dX1_again_297 : decode cX1_again 297 = .ok (.iinc 5 1, 3) := dk_132 5 1 (dk_at dksX1_again_13 0 rfl rfl)
theorem dX1_again_300 : decode cX1_again 300 = .ok (.goto (-287), 3) := dk_167 254 225 (dk_at dksX1_again_13 3 rfl rfl)
theorem dX1_again_303 : decode cX1_again 303 = .ok (.iload_n 3, 1) := dk_29 (dk_at dksX1_again_13 6 rfl rfl)
theorem dX1_again_304 : decode cX1_again 304 = .ok (.ireturn, 1) := dk_172 (dk_at dksX1_again_13 7 rfl rfl)
abbrev cX1_dueOf : ByteArray := prog_1_method_17_code
def yX1_dueOf : MethodName := ⟨RX1, "dueOf", "(LAppealrent$Case;I)I"⟩
def dkwX1_dueOf_1 : List UInt8 := [182, 0, 154, 16, 30, 108, 96, 62, 132, 4, 1, 167, 255, 229, 29, 172]
abbrev dktX1_dueOf_1 : List UInt8 := dkwX1_dueOf_1 ++ []
def dkwX1_dueOf_0 : List UInt8 := [3, 62, 16, 30, 28, 104, 54, 4, 21, 4, 16, 30, 28, 4, 96, 104, 162, 0, 22, 29, 42, 43, 21, 4]
abbrev dktX1_dueOf_0 : List UInt8 := dkwX1_dueOf_0 ++ dktX1_dueOf_1
theorem dksX1_dueOf_0 : cX1_dueOf.data.toList.drop 0 = dktX1_dueOf_0 := by decide +kernel
theorem dksX1_dueOf_1 : cX1_dueOf.data.toList.drop 24 = dktX1_dueOf_1 := dk_seg dksX1_dueOf_0 24 rfl rfl
theorem dX1_dueOf_0 : decode cX1_dueOf 0 = .ok (.iconst 0, 1) := dk_3 (dk_at dksX1_dueOf_0 0 rfl rfl)
theorem dX1_dueOf_1 : decode cX1_dueOf 1 = .ok (.istore_n 3, 1) := dk_62 (dk_at dksX1_dueOf_0 1 rfl rfl)
theorem dX1_dueOf_2 : decode cX1_dueOf 2 = .ok (.bipush 30, 2) := dk_16 30 (dk_at dksX1_dueOf_0 2 rfl rfl)
theorem dX1_dueOf_4 : decode cX1_dueOf 4 = .ok (.iload_n 2, 1) := dk_28 (dk_at dksX1_dueOf_0 4 rfl rfl)
theorem dX1_dueOf_5 : decode cX1_dueOf 5 = .ok (.imul, 1) := dk_104 (dk_at dksX1_dueOf_0 5 rfl rfl)
theorem dX1_dueOf_6 : decode cX1_dueOf 6 = .ok (.istore 4, 2) := dk_54 4 (dk_at dksX1_dueOf_0 6 rfl rfl)
theorem dX1_dueOf_8 : decode cX1_dueOf 8 = .ok (.iload 4, 2) := dk_21 4 (dk_at dksX1_dueOf_0 8 rfl rfl)
theorem dX1_dueOf_10 : decode cX1_dueOf 10 = .ok (.bipush 30, 2) := dk_16 30 (dk_at dksX1_dueOf_0 10 rfl rfl)
theorem dX1_dueOf_12 : decode cX1_dueOf 12 = .ok (.iload_n 2, 1) := dk_28 (dk_at dksX1_dueOf_0 12 rfl rfl)
theorem dX1_dueOf_13 : decode cX1_dueOf 13 = .ok (.iconst 1, 1) := dk_4 (dk_at dksX1_dueOf_0 13 rfl rfl)
theorem dX1_dueOf_14 : decode cX1_dueOf 14 = .ok (.iadd, 1) := dk_96 (dk_at dksX1_dueOf_0 14 rfl rfl)
theorem dX1_dueOf_15 : decode cX1_dueOf 15 = .ok (.imul, 1) := dk_104 (dk_at dksX1_dueOf_0 15 rfl rfl)
theorem dX1_dueOf_16 : decode cX1_dueOf 16 = .ok (.if_icmp .ge 22, 3) := dk_162 0 22 (dk_at dksX1_dueOf_0 16 rfl rfl)
theorem dX1_dueOf_19 : decode cX1_dueOf 19 = .ok (.iload_n 3, 1) := dk_29 (dk_at dksX1_dueOf_0 19 rfl rfl)
theorem dX1_dueOf_20 : decode cX1_dueOf 20 = .ok (.aload_n 0, 1) := dk_42 (dk_at dksX1_dueOf_0 20 rfl rfl)
theorem dX1_dueOf_21 : decode cX1_dueOf 21 = .ok (.aload_n 1, 1) := dk_43 (dk_at dksX1_dueOf_0 21 rfl rfl)
theorem dX1_dueOf_22 : decode cX1_dueOf 22 = .ok (.iload 4, 2) := dk_21 4 (dk_at dksX1_dueOf_0 22 rfl rfl)
theorem dX1_dueOf_24 : decode cX1_dueOf 24 = .ok (.invokevirtual 154, 3) := dk_182 0 154 (dk_at dksX1_dueOf_1 0 rfl rfl)
theorem dX1_dueOf_27 : decode cX1_dueOf 27 = .ok (.bipush 30, 2) := dk_16 30 (dk_at dksX1_dueOf_1 3 rfl rfl)
theorem dX1_dueOf_29 : decode cX1_dueOf 29 = .ok (.idiv, 1) := dk_108 (dk_at dksX1_dueOf_1 5 rfl rfl)
theorem dX1_dueOf_30 : decode cX1_dueOf 30 = .ok (.iadd, 1) := dk_96 (dk_at dksX1_dueOf_1 6 rfl rfl)
theorem dX1_dueOf_31 : decode cX1_dueOf 31 = .ok (.istore_n 3, 1) := dk_62 (dk_at dksX1_dueOf_1 7 rfl rfl)
theorem dX1_dueOf_32 : decode cX1_dueOf 32 = .ok (.iinc 4 1, 3) := dk_132 4 1 (dk_at dksX1_dueOf_1 8 rfl rfl)
theorem dX1_dueOf_35 : decode cX1_dueOf 35 = .ok (.goto (-27), 3) := dk_167 255 229 (dk_at dksX1_dueOf_1 11 rfl rfl)
theorem dX1_dueOf_38 : decode cX1_dueOf 38 = .ok (.iload_n 3, 1) := dk_29 (dk_at dksX1_dueOf_1 14 rfl rfl)
theorem dX1_dueOf_39 : decode cX1_dueOf 39 = .ok (.ireturn, 1) := dk_172 (dk_at dksX1_dueOf_1 15 rfl rfl)
abbrev cX1_sign : ByteArray := prog_1_method_19_code
def yX1_sign : MethodName := ⟨RX1, "sign", "(I)I"⟩
def dkwX1_sign_2 : List UInt8 := [42, 180, 0, 56, 27, 182, 0, 169, 87, 42, 182, 0, 100, 172]
abbrev dktX1_sign_2 : List UInt8 := dkwX1_sign_2 ++ []
def dkwX1_sign_1 : List UInt8 := [167, 0, 4, 3, 184, 0, 22, 42, 182, 0, 100, 16, 60, 162, 0, 7, 4, 167, 0, 4, 3, 184, 0, 166]
abbrev dktX1_sign_1 : List UInt8 := dkwX1_sign_1 ++ dktX1_sign_2
def dkwX1_sign_0 : List UInt8 := [27, 16, 32, 18, 163, 184, 0, 16, 153, 0, 18, 27, 18, 164, 18, 165, 184, 0, 16, 154, 0, 7, 4]
abbrev dktX1_sign_0 : List UInt8 := dkwX1_sign_0 ++ dktX1_sign_1
theorem dksX1_sign_0 : cX1_sign.data.toList.drop 0 = dktX1_sign_0 := by decide +kernel
theorem dksX1_sign_1 : cX1_sign.data.toList.drop 23 = dktX1_sign_1 := dk_seg dksX1_sign_0 23 rfl rfl
theorem dksX1_sign_2 : cX1_sign.data.toList.drop 47 = dktX1_sign_2 := dk_seg dksX1_sign_1 24 rfl rfl
theorem dX1_sign_0 : decode cX1_sign 0 = .ok (.iload_n 1, 1) := dk_27 (dk_at dksX1_sign_0 0 rfl rfl)
theorem dX1_sign_1 : decode cX1_sign 1 = .ok (.bipush 32, 2) := dk_16 32 (dk_at dksX1_sign_0 1 rfl rfl)
theorem dX1_sign_3 : decode cX1_sign 3 = .ok (.ldc 163, 2) := dk_18 163 (dk_at dksX1_sign_0 3 rfl rfl)
theorem dX1_sign_5 : decode cX1_sign 5 = .ok (.invokestatic 16, 3) := dk_184 0 16 (dk_at dksX1_sign_0 5 rfl rfl)
theorem dX1_sign_8 : decode cX1_sign 8 = .ok (.ifCond .eq 18, 3) := dk_153 0 18 (dk_at dksX1_sign_0 8 rfl rfl)
theorem dX1_sign_11 : decode cX1_sign 11 = .ok (.iload_n 1, 1) := dk_27 (dk_at dksX1_sign_0 11 rfl rfl)
theorem dX1_sign_12 : decode cX1_sign 12 = .ok (.ldc 164, 2) := dk_18 164 (dk_at dksX1_sign_0 12 rfl rfl)
theorem dX1_sign_14 : decode cX1_sign 14 = .ok (.ldc 165, 2) := dk_18 165 (dk_at dksX1_sign_0 14 rfl rfl)
theorem dX1_sign_16 : decode cX1_sign 16 = .ok (.invokestatic 16, 3) := dk_184 0 16 (dk_at dksX1_sign_0 16 rfl rfl)
theorem dX1_sign_19 : decode cX1_sign 19 = .ok (.ifCond .ne 7, 3) := dk_154 0 7 (dk_at dksX1_sign_0 19 rfl rfl)
theorem dX1_sign_22 : decode cX1_sign 22 = .ok (.iconst 1, 1) := dk_4 (dk_at dksX1_sign_0 22 rfl rfl)
theorem dX1_sign_23 : decode cX1_sign 23 = .ok (.goto 4, 3) := dk_167 0 4 (dk_at dksX1_sign_1 0 rfl rfl)
theorem dX1_sign_26 : decode cX1_sign 26 = .ok (.iconst 0, 1) := dk_3 (dk_at dksX1_sign_1 3 rfl rfl)
theorem dX1_sign_27 : decode cX1_sign 27 = .ok (.invokestatic 22, 3) := dk_184 0 22 (dk_at dksX1_sign_1 4 rfl rfl)
theorem dX1_sign_30 : decode cX1_sign 30 = .ok (.aload_n 0, 1) := dk_42 (dk_at dksX1_sign_1 7 rfl rfl)
theorem dX1_sign_31 : decode cX1_sign 31 = .ok (.invokevirtual 100, 3) := dk_182 0 100 (dk_at dksX1_sign_1 8 rfl rfl)
theorem dX1_sign_34 : decode cX1_sign 34 = .ok (.bipush 60, 2) := dk_16 60 (dk_at dksX1_sign_1 11 rfl rfl)
theorem dX1_sign_36 : decode cX1_sign 36 = .ok (.if_icmp .ge 7, 3) := dk_162 0 7 (dk_at dksX1_sign_1 13 rfl rfl)
theorem dX1_sign_39 : decode cX1_sign 39 = .ok (.iconst 1, 1) := dk_4 (dk_at dksX1_sign_1 16 rfl rfl)
theorem dX1_sign_40 : decode cX1_sign 40 = .ok (.goto 4, 3) := dk_167 0 4 (dk_at dksX1_sign_1 17 rfl rfl)
theorem dX1_sign_43 : decode cX1_sign 43 = .ok (.iconst 0, 1) := dk_3 (dk_at dksX1_sign_1 20 rfl rfl)
theorem dX1_sign_44 : decode cX1_sign 44 = .ok (.invokestatic 166, 3) := dk_184 0 166 (dk_at dksX1_sign_1 21 rfl rfl)
theorem dX1_sign_47 : decode cX1_sign 47 = .ok (.aload_n 0, 1) := dk_42 (dk_at dksX1_sign_2 0 rfl rfl)
theorem dX1_sign_48 : decode cX1_sign 48 = .ok (.getfield 56, 3) := dk_180 0 56 (dk_at dksX1_sign_2 1 rfl rfl)
theorem dX1_sign_51 : decode cX1_sign 51 = .ok (.iload_n 1, 1) := dk_27 (dk_at dksX1_sign_2 4 rfl rfl)
theorem dX1_sign_52 : decode cX1_sign 52 = .ok (.invokevirtual 169, 3) := dk_182 0 169 (dk_at dksX1_sign_2 5 rfl rfl)
theorem dX1_sign_55 : decode cX1_sign 55 = .ok (.pop, 1) := dk_87 (dk_at dksX1_sign_2 8 rfl rfl)
theorem dX1_sign_56 : decode cX1_sign 56 = .ok (.aload_n 0, 1) := dk_42 (dk_at dksX1_sign_2 9 rfl rfl)
theorem dX1_sign_57 : decode cX1_sign 57 = .ok (.invokevirtual 100, 3) := dk_182 0 100 (dk_at dksX1_sign_2 10 rfl rfl)
theorem dX1_sign_60 : decode cX1_sign 60 = .ok (.ireturn, 1) := dk_172 (dk_at dksX1_sign_2 13 rfl rfl)
abbrev cX1_in : ByteArray := prog_1_method_1_code
def yX1_in : MethodName := ⟨RX1, "in", "(III)Z"⟩
def dkwX1_in_0 : List UInt8 := [26, 27, 161, 0, 12, 26, 28, 163, 0, 7, 4, 167, 0, 4, 3, 172]
abbrev dktX1_in_0 : List UInt8 := dkwX1_in_0 ++ []
theorem dksX1_in_0 : cX1_in.data.toList.drop 0 = dktX1_in_0 := by decide +kernel
theorem dX1_in_0 : decode cX1_in 0 = .ok (.iload_n 0, 1) := dk_26 (dk_at dksX1_in_0 0 rfl rfl)
theorem dX1_in_1 : decode cX1_in 1 = .ok (.iload_n 1, 1) := dk_27 (dk_at dksX1_in_0 1 rfl rfl)
theorem dX1_in_2 : decode cX1_in 2 = .ok (.if_icmp .lt 12, 3) := dk_161 0 12 (dk_at dksX1_in_0 2 rfl rfl)
theorem dX1_in_5 : decode cX1_in 5 = .ok (.iload_n 0, 1) := dk_26 (dk_at dksX1_in_0 5 rfl rfl)
theorem dX1_in_6 : decode cX1_in 6 = .ok (.iload_n 2, 1) := dk_28 (dk_at dksX1_in_0 6 rfl rfl)
theorem dX1_in_7 : decode cX1_in 7 = .ok (.if_icmp .gt 7, 3) := dk_163 0 7 (dk_at dksX1_in_0 7 rfl rfl)
theorem dX1_in_10 : decode cX1_in 10 = .ok (.iconst 1, 1) := dk_4 (dk_at dksX1_in_0 10 rfl rfl)
theorem dX1_in_11 : decode cX1_in 11 = .ok (.goto 4, 3) := dk_167 0 4 (dk_at dksX1_in_0 11 rfl rfl)
theorem dX1_in_14 : decode cX1_in 14 = .ok (.iconst 0, 1) := dk_3 (dk_at dksX1_in_0 14 rfl rfl)
theorem dX1_in_15 : decode cX1_in 15 = .ok (.ireturn, 1) := dk_172 (dk_at dksX1_in_0 15 rfl rfl)
abbrev cX1_checkArgument : ByteArray := prog_1_method_3_code
def yX1_checkArgument : MethodName := ⟨RX1, "checkArgument", "(Z)V"⟩
def dkwX1_checkArgument_0 : List UInt8 := [26, 154, 0, 11, 187, 0, 7, 89, 183, 0, 9, 191, 177]
abbrev dktX1_checkArgument_0 : List UInt8 := dkwX1_checkArgument_0 ++ []
theorem dksX1_checkArgument_0 : cX1_checkArgument.data.toList.drop 0 = dktX1_checkArgument_0 := by decide +kernel
theorem dX1_checkArgument_0 : decode cX1_checkArgument 0 = .ok (.iload_n 0, 1) := dk_26 (dk_at dksX1_checkArgument_0 0 rfl rfl)
theorem dX1_checkArgument_1 : decode cX1_checkArgument 1 = .ok (.ifCond .ne 11, 3) := dk_154 0 11 (dk_at dksX1_checkArgument_0 1 rfl rfl)
theorem dX1_checkArgument_4 : decode cX1_checkArgument 4 = .ok (.new 7, 3) := dk_187 0 7 (dk_at dksX1_checkArgument_0 4 rfl rfl)
theorem dX1_checkArgument_7 : decode cX1_checkArgument 7 = .ok (.dup, 1) := dk_89 (dk_at dksX1_checkArgument_0 7 rfl rfl)
theorem dX1_checkArgument_8 : decode cX1_checkArgument 8 = .ok (.invokespecial 9, 3) := dk_183 0 9 (dk_at dksX1_checkArgument_0 8 rfl rfl)
theorem dX1_checkArgument_11 : decode cX1_checkArgument 11 = .ok (.athrow, 1) := dk_191 (dk_at dksX1_checkArgument_0 11 rfl rfl)
theorem dX1_checkArgument_12 : decode cX1_checkArgument 12 = .ok (.return_, 1) := dk_177 (dk_at dksX1_checkArgument_0 12 rfl rfl)
abbrev cX1_checkState : ByteArray := prog_1_method_4_code
def yX1_checkState : MethodName := ⟨RX1, "checkState", "(Z)V"⟩
def dkwX1_checkState_0 : List UInt8 := [26, 154, 0, 11, 187, 0, 10, 89, 183, 0, 12, 191, 177]
abbrev dktX1_checkState_0 : List UInt8 := dkwX1_checkState_0 ++ []
theorem dksX1_checkState_0 : cX1_checkState.data.toList.drop 0 = dktX1_checkState_0 := by decide +kernel
theorem dX1_checkState_0 : decode cX1_checkState 0 = .ok (.iload_n 0, 1) := dk_26 (dk_at dksX1_checkState_0 0 rfl rfl)
theorem dX1_checkState_1 : decode cX1_checkState 1 = .ok (.ifCond .ne 11, 3) := dk_154 0 11 (dk_at dksX1_checkState_0 1 rfl rfl)
theorem dX1_checkState_4 : decode cX1_checkState 4 = .ok (.new 10, 3) := dk_187 0 10 (dk_at dksX1_checkState_0 4 rfl rfl)
theorem dX1_checkState_7 : decode cX1_checkState 7 = .ok (.dup, 1) := dk_89 (dk_at dksX1_checkState_0 7 rfl rfl)
theorem dX1_checkState_8 : decode cX1_checkState 8 = .ok (.invokespecial 12, 3) := dk_183 0 12 (dk_at dksX1_checkState_0 8 rfl rfl)
theorem dX1_checkState_11 : decode cX1_checkState 11 = .ok (.athrow, 1) := dk_191 (dk_at dksX1_checkState_0 11 rfl rfl)
theorem dX1_checkState_12 : decode cX1_checkState 12 = .ok (.return_, 1) := dk_177 (dk_at dksX1_checkState_0 12 rfl rfl)
abbrev cX1_open : ByteArray := prog_1_method_21_code
def yX1_open : MethodName := ⟨RX1, "open", "()I"⟩
def dkwX1_open_3 : List UInt8 := [60, 42, 180, 0, 56, 3, 182, 0, 112, 42, 180, 0, 40, 185, 0, 77, 1, 0, 4, 100, 172]
abbrev dktX1_open_3 : List UInt8 := dkwX1_open_3 ++ []
def dkwX1_open_2 : List UInt8 := [185, 0, 77, 1, 0, 42, 180, 0, 56, 182, 0, 173, 42, 180, 0, 177, 183, 0, 180, 185, 0, 71, 2, 0]
abbrev dktX1_open_2 : List UInt8 := dkwX1_open_2 ++ dktX1_open_3
def dkwX1_open_1 : List UInt8 := [153, 0, 7, 4, 167, 0, 4, 3, 184, 0, 166, 42, 180, 0, 40, 187, 0, 87, 89, 42, 180, 0, 40]
abbrev dktX1_open_1 : List UInt8 := dkwX1_open_1 ++ dktX1_open_2
def dkwX1_open_0 : List UInt8 := [42, 180, 0, 40, 185, 0, 77, 1, 0, 16, 10, 162, 0, 20, 42, 182, 0, 100, 4, 16, 12, 184, 0, 16]
abbrev dktX1_open_0 : List UInt8 := dkwX1_open_0 ++ dktX1_open_1
theorem dksX1_open_0 : cX1_open.data.toList.drop 0 = dktX1_open_0 := by decide +kernel
theorem dksX1_open_1 : cX1_open.data.toList.drop 24 = dktX1_open_1 := dk_seg dksX1_open_0 24 rfl rfl
theorem dksX1_open_2 : cX1_open.data.toList.drop 47 = dktX1_open_2 := dk_seg dksX1_open_1 23 rfl rfl
theorem dksX1_open_3 : cX1_open.data.toList.drop 71 = dktX1_open_3 := dk_seg dksX1_open_2 24 rfl rfl
theorem dX1_open_0 : decode cX1_open 0 = .ok (.aload_n 0, 1) := dk_42 (dk_at dksX1_open_0 0 rfl rfl)
theorem dX1_open_1 : decode cX1_open 1 = .ok (.getfield 40, 3) := dk_180 0 40 (dk_at dksX1_open_0 1 rfl rfl)
theorem dX1_open_4 : decode cX1_open 4 = .ok (.invokeinterface 77 1, 5) := by decide +kernel
theorem dX1_open_9 : decode cX1_open 9 = .ok (.bipush 10, 2) := dk_16 10 (dk_at dksX1_open_0 9 rfl rfl)
theorem dX1_open_11 : decode cX1_open 11 = .ok (.if_icmp .ge 20, 3) := dk_162 0 20 (dk_at dksX1_open_0 11 rfl rfl)
theorem dX1_open_14 : decode cX1_open 14 = .ok (.aload_n 0, 1) := dk_42 (dk_at dksX1_open_0 14 rfl rfl)
theorem dX1_open_15 : decode cX1_open 15 = .ok (.invokevirtual 100, 3) := dk_182 0 100 (dk_at dksX1_open_0 15 rfl rfl)
theorem dX1_open_18 : decode cX1_open 18 = .ok (.iconst 1, 1) := dk_4 (dk_at dksX1_open_0 18 rfl rfl)
theorem dX1_open_19 : decode cX1_open 19 = .ok (.bipush 12, 2) := dk_16 12 (dk_at dksX1_open_0 19 rfl rfl)
theorem dX1_open_21 : decode cX1_open 21 = .ok (.invokestatic 16, 3) := dk_184 0 16 (dk_at dksX1_open_0 21 rfl rfl)
theorem dX1_open_24 : decode cX1_open 24 = .ok (.ifCond .eq 7, 3) := dk_153 0 7 (dk_at dksX1_open_1 0 rfl rfl)
theorem dX1_open_27 : decode cX1_open 27 = .ok (.iconst 1, 1) := dk_4 (dk_at dksX1_open_1 3 rfl rfl)
theorem dX1_open_28 : decode cX1_open 28 = .ok (.goto 4, 3) := dk_167 0 4 (dk_at dksX1_open_1 4 rfl rfl)
theorem dX1_open_31 : decode cX1_open 31 = .ok (.iconst 0, 1) := dk_3 (dk_at dksX1_open_1 7 rfl rfl)
theorem dX1_open_32 : decode cX1_open 32 = .ok (.invokestatic 166, 3) := dk_184 0 166 (dk_at dksX1_open_1 8 rfl rfl)
theorem dX1_open_35 : decode cX1_open 35 = .ok (.aload_n 0, 1) := dk_42 (dk_at dksX1_open_1 11 rfl rfl)
theorem dX1_open_36 : decode cX1_open 36 = .ok (.getfield 40, 3) := dk_180 0 40 (dk_at dksX1_open_1 12 rfl rfl)
theorem dX1_open_39 : decode cX1_open 39 = .ok (.new 87, 3) := dk_187 0 87 (dk_at dksX1_open_1 15 rfl rfl)
theorem dX1_open_42 : decode cX1_open 42 = .ok (.dup, 1) := dk_89 (dk_at dksX1_open_1 18 rfl rfl)
theorem dX1_open_43 : decode cX1_open 43 = .ok (.aload_n 0, 1) := dk_42 (dk_at dksX1_open_1 19 rfl rfl)
theorem dX1_open_44 : decode cX1_open 44 = .ok (.getfield 40, 3) := dk_180 0 40 (dk_at dksX1_open_1 20 rfl rfl)
theorem dX1_open_47 : decode cX1_open 47 = .ok (.invokeinterface 77 1, 5) := by decide +kernel
theorem dX1_open_52 : decode cX1_open 52 = .ok (.aload_n 0, 1) := dk_42 (dk_at dksX1_open_2 5 rfl rfl)
theorem dX1_open_53 : decode cX1_open 53 = .ok (.getfield 56, 3) := dk_180 0 56 (dk_at dksX1_open_2 6 rfl rfl)
theorem dX1_open_56 : decode cX1_open 56 = .ok (.invokevirtual 173, 3) := dk_182 0 173 (dk_at dksX1_open_2 9 rfl rfl)
theorem dX1_open_59 : decode cX1_open 59 = .ok (.aload_n 0, 1) := dk_42 (dk_at dksX1_open_2 12 rfl rfl)
theorem dX1_open_60 : decode cX1_open 60 = .ok (.getfield 177, 3) := dk_180 0 177 (dk_at dksX1_open_2 13 rfl rfl)
theorem dX1_open_63 : decode cX1_open 63 = .ok (.invokespecial 180, 3) := dk_183 0 180 (dk_at dksX1_open_2 16 rfl rfl)
theorem dX1_open_66 : decode cX1_open 66 = .ok (.invokeinterface 71 2, 5) := by decide +kernel
theorem dX1_open_71 : decode cX1_open 71 = .ok (.istore_n 1, 1) := dk_60 (dk_at dksX1_open_3 0 rfl rfl)
theorem dX1_open_72 : decode cX1_open 72 = .ok (.aload_n 0, 1) := dk_42 (dk_at dksX1_open_3 1 rfl rfl)
theorem dX1_open_73 : decode cX1_open 73 = .ok (.getfield 56, 3) := dk_180 0 56 (dk_at dksX1_open_3 2 rfl rfl)
theorem dX1_open_76 : decode cX1_open 76 = .ok (.iconst 0, 1) := dk_3 (dk_at dksX1_open_3 5 rfl rfl)
theorem dX1_open_77 : decode cX1_open 77 = .ok (.invokevirtual 112, 3) := dk_182 0 112 (dk_at dksX1_open_3 6 rfl rfl)
theorem dX1_open_80 : decode cX1_open 80 = .ok (.aload_n 0, 1) := dk_42 (dk_at dksX1_open_3 9 rfl rfl)
theorem dX1_open_81 : decode cX1_open 81 = .ok (.getfield 40, 3) := dk_180 0 40 (dk_at dksX1_open_3 10 rfl rfl)
theorem dX1_open_84 : decode cX1_open 84 = .ok (.invokeinterface 77 1, 5) := by decide +kernel
theorem dX1_open_89 : decode cX1_open 89 = .ok (.iconst 1, 1) := dk_4 (dk_at dksX1_open_3 18 rfl rfl)
theorem dX1_open_90 : decode cX1_open 90 = .ok (.isub, 1) := dk_100 (dk_at dksX1_open_3 19 rfl rfl)
theorem dX1_open_91 : decode cX1_open 91 = .ok (.ireturn, 1) := dk_172 (dk_at dksX1_open_3 20 rfl rfl)
abbrev cX1_end : ByteArray := prog_1_method_22_code
def yX1_end : MethodName := ⟨RX1, "end", "(I)I"⟩
def dkwX1_end_3 : List UInt8 := [4, 167, 0, 4, 3, 184, 0, 130, 96, 62, 132, 4, 1, 167, 255, 208, 29, 172]
abbrev dktX1_end_3 : List UInt8 := dkwX1_end_3 ++ []
def dkwX1_end_2 : List UInt8 := [162, 0, 40, 29, 42, 180, 0, 40, 21, 4, 185, 0, 83, 2, 0, 192, 0, 87, 182, 0, 187, 154, 0, 7]
abbrev dktX1_end_2 : List UInt8 := dkwX1_end_2 ++ dktX1_end_3
def dkwX1_end_1 : List UInt8 := [180, 0, 177, 181, 0, 191, 3, 62, 3, 54, 4, 21, 4, 42, 180, 0, 40, 185, 0, 77, 1, 0]
abbrev dktX1_end_1 : List UInt8 := dkwX1_end_1 ++ dktX1_end_2
def dkwX1_end_0 : List UInt8 := [42, 27, 182, 0, 183, 77, 44, 182, 0, 187, 154, 0, 7, 4, 167, 0, 4, 3, 184, 0, 166, 44, 42]
abbrev dktX1_end_0 : List UInt8 := dkwX1_end_0 ++ dktX1_end_1
theorem dksX1_end_0 : cX1_end.data.toList.drop 0 = dktX1_end_0 := by decide +kernel
theorem dksX1_end_1 : cX1_end.data.toList.drop 23 = dktX1_end_1 := dk_seg dksX1_end_0 23 rfl rfl
theorem dksX1_end_2 : cX1_end.data.toList.drop 45 = dktX1_end_2 := dk_seg dksX1_end_1 22 rfl rfl
theorem dksX1_end_3 : cX1_end.data.toList.drop 69 = dktX1_end_3 := dk_seg dksX1_end_2 24 rfl rfl
theorem dX1_end_0 : decode cX1_end 0 = .ok (.aload_n 0, 1) := dk_42 (dk_at dksX1_end_0 0 rfl rfl)
theorem dX1_end_1 : decode cX1_end 1 = .ok (.iload_n 1, 1) := dk_27 (dk_at dksX1_end_0 1 rfl rfl)
theorem dX1_end_2 : decode cX1_end 2 = .ok (.invokevirtual 183, 3) := dk_182 0 183 (dk_at dksX1_end_0 2 rfl rfl)
theorem dX1_end_5 : decode cX1_end 5 = .ok (.astore_n 2, 1) := dk_77 (dk_at dksX1_end_0 5 rfl rfl)
theorem dX1_end_6 : decode cX1_end 6 = .ok (.aload_n 2, 1) := dk_44 (dk_at dksX1_end_0 6 rfl rfl)
theorem dX1_end_7 : decode cX1_end 7 = .ok (.invokevirtual 187, 3) := dk_182 0 187 (dk_at dksX1_end_0 7 rfl rfl)
theorem dX1_end_10 : decode cX1_end 10 = .ok (.ifCond .ne 7, 3) := dk_154 0 7 (dk_at dksX1_end_0 10 rfl rfl)
theorem dX1_end_13 : decode cX1_end 13 = .ok (.iconst 1, 1) := dk_4 (dk_at dksX1_end_0 13 rfl rfl)
theorem dX1_end_14 : decode cX1_end 14 = .ok (.goto 4, 3) := dk_167 0 4 (dk_at dksX1_end_0 14 rfl rfl)
theorem dX1_end_17 : decode cX1_end 17 = .ok (.iconst 0, 1) := dk_3 (dk_at dksX1_end_0 17 rfl rfl)
theorem dX1_end_18 : decode cX1_end 18 = .ok (.invokestatic 166, 3) := dk_184 0 166 (dk_at dksX1_end_0 18 rfl rfl)
theorem dX1_end_21 : decode cX1_end 21 = .ok (.aload_n 2, 1) := dk_44 (dk_at dksX1_end_0 21 rfl rfl)
theorem dX1_end_22 : decode cX1_end 22 = .ok (.aload_n 0, 1) := dk_42 (dk_at dksX1_end_0 22 rfl rfl)
theorem dX1_end_23 : decode cX1_end 23 = .ok (.getfield 177, 3) := dk_180 0 177 (dk_at dksX1_end_1 0 rfl rfl)
theorem dX1_end_26 : decode cX1_end 26 = .ok (.putfield 191, 3) := dk_181 0 191 (dk_at dksX1_end_1 3 rfl rfl)
theorem dX1_end_29 : decode cX1_end 29 = .ok (.iconst 0, 1) := dk_3 (dk_at dksX1_end_1 6 rfl rfl)
theorem dX1_end_30 : decode cX1_end 30 = .ok (.istore_n 3, 1) := dk_62 (dk_at dksX1_end_1 7 rfl rfl)
theorem dX1_end_31 : decode cX1_end 31 = .ok (.iconst 0, 1) := dk_3 (dk_at dksX1_end_1 8 rfl rfl)
theorem dX1_end_32 : decode cX1_end 32 = .ok (.istore 4, 2) := dk_54 4 (dk_at dksX1_end_1 9 rfl rfl)
theorem dX1_end_34 : decode cX1_end 34 = .ok (.iload 4, 2) := dk_21 4 (dk_at dksX1_end_1 11 rfl rfl)
theorem dX1_end_36 : decode cX1_end 36 = .ok (.aload_n 0, 1) := dk_42 (dk_at dksX1_end_1 13 rfl rfl)
theorem dX1_end_37 : decode cX1_end 37 = .ok (.getfield 40, 3) := dk_180 0 40 (dk_at dksX1_end_1 14 rfl rfl)
theorem dX1_end_40 : decode cX1_end 40 = .ok (.invokeinterface 77 1, 5) := by decide +kernel
theorem dX1_end_45 : decode cX1_end 45 = .ok (.if_icmp .ge 40, 3) := dk_162 0 40 (dk_at dksX1_end_2 0 rfl rfl)
theorem dX1_end_48 : decode cX1_end 48 = .ok (.iload_n 3, 1) := dk_29 (dk_at dksX1_end_2 3 rfl rfl)
theorem dX1_end_49 : decode cX1_end 49 = .ok (.aload_n 0, 1) := dk_42 (dk_at dksX1_end_2 4 rfl rfl)
theorem dX1_end_50 : decode cX1_end 50 = .ok (.getfield 40, 3) := dk_180 0 40 (dk_at dksX1_end_2 5 rfl rfl)
theorem dX1_end_53 : decode cX1_end 53 = .ok (.iload 4, 2) := dk_21 4 (dk_at dksX1_end_2 8 rfl rfl)
theorem dX1_end_55 : decode cX1_end 55 = .ok (.invokeinterface 83 2, 5) := by decide +kernel
theorem dX1_end_60 : decode cX1_end 60 = .ok (.checkcast 87, 3) := dk_192 0 87 (dk_at dksX1_end_2 15 rfl rfl)
theorem dX1_end_63 : decode cX1_end 63 = .ok (.invokevirtual 187, 3) := dk_182 0 187 (dk_at dksX1_end_2 18 rfl rfl)
theorem dX1_end_66 : decode cX1_end 66 = .ok (.ifCond .ne 7, 3) := dk_154 0 7 (dk_at dksX1_end_2 21 rfl rfl)
theorem dX1_end_69 : decode cX1_end 69 = .ok (.iconst 1, 1) := dk_4 (dk_at dksX1_end_3 0 rfl rfl)
theorem dX1_end_70 : decode cX1_end 70 = .ok (.goto 4, 3) := dk_167 0 4 (dk_at dksX1_end_3 1 rfl rfl)
theorem dX1_end_73 : decode cX1_end 73 = .ok (.iconst 0, 1) := dk_3 (dk_at dksX1_end_3 4 rfl rfl)
theorem dX1_end_74 : decode cX1_end 74 = .ok (.invokestatic 130, 3) := dk_184 0 130 (dk_at dksX1_end_3 5 rfl rfl)
theorem dX1_end_77 : decode cX1_end 77 = .ok (.iadd, 1) := dk_96 (dk_at dksX1_end_3 8 rfl rfl)
theorem dX1_end_78 : decode cX1_end 78 = .ok (.istore_n 3, 1) := dk_62 (dk_at dksX1_end_3 9 rfl rfl)
theorem dX1_end_79 : decode cX1_end 79 = .ok (.iinc 4 1, 3) := dk_132 4 1 (dk_at dksX1_end_3 10 rfl rfl)
theorem dX1_end_82 : decode cX1_end 82 = .ok (.goto (-48), 3) := dk_167 255 208 (dk_at dksX1_end_3 13 rfl rfl)
theorem dX1_end_85 : decode cX1_end 85 = .ok (.iload_n 3, 1) := dk_29 (dk_at dksX1_end_3 16 rfl rfl)
theorem dX1_end_86 : decode cX1_end 86 = .ok (.ireturn, 1) := dk_172 (dk_at dksX1_end_3 17 rfl rfl)
abbrev cX1_caseOf : ByteArray := prog_1_method_9_code
def yX1_caseOf : MethodName := ⟨RX1, "caseOf", "(I)LAppealrent$Case;"⟩
def dkwX1_caseOf_1 : List UInt8 := [185, 0, 83, 2, 0, 192, 0, 87, 176]
abbrev dktX1_caseOf_1 : List UInt8 := dkwX1_caseOf_1 ++ []
def dkwX1_caseOf_0 : List UInt8 := [27, 3, 42, 180, 0, 40, 185, 0, 77, 1, 0, 4, 100, 184, 0, 16, 184, 0, 80, 42, 180, 0, 40, 27]
abbrev dktX1_caseOf_0 : List UInt8 := dkwX1_caseOf_0 ++ dktX1_caseOf_1
theorem dksX1_caseOf_0 : cX1_caseOf.data.toList.drop 0 = dktX1_caseOf_0 := by decide +kernel
theorem dksX1_caseOf_1 : cX1_caseOf.data.toList.drop 24 = dktX1_caseOf_1 := dk_seg dksX1_caseOf_0 24 rfl rfl
theorem dX1_caseOf_0 : decode cX1_caseOf 0 = .ok (.iload_n 1, 1) := dk_27 (dk_at dksX1_caseOf_0 0 rfl rfl)
theorem dX1_caseOf_1 : decode cX1_caseOf 1 = .ok (.iconst 0, 1) := dk_3 (dk_at dksX1_caseOf_0 1 rfl rfl)
theorem dX1_caseOf_2 : decode cX1_caseOf 2 = .ok (.aload_n 0, 1) := dk_42 (dk_at dksX1_caseOf_0 2 rfl rfl)
theorem dX1_caseOf_3 : decode cX1_caseOf 3 = .ok (.getfield 40, 3) := dk_180 0 40 (dk_at dksX1_caseOf_0 3 rfl rfl)
theorem dX1_caseOf_6 : decode cX1_caseOf 6 = .ok (.invokeinterface 77 1, 5) := by decide +kernel
theorem dX1_caseOf_11 : decode cX1_caseOf 11 = .ok (.iconst 1, 1) := dk_4 (dk_at dksX1_caseOf_0 11 rfl rfl)
theorem dX1_caseOf_12 : decode cX1_caseOf 12 = .ok (.isub, 1) := dk_100 (dk_at dksX1_caseOf_0 12 rfl rfl)
theorem dX1_caseOf_13 : decode cX1_caseOf 13 = .ok (.invokestatic 16, 3) := dk_184 0 16 (dk_at dksX1_caseOf_0 13 rfl rfl)
theorem dX1_caseOf_16 : decode cX1_caseOf 16 = .ok (.invokestatic 80, 3) := dk_184 0 80 (dk_at dksX1_caseOf_0 16 rfl rfl)
theorem dX1_caseOf_19 : decode cX1_caseOf 19 = .ok (.aload_n 0, 1) := dk_42 (dk_at dksX1_caseOf_0 19 rfl rfl)
theorem dX1_caseOf_20 : decode cX1_caseOf 20 = .ok (.getfield 40, 3) := dk_180 0 40 (dk_at dksX1_caseOf_0 20 rfl rfl)
theorem dX1_caseOf_23 : decode cX1_caseOf 23 = .ok (.iload_n 1, 1) := dk_27 (dk_at dksX1_caseOf_0 23 rfl rfl)
theorem dX1_caseOf_24 : decode cX1_caseOf 24 = .ok (.invokeinterface 83 2, 5) := by decide +kernel
theorem dX1_caseOf_29 : decode cX1_caseOf 29 = .ok (.checkcast 87, 3) := dk_192 0 87 (dk_at dksX1_caseOf_1 5 rfl rfl)
theorem dX1_caseOf_32 : decode cX1_caseOf 32 = .ok (.areturn, 1) := dk_176 (dk_at dksX1_caseOf_1 8 rfl rfl)
abbrev cX1_checkIndex : ByteArray := prog_1_method_2_code
def yX1_checkIndex : MethodName := ⟨RX1, "checkIndex", "(Z)V"⟩
def dkwX1_checkIndex_0 : List UInt8 := [26, 154, 0, 11, 187, 0, 1, 89, 183, 0, 3, 191, 177]
abbrev dktX1_checkIndex_0 : List UInt8 := dkwX1_checkIndex_0 ++ []
theorem dksX1_checkIndex_0 : cX1_checkIndex.data.toList.drop 0 = dktX1_checkIndex_0 := by decide +kernel
theorem dX1_checkIndex_0 : decode cX1_checkIndex 0 = .ok (.iload_n 0, 1) := dk_26 (dk_at dksX1_checkIndex_0 0 rfl rfl)
theorem dX1_checkIndex_1 : decode cX1_checkIndex 1 = .ok (.ifCond .ne 11, 3) := dk_154 0 11 (dk_at dksX1_checkIndex_0 1 rfl rfl)
theorem dX1_checkIndex_4 : decode cX1_checkIndex 4 = .ok (.new 1, 3) := dk_187 0 1 (dk_at dksX1_checkIndex_0 4 rfl rfl)
theorem dX1_checkIndex_7 : decode cX1_checkIndex 7 = .ok (.dup, 1) := dk_89 (dk_at dksX1_checkIndex_0 7 rfl rfl)
theorem dX1_checkIndex_8 : decode cX1_checkIndex 8 = .ok (.invokespecial 3, 3) := dk_183 0 3 (dk_at dksX1_checkIndex_0 8 rfl rfl)
theorem dX1_checkIndex_11 : decode cX1_checkIndex 11 = .ok (.athrow, 1) := dk_191 (dk_at dksX1_checkIndex_0 11 rfl rfl)
theorem dX1_checkIndex_12 : decode cX1_checkIndex 12 = .ok (.return_, 1) := dk_177 (dk_at dksX1_checkIndex_0 12 rfl rfl)
abbrev cX1_form : ByteArray := prog_1_method_24_code
def yX1_form : MethodName := ⟨RX1, "form", "(I)I"⟩
def dkwX1_form_4 : List UInt8 := [180, 0, 207, 172]
abbrev dktX1_form_4 : List UInt8 := dkwX1_form_4 ++ []
def dkwX1_form_3 : List UInt8 := [159, 0, 9, 16, 254, 21, 4, 100, 172, 42, 180, 0, 44, 45, 185, 0, 71, 2, 0, 54, 5, 45]
abbrev dktX1_form_3 : List UInt8 := dkwX1_form_3 ++ dktX1_form_4
def dkwX1_form_2 : List UInt8 := [44, 42, 180, 0, 177, 183, 0, 194, 78, 45, 42, 182, 0, 197, 184, 0, 201, 54, 4, 21, 4, 2]
abbrev dktX1_form_2 : List UInt8 := dkwX1_form_2 ++ dktX1_form_3
def dkwX1_form_1 : List UInt8 := [154, 0, 7, 4, 167, 0, 4, 3, 184, 0, 166, 187, 0, 89, 89, 42, 180, 0, 44, 185, 0, 77, 1, 0]
abbrev dktX1_form_1 : List UInt8 := dkwX1_form_1 ++ dktX1_form_2
def dkwX1_form_0 : List UInt8 := [42, 27, 182, 0, 183, 77, 42, 180, 0, 44, 185, 0, 77, 1, 0, 16, 60, 162, 0, 14, 44, 182, 0, 187]
abbrev dktX1_form_0 : List UInt8 := dkwX1_form_0 ++ dktX1_form_1
theorem dksX1_form_0 : cX1_form.data.toList.drop 0 = dktX1_form_0 := by decide +kernel
theorem dksX1_form_1 : cX1_form.data.toList.drop 24 = dktX1_form_1 := dk_seg dksX1_form_0 24 rfl rfl
theorem dksX1_form_2 : cX1_form.data.toList.drop 48 = dktX1_form_2 := dk_seg dksX1_form_1 24 rfl rfl
theorem dksX1_form_3 : cX1_form.data.toList.drop 70 = dktX1_form_3 := dk_seg dksX1_form_2 22 rfl rfl
theorem dksX1_form_4 : cX1_form.data.toList.drop 92 = dktX1_form_4 := dk_seg dksX1_form_3 22 rfl rfl
theorem dX1_form_0 : decode cX1_form 0 = .ok (.aload_n 0, 1) := dk_42 (dk_at dksX1_form_0 0 rfl rfl)
theorem dX1_form_1 : decode cX1_form 1 = .ok (.iload_n 1, 1) := dk_27 (dk_at dksX1_form_0 1 rfl rfl)
theorem dX1_form_2 : decode cX1_form 2 = .ok (.invokevirtual 183, 3) := dk_182 0 183 (dk_at dksX1_form_0 2 rfl rfl)
theorem dX1_form_5 : decode cX1_form 5 = .ok (.astore_n 2, 1) := dk_77 (dk_at dksX1_form_0 5 rfl rfl)
theorem dX1_form_6 : decode cX1_form 6 = .ok (.aload_n 0, 1) := dk_42 (dk_at dksX1_form_0 6 rfl rfl)
theorem dX1_form_7 : decode cX1_form 7 = .ok (.getfield 44, 3) := dk_180 0 44 (dk_at dksX1_form_0 7 rfl rfl)
theorem dX1_form_10 : decode cX1_form 10 = .ok (.invokeinterface 77 1, 5) := by decide +kernel
theorem dX1_form_15 : decode cX1_form 15 = .ok (.bipush 60, 2) := dk_16 60 (dk_at dksX1_form_0 15 rfl rfl)
theorem dX1_form_17 : decode cX1_form 17 = .ok (.if_icmp .ge 14, 3) := dk_162 0 14 (dk_at dksX1_form_0 17 rfl rfl)
theorem dX1_form_20 : decode cX1_form 20 = .ok (.aload_n 2, 1) := dk_44 (dk_at dksX1_form_0 20 rfl rfl)
theorem dX1_form_21 : decode cX1_form 21 = .ok (.invokevirtual 187, 3) := dk_182 0 187 (dk_at dksX1_form_0 21 rfl rfl)
theorem dX1_form_24 : decode cX1_form 24 = .ok (.ifCond .ne 7, 3) := dk_154 0 7 (dk_at dksX1_form_1 0 rfl rfl)
theorem dX1_form_27 : decode cX1_form 27 = .ok (.iconst 1, 1) := dk_4 (dk_at dksX1_form_1 3 rfl rfl)
theorem dX1_form_28 : decode cX1_form 28 = .ok (.goto 4, 3) := dk_167 0 4 (dk_at dksX1_form_1 4 rfl rfl)
theorem dX1_form_31 : decode cX1_form 31 = .ok (.iconst 0, 1) := dk_3 (dk_at dksX1_form_1 7 rfl rfl)
theorem dX1_form_32 : decode cX1_form 32 = .ok (.invokestatic 166, 3) := dk_184 0 166 (dk_at dksX1_form_1 8 rfl rfl)
theorem dX1_form_35 : decode cX1_form 35 = .ok (.new 89, 3) := dk_187 0 89 (dk_at dksX1_form_1 11 rfl rfl)
theorem dX1_form_38 : decode cX1_form 38 = .ok (.dup, 1) := dk_89 (dk_at dksX1_form_1 14 rfl rfl)
theorem dX1_form_39 : decode cX1_form 39 = .ok (.aload_n 0, 1) := dk_42 (dk_at dksX1_form_1 15 rfl rfl)
theorem dX1_form_40 : decode cX1_form 40 = .ok (.getfield 44, 3) := dk_180 0 44 (dk_at dksX1_form_1 16 rfl rfl)
theorem dX1_form_43 : decode cX1_form 43 = .ok (.invokeinterface 77 1, 5) := by decide +kernel
theorem dX1_form_48 : decode cX1_form 48 = .ok (.aload_n 2, 1) := dk_44 (dk_at dksX1_form_2 0 rfl rfl)
theorem dX1_form_49 : decode cX1_form 49 = .ok (.aload_n 0, 1) := dk_42 (dk_at dksX1_form_2 1 rfl rfl)
theorem dX1_form_50 : decode cX1_form 50 = .ok (.getfield 177, 3) := dk_180 0 177 (dk_at dksX1_form_2 2 rfl rfl)
theorem dX1_form_53 : decode cX1_form 53 = .ok (.invokespecial 194, 3) := dk_183 0 194 (dk_at dksX1_form_2 5 rfl rfl)
theorem dX1_form_56 : decode cX1_form 56 = .ok (.astore_n 3, 1) := dk_78 (dk_at dksX1_form_2 8 rfl rfl)
theorem dX1_form_57 : decode cX1_form 57 = .ok (.aload_n 3, 1) := dk_45 (dk_at dksX1_form_2 9 rfl rfl)
theorem dX1_form_58 : decode cX1_form 58 = .ok (.aload_n 0, 1) := dk_42 (dk_at dksX1_form_2 10 rfl rfl)
theorem dX1_form_59 : decode cX1_form 59 = .ok (.invokevirtual 197, 3) := dk_182 0 197 (dk_at dksX1_form_2 11 rfl rfl)
theorem dX1_form_62 : decode cX1_form 62 = .ok (.invokestatic 201, 3) := dk_184 0 201 (dk_at dksX1_form_2 14 rfl rfl)
theorem dX1_form_65 : decode cX1_form 65 = .ok (.istore 4, 2) := dk_54 4 (dk_at dksX1_form_2 17 rfl rfl)
theorem dX1_form_67 : decode cX1_form 67 = .ok (.iload 4, 2) := dk_21 4 (dk_at dksX1_form_2 19 rfl rfl)
theorem dX1_form_69 : decode cX1_form 69 = .ok (.iconst (-1), 1) := dk_2 (dk_at dksX1_form_2 21 rfl rfl)
theorem dX1_form_70 : decode cX1_form 70 = .ok (.if_icmp .eq 9, 3) := dk_159 0 9 (dk_at dksX1_form_3 0 rfl rfl)
theorem dX1_form_73 : decode cX1_form 73 = .ok (.bipush (-2), 2) := dk_16 254 (dk_at dksX1_form_3 3 rfl rfl)
theorem dX1_form_75 : decode cX1_form 75 = .ok (.iload 4, 2) := dk_21 4 (dk_at dksX1_form_3 5 rfl rfl)
theorem dX1_form_77 : decode cX1_form 77 = .ok (.isub, 1) := dk_100 (dk_at dksX1_form_3 7 rfl rfl)
theorem dX1_form_78 : decode cX1_form 78 = .ok (.ireturn, 1) := dk_172 (dk_at dksX1_form_3 8 rfl rfl)
theorem dX1_form_79 : decode cX1_form 79 = .ok (.aload_n 0, 1) := dk_42 (dk_at dksX1_form_3 9 rfl rfl)
theorem dX1_form_80 : decode cX1_form 80 = .ok (.getfield 44, 3) := dk_180 0 44 (dk_at dksX1_form_3 10 rfl rfl)
theorem dX1_form_83 : decode cX1_form 83 = .ok (.aload_n 3, 1) := dk_45 (dk_at dksX1_form_3 13 rfl rfl)
theorem dX1_form_84 : decode cX1_form 84 = .ok (.invokeinterface 71 2, 5) := by decide +kernel
theorem dX1_form_89 : decode cX1_form 89 = .ok (.istore 5, 2) := dk_54 5 (dk_at dksX1_form_3 19 rfl rfl)
theorem dX1_form_91 : decode cX1_form 91 = .ok (.aload_n 3, 1) := dk_45 (dk_at dksX1_form_3 21 rfl rfl)
theorem dX1_form_92 : decode cX1_form 92 = .ok (.getfield 207, 3) := dk_180 0 207 (dk_at dksX1_form_4 0 rfl rfl)
theorem dX1_form_95 : decode cX1_form 95 = .ok (.ireturn, 1) := dk_172 (dk_at dksX1_form_4 3 rfl rfl)
abbrev cX1_taken : ByteArray := prog_1_method_13_code
def yX1_taken : MethodName := ⟨RX1, "taken", "()[I"⟩
def dkwX1_taken_2 : List UInt8 := [182, 0, 112, 43, 176]
abbrev dktX1_taken_2 : List UInt8 := dkwX1_taken_2 ++ []
def dkwX1_taken_1 : List UInt8 := [182, 0, 103, 79, 28, 43, 29, 46, 184, 0, 107, 96, 61, 132, 3, 1, 167, 255, 227, 42, 180, 0, 56, 3]
abbrev dktX1_taken_1 : List UInt8 := dkwX1_taken_1 ++ dktX1_taken_2
def dkwX1_taken_0 : List UInt8 := [42, 182, 0, 100, 188, 10, 76, 3, 61, 3, 62, 29, 43, 190, 162, 0, 29, 43, 29, 42, 180, 0, 56, 28]
abbrev dktX1_taken_0 : List UInt8 := dkwX1_taken_0 ++ dktX1_taken_1
theorem dksX1_taken_0 : cX1_taken.data.toList.drop 0 = dktX1_taken_0 := by decide +kernel
theorem dksX1_taken_1 : cX1_taken.data.toList.drop 24 = dktX1_taken_1 := dk_seg dksX1_taken_0 24 rfl rfl
theorem dksX1_taken_2 : cX1_taken.data.toList.drop 48 = dktX1_taken_2 := dk_seg dksX1_taken_1 24 rfl rfl
theorem dX1_taken_0 : decode cX1_taken 0 = .ok (.aload_n 0, 1) := dk_42 (dk_at dksX1_taken_0 0 rfl rfl)
theorem dX1_taken_1 : decode cX1_taken 1 = .ok (.invokevirtual 100, 3) := dk_182 0 100 (dk_at dksX1_taken_0 1 rfl rfl)
theorem dX1_taken_4 : decode cX1_taken 4 = .ok (.newarray .int, 2) := dk_188_10 (dk_at dksX1_taken_0 4 rfl rfl)
theorem dX1_taken_6 : decode cX1_taken 6 = .ok (.astore_n 1, 1) := dk_76 (dk_at dksX1_taken_0 6 rfl rfl)
theorem dX1_taken_7 : decode cX1_taken 7 = .ok (.iconst 0, 1) := dk_3 (dk_at dksX1_taken_0 7 rfl rfl)
theorem dX1_taken_8 : decode cX1_taken 8 = .ok (.istore_n 2, 1) := dk_61 (dk_at dksX1_taken_0 8 rfl rfl)
theorem dX1_taken_9 : decode cX1_taken 9 = .ok (.iconst 0, 1) := dk_3 (dk_at dksX1_taken_0 9 rfl rfl)
theorem dX1_taken_10 : decode cX1_taken 10 = .ok (.istore_n 3, 1) := dk_62 (dk_at dksX1_taken_0 10 rfl rfl)
theorem dX1_taken_11 : decode cX1_taken 11 = .ok (.iload_n 3, 1) := dk_29 (dk_at dksX1_taken_0 11 rfl rfl)
theorem dX1_taken_12 : decode cX1_taken 12 = .ok (.aload_n 1, 1) := dk_43 (dk_at dksX1_taken_0 12 rfl rfl)
theorem dX1_taken_13 : decode cX1_taken 13 = .ok (.arraylength, 1) := dk_190 (dk_at dksX1_taken_0 13 rfl rfl)
theorem dX1_taken_14 : decode cX1_taken 14 = .ok (.if_icmp .ge 29, 3) := dk_162 0 29 (dk_at dksX1_taken_0 14 rfl rfl)
theorem dX1_taken_17 : decode cX1_taken 17 = .ok (.aload_n 1, 1) := dk_43 (dk_at dksX1_taken_0 17 rfl rfl)
theorem dX1_taken_18 : decode cX1_taken 18 = .ok (.iload_n 3, 1) := dk_29 (dk_at dksX1_taken_0 18 rfl rfl)
theorem dX1_taken_19 : decode cX1_taken 19 = .ok (.aload_n 0, 1) := dk_42 (dk_at dksX1_taken_0 19 rfl rfl)
theorem dX1_taken_20 : decode cX1_taken 20 = .ok (.getfield 56, 3) := dk_180 0 56 (dk_at dksX1_taken_0 20 rfl rfl)
theorem dX1_taken_23 : decode cX1_taken 23 = .ok (.iload_n 2, 1) := dk_28 (dk_at dksX1_taken_0 23 rfl rfl)
theorem dX1_taken_24 : decode cX1_taken 24 = .ok (.invokevirtual 103, 3) := dk_182 0 103 (dk_at dksX1_taken_1 0 rfl rfl)
theorem dX1_taken_27 : decode cX1_taken 27 = .ok (.iastore, 1) := dk_79 (dk_at dksX1_taken_1 3 rfl rfl)
theorem dX1_taken_28 : decode cX1_taken 28 = .ok (.iload_n 2, 1) := dk_28 (dk_at dksX1_taken_1 4 rfl rfl)
theorem dX1_taken_29 : decode cX1_taken 29 = .ok (.aload_n 1, 1) := dk_43 (dk_at dksX1_taken_1 5 rfl rfl)
theorem dX1_taken_30 : decode cX1_taken 30 = .ok (.iload_n 3, 1) := dk_29 (dk_at dksX1_taken_1 6 rfl rfl)
theorem dX1_taken_31 : decode cX1_taken 31 = .ok (.iaload, 1) := dk_46 (dk_at dksX1_taken_1 7 rfl rfl)
theorem dX1_taken_32 : decode cX1_taken 32 = .ok (.invokestatic 107, 3) := dk_184 0 107 (dk_at dksX1_taken_1 8 rfl rfl)
theorem dX1_taken_35 : decode cX1_taken 35 = .ok (.iadd, 1) := dk_96 (dk_at dksX1_taken_1 11 rfl rfl)
theorem dX1_taken_36 : decode cX1_taken 36 = .ok (.istore_n 2, 1) := dk_61 (dk_at dksX1_taken_1 12 rfl rfl)
theorem dX1_taken_37 : decode cX1_taken 37 = .ok (.iinc 3 1, 3) := dk_132 3 1 (dk_at dksX1_taken_1 13 rfl rfl)
theorem dX1_taken_40 : decode cX1_taken 40 = .ok (.goto (-29), 3) := dk_167 255 227 (dk_at dksX1_taken_1 16 rfl rfl)
theorem dX1_taken_43 : decode cX1_taken 43 = .ok (.aload_n 0, 1) := dk_42 (dk_at dksX1_taken_1 19 rfl rfl)
theorem dX1_taken_44 : decode cX1_taken 44 = .ok (.getfield 56, 3) := dk_180 0 56 (dk_at dksX1_taken_1 20 rfl rfl)
theorem dX1_taken_47 : decode cX1_taken 47 = .ok (.iconst 0, 1) := dk_3 (dk_at dksX1_taken_1 23 rfl rfl)
theorem dX1_taken_48 : decode cX1_taken 48 = .ok (.invokevirtual 112, 3) := dk_182 0 112 (dk_at dksX1_taken_2 0 rfl rfl)
theorem dX1_taken_51 : decode cX1_taken 51 = .ok (.aload_n 1, 1) := dk_43 (dk_at dksX1_taken_2 3 rfl rfl)
theorem dX1_taken_52 : decode cX1_taken 52 = .ok (.areturn, 1) := dk_176 (dk_at dksX1_taken_2 4 rfl rfl)
abbrev cX1_prove : ByteArray := prog_1_method_25_code
def yX1_prove : MethodName := ⟨RX1, "prove", "(I)I"⟩
def dkwX1_prove_1 : List UInt8 := [181, 0, 119, 42, 3, 182, 0, 214, 172]
abbrev dktX1_prove_1 : List UInt8 := dkwX1_prove_1 ++ []
def dkwX1_prove_0 : List UInt8 := [42, 27, 182, 0, 210, 77, 44, 180, 0, 119, 154, 0, 7, 4, 167, 0, 4, 3, 184, 0, 166, 44, 4]
abbrev dktX1_prove_0 : List UInt8 := dkwX1_prove_0 ++ dktX1_prove_1
theorem dksX1_prove_0 : cX1_prove.data.toList.drop 0 = dktX1_prove_0 := by decide +kernel
theorem dksX1_prove_1 : cX1_prove.data.toList.drop 23 = dktX1_prove_1 := dk_seg dksX1_prove_0 23 rfl rfl
theorem dX1_prove_0 : decode cX1_prove 0 = .ok (.aload_n 0, 1) := dk_42 (dk_at dksX1_prove_0 0 rfl rfl)
theorem dX1_prove_1 : decode cX1_prove 1 = .ok (.iload_n 1, 1) := dk_27 (dk_at dksX1_prove_0 1 rfl rfl)
theorem dX1_prove_2 : decode cX1_prove 2 = .ok (.invokevirtual 210, 3) := dk_182 0 210 (dk_at dksX1_prove_0 2 rfl rfl)
theorem dX1_prove_5 : decode cX1_prove 5 = .ok (.astore_n 2, 1) := dk_77 (dk_at dksX1_prove_0 5 rfl rfl)
theorem dX1_prove_6 : decode cX1_prove 6 = .ok (.aload_n 2, 1) := dk_44 (dk_at dksX1_prove_0 6 rfl rfl)
theorem dX1_prove_7 : decode cX1_prove 7 = .ok (.getfield 119, 3) := dk_180 0 119 (dk_at dksX1_prove_0 7 rfl rfl)
theorem dX1_prove_10 : decode cX1_prove 10 = .ok (.ifCond .ne 7, 3) := dk_154 0 7 (dk_at dksX1_prove_0 10 rfl rfl)
theorem dX1_prove_13 : decode cX1_prove 13 = .ok (.iconst 1, 1) := dk_4 (dk_at dksX1_prove_0 13 rfl rfl)
theorem dX1_prove_14 : decode cX1_prove 14 = .ok (.goto 4, 3) := dk_167 0 4 (dk_at dksX1_prove_0 14 rfl rfl)
theorem dX1_prove_17 : decode cX1_prove 17 = .ok (.iconst 0, 1) := dk_3 (dk_at dksX1_prove_0 17 rfl rfl)
theorem dX1_prove_18 : decode cX1_prove 18 = .ok (.invokestatic 166, 3) := dk_184 0 166 (dk_at dksX1_prove_0 18 rfl rfl)
theorem dX1_prove_21 : decode cX1_prove 21 = .ok (.aload_n 2, 1) := dk_44 (dk_at dksX1_prove_0 21 rfl rfl)
theorem dX1_prove_22 : decode cX1_prove 22 = .ok (.iconst 1, 1) := dk_4 (dk_at dksX1_prove_0 22 rfl rfl)
theorem dX1_prove_23 : decode cX1_prove 23 = .ok (.putfield 119, 3) := dk_181 0 119 (dk_at dksX1_prove_1 0 rfl rfl)
theorem dX1_prove_26 : decode cX1_prove 26 = .ok (.aload_n 0, 1) := dk_42 (dk_at dksX1_prove_1 3 rfl rfl)
theorem dX1_prove_27 : decode cX1_prove 27 = .ok (.iconst 0, 1) := dk_3 (dk_at dksX1_prove_1 4 rfl rfl)
theorem dX1_prove_28 : decode cX1_prove 28 = .ok (.invokevirtual 214, 3) := dk_182 0 214 (dk_at dksX1_prove_1 5 rfl rfl)
theorem dX1_prove_31 : decode cX1_prove 31 = .ok (.ireturn, 1) := dk_172 (dk_at dksX1_prove_1 8 rfl rfl)
abbrev cX1_formOf : ByteArray := prog_1_method_10_code
def yX1_formOf : MethodName := ⟨RX1, "formOf", "(I)LAppealrent$Form;"⟩
def dkwX1_formOf_1 : List UInt8 := [185, 0, 83, 2, 0, 192, 0, 89, 176]
abbrev dktX1_formOf_1 : List UInt8 := dkwX1_formOf_1 ++ []
def dkwX1_formOf_0 : List UInt8 := [27, 3, 42, 180, 0, 44, 185, 0, 77, 1, 0, 4, 100, 184, 0, 16, 184, 0, 80, 42, 180, 0, 44, 27]
abbrev dktX1_formOf_0 : List UInt8 := dkwX1_formOf_0 ++ dktX1_formOf_1
theorem dksX1_formOf_0 : cX1_formOf.data.toList.drop 0 = dktX1_formOf_0 := by decide +kernel
theorem dksX1_formOf_1 : cX1_formOf.data.toList.drop 24 = dktX1_formOf_1 := dk_seg dksX1_formOf_0 24 rfl rfl
theorem dX1_formOf_0 : decode cX1_formOf 0 = .ok (.iload_n 1, 1) := dk_27 (dk_at dksX1_formOf_0 0 rfl rfl)
theorem dX1_formOf_1 : decode cX1_formOf 1 = .ok (.iconst 0, 1) := dk_3 (dk_at dksX1_formOf_0 1 rfl rfl)
theorem dX1_formOf_2 : decode cX1_formOf 2 = .ok (.aload_n 0, 1) := dk_42 (dk_at dksX1_formOf_0 2 rfl rfl)
theorem dX1_formOf_3 : decode cX1_formOf 3 = .ok (.getfield 44, 3) := dk_180 0 44 (dk_at dksX1_formOf_0 3 rfl rfl)
theorem dX1_formOf_6 : decode cX1_formOf 6 = .ok (.invokeinterface 77 1, 5) := by decide +kernel
theorem dX1_formOf_11 : decode cX1_formOf 11 = .ok (.iconst 1, 1) := dk_4 (dk_at dksX1_formOf_0 11 rfl rfl)
theorem dX1_formOf_12 : decode cX1_formOf 12 = .ok (.isub, 1) := dk_100 (dk_at dksX1_formOf_0 12 rfl rfl)
theorem dX1_formOf_13 : decode cX1_formOf 13 = .ok (.invokestatic 16, 3) := dk_184 0 16 (dk_at dksX1_formOf_0 13 rfl rfl)
theorem dX1_formOf_16 : decode cX1_formOf 16 = .ok (.invokestatic 80, 3) := dk_184 0 80 (dk_at dksX1_formOf_0 16 rfl rfl)
theorem dX1_formOf_19 : decode cX1_formOf 19 = .ok (.aload_n 0, 1) := dk_42 (dk_at dksX1_formOf_0 19 rfl rfl)
theorem dX1_formOf_20 : decode cX1_formOf 20 = .ok (.getfield 44, 3) := dk_180 0 44 (dk_at dksX1_formOf_0 20 rfl rfl)
theorem dX1_formOf_23 : decode cX1_formOf 23 = .ok (.iload_n 1, 1) := dk_27 (dk_at dksX1_formOf_0 23 rfl rfl)
theorem dX1_formOf_24 : decode cX1_formOf 24 = .ok (.invokeinterface 83 2, 5) := by decide +kernel
theorem dX1_formOf_29 : decode cX1_formOf 29 = .ok (.checkcast 89, 3) := dk_192 0 89 (dk_at dksX1_formOf_1 5 rfl rfl)
theorem dX1_formOf_32 : decode cX1_formOf 32 = .ok (.areturn, 1) := dk_176 (dk_at dksX1_formOf_1 8 rfl rfl)
abbrev cX1_countForms : ByteArray := prog_1_method_23_code
def yX1_countForms : MethodName := ⟨RX1, "countForms", "(I)I"⟩
def dkwX1_countForms_2 : List UInt8 := [61, 132, 3, 1, 167, 255, 209, 28, 172]
abbrev dktX1_countForms_2 : List UInt8 := dkwX1_countForms_2 ++ []
def dkwX1_countForms_1 : List UInt8 := [185, 0, 83, 2, 0, 192, 0, 89, 180, 0, 119, 27, 160, 0, 7, 4, 167, 0, 4, 3, 184, 0, 130, 96]
abbrev dktX1_countForms_1 : List UInt8 := dkwX1_countForms_1 ++ dktX1_countForms_2
def dkwX1_countForms_0 : List UInt8 := [3, 61, 3, 62, 29, 42, 180, 0, 44, 185, 0, 77, 1, 0, 162, 0, 40, 28, 42, 180, 0, 44, 29]
abbrev dktX1_countForms_0 : List UInt8 := dkwX1_countForms_0 ++ dktX1_countForms_1
theorem dksX1_countForms_0 : cX1_countForms.data.toList.drop 0 = dktX1_countForms_0 := by decide +kernel
theorem dksX1_countForms_1 : cX1_countForms.data.toList.drop 23 = dktX1_countForms_1 := dk_seg dksX1_countForms_0 23 rfl rfl
theorem dksX1_countForms_2 : cX1_countForms.data.toList.drop 47 = dktX1_countForms_2 := dk_seg dksX1_countForms_1 24 rfl rfl
theorem dX1_countForms_0 : decode cX1_countForms 0 = .ok (.iconst 0, 1) := dk_3 (dk_at dksX1_countForms_0 0 rfl rfl)
theorem dX1_countForms_1 : decode cX1_countForms 1 = .ok (.istore_n 2, 1) := dk_61 (dk_at dksX1_countForms_0 1 rfl rfl)
theorem dX1_countForms_2 : decode cX1_countForms 2 = .ok (.iconst 0, 1) := dk_3 (dk_at dksX1_countForms_0 2 rfl rfl)
theorem dX1_countForms_3 : decode cX1_countForms 3 = .ok (.istore_n 3, 1) := dk_62 (dk_at dksX1_countForms_0 3 rfl rfl)
theorem dX1_countForms_4 : decode cX1_countForms 4 = .ok (.iload_n 3, 1) := dk_29 (dk_at dksX1_countForms_0 4 rfl rfl)
theorem dX1_countForms_5 : decode cX1_countForms 5 = .ok (.aload_n 0, 1) := dk_42 (dk_at dksX1_countForms_0 5 rfl rfl)
theorem dX1_countForms_6 : decode cX1_countForms 6 = .ok (.getfield 44, 3) := dk_180 0 44 (dk_at dksX1_countForms_0 6 rfl rfl)
theorem dX1_countForms_9 : decode cX1_countForms 9 = .ok (.invokeinterface 77 1, 5) := by decide +kernel
theorem dX1_countForms_14 : decode cX1_countForms 14 = .ok (.if_icmp .ge 40, 3) := dk_162 0 40 (dk_at dksX1_countForms_0 14 rfl rfl)
theorem dX1_countForms_17 : decode cX1_countForms 17 = .ok (.iload_n 2, 1) := dk_28 (dk_at dksX1_countForms_0 17 rfl rfl)
theorem dX1_countForms_18 : decode cX1_countForms 18 = .ok (.aload_n 0, 1) := dk_42 (dk_at dksX1_countForms_0 18 rfl rfl)
theorem dX1_countForms_19 : decode cX1_countForms 19 = .ok (.getfield 44, 3) := dk_180 0 44 (dk_at dksX1_countForms_0 19 rfl rfl)
theorem dX1_countForms_22 : decode cX1_countForms 22 = .ok (.iload_n 3, 1) := dk_29 (dk_at dksX1_countForms_0 22 rfl rfl)
theorem dX1_countForms_23 : decode cX1_countForms 23 = .ok (.invokeinterface 83 2, 5) := by decide +kernel
theorem dX1_countForms_28 : decode cX1_countForms 28 = .ok (.checkcast 89, 3) := dk_192 0 89 (dk_at dksX1_countForms_1 5 rfl rfl)
theorem dX1_countForms_31 : decode cX1_countForms 31 = .ok (.getfield 119, 3) := dk_180 0 119 (dk_at dksX1_countForms_1 8 rfl rfl)
theorem dX1_countForms_34 : decode cX1_countForms 34 = .ok (.iload_n 1, 1) := dk_27 (dk_at dksX1_countForms_1 11 rfl rfl)
theorem dX1_countForms_35 : decode cX1_countForms 35 = .ok (.if_icmp .ne 7, 3) := dk_160 0 7 (dk_at dksX1_countForms_1 12 rfl rfl)
theorem dX1_countForms_38 : decode cX1_countForms 38 = .ok (.iconst 1, 1) := dk_4 (dk_at dksX1_countForms_1 15 rfl rfl)
theorem dX1_countForms_39 : decode cX1_countForms 39 = .ok (.goto 4, 3) := dk_167 0 4 (dk_at dksX1_countForms_1 16 rfl rfl)
theorem dX1_countForms_42 : decode cX1_countForms 42 = .ok (.iconst 0, 1) := dk_3 (dk_at dksX1_countForms_1 19 rfl rfl)
theorem dX1_countForms_43 : decode cX1_countForms 43 = .ok (.invokestatic 130, 3) := dk_184 0 130 (dk_at dksX1_countForms_1 20 rfl rfl)
theorem dX1_countForms_46 : decode cX1_countForms 46 = .ok (.iadd, 1) := dk_96 (dk_at dksX1_countForms_1 23 rfl rfl)
theorem dX1_countForms_47 : decode cX1_countForms 47 = .ok (.istore_n 2, 1) := dk_61 (dk_at dksX1_countForms_2 0 rfl rfl)
theorem dX1_countForms_48 : decode cX1_countForms 48 = .ok (.iinc 3 1, 3) := dk_132 3 1 (dk_at dksX1_countForms_2 1 rfl rfl)
theorem dX1_countForms_51 : decode cX1_countForms 51 = .ok (.goto (-47), 3) := dk_167 255 209 (dk_at dksX1_countForms_2 4 rfl rfl)
theorem dX1_countForms_54 : decode cX1_countForms 54 = .ok (.iload_n 2, 1) := dk_28 (dk_at dksX1_countForms_2 7 rfl rfl)
theorem dX1_countForms_55 : decode cX1_countForms 55 = .ok (.ireturn, 1) := dk_172 (dk_at dksX1_countForms_2 8 rfl rfl)
abbrev cX1_rule : ByteArray := prog_1_method_26_code
def yX1_rule : MethodName := ⟨RX1, "rule", "(IZ)I"⟩
def dkwX1_rule_5 : List UInt8 := [100, 172, 42, 180, 0, 47, 45, 185, 0, 71, 2, 0, 54, 5, 45, 180, 0, 217, 172]
abbrev dktX1_rule_5 : List UInt8 := dkwX1_rule_5 ++ []
def dkwX1_rule_4 : List UInt8 := [183, 0, 68, 78, 45, 42, 182, 0, 197, 184, 0, 201, 54, 4, 21, 4, 2, 159, 0, 9, 16, 254, 21, 4]
abbrev dktX1_rule_4 : List UInt8 := dkwX1_rule_4 ++ dktX1_rule_5
def dkwX1_rule_3 : List UInt8 := [180, 0, 47, 42, 180, 0, 47, 185, 0, 77, 1, 0, 4, 100, 185, 0, 83, 2, 0, 192, 0, 66]
abbrev dktX1_rule_3 : List UInt8 := dkwX1_rule_3 ++ dktX1_rule_4
def dkwX1_rule_2 : List UInt8 := [167, 0, 4, 3, 184, 0, 166, 187, 0, 66, 89, 42, 42, 180, 0, 47, 185, 0, 77, 1, 0, 27, 28, 42]
abbrev dktX1_rule_2 : List UInt8 := dkwX1_rule_2 ++ dktX1_rule_3
def dkwX1_rule_1 : List UInt8 := [17, 5, 220, 184, 0, 16, 184, 0, 22, 42, 180, 0, 47, 185, 0, 77, 1, 0, 16, 12, 162, 0, 7, 4]
abbrev dktX1_rule_1 : List UInt8 := dkwX1_rule_1 ++ dktX1_rule_2
def dkwX1_rule_0 : List UInt8 := [28, 153, 0, 15, 27, 3, 42, 180, 0, 177, 184, 0, 16, 167, 0, 16, 27, 42, 180, 0, 177, 4, 96]
abbrev dktX1_rule_0 : List UInt8 := dkwX1_rule_0 ++ dktX1_rule_1
theorem dksX1_rule_0 : cX1_rule.data.toList.drop 0 = dktX1_rule_0 := by decide +kernel
theorem dksX1_rule_1 : cX1_rule.data.toList.drop 23 = dktX1_rule_1 := dk_seg dksX1_rule_0 23 rfl rfl
theorem dksX1_rule_2 : cX1_rule.data.toList.drop 47 = dktX1_rule_2 := dk_seg dksX1_rule_1 24 rfl rfl
theorem dksX1_rule_3 : cX1_rule.data.toList.drop 71 = dktX1_rule_3 := dk_seg dksX1_rule_2 24 rfl rfl
theorem dksX1_rule_4 : cX1_rule.data.toList.drop 93 = dktX1_rule_4 := dk_seg dksX1_rule_3 22 rfl rfl
theorem dksX1_rule_5 : cX1_rule.data.toList.drop 117 = dktX1_rule_5 := dk_seg dksX1_rule_4 24 rfl rfl
theorem dX1_rule_0 : decode cX1_rule 0 = .ok (.iload_n 2, 1) := dk_28 (dk_at dksX1_rule_0 0 rfl rfl)
theorem dX1_rule_1 : decode cX1_rule 1 = .ok (.ifCond .eq 15, 3) := dk_153 0 15 (dk_at dksX1_rule_0 1 rfl rfl)
theorem dX1_rule_4 : decode cX1_rule 4 = .ok (.iload_n 1, 1) := dk_27 (dk_at dksX1_rule_0 4 rfl rfl)
theorem dX1_rule_5 : decode cX1_rule 5 = .ok (.iconst 0, 1) := dk_3 (dk_at dksX1_rule_0 5 rfl rfl)
theorem dX1_rule_6 : decode cX1_rule 6 = .ok (.aload_n 0, 1) := dk_42 (dk_at dksX1_rule_0 6 rfl rfl)
theorem dX1_rule_7 : decode cX1_rule 7 = .ok (.getfield 177, 3) := dk_180 0 177 (dk_at dksX1_rule_0 7 rfl rfl)
theorem dX1_rule_10 : decode cX1_rule 10 = .ok (.invokestatic 16, 3) := dk_184 0 16 (dk_at dksX1_rule_0 10 rfl rfl)
theorem dX1_rule_13 : decode cX1_rule 13 = .ok (.goto 16, 3) := dk_167 0 16 (dk_at dksX1_rule_0 13 rfl rfl)
theorem dX1_rule_16 : decode cX1_rule 16 = .ok (.iload_n 1, 1) := dk_27 (dk_at dksX1_rule_0 16 rfl rfl)
theorem dX1_rule_17 : decode cX1_rule 17 = .ok (.aload_n 0, 1) := dk_42 (dk_at dksX1_rule_0 17 rfl rfl)
theorem dX1_rule_18 : decode cX1_rule 18 = .ok (.getfield 177, 3) := dk_180 0 177 (dk_at dksX1_rule_0 18 rfl rfl)
theorem dX1_rule_21 : decode cX1_rule 21 = .ok (.iconst 1, 1) := dk_4 (dk_at dksX1_rule_0 21 rfl rfl)
theorem dX1_rule_22 : decode cX1_rule 22 = .ok (.iadd, 1) := dk_96 (dk_at dksX1_rule_0 22 rfl rfl)
theorem dX1_rule_23 : decode cX1_rule 23 = .ok (.sipush 1500, 3) := dk_17 5 220 (dk_at dksX1_rule_1 0 rfl rfl)
theorem dX1_rule_26 : decode cX1_rule 26 = .ok (.invokestatic 16, 3) := dk_184 0 16 (dk_at dksX1_rule_1 3 rfl rfl)
theorem dX1_rule_29 : decode cX1_rule 29 = .ok (.invokestatic 22, 3) := dk_184 0 22 (dk_at dksX1_rule_1 6 rfl rfl)
theorem dX1_rule_32 : decode cX1_rule 32 = .ok (.aload_n 0, 1) := dk_42 (dk_at dksX1_rule_1 9 rfl rfl)
theorem dX1_rule_33 : decode cX1_rule 33 = .ok (.getfield 47, 3) := dk_180 0 47 (dk_at dksX1_rule_1 10 rfl rfl)
theorem dX1_rule_36 : decode cX1_rule 36 = .ok (.invokeinterface 77 1, 5) := by decide +kernel
theorem dX1_rule_41 : decode cX1_rule 41 = .ok (.bipush 12, 2) := dk_16 12 (dk_at dksX1_rule_1 18 rfl rfl)
theorem dX1_rule_43 : decode cX1_rule 43 = .ok (.if_icmp .ge 7, 3) := dk_162 0 7 (dk_at dksX1_rule_1 20 rfl rfl)
theorem dX1_rule_46 : decode cX1_rule 46 = .ok (.iconst 1, 1) := dk_4 (dk_at dksX1_rule_1 23 rfl rfl)
theorem dX1_rule_47 : decode cX1_rule 47 = .ok (.goto 4, 3) := dk_167 0 4 (dk_at dksX1_rule_2 0 rfl rfl)
theorem dX1_rule_50 : decode cX1_rule 50 = .ok (.iconst 0, 1) := dk_3 (dk_at dksX1_rule_2 3 rfl rfl)
theorem dX1_rule_51 : decode cX1_rule 51 = .ok (.invokestatic 166, 3) := dk_184 0 166 (dk_at dksX1_rule_2 4 rfl rfl)
theorem dX1_rule_54 : decode cX1_rule 54 = .ok (.new 66, 3) := dk_187 0 66 (dk_at dksX1_rule_2 7 rfl rfl)
theorem dX1_rule_57 : decode cX1_rule 57 = .ok (.dup, 1) := dk_89 (dk_at dksX1_rule_2 10 rfl rfl)
theorem dX1_rule_58 : decode cX1_rule 58 = .ok (.aload_n 0, 1) := dk_42 (dk_at dksX1_rule_2 11 rfl rfl)
theorem dX1_rule_59 : decode cX1_rule 59 = .ok (.aload_n 0, 1) := dk_42 (dk_at dksX1_rule_2 12 rfl rfl)
theorem dX1_rule_60 : decode cX1_rule 60 = .ok (.getfield 47, 3) := dk_180 0 47 (dk_at dksX1_rule_2 13 rfl rfl)
theorem dX1_rule_63 : decode cX1_rule 63 = .ok (.invokeinterface 77 1, 5) := by decide +kernel
theorem dX1_rule_68 : decode cX1_rule 68 = .ok (.iload_n 1, 1) := dk_27 (dk_at dksX1_rule_2 21 rfl rfl)
theorem dX1_rule_69 : decode cX1_rule 69 = .ok (.iload_n 2, 1) := dk_28 (dk_at dksX1_rule_2 22 rfl rfl)
theorem dX1_rule_70 : decode cX1_rule 70 = .ok (.aload_n 0, 1) := dk_42 (dk_at dksX1_rule_2 23 rfl rfl)
theorem dX1_rule_71 : decode cX1_rule 71 = .ok (.getfield 47, 3) := dk_180 0 47 (dk_at dksX1_rule_3 0 rfl rfl)
theorem dX1_rule_74 : decode cX1_rule 74 = .ok (.aload_n 0, 1) := dk_42 (dk_at dksX1_rule_3 3 rfl rfl)
theorem dX1_rule_75 : decode cX1_rule 75 = .ok (.getfield 47, 3) := dk_180 0 47 (dk_at dksX1_rule_3 4 rfl rfl)
theorem dX1_rule_78 : decode cX1_rule 78 = .ok (.invokeinterface 77 1, 5) := by decide +kernel
theorem dX1_rule_83 : decode cX1_rule 83 = .ok (.iconst 1, 1) := dk_4 (dk_at dksX1_rule_3 12 rfl rfl)
theorem dX1_rule_84 : decode cX1_rule 84 = .ok (.isub, 1) := dk_100 (dk_at dksX1_rule_3 13 rfl rfl)
theorem dX1_rule_85 : decode cX1_rule 85 = .ok (.invokeinterface 83 2, 5) := by decide +kernel
theorem dX1_rule_90 : decode cX1_rule 90 = .ok (.checkcast 66, 3) := dk_192 0 66 (dk_at dksX1_rule_3 19 rfl rfl)
theorem dX1_rule_93 : decode cX1_rule 93 = .ok (.invokespecial 68, 3) := dk_183 0 68 (dk_at dksX1_rule_4 0 rfl rfl)
theorem dX1_rule_96 : decode cX1_rule 96 = .ok (.astore_n 3, 1) := dk_78 (dk_at dksX1_rule_4 3 rfl rfl)
theorem dX1_rule_97 : decode cX1_rule 97 = .ok (.aload_n 3, 1) := dk_45 (dk_at dksX1_rule_4 4 rfl rfl)
theorem dX1_rule_98 : decode cX1_rule 98 = .ok (.aload_n 0, 1) := dk_42 (dk_at dksX1_rule_4 5 rfl rfl)
theorem dX1_rule_99 : decode cX1_rule 99 = .ok (.invokevirtual 197, 3) := dk_182 0 197 (dk_at dksX1_rule_4 6 rfl rfl)
theorem dX1_rule_102 : decode cX1_rule 102 = .ok (.invokestatic 201, 3) := dk_184 0 201 (dk_at dksX1_rule_4 9 rfl rfl)
theorem dX1_rule_105 : decode cX1_rule 105 = .ok (.istore 4, 2) := dk_54 4 (dk_at dksX1_rule_4 12 rfl rfl)
theorem dX1_rule_107 : decode cX1_rule 107 = .ok (.iload 4, 2) := dk_21 4 (dk_at dksX1_rule_4 14 rfl rfl)
theorem dX1_rule_109 : decode cX1_rule 109 = .ok (.iconst (-1), 1) := dk_2 (dk_at dksX1_rule_4 16 rfl rfl)
theorem dX1_rule_110 : decode cX1_rule 110 = .ok (.if_icmp .eq 9, 3) := dk_159 0 9 (dk_at dksX1_rule_4 17 rfl rfl)
theorem dX1_rule_113 : decode cX1_rule 113 = .ok (.bipush (-2), 2) := dk_16 254 (dk_at dksX1_rule_4 20 rfl rfl)
theorem dX1_rule_115 : decode cX1_rule 115 = .ok (.iload 4, 2) := dk_21 4 (dk_at dksX1_rule_4 22 rfl rfl)
theorem dX1_rule_117 : decode cX1_rule 117 = .ok (.isub, 1) := dk_100 (dk_at dksX1_rule_5 0 rfl rfl)
theorem dX1_rule_118 : decode cX1_rule 118 = .ok (.ireturn, 1) := dk_172 (dk_at dksX1_rule_5 1 rfl rfl)
theorem dX1_rule_119 : decode cX1_rule 119 = .ok (.aload_n 0, 1) := dk_42 (dk_at dksX1_rule_5 2 rfl rfl)
theorem dX1_rule_120 : decode cX1_rule 120 = .ok (.getfield 47, 3) := dk_180 0 47 (dk_at dksX1_rule_5 3 rfl rfl)
theorem dX1_rule_123 : decode cX1_rule 123 = .ok (.aload_n 3, 1) := dk_45 (dk_at dksX1_rule_5 6 rfl rfl)
theorem dX1_rule_124 : decode cX1_rule 124 = .ok (.invokeinterface 71 2, 5) := by decide +kernel
theorem dX1_rule_129 : decode cX1_rule 129 = .ok (.istore 5, 2) := dk_54 5 (dk_at dksX1_rule_5 12 rfl rfl)
theorem dX1_rule_131 : decode cX1_rule 131 = .ok (.aload_n 3, 1) := dk_45 (dk_at dksX1_rule_5 14 rfl rfl)
theorem dX1_rule_132 : decode cX1_rule 132 = .ok (.getfield 217, 3) := dk_180 0 217 (dk_at dksX1_rule_5 15 rfl rfl)
theorem dX1_rule_135 : decode cX1_rule 135 = .ok (.ireturn, 1) := dk_172 (dk_at dksX1_rule_5 18 rfl rfl)
abbrev cX1_appeal : ByteArray := prog_1_method_27_code
def yX1_appeal : MethodName := ⟨RX1, "appeal", "(I)I"⟩
def dkwX1_appeal_1 : List UInt8 := [181, 0, 159, 44, 180, 0, 222, 16, 14, 96, 42, 180, 0, 177, 100, 172]
abbrev dktX1_appeal_1 : List UInt8 := dkwX1_appeal_1 ++ []
def dkwX1_appeal_0 : List UInt8 := [42, 27, 182, 0, 218, 77, 44, 180, 0, 159, 154, 0, 7, 4, 167, 0, 4, 3, 184, 0, 166, 44, 4]
abbrev dktX1_appeal_0 : List UInt8 := dkwX1_appeal_0 ++ dktX1_appeal_1
theorem dksX1_appeal_0 : cX1_appeal.data.toList.drop 0 = dktX1_appeal_0 := by decide +kernel
theorem dksX1_appeal_1 : cX1_appeal.data.toList.drop 23 = dktX1_appeal_1 := dk_seg dksX1_appeal_0 23 rfl rfl
theorem dX1_appeal_0 : decode cX1_appeal 0 = .ok (.aload_n 0, 1) := dk_42 (dk_at dksX1_appeal_0 0 rfl rfl)
theorem dX1_appeal_1 : decode cX1_appeal 1 = .ok (.iload_n 1, 1) := dk_27 (dk_at dksX1_appeal_0 1 rfl rfl)
theorem dX1_appeal_2 : decode cX1_appeal 2 = .ok (.invokevirtual 218, 3) := dk_182 0 218 (dk_at dksX1_appeal_0 2 rfl rfl)
theorem dX1_appeal_5 : decode cX1_appeal 5 = .ok (.astore_n 2, 1) := dk_77 (dk_at dksX1_appeal_0 5 rfl rfl)
theorem dX1_appeal_6 : decode cX1_appeal 6 = .ok (.aload_n 2, 1) := dk_44 (dk_at dksX1_appeal_0 6 rfl rfl)
theorem dX1_appeal_7 : decode cX1_appeal 7 = .ok (.getfield 159, 3) := dk_180 0 159 (dk_at dksX1_appeal_0 7 rfl rfl)
theorem dX1_appeal_10 : decode cX1_appeal 10 = .ok (.ifCond .ne 7, 3) := dk_154 0 7 (dk_at dksX1_appeal_0 10 rfl rfl)
theorem dX1_appeal_13 : decode cX1_appeal 13 = .ok (.iconst 1, 1) := dk_4 (dk_at dksX1_appeal_0 13 rfl rfl)
theorem dX1_appeal_14 : decode cX1_appeal 14 = .ok (.goto 4, 3) := dk_167 0 4 (dk_at dksX1_appeal_0 14 rfl rfl)
theorem dX1_appeal_17 : decode cX1_appeal 17 = .ok (.iconst 0, 1) := dk_3 (dk_at dksX1_appeal_0 17 rfl rfl)
theorem dX1_appeal_18 : decode cX1_appeal 18 = .ok (.invokestatic 166, 3) := dk_184 0 166 (dk_at dksX1_appeal_0 18 rfl rfl)
theorem dX1_appeal_21 : decode cX1_appeal 21 = .ok (.aload_n 2, 1) := dk_44 (dk_at dksX1_appeal_0 21 rfl rfl)
theorem dX1_appeal_22 : decode cX1_appeal 22 = .ok (.iconst 1, 1) := dk_4 (dk_at dksX1_appeal_0 22 rfl rfl)
theorem dX1_appeal_23 : decode cX1_appeal 23 = .ok (.putfield 159, 3) := dk_181 0 159 (dk_at dksX1_appeal_1 0 rfl rfl)
theorem dX1_appeal_26 : decode cX1_appeal 26 = .ok (.aload_n 2, 1) := dk_44 (dk_at dksX1_appeal_1 3 rfl rfl)
theorem dX1_appeal_27 : decode cX1_appeal 27 = .ok (.getfield 222, 3) := dk_180 0 222 (dk_at dksX1_appeal_1 4 rfl rfl)
theorem dX1_appeal_30 : decode cX1_appeal 30 = .ok (.bipush 14, 2) := dk_16 14 (dk_at dksX1_appeal_1 7 rfl rfl)
theorem dX1_appeal_32 : decode cX1_appeal 32 = .ok (.iadd, 1) := dk_96 (dk_at dksX1_appeal_1 9 rfl rfl)
theorem dX1_appeal_33 : decode cX1_appeal 33 = .ok (.aload_n 0, 1) := dk_42 (dk_at dksX1_appeal_1 10 rfl rfl)
theorem dX1_appeal_34 : decode cX1_appeal 34 = .ok (.getfield 177, 3) := dk_180 0 177 (dk_at dksX1_appeal_1 11 rfl rfl)
theorem dX1_appeal_37 : decode cX1_appeal 37 = .ok (.isub, 1) := dk_100 (dk_at dksX1_appeal_1 14 rfl rfl)
theorem dX1_appeal_38 : decode cX1_appeal 38 = .ok (.ireturn, 1) := dk_172 (dk_at dksX1_appeal_1 15 rfl rfl)
abbrev cX1_claimOf : ByteArray := prog_1_method_11_code
def yX1_claimOf : MethodName := ⟨RX1, "claimOf", "(I)LAppealrent$Claim;"⟩
def dkwX1_claimOf_1 : List UInt8 := [185, 0, 83, 2, 0, 192, 0, 91, 176]
abbrev dktX1_claimOf_1 : List UInt8 := dkwX1_claimOf_1 ++ []
def dkwX1_claimOf_0 : List UInt8 := [27, 3, 42, 180, 0, 50, 185, 0, 77, 1, 0, 4, 100, 184, 0, 16, 184, 0, 80, 42, 180, 0, 50, 27]
abbrev dktX1_claimOf_0 : List UInt8 := dkwX1_claimOf_0 ++ dktX1_claimOf_1
theorem dksX1_claimOf_0 : cX1_claimOf.data.toList.drop 0 = dktX1_claimOf_0 := by decide +kernel
theorem dksX1_claimOf_1 : cX1_claimOf.data.toList.drop 24 = dktX1_claimOf_1 := dk_seg dksX1_claimOf_0 24 rfl rfl
theorem dX1_claimOf_0 : decode cX1_claimOf 0 = .ok (.iload_n 1, 1) := dk_27 (dk_at dksX1_claimOf_0 0 rfl rfl)
theorem dX1_claimOf_1 : decode cX1_claimOf 1 = .ok (.iconst 0, 1) := dk_3 (dk_at dksX1_claimOf_0 1 rfl rfl)
theorem dX1_claimOf_2 : decode cX1_claimOf 2 = .ok (.aload_n 0, 1) := dk_42 (dk_at dksX1_claimOf_0 2 rfl rfl)
theorem dX1_claimOf_3 : decode cX1_claimOf 3 = .ok (.getfield 50, 3) := dk_180 0 50 (dk_at dksX1_claimOf_0 3 rfl rfl)
theorem dX1_claimOf_6 : decode cX1_claimOf 6 = .ok (.invokeinterface 77 1, 5) := by decide +kernel
theorem dX1_claimOf_11 : decode cX1_claimOf 11 = .ok (.iconst 1, 1) := dk_4 (dk_at dksX1_claimOf_0 11 rfl rfl)
theorem dX1_claimOf_12 : decode cX1_claimOf 12 = .ok (.isub, 1) := dk_100 (dk_at dksX1_claimOf_0 12 rfl rfl)
theorem dX1_claimOf_13 : decode cX1_claimOf 13 = .ok (.invokestatic 16, 3) := dk_184 0 16 (dk_at dksX1_claimOf_0 13 rfl rfl)
theorem dX1_claimOf_16 : decode cX1_claimOf 16 = .ok (.invokestatic 80, 3) := dk_184 0 80 (dk_at dksX1_claimOf_0 16 rfl rfl)
theorem dX1_claimOf_19 : decode cX1_claimOf 19 = .ok (.aload_n 0, 1) := dk_42 (dk_at dksX1_claimOf_0 19 rfl rfl)
theorem dX1_claimOf_20 : decode cX1_claimOf 20 = .ok (.getfield 50, 3) := dk_180 0 50 (dk_at dksX1_claimOf_0 20 rfl rfl)
theorem dX1_claimOf_23 : decode cX1_claimOf 23 = .ok (.iload_n 1, 1) := dk_27 (dk_at dksX1_claimOf_0 23 rfl rfl)
theorem dX1_claimOf_24 : decode cX1_claimOf 24 = .ok (.invokeinterface 83 2, 5) := by decide +kernel
theorem dX1_claimOf_29 : decode cX1_claimOf 29 = .ok (.checkcast 91, 3) := dk_192 0 91 (dk_at dksX1_claimOf_1 5 rfl rfl)
theorem dX1_claimOf_32 : decode cX1_claimOf 32 = .ok (.areturn, 1) := dk_176 (dk_at dksX1_claimOf_1 8 rfl rfl)
abbrev cX1_decide : ByteArray := prog_1_method_28_code
def yX1_decide : MethodName := ⟨RX1, "decide", "(II)I"⟩
def dkwX1_decide_2 : List UInt8 := [182, 0, 230, 45, 180, 0, 160, 172]
abbrev dktX1_decide_2 : List UInt8 := dkwX1_decide_2 ++ []
def dkwX1_decide_1 : List UInt8 := [4, 167, 0, 4, 3, 184, 0, 166, 45, 45, 180, 0, 225, 133, 28, 133, 105, 20, 0, 228, 109, 136]
abbrev dktX1_decide_1 : List UInt8 := dkwX1_decide_1 ++ dktX1_decide_2
def dkwX1_decide_0 : List UInt8 := [42, 27, 182, 0, 218, 78, 28, 3, 16, 100, 184, 0, 16, 184, 0, 22, 45, 180, 0, 159, 4, 160, 0, 7]
abbrev dktX1_decide_0 : List UInt8 := dkwX1_decide_0 ++ dktX1_decide_1
theorem dksX1_decide_0 : cX1_decide.data.toList.drop 0 = dktX1_decide_0 := by decide +kernel
theorem dksX1_decide_1 : cX1_decide.data.toList.drop 24 = dktX1_decide_1 := dk_seg dksX1_decide_0 24 rfl rfl
theorem dksX1_decide_2 : cX1_decide.data.toList.drop 46 = dktX1_decide_2 := dk_seg dksX1_decide_1 22 rfl rfl
theorem dX1_decide_0 : decode cX1_decide 0 = .ok (.aload_n 0, 1) := dk_42 (dk_at dksX1_decide_0 0 rfl rfl)
theorem dX1_decide_1 : decode cX1_decide 1 = .ok (.iload_n 1, 1) := dk_27 (dk_at dksX1_decide_0 1 rfl rfl)
theorem dX1_decide_2 : decode cX1_decide 2 = .ok (.invokevirtual 218, 3) := dk_182 0 218 (dk_at dksX1_decide_0 2 rfl rfl)
theorem dX1_decide_5 : decode cX1_decide 5 = .ok (.astore_n 3, 1) := dk_78 (dk_at dksX1_decide_0 5 rfl rfl)
theorem dX1_decide_6 : decode cX1_decide 6 = .ok (.iload_n 2, 1) := dk_28 (dk_at dksX1_decide_0 6 rfl rfl)
theorem dX1_decide_7 : decode cX1_decide 7 = .ok (.iconst 0, 1) := dk_3 (dk_at dksX1_decide_0 7 rfl rfl)
theorem dX1_decide_8 : decode cX1_decide 8 = .ok (.bipush 100, 2) := dk_16 100 (dk_at dksX1_decide_0 8 rfl rfl)
theorem dX1_decide_10 : decode cX1_decide 10 = .ok (.invokestatic 16, 3) := dk_184 0 16 (dk_at dksX1_decide_0 10 rfl rfl)
theorem dX1_decide_13 : decode cX1_decide 13 = .ok (.invokestatic 22, 3) := dk_184 0 22 (dk_at dksX1_decide_0 13 rfl rfl)
theorem dX1_decide_16 : decode cX1_decide 16 = .ok (.aload_n 3, 1) := dk_45 (dk_at dksX1_decide_0 16 rfl rfl)
theorem dX1_decide_17 : decode cX1_decide 17 = .ok (.getfield 159, 3) := dk_180 0 159 (dk_at dksX1_decide_0 17 rfl rfl)
theorem dX1_decide_20 : decode cX1_decide 20 = .ok (.iconst 1, 1) := dk_4 (dk_at dksX1_decide_0 20 rfl rfl)
theorem dX1_decide_21 : decode cX1_decide 21 = .ok (.if_icmp .ne 7, 3) := dk_160 0 7 (dk_at dksX1_decide_0 21 rfl rfl)
theorem dX1_decide_24 : decode cX1_decide 24 = .ok (.iconst 1, 1) := dk_4 (dk_at dksX1_decide_1 0 rfl rfl)
theorem dX1_decide_25 : decode cX1_decide 25 = .ok (.goto 4, 3) := dk_167 0 4 (dk_at dksX1_decide_1 1 rfl rfl)
theorem dX1_decide_28 : decode cX1_decide 28 = .ok (.iconst 0, 1) := dk_3 (dk_at dksX1_decide_1 4 rfl rfl)
theorem dX1_decide_29 : decode cX1_decide 29 = .ok (.invokestatic 166, 3) := dk_184 0 166 (dk_at dksX1_decide_1 5 rfl rfl)
theorem dX1_decide_32 : decode cX1_decide 32 = .ok (.aload_n 3, 1) := dk_45 (dk_at dksX1_decide_1 8 rfl rfl)
theorem dX1_decide_33 : decode cX1_decide 33 = .ok (.aload_n 3, 1) := dk_45 (dk_at dksX1_decide_1 9 rfl rfl)
theorem dX1_decide_34 : decode cX1_decide 34 = .ok (.getfield 225, 3) := dk_180 0 225 (dk_at dksX1_decide_1 10 rfl rfl)
theorem dX1_decide_37 : decode cX1_decide 37 = .ok (.i2l, 1) := dk_133 (dk_at dksX1_decide_1 13 rfl rfl)
theorem dX1_decide_38 : decode cX1_decide 38 = .ok (.iload_n 2, 1) := dk_28 (dk_at dksX1_decide_1 14 rfl rfl)
theorem dX1_decide_39 : decode cX1_decide 39 = .ok (.i2l, 1) := dk_133 (dk_at dksX1_decide_1 15 rfl rfl)
theorem dX1_decide_40 : decode cX1_decide 40 = .ok (.lmul, 1) := dk_105 (dk_at dksX1_decide_1 16 rfl rfl)
theorem dX1_decide_41 : decode cX1_decide 41 = .ok (.ldc2_w 228, 3) := dk_20 0 228 (dk_at dksX1_decide_1 17 rfl rfl)
theorem dX1_decide_44 : decode cX1_decide 44 = .ok (.ldiv, 1) := dk_109 (dk_at dksX1_decide_1 20 rfl rfl)
theorem dX1_decide_45 : decode cX1_decide 45 = .ok (.l2i, 1) := dk_136 (dk_at dksX1_decide_1 21 rfl rfl)
theorem dX1_decide_46 : decode cX1_decide 46 = .ok (.invokevirtual 230, 3) := dk_182 0 230 (dk_at dksX1_decide_2 0 rfl rfl)
theorem dX1_decide_49 : decode cX1_decide 49 = .ok (.aload_n 3, 1) := dk_45 (dk_at dksX1_decide_2 3 rfl rfl)
theorem dX1_decide_50 : decode cX1_decide 50 = .ok (.getfield 160, 3) := dk_180 0 160 (dk_at dksX1_decide_2 4 rfl rfl)
theorem dX1_decide_53 : decode cX1_decide 53 = .ok (.ireturn, 1) := dk_172 (dk_at dksX1_decide_2 7 rfl rfl)
abbrev cX1_payBack : ByteArray := prog_1_method_29_code
def yX1_payBack : MethodName := ⟨RX1, "payBack", "(II)I"⟩
def dkwX1_payBack_2 : List UInt8 := [180, 0, 160, 172]
abbrev dktX1_payBack_2 : List UInt8 := dkwX1_payBack_2 ++ []
def dkwX1_payBack_1 : List UInt8 := [45, 180, 0, 160, 28, 161, 0, 7, 4, 167, 0, 4, 3, 184, 0, 166, 45, 28, 182, 0, 230, 45]
abbrev dktX1_payBack_1 : List UInt8 := dkwX1_payBack_1 ++ dktX1_payBack_2
def dkwX1_payBack_0 : List UInt8 := [42, 27, 182, 0, 218, 78, 28, 4, 18, 233, 184, 0, 16, 184, 0, 22, 45, 180, 0, 159, 5, 160, 0, 15]
abbrev dktX1_payBack_0 : List UInt8 := dkwX1_payBack_0 ++ dktX1_payBack_1
theorem dksX1_payBack_0 : cX1_payBack.data.toList.drop 0 = dktX1_payBack_0 := by decide +kernel
theorem dksX1_payBack_1 : cX1_payBack.data.toList.drop 24 = dktX1_payBack_1 := dk_seg dksX1_payBack_0 24 rfl rfl
theorem dksX1_payBack_2 : cX1_payBack.data.toList.drop 46 = dktX1_payBack_2 := dk_seg dksX1_payBack_1 22 rfl rfl
theorem dX1_payBack_0 : decode cX1_payBack 0 = .ok (.aload_n 0, 1) := dk_42 (dk_at dksX1_payBack_0 0 rfl rfl)
theorem dX1_payBack_1 : decode cX1_payBack 1 = .ok (.iload_n 1, 1) := dk_27 (dk_at dksX1_payBack_0 1 rfl rfl)
theorem dX1_payBack_2 : decode cX1_payBack 2 = .ok (.invokevirtual 218, 3) := dk_182 0 218 (dk_at dksX1_payBack_0 2 rfl rfl)
theorem dX1_payBack_5 : decode cX1_payBack 5 = .ok (.astore_n 3, 1) := dk_78 (dk_at dksX1_payBack_0 5 rfl rfl)
theorem dX1_payBack_6 : decode cX1_payBack 6 = .ok (.iload_n 2, 1) := dk_28 (dk_at dksX1_payBack_0 6 rfl rfl)
theorem dX1_payBack_7 : decode cX1_payBack 7 = .ok (.iconst 1, 1) := dk_4 (dk_at dksX1_payBack_0 7 rfl rfl)
theorem dX1_payBack_8 : decode cX1_payBack 8 = .ok (.ldc 233, 2) := dk_18 233 (dk_at dksX1_payBack_0 8 rfl rfl)
theorem dX1_payBack_10 : decode cX1_payBack 10 = .ok (.invokestatic 16, 3) := dk_184 0 16 (dk_at dksX1_payBack_0 10 rfl rfl)
theorem dX1_payBack_13 : decode cX1_payBack 13 = .ok (.invokestatic 22, 3) := dk_184 0 22 (dk_at dksX1_payBack_0 13 rfl rfl)
theorem dX1_payBack_16 : decode cX1_payBack 16 = .ok (.aload_n 3, 1) := dk_45 (dk_at dksX1_payBack_0 16 rfl rfl)
theorem dX1_payBack_17 : decode cX1_payBack 17 = .ok (.getfield 159, 3) := dk_180 0 159 (dk_at dksX1_payBack_0 17 rfl rfl)
theorem dX1_payBack_20 : decode cX1_payBack 20 = .ok (.iconst 2, 1) := dk_5 (dk_at dksX1_payBack_0 20 rfl rfl)
theorem dX1_payBack_21 : decode cX1_payBack 21 = .ok (.if_icmp .ne 15, 3) := dk_160 0 15 (dk_at dksX1_payBack_0 21 rfl rfl)
theorem dX1_payBack_24 : decode cX1_payBack 24 = .ok (.aload_n 3, 1) := dk_45 (dk_at dksX1_payBack_1 0 rfl rfl)
theorem dX1_payBack_25 : decode cX1_payBack 25 = .ok (.getfield 160, 3) := dk_180 0 160 (dk_at dksX1_payBack_1 1 rfl rfl)
theorem dX1_payBack_28 : decode cX1_payBack 28 = .ok (.iload_n 2, 1) := dk_28 (dk_at dksX1_payBack_1 4 rfl rfl)
theorem dX1_payBack_29 : decode cX1_payBack 29 = .ok (.if_icmp .lt 7, 3) := dk_161 0 7 (dk_at dksX1_payBack_1 5 rfl rfl)
theorem dX1_payBack_32 : decode cX1_payBack 32 = .ok (.iconst 1, 1) := dk_4 (dk_at dksX1_payBack_1 8 rfl rfl)
theorem dX1_payBack_33 : decode cX1_payBack 33 = .ok (.goto 4, 3) := dk_167 0 4 (dk_at dksX1_payBack_1 9 rfl rfl)
theorem dX1_payBack_36 : decode cX1_payBack 36 = .ok (.iconst 0, 1) := dk_3 (dk_at dksX1_payBack_1 12 rfl rfl)
theorem dX1_payBack_37 : decode cX1_payBack 37 = .ok (.invokestatic 166, 3) := dk_184 0 166 (dk_at dksX1_payBack_1 13 rfl rfl)
theorem dX1_payBack_40 : decode cX1_payBack 40 = .ok (.aload_n 3, 1) := dk_45 (dk_at dksX1_payBack_1 16 rfl rfl)
theorem dX1_payBack_41 : decode cX1_payBack 41 = .ok (.iload_n 2, 1) := dk_28 (dk_at dksX1_payBack_1 17 rfl rfl)
theorem dX1_payBack_42 : decode cX1_payBack 42 = .ok (.invokevirtual 230, 3) := dk_182 0 230 (dk_at dksX1_payBack_1 18 rfl rfl)
theorem dX1_payBack_45 : decode cX1_payBack 45 = .ok (.aload_n 3, 1) := dk_45 (dk_at dksX1_payBack_1 21 rfl rfl)
theorem dX1_payBack_46 : decode cX1_payBack 46 = .ok (.getfield 160, 3) := dk_180 0 160 (dk_at dksX1_payBack_2 0 rfl rfl)
theorem dX1_payBack_49 : decode cX1_payBack 49 = .ok (.ireturn, 1) := dk_172 (dk_at dksX1_payBack_2 3 rfl rfl)
abbrev cX1_pass : ByteArray := prog_1_method_33_code
def yX1_pass : MethodName := ⟨RX1, "pass", "(I)I"⟩
def dkwX1_pass_2 : List UInt8 := [42, 180, 0, 177, 172]
abbrev dktX1_pass_2 : List UInt8 := dkwX1_pass_2 ++ []
def dkwX1_pass_1 : List UInt8 := [167, 0, 4, 3, 184, 0, 166, 3, 61, 28, 27, 162, 0, 13, 42, 182, 1, 14, 132, 2, 1, 167, 255, 244]
abbrev dktX1_pass_1 : List UInt8 := dkwX1_pass_1 ++ dktX1_pass_2
def dkwX1_pass_0 : List UInt8 := [27, 4, 16, 100, 184, 0, 16, 184, 0, 22, 42, 180, 0, 177, 27, 96, 17, 5, 220, 163, 0, 7, 4]
abbrev dktX1_pass_0 : List UInt8 := dkwX1_pass_0 ++ dktX1_pass_1
theorem dksX1_pass_0 : cX1_pass.data.toList.drop 0 = dktX1_pass_0 := by decide +kernel
theorem dksX1_pass_1 : cX1_pass.data.toList.drop 23 = dktX1_pass_1 := dk_seg dksX1_pass_0 23 rfl rfl
theorem dksX1_pass_2 : cX1_pass.data.toList.drop 47 = dktX1_pass_2 := dk_seg dksX1_pass_1 24 rfl rfl
theorem dX1_pass_0 : decode cX1_pass 0 = .ok (.iload_n 1, 1) := dk_27 (dk_at dksX1_pass_0 0 rfl rfl)
theorem dX1_pass_1 : decode cX1_pass 1 = .ok (.iconst 1, 1) := dk_4 (dk_at dksX1_pass_0 1 rfl rfl)
theorem dX1_pass_2 : decode cX1_pass 2 = .ok (.bipush 100, 2) := dk_16 100 (dk_at dksX1_pass_0 2 rfl rfl)
theorem dX1_pass_4 : decode cX1_pass 4 = .ok (.invokestatic 16, 3) := dk_184 0 16 (dk_at dksX1_pass_0 4 rfl rfl)
theorem dX1_pass_7 : decode cX1_pass 7 = .ok (.invokestatic 22, 3) := dk_184 0 22 (dk_at dksX1_pass_0 7 rfl rfl)
theorem dX1_pass_10 : decode cX1_pass 10 = .ok (.aload_n 0, 1) := dk_42 (dk_at dksX1_pass_0 10 rfl rfl)
theorem dX1_pass_11 : decode cX1_pass 11 = .ok (.getfield 177, 3) := dk_180 0 177 (dk_at dksX1_pass_0 11 rfl rfl)
theorem dX1_pass_14 : decode cX1_pass 14 = .ok (.iload_n 1, 1) := dk_27 (dk_at dksX1_pass_0 14 rfl rfl)
theorem dX1_pass_15 : decode cX1_pass 15 = .ok (.iadd, 1) := dk_96 (dk_at dksX1_pass_0 15 rfl rfl)
theorem dX1_pass_16 : decode cX1_pass 16 = .ok (.sipush 1500, 3) := dk_17 5 220 (dk_at dksX1_pass_0 16 rfl rfl)
theorem dX1_pass_19 : decode cX1_pass 19 = .ok (.if_icmp .gt 7, 3) := dk_163 0 7 (dk_at dksX1_pass_0 19 rfl rfl)
theorem dX1_pass_22 : decode cX1_pass 22 = .ok (.iconst 1, 1) := dk_4 (dk_at dksX1_pass_0 22 rfl rfl)
theorem dX1_pass_23 : decode cX1_pass 23 = .ok (.goto 4, 3) := dk_167 0 4 (dk_at dksX1_pass_1 0 rfl rfl)
theorem dX1_pass_26 : decode cX1_pass 26 = .ok (.iconst 0, 1) := dk_3 (dk_at dksX1_pass_1 3 rfl rfl)
theorem dX1_pass_27 : decode cX1_pass 27 = .ok (.invokestatic 166, 3) := dk_184 0 166 (dk_at dksX1_pass_1 4 rfl rfl)
theorem dX1_pass_30 : decode cX1_pass 30 = .ok (.iconst 0, 1) := dk_3 (dk_at dksX1_pass_1 7 rfl rfl)
theorem dX1_pass_31 : decode cX1_pass 31 = .ok (.istore_n 2, 1) := dk_61 (dk_at dksX1_pass_1 8 rfl rfl)
theorem dX1_pass_32 : decode cX1_pass 32 = .ok (.iload_n 2, 1) := dk_28 (dk_at dksX1_pass_1 9 rfl rfl)
theorem dX1_pass_33 : decode cX1_pass 33 = .ok (.iload_n 1, 1) := dk_27 (dk_at dksX1_pass_1 10 rfl rfl)
theorem dX1_pass_34 : decode cX1_pass 34 = .ok (.if_icmp .ge 13, 3) := dk_162 0 13 (dk_at dksX1_pass_1 11 rfl rfl)
theorem dX1_pass_37 : decode cX1_pass 37 = .ok (.aload_n 0, 1) := dk_42 (dk_at dksX1_pass_1 14 rfl rfl)
theorem dX1_pass_38 : decode cX1_pass 38 = .ok (.invokevirtual 270, 3) := dk_182 1 14 (dk_at dksX1_pass_1 15 rfl rfl)
theorem dX1_pass_41 : decode cX1_pass 41 = .ok (.iinc 2 1, 3) := dk_132 2 1 (dk_at dksX1_pass_1 18 rfl rfl)
theorem dX1_pass_44 : decode cX1_pass 44 = .ok (.goto (-12), 3) := dk_167 255 244 (dk_at dksX1_pass_1 21 rfl rfl)
theorem dX1_pass_47 : decode cX1_pass 47 = .ok (.aload_n 0, 1) := dk_42 (dk_at dksX1_pass_2 0 rfl rfl)
theorem dX1_pass_48 : decode cX1_pass 48 = .ok (.getfield 177, 3) := dk_180 0 177 (dk_at dksX1_pass_2 1 rfl rfl)
theorem dX1_pass_51 : decode cX1_pass 51 = .ok (.ireturn, 1) := dk_172 (dk_at dksX1_pass_2 4 rfl rfl)
abbrev cX1_dayBegins : ByteArray := prog_1_method_32_code
def yX1_dayBegins : MethodName := ⟨RX1, "dayBegins", "()V"⟩
def dkwX1_dayBegins_8 : List UInt8 := [192, 0, 87, 42, 180, 0, 177, 16, 30, 108, 182, 1, 10, 132, 1, 1, 167, 255, 206, 177]
abbrev dktX1_dayBegins_8 : List UInt8 := dkwX1_dayBegins_8 ++ []
def dkwX1_dayBegins_7 : List UInt8 := [162, 0, 43, 42, 180, 0, 177, 16, 30, 112, 154, 0, 33, 42, 42, 180, 0, 40, 27, 185, 0, 83, 2, 0]
abbrev dktX1_dayBegins_7 : List UInt8 := dkwX1_dayBegins_7 ++ dktX1_dayBegins_8
def dkwX1_dayBegins_6 : List UInt8 := [180, 0, 159, 181, 0, 159, 132, 1, 1, 167, 255, 193, 3, 60, 27, 42, 180, 0, 40, 185, 0, 77, 1, 0]
abbrev dktX1_dayBegins_6 : List UInt8 := dkwX1_dayBegins_6 ++ dktX1_dayBegins_7
def dkwX1_dayBegins_5 : List UInt8 := [154, 0, 21, 42, 180, 0, 177, 44, 180, 0, 222, 16, 14, 96, 164, 0, 7, 5, 167, 0, 7, 44]
abbrev dktX1_dayBegins_5 : List UInt8 := dkwX1_dayBegins_5 ++ dktX1_dayBegins_6
def dkwX1_dayBegins_4 : List UInt8 := [162, 0, 56, 42, 180, 0, 50, 27, 185, 0, 83, 2, 0, 192, 0, 91, 77, 44, 44, 180, 0, 159]
abbrev dktX1_dayBegins_4 : List UInt8 := dkwX1_dayBegins_4 ++ dktX1_dayBegins_5
def dkwX1_dayBegins_3 : List UInt8 := [180, 0, 119, 181, 0, 119, 132, 1, 1, 167, 255, 193, 3, 60, 27, 42, 180, 0, 50, 185, 0, 77, 1, 0]
abbrev dktX1_dayBegins_3 : List UInt8 := dkwX1_dayBegins_3 ++ dktX1_dayBegins_4
def dkwX1_dayBegins_2 : List UInt8 := [154, 0, 21, 42, 180, 0, 177, 44, 180, 1, 9, 16, 20, 96, 164, 0, 7, 5, 167, 0, 7, 44]
abbrev dktX1_dayBegins_2 : List UInt8 := dkwX1_dayBegins_2 ++ dktX1_dayBegins_3
def dkwX1_dayBegins_1 : List UInt8 := [162, 0, 56, 42, 180, 0, 44, 27, 185, 0, 83, 2, 0, 192, 0, 89, 77, 44, 44, 180, 0, 119]
abbrev dktX1_dayBegins_1 : List UInt8 := dkwX1_dayBegins_1 ++ dktX1_dayBegins_2
def dkwX1_dayBegins_0 : List UInt8 := [42, 89, 180, 0, 177, 4, 96, 181, 0, 177, 3, 60, 27, 42, 180, 0, 44, 185, 0, 77, 1, 0]
abbrev dktX1_dayBegins_0 : List UInt8 := dkwX1_dayBegins_0 ++ dktX1_dayBegins_1
theorem dksX1_dayBegins_0 : cX1_dayBegins.data.toList.drop 0 = dktX1_dayBegins_0 := by decide +kernel
theorem dksX1_dayBegins_1 : cX1_dayBegins.data.toList.drop 22 = dktX1_dayBegins_1 := dk_seg dksX1_dayBegins_0 22 rfl rfl
theorem dksX1_dayBegins_2 : cX1_dayBegins.data.toList.drop 44 = dktX1_dayBegins_2 := dk_seg dksX1_dayBegins_1 22 rfl rfl
theorem dksX1_dayBegins_3 : cX1_dayBegins.data.toList.drop 66 = dktX1_dayBegins_3 := dk_seg dksX1_dayBegins_2 22 rfl rfl
theorem dksX1_dayBegins_4 : cX1_dayBegins.data.toList.drop 90 = dktX1_dayBegins_4 := dk_seg dksX1_dayBegins_3 24 rfl rfl
theorem dksX1_dayBegins_5 : cX1_dayBegins.data.toList.drop 112 = dktX1_dayBegins_5 := dk_seg dksX1_dayBegins_4 22 rfl rfl
theorem dksX1_dayBegins_6 : cX1_dayBegins.data.toList.drop 134 = dktX1_dayBegins_6 := dk_seg dksX1_dayBegins_5 22 rfl rfl
theorem dksX1_dayBegins_7 : cX1_dayBegins.data.toList.drop 158 = dktX1_dayBegins_7 := dk_seg dksX1_dayBegins_6 24 rfl rfl
theorem dksX1_dayBegins_8 : cX1_dayBegins.data.toList.drop 182 = dktX1_dayBegins_8 := dk_seg dksX1_dayBegins_7 24 rfl rfl
theorem dX1_dayBegins_0 : decode cX1_dayBegins 0 = .ok (.aload_n 0, 1) := dk_42 (dk_at dksX1_dayBegins_0 0 rfl rfl)
theorem dX1_dayBegins_1 : decode cX1_dayBegins 1 = .ok (.dup, 1) := dk_89 (dk_at dksX1_dayBegins_0 1 rfl rfl)
theorem dX1_dayBegins_2 : decode cX1_dayBegins 2 = .ok (.getfield 177, 3) := dk_180 0 177 (dk_at dksX1_dayBegins_0 2 rfl rfl)
theorem dX1_dayBegins_5 : decode cX1_dayBegins 5 = .ok (.iconst 1, 1) := dk_4 (dk_at dksX1_dayBegins_0 5 rfl rfl)
theorem dX1_dayBegins_6 : decode cX1_dayBegins 6 = .ok (.iadd, 1) := dk_96 (dk_at dksX1_dayBegins_0 6 rfl rfl)
theorem dX1_dayBegins_7 : decode cX1_dayBegins 7 = .ok (.putfield 177, 3) := dk_181 0 177 (dk_at dksX1_dayBegins_0 7 rfl rfl)
theorem dX1_dayBegins_10 : decode cX1_dayBegins 10 = .ok (.iconst 0, 1) := dk_3 (dk_at dksX1_dayBegins_0 10 rfl rfl)
theorem dX1_dayBegins_11 : decode cX1_dayBegins 11 = .ok (.istore_n 1, 1) := dk_60 (dk_at dksX1_dayBegins_0 11 rfl rfl)
theorem dX1_dayBegins_12 : decode cX1_dayBegins 12 = .ok (.iload_n 1, 1) := dk_27 (dk_at dksX1_dayBegins_0 12 rfl rfl)
theorem dX1_dayBegins_13 : decode cX1_dayBegins 13 = .ok (.aload_n 0, 1) := dk_42 (dk_at dksX1_dayBegins_0 13 rfl rfl)
theorem dX1_dayBegins_14 : decode cX1_dayBegins 14 = .ok (.getfield 44, 3) := dk_180 0 44 (dk_at dksX1_dayBegins_0 14 rfl rfl)
theorem dX1_dayBegins_17 : decode cX1_dayBegins 17 = .ok (.invokeinterface 77 1, 5) := by decide +kernel
theorem dX1_dayBegins_22 : decode cX1_dayBegins 22 = .ok (.if_icmp .ge 56, 3) := dk_162 0 56 (dk_at dksX1_dayBegins_1 0 rfl rfl)
theorem dX1_dayBegins_25 : decode cX1_dayBegins 25 = .ok (.aload_n 0, 1) := dk_42 (dk_at dksX1_dayBegins_1 3 rfl rfl)
theorem dX1_dayBegins_26 : decode cX1_dayBegins 26 = .ok (.getfield 44, 3) := dk_180 0 44 (dk_at dksX1_dayBegins_1 4 rfl rfl)
theorem dX1_dayBegins_29 : decode cX1_dayBegins 29 = .ok (.iload_n 1, 1) := dk_27 (dk_at dksX1_dayBegins_1 7 rfl rfl)
theorem dX1_dayBegins_30 : decode cX1_dayBegins 30 = .ok (.invokeinterface 83 2, 5) := by decide +kernel
theorem dX1_dayBegins_35 : decode cX1_dayBegins 35 = .ok (.checkcast 89, 3) := dk_192 0 89 (dk_at dksX1_dayBegins_1 13 rfl rfl)
theorem dX1_dayBegins_38 : decode cX1_dayBegins 38 = .ok (.astore_n 2, 1) := dk_77 (dk_at dksX1_dayBegins_1 16 rfl rfl)
theorem dX1_dayBegins_39 : decode cX1_dayBegins 39 = .ok (.aload_n 2, 1) := dk_44 (dk_at dksX1_dayBegins_1 17 rfl rfl)
theorem dX1_dayBegins_40 : decode cX1_dayBegins 40 = .ok (.aload_n 2, 1) := dk_44 (dk_at dksX1_dayBegins_1 18 rfl rfl)
theorem dX1_dayBegins_41 : decode cX1_dayBegins 41 = .ok (.getfield 119, 3) := dk_180 0 119 (dk_at dksX1_dayBegins_1 19 rfl rfl)
theorem dX1_dayBegins_44 : decode cX1_dayBegins 44 = .ok (.ifCond .ne 21, 3) := dk_154 0 21 (dk_at dksX1_dayBegins_2 0 rfl rfl)
theorem dX1_dayBegins_47 : decode cX1_dayBegins 47 = .ok (.aload_n 0, 1) := dk_42 (dk_at dksX1_dayBegins_2 3 rfl rfl)
theorem dX1_dayBegins_48 : decode cX1_dayBegins 48 = .ok (.getfield 177, 3) := dk_180 0 177 (dk_at dksX1_dayBegins_2 4 rfl rfl)
theorem dX1_dayBegins_51 : decode cX1_dayBegins 51 = .ok (.aload_n 2, 1) := dk_44 (dk_at dksX1_dayBegins_2 7 rfl rfl)
theorem dX1_dayBegins_52 : decode cX1_dayBegins 52 = .ok (.getfield 265, 3) := dk_180 1 9 (dk_at dksX1_dayBegins_2 8 rfl rfl)
theorem dX1_dayBegins_55 : decode cX1_dayBegins 55 = .ok (.bipush 20, 2) := dk_16 20 (dk_at dksX1_dayBegins_2 11 rfl rfl)
theorem dX1_dayBegins_57 : decode cX1_dayBegins 57 = .ok (.iadd, 1) := dk_96 (dk_at dksX1_dayBegins_2 13 rfl rfl)
theorem dX1_dayBegins_58 : decode cX1_dayBegins 58 = .ok (.if_icmp .le 7, 3) := dk_164 0 7 (dk_at dksX1_dayBegins_2 14 rfl rfl)
theorem dX1_dayBegins_61 : decode cX1_dayBegins 61 = .ok (.iconst 2, 1) := dk_5 (dk_at dksX1_dayBegins_2 17 rfl rfl)
theorem dX1_dayBegins_62 : decode cX1_dayBegins 62 = .ok (.goto 7, 3) := dk_167 0 7 (dk_at dksX1_dayBegins_2 18 rfl rfl)
theorem dX1_dayBegins_65 : decode cX1_dayBegins 65 = .ok (.aload_n 2, 1) := dk_44 (dk_at dksX1_dayBegins_2 21 rfl rfl)
theorem dX1_dayBegins_66 : decode cX1_dayBegins 66 = .ok (.getfield 119, 3) := dk_180 0 119 (dk_at dksX1_dayBegins_3 0 rfl rfl)
theorem dX1_dayBegins_69 : decode cX1_dayBegins 69 = .ok (.putfield 119, 3) := dk_181 0 119 (dk_at dksX1_dayBegins_3 3 rfl rfl)
theorem dX1_dayBegins_72 : decode cX1_dayBegins 72 = .ok (.iinc 1 1, 3) := dk_132 1 1 (dk_at dksX1_dayBegins_3 6 rfl rfl)
theorem dX1_dayBegins_75 : decode cX1_dayBegins 75 = .ok (.goto (-63), 3) := dk_167 255 193 (dk_at dksX1_dayBegins_3 9 rfl rfl)
theorem dX1_dayBegins_78 : decode cX1_dayBegins 78 = .ok (.iconst 0, 1) := dk_3 (dk_at dksX1_dayBegins_3 12 rfl rfl)
theorem dX1_dayBegins_79 : decode cX1_dayBegins 79 = .ok (.istore_n 1, 1) := dk_60 (dk_at dksX1_dayBegins_3 13 rfl rfl)
theorem dX1_dayBegins_80 : decode cX1_dayBegins 80 = .ok (.iload_n 1, 1) := dk_27 (dk_at dksX1_dayBegins_3 14 rfl rfl)
theorem dX1_dayBegins_81 : decode cX1_dayBegins 81 = .ok (.aload_n 0, 1) := dk_42 (dk_at dksX1_dayBegins_3 15 rfl rfl)
theorem dX1_dayBegins_82 : decode cX1_dayBegins 82 = .ok (.getfield 50, 3) := dk_180 0 50 (dk_at dksX1_dayBegins_3 16 rfl rfl)
theorem dX1_dayBegins_85 : decode cX1_dayBegins 85 = .ok (.invokeinterface 77 1, 5) := by decide +kernel
theorem dX1_dayBegins_90 : decode cX1_dayBegins 90 = .ok (.if_icmp .ge 56, 3) := dk_162 0 56 (dk_at dksX1_dayBegins_4 0 rfl rfl)
theorem dX1_dayBegins_93 : decode cX1_dayBegins 93 = .ok (.aload_n 0, 1) := dk_42 (dk_at dksX1_dayBegins_4 3 rfl rfl)
theorem dX1_dayBegins_94 : decode cX1_dayBegins 94 = .ok (.getfield 50, 3) := dk_180 0 50 (dk_at dksX1_dayBegins_4 4 rfl rfl)
theorem dX1_dayBegins_97 : decode cX1_dayBegins 97 = .ok (.iload_n 1, 1) := dk_27 (dk_at dksX1_dayBegins_4 7 rfl rfl)
theorem dX1_dayBegins_98 : decode cX1_dayBegins 98 = .ok (.invokeinterface 83 2, 5) := by decide +kernel
theorem dX1_dayBegins_103 : decode cX1_dayBegins 103 = .ok (.checkcast 91, 3) := dk_192 0 91 (dk_at dksX1_dayBegins_4 13 rfl rfl)
theorem dX1_dayBegins_106 : decode cX1_dayBegins 106 = .ok (.astore_n 2, 1) := dk_77 (dk_at dksX1_dayBegins_4 16 rfl rfl)
theorem dX1_dayBegins_107 : decode cX1_dayBegins 107 = .ok (.aload_n 2, 1) := dk_44 (dk_at dksX1_dayBegins_4 17 rfl rfl)
theorem dX1_dayBegins_108 : decode cX1_dayBegins 108 = .ok (.aload_n 2, 1) := dk_44 (dk_at dksX1_dayBegins_4 18 rfl rfl)
theorem dX1_dayBegins_109 : decode cX1_dayBegins 109 = .ok (.getfield 159, 3) := dk_180 0 159 (dk_at dksX1_dayBegins_4 19 rfl rfl)
theorem dX1_dayBegins_112 : decode cX1_dayBegins 112 = .ok (.ifCond .ne 21, 3) := dk_154 0 21 (dk_at dksX1_dayBegins_5 0 rfl rfl)
theorem dX1_dayBegins_115 : decode cX1_dayBegins 115 = .ok (.aload_n 0, 1) := dk_42 (dk_at dksX1_dayBegins_5 3 rfl rfl)
theorem dX1_dayBegins_116 : decode cX1_dayBegins 116 = .ok (.getfield 177, 3) := dk_180 0 177 (dk_at dksX1_dayBegins_5 4 rfl rfl)
theorem dX1_dayBegins_119 : decode cX1_dayBegins 119 = .ok (.aload_n 2, 1) := dk_44 (dk_at dksX1_dayBegins_5 7 rfl rfl)
theorem dX1_dayBegins_120 : decode cX1_dayBegins 120 = .ok (.getfield 222, 3) := dk_180 0 222 (dk_at dksX1_dayBegins_5 8 rfl rfl)
theorem dX1_dayBegins_123 : decode cX1_dayBegins 123 = .ok (.bipush 14, 2) := dk_16 14 (dk_at dksX1_dayBegins_5 11 rfl rfl)
theorem dX1_dayBegins_125 : decode cX1_dayBegins 125 = .ok (.iadd, 1) := dk_96 (dk_at dksX1_dayBegins_5 13 rfl rfl)
theorem dX1_dayBegins_126 : decode cX1_dayBegins 126 = .ok (.if_icmp .le 7, 3) := dk_164 0 7 (dk_at dksX1_dayBegins_5 14 rfl rfl)
theorem dX1_dayBegins_129 : decode cX1_dayBegins 129 = .ok (.iconst 2, 1) := dk_5 (dk_at dksX1_dayBegins_5 17 rfl rfl)
theorem dX1_dayBegins_130 : decode cX1_dayBegins 130 = .ok (.goto 7, 3) := dk_167 0 7 (dk_at dksX1_dayBegins_5 18 rfl rfl)
theorem dX1_dayBegins_133 : decode cX1_dayBegins 133 = .ok (.aload_n 2, 1) := dk_44 (dk_at dksX1_dayBegins_5 21 rfl rfl)
theorem dX1_dayBegins_134 : decode cX1_dayBegins 134 = .ok (.getfield 159, 3) := dk_180 0 159 (dk_at dksX1_dayBegins_6 0 rfl rfl)
theorem dX1_dayBegins_137 : decode cX1_dayBegins 137 = .ok (.putfield 159, 3) := dk_181 0 159 (dk_at dksX1_dayBegins_6 3 rfl rfl)
theorem dX1_dayBegins_140 : decode cX1_dayBegins 140 = .ok (.iinc 1 1, 3) := dk_132 1 1 (dk_at dksX1_dayBegins_6 6 rfl rfl)
theorem dX1_dayBegins_143 : decode cX1_dayBegins 143 = .ok (.goto (-63), 3) := dk_167 255 193 (dk_at dksX1_dayBegins_6 9 rfl rfl)
theorem dX1_dayBegins_146 : decode cX1_dayBegins 146 = .ok (.iconst 0, 1) := dk_3 (dk_at dksX1_dayBegins_6 12 rfl rfl)
theorem dX1_dayBegins_147 : decode cX1_dayBegins 147 = .ok (.istore_n 1, 1) := dk_60 (dk_at dksX1_dayBegins_6 13 rfl rfl)
theorem dX1_dayBegins_148 : decode cX1_dayBegins 148 = .ok (.iload_n 1, 1) := dk_27 (dk_at dksX1_dayBegins_6 14 rfl rfl)
theorem dX1_dayBegins_149 : decode cX1_dayBegins 149 = .ok (.aload_n 0, 1) := dk_42 (dk_at dksX1_dayBegins_6 15 rfl rfl)
theorem dX1_dayBegins_150 : decode cX1_dayBegins 150 = .ok (.getfield 40, 3) := dk_180 0 40 (dk_at dksX1_dayBegins_6 16 rfl rfl)
theorem dX1_dayBegins_153 : decode cX1_dayBegins 153 = .ok (.invokeinterface 77 1, 5) := by decide +kernel
theorem dX1_dayBegins_158 : decode cX1_dayBegins 158 = .ok (.if_icmp .ge 43, 3) := dk_162 0 43 (dk_at dksX1_dayBegins_7 0 rfl rfl)
theorem dX1_dayBegins_161 : decode cX1_dayBegins 161 = .ok (.aload_n 0, 1) := dk_42 (dk_at dksX1_dayBegins_7 3 rfl rfl)
theorem dX1_dayBegins_162 : decode cX1_dayBegins 162 = .ok (.getfield 177, 3) := dk_180 0 177 (dk_at dksX1_dayBegins_7 4 rfl rfl)
theorem dX1_dayBegins_165 : decode cX1_dayBegins 165 = .ok (.bipush 30, 2) := dk_16 30 (dk_at dksX1_dayBegins_7 7 rfl rfl)
theorem dX1_dayBegins_167 : decode cX1_dayBegins 167 = .ok (.irem, 1) := dk_112 (dk_at dksX1_dayBegins_7 9 rfl rfl)
theorem dX1_dayBegins_168 : decode cX1_dayBegins 168 = .ok (.ifCond .ne 33, 3) := dk_154 0 33 (dk_at dksX1_dayBegins_7 10 rfl rfl)
theorem dX1_dayBegins_171 : decode cX1_dayBegins 171 = .ok (.aload_n 0, 1) := dk_42 (dk_at dksX1_dayBegins_7 13 rfl rfl)
theorem dX1_dayBegins_172 : decode cX1_dayBegins 172 = .ok (.aload_n 0, 1) := dk_42 (dk_at dksX1_dayBegins_7 14 rfl rfl)
theorem dX1_dayBegins_173 : decode cX1_dayBegins 173 = .ok (.getfield 40, 3) := dk_180 0 40 (dk_at dksX1_dayBegins_7 15 rfl rfl)
theorem dX1_dayBegins_176 : decode cX1_dayBegins 176 = .ok (.iload_n 1, 1) := dk_27 (dk_at dksX1_dayBegins_7 18 rfl rfl)
theorem dX1_dayBegins_177 : decode cX1_dayBegins 177 = .ok (.invokeinterface 83 2, 5) := by decide +kernel
theorem dX1_dayBegins_182 : decode cX1_dayBegins 182 = .ok (.checkcast 87, 3) := dk_192 0 87 (dk_at dksX1_dayBegins_8 0 rfl rfl)
theorem dX1_dayBegins_185 : decode cX1_dayBegins 185 = .ok (.aload_n 0, 1) := dk_42 (dk_at dksX1_dayBegins_8 3 rfl rfl)
theorem dX1_dayBegins_186 : decode cX1_dayBegins 186 = .ok (.getfield 177, 3) := dk_180 0 177 (dk_at dksX1_dayBegins_8 4 rfl rfl)
theorem dX1_dayBegins_189 : decode cX1_dayBegins 189 = .ok (.bipush 30, 2) := dk_16 30 (dk_at dksX1_dayBegins_8 7 rfl rfl)
theorem dX1_dayBegins_191 : decode cX1_dayBegins 191 = .ok (.idiv, 1) := dk_108 (dk_at dksX1_dayBegins_8 9 rfl rfl)
theorem dX1_dayBegins_192 : decode cX1_dayBegins 192 = .ok (.invokevirtual 266, 3) := dk_182 1 10 (dk_at dksX1_dayBegins_8 10 rfl rfl)
theorem dX1_dayBegins_195 : decode cX1_dayBegins 195 = .ok (.iinc 1 1, 3) := dk_132 1 1 (dk_at dksX1_dayBegins_8 13 rfl rfl)
theorem dX1_dayBegins_198 : decode cX1_dayBegins 198 = .ok (.goto (-50), 3) := dk_167 255 206 (dk_at dksX1_dayBegins_8 16 rfl rfl)
theorem dX1_dayBegins_201 : decode cX1_dayBegins 201 = .ok (.return_, 1) := dk_177 (dk_at dksX1_dayBegins_8 19 rfl rfl)
abbrev cX1_monthBegins : ByteArray := prog_1_method_31_code
def yX1_monthBegins : MethodName := ⟨RX1, "monthBegins", "(LAppealrent$Case;I)V"⟩
def dkwX1_monthBegins_5 : List UInt8 := [42, 43, 28, 182, 0, 252, 62, 29, 158, 0, 10, 42, 43, 28, 29, 182, 1, 2, 177]
abbrev dktX1_monthBegins_5 : List UInt8 := dkwX1_monthBegins_5 ++ []
def dkwX1_monthBegins_4 : List UInt8 := [185, 0, 71, 2, 0, 54, 5, 132, 3, 1, 167, 255, 158, 43, 182, 0, 187, 153, 0, 7, 3, 167, 0, 9]
abbrev dktX1_monthBegins_4 : List UInt8 := dkwX1_monthBegins_4 ++ dktX1_monthBegins_5
def dkwX1_monthBegins_3 : List UInt8 := [180, 0, 50, 185, 0, 77, 1, 0, 43, 29, 42, 180, 0, 177, 21, 4, 116, 183, 1, 6]
abbrev dktX1_monthBegins_3 : List UInt8 := dkwX1_monthBegins_3 ++ dktX1_monthBegins_4
def dkwX1_monthBegins_2 : List UInt8 := [156, 0, 50, 43, 180, 0, 255, 29, 92, 46, 21, 4, 100, 79, 42, 180, 0, 50, 187, 0, 91, 89, 42]
abbrev dktX1_monthBegins_2 : List UInt8 := dkwX1_monthBegins_2 ++ dktX1_monthBegins_3
def dkwX1_monthBegins_1 : List UInt8 := [29, 46, 96, 54, 4, 21, 4, 158, 0, 14, 42, 43, 29, 21, 4, 182, 1, 2, 167, 0, 55, 21, 4]
abbrev dktX1_monthBegins_1 : List UInt8 := dkwX1_monthBegins_1 ++ dktX1_monthBegins_2
def dkwX1_monthBegins_0 : List UInt8 := [3, 62, 29, 28, 162, 0, 99, 42, 43, 29, 182, 0, 252, 43, 180, 0, 234, 29, 46, 100, 43, 180, 0, 255]
abbrev dktX1_monthBegins_0 : List UInt8 := dkwX1_monthBegins_0 ++ dktX1_monthBegins_1
theorem dksX1_monthBegins_0 : cX1_monthBegins.data.toList.drop 0 = dktX1_monthBegins_0 := by decide +kernel
theorem dksX1_monthBegins_1 : cX1_monthBegins.data.toList.drop 24 = dktX1_monthBegins_1 := dk_seg dksX1_monthBegins_0 24 rfl rfl
theorem dksX1_monthBegins_2 : cX1_monthBegins.data.toList.drop 47 = dktX1_monthBegins_2 := dk_seg dksX1_monthBegins_1 23 rfl rfl
theorem dksX1_monthBegins_3 : cX1_monthBegins.data.toList.drop 70 = dktX1_monthBegins_3 := dk_seg dksX1_monthBegins_2 23 rfl rfl
theorem dksX1_monthBegins_4 : cX1_monthBegins.data.toList.drop 90 = dktX1_monthBegins_4 := dk_seg dksX1_monthBegins_3 20 rfl rfl
theorem dksX1_monthBegins_5 : cX1_monthBegins.data.toList.drop 114 = dktX1_monthBegins_5 := dk_seg dksX1_monthBegins_4 24 rfl rfl
theorem dX1_monthBegins_0 : decode cX1_monthBegins 0 = .ok (.iconst 0, 1) := dk_3 (dk_at dksX1_monthBegins_0 0 rfl rfl)
theorem dX1_monthBegins_1 : decode cX1_monthBegins 1 = .ok (.istore_n 3, 1) := dk_62 (dk_at dksX1_monthBegins_0 1 rfl rfl)
theorem dX1_monthBegins_2 : decode cX1_monthBegins 2 = .ok (.iload_n 3, 1) := dk_29 (dk_at dksX1_monthBegins_0 2 rfl rfl)
theorem dX1_monthBegins_3 : decode cX1_monthBegins 3 = .ok (.iload_n 2, 1) := dk_28 (dk_at dksX1_monthBegins_0 3 rfl rfl)
theorem dX1_monthBegins_4 : decode cX1_monthBegins 4 = .ok (.if_icmp .ge 99, 3) := dk_162 0 99 (dk_at dksX1_monthBegins_0 4 rfl rfl)
theorem dX1_monthBegins_7 : decode cX1_monthBegins 7 = .ok (.aload_n 0, 1) := dk_42 (dk_at dksX1_monthBegins_0 7 rfl rfl)
theorem dX1_monthBegins_8 : decode cX1_monthBegins 8 = .ok (.aload_n 1, 1) := dk_43 (dk_at dksX1_monthBegins_0 8 rfl rfl)
theorem dX1_monthBegins_9 : decode cX1_monthBegins 9 = .ok (.iload_n 3, 1) := dk_29 (dk_at dksX1_monthBegins_0 9 rfl rfl)
theorem dX1_monthBegins_10 : decode cX1_monthBegins 10 = .ok (.invokevirtual 252, 3) := dk_182 0 252 (dk_at dksX1_monthBegins_0 10 rfl rfl)
theorem dX1_monthBegins_13 : decode cX1_monthBegins 13 = .ok (.aload_n 1, 1) := dk_43 (dk_at dksX1_monthBegins_0 13 rfl rfl)
theorem dX1_monthBegins_14 : decode cX1_monthBegins 14 = .ok (.getfield 234, 3) := dk_180 0 234 (dk_at dksX1_monthBegins_0 14 rfl rfl)
theorem dX1_monthBegins_17 : decode cX1_monthBegins 17 = .ok (.iload_n 3, 1) := dk_29 (dk_at dksX1_monthBegins_0 17 rfl rfl)
theorem dX1_monthBegins_18 : decode cX1_monthBegins 18 = .ok (.iaload, 1) := dk_46 (dk_at dksX1_monthBegins_0 18 rfl rfl)
theorem dX1_monthBegins_19 : decode cX1_monthBegins 19 = .ok (.isub, 1) := dk_100 (dk_at dksX1_monthBegins_0 19 rfl rfl)
theorem dX1_monthBegins_20 : decode cX1_monthBegins 20 = .ok (.aload_n 1, 1) := dk_43 (dk_at dksX1_monthBegins_0 20 rfl rfl)
theorem dX1_monthBegins_21 : decode cX1_monthBegins 21 = .ok (.getfield 255, 3) := dk_180 0 255 (dk_at dksX1_monthBegins_0 21 rfl rfl)
theorem dX1_monthBegins_24 : decode cX1_monthBegins 24 = .ok (.iload_n 3, 1) := dk_29 (dk_at dksX1_monthBegins_1 0 rfl rfl)
theorem dX1_monthBegins_25 : decode cX1_monthBegins 25 = .ok (.iaload, 1) := dk_46 (dk_at dksX1_monthBegins_1 1 rfl rfl)
theorem dX1_monthBegins_26 : decode cX1_monthBegins 26 = .ok (.iadd, 1) := dk_96 (dk_at dksX1_monthBegins_1 2 rfl rfl)
theorem dX1_monthBegins_27 : decode cX1_monthBegins 27 = .ok (.istore 4, 2) := dk_54 4 (dk_at dksX1_monthBegins_1 3 rfl rfl)
theorem dX1_monthBegins_29 : decode cX1_monthBegins 29 = .ok (.iload 4, 2) := dk_21 4 (dk_at dksX1_monthBegins_1 5 rfl rfl)
theorem dX1_monthBegins_31 : decode cX1_monthBegins 31 = .ok (.ifCond .le 14, 3) := dk_158 0 14 (dk_at dksX1_monthBegins_1 7 rfl rfl)
theorem dX1_monthBegins_34 : decode cX1_monthBegins 34 = .ok (.aload_n 0, 1) := dk_42 (dk_at dksX1_monthBegins_1 10 rfl rfl)
theorem dX1_monthBegins_35 : decode cX1_monthBegins 35 = .ok (.aload_n 1, 1) := dk_43 (dk_at dksX1_monthBegins_1 11 rfl rfl)
theorem dX1_monthBegins_36 : decode cX1_monthBegins 36 = .ok (.iload_n 3, 1) := dk_29 (dk_at dksX1_monthBegins_1 12 rfl rfl)
theorem dX1_monthBegins_37 : decode cX1_monthBegins 37 = .ok (.iload 4, 2) := dk_21 4 (dk_at dksX1_monthBegins_1 13 rfl rfl)
theorem dX1_monthBegins_39 : decode cX1_monthBegins 39 = .ok (.invokevirtual 258, 3) := dk_182 1 2 (dk_at dksX1_monthBegins_1 15 rfl rfl)
theorem dX1_monthBegins_42 : decode cX1_monthBegins 42 = .ok (.goto 55, 3) := dk_167 0 55 (dk_at dksX1_monthBegins_1 18 rfl rfl)
theorem dX1_monthBegins_45 : decode cX1_monthBegins 45 = .ok (.iload 4, 2) := dk_21 4 (dk_at dksX1_monthBegins_1 21 rfl rfl)
theorem dX1_monthBegins_47 : decode cX1_monthBegins 47 = .ok (.ifCond .ge 50, 3) := dk_156 0 50 (dk_at dksX1_monthBegins_2 0 rfl rfl)
theorem dX1_monthBegins_50 : decode cX1_monthBegins 50 = .ok (.aload_n 1, 1) := dk_43 (dk_at dksX1_monthBegins_2 3 rfl rfl)
theorem dX1_monthBegins_51 : decode cX1_monthBegins 51 = .ok (.getfield 255, 3) := dk_180 0 255 (dk_at dksX1_monthBegins_2 4 rfl rfl)
theorem dX1_monthBegins_54 : decode cX1_monthBegins 54 = .ok (.iload_n 3, 1) := dk_29 (dk_at dksX1_monthBegins_2 7 rfl rfl)
theorem dX1_monthBegins_55 : decode cX1_monthBegins 55 = .ok (.dup2, 1) := dk_92 (dk_at dksX1_monthBegins_2 8 rfl rfl)
theorem dX1_monthBegins_56 : decode cX1_monthBegins 56 = .ok (.iaload, 1) := dk_46 (dk_at dksX1_monthBegins_2 9 rfl rfl)
theorem dX1_monthBegins_57 : decode cX1_monthBegins 57 = .ok (.iload 4, 2) := dk_21 4 (dk_at dksX1_monthBegins_2 10 rfl rfl)
theorem dX1_monthBegins_59 : decode cX1_monthBegins 59 = .ok (.isub, 1) := dk_100 (dk_at dksX1_monthBegins_2 12 rfl rfl)
theorem dX1_monthBegins_60 : decode cX1_monthBegins 60 = .ok (.iastore, 1) := dk_79 (dk_at dksX1_monthBegins_2 13 rfl rfl)
theorem dX1_monthBegins_61 : decode cX1_monthBegins 61 = .ok (.aload_n 0, 1) := dk_42 (dk_at dksX1_monthBegins_2 14 rfl rfl)
theorem dX1_monthBegins_62 : decode cX1_monthBegins 62 = .ok (.getfield 50, 3) := dk_180 0 50 (dk_at dksX1_monthBegins_2 15 rfl rfl)
theorem dX1_monthBegins_65 : decode cX1_monthBegins 65 = .ok (.new 91, 3) := dk_187 0 91 (dk_at dksX1_monthBegins_2 18 rfl rfl)
theorem dX1_monthBegins_68 : decode cX1_monthBegins 68 = .ok (.dup, 1) := dk_89 (dk_at dksX1_monthBegins_2 21 rfl rfl)
theorem dX1_monthBegins_69 : decode cX1_monthBegins 69 = .ok (.aload_n 0, 1) := dk_42 (dk_at dksX1_monthBegins_2 22 rfl rfl)
theorem dX1_monthBegins_70 : decode cX1_monthBegins 70 = .ok (.getfield 50, 3) := dk_180 0 50 (dk_at dksX1_monthBegins_3 0 rfl rfl)
theorem dX1_monthBegins_73 : decode cX1_monthBegins 73 = .ok (.invokeinterface 77 1, 5) := by decide +kernel
theorem dX1_monthBegins_78 : decode cX1_monthBegins 78 = .ok (.aload_n 1, 1) := dk_43 (dk_at dksX1_monthBegins_3 8 rfl rfl)
theorem dX1_monthBegins_79 : decode cX1_monthBegins 79 = .ok (.iload_n 3, 1) := dk_29 (dk_at dksX1_monthBegins_3 9 rfl rfl)
theorem dX1_monthBegins_80 : decode cX1_monthBegins 80 = .ok (.aload_n 0, 1) := dk_42 (dk_at dksX1_monthBegins_3 10 rfl rfl)
theorem dX1_monthBegins_81 : decode cX1_monthBegins 81 = .ok (.getfield 177, 3) := dk_180 0 177 (dk_at dksX1_monthBegins_3 11 rfl rfl)
theorem dX1_monthBegins_84 : decode cX1_monthBegins 84 = .ok (.iload 4, 2) := dk_21 4 (dk_at dksX1_monthBegins_3 14 rfl rfl)
theorem dX1_monthBegins_86 : decode cX1_monthBegins 86 = .ok (.ineg, 1) := dk_116 (dk_at dksX1_monthBegins_3 16 rfl rfl)
theorem dX1_monthBegins_87 : decode cX1_monthBegins 87 = .ok (.invokespecial 262, 3) := dk_183 1 6 (dk_at dksX1_monthBegins_3 17 rfl rfl)
theorem dX1_monthBegins_90 : decode cX1_monthBegins 90 = .ok (.invokeinterface 71 2, 5) := by decide +kernel
theorem dX1_monthBegins_95 : decode cX1_monthBegins 95 = .ok (.istore 5, 2) := dk_54 5 (dk_at dksX1_monthBegins_4 5 rfl rfl)
theorem dX1_monthBegins_97 : decode cX1_monthBegins 97 = .ok (.iinc 3 1, 3) := dk_132 3 1 (dk_at dksX1_monthBegins_4 7 rfl rfl)
theorem dX1_monthBegins_100 : decode cX1_monthBegins 100 = .ok (.goto (-98), 3) := dk_167 255 158 (dk_at dksX1_monthBegins_4 10 rfl rfl)
theorem dX1_monthBegins_103 : decode cX1_monthBegins 103 = .ok (.aload_n 1, 1) := dk_43 (dk_at dksX1_monthBegins_4 13 rfl rfl)
theorem dX1_monthBegins_104 : decode cX1_monthBegins 104 = .ok (.invokevirtual 187, 3) := dk_182 0 187 (dk_at dksX1_monthBegins_4 14 rfl rfl)
theorem dX1_monthBegins_107 : decode cX1_monthBegins 107 = .ok (.ifCond .eq 7, 3) := dk_153 0 7 (dk_at dksX1_monthBegins_4 17 rfl rfl)
theorem dX1_monthBegins_110 : decode cX1_monthBegins 110 = .ok (.iconst 0, 1) := dk_3 (dk_at dksX1_monthBegins_4 20 rfl rfl)
theorem dX1_monthBegins_111 : decode cX1_monthBegins 111 = .ok (.goto 9, 3) := dk_167 0 9 (dk_at dksX1_monthBegins_4 21 rfl rfl)
theorem dX1_monthBegins_114 : decode cX1_monthBegins 114 = .ok (.aload_n 0, 1) := dk_42 (dk_at dksX1_monthBegins_5 0 rfl rfl)
theorem dX1_monthBegins_115 : decode cX1_monthBegins 115 = .ok (.aload_n 1, 1) := dk_43 (dk_at dksX1_monthBegins_5 1 rfl rfl)
theorem dX1_monthBegins_116 : decode cX1_monthBegins 116 = .ok (.iload_n 2, 1) := dk_28 (dk_at dksX1_monthBegins_5 2 rfl rfl)
theorem dX1_monthBegins_117 : decode cX1_monthBegins 117 = .ok (.invokevirtual 252, 3) := dk_182 0 252 (dk_at dksX1_monthBegins_5 3 rfl rfl)
theorem dX1_monthBegins_120 : decode cX1_monthBegins 120 = .ok (.istore_n 3, 1) := dk_62 (dk_at dksX1_monthBegins_5 6 rfl rfl)
theorem dX1_monthBegins_121 : decode cX1_monthBegins 121 = .ok (.iload_n 3, 1) := dk_29 (dk_at dksX1_monthBegins_5 7 rfl rfl)
theorem dX1_monthBegins_122 : decode cX1_monthBegins 122 = .ok (.ifCond .le 10, 3) := dk_158 0 10 (dk_at dksX1_monthBegins_5 8 rfl rfl)
theorem dX1_monthBegins_125 : decode cX1_monthBegins 125 = .ok (.aload_n 0, 1) := dk_42 (dk_at dksX1_monthBegins_5 11 rfl rfl)
theorem dX1_monthBegins_126 : decode cX1_monthBegins 126 = .ok (.aload_n 1, 1) := dk_43 (dk_at dksX1_monthBegins_5 12 rfl rfl)
theorem dX1_monthBegins_127 : decode cX1_monthBegins 127 = .ok (.iload_n 2, 1) := dk_28 (dk_at dksX1_monthBegins_5 13 rfl rfl)
theorem dX1_monthBegins_128 : decode cX1_monthBegins 128 = .ok (.iload_n 3, 1) := dk_29 (dk_at dksX1_monthBegins_5 14 rfl rfl)
theorem dX1_monthBegins_129 : decode cX1_monthBegins 129 = .ok (.invokevirtual 258, 3) := dk_182 1 2 (dk_at dksX1_monthBegins_5 15 rfl rfl)
theorem dX1_monthBegins_132 : decode cX1_monthBegins 132 = .ok (.return_, 1) := dk_177 (dk_at dksX1_monthBegins_5 18 rfl rfl)
abbrev cX1_pays : ByteArray := prog_1_method_30_code
def yX1_pays : MethodName := ⟨RX1, "pays", "(LAppealrent$Case;II)V"⟩
def dkwX1_pays_6 : List UInt8 := [54, 4, 132, 5, 1, 167, 255, 174, 177]
abbrev dktX1_pays_6 : List UInt8 := dkwX1_pays_6 ++ []
def dkwX1_pays_5 : List UInt8 := [21, 4, 25, 6, 180, 0, 160, 184, 0, 241, 54, 7, 25, 6, 21, 7, 182, 0, 230, 21, 4, 21, 7, 100]
abbrev dktX1_pays_5 : List UInt8 := dkwX1_pays_5 ++ dktX1_pays_6
def dkwX1_pays_4 : List UInt8 := [192, 0, 91, 58, 6, 25, 6, 180, 0, 158, 43, 166, 0, 38, 25, 6, 180, 0, 159, 5, 160, 0, 29]
abbrev dktX1_pays_4 : List UInt8 := dkwX1_pays_4 ++ dktX1_pays_5
def dkwX1_pays_3 : List UInt8 := [185, 0, 77, 1, 0, 162, 0, 74, 21, 4, 158, 0, 69, 42, 180, 0, 50, 21, 5, 185, 0, 83, 2, 0]
abbrev dktX1_pays_3 : List UInt8 := dkwX1_pays_3 ++ dktX1_pays_4
def dkwX1_pays_2 : List UInt8 := [180, 0, 177, 6, 182, 0, 146, 92, 46, 29, 21, 4, 100, 96, 79, 3, 54, 5, 21, 5, 42, 180, 0, 50]
abbrev dktX1_pays_2 : List UInt8 := dkwX1_pays_2 ++ dktX1_pays_3
def dkwX1_pays_1 : List UInt8 := [184, 0, 241, 54, 4, 43, 89, 180, 0, 246, 21, 4, 96, 181, 0, 246, 43, 180, 0, 249, 42, 43, 42]
abbrev dktX1_pays_1 : List UInt8 := dkwX1_pays_1 ++ dktX1_pays_2
def dkwX1_pays_0 : List UInt8 := [43, 180, 0, 234, 28, 92, 46, 29, 96, 79, 29, 16, 20, 104, 16, 100, 108, 42, 43, 4, 182, 0, 237]
abbrev dktX1_pays_0 : List UInt8 := dkwX1_pays_0 ++ dktX1_pays_1
theorem dksX1_pays_0 : cX1_pays.data.toList.drop 0 = dktX1_pays_0 := by decide +kernel
theorem dksX1_pays_1 : cX1_pays.data.toList.drop 23 = dktX1_pays_1 := dk_seg dksX1_pays_0 23 rfl rfl
theorem dksX1_pays_2 : cX1_pays.data.toList.drop 46 = dktX1_pays_2 := dk_seg dksX1_pays_1 23 rfl rfl
theorem dksX1_pays_3 : cX1_pays.data.toList.drop 70 = dktX1_pays_3 := dk_seg dksX1_pays_2 24 rfl rfl
theorem dksX1_pays_4 : cX1_pays.data.toList.drop 94 = dktX1_pays_4 := dk_seg dksX1_pays_3 24 rfl rfl
theorem dksX1_pays_5 : cX1_pays.data.toList.drop 117 = dktX1_pays_5 := dk_seg dksX1_pays_4 23 rfl rfl
theorem dksX1_pays_6 : cX1_pays.data.toList.drop 141 = dktX1_pays_6 := dk_seg dksX1_pays_5 24 rfl rfl
theorem dX1_pays_0 : decode cX1_pays 0 = .ok (.aload_n 1, 1) := dk_43 (dk_at dksX1_pays_0 0 rfl rfl)
theorem dX1_pays_1 : decode cX1_pays 1 = .ok (.getfield 234, 3) := dk_180 0 234 (dk_at dksX1_pays_0 1 rfl rfl)
theorem dX1_pays_4 : decode cX1_pays 4 = .ok (.iload_n 2, 1) := dk_28 (dk_at dksX1_pays_0 4 rfl rfl)
theorem dX1_pays_5 : decode cX1_pays 5 = .ok (.dup2, 1) := dk_92 (dk_at dksX1_pays_0 5 rfl rfl)
theorem dX1_pays_6 : decode cX1_pays 6 = .ok (.iaload, 1) := dk_46 (dk_at dksX1_pays_0 6 rfl rfl)
theorem dX1_pays_7 : decode cX1_pays 7 = .ok (.iload_n 3, 1) := dk_29 (dk_at dksX1_pays_0 7 rfl rfl)
theorem dX1_pays_8 : decode cX1_pays 8 = .ok (.iadd, 1) := dk_96 (dk_at dksX1_pays_0 8 rfl rfl)
theorem dX1_pays_9 : decode cX1_pays 9 = .ok (.iastore, 1) := dk_79 (dk_at dksX1_pays_0 9 rfl rfl)
theorem dX1_pays_10 : decode cX1_pays 10 = .ok (.iload_n 3, 1) := dk_29 (dk_at dksX1_pays_0 10 rfl rfl)
theorem dX1_pays_11 : decode cX1_pays 11 = .ok (.bipush 20, 2) := dk_16 20 (dk_at dksX1_pays_0 11 rfl rfl)
theorem dX1_pays_13 : decode cX1_pays 13 = .ok (.imul, 1) := dk_104 (dk_at dksX1_pays_0 13 rfl rfl)
theorem dX1_pays_14 : decode cX1_pays 14 = .ok (.bipush 100, 2) := dk_16 100 (dk_at dksX1_pays_0 14 rfl rfl)
theorem dX1_pays_16 : decode cX1_pays 16 = .ok (.idiv, 1) := dk_108 (dk_at dksX1_pays_0 16 rfl rfl)
theorem dX1_pays_17 : decode cX1_pays 17 = .ok (.aload_n 0, 1) := dk_42 (dk_at dksX1_pays_0 17 rfl rfl)
theorem dX1_pays_18 : decode cX1_pays 18 = .ok (.aload_n 1, 1) := dk_43 (dk_at dksX1_pays_0 18 rfl rfl)
theorem dX1_pays_19 : decode cX1_pays 19 = .ok (.iconst 1, 1) := dk_4 (dk_at dksX1_pays_0 19 rfl rfl)
theorem dX1_pays_20 : decode cX1_pays 20 = .ok (.invokevirtual 237, 3) := dk_182 0 237 (dk_at dksX1_pays_0 20 rfl rfl)
theorem dX1_pays_23 : decode cX1_pays 23 = .ok (.invokestatic 241, 3) := dk_184 0 241 (dk_at dksX1_pays_1 0 rfl rfl)
theorem dX1_pays_26 : decode cX1_pays 26 = .ok (.istore 4, 2) := dk_54 4 (dk_at dksX1_pays_1 3 rfl rfl)
theorem dX1_pays_28 : decode cX1_pays 28 = .ok (.aload_n 1, 1) := dk_43 (dk_at dksX1_pays_1 5 rfl rfl)
theorem dX1_pays_29 : decode cX1_pays 29 = .ok (.dup, 1) := dk_89 (dk_at dksX1_pays_1 6 rfl rfl)
theorem dX1_pays_30 : decode cX1_pays 30 = .ok (.getfield 246, 3) := dk_180 0 246 (dk_at dksX1_pays_1 7 rfl rfl)
theorem dX1_pays_33 : decode cX1_pays 33 = .ok (.iload 4, 2) := dk_21 4 (dk_at dksX1_pays_1 10 rfl rfl)
theorem dX1_pays_35 : decode cX1_pays 35 = .ok (.iadd, 1) := dk_96 (dk_at dksX1_pays_1 12 rfl rfl)
theorem dX1_pays_36 : decode cX1_pays 36 = .ok (.putfield 246, 3) := dk_181 0 246 (dk_at dksX1_pays_1 13 rfl rfl)
theorem dX1_pays_39 : decode cX1_pays 39 = .ok (.aload_n 1, 1) := dk_43 (dk_at dksX1_pays_1 16 rfl rfl)
theorem dX1_pays_40 : decode cX1_pays 40 = .ok (.getfield 249, 3) := dk_180 0 249 (dk_at dksX1_pays_1 17 rfl rfl)
theorem dX1_pays_43 : decode cX1_pays 43 = .ok (.aload_n 0, 1) := dk_42 (dk_at dksX1_pays_1 20 rfl rfl)
theorem dX1_pays_44 : decode cX1_pays 44 = .ok (.aload_n 1, 1) := dk_43 (dk_at dksX1_pays_1 21 rfl rfl)
theorem dX1_pays_45 : decode cX1_pays 45 = .ok (.aload_n 0, 1) := dk_42 (dk_at dksX1_pays_1 22 rfl rfl)
theorem dX1_pays_46 : decode cX1_pays 46 = .ok (.getfield 177, 3) := dk_180 0 177 (dk_at dksX1_pays_2 0 rfl rfl)
theorem dX1_pays_49 : decode cX1_pays 49 = .ok (.iconst 3, 1) := dk_6 (dk_at dksX1_pays_2 3 rfl rfl)
theorem dX1_pays_50 : decode cX1_pays 50 = .ok (.invokevirtual 146, 3) := dk_182 0 146 (dk_at dksX1_pays_2 4 rfl rfl)
theorem dX1_pays_53 : decode cX1_pays 53 = .ok (.dup2, 1) := dk_92 (dk_at dksX1_pays_2 7 rfl rfl)
theorem dX1_pays_54 : decode cX1_pays 54 = .ok (.iaload, 1) := dk_46 (dk_at dksX1_pays_2 8 rfl rfl)
theorem dX1_pays_55 : decode cX1_pays 55 = .ok (.iload_n 3, 1) := dk_29 (dk_at dksX1_pays_2 9 rfl rfl)
theorem dX1_pays_56 : decode cX1_pays 56 = .ok (.iload 4, 2) := dk_21 4 (dk_at dksX1_pays_2 10 rfl rfl)
theorem dX1_pays_58 : decode cX1_pays 58 = .ok (.isub, 1) := dk_100 (dk_at dksX1_pays_2 12 rfl rfl)
theorem dX1_pays_59 : decode cX1_pays 59 = .ok (.iadd, 1) := dk_96 (dk_at dksX1_pays_2 13 rfl rfl)
theorem dX1_pays_60 : decode cX1_pays 60 = .ok (.iastore, 1) := dk_79 (dk_at dksX1_pays_2 14 rfl rfl)
theorem dX1_pays_61 : decode cX1_pays 61 = .ok (.iconst 0, 1) := dk_3 (dk_at dksX1_pays_2 15 rfl rfl)
theorem dX1_pays_62 : decode cX1_pays 62 = .ok (.istore 5, 2) := dk_54 5 (dk_at dksX1_pays_2 16 rfl rfl)
theorem dX1_pays_64 : decode cX1_pays 64 = .ok (.iload 5, 2) := dk_21 5 (dk_at dksX1_pays_2 18 rfl rfl)
theorem dX1_pays_66 : decode cX1_pays 66 = .ok (.aload_n 0, 1) := dk_42 (dk_at dksX1_pays_2 20 rfl rfl)
theorem dX1_pays_67 : decode cX1_pays 67 = .ok (.getfield 50, 3) := dk_180 0 50 (dk_at dksX1_pays_2 21 rfl rfl)
theorem dX1_pays_70 : decode cX1_pays 70 = .ok (.invokeinterface 77 1, 5) := by decide +kernel
theorem dX1_pays_75 : decode cX1_pays 75 = .ok (.if_icmp .ge 74, 3) := dk_162 0 74 (dk_at dksX1_pays_3 5 rfl rfl)
theorem dX1_pays_78 : decode cX1_pays 78 = .ok (.iload 4, 2) := dk_21 4 (dk_at dksX1_pays_3 8 rfl rfl)
theorem dX1_pays_80 : decode cX1_pays 80 = .ok (.ifCond .le 69, 3) := dk_158 0 69 (dk_at dksX1_pays_3 10 rfl rfl)
theorem dX1_pays_83 : decode cX1_pays 83 = .ok (.aload_n 0, 1) := dk_42 (dk_at dksX1_pays_3 13 rfl rfl)
theorem dX1_pays_84 : decode cX1_pays 84 = .ok (.getfield 50, 3) := dk_180 0 50 (dk_at dksX1_pays_3 14 rfl rfl)
theorem dX1_pays_87 : decode cX1_pays 87 = .ok (.iload 5, 2) := dk_21 5 (dk_at dksX1_pays_3 17 rfl rfl)
theorem dX1_pays_89 : decode cX1_pays 89 = .ok (.invokeinterface 83 2, 5) := by decide +kernel
theorem dX1_pays_94 : decode cX1_pays 94 = .ok (.checkcast 91, 3) := dk_192 0 91 (dk_at dksX1_pays_4 0 rfl rfl)
theorem dX1_pays_97 : decode cX1_pays 97 = .ok (.astore 6, 2) := dk_58 6 (dk_at dksX1_pays_4 3 rfl rfl)
theorem dX1_pays_99 : decode cX1_pays 99 = .ok (.aload 6, 2) := dk_25 6 (dk_at dksX1_pays_4 5 rfl rfl)
theorem dX1_pays_101 : decode cX1_pays 101 = .ok (.getfield 158, 3) := dk_180 0 158 (dk_at dksX1_pays_4 7 rfl rfl)
theorem dX1_pays_104 : decode cX1_pays 104 = .ok (.aload_n 1, 1) := dk_43 (dk_at dksX1_pays_4 10 rfl rfl)
theorem dX1_pays_105 : decode cX1_pays 105 = .ok (.if_acmp .ne 38, 3) := dk_166 0 38 (dk_at dksX1_pays_4 11 rfl rfl)
theorem dX1_pays_108 : decode cX1_pays 108 = .ok (.aload 6, 2) := dk_25 6 (dk_at dksX1_pays_4 14 rfl rfl)
theorem dX1_pays_110 : decode cX1_pays 110 = .ok (.getfield 159, 3) := dk_180 0 159 (dk_at dksX1_pays_4 16 rfl rfl)
theorem dX1_pays_113 : decode cX1_pays 113 = .ok (.iconst 2, 1) := dk_5 (dk_at dksX1_pays_4 19 rfl rfl)
theorem dX1_pays_114 : decode cX1_pays 114 = .ok (.if_icmp .ne 29, 3) := dk_160 0 29 (dk_at dksX1_pays_4 20 rfl rfl)
theorem dX1_pays_117 : decode cX1_pays 117 = .ok (.iload 4, 2) := dk_21 4 (dk_at dksX1_pays_5 0 rfl rfl)
theorem dX1_pays_119 : decode cX1_pays 119 = .ok (.aload 6, 2) := dk_25 6 (dk_at dksX1_pays_5 2 rfl rfl)
theorem dX1_pays_121 : decode cX1_pays 121 = .ok (.getfield 160, 3) := dk_180 0 160 (dk_at dksX1_pays_5 4 rfl rfl)
theorem dX1_pays_124 : decode cX1_pays 124 = .ok (.invokestatic 241, 3) := dk_184 0 241 (dk_at dksX1_pays_5 7 rfl rfl)
theorem dX1_pays_127 : decode cX1_pays 127 = .ok (.istore 7, 2) := dk_54 7 (dk_at dksX1_pays_5 10 rfl rfl)
theorem dX1_pays_129 : decode cX1_pays 129 = .ok (.aload 6, 2) := dk_25 6 (dk_at dksX1_pays_5 12 rfl rfl)
theorem dX1_pays_131 : decode cX1_pays 131 = .ok (.iload 7, 2) := dk_21 7 (dk_at dksX1_pays_5 14 rfl rfl)
theorem dX1_pays_133 : decode cX1_pays 133 = .ok (.invokevirtual 230, 3) := dk_182 0 230 (dk_at dksX1_pays_5 16 rfl rfl)
theorem dX1_pays_136 : decode cX1_pays 136 = .ok (.iload 4, 2) := dk_21 4 (dk_at dksX1_pays_5 19 rfl rfl)
theorem dX1_pays_138 : decode cX1_pays 138 = .ok (.iload 7, 2) := dk_21 7 (dk_at dksX1_pays_5 21 rfl rfl)
theorem dX1_pays_140 : decode cX1_pays 140 = .ok (.isub, 1) := dk_100 (dk_at dksX1_pays_5 23 rfl rfl)
theorem dX1_pays_141 : decode cX1_pays 141 = .ok (.istore 4, 2) := dk_54 4 (dk_at dksX1_pays_6 0 rfl rfl)
theorem dX1_pays_143 : decode cX1_pays 143 = .ok (.iinc 5 1, 3) := dk_132 5 1 (dk_at dksX1_pays_6 2 rfl rfl)
theorem dX1_pays_146 : decode cX1_pays 146 = .ok (.goto (-82), 3) := dk_167 255 174 (dk_at dksX1_pays_6 5 rfl rfl)
theorem dX1_pays_149 : decode cX1_pays 149 = .ok (.return_, 1) := dk_177 (dk_at dksX1_pays_6 8 rfl rfl)
abbrev cX1_leftOf : ByteArray := prog_1_method_18_code
def yX1_leftOf : MethodName := ⟨RX1, "leftOf", "(LAppealrent$Case;Z)I"⟩
def dkwX1_leftOf_3 : List UInt8 := [132, 4, 1, 167, 255, 189, 29, 172]
abbrev dktX1_leftOf_3 : List UInt8 := dkwX1_leftOf_3 ++ []
def dkwX1_leftOf_2 : List UInt8 := [153, 0, 12, 25, 5, 180, 0, 159, 5, 160, 0, 11, 25, 5, 180, 0, 160, 167, 0, 4, 3, 96, 62]
abbrev dktX1_leftOf_2 : List UInt8 := dkwX1_leftOf_2 ++ dktX1_leftOf_3
def dkwX1_leftOf_1 : List UInt8 := [21, 4, 185, 0, 83, 2, 0, 192, 0, 91, 58, 5, 29, 25, 5, 180, 0, 158, 43, 166, 0, 24, 28]
abbrev dktX1_leftOf_1 : List UInt8 := dkwX1_leftOf_1 ++ dktX1_leftOf_2
def dkwX1_leftOf_0 : List UInt8 := [3, 62, 3, 54, 4, 21, 4, 42, 180, 0, 50, 185, 0, 77, 1, 0, 162, 0, 59, 42, 180, 0, 50]
abbrev dktX1_leftOf_0 : List UInt8 := dkwX1_leftOf_0 ++ dktX1_leftOf_1
theorem dksX1_leftOf_0 : cX1_leftOf.data.toList.drop 0 = dktX1_leftOf_0 := by decide +kernel
theorem dksX1_leftOf_1 : cX1_leftOf.data.toList.drop 23 = dktX1_leftOf_1 := dk_seg dksX1_leftOf_0 23 rfl rfl
theorem dksX1_leftOf_2 : cX1_leftOf.data.toList.drop 46 = dktX1_leftOf_2 := dk_seg dksX1_leftOf_1 23 rfl rfl
theorem dksX1_leftOf_3 : cX1_leftOf.data.toList.drop 69 = dktX1_leftOf_3 := dk_seg dksX1_leftOf_2 23 rfl rfl
theorem dX1_leftOf_0 : decode cX1_leftOf 0 = .ok (.iconst 0, 1) := dk_3 (dk_at dksX1_leftOf_0 0 rfl rfl)
theorem dX1_leftOf_1 : decode cX1_leftOf 1 = .ok (.istore_n 3, 1) := dk_62 (dk_at dksX1_leftOf_0 1 rfl rfl)
theorem dX1_leftOf_2 : decode cX1_leftOf 2 = .ok (.iconst 0, 1) := dk_3 (dk_at dksX1_leftOf_0 2 rfl rfl)
theorem dX1_leftOf_3 : decode cX1_leftOf 3 = .ok (.istore 4, 2) := dk_54 4 (dk_at dksX1_leftOf_0 3 rfl rfl)
theorem dX1_leftOf_5 : decode cX1_leftOf 5 = .ok (.iload 4, 2) := dk_21 4 (dk_at dksX1_leftOf_0 5 rfl rfl)
theorem dX1_leftOf_7 : decode cX1_leftOf 7 = .ok (.aload_n 0, 1) := dk_42 (dk_at dksX1_leftOf_0 7 rfl rfl)
theorem dX1_leftOf_8 : decode cX1_leftOf 8 = .ok (.getfield 50, 3) := dk_180 0 50 (dk_at dksX1_leftOf_0 8 rfl rfl)
theorem dX1_leftOf_11 : decode cX1_leftOf 11 = .ok (.invokeinterface 77 1, 5) := by decide +kernel
theorem dX1_leftOf_16 : decode cX1_leftOf 16 = .ok (.if_icmp .ge 59, 3) := dk_162 0 59 (dk_at dksX1_leftOf_0 16 rfl rfl)
theorem dX1_leftOf_19 : decode cX1_leftOf 19 = .ok (.aload_n 0, 1) := dk_42 (dk_at dksX1_leftOf_0 19 rfl rfl)
theorem dX1_leftOf_20 : decode cX1_leftOf 20 = .ok (.getfield 50, 3) := dk_180 0 50 (dk_at dksX1_leftOf_0 20 rfl rfl)
theorem dX1_leftOf_23 : decode cX1_leftOf 23 = .ok (.iload 4, 2) := dk_21 4 (dk_at dksX1_leftOf_1 0 rfl rfl)
theorem dX1_leftOf_25 : decode cX1_leftOf 25 = .ok (.invokeinterface 83 2, 5) := by decide +kernel
theorem dX1_leftOf_30 : decode cX1_leftOf 30 = .ok (.checkcast 91, 3) := dk_192 0 91 (dk_at dksX1_leftOf_1 7 rfl rfl)
theorem dX1_leftOf_33 : decode cX1_leftOf 33 = .ok (.astore 5, 2) := dk_58 5 (dk_at dksX1_leftOf_1 10 rfl rfl)
theorem dX1_leftOf_35 : decode cX1_leftOf 35 = .ok (.iload_n 3, 1) := dk_29 (dk_at dksX1_leftOf_1 12 rfl rfl)
theorem dX1_leftOf_36 : decode cX1_leftOf 36 = .ok (.aload 5, 2) := dk_25 5 (dk_at dksX1_leftOf_1 13 rfl rfl)
theorem dX1_leftOf_38 : decode cX1_leftOf 38 = .ok (.getfield 158, 3) := dk_180 0 158 (dk_at dksX1_leftOf_1 15 rfl rfl)
theorem dX1_leftOf_41 : decode cX1_leftOf 41 = .ok (.aload_n 1, 1) := dk_43 (dk_at dksX1_leftOf_1 18 rfl rfl)
theorem dX1_leftOf_42 : decode cX1_leftOf 42 = .ok (.if_acmp .ne 24, 3) := dk_166 0 24 (dk_at dksX1_leftOf_1 19 rfl rfl)
theorem dX1_leftOf_45 : decode cX1_leftOf 45 = .ok (.iload_n 2, 1) := dk_28 (dk_at dksX1_leftOf_1 22 rfl rfl)
theorem dX1_leftOf_46 : decode cX1_leftOf 46 = .ok (.ifCond .eq 12, 3) := dk_153 0 12 (dk_at dksX1_leftOf_2 0 rfl rfl)
theorem dX1_leftOf_49 : decode cX1_leftOf 49 = .ok (.aload 5, 2) := dk_25 5 (dk_at dksX1_leftOf_2 3 rfl rfl)
theorem dX1_leftOf_51 : decode cX1_leftOf 51 = .ok (.getfield 159, 3) := dk_180 0 159 (dk_at dksX1_leftOf_2 5 rfl rfl)
theorem dX1_leftOf_54 : decode cX1_leftOf 54 = .ok (.iconst 2, 1) := dk_5 (dk_at dksX1_leftOf_2 8 rfl rfl)
theorem dX1_leftOf_55 : decode cX1_leftOf 55 = .ok (.if_icmp .ne 11, 3) := dk_160 0 11 (dk_at dksX1_leftOf_2 9 rfl rfl)
theorem dX1_leftOf_58 : decode cX1_leftOf 58 = .ok (.aload 5, 2) := dk_25 5 (dk_at dksX1_leftOf_2 12 rfl rfl)
theorem dX1_leftOf_60 : decode cX1_leftOf 60 = .ok (.getfield 160, 3) := dk_180 0 160 (dk_at dksX1_leftOf_2 14 rfl rfl)
theorem dX1_leftOf_63 : decode cX1_leftOf 63 = .ok (.goto 4, 3) := dk_167 0 4 (dk_at dksX1_leftOf_2 17 rfl rfl)
theorem dX1_leftOf_66 : decode cX1_leftOf 66 = .ok (.iconst 0, 1) := dk_3 (dk_at dksX1_leftOf_2 20 rfl rfl)
theorem dX1_leftOf_67 : decode cX1_leftOf 67 = .ok (.iadd, 1) := dk_96 (dk_at dksX1_leftOf_2 21 rfl rfl)
theorem dX1_leftOf_68 : decode cX1_leftOf 68 = .ok (.istore_n 3, 1) := dk_62 (dk_at dksX1_leftOf_2 22 rfl rfl)
theorem dX1_leftOf_69 : decode cX1_leftOf 69 = .ok (.iinc 4 1, 3) := dk_132 4 1 (dk_at dksX1_leftOf_3 0 rfl rfl)
theorem dX1_leftOf_72 : decode cX1_leftOf 72 = .ok (.goto (-67), 3) := dk_167 255 189 (dk_at dksX1_leftOf_3 3 rfl rfl)
theorem dX1_leftOf_75 : decode cX1_leftOf 75 = .ok (.iload_n 3, 1) := dk_29 (dk_at dksX1_leftOf_3 6 rfl rfl)
theorem dX1_leftOf_76 : decode cX1_leftOf 76 = .ok (.ireturn, 1) := dk_172 (dk_at dksX1_leftOf_3 7 rfl rfl)
abbrev cX1_fact : ByteArray := prog_1_method_34_code
def yX1_fact : MethodName := ⟨RX1, "fact", "(III)I"⟩
def dkwX1_fact_1 : List UInt8 := [153, 0, 7, 4, 167, 0, 4, 3, 184, 0, 22, 42, 25, 4, 28, 29, 182, 0, 146, 172]
abbrev dktX1_fact_1 : List UInt8 := dkwX1_fact_1 ++ []
def dkwX1_fact_0 : List UInt8 := [42, 27, 182, 0, 183, 58, 4, 28, 3, 17, 5, 249, 184, 0, 16, 153, 0, 16, 29, 3, 6, 184, 0, 16]
abbrev dktX1_fact_0 : List UInt8 := dkwX1_fact_0 ++ dktX1_fact_1
theorem dksX1_fact_0 : cX1_fact.data.toList.drop 0 = dktX1_fact_0 := by decide +kernel
theorem dksX1_fact_1 : cX1_fact.data.toList.drop 24 = dktX1_fact_1 := dk_seg dksX1_fact_0 24 rfl rfl
theorem dX1_fact_0 : decode cX1_fact 0 = .ok (.aload_n 0, 1) := dk_42 (dk_at dksX1_fact_0 0 rfl rfl)
theorem dX1_fact_1 : decode cX1_fact 1 = .ok (.iload_n 1, 1) := dk_27 (dk_at dksX1_fact_0 1 rfl rfl)
theorem dX1_fact_2 : decode cX1_fact 2 = .ok (.invokevirtual 183, 3) := dk_182 0 183 (dk_at dksX1_fact_0 2 rfl rfl)
theorem dX1_fact_5 : decode cX1_fact 5 = .ok (.astore 4, 2) := dk_58 4 (dk_at dksX1_fact_0 5 rfl rfl)
theorem dX1_fact_7 : decode cX1_fact 7 = .ok (.iload_n 2, 1) := dk_28 (dk_at dksX1_fact_0 7 rfl rfl)
theorem dX1_fact_8 : decode cX1_fact 8 = .ok (.iconst 0, 1) := dk_3 (dk_at dksX1_fact_0 8 rfl rfl)
theorem dX1_fact_9 : decode cX1_fact 9 = .ok (.sipush 1529, 3) := dk_17 5 249 (dk_at dksX1_fact_0 9 rfl rfl)
theorem dX1_fact_12 : decode cX1_fact 12 = .ok (.invokestatic 16, 3) := dk_184 0 16 (dk_at dksX1_fact_0 12 rfl rfl)
theorem dX1_fact_15 : decode cX1_fact 15 = .ok (.ifCond .eq 16, 3) := dk_153 0 16 (dk_at dksX1_fact_0 15 rfl rfl)
theorem dX1_fact_18 : decode cX1_fact 18 = .ok (.iload_n 3, 1) := dk_29 (dk_at dksX1_fact_0 18 rfl rfl)
theorem dX1_fact_19 : decode cX1_fact 19 = .ok (.iconst 0, 1) := dk_3 (dk_at dksX1_fact_0 19 rfl rfl)
theorem dX1_fact_20 : decode cX1_fact 20 = .ok (.iconst 3, 1) := dk_6 (dk_at dksX1_fact_0 20 rfl rfl)
theorem dX1_fact_21 : decode cX1_fact 21 = .ok (.invokestatic 16, 3) := dk_184 0 16 (dk_at dksX1_fact_0 21 rfl rfl)
theorem dX1_fact_24 : decode cX1_fact 24 = .ok (.ifCond .eq 7, 3) := dk_153 0 7 (dk_at dksX1_fact_1 0 rfl rfl)
theorem dX1_fact_27 : decode cX1_fact 27 = .ok (.iconst 1, 1) := dk_4 (dk_at dksX1_fact_1 3 rfl rfl)
theorem dX1_fact_28 : decode cX1_fact 28 = .ok (.goto 4, 3) := dk_167 0 4 (dk_at dksX1_fact_1 4 rfl rfl)
theorem dX1_fact_31 : decode cX1_fact 31 = .ok (.iconst 0, 1) := dk_3 (dk_at dksX1_fact_1 7 rfl rfl)
theorem dX1_fact_32 : decode cX1_fact 32 = .ok (.invokestatic 22, 3) := dk_184 0 22 (dk_at dksX1_fact_1 8 rfl rfl)
theorem dX1_fact_35 : decode cX1_fact 35 = .ok (.aload_n 0, 1) := dk_42 (dk_at dksX1_fact_1 11 rfl rfl)
theorem dX1_fact_36 : decode cX1_fact 36 = .ok (.aload 4, 2) := dk_25 4 (dk_at dksX1_fact_1 12 rfl rfl)
theorem dX1_fact_38 : decode cX1_fact 38 = .ok (.iload_n 2, 1) := dk_28 (dk_at dksX1_fact_1 14 rfl rfl)
theorem dX1_fact_39 : decode cX1_fact 39 = .ok (.iload_n 3, 1) := dk_29 (dk_at dksX1_fact_1 15 rfl rfl)
theorem dX1_fact_40 : decode cX1_fact 40 = .ok (.invokevirtual 146, 3) := dk_182 0 146 (dk_at dksX1_fact_1 16 rfl rfl)
theorem dX1_fact_43 : decode cX1_fact 43 = .ok (.ireturn, 1) := dk_172 (dk_at dksX1_fact_1 19 rfl rfl)
abbrev cX1_ruleOn : ByteArray := prog_1_method_35_code
def yX1_ruleOn : MethodName := ⟨RX1, "ruleOn", "(II)I"⟩
def dkwX1_ruleOn_1 : List UInt8 := [180, 0, 217, 172]
abbrev dktX1_ruleOn_1 : List UInt8 := dkwX1_ruleOn_1 ++ []
def dkwX1_ruleOn_0 : List UInt8 := [42, 27, 182, 0, 183, 78, 28, 3, 17, 5, 249, 184, 0, 16, 184, 0, 22, 42, 45, 28, 182, 0, 142]
abbrev dktX1_ruleOn_0 : List UInt8 := dkwX1_ruleOn_0 ++ dktX1_ruleOn_1
theorem dksX1_ruleOn_0 : cX1_ruleOn.data.toList.drop 0 = dktX1_ruleOn_0 := by decide +kernel
theorem dksX1_ruleOn_1 : cX1_ruleOn.data.toList.drop 23 = dktX1_ruleOn_1 := dk_seg dksX1_ruleOn_0 23 rfl rfl
theorem dX1_ruleOn_0 : decode cX1_ruleOn 0 = .ok (.aload_n 0, 1) := dk_42 (dk_at dksX1_ruleOn_0 0 rfl rfl)
theorem dX1_ruleOn_1 : decode cX1_ruleOn 1 = .ok (.iload_n 1, 1) := dk_27 (dk_at dksX1_ruleOn_0 1 rfl rfl)
theorem dX1_ruleOn_2 : decode cX1_ruleOn 2 = .ok (.invokevirtual 183, 3) := dk_182 0 183 (dk_at dksX1_ruleOn_0 2 rfl rfl)
theorem dX1_ruleOn_5 : decode cX1_ruleOn 5 = .ok (.astore_n 3, 1) := dk_78 (dk_at dksX1_ruleOn_0 5 rfl rfl)
theorem dX1_ruleOn_6 : decode cX1_ruleOn 6 = .ok (.iload_n 2, 1) := dk_28 (dk_at dksX1_ruleOn_0 6 rfl rfl)
theorem dX1_ruleOn_7 : decode cX1_ruleOn 7 = .ok (.iconst 0, 1) := dk_3 (dk_at dksX1_ruleOn_0 7 rfl rfl)
theorem dX1_ruleOn_8 : decode cX1_ruleOn 8 = .ok (.sipush 1529, 3) := dk_17 5 249 (dk_at dksX1_ruleOn_0 8 rfl rfl)
theorem dX1_ruleOn_11 : decode cX1_ruleOn 11 = .ok (.invokestatic 16, 3) := dk_184 0 16 (dk_at dksX1_ruleOn_0 11 rfl rfl)
theorem dX1_ruleOn_14 : decode cX1_ruleOn 14 = .ok (.invokestatic 22, 3) := dk_184 0 22 (dk_at dksX1_ruleOn_0 14 rfl rfl)
theorem dX1_ruleOn_17 : decode cX1_ruleOn 17 = .ok (.aload_n 0, 1) := dk_42 (dk_at dksX1_ruleOn_0 17 rfl rfl)
theorem dX1_ruleOn_18 : decode cX1_ruleOn 18 = .ok (.aload_n 3, 1) := dk_45 (dk_at dksX1_ruleOn_0 18 rfl rfl)
theorem dX1_ruleOn_19 : decode cX1_ruleOn 19 = .ok (.iload_n 2, 1) := dk_28 (dk_at dksX1_ruleOn_0 19 rfl rfl)
theorem dX1_ruleOn_20 : decode cX1_ruleOn 20 = .ok (.invokevirtual 142, 3) := dk_182 0 142 (dk_at dksX1_ruleOn_0 20 rfl rfl)
theorem dX1_ruleOn_23 : decode cX1_ruleOn 23 = .ok (.getfield 217, 3) := dk_180 0 217 (dk_at dksX1_ruleOn_1 0 rfl rfl)
theorem dX1_ruleOn_26 : decode cX1_ruleOn 26 = .ok (.ireturn, 1) := dk_172 (dk_at dksX1_ruleOn_1 3 rfl rfl)
abbrev cX1_help : ByteArray := prog_1_method_36_code
def yX1_help : MethodName := ⟨RX1, "help", "(II)I"⟩
def dkwX1_help_0 : List UInt8 := [42, 27, 182, 0, 183, 78, 28, 3, 17, 5, 249, 184, 0, 16, 184, 0, 22, 42, 45, 28, 182, 0, 154, 172]
abbrev dktX1_help_0 : List UInt8 := dkwX1_help_0 ++ []
theorem dksX1_help_0 : cX1_help.data.toList.drop 0 = dktX1_help_0 := by decide +kernel
theorem dX1_help_0 : decode cX1_help 0 = .ok (.aload_n 0, 1) := dk_42 (dk_at dksX1_help_0 0 rfl rfl)
theorem dX1_help_1 : decode cX1_help 1 = .ok (.iload_n 1, 1) := dk_27 (dk_at dksX1_help_0 1 rfl rfl)
theorem dX1_help_2 : decode cX1_help 2 = .ok (.invokevirtual 183, 3) := dk_182 0 183 (dk_at dksX1_help_0 2 rfl rfl)
theorem dX1_help_5 : decode cX1_help 5 = .ok (.astore_n 3, 1) := dk_78 (dk_at dksX1_help_0 5 rfl rfl)
theorem dX1_help_6 : decode cX1_help 6 = .ok (.iload_n 2, 1) := dk_28 (dk_at dksX1_help_0 6 rfl rfl)
theorem dX1_help_7 : decode cX1_help 7 = .ok (.iconst 0, 1) := dk_3 (dk_at dksX1_help_0 7 rfl rfl)
theorem dX1_help_8 : decode cX1_help 8 = .ok (.sipush 1529, 3) := dk_17 5 249 (dk_at dksX1_help_0 8 rfl rfl)
theorem dX1_help_11 : decode cX1_help 11 = .ok (.invokestatic 16, 3) := dk_184 0 16 (dk_at dksX1_help_0 11 rfl rfl)
theorem dX1_help_14 : decode cX1_help 14 = .ok (.invokestatic 22, 3) := dk_184 0 22 (dk_at dksX1_help_0 14 rfl rfl)
theorem dX1_help_17 : decode cX1_help 17 = .ok (.aload_n 0, 1) := dk_42 (dk_at dksX1_help_0 17 rfl rfl)
theorem dX1_help_18 : decode cX1_help 18 = .ok (.aload_n 3, 1) := dk_45 (dk_at dksX1_help_0 18 rfl rfl)
theorem dX1_help_19 : decode cX1_help 19 = .ok (.iload_n 2, 1) := dk_28 (dk_at dksX1_help_0 19 rfl rfl)
theorem dX1_help_20 : decode cX1_help 20 = .ok (.invokevirtual 154, 3) := dk_182 0 154 (dk_at dksX1_help_0 20 rfl rfl)
theorem dX1_help_23 : decode cX1_help 23 = .ok (.ireturn, 1) := dk_172 (dk_at dksX1_help_0 23 rfl rfl)
abbrev cX1_due : ByteArray := prog_1_method_37_code
def yX1_due : MethodName := ⟨RX1, "due", "(II)I"⟩
def dkwX1_due_0 : List UInt8 := [42, 27, 182, 0, 183, 78, 28, 3, 16, 50, 184, 0, 16, 184, 0, 22, 42, 45, 28, 182, 0, 252, 172]
abbrev dktX1_due_0 : List UInt8 := dkwX1_due_0 ++ []
theorem dksX1_due_0 : cX1_due.data.toList.drop 0 = dktX1_due_0 := by decide +kernel
theorem dX1_due_0 : decode cX1_due 0 = .ok (.aload_n 0, 1) := dk_42 (dk_at dksX1_due_0 0 rfl rfl)
theorem dX1_due_1 : decode cX1_due 1 = .ok (.iload_n 1, 1) := dk_27 (dk_at dksX1_due_0 1 rfl rfl)
theorem dX1_due_2 : decode cX1_due 2 = .ok (.invokevirtual 183, 3) := dk_182 0 183 (dk_at dksX1_due_0 2 rfl rfl)
theorem dX1_due_5 : decode cX1_due 5 = .ok (.astore_n 3, 1) := dk_78 (dk_at dksX1_due_0 5 rfl rfl)
theorem dX1_due_6 : decode cX1_due 6 = .ok (.iload_n 2, 1) := dk_28 (dk_at dksX1_due_0 6 rfl rfl)
theorem dX1_due_7 : decode cX1_due 7 = .ok (.iconst 0, 1) := dk_3 (dk_at dksX1_due_0 7 rfl rfl)
theorem dX1_due_8 : decode cX1_due 8 = .ok (.bipush 50, 2) := dk_16 50 (dk_at dksX1_due_0 8 rfl rfl)
theorem dX1_due_10 : decode cX1_due 10 = .ok (.invokestatic 16, 3) := dk_184 0 16 (dk_at dksX1_due_0 10 rfl rfl)
theorem dX1_due_13 : decode cX1_due 13 = .ok (.invokestatic 22, 3) := dk_184 0 22 (dk_at dksX1_due_0 13 rfl rfl)
theorem dX1_due_16 : decode cX1_due 16 = .ok (.aload_n 0, 1) := dk_42 (dk_at dksX1_due_0 16 rfl rfl)
theorem dX1_due_17 : decode cX1_due 17 = .ok (.aload_n 3, 1) := dk_45 (dk_at dksX1_due_0 17 rfl rfl)
theorem dX1_due_18 : decode cX1_due 18 = .ok (.iload_n 2, 1) := dk_28 (dk_at dksX1_due_0 18 rfl rfl)
theorem dX1_due_19 : decode cX1_due 19 = .ok (.invokevirtual 252, 3) := dk_182 0 252 (dk_at dksX1_due_0 19 rfl rfl)
theorem dX1_due_22 : decode cX1_due 22 = .ok (.ireturn, 1) := dk_172 (dk_at dksX1_due_0 22 rfl rfl)
abbrev cX1_paid : ByteArray := prog_1_method_38_code
def yX1_paid : MethodName := ⟨RX1, "paid", "(II)I"⟩
def dkwX1_paid_0 : List UInt8 := [42, 27, 182, 0, 183, 78, 28, 3, 16, 50, 184, 0, 16, 184, 0, 22, 45, 180, 0, 234, 28, 46, 172]
abbrev dktX1_paid_0 : List UInt8 := dkwX1_paid_0 ++ []
theorem dksX1_paid_0 : cX1_paid.data.toList.drop 0 = dktX1_paid_0 := by decide +kernel
theorem dX1_paid_0 : decode cX1_paid 0 = .ok (.aload_n 0, 1) := dk_42 (dk_at dksX1_paid_0 0 rfl rfl)
theorem dX1_paid_1 : decode cX1_paid 1 = .ok (.iload_n 1, 1) := dk_27 (dk_at dksX1_paid_0 1 rfl rfl)
theorem dX1_paid_2 : decode cX1_paid 2 = .ok (.invokevirtual 183, 3) := dk_182 0 183 (dk_at dksX1_paid_0 2 rfl rfl)
theorem dX1_paid_5 : decode cX1_paid 5 = .ok (.astore_n 3, 1) := dk_78 (dk_at dksX1_paid_0 5 rfl rfl)
theorem dX1_paid_6 : decode cX1_paid 6 = .ok (.iload_n 2, 1) := dk_28 (dk_at dksX1_paid_0 6 rfl rfl)
theorem dX1_paid_7 : decode cX1_paid 7 = .ok (.iconst 0, 1) := dk_3 (dk_at dksX1_paid_0 7 rfl rfl)
theorem dX1_paid_8 : decode cX1_paid 8 = .ok (.bipush 50, 2) := dk_16 50 (dk_at dksX1_paid_0 8 rfl rfl)
theorem dX1_paid_10 : decode cX1_paid 10 = .ok (.invokestatic 16, 3) := dk_184 0 16 (dk_at dksX1_paid_0 10 rfl rfl)
theorem dX1_paid_13 : decode cX1_paid 13 = .ok (.invokestatic 22, 3) := dk_184 0 22 (dk_at dksX1_paid_0 13 rfl rfl)
theorem dX1_paid_16 : decode cX1_paid 16 = .ok (.aload_n 3, 1) := dk_45 (dk_at dksX1_paid_0 16 rfl rfl)
theorem dX1_paid_17 : decode cX1_paid 17 = .ok (.getfield 234, 3) := dk_180 0 234 (dk_at dksX1_paid_0 17 rfl rfl)
theorem dX1_paid_20 : decode cX1_paid 20 = .ok (.iload_n 2, 1) := dk_28 (dk_at dksX1_paid_0 20 rfl rfl)
theorem dX1_paid_21 : decode cX1_paid 21 = .ok (.iaload, 1) := dk_46 (dk_at dksX1_paid_0 21 rfl rfl)
theorem dX1_paid_22 : decode cX1_paid 22 = .ok (.ireturn, 1) := dk_172 (dk_at dksX1_paid_0 22 rfl rfl)
abbrev cX1_caseAt : ByteArray := prog_1_method_39_code
def yX1_caseAt : MethodName := ⟨RX1, "caseAt", "(II)I"⟩
def dkwX1_caseAt_5 : List UInt8 := [186, 1, 30, 0, 0, 83, 89, 16, 10, 45, 186, 1, 31, 0, 0, 83, 184, 1, 32, 172]
abbrev dktX1_caseAt_5 : List UInt8 := dkwX1_caseAt_5 ++ []
def dkwX1_caseAt_4 : List UInt8 := [186, 1, 28, 0, 0, 83, 89, 16, 8, 45, 186, 1, 29, 0, 0, 83, 89, 16, 9, 45]
abbrev dktX1_caseAt_4 : List UInt8 := dkwX1_caseAt_4 ++ dktX1_caseAt_5
def dkwX1_caseAt_3 : List UInt8 := [186, 1, 26, 0, 0, 83, 89, 16, 6, 42, 45, 186, 1, 27, 0, 0, 83, 89, 16, 7, 45]
abbrev dktX1_caseAt_3 : List UInt8 := dkwX1_caseAt_3 ++ dktX1_caseAt_4
def dkwX1_caseAt_2 : List UInt8 := [89, 5, 45, 186, 1, 25, 0, 0, 83, 89, 6, 25, 4, 83, 89, 7, 25, 5, 83, 89, 8, 42, 45]
abbrev dktX1_caseAt_2 : List UInt8 := dkwX1_caseAt_2 ++ dktX1_caseAt_3
def dkwX1_caseAt_1 : List UInt8 := [28, 16, 11, 189, 0, 27, 89, 3, 45, 186, 1, 21, 0, 0, 83, 89, 4, 45, 186, 1, 24, 0, 0, 83]
abbrev dktX1_caseAt_1 : List UInt8 := dkwX1_caseAt_1 ++ dktX1_caseAt_2
def dkwX1_caseAt_0 : List UInt8 := [42, 27, 182, 0, 183, 78, 42, 45, 186, 1, 17, 0, 0, 58, 4, 42, 45, 186, 1, 20, 0, 0, 58, 5]
abbrev dktX1_caseAt_0 : List UInt8 := dkwX1_caseAt_0 ++ dktX1_caseAt_1
theorem dksX1_caseAt_0 : cX1_caseAt.data.toList.drop 0 = dktX1_caseAt_0 := by decide +kernel
theorem dksX1_caseAt_1 : cX1_caseAt.data.toList.drop 24 = dktX1_caseAt_1 := dk_seg dksX1_caseAt_0 24 rfl rfl
theorem dksX1_caseAt_2 : cX1_caseAt.data.toList.drop 48 = dktX1_caseAt_2 := dk_seg dksX1_caseAt_1 24 rfl rfl
theorem dksX1_caseAt_3 : cX1_caseAt.data.toList.drop 71 = dktX1_caseAt_3 := dk_seg dksX1_caseAt_2 23 rfl rfl
theorem dksX1_caseAt_4 : cX1_caseAt.data.toList.drop 92 = dktX1_caseAt_4 := dk_seg dksX1_caseAt_3 21 rfl rfl
theorem dksX1_caseAt_5 : cX1_caseAt.data.toList.drop 112 = dktX1_caseAt_5 := dk_seg dksX1_caseAt_4 20 rfl rfl
theorem dX1_caseAt_0 : decode cX1_caseAt 0 = .ok (.aload_n 0, 1) := dk_42 (dk_at dksX1_caseAt_0 0 rfl rfl)
theorem dX1_caseAt_1 : decode cX1_caseAt 1 = .ok (.iload_n 1, 1) := dk_27 (dk_at dksX1_caseAt_0 1 rfl rfl)
theorem dX1_caseAt_2 : decode cX1_caseAt 2 = .ok (.invokevirtual 183, 3) := dk_182 0 183 (dk_at dksX1_caseAt_0 2 rfl rfl)
theorem dX1_caseAt_5 : decode cX1_caseAt 5 = .ok (.astore_n 3, 1) := dk_78 (dk_at dksX1_caseAt_0 5 rfl rfl)
theorem dX1_caseAt_6 : decode cX1_caseAt 6 = .ok (.aload_n 0, 1) := dk_42 (dk_at dksX1_caseAt_0 6 rfl rfl)
theorem dX1_caseAt_7 : decode cX1_caseAt 7 = .ok (.aload_n 3, 1) := dk_45 (dk_at dksX1_caseAt_0 7 rfl rfl)
theorem dX1_caseAt_8 : decode cX1_caseAt 8 = .ok (.invokedynamic 273, 5) := by decide +kernel
theorem dX1_caseAt_13 : decode cX1_caseAt 13 = .ok (.astore 4, 2) := dk_58 4 (dk_at dksX1_caseAt_0 13 rfl rfl)
theorem dX1_caseAt_15 : decode cX1_caseAt 15 = .ok (.aload_n 0, 1) := dk_42 (dk_at dksX1_caseAt_0 15 rfl rfl)
theorem dX1_caseAt_16 : decode cX1_caseAt 16 = .ok (.aload_n 3, 1) := dk_45 (dk_at dksX1_caseAt_0 16 rfl rfl)
theorem dX1_caseAt_17 : decode cX1_caseAt 17 = .ok (.invokedynamic 276, 5) := by decide +kernel
theorem dX1_caseAt_22 : decode cX1_caseAt 22 = .ok (.astore 5, 2) := dk_58 5 (dk_at dksX1_caseAt_0 22 rfl rfl)
theorem dX1_caseAt_24 : decode cX1_caseAt 24 = .ok (.iload_n 2, 1) := dk_28 (dk_at dksX1_caseAt_1 0 rfl rfl)
theorem dX1_caseAt_25 : decode cX1_caseAt 25 = .ok (.bipush 11, 2) := dk_16 11 (dk_at dksX1_caseAt_1 1 rfl rfl)
theorem dX1_caseAt_27 : decode cX1_caseAt 27 = .ok (.anewarray 27, 3) := dk_189 0 27 (dk_at dksX1_caseAt_1 3 rfl rfl)
theorem dX1_caseAt_30 : decode cX1_caseAt 30 = .ok (.dup, 1) := dk_89 (dk_at dksX1_caseAt_1 6 rfl rfl)
theorem dX1_caseAt_31 : decode cX1_caseAt 31 = .ok (.iconst 0, 1) := dk_3 (dk_at dksX1_caseAt_1 7 rfl rfl)
theorem dX1_caseAt_32 : decode cX1_caseAt 32 = .ok (.aload_n 3, 1) := dk_45 (dk_at dksX1_caseAt_1 8 rfl rfl)
theorem dX1_caseAt_33 : decode cX1_caseAt 33 = .ok (.invokedynamic 277, 5) := by decide +kernel
theorem dX1_caseAt_38 : decode cX1_caseAt 38 = .ok (.aastore, 1) := dk_83 (dk_at dksX1_caseAt_1 14 rfl rfl)
theorem dX1_caseAt_39 : decode cX1_caseAt 39 = .ok (.dup, 1) := dk_89 (dk_at dksX1_caseAt_1 15 rfl rfl)
theorem dX1_caseAt_40 : decode cX1_caseAt 40 = .ok (.iconst 1, 1) := dk_4 (dk_at dksX1_caseAt_1 16 rfl rfl)
theorem dX1_caseAt_41 : decode cX1_caseAt 41 = .ok (.aload_n 3, 1) := dk_45 (dk_at dksX1_caseAt_1 17 rfl rfl)
theorem dX1_caseAt_42 : decode cX1_caseAt 42 = .ok (.invokedynamic 280, 5) := by decide +kernel
theorem dX1_caseAt_47 : decode cX1_caseAt 47 = .ok (.aastore, 1) := dk_83 (dk_at dksX1_caseAt_1 23 rfl rfl)
theorem dX1_caseAt_48 : decode cX1_caseAt 48 = .ok (.dup, 1) := dk_89 (dk_at dksX1_caseAt_2 0 rfl rfl)
theorem dX1_caseAt_49 : decode cX1_caseAt 49 = .ok (.iconst 2, 1) := dk_5 (dk_at dksX1_caseAt_2 1 rfl rfl)
theorem dX1_caseAt_50 : decode cX1_caseAt 50 = .ok (.aload_n 3, 1) := dk_45 (dk_at dksX1_caseAt_2 2 rfl rfl)
theorem dX1_caseAt_51 : decode cX1_caseAt 51 = .ok (.invokedynamic 281, 5) := by decide +kernel
theorem dX1_caseAt_56 : decode cX1_caseAt 56 = .ok (.aastore, 1) := dk_83 (dk_at dksX1_caseAt_2 8 rfl rfl)
theorem dX1_caseAt_57 : decode cX1_caseAt 57 = .ok (.dup, 1) := dk_89 (dk_at dksX1_caseAt_2 9 rfl rfl)
theorem dX1_caseAt_58 : decode cX1_caseAt 58 = .ok (.iconst 3, 1) := dk_6 (dk_at dksX1_caseAt_2 10 rfl rfl)
theorem dX1_caseAt_59 : decode cX1_caseAt 59 = .ok (.aload 4, 2) := dk_25 4 (dk_at dksX1_caseAt_2 11 rfl rfl)
theorem dX1_caseAt_61 : decode cX1_caseAt 61 = .ok (.aastore, 1) := dk_83 (dk_at dksX1_caseAt_2 13 rfl rfl)
theorem dX1_caseAt_62 : decode cX1_caseAt 62 = .ok (.dup, 1) := dk_89 (dk_at dksX1_caseAt_2 14 rfl rfl)
theorem dX1_caseAt_63 : decode cX1_caseAt 63 = .ok (.iconst 4, 1) := dk_7 (dk_at dksX1_caseAt_2 15 rfl rfl)
theorem dX1_caseAt_64 : decode cX1_caseAt 64 = .ok (.aload 5, 2) := dk_25 5 (dk_at dksX1_caseAt_2 16 rfl rfl)
theorem dX1_caseAt_66 : decode cX1_caseAt 66 = .ok (.aastore, 1) := dk_83 (dk_at dksX1_caseAt_2 18 rfl rfl)
theorem dX1_caseAt_67 : decode cX1_caseAt 67 = .ok (.dup, 1) := dk_89 (dk_at dksX1_caseAt_2 19 rfl rfl)
theorem dX1_caseAt_68 : decode cX1_caseAt 68 = .ok (.iconst 5, 1) := dk_8 (dk_at dksX1_caseAt_2 20 rfl rfl)
theorem dX1_caseAt_69 : decode cX1_caseAt 69 = .ok (.aload_n 0, 1) := dk_42 (dk_at dksX1_caseAt_2 21 rfl rfl)
theorem dX1_caseAt_70 : decode cX1_caseAt 70 = .ok (.aload_n 3, 1) := dk_45 (dk_at dksX1_caseAt_2 22 rfl rfl)
theorem dX1_caseAt_71 : decode cX1_caseAt 71 = .ok (.invokedynamic 282, 5) := by decide +kernel
theorem dX1_caseAt_76 : decode cX1_caseAt 76 = .ok (.aastore, 1) := dk_83 (dk_at dksX1_caseAt_3 5 rfl rfl)
theorem dX1_caseAt_77 : decode cX1_caseAt 77 = .ok (.dup, 1) := dk_89 (dk_at dksX1_caseAt_3 6 rfl rfl)
theorem dX1_caseAt_78 : decode cX1_caseAt 78 = .ok (.bipush 6, 2) := dk_16 6 (dk_at dksX1_caseAt_3 7 rfl rfl)
theorem dX1_caseAt_80 : decode cX1_caseAt 80 = .ok (.aload_n 0, 1) := dk_42 (dk_at dksX1_caseAt_3 9 rfl rfl)
theorem dX1_caseAt_81 : decode cX1_caseAt 81 = .ok (.aload_n 3, 1) := dk_45 (dk_at dksX1_caseAt_3 10 rfl rfl)
theorem dX1_caseAt_82 : decode cX1_caseAt 82 = .ok (.invokedynamic 283, 5) := by decide +kernel
theorem dX1_caseAt_87 : decode cX1_caseAt 87 = .ok (.aastore, 1) := dk_83 (dk_at dksX1_caseAt_3 16 rfl rfl)
theorem dX1_caseAt_88 : decode cX1_caseAt 88 = .ok (.dup, 1) := dk_89 (dk_at dksX1_caseAt_3 17 rfl rfl)
theorem dX1_caseAt_89 : decode cX1_caseAt 89 = .ok (.bipush 7, 2) := dk_16 7 (dk_at dksX1_caseAt_3 18 rfl rfl)
theorem dX1_caseAt_91 : decode cX1_caseAt 91 = .ok (.aload_n 3, 1) := dk_45 (dk_at dksX1_caseAt_3 20 rfl rfl)
theorem dX1_caseAt_92 : decode cX1_caseAt 92 = .ok (.invokedynamic 284, 5) := by decide +kernel
theorem dX1_caseAt_97 : decode cX1_caseAt 97 = .ok (.aastore, 1) := dk_83 (dk_at dksX1_caseAt_4 5 rfl rfl)
theorem dX1_caseAt_98 : decode cX1_caseAt 98 = .ok (.dup, 1) := dk_89 (dk_at dksX1_caseAt_4 6 rfl rfl)
theorem dX1_caseAt_99 : decode cX1_caseAt 99 = .ok (.bipush 8, 2) := dk_16 8 (dk_at dksX1_caseAt_4 7 rfl rfl)
theorem dX1_caseAt_101 : decode cX1_caseAt 101 = .ok (.aload_n 3, 1) := dk_45 (dk_at dksX1_caseAt_4 9 rfl rfl)
theorem dX1_caseAt_102 : decode cX1_caseAt 102 = .ok (.invokedynamic 285, 5) := by decide +kernel
theorem dX1_caseAt_107 : decode cX1_caseAt 107 = .ok (.aastore, 1) := dk_83 (dk_at dksX1_caseAt_4 15 rfl rfl)
theorem dX1_caseAt_108 : decode cX1_caseAt 108 = .ok (.dup, 1) := dk_89 (dk_at dksX1_caseAt_4 16 rfl rfl)
theorem dX1_caseAt_109 : decode cX1_caseAt 109 = .ok (.bipush 9, 2) := dk_16 9 (dk_at dksX1_caseAt_4 17 rfl rfl)
theorem dX1_caseAt_111 : decode cX1_caseAt 111 = .ok (.aload_n 3, 1) := dk_45 (dk_at dksX1_caseAt_4 19 rfl rfl)
theorem dX1_caseAt_112 : decode cX1_caseAt 112 = .ok (.invokedynamic 286, 5) := by decide +kernel
theorem dX1_caseAt_117 : decode cX1_caseAt 117 = .ok (.aastore, 1) := dk_83 (dk_at dksX1_caseAt_5 5 rfl rfl)
theorem dX1_caseAt_118 : decode cX1_caseAt 118 = .ok (.dup, 1) := dk_89 (dk_at dksX1_caseAt_5 6 rfl rfl)
theorem dX1_caseAt_119 : decode cX1_caseAt 119 = .ok (.bipush 10, 2) := dk_16 10 (dk_at dksX1_caseAt_5 7 rfl rfl)
theorem dX1_caseAt_121 : decode cX1_caseAt 121 = .ok (.aload_n 3, 1) := dk_45 (dk_at dksX1_caseAt_5 9 rfl rfl)
theorem dX1_caseAt_122 : decode cX1_caseAt 122 = .ok (.invokedynamic 287, 5) := by decide +kernel
theorem dX1_caseAt_127 : decode cX1_caseAt 127 = .ok (.aastore, 1) := dk_83 (dk_at dksX1_caseAt_5 15 rfl rfl)
theorem dX1_caseAt_128 : decode cX1_caseAt 128 = .ok (.invokestatic 288, 3) := dk_184 1 32 (dk_at dksX1_caseAt_5 16 rfl rfl)
theorem dX1_caseAt_131 : decode cX1_caseAt 131 = .ok (.ireturn, 1) := dk_172 (dk_at dksX1_caseAt_5 19 rfl rfl)
abbrev cX1_lambda_caseAt_0 : ByteArray := prog_1_method_94_code
def yX1_lambda_caseAt_0 : MethodName := ⟨RX1, "lambda$caseAt$0", "(LAppealrent$Case;)I"⟩
def dkwX1_lambda_caseAt_0_2 : List UInt8 := [61, 132, 3, 1, 167, 255, 209, 28, 172]
abbrev dktX1_lambda_caseAt_0_2 : List UInt8 := dkwX1_lambda_caseAt_0_2 ++ []
def dkwX1_lambda_caseAt_0_1 : List UInt8 := [185, 0, 83, 2, 0, 192, 0, 89, 180, 0, 115, 43, 166, 0, 7, 4, 167, 0, 4, 3, 184, 0, 130, 96]
abbrev dktX1_lambda_caseAt_0_1 : List UInt8 := dkwX1_lambda_caseAt_0_1 ++ dktX1_lambda_caseAt_0_2
def dkwX1_lambda_caseAt_0_0 : List UInt8 := [3, 61, 3, 62, 29, 42, 180, 0, 44, 185, 0, 77, 1, 0, 162, 0, 40, 28, 42, 180, 0, 44, 29]
abbrev dktX1_lambda_caseAt_0_0 : List UInt8 := dkwX1_lambda_caseAt_0_0 ++ dktX1_lambda_caseAt_0_1
theorem dksX1_lambda_caseAt_0_0 : cX1_lambda_caseAt_0.data.toList.drop 0 = dktX1_lambda_caseAt_0_0 := by decide +kernel
theorem dksX1_lambda_caseAt_0_1 : cX1_lambda_caseAt_0.data.toList.drop 23 = dktX1_lambda_caseAt_0_1 := dk_seg dksX1_lambda_caseAt_0_0 23 rfl rfl
theorem dksX1_lambda_caseAt_0_2 : cX1_lambda_caseAt_0.data.toList.drop 47 = dktX1_lambda_caseAt_0_2 := dk_seg dksX1_lambda_caseAt_0_1 24 rfl rfl
theorem dX1_lambda_caseAt_0_0 : decode cX1_lambda_caseAt_0 0 = .ok (.iconst 0, 1) := dk_3 (dk_at dksX1_lambda_caseAt_0_0 0 rfl rfl)
theorem dX1_lambda_caseAt_0_1 : decode cX1_lambda_caseAt_0 1 = .ok (.istore_n 2, 1) := dk_61 (dk_at dksX1_lambda_caseAt_0_0 1 rfl rfl)
theorem dX1_lambda_caseAt_0_2 : decode cX1_lambda_caseAt_0 2 = .ok (.iconst 0, 1) := dk_3 (dk_at dksX1_lambda_caseAt_0_0 2 rfl rfl)
theorem dX1_lambda_caseAt_0_3 : decode cX1_lambda_caseAt_0 3 = .ok (.istore_n 3, 1) := dk_62 (dk_at dksX1_lambda_caseAt_0_0 3 rfl rfl)
theorem dX1_lambda_caseAt_0_4 : decode cX1_lambda_caseAt_0 4 = .ok (.iload_n 3, 1) := dk_29 (dk_at dksX1_lambda_caseAt_0_0 4 rfl rfl)
theorem dX1_lambda_caseAt_0_5 : decode cX1_lambda_caseAt_0 5 = .ok (.aload_n 0, 1) := dk_42 (dk_at dksX1_lambda_caseAt_0_0 5 rfl rfl)
theorem dX1_lambda_caseAt_0_6 : decode cX1_lambda_caseAt_0 6 = .ok (.getfield 44, 3) := dk_180 0 44 (dk_at dksX1_lambda_caseAt_0_0 6 rfl rfl)
theorem dX1_lambda_caseAt_0_9 : decode cX1_lambda_caseAt_0 9 = .ok (.invokeinterface 77 1, 5) := by decide +kernel
theorem dX1_lambda_caseAt_0_14 : decode cX1_lambda_caseAt_0 14 = .ok (.if_icmp .ge 40, 3) := dk_162 0 40 (dk_at dksX1_lambda_caseAt_0_0 14 rfl rfl)
theorem dX1_lambda_caseAt_0_17 : decode cX1_lambda_caseAt_0 17 = .ok (.iload_n 2, 1) := dk_28 (dk_at dksX1_lambda_caseAt_0_0 17 rfl rfl)
theorem dX1_lambda_caseAt_0_18 : decode cX1_lambda_caseAt_0 18 = .ok (.aload_n 0, 1) := dk_42 (dk_at dksX1_lambda_caseAt_0_0 18 rfl rfl)
theorem dX1_lambda_caseAt_0_19 : decode cX1_lambda_caseAt_0 19 = .ok (.getfield 44, 3) := dk_180 0 44 (dk_at dksX1_lambda_caseAt_0_0 19 rfl rfl)
theorem dX1_lambda_caseAt_0_22 : decode cX1_lambda_caseAt_0 22 = .ok (.iload_n 3, 1) := dk_29 (dk_at dksX1_lambda_caseAt_0_0 22 rfl rfl)
theorem dX1_lambda_caseAt_0_23 : decode cX1_lambda_caseAt_0 23 = .ok (.invokeinterface 83 2, 5) := by decide +kernel
theorem dX1_lambda_caseAt_0_28 : decode cX1_lambda_caseAt_0 28 = .ok (.checkcast 89, 3) := dk_192 0 89 (dk_at dksX1_lambda_caseAt_0_1 5 rfl rfl)
theorem dX1_lambda_caseAt_0_31 : decode cX1_lambda_caseAt_0 31 = .ok (.getfield 115, 3) := dk_180 0 115 (dk_at dksX1_lambda_caseAt_0_1 8 rfl rfl)
theorem dX1_lambda_caseAt_0_34 : decode cX1_lambda_caseAt_0 34 = .ok (.aload_n 1, 1) := dk_43 (dk_at dksX1_lambda_caseAt_0_1 11 rfl rfl)
theorem dX1_lambda_caseAt_0_35 : decode cX1_lambda_caseAt_0 35 = .ok (.if_acmp .ne 7, 3) := dk_166 0 7 (dk_at dksX1_lambda_caseAt_0_1 12 rfl rfl)
theorem dX1_lambda_caseAt_0_38 : decode cX1_lambda_caseAt_0 38 = .ok (.iconst 1, 1) := dk_4 (dk_at dksX1_lambda_caseAt_0_1 15 rfl rfl)
theorem dX1_lambda_caseAt_0_39 : decode cX1_lambda_caseAt_0 39 = .ok (.goto 4, 3) := dk_167 0 4 (dk_at dksX1_lambda_caseAt_0_1 16 rfl rfl)
theorem dX1_lambda_caseAt_0_42 : decode cX1_lambda_caseAt_0 42 = .ok (.iconst 0, 1) := dk_3 (dk_at dksX1_lambda_caseAt_0_1 19 rfl rfl)
theorem dX1_lambda_caseAt_0_43 : decode cX1_lambda_caseAt_0 43 = .ok (.invokestatic 130, 3) := dk_184 0 130 (dk_at dksX1_lambda_caseAt_0_1 20 rfl rfl)
theorem dX1_lambda_caseAt_0_46 : decode cX1_lambda_caseAt_0 46 = .ok (.iadd, 1) := dk_96 (dk_at dksX1_lambda_caseAt_0_1 23 rfl rfl)
theorem dX1_lambda_caseAt_0_47 : decode cX1_lambda_caseAt_0 47 = .ok (.istore_n 2, 1) := dk_61 (dk_at dksX1_lambda_caseAt_0_2 0 rfl rfl)
theorem dX1_lambda_caseAt_0_48 : decode cX1_lambda_caseAt_0 48 = .ok (.iinc 3 1, 3) := dk_132 3 1 (dk_at dksX1_lambda_caseAt_0_2 1 rfl rfl)
theorem dX1_lambda_caseAt_0_51 : decode cX1_lambda_caseAt_0 51 = .ok (.goto (-47), 3) := dk_167 255 209 (dk_at dksX1_lambda_caseAt_0_2 4 rfl rfl)
theorem dX1_lambda_caseAt_0_54 : decode cX1_lambda_caseAt_0 54 = .ok (.iload_n 2, 1) := dk_28 (dk_at dksX1_lambda_caseAt_0_2 7 rfl rfl)
theorem dX1_lambda_caseAt_0_55 : decode cX1_lambda_caseAt_0 55 = .ok (.ireturn, 1) := dk_172 (dk_at dksX1_lambda_caseAt_0_2 8 rfl rfl)
abbrev cX1_lambda_caseAt_1 : ByteArray := prog_1_method_93_code
def yX1_lambda_caseAt_1 : MethodName := ⟨RX1, "lambda$caseAt$1", "(LAppealrent$Case;)I"⟩
def dkwX1_lambda_caseAt_1_2 : List UInt8 := [61, 132, 3, 1, 167, 255, 209, 28, 172]
abbrev dktX1_lambda_caseAt_1_2 : List UInt8 := dkwX1_lambda_caseAt_1_2 ++ []
def dkwX1_lambda_caseAt_1_1 : List UInt8 := [185, 0, 83, 2, 0, 192, 0, 91, 180, 0, 158, 43, 166, 0, 7, 4, 167, 0, 4, 3, 184, 0, 130, 96]
abbrev dktX1_lambda_caseAt_1_1 : List UInt8 := dkwX1_lambda_caseAt_1_1 ++ dktX1_lambda_caseAt_1_2
def dkwX1_lambda_caseAt_1_0 : List UInt8 := [3, 61, 3, 62, 29, 42, 180, 0, 50, 185, 0, 77, 1, 0, 162, 0, 40, 28, 42, 180, 0, 50, 29]
abbrev dktX1_lambda_caseAt_1_0 : List UInt8 := dkwX1_lambda_caseAt_1_0 ++ dktX1_lambda_caseAt_1_1
theorem dksX1_lambda_caseAt_1_0 : cX1_lambda_caseAt_1.data.toList.drop 0 = dktX1_lambda_caseAt_1_0 := by decide +kernel
theorem dksX1_lambda_caseAt_1_1 : cX1_lambda_caseAt_1.data.toList.drop 23 = dktX1_lambda_caseAt_1_1 := dk_seg dksX1_lambda_caseAt_1_0 23 rfl rfl
theorem dksX1_lambda_caseAt_1_2 : cX1_lambda_caseAt_1.data.toList.drop 47 = dktX1_lambda_caseAt_1_2 := dk_seg dksX1_lambda_caseAt_1_1 24 rfl rfl
theorem dX1_lambda_caseAt_1_0 : decode cX1_lambda_caseAt_1 0 = .ok (.iconst 0, 1) := dk_3 (dk_at dksX1_lambda_caseAt_1_0 0 rfl rfl)
theorem dX1_lambda_caseAt_1_1 : decode cX1_lambda_caseAt_1 1 = .ok (.istore_n 2, 1) := dk_61 (dk_at dksX1_lambda_caseAt_1_0 1 rfl rfl)
theorem dX1_lambda_caseAt_1_2 : decode cX1_lambda_caseAt_1 2 = .ok (.iconst 0, 1) := dk_3 (dk_at dksX1_lambda_caseAt_1_0 2 rfl rfl)
theorem dX1_lambda_caseAt_1_3 : decode cX1_lambda_caseAt_1 3 = .ok (.istore_n 3, 1) := dk_62 (dk_at dksX1_lambda_caseAt_1_0 3 rfl rfl)
theorem dX1_lambda_caseAt_1_4 : decode cX1_lambda_caseAt_1 4 = .ok (.iload_n 3, 1) := dk_29 (dk_at dksX1_lambda_caseAt_1_0 4 rfl rfl)
theorem dX1_lambda_caseAt_1_5 : decode cX1_lambda_caseAt_1 5 = .ok (.aload_n 0, 1) := dk_42 (dk_at dksX1_lambda_caseAt_1_0 5 rfl rfl)
theorem dX1_lambda_caseAt_1_6 : decode cX1_lambda_caseAt_1 6 = .ok (.getfield 50, 3) := dk_180 0 50 (dk_at dksX1_lambda_caseAt_1_0 6 rfl rfl)
theorem dX1_lambda_caseAt_1_9 : decode cX1_lambda_caseAt_1 9 = .ok (.invokeinterface 77 1, 5) := by decide +kernel
theorem dX1_lambda_caseAt_1_14 : decode cX1_lambda_caseAt_1 14 = .ok (.if_icmp .ge 40, 3) := dk_162 0 40 (dk_at dksX1_lambda_caseAt_1_0 14 rfl rfl)
theorem dX1_lambda_caseAt_1_17 : decode cX1_lambda_caseAt_1 17 = .ok (.iload_n 2, 1) := dk_28 (dk_at dksX1_lambda_caseAt_1_0 17 rfl rfl)
theorem dX1_lambda_caseAt_1_18 : decode cX1_lambda_caseAt_1 18 = .ok (.aload_n 0, 1) := dk_42 (dk_at dksX1_lambda_caseAt_1_0 18 rfl rfl)
theorem dX1_lambda_caseAt_1_19 : decode cX1_lambda_caseAt_1 19 = .ok (.getfield 50, 3) := dk_180 0 50 (dk_at dksX1_lambda_caseAt_1_0 19 rfl rfl)
theorem dX1_lambda_caseAt_1_22 : decode cX1_lambda_caseAt_1 22 = .ok (.iload_n 3, 1) := dk_29 (dk_at dksX1_lambda_caseAt_1_0 22 rfl rfl)
theorem dX1_lambda_caseAt_1_23 : decode cX1_lambda_caseAt_1 23 = .ok (.invokeinterface 83 2, 5) := by decide +kernel
theorem dX1_lambda_caseAt_1_28 : decode cX1_lambda_caseAt_1 28 = .ok (.checkcast 91, 3) := dk_192 0 91 (dk_at dksX1_lambda_caseAt_1_1 5 rfl rfl)
theorem dX1_lambda_caseAt_1_31 : decode cX1_lambda_caseAt_1 31 = .ok (.getfield 158, 3) := dk_180 0 158 (dk_at dksX1_lambda_caseAt_1_1 8 rfl rfl)
theorem dX1_lambda_caseAt_1_34 : decode cX1_lambda_caseAt_1 34 = .ok (.aload_n 1, 1) := dk_43 (dk_at dksX1_lambda_caseAt_1_1 11 rfl rfl)
theorem dX1_lambda_caseAt_1_35 : decode cX1_lambda_caseAt_1 35 = .ok (.if_acmp .ne 7, 3) := dk_166 0 7 (dk_at dksX1_lambda_caseAt_1_1 12 rfl rfl)
theorem dX1_lambda_caseAt_1_38 : decode cX1_lambda_caseAt_1 38 = .ok (.iconst 1, 1) := dk_4 (dk_at dksX1_lambda_caseAt_1_1 15 rfl rfl)
theorem dX1_lambda_caseAt_1_39 : decode cX1_lambda_caseAt_1 39 = .ok (.goto 4, 3) := dk_167 0 4 (dk_at dksX1_lambda_caseAt_1_1 16 rfl rfl)
theorem dX1_lambda_caseAt_1_42 : decode cX1_lambda_caseAt_1 42 = .ok (.iconst 0, 1) := dk_3 (dk_at dksX1_lambda_caseAt_1_1 19 rfl rfl)
theorem dX1_lambda_caseAt_1_43 : decode cX1_lambda_caseAt_1 43 = .ok (.invokestatic 130, 3) := dk_184 0 130 (dk_at dksX1_lambda_caseAt_1_1 20 rfl rfl)
theorem dX1_lambda_caseAt_1_46 : decode cX1_lambda_caseAt_1 46 = .ok (.iadd, 1) := dk_96 (dk_at dksX1_lambda_caseAt_1_1 23 rfl rfl)
theorem dX1_lambda_caseAt_1_47 : decode cX1_lambda_caseAt_1 47 = .ok (.istore_n 2, 1) := dk_61 (dk_at dksX1_lambda_caseAt_1_2 0 rfl rfl)
theorem dX1_lambda_caseAt_1_48 : decode cX1_lambda_caseAt_1 48 = .ok (.iinc 3 1, 3) := dk_132 3 1 (dk_at dksX1_lambda_caseAt_1_2 1 rfl rfl)
theorem dX1_lambda_caseAt_1_51 : decode cX1_lambda_caseAt_1 51 = .ok (.goto (-47), 3) := dk_167 255 209 (dk_at dksX1_lambda_caseAt_1_2 4 rfl rfl)
theorem dX1_lambda_caseAt_1_54 : decode cX1_lambda_caseAt_1 54 = .ok (.iload_n 2, 1) := dk_28 (dk_at dksX1_lambda_caseAt_1_2 7 rfl rfl)
theorem dX1_lambda_caseAt_1_55 : decode cX1_lambda_caseAt_1 55 = .ok (.ireturn, 1) := dk_172 (dk_at dksX1_lambda_caseAt_1_2 8 rfl rfl)
abbrev cX1_lambda_caseAt_2 : ByteArray := prog_1_method_92_code
def yX1_lambda_caseAt_2 : MethodName := ⟨RX1, "lambda$caseAt$2", "(LAppealrent$Case;)I"⟩
theorem dX1_lambda_caseAt_2_0 : decode cX1_lambda_caseAt_2 0 = .ok (.aload_n 0, 1) := by decide +kernel
theorem dX1_lambda_caseAt_2_1 : decode cX1_lambda_caseAt_2 1 = .ok (.getfield 407, 3) := by decide +kernel
theorem dX1_lambda_caseAt_2_4 : decode cX1_lambda_caseAt_2 4 = .ok (.ireturn, 1) := by decide +kernel
abbrev cX1_lambda_caseAt_3 : ByteArray := prog_1_method_91_code
def yX1_lambda_caseAt_3 : MethodName := ⟨RX1, "lambda$caseAt$3", "(LAppealrent$Case;)I"⟩
theorem dX1_lambda_caseAt_3_0 : decode cX1_lambda_caseAt_3 0 = .ok (.aload_n 0, 1) := by decide +kernel
theorem dX1_lambda_caseAt_3_1 : decode cX1_lambda_caseAt_3 1 = .ok (.getfield 191, 3) := by decide +kernel
theorem dX1_lambda_caseAt_3_4 : decode cX1_lambda_caseAt_3 4 = .ok (.ireturn, 1) := by decide +kernel
abbrev cX1_lambda_caseAt_4 : ByteArray := prog_1_method_90_code
def yX1_lambda_caseAt_4 : MethodName := ⟨RX1, "lambda$caseAt$4", "(LAppealrent$Case;)I"⟩
def dkwX1_lambda_caseAt_4_0 : List UInt8 := [42, 180, 1, 60, 3, 42, 180, 1, 60, 182, 1, 93, 182, 1, 150, 172]
abbrev dktX1_lambda_caseAt_4_0 : List UInt8 := dkwX1_lambda_caseAt_4_0 ++ []
theorem dksX1_lambda_caseAt_4_0 : cX1_lambda_caseAt_4.data.toList.drop 0 = dktX1_lambda_caseAt_4_0 := by decide +kernel
theorem dX1_lambda_caseAt_4_0 : decode cX1_lambda_caseAt_4 0 = .ok (.aload_n 0, 1) := dk_42 (dk_at dksX1_lambda_caseAt_4_0 0 rfl rfl)
theorem dX1_lambda_caseAt_4_1 : decode cX1_lambda_caseAt_4 1 = .ok (.getfield 316, 3) := dk_180 1 60 (dk_at dksX1_lambda_caseAt_4_0 1 rfl rfl)
theorem dX1_lambda_caseAt_4_4 : decode cX1_lambda_caseAt_4 4 = .ok (.iconst 0, 1) := dk_3 (dk_at dksX1_lambda_caseAt_4_0 4 rfl rfl)
theorem dX1_lambda_caseAt_4_5 : decode cX1_lambda_caseAt_4 5 = .ok (.aload_n 0, 1) := dk_42 (dk_at dksX1_lambda_caseAt_4_0 5 rfl rfl)
theorem dX1_lambda_caseAt_4_6 : decode cX1_lambda_caseAt_4 6 = .ok (.getfield 316, 3) := dk_180 1 60 (dk_at dksX1_lambda_caseAt_4_0 6 rfl rfl)
theorem dX1_lambda_caseAt_4_9 : decode cX1_lambda_caseAt_4 9 = .ok (.invokevirtual 349, 3) := dk_182 1 93 (dk_at dksX1_lambda_caseAt_4_0 9 rfl rfl)
theorem dX1_lambda_caseAt_4_12 : decode cX1_lambda_caseAt_4 12 = .ok (.invokevirtual 406, 3) := dk_182 1 150 (dk_at dksX1_lambda_caseAt_4_0 12 rfl rfl)
theorem dX1_lambda_caseAt_4_15 : decode cX1_lambda_caseAt_4 15 = .ok (.ireturn, 1) := dk_172 (dk_at dksX1_lambda_caseAt_4_0 15 rfl rfl)
abbrev cX1_lambda_caseAt_5 : ByteArray := prog_1_method_89_code
def yX1_lambda_caseAt_5 : MethodName := ⟨RX1, "lambda$caseAt$5", "(LAppealrent$Case;)I"⟩
def dkwX1_lambda_caseAt_5_0 : List UInt8 := [42, 43, 3, 182, 0, 237, 172]
abbrev dktX1_lambda_caseAt_5_0 : List UInt8 := dkwX1_lambda_caseAt_5_0 ++ []
theorem dksX1_lambda_caseAt_5_0 : cX1_lambda_caseAt_5.data.toList.drop 0 = dktX1_lambda_caseAt_5_0 := by decide +kernel
theorem dX1_lambda_caseAt_5_0 : decode cX1_lambda_caseAt_5 0 = .ok (.aload_n 0, 1) := dk_42 (dk_at dksX1_lambda_caseAt_5_0 0 rfl rfl)
theorem dX1_lambda_caseAt_5_1 : decode cX1_lambda_caseAt_5 1 = .ok (.aload_n 1, 1) := dk_43 (dk_at dksX1_lambda_caseAt_5_0 1 rfl rfl)
theorem dX1_lambda_caseAt_5_2 : decode cX1_lambda_caseAt_5 2 = .ok (.iconst 0, 1) := dk_3 (dk_at dksX1_lambda_caseAt_5_0 2 rfl rfl)
theorem dX1_lambda_caseAt_5_3 : decode cX1_lambda_caseAt_5 3 = .ok (.invokevirtual 237, 3) := dk_182 0 237 (dk_at dksX1_lambda_caseAt_5_0 3 rfl rfl)
theorem dX1_lambda_caseAt_5_6 : decode cX1_lambda_caseAt_5 6 = .ok (.ireturn, 1) := dk_172 (dk_at dksX1_lambda_caseAt_5_0 6 rfl rfl)
abbrev cX1_lambda_caseAt_6 : ByteArray := prog_1_method_88_code
def yX1_lambda_caseAt_6 : MethodName := ⟨RX1, "lambda$caseAt$6", "(LAppealrent$Case;)I"⟩
def dkwX1_lambda_caseAt_6_0 : List UInt8 := [42, 43, 4, 182, 0, 237, 172]
abbrev dktX1_lambda_caseAt_6_0 : List UInt8 := dkwX1_lambda_caseAt_6_0 ++ []
theorem dksX1_lambda_caseAt_6_0 : cX1_lambda_caseAt_6.data.toList.drop 0 = dktX1_lambda_caseAt_6_0 := by decide +kernel
theorem dX1_lambda_caseAt_6_0 : decode cX1_lambda_caseAt_6 0 = .ok (.aload_n 0, 1) := dk_42 (dk_at dksX1_lambda_caseAt_6_0 0 rfl rfl)
theorem dX1_lambda_caseAt_6_1 : decode cX1_lambda_caseAt_6 1 = .ok (.aload_n 1, 1) := dk_43 (dk_at dksX1_lambda_caseAt_6_0 1 rfl rfl)
theorem dX1_lambda_caseAt_6_2 : decode cX1_lambda_caseAt_6 2 = .ok (.iconst 1, 1) := dk_4 (dk_at dksX1_lambda_caseAt_6_0 2 rfl rfl)
theorem dX1_lambda_caseAt_6_3 : decode cX1_lambda_caseAt_6 3 = .ok (.invokevirtual 237, 3) := dk_182 0 237 (dk_at dksX1_lambda_caseAt_6_0 3 rfl rfl)
theorem dX1_lambda_caseAt_6_6 : decode cX1_lambda_caseAt_6 6 = .ok (.ireturn, 1) := dk_172 (dk_at dksX1_lambda_caseAt_6_0 6 rfl rfl)
abbrev cX1_lambda_caseAt_7 : ByteArray := prog_1_method_87_code
def yX1_lambda_caseAt_7 : MethodName := ⟨RX1, "lambda$caseAt$7", "(LAppealrent$Case;)I"⟩
theorem dX1_lambda_caseAt_7_0 : decode cX1_lambda_caseAt_7 0 = .ok (.aload_n 0, 1) := by decide +kernel
theorem dX1_lambda_caseAt_7_1 : decode cX1_lambda_caseAt_7 1 = .ok (.invokevirtual 380, 3) := by decide +kernel
theorem dX1_lambda_caseAt_7_4 : decode cX1_lambda_caseAt_7 4 = .ok (.ireturn, 1) := by decide +kernel
abbrev cX1_lambda_caseAt_8 : ByteArray := prog_1_method_86_code
def yX1_lambda_caseAt_8 : MethodName := ⟨RX1, "lambda$caseAt$8", "(LAppealrent$Case;)I"⟩
theorem dX1_lambda_caseAt_8_0 : decode cX1_lambda_caseAt_8 0 = .ok (.aload_n 0, 1) := by decide +kernel
theorem dX1_lambda_caseAt_8_1 : decode cX1_lambda_caseAt_8 1 = .ok (.getfield 246, 3) := by decide +kernel
theorem dX1_lambda_caseAt_8_4 : decode cX1_lambda_caseAt_8 4 = .ok (.ireturn, 1) := by decide +kernel
abbrev cX1_lambda_caseAt_9 : ByteArray := prog_1_method_85_code
def yX1_lambda_caseAt_9 : MethodName := ⟨RX1, "lambda$caseAt$9", "(LAppealrent$Case;)I"⟩
def dkwX1_lambda_caseAt_9_0 : List UInt8 := [42, 180, 0, 249, 3, 46, 172]
abbrev dktX1_lambda_caseAt_9_0 : List UInt8 := dkwX1_lambda_caseAt_9_0 ++ []
theorem dksX1_lambda_caseAt_9_0 : cX1_lambda_caseAt_9.data.toList.drop 0 = dktX1_lambda_caseAt_9_0 := by decide +kernel
theorem dX1_lambda_caseAt_9_0 : decode cX1_lambda_caseAt_9 0 = .ok (.aload_n 0, 1) := dk_42 (dk_at dksX1_lambda_caseAt_9_0 0 rfl rfl)
theorem dX1_lambda_caseAt_9_1 : decode cX1_lambda_caseAt_9 1 = .ok (.getfield 249, 3) := dk_180 0 249 (dk_at dksX1_lambda_caseAt_9_0 1 rfl rfl)
theorem dX1_lambda_caseAt_9_4 : decode cX1_lambda_caseAt_9 4 = .ok (.iconst 0, 1) := dk_3 (dk_at dksX1_lambda_caseAt_9_0 4 rfl rfl)
theorem dX1_lambda_caseAt_9_5 : decode cX1_lambda_caseAt_9 5 = .ok (.iaload, 1) := dk_46 (dk_at dksX1_lambda_caseAt_9_0 5 rfl rfl)
theorem dX1_lambda_caseAt_9_6 : decode cX1_lambda_caseAt_9 6 = .ok (.ireturn, 1) := dk_172 (dk_at dksX1_lambda_caseAt_9_0 6 rfl rfl)
abbrev cX1_lambda_caseAt_10 : ByteArray := prog_1_method_84_code
def yX1_lambda_caseAt_10 : MethodName := ⟨RX1, "lambda$caseAt$10", "(LAppealrent$Case;)I"⟩
def dkwX1_lambda_caseAt_10_0 : List UInt8 := [42, 180, 0, 249, 4, 46, 172]
abbrev dktX1_lambda_caseAt_10_0 : List UInt8 := dkwX1_lambda_caseAt_10_0 ++ []
theorem dksX1_lambda_caseAt_10_0 : cX1_lambda_caseAt_10.data.toList.drop 0 = dktX1_lambda_caseAt_10_0 := by decide +kernel
theorem dX1_lambda_caseAt_10_0 : decode cX1_lambda_caseAt_10 0 = .ok (.aload_n 0, 1) := dk_42 (dk_at dksX1_lambda_caseAt_10_0 0 rfl rfl)
theorem dX1_lambda_caseAt_10_1 : decode cX1_lambda_caseAt_10 1 = .ok (.getfield 249, 3) := dk_180 0 249 (dk_at dksX1_lambda_caseAt_10_0 1 rfl rfl)
theorem dX1_lambda_caseAt_10_4 : decode cX1_lambda_caseAt_10 4 = .ok (.iconst 1, 1) := dk_4 (dk_at dksX1_lambda_caseAt_10_0 4 rfl rfl)
theorem dX1_lambda_caseAt_10_5 : decode cX1_lambda_caseAt_10 5 = .ok (.iaload, 1) := dk_46 (dk_at dksX1_lambda_caseAt_10_0 5 rfl rfl)
theorem dX1_lambda_caseAt_10_6 : decode cX1_lambda_caseAt_10 6 = .ok (.ireturn, 1) := dk_172 (dk_at dksX1_lambda_caseAt_10_0 6 rfl rfl)
abbrev cX1_asked : ByteArray := prog_1_method_7_code
def yX1_asked : MethodName := ⟨RX1, "asked", "(I[LAppealrent$Figure;)I"⟩
def dkwX1_asked_0 : List UInt8 := [26, 3, 43, 190, 4, 100, 184, 0, 16, 184, 0, 22, 43, 26, 50, 185, 0, 26, 1, 0, 172]
abbrev dktX1_asked_0 : List UInt8 := dkwX1_asked_0 ++ []
theorem dksX1_asked_0 : cX1_asked.data.toList.drop 0 = dktX1_asked_0 := by decide +kernel
theorem dX1_asked_0 : decode cX1_asked 0 = .ok (.iload_n 0, 1) := dk_26 (dk_at dksX1_asked_0 0 rfl rfl)
theorem dX1_asked_1 : decode cX1_asked 1 = .ok (.iconst 0, 1) := dk_3 (dk_at dksX1_asked_0 1 rfl rfl)
theorem dX1_asked_2 : decode cX1_asked 2 = .ok (.aload_n 1, 1) := dk_43 (dk_at dksX1_asked_0 2 rfl rfl)
theorem dX1_asked_3 : decode cX1_asked 3 = .ok (.arraylength, 1) := dk_190 (dk_at dksX1_asked_0 3 rfl rfl)
theorem dX1_asked_4 : decode cX1_asked 4 = .ok (.iconst 1, 1) := dk_4 (dk_at dksX1_asked_0 4 rfl rfl)
theorem dX1_asked_5 : decode cX1_asked 5 = .ok (.isub, 1) := dk_100 (dk_at dksX1_asked_0 5 rfl rfl)
theorem dX1_asked_6 : decode cX1_asked 6 = .ok (.invokestatic 16, 3) := dk_184 0 16 (dk_at dksX1_asked_0 6 rfl rfl)
theorem dX1_asked_9 : decode cX1_asked 9 = .ok (.invokestatic 22, 3) := dk_184 0 22 (dk_at dksX1_asked_0 9 rfl rfl)
theorem dX1_asked_12 : decode cX1_asked 12 = .ok (.aload_n 1, 1) := dk_43 (dk_at dksX1_asked_0 12 rfl rfl)
theorem dX1_asked_13 : decode cX1_asked 13 = .ok (.iload_n 0, 1) := dk_26 (dk_at dksX1_asked_0 13 rfl rfl)
theorem dX1_asked_14 : decode cX1_asked 14 = .ok (.aaload, 1) := dk_50 (dk_at dksX1_asked_0 14 rfl rfl)
theorem dX1_asked_15 : decode cX1_asked 15 = .ok (.invokeinterface 26 1, 5) := by decide +kernel
theorem dX1_asked_20 : decode cX1_asked 20 = .ok (.ireturn, 1) := dk_172 (dk_at dksX1_asked_0 20 rfl rfl)
abbrev cX1_formAt : ByteArray := prog_1_method_40_code
def yX1_formAt : MethodName := ⟨RX1, "formAt", "(II)I"⟩
def dkwX1_formAt_2 : List UInt8 := [89, 7, 45, 186, 1, 42, 0, 0, 83, 184, 1, 32, 172]
abbrev dktX1_formAt_2 : List UInt8 := dkwX1_formAt_2 ++ []
def dkwX1_formAt_1 : List UInt8 := [186, 1, 39, 0, 0, 83, 89, 5, 45, 186, 1, 40, 0, 0, 83, 89, 6, 45, 186, 1, 41, 0, 0, 83]
abbrev dktX1_formAt_1 : List UInt8 := dkwX1_formAt_1 ++ dktX1_formAt_2
def dkwX1_formAt_0 : List UInt8 := [42, 27, 182, 0, 210, 78, 28, 8, 189, 0, 27, 89, 3, 45, 186, 1, 36, 0, 0, 83, 89, 4, 45]
abbrev dktX1_formAt_0 : List UInt8 := dkwX1_formAt_0 ++ dktX1_formAt_1
theorem dksX1_formAt_0 : cX1_formAt.data.toList.drop 0 = dktX1_formAt_0 := by decide +kernel
theorem dksX1_formAt_1 : cX1_formAt.data.toList.drop 23 = dktX1_formAt_1 := dk_seg dksX1_formAt_0 23 rfl rfl
theorem dksX1_formAt_2 : cX1_formAt.data.toList.drop 47 = dktX1_formAt_2 := dk_seg dksX1_formAt_1 24 rfl rfl
theorem dX1_formAt_0 : decode cX1_formAt 0 = .ok (.aload_n 0, 1) := dk_42 (dk_at dksX1_formAt_0 0 rfl rfl)
theorem dX1_formAt_1 : decode cX1_formAt 1 = .ok (.iload_n 1, 1) := dk_27 (dk_at dksX1_formAt_0 1 rfl rfl)
theorem dX1_formAt_2 : decode cX1_formAt 2 = .ok (.invokevirtual 210, 3) := dk_182 0 210 (dk_at dksX1_formAt_0 2 rfl rfl)
theorem dX1_formAt_5 : decode cX1_formAt 5 = .ok (.astore_n 3, 1) := dk_78 (dk_at dksX1_formAt_0 5 rfl rfl)
theorem dX1_formAt_6 : decode cX1_formAt 6 = .ok (.iload_n 2, 1) := dk_28 (dk_at dksX1_formAt_0 6 rfl rfl)
theorem dX1_formAt_7 : decode cX1_formAt 7 = .ok (.iconst 5, 1) := dk_8 (dk_at dksX1_formAt_0 7 rfl rfl)
theorem dX1_formAt_8 : decode cX1_formAt 8 = .ok (.anewarray 27, 3) := dk_189 0 27 (dk_at dksX1_formAt_0 8 rfl rfl)
theorem dX1_formAt_11 : decode cX1_formAt 11 = .ok (.dup, 1) := dk_89 (dk_at dksX1_formAt_0 11 rfl rfl)
theorem dX1_formAt_12 : decode cX1_formAt 12 = .ok (.iconst 0, 1) := dk_3 (dk_at dksX1_formAt_0 12 rfl rfl)
theorem dX1_formAt_13 : decode cX1_formAt 13 = .ok (.aload_n 3, 1) := dk_45 (dk_at dksX1_formAt_0 13 rfl rfl)
theorem dX1_formAt_14 : decode cX1_formAt 14 = .ok (.invokedynamic 292, 5) := by decide +kernel
theorem dX1_formAt_19 : decode cX1_formAt 19 = .ok (.aastore, 1) := dk_83 (dk_at dksX1_formAt_0 19 rfl rfl)
theorem dX1_formAt_20 : decode cX1_formAt 20 = .ok (.dup, 1) := dk_89 (dk_at dksX1_formAt_0 20 rfl rfl)
theorem dX1_formAt_21 : decode cX1_formAt 21 = .ok (.iconst 1, 1) := dk_4 (dk_at dksX1_formAt_0 21 rfl rfl)
theorem dX1_formAt_22 : decode cX1_formAt 22 = .ok (.aload_n 3, 1) := dk_45 (dk_at dksX1_formAt_0 22 rfl rfl)
theorem dX1_formAt_23 : decode cX1_formAt 23 = .ok (.invokedynamic 295, 5) := by decide +kernel
theorem dX1_formAt_28 : decode cX1_formAt 28 = .ok (.aastore, 1) := dk_83 (dk_at dksX1_formAt_1 5 rfl rfl)
theorem dX1_formAt_29 : decode cX1_formAt 29 = .ok (.dup, 1) := dk_89 (dk_at dksX1_formAt_1 6 rfl rfl)
theorem dX1_formAt_30 : decode cX1_formAt 30 = .ok (.iconst 2, 1) := dk_5 (dk_at dksX1_formAt_1 7 rfl rfl)
theorem dX1_formAt_31 : decode cX1_formAt 31 = .ok (.aload_n 3, 1) := dk_45 (dk_at dksX1_formAt_1 8 rfl rfl)
theorem dX1_formAt_32 : decode cX1_formAt 32 = .ok (.invokedynamic 296, 5) := by decide +kernel
theorem dX1_formAt_37 : decode cX1_formAt 37 = .ok (.aastore, 1) := dk_83 (dk_at dksX1_formAt_1 14 rfl rfl)
theorem dX1_formAt_38 : decode cX1_formAt 38 = .ok (.dup, 1) := dk_89 (dk_at dksX1_formAt_1 15 rfl rfl)
theorem dX1_formAt_39 : decode cX1_formAt 39 = .ok (.iconst 3, 1) := dk_6 (dk_at dksX1_formAt_1 16 rfl rfl)
theorem dX1_formAt_40 : decode cX1_formAt 40 = .ok (.aload_n 3, 1) := dk_45 (dk_at dksX1_formAt_1 17 rfl rfl)
theorem dX1_formAt_41 : decode cX1_formAt 41 = .ok (.invokedynamic 297, 5) := by decide +kernel
theorem dX1_formAt_46 : decode cX1_formAt 46 = .ok (.aastore, 1) := dk_83 (dk_at dksX1_formAt_1 23 rfl rfl)
theorem dX1_formAt_47 : decode cX1_formAt 47 = .ok (.dup, 1) := dk_89 (dk_at dksX1_formAt_2 0 rfl rfl)
theorem dX1_formAt_48 : decode cX1_formAt 48 = .ok (.iconst 4, 1) := dk_7 (dk_at dksX1_formAt_2 1 rfl rfl)
theorem dX1_formAt_49 : decode cX1_formAt 49 = .ok (.aload_n 3, 1) := dk_45 (dk_at dksX1_formAt_2 2 rfl rfl)
theorem dX1_formAt_50 : decode cX1_formAt 50 = .ok (.invokedynamic 298, 5) := by decide +kernel
theorem dX1_formAt_55 : decode cX1_formAt 55 = .ok (.aastore, 1) := dk_83 (dk_at dksX1_formAt_2 8 rfl rfl)
theorem dX1_formAt_56 : decode cX1_formAt 56 = .ok (.invokestatic 288, 3) := dk_184 1 32 (dk_at dksX1_formAt_2 9 rfl rfl)
theorem dX1_formAt_59 : decode cX1_formAt 59 = .ok (.ireturn, 1) := dk_172 (dk_at dksX1_formAt_2 12 rfl rfl)
abbrev cX1_lambda_formAt_11 : ByteArray := prog_1_method_83_code
def yX1_lambda_formAt_11 : MethodName := ⟨RX1, "lambda$formAt$11", "(LAppealrent$Form;)I"⟩
def dkwX1_lambda_formAt_11_0 : List UInt8 := [42, 180, 0, 115, 180, 1, 140, 172]
abbrev dktX1_lambda_formAt_11_0 : List UInt8 := dkwX1_lambda_formAt_11_0 ++ []
theorem dksX1_lambda_formAt_11_0 : cX1_lambda_formAt_11.data.toList.drop 0 = dktX1_lambda_formAt_11_0 := by decide +kernel
theorem dX1_lambda_formAt_11_0 : decode cX1_lambda_formAt_11 0 = .ok (.aload_n 0, 1) := dk_42 (dk_at dksX1_lambda_formAt_11_0 0 rfl rfl)
theorem dX1_lambda_formAt_11_1 : decode cX1_lambda_formAt_11 1 = .ok (.getfield 115, 3) := dk_180 0 115 (dk_at dksX1_lambda_formAt_11_0 1 rfl rfl)
theorem dX1_lambda_formAt_11_4 : decode cX1_lambda_formAt_11 4 = .ok (.getfield 396, 3) := dk_180 1 140 (dk_at dksX1_lambda_formAt_11_0 4 rfl rfl)
theorem dX1_lambda_formAt_11_7 : decode cX1_lambda_formAt_11 7 = .ok (.ireturn, 1) := dk_172 (dk_at dksX1_lambda_formAt_11_0 7 rfl rfl)
abbrev cX1_lambda_formAt_12 : ByteArray := prog_1_method_82_code
def yX1_lambda_formAt_12 : MethodName := ⟨RX1, "lambda$formAt$12", "(LAppealrent$Form;)I"⟩
theorem dX1_lambda_formAt_12_0 : decode cX1_lambda_formAt_12 0 = .ok (.aload_n 0, 1) := by decide +kernel
theorem dX1_lambda_formAt_12_1 : decode cX1_lambda_formAt_12 1 = .ok (.getfield 265, 3) := by decide +kernel
theorem dX1_lambda_formAt_12_4 : decode cX1_lambda_formAt_12 4 = .ok (.ireturn, 1) := by decide +kernel
abbrev cX1_lambda_formAt_13 : ByteArray := prog_1_method_81_code
def yX1_lambda_formAt_13 : MethodName := ⟨RX1, "lambda$formAt$13", "(LAppealrent$Form;)I"⟩
theorem dX1_lambda_formAt_13_0 : decode cX1_lambda_formAt_13 0 = .ok (.aload_n 0, 1) := by decide +kernel
theorem dX1_lambda_formAt_13_1 : decode cX1_lambda_formAt_13 1 = .ok (.getfield 127, 3) := by decide +kernel
theorem dX1_lambda_formAt_13_4 : decode cX1_lambda_formAt_13 4 = .ok (.ireturn, 1) := by decide +kernel
abbrev cX1_lambda_formAt_14 : ByteArray := prog_1_method_80_code
def yX1_lambda_formAt_14 : MethodName := ⟨RX1, "lambda$formAt$14", "(LAppealrent$Form;)I"⟩
theorem dX1_lambda_formAt_14_0 : decode cX1_lambda_formAt_14 0 = .ok (.aload_n 0, 1) := by decide +kernel
theorem dX1_lambda_formAt_14_1 : decode cX1_lambda_formAt_14 1 = .ok (.getfield 119, 3) := by decide +kernel
theorem dX1_lambda_formAt_14_4 : decode cX1_lambda_formAt_14 4 = .ok (.ireturn, 1) := by decide +kernel
abbrev cX1_lambda_formAt_15 : ByteArray := prog_1_method_79_code
def yX1_lambda_formAt_15 : MethodName := ⟨RX1, "lambda$formAt$15", "(LAppealrent$Form;)I"⟩
theorem dX1_lambda_formAt_15_0 : decode cX1_lambda_formAt_15 0 = .ok (.aload_n 0, 1) := by decide +kernel
theorem dX1_lambda_formAt_15_1 : decode cX1_lambda_formAt_15 1 = .ok (.invokevirtual 404, 3) := by decide +kernel
theorem dX1_lambda_formAt_15_4 : decode cX1_lambda_formAt_15 4 = .ok (.ireturn, 1) := by decide +kernel
abbrev cX1_ruleAt : ByteArray := prog_1_method_41_code
def yX1_ruleAt : MethodName := ⟨RX1, "ruleAt", "(II)I"⟩
def dkwX1_ruleAt_4 : List UInt8 := [89, 16, 6, 45, 186, 1, 51, 0, 0, 83, 184, 1, 32, 172]
abbrev dktX1_ruleAt_4 : List UInt8 := dkwX1_ruleAt_4 ++ []
def dkwX1_ruleAt_3 : List UInt8 := [186, 1, 48, 0, 0, 83, 89, 7, 45, 186, 1, 49, 0, 0, 83, 89, 8, 45, 186, 1, 50, 0, 0, 83]
abbrev dktX1_ruleAt_3 : List UInt8 := dkwX1_ruleAt_3 ++ dktX1_ruleAt_4
def dkwX1_ruleAt_2 : List UInt8 := [89, 4, 45, 186, 1, 46, 0, 0, 83, 89, 5, 45, 186, 1, 47, 0, 0, 83, 89, 6, 45]
abbrev dktX1_ruleAt_2 : List UInt8 := dkwX1_ruleAt_2 ++ dktX1_ruleAt_3
def dkwX1_ruleAt_1 : List UInt8 := [185, 0, 83, 2, 0, 192, 0, 66, 78, 28, 16, 7, 189, 0, 27, 89, 3, 45, 186, 1, 43, 0, 0, 83]
abbrev dktX1_ruleAt_1 : List UInt8 := dkwX1_ruleAt_1 ++ dktX1_ruleAt_2
def dkwX1_ruleAt_0 : List UInt8 := [27, 3, 42, 180, 0, 47, 185, 0, 77, 1, 0, 4, 100, 184, 0, 16, 184, 0, 80, 42, 180, 0, 47, 27]
abbrev dktX1_ruleAt_0 : List UInt8 := dkwX1_ruleAt_0 ++ dktX1_ruleAt_1
theorem dksX1_ruleAt_0 : cX1_ruleAt.data.toList.drop 0 = dktX1_ruleAt_0 := by decide +kernel
theorem dksX1_ruleAt_1 : cX1_ruleAt.data.toList.drop 24 = dktX1_ruleAt_1 := dk_seg dksX1_ruleAt_0 24 rfl rfl
theorem dksX1_ruleAt_2 : cX1_ruleAt.data.toList.drop 48 = dktX1_ruleAt_2 := dk_seg dksX1_ruleAt_1 24 rfl rfl
theorem dksX1_ruleAt_3 : cX1_ruleAt.data.toList.drop 69 = dktX1_ruleAt_3 := dk_seg dksX1_ruleAt_2 21 rfl rfl
theorem dksX1_ruleAt_4 : cX1_ruleAt.data.toList.drop 93 = dktX1_ruleAt_4 := dk_seg dksX1_ruleAt_3 24 rfl rfl
theorem dX1_ruleAt_0 : decode cX1_ruleAt 0 = .ok (.iload_n 1, 1) := dk_27 (dk_at dksX1_ruleAt_0 0 rfl rfl)
theorem dX1_ruleAt_1 : decode cX1_ruleAt 1 = .ok (.iconst 0, 1) := dk_3 (dk_at dksX1_ruleAt_0 1 rfl rfl)
theorem dX1_ruleAt_2 : decode cX1_ruleAt 2 = .ok (.aload_n 0, 1) := dk_42 (dk_at dksX1_ruleAt_0 2 rfl rfl)
theorem dX1_ruleAt_3 : decode cX1_ruleAt 3 = .ok (.getfield 47, 3) := dk_180 0 47 (dk_at dksX1_ruleAt_0 3 rfl rfl)
theorem dX1_ruleAt_6 : decode cX1_ruleAt 6 = .ok (.invokeinterface 77 1, 5) := by decide +kernel
theorem dX1_ruleAt_11 : decode cX1_ruleAt 11 = .ok (.iconst 1, 1) := dk_4 (dk_at dksX1_ruleAt_0 11 rfl rfl)
theorem dX1_ruleAt_12 : decode cX1_ruleAt 12 = .ok (.isub, 1) := dk_100 (dk_at dksX1_ruleAt_0 12 rfl rfl)
theorem dX1_ruleAt_13 : decode cX1_ruleAt 13 = .ok (.invokestatic 16, 3) := dk_184 0 16 (dk_at dksX1_ruleAt_0 13 rfl rfl)
theorem dX1_ruleAt_16 : decode cX1_ruleAt 16 = .ok (.invokestatic 80, 3) := dk_184 0 80 (dk_at dksX1_ruleAt_0 16 rfl rfl)
theorem dX1_ruleAt_19 : decode cX1_ruleAt 19 = .ok (.aload_n 0, 1) := dk_42 (dk_at dksX1_ruleAt_0 19 rfl rfl)
theorem dX1_ruleAt_20 : decode cX1_ruleAt 20 = .ok (.getfield 47, 3) := dk_180 0 47 (dk_at dksX1_ruleAt_0 20 rfl rfl)
theorem dX1_ruleAt_23 : decode cX1_ruleAt 23 = .ok (.iload_n 1, 1) := dk_27 (dk_at dksX1_ruleAt_0 23 rfl rfl)
theorem dX1_ruleAt_24 : decode cX1_ruleAt 24 = .ok (.invokeinterface 83 2, 5) := by decide +kernel
theorem dX1_ruleAt_29 : decode cX1_ruleAt 29 = .ok (.checkcast 66, 3) := dk_192 0 66 (dk_at dksX1_ruleAt_1 5 rfl rfl)
theorem dX1_ruleAt_32 : decode cX1_ruleAt 32 = .ok (.astore_n 3, 1) := dk_78 (dk_at dksX1_ruleAt_1 8 rfl rfl)
theorem dX1_ruleAt_33 : decode cX1_ruleAt 33 = .ok (.iload_n 2, 1) := dk_28 (dk_at dksX1_ruleAt_1 9 rfl rfl)
theorem dX1_ruleAt_34 : decode cX1_ruleAt 34 = .ok (.bipush 7, 2) := dk_16 7 (dk_at dksX1_ruleAt_1 10 rfl rfl)
theorem dX1_ruleAt_36 : decode cX1_ruleAt 36 = .ok (.anewarray 27, 3) := dk_189 0 27 (dk_at dksX1_ruleAt_1 12 rfl rfl)
theorem dX1_ruleAt_39 : decode cX1_ruleAt 39 = .ok (.dup, 1) := dk_89 (dk_at dksX1_ruleAt_1 15 rfl rfl)
theorem dX1_ruleAt_40 : decode cX1_ruleAt 40 = .ok (.iconst 0, 1) := dk_3 (dk_at dksX1_ruleAt_1 16 rfl rfl)
theorem dX1_ruleAt_41 : decode cX1_ruleAt 41 = .ok (.aload_n 3, 1) := dk_45 (dk_at dksX1_ruleAt_1 17 rfl rfl)
theorem dX1_ruleAt_42 : decode cX1_ruleAt 42 = .ok (.invokedynamic 299, 5) := by decide +kernel
theorem dX1_ruleAt_47 : decode cX1_ruleAt 47 = .ok (.aastore, 1) := dk_83 (dk_at dksX1_ruleAt_1 23 rfl rfl)
theorem dX1_ruleAt_48 : decode cX1_ruleAt 48 = .ok (.dup, 1) := dk_89 (dk_at dksX1_ruleAt_2 0 rfl rfl)
theorem dX1_ruleAt_49 : decode cX1_ruleAt 49 = .ok (.iconst 1, 1) := dk_4 (dk_at dksX1_ruleAt_2 1 rfl rfl)
theorem dX1_ruleAt_50 : decode cX1_ruleAt 50 = .ok (.aload_n 3, 1) := dk_45 (dk_at dksX1_ruleAt_2 2 rfl rfl)
theorem dX1_ruleAt_51 : decode cX1_ruleAt 51 = .ok (.invokedynamic 302, 5) := by decide +kernel
theorem dX1_ruleAt_56 : decode cX1_ruleAt 56 = .ok (.aastore, 1) := dk_83 (dk_at dksX1_ruleAt_2 8 rfl rfl)
theorem dX1_ruleAt_57 : decode cX1_ruleAt 57 = .ok (.dup, 1) := dk_89 (dk_at dksX1_ruleAt_2 9 rfl rfl)
theorem dX1_ruleAt_58 : decode cX1_ruleAt 58 = .ok (.iconst 2, 1) := dk_5 (dk_at dksX1_ruleAt_2 10 rfl rfl)
theorem dX1_ruleAt_59 : decode cX1_ruleAt 59 = .ok (.aload_n 3, 1) := dk_45 (dk_at dksX1_ruleAt_2 11 rfl rfl)
theorem dX1_ruleAt_60 : decode cX1_ruleAt 60 = .ok (.invokedynamic 303, 5) := by decide +kernel
theorem dX1_ruleAt_65 : decode cX1_ruleAt 65 = .ok (.aastore, 1) := dk_83 (dk_at dksX1_ruleAt_2 17 rfl rfl)
theorem dX1_ruleAt_66 : decode cX1_ruleAt 66 = .ok (.dup, 1) := dk_89 (dk_at dksX1_ruleAt_2 18 rfl rfl)
theorem dX1_ruleAt_67 : decode cX1_ruleAt 67 = .ok (.iconst 3, 1) := dk_6 (dk_at dksX1_ruleAt_2 19 rfl rfl)
theorem dX1_ruleAt_68 : decode cX1_ruleAt 68 = .ok (.aload_n 3, 1) := dk_45 (dk_at dksX1_ruleAt_2 20 rfl rfl)
theorem dX1_ruleAt_69 : decode cX1_ruleAt 69 = .ok (.invokedynamic 304, 5) := by decide +kernel
theorem dX1_ruleAt_74 : decode cX1_ruleAt 74 = .ok (.aastore, 1) := dk_83 (dk_at dksX1_ruleAt_3 5 rfl rfl)
theorem dX1_ruleAt_75 : decode cX1_ruleAt 75 = .ok (.dup, 1) := dk_89 (dk_at dksX1_ruleAt_3 6 rfl rfl)
theorem dX1_ruleAt_76 : decode cX1_ruleAt 76 = .ok (.iconst 4, 1) := dk_7 (dk_at dksX1_ruleAt_3 7 rfl rfl)
theorem dX1_ruleAt_77 : decode cX1_ruleAt 77 = .ok (.aload_n 3, 1) := dk_45 (dk_at dksX1_ruleAt_3 8 rfl rfl)
theorem dX1_ruleAt_78 : decode cX1_ruleAt 78 = .ok (.invokedynamic 305, 5) := by decide +kernel
theorem dX1_ruleAt_83 : decode cX1_ruleAt 83 = .ok (.aastore, 1) := dk_83 (dk_at dksX1_ruleAt_3 14 rfl rfl)
theorem dX1_ruleAt_84 : decode cX1_ruleAt 84 = .ok (.dup, 1) := dk_89 (dk_at dksX1_ruleAt_3 15 rfl rfl)
theorem dX1_ruleAt_85 : decode cX1_ruleAt 85 = .ok (.iconst 5, 1) := dk_8 (dk_at dksX1_ruleAt_3 16 rfl rfl)
theorem dX1_ruleAt_86 : decode cX1_ruleAt 86 = .ok (.aload_n 3, 1) := dk_45 (dk_at dksX1_ruleAt_3 17 rfl rfl)
theorem dX1_ruleAt_87 : decode cX1_ruleAt 87 = .ok (.invokedynamic 306, 5) := by decide +kernel
theorem dX1_ruleAt_92 : decode cX1_ruleAt 92 = .ok (.aastore, 1) := dk_83 (dk_at dksX1_ruleAt_3 23 rfl rfl)
theorem dX1_ruleAt_93 : decode cX1_ruleAt 93 = .ok (.dup, 1) := dk_89 (dk_at dksX1_ruleAt_4 0 rfl rfl)
theorem dX1_ruleAt_94 : decode cX1_ruleAt 94 = .ok (.bipush 6, 2) := dk_16 6 (dk_at dksX1_ruleAt_4 1 rfl rfl)
theorem dX1_ruleAt_96 : decode cX1_ruleAt 96 = .ok (.aload_n 3, 1) := dk_45 (dk_at dksX1_ruleAt_4 3 rfl rfl)
theorem dX1_ruleAt_97 : decode cX1_ruleAt 97 = .ok (.invokedynamic 307, 5) := by decide +kernel
theorem dX1_ruleAt_102 : decode cX1_ruleAt 102 = .ok (.aastore, 1) := dk_83 (dk_at dksX1_ruleAt_4 9 rfl rfl)
theorem dX1_ruleAt_103 : decode cX1_ruleAt 103 = .ok (.invokestatic 288, 3) := dk_184 1 32 (dk_at dksX1_ruleAt_4 10 rfl rfl)
theorem dX1_ruleAt_106 : decode cX1_ruleAt 106 = .ok (.ireturn, 1) := dk_172 (dk_at dksX1_ruleAt_4 13 rfl rfl)
abbrev cX1_lambda_ruleAt_16 : ByteArray := prog_1_method_78_code
def yX1_lambda_ruleAt_16 : MethodName := ⟨RX1, "lambda$ruleAt$16", "(LAppealrent$Rule;)I"⟩
theorem dX1_lambda_ruleAt_16_0 : decode cX1_lambda_ruleAt_16 0 = .ok (.aload_n 0, 1) := by decide +kernel
theorem dX1_lambda_ruleAt_16_1 : decode cX1_lambda_ruleAt_16 1 = .ok (.getfield 403, 3) := by decide +kernel
theorem dX1_lambda_ruleAt_16_4 : decode cX1_lambda_ruleAt_16 4 = .ok (.ireturn, 1) := by decide +kernel
abbrev cX1_lambda_ruleAt_17 : ByteArray := prog_1_method_77_code
def yX1_lambda_ruleAt_17 : MethodName := ⟨RX1, "lambda$ruleAt$17", "(LAppealrent$Rule;)I"⟩
def dkwX1_lambda_ruleAt_17_0 : List UInt8 := [42, 180, 1, 143, 184, 0, 130, 172]
abbrev dktX1_lambda_ruleAt_17_0 : List UInt8 := dkwX1_lambda_ruleAt_17_0 ++ []
theorem dksX1_lambda_ruleAt_17_0 : cX1_lambda_ruleAt_17.data.toList.drop 0 = dktX1_lambda_ruleAt_17_0 := by decide +kernel
theorem dX1_lambda_ruleAt_17_0 : decode cX1_lambda_ruleAt_17 0 = .ok (.aload_n 0, 1) := dk_42 (dk_at dksX1_lambda_ruleAt_17_0 0 rfl rfl)
theorem dX1_lambda_ruleAt_17_1 : decode cX1_lambda_ruleAt_17 1 = .ok (.getfield 399, 3) := dk_180 1 143 (dk_at dksX1_lambda_ruleAt_17_0 1 rfl rfl)
theorem dX1_lambda_ruleAt_17_4 : decode cX1_lambda_ruleAt_17 4 = .ok (.invokestatic 130, 3) := dk_184 0 130 (dk_at dksX1_lambda_ruleAt_17_0 4 rfl rfl)
theorem dX1_lambda_ruleAt_17_7 : decode cX1_lambda_ruleAt_17 7 = .ok (.ireturn, 1) := dk_172 (dk_at dksX1_lambda_ruleAt_17_0 7 rfl rfl)
abbrev cX1_lambda_ruleAt_18 : ByteArray := prog_1_method_76_code
def yX1_lambda_ruleAt_18 : MethodName := ⟨RX1, "lambda$ruleAt$18", "(LAppealrent$Rule;)I"⟩
def dkwX1_lambda_ruleAt_18_0 : List UInt8 := [42, 180, 1, 141, 3, 46, 172]
abbrev dktX1_lambda_ruleAt_18_0 : List UInt8 := dkwX1_lambda_ruleAt_18_0 ++ []
theorem dksX1_lambda_ruleAt_18_0 : cX1_lambda_ruleAt_18.data.toList.drop 0 = dktX1_lambda_ruleAt_18_0 := by decide +kernel
theorem dX1_lambda_ruleAt_18_0 : decode cX1_lambda_ruleAt_18 0 = .ok (.aload_n 0, 1) := dk_42 (dk_at dksX1_lambda_ruleAt_18_0 0 rfl rfl)
theorem dX1_lambda_ruleAt_18_1 : decode cX1_lambda_ruleAt_18 1 = .ok (.getfield 397, 3) := dk_180 1 141 (dk_at dksX1_lambda_ruleAt_18_0 1 rfl rfl)
theorem dX1_lambda_ruleAt_18_4 : decode cX1_lambda_ruleAt_18 4 = .ok (.iconst 0, 1) := dk_3 (dk_at dksX1_lambda_ruleAt_18_0 4 rfl rfl)
theorem dX1_lambda_ruleAt_18_5 : decode cX1_lambda_ruleAt_18 5 = .ok (.iaload, 1) := dk_46 (dk_at dksX1_lambda_ruleAt_18_0 5 rfl rfl)
theorem dX1_lambda_ruleAt_18_6 : decode cX1_lambda_ruleAt_18 6 = .ok (.ireturn, 1) := dk_172 (dk_at dksX1_lambda_ruleAt_18_0 6 rfl rfl)
abbrev cX1_lambda_ruleAt_19 : ByteArray := prog_1_method_75_code
def yX1_lambda_ruleAt_19 : MethodName := ⟨RX1, "lambda$ruleAt$19", "(LAppealrent$Rule;)I"⟩
def dkwX1_lambda_ruleAt_19_0 : List UInt8 := [42, 180, 1, 141, 4, 46, 172]
abbrev dktX1_lambda_ruleAt_19_0 : List UInt8 := dkwX1_lambda_ruleAt_19_0 ++ []
theorem dksX1_lambda_ruleAt_19_0 : cX1_lambda_ruleAt_19.data.toList.drop 0 = dktX1_lambda_ruleAt_19_0 := by decide +kernel
theorem dX1_lambda_ruleAt_19_0 : decode cX1_lambda_ruleAt_19 0 = .ok (.aload_n 0, 1) := dk_42 (dk_at dksX1_lambda_ruleAt_19_0 0 rfl rfl)
theorem dX1_lambda_ruleAt_19_1 : decode cX1_lambda_ruleAt_19 1 = .ok (.getfield 397, 3) := dk_180 1 141 (dk_at dksX1_lambda_ruleAt_19_0 1 rfl rfl)
theorem dX1_lambda_ruleAt_19_4 : decode cX1_lambda_ruleAt_19 4 = .ok (.iconst 1, 1) := dk_4 (dk_at dksX1_lambda_ruleAt_19_0 4 rfl rfl)
theorem dX1_lambda_ruleAt_19_5 : decode cX1_lambda_ruleAt_19 5 = .ok (.iaload, 1) := dk_46 (dk_at dksX1_lambda_ruleAt_19_0 5 rfl rfl)
theorem dX1_lambda_ruleAt_19_6 : decode cX1_lambda_ruleAt_19 6 = .ok (.ireturn, 1) := dk_172 (dk_at dksX1_lambda_ruleAt_19_0 6 rfl rfl)
abbrev cX1_lambda_ruleAt_20 : ByteArray := prog_1_method_74_code
def yX1_lambda_ruleAt_20 : MethodName := ⟨RX1, "lambda$ruleAt$20", "(LAppealrent$Rule;)I"⟩
def dkwX1_lambda_ruleAt_20_0 : List UInt8 := [42, 180, 1, 141, 5, 46, 172]
abbrev dktX1_lambda_ruleAt_20_0 : List UInt8 := dkwX1_lambda_ruleAt_20_0 ++ []
theorem dksX1_lambda_ruleAt_20_0 : cX1_lambda_ruleAt_20.data.toList.drop 0 = dktX1_lambda_ruleAt_20_0 := by decide +kernel
theorem dX1_lambda_ruleAt_20_0 : decode cX1_lambda_ruleAt_20 0 = .ok (.aload_n 0, 1) := dk_42 (dk_at dksX1_lambda_ruleAt_20_0 0 rfl rfl)
theorem dX1_lambda_ruleAt_20_1 : decode cX1_lambda_ruleAt_20 1 = .ok (.getfield 397, 3) := dk_180 1 141 (dk_at dksX1_lambda_ruleAt_20_0 1 rfl rfl)
theorem dX1_lambda_ruleAt_20_4 : decode cX1_lambda_ruleAt_20 4 = .ok (.iconst 2, 1) := dk_5 (dk_at dksX1_lambda_ruleAt_20_0 4 rfl rfl)
theorem dX1_lambda_ruleAt_20_5 : decode cX1_lambda_ruleAt_20 5 = .ok (.iaload, 1) := dk_46 (dk_at dksX1_lambda_ruleAt_20_0 5 rfl rfl)
theorem dX1_lambda_ruleAt_20_6 : decode cX1_lambda_ruleAt_20 6 = .ok (.ireturn, 1) := dk_172 (dk_at dksX1_lambda_ruleAt_20_0 6 rfl rfl)
abbrev cX1_lambda_ruleAt_21 : ByteArray := prog_1_method_73_code
def yX1_lambda_ruleAt_21 : MethodName := ⟨RX1, "lambda$ruleAt$21", "(LAppealrent$Rule;)I"⟩
def dkwX1_lambda_ruleAt_21_0 : List UInt8 := [42, 180, 1, 141, 6, 46, 172]
abbrev dktX1_lambda_ruleAt_21_0 : List UInt8 := dkwX1_lambda_ruleAt_21_0 ++ []
theorem dksX1_lambda_ruleAt_21_0 : cX1_lambda_ruleAt_21.data.toList.drop 0 = dktX1_lambda_ruleAt_21_0 := by decide +kernel
theorem dX1_lambda_ruleAt_21_0 : decode cX1_lambda_ruleAt_21 0 = .ok (.aload_n 0, 1) := dk_42 (dk_at dksX1_lambda_ruleAt_21_0 0 rfl rfl)
theorem dX1_lambda_ruleAt_21_1 : decode cX1_lambda_ruleAt_21 1 = .ok (.getfield 397, 3) := dk_180 1 141 (dk_at dksX1_lambda_ruleAt_21_0 1 rfl rfl)
theorem dX1_lambda_ruleAt_21_4 : decode cX1_lambda_ruleAt_21 4 = .ok (.iconst 3, 1) := dk_6 (dk_at dksX1_lambda_ruleAt_21_0 4 rfl rfl)
theorem dX1_lambda_ruleAt_21_5 : decode cX1_lambda_ruleAt_21 5 = .ok (.iaload, 1) := dk_46 (dk_at dksX1_lambda_ruleAt_21_0 5 rfl rfl)
theorem dX1_lambda_ruleAt_21_6 : decode cX1_lambda_ruleAt_21 6 = .ok (.ireturn, 1) := dk_172 (dk_at dksX1_lambda_ruleAt_21_0 6 rfl rfl)
abbrev cX1_lambda_ruleAt_22 : ByteArray := prog_1_method_72_code
def yX1_lambda_ruleAt_22 : MethodName := ⟨RX1, "lambda$ruleAt$22", "(LAppealrent$Rule;)I"⟩
def dkwX1_lambda_ruleAt_22_0 : List UInt8 := [42, 180, 1, 141, 7, 46, 172]
abbrev dktX1_lambda_ruleAt_22_0 : List UInt8 := dkwX1_lambda_ruleAt_22_0 ++ []
theorem dksX1_lambda_ruleAt_22_0 : cX1_lambda_ruleAt_22.data.toList.drop 0 = dktX1_lambda_ruleAt_22_0 := by decide +kernel
theorem dX1_lambda_ruleAt_22_0 : decode cX1_lambda_ruleAt_22 0 = .ok (.aload_n 0, 1) := dk_42 (dk_at dksX1_lambda_ruleAt_22_0 0 rfl rfl)
theorem dX1_lambda_ruleAt_22_1 : decode cX1_lambda_ruleAt_22 1 = .ok (.getfield 397, 3) := dk_180 1 141 (dk_at dksX1_lambda_ruleAt_22_0 1 rfl rfl)
theorem dX1_lambda_ruleAt_22_4 : decode cX1_lambda_ruleAt_22 4 = .ok (.iconst 4, 1) := dk_7 (dk_at dksX1_lambda_ruleAt_22_0 4 rfl rfl)
theorem dX1_lambda_ruleAt_22_5 : decode cX1_lambda_ruleAt_22 5 = .ok (.iaload, 1) := dk_46 (dk_at dksX1_lambda_ruleAt_22_0 5 rfl rfl)
theorem dX1_lambda_ruleAt_22_6 : decode cX1_lambda_ruleAt_22 6 = .ok (.ireturn, 1) := dk_172 (dk_at dksX1_lambda_ruleAt_22_0 6 rfl rfl)
abbrev cX1_claimAt : ByteArray := prog_1_method_42_code
def yX1_claimAt : MethodName := ⟨RX1, "claimAt", "(II)I"⟩
def dkwX1_claimAt_2 : List UInt8 := [89, 7, 45, 186, 1, 58, 0, 0, 83, 89, 8, 45, 186, 1, 59, 0, 0, 83, 184, 1, 32, 172]
abbrev dktX1_claimAt_2 : List UInt8 := dkwX1_claimAt_2 ++ []
def dkwX1_claimAt_1 : List UInt8 := [186, 1, 55, 0, 0, 83, 89, 5, 45, 186, 1, 56, 0, 0, 83, 89, 6, 45, 186, 1, 57, 0, 0, 83]
abbrev dktX1_claimAt_1 : List UInt8 := dkwX1_claimAt_1 ++ dktX1_claimAt_2
def dkwX1_claimAt_0 : List UInt8 := [42, 27, 182, 0, 218, 78, 28, 16, 6, 189, 0, 27, 89, 3, 45, 186, 1, 52, 0, 0, 83, 89, 4, 45]
abbrev dktX1_claimAt_0 : List UInt8 := dkwX1_claimAt_0 ++ dktX1_claimAt_1
theorem dksX1_claimAt_0 : cX1_claimAt.data.toList.drop 0 = dktX1_claimAt_0 := by decide +kernel
theorem dksX1_claimAt_1 : cX1_claimAt.data.toList.drop 24 = dktX1_claimAt_1 := dk_seg dksX1_claimAt_0 24 rfl rfl
theorem dksX1_claimAt_2 : cX1_claimAt.data.toList.drop 48 = dktX1_claimAt_2 := dk_seg dksX1_claimAt_1 24 rfl rfl
theorem dX1_claimAt_0 : decode cX1_claimAt 0 = .ok (.aload_n 0, 1) := dk_42 (dk_at dksX1_claimAt_0 0 rfl rfl)
theorem dX1_claimAt_1 : decode cX1_claimAt 1 = .ok (.iload_n 1, 1) := dk_27 (dk_at dksX1_claimAt_0 1 rfl rfl)
theorem dX1_claimAt_2 : decode cX1_claimAt 2 = .ok (.invokevirtual 218, 3) := dk_182 0 218 (dk_at dksX1_claimAt_0 2 rfl rfl)
theorem dX1_claimAt_5 : decode cX1_claimAt 5 = .ok (.astore_n 3, 1) := dk_78 (dk_at dksX1_claimAt_0 5 rfl rfl)
theorem dX1_claimAt_6 : decode cX1_claimAt 6 = .ok (.iload_n 2, 1) := dk_28 (dk_at dksX1_claimAt_0 6 rfl rfl)
theorem dX1_claimAt_7 : decode cX1_claimAt 7 = .ok (.bipush 6, 2) := dk_16 6 (dk_at dksX1_claimAt_0 7 rfl rfl)
theorem dX1_claimAt_9 : decode cX1_claimAt 9 = .ok (.anewarray 27, 3) := dk_189 0 27 (dk_at dksX1_claimAt_0 9 rfl rfl)
theorem dX1_claimAt_12 : decode cX1_claimAt 12 = .ok (.dup, 1) := dk_89 (dk_at dksX1_claimAt_0 12 rfl rfl)
theorem dX1_claimAt_13 : decode cX1_claimAt 13 = .ok (.iconst 0, 1) := dk_3 (dk_at dksX1_claimAt_0 13 rfl rfl)
theorem dX1_claimAt_14 : decode cX1_claimAt 14 = .ok (.aload_n 3, 1) := dk_45 (dk_at dksX1_claimAt_0 14 rfl rfl)
theorem dX1_claimAt_15 : decode cX1_claimAt 15 = .ok (.invokedynamic 308, 5) := by decide +kernel
theorem dX1_claimAt_20 : decode cX1_claimAt 20 = .ok (.aastore, 1) := dk_83 (dk_at dksX1_claimAt_0 20 rfl rfl)
theorem dX1_claimAt_21 : decode cX1_claimAt 21 = .ok (.dup, 1) := dk_89 (dk_at dksX1_claimAt_0 21 rfl rfl)
theorem dX1_claimAt_22 : decode cX1_claimAt 22 = .ok (.iconst 1, 1) := dk_4 (dk_at dksX1_claimAt_0 22 rfl rfl)
theorem dX1_claimAt_23 : decode cX1_claimAt 23 = .ok (.aload_n 3, 1) := dk_45 (dk_at dksX1_claimAt_0 23 rfl rfl)
theorem dX1_claimAt_24 : decode cX1_claimAt 24 = .ok (.invokedynamic 311, 5) := by decide +kernel
theorem dX1_claimAt_29 : decode cX1_claimAt 29 = .ok (.aastore, 1) := dk_83 (dk_at dksX1_claimAt_1 5 rfl rfl)
theorem dX1_claimAt_30 : decode cX1_claimAt 30 = .ok (.dup, 1) := dk_89 (dk_at dksX1_claimAt_1 6 rfl rfl)
theorem dX1_claimAt_31 : decode cX1_claimAt 31 = .ok (.iconst 2, 1) := dk_5 (dk_at dksX1_claimAt_1 7 rfl rfl)
theorem dX1_claimAt_32 : decode cX1_claimAt 32 = .ok (.aload_n 3, 1) := dk_45 (dk_at dksX1_claimAt_1 8 rfl rfl)
theorem dX1_claimAt_33 : decode cX1_claimAt 33 = .ok (.invokedynamic 312, 5) := by decide +kernel
theorem dX1_claimAt_38 : decode cX1_claimAt 38 = .ok (.aastore, 1) := dk_83 (dk_at dksX1_claimAt_1 14 rfl rfl)
theorem dX1_claimAt_39 : decode cX1_claimAt 39 = .ok (.dup, 1) := dk_89 (dk_at dksX1_claimAt_1 15 rfl rfl)
theorem dX1_claimAt_40 : decode cX1_claimAt 40 = .ok (.iconst 3, 1) := dk_6 (dk_at dksX1_claimAt_1 16 rfl rfl)
theorem dX1_claimAt_41 : decode cX1_claimAt 41 = .ok (.aload_n 3, 1) := dk_45 (dk_at dksX1_claimAt_1 17 rfl rfl)
theorem dX1_claimAt_42 : decode cX1_claimAt 42 = .ok (.invokedynamic 313, 5) := by decide +kernel
theorem dX1_claimAt_47 : decode cX1_claimAt 47 = .ok (.aastore, 1) := dk_83 (dk_at dksX1_claimAt_1 23 rfl rfl)
theorem dX1_claimAt_48 : decode cX1_claimAt 48 = .ok (.dup, 1) := dk_89 (dk_at dksX1_claimAt_2 0 rfl rfl)
theorem dX1_claimAt_49 : decode cX1_claimAt 49 = .ok (.iconst 4, 1) := dk_7 (dk_at dksX1_claimAt_2 1 rfl rfl)
theorem dX1_claimAt_50 : decode cX1_claimAt 50 = .ok (.aload_n 3, 1) := dk_45 (dk_at dksX1_claimAt_2 2 rfl rfl)
theorem dX1_claimAt_51 : decode cX1_claimAt 51 = .ok (.invokedynamic 314, 5) := by decide +kernel
theorem dX1_claimAt_56 : decode cX1_claimAt 56 = .ok (.aastore, 1) := dk_83 (dk_at dksX1_claimAt_2 8 rfl rfl)
theorem dX1_claimAt_57 : decode cX1_claimAt 57 = .ok (.dup, 1) := dk_89 (dk_at dksX1_claimAt_2 9 rfl rfl)
theorem dX1_claimAt_58 : decode cX1_claimAt 58 = .ok (.iconst 5, 1) := dk_8 (dk_at dksX1_claimAt_2 10 rfl rfl)
theorem dX1_claimAt_59 : decode cX1_claimAt 59 = .ok (.aload_n 3, 1) := dk_45 (dk_at dksX1_claimAt_2 11 rfl rfl)
theorem dX1_claimAt_60 : decode cX1_claimAt 60 = .ok (.invokedynamic 315, 5) := by decide +kernel
theorem dX1_claimAt_65 : decode cX1_claimAt 65 = .ok (.aastore, 1) := dk_83 (dk_at dksX1_claimAt_2 17 rfl rfl)
theorem dX1_claimAt_66 : decode cX1_claimAt 66 = .ok (.invokestatic 288, 3) := dk_184 1 32 (dk_at dksX1_claimAt_2 18 rfl rfl)
theorem dX1_claimAt_69 : decode cX1_claimAt 69 = .ok (.ireturn, 1) := dk_172 (dk_at dksX1_claimAt_2 21 rfl rfl)
abbrev cX1_lambda_claimAt_23 : ByteArray := prog_1_method_71_code
def yX1_lambda_claimAt_23 : MethodName := ⟨RX1, "lambda$claimAt$23", "(LAppealrent$Claim;)I"⟩
def dkwX1_lambda_claimAt_23_0 : List UInt8 := [42, 180, 0, 158, 180, 1, 140, 172]
abbrev dktX1_lambda_claimAt_23_0 : List UInt8 := dkwX1_lambda_claimAt_23_0 ++ []
theorem dksX1_lambda_claimAt_23_0 : cX1_lambda_claimAt_23.data.toList.drop 0 = dktX1_lambda_claimAt_23_0 := by decide +kernel
theorem dX1_lambda_claimAt_23_0 : decode cX1_lambda_claimAt_23 0 = .ok (.aload_n 0, 1) := dk_42 (dk_at dksX1_lambda_claimAt_23_0 0 rfl rfl)
theorem dX1_lambda_claimAt_23_1 : decode cX1_lambda_claimAt_23 1 = .ok (.getfield 158, 3) := dk_180 0 158 (dk_at dksX1_lambda_claimAt_23_0 1 rfl rfl)
theorem dX1_lambda_claimAt_23_4 : decode cX1_lambda_claimAt_23 4 = .ok (.getfield 396, 3) := dk_180 1 140 (dk_at dksX1_lambda_claimAt_23_0 4 rfl rfl)
theorem dX1_lambda_claimAt_23_7 : decode cX1_lambda_claimAt_23 7 = .ok (.ireturn, 1) := dk_172 (dk_at dksX1_lambda_claimAt_23_0 7 rfl rfl)
abbrev cX1_lambda_claimAt_24 : ByteArray := prog_1_method_70_code
def yX1_lambda_claimAt_24 : MethodName := ⟨RX1, "lambda$claimAt$24", "(LAppealrent$Claim;)I"⟩
theorem dX1_lambda_claimAt_24_0 : decode cX1_lambda_claimAt_24 0 = .ok (.aload_n 0, 1) := by decide +kernel
theorem dX1_lambda_claimAt_24_1 : decode cX1_lambda_claimAt_24 1 = .ok (.getfield 393, 3) := by decide +kernel
theorem dX1_lambda_claimAt_24_4 : decode cX1_lambda_claimAt_24 4 = .ok (.ireturn, 1) := by decide +kernel
abbrev cX1_lambda_claimAt_25 : ByteArray := prog_1_method_69_code
def yX1_lambda_claimAt_25 : MethodName := ⟨RX1, "lambda$claimAt$25", "(LAppealrent$Claim;)I"⟩
theorem dX1_lambda_claimAt_25_0 : decode cX1_lambda_claimAt_25 0 = .ok (.aload_n 0, 1) := by decide +kernel
theorem dX1_lambda_claimAt_25_1 : decode cX1_lambda_claimAt_25 1 = .ok (.getfield 222, 3) := by decide +kernel
theorem dX1_lambda_claimAt_25_4 : decode cX1_lambda_claimAt_25 4 = .ok (.ireturn, 1) := by decide +kernel
abbrev cX1_lambda_claimAt_26 : ByteArray := prog_1_method_68_code
def yX1_lambda_claimAt_26 : MethodName := ⟨RX1, "lambda$claimAt$26", "(LAppealrent$Claim;)I"⟩
theorem dX1_lambda_claimAt_26_0 : decode cX1_lambda_claimAt_26 0 = .ok (.aload_n 0, 1) := by decide +kernel
theorem dX1_lambda_claimAt_26_1 : decode cX1_lambda_claimAt_26 1 = .ok (.getfield 225, 3) := by decide +kernel
theorem dX1_lambda_claimAt_26_4 : decode cX1_lambda_claimAt_26 4 = .ok (.ireturn, 1) := by decide +kernel
abbrev cX1_lambda_claimAt_27 : ByteArray := prog_1_method_67_code
def yX1_lambda_claimAt_27 : MethodName := ⟨RX1, "lambda$claimAt$27", "(LAppealrent$Claim;)I"⟩
theorem dX1_lambda_claimAt_27_0 : decode cX1_lambda_claimAt_27 0 = .ok (.aload_n 0, 1) := by decide +kernel
theorem dX1_lambda_claimAt_27_1 : decode cX1_lambda_claimAt_27 1 = .ok (.getfield 160, 3) := by decide +kernel
theorem dX1_lambda_claimAt_27_4 : decode cX1_lambda_claimAt_27 4 = .ok (.ireturn, 1) := by decide +kernel
abbrev cX1_lambda_claimAt_28 : ByteArray := prog_1_method_66_code
def yX1_lambda_claimAt_28 : MethodName := ⟨RX1, "lambda$claimAt$28", "(LAppealrent$Claim;)I"⟩
theorem dX1_lambda_claimAt_28_0 : decode cX1_lambda_claimAt_28 0 = .ok (.aload_n 0, 1) := by decide +kernel
theorem dX1_lambda_claimAt_28_1 : decode cX1_lambda_claimAt_28 1 = .ok (.getfield 159, 3) := by decide +kernel
theorem dX1_lambda_claimAt_28_4 : decode cX1_lambda_claimAt_28 4 = .ok (.ireturn, 1) := by decide +kernel
abbrev cX1_write : ByteArray := prog_1_method_43_code
def yX1_write : MethodName := ⟨RX1, "write", "(IZ)I"⟩
def dkwX1_write_7 : List UInt8 := [182, 1, 93, 172]
abbrev dktX1_write_7 : List UInt8 := dkwX1_write_7 ++ []
def dkwX1_write_6 : List UInt8 := [19, 1, 91, 182, 1, 82, 182, 0, 173, 167, 0, 8, 25, 4, 182, 0, 173, 181, 0, 62, 42, 180, 0, 62]
abbrev dktX1_write_6 : List UInt8 := dkwX1_write_6 ++ dktX1_write_7
def dkwX1_write_5 : List UInt8 := [182, 1, 85, 87, 42, 45, 182, 0, 187, 153, 0, 27, 187, 0, 53, 89, 183, 0, 55, 25, 4, 182, 1, 88]
abbrev dktX1_write_5 : List UInt8 := dkwX1_write_5 ++ dktX1_write_6
def dkwX1_write_4 : List UInt8 := [187, 0, 53, 89, 183, 0, 55, 21, 5, 16, 100, 108, 182, 1, 74, 19, 1, 80, 182, 1, 82, 182, 0, 173]
abbrev dktX1_write_4 : List UInt8 := dkwX1_write_4 ++ dktX1_write_5
def dkwX1_write_3 : List UInt8 := [21, 5, 16, 100, 112, 16, 10, 162, 0, 13, 25, 4, 21, 6, 16, 48, 182, 1, 76, 87, 25, 4, 21, 6]
abbrev dktX1_write_3 : List UInt8 := dkwX1_write_3 ++ dktX1_write_4
def dkwX1_write_2 : List UInt8 := [182, 0, 93, 4, 96, 54, 6, 25, 4, 16, 32, 182, 1, 70, 21, 5, 16, 100, 112, 182, 1, 74, 87]
abbrev dktX1_write_2 : List UInt8 := dkwX1_write_2 ++ dktX1_write_3
def dkwX1_write_1 : List UInt8 := [25, 4, 182, 1, 66, 167, 0, 5, 25, 4, 58, 4, 42, 45, 3, 182, 0, 237, 54, 5, 25, 4]
abbrev dktX1_write_1 : List UInt8 := dkwX1_write_1 ++ dktX1_write_2
def dkwX1_write_0 : List UInt8 := [42, 27, 182, 0, 183, 78, 187, 0, 53, 89, 45, 180, 1, 60, 183, 1, 63, 58, 4, 28, 153, 0, 11]
abbrev dktX1_write_0 : List UInt8 := dkwX1_write_0 ++ dktX1_write_1
theorem dksX1_write_0 : cX1_write.data.toList.drop 0 = dktX1_write_0 := by decide +kernel
theorem dksX1_write_1 : cX1_write.data.toList.drop 23 = dktX1_write_1 := dk_seg dksX1_write_0 23 rfl rfl
theorem dksX1_write_2 : cX1_write.data.toList.drop 45 = dktX1_write_2 := dk_seg dksX1_write_1 22 rfl rfl
theorem dksX1_write_3 : cX1_write.data.toList.drop 68 = dktX1_write_3 := dk_seg dksX1_write_2 23 rfl rfl
theorem dksX1_write_4 : cX1_write.data.toList.drop 92 = dktX1_write_4 := dk_seg dksX1_write_3 24 rfl rfl
theorem dksX1_write_5 : cX1_write.data.toList.drop 116 = dktX1_write_5 := dk_seg dksX1_write_4 24 rfl rfl
theorem dksX1_write_6 : cX1_write.data.toList.drop 140 = dktX1_write_6 := dk_seg dksX1_write_5 24 rfl rfl
theorem dksX1_write_7 : cX1_write.data.toList.drop 164 = dktX1_write_7 := dk_seg dksX1_write_6 24 rfl rfl
theorem dX1_write_0 : decode cX1_write 0 = .ok (.aload_n 0, 1) := dk_42 (dk_at dksX1_write_0 0 rfl rfl)
theorem dX1_write_1 : decode cX1_write 1 = .ok (.iload_n 1, 1) := dk_27 (dk_at dksX1_write_0 1 rfl rfl)
theorem dX1_write_2 : decode cX1_write 2 = .ok (.invokevirtual 183, 3) := dk_182 0 183 (dk_at dksX1_write_0 2 rfl rfl)
theorem dX1_write_5 : decode cX1_write 5 = .ok (.astore_n 3, 1) := dk_78 (dk_at dksX1_write_0 5 rfl rfl)
theorem dX1_write_6 : decode cX1_write 6 = .ok (.new 53, 3) := dk_187 0 53 (dk_at dksX1_write_0 6 rfl rfl)
theorem dX1_write_9 : decode cX1_write 9 = .ok (.dup, 1) := dk_89 (dk_at dksX1_write_0 9 rfl rfl)
theorem dX1_write_10 : decode cX1_write 10 = .ok (.aload_n 3, 1) := dk_45 (dk_at dksX1_write_0 10 rfl rfl)
theorem dX1_write_11 : decode cX1_write 11 = .ok (.getfield 316, 3) := dk_180 1 60 (dk_at dksX1_write_0 11 rfl rfl)
theorem dX1_write_14 : decode cX1_write 14 = .ok (.invokespecial 319, 3) := dk_183 1 63 (dk_at dksX1_write_0 14 rfl rfl)
theorem dX1_write_17 : decode cX1_write 17 = .ok (.astore 4, 2) := dk_58 4 (dk_at dksX1_write_0 17 rfl rfl)
theorem dX1_write_19 : decode cX1_write 19 = .ok (.iload_n 2, 1) := dk_28 (dk_at dksX1_write_0 19 rfl rfl)
theorem dX1_write_20 : decode cX1_write 20 = .ok (.ifCond .eq 11, 3) := dk_153 0 11 (dk_at dksX1_write_0 20 rfl rfl)
theorem dX1_write_23 : decode cX1_write 23 = .ok (.aload 4, 2) := dk_25 4 (dk_at dksX1_write_1 0 rfl rfl)
theorem dX1_write_25 : decode cX1_write 25 = .ok (.invokevirtual 322, 3) := dk_182 1 66 (dk_at dksX1_write_1 2 rfl rfl)
theorem dX1_write_28 : decode cX1_write 28 = .ok (.goto 5, 3) := dk_167 0 5 (dk_at dksX1_write_1 5 rfl rfl)
theorem dX1_write_31 : decode cX1_write 31 = .ok (.aload 4, 2) := dk_25 4 (dk_at dksX1_write_1 8 rfl rfl)
theorem dX1_write_33 : decode cX1_write 33 = .ok (.astore 4, 2) := dk_58 4 (dk_at dksX1_write_1 10 rfl rfl)
theorem dX1_write_35 : decode cX1_write 35 = .ok (.aload_n 0, 1) := dk_42 (dk_at dksX1_write_1 12 rfl rfl)
theorem dX1_write_36 : decode cX1_write 36 = .ok (.aload_n 3, 1) := dk_45 (dk_at dksX1_write_1 13 rfl rfl)
theorem dX1_write_37 : decode cX1_write 37 = .ok (.iconst 0, 1) := dk_3 (dk_at dksX1_write_1 14 rfl rfl)
theorem dX1_write_38 : decode cX1_write 38 = .ok (.invokevirtual 237, 3) := dk_182 0 237 (dk_at dksX1_write_1 15 rfl rfl)
theorem dX1_write_41 : decode cX1_write 41 = .ok (.istore 5, 2) := dk_54 5 (dk_at dksX1_write_1 18 rfl rfl)
theorem dX1_write_43 : decode cX1_write 43 = .ok (.aload 4, 2) := dk_25 4 (dk_at dksX1_write_1 20 rfl rfl)
theorem dX1_write_45 : decode cX1_write 45 = .ok (.invokevirtual 93, 3) := dk_182 0 93 (dk_at dksX1_write_2 0 rfl rfl)
theorem dX1_write_48 : decode cX1_write 48 = .ok (.iconst 1, 1) := dk_4 (dk_at dksX1_write_2 3 rfl rfl)
theorem dX1_write_49 : decode cX1_write 49 = .ok (.iadd, 1) := dk_96 (dk_at dksX1_write_2 4 rfl rfl)
theorem dX1_write_50 : decode cX1_write 50 = .ok (.istore 6, 2) := dk_54 6 (dk_at dksX1_write_2 5 rfl rfl)
theorem dX1_write_52 : decode cX1_write 52 = .ok (.aload 4, 2) := dk_25 4 (dk_at dksX1_write_2 7 rfl rfl)
theorem dX1_write_54 : decode cX1_write 54 = .ok (.bipush 32, 2) := dk_16 32 (dk_at dksX1_write_2 9 rfl rfl)
theorem dX1_write_56 : decode cX1_write 56 = .ok (.invokevirtual 326, 3) := dk_182 1 70 (dk_at dksX1_write_2 11 rfl rfl)
theorem dX1_write_59 : decode cX1_write 59 = .ok (.iload 5, 2) := dk_21 5 (dk_at dksX1_write_2 14 rfl rfl)
theorem dX1_write_61 : decode cX1_write 61 = .ok (.bipush 100, 2) := dk_16 100 (dk_at dksX1_write_2 16 rfl rfl)
theorem dX1_write_63 : decode cX1_write 63 = .ok (.irem, 1) := dk_112 (dk_at dksX1_write_2 18 rfl rfl)
theorem dX1_write_64 : decode cX1_write 64 = .ok (.invokevirtual 330, 3) := dk_182 1 74 (dk_at dksX1_write_2 19 rfl rfl)
theorem dX1_write_67 : decode cX1_write 67 = .ok (.pop, 1) := dk_87 (dk_at dksX1_write_2 22 rfl rfl)
theorem dX1_write_68 : decode cX1_write 68 = .ok (.iload 5, 2) := dk_21 5 (dk_at dksX1_write_3 0 rfl rfl)
theorem dX1_write_70 : decode cX1_write 70 = .ok (.bipush 100, 2) := dk_16 100 (dk_at dksX1_write_3 2 rfl rfl)
theorem dX1_write_72 : decode cX1_write 72 = .ok (.irem, 1) := dk_112 (dk_at dksX1_write_3 4 rfl rfl)
theorem dX1_write_73 : decode cX1_write 73 = .ok (.bipush 10, 2) := dk_16 10 (dk_at dksX1_write_3 5 rfl rfl)
theorem dX1_write_75 : decode cX1_write 75 = .ok (.if_icmp .ge 13, 3) := dk_162 0 13 (dk_at dksX1_write_3 7 rfl rfl)
theorem dX1_write_78 : decode cX1_write 78 = .ok (.aload 4, 2) := dk_25 4 (dk_at dksX1_write_3 10 rfl rfl)
theorem dX1_write_80 : decode cX1_write 80 = .ok (.iload 6, 2) := dk_21 6 (dk_at dksX1_write_3 12 rfl rfl)
theorem dX1_write_82 : decode cX1_write 82 = .ok (.bipush 48, 2) := dk_16 48 (dk_at dksX1_write_3 14 rfl rfl)
theorem dX1_write_84 : decode cX1_write 84 = .ok (.invokevirtual 332, 3) := dk_182 1 76 (dk_at dksX1_write_3 16 rfl rfl)
theorem dX1_write_87 : decode cX1_write 87 = .ok (.pop, 1) := dk_87 (dk_at dksX1_write_3 19 rfl rfl)
theorem dX1_write_88 : decode cX1_write 88 = .ok (.aload 4, 2) := dk_25 4 (dk_at dksX1_write_3 20 rfl rfl)
theorem dX1_write_90 : decode cX1_write 90 = .ok (.iload 6, 2) := dk_21 6 (dk_at dksX1_write_3 22 rfl rfl)
theorem dX1_write_92 : decode cX1_write 92 = .ok (.new 53, 3) := dk_187 0 53 (dk_at dksX1_write_4 0 rfl rfl)
theorem dX1_write_95 : decode cX1_write 95 = .ok (.dup, 1) := dk_89 (dk_at dksX1_write_4 3 rfl rfl)
theorem dX1_write_96 : decode cX1_write 96 = .ok (.invokespecial 55, 3) := dk_183 0 55 (dk_at dksX1_write_4 4 rfl rfl)
theorem dX1_write_99 : decode cX1_write 99 = .ok (.iload 5, 2) := dk_21 5 (dk_at dksX1_write_4 7 rfl rfl)
theorem dX1_write_101 : decode cX1_write 101 = .ok (.bipush 100, 2) := dk_16 100 (dk_at dksX1_write_4 9 rfl rfl)
theorem dX1_write_103 : decode cX1_write 103 = .ok (.idiv, 1) := dk_108 (dk_at dksX1_write_4 11 rfl rfl)
theorem dX1_write_104 : decode cX1_write 104 = .ok (.invokevirtual 330, 3) := dk_182 1 74 (dk_at dksX1_write_4 12 rfl rfl)
theorem dX1_write_107 : decode cX1_write 107 = .ok (.ldc_w 336, 3) := dk_19 1 80 (dk_at dksX1_write_4 15 rfl rfl)
theorem dX1_write_110 : decode cX1_write 110 = .ok (.invokevirtual 338, 3) := dk_182 1 82 (dk_at dksX1_write_4 18 rfl rfl)
theorem dX1_write_113 : decode cX1_write 113 = .ok (.invokevirtual 173, 3) := dk_182 0 173 (dk_at dksX1_write_4 21 rfl rfl)
theorem dX1_write_116 : decode cX1_write 116 = .ok (.invokevirtual 341, 3) := dk_182 1 85 (dk_at dksX1_write_5 0 rfl rfl)
theorem dX1_write_119 : decode cX1_write 119 = .ok (.pop, 1) := dk_87 (dk_at dksX1_write_5 3 rfl rfl)
theorem dX1_write_120 : decode cX1_write 120 = .ok (.aload_n 0, 1) := dk_42 (dk_at dksX1_write_5 4 rfl rfl)
theorem dX1_write_121 : decode cX1_write 121 = .ok (.aload_n 3, 1) := dk_45 (dk_at dksX1_write_5 5 rfl rfl)
theorem dX1_write_122 : decode cX1_write 122 = .ok (.invokevirtual 187, 3) := dk_182 0 187 (dk_at dksX1_write_5 6 rfl rfl)
theorem dX1_write_125 : decode cX1_write 125 = .ok (.ifCond .eq 27, 3) := dk_153 0 27 (dk_at dksX1_write_5 9 rfl rfl)
theorem dX1_write_128 : decode cX1_write 128 = .ok (.new 53, 3) := dk_187 0 53 (dk_at dksX1_write_5 12 rfl rfl)
theorem dX1_write_131 : decode cX1_write 131 = .ok (.dup, 1) := dk_89 (dk_at dksX1_write_5 15 rfl rfl)
theorem dX1_write_132 : decode cX1_write 132 = .ok (.invokespecial 55, 3) := dk_183 0 55 (dk_at dksX1_write_5 16 rfl rfl)
theorem dX1_write_135 : decode cX1_write 135 = .ok (.aload 4, 2) := dk_25 4 (dk_at dksX1_write_5 19 rfl rfl)
theorem dX1_write_137 : decode cX1_write 137 = .ok (.invokevirtual 344, 3) := dk_182 1 88 (dk_at dksX1_write_5 21 rfl rfl)
theorem dX1_write_140 : decode cX1_write 140 = .ok (.ldc_w 347, 3) := dk_19 1 91 (dk_at dksX1_write_6 0 rfl rfl)
theorem dX1_write_143 : decode cX1_write 143 = .ok (.invokevirtual 338, 3) := dk_182 1 82 (dk_at dksX1_write_6 3 rfl rfl)
theorem dX1_write_146 : decode cX1_write 146 = .ok (.invokevirtual 173, 3) := dk_182 0 173 (dk_at dksX1_write_6 6 rfl rfl)
theorem dX1_write_149 : decode cX1_write 149 = .ok (.goto 8, 3) := dk_167 0 8 (dk_at dksX1_write_6 9 rfl rfl)
theorem dX1_write_152 : decode cX1_write 152 = .ok (.aload 4, 2) := dk_25 4 (dk_at dksX1_write_6 12 rfl rfl)
theorem dX1_write_154 : decode cX1_write 154 = .ok (.invokevirtual 173, 3) := dk_182 0 173 (dk_at dksX1_write_6 14 rfl rfl)
theorem dX1_write_157 : decode cX1_write 157 = .ok (.putfield 62, 3) := dk_181 0 62 (dk_at dksX1_write_6 17 rfl rfl)
theorem dX1_write_160 : decode cX1_write 160 = .ok (.aload_n 0, 1) := dk_42 (dk_at dksX1_write_6 20 rfl rfl)
theorem dX1_write_161 : decode cX1_write 161 = .ok (.getfield 62, 3) := dk_180 0 62 (dk_at dksX1_write_6 21 rfl rfl)
theorem dX1_write_164 : decode cX1_write 164 = .ok (.invokevirtual 349, 3) := dk_182 1 93 (dk_at dksX1_write_7 0 rfl rfl)
theorem dX1_write_167 : decode cX1_write 167 = .ok (.ireturn, 1) := dk_172 (dk_at dksX1_write_7 3 rfl rfl)
abbrev cX1_outputAt : ByteArray := prog_1_method_44_code
def yX1_outputAt : MethodName := ⟨RX1, "outputAt", "(I)I"⟩
def dkwX1_outputAt_1 : List UInt8 := [182, 1, 99, 172]
abbrev dktX1_outputAt_1 : List UInt8 := dkwX1_outputAt_1 ++ []
def dkwX1_outputAt_0 : List UInt8 := [27, 3, 42, 180, 0, 62, 182, 1, 93, 4, 100, 184, 0, 16, 184, 1, 96, 42, 180, 0, 62, 27]
abbrev dktX1_outputAt_0 : List UInt8 := dkwX1_outputAt_0 ++ dktX1_outputAt_1
theorem dksX1_outputAt_0 : cX1_outputAt.data.toList.drop 0 = dktX1_outputAt_0 := by decide +kernel
theorem dksX1_outputAt_1 : cX1_outputAt.data.toList.drop 22 = dktX1_outputAt_1 := dk_seg dksX1_outputAt_0 22 rfl rfl
theorem dX1_outputAt_0 : decode cX1_outputAt 0 = .ok (.iload_n 1, 1) := dk_27 (dk_at dksX1_outputAt_0 0 rfl rfl)
theorem dX1_outputAt_1 : decode cX1_outputAt 1 = .ok (.iconst 0, 1) := dk_3 (dk_at dksX1_outputAt_0 1 rfl rfl)
theorem dX1_outputAt_2 : decode cX1_outputAt 2 = .ok (.aload_n 0, 1) := dk_42 (dk_at dksX1_outputAt_0 2 rfl rfl)
theorem dX1_outputAt_3 : decode cX1_outputAt 3 = .ok (.getfield 62, 3) := dk_180 0 62 (dk_at dksX1_outputAt_0 3 rfl rfl)
theorem dX1_outputAt_6 : decode cX1_outputAt 6 = .ok (.invokevirtual 349, 3) := dk_182 1 93 (dk_at dksX1_outputAt_0 6 rfl rfl)
theorem dX1_outputAt_9 : decode cX1_outputAt 9 = .ok (.iconst 1, 1) := dk_4 (dk_at dksX1_outputAt_0 9 rfl rfl)
theorem dX1_outputAt_10 : decode cX1_outputAt 10 = .ok (.isub, 1) := dk_100 (dk_at dksX1_outputAt_0 10 rfl rfl)
theorem dX1_outputAt_11 : decode cX1_outputAt 11 = .ok (.invokestatic 16, 3) := dk_184 0 16 (dk_at dksX1_outputAt_0 11 rfl rfl)
theorem dX1_outputAt_14 : decode cX1_outputAt 14 = .ok (.invokestatic 352, 3) := dk_184 1 96 (dk_at dksX1_outputAt_0 14 rfl rfl)
theorem dX1_outputAt_17 : decode cX1_outputAt 17 = .ok (.aload_n 0, 1) := dk_42 (dk_at dksX1_outputAt_0 17 rfl rfl)
theorem dX1_outputAt_18 : decode cX1_outputAt 18 = .ok (.getfield 62, 3) := dk_180 0 62 (dk_at dksX1_outputAt_0 18 rfl rfl)
theorem dX1_outputAt_21 : decode cX1_outputAt 21 = .ok (.iload_n 1, 1) := dk_27 (dk_at dksX1_outputAt_0 21 rfl rfl)
theorem dX1_outputAt_22 : decode cX1_outputAt 22 = .ok (.invokevirtual 355, 3) := dk_182 1 99 (dk_at dksX1_outputAt_1 0 rfl rfl)
theorem dX1_outputAt_25 : decode cX1_outputAt 25 = .ok (.ireturn, 1) := dk_172 (dk_at dksX1_outputAt_1 3 rfl rfl)
abbrev cX1_checkThere : ByteArray := prog_1_method_5_code
def yX1_checkThere : MethodName := ⟨RX1, "checkThere", "(Z)V"⟩
def dkwX1_checkThere_0 : List UInt8 := [26, 154, 0, 11, 187, 0, 13, 89, 183, 0, 15, 191, 177]
abbrev dktX1_checkThere_0 : List UInt8 := dkwX1_checkThere_0 ++ []
theorem dksX1_checkThere_0 : cX1_checkThere.data.toList.drop 0 = dktX1_checkThere_0 := by decide +kernel
theorem dX1_checkThere_0 : decode cX1_checkThere 0 = .ok (.iload_n 0, 1) := dk_26 (dk_at dksX1_checkThere_0 0 rfl rfl)
theorem dX1_checkThere_1 : decode cX1_checkThere 1 = .ok (.ifCond .ne 11, 3) := dk_154 0 11 (dk_at dksX1_checkThere_0 1 rfl rfl)
theorem dX1_checkThere_4 : decode cX1_checkThere 4 = .ok (.new 13, 3) := dk_187 0 13 (dk_at dksX1_checkThere_0 4 rfl rfl)
theorem dX1_checkThere_7 : decode cX1_checkThere 7 = .ok (.dup, 1) := dk_89 (dk_at dksX1_checkThere_0 7 rfl rfl)
theorem dX1_checkThere_8 : decode cX1_checkThere 8 = .ok (.invokespecial 15, 3) := dk_183 0 15 (dk_at dksX1_checkThere_0 8 rfl rfl)
theorem dX1_checkThere_11 : decode cX1_checkThere 11 = .ok (.athrow, 1) := dk_191 (dk_at dksX1_checkThere_0 11 rfl rfl)
theorem dX1_checkThere_12 : decode cX1_checkThere 12 = .ok (.return_, 1) := dk_177 (dk_at dksX1_checkThere_0 12 rfl rfl)
abbrev cX1_count : ByteArray := prog_1_method_46_code
def yX1_count : MethodName := ⟨RX1, "count", "(I)I"⟩
def dkwX1_count_8 : List UInt8 := [186, 1, 120, 0, 0, 83, 184, 1, 32, 172]
abbrev dktX1_count_8 : List UInt8 := dkwX1_count_8 ++ []
def dkwX1_count_7 : List UInt8 := [186, 1, 118, 0, 0, 83, 89, 16, 12, 42, 186, 1, 119, 0, 0, 83, 89, 16, 13, 42]
abbrev dktX1_count_7 : List UInt8 := dkwX1_count_7 ++ dktX1_count_8
def dkwX1_count_6 : List UInt8 := [42, 186, 1, 116, 0, 0, 83, 89, 16, 10, 42, 186, 1, 117, 0, 0, 83, 89, 16, 11, 42]
abbrev dktX1_count_6 : List UInt8 := dkwX1_count_6 ++ dktX1_count_7
def dkwX1_count_5 : List UInt8 := [83, 89, 16, 7, 42, 186, 1, 114, 0, 0, 83, 89, 16, 8, 42, 186, 1, 115, 0, 0, 83, 89, 16, 9]
abbrev dktX1_count_5 : List UInt8 := dkwX1_count_5 ++ dktX1_count_6
def dkwX1_count_4 : List UInt8 := [186, 1, 111, 0, 0, 83, 89, 8, 42, 186, 1, 112, 0, 0, 83, 89, 16, 6, 42, 186, 1, 113, 0, 0]
abbrev dktX1_count_4 : List UInt8 := dkwX1_count_4 ++ dktX1_count_5
def dkwX1_count_3 : List UInt8 := [89, 5, 29, 186, 1, 107, 0, 0, 83, 89, 6, 42, 186, 1, 110, 0, 0, 83, 89, 7, 42]
abbrev dktX1_count_3 : List UInt8 := dkwX1_count_3 ++ dktX1_count_4
def dkwX1_count_2 : List UInt8 := [27, 16, 14, 189, 0, 27, 89, 3, 42, 186, 1, 103, 0, 0, 83, 89, 4, 42, 186, 1, 106, 0, 0, 83]
abbrev dktX1_count_2 : List UInt8 := dkwX1_count_2 ++ dktX1_count_3
def dkwX1_count_1 : List UInt8 := [185, 0, 83, 2, 0, 192, 0, 87, 182, 0, 187, 184, 0, 130, 96, 61, 132, 3, 1, 167, 255, 218, 28, 62]
abbrev dktX1_count_1 : List UInt8 := dkwX1_count_1 ++ dktX1_count_2
def dkwX1_count_0 : List UInt8 := [3, 61, 3, 62, 29, 42, 180, 0, 40, 185, 0, 77, 1, 0, 162, 0, 31, 28, 42, 180, 0, 40, 29]
abbrev dktX1_count_0 : List UInt8 := dkwX1_count_0 ++ dktX1_count_1
theorem dksX1_count_0 : cX1_count.data.toList.drop 0 = dktX1_count_0 := by decide +kernel
theorem dksX1_count_1 : cX1_count.data.toList.drop 23 = dktX1_count_1 := dk_seg dksX1_count_0 23 rfl rfl
theorem dksX1_count_2 : cX1_count.data.toList.drop 47 = dktX1_count_2 := dk_seg dksX1_count_1 24 rfl rfl
theorem dksX1_count_3 : cX1_count.data.toList.drop 71 = dktX1_count_3 := dk_seg dksX1_count_2 24 rfl rfl
theorem dksX1_count_4 : cX1_count.data.toList.drop 92 = dktX1_count_4 := dk_seg dksX1_count_3 21 rfl rfl
theorem dksX1_count_5 : cX1_count.data.toList.drop 116 = dktX1_count_5 := dk_seg dksX1_count_4 24 rfl rfl
theorem dksX1_count_6 : cX1_count.data.toList.drop 140 = dktX1_count_6 := dk_seg dksX1_count_5 24 rfl rfl
theorem dksX1_count_7 : cX1_count.data.toList.drop 161 = dktX1_count_7 := dk_seg dksX1_count_6 21 rfl rfl
theorem dksX1_count_8 : cX1_count.data.toList.drop 181 = dktX1_count_8 := dk_seg dksX1_count_7 20 rfl rfl
theorem dX1_count_0 : decode cX1_count 0 = .ok (.iconst 0, 1) := dk_3 (dk_at dksX1_count_0 0 rfl rfl)
theorem dX1_count_1 : decode cX1_count 1 = .ok (.istore_n 2, 1) := dk_61 (dk_at dksX1_count_0 1 rfl rfl)
theorem dX1_count_2 : decode cX1_count 2 = .ok (.iconst 0, 1) := dk_3 (dk_at dksX1_count_0 2 rfl rfl)
theorem dX1_count_3 : decode cX1_count 3 = .ok (.istore_n 3, 1) := dk_62 (dk_at dksX1_count_0 3 rfl rfl)
theorem dX1_count_4 : decode cX1_count 4 = .ok (.iload_n 3, 1) := dk_29 (dk_at dksX1_count_0 4 rfl rfl)
theorem dX1_count_5 : decode cX1_count 5 = .ok (.aload_n 0, 1) := dk_42 (dk_at dksX1_count_0 5 rfl rfl)
theorem dX1_count_6 : decode cX1_count 6 = .ok (.getfield 40, 3) := dk_180 0 40 (dk_at dksX1_count_0 6 rfl rfl)
theorem dX1_count_9 : decode cX1_count 9 = .ok (.invokeinterface 77 1, 5) := by decide +kernel
theorem dX1_count_14 : decode cX1_count 14 = .ok (.if_icmp .ge 31, 3) := dk_162 0 31 (dk_at dksX1_count_0 14 rfl rfl)
theorem dX1_count_17 : decode cX1_count 17 = .ok (.iload_n 2, 1) := dk_28 (dk_at dksX1_count_0 17 rfl rfl)
theorem dX1_count_18 : decode cX1_count 18 = .ok (.aload_n 0, 1) := dk_42 (dk_at dksX1_count_0 18 rfl rfl)
theorem dX1_count_19 : decode cX1_count 19 = .ok (.getfield 40, 3) := dk_180 0 40 (dk_at dksX1_count_0 19 rfl rfl)
theorem dX1_count_22 : decode cX1_count 22 = .ok (.iload_n 3, 1) := dk_29 (dk_at dksX1_count_0 22 rfl rfl)
theorem dX1_count_23 : decode cX1_count 23 = .ok (.invokeinterface 83 2, 5) := by decide +kernel
theorem dX1_count_28 : decode cX1_count 28 = .ok (.checkcast 87, 3) := dk_192 0 87 (dk_at dksX1_count_1 5 rfl rfl)
theorem dX1_count_31 : decode cX1_count 31 = .ok (.invokevirtual 187, 3) := dk_182 0 187 (dk_at dksX1_count_1 8 rfl rfl)
theorem dX1_count_34 : decode cX1_count 34 = .ok (.invokestatic 130, 3) := dk_184 0 130 (dk_at dksX1_count_1 11 rfl rfl)
theorem dX1_count_37 : decode cX1_count 37 = .ok (.iadd, 1) := dk_96 (dk_at dksX1_count_1 14 rfl rfl)
theorem dX1_count_38 : decode cX1_count 38 = .ok (.istore_n 2, 1) := dk_61 (dk_at dksX1_count_1 15 rfl rfl)
theorem dX1_count_39 : decode cX1_count 39 = .ok (.iinc 3 1, 3) := dk_132 3 1 (dk_at dksX1_count_1 16 rfl rfl)
theorem dX1_count_42 : decode cX1_count 42 = .ok (.goto (-38), 3) := dk_167 255 218 (dk_at dksX1_count_1 19 rfl rfl)
theorem dX1_count_45 : decode cX1_count 45 = .ok (.iload_n 2, 1) := dk_28 (dk_at dksX1_count_1 22 rfl rfl)
theorem dX1_count_46 : decode cX1_count 46 = .ok (.istore_n 3, 1) := dk_62 (dk_at dksX1_count_1 23 rfl rfl)
theorem dX1_count_47 : decode cX1_count 47 = .ok (.iload_n 1, 1) := dk_27 (dk_at dksX1_count_2 0 rfl rfl)
theorem dX1_count_48 : decode cX1_count 48 = .ok (.bipush 14, 2) := dk_16 14 (dk_at dksX1_count_2 1 rfl rfl)
theorem dX1_count_50 : decode cX1_count 50 = .ok (.anewarray 27, 3) := dk_189 0 27 (dk_at dksX1_count_2 3 rfl rfl)
theorem dX1_count_53 : decode cX1_count 53 = .ok (.dup, 1) := dk_89 (dk_at dksX1_count_2 6 rfl rfl)
theorem dX1_count_54 : decode cX1_count 54 = .ok (.iconst 0, 1) := dk_3 (dk_at dksX1_count_2 7 rfl rfl)
theorem dX1_count_55 : decode cX1_count 55 = .ok (.aload_n 0, 1) := dk_42 (dk_at dksX1_count_2 8 rfl rfl)
theorem dX1_count_56 : decode cX1_count 56 = .ok (.invokedynamic 359, 5) := by decide +kernel
theorem dX1_count_61 : decode cX1_count 61 = .ok (.aastore, 1) := dk_83 (dk_at dksX1_count_2 14 rfl rfl)
theorem dX1_count_62 : decode cX1_count 62 = .ok (.dup, 1) := dk_89 (dk_at dksX1_count_2 15 rfl rfl)
theorem dX1_count_63 : decode cX1_count 63 = .ok (.iconst 1, 1) := dk_4 (dk_at dksX1_count_2 16 rfl rfl)
theorem dX1_count_64 : decode cX1_count 64 = .ok (.aload_n 0, 1) := dk_42 (dk_at dksX1_count_2 17 rfl rfl)
theorem dX1_count_65 : decode cX1_count 65 = .ok (.invokedynamic 362, 5) := by decide +kernel
theorem dX1_count_70 : decode cX1_count 70 = .ok (.aastore, 1) := dk_83 (dk_at dksX1_count_2 23 rfl rfl)
theorem dX1_count_71 : decode cX1_count 71 = .ok (.dup, 1) := dk_89 (dk_at dksX1_count_3 0 rfl rfl)
theorem dX1_count_72 : decode cX1_count 72 = .ok (.iconst 2, 1) := dk_5 (dk_at dksX1_count_3 1 rfl rfl)
theorem dX1_count_73 : decode cX1_count 73 = .ok (.iload_n 3, 1) := dk_29 (dk_at dksX1_count_3 2 rfl rfl)
theorem dX1_count_74 : decode cX1_count 74 = .ok (.invokedynamic 363, 5) := by decide +kernel
theorem dX1_count_79 : decode cX1_count 79 = .ok (.aastore, 1) := dk_83 (dk_at dksX1_count_3 8 rfl rfl)
theorem dX1_count_80 : decode cX1_count 80 = .ok (.dup, 1) := dk_89 (dk_at dksX1_count_3 9 rfl rfl)
theorem dX1_count_81 : decode cX1_count 81 = .ok (.iconst 3, 1) := dk_6 (dk_at dksX1_count_3 10 rfl rfl)
theorem dX1_count_82 : decode cX1_count 82 = .ok (.aload_n 0, 1) := dk_42 (dk_at dksX1_count_3 11 rfl rfl)
theorem dX1_count_83 : decode cX1_count 83 = .ok (.invokedynamic 366, 5) := by decide +kernel
theorem dX1_count_88 : decode cX1_count 88 = .ok (.aastore, 1) := dk_83 (dk_at dksX1_count_3 17 rfl rfl)
theorem dX1_count_89 : decode cX1_count 89 = .ok (.dup, 1) := dk_89 (dk_at dksX1_count_3 18 rfl rfl)
theorem dX1_count_90 : decode cX1_count 90 = .ok (.iconst 4, 1) := dk_7 (dk_at dksX1_count_3 19 rfl rfl)
theorem dX1_count_91 : decode cX1_count 91 = .ok (.aload_n 0, 1) := dk_42 (dk_at dksX1_count_3 20 rfl rfl)
theorem dX1_count_92 : decode cX1_count 92 = .ok (.invokedynamic 367, 5) := by decide +kernel
theorem dX1_count_97 : decode cX1_count 97 = .ok (.aastore, 1) := dk_83 (dk_at dksX1_count_4 5 rfl rfl)
theorem dX1_count_98 : decode cX1_count 98 = .ok (.dup, 1) := dk_89 (dk_at dksX1_count_4 6 rfl rfl)
theorem dX1_count_99 : decode cX1_count 99 = .ok (.iconst 5, 1) := dk_8 (dk_at dksX1_count_4 7 rfl rfl)
theorem dX1_count_100 : decode cX1_count 100 = .ok (.aload_n 0, 1) := dk_42 (dk_at dksX1_count_4 8 rfl rfl)
theorem dX1_count_101 : decode cX1_count 101 = .ok (.invokedynamic 368, 5) := by decide +kernel
theorem dX1_count_106 : decode cX1_count 106 = .ok (.aastore, 1) := dk_83 (dk_at dksX1_count_4 14 rfl rfl)
theorem dX1_count_107 : decode cX1_count 107 = .ok (.dup, 1) := dk_89 (dk_at dksX1_count_4 15 rfl rfl)
theorem dX1_count_108 : decode cX1_count 108 = .ok (.bipush 6, 2) := dk_16 6 (dk_at dksX1_count_4 16 rfl rfl)
theorem dX1_count_110 : decode cX1_count 110 = .ok (.aload_n 0, 1) := dk_42 (dk_at dksX1_count_4 18 rfl rfl)
theorem dX1_count_111 : decode cX1_count 111 = .ok (.invokedynamic 369, 5) := by decide +kernel
theorem dX1_count_116 : decode cX1_count 116 = .ok (.aastore, 1) := dk_83 (dk_at dksX1_count_5 0 rfl rfl)
theorem dX1_count_117 : decode cX1_count 117 = .ok (.dup, 1) := dk_89 (dk_at dksX1_count_5 1 rfl rfl)
theorem dX1_count_118 : decode cX1_count 118 = .ok (.bipush 7, 2) := dk_16 7 (dk_at dksX1_count_5 2 rfl rfl)
theorem dX1_count_120 : decode cX1_count 120 = .ok (.aload_n 0, 1) := dk_42 (dk_at dksX1_count_5 4 rfl rfl)
theorem dX1_count_121 : decode cX1_count 121 = .ok (.invokedynamic 370, 5) := by decide +kernel
theorem dX1_count_126 : decode cX1_count 126 = .ok (.aastore, 1) := dk_83 (dk_at dksX1_count_5 10 rfl rfl)
theorem dX1_count_127 : decode cX1_count 127 = .ok (.dup, 1) := dk_89 (dk_at dksX1_count_5 11 rfl rfl)
theorem dX1_count_128 : decode cX1_count 128 = .ok (.bipush 8, 2) := dk_16 8 (dk_at dksX1_count_5 12 rfl rfl)
theorem dX1_count_130 : decode cX1_count 130 = .ok (.aload_n 0, 1) := dk_42 (dk_at dksX1_count_5 14 rfl rfl)
theorem dX1_count_131 : decode cX1_count 131 = .ok (.invokedynamic 371, 5) := by decide +kernel
theorem dX1_count_136 : decode cX1_count 136 = .ok (.aastore, 1) := dk_83 (dk_at dksX1_count_5 20 rfl rfl)
theorem dX1_count_137 : decode cX1_count 137 = .ok (.dup, 1) := dk_89 (dk_at dksX1_count_5 21 rfl rfl)
theorem dX1_count_138 : decode cX1_count 138 = .ok (.bipush 9, 2) := dk_16 9 (dk_at dksX1_count_5 22 rfl rfl)
theorem dX1_count_140 : decode cX1_count 140 = .ok (.aload_n 0, 1) := dk_42 (dk_at dksX1_count_6 0 rfl rfl)
theorem dX1_count_141 : decode cX1_count 141 = .ok (.invokedynamic 372, 5) := by decide +kernel
theorem dX1_count_146 : decode cX1_count 146 = .ok (.aastore, 1) := dk_83 (dk_at dksX1_count_6 6 rfl rfl)
theorem dX1_count_147 : decode cX1_count 147 = .ok (.dup, 1) := dk_89 (dk_at dksX1_count_6 7 rfl rfl)
theorem dX1_count_148 : decode cX1_count 148 = .ok (.bipush 10, 2) := dk_16 10 (dk_at dksX1_count_6 8 rfl rfl)
theorem dX1_count_150 : decode cX1_count 150 = .ok (.aload_n 0, 1) := dk_42 (dk_at dksX1_count_6 10 rfl rfl)
theorem dX1_count_151 : decode cX1_count 151 = .ok (.invokedynamic 373, 5) := by decide +kernel
theorem dX1_count_156 : decode cX1_count 156 = .ok (.aastore, 1) := dk_83 (dk_at dksX1_count_6 16 rfl rfl)
theorem dX1_count_157 : decode cX1_count 157 = .ok (.dup, 1) := dk_89 (dk_at dksX1_count_6 17 rfl rfl)
theorem dX1_count_158 : decode cX1_count 158 = .ok (.bipush 11, 2) := dk_16 11 (dk_at dksX1_count_6 18 rfl rfl)
theorem dX1_count_160 : decode cX1_count 160 = .ok (.aload_n 0, 1) := dk_42 (dk_at dksX1_count_6 20 rfl rfl)
theorem dX1_count_161 : decode cX1_count 161 = .ok (.invokedynamic 374, 5) := by decide +kernel
theorem dX1_count_166 : decode cX1_count 166 = .ok (.aastore, 1) := dk_83 (dk_at dksX1_count_7 5 rfl rfl)
theorem dX1_count_167 : decode cX1_count 167 = .ok (.dup, 1) := dk_89 (dk_at dksX1_count_7 6 rfl rfl)
theorem dX1_count_168 : decode cX1_count 168 = .ok (.bipush 12, 2) := dk_16 12 (dk_at dksX1_count_7 7 rfl rfl)
theorem dX1_count_170 : decode cX1_count 170 = .ok (.aload_n 0, 1) := dk_42 (dk_at dksX1_count_7 9 rfl rfl)
theorem dX1_count_171 : decode cX1_count 171 = .ok (.invokedynamic 375, 5) := by decide +kernel
theorem dX1_count_176 : decode cX1_count 176 = .ok (.aastore, 1) := dk_83 (dk_at dksX1_count_7 15 rfl rfl)
theorem dX1_count_177 : decode cX1_count 177 = .ok (.dup, 1) := dk_89 (dk_at dksX1_count_7 16 rfl rfl)
theorem dX1_count_178 : decode cX1_count 178 = .ok (.bipush 13, 2) := dk_16 13 (dk_at dksX1_count_7 17 rfl rfl)
theorem dX1_count_180 : decode cX1_count 180 = .ok (.aload_n 0, 1) := dk_42 (dk_at dksX1_count_7 19 rfl rfl)
theorem dX1_count_181 : decode cX1_count 181 = .ok (.invokedynamic 376, 5) := by decide +kernel
theorem dX1_count_186 : decode cX1_count 186 = .ok (.aastore, 1) := dk_83 (dk_at dksX1_count_8 5 rfl rfl)
theorem dX1_count_187 : decode cX1_count 187 = .ok (.invokestatic 288, 3) := dk_184 1 32 (dk_at dksX1_count_8 6 rfl rfl)
theorem dX1_count_190 : decode cX1_count 190 = .ok (.ireturn, 1) := dk_172 (dk_at dksX1_count_8 9 rfl rfl)
abbrev cX1_lambda_count_29 : ByteArray := prog_1_method_65_code
def yX1_lambda_count_29 : MethodName := ⟨RX1, "lambda$count$29", "()I"⟩
theorem dX1_lambda_count_29_0 : decode cX1_lambda_count_29 0 = .ok (.aload_n 0, 1) := by decide +kernel
theorem dX1_lambda_count_29_1 : decode cX1_lambda_count_29 1 = .ok (.getfield 177, 3) := by decide +kernel
theorem dX1_lambda_count_29_4 : decode cX1_lambda_count_29 4 = .ok (.ireturn, 1) := by decide +kernel
abbrev cX1_lambda_count_30 : ByteArray := prog_1_method_64_code
def yX1_lambda_count_30 : MethodName := ⟨RX1, "lambda$count$30", "()I"⟩
def dkwX1_lambda_count_30_0 : List UInt8 := [42, 180, 0, 40, 185, 0, 77, 1, 0, 172]
abbrev dktX1_lambda_count_30_0 : List UInt8 := dkwX1_lambda_count_30_0 ++ []
theorem dksX1_lambda_count_30_0 : cX1_lambda_count_30.data.toList.drop 0 = dktX1_lambda_count_30_0 := by decide +kernel
theorem dX1_lambda_count_30_0 : decode cX1_lambda_count_30 0 = .ok (.aload_n 0, 1) := dk_42 (dk_at dksX1_lambda_count_30_0 0 rfl rfl)
theorem dX1_lambda_count_30_1 : decode cX1_lambda_count_30 1 = .ok (.getfield 40, 3) := dk_180 0 40 (dk_at dksX1_lambda_count_30_0 1 rfl rfl)
theorem dX1_lambda_count_30_4 : decode cX1_lambda_count_30 4 = .ok (.invokeinterface 77 1, 5) := by decide +kernel
theorem dX1_lambda_count_30_9 : decode cX1_lambda_count_30 9 = .ok (.ireturn, 1) := dk_172 (dk_at dksX1_lambda_count_30_0 9 rfl rfl)
abbrev cX1_lambda_count_31 : ByteArray := prog_1_method_63_code
def yX1_lambda_count_31 : MethodName := ⟨RX1, "lambda$count$31", "(I)I"⟩
theorem dX1_lambda_count_31_0 : decode cX1_lambda_count_31 0 = .ok (.iload_n 0, 1) := by decide +kernel
theorem dX1_lambda_count_31_1 : decode cX1_lambda_count_31 1 = .ok (.ireturn, 1) := by decide +kernel
abbrev cX1_lambda_count_32 : ByteArray := prog_1_method_62_code
def yX1_lambda_count_32 : MethodName := ⟨RX1, "lambda$count$32", "()I"⟩
def dkwX1_lambda_count_32_0 : List UInt8 := [42, 180, 0, 44, 185, 0, 77, 1, 0, 172]
abbrev dktX1_lambda_count_32_0 : List UInt8 := dkwX1_lambda_count_32_0 ++ []
theorem dksX1_lambda_count_32_0 : cX1_lambda_count_32.data.toList.drop 0 = dktX1_lambda_count_32_0 := by decide +kernel
theorem dX1_lambda_count_32_0 : decode cX1_lambda_count_32 0 = .ok (.aload_n 0, 1) := dk_42 (dk_at dksX1_lambda_count_32_0 0 rfl rfl)
theorem dX1_lambda_count_32_1 : decode cX1_lambda_count_32 1 = .ok (.getfield 44, 3) := dk_180 0 44 (dk_at dksX1_lambda_count_32_0 1 rfl rfl)
theorem dX1_lambda_count_32_4 : decode cX1_lambda_count_32 4 = .ok (.invokeinterface 77 1, 5) := by decide +kernel
theorem dX1_lambda_count_32_9 : decode cX1_lambda_count_32 9 = .ok (.ireturn, 1) := dk_172 (dk_at dksX1_lambda_count_32_0 9 rfl rfl)
abbrev cX1_lambda_count_33 : ByteArray := prog_1_method_61_code
def yX1_lambda_count_33 : MethodName := ⟨RX1, "lambda$count$33", "()I"⟩
def dkwX1_lambda_count_33_0 : List UInt8 := [42, 3, 182, 0, 214, 172]
abbrev dktX1_lambda_count_33_0 : List UInt8 := dkwX1_lambda_count_33_0 ++ []
theorem dksX1_lambda_count_33_0 : cX1_lambda_count_33.data.toList.drop 0 = dktX1_lambda_count_33_0 := by decide +kernel
theorem dX1_lambda_count_33_0 : decode cX1_lambda_count_33 0 = .ok (.aload_n 0, 1) := dk_42 (dk_at dksX1_lambda_count_33_0 0 rfl rfl)
theorem dX1_lambda_count_33_1 : decode cX1_lambda_count_33 1 = .ok (.iconst 0, 1) := dk_3 (dk_at dksX1_lambda_count_33_0 1 rfl rfl)
theorem dX1_lambda_count_33_2 : decode cX1_lambda_count_33 2 = .ok (.invokevirtual 214, 3) := dk_182 0 214 (dk_at dksX1_lambda_count_33_0 2 rfl rfl)
theorem dX1_lambda_count_33_5 : decode cX1_lambda_count_33 5 = .ok (.ireturn, 1) := dk_172 (dk_at dksX1_lambda_count_33_0 5 rfl rfl)
abbrev cX1_lambda_count_34 : ByteArray := prog_1_method_60_code
def yX1_lambda_count_34 : MethodName := ⟨RX1, "lambda$count$34", "()I"⟩
def dkwX1_lambda_count_34_0 : List UInt8 := [42, 4, 182, 0, 214, 172]
abbrev dktX1_lambda_count_34_0 : List UInt8 := dkwX1_lambda_count_34_0 ++ []
theorem dksX1_lambda_count_34_0 : cX1_lambda_count_34.data.toList.drop 0 = dktX1_lambda_count_34_0 := by decide +kernel
theorem dX1_lambda_count_34_0 : decode cX1_lambda_count_34 0 = .ok (.aload_n 0, 1) := dk_42 (dk_at dksX1_lambda_count_34_0 0 rfl rfl)
theorem dX1_lambda_count_34_1 : decode cX1_lambda_count_34 1 = .ok (.iconst 1, 1) := dk_4 (dk_at dksX1_lambda_count_34_0 1 rfl rfl)
theorem dX1_lambda_count_34_2 : decode cX1_lambda_count_34 2 = .ok (.invokevirtual 214, 3) := dk_182 0 214 (dk_at dksX1_lambda_count_34_0 2 rfl rfl)
theorem dX1_lambda_count_34_5 : decode cX1_lambda_count_34 5 = .ok (.ireturn, 1) := dk_172 (dk_at dksX1_lambda_count_34_0 5 rfl rfl)
abbrev cX1_lambda_count_35 : ByteArray := prog_1_method_59_code
def yX1_lambda_count_35 : MethodName := ⟨RX1, "lambda$count$35", "()I"⟩
def dkwX1_lambda_count_35_0 : List UInt8 := [42, 5, 182, 0, 214, 172]
abbrev dktX1_lambda_count_35_0 : List UInt8 := dkwX1_lambda_count_35_0 ++ []
theorem dksX1_lambda_count_35_0 : cX1_lambda_count_35.data.toList.drop 0 = dktX1_lambda_count_35_0 := by decide +kernel
theorem dX1_lambda_count_35_0 : decode cX1_lambda_count_35 0 = .ok (.aload_n 0, 1) := dk_42 (dk_at dksX1_lambda_count_35_0 0 rfl rfl)
theorem dX1_lambda_count_35_1 : decode cX1_lambda_count_35 1 = .ok (.iconst 2, 1) := dk_5 (dk_at dksX1_lambda_count_35_0 1 rfl rfl)
theorem dX1_lambda_count_35_2 : decode cX1_lambda_count_35 2 = .ok (.invokevirtual 214, 3) := dk_182 0 214 (dk_at dksX1_lambda_count_35_0 2 rfl rfl)
theorem dX1_lambda_count_35_5 : decode cX1_lambda_count_35 5 = .ok (.ireturn, 1) := dk_172 (dk_at dksX1_lambda_count_35_0 5 rfl rfl)
abbrev cX1_lambda_count_36 : ByteArray := prog_1_method_58_code
def yX1_lambda_count_36 : MethodName := ⟨RX1, "lambda$count$36", "()I"⟩
def dkwX1_lambda_count_36_0 : List UInt8 := [42, 180, 0, 47, 185, 0, 77, 1, 0, 172]
abbrev dktX1_lambda_count_36_0 : List UInt8 := dkwX1_lambda_count_36_0 ++ []
theorem dksX1_lambda_count_36_0 : cX1_lambda_count_36.data.toList.drop 0 = dktX1_lambda_count_36_0 := by decide +kernel
theorem dX1_lambda_count_36_0 : decode cX1_lambda_count_36 0 = .ok (.aload_n 0, 1) := dk_42 (dk_at dksX1_lambda_count_36_0 0 rfl rfl)
theorem dX1_lambda_count_36_1 : decode cX1_lambda_count_36 1 = .ok (.getfield 47, 3) := dk_180 0 47 (dk_at dksX1_lambda_count_36_0 1 rfl rfl)
theorem dX1_lambda_count_36_4 : decode cX1_lambda_count_36 4 = .ok (.invokeinterface 77 1, 5) := by decide +kernel
theorem dX1_lambda_count_36_9 : decode cX1_lambda_count_36 9 = .ok (.ireturn, 1) := dk_172 (dk_at dksX1_lambda_count_36_0 9 rfl rfl)
abbrev cX1_lambda_count_37 : ByteArray := prog_1_method_57_code
def yX1_lambda_count_37 : MethodName := ⟨RX1, "lambda$count$37", "()I"⟩
def dkwX1_lambda_count_37_0 : List UInt8 := [42, 180, 0, 50, 185, 0, 77, 1, 0, 172]
abbrev dktX1_lambda_count_37_0 : List UInt8 := dkwX1_lambda_count_37_0 ++ []
theorem dksX1_lambda_count_37_0 : cX1_lambda_count_37.data.toList.drop 0 = dktX1_lambda_count_37_0 := by decide +kernel
theorem dX1_lambda_count_37_0 : decode cX1_lambda_count_37 0 = .ok (.aload_n 0, 1) := dk_42 (dk_at dksX1_lambda_count_37_0 0 rfl rfl)
theorem dX1_lambda_count_37_1 : decode cX1_lambda_count_37 1 = .ok (.getfield 50, 3) := dk_180 0 50 (dk_at dksX1_lambda_count_37_0 1 rfl rfl)
theorem dX1_lambda_count_37_4 : decode cX1_lambda_count_37 4 = .ok (.invokeinterface 77 1, 5) := by decide +kernel
theorem dX1_lambda_count_37_9 : decode cX1_lambda_count_37 9 = .ok (.ireturn, 1) := dk_172 (dk_at dksX1_lambda_count_37_0 9 rfl rfl)
abbrev cX1_lambda_count_38 : ByteArray := prog_1_method_56_code
def yX1_lambda_count_38 : MethodName := ⟨RX1, "lambda$count$38", "()I"⟩
def dkwX1_lambda_count_38_0 : List UInt8 := [42, 3, 182, 1, 134, 172]
abbrev dktX1_lambda_count_38_0 : List UInt8 := dkwX1_lambda_count_38_0 ++ []
theorem dksX1_lambda_count_38_0 : cX1_lambda_count_38.data.toList.drop 0 = dktX1_lambda_count_38_0 := by decide +kernel
theorem dX1_lambda_count_38_0 : decode cX1_lambda_count_38 0 = .ok (.aload_n 0, 1) := dk_42 (dk_at dksX1_lambda_count_38_0 0 rfl rfl)
theorem dX1_lambda_count_38_1 : decode cX1_lambda_count_38 1 = .ok (.iconst 0, 1) := dk_3 (dk_at dksX1_lambda_count_38_0 1 rfl rfl)
theorem dX1_lambda_count_38_2 : decode cX1_lambda_count_38 2 = .ok (.invokevirtual 390, 3) := dk_182 1 134 (dk_at dksX1_lambda_count_38_0 2 rfl rfl)
theorem dX1_lambda_count_38_5 : decode cX1_lambda_count_38 5 = .ok (.ireturn, 1) := dk_172 (dk_at dksX1_lambda_count_38_0 5 rfl rfl)
abbrev cX1_countClaims : ByteArray := prog_1_method_45_code
def yX1_countClaims : MethodName := ⟨RX1, "countClaims", "(I)I"⟩
def dkwX1_countClaims_2 : List UInt8 := [61, 132, 3, 1, 167, 255, 209, 28, 172]
abbrev dktX1_countClaims_2 : List UInt8 := dkwX1_countClaims_2 ++ []
def dkwX1_countClaims_1 : List UInt8 := [185, 0, 83, 2, 0, 192, 0, 91, 180, 0, 159, 27, 160, 0, 7, 4, 167, 0, 4, 3, 184, 0, 130, 96]
abbrev dktX1_countClaims_1 : List UInt8 := dkwX1_countClaims_1 ++ dktX1_countClaims_2
def dkwX1_countClaims_0 : List UInt8 := [3, 61, 3, 62, 29, 42, 180, 0, 50, 185, 0, 77, 1, 0, 162, 0, 40, 28, 42, 180, 0, 50, 29]
abbrev dktX1_countClaims_0 : List UInt8 := dkwX1_countClaims_0 ++ dktX1_countClaims_1
theorem dksX1_countClaims_0 : cX1_countClaims.data.toList.drop 0 = dktX1_countClaims_0 := by decide +kernel
theorem dksX1_countClaims_1 : cX1_countClaims.data.toList.drop 23 = dktX1_countClaims_1 := dk_seg dksX1_countClaims_0 23 rfl rfl
theorem dksX1_countClaims_2 : cX1_countClaims.data.toList.drop 47 = dktX1_countClaims_2 := dk_seg dksX1_countClaims_1 24 rfl rfl
theorem dX1_countClaims_0 : decode cX1_countClaims 0 = .ok (.iconst 0, 1) := dk_3 (dk_at dksX1_countClaims_0 0 rfl rfl)
theorem dX1_countClaims_1 : decode cX1_countClaims 1 = .ok (.istore_n 2, 1) := dk_61 (dk_at dksX1_countClaims_0 1 rfl rfl)
theorem dX1_countClaims_2 : decode cX1_countClaims 2 = .ok (.iconst 0, 1) := dk_3 (dk_at dksX1_countClaims_0 2 rfl rfl)
theorem dX1_countClaims_3 : decode cX1_countClaims 3 = .ok (.istore_n 3, 1) := dk_62 (dk_at dksX1_countClaims_0 3 rfl rfl)
theorem dX1_countClaims_4 : decode cX1_countClaims 4 = .ok (.iload_n 3, 1) := dk_29 (dk_at dksX1_countClaims_0 4 rfl rfl)
theorem dX1_countClaims_5 : decode cX1_countClaims 5 = .ok (.aload_n 0, 1) := dk_42 (dk_at dksX1_countClaims_0 5 rfl rfl)
theorem dX1_countClaims_6 : decode cX1_countClaims 6 = .ok (.getfield 50, 3) := dk_180 0 50 (dk_at dksX1_countClaims_0 6 rfl rfl)
theorem dX1_countClaims_9 : decode cX1_countClaims 9 = .ok (.invokeinterface 77 1, 5) := by decide +kernel
theorem dX1_countClaims_14 : decode cX1_countClaims 14 = .ok (.if_icmp .ge 40, 3) := dk_162 0 40 (dk_at dksX1_countClaims_0 14 rfl rfl)
theorem dX1_countClaims_17 : decode cX1_countClaims 17 = .ok (.iload_n 2, 1) := dk_28 (dk_at dksX1_countClaims_0 17 rfl rfl)
theorem dX1_countClaims_18 : decode cX1_countClaims 18 = .ok (.aload_n 0, 1) := dk_42 (dk_at dksX1_countClaims_0 18 rfl rfl)
theorem dX1_countClaims_19 : decode cX1_countClaims 19 = .ok (.getfield 50, 3) := dk_180 0 50 (dk_at dksX1_countClaims_0 19 rfl rfl)
theorem dX1_countClaims_22 : decode cX1_countClaims 22 = .ok (.iload_n 3, 1) := dk_29 (dk_at dksX1_countClaims_0 22 rfl rfl)
theorem dX1_countClaims_23 : decode cX1_countClaims 23 = .ok (.invokeinterface 83 2, 5) := by decide +kernel
theorem dX1_countClaims_28 : decode cX1_countClaims 28 = .ok (.checkcast 91, 3) := dk_192 0 91 (dk_at dksX1_countClaims_1 5 rfl rfl)
theorem dX1_countClaims_31 : decode cX1_countClaims 31 = .ok (.getfield 159, 3) := dk_180 0 159 (dk_at dksX1_countClaims_1 8 rfl rfl)
theorem dX1_countClaims_34 : decode cX1_countClaims 34 = .ok (.iload_n 1, 1) := dk_27 (dk_at dksX1_countClaims_1 11 rfl rfl)
theorem dX1_countClaims_35 : decode cX1_countClaims 35 = .ok (.if_icmp .ne 7, 3) := dk_160 0 7 (dk_at dksX1_countClaims_1 12 rfl rfl)
theorem dX1_countClaims_38 : decode cX1_countClaims 38 = .ok (.iconst 1, 1) := dk_4 (dk_at dksX1_countClaims_1 15 rfl rfl)
theorem dX1_countClaims_39 : decode cX1_countClaims 39 = .ok (.goto 4, 3) := dk_167 0 4 (dk_at dksX1_countClaims_1 16 rfl rfl)
theorem dX1_countClaims_42 : decode cX1_countClaims 42 = .ok (.iconst 0, 1) := dk_3 (dk_at dksX1_countClaims_1 19 rfl rfl)
theorem dX1_countClaims_43 : decode cX1_countClaims 43 = .ok (.invokestatic 130, 3) := dk_184 0 130 (dk_at dksX1_countClaims_1 20 rfl rfl)
theorem dX1_countClaims_46 : decode cX1_countClaims 46 = .ok (.iadd, 1) := dk_96 (dk_at dksX1_countClaims_1 23 rfl rfl)
theorem dX1_countClaims_47 : decode cX1_countClaims 47 = .ok (.istore_n 2, 1) := dk_61 (dk_at dksX1_countClaims_2 0 rfl rfl)
theorem dX1_countClaims_48 : decode cX1_countClaims 48 = .ok (.iinc 3 1, 3) := dk_132 3 1 (dk_at dksX1_countClaims_2 1 rfl rfl)
theorem dX1_countClaims_51 : decode cX1_countClaims 51 = .ok (.goto (-47), 3) := dk_167 255 209 (dk_at dksX1_countClaims_2 4 rfl rfl)
theorem dX1_countClaims_54 : decode cX1_countClaims 54 = .ok (.iload_n 2, 1) := dk_28 (dk_at dksX1_countClaims_2 7 rfl rfl)
theorem dX1_countClaims_55 : decode cX1_countClaims 55 = .ok (.ireturn, 1) := dk_172 (dk_at dksX1_countClaims_2 8 rfl rfl)
abbrev cX1_lambda_count_39 : ByteArray := prog_1_method_55_code
def yX1_lambda_count_39 : MethodName := ⟨RX1, "lambda$count$39", "()I"⟩
def dkwX1_lambda_count_39_0 : List UInt8 := [42, 4, 182, 1, 134, 172]
abbrev dktX1_lambda_count_39_0 : List UInt8 := dkwX1_lambda_count_39_0 ++ []
theorem dksX1_lambda_count_39_0 : cX1_lambda_count_39.data.toList.drop 0 = dktX1_lambda_count_39_0 := by decide +kernel
theorem dX1_lambda_count_39_0 : decode cX1_lambda_count_39 0 = .ok (.aload_n 0, 1) := dk_42 (dk_at dksX1_lambda_count_39_0 0 rfl rfl)
theorem dX1_lambda_count_39_1 : decode cX1_lambda_count_39 1 = .ok (.iconst 1, 1) := dk_4 (dk_at dksX1_lambda_count_39_0 1 rfl rfl)
theorem dX1_lambda_count_39_2 : decode cX1_lambda_count_39 2 = .ok (.invokevirtual 390, 3) := dk_182 1 134 (dk_at dksX1_lambda_count_39_0 2 rfl rfl)
theorem dX1_lambda_count_39_5 : decode cX1_lambda_count_39 5 = .ok (.ireturn, 1) := dk_172 (dk_at dksX1_lambda_count_39_0 5 rfl rfl)
abbrev cX1_lambda_count_40 : ByteArray := prog_1_method_54_code
def yX1_lambda_count_40 : MethodName := ⟨RX1, "lambda$count$40", "()I"⟩
def dkwX1_lambda_count_40_0 : List UInt8 := [42, 5, 182, 1, 134, 172]
abbrev dktX1_lambda_count_40_0 : List UInt8 := dkwX1_lambda_count_40_0 ++ []
theorem dksX1_lambda_count_40_0 : cX1_lambda_count_40.data.toList.drop 0 = dktX1_lambda_count_40_0 := by decide +kernel
theorem dX1_lambda_count_40_0 : decode cX1_lambda_count_40 0 = .ok (.aload_n 0, 1) := dk_42 (dk_at dksX1_lambda_count_40_0 0 rfl rfl)
theorem dX1_lambda_count_40_1 : decode cX1_lambda_count_40 1 = .ok (.iconst 2, 1) := dk_5 (dk_at dksX1_lambda_count_40_0 1 rfl rfl)
theorem dX1_lambda_count_40_2 : decode cX1_lambda_count_40 2 = .ok (.invokevirtual 390, 3) := dk_182 1 134 (dk_at dksX1_lambda_count_40_0 2 rfl rfl)
theorem dX1_lambda_count_40_5 : decode cX1_lambda_count_40 5 = .ok (.ireturn, 1) := dk_172 (dk_at dksX1_lambda_count_40_0 5 rfl rfl)
abbrev cX1_lambda_count_41 : ByteArray := prog_1_method_53_code
def yX1_lambda_count_41 : MethodName := ⟨RX1, "lambda$count$41", "()I"⟩
def dkwX1_lambda_count_41_0 : List UInt8 := [42, 6, 182, 1, 134, 172]
abbrev dktX1_lambda_count_41_0 : List UInt8 := dkwX1_lambda_count_41_0 ++ []
theorem dksX1_lambda_count_41_0 : cX1_lambda_count_41.data.toList.drop 0 = dktX1_lambda_count_41_0 := by decide +kernel
theorem dX1_lambda_count_41_0 : decode cX1_lambda_count_41 0 = .ok (.aload_n 0, 1) := dk_42 (dk_at dksX1_lambda_count_41_0 0 rfl rfl)
theorem dX1_lambda_count_41_1 : decode cX1_lambda_count_41 1 = .ok (.iconst 3, 1) := dk_6 (dk_at dksX1_lambda_count_41_0 1 rfl rfl)
theorem dX1_lambda_count_41_2 : decode cX1_lambda_count_41 2 = .ok (.invokevirtual 390, 3) := dk_182 1 134 (dk_at dksX1_lambda_count_41_0 2 rfl rfl)
theorem dX1_lambda_count_41_5 : decode cX1_lambda_count_41 5 = .ok (.ireturn, 1) := dk_172 (dk_at dksX1_lambda_count_41_0 5 rfl rfl)
abbrev cX1_lambda_count_42 : ByteArray := prog_1_method_52_code
def yX1_lambda_count_42 : MethodName := ⟨RX1, "lambda$count$42", "()I"⟩
theorem dX1_lambda_count_42_0 : decode cX1_lambda_count_42 0 = .ok (.aload_n 0, 1) := by decide +kernel
theorem dX1_lambda_count_42_1 : decode cX1_lambda_count_42 1 = .ok (.invokevirtual 100, 3) := by decide +kernel
theorem dX1_lambda_count_42_4 : decode cX1_lambda_count_42 4 = .ok (.ireturn, 1) := by decide +kernel
theorem q72 : (Jvm.Cond.initialized "Appealrent") ∈ lw_all := lw_g (lw_at lw_m1 1 rfl) rfl
theorem q110 : (Jvm.Cond.instantiable "Appealrent" (7 : Nat)) ∈ lw_all := lw_g (lw_at lw_m1 39 rfl) rfl
theorem q112 : (Jvm.Cond.instanceMethod ({ cls := "Appealrent", name := "<init>", desc := "()V" } : Jvm.MethodName)) ∈ lw_all := lw_g (lw_at lw_m1 41 rfl) rfl
theorem q113 : (Jvm.Cond.code ({ cls := "Appealrent", name := "<init>", desc := "()V" } : Jvm.MethodName) prog_1_method_8_code (2 : Nat) (Option.none : Option Jvm.ClassFile.FieldType)) ∈ lw_all := lw_g (lw_at lw_m1 42 rfl) rfl
theorem q114 : (Jvm.Cond.methodLink "Appealrent" (32 : Nat) ({ cls := "java/lang/Object", name := "<init>", desc := "()V" } : Jvm.MethodName)) ∈ lw_all := lw_g (lw_at lw_m1 43 rfl) rfl
theorem q117 : (Jvm.Cond.classLink "Appealrent" (35 : Nat) "java/util/ArrayList") ∈ lw_all := lw_g (lw_at lw_m1 46 rfl) rfl
theorem q119 : (Jvm.Cond.methodLink "Appealrent" (37 : Nat) ({ cls := "java/util/ArrayList", name := "<init>", desc := "(I)V" } : Jvm.MethodName)) ∈ lw_all := lw_g (lw_at lw_m1 48 rfl) rfl
theorem q466 : (Jvm.Cond.classLink "Appealrent" (53 : Nat) "java/lang/StringBuilder") ∈ lw_all := lw_g (lw_at lw_m2 155 rfl) rfl
theorem q467 : (Jvm.Cond.methodLink "Appealrent" (55 : Nat) ({ cls := "java/lang/StringBuilder", name := "<init>", desc := "()V" } : Jvm.MethodName)) ∈ lw_all := lw_g (lw_at lw_m2 156 rfl) rfl
theorem q468 : (Jvm.Cond.stringRef "Appealrent" (60 : Nat) "") ∈ lw_tbl := lw_at lw_m2 157 rfl
theorem q469 : (Jvm.Cond.classLink "Appealrent" (66 : Nat) "Appealrent$Rule") ∈ lw_all := lw_g (lw_at lw_m2 158 rfl) rfl
theorem q471 : (Jvm.Cond.methodLink "Appealrent" (68 : Nat) ({ cls := "Appealrent$Rule", name := "<init>", desc := "(LAppealrent;IIZLAppealrent$Rule;)V" } : Jvm.MethodName)) ∈ lw_all := lw_g (lw_at lw_m2 160 rfl) rfl
theorem q513 : (Jvm.Cond.fieldLinkNest "Appealrent" (217 : Nat) "Appealrent$Rule" "number" "I" "Appealrent") ∈ lw_tbl := lw_at lw_m2 202 rfl
theorem q515 : (Jvm.Cond.fieldLinkNest "Appealrent" (403 : Nat) "Appealrent$Rule" "from" "I" "Appealrent") ∈ lw_tbl := lw_at lw_m2 204 rfl
theorem q517 : (Jvm.Cond.fieldLinkNest "Appealrent" (399 : Nat) "Appealrent$Rule" "isCourt" "Z" "Appealrent") ∈ lw_tbl := lw_at lw_m2 206 rfl
theorem q519 : (Jvm.Cond.fieldLinkNest "Appealrent" (397 : Nat) "Appealrent$Rule" "its" "[I" "Appealrent") ∈ lw_tbl := lw_at lw_m2 208 rfl
theorem q540 : (Jvm.Cond.interfaceEntry "Appealrent" (71 : Nat)) ∈ lw_tbl := lw_at lw_m2 229 rfl
theorem q541 : (Jvm.Cond.methodLink "Appealrent" (71 : Nat) ({ cls := "java/util/List", name := "add", desc := "(Ljava/lang/Object;)Z" } : Jvm.MethodName)) ∈ lw_all := lw_g (lw_at lw_m2 230 rfl) rfl
theorem q570 : (Jvm.Cond.selects "Appealrent" ({ cls := "java/lang/Object", name := "getClass", desc := "()Ljava/lang/Class;" } : Jvm.MethodName) ({ cls := "java/lang/Object", name := "getClass", desc := "()Ljava/lang/Class;" } : Jvm.MethodName)) ∈ lw_all := lw_g (lw_at lw_m3 19 rfl) rfl
theorem q598 : (Jvm.Cond.fieldLink "Appealrent" (40 : Nat) "Appealrent" "cases" "Ljava/util/List;") ∈ lw_all := lw_g (lw_at lw_m3 47 rfl) rfl
theorem q599 : (Jvm.Cond.fieldLink "Appealrent" (44 : Nat) "Appealrent" "forms" "Ljava/util/List;") ∈ lw_all := lw_g (lw_at lw_m3 48 rfl) rfl
theorem q600 : (Jvm.Cond.fieldLink "Appealrent" (47 : Nat) "Appealrent" "rules" "Ljava/util/List;") ∈ lw_all := lw_g (lw_at lw_m3 49 rfl) rfl
theorem q601 : (Jvm.Cond.fieldLink "Appealrent" (50 : Nat) "Appealrent" "claims" "Ljava/util/List;") ∈ lw_all := lw_g (lw_at lw_m3 50 rfl) rfl
theorem q602 : (Jvm.Cond.fieldLink "Appealrent" (56 : Nat) "Appealrent" "tape" "Ljava/lang/StringBuilder;") ∈ lw_all := lw_g (lw_at lw_m3 51 rfl) rfl
theorem q603 : (Jvm.Cond.fieldLink "Appealrent" (62 : Nat) "Appealrent" "output" "Ljava/lang/String;") ∈ lw_all := lw_g (lw_at lw_m3 52 rfl) rfl
theorem q604 : (Jvm.Cond.fieldLink "Appealrent" (177 : Nat) "Appealrent" "today" "I") ∈ lw_all := lw_g (lw_at lw_m3 53 rfl) rfl
theorem q605 : (Jvm.Cond.laysFinal "Appealrent" "Appealrent" "cases" "Ljava/util/List;") ∈ lw_all := lw_g (lw_at lw_m3 54 rfl) rfl
theorem q606 : (Jvm.Cond.soleField "Appealrent" "cases") ∈ lw_all := lw_g (lw_at lw_m3 55 rfl) rfl
theorem q607 : (Jvm.Cond.laysFinal "Appealrent" "Appealrent" "forms" "Ljava/util/List;") ∈ lw_all := lw_g (lw_at lw_m3 56 rfl) rfl
theorem q608 : (Jvm.Cond.soleField "Appealrent" "forms") ∈ lw_all := lw_g (lw_at lw_m3 57 rfl) rfl
theorem q609 : (Jvm.Cond.laysFinal "Appealrent" "Appealrent" "rules" "Ljava/util/List;") ∈ lw_all := lw_g (lw_at lw_m3 58 rfl) rfl
theorem q610 : (Jvm.Cond.soleField "Appealrent" "rules") ∈ lw_all := lw_g (lw_at lw_m3 59 rfl) rfl
theorem q611 : (Jvm.Cond.laysFinal "Appealrent" "Appealrent" "claims" "Ljava/util/List;") ∈ lw_all := lw_g (lw_at lw_m3 60 rfl) rfl
theorem q612 : (Jvm.Cond.soleField "Appealrent" "claims") ∈ lw_all := lw_g (lw_at lw_m3 61 rfl) rfl
theorem q613 : (Jvm.Cond.laysFinal "Appealrent" "Appealrent" "tape" "Ljava/lang/StringBuilder;") ∈ lw_all := lw_g (lw_at lw_m3 62 rfl) rfl
theorem q614 : (Jvm.Cond.soleField "Appealrent" "tape") ∈ lw_all := lw_g (lw_at lw_m3 63 rfl) rfl
theorem q615 : (Jvm.Cond.lays "Appealrent" "Appealrent" "output" "Ljava/lang/String;") ∈ lw_all := lw_g (lw_at lw_m3 64 rfl) rfl
theorem q616 : (Jvm.Cond.soleField "Appealrent" "output") ∈ lw_all := lw_g (lw_at lw_m3 65 rfl) rfl
theorem q617 : (Jvm.Cond.lays "Appealrent" "Appealrent" "today" "I") ∈ lw_all := lw_g (lw_at lw_m3 66 rfl) rfl
theorem q618 : (Jvm.Cond.soleField "Appealrent" "today") ∈ lw_all := lw_g (lw_at lw_m3 67 rfl) rfl
theorem q619 : (Jvm.Cond.superclass "Appealrent" "java/lang/Object") ∈ lw_all := lw_g (lw_at lw_m3 68 rfl) rfl
theorem q621 : (Jvm.Cond.instanceMethod ({ cls := "Appealrent", name := "clear", desc := "()I" } : Jvm.MethodName)) ∈ lw_all := lw_g (lw_at lw_m3 70 rfl) rfl
theorem q622 : (Jvm.Cond.selects "Appealrent" ({ cls := "Appealrent", name := "clear", desc := "()I" } : Jvm.MethodName) ({ cls := "Appealrent", name := "clear", desc := "()I" } : Jvm.MethodName)) ∈ lw_all := lw_g (lw_at lw_m3 71 rfl) rfl
theorem q623 : (Jvm.Cond.code ({ cls := "Appealrent", name := "clear", desc := "()I" } : Jvm.MethodName) prog_1_method_20_code (2 : Nat) (Option.some Jvm.ClassFile.FieldType.int)) ∈ lw_all := lw_g (lw_at lw_m3 72 rfl) rfl
theorem q624 : (Jvm.Cond.methodLink "Appealrent" (100 : Nat) ({ cls := "Appealrent", name := "tapeSigns", desc := "()I" } : Jvm.MethodName)) ∈ lw_all := lw_g (lw_at lw_m3 73 rfl) rfl
theorem q625 : (Jvm.Cond.privateMethod ({ cls := "Appealrent", name := "tapeSigns", desc := "()I" } : Jvm.MethodName)) ∈ lw_tbl := lw_at lw_m3 74 rfl
theorem q626 : (Jvm.Cond.instanceMethod ({ cls := "Appealrent", name := "tapeSigns", desc := "()I" } : Jvm.MethodName)) ∈ lw_all := lw_g (lw_at lw_m3 75 rfl) rfl
theorem q627 : (Jvm.Cond.code ({ cls := "Appealrent", name := "tapeSigns", desc := "()I" } : Jvm.MethodName) prog_1_method_12_code (1 : Nat) (Option.some Jvm.ClassFile.FieldType.int)) ∈ lw_all := lw_g (lw_at lw_m3 76 rfl) rfl
theorem q628 : (Jvm.Cond.methodLink "Appealrent" (93 : Nat) ({ cls := "java/lang/StringBuilder", name := "length", desc := "()I" } : Jvm.MethodName)) ∈ lw_all := lw_g (lw_at lw_m3 77 rfl) rfl
theorem q629 : (Jvm.Cond.methodLink "Appealrent" (96 : Nat) ({ cls := "java/lang/StringBuilder", name := "codePointCount", desc := "(II)I" } : Jvm.MethodName)) ∈ lw_all := lw_g (lw_at lw_m3 78 rfl) rfl
theorem q653 : (Jvm.Cond.methodLink "Appealrent" (112 : Nat) ({ cls := "java/lang/StringBuilder", name := "setLength", desc := "(I)V" } : Jvm.MethodName)) ∈ lw_all := lw_g (lw_at lw_m3 102 rfl) rfl
theorem q722 : (Jvm.Cond.instanceMethod ({ cls := "Appealrent", name := "meanHelp", desc := "()D" } : Jvm.MethodName)) ∈ lw_all := lw_g (lw_at lw_m3 171 rfl) rfl
theorem q723 : (Jvm.Cond.selects "Appealrent" ({ cls := "Appealrent", name := "meanHelp", desc := "()D" } : Jvm.MethodName) ({ cls := "Appealrent", name := "meanHelp", desc := "()D" } : Jvm.MethodName)) ∈ lw_all := lw_g (lw_at lw_m3 172 rfl) rfl
theorem q724 : (Jvm.Cond.code ({ cls := "Appealrent", name := "meanHelp", desc := "()D" } : Jvm.MethodName) prog_1_method_47_code (4 : Nat) (Option.some Jvm.ClassFile.FieldType.double)) ∈ lw_all := lw_g (lw_at lw_m3 173 rfl) rfl
theorem q725 : (Jvm.Cond.interfaceEntry "Appealrent" (77 : Nat)) ∈ lw_tbl := lw_at lw_m3 174 rfl
theorem q726 : (Jvm.Cond.methodLink "Appealrent" (77 : Nat) ({ cls := "java/util/List", name := "size", desc := "()I" } : Jvm.MethodName)) ∈ lw_all := lw_g (lw_at lw_m3 175 rfl) rfl
theorem q727 : (Jvm.Cond.interfaceEntry "Appealrent" (83 : Nat)) ∈ lw_tbl := lw_at lw_m3 176 rfl
theorem q728 : (Jvm.Cond.methodLink "Appealrent" (83 : Nat) ({ cls := "java/util/List", name := "get", desc := "(I)Ljava/lang/Object;" } : Jvm.MethodName)) ∈ lw_all := lw_g (lw_at lw_m3 177 rfl) rfl
theorem q729 : (Jvm.Cond.classLink "Appealrent" (87 : Nat) "Appealrent$Case") ∈ lw_all := lw_g (lw_at lw_m3 178 rfl) rfl
theorem q730 : (Jvm.Cond.methodLink "Appealrent" (154 : Nat) ({ cls := "Appealrent", name := "helpOn", desc := "(LAppealrent$Case;I)I" } : Jvm.MethodName)) ∈ lw_all := lw_g (lw_at lw_m3 179 rfl) rfl
theorem q731 : (Jvm.Cond.privateMethod ({ cls := "Appealrent", name := "helpOn", desc := "(LAppealrent$Case;I)I" } : Jvm.MethodName)) ∈ lw_tbl := lw_at lw_m3 180 rfl
theorem q732 : (Jvm.Cond.instanceMethod ({ cls := "Appealrent", name := "helpOn", desc := "(LAppealrent$Case;I)I" } : Jvm.MethodName)) ∈ lw_all := lw_g (lw_at lw_m3 181 rfl) rfl
theorem q733 : (Jvm.Cond.code ({ cls := "Appealrent", name := "helpOn", desc := "(LAppealrent$Case;I)I" } : Jvm.MethodName) prog_1_method_16_code (3 : Nat) (Option.some Jvm.ClassFile.FieldType.int)) ∈ lw_all := lw_g (lw_at lw_m3 182 rfl) rfl
theorem q734 : (Jvm.Cond.methodLink "Appealrent" (138 : Nat) ({ cls := "Appealrent$Case", name := "has", desc := "(I)Z" } : Jvm.MethodName)) ∈ lw_all := lw_g (lw_at lw_m3 183 rfl) rfl
theorem q738 : (Jvm.Cond.methodLink "Appealrent" (142 : Nat) ({ cls := "Appealrent", name := "ruleOf", desc := "(LAppealrent$Case;I)LAppealrent$Rule;" } : Jvm.MethodName)) ∈ lw_all := lw_g (lw_at lw_m3 187 rfl) rfl
theorem q739 : (Jvm.Cond.privateMethod ({ cls := "Appealrent", name := "ruleOf", desc := "(LAppealrent$Case;I)LAppealrent$Rule;" } : Jvm.MethodName)) ∈ lw_tbl := lw_at lw_m3 188 rfl
theorem q740 : (Jvm.Cond.instanceMethod ({ cls := "Appealrent", name := "ruleOf", desc := "(LAppealrent$Case;I)LAppealrent$Rule;" } : Jvm.MethodName)) ∈ lw_all := lw_g (lw_at lw_m3 189 rfl) rfl
theorem q741 : (Jvm.Cond.code ({ cls := "Appealrent", name := "ruleOf", desc := "(LAppealrent$Case;I)LAppealrent$Rule;" } : Jvm.MethodName) prog_1_method_15_code (5 : Nat) (Option.some (Jvm.ClassFile.FieldType.object "Appealrent$Rule"))) ∈ lw_all := lw_g (lw_at lw_m3 190 rfl) rfl
theorem q742 : (Jvm.Cond.methodLink "Appealrent" (134 : Nat) ({ cls := "Appealrent$Rule", name := "isFor", desc := "(LAppealrent$Case;I)Z" } : Jvm.MethodName)) ∈ lw_all := lw_g (lw_at lw_m3 191 rfl) rfl
theorem q746 : (Jvm.Cond.methodLink "Appealrent" (146 : Nat) ({ cls := "Appealrent", name := "factOn", desc := "(LAppealrent$Case;II)I" } : Jvm.MethodName)) ∈ lw_all := lw_g (lw_at lw_m3 195 rfl) rfl
theorem q747 : (Jvm.Cond.privateMethod ({ cls := "Appealrent", name := "factOn", desc := "(LAppealrent$Case;II)I" } : Jvm.MethodName)) ∈ lw_tbl := lw_at lw_m3 196 rfl
theorem q748 : (Jvm.Cond.instanceMethod ({ cls := "Appealrent", name := "factOn", desc := "(LAppealrent$Case;II)I" } : Jvm.MethodName)) ∈ lw_all := lw_g (lw_at lw_m3 197 rfl) rfl
theorem q749 : (Jvm.Cond.code ({ cls := "Appealrent", name := "factOn", desc := "(LAppealrent$Case;II)I" } : Jvm.MethodName) prog_1_method_14_code (8 : Nat) (Option.some Jvm.ClassFile.FieldType.int)) ∈ lw_all := lw_g (lw_at lw_m3 198 rfl) rfl
theorem q750 : (Jvm.Cond.classLink "Appealrent" (89 : Nat) "Appealrent$Form") ∈ lw_all := lw_g (lw_at lw_m3 199 rfl) rfl
theorem q751 : (Jvm.Cond.methodLink "Appealrent" (130 : Nat) ({ cls := "Appealrent", name := "one", desc := "(Z)I" } : Jvm.MethodName)) ∈ lw_all := lw_g (lw_at lw_m3 200 rfl) rfl
theorem q752 : (Jvm.Cond.static ({ cls := "Appealrent", name := "one", desc := "(Z)I" } : Jvm.MethodName)) ∈ lw_all := lw_g (lw_at lw_m3 201 rfl) rfl
theorem q753 : (Jvm.Cond.code ({ cls := "Appealrent", name := "one", desc := "(Z)I" } : Jvm.MethodName) prog_1_method_6_code (1 : Nat) (Option.some Jvm.ClassFile.FieldType.int)) ∈ lw_all := lw_g (lw_at lw_m3 202 rfl) rfl
theorem q754 : (Jvm.Cond.methodLink "Appealrent" (150 : Nat) ({ cls := "Appealrent$Rule", name := "help", desc := "(III)I" } : Jvm.MethodName)) ∈ lw_all := lw_g (lw_at lw_m3 203 rfl) rfl
theorem q765 : (Jvm.Cond.interfaceEntry "Appealrent" (377 : Nat)) ∈ lw_tbl := lw_at lw_m3 214 rfl
theorem q766 : (Jvm.Cond.methodLink "Appealrent" (377 : Nat) ({ cls := "java/util/List", name := "isEmpty", desc := "()Z" } : Jvm.MethodName)) ∈ lw_all := lw_g (lw_at lw_m3 215 rfl) rfl
theorem q775 : (Jvm.Cond.instanceMethod ({ cls := "Appealrent", name := "calledBack", desc := "()F" } : Jvm.MethodName)) ∈ lw_all := lw_g (lw_at lw_m3 224 rfl) rfl
theorem q776 : (Jvm.Cond.selects "Appealrent" ({ cls := "Appealrent", name := "calledBack", desc := "()F" } : Jvm.MethodName) ({ cls := "Appealrent", name := "calledBack", desc := "()F" } : Jvm.MethodName)) ∈ lw_all := lw_g (lw_at lw_m3 225 rfl) rfl
theorem q777 : (Jvm.Cond.code ({ cls := "Appealrent", name := "calledBack", desc := "()F" } : Jvm.MethodName) prog_1_method_48_code (4 : Nat) (Option.some Jvm.ClassFile.FieldType.float)) ∈ lw_all := lw_g (lw_at lw_m3 226 rfl) rfl
theorem q778 : (Jvm.Cond.classLink "Appealrent" (91 : Nat) "Appealrent$Claim") ∈ lw_all := lw_g (lw_at lw_m3 227 rfl) rfl
theorem q779 : (Jvm.Cond.methodLink "Appealrent" (380 : Nat) ({ cls := "Appealrent$Case", name := "allPaid", desc := "()I" } : Jvm.MethodName)) ∈ lw_all := lw_g (lw_at lw_m3 228 rfl) rfl
theorem q784 : (Jvm.Cond.instanceMethod ({ cls := "Appealrent", name := "errors", desc := "()I" } : Jvm.MethodName)) ∈ lw_all := lw_g (lw_at lw_m3 233 rfl) rfl
theorem q785 : (Jvm.Cond.selects "Appealrent" ({ cls := "Appealrent", name := "errors", desc := "()I" } : Jvm.MethodName) ({ cls := "Appealrent", name := "errors", desc := "()I" } : Jvm.MethodName)) ∈ lw_all := lw_g (lw_at lw_m3 234 rfl) rfl
theorem q786 : (Jvm.Cond.code ({ cls := "Appealrent", name := "errors", desc := "()I" } : Jvm.MethodName) prog_1_method_51_code (4 : Nat) (Option.some Jvm.ClassFile.FieldType.int)) ∈ lw_all := lw_g (lw_at lw_m3 235 rfl) rfl
theorem q787 : (Jvm.Cond.methodLink "Appealrent" (386 : Nat) ({ cls := "Appealrent", name := "wrong", desc := "(LAppealrent$Case;)I" } : Jvm.MethodName)) ∈ lw_all := lw_g (lw_at lw_m3 236 rfl) rfl
theorem q788 : (Jvm.Cond.privateMethod ({ cls := "Appealrent", name := "wrong", desc := "(LAppealrent$Case;)I" } : Jvm.MethodName)) ∈ lw_tbl := lw_at lw_m3 237 rfl
theorem q789 : (Jvm.Cond.instanceMethod ({ cls := "Appealrent", name := "wrong", desc := "(LAppealrent$Case;)I" } : Jvm.MethodName)) ∈ lw_all := lw_g (lw_at lw_m3 238 rfl) rfl
theorem q790 : (Jvm.Cond.code ({ cls := "Appealrent", name := "wrong", desc := "(LAppealrent$Case;)I" } : Jvm.MethodName) prog_1_method_50_code (4 : Nat) (Option.some Jvm.ClassFile.FieldType.int)) ∈ lw_all := lw_g (lw_at lw_m3 239 rfl) rfl
theorem q791 : (Jvm.Cond.methodLink "Appealrent" (383 : Nat) ({ cls := "Appealrent", name := "again", desc := "(LAppealrent$Case;I)I" } : Jvm.MethodName)) ∈ lw_all := lw_g (lw_at lw_m4 0 rfl) rfl
theorem q792 : (Jvm.Cond.privateMethod ({ cls := "Appealrent", name := "again", desc := "(LAppealrent$Case;I)I" } : Jvm.MethodName)) ∈ lw_tbl := lw_at lw_m4 1 rfl
theorem q793 : (Jvm.Cond.instanceMethod ({ cls := "Appealrent", name := "again", desc := "(LAppealrent$Case;I)I" } : Jvm.MethodName)) ∈ lw_all := lw_g (lw_at lw_m4 2 rfl) rfl
theorem q794 : (Jvm.Cond.code ({ cls := "Appealrent", name := "again", desc := "(LAppealrent$Case;I)I" } : Jvm.MethodName) prog_1_method_49_code (12 : Nat) (Option.some Jvm.ClassFile.FieldType.int)) ∈ lw_all := lw_g (lw_at lw_m4 3 rfl) rfl
theorem q795 : (Jvm.Cond.methodLink "Appealrent" (252 : Nat) ({ cls := "Appealrent", name := "dueOf", desc := "(LAppealrent$Case;I)I" } : Jvm.MethodName)) ∈ lw_all := lw_g (lw_at lw_m4 4 rfl) rfl
theorem q796 : (Jvm.Cond.privateMethod ({ cls := "Appealrent", name := "dueOf", desc := "(LAppealrent$Case;I)I" } : Jvm.MethodName)) ∈ lw_tbl := lw_at lw_m4 5 rfl
theorem q797 : (Jvm.Cond.instanceMethod ({ cls := "Appealrent", name := "dueOf", desc := "(LAppealrent$Case;I)I" } : Jvm.MethodName)) ∈ lw_all := lw_g (lw_at lw_m4 6 rfl) rfl
theorem q798 : (Jvm.Cond.code ({ cls := "Appealrent", name := "dueOf", desc := "(LAppealrent$Case;I)I" } : Jvm.MethodName) prog_1_method_17_code (5 : Nat) (Option.some Jvm.ClassFile.FieldType.int)) ∈ lw_all := lw_g (lw_at lw_m4 7 rfl) rfl
theorem q805 : (Jvm.Cond.instanceMethod ({ cls := "Appealrent", name := "sign", desc := "(I)I" } : Jvm.MethodName)) ∈ lw_all := lw_g (lw_at lw_m4 14 rfl) rfl
theorem q806 : (Jvm.Cond.selects "Appealrent" ({ cls := "Appealrent", name := "sign", desc := "(I)I" } : Jvm.MethodName) ({ cls := "Appealrent", name := "sign", desc := "(I)I" } : Jvm.MethodName)) ∈ lw_all := lw_g (lw_at lw_m4 15 rfl) rfl
theorem q807 : (Jvm.Cond.code ({ cls := "Appealrent", name := "sign", desc := "(I)I" } : Jvm.MethodName) prog_1_method_19_code (2 : Nat) (Option.some Jvm.ClassFile.FieldType.int)) ∈ lw_all := lw_g (lw_at lw_m4 16 rfl) rfl
theorem q808 : (Jvm.Cond.constant "Appealrent" (163 : Nat) (1114111 : Int32)) ∈ lw_all := lw_g (lw_at lw_m4 17 rfl) rfl
theorem q809 : (Jvm.Cond.methodLink "Appealrent" (16 : Nat) ({ cls := "Appealrent", name := "in", desc := "(III)Z" } : Jvm.MethodName)) ∈ lw_all := lw_g (lw_at lw_m4 18 rfl) rfl
theorem q810 : (Jvm.Cond.static ({ cls := "Appealrent", name := "in", desc := "(III)Z" } : Jvm.MethodName)) ∈ lw_all := lw_g (lw_at lw_m4 19 rfl) rfl
theorem q811 : (Jvm.Cond.code ({ cls := "Appealrent", name := "in", desc := "(III)Z" } : Jvm.MethodName) prog_1_method_1_code (3 : Nat) (Option.some Jvm.ClassFile.FieldType.boolean)) ∈ lw_all := lw_g (lw_at lw_m4 20 rfl) rfl
theorem q812 : (Jvm.Cond.constant "Appealrent" (164 : Nat) (55296 : Int32)) ∈ lw_all := lw_g (lw_at lw_m4 21 rfl) rfl
theorem q813 : (Jvm.Cond.constant "Appealrent" (165 : Nat) (57343 : Int32)) ∈ lw_all := lw_g (lw_at lw_m4 22 rfl) rfl
theorem q814 : (Jvm.Cond.methodLink "Appealrent" (22 : Nat) ({ cls := "Appealrent", name := "checkArgument", desc := "(Z)V" } : Jvm.MethodName)) ∈ lw_all := lw_g (lw_at lw_m4 23 rfl) rfl
theorem q815 : (Jvm.Cond.static ({ cls := "Appealrent", name := "checkArgument", desc := "(Z)V" } : Jvm.MethodName)) ∈ lw_all := lw_g (lw_at lw_m4 24 rfl) rfl
theorem q816 : (Jvm.Cond.code ({ cls := "Appealrent", name := "checkArgument", desc := "(Z)V" } : Jvm.MethodName) prog_1_method_3_code (1 : Nat) (Option.none : Option Jvm.ClassFile.FieldType)) ∈ lw_all := lw_g (lw_at lw_m4 25 rfl) rfl
theorem q817 : (Jvm.Cond.classLink "Appealrent" (7 : Nat) "java/lang/IllegalArgumentException") ∈ lw_all := lw_g (lw_at lw_m4 26 rfl) rfl
theorem q818 : (Jvm.Cond.methodLink "Appealrent" (9 : Nat) ({ cls := "java/lang/IllegalArgumentException", name := "<init>", desc := "()V" } : Jvm.MethodName)) ∈ lw_all := lw_g (lw_at lw_m4 27 rfl) rfl
theorem q828 : (Jvm.Cond.methodLink "Appealrent" (166 : Nat) ({ cls := "Appealrent", name := "checkState", desc := "(Z)V" } : Jvm.MethodName)) ∈ lw_all := lw_g (lw_at lw_m4 37 rfl) rfl
theorem q829 : (Jvm.Cond.static ({ cls := "Appealrent", name := "checkState", desc := "(Z)V" } : Jvm.MethodName)) ∈ lw_all := lw_g (lw_at lw_m4 38 rfl) rfl
theorem q830 : (Jvm.Cond.code ({ cls := "Appealrent", name := "checkState", desc := "(Z)V" } : Jvm.MethodName) prog_1_method_4_code (1 : Nat) (Option.none : Option Jvm.ClassFile.FieldType)) ∈ lw_all := lw_g (lw_at lw_m4 39 rfl) rfl
theorem q831 : (Jvm.Cond.classLink "Appealrent" (10 : Nat) "java/lang/IllegalStateException") ∈ lw_all := lw_g (lw_at lw_m4 40 rfl) rfl
theorem q840 : (Jvm.Cond.methodLink "Appealrent" (12 : Nat) ({ cls := "java/lang/IllegalStateException", name := "<init>", desc := "()V" } : Jvm.MethodName)) ∈ lw_all := lw_g (lw_at lw_m4 49 rfl) rfl
theorem q846 : (Jvm.Cond.methodLink "Appealrent" (169 : Nat) ({ cls := "java/lang/StringBuilder", name := "appendCodePoint", desc := "(I)Ljava/lang/StringBuilder;" } : Jvm.MethodName)) ∈ lw_all := lw_g (lw_at lw_m4 55 rfl) rfl
theorem q925 : (Jvm.Cond.instanceMethod ({ cls := "Appealrent", name := "open", desc := "()I" } : Jvm.MethodName)) ∈ lw_all := lw_g (lw_at lw_m4 134 rfl) rfl
theorem q926 : (Jvm.Cond.selects "Appealrent" ({ cls := "Appealrent", name := "open", desc := "()I" } : Jvm.MethodName) ({ cls := "Appealrent", name := "open", desc := "()I" } : Jvm.MethodName)) ∈ lw_all := lw_g (lw_at lw_m4 135 rfl) rfl
theorem q927 : (Jvm.Cond.code ({ cls := "Appealrent", name := "open", desc := "()I" } : Jvm.MethodName) prog_1_method_21_code (2 : Nat) (Option.some Jvm.ClassFile.FieldType.int)) ∈ lw_all := lw_g (lw_at lw_m4 136 rfl) rfl
theorem q929 : (Jvm.Cond.methodLink "Appealrent" (173 : Nat) ({ cls := "java/lang/StringBuilder", name := "toString", desc := "()Ljava/lang/String;" } : Jvm.MethodName)) ∈ lw_all := lw_g (lw_at lw_m4 138 rfl) rfl
theorem q930 : (Jvm.Cond.methodLink "Appealrent" (180 : Nat) ({ cls := "Appealrent$Case", name := "<init>", desc := "(ILjava/lang/String;I)V" } : Jvm.MethodName)) ∈ lw_all := lw_g (lw_at lw_m4 139 rfl) rfl
theorem q936 : (Jvm.Cond.fieldLinkNest "Appealrent" (396 : Nat) "Appealrent$Case" "number" "I" "Appealrent") ∈ lw_tbl := lw_at lw_m4 145 rfl
theorem q938 : (Jvm.Cond.fieldLinkNest "Appealrent" (316 : Nat) "Appealrent$Case" "name" "Ljava/lang/String;" "Appealrent") ∈ lw_tbl := lw_at lw_m4 147 rfl
theorem q940 : (Jvm.Cond.fieldLinkNest "Appealrent" (407 : Nat) "Appealrent$Case" "first" "I" "Appealrent") ∈ lw_tbl := lw_at lw_m4 149 rfl
theorem q942 : (Jvm.Cond.fieldLinkNest "Appealrent" (191 : Nat) "Appealrent$Case" "last" "I" "Appealrent") ∈ lw_tbl := lw_at lw_m4 151 rfl
theorem q944 : (Jvm.Cond.fieldLinkNest "Appealrent" (234 : Nat) "Appealrent$Case" "paid" "[I" "Appealrent") ∈ lw_tbl := lw_at lw_m4 153 rfl
theorem q946 : (Jvm.Cond.fieldLinkNest "Appealrent" (255 : Nat) "Appealrent$Case" "claimed" "[I" "Appealrent") ∈ lw_tbl := lw_at lw_m4 155 rfl
theorem q947 : (Jvm.Cond.fieldLinkNest "Appealrent" (246 : Nat) "Appealrent$Case" "kept" "I" "Appealrent") ∈ lw_tbl := lw_at lw_m4 156 rfl
theorem q949 : (Jvm.Cond.fieldLinkNest "Appealrent" (249 : Nat) "Appealrent$Case" "sent" "[I" "Appealrent") ∈ lw_tbl := lw_at lw_m4 158 rfl
theorem q974 : (Jvm.Cond.instanceMethod ({ cls := "Appealrent", name := "end", desc := "(I)I" } : Jvm.MethodName)) ∈ lw_all := lw_g (lw_at lw_m4 183 rfl) rfl
theorem q975 : (Jvm.Cond.selects "Appealrent" ({ cls := "Appealrent", name := "end", desc := "(I)I" } : Jvm.MethodName) ({ cls := "Appealrent", name := "end", desc := "(I)I" } : Jvm.MethodName)) ∈ lw_all := lw_g (lw_at lw_m4 184 rfl) rfl
theorem q976 : (Jvm.Cond.code ({ cls := "Appealrent", name := "end", desc := "(I)I" } : Jvm.MethodName) prog_1_method_22_code (5 : Nat) (Option.some Jvm.ClassFile.FieldType.int)) ∈ lw_all := lw_g (lw_at lw_m4 185 rfl) rfl
theorem q977 : (Jvm.Cond.methodLink "Appealrent" (183 : Nat) ({ cls := "Appealrent", name := "caseOf", desc := "(I)LAppealrent$Case;" } : Jvm.MethodName)) ∈ lw_all := lw_g (lw_at lw_m4 186 rfl) rfl
theorem q978 : (Jvm.Cond.privateMethod ({ cls := "Appealrent", name := "caseOf", desc := "(I)LAppealrent$Case;" } : Jvm.MethodName)) ∈ lw_tbl := lw_at lw_m4 187 rfl
theorem q979 : (Jvm.Cond.instanceMethod ({ cls := "Appealrent", name := "caseOf", desc := "(I)LAppealrent$Case;" } : Jvm.MethodName)) ∈ lw_all := lw_g (lw_at lw_m4 188 rfl) rfl
theorem q980 : (Jvm.Cond.code ({ cls := "Appealrent", name := "caseOf", desc := "(I)LAppealrent$Case;" } : Jvm.MethodName) prog_1_method_9_code (2 : Nat) (Option.some (Jvm.ClassFile.FieldType.object "Appealrent$Case"))) ∈ lw_all := lw_g (lw_at lw_m4 189 rfl) rfl
theorem q981 : (Jvm.Cond.methodLink "Appealrent" (80 : Nat) ({ cls := "Appealrent", name := "checkIndex", desc := "(Z)V" } : Jvm.MethodName)) ∈ lw_all := lw_g (lw_at lw_m4 190 rfl) rfl
theorem q982 : (Jvm.Cond.static ({ cls := "Appealrent", name := "checkIndex", desc := "(Z)V" } : Jvm.MethodName)) ∈ lw_all := lw_g (lw_at lw_m4 191 rfl) rfl
theorem q983 : (Jvm.Cond.code ({ cls := "Appealrent", name := "checkIndex", desc := "(Z)V" } : Jvm.MethodName) prog_1_method_2_code (1 : Nat) (Option.none : Option Jvm.ClassFile.FieldType)) ∈ lw_all := lw_g (lw_at lw_m4 192 rfl) rfl
theorem q984 : (Jvm.Cond.classLink "Appealrent" (1 : Nat) "java/lang/IndexOutOfBoundsException") ∈ lw_all := lw_g (lw_at lw_m4 193 rfl) rfl
theorem q993 : (Jvm.Cond.methodLink "Appealrent" (3 : Nat) ({ cls := "java/lang/IndexOutOfBoundsException", name := "<init>", desc := "()V" } : Jvm.MethodName)) ∈ lw_all := lw_g (lw_at lw_m4 202 rfl) rfl
theorem q999 : (Jvm.Cond.methodLink "Appealrent" (187 : Nat) ({ cls := "Appealrent$Case", name := "hasEnded", desc := "()Z" } : Jvm.MethodName)) ∈ lw_all := lw_g (lw_at lw_m4 208 rfl) rfl
theorem q1004 : (Jvm.Cond.instanceMethod ({ cls := "Appealrent", name := "form", desc := "(I)I" } : Jvm.MethodName)) ∈ lw_all := lw_g (lw_at lw_m4 213 rfl) rfl
theorem q1005 : (Jvm.Cond.selects "Appealrent" ({ cls := "Appealrent", name := "form", desc := "(I)I" } : Jvm.MethodName) ({ cls := "Appealrent", name := "form", desc := "(I)I" } : Jvm.MethodName)) ∈ lw_all := lw_g (lw_at lw_m4 214 rfl) rfl
theorem q1006 : (Jvm.Cond.code ({ cls := "Appealrent", name := "form", desc := "(I)I" } : Jvm.MethodName) prog_1_method_24_code (6 : Nat) (Option.some Jvm.ClassFile.FieldType.int)) ∈ lw_all := lw_g (lw_at lw_m4 215 rfl) rfl
theorem q1008 : (Jvm.Cond.methodLink "Appealrent" (194 : Nat) ({ cls := "Appealrent$Form", name := "<init>", desc := "(ILAppealrent$Case;I)V" } : Jvm.MethodName)) ∈ lw_all := lw_g (lw_at lw_m4 217 rfl) rfl
theorem q1013 : (Jvm.Cond.fieldLinkNest "Appealrent" (207 : Nat) "Appealrent$Form" "number" "I" "Appealrent") ∈ lw_tbl := lw_at lw_m4 222 rfl
theorem q1015 : (Jvm.Cond.fieldLinkNest "Appealrent" (115 : Nat) "Appealrent$Form" "its" "LAppealrent$Case;" "Appealrent") ∈ lw_tbl := lw_at lw_m4 224 rfl
theorem q1017 : (Jvm.Cond.fieldLinkNest "Appealrent" (265 : Nat) "Appealrent$Form" "came" "I" "Appealrent") ∈ lw_tbl := lw_at lw_m4 226 rfl
theorem q1019 : (Jvm.Cond.fieldLinkNest "Appealrent" (123 : Nat) "Appealrent$Form" "facts" "[I" "Appealrent") ∈ lw_tbl := lw_at lw_m4 228 rfl
theorem q1021 : (Jvm.Cond.fieldLinkNest "Appealrent" (127 : Nat) "Appealrent$Form" "from" "I" "Appealrent") ∈ lw_tbl := lw_at lw_m4 230 rfl
theorem q1024 : (Jvm.Cond.fieldLinkNest "Appealrent" (119 : Nat) "Appealrent$Form" "state" "I" "Appealrent") ∈ lw_tbl := lw_at lw_m4 233 rfl
theorem q1040 : (Jvm.Cond.methodLink "Appealrent" (197 : Nat) ({ cls := "Appealrent", name := "taken", desc := "()[I" } : Jvm.MethodName)) ∈ lw_all := lw_g (lw_at lw_m5 9 rfl) rfl
theorem q1041 : (Jvm.Cond.privateMethod ({ cls := "Appealrent", name := "taken", desc := "()[I" } : Jvm.MethodName)) ∈ lw_tbl := lw_at lw_m5 10 rfl
theorem q1042 : (Jvm.Cond.instanceMethod ({ cls := "Appealrent", name := "taken", desc := "()[I" } : Jvm.MethodName)) ∈ lw_all := lw_g (lw_at lw_m5 11 rfl) rfl
theorem q1043 : (Jvm.Cond.code ({ cls := "Appealrent", name := "taken", desc := "()[I" } : Jvm.MethodName) prog_1_method_13_code (4 : Nat) (Option.some (Jvm.ClassFile.FieldType.array Jvm.ClassFile.FieldType.int))) ∈ lw_all := lw_g (lw_at lw_m5 12 rfl) rfl
theorem q1044 : (Jvm.Cond.methodLink "Appealrent" (103 : Nat) ({ cls := "java/lang/StringBuilder", name := "codePointAt", desc := "(I)I" } : Jvm.MethodName)) ∈ lw_all := lw_g (lw_at lw_m5 13 rfl) rfl
theorem q1062 : (Jvm.Cond.methodLink "Appealrent" (107 : Nat) ({ cls := "java/lang/Character", name := "charCount", desc := "(I)I" } : Jvm.MethodName)) ∈ lw_all := lw_g (lw_at lw_m5 31 rfl) rfl
theorem q1066 : (Jvm.Cond.methodLink "Appealrent" (201 : Nat) ({ cls := "Appealrent$Clauses", name := "place", desc := "(LAppealrent$Clauses;[I)I" } : Jvm.MethodName)) ∈ lw_all := lw_g (lw_at lw_m5 35 rfl) rfl
theorem q1342 : (Jvm.Cond.instanceMethod ({ cls := "Appealrent", name := "prove", desc := "(I)I" } : Jvm.MethodName)) ∈ lw_all := lw_g (lw_at lw_m6 71 rfl) rfl
theorem q1343 : (Jvm.Cond.selects "Appealrent" ({ cls := "Appealrent", name := "prove", desc := "(I)I" } : Jvm.MethodName) ({ cls := "Appealrent", name := "prove", desc := "(I)I" } : Jvm.MethodName)) ∈ lw_all := lw_g (lw_at lw_m6 72 rfl) rfl
theorem q1344 : (Jvm.Cond.code ({ cls := "Appealrent", name := "prove", desc := "(I)I" } : Jvm.MethodName) prog_1_method_25_code (3 : Nat) (Option.some Jvm.ClassFile.FieldType.int)) ∈ lw_all := lw_g (lw_at lw_m6 73 rfl) rfl
theorem q1345 : (Jvm.Cond.methodLink "Appealrent" (210 : Nat) ({ cls := "Appealrent", name := "formOf", desc := "(I)LAppealrent$Form;" } : Jvm.MethodName)) ∈ lw_all := lw_g (lw_at lw_m6 74 rfl) rfl
theorem q1346 : (Jvm.Cond.privateMethod ({ cls := "Appealrent", name := "formOf", desc := "(I)LAppealrent$Form;" } : Jvm.MethodName)) ∈ lw_tbl := lw_at lw_m6 75 rfl
theorem q1347 : (Jvm.Cond.instanceMethod ({ cls := "Appealrent", name := "formOf", desc := "(I)LAppealrent$Form;" } : Jvm.MethodName)) ∈ lw_all := lw_g (lw_at lw_m6 76 rfl) rfl
theorem q1348 : (Jvm.Cond.code ({ cls := "Appealrent", name := "formOf", desc := "(I)LAppealrent$Form;" } : Jvm.MethodName) prog_1_method_10_code (2 : Nat) (Option.some (Jvm.ClassFile.FieldType.object "Appealrent$Form"))) ∈ lw_all := lw_g (lw_at lw_m6 77 rfl) rfl
theorem q1349 : (Jvm.Cond.methodLink "Appealrent" (214 : Nat) ({ cls := "Appealrent", name := "countForms", desc := "(I)I" } : Jvm.MethodName)) ∈ lw_all := lw_g (lw_at lw_m6 78 rfl) rfl
theorem q1350 : (Jvm.Cond.privateMethod ({ cls := "Appealrent", name := "countForms", desc := "(I)I" } : Jvm.MethodName)) ∈ lw_tbl := lw_at lw_m6 79 rfl
theorem q1351 : (Jvm.Cond.instanceMethod ({ cls := "Appealrent", name := "countForms", desc := "(I)I" } : Jvm.MethodName)) ∈ lw_all := lw_g (lw_at lw_m6 80 rfl) rfl
theorem q1352 : (Jvm.Cond.code ({ cls := "Appealrent", name := "countForms", desc := "(I)I" } : Jvm.MethodName) prog_1_method_23_code (4 : Nat) (Option.some Jvm.ClassFile.FieldType.int)) ∈ lw_all := lw_g (lw_at lw_m6 81 rfl) rfl
theorem q1357 : (Jvm.Cond.instanceMethod ({ cls := "Appealrent", name := "rule", desc := "(IZ)I" } : Jvm.MethodName)) ∈ lw_all := lw_g (lw_at lw_m6 86 rfl) rfl
theorem q1358 : (Jvm.Cond.selects "Appealrent" ({ cls := "Appealrent", name := "rule", desc := "(IZ)I" } : Jvm.MethodName) ({ cls := "Appealrent", name := "rule", desc := "(IZ)I" } : Jvm.MethodName)) ∈ lw_all := lw_g (lw_at lw_m6 87 rfl) rfl
theorem q1359 : (Jvm.Cond.code ({ cls := "Appealrent", name := "rule", desc := "(IZ)I" } : Jvm.MethodName) prog_1_method_26_code (6 : Nat) (Option.some Jvm.ClassFile.FieldType.int)) ∈ lw_all := lw_g (lw_at lw_m6 88 rfl) rfl
theorem q1364 : (Jvm.Cond.instanceMethod ({ cls := "Appealrent", name := "appeal", desc := "(I)I" } : Jvm.MethodName)) ∈ lw_all := lw_g (lw_at lw_m6 93 rfl) rfl
theorem q1365 : (Jvm.Cond.selects "Appealrent" ({ cls := "Appealrent", name := "appeal", desc := "(I)I" } : Jvm.MethodName) ({ cls := "Appealrent", name := "appeal", desc := "(I)I" } : Jvm.MethodName)) ∈ lw_all := lw_g (lw_at lw_m6 94 rfl) rfl
theorem q1366 : (Jvm.Cond.code ({ cls := "Appealrent", name := "appeal", desc := "(I)I" } : Jvm.MethodName) prog_1_method_27_code (3 : Nat) (Option.some Jvm.ClassFile.FieldType.int)) ∈ lw_all := lw_g (lw_at lw_m6 95 rfl) rfl
theorem q1367 : (Jvm.Cond.methodLink "Appealrent" (218 : Nat) ({ cls := "Appealrent", name := "claimOf", desc := "(I)LAppealrent$Claim;" } : Jvm.MethodName)) ∈ lw_all := lw_g (lw_at lw_m6 96 rfl) rfl
theorem q1368 : (Jvm.Cond.privateMethod ({ cls := "Appealrent", name := "claimOf", desc := "(I)LAppealrent$Claim;" } : Jvm.MethodName)) ∈ lw_tbl := lw_at lw_m6 97 rfl
theorem q1369 : (Jvm.Cond.instanceMethod ({ cls := "Appealrent", name := "claimOf", desc := "(I)LAppealrent$Claim;" } : Jvm.MethodName)) ∈ lw_all := lw_g (lw_at lw_m6 98 rfl) rfl
theorem q1370 : (Jvm.Cond.code ({ cls := "Appealrent", name := "claimOf", desc := "(I)LAppealrent$Claim;" } : Jvm.MethodName) prog_1_method_11_code (2 : Nat) (Option.some (Jvm.ClassFile.FieldType.object "Appealrent$Claim"))) ∈ lw_all := lw_g (lw_at lw_m6 99 rfl) rfl
theorem q1375 : (Jvm.Cond.instanceMethod ({ cls := "Appealrent", name := "decide", desc := "(II)I" } : Jvm.MethodName)) ∈ lw_all := lw_g (lw_at lw_m6 104 rfl) rfl
theorem q1376 : (Jvm.Cond.selects "Appealrent" ({ cls := "Appealrent", name := "decide", desc := "(II)I" } : Jvm.MethodName) ({ cls := "Appealrent", name := "decide", desc := "(II)I" } : Jvm.MethodName)) ∈ lw_all := lw_g (lw_at lw_m6 105 rfl) rfl
theorem q1377 : (Jvm.Cond.code ({ cls := "Appealrent", name := "decide", desc := "(II)I" } : Jvm.MethodName) prog_1_method_28_code (4 : Nat) (Option.some Jvm.ClassFile.FieldType.int)) ∈ lw_all := lw_g (lw_at lw_m6 106 rfl) rfl
theorem q1378 : (Jvm.Cond.constantLong "Appealrent" (228 : Nat) (100 : Int64)) ∈ lw_all := lw_g (lw_at lw_m6 107 rfl) rfl
theorem q1379 : (Jvm.Cond.methodLink "Appealrent" (230 : Nat) ({ cls := "Appealrent$Claim", name := "takes", desc := "(I)V" } : Jvm.MethodName)) ∈ lw_all := lw_g (lw_at lw_m6 108 rfl) rfl
theorem q1387 : (Jvm.Cond.instanceMethod ({ cls := "Appealrent", name := "payBack", desc := "(II)I" } : Jvm.MethodName)) ∈ lw_all := lw_g (lw_at lw_m6 116 rfl) rfl
theorem q1388 : (Jvm.Cond.selects "Appealrent" ({ cls := "Appealrent", name := "payBack", desc := "(II)I" } : Jvm.MethodName) ({ cls := "Appealrent", name := "payBack", desc := "(II)I" } : Jvm.MethodName)) ∈ lw_all := lw_g (lw_at lw_m6 117 rfl) rfl
theorem q1389 : (Jvm.Cond.code ({ cls := "Appealrent", name := "payBack", desc := "(II)I" } : Jvm.MethodName) prog_1_method_29_code (4 : Nat) (Option.some Jvm.ClassFile.FieldType.int)) ∈ lw_all := lw_g (lw_at lw_m6 118 rfl) rfl
theorem q1390 : (Jvm.Cond.constant "Appealrent" (233 : Nat) (10000000 : Int32)) ∈ lw_all := lw_g (lw_at lw_m6 119 rfl) rfl
theorem q1395 : (Jvm.Cond.instanceMethod ({ cls := "Appealrent", name := "pass", desc := "(I)I" } : Jvm.MethodName)) ∈ lw_all := lw_g (lw_at lw_m6 124 rfl) rfl
theorem q1396 : (Jvm.Cond.selects "Appealrent" ({ cls := "Appealrent", name := "pass", desc := "(I)I" } : Jvm.MethodName) ({ cls := "Appealrent", name := "pass", desc := "(I)I" } : Jvm.MethodName)) ∈ lw_all := lw_g (lw_at lw_m6 125 rfl) rfl
theorem q1397 : (Jvm.Cond.code ({ cls := "Appealrent", name := "pass", desc := "(I)I" } : Jvm.MethodName) prog_1_method_33_code (3 : Nat) (Option.some Jvm.ClassFile.FieldType.int)) ∈ lw_all := lw_g (lw_at lw_m6 126 rfl) rfl
theorem q1398 : (Jvm.Cond.methodLink "Appealrent" (270 : Nat) ({ cls := "Appealrent", name := "dayBegins", desc := "()V" } : Jvm.MethodName)) ∈ lw_all := lw_g (lw_at lw_m6 127 rfl) rfl
theorem q1399 : (Jvm.Cond.privateMethod ({ cls := "Appealrent", name := "dayBegins", desc := "()V" } : Jvm.MethodName)) ∈ lw_tbl := lw_at lw_m6 128 rfl
theorem q1400 : (Jvm.Cond.instanceMethod ({ cls := "Appealrent", name := "dayBegins", desc := "()V" } : Jvm.MethodName)) ∈ lw_all := lw_g (lw_at lw_m6 129 rfl) rfl
theorem q1401 : (Jvm.Cond.code ({ cls := "Appealrent", name := "dayBegins", desc := "()V" } : Jvm.MethodName) prog_1_method_32_code (3 : Nat) (Option.none : Option Jvm.ClassFile.FieldType)) ∈ lw_all := lw_g (lw_at lw_m6 130 rfl) rfl
theorem q1402 : (Jvm.Cond.methodLink "Appealrent" (266 : Nat) ({ cls := "Appealrent", name := "monthBegins", desc := "(LAppealrent$Case;I)V" } : Jvm.MethodName)) ∈ lw_all := lw_g (lw_at lw_m6 131 rfl) rfl
theorem q1403 : (Jvm.Cond.privateMethod ({ cls := "Appealrent", name := "monthBegins", desc := "(LAppealrent$Case;I)V" } : Jvm.MethodName)) ∈ lw_tbl := lw_at lw_m6 132 rfl
theorem q1404 : (Jvm.Cond.instanceMethod ({ cls := "Appealrent", name := "monthBegins", desc := "(LAppealrent$Case;I)V" } : Jvm.MethodName)) ∈ lw_all := lw_g (lw_at lw_m6 133 rfl) rfl
theorem q1405 : (Jvm.Cond.code ({ cls := "Appealrent", name := "monthBegins", desc := "(LAppealrent$Case;I)V" } : Jvm.MethodName) prog_1_method_31_code (6 : Nat) (Option.none : Option Jvm.ClassFile.FieldType)) ∈ lw_all := lw_g (lw_at lw_m6 134 rfl) rfl
theorem q1406 : (Jvm.Cond.methodLink "Appealrent" (258 : Nat) ({ cls := "Appealrent", name := "pays", desc := "(LAppealrent$Case;II)V" } : Jvm.MethodName)) ∈ lw_all := lw_g (lw_at lw_m6 135 rfl) rfl
theorem q1407 : (Jvm.Cond.privateMethod ({ cls := "Appealrent", name := "pays", desc := "(LAppealrent$Case;II)V" } : Jvm.MethodName)) ∈ lw_tbl := lw_at lw_m6 136 rfl
theorem q1408 : (Jvm.Cond.instanceMethod ({ cls := "Appealrent", name := "pays", desc := "(LAppealrent$Case;II)V" } : Jvm.MethodName)) ∈ lw_all := lw_g (lw_at lw_m6 137 rfl) rfl
theorem q1409 : (Jvm.Cond.code ({ cls := "Appealrent", name := "pays", desc := "(LAppealrent$Case;II)V" } : Jvm.MethodName) prog_1_method_30_code (8 : Nat) (Option.none : Option Jvm.ClassFile.FieldType)) ∈ lw_all := lw_g (lw_at lw_m6 138 rfl) rfl
theorem q1410 : (Jvm.Cond.methodLink "Appealrent" (237 : Nat) ({ cls := "Appealrent", name := "leftOf", desc := "(LAppealrent$Case;Z)I" } : Jvm.MethodName)) ∈ lw_all := lw_g (lw_at lw_m6 139 rfl) rfl
theorem q1411 : (Jvm.Cond.privateMethod ({ cls := "Appealrent", name := "leftOf", desc := "(LAppealrent$Case;Z)I" } : Jvm.MethodName)) ∈ lw_tbl := lw_at lw_m6 140 rfl
theorem q1412 : (Jvm.Cond.instanceMethod ({ cls := "Appealrent", name := "leftOf", desc := "(LAppealrent$Case;Z)I" } : Jvm.MethodName)) ∈ lw_all := lw_g (lw_at lw_m6 141 rfl) rfl
theorem q1413 : (Jvm.Cond.code ({ cls := "Appealrent", name := "leftOf", desc := "(LAppealrent$Case;Z)I" } : Jvm.MethodName) prog_1_method_18_code (6 : Nat) (Option.some Jvm.ClassFile.FieldType.int)) ∈ lw_all := lw_g (lw_at lw_m6 142 rfl) rfl
theorem q1414 : (Jvm.Cond.methodLink "Appealrent" (241 : Nat) ({ cls := "java/lang/Math", name := "min", desc := "(II)I" } : Jvm.MethodName)) ∈ lw_all := lw_g (lw_at lw_m6 143 rfl) rfl
theorem q1416 : (Jvm.Cond.methodLink "Appealrent" (262 : Nat) ({ cls := "Appealrent$Claim", name := "<init>", desc := "(ILAppealrent$Case;III)V" } : Jvm.MethodName)) ∈ lw_all := lw_g (lw_at lw_m6 145 rfl) rfl
theorem q1422 : (Jvm.Cond.fieldLinkNest "Appealrent" (158 : Nat) "Appealrent$Claim" "its" "LAppealrent$Case;" "Appealrent") ∈ lw_tbl := lw_at lw_m6 151 rfl
theorem q1424 : (Jvm.Cond.fieldLinkNest "Appealrent" (393 : Nat) "Appealrent$Claim" "month" "I" "Appealrent") ∈ lw_tbl := lw_at lw_m6 153 rfl
theorem q1426 : (Jvm.Cond.fieldLinkNest "Appealrent" (222 : Nat) "Appealrent$Claim" "came" "I" "Appealrent") ∈ lw_tbl := lw_at lw_m6 155 rfl
theorem q1428 : (Jvm.Cond.fieldLinkNest "Appealrent" (225 : Nat) "Appealrent$Claim" "cents" "I" "Appealrent") ∈ lw_tbl := lw_at lw_m6 157 rfl
theorem q1430 : (Jvm.Cond.fieldLinkNest "Appealrent" (160 : Nat) "Appealrent$Claim" "left" "I" "Appealrent") ∈ lw_tbl := lw_at lw_m6 159 rfl
theorem q1432 : (Jvm.Cond.fieldLinkNest "Appealrent" (159 : Nat) "Appealrent$Claim" "state" "I" "Appealrent") ∈ lw_tbl := lw_at lw_m6 161 rfl
theorem q1452 : (Jvm.Cond.instanceMethod ({ cls := "Appealrent", name := "fact", desc := "(III)I" } : Jvm.MethodName)) ∈ lw_all := lw_g (lw_at lw_m6 181 rfl) rfl
theorem q1453 : (Jvm.Cond.selects "Appealrent" ({ cls := "Appealrent", name := "fact", desc := "(III)I" } : Jvm.MethodName) ({ cls := "Appealrent", name := "fact", desc := "(III)I" } : Jvm.MethodName)) ∈ lw_all := lw_g (lw_at lw_m6 182 rfl) rfl
theorem q1454 : (Jvm.Cond.code ({ cls := "Appealrent", name := "fact", desc := "(III)I" } : Jvm.MethodName) prog_1_method_34_code (5 : Nat) (Option.some Jvm.ClassFile.FieldType.int)) ∈ lw_all := lw_g (lw_at lw_m6 183 rfl) rfl
theorem q1459 : (Jvm.Cond.instanceMethod ({ cls := "Appealrent", name := "ruleOn", desc := "(II)I" } : Jvm.MethodName)) ∈ lw_all := lw_g (lw_at lw_m6 188 rfl) rfl
theorem q1460 : (Jvm.Cond.selects "Appealrent" ({ cls := "Appealrent", name := "ruleOn", desc := "(II)I" } : Jvm.MethodName) ({ cls := "Appealrent", name := "ruleOn", desc := "(II)I" } : Jvm.MethodName)) ∈ lw_all := lw_g (lw_at lw_m6 189 rfl) rfl
theorem q1461 : (Jvm.Cond.code ({ cls := "Appealrent", name := "ruleOn", desc := "(II)I" } : Jvm.MethodName) prog_1_method_35_code (4 : Nat) (Option.some Jvm.ClassFile.FieldType.int)) ∈ lw_all := lw_g (lw_at lw_m6 190 rfl) rfl
theorem q1466 : (Jvm.Cond.instanceMethod ({ cls := "Appealrent", name := "help", desc := "(II)I" } : Jvm.MethodName)) ∈ lw_all := lw_g (lw_at lw_m6 195 rfl) rfl
theorem q1467 : (Jvm.Cond.selects "Appealrent" ({ cls := "Appealrent", name := "help", desc := "(II)I" } : Jvm.MethodName) ({ cls := "Appealrent", name := "help", desc := "(II)I" } : Jvm.MethodName)) ∈ lw_all := lw_g (lw_at lw_m6 196 rfl) rfl
theorem q1468 : (Jvm.Cond.code ({ cls := "Appealrent", name := "help", desc := "(II)I" } : Jvm.MethodName) prog_1_method_36_code (4 : Nat) (Option.some Jvm.ClassFile.FieldType.int)) ∈ lw_all := lw_g (lw_at lw_m6 197 rfl) rfl
theorem q1473 : (Jvm.Cond.instanceMethod ({ cls := "Appealrent", name := "due", desc := "(II)I" } : Jvm.MethodName)) ∈ lw_all := lw_g (lw_at lw_m6 202 rfl) rfl
theorem q1474 : (Jvm.Cond.selects "Appealrent" ({ cls := "Appealrent", name := "due", desc := "(II)I" } : Jvm.MethodName) ({ cls := "Appealrent", name := "due", desc := "(II)I" } : Jvm.MethodName)) ∈ lw_all := lw_g (lw_at lw_m6 203 rfl) rfl
theorem q1475 : (Jvm.Cond.code ({ cls := "Appealrent", name := "due", desc := "(II)I" } : Jvm.MethodName) prog_1_method_37_code (4 : Nat) (Option.some Jvm.ClassFile.FieldType.int)) ∈ lw_all := lw_g (lw_at lw_m6 204 rfl) rfl
theorem q1480 : (Jvm.Cond.instanceMethod ({ cls := "Appealrent", name := "paid", desc := "(II)I" } : Jvm.MethodName)) ∈ lw_all := lw_g (lw_at lw_m6 209 rfl) rfl
theorem q1481 : (Jvm.Cond.selects "Appealrent" ({ cls := "Appealrent", name := "paid", desc := "(II)I" } : Jvm.MethodName) ({ cls := "Appealrent", name := "paid", desc := "(II)I" } : Jvm.MethodName)) ∈ lw_all := lw_g (lw_at lw_m6 210 rfl) rfl
theorem q1482 : (Jvm.Cond.code ({ cls := "Appealrent", name := "paid", desc := "(II)I" } : Jvm.MethodName) prog_1_method_38_code (4 : Nat) (Option.some Jvm.ClassFile.FieldType.int)) ∈ lw_all := lw_g (lw_at lw_m6 211 rfl) rfl
theorem q1487 : (Jvm.Cond.instanceMethod ({ cls := "Appealrent", name := "caseAt", desc := "(II)I" } : Jvm.MethodName)) ∈ lw_all := lw_g (lw_at lw_m6 216 rfl) rfl
theorem q1488 : (Jvm.Cond.selects "Appealrent" ({ cls := "Appealrent", name := "caseAt", desc := "(II)I" } : Jvm.MethodName) ({ cls := "Appealrent", name := "caseAt", desc := "(II)I" } : Jvm.MethodName)) ∈ lw_all := lw_g (lw_at lw_m6 217 rfl) rfl
theorem q1489 : (Jvm.Cond.code ({ cls := "Appealrent", name := "caseAt", desc := "(II)I" } : Jvm.MethodName) prog_1_method_39_code (6 : Nat) (Option.some Jvm.ClassFile.FieldType.int)) ∈ lw_all := lw_g (lw_at lw_m6 218 rfl) rfl
theorem q1490 : (Jvm.Cond.privateMethod ({ cls := "Appealrent", name := "lambda$caseAt$0", desc := "(LAppealrent$Case;)I" } : Jvm.MethodName)) ∈ lw_tbl := lw_at lw_m6 219 rfl
theorem q1491 : (Jvm.Cond.instanceMethod ({ cls := "Appealrent", name := "lambda$caseAt$0", desc := "(LAppealrent$Case;)I" } : Jvm.MethodName)) ∈ lw_all := lw_g (lw_at lw_m6 220 rfl) rfl
theorem q1492 : (Jvm.Cond.code ({ cls := "Appealrent", name := "lambda$caseAt$0", desc := "(LAppealrent$Case;)I" } : Jvm.MethodName) prog_1_method_94_code (4 : Nat) (Option.some Jvm.ClassFile.FieldType.int)) ∈ lw_all := lw_g (lw_at lw_m6 221 rfl) rfl
theorem q1493 : (Jvm.Cond.privateMethod ({ cls := "Appealrent", name := "lambda$caseAt$1", desc := "(LAppealrent$Case;)I" } : Jvm.MethodName)) ∈ lw_tbl := lw_at lw_m6 222 rfl
theorem q1494 : (Jvm.Cond.instanceMethod ({ cls := "Appealrent", name := "lambda$caseAt$1", desc := "(LAppealrent$Case;)I" } : Jvm.MethodName)) ∈ lw_all := lw_g (lw_at lw_m6 223 rfl) rfl
theorem q1495 : (Jvm.Cond.code ({ cls := "Appealrent", name := "lambda$caseAt$1", desc := "(LAppealrent$Case;)I" } : Jvm.MethodName) prog_1_method_93_code (4 : Nat) (Option.some Jvm.ClassFile.FieldType.int)) ∈ lw_all := lw_g (lw_at lw_m6 224 rfl) rfl
theorem q1496 : (Jvm.Cond.classLink "Appealrent" (27 : Nat) "Appealrent$Figure") ∈ lw_all := lw_g (lw_at lw_m6 225 rfl) rfl
theorem q1498 : (Jvm.Cond.static ({ cls := "Appealrent", name := "lambda$caseAt$2", desc := "(LAppealrent$Case;)I" } : Jvm.MethodName)) ∈ lw_all := lw_g (lw_at lw_m6 227 rfl) rfl
theorem q1499 : (Jvm.Cond.code ({ cls := "Appealrent", name := "lambda$caseAt$2", desc := "(LAppealrent$Case;)I" } : Jvm.MethodName) prog_1_method_92_code (1 : Nat) (Option.some Jvm.ClassFile.FieldType.int)) ∈ lw_all := lw_g (lw_at lw_m6 228 rfl) rfl
theorem q1500 : (Jvm.Cond.static ({ cls := "Appealrent", name := "lambda$caseAt$3", desc := "(LAppealrent$Case;)I" } : Jvm.MethodName)) ∈ lw_all := lw_g (lw_at lw_m6 229 rfl) rfl
theorem q1501 : (Jvm.Cond.code ({ cls := "Appealrent", name := "lambda$caseAt$3", desc := "(LAppealrent$Case;)I" } : Jvm.MethodName) prog_1_method_91_code (1 : Nat) (Option.some Jvm.ClassFile.FieldType.int)) ∈ lw_all := lw_g (lw_at lw_m6 230 rfl) rfl
theorem q1502 : (Jvm.Cond.static ({ cls := "Appealrent", name := "lambda$caseAt$4", desc := "(LAppealrent$Case;)I" } : Jvm.MethodName)) ∈ lw_all := lw_g (lw_at lw_m6 231 rfl) rfl
theorem q1503 : (Jvm.Cond.code ({ cls := "Appealrent", name := "lambda$caseAt$4", desc := "(LAppealrent$Case;)I" } : Jvm.MethodName) prog_1_method_90_code (1 : Nat) (Option.some Jvm.ClassFile.FieldType.int)) ∈ lw_all := lw_g (lw_at lw_m6 232 rfl) rfl
theorem q1504 : (Jvm.Cond.methodLink "Appealrent" (349 : Nat) ({ cls := "java/lang/String", name := "length", desc := "()I" } : Jvm.MethodName)) ∈ lw_all := lw_g (lw_at lw_m6 233 rfl) rfl
theorem q1505 : (Jvm.Cond.methodLink "Appealrent" (406 : Nat) ({ cls := "java/lang/String", name := "codePointCount", desc := "(II)I" } : Jvm.MethodName)) ∈ lw_all := lw_g (lw_at lw_m6 234 rfl) rfl
theorem q1517 : (Jvm.Cond.privateMethod ({ cls := "Appealrent", name := "lambda$caseAt$5", desc := "(LAppealrent$Case;)I" } : Jvm.MethodName)) ∈ lw_tbl := lw_at lw_m7 6 rfl
theorem q1518 : (Jvm.Cond.instanceMethod ({ cls := "Appealrent", name := "lambda$caseAt$5", desc := "(LAppealrent$Case;)I" } : Jvm.MethodName)) ∈ lw_all := lw_g (lw_at lw_m7 7 rfl) rfl
theorem q1519 : (Jvm.Cond.code ({ cls := "Appealrent", name := "lambda$caseAt$5", desc := "(LAppealrent$Case;)I" } : Jvm.MethodName) prog_1_method_89_code (2 : Nat) (Option.some Jvm.ClassFile.FieldType.int)) ∈ lw_all := lw_g (lw_at lw_m7 8 rfl) rfl
theorem q1520 : (Jvm.Cond.privateMethod ({ cls := "Appealrent", name := "lambda$caseAt$6", desc := "(LAppealrent$Case;)I" } : Jvm.MethodName)) ∈ lw_tbl := lw_at lw_m7 9 rfl
theorem q1521 : (Jvm.Cond.instanceMethod ({ cls := "Appealrent", name := "lambda$caseAt$6", desc := "(LAppealrent$Case;)I" } : Jvm.MethodName)) ∈ lw_all := lw_g (lw_at lw_m7 10 rfl) rfl
theorem q1522 : (Jvm.Cond.code ({ cls := "Appealrent", name := "lambda$caseAt$6", desc := "(LAppealrent$Case;)I" } : Jvm.MethodName) prog_1_method_88_code (2 : Nat) (Option.some Jvm.ClassFile.FieldType.int)) ∈ lw_all := lw_g (lw_at lw_m7 11 rfl) rfl
theorem q1523 : (Jvm.Cond.static ({ cls := "Appealrent", name := "lambda$caseAt$7", desc := "(LAppealrent$Case;)I" } : Jvm.MethodName)) ∈ lw_all := lw_g (lw_at lw_m7 12 rfl) rfl
theorem q1524 : (Jvm.Cond.code ({ cls := "Appealrent", name := "lambda$caseAt$7", desc := "(LAppealrent$Case;)I" } : Jvm.MethodName) prog_1_method_87_code (1 : Nat) (Option.some Jvm.ClassFile.FieldType.int)) ∈ lw_all := lw_g (lw_at lw_m7 13 rfl) rfl
theorem q1525 : (Jvm.Cond.static ({ cls := "Appealrent", name := "lambda$caseAt$8", desc := "(LAppealrent$Case;)I" } : Jvm.MethodName)) ∈ lw_all := lw_g (lw_at lw_m7 14 rfl) rfl
theorem q1526 : (Jvm.Cond.code ({ cls := "Appealrent", name := "lambda$caseAt$8", desc := "(LAppealrent$Case;)I" } : Jvm.MethodName) prog_1_method_86_code (1 : Nat) (Option.some Jvm.ClassFile.FieldType.int)) ∈ lw_all := lw_g (lw_at lw_m7 15 rfl) rfl
theorem q1527 : (Jvm.Cond.static ({ cls := "Appealrent", name := "lambda$caseAt$9", desc := "(LAppealrent$Case;)I" } : Jvm.MethodName)) ∈ lw_all := lw_g (lw_at lw_m7 16 rfl) rfl
theorem q1528 : (Jvm.Cond.code ({ cls := "Appealrent", name := "lambda$caseAt$9", desc := "(LAppealrent$Case;)I" } : Jvm.MethodName) prog_1_method_85_code (1 : Nat) (Option.some Jvm.ClassFile.FieldType.int)) ∈ lw_all := lw_g (lw_at lw_m7 17 rfl) rfl
theorem q1529 : (Jvm.Cond.static ({ cls := "Appealrent", name := "lambda$caseAt$10", desc := "(LAppealrent$Case;)I" } : Jvm.MethodName)) ∈ lw_all := lw_g (lw_at lw_m7 18 rfl) rfl
theorem q1530 : (Jvm.Cond.code ({ cls := "Appealrent", name := "lambda$caseAt$10", desc := "(LAppealrent$Case;)I" } : Jvm.MethodName) prog_1_method_84_code (1 : Nat) (Option.some Jvm.ClassFile.FieldType.int)) ∈ lw_all := lw_g (lw_at lw_m7 19 rfl) rfl
theorem q1531 : (Jvm.Cond.methodLink "Appealrent" (288 : Nat) ({ cls := "Appealrent", name := "asked", desc := "(I[LAppealrent$Figure;)I" } : Jvm.MethodName)) ∈ lw_all := lw_g (lw_at lw_m7 20 rfl) rfl
theorem q1532 : (Jvm.Cond.static ({ cls := "Appealrent", name := "asked", desc := "(I[LAppealrent$Figure;)I" } : Jvm.MethodName)) ∈ lw_all := lw_g (lw_at lw_m7 21 rfl) rfl
theorem q1533 : (Jvm.Cond.code ({ cls := "Appealrent", name := "asked", desc := "(I[LAppealrent$Figure;)I" } : Jvm.MethodName) prog_1_method_7_code (2 : Nat) (Option.some Jvm.ClassFile.FieldType.int)) ∈ lw_all := lw_g (lw_at lw_m7 22 rfl) rfl
theorem q1534 : (Jvm.Cond.interfaceEntry "Appealrent" (26 : Nat)) ∈ lw_tbl := lw_at lw_m7 23 rfl
theorem q1535 : (Jvm.Cond.methodLink "Appealrent" (26 : Nat) ({ cls := "Appealrent$Figure", name := "now", desc := "()I" } : Jvm.MethodName)) ∈ lw_all := lw_g (lw_at lw_m7 24 rfl) rfl
theorem q1542 : (Jvm.Cond.instanceMethod ({ cls := "Appealrent", name := "formAt", desc := "(II)I" } : Jvm.MethodName)) ∈ lw_all := lw_g (lw_at lw_m7 31 rfl) rfl
theorem q1543 : (Jvm.Cond.selects "Appealrent" ({ cls := "Appealrent", name := "formAt", desc := "(II)I" } : Jvm.MethodName) ({ cls := "Appealrent", name := "formAt", desc := "(II)I" } : Jvm.MethodName)) ∈ lw_all := lw_g (lw_at lw_m7 32 rfl) rfl
theorem q1544 : (Jvm.Cond.code ({ cls := "Appealrent", name := "formAt", desc := "(II)I" } : Jvm.MethodName) prog_1_method_40_code (4 : Nat) (Option.some Jvm.ClassFile.FieldType.int)) ∈ lw_all := lw_g (lw_at lw_m7 33 rfl) rfl
theorem q1545 : (Jvm.Cond.static ({ cls := "Appealrent", name := "lambda$formAt$11", desc := "(LAppealrent$Form;)I" } : Jvm.MethodName)) ∈ lw_all := lw_g (lw_at lw_m7 34 rfl) rfl
theorem q1546 : (Jvm.Cond.code ({ cls := "Appealrent", name := "lambda$formAt$11", desc := "(LAppealrent$Form;)I" } : Jvm.MethodName) prog_1_method_83_code (1 : Nat) (Option.some Jvm.ClassFile.FieldType.int)) ∈ lw_all := lw_g (lw_at lw_m7 35 rfl) rfl
theorem q1547 : (Jvm.Cond.static ({ cls := "Appealrent", name := "lambda$formAt$12", desc := "(LAppealrent$Form;)I" } : Jvm.MethodName)) ∈ lw_all := lw_g (lw_at lw_m7 36 rfl) rfl
theorem q1548 : (Jvm.Cond.code ({ cls := "Appealrent", name := "lambda$formAt$12", desc := "(LAppealrent$Form;)I" } : Jvm.MethodName) prog_1_method_82_code (1 : Nat) (Option.some Jvm.ClassFile.FieldType.int)) ∈ lw_all := lw_g (lw_at lw_m7 37 rfl) rfl
theorem q1549 : (Jvm.Cond.static ({ cls := "Appealrent", name := "lambda$formAt$13", desc := "(LAppealrent$Form;)I" } : Jvm.MethodName)) ∈ lw_all := lw_g (lw_at lw_m7 38 rfl) rfl
theorem q1550 : (Jvm.Cond.code ({ cls := "Appealrent", name := "lambda$formAt$13", desc := "(LAppealrent$Form;)I" } : Jvm.MethodName) prog_1_method_81_code (1 : Nat) (Option.some Jvm.ClassFile.FieldType.int)) ∈ lw_all := lw_g (lw_at lw_m7 39 rfl) rfl
theorem q1551 : (Jvm.Cond.static ({ cls := "Appealrent", name := "lambda$formAt$14", desc := "(LAppealrent$Form;)I" } : Jvm.MethodName)) ∈ lw_all := lw_g (lw_at lw_m7 40 rfl) rfl
theorem q1552 : (Jvm.Cond.code ({ cls := "Appealrent", name := "lambda$formAt$14", desc := "(LAppealrent$Form;)I" } : Jvm.MethodName) prog_1_method_80_code (1 : Nat) (Option.some Jvm.ClassFile.FieldType.int)) ∈ lw_all := lw_g (lw_at lw_m7 41 rfl) rfl
theorem q1553 : (Jvm.Cond.static ({ cls := "Appealrent", name := "lambda$formAt$15", desc := "(LAppealrent$Form;)I" } : Jvm.MethodName)) ∈ lw_all := lw_g (lw_at lw_m7 42 rfl) rfl
theorem q1554 : (Jvm.Cond.code ({ cls := "Appealrent", name := "lambda$formAt$15", desc := "(LAppealrent$Form;)I" } : Jvm.MethodName) prog_1_method_79_code (1 : Nat) (Option.some Jvm.ClassFile.FieldType.int)) ∈ lw_all := lw_g (lw_at lw_m7 43 rfl) rfl
theorem q1555 : (Jvm.Cond.methodLink "Appealrent" (404 : Nat) ({ cls := "Appealrent$Form", name := "has", desc := "()I" } : Jvm.MethodName)) ∈ lw_all := lw_g (lw_at lw_m7 44 rfl) rfl
theorem q1560 : (Jvm.Cond.instanceMethod ({ cls := "Appealrent", name := "ruleAt", desc := "(II)I" } : Jvm.MethodName)) ∈ lw_all := lw_g (lw_at lw_m7 49 rfl) rfl
theorem q1561 : (Jvm.Cond.selects "Appealrent" ({ cls := "Appealrent", name := "ruleAt", desc := "(II)I" } : Jvm.MethodName) ({ cls := "Appealrent", name := "ruleAt", desc := "(II)I" } : Jvm.MethodName)) ∈ lw_all := lw_g (lw_at lw_m7 50 rfl) rfl
theorem q1562 : (Jvm.Cond.code ({ cls := "Appealrent", name := "ruleAt", desc := "(II)I" } : Jvm.MethodName) prog_1_method_41_code (4 : Nat) (Option.some Jvm.ClassFile.FieldType.int)) ∈ lw_all := lw_g (lw_at lw_m7 51 rfl) rfl
theorem q1563 : (Jvm.Cond.static ({ cls := "Appealrent", name := "lambda$ruleAt$16", desc := "(LAppealrent$Rule;)I" } : Jvm.MethodName)) ∈ lw_all := lw_g (lw_at lw_m7 52 rfl) rfl
theorem q1564 : (Jvm.Cond.code ({ cls := "Appealrent", name := "lambda$ruleAt$16", desc := "(LAppealrent$Rule;)I" } : Jvm.MethodName) prog_1_method_78_code (1 : Nat) (Option.some Jvm.ClassFile.FieldType.int)) ∈ lw_all := lw_g (lw_at lw_m7 53 rfl) rfl
theorem q1565 : (Jvm.Cond.static ({ cls := "Appealrent", name := "lambda$ruleAt$17", desc := "(LAppealrent$Rule;)I" } : Jvm.MethodName)) ∈ lw_all := lw_g (lw_at lw_m7 54 rfl) rfl
theorem q1566 : (Jvm.Cond.code ({ cls := "Appealrent", name := "lambda$ruleAt$17", desc := "(LAppealrent$Rule;)I" } : Jvm.MethodName) prog_1_method_77_code (1 : Nat) (Option.some Jvm.ClassFile.FieldType.int)) ∈ lw_all := lw_g (lw_at lw_m7 55 rfl) rfl
theorem q1567 : (Jvm.Cond.static ({ cls := "Appealrent", name := "lambda$ruleAt$18", desc := "(LAppealrent$Rule;)I" } : Jvm.MethodName)) ∈ lw_all := lw_g (lw_at lw_m7 56 rfl) rfl
theorem q1568 : (Jvm.Cond.code ({ cls := "Appealrent", name := "lambda$ruleAt$18", desc := "(LAppealrent$Rule;)I" } : Jvm.MethodName) prog_1_method_76_code (1 : Nat) (Option.some Jvm.ClassFile.FieldType.int)) ∈ lw_all := lw_g (lw_at lw_m7 57 rfl) rfl
theorem q1569 : (Jvm.Cond.static ({ cls := "Appealrent", name := "lambda$ruleAt$19", desc := "(LAppealrent$Rule;)I" } : Jvm.MethodName)) ∈ lw_all := lw_g (lw_at lw_m7 58 rfl) rfl
theorem q1570 : (Jvm.Cond.code ({ cls := "Appealrent", name := "lambda$ruleAt$19", desc := "(LAppealrent$Rule;)I" } : Jvm.MethodName) prog_1_method_75_code (1 : Nat) (Option.some Jvm.ClassFile.FieldType.int)) ∈ lw_all := lw_g (lw_at lw_m7 59 rfl) rfl
theorem q1571 : (Jvm.Cond.static ({ cls := "Appealrent", name := "lambda$ruleAt$20", desc := "(LAppealrent$Rule;)I" } : Jvm.MethodName)) ∈ lw_all := lw_g (lw_at lw_m7 60 rfl) rfl
theorem q1572 : (Jvm.Cond.code ({ cls := "Appealrent", name := "lambda$ruleAt$20", desc := "(LAppealrent$Rule;)I" } : Jvm.MethodName) prog_1_method_74_code (1 : Nat) (Option.some Jvm.ClassFile.FieldType.int)) ∈ lw_all := lw_g (lw_at lw_m7 61 rfl) rfl
theorem q1573 : (Jvm.Cond.static ({ cls := "Appealrent", name := "lambda$ruleAt$21", desc := "(LAppealrent$Rule;)I" } : Jvm.MethodName)) ∈ lw_all := lw_g (lw_at lw_m7 62 rfl) rfl
theorem q1574 : (Jvm.Cond.code ({ cls := "Appealrent", name := "lambda$ruleAt$21", desc := "(LAppealrent$Rule;)I" } : Jvm.MethodName) prog_1_method_73_code (1 : Nat) (Option.some Jvm.ClassFile.FieldType.int)) ∈ lw_all := lw_g (lw_at lw_m7 63 rfl) rfl
theorem q1575 : (Jvm.Cond.static ({ cls := "Appealrent", name := "lambda$ruleAt$22", desc := "(LAppealrent$Rule;)I" } : Jvm.MethodName)) ∈ lw_all := lw_g (lw_at lw_m7 64 rfl) rfl
theorem q1576 : (Jvm.Cond.code ({ cls := "Appealrent", name := "lambda$ruleAt$22", desc := "(LAppealrent$Rule;)I" } : Jvm.MethodName) prog_1_method_72_code (1 : Nat) (Option.some Jvm.ClassFile.FieldType.int)) ∈ lw_all := lw_g (lw_at lw_m7 65 rfl) rfl
theorem q1581 : (Jvm.Cond.instanceMethod ({ cls := "Appealrent", name := "claimAt", desc := "(II)I" } : Jvm.MethodName)) ∈ lw_all := lw_g (lw_at lw_m7 70 rfl) rfl
theorem q1582 : (Jvm.Cond.selects "Appealrent" ({ cls := "Appealrent", name := "claimAt", desc := "(II)I" } : Jvm.MethodName) ({ cls := "Appealrent", name := "claimAt", desc := "(II)I" } : Jvm.MethodName)) ∈ lw_all := lw_g (lw_at lw_m7 71 rfl) rfl
theorem q1583 : (Jvm.Cond.code ({ cls := "Appealrent", name := "claimAt", desc := "(II)I" } : Jvm.MethodName) prog_1_method_42_code (4 : Nat) (Option.some Jvm.ClassFile.FieldType.int)) ∈ lw_all := lw_g (lw_at lw_m7 72 rfl) rfl
theorem q1584 : (Jvm.Cond.static ({ cls := "Appealrent", name := "lambda$claimAt$23", desc := "(LAppealrent$Claim;)I" } : Jvm.MethodName)) ∈ lw_all := lw_g (lw_at lw_m7 73 rfl) rfl
theorem q1585 : (Jvm.Cond.code ({ cls := "Appealrent", name := "lambda$claimAt$23", desc := "(LAppealrent$Claim;)I" } : Jvm.MethodName) prog_1_method_71_code (1 : Nat) (Option.some Jvm.ClassFile.FieldType.int)) ∈ lw_all := lw_g (lw_at lw_m7 74 rfl) rfl
theorem q1586 : (Jvm.Cond.static ({ cls := "Appealrent", name := "lambda$claimAt$24", desc := "(LAppealrent$Claim;)I" } : Jvm.MethodName)) ∈ lw_all := lw_g (lw_at lw_m7 75 rfl) rfl
theorem q1587 : (Jvm.Cond.code ({ cls := "Appealrent", name := "lambda$claimAt$24", desc := "(LAppealrent$Claim;)I" } : Jvm.MethodName) prog_1_method_70_code (1 : Nat) (Option.some Jvm.ClassFile.FieldType.int)) ∈ lw_all := lw_g (lw_at lw_m7 76 rfl) rfl
theorem q1588 : (Jvm.Cond.static ({ cls := "Appealrent", name := "lambda$claimAt$25", desc := "(LAppealrent$Claim;)I" } : Jvm.MethodName)) ∈ lw_all := lw_g (lw_at lw_m7 77 rfl) rfl
theorem q1589 : (Jvm.Cond.code ({ cls := "Appealrent", name := "lambda$claimAt$25", desc := "(LAppealrent$Claim;)I" } : Jvm.MethodName) prog_1_method_69_code (1 : Nat) (Option.some Jvm.ClassFile.FieldType.int)) ∈ lw_all := lw_g (lw_at lw_m7 78 rfl) rfl
theorem q1590 : (Jvm.Cond.static ({ cls := "Appealrent", name := "lambda$claimAt$26", desc := "(LAppealrent$Claim;)I" } : Jvm.MethodName)) ∈ lw_all := lw_g (lw_at lw_m7 79 rfl) rfl
theorem q1591 : (Jvm.Cond.code ({ cls := "Appealrent", name := "lambda$claimAt$26", desc := "(LAppealrent$Claim;)I" } : Jvm.MethodName) prog_1_method_68_code (1 : Nat) (Option.some Jvm.ClassFile.FieldType.int)) ∈ lw_all := lw_g (lw_at lw_m7 80 rfl) rfl
theorem q1592 : (Jvm.Cond.static ({ cls := "Appealrent", name := "lambda$claimAt$27", desc := "(LAppealrent$Claim;)I" } : Jvm.MethodName)) ∈ lw_all := lw_g (lw_at lw_m7 81 rfl) rfl
theorem q1593 : (Jvm.Cond.code ({ cls := "Appealrent", name := "lambda$claimAt$27", desc := "(LAppealrent$Claim;)I" } : Jvm.MethodName) prog_1_method_67_code (1 : Nat) (Option.some Jvm.ClassFile.FieldType.int)) ∈ lw_all := lw_g (lw_at lw_m7 82 rfl) rfl
theorem q1594 : (Jvm.Cond.static ({ cls := "Appealrent", name := "lambda$claimAt$28", desc := "(LAppealrent$Claim;)I" } : Jvm.MethodName)) ∈ lw_all := lw_g (lw_at lw_m7 83 rfl) rfl
theorem q1595 : (Jvm.Cond.code ({ cls := "Appealrent", name := "lambda$claimAt$28", desc := "(LAppealrent$Claim;)I" } : Jvm.MethodName) prog_1_method_66_code (1 : Nat) (Option.some Jvm.ClassFile.FieldType.int)) ∈ lw_all := lw_g (lw_at lw_m7 84 rfl) rfl
theorem q1600 : (Jvm.Cond.instanceMethod ({ cls := "Appealrent", name := "write", desc := "(IZ)I" } : Jvm.MethodName)) ∈ lw_all := lw_g (lw_at lw_m7 89 rfl) rfl
theorem q1601 : (Jvm.Cond.selects "Appealrent" ({ cls := "Appealrent", name := "write", desc := "(IZ)I" } : Jvm.MethodName) ({ cls := "Appealrent", name := "write", desc := "(IZ)I" } : Jvm.MethodName)) ∈ lw_all := lw_g (lw_at lw_m7 90 rfl) rfl
theorem q1602 : (Jvm.Cond.code ({ cls := "Appealrent", name := "write", desc := "(IZ)I" } : Jvm.MethodName) prog_1_method_43_code (7 : Nat) (Option.some Jvm.ClassFile.FieldType.int)) ∈ lw_all := lw_g (lw_at lw_m7 91 rfl) rfl
theorem q1603 : (Jvm.Cond.methodLink "Appealrent" (319 : Nat) ({ cls := "java/lang/StringBuilder", name := "<init>", desc := "(Ljava/lang/String;)V" } : Jvm.MethodName)) ∈ lw_all := lw_g (lw_at lw_m7 92 rfl) rfl
theorem q1614 : (Jvm.Cond.methodLink "Appealrent" (322 : Nat) ({ cls := "java/lang/StringBuilder", name := "reverse", desc := "()Ljava/lang/StringBuilder;" } : Jvm.MethodName)) ∈ lw_all := lw_g (lw_at lw_m7 103 rfl) rfl
theorem q1636 : (Jvm.Cond.methodLink "Appealrent" (326 : Nat) ({ cls := "java/lang/StringBuilder", name := "append", desc := "(C)Ljava/lang/StringBuilder;" } : Jvm.MethodName)) ∈ lw_all := lw_g (lw_at lw_m7 125 rfl) rfl
theorem q1637 : (Jvm.Cond.methodLink "Appealrent" (330 : Nat) ({ cls := "java/lang/StringBuilder", name := "append", desc := "(I)Ljava/lang/StringBuilder;" } : Jvm.MethodName)) ∈ lw_all := lw_g (lw_at lw_m7 126 rfl) rfl
theorem q1638 : (Jvm.Cond.methodLink "Appealrent" (332 : Nat) ({ cls := "java/lang/StringBuilder", name := "insert", desc := "(IC)Ljava/lang/StringBuilder;" } : Jvm.MethodName)) ∈ lw_all := lw_g (lw_at lw_m7 127 rfl) rfl
theorem q1651 : (Jvm.Cond.stringRef "Appealrent" (336 : Nat) ".") ∈ lw_tbl := lw_at lw_m7 140 rfl
theorem q1652 : (Jvm.Cond.methodLink "Appealrent" (338 : Nat) ({ cls := "java/lang/StringBuilder", name := "append", desc := "(Ljava/lang/String;)Ljava/lang/StringBuilder;" } : Jvm.MethodName)) ∈ lw_all := lw_g (lw_at lw_m7 141 rfl) rfl
theorem q1653 : (Jvm.Cond.methodLink "Appealrent" (341 : Nat) ({ cls := "java/lang/StringBuilder", name := "insert", desc := "(ILjava/lang/String;)Ljava/lang/StringBuilder;" } : Jvm.MethodName)) ∈ lw_all := lw_g (lw_at lw_m7 142 rfl) rfl
theorem q1661 : (Jvm.Cond.methodLink "Appealrent" (344 : Nat) ({ cls := "java/lang/StringBuilder", name := "append", desc := "(Ljava/lang/Object;)Ljava/lang/StringBuilder;" } : Jvm.MethodName)) ∈ lw_all := lw_g (lw_at lw_m7 150 rfl) rfl
theorem q1673 : (Jvm.Cond.selects "Appealrent" ({ cls := "java/lang/Object", name := "toString", desc := "()Ljava/lang/String;" } : Jvm.MethodName) ({ cls := "java/lang/Object", name := "toString", desc := "()Ljava/lang/String;" } : Jvm.MethodName)) ∈ lw_all := lw_g (lw_at lw_m7 162 rfl) rfl
theorem q1727 : (Jvm.Cond.stringRef "Appealrent" (347 : Nat) " ended") ∈ lw_tbl := lw_at lw_m7 216 rfl
theorem q1733 : (Jvm.Cond.instanceMethod ({ cls := "Appealrent", name := "outputAt", desc := "(I)I" } : Jvm.MethodName)) ∈ lw_all := lw_g (lw_at lw_m7 222 rfl) rfl
theorem q1734 : (Jvm.Cond.selects "Appealrent" ({ cls := "Appealrent", name := "outputAt", desc := "(I)I" } : Jvm.MethodName) ({ cls := "Appealrent", name := "outputAt", desc := "(I)I" } : Jvm.MethodName)) ∈ lw_all := lw_g (lw_at lw_m7 223 rfl) rfl
theorem q1735 : (Jvm.Cond.code ({ cls := "Appealrent", name := "outputAt", desc := "(I)I" } : Jvm.MethodName) prog_1_method_44_code (2 : Nat) (Option.some Jvm.ClassFile.FieldType.int)) ∈ lw_all := lw_g (lw_at lw_m7 224 rfl) rfl
theorem q1736 : (Jvm.Cond.methodLink "Appealrent" (352 : Nat) ({ cls := "Appealrent", name := "checkThere", desc := "(Z)V" } : Jvm.MethodName)) ∈ lw_all := lw_g (lw_at lw_m7 225 rfl) rfl
theorem q1737 : (Jvm.Cond.static ({ cls := "Appealrent", name := "checkThere", desc := "(Z)V" } : Jvm.MethodName)) ∈ lw_all := lw_g (lw_at lw_m7 226 rfl) rfl
theorem q1738 : (Jvm.Cond.code ({ cls := "Appealrent", name := "checkThere", desc := "(Z)V" } : Jvm.MethodName) prog_1_method_5_code (1 : Nat) (Option.none : Option Jvm.ClassFile.FieldType)) ∈ lw_all := lw_g (lw_at lw_m7 227 rfl) rfl
theorem q1739 : (Jvm.Cond.classLink "Appealrent" (13 : Nat) "java/util/NoSuchElementException") ∈ lw_all := lw_g (lw_at lw_m7 228 rfl) rfl
theorem q1748 : (Jvm.Cond.methodLink "Appealrent" (15 : Nat) ({ cls := "java/util/NoSuchElementException", name := "<init>", desc := "()V" } : Jvm.MethodName)) ∈ lw_all := lw_g (lw_at lw_m7 237 rfl) rfl
theorem q1754 : (Jvm.Cond.methodLink "Appealrent" (355 : Nat) ({ cls := "java/lang/String", name := "charAt", desc := "(I)C" } : Jvm.MethodName)) ∈ lw_all := lw_g (lw_at lw_m8 3 rfl) rfl
theorem q1759 : (Jvm.Cond.instanceMethod ({ cls := "Appealrent", name := "count", desc := "(I)I" } : Jvm.MethodName)) ∈ lw_all := lw_g (lw_at lw_m8 8 rfl) rfl
theorem q1760 : (Jvm.Cond.selects "Appealrent" ({ cls := "Appealrent", name := "count", desc := "(I)I" } : Jvm.MethodName) ({ cls := "Appealrent", name := "count", desc := "(I)I" } : Jvm.MethodName)) ∈ lw_all := lw_g (lw_at lw_m8 9 rfl) rfl
theorem q1761 : (Jvm.Cond.code ({ cls := "Appealrent", name := "count", desc := "(I)I" } : Jvm.MethodName) prog_1_method_46_code (4 : Nat) (Option.some Jvm.ClassFile.FieldType.int)) ∈ lw_all := lw_g (lw_at lw_m8 10 rfl) rfl
theorem q1762 : (Jvm.Cond.privateMethod ({ cls := "Appealrent", name := "lambda$count$29", desc := "()I" } : Jvm.MethodName)) ∈ lw_tbl := lw_at lw_m8 11 rfl
theorem q1763 : (Jvm.Cond.instanceMethod ({ cls := "Appealrent", name := "lambda$count$29", desc := "()I" } : Jvm.MethodName)) ∈ lw_all := lw_g (lw_at lw_m8 12 rfl) rfl
theorem q1764 : (Jvm.Cond.code ({ cls := "Appealrent", name := "lambda$count$29", desc := "()I" } : Jvm.MethodName) prog_1_method_65_code (1 : Nat) (Option.some Jvm.ClassFile.FieldType.int)) ∈ lw_all := lw_g (lw_at lw_m8 13 rfl) rfl
theorem q1765 : (Jvm.Cond.privateMethod ({ cls := "Appealrent", name := "lambda$count$30", desc := "()I" } : Jvm.MethodName)) ∈ lw_tbl := lw_at lw_m8 14 rfl
theorem q1766 : (Jvm.Cond.instanceMethod ({ cls := "Appealrent", name := "lambda$count$30", desc := "()I" } : Jvm.MethodName)) ∈ lw_all := lw_g (lw_at lw_m8 15 rfl) rfl
theorem q1767 : (Jvm.Cond.code ({ cls := "Appealrent", name := "lambda$count$30", desc := "()I" } : Jvm.MethodName) prog_1_method_64_code (1 : Nat) (Option.some Jvm.ClassFile.FieldType.int)) ∈ lw_all := lw_g (lw_at lw_m8 16 rfl) rfl
theorem q1768 : (Jvm.Cond.static ({ cls := "Appealrent", name := "lambda$count$31", desc := "(I)I" } : Jvm.MethodName)) ∈ lw_all := lw_g (lw_at lw_m8 17 rfl) rfl
theorem q1769 : (Jvm.Cond.code ({ cls := "Appealrent", name := "lambda$count$31", desc := "(I)I" } : Jvm.MethodName) prog_1_method_63_code (1 : Nat) (Option.some Jvm.ClassFile.FieldType.int)) ∈ lw_all := lw_g (lw_at lw_m8 18 rfl) rfl
theorem q1770 : (Jvm.Cond.privateMethod ({ cls := "Appealrent", name := "lambda$count$32", desc := "()I" } : Jvm.MethodName)) ∈ lw_tbl := lw_at lw_m8 19 rfl
theorem q1771 : (Jvm.Cond.instanceMethod ({ cls := "Appealrent", name := "lambda$count$32", desc := "()I" } : Jvm.MethodName)) ∈ lw_all := lw_g (lw_at lw_m8 20 rfl) rfl
theorem q1772 : (Jvm.Cond.code ({ cls := "Appealrent", name := "lambda$count$32", desc := "()I" } : Jvm.MethodName) prog_1_method_62_code (1 : Nat) (Option.some Jvm.ClassFile.FieldType.int)) ∈ lw_all := lw_g (lw_at lw_m8 21 rfl) rfl
theorem q1773 : (Jvm.Cond.privateMethod ({ cls := "Appealrent", name := "lambda$count$33", desc := "()I" } : Jvm.MethodName)) ∈ lw_tbl := lw_at lw_m8 22 rfl
theorem q1774 : (Jvm.Cond.instanceMethod ({ cls := "Appealrent", name := "lambda$count$33", desc := "()I" } : Jvm.MethodName)) ∈ lw_all := lw_g (lw_at lw_m8 23 rfl) rfl
theorem q1775 : (Jvm.Cond.code ({ cls := "Appealrent", name := "lambda$count$33", desc := "()I" } : Jvm.MethodName) prog_1_method_61_code (1 : Nat) (Option.some Jvm.ClassFile.FieldType.int)) ∈ lw_all := lw_g (lw_at lw_m8 24 rfl) rfl
theorem q1776 : (Jvm.Cond.privateMethod ({ cls := "Appealrent", name := "lambda$count$34", desc := "()I" } : Jvm.MethodName)) ∈ lw_tbl := lw_at lw_m8 25 rfl
theorem q1777 : (Jvm.Cond.instanceMethod ({ cls := "Appealrent", name := "lambda$count$34", desc := "()I" } : Jvm.MethodName)) ∈ lw_all := lw_g (lw_at lw_m8 26 rfl) rfl
theorem q1778 : (Jvm.Cond.code ({ cls := "Appealrent", name := "lambda$count$34", desc := "()I" } : Jvm.MethodName) prog_1_method_60_code (1 : Nat) (Option.some Jvm.ClassFile.FieldType.int)) ∈ lw_all := lw_g (lw_at lw_m8 27 rfl) rfl
theorem q1779 : (Jvm.Cond.privateMethod ({ cls := "Appealrent", name := "lambda$count$35", desc := "()I" } : Jvm.MethodName)) ∈ lw_tbl := lw_at lw_m8 28 rfl
theorem q1780 : (Jvm.Cond.instanceMethod ({ cls := "Appealrent", name := "lambda$count$35", desc := "()I" } : Jvm.MethodName)) ∈ lw_all := lw_g (lw_at lw_m8 29 rfl) rfl
theorem q1781 : (Jvm.Cond.code ({ cls := "Appealrent", name := "lambda$count$35", desc := "()I" } : Jvm.MethodName) prog_1_method_59_code (1 : Nat) (Option.some Jvm.ClassFile.FieldType.int)) ∈ lw_all := lw_g (lw_at lw_m8 30 rfl) rfl
theorem q1782 : (Jvm.Cond.privateMethod ({ cls := "Appealrent", name := "lambda$count$36", desc := "()I" } : Jvm.MethodName)) ∈ lw_tbl := lw_at lw_m8 31 rfl
theorem q1783 : (Jvm.Cond.instanceMethod ({ cls := "Appealrent", name := "lambda$count$36", desc := "()I" } : Jvm.MethodName)) ∈ lw_all := lw_g (lw_at lw_m8 32 rfl) rfl
theorem q1784 : (Jvm.Cond.code ({ cls := "Appealrent", name := "lambda$count$36", desc := "()I" } : Jvm.MethodName) prog_1_method_58_code (1 : Nat) (Option.some Jvm.ClassFile.FieldType.int)) ∈ lw_all := lw_g (lw_at lw_m8 33 rfl) rfl
theorem q1785 : (Jvm.Cond.privateMethod ({ cls := "Appealrent", name := "lambda$count$37", desc := "()I" } : Jvm.MethodName)) ∈ lw_tbl := lw_at lw_m8 34 rfl
theorem q1786 : (Jvm.Cond.instanceMethod ({ cls := "Appealrent", name := "lambda$count$37", desc := "()I" } : Jvm.MethodName)) ∈ lw_all := lw_g (lw_at lw_m8 35 rfl) rfl
theorem q1787 : (Jvm.Cond.code ({ cls := "Appealrent", name := "lambda$count$37", desc := "()I" } : Jvm.MethodName) prog_1_method_57_code (1 : Nat) (Option.some Jvm.ClassFile.FieldType.int)) ∈ lw_all := lw_g (lw_at lw_m8 36 rfl) rfl
theorem q1788 : (Jvm.Cond.privateMethod ({ cls := "Appealrent", name := "lambda$count$38", desc := "()I" } : Jvm.MethodName)) ∈ lw_tbl := lw_at lw_m8 37 rfl
theorem q1789 : (Jvm.Cond.instanceMethod ({ cls := "Appealrent", name := "lambda$count$38", desc := "()I" } : Jvm.MethodName)) ∈ lw_all := lw_g (lw_at lw_m8 38 rfl) rfl
theorem q1790 : (Jvm.Cond.code ({ cls := "Appealrent", name := "lambda$count$38", desc := "()I" } : Jvm.MethodName) prog_1_method_56_code (1 : Nat) (Option.some Jvm.ClassFile.FieldType.int)) ∈ lw_all := lw_g (lw_at lw_m8 39 rfl) rfl
theorem q1791 : (Jvm.Cond.methodLink "Appealrent" (390 : Nat) ({ cls := "Appealrent", name := "countClaims", desc := "(I)I" } : Jvm.MethodName)) ∈ lw_all := lw_g (lw_at lw_m8 40 rfl) rfl
theorem q1792 : (Jvm.Cond.privateMethod ({ cls := "Appealrent", name := "countClaims", desc := "(I)I" } : Jvm.MethodName)) ∈ lw_tbl := lw_at lw_m8 41 rfl
theorem q1793 : (Jvm.Cond.instanceMethod ({ cls := "Appealrent", name := "countClaims", desc := "(I)I" } : Jvm.MethodName)) ∈ lw_all := lw_g (lw_at lw_m8 42 rfl) rfl
theorem q1794 : (Jvm.Cond.code ({ cls := "Appealrent", name := "countClaims", desc := "(I)I" } : Jvm.MethodName) prog_1_method_45_code (4 : Nat) (Option.some Jvm.ClassFile.FieldType.int)) ∈ lw_all := lw_g (lw_at lw_m8 43 rfl) rfl
theorem q1795 : (Jvm.Cond.privateMethod ({ cls := "Appealrent", name := "lambda$count$39", desc := "()I" } : Jvm.MethodName)) ∈ lw_tbl := lw_at lw_m8 44 rfl
theorem q1796 : (Jvm.Cond.instanceMethod ({ cls := "Appealrent", name := "lambda$count$39", desc := "()I" } : Jvm.MethodName)) ∈ lw_all := lw_g (lw_at lw_m8 45 rfl) rfl
theorem q1797 : (Jvm.Cond.code ({ cls := "Appealrent", name := "lambda$count$39", desc := "()I" } : Jvm.MethodName) prog_1_method_55_code (1 : Nat) (Option.some Jvm.ClassFile.FieldType.int)) ∈ lw_all := lw_g (lw_at lw_m8 46 rfl) rfl
theorem q1798 : (Jvm.Cond.privateMethod ({ cls := "Appealrent", name := "lambda$count$40", desc := "()I" } : Jvm.MethodName)) ∈ lw_tbl := lw_at lw_m8 47 rfl
theorem q1799 : (Jvm.Cond.instanceMethod ({ cls := "Appealrent", name := "lambda$count$40", desc := "()I" } : Jvm.MethodName)) ∈ lw_all := lw_g (lw_at lw_m8 48 rfl) rfl
theorem q1800 : (Jvm.Cond.code ({ cls := "Appealrent", name := "lambda$count$40", desc := "()I" } : Jvm.MethodName) prog_1_method_54_code (1 : Nat) (Option.some Jvm.ClassFile.FieldType.int)) ∈ lw_all := lw_g (lw_at lw_m8 49 rfl) rfl
theorem q1801 : (Jvm.Cond.privateMethod ({ cls := "Appealrent", name := "lambda$count$41", desc := "()I" } : Jvm.MethodName)) ∈ lw_tbl := lw_at lw_m8 50 rfl
theorem q1802 : (Jvm.Cond.instanceMethod ({ cls := "Appealrent", name := "lambda$count$41", desc := "()I" } : Jvm.MethodName)) ∈ lw_all := lw_g (lw_at lw_m8 51 rfl) rfl
theorem q1803 : (Jvm.Cond.code ({ cls := "Appealrent", name := "lambda$count$41", desc := "()I" } : Jvm.MethodName) prog_1_method_53_code (1 : Nat) (Option.some Jvm.ClassFile.FieldType.int)) ∈ lw_all := lw_g (lw_at lw_m8 52 rfl) rfl
theorem q1804 : (Jvm.Cond.privateMethod ({ cls := "Appealrent", name := "lambda$count$42", desc := "()I" } : Jvm.MethodName)) ∈ lw_tbl := lw_at lw_m8 53 rfl
theorem q1805 : (Jvm.Cond.instanceMethod ({ cls := "Appealrent", name := "lambda$count$42", desc := "()I" } : Jvm.MethodName)) ∈ lw_all := lw_g (lw_at lw_m8 54 rfl) rfl
theorem q1806 : (Jvm.Cond.code ({ cls := "Appealrent", name := "lambda$count$42", desc := "()I" } : Jvm.MethodName) prog_1_method_52_code (1 : Nat) (Option.some Jvm.ClassFile.FieldType.int)) ∈ lw_all := lw_g (lw_at lw_m8 55 rfl) rfl
theorem q2229 : (Jvm.Cond.castable "Appealrent" "java/lang/Object") ∈ lw_tbl := lw_at lw_m9 238 rfl
theorem in_X1 : ∀ w ∈ wsX10, w ∈ lw_all := lw_in wsX10 [605, 607, 609, 611, 613, 615, 617] (by decide +kernel) (by decide +kernel)
